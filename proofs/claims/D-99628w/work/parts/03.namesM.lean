/-! BonnetValleyModel -/
set_option maxRecDepth 100000
def RX6 : String := "BonnetValleyModel"
def TX6 : u_T := fun k => match k with
  | 0 => ("BonnetValleyModel", "thrown", "I", false)
  | 1 => ("BonnetValleyModel", "told", "I", false)
  | 2 => ("BonnetValleyModel", "row", "[J", true)
  | 3 => ("BonnetValleyModel", "rows", "I", false)
  | 4 => ("BonnetValleyModel", "columns", "I", false)
  | 5 => ("BonnetValleyModel", "people", "I", false)
  | 6 => ("BonnetValleyModel", "things", "I", false)
  | 7 => ("BonnetValleyModel", "changes", "I", false)
  | 8 => ("BonnetValleyModel", "skyLong", "I", false)
  | 9 => ("BonnetValleyModel", "isRock", "[Z", true)
  | 10 => ("BonnetValleyModel", "sky", "[I", true)
  | 11 => ("BonnetValleyModel", "now", "[I", true)
  | 12 => ("BonnetValleyModel", "then", "[I", true)
  | 13 => ("BonnetValleyModel", "tape", "[I", true)
  | 14 => ("BonnetValleyModel", "taped", "I", false)
  | 15 => ("BonnetValleyModel", "at", "I", false)
  | 16 => ("BonnetValleyModel", "to", "I", false)
  | 17 => ("BonnetValleyModel", "nest", "I", false)
  | 18 => ("BonnetValleyModel", "readRock", "[Z", true)
  | 19 => ("BonnetValleyModel", "read", "[I", true)
  | 20 => ("BonnetValleyModel", "readMany", "I", false)
  | 21 => ("BonnetValleyModel", "code", "[I", true)
  | 22 => ("BonnetValleyModel", "readCode", "[I", true)
  | 23 => ("BonnetValleyModel", "codeLong", "I", false)
  | 24 => ("BonnetValleyModel", "codesRead", "I", false)
  | 25 => ("BonnetValleyModel", "stack", "[I", true)
  | 26 => ("BonnetValleyModel", "asked", "[I", true)
  | 27 => ("BonnetValleyModel", "undos", "I", false)
  | 28 => ("BonnetValleyModel", "undone", "[I", true)
  | 29 => ("BonnetValleyModel", "learnt", "[I", true)
  | 30 => ("BonnetValleyModel", "actSign", "[I", true)
  | 31 => ("BonnetValleyModel", "actOne", "[I", true)
  | 32 => ("BonnetValleyModel", "actTwo", "[I", true)
  | 33 => ("BonnetValleyModel", "actThree", "[I", true)
  | 34 => ("BonnetValleyModel", "acts", "I", false)
  | 35 => ("BonnetValleyModel", "view", "[J", true)
  | 36 => ("BonnetValleyModel", "shown", "[I", true)
  | 37 => ("BonnetValleyModel", "few", "[I", true)
  | 38 => ("BonnetValleyModel", "far", "[I", true)
  | 39 => ("BonnetValleyModel", "heardMany", "I", false)
  | 40 => ("BonnetValleyModel", "heardOf", "[I", true)
  | 41 => ("BonnetValleyModel", "heardIs", "[I", true)
  | 42 => ("BonnetValleyModel", "storms", "[J", true)
  | 43 => ("BonnetValleyModel", "winning", "[I", true)
  | 44 => ("BonnetValleyModel", "wasCode", "[I", true)
  | 45 => ("BonnetValleyModel", "random", "I", false)
  | 46 => ("BonnetValleyModel", "isKept", "[Z", true)
  | 47 => ("BonnetValleyModel", "keptChanges", "[I", true)
  | _ => ("BonnetValleyModel", "kept", "[I", true)
def tyX6 : Nat → FieldType := fun k => match k with
  | 0 => .int
  | 1 => .int
  | 2 => .array .long
  | 3 => .int
  | 4 => .int
  | 5 => .int
  | 6 => .int
  | 7 => .int
  | 8 => .int
  | 9 => .array .boolean
  | 10 => .array .int
  | 11 => .array .int
  | 12 => .array .int
  | 13 => .array .int
  | 14 => .int
  | 15 => .int
  | 16 => .int
  | 17 => .int
  | 18 => .array .boolean
  | 19 => .array .int
  | 20 => .int
  | 21 => .array .int
  | 22 => .array .int
  | 23 => .int
  | 24 => .int
  | 25 => .array .int
  | 26 => .array .int
  | 27 => .int
  | 28 => .array .int
  | 29 => .array .int
  | 30 => .array .int
  | 31 => .array .int
  | 32 => .array .int
  | 33 => .array .int
  | 34 => .int
  | 35 => .array .long
  | 36 => .array .int
  | 37 => .array .int
  | 38 => .array .int
  | 39 => .int
  | 40 => .array .int
  | 41 => .array .int
  | 42 => .array .long
  | 43 => .array .int
  | 44 => .array .int
  | 45 => .int
  | 46 => .array .boolean
  | 47 => .array .int
  | _ => .array .int
abbrev wsX60 : List Cond := u_ws RX6 TX6 49
set_option maxRecDepth 100000 in
theorem nmX6 : ∀ a, a < 49 → ∀ b, b < 49 → a ≠ b → (TX6 a).2.1 ≠ (TX6 b).2.1 := by decide +kernel
set_option maxRecDepth 100000 in
theorem tyX6_ok : ∀ k, k < 49 → parseFieldDescriptor (TX6 k).2.2.1 = some (tyX6 k) := by decide +kernel
abbrev cX6_thrown : ByteArray := prog_12_method_1_code
def yX6_thrown : MethodName := ⟨RX6, "thrown", "()I"⟩
theorem dX6_thrown_0 : decode cX6_thrown 0 = .ok (.aload_n 0, 1) := by decide +kernel
theorem dX6_thrown_1 : decode cX6_thrown 1 = .ok (.getfield 3, 3) := by decide +kernel
theorem dX6_thrown_4 : decode cX6_thrown 4 = .ok (.ireturn, 1) := by decide +kernel
abbrev cX6_init : ByteArray := prog_12_method_8_code
def yX6_init : MethodName := ⟨RX6, "<init>", "()V"⟩
def dkwX6_init_11 : List UInt8 := [180, 0, 37, 3, 16, 9, 79, 177]
abbrev dktX6_init_11 : List UInt8 := dkwX6_init_11 ++ []
def dkwX6_init_10 : List UInt8 := [42, 6, 188, 4, 181, 0, 113, 42, 6, 188, 10, 181, 0, 116, 42, 16, 123, 188, 10, 181, 0, 119, 42]
abbrev dktX6_init_10 : List UInt8 := dkwX6_init_10 ++ dktX6_init_11
def dkwX6_init_9 : List UInt8 := [16, 10, 188, 11, 181, 0, 104, 42, 17, 2, 98, 188, 10, 181, 0, 107, 42, 16, 80, 188, 10, 181, 0, 110]
abbrev dktX6_init_9 : List UInt8 := dkwX6_init_9 ++ dktX6_init_10
def dkwX6_init_8 : List UInt8 := [16, 49, 188, 10, 181, 0, 95, 42, 16, 10, 188, 10, 181, 0, 98, 42, 16, 10, 188, 10, 181, 0, 101, 42]
abbrev dktX6_init_8 : List UInt8 := dkwX6_init_8 ++ dktX6_init_9
def dkwX6_init_7 : List UInt8 := [188, 11, 181, 0, 86, 42, 16, 64, 188, 10, 181, 0, 89, 42, 17, 9, 0, 188, 10, 181, 0, 92, 42]
abbrev dktX6_init_7 : List UInt8 := dkwX6_init_7 ++ dktX6_init_8
def dkwX6_init_6 : List UInt8 := [188, 10, 181, 0, 77, 42, 16, 60, 188, 10, 181, 0, 80, 42, 16, 60, 188, 10, 181, 0, 83, 42, 16, 8]
abbrev dktX6_init_6 : List UInt8 := dkwX6_init_6 ++ dktX6_init_7
def dkwX6_init_5 : List UInt8 := [188, 10, 181, 0, 68, 42, 16, 8, 188, 10, 181, 0, 71, 42, 16, 60, 188, 10, 181, 0, 74, 42, 16, 60]
abbrev dktX6_init_5 : List UInt8 := dkwX6_init_5 ++ dktX6_init_6
def dkwX6_init_4 : List UInt8 := [181, 0, 59, 42, 16, 80, 188, 10, 181, 0, 62, 42, 16, 8, 188, 10, 181, 0, 65, 42, 17, 2, 144]
abbrev dktX6_init_4 : List UInt8 := dkwX6_init_4 ++ dktX6_init_5
def dkwX6_init_3 : List UInt8 := [181, 0, 50, 42, 16, 24, 188, 10, 181, 0, 53, 42, 16, 80, 188, 10, 181, 0, 56, 42, 16, 80, 188, 10]
abbrev dktX6_init_3 : List UInt8 := dkwX6_init_3 ++ dktX6_init_4
def dkwX6_init_2 : List UInt8 := [181, 0, 41, 42, 16, 41, 188, 10, 181, 0, 44, 42, 16, 80, 188, 10, 181, 0, 47, 42, 16, 49, 188, 4]
abbrev dktX6_init_2 : List UInt8 := dkwX6_init_2 ++ dktX6_init_3
def dkwX6_init_1 : List UInt8 := [181, 0, 30, 42, 16, 49, 188, 4, 181, 0, 33, 42, 16, 20, 188, 10, 181, 0, 37, 42, 16, 41, 188, 10]
abbrev dktX6_init_1 : List UInt8 := dkwX6_init_1 ++ dktX6_init_2
def dkwX6_init_0 : List UInt8 := [42, 183, 0, 18, 42, 16, 53, 188, 11, 181, 0, 11, 42, 6, 181, 0, 24, 42, 6, 181, 0, 27, 42, 4]
abbrev dktX6_init_0 : List UInt8 := dkwX6_init_0 ++ dktX6_init_1
theorem dksX6_init_0 : cX6_init.data.toList.drop 0 = dktX6_init_0 := by decide +kernel
theorem dksX6_init_1 : cX6_init.data.toList.drop 24 = dktX6_init_1 := dk_seg dksX6_init_0 24 rfl rfl
theorem dksX6_init_2 : cX6_init.data.toList.drop 48 = dktX6_init_2 := dk_seg dksX6_init_1 24 rfl rfl
theorem dksX6_init_3 : cX6_init.data.toList.drop 72 = dktX6_init_3 := dk_seg dksX6_init_2 24 rfl rfl
theorem dksX6_init_4 : cX6_init.data.toList.drop 96 = dktX6_init_4 := dk_seg dksX6_init_3 24 rfl rfl
theorem dksX6_init_5 : cX6_init.data.toList.drop 119 = dktX6_init_5 := dk_seg dksX6_init_4 23 rfl rfl
theorem dksX6_init_6 : cX6_init.data.toList.drop 143 = dktX6_init_6 := dk_seg dksX6_init_5 24 rfl rfl
theorem dksX6_init_7 : cX6_init.data.toList.drop 167 = dktX6_init_7 := dk_seg dksX6_init_6 24 rfl rfl
theorem dksX6_init_8 : cX6_init.data.toList.drop 190 = dktX6_init_8 := dk_seg dksX6_init_7 23 rfl rfl
theorem dksX6_init_9 : cX6_init.data.toList.drop 214 = dktX6_init_9 := dk_seg dksX6_init_8 24 rfl rfl
theorem dksX6_init_10 : cX6_init.data.toList.drop 238 = dktX6_init_10 := dk_seg dksX6_init_9 24 rfl rfl
theorem dksX6_init_11 : cX6_init.data.toList.drop 261 = dktX6_init_11 := dk_seg dksX6_init_10 23 rfl rfl
theorem dX6_init_0 : decode cX6_init 0 = .ok (.aload_n 0, 1) := dk_42 (dk_at dksX6_init_0 0 rfl rfl)
theorem dX6_init_1 : decode cX6_init 1 = .ok (.invokespecial 18, 3) := dk_183 0 18 (dk_at dksX6_init_0 1 rfl rfl)
theorem dX6_init_4 : decode cX6_init 4 = .ok (.aload_n 0, 1) := dk_42 (dk_at dksX6_init_0 4 rfl rfl)
theorem dX6_init_5 : decode cX6_init 5 = .ok (.bipush 53, 2) := dk_16 53 (dk_at dksX6_init_0 5 rfl rfl)
theorem dX6_init_7 : decode cX6_init 7 = .ok (.newarray .long, 2) := dk_188_11 (dk_at dksX6_init_0 7 rfl rfl)
theorem dX6_init_9 : decode cX6_init 9 = .ok (.putfield 11, 3) := dk_181 0 11 (dk_at dksX6_init_0 9 rfl rfl)
theorem dX6_init_12 : decode cX6_init 12 = .ok (.aload_n 0, 1) := dk_42 (dk_at dksX6_init_0 12 rfl rfl)
theorem dX6_init_13 : decode cX6_init 13 = .ok (.iconst 3, 1) := dk_6 (dk_at dksX6_init_0 13 rfl rfl)
theorem dX6_init_14 : decode cX6_init 14 = .ok (.putfield 24, 3) := dk_181 0 24 (dk_at dksX6_init_0 14 rfl rfl)
theorem dX6_init_17 : decode cX6_init 17 = .ok (.aload_n 0, 1) := dk_42 (dk_at dksX6_init_0 17 rfl rfl)
theorem dX6_init_18 : decode cX6_init 18 = .ok (.iconst 3, 1) := dk_6 (dk_at dksX6_init_0 18 rfl rfl)
theorem dX6_init_19 : decode cX6_init 19 = .ok (.putfield 27, 3) := dk_181 0 27 (dk_at dksX6_init_0 19 rfl rfl)
theorem dX6_init_22 : decode cX6_init 22 = .ok (.aload_n 0, 1) := dk_42 (dk_at dksX6_init_0 22 rfl rfl)
theorem dX6_init_23 : decode cX6_init 23 = .ok (.iconst 1, 1) := dk_4 (dk_at dksX6_init_0 23 rfl rfl)
theorem dX6_init_24 : decode cX6_init 24 = .ok (.putfield 30, 3) := dk_181 0 30 (dk_at dksX6_init_1 0 rfl rfl)
theorem dX6_init_27 : decode cX6_init 27 = .ok (.aload_n 0, 1) := dk_42 (dk_at dksX6_init_1 3 rfl rfl)
theorem dX6_init_28 : decode cX6_init 28 = .ok (.bipush 49, 2) := dk_16 49 (dk_at dksX6_init_1 4 rfl rfl)
theorem dX6_init_30 : decode cX6_init 30 = .ok (.newarray .boolean, 2) := dk_188_4 (dk_at dksX6_init_1 6 rfl rfl)
theorem dX6_init_32 : decode cX6_init 32 = .ok (.putfield 33, 3) := dk_181 0 33 (dk_at dksX6_init_1 8 rfl rfl)
theorem dX6_init_35 : decode cX6_init 35 = .ok (.aload_n 0, 1) := dk_42 (dk_at dksX6_init_1 11 rfl rfl)
theorem dX6_init_36 : decode cX6_init 36 = .ok (.bipush 20, 2) := dk_16 20 (dk_at dksX6_init_1 12 rfl rfl)
theorem dX6_init_38 : decode cX6_init 38 = .ok (.newarray .int, 2) := dk_188_10 (dk_at dksX6_init_1 14 rfl rfl)
theorem dX6_init_40 : decode cX6_init 40 = .ok (.putfield 37, 3) := dk_181 0 37 (dk_at dksX6_init_1 16 rfl rfl)
theorem dX6_init_43 : decode cX6_init 43 = .ok (.aload_n 0, 1) := dk_42 (dk_at dksX6_init_1 19 rfl rfl)
theorem dX6_init_44 : decode cX6_init 44 = .ok (.bipush 41, 2) := dk_16 41 (dk_at dksX6_init_1 20 rfl rfl)
theorem dX6_init_46 : decode cX6_init 46 = .ok (.newarray .int, 2) := dk_188_10 (dk_at dksX6_init_1 22 rfl rfl)
theorem dX6_init_48 : decode cX6_init 48 = .ok (.putfield 41, 3) := dk_181 0 41 (dk_at dksX6_init_2 0 rfl rfl)
theorem dX6_init_51 : decode cX6_init 51 = .ok (.aload_n 0, 1) := dk_42 (dk_at dksX6_init_2 3 rfl rfl)
theorem dX6_init_52 : decode cX6_init 52 = .ok (.bipush 41, 2) := dk_16 41 (dk_at dksX6_init_2 4 rfl rfl)
theorem dX6_init_54 : decode cX6_init 54 = .ok (.newarray .int, 2) := dk_188_10 (dk_at dksX6_init_2 6 rfl rfl)
theorem dX6_init_56 : decode cX6_init 56 = .ok (.putfield 44, 3) := dk_181 0 44 (dk_at dksX6_init_2 8 rfl rfl)
theorem dX6_init_59 : decode cX6_init 59 = .ok (.aload_n 0, 1) := dk_42 (dk_at dksX6_init_2 11 rfl rfl)
theorem dX6_init_60 : decode cX6_init 60 = .ok (.bipush 80, 2) := dk_16 80 (dk_at dksX6_init_2 12 rfl rfl)
theorem dX6_init_62 : decode cX6_init 62 = .ok (.newarray .int, 2) := dk_188_10 (dk_at dksX6_init_2 14 rfl rfl)
theorem dX6_init_64 : decode cX6_init 64 = .ok (.putfield 47, 3) := dk_181 0 47 (dk_at dksX6_init_2 16 rfl rfl)
theorem dX6_init_67 : decode cX6_init 67 = .ok (.aload_n 0, 1) := dk_42 (dk_at dksX6_init_2 19 rfl rfl)
theorem dX6_init_68 : decode cX6_init 68 = .ok (.bipush 49, 2) := dk_16 49 (dk_at dksX6_init_2 20 rfl rfl)
theorem dX6_init_70 : decode cX6_init 70 = .ok (.newarray .boolean, 2) := dk_188_4 (dk_at dksX6_init_2 22 rfl rfl)
theorem dX6_init_72 : decode cX6_init 72 = .ok (.putfield 50, 3) := dk_181 0 50 (dk_at dksX6_init_3 0 rfl rfl)
theorem dX6_init_75 : decode cX6_init 75 = .ok (.aload_n 0, 1) := dk_42 (dk_at dksX6_init_3 3 rfl rfl)
theorem dX6_init_76 : decode cX6_init 76 = .ok (.bipush 24, 2) := dk_16 24 (dk_at dksX6_init_3 4 rfl rfl)
theorem dX6_init_78 : decode cX6_init 78 = .ok (.newarray .int, 2) := dk_188_10 (dk_at dksX6_init_3 6 rfl rfl)
theorem dX6_init_80 : decode cX6_init 80 = .ok (.putfield 53, 3) := dk_181 0 53 (dk_at dksX6_init_3 8 rfl rfl)
theorem dX6_init_83 : decode cX6_init 83 = .ok (.aload_n 0, 1) := dk_42 (dk_at dksX6_init_3 11 rfl rfl)
theorem dX6_init_84 : decode cX6_init 84 = .ok (.bipush 80, 2) := dk_16 80 (dk_at dksX6_init_3 12 rfl rfl)
theorem dX6_init_86 : decode cX6_init 86 = .ok (.newarray .int, 2) := dk_188_10 (dk_at dksX6_init_3 14 rfl rfl)
theorem dX6_init_88 : decode cX6_init 88 = .ok (.putfield 56, 3) := dk_181 0 56 (dk_at dksX6_init_3 16 rfl rfl)
theorem dX6_init_91 : decode cX6_init 91 = .ok (.aload_n 0, 1) := dk_42 (dk_at dksX6_init_3 19 rfl rfl)
theorem dX6_init_92 : decode cX6_init 92 = .ok (.bipush 80, 2) := dk_16 80 (dk_at dksX6_init_3 20 rfl rfl)
theorem dX6_init_94 : decode cX6_init 94 = .ok (.newarray .int, 2) := dk_188_10 (dk_at dksX6_init_3 22 rfl rfl)
theorem dX6_init_96 : decode cX6_init 96 = .ok (.putfield 59, 3) := dk_181 0 59 (dk_at dksX6_init_4 0 rfl rfl)
theorem dX6_init_99 : decode cX6_init 99 = .ok (.aload_n 0, 1) := dk_42 (dk_at dksX6_init_4 3 rfl rfl)
theorem dX6_init_100 : decode cX6_init 100 = .ok (.bipush 80, 2) := dk_16 80 (dk_at dksX6_init_4 4 rfl rfl)
theorem dX6_init_102 : decode cX6_init 102 = .ok (.newarray .int, 2) := dk_188_10 (dk_at dksX6_init_4 6 rfl rfl)
theorem dX6_init_104 : decode cX6_init 104 = .ok (.putfield 62, 3) := dk_181 0 62 (dk_at dksX6_init_4 8 rfl rfl)
theorem dX6_init_107 : decode cX6_init 107 = .ok (.aload_n 0, 1) := dk_42 (dk_at dksX6_init_4 11 rfl rfl)
theorem dX6_init_108 : decode cX6_init 108 = .ok (.bipush 8, 2) := dk_16 8 (dk_at dksX6_init_4 12 rfl rfl)
theorem dX6_init_110 : decode cX6_init 110 = .ok (.newarray .int, 2) := dk_188_10 (dk_at dksX6_init_4 14 rfl rfl)
theorem dX6_init_112 : decode cX6_init 112 = .ok (.putfield 65, 3) := dk_181 0 65 (dk_at dksX6_init_4 16 rfl rfl)
theorem dX6_init_115 : decode cX6_init 115 = .ok (.aload_n 0, 1) := dk_42 (dk_at dksX6_init_4 19 rfl rfl)
theorem dX6_init_116 : decode cX6_init 116 = .ok (.sipush 656, 3) := dk_17 2 144 (dk_at dksX6_init_4 20 rfl rfl)
theorem dX6_init_119 : decode cX6_init 119 = .ok (.newarray .int, 2) := dk_188_10 (dk_at dksX6_init_5 0 rfl rfl)
theorem dX6_init_121 : decode cX6_init 121 = .ok (.putfield 68, 3) := dk_181 0 68 (dk_at dksX6_init_5 2 rfl rfl)
theorem dX6_init_124 : decode cX6_init 124 = .ok (.aload_n 0, 1) := dk_42 (dk_at dksX6_init_5 5 rfl rfl)
theorem dX6_init_125 : decode cX6_init 125 = .ok (.bipush 8, 2) := dk_16 8 (dk_at dksX6_init_5 6 rfl rfl)
theorem dX6_init_127 : decode cX6_init 127 = .ok (.newarray .int, 2) := dk_188_10 (dk_at dksX6_init_5 8 rfl rfl)
theorem dX6_init_129 : decode cX6_init 129 = .ok (.putfield 71, 3) := dk_181 0 71 (dk_at dksX6_init_5 10 rfl rfl)
theorem dX6_init_132 : decode cX6_init 132 = .ok (.aload_n 0, 1) := dk_42 (dk_at dksX6_init_5 13 rfl rfl)
theorem dX6_init_133 : decode cX6_init 133 = .ok (.bipush 60, 2) := dk_16 60 (dk_at dksX6_init_5 14 rfl rfl)
theorem dX6_init_135 : decode cX6_init 135 = .ok (.newarray .int, 2) := dk_188_10 (dk_at dksX6_init_5 16 rfl rfl)
theorem dX6_init_137 : decode cX6_init 137 = .ok (.putfield 74, 3) := dk_181 0 74 (dk_at dksX6_init_5 18 rfl rfl)
theorem dX6_init_140 : decode cX6_init 140 = .ok (.aload_n 0, 1) := dk_42 (dk_at dksX6_init_5 21 rfl rfl)
theorem dX6_init_141 : decode cX6_init 141 = .ok (.bipush 60, 2) := dk_16 60 (dk_at dksX6_init_5 22 rfl rfl)
theorem dX6_init_143 : decode cX6_init 143 = .ok (.newarray .int, 2) := dk_188_10 (dk_at dksX6_init_6 0 rfl rfl)
theorem dX6_init_145 : decode cX6_init 145 = .ok (.putfield 77, 3) := dk_181 0 77 (dk_at dksX6_init_6 2 rfl rfl)
theorem dX6_init_148 : decode cX6_init 148 = .ok (.aload_n 0, 1) := dk_42 (dk_at dksX6_init_6 5 rfl rfl)
theorem dX6_init_149 : decode cX6_init 149 = .ok (.bipush 60, 2) := dk_16 60 (dk_at dksX6_init_6 6 rfl rfl)
theorem dX6_init_151 : decode cX6_init 151 = .ok (.newarray .int, 2) := dk_188_10 (dk_at dksX6_init_6 8 rfl rfl)
theorem dX6_init_153 : decode cX6_init 153 = .ok (.putfield 80, 3) := dk_181 0 80 (dk_at dksX6_init_6 10 rfl rfl)
theorem dX6_init_156 : decode cX6_init 156 = .ok (.aload_n 0, 1) := dk_42 (dk_at dksX6_init_6 13 rfl rfl)
theorem dX6_init_157 : decode cX6_init 157 = .ok (.bipush 60, 2) := dk_16 60 (dk_at dksX6_init_6 14 rfl rfl)
theorem dX6_init_159 : decode cX6_init 159 = .ok (.newarray .int, 2) := dk_188_10 (dk_at dksX6_init_6 16 rfl rfl)
theorem dX6_init_161 : decode cX6_init 161 = .ok (.putfield 83, 3) := dk_181 0 83 (dk_at dksX6_init_6 18 rfl rfl)
theorem dX6_init_164 : decode cX6_init 164 = .ok (.aload_n 0, 1) := dk_42 (dk_at dksX6_init_6 21 rfl rfl)
theorem dX6_init_165 : decode cX6_init 165 = .ok (.bipush 8, 2) := dk_16 8 (dk_at dksX6_init_6 22 rfl rfl)
theorem dX6_init_167 : decode cX6_init 167 = .ok (.newarray .long, 2) := dk_188_11 (dk_at dksX6_init_7 0 rfl rfl)
theorem dX6_init_169 : decode cX6_init 169 = .ok (.putfield 86, 3) := dk_181 0 86 (dk_at dksX6_init_7 2 rfl rfl)
theorem dX6_init_172 : decode cX6_init 172 = .ok (.aload_n 0, 1) := dk_42 (dk_at dksX6_init_7 5 rfl rfl)
theorem dX6_init_173 : decode cX6_init 173 = .ok (.bipush 64, 2) := dk_16 64 (dk_at dksX6_init_7 6 rfl rfl)
theorem dX6_init_175 : decode cX6_init 175 = .ok (.newarray .int, 2) := dk_188_10 (dk_at dksX6_init_7 8 rfl rfl)
theorem dX6_init_177 : decode cX6_init 177 = .ok (.putfield 89, 3) := dk_181 0 89 (dk_at dksX6_init_7 10 rfl rfl)
theorem dX6_init_180 : decode cX6_init 180 = .ok (.aload_n 0, 1) := dk_42 (dk_at dksX6_init_7 13 rfl rfl)
theorem dX6_init_181 : decode cX6_init 181 = .ok (.sipush 2304, 3) := dk_17 9 0 (dk_at dksX6_init_7 14 rfl rfl)
theorem dX6_init_184 : decode cX6_init 184 = .ok (.newarray .int, 2) := dk_188_10 (dk_at dksX6_init_7 17 rfl rfl)
theorem dX6_init_186 : decode cX6_init 186 = .ok (.putfield 92, 3) := dk_181 0 92 (dk_at dksX6_init_7 19 rfl rfl)
theorem dX6_init_189 : decode cX6_init 189 = .ok (.aload_n 0, 1) := dk_42 (dk_at dksX6_init_7 22 rfl rfl)
theorem dX6_init_190 : decode cX6_init 190 = .ok (.bipush 49, 2) := dk_16 49 (dk_at dksX6_init_8 0 rfl rfl)
theorem dX6_init_192 : decode cX6_init 192 = .ok (.newarray .int, 2) := dk_188_10 (dk_at dksX6_init_8 2 rfl rfl)
theorem dX6_init_194 : decode cX6_init 194 = .ok (.putfield 95, 3) := dk_181 0 95 (dk_at dksX6_init_8 4 rfl rfl)
theorem dX6_init_197 : decode cX6_init 197 = .ok (.aload_n 0, 1) := dk_42 (dk_at dksX6_init_8 7 rfl rfl)
theorem dX6_init_198 : decode cX6_init 198 = .ok (.bipush 10, 2) := dk_16 10 (dk_at dksX6_init_8 8 rfl rfl)
theorem dX6_init_200 : decode cX6_init 200 = .ok (.newarray .int, 2) := dk_188_10 (dk_at dksX6_init_8 10 rfl rfl)
theorem dX6_init_202 : decode cX6_init 202 = .ok (.putfield 98, 3) := dk_181 0 98 (dk_at dksX6_init_8 12 rfl rfl)
theorem dX6_init_205 : decode cX6_init 205 = .ok (.aload_n 0, 1) := dk_42 (dk_at dksX6_init_8 15 rfl rfl)
theorem dX6_init_206 : decode cX6_init 206 = .ok (.bipush 10, 2) := dk_16 10 (dk_at dksX6_init_8 16 rfl rfl)
theorem dX6_init_208 : decode cX6_init 208 = .ok (.newarray .int, 2) := dk_188_10 (dk_at dksX6_init_8 18 rfl rfl)
theorem dX6_init_210 : decode cX6_init 210 = .ok (.putfield 101, 3) := dk_181 0 101 (dk_at dksX6_init_8 20 rfl rfl)
theorem dX6_init_213 : decode cX6_init 213 = .ok (.aload_n 0, 1) := dk_42 (dk_at dksX6_init_8 23 rfl rfl)
theorem dX6_init_214 : decode cX6_init 214 = .ok (.bipush 10, 2) := dk_16 10 (dk_at dksX6_init_9 0 rfl rfl)
theorem dX6_init_216 : decode cX6_init 216 = .ok (.newarray .long, 2) := dk_188_11 (dk_at dksX6_init_9 2 rfl rfl)
theorem dX6_init_218 : decode cX6_init 218 = .ok (.putfield 104, 3) := dk_181 0 104 (dk_at dksX6_init_9 4 rfl rfl)
theorem dX6_init_221 : decode cX6_init 221 = .ok (.aload_n 0, 1) := dk_42 (dk_at dksX6_init_9 7 rfl rfl)
theorem dX6_init_222 : decode cX6_init 222 = .ok (.sipush 610, 3) := dk_17 2 98 (dk_at dksX6_init_9 8 rfl rfl)
theorem dX6_init_225 : decode cX6_init 225 = .ok (.newarray .int, 2) := dk_188_10 (dk_at dksX6_init_9 11 rfl rfl)
theorem dX6_init_227 : decode cX6_init 227 = .ok (.putfield 107, 3) := dk_181 0 107 (dk_at dksX6_init_9 13 rfl rfl)
theorem dX6_init_230 : decode cX6_init 230 = .ok (.aload_n 0, 1) := dk_42 (dk_at dksX6_init_9 16 rfl rfl)
theorem dX6_init_231 : decode cX6_init 231 = .ok (.bipush 80, 2) := dk_16 80 (dk_at dksX6_init_9 17 rfl rfl)
theorem dX6_init_233 : decode cX6_init 233 = .ok (.newarray .int, 2) := dk_188_10 (dk_at dksX6_init_9 19 rfl rfl)
theorem dX6_init_235 : decode cX6_init 235 = .ok (.putfield 110, 3) := dk_181 0 110 (dk_at dksX6_init_9 21 rfl rfl)
theorem dX6_init_238 : decode cX6_init 238 = .ok (.aload_n 0, 1) := dk_42 (dk_at dksX6_init_10 0 rfl rfl)
theorem dX6_init_239 : decode cX6_init 239 = .ok (.iconst 3, 1) := dk_6 (dk_at dksX6_init_10 1 rfl rfl)
theorem dX6_init_240 : decode cX6_init 240 = .ok (.newarray .boolean, 2) := dk_188_4 (dk_at dksX6_init_10 2 rfl rfl)
theorem dX6_init_242 : decode cX6_init 242 = .ok (.putfield 113, 3) := dk_181 0 113 (dk_at dksX6_init_10 4 rfl rfl)
theorem dX6_init_245 : decode cX6_init 245 = .ok (.aload_n 0, 1) := dk_42 (dk_at dksX6_init_10 7 rfl rfl)
theorem dX6_init_246 : decode cX6_init 246 = .ok (.iconst 3, 1) := dk_6 (dk_at dksX6_init_10 8 rfl rfl)
theorem dX6_init_247 : decode cX6_init 247 = .ok (.newarray .int, 2) := dk_188_10 (dk_at dksX6_init_10 9 rfl rfl)
theorem dX6_init_249 : decode cX6_init 249 = .ok (.putfield 116, 3) := dk_181 0 116 (dk_at dksX6_init_10 11 rfl rfl)
theorem dX6_init_252 : decode cX6_init 252 = .ok (.aload_n 0, 1) := dk_42 (dk_at dksX6_init_10 14 rfl rfl)
theorem dX6_init_253 : decode cX6_init 253 = .ok (.bipush 123, 2) := dk_16 123 (dk_at dksX6_init_10 15 rfl rfl)
theorem dX6_init_255 : decode cX6_init 255 = .ok (.newarray .int, 2) := dk_188_10 (dk_at dksX6_init_10 17 rfl rfl)
theorem dX6_init_257 : decode cX6_init 257 = .ok (.putfield 119, 3) := dk_181 0 119 (dk_at dksX6_init_10 19 rfl rfl)
theorem dX6_init_260 : decode cX6_init 260 = .ok (.aload_n 0, 1) := dk_42 (dk_at dksX6_init_10 22 rfl rfl)
theorem dX6_init_261 : decode cX6_init 261 = .ok (.getfield 37, 3) := dk_180 0 37 (dk_at dksX6_init_11 0 rfl rfl)
theorem dX6_init_264 : decode cX6_init 264 = .ok (.iconst 0, 1) := dk_3 (dk_at dksX6_init_11 3 rfl rfl)
theorem dX6_init_265 : decode cX6_init 265 = .ok (.bipush 9, 2) := dk_16 9 (dk_at dksX6_init_11 4 rfl rfl)
theorem dX6_init_267 : decode cX6_init 267 = .ok (.iastore, 1) := dk_79 (dk_at dksX6_init_11 6 rfl rfl)
theorem dX6_init_268 : decode cX6_init 268 = .ok (.return_, 1) := dk_177 (dk_at dksX6_init_11 7 rfl rfl)
abbrev cX6_sign : ByteArray := prog_12_method_14_code
def yX6_sign : MethodName := ⟨RX6, "sign", "(I)I"⟩
def dkwX6_sign_2 : List UInt8 := [132, 2, 1, 167, 255, 224, 42, 89, 180, 0, 136, 7, 96, 181, 0, 136, 42, 180, 0, 136, 172]
abbrev dktX6_sign_2 : List UInt8 := dkwX6_sign_2 ++ []
def dkwX6_sign_1 : List UInt8 := [180, 0, 47, 42, 180, 0, 136, 28, 96, 27, 16, 24, 16, 8, 28, 104, 100, 122, 17, 0, 255, 126, 79]
abbrev dktX6_sign_1 : List UInt8 := dkwX6_sign_1 ++ dktX6_sign_2
def dkwX6_sign_0 : List UInt8 := [42, 3, 181, 0, 3, 42, 180, 0, 136, 16, 76, 164, 0, 5, 2, 172, 3, 61, 28, 7, 162, 0, 33, 42]
abbrev dktX6_sign_0 : List UInt8 := dkwX6_sign_0 ++ dktX6_sign_1
theorem dksX6_sign_0 : cX6_sign.data.toList.drop 0 = dktX6_sign_0 := by decide +kernel
theorem dksX6_sign_1 : cX6_sign.data.toList.drop 24 = dktX6_sign_1 := dk_seg dksX6_sign_0 24 rfl rfl
theorem dksX6_sign_2 : cX6_sign.data.toList.drop 47 = dktX6_sign_2 := dk_seg dksX6_sign_1 23 rfl rfl
theorem dX6_sign_0 : decode cX6_sign 0 = .ok (.aload_n 0, 1) := dk_42 (dk_at dksX6_sign_0 0 rfl rfl)
theorem dX6_sign_1 : decode cX6_sign 1 = .ok (.iconst 0, 1) := dk_3 (dk_at dksX6_sign_0 1 rfl rfl)
theorem dX6_sign_2 : decode cX6_sign 2 = .ok (.putfield 3, 3) := dk_181 0 3 (dk_at dksX6_sign_0 2 rfl rfl)
theorem dX6_sign_5 : decode cX6_sign 5 = .ok (.aload_n 0, 1) := dk_42 (dk_at dksX6_sign_0 5 rfl rfl)
theorem dX6_sign_6 : decode cX6_sign 6 = .ok (.getfield 136, 3) := dk_180 0 136 (dk_at dksX6_sign_0 6 rfl rfl)
theorem dX6_sign_9 : decode cX6_sign 9 = .ok (.bipush 76, 2) := dk_16 76 (dk_at dksX6_sign_0 9 rfl rfl)
theorem dX6_sign_11 : decode cX6_sign 11 = .ok (.if_icmp .le 5, 3) := dk_164 0 5 (dk_at dksX6_sign_0 11 rfl rfl)
theorem dX6_sign_14 : decode cX6_sign 14 = .ok (.iconst (-1), 1) := dk_2 (dk_at dksX6_sign_0 14 rfl rfl)
theorem dX6_sign_15 : decode cX6_sign 15 = .ok (.ireturn, 1) := dk_172 (dk_at dksX6_sign_0 15 rfl rfl)
theorem dX6_sign_16 : decode cX6_sign 16 = .ok (.iconst 0, 1) := dk_3 (dk_at dksX6_sign_0 16 rfl rfl)
theorem dX6_sign_17 : decode cX6_sign 17 = .ok (.istore_n 2, 1) := dk_61 (dk_at dksX6_sign_0 17 rfl rfl)
theorem dX6_sign_18 : decode cX6_sign 18 = .ok (.iload_n 2, 1) := dk_28 (dk_at dksX6_sign_0 18 rfl rfl)
theorem dX6_sign_19 : decode cX6_sign 19 = .ok (.iconst 4, 1) := dk_7 (dk_at dksX6_sign_0 19 rfl rfl)
theorem dX6_sign_20 : decode cX6_sign 20 = .ok (.if_icmp .ge 33, 3) := dk_162 0 33 (dk_at dksX6_sign_0 20 rfl rfl)
theorem dX6_sign_23 : decode cX6_sign 23 = .ok (.aload_n 0, 1) := dk_42 (dk_at dksX6_sign_0 23 rfl rfl)
theorem dX6_sign_24 : decode cX6_sign 24 = .ok (.getfield 47, 3) := dk_180 0 47 (dk_at dksX6_sign_1 0 rfl rfl)
theorem dX6_sign_27 : decode cX6_sign 27 = .ok (.aload_n 0, 1) := dk_42 (dk_at dksX6_sign_1 3 rfl rfl)
theorem dX6_sign_28 : decode cX6_sign 28 = .ok (.getfield 136, 3) := dk_180 0 136 (dk_at dksX6_sign_1 4 rfl rfl)
theorem dX6_sign_31 : decode cX6_sign 31 = .ok (.iload_n 2, 1) := dk_28 (dk_at dksX6_sign_1 7 rfl rfl)
theorem dX6_sign_32 : decode cX6_sign 32 = .ok (.iadd, 1) := dk_96 (dk_at dksX6_sign_1 8 rfl rfl)
theorem dX6_sign_33 : decode cX6_sign 33 = .ok (.iload_n 1, 1) := dk_27 (dk_at dksX6_sign_1 9 rfl rfl)
theorem dX6_sign_34 : decode cX6_sign 34 = .ok (.bipush 24, 2) := dk_16 24 (dk_at dksX6_sign_1 10 rfl rfl)
theorem dX6_sign_36 : decode cX6_sign 36 = .ok (.bipush 8, 2) := dk_16 8 (dk_at dksX6_sign_1 12 rfl rfl)
theorem dX6_sign_38 : decode cX6_sign 38 = .ok (.iload_n 2, 1) := dk_28 (dk_at dksX6_sign_1 14 rfl rfl)
theorem dX6_sign_39 : decode cX6_sign 39 = .ok (.imul, 1) := dk_104 (dk_at dksX6_sign_1 15 rfl rfl)
theorem dX6_sign_40 : decode cX6_sign 40 = .ok (.isub, 1) := dk_100 (dk_at dksX6_sign_1 16 rfl rfl)
theorem dX6_sign_41 : decode cX6_sign 41 = .ok (.ishr, 1) := dk_122 (dk_at dksX6_sign_1 17 rfl rfl)
theorem dX6_sign_42 : decode cX6_sign 42 = .ok (.sipush 255, 3) := dk_17 0 255 (dk_at dksX6_sign_1 18 rfl rfl)
theorem dX6_sign_45 : decode cX6_sign 45 = .ok (.iand, 1) := dk_126 (dk_at dksX6_sign_1 21 rfl rfl)
theorem dX6_sign_46 : decode cX6_sign 46 = .ok (.iastore, 1) := dk_79 (dk_at dksX6_sign_1 22 rfl rfl)
theorem dX6_sign_47 : decode cX6_sign 47 = .ok (.iinc 2 1, 3) := dk_132 2 1 (dk_at dksX6_sign_2 0 rfl rfl)
theorem dX6_sign_50 : decode cX6_sign 50 = .ok (.goto (-32), 3) := dk_167 255 224 (dk_at dksX6_sign_2 3 rfl rfl)
theorem dX6_sign_53 : decode cX6_sign 53 = .ok (.aload_n 0, 1) := dk_42 (dk_at dksX6_sign_2 6 rfl rfl)
theorem dX6_sign_54 : decode cX6_sign 54 = .ok (.dup, 1) := dk_89 (dk_at dksX6_sign_2 7 rfl rfl)
theorem dX6_sign_55 : decode cX6_sign 55 = .ok (.getfield 136, 3) := dk_180 0 136 (dk_at dksX6_sign_2 8 rfl rfl)
theorem dX6_sign_58 : decode cX6_sign 58 = .ok (.iconst 4, 1) := dk_7 (dk_at dksX6_sign_2 11 rfl rfl)
theorem dX6_sign_59 : decode cX6_sign 59 = .ok (.iadd, 1) := dk_96 (dk_at dksX6_sign_2 12 rfl rfl)
theorem dX6_sign_60 : decode cX6_sign 60 = .ok (.putfield 136, 3) := dk_181 0 136 (dk_at dksX6_sign_2 13 rfl rfl)
theorem dX6_sign_63 : decode cX6_sign 63 = .ok (.aload_n 0, 1) := dk_42 (dk_at dksX6_sign_2 16 rfl rfl)
theorem dX6_sign_64 : decode cX6_sign 64 = .ok (.getfield 136, 3) := dk_180 0 136 (dk_at dksX6_sign_2 17 rfl rfl)
theorem dX6_sign_67 : decode cX6_sign 67 = .ok (.ireturn, 1) := dk_172 (dk_at dksX6_sign_2 20 rfl rfl)
abbrev cX6_end : ByteArray := prog_12_method_15_code
def yX6_end : MethodName := ⟨RX6, "end", "(I)Z"⟩
def dkwX6_end_1 : List UInt8 := [181, 0, 136, 4, 172]
abbrev dktX6_end_1 : List UInt8 := dkwX6_end_1 ++ []
def dkwX6_end_0 : List UInt8 := [42, 3, 181, 0, 3, 27, 133, 9, 42, 180, 0, 136, 133, 184, 0, 126, 154, 0, 5, 3, 172, 42, 27]
abbrev dktX6_end_0 : List UInt8 := dkwX6_end_0 ++ dktX6_end_1
theorem dksX6_end_0 : cX6_end.data.toList.drop 0 = dktX6_end_0 := by decide +kernel
theorem dksX6_end_1 : cX6_end.data.toList.drop 23 = dktX6_end_1 := dk_seg dksX6_end_0 23 rfl rfl
theorem dX6_end_0 : decode cX6_end 0 = .ok (.aload_n 0, 1) := dk_42 (dk_at dksX6_end_0 0 rfl rfl)
theorem dX6_end_1 : decode cX6_end 1 = .ok (.iconst 0, 1) := dk_3 (dk_at dksX6_end_0 1 rfl rfl)
theorem dX6_end_2 : decode cX6_end 2 = .ok (.putfield 3, 3) := dk_181 0 3 (dk_at dksX6_end_0 2 rfl rfl)
theorem dX6_end_5 : decode cX6_end 5 = .ok (.iload_n 1, 1) := dk_27 (dk_at dksX6_end_0 5 rfl rfl)
theorem dX6_end_6 : decode cX6_end 6 = .ok (.i2l, 1) := dk_133 (dk_at dksX6_end_0 6 rfl rfl)
theorem dX6_end_7 : decode cX6_end 7 = .ok (.lconst 0, 1) := dk_9 (dk_at dksX6_end_0 7 rfl rfl)
theorem dX6_end_8 : decode cX6_end 8 = .ok (.aload_n 0, 1) := dk_42 (dk_at dksX6_end_0 8 rfl rfl)
theorem dX6_end_9 : decode cX6_end 9 = .ok (.getfield 136, 3) := dk_180 0 136 (dk_at dksX6_end_0 9 rfl rfl)
theorem dX6_end_12 : decode cX6_end 12 = .ok (.i2l, 1) := dk_133 (dk_at dksX6_end_0 12 rfl rfl)
theorem dX6_end_13 : decode cX6_end 13 = .ok (.invokestatic 126, 3) := dk_184 0 126 (dk_at dksX6_end_0 13 rfl rfl)
theorem dX6_end_16 : decode cX6_end 16 = .ok (.ifCond .ne 5, 3) := dk_154 0 5 (dk_at dksX6_end_0 16 rfl rfl)
theorem dX6_end_19 : decode cX6_end 19 = .ok (.iconst 0, 1) := dk_3 (dk_at dksX6_end_0 19 rfl rfl)
theorem dX6_end_20 : decode cX6_end 20 = .ok (.ireturn, 1) := dk_172 (dk_at dksX6_end_0 20 rfl rfl)
theorem dX6_end_21 : decode cX6_end 21 = .ok (.aload_n 0, 1) := dk_42 (dk_at dksX6_end_0 21 rfl rfl)
theorem dX6_end_22 : decode cX6_end 22 = .ok (.iload_n 1, 1) := dk_27 (dk_at dksX6_end_0 22 rfl rfl)
theorem dX6_end_23 : decode cX6_end 23 = .ok (.putfield 136, 3) := dk_181 0 136 (dk_at dksX6_end_1 0 rfl rfl)
theorem dX6_end_26 : decode cX6_end 26 = .ok (.iconst 1, 1) := dk_4 (dk_at dksX6_end_1 3 rfl rfl)
theorem dX6_end_27 : decode cX6_end 27 = .ok (.ireturn, 1) := dk_172 (dk_at dksX6_end_1 4 rfl rfl)
abbrev cX6_in : ByteArray := prog_12_method_3_code
def yX6_in : MethodName := ⟨RX6, "in", "(JJJ)Z"⟩
def dkwX6_in_0 : List UInt8 := [30, 32, 148, 155, 0, 14, 30, 22, 4, 148, 157, 0, 7, 4, 167, 0, 4, 3, 172]
abbrev dktX6_in_0 : List UInt8 := dkwX6_in_0 ++ []
theorem dksX6_in_0 : cX6_in.data.toList.drop 0 = dktX6_in_0 := by decide +kernel
theorem dX6_in_0 : decode cX6_in 0 = .ok (.lload_n 0, 1) := dk_30 (dk_at dksX6_in_0 0 rfl rfl)
theorem dX6_in_1 : decode cX6_in 1 = .ok (.lload_n 2, 1) := dk_32 (dk_at dksX6_in_0 1 rfl rfl)
theorem dX6_in_2 : decode cX6_in 2 = .ok (.lcmp, 1) := dk_148 (dk_at dksX6_in_0 2 rfl rfl)
theorem dX6_in_3 : decode cX6_in 3 = .ok (.ifCond .lt 14, 3) := dk_155 0 14 (dk_at dksX6_in_0 3 rfl rfl)
theorem dX6_in_6 : decode cX6_in 6 = .ok (.lload_n 0, 1) := dk_30 (dk_at dksX6_in_0 6 rfl rfl)
theorem dX6_in_7 : decode cX6_in 7 = .ok (.lload 4, 2) := dk_22 4 (dk_at dksX6_in_0 7 rfl rfl)
theorem dX6_in_9 : decode cX6_in 9 = .ok (.lcmp, 1) := dk_148 (dk_at dksX6_in_0 9 rfl rfl)
theorem dX6_in_10 : decode cX6_in 10 = .ok (.ifCond .gt 7, 3) := dk_157 0 7 (dk_at dksX6_in_0 10 rfl rfl)
theorem dX6_in_13 : decode cX6_in 13 = .ok (.iconst 1, 1) := dk_4 (dk_at dksX6_in_0 13 rfl rfl)
theorem dX6_in_14 : decode cX6_in 14 = .ok (.goto 4, 3) := dk_167 0 4 (dk_at dksX6_in_0 14 rfl rfl)
theorem dX6_in_17 : decode cX6_in 17 = .ok (.iconst 0, 1) := dk_3 (dk_at dksX6_in_0 17 rfl rfl)
theorem dX6_in_18 : decode cX6_in 18 = .ok (.ireturn, 1) := dk_172 (dk_at dksX6_in_0 18 rfl rfl)
abbrev cX6_valley : ByteArray := prog_12_method_23_code
def yX6_valley : MethodName := ⟨RX6, "valley", "()I"⟩
def dkwX6_valley_9 : List UInt8 := [172]
abbrev dktX6_valley_9 : List UInt8 := dkwX6_valley_9 ++ []
def dkwX6_valley_8 : List UInt8 := [42, 3, 181, 0, 188, 42, 89, 180, 0, 191, 4, 96, 181, 0, 191, 42, 3, 181, 0, 194, 42, 182, 0, 122]
abbrev dktX6_valley_8 : List UInt8 := dkwX6_valley_8 ++ dktX6_valley_9
def dkwX6_valley_7 : List UInt8 := [132, 4, 1, 167, 255, 230, 42, 3, 181, 0, 130, 42, 3, 181, 0, 133, 42, 180, 0, 41, 16, 40, 3, 79]
abbrev dktX6_valley_7 : List UInt8 := dkwX6_valley_7 ++ dktX6_valley_8
def dkwX6_valley_6 : List UInt8 := [21, 4, 42, 182, 0, 122, 162, 0, 23, 42, 180, 0, 33, 21, 4, 42, 180, 0, 50, 21, 4, 51, 84]
abbrev dktX6_valley_6 : List UInt8 := dkwX6_valley_6 ++ dktX6_valley_7
def dkwX6_valley_5 : List UInt8 := [162, 0, 10, 2, 42, 180, 0, 139, 100, 172, 42, 27, 181, 0, 24, 42, 28, 181, 0, 27, 3, 54, 4]
abbrev dktX6_valley_5 : List UInt8 := dkwX6_valley_5 ++ dktX6_valley_6
def dkwX6_valley_4 : List UInt8 := [167, 0, 4, 3, 62, 132, 4, 1, 167, 255, 204, 29, 153, 0, 14, 42, 180, 0, 139, 42, 180, 0, 151]
abbrev dktX6_valley_4 : List UInt8 := dkwX6_valley_4 ++ dktX6_valley_5
def dkwX6_valley_3 : List UInt8 := [180, 0, 50, 21, 4, 21, 5, 4, 160, 0, 7, 4, 167, 0, 4, 3, 84, 21, 5, 155, 0, 7, 4]
abbrev dktX6_valley_3 : List UInt8 := dkwX6_valley_3 ++ dktX6_valley_4
def dkwX6_valley_2 : List UInt8 := [54, 4, 29, 153, 0, 54, 21, 4, 27, 28, 104, 162, 0, 46, 42, 18, 182, 182, 0, 184, 54, 5, 42]
abbrev dktX6_valley_2 : List UInt8 := dkwX6_valley_2 ++ dktX6_valley_3
def dkwX6_valley_1 : List UInt8 := [2, 167, 0, 10, 42, 6, 16, 7, 182, 0, 179, 61, 28, 158, 0, 7, 4, 167, 0, 4, 3, 62, 3]
abbrev dktX6_valley_1 : List UInt8 := dkwX6_valley_1 ++ dktX6_valley_2
def dkwX6_valley_0 : List UInt8 := [42, 3, 181, 0, 3, 42, 16, 80, 182, 0, 175, 87, 42, 6, 16, 7, 182, 0, 179, 60, 27, 156, 0, 7]
abbrev dktX6_valley_0 : List UInt8 := dkwX6_valley_0 ++ dktX6_valley_1
theorem dksX6_valley_0 : cX6_valley.data.toList.drop 0 = dktX6_valley_0 := by decide +kernel
theorem dksX6_valley_1 : cX6_valley.data.toList.drop 24 = dktX6_valley_1 := dk_seg dksX6_valley_0 24 rfl rfl
theorem dksX6_valley_2 : cX6_valley.data.toList.drop 47 = dktX6_valley_2 := dk_seg dksX6_valley_1 23 rfl rfl
theorem dksX6_valley_3 : cX6_valley.data.toList.drop 70 = dktX6_valley_3 := dk_seg dksX6_valley_2 23 rfl rfl
theorem dksX6_valley_4 : cX6_valley.data.toList.drop 93 = dktX6_valley_4 := dk_seg dksX6_valley_3 23 rfl rfl
theorem dksX6_valley_5 : cX6_valley.data.toList.drop 116 = dktX6_valley_5 := dk_seg dksX6_valley_4 23 rfl rfl
theorem dksX6_valley_6 : cX6_valley.data.toList.drop 139 = dktX6_valley_6 := dk_seg dksX6_valley_5 23 rfl rfl
theorem dksX6_valley_7 : cX6_valley.data.toList.drop 162 = dktX6_valley_7 := dk_seg dksX6_valley_6 23 rfl rfl
theorem dksX6_valley_8 : cX6_valley.data.toList.drop 186 = dktX6_valley_8 := dk_seg dksX6_valley_7 24 rfl rfl
theorem dksX6_valley_9 : cX6_valley.data.toList.drop 210 = dktX6_valley_9 := dk_seg dksX6_valley_8 24 rfl rfl
theorem dX6_valley_0 : decode cX6_valley 0 = .ok (.aload_n 0, 1) := dk_42 (dk_at dksX6_valley_0 0 rfl rfl)
theorem dX6_valley_1 : decode cX6_valley 1 = .ok (.iconst 0, 1) := dk_3 (dk_at dksX6_valley_0 1 rfl rfl)
theorem dX6_valley_2 : decode cX6_valley 2 = .ok (.putfield 3, 3) := dk_181 0 3 (dk_at dksX6_valley_0 2 rfl rfl)
theorem dX6_valley_5 : decode cX6_valley 5 = .ok (.aload_n 0, 1) := dk_42 (dk_at dksX6_valley_0 5 rfl rfl)
theorem dX6_valley_6 : decode cX6_valley 6 = .ok (.bipush 80, 2) := dk_16 80 (dk_at dksX6_valley_0 6 rfl rfl)
theorem dX6_valley_8 : decode cX6_valley 8 = .ok (.invokevirtual 175, 3) := dk_182 0 175 (dk_at dksX6_valley_0 8 rfl rfl)
theorem dX6_valley_11 : decode cX6_valley 11 = .ok (.pop, 1) := dk_87 (dk_at dksX6_valley_0 11 rfl rfl)
theorem dX6_valley_12 : decode cX6_valley 12 = .ok (.aload_n 0, 1) := dk_42 (dk_at dksX6_valley_0 12 rfl rfl)
theorem dX6_valley_13 : decode cX6_valley 13 = .ok (.iconst 3, 1) := dk_6 (dk_at dksX6_valley_0 13 rfl rfl)
theorem dX6_valley_14 : decode cX6_valley 14 = .ok (.bipush 7, 2) := dk_16 7 (dk_at dksX6_valley_0 14 rfl rfl)
theorem dX6_valley_16 : decode cX6_valley 16 = .ok (.invokevirtual 179, 3) := dk_182 0 179 (dk_at dksX6_valley_0 16 rfl rfl)
theorem dX6_valley_19 : decode cX6_valley 19 = .ok (.istore_n 1, 1) := dk_60 (dk_at dksX6_valley_0 19 rfl rfl)
theorem dX6_valley_20 : decode cX6_valley 20 = .ok (.iload_n 1, 1) := dk_27 (dk_at dksX6_valley_0 20 rfl rfl)
theorem dX6_valley_21 : decode cX6_valley 21 = .ok (.ifCond .ge 7, 3) := dk_156 0 7 (dk_at dksX6_valley_0 21 rfl rfl)
theorem dX6_valley_24 : decode cX6_valley 24 = .ok (.iconst (-1), 1) := dk_2 (dk_at dksX6_valley_1 0 rfl rfl)
theorem dX6_valley_25 : decode cX6_valley 25 = .ok (.goto 10, 3) := dk_167 0 10 (dk_at dksX6_valley_1 1 rfl rfl)
theorem dX6_valley_28 : decode cX6_valley 28 = .ok (.aload_n 0, 1) := dk_42 (dk_at dksX6_valley_1 4 rfl rfl)
theorem dX6_valley_29 : decode cX6_valley 29 = .ok (.iconst 3, 1) := dk_6 (dk_at dksX6_valley_1 5 rfl rfl)
theorem dX6_valley_30 : decode cX6_valley 30 = .ok (.bipush 7, 2) := dk_16 7 (dk_at dksX6_valley_1 6 rfl rfl)
theorem dX6_valley_32 : decode cX6_valley 32 = .ok (.invokevirtual 179, 3) := dk_182 0 179 (dk_at dksX6_valley_1 8 rfl rfl)
theorem dX6_valley_35 : decode cX6_valley 35 = .ok (.istore_n 2, 1) := dk_61 (dk_at dksX6_valley_1 11 rfl rfl)
theorem dX6_valley_36 : decode cX6_valley 36 = .ok (.iload_n 2, 1) := dk_28 (dk_at dksX6_valley_1 12 rfl rfl)
theorem dX6_valley_37 : decode cX6_valley 37 = .ok (.ifCond .le 7, 3) := dk_158 0 7 (dk_at dksX6_valley_1 13 rfl rfl)
theorem dX6_valley_40 : decode cX6_valley 40 = .ok (.iconst 1, 1) := dk_4 (dk_at dksX6_valley_1 16 rfl rfl)
theorem dX6_valley_41 : decode cX6_valley 41 = .ok (.goto 4, 3) := dk_167 0 4 (dk_at dksX6_valley_1 17 rfl rfl)
theorem dX6_valley_44 : decode cX6_valley 44 = .ok (.iconst 0, 1) := dk_3 (dk_at dksX6_valley_1 20 rfl rfl)
theorem dX6_valley_45 : decode cX6_valley 45 = .ok (.istore_n 3, 1) := dk_62 (dk_at dksX6_valley_1 21 rfl rfl)
theorem dX6_valley_46 : decode cX6_valley 46 = .ok (.iconst 0, 1) := dk_3 (dk_at dksX6_valley_1 22 rfl rfl)
theorem dX6_valley_47 : decode cX6_valley 47 = .ok (.istore 4, 2) := dk_54 4 (dk_at dksX6_valley_2 0 rfl rfl)
theorem dX6_valley_49 : decode cX6_valley 49 = .ok (.iload_n 3, 1) := dk_29 (dk_at dksX6_valley_2 2 rfl rfl)
theorem dX6_valley_50 : decode cX6_valley 50 = .ok (.ifCond .eq 54, 3) := dk_153 0 54 (dk_at dksX6_valley_2 3 rfl rfl)
theorem dX6_valley_53 : decode cX6_valley 53 = .ok (.iload 4, 2) := dk_21 4 (dk_at dksX6_valley_2 6 rfl rfl)
theorem dX6_valley_55 : decode cX6_valley 55 = .ok (.iload_n 1, 1) := dk_27 (dk_at dksX6_valley_2 8 rfl rfl)
theorem dX6_valley_56 : decode cX6_valley 56 = .ok (.iload_n 2, 1) := dk_28 (dk_at dksX6_valley_2 9 rfl rfl)
theorem dX6_valley_57 : decode cX6_valley 57 = .ok (.imul, 1) := dk_104 (dk_at dksX6_valley_2 10 rfl rfl)
theorem dX6_valley_58 : decode cX6_valley 58 = .ok (.if_icmp .ge 46, 3) := dk_162 0 46 (dk_at dksX6_valley_2 11 rfl rfl)
theorem dX6_valley_61 : decode cX6_valley 61 = .ok (.aload_n 0, 1) := dk_42 (dk_at dksX6_valley_2 14 rfl rfl)
theorem dX6_valley_62 : decode cX6_valley 62 = .ok (.ldc 182, 2) := dk_18 182 (dk_at dksX6_valley_2 15 rfl rfl)
theorem dX6_valley_64 : decode cX6_valley 64 = .ok (.invokevirtual 184, 3) := dk_182 0 184 (dk_at dksX6_valley_2 17 rfl rfl)
theorem dX6_valley_67 : decode cX6_valley 67 = .ok (.istore 5, 2) := dk_54 5 (dk_at dksX6_valley_2 20 rfl rfl)
theorem dX6_valley_69 : decode cX6_valley 69 = .ok (.aload_n 0, 1) := dk_42 (dk_at dksX6_valley_2 22 rfl rfl)
theorem dX6_valley_70 : decode cX6_valley 70 = .ok (.getfield 50, 3) := dk_180 0 50 (dk_at dksX6_valley_3 0 rfl rfl)
theorem dX6_valley_73 : decode cX6_valley 73 = .ok (.iload 4, 2) := dk_21 4 (dk_at dksX6_valley_3 3 rfl rfl)
theorem dX6_valley_75 : decode cX6_valley 75 = .ok (.iload 5, 2) := dk_21 5 (dk_at dksX6_valley_3 5 rfl rfl)
theorem dX6_valley_77 : decode cX6_valley 77 = .ok (.iconst 1, 1) := dk_4 (dk_at dksX6_valley_3 7 rfl rfl)
theorem dX6_valley_78 : decode cX6_valley 78 = .ok (.if_icmp .ne 7, 3) := dk_160 0 7 (dk_at dksX6_valley_3 8 rfl rfl)
theorem dX6_valley_81 : decode cX6_valley 81 = .ok (.iconst 1, 1) := dk_4 (dk_at dksX6_valley_3 11 rfl rfl)
theorem dX6_valley_82 : decode cX6_valley 82 = .ok (.goto 4, 3) := dk_167 0 4 (dk_at dksX6_valley_3 12 rfl rfl)
theorem dX6_valley_85 : decode cX6_valley 85 = .ok (.iconst 0, 1) := dk_3 (dk_at dksX6_valley_3 15 rfl rfl)
theorem dX6_valley_86 : decode cX6_valley 86 = .ok (.bastore, 1) := dk_84 (dk_at dksX6_valley_3 16 rfl rfl)
theorem dX6_valley_87 : decode cX6_valley 87 = .ok (.iload 5, 2) := dk_21 5 (dk_at dksX6_valley_3 17 rfl rfl)
theorem dX6_valley_89 : decode cX6_valley 89 = .ok (.ifCond .lt 7, 3) := dk_155 0 7 (dk_at dksX6_valley_3 19 rfl rfl)
theorem dX6_valley_92 : decode cX6_valley 92 = .ok (.iconst 1, 1) := dk_4 (dk_at dksX6_valley_3 22 rfl rfl)
theorem dX6_valley_93 : decode cX6_valley 93 = .ok (.goto 4, 3) := dk_167 0 4 (dk_at dksX6_valley_4 0 rfl rfl)
theorem dX6_valley_96 : decode cX6_valley 96 = .ok (.iconst 0, 1) := dk_3 (dk_at dksX6_valley_4 3 rfl rfl)
theorem dX6_valley_97 : decode cX6_valley 97 = .ok (.istore_n 3, 1) := dk_62 (dk_at dksX6_valley_4 4 rfl rfl)
theorem dX6_valley_98 : decode cX6_valley 98 = .ok (.iinc 4 1, 3) := dk_132 4 1 (dk_at dksX6_valley_4 5 rfl rfl)
theorem dX6_valley_101 : decode cX6_valley 101 = .ok (.goto (-52), 3) := dk_167 255 204 (dk_at dksX6_valley_4 8 rfl rfl)
theorem dX6_valley_104 : decode cX6_valley 104 = .ok (.iload_n 3, 1) := dk_29 (dk_at dksX6_valley_4 11 rfl rfl)
theorem dX6_valley_105 : decode cX6_valley 105 = .ok (.ifCond .eq 14, 3) := dk_153 0 14 (dk_at dksX6_valley_4 12 rfl rfl)
theorem dX6_valley_108 : decode cX6_valley 108 = .ok (.aload_n 0, 1) := dk_42 (dk_at dksX6_valley_4 15 rfl rfl)
theorem dX6_valley_109 : decode cX6_valley 109 = .ok (.getfield 139, 3) := dk_180 0 139 (dk_at dksX6_valley_4 16 rfl rfl)
theorem dX6_valley_112 : decode cX6_valley 112 = .ok (.aload_n 0, 1) := dk_42 (dk_at dksX6_valley_4 19 rfl rfl)
theorem dX6_valley_113 : decode cX6_valley 113 = .ok (.getfield 151, 3) := dk_180 0 151 (dk_at dksX6_valley_4 20 rfl rfl)
theorem dX6_valley_116 : decode cX6_valley 116 = .ok (.if_icmp .ge 10, 3) := dk_162 0 10 (dk_at dksX6_valley_5 0 rfl rfl)
theorem dX6_valley_119 : decode cX6_valley 119 = .ok (.iconst (-1), 1) := dk_2 (dk_at dksX6_valley_5 3 rfl rfl)
theorem dX6_valley_120 : decode cX6_valley 120 = .ok (.aload_n 0, 1) := dk_42 (dk_at dksX6_valley_5 4 rfl rfl)
theorem dX6_valley_121 : decode cX6_valley 121 = .ok (.getfield 139, 3) := dk_180 0 139 (dk_at dksX6_valley_5 5 rfl rfl)
theorem dX6_valley_124 : decode cX6_valley 124 = .ok (.isub, 1) := dk_100 (dk_at dksX6_valley_5 8 rfl rfl)
theorem dX6_valley_125 : decode cX6_valley 125 = .ok (.ireturn, 1) := dk_172 (dk_at dksX6_valley_5 9 rfl rfl)
theorem dX6_valley_126 : decode cX6_valley 126 = .ok (.aload_n 0, 1) := dk_42 (dk_at dksX6_valley_5 10 rfl rfl)
theorem dX6_valley_127 : decode cX6_valley 127 = .ok (.iload_n 1, 1) := dk_27 (dk_at dksX6_valley_5 11 rfl rfl)
theorem dX6_valley_128 : decode cX6_valley 128 = .ok (.putfield 24, 3) := dk_181 0 24 (dk_at dksX6_valley_5 12 rfl rfl)
theorem dX6_valley_131 : decode cX6_valley 131 = .ok (.aload_n 0, 1) := dk_42 (dk_at dksX6_valley_5 15 rfl rfl)
theorem dX6_valley_132 : decode cX6_valley 132 = .ok (.iload_n 2, 1) := dk_28 (dk_at dksX6_valley_5 16 rfl rfl)
theorem dX6_valley_133 : decode cX6_valley 133 = .ok (.putfield 27, 3) := dk_181 0 27 (dk_at dksX6_valley_5 17 rfl rfl)
theorem dX6_valley_136 : decode cX6_valley 136 = .ok (.iconst 0, 1) := dk_3 (dk_at dksX6_valley_5 20 rfl rfl)
theorem dX6_valley_137 : decode cX6_valley 137 = .ok (.istore 4, 2) := dk_54 4 (dk_at dksX6_valley_5 21 rfl rfl)
theorem dX6_valley_139 : decode cX6_valley 139 = .ok (.iload 4, 2) := dk_21 4 (dk_at dksX6_valley_6 0 rfl rfl)
theorem dX6_valley_141 : decode cX6_valley 141 = .ok (.aload_n 0, 1) := dk_42 (dk_at dksX6_valley_6 2 rfl rfl)
theorem dX6_valley_142 : decode cX6_valley 142 = .ok (.invokevirtual 122, 3) := dk_182 0 122 (dk_at dksX6_valley_6 3 rfl rfl)
theorem dX6_valley_145 : decode cX6_valley 145 = .ok (.if_icmp .ge 23, 3) := dk_162 0 23 (dk_at dksX6_valley_6 6 rfl rfl)
theorem dX6_valley_148 : decode cX6_valley 148 = .ok (.aload_n 0, 1) := dk_42 (dk_at dksX6_valley_6 9 rfl rfl)
theorem dX6_valley_149 : decode cX6_valley 149 = .ok (.getfield 33, 3) := dk_180 0 33 (dk_at dksX6_valley_6 10 rfl rfl)
theorem dX6_valley_152 : decode cX6_valley 152 = .ok (.iload 4, 2) := dk_21 4 (dk_at dksX6_valley_6 13 rfl rfl)
theorem dX6_valley_154 : decode cX6_valley 154 = .ok (.aload_n 0, 1) := dk_42 (dk_at dksX6_valley_6 15 rfl rfl)
theorem dX6_valley_155 : decode cX6_valley 155 = .ok (.getfield 50, 3) := dk_180 0 50 (dk_at dksX6_valley_6 16 rfl rfl)
theorem dX6_valley_158 : decode cX6_valley 158 = .ok (.iload 4, 2) := dk_21 4 (dk_at dksX6_valley_6 19 rfl rfl)
theorem dX6_valley_160 : decode cX6_valley 160 = .ok (.baload, 1) := dk_51 (dk_at dksX6_valley_6 21 rfl rfl)
theorem dX6_valley_161 : decode cX6_valley 161 = .ok (.bastore, 1) := dk_84 (dk_at dksX6_valley_6 22 rfl rfl)
theorem dX6_valley_162 : decode cX6_valley 162 = .ok (.iinc 4 1, 3) := dk_132 4 1 (dk_at dksX6_valley_7 0 rfl rfl)
theorem dX6_valley_165 : decode cX6_valley 165 = .ok (.goto (-26), 3) := dk_167 255 230 (dk_at dksX6_valley_7 3 rfl rfl)
theorem dX6_valley_168 : decode cX6_valley 168 = .ok (.aload_n 0, 1) := dk_42 (dk_at dksX6_valley_7 6 rfl rfl)
theorem dX6_valley_169 : decode cX6_valley 169 = .ok (.iconst 0, 1) := dk_3 (dk_at dksX6_valley_7 7 rfl rfl)
theorem dX6_valley_170 : decode cX6_valley 170 = .ok (.putfield 130, 3) := dk_181 0 130 (dk_at dksX6_valley_7 8 rfl rfl)
theorem dX6_valley_173 : decode cX6_valley 173 = .ok (.aload_n 0, 1) := dk_42 (dk_at dksX6_valley_7 11 rfl rfl)
theorem dX6_valley_174 : decode cX6_valley 174 = .ok (.iconst 0, 1) := dk_3 (dk_at dksX6_valley_7 12 rfl rfl)
theorem dX6_valley_175 : decode cX6_valley 175 = .ok (.putfield 133, 3) := dk_181 0 133 (dk_at dksX6_valley_7 13 rfl rfl)
theorem dX6_valley_178 : decode cX6_valley 178 = .ok (.aload_n 0, 1) := dk_42 (dk_at dksX6_valley_7 16 rfl rfl)
theorem dX6_valley_179 : decode cX6_valley 179 = .ok (.getfield 41, 3) := dk_180 0 41 (dk_at dksX6_valley_7 17 rfl rfl)
theorem dX6_valley_182 : decode cX6_valley 182 = .ok (.bipush 40, 2) := dk_16 40 (dk_at dksX6_valley_7 20 rfl rfl)
theorem dX6_valley_184 : decode cX6_valley 184 = .ok (.iconst 0, 1) := dk_3 (dk_at dksX6_valley_7 22 rfl rfl)
theorem dX6_valley_185 : decode cX6_valley 185 = .ok (.iastore, 1) := dk_79 (dk_at dksX6_valley_7 23 rfl rfl)
theorem dX6_valley_186 : decode cX6_valley 186 = .ok (.aload_n 0, 1) := dk_42 (dk_at dksX6_valley_8 0 rfl rfl)
theorem dX6_valley_187 : decode cX6_valley 187 = .ok (.iconst 0, 1) := dk_3 (dk_at dksX6_valley_8 1 rfl rfl)
theorem dX6_valley_188 : decode cX6_valley 188 = .ok (.putfield 188, 3) := dk_181 0 188 (dk_at dksX6_valley_8 2 rfl rfl)
theorem dX6_valley_191 : decode cX6_valley 191 = .ok (.aload_n 0, 1) := dk_42 (dk_at dksX6_valley_8 5 rfl rfl)
theorem dX6_valley_192 : decode cX6_valley 192 = .ok (.dup, 1) := dk_89 (dk_at dksX6_valley_8 6 rfl rfl)
theorem dX6_valley_193 : decode cX6_valley 193 = .ok (.getfield 191, 3) := dk_180 0 191 (dk_at dksX6_valley_8 7 rfl rfl)
theorem dX6_valley_196 : decode cX6_valley 196 = .ok (.iconst 1, 1) := dk_4 (dk_at dksX6_valley_8 10 rfl rfl)
theorem dX6_valley_197 : decode cX6_valley 197 = .ok (.iadd, 1) := dk_96 (dk_at dksX6_valley_8 11 rfl rfl)
theorem dX6_valley_198 : decode cX6_valley 198 = .ok (.putfield 191, 3) := dk_181 0 191 (dk_at dksX6_valley_8 12 rfl rfl)
theorem dX6_valley_201 : decode cX6_valley 201 = .ok (.aload_n 0, 1) := dk_42 (dk_at dksX6_valley_8 15 rfl rfl)
theorem dX6_valley_202 : decode cX6_valley 202 = .ok (.iconst 0, 1) := dk_3 (dk_at dksX6_valley_8 16 rfl rfl)
theorem dX6_valley_203 : decode cX6_valley 203 = .ok (.putfield 194, 3) := dk_181 0 194 (dk_at dksX6_valley_8 17 rfl rfl)
theorem dX6_valley_206 : decode cX6_valley 206 = .ok (.aload_n 0, 1) := dk_42 (dk_at dksX6_valley_8 20 rfl rfl)
theorem dX6_valley_207 : decode cX6_valley 207 = .ok (.invokevirtual 122, 3) := dk_182 0 122 (dk_at dksX6_valley_8 21 rfl rfl)
theorem dX6_valley_210 : decode cX6_valley 210 = .ok (.ireturn, 1) := dk_172 (dk_at dksX6_valley_9 0 rfl rfl)
abbrev cX6_begins : ByteArray := prog_12_method_16_code
def yX6_begins : MethodName := ⟨RX6, "begins", "(I)I"⟩
def dkwX6_begins_1 : List UInt8 := [184, 0, 145, 181, 0, 151, 28, 172]
abbrev dktX6_begins_1 : List UInt8 := dkwX6_begins_1 ++ []
def dkwX6_begins_0 : List UInt8 := [42, 180, 0, 136, 61, 42, 3, 181, 0, 136, 42, 3, 181, 0, 139, 42, 3, 181, 0, 142, 42, 28, 27]
abbrev dktX6_begins_0 : List UInt8 := dkwX6_begins_0 ++ dktX6_begins_1
theorem dksX6_begins_0 : cX6_begins.data.toList.drop 0 = dktX6_begins_0 := by decide +kernel
theorem dksX6_begins_1 : cX6_begins.data.toList.drop 23 = dktX6_begins_1 := dk_seg dksX6_begins_0 23 rfl rfl
theorem dX6_begins_0 : decode cX6_begins 0 = .ok (.aload_n 0, 1) := dk_42 (dk_at dksX6_begins_0 0 rfl rfl)
theorem dX6_begins_1 : decode cX6_begins 1 = .ok (.getfield 136, 3) := dk_180 0 136 (dk_at dksX6_begins_0 1 rfl rfl)
theorem dX6_begins_4 : decode cX6_begins 4 = .ok (.istore_n 2, 1) := dk_61 (dk_at dksX6_begins_0 4 rfl rfl)
theorem dX6_begins_5 : decode cX6_begins 5 = .ok (.aload_n 0, 1) := dk_42 (dk_at dksX6_begins_0 5 rfl rfl)
theorem dX6_begins_6 : decode cX6_begins 6 = .ok (.iconst 0, 1) := dk_3 (dk_at dksX6_begins_0 6 rfl rfl)
theorem dX6_begins_7 : decode cX6_begins 7 = .ok (.putfield 136, 3) := dk_181 0 136 (dk_at dksX6_begins_0 7 rfl rfl)
theorem dX6_begins_10 : decode cX6_begins 10 = .ok (.aload_n 0, 1) := dk_42 (dk_at dksX6_begins_0 10 rfl rfl)
theorem dX6_begins_11 : decode cX6_begins 11 = .ok (.iconst 0, 1) := dk_3 (dk_at dksX6_begins_0 11 rfl rfl)
theorem dX6_begins_12 : decode cX6_begins 12 = .ok (.putfield 139, 3) := dk_181 0 139 (dk_at dksX6_begins_0 12 rfl rfl)
theorem dX6_begins_15 : decode cX6_begins 15 = .ok (.aload_n 0, 1) := dk_42 (dk_at dksX6_begins_0 15 rfl rfl)
theorem dX6_begins_16 : decode cX6_begins 16 = .ok (.iconst 0, 1) := dk_3 (dk_at dksX6_begins_0 16 rfl rfl)
theorem dX6_begins_17 : decode cX6_begins 17 = .ok (.putfield 142, 3) := dk_181 0 142 (dk_at dksX6_begins_0 17 rfl rfl)
theorem dX6_begins_20 : decode cX6_begins 20 = .ok (.aload_n 0, 1) := dk_42 (dk_at dksX6_begins_0 20 rfl rfl)
theorem dX6_begins_21 : decode cX6_begins 21 = .ok (.iload_n 2, 1) := dk_28 (dk_at dksX6_begins_0 21 rfl rfl)
theorem dX6_begins_22 : decode cX6_begins 22 = .ok (.iload_n 1, 1) := dk_27 (dk_at dksX6_begins_0 22 rfl rfl)
theorem dX6_begins_23 : decode cX6_begins 23 = .ok (.invokestatic 145, 3) := dk_184 0 145 (dk_at dksX6_begins_1 0 rfl rfl)
theorem dX6_begins_26 : decode cX6_begins 26 = .ok (.putfield 151, 3) := dk_181 0 151 (dk_at dksX6_begins_1 3 rfl rfl)
theorem dX6_begins_29 : decode cX6_begins 29 = .ok (.iload_n 2, 1) := dk_28 (dk_at dksX6_begins_1 6 rfl rfl)
theorem dX6_begins_30 : decode cX6_begins 30 = .ok (.ireturn, 1) := dk_172 (dk_at dksX6_begins_1 7 rfl rfl)
abbrev cX6_digitIn : ByteArray := prog_12_method_21_code
def yX6_digitIn : MethodName := ⟨RX6, "digitIn", "(II)I"⟩
def dkwX6_digitIn_2 : List UInt8 := [180, 0, 47, 42, 180, 0, 139, 4, 100, 46, 16, 48, 100, 172]
abbrev dktX6_digitIn_2 : List UInt8 := dkwX6_digitIn_2 ++ []
def dkwX6_digitIn_1 : List UInt8 := [27, 133, 28, 133, 184, 0, 126, 154, 0, 5, 2, 172, 42, 89, 180, 0, 139, 4, 96, 181, 0, 139, 42]
abbrev dktX6_digitIn_1 : List UInt8 := dkwX6_digitIn_1 ++ dktX6_digitIn_2
def dkwX6_digitIn_0 : List UInt8 := [42, 180, 0, 139, 42, 180, 0, 151, 162, 0, 26, 42, 180, 0, 47, 42, 180, 0, 139, 46, 16, 48, 100, 133]
abbrev dktX6_digitIn_0 : List UInt8 := dkwX6_digitIn_0 ++ dktX6_digitIn_1
theorem dksX6_digitIn_0 : cX6_digitIn.data.toList.drop 0 = dktX6_digitIn_0 := by decide +kernel
theorem dksX6_digitIn_1 : cX6_digitIn.data.toList.drop 24 = dktX6_digitIn_1 := dk_seg dksX6_digitIn_0 24 rfl rfl
theorem dksX6_digitIn_2 : cX6_digitIn.data.toList.drop 47 = dktX6_digitIn_2 := dk_seg dksX6_digitIn_1 23 rfl rfl
theorem dX6_digitIn_0 : decode cX6_digitIn 0 = .ok (.aload_n 0, 1) := dk_42 (dk_at dksX6_digitIn_0 0 rfl rfl)
theorem dX6_digitIn_1 : decode cX6_digitIn 1 = .ok (.getfield 139, 3) := dk_180 0 139 (dk_at dksX6_digitIn_0 1 rfl rfl)
theorem dX6_digitIn_4 : decode cX6_digitIn 4 = .ok (.aload_n 0, 1) := dk_42 (dk_at dksX6_digitIn_0 4 rfl rfl)
theorem dX6_digitIn_5 : decode cX6_digitIn 5 = .ok (.getfield 151, 3) := dk_180 0 151 (dk_at dksX6_digitIn_0 5 rfl rfl)
theorem dX6_digitIn_8 : decode cX6_digitIn 8 = .ok (.if_icmp .ge 26, 3) := dk_162 0 26 (dk_at dksX6_digitIn_0 8 rfl rfl)
theorem dX6_digitIn_11 : decode cX6_digitIn 11 = .ok (.aload_n 0, 1) := dk_42 (dk_at dksX6_digitIn_0 11 rfl rfl)
theorem dX6_digitIn_12 : decode cX6_digitIn 12 = .ok (.getfield 47, 3) := dk_180 0 47 (dk_at dksX6_digitIn_0 12 rfl rfl)
theorem dX6_digitIn_15 : decode cX6_digitIn 15 = .ok (.aload_n 0, 1) := dk_42 (dk_at dksX6_digitIn_0 15 rfl rfl)
theorem dX6_digitIn_16 : decode cX6_digitIn 16 = .ok (.getfield 139, 3) := dk_180 0 139 (dk_at dksX6_digitIn_0 16 rfl rfl)
theorem dX6_digitIn_19 : decode cX6_digitIn 19 = .ok (.iaload, 1) := dk_46 (dk_at dksX6_digitIn_0 19 rfl rfl)
theorem dX6_digitIn_20 : decode cX6_digitIn 20 = .ok (.bipush 48, 2) := dk_16 48 (dk_at dksX6_digitIn_0 20 rfl rfl)
theorem dX6_digitIn_22 : decode cX6_digitIn 22 = .ok (.isub, 1) := dk_100 (dk_at dksX6_digitIn_0 22 rfl rfl)
theorem dX6_digitIn_23 : decode cX6_digitIn 23 = .ok (.i2l, 1) := dk_133 (dk_at dksX6_digitIn_0 23 rfl rfl)
theorem dX6_digitIn_24 : decode cX6_digitIn 24 = .ok (.iload_n 1, 1) := dk_27 (dk_at dksX6_digitIn_1 0 rfl rfl)
theorem dX6_digitIn_25 : decode cX6_digitIn 25 = .ok (.i2l, 1) := dk_133 (dk_at dksX6_digitIn_1 1 rfl rfl)
theorem dX6_digitIn_26 : decode cX6_digitIn 26 = .ok (.iload_n 2, 1) := dk_28 (dk_at dksX6_digitIn_1 2 rfl rfl)
theorem dX6_digitIn_27 : decode cX6_digitIn 27 = .ok (.i2l, 1) := dk_133 (dk_at dksX6_digitIn_1 3 rfl rfl)
theorem dX6_digitIn_28 : decode cX6_digitIn 28 = .ok (.invokestatic 126, 3) := dk_184 0 126 (dk_at dksX6_digitIn_1 4 rfl rfl)
theorem dX6_digitIn_31 : decode cX6_digitIn 31 = .ok (.ifCond .ne 5, 3) := dk_154 0 5 (dk_at dksX6_digitIn_1 7 rfl rfl)
theorem dX6_digitIn_34 : decode cX6_digitIn 34 = .ok (.iconst (-1), 1) := dk_2 (dk_at dksX6_digitIn_1 10 rfl rfl)
theorem dX6_digitIn_35 : decode cX6_digitIn 35 = .ok (.ireturn, 1) := dk_172 (dk_at dksX6_digitIn_1 11 rfl rfl)
theorem dX6_digitIn_36 : decode cX6_digitIn 36 = .ok (.aload_n 0, 1) := dk_42 (dk_at dksX6_digitIn_1 12 rfl rfl)
theorem dX6_digitIn_37 : decode cX6_digitIn 37 = .ok (.dup, 1) := dk_89 (dk_at dksX6_digitIn_1 13 rfl rfl)
theorem dX6_digitIn_38 : decode cX6_digitIn 38 = .ok (.getfield 139, 3) := dk_180 0 139 (dk_at dksX6_digitIn_1 14 rfl rfl)
theorem dX6_digitIn_41 : decode cX6_digitIn 41 = .ok (.iconst 1, 1) := dk_4 (dk_at dksX6_digitIn_1 17 rfl rfl)
theorem dX6_digitIn_42 : decode cX6_digitIn 42 = .ok (.iadd, 1) := dk_96 (dk_at dksX6_digitIn_1 18 rfl rfl)
theorem dX6_digitIn_43 : decode cX6_digitIn 43 = .ok (.putfield 139, 3) := dk_181 0 139 (dk_at dksX6_digitIn_1 19 rfl rfl)
theorem dX6_digitIn_46 : decode cX6_digitIn 46 = .ok (.aload_n 0, 1) := dk_42 (dk_at dksX6_digitIn_1 22 rfl rfl)
theorem dX6_digitIn_47 : decode cX6_digitIn 47 = .ok (.getfield 47, 3) := dk_180 0 47 (dk_at dksX6_digitIn_2 0 rfl rfl)
theorem dX6_digitIn_50 : decode cX6_digitIn 50 = .ok (.aload_n 0, 1) := dk_42 (dk_at dksX6_digitIn_2 3 rfl rfl)
theorem dX6_digitIn_51 : decode cX6_digitIn 51 = .ok (.getfield 139, 3) := dk_180 0 139 (dk_at dksX6_digitIn_2 4 rfl rfl)
theorem dX6_digitIn_54 : decode cX6_digitIn 54 = .ok (.iconst 1, 1) := dk_4 (dk_at dksX6_digitIn_2 7 rfl rfl)
theorem dX6_digitIn_55 : decode cX6_digitIn 55 = .ok (.isub, 1) := dk_100 (dk_at dksX6_digitIn_2 8 rfl rfl)
theorem dX6_digitIn_56 : decode cX6_digitIn 56 = .ok (.iaload, 1) := dk_46 (dk_at dksX6_digitIn_2 9 rfl rfl)
theorem dX6_digitIn_57 : decode cX6_digitIn 57 = .ok (.bipush 48, 2) := dk_16 48 (dk_at dksX6_digitIn_2 10 rfl rfl)
theorem dX6_digitIn_59 : decode cX6_digitIn 59 = .ok (.isub, 1) := dk_100 (dk_at dksX6_digitIn_2 12 rfl rfl)
theorem dX6_digitIn_60 : decode cX6_digitIn 60 = .ok (.ireturn, 1) := dk_172 (dk_at dksX6_digitIn_2 13 rfl rfl)
abbrev cX6_takesOf : ByteArray := prog_12_method_19_code
def yX6_takesOf : MethodName := ⟨RX6, "takesOf", "(Ljava/lang/String;)I"⟩
def dkwX6_takesOf_2 : List UInt8 := [181, 0, 139, 28, 172, 132, 2, 1, 167, 255, 205, 2, 172]
abbrev dktX6_takesOf_2 : List UInt8 := dkwX6_takesOf_2 ++ []
def dkwX6_takesOf_1 : List UInt8 := [182, 0, 167, 42, 180, 0, 47, 42, 180, 0, 139, 46, 160, 0, 15, 42, 89, 180, 0, 139, 4, 96]
abbrev dktX6_takesOf_1 : List UInt8 := dkwX6_takesOf_1 ++ dktX6_takesOf_2
def dkwX6_takesOf_0 : List UInt8 := [3, 61, 28, 43, 182, 0, 162, 162, 0, 49, 42, 180, 0, 139, 42, 180, 0, 151, 162, 0, 38, 43, 28]
abbrev dktX6_takesOf_0 : List UInt8 := dkwX6_takesOf_0 ++ dktX6_takesOf_1
theorem dksX6_takesOf_0 : cX6_takesOf.data.toList.drop 0 = dktX6_takesOf_0 := by decide +kernel
theorem dksX6_takesOf_1 : cX6_takesOf.data.toList.drop 23 = dktX6_takesOf_1 := dk_seg dksX6_takesOf_0 23 rfl rfl
theorem dksX6_takesOf_2 : cX6_takesOf.data.toList.drop 45 = dktX6_takesOf_2 := dk_seg dksX6_takesOf_1 22 rfl rfl
theorem dX6_takesOf_0 : decode cX6_takesOf 0 = .ok (.iconst 0, 1) := dk_3 (dk_at dksX6_takesOf_0 0 rfl rfl)
theorem dX6_takesOf_1 : decode cX6_takesOf 1 = .ok (.istore_n 2, 1) := dk_61 (dk_at dksX6_takesOf_0 1 rfl rfl)
theorem dX6_takesOf_2 : decode cX6_takesOf 2 = .ok (.iload_n 2, 1) := dk_28 (dk_at dksX6_takesOf_0 2 rfl rfl)
theorem dX6_takesOf_3 : decode cX6_takesOf 3 = .ok (.aload_n 1, 1) := dk_43 (dk_at dksX6_takesOf_0 3 rfl rfl)
theorem dX6_takesOf_4 : decode cX6_takesOf 4 = .ok (.invokevirtual 162, 3) := dk_182 0 162 (dk_at dksX6_takesOf_0 4 rfl rfl)
theorem dX6_takesOf_7 : decode cX6_takesOf 7 = .ok (.if_icmp .ge 49, 3) := dk_162 0 49 (dk_at dksX6_takesOf_0 7 rfl rfl)
theorem dX6_takesOf_10 : decode cX6_takesOf 10 = .ok (.aload_n 0, 1) := dk_42 (dk_at dksX6_takesOf_0 10 rfl rfl)
theorem dX6_takesOf_11 : decode cX6_takesOf 11 = .ok (.getfield 139, 3) := dk_180 0 139 (dk_at dksX6_takesOf_0 11 rfl rfl)
theorem dX6_takesOf_14 : decode cX6_takesOf 14 = .ok (.aload_n 0, 1) := dk_42 (dk_at dksX6_takesOf_0 14 rfl rfl)
theorem dX6_takesOf_15 : decode cX6_takesOf 15 = .ok (.getfield 151, 3) := dk_180 0 151 (dk_at dksX6_takesOf_0 15 rfl rfl)
theorem dX6_takesOf_18 : decode cX6_takesOf 18 = .ok (.if_icmp .ge 38, 3) := dk_162 0 38 (dk_at dksX6_takesOf_0 18 rfl rfl)
theorem dX6_takesOf_21 : decode cX6_takesOf 21 = .ok (.aload_n 1, 1) := dk_43 (dk_at dksX6_takesOf_0 21 rfl rfl)
theorem dX6_takesOf_22 : decode cX6_takesOf 22 = .ok (.iload_n 2, 1) := dk_28 (dk_at dksX6_takesOf_0 22 rfl rfl)
theorem dX6_takesOf_23 : decode cX6_takesOf 23 = .ok (.invokevirtual 167, 3) := dk_182 0 167 (dk_at dksX6_takesOf_1 0 rfl rfl)
theorem dX6_takesOf_26 : decode cX6_takesOf 26 = .ok (.aload_n 0, 1) := dk_42 (dk_at dksX6_takesOf_1 3 rfl rfl)
theorem dX6_takesOf_27 : decode cX6_takesOf 27 = .ok (.getfield 47, 3) := dk_180 0 47 (dk_at dksX6_takesOf_1 4 rfl rfl)
theorem dX6_takesOf_30 : decode cX6_takesOf 30 = .ok (.aload_n 0, 1) := dk_42 (dk_at dksX6_takesOf_1 7 rfl rfl)
theorem dX6_takesOf_31 : decode cX6_takesOf 31 = .ok (.getfield 139, 3) := dk_180 0 139 (dk_at dksX6_takesOf_1 8 rfl rfl)
theorem dX6_takesOf_34 : decode cX6_takesOf 34 = .ok (.iaload, 1) := dk_46 (dk_at dksX6_takesOf_1 11 rfl rfl)
theorem dX6_takesOf_35 : decode cX6_takesOf 35 = .ok (.if_icmp .ne 15, 3) := dk_160 0 15 (dk_at dksX6_takesOf_1 12 rfl rfl)
theorem dX6_takesOf_38 : decode cX6_takesOf 38 = .ok (.aload_n 0, 1) := dk_42 (dk_at dksX6_takesOf_1 15 rfl rfl)
theorem dX6_takesOf_39 : decode cX6_takesOf 39 = .ok (.dup, 1) := dk_89 (dk_at dksX6_takesOf_1 16 rfl rfl)
theorem dX6_takesOf_40 : decode cX6_takesOf 40 = .ok (.getfield 139, 3) := dk_180 0 139 (dk_at dksX6_takesOf_1 17 rfl rfl)
theorem dX6_takesOf_43 : decode cX6_takesOf 43 = .ok (.iconst 1, 1) := dk_4 (dk_at dksX6_takesOf_1 20 rfl rfl)
theorem dX6_takesOf_44 : decode cX6_takesOf 44 = .ok (.iadd, 1) := dk_96 (dk_at dksX6_takesOf_1 21 rfl rfl)
theorem dX6_takesOf_45 : decode cX6_takesOf 45 = .ok (.putfield 139, 3) := dk_181 0 139 (dk_at dksX6_takesOf_2 0 rfl rfl)
theorem dX6_takesOf_48 : decode cX6_takesOf 48 = .ok (.iload_n 2, 1) := dk_28 (dk_at dksX6_takesOf_2 3 rfl rfl)
theorem dX6_takesOf_49 : decode cX6_takesOf 49 = .ok (.ireturn, 1) := dk_172 (dk_at dksX6_takesOf_2 4 rfl rfl)
theorem dX6_takesOf_50 : decode cX6_takesOf 50 = .ok (.iinc 2 1, 3) := dk_132 2 1 (dk_at dksX6_takesOf_2 5 rfl rfl)
theorem dX6_takesOf_53 : decode cX6_takesOf 53 = .ok (.goto (-51), 3) := dk_167 255 205 (dk_at dksX6_takesOf_2 8 rfl rfl)
theorem dX6_takesOf_56 : decode cX6_takesOf 56 = .ok (.iconst (-1), 1) := dk_2 (dk_at dksX6_takesOf_2 11 rfl rfl)
theorem dX6_takesOf_57 : decode cX6_takesOf 57 = .ok (.ireturn, 1) := dk_172 (dk_at dksX6_takesOf_2 12 rfl rfl)
abbrev cX6_fields : ByteArray := prog_12_method_9_code
def yX6_fields : MethodName := ⟨RX6, "fields", "()I"⟩
def dkwX6_fields_0 : List UInt8 := [42, 180, 0, 24, 42, 180, 0, 27, 104, 172]
abbrev dktX6_fields_0 : List UInt8 := dkwX6_fields_0 ++ []
theorem dksX6_fields_0 : cX6_fields.data.toList.drop 0 = dktX6_fields_0 := by decide +kernel
theorem dX6_fields_0 : decode cX6_fields 0 = .ok (.aload_n 0, 1) := dk_42 (dk_at dksX6_fields_0 0 rfl rfl)
theorem dX6_fields_1 : decode cX6_fields 1 = .ok (.getfield 24, 3) := dk_180 0 24 (dk_at dksX6_fields_0 1 rfl rfl)
theorem dX6_fields_4 : decode cX6_fields 4 = .ok (.aload_n 0, 1) := dk_42 (dk_at dksX6_fields_0 4 rfl rfl)
theorem dX6_fields_5 : decode cX6_fields 5 = .ok (.getfield 27, 3) := dk_180 0 27 (dk_at dksX6_fields_0 5 rfl rfl)
theorem dX6_fields_8 : decode cX6_fields 8 = .ok (.imul, 1) := dk_104 (dk_at dksX6_fields_0 8 rfl rfl)
theorem dX6_fields_9 : decode cX6_fields 9 = .ok (.ireturn, 1) := dk_172 (dk_at dksX6_fields_0 9 rfl rfl)
abbrev cX6_people : ByteArray := prog_12_method_29_code
def yX6_people : MethodName := ⟨RX6, "people", "()I"⟩
def dkwX6_people_5 : List UInt8 := [132, 2, 1, 167, 255, 161, 42, 182, 0, 221, 172]
abbrev dktX6_people_5 : List UInt8 := dkwX6_people_5 ++ []
def dkwX6_people_4 : List UInt8 := [180, 0, 41, 16, 24, 42, 180, 0, 130, 96, 3, 79, 42, 89, 180, 0, 130, 4, 96, 181, 0, 130]
abbrev dktX6_people_4 : List UInt8 := dkwX6_people_4 ++ dktX6_people_5
def dkwX6_people_3 : List UInt8 := [180, 0, 41, 16, 16, 42, 180, 0, 130, 96, 42, 180, 0, 53, 6, 28, 104, 5, 96, 46, 79, 42]
abbrev dktX6_people_3 : List UInt8 := dkwX6_people_3 ++ dktX6_people_4
def dkwX6_people_2 : List UInt8 := [180, 0, 41, 16, 8, 42, 180, 0, 130, 96, 42, 180, 0, 53, 6, 28, 104, 4, 96, 46, 79, 42]
abbrev dktX6_people_2 : List UInt8 := dkwX6_people_2 ++ dktX6_people_3
def dkwX6_people_1 : List UInt8 := [180, 0, 197, 162, 0, 93, 42, 180, 0, 41, 42, 180, 0, 130, 42, 180, 0, 53, 6, 28, 104, 46, 79, 42]
abbrev dktX6_people_1 : List UInt8 := dkwX6_people_1 ++ dktX6_people_2
def dkwX6_people_0 : List UInt8 := [42, 3, 181, 0, 3, 42, 4, 16, 39, 182, 0, 217, 60, 27, 156, 0, 5, 27, 172, 3, 61, 28, 42]
abbrev dktX6_people_0 : List UInt8 := dkwX6_people_0 ++ dktX6_people_1
theorem dksX6_people_0 : cX6_people.data.toList.drop 0 = dktX6_people_0 := by decide +kernel
theorem dksX6_people_1 : cX6_people.data.toList.drop 23 = dktX6_people_1 := dk_seg dksX6_people_0 23 rfl rfl
theorem dksX6_people_2 : cX6_people.data.toList.drop 47 = dktX6_people_2 := dk_seg dksX6_people_1 24 rfl rfl
theorem dksX6_people_3 : cX6_people.data.toList.drop 69 = dktX6_people_3 := dk_seg dksX6_people_2 22 rfl rfl
theorem dksX6_people_4 : cX6_people.data.toList.drop 91 = dktX6_people_4 := dk_seg dksX6_people_3 22 rfl rfl
theorem dksX6_people_5 : cX6_people.data.toList.drop 113 = dktX6_people_5 := dk_seg dksX6_people_4 22 rfl rfl
theorem dX6_people_0 : decode cX6_people 0 = .ok (.aload_n 0, 1) := dk_42 (dk_at dksX6_people_0 0 rfl rfl)
theorem dX6_people_1 : decode cX6_people 1 = .ok (.iconst 0, 1) := dk_3 (dk_at dksX6_people_0 1 rfl rfl)
theorem dX6_people_2 : decode cX6_people 2 = .ok (.putfield 3, 3) := dk_181 0 3 (dk_at dksX6_people_0 2 rfl rfl)
theorem dX6_people_5 : decode cX6_people 5 = .ok (.aload_n 0, 1) := dk_42 (dk_at dksX6_people_0 5 rfl rfl)
theorem dX6_people_6 : decode cX6_people 6 = .ok (.iconst 1, 1) := dk_4 (dk_at dksX6_people_0 6 rfl rfl)
theorem dX6_people_7 : decode cX6_people 7 = .ok (.bipush 39, 2) := dk_16 39 (dk_at dksX6_people_0 7 rfl rfl)
theorem dX6_people_9 : decode cX6_people 9 = .ok (.invokevirtual 217, 3) := dk_182 0 217 (dk_at dksX6_people_0 9 rfl rfl)
theorem dX6_people_12 : decode cX6_people 12 = .ok (.istore_n 1, 1) := dk_60 (dk_at dksX6_people_0 12 rfl rfl)
theorem dX6_people_13 : decode cX6_people 13 = .ok (.iload_n 1, 1) := dk_27 (dk_at dksX6_people_0 13 rfl rfl)
theorem dX6_people_14 : decode cX6_people 14 = .ok (.ifCond .ge 5, 3) := dk_156 0 5 (dk_at dksX6_people_0 14 rfl rfl)
theorem dX6_people_17 : decode cX6_people 17 = .ok (.iload_n 1, 1) := dk_27 (dk_at dksX6_people_0 17 rfl rfl)
theorem dX6_people_18 : decode cX6_people 18 = .ok (.ireturn, 1) := dk_172 (dk_at dksX6_people_0 18 rfl rfl)
theorem dX6_people_19 : decode cX6_people 19 = .ok (.iconst 0, 1) := dk_3 (dk_at dksX6_people_0 19 rfl rfl)
theorem dX6_people_20 : decode cX6_people 20 = .ok (.istore_n 2, 1) := dk_61 (dk_at dksX6_people_0 20 rfl rfl)
theorem dX6_people_21 : decode cX6_people 21 = .ok (.iload_n 2, 1) := dk_28 (dk_at dksX6_people_0 21 rfl rfl)
theorem dX6_people_22 : decode cX6_people 22 = .ok (.aload_n 0, 1) := dk_42 (dk_at dksX6_people_0 22 rfl rfl)
theorem dX6_people_23 : decode cX6_people 23 = .ok (.getfield 197, 3) := dk_180 0 197 (dk_at dksX6_people_1 0 rfl rfl)
theorem dX6_people_26 : decode cX6_people 26 = .ok (.if_icmp .ge 93, 3) := dk_162 0 93 (dk_at dksX6_people_1 3 rfl rfl)
theorem dX6_people_29 : decode cX6_people 29 = .ok (.aload_n 0, 1) := dk_42 (dk_at dksX6_people_1 6 rfl rfl)
theorem dX6_people_30 : decode cX6_people 30 = .ok (.getfield 41, 3) := dk_180 0 41 (dk_at dksX6_people_1 7 rfl rfl)
theorem dX6_people_33 : decode cX6_people 33 = .ok (.aload_n 0, 1) := dk_42 (dk_at dksX6_people_1 10 rfl rfl)
theorem dX6_people_34 : decode cX6_people 34 = .ok (.getfield 130, 3) := dk_180 0 130 (dk_at dksX6_people_1 11 rfl rfl)
theorem dX6_people_37 : decode cX6_people 37 = .ok (.aload_n 0, 1) := dk_42 (dk_at dksX6_people_1 14 rfl rfl)
theorem dX6_people_38 : decode cX6_people 38 = .ok (.getfield 53, 3) := dk_180 0 53 (dk_at dksX6_people_1 15 rfl rfl)
theorem dX6_people_41 : decode cX6_people 41 = .ok (.iconst 3, 1) := dk_6 (dk_at dksX6_people_1 18 rfl rfl)
theorem dX6_people_42 : decode cX6_people 42 = .ok (.iload_n 2, 1) := dk_28 (dk_at dksX6_people_1 19 rfl rfl)
theorem dX6_people_43 : decode cX6_people 43 = .ok (.imul, 1) := dk_104 (dk_at dksX6_people_1 20 rfl rfl)
theorem dX6_people_44 : decode cX6_people 44 = .ok (.iaload, 1) := dk_46 (dk_at dksX6_people_1 21 rfl rfl)
theorem dX6_people_45 : decode cX6_people 45 = .ok (.iastore, 1) := dk_79 (dk_at dksX6_people_1 22 rfl rfl)
theorem dX6_people_46 : decode cX6_people 46 = .ok (.aload_n 0, 1) := dk_42 (dk_at dksX6_people_1 23 rfl rfl)
theorem dX6_people_47 : decode cX6_people 47 = .ok (.getfield 41, 3) := dk_180 0 41 (dk_at dksX6_people_2 0 rfl rfl)
theorem dX6_people_50 : decode cX6_people 50 = .ok (.bipush 8, 2) := dk_16 8 (dk_at dksX6_people_2 3 rfl rfl)
theorem dX6_people_52 : decode cX6_people 52 = .ok (.aload_n 0, 1) := dk_42 (dk_at dksX6_people_2 5 rfl rfl)
theorem dX6_people_53 : decode cX6_people 53 = .ok (.getfield 130, 3) := dk_180 0 130 (dk_at dksX6_people_2 6 rfl rfl)
theorem dX6_people_56 : decode cX6_people 56 = .ok (.iadd, 1) := dk_96 (dk_at dksX6_people_2 9 rfl rfl)
theorem dX6_people_57 : decode cX6_people 57 = .ok (.aload_n 0, 1) := dk_42 (dk_at dksX6_people_2 10 rfl rfl)
theorem dX6_people_58 : decode cX6_people 58 = .ok (.getfield 53, 3) := dk_180 0 53 (dk_at dksX6_people_2 11 rfl rfl)
theorem dX6_people_61 : decode cX6_people 61 = .ok (.iconst 3, 1) := dk_6 (dk_at dksX6_people_2 14 rfl rfl)
theorem dX6_people_62 : decode cX6_people 62 = .ok (.iload_n 2, 1) := dk_28 (dk_at dksX6_people_2 15 rfl rfl)
theorem dX6_people_63 : decode cX6_people 63 = .ok (.imul, 1) := dk_104 (dk_at dksX6_people_2 16 rfl rfl)
theorem dX6_people_64 : decode cX6_people 64 = .ok (.iconst 1, 1) := dk_4 (dk_at dksX6_people_2 17 rfl rfl)
theorem dX6_people_65 : decode cX6_people 65 = .ok (.iadd, 1) := dk_96 (dk_at dksX6_people_2 18 rfl rfl)
theorem dX6_people_66 : decode cX6_people 66 = .ok (.iaload, 1) := dk_46 (dk_at dksX6_people_2 19 rfl rfl)
theorem dX6_people_67 : decode cX6_people 67 = .ok (.iastore, 1) := dk_79 (dk_at dksX6_people_2 20 rfl rfl)
theorem dX6_people_68 : decode cX6_people 68 = .ok (.aload_n 0, 1) := dk_42 (dk_at dksX6_people_2 21 rfl rfl)
theorem dX6_people_69 : decode cX6_people 69 = .ok (.getfield 41, 3) := dk_180 0 41 (dk_at dksX6_people_3 0 rfl rfl)
theorem dX6_people_72 : decode cX6_people 72 = .ok (.bipush 16, 2) := dk_16 16 (dk_at dksX6_people_3 3 rfl rfl)
theorem dX6_people_74 : decode cX6_people 74 = .ok (.aload_n 0, 1) := dk_42 (dk_at dksX6_people_3 5 rfl rfl)
theorem dX6_people_75 : decode cX6_people 75 = .ok (.getfield 130, 3) := dk_180 0 130 (dk_at dksX6_people_3 6 rfl rfl)
theorem dX6_people_78 : decode cX6_people 78 = .ok (.iadd, 1) := dk_96 (dk_at dksX6_people_3 9 rfl rfl)
theorem dX6_people_79 : decode cX6_people 79 = .ok (.aload_n 0, 1) := dk_42 (dk_at dksX6_people_3 10 rfl rfl)
theorem dX6_people_80 : decode cX6_people 80 = .ok (.getfield 53, 3) := dk_180 0 53 (dk_at dksX6_people_3 11 rfl rfl)
theorem dX6_people_83 : decode cX6_people 83 = .ok (.iconst 3, 1) := dk_6 (dk_at dksX6_people_3 14 rfl rfl)
theorem dX6_people_84 : decode cX6_people 84 = .ok (.iload_n 2, 1) := dk_28 (dk_at dksX6_people_3 15 rfl rfl)
theorem dX6_people_85 : decode cX6_people 85 = .ok (.imul, 1) := dk_104 (dk_at dksX6_people_3 16 rfl rfl)
theorem dX6_people_86 : decode cX6_people 86 = .ok (.iconst 2, 1) := dk_5 (dk_at dksX6_people_3 17 rfl rfl)
theorem dX6_people_87 : decode cX6_people 87 = .ok (.iadd, 1) := dk_96 (dk_at dksX6_people_3 18 rfl rfl)
theorem dX6_people_88 : decode cX6_people 88 = .ok (.iaload, 1) := dk_46 (dk_at dksX6_people_3 19 rfl rfl)
theorem dX6_people_89 : decode cX6_people 89 = .ok (.iastore, 1) := dk_79 (dk_at dksX6_people_3 20 rfl rfl)
theorem dX6_people_90 : decode cX6_people 90 = .ok (.aload_n 0, 1) := dk_42 (dk_at dksX6_people_3 21 rfl rfl)
theorem dX6_people_91 : decode cX6_people 91 = .ok (.getfield 41, 3) := dk_180 0 41 (dk_at dksX6_people_4 0 rfl rfl)
theorem dX6_people_94 : decode cX6_people 94 = .ok (.bipush 24, 2) := dk_16 24 (dk_at dksX6_people_4 3 rfl rfl)
theorem dX6_people_96 : decode cX6_people 96 = .ok (.aload_n 0, 1) := dk_42 (dk_at dksX6_people_4 5 rfl rfl)
theorem dX6_people_97 : decode cX6_people 97 = .ok (.getfield 130, 3) := dk_180 0 130 (dk_at dksX6_people_4 6 rfl rfl)
theorem dX6_people_100 : decode cX6_people 100 = .ok (.iadd, 1) := dk_96 (dk_at dksX6_people_4 9 rfl rfl)
theorem dX6_people_101 : decode cX6_people 101 = .ok (.iconst 0, 1) := dk_3 (dk_at dksX6_people_4 10 rfl rfl)
theorem dX6_people_102 : decode cX6_people 102 = .ok (.iastore, 1) := dk_79 (dk_at dksX6_people_4 11 rfl rfl)
theorem dX6_people_103 : decode cX6_people 103 = .ok (.aload_n 0, 1) := dk_42 (dk_at dksX6_people_4 12 rfl rfl)
theorem dX6_people_104 : decode cX6_people 104 = .ok (.dup, 1) := dk_89 (dk_at dksX6_people_4 13 rfl rfl)
theorem dX6_people_105 : decode cX6_people 105 = .ok (.getfield 130, 3) := dk_180 0 130 (dk_at dksX6_people_4 14 rfl rfl)
theorem dX6_people_108 : decode cX6_people 108 = .ok (.iconst 1, 1) := dk_4 (dk_at dksX6_people_4 17 rfl rfl)
theorem dX6_people_109 : decode cX6_people 109 = .ok (.iadd, 1) := dk_96 (dk_at dksX6_people_4 18 rfl rfl)
theorem dX6_people_110 : decode cX6_people 110 = .ok (.putfield 130, 3) := dk_181 0 130 (dk_at dksX6_people_4 19 rfl rfl)
theorem dX6_people_113 : decode cX6_people 113 = .ok (.iinc 2 1, 3) := dk_132 2 1 (dk_at dksX6_people_5 0 rfl rfl)
theorem dX6_people_116 : decode cX6_people 116 = .ok (.goto (-95), 3) := dk_167 255 161 (dk_at dksX6_people_5 3 rfl rfl)
theorem dX6_people_119 : decode cX6_people 119 = .ok (.aload_n 0, 1) := dk_42 (dk_at dksX6_people_5 6 rfl rfl)
theorem dX6_people_120 : decode cX6_people 120 = .ok (.invokevirtual 221, 3) := dk_182 0 221 (dk_at dksX6_people_5 7 rfl rfl)
theorem dX6_people_123 : decode cX6_people 123 = .ok (.ireturn, 1) := dk_172 (dk_at dksX6_people_5 10 rfl rfl)
abbrev cX6_readsLines : ByteArray := prog_12_method_27_code
def yX6_readsLines : MethodName := ⟨RX6, "readsLines", "(ZI)I"⟩
def dkwX6_readsLines_3 : List UInt8 := [42, 29, 28, 21, 4, 182, 0, 213, 172]
abbrev dktX6_readsLines_3 : List UInt8 := dkwX6_readsLines_3 ++ []
def dkwX6_readsLines_2 : List UInt8 := [21, 4, 153, 0, 16, 42, 16, 59, 182, 0, 209, 153, 0, 7, 4, 167, 0, 4, 3, 54, 5, 167, 255, 213]
abbrev dktX6_readsLines_2 : List UInt8 := dkwX6_readsLines_2 ++ dktX6_readsLines_3
def dkwX6_readsLines_1 : List UInt8 := [54, 5, 21, 5, 153, 0, 44, 27, 153, 0, 10, 42, 182, 0, 203, 167, 0, 7, 42, 182, 0, 206, 54, 4]
abbrev dktX6_readsLines_1 : List UInt8 := dkwX6_readsLines_1 ++ dktX6_readsLines_2
def dkwX6_readsLines_0 : List UInt8 := [42, 28, 182, 0, 175, 62, 42, 3, 181, 0, 197, 4, 54, 4, 29, 158, 0, 7, 4, 167, 0, 4, 3]
abbrev dktX6_readsLines_0 : List UInt8 := dkwX6_readsLines_0 ++ dktX6_readsLines_1
theorem dksX6_readsLines_0 : cX6_readsLines.data.toList.drop 0 = dktX6_readsLines_0 := by decide +kernel
theorem dksX6_readsLines_1 : cX6_readsLines.data.toList.drop 23 = dktX6_readsLines_1 := dk_seg dksX6_readsLines_0 23 rfl rfl
theorem dksX6_readsLines_2 : cX6_readsLines.data.toList.drop 47 = dktX6_readsLines_2 := dk_seg dksX6_readsLines_1 24 rfl rfl
theorem dksX6_readsLines_3 : cX6_readsLines.data.toList.drop 71 = dktX6_readsLines_3 := dk_seg dksX6_readsLines_2 24 rfl rfl
theorem dX6_readsLines_0 : decode cX6_readsLines 0 = .ok (.aload_n 0, 1) := dk_42 (dk_at dksX6_readsLines_0 0 rfl rfl)
theorem dX6_readsLines_1 : decode cX6_readsLines 1 = .ok (.iload_n 2, 1) := dk_28 (dk_at dksX6_readsLines_0 1 rfl rfl)
theorem dX6_readsLines_2 : decode cX6_readsLines 2 = .ok (.invokevirtual 175, 3) := dk_182 0 175 (dk_at dksX6_readsLines_0 2 rfl rfl)
theorem dX6_readsLines_5 : decode cX6_readsLines 5 = .ok (.istore_n 3, 1) := dk_62 (dk_at dksX6_readsLines_0 5 rfl rfl)
theorem dX6_readsLines_6 : decode cX6_readsLines 6 = .ok (.aload_n 0, 1) := dk_42 (dk_at dksX6_readsLines_0 6 rfl rfl)
theorem dX6_readsLines_7 : decode cX6_readsLines 7 = .ok (.iconst 0, 1) := dk_3 (dk_at dksX6_readsLines_0 7 rfl rfl)
theorem dX6_readsLines_8 : decode cX6_readsLines 8 = .ok (.putfield 197, 3) := dk_181 0 197 (dk_at dksX6_readsLines_0 8 rfl rfl)
theorem dX6_readsLines_11 : decode cX6_readsLines 11 = .ok (.iconst 1, 1) := dk_4 (dk_at dksX6_readsLines_0 11 rfl rfl)
theorem dX6_readsLines_12 : decode cX6_readsLines 12 = .ok (.istore 4, 2) := dk_54 4 (dk_at dksX6_readsLines_0 12 rfl rfl)
theorem dX6_readsLines_14 : decode cX6_readsLines 14 = .ok (.iload_n 3, 1) := dk_29 (dk_at dksX6_readsLines_0 14 rfl rfl)
theorem dX6_readsLines_15 : decode cX6_readsLines 15 = .ok (.ifCond .le 7, 3) := dk_158 0 7 (dk_at dksX6_readsLines_0 15 rfl rfl)
theorem dX6_readsLines_18 : decode cX6_readsLines 18 = .ok (.iconst 1, 1) := dk_4 (dk_at dksX6_readsLines_0 18 rfl rfl)
theorem dX6_readsLines_19 : decode cX6_readsLines 19 = .ok (.goto 4, 3) := dk_167 0 4 (dk_at dksX6_readsLines_0 19 rfl rfl)
theorem dX6_readsLines_22 : decode cX6_readsLines 22 = .ok (.iconst 0, 1) := dk_3 (dk_at dksX6_readsLines_0 22 rfl rfl)
theorem dX6_readsLines_23 : decode cX6_readsLines 23 = .ok (.istore 5, 2) := dk_54 5 (dk_at dksX6_readsLines_1 0 rfl rfl)
theorem dX6_readsLines_25 : decode cX6_readsLines 25 = .ok (.iload 5, 2) := dk_21 5 (dk_at dksX6_readsLines_1 2 rfl rfl)
theorem dX6_readsLines_27 : decode cX6_readsLines 27 = .ok (.ifCond .eq 44, 3) := dk_153 0 44 (dk_at dksX6_readsLines_1 4 rfl rfl)
theorem dX6_readsLines_30 : decode cX6_readsLines 30 = .ok (.iload_n 1, 1) := dk_27 (dk_at dksX6_readsLines_1 7 rfl rfl)
theorem dX6_readsLines_31 : decode cX6_readsLines 31 = .ok (.ifCond .eq 10, 3) := dk_153 0 10 (dk_at dksX6_readsLines_1 8 rfl rfl)
theorem dX6_readsLines_34 : decode cX6_readsLines 34 = .ok (.aload_n 0, 1) := dk_42 (dk_at dksX6_readsLines_1 11 rfl rfl)
theorem dX6_readsLines_35 : decode cX6_readsLines 35 = .ok (.invokevirtual 203, 3) := dk_182 0 203 (dk_at dksX6_readsLines_1 12 rfl rfl)
theorem dX6_readsLines_38 : decode cX6_readsLines 38 = .ok (.goto 7, 3) := dk_167 0 7 (dk_at dksX6_readsLines_1 15 rfl rfl)
theorem dX6_readsLines_41 : decode cX6_readsLines 41 = .ok (.aload_n 0, 1) := dk_42 (dk_at dksX6_readsLines_1 18 rfl rfl)
theorem dX6_readsLines_42 : decode cX6_readsLines 42 = .ok (.invokevirtual 206, 3) := dk_182 0 206 (dk_at dksX6_readsLines_1 19 rfl rfl)
theorem dX6_readsLines_45 : decode cX6_readsLines 45 = .ok (.istore 4, 2) := dk_54 4 (dk_at dksX6_readsLines_1 22 rfl rfl)
theorem dX6_readsLines_47 : decode cX6_readsLines 47 = .ok (.iload 4, 2) := dk_21 4 (dk_at dksX6_readsLines_2 0 rfl rfl)
theorem dX6_readsLines_49 : decode cX6_readsLines 49 = .ok (.ifCond .eq 16, 3) := dk_153 0 16 (dk_at dksX6_readsLines_2 2 rfl rfl)
theorem dX6_readsLines_52 : decode cX6_readsLines 52 = .ok (.aload_n 0, 1) := dk_42 (dk_at dksX6_readsLines_2 5 rfl rfl)
theorem dX6_readsLines_53 : decode cX6_readsLines 53 = .ok (.bipush 59, 2) := dk_16 59 (dk_at dksX6_readsLines_2 6 rfl rfl)
theorem dX6_readsLines_55 : decode cX6_readsLines 55 = .ok (.invokevirtual 209, 3) := dk_182 0 209 (dk_at dksX6_readsLines_2 8 rfl rfl)
theorem dX6_readsLines_58 : decode cX6_readsLines 58 = .ok (.ifCond .eq 7, 3) := dk_153 0 7 (dk_at dksX6_readsLines_2 11 rfl rfl)
theorem dX6_readsLines_61 : decode cX6_readsLines 61 = .ok (.iconst 1, 1) := dk_4 (dk_at dksX6_readsLines_2 14 rfl rfl)
theorem dX6_readsLines_62 : decode cX6_readsLines 62 = .ok (.goto 4, 3) := dk_167 0 4 (dk_at dksX6_readsLines_2 15 rfl rfl)
theorem dX6_readsLines_65 : decode cX6_readsLines 65 = .ok (.iconst 0, 1) := dk_3 (dk_at dksX6_readsLines_2 18 rfl rfl)
theorem dX6_readsLines_66 : decode cX6_readsLines 66 = .ok (.istore 5, 2) := dk_54 5 (dk_at dksX6_readsLines_2 19 rfl rfl)
theorem dX6_readsLines_68 : decode cX6_readsLines 68 = .ok (.goto (-43), 3) := dk_167 255 213 (dk_at dksX6_readsLines_2 21 rfl rfl)
theorem dX6_readsLines_71 : decode cX6_readsLines 71 = .ok (.aload_n 0, 1) := dk_42 (dk_at dksX6_readsLines_3 0 rfl rfl)
theorem dX6_readsLines_72 : decode cX6_readsLines 72 = .ok (.iload_n 3, 1) := dk_29 (dk_at dksX6_readsLines_3 1 rfl rfl)
theorem dX6_readsLines_73 : decode cX6_readsLines 73 = .ok (.iload_n 2, 1) := dk_28 (dk_at dksX6_readsLines_3 2 rfl rfl)
theorem dX6_readsLines_74 : decode cX6_readsLines 74 = .ok (.iload 4, 2) := dk_21 4 (dk_at dksX6_readsLines_3 3 rfl rfl)
theorem dX6_readsLines_76 : decode cX6_readsLines 76 = .ok (.invokevirtual 213, 3) := dk_182 0 213 (dk_at dksX6_readsLines_3 5 rfl rfl)
theorem dX6_readsLines_79 : decode cX6_readsLines 79 = .ok (.ireturn, 1) := dk_172 (dk_at dksX6_readsLines_3 8 rfl rfl)
abbrev cX6_readsPerson : ByteArray := prog_12_method_25_code
def yX6_readsPerson : MethodName := ⟨RX6, "readsPerson", "()Z"⟩
def dkwX6_readsPerson_6 : List UInt8 := [180, 0, 53, 27, 5, 96, 46, 155, 0, 7, 4, 167, 0, 4, 3, 172]
abbrev dktX6_readsPerson_6 : List UInt8 := dkwX6_readsPerson_6 ++ []
def dkwX6_readsPerson_5 : List UInt8 := [2, 167, 0, 9, 42, 3, 7, 182, 0, 179, 79, 42, 89, 180, 0, 197, 4, 96, 181, 0, 197, 42]
abbrev dktX6_readsPerson_5 : List UInt8 := dkwX6_readsPerson_5 ++ dktX6_readsPerson_6
def dkwX6_readsPerson_4 : List UInt8 := [16, 7, 182, 0, 179, 79, 42, 180, 0, 53, 27, 5, 96, 42, 180, 0, 53, 27, 4, 96, 46, 156, 0, 7]
abbrev dktX6_readsPerson_4 : List UInt8 := dkwX6_readsPerson_4 ++ dktX6_readsPerson_5
def dkwX6_readsPerson_3 : List UInt8 := [2, 79, 42, 180, 0, 53, 27, 4, 96, 42, 180, 0, 53, 27, 46, 156, 0, 7, 2, 167, 0, 10, 42, 3]
abbrev dktX6_readsPerson_3 : List UInt8 := dkwX6_readsPerson_3 ++ dktX6_readsPerson_4
def dkwX6_readsPerson_2 : List UInt8 := [180, 0, 53, 27, 46, 51, 153, 0, 20, 42, 89, 180, 0, 139, 4, 100, 181, 0, 139, 42, 180, 0, 53, 27]
abbrev dktX6_readsPerson_2 : List UInt8 := dkwX6_readsPerson_2 ++ dktX6_readsPerson_3
def dkwX6_readsPerson_1 : List UInt8 := [180, 0, 53, 27, 42, 182, 0, 200, 79, 42, 180, 0, 53, 27, 46, 155, 0, 34, 42, 180, 0, 33, 42]
abbrev dktX6_readsPerson_1 : List UInt8 := dkwX6_readsPerson_1 ++ dktX6_readsPerson_2
def dkwX6_readsPerson_0 : List UInt8 := [42, 180, 0, 130, 42, 180, 0, 197, 96, 16, 8, 160, 0, 5, 3, 172, 6, 42, 180, 0, 197, 104, 60, 42]
abbrev dktX6_readsPerson_0 : List UInt8 := dkwX6_readsPerson_0 ++ dktX6_readsPerson_1
theorem dksX6_readsPerson_0 : cX6_readsPerson.data.toList.drop 0 = dktX6_readsPerson_0 := by decide +kernel
theorem dksX6_readsPerson_1 : cX6_readsPerson.data.toList.drop 24 = dktX6_readsPerson_1 := dk_seg dksX6_readsPerson_0 24 rfl rfl
theorem dksX6_readsPerson_2 : cX6_readsPerson.data.toList.drop 47 = dktX6_readsPerson_2 := dk_seg dksX6_readsPerson_1 23 rfl rfl
theorem dksX6_readsPerson_3 : cX6_readsPerson.data.toList.drop 71 = dktX6_readsPerson_3 := dk_seg dksX6_readsPerson_2 24 rfl rfl
theorem dksX6_readsPerson_4 : cX6_readsPerson.data.toList.drop 95 = dktX6_readsPerson_4 := dk_seg dksX6_readsPerson_3 24 rfl rfl
theorem dksX6_readsPerson_5 : cX6_readsPerson.data.toList.drop 119 = dktX6_readsPerson_5 := dk_seg dksX6_readsPerson_4 24 rfl rfl
theorem dksX6_readsPerson_6 : cX6_readsPerson.data.toList.drop 141 = dktX6_readsPerson_6 := dk_seg dksX6_readsPerson_5 22 rfl rfl
theorem dX6_readsPerson_0 : decode cX6_readsPerson 0 = .ok (.aload_n 0, 1) := dk_42 (dk_at dksX6_readsPerson_0 0 rfl rfl)
theorem dX6_readsPerson_1 : decode cX6_readsPerson 1 = .ok (.getfield 130, 3) := dk_180 0 130 (dk_at dksX6_readsPerson_0 1 rfl rfl)
theorem dX6_readsPerson_4 : decode cX6_readsPerson 4 = .ok (.aload_n 0, 1) := dk_42 (dk_at dksX6_readsPerson_0 4 rfl rfl)
theorem dX6_readsPerson_5 : decode cX6_readsPerson 5 = .ok (.getfield 197, 3) := dk_180 0 197 (dk_at dksX6_readsPerson_0 5 rfl rfl)
theorem dX6_readsPerson_8 : decode cX6_readsPerson 8 = .ok (.iadd, 1) := dk_96 (dk_at dksX6_readsPerson_0 8 rfl rfl)
theorem dX6_readsPerson_9 : decode cX6_readsPerson 9 = .ok (.bipush 8, 2) := dk_16 8 (dk_at dksX6_readsPerson_0 9 rfl rfl)
theorem dX6_readsPerson_11 : decode cX6_readsPerson 11 = .ok (.if_icmp .ne 5, 3) := dk_160 0 5 (dk_at dksX6_readsPerson_0 11 rfl rfl)
theorem dX6_readsPerson_14 : decode cX6_readsPerson 14 = .ok (.iconst 0, 1) := dk_3 (dk_at dksX6_readsPerson_0 14 rfl rfl)
theorem dX6_readsPerson_15 : decode cX6_readsPerson 15 = .ok (.ireturn, 1) := dk_172 (dk_at dksX6_readsPerson_0 15 rfl rfl)
theorem dX6_readsPerson_16 : decode cX6_readsPerson 16 = .ok (.iconst 3, 1) := dk_6 (dk_at dksX6_readsPerson_0 16 rfl rfl)
theorem dX6_readsPerson_17 : decode cX6_readsPerson 17 = .ok (.aload_n 0, 1) := dk_42 (dk_at dksX6_readsPerson_0 17 rfl rfl)
theorem dX6_readsPerson_18 : decode cX6_readsPerson 18 = .ok (.getfield 197, 3) := dk_180 0 197 (dk_at dksX6_readsPerson_0 18 rfl rfl)
theorem dX6_readsPerson_21 : decode cX6_readsPerson 21 = .ok (.imul, 1) := dk_104 (dk_at dksX6_readsPerson_0 21 rfl rfl)
theorem dX6_readsPerson_22 : decode cX6_readsPerson 22 = .ok (.istore_n 1, 1) := dk_60 (dk_at dksX6_readsPerson_0 22 rfl rfl)
theorem dX6_readsPerson_23 : decode cX6_readsPerson 23 = .ok (.aload_n 0, 1) := dk_42 (dk_at dksX6_readsPerson_0 23 rfl rfl)
theorem dX6_readsPerson_24 : decode cX6_readsPerson 24 = .ok (.getfield 53, 3) := dk_180 0 53 (dk_at dksX6_readsPerson_1 0 rfl rfl)
theorem dX6_readsPerson_27 : decode cX6_readsPerson 27 = .ok (.iload_n 1, 1) := dk_27 (dk_at dksX6_readsPerson_1 3 rfl rfl)
theorem dX6_readsPerson_28 : decode cX6_readsPerson 28 = .ok (.aload_n 0, 1) := dk_42 (dk_at dksX6_readsPerson_1 4 rfl rfl)
theorem dX6_readsPerson_29 : decode cX6_readsPerson 29 = .ok (.invokevirtual 200, 3) := dk_182 0 200 (dk_at dksX6_readsPerson_1 5 rfl rfl)
theorem dX6_readsPerson_32 : decode cX6_readsPerson 32 = .ok (.iastore, 1) := dk_79 (dk_at dksX6_readsPerson_1 8 rfl rfl)
theorem dX6_readsPerson_33 : decode cX6_readsPerson 33 = .ok (.aload_n 0, 1) := dk_42 (dk_at dksX6_readsPerson_1 9 rfl rfl)
theorem dX6_readsPerson_34 : decode cX6_readsPerson 34 = .ok (.getfield 53, 3) := dk_180 0 53 (dk_at dksX6_readsPerson_1 10 rfl rfl)
theorem dX6_readsPerson_37 : decode cX6_readsPerson 37 = .ok (.iload_n 1, 1) := dk_27 (dk_at dksX6_readsPerson_1 13 rfl rfl)
theorem dX6_readsPerson_38 : decode cX6_readsPerson 38 = .ok (.iaload, 1) := dk_46 (dk_at dksX6_readsPerson_1 14 rfl rfl)
theorem dX6_readsPerson_39 : decode cX6_readsPerson 39 = .ok (.ifCond .lt 34, 3) := dk_155 0 34 (dk_at dksX6_readsPerson_1 15 rfl rfl)
theorem dX6_readsPerson_42 : decode cX6_readsPerson 42 = .ok (.aload_n 0, 1) := dk_42 (dk_at dksX6_readsPerson_1 18 rfl rfl)
theorem dX6_readsPerson_43 : decode cX6_readsPerson 43 = .ok (.getfield 33, 3) := dk_180 0 33 (dk_at dksX6_readsPerson_1 19 rfl rfl)
theorem dX6_readsPerson_46 : decode cX6_readsPerson 46 = .ok (.aload_n 0, 1) := dk_42 (dk_at dksX6_readsPerson_1 22 rfl rfl)
theorem dX6_readsPerson_47 : decode cX6_readsPerson 47 = .ok (.getfield 53, 3) := dk_180 0 53 (dk_at dksX6_readsPerson_2 0 rfl rfl)
theorem dX6_readsPerson_50 : decode cX6_readsPerson 50 = .ok (.iload_n 1, 1) := dk_27 (dk_at dksX6_readsPerson_2 3 rfl rfl)
theorem dX6_readsPerson_51 : decode cX6_readsPerson 51 = .ok (.iaload, 1) := dk_46 (dk_at dksX6_readsPerson_2 4 rfl rfl)
theorem dX6_readsPerson_52 : decode cX6_readsPerson 52 = .ok (.baload, 1) := dk_51 (dk_at dksX6_readsPerson_2 5 rfl rfl)
theorem dX6_readsPerson_53 : decode cX6_readsPerson 53 = .ok (.ifCond .eq 20, 3) := dk_153 0 20 (dk_at dksX6_readsPerson_2 6 rfl rfl)
theorem dX6_readsPerson_56 : decode cX6_readsPerson 56 = .ok (.aload_n 0, 1) := dk_42 (dk_at dksX6_readsPerson_2 9 rfl rfl)
theorem dX6_readsPerson_57 : decode cX6_readsPerson 57 = .ok (.dup, 1) := dk_89 (dk_at dksX6_readsPerson_2 10 rfl rfl)
theorem dX6_readsPerson_58 : decode cX6_readsPerson 58 = .ok (.getfield 139, 3) := dk_180 0 139 (dk_at dksX6_readsPerson_2 11 rfl rfl)
theorem dX6_readsPerson_61 : decode cX6_readsPerson 61 = .ok (.iconst 1, 1) := dk_4 (dk_at dksX6_readsPerson_2 14 rfl rfl)
theorem dX6_readsPerson_62 : decode cX6_readsPerson 62 = .ok (.isub, 1) := dk_100 (dk_at dksX6_readsPerson_2 15 rfl rfl)
theorem dX6_readsPerson_63 : decode cX6_readsPerson 63 = .ok (.putfield 139, 3) := dk_181 0 139 (dk_at dksX6_readsPerson_2 16 rfl rfl)
theorem dX6_readsPerson_66 : decode cX6_readsPerson 66 = .ok (.aload_n 0, 1) := dk_42 (dk_at dksX6_readsPerson_2 19 rfl rfl)
theorem dX6_readsPerson_67 : decode cX6_readsPerson 67 = .ok (.getfield 53, 3) := dk_180 0 53 (dk_at dksX6_readsPerson_2 20 rfl rfl)
theorem dX6_readsPerson_70 : decode cX6_readsPerson 70 = .ok (.iload_n 1, 1) := dk_27 (dk_at dksX6_readsPerson_2 23 rfl rfl)
theorem dX6_readsPerson_71 : decode cX6_readsPerson 71 = .ok (.iconst (-1), 1) := dk_2 (dk_at dksX6_readsPerson_3 0 rfl rfl)
theorem dX6_readsPerson_72 : decode cX6_readsPerson 72 = .ok (.iastore, 1) := dk_79 (dk_at dksX6_readsPerson_3 1 rfl rfl)
theorem dX6_readsPerson_73 : decode cX6_readsPerson 73 = .ok (.aload_n 0, 1) := dk_42 (dk_at dksX6_readsPerson_3 2 rfl rfl)
theorem dX6_readsPerson_74 : decode cX6_readsPerson 74 = .ok (.getfield 53, 3) := dk_180 0 53 (dk_at dksX6_readsPerson_3 3 rfl rfl)
theorem dX6_readsPerson_77 : decode cX6_readsPerson 77 = .ok (.iload_n 1, 1) := dk_27 (dk_at dksX6_readsPerson_3 6 rfl rfl)
theorem dX6_readsPerson_78 : decode cX6_readsPerson 78 = .ok (.iconst 1, 1) := dk_4 (dk_at dksX6_readsPerson_3 7 rfl rfl)
theorem dX6_readsPerson_79 : decode cX6_readsPerson 79 = .ok (.iadd, 1) := dk_96 (dk_at dksX6_readsPerson_3 8 rfl rfl)
theorem dX6_readsPerson_80 : decode cX6_readsPerson 80 = .ok (.aload_n 0, 1) := dk_42 (dk_at dksX6_readsPerson_3 9 rfl rfl)
theorem dX6_readsPerson_81 : decode cX6_readsPerson 81 = .ok (.getfield 53, 3) := dk_180 0 53 (dk_at dksX6_readsPerson_3 10 rfl rfl)
theorem dX6_readsPerson_84 : decode cX6_readsPerson 84 = .ok (.iload_n 1, 1) := dk_27 (dk_at dksX6_readsPerson_3 13 rfl rfl)
theorem dX6_readsPerson_85 : decode cX6_readsPerson 85 = .ok (.iaload, 1) := dk_46 (dk_at dksX6_readsPerson_3 14 rfl rfl)
theorem dX6_readsPerson_86 : decode cX6_readsPerson 86 = .ok (.ifCond .ge 7, 3) := dk_156 0 7 (dk_at dksX6_readsPerson_3 15 rfl rfl)
theorem dX6_readsPerson_89 : decode cX6_readsPerson 89 = .ok (.iconst (-1), 1) := dk_2 (dk_at dksX6_readsPerson_3 18 rfl rfl)
theorem dX6_readsPerson_90 : decode cX6_readsPerson 90 = .ok (.goto 10, 3) := dk_167 0 10 (dk_at dksX6_readsPerson_3 19 rfl rfl)
theorem dX6_readsPerson_93 : decode cX6_readsPerson 93 = .ok (.aload_n 0, 1) := dk_42 (dk_at dksX6_readsPerson_3 22 rfl rfl)
theorem dX6_readsPerson_94 : decode cX6_readsPerson 94 = .ok (.iconst 0, 1) := dk_3 (dk_at dksX6_readsPerson_3 23 rfl rfl)
theorem dX6_readsPerson_95 : decode cX6_readsPerson 95 = .ok (.bipush 7, 2) := dk_16 7 (dk_at dksX6_readsPerson_4 0 rfl rfl)
theorem dX6_readsPerson_97 : decode cX6_readsPerson 97 = .ok (.invokevirtual 179, 3) := dk_182 0 179 (dk_at dksX6_readsPerson_4 2 rfl rfl)
theorem dX6_readsPerson_100 : decode cX6_readsPerson 100 = .ok (.iastore, 1) := dk_79 (dk_at dksX6_readsPerson_4 5 rfl rfl)
theorem dX6_readsPerson_101 : decode cX6_readsPerson 101 = .ok (.aload_n 0, 1) := dk_42 (dk_at dksX6_readsPerson_4 6 rfl rfl)
theorem dX6_readsPerson_102 : decode cX6_readsPerson 102 = .ok (.getfield 53, 3) := dk_180 0 53 (dk_at dksX6_readsPerson_4 7 rfl rfl)
theorem dX6_readsPerson_105 : decode cX6_readsPerson 105 = .ok (.iload_n 1, 1) := dk_27 (dk_at dksX6_readsPerson_4 10 rfl rfl)
theorem dX6_readsPerson_106 : decode cX6_readsPerson 106 = .ok (.iconst 2, 1) := dk_5 (dk_at dksX6_readsPerson_4 11 rfl rfl)
theorem dX6_readsPerson_107 : decode cX6_readsPerson 107 = .ok (.iadd, 1) := dk_96 (dk_at dksX6_readsPerson_4 12 rfl rfl)
theorem dX6_readsPerson_108 : decode cX6_readsPerson 108 = .ok (.aload_n 0, 1) := dk_42 (dk_at dksX6_readsPerson_4 13 rfl rfl)
theorem dX6_readsPerson_109 : decode cX6_readsPerson 109 = .ok (.getfield 53, 3) := dk_180 0 53 (dk_at dksX6_readsPerson_4 14 rfl rfl)
theorem dX6_readsPerson_112 : decode cX6_readsPerson 112 = .ok (.iload_n 1, 1) := dk_27 (dk_at dksX6_readsPerson_4 17 rfl rfl)
theorem dX6_readsPerson_113 : decode cX6_readsPerson 113 = .ok (.iconst 1, 1) := dk_4 (dk_at dksX6_readsPerson_4 18 rfl rfl)
theorem dX6_readsPerson_114 : decode cX6_readsPerson 114 = .ok (.iadd, 1) := dk_96 (dk_at dksX6_readsPerson_4 19 rfl rfl)
theorem dX6_readsPerson_115 : decode cX6_readsPerson 115 = .ok (.iaload, 1) := dk_46 (dk_at dksX6_readsPerson_4 20 rfl rfl)
theorem dX6_readsPerson_116 : decode cX6_readsPerson 116 = .ok (.ifCond .ge 7, 3) := dk_156 0 7 (dk_at dksX6_readsPerson_4 21 rfl rfl)
theorem dX6_readsPerson_119 : decode cX6_readsPerson 119 = .ok (.iconst (-1), 1) := dk_2 (dk_at dksX6_readsPerson_5 0 rfl rfl)
theorem dX6_readsPerson_120 : decode cX6_readsPerson 120 = .ok (.goto 9, 3) := dk_167 0 9 (dk_at dksX6_readsPerson_5 1 rfl rfl)
theorem dX6_readsPerson_123 : decode cX6_readsPerson 123 = .ok (.aload_n 0, 1) := dk_42 (dk_at dksX6_readsPerson_5 4 rfl rfl)
theorem dX6_readsPerson_124 : decode cX6_readsPerson 124 = .ok (.iconst 0, 1) := dk_3 (dk_at dksX6_readsPerson_5 5 rfl rfl)
theorem dX6_readsPerson_125 : decode cX6_readsPerson 125 = .ok (.iconst 4, 1) := dk_7 (dk_at dksX6_readsPerson_5 6 rfl rfl)
theorem dX6_readsPerson_126 : decode cX6_readsPerson 126 = .ok (.invokevirtual 179, 3) := dk_182 0 179 (dk_at dksX6_readsPerson_5 7 rfl rfl)
theorem dX6_readsPerson_129 : decode cX6_readsPerson 129 = .ok (.iastore, 1) := dk_79 (dk_at dksX6_readsPerson_5 10 rfl rfl)
theorem dX6_readsPerson_130 : decode cX6_readsPerson 130 = .ok (.aload_n 0, 1) := dk_42 (dk_at dksX6_readsPerson_5 11 rfl rfl)
theorem dX6_readsPerson_131 : decode cX6_readsPerson 131 = .ok (.dup, 1) := dk_89 (dk_at dksX6_readsPerson_5 12 rfl rfl)
theorem dX6_readsPerson_132 : decode cX6_readsPerson 132 = .ok (.getfield 197, 3) := dk_180 0 197 (dk_at dksX6_readsPerson_5 13 rfl rfl)
theorem dX6_readsPerson_135 : decode cX6_readsPerson 135 = .ok (.iconst 1, 1) := dk_4 (dk_at dksX6_readsPerson_5 16 rfl rfl)
theorem dX6_readsPerson_136 : decode cX6_readsPerson 136 = .ok (.iadd, 1) := dk_96 (dk_at dksX6_readsPerson_5 17 rfl rfl)
theorem dX6_readsPerson_137 : decode cX6_readsPerson 137 = .ok (.putfield 197, 3) := dk_181 0 197 (dk_at dksX6_readsPerson_5 18 rfl rfl)
theorem dX6_readsPerson_140 : decode cX6_readsPerson 140 = .ok (.aload_n 0, 1) := dk_42 (dk_at dksX6_readsPerson_5 21 rfl rfl)
theorem dX6_readsPerson_141 : decode cX6_readsPerson 141 = .ok (.getfield 53, 3) := dk_180 0 53 (dk_at dksX6_readsPerson_6 0 rfl rfl)
theorem dX6_readsPerson_144 : decode cX6_readsPerson 144 = .ok (.iload_n 1, 1) := dk_27 (dk_at dksX6_readsPerson_6 3 rfl rfl)
theorem dX6_readsPerson_145 : decode cX6_readsPerson 145 = .ok (.iconst 2, 1) := dk_5 (dk_at dksX6_readsPerson_6 4 rfl rfl)
theorem dX6_readsPerson_146 : decode cX6_readsPerson 146 = .ok (.iadd, 1) := dk_96 (dk_at dksX6_readsPerson_6 5 rfl rfl)
theorem dX6_readsPerson_147 : decode cX6_readsPerson 147 = .ok (.iaload, 1) := dk_46 (dk_at dksX6_readsPerson_6 6 rfl rfl)
theorem dX6_readsPerson_148 : decode cX6_readsPerson 148 = .ok (.ifCond .lt 7, 3) := dk_155 0 7 (dk_at dksX6_readsPerson_6 7 rfl rfl)
theorem dX6_readsPerson_151 : decode cX6_readsPerson 151 = .ok (.iconst 1, 1) := dk_4 (dk_at dksX6_readsPerson_6 10 rfl rfl)
theorem dX6_readsPerson_152 : decode cX6_readsPerson 152 = .ok (.goto 4, 3) := dk_167 0 4 (dk_at dksX6_readsPerson_6 11 rfl rfl)
theorem dX6_readsPerson_155 : decode cX6_readsPerson 155 = .ok (.iconst 0, 1) := dk_3 (dk_at dksX6_readsPerson_6 14 rfl rfl)
theorem dX6_readsPerson_156 : decode cX6_readsPerson 156 = .ok (.ireturn, 1) := dk_172 (dk_at dksX6_readsPerson_6 15 rfl rfl)
abbrev cX6_readsField : ByteArray := prog_12_method_24_code
def yX6_readsField : MethodName := ⟨RX6, "readsField", "()I"⟩
def dkwX6_readsField_2 : List UInt8 := [96, 172]
abbrev dktX6_readsField_2 : List UInt8 := dkwX6_readsField_2 ++ []
def dkwX6_readsField_1 : List UInt8 := [180, 0, 27, 4, 100, 182, 0, 179, 61, 28, 156, 0, 7, 2, 167, 0, 11, 42, 180, 0, 27, 27, 104, 28]
abbrev dktX6_readsField_1 : List UInt8 := dkwX6_readsField_1 ++ dktX6_readsField_2
def dkwX6_readsField_0 : List UInt8 := [42, 3, 42, 180, 0, 24, 4, 100, 182, 0, 179, 60, 27, 156, 0, 7, 2, 167, 0, 14, 42, 3, 42]
abbrev dktX6_readsField_0 : List UInt8 := dkwX6_readsField_0 ++ dktX6_readsField_1
theorem dksX6_readsField_0 : cX6_readsField.data.toList.drop 0 = dktX6_readsField_0 := by decide +kernel
theorem dksX6_readsField_1 : cX6_readsField.data.toList.drop 23 = dktX6_readsField_1 := dk_seg dksX6_readsField_0 23 rfl rfl
theorem dksX6_readsField_2 : cX6_readsField.data.toList.drop 47 = dktX6_readsField_2 := dk_seg dksX6_readsField_1 24 rfl rfl
theorem dX6_readsField_0 : decode cX6_readsField 0 = .ok (.aload_n 0, 1) := dk_42 (dk_at dksX6_readsField_0 0 rfl rfl)
theorem dX6_readsField_1 : decode cX6_readsField 1 = .ok (.iconst 0, 1) := dk_3 (dk_at dksX6_readsField_0 1 rfl rfl)
theorem dX6_readsField_2 : decode cX6_readsField 2 = .ok (.aload_n 0, 1) := dk_42 (dk_at dksX6_readsField_0 2 rfl rfl)
theorem dX6_readsField_3 : decode cX6_readsField 3 = .ok (.getfield 24, 3) := dk_180 0 24 (dk_at dksX6_readsField_0 3 rfl rfl)
theorem dX6_readsField_6 : decode cX6_readsField 6 = .ok (.iconst 1, 1) := dk_4 (dk_at dksX6_readsField_0 6 rfl rfl)
theorem dX6_readsField_7 : decode cX6_readsField 7 = .ok (.isub, 1) := dk_100 (dk_at dksX6_readsField_0 7 rfl rfl)
theorem dX6_readsField_8 : decode cX6_readsField 8 = .ok (.invokevirtual 179, 3) := dk_182 0 179 (dk_at dksX6_readsField_0 8 rfl rfl)
theorem dX6_readsField_11 : decode cX6_readsField 11 = .ok (.istore_n 1, 1) := dk_60 (dk_at dksX6_readsField_0 11 rfl rfl)
theorem dX6_readsField_12 : decode cX6_readsField 12 = .ok (.iload_n 1, 1) := dk_27 (dk_at dksX6_readsField_0 12 rfl rfl)
theorem dX6_readsField_13 : decode cX6_readsField 13 = .ok (.ifCond .ge 7, 3) := dk_156 0 7 (dk_at dksX6_readsField_0 13 rfl rfl)
theorem dX6_readsField_16 : decode cX6_readsField 16 = .ok (.iconst (-1), 1) := dk_2 (dk_at dksX6_readsField_0 16 rfl rfl)
theorem dX6_readsField_17 : decode cX6_readsField 17 = .ok (.goto 14, 3) := dk_167 0 14 (dk_at dksX6_readsField_0 17 rfl rfl)
theorem dX6_readsField_20 : decode cX6_readsField 20 = .ok (.aload_n 0, 1) := dk_42 (dk_at dksX6_readsField_0 20 rfl rfl)
theorem dX6_readsField_21 : decode cX6_readsField 21 = .ok (.iconst 0, 1) := dk_3 (dk_at dksX6_readsField_0 21 rfl rfl)
theorem dX6_readsField_22 : decode cX6_readsField 22 = .ok (.aload_n 0, 1) := dk_42 (dk_at dksX6_readsField_0 22 rfl rfl)
theorem dX6_readsField_23 : decode cX6_readsField 23 = .ok (.getfield 27, 3) := dk_180 0 27 (dk_at dksX6_readsField_1 0 rfl rfl)
theorem dX6_readsField_26 : decode cX6_readsField 26 = .ok (.iconst 1, 1) := dk_4 (dk_at dksX6_readsField_1 3 rfl rfl)
theorem dX6_readsField_27 : decode cX6_readsField 27 = .ok (.isub, 1) := dk_100 (dk_at dksX6_readsField_1 4 rfl rfl)
theorem dX6_readsField_28 : decode cX6_readsField 28 = .ok (.invokevirtual 179, 3) := dk_182 0 179 (dk_at dksX6_readsField_1 5 rfl rfl)
theorem dX6_readsField_31 : decode cX6_readsField 31 = .ok (.istore_n 2, 1) := dk_61 (dk_at dksX6_readsField_1 8 rfl rfl)
theorem dX6_readsField_32 : decode cX6_readsField 32 = .ok (.iload_n 2, 1) := dk_28 (dk_at dksX6_readsField_1 9 rfl rfl)
theorem dX6_readsField_33 : decode cX6_readsField 33 = .ok (.ifCond .ge 7, 3) := dk_156 0 7 (dk_at dksX6_readsField_1 10 rfl rfl)
theorem dX6_readsField_36 : decode cX6_readsField 36 = .ok (.iconst (-1), 1) := dk_2 (dk_at dksX6_readsField_1 13 rfl rfl)
theorem dX6_readsField_37 : decode cX6_readsField 37 = .ok (.goto 11, 3) := dk_167 0 11 (dk_at dksX6_readsField_1 14 rfl rfl)
theorem dX6_readsField_40 : decode cX6_readsField 40 = .ok (.aload_n 0, 1) := dk_42 (dk_at dksX6_readsField_1 17 rfl rfl)
theorem dX6_readsField_41 : decode cX6_readsField 41 = .ok (.getfield 27, 3) := dk_180 0 27 (dk_at dksX6_readsField_1 18 rfl rfl)
theorem dX6_readsField_44 : decode cX6_readsField 44 = .ok (.iload_n 1, 1) := dk_27 (dk_at dksX6_readsField_1 21 rfl rfl)
theorem dX6_readsField_45 : decode cX6_readsField 45 = .ok (.imul, 1) := dk_104 (dk_at dksX6_readsField_1 22 rfl rfl)
theorem dX6_readsField_46 : decode cX6_readsField 46 = .ok (.iload_n 2, 1) := dk_28 (dk_at dksX6_readsField_1 23 rfl rfl)
theorem dX6_readsField_47 : decode cX6_readsField 47 = .ok (.iadd, 1) := dk_96 (dk_at dksX6_readsField_2 0 rfl rfl)
theorem dX6_readsField_48 : decode cX6_readsField 48 = .ok (.ireturn, 1) := dk_172 (dk_at dksX6_readsField_2 1 rfl rfl)
abbrev cX6_readsThing : ByteArray := prog_12_method_26_code
def yX6_readsThing : MethodName := ⟨RX6, "readsThing", "()Z"⟩
def dkwX6_readsThing_2 : List UInt8 := [100, 46, 155, 0, 7, 4, 167, 0, 4, 3, 172]
abbrev dktX6_readsThing_2 : List UInt8 := dkwX6_readsThing_2 ++ []
def dkwX6_readsThing_1 : List UInt8 := [42, 182, 0, 200, 79, 42, 89, 180, 0, 197, 4, 96, 181, 0, 197, 42, 180, 0, 53, 42, 180, 0, 197, 4]
abbrev dktX6_readsThing_1 : List UInt8 := dkwX6_readsThing_1 ++ dktX6_readsThing_2
def dkwX6_readsThing_0 : List UInt8 := [42, 180, 0, 133, 42, 180, 0, 197, 96, 16, 8, 160, 0, 5, 3, 172, 42, 180, 0, 53, 42, 180, 0, 197]
abbrev dktX6_readsThing_0 : List UInt8 := dkwX6_readsThing_0 ++ dktX6_readsThing_1
theorem dksX6_readsThing_0 : cX6_readsThing.data.toList.drop 0 = dktX6_readsThing_0 := by decide +kernel
theorem dksX6_readsThing_1 : cX6_readsThing.data.toList.drop 24 = dktX6_readsThing_1 := dk_seg dksX6_readsThing_0 24 rfl rfl
theorem dksX6_readsThing_2 : cX6_readsThing.data.toList.drop 48 = dktX6_readsThing_2 := dk_seg dksX6_readsThing_1 24 rfl rfl
theorem dX6_readsThing_0 : decode cX6_readsThing 0 = .ok (.aload_n 0, 1) := dk_42 (dk_at dksX6_readsThing_0 0 rfl rfl)
theorem dX6_readsThing_1 : decode cX6_readsThing 1 = .ok (.getfield 133, 3) := dk_180 0 133 (dk_at dksX6_readsThing_0 1 rfl rfl)
theorem dX6_readsThing_4 : decode cX6_readsThing 4 = .ok (.aload_n 0, 1) := dk_42 (dk_at dksX6_readsThing_0 4 rfl rfl)
theorem dX6_readsThing_5 : decode cX6_readsThing 5 = .ok (.getfield 197, 3) := dk_180 0 197 (dk_at dksX6_readsThing_0 5 rfl rfl)
theorem dX6_readsThing_8 : decode cX6_readsThing 8 = .ok (.iadd, 1) := dk_96 (dk_at dksX6_readsThing_0 8 rfl rfl)
theorem dX6_readsThing_9 : decode cX6_readsThing 9 = .ok (.bipush 8, 2) := dk_16 8 (dk_at dksX6_readsThing_0 9 rfl rfl)
theorem dX6_readsThing_11 : decode cX6_readsThing 11 = .ok (.if_icmp .ne 5, 3) := dk_160 0 5 (dk_at dksX6_readsThing_0 11 rfl rfl)
theorem dX6_readsThing_14 : decode cX6_readsThing 14 = .ok (.iconst 0, 1) := dk_3 (dk_at dksX6_readsThing_0 14 rfl rfl)
theorem dX6_readsThing_15 : decode cX6_readsThing 15 = .ok (.ireturn, 1) := dk_172 (dk_at dksX6_readsThing_0 15 rfl rfl)
theorem dX6_readsThing_16 : decode cX6_readsThing 16 = .ok (.aload_n 0, 1) := dk_42 (dk_at dksX6_readsThing_0 16 rfl rfl)
theorem dX6_readsThing_17 : decode cX6_readsThing 17 = .ok (.getfield 53, 3) := dk_180 0 53 (dk_at dksX6_readsThing_0 17 rfl rfl)
theorem dX6_readsThing_20 : decode cX6_readsThing 20 = .ok (.aload_n 0, 1) := dk_42 (dk_at dksX6_readsThing_0 20 rfl rfl)
theorem dX6_readsThing_21 : decode cX6_readsThing 21 = .ok (.getfield 197, 3) := dk_180 0 197 (dk_at dksX6_readsThing_0 21 rfl rfl)
theorem dX6_readsThing_24 : decode cX6_readsThing 24 = .ok (.aload_n 0, 1) := dk_42 (dk_at dksX6_readsThing_1 0 rfl rfl)
theorem dX6_readsThing_25 : decode cX6_readsThing 25 = .ok (.invokevirtual 200, 3) := dk_182 0 200 (dk_at dksX6_readsThing_1 1 rfl rfl)
theorem dX6_readsThing_28 : decode cX6_readsThing 28 = .ok (.iastore, 1) := dk_79 (dk_at dksX6_readsThing_1 4 rfl rfl)
theorem dX6_readsThing_29 : decode cX6_readsThing 29 = .ok (.aload_n 0, 1) := dk_42 (dk_at dksX6_readsThing_1 5 rfl rfl)
theorem dX6_readsThing_30 : decode cX6_readsThing 30 = .ok (.dup, 1) := dk_89 (dk_at dksX6_readsThing_1 6 rfl rfl)
theorem dX6_readsThing_31 : decode cX6_readsThing 31 = .ok (.getfield 197, 3) := dk_180 0 197 (dk_at dksX6_readsThing_1 7 rfl rfl)
theorem dX6_readsThing_34 : decode cX6_readsThing 34 = .ok (.iconst 1, 1) := dk_4 (dk_at dksX6_readsThing_1 10 rfl rfl)
theorem dX6_readsThing_35 : decode cX6_readsThing 35 = .ok (.iadd, 1) := dk_96 (dk_at dksX6_readsThing_1 11 rfl rfl)
theorem dX6_readsThing_36 : decode cX6_readsThing 36 = .ok (.putfield 197, 3) := dk_181 0 197 (dk_at dksX6_readsThing_1 12 rfl rfl)
theorem dX6_readsThing_39 : decode cX6_readsThing 39 = .ok (.aload_n 0, 1) := dk_42 (dk_at dksX6_readsThing_1 15 rfl rfl)
theorem dX6_readsThing_40 : decode cX6_readsThing 40 = .ok (.getfield 53, 3) := dk_180 0 53 (dk_at dksX6_readsThing_1 16 rfl rfl)
theorem dX6_readsThing_43 : decode cX6_readsThing 43 = .ok (.aload_n 0, 1) := dk_42 (dk_at dksX6_readsThing_1 19 rfl rfl)
theorem dX6_readsThing_44 : decode cX6_readsThing 44 = .ok (.getfield 197, 3) := dk_180 0 197 (dk_at dksX6_readsThing_1 20 rfl rfl)
theorem dX6_readsThing_47 : decode cX6_readsThing 47 = .ok (.iconst 1, 1) := dk_4 (dk_at dksX6_readsThing_1 23 rfl rfl)
theorem dX6_readsThing_48 : decode cX6_readsThing 48 = .ok (.isub, 1) := dk_100 (dk_at dksX6_readsThing_2 0 rfl rfl)
theorem dX6_readsThing_49 : decode cX6_readsThing 49 = .ok (.iaload, 1) := dk_46 (dk_at dksX6_readsThing_2 1 rfl rfl)
theorem dX6_readsThing_50 : decode cX6_readsThing 50 = .ok (.ifCond .lt 7, 3) := dk_155 0 7 (dk_at dksX6_readsThing_2 2 rfl rfl)
theorem dX6_readsThing_53 : decode cX6_readsThing 53 = .ok (.iconst 1, 1) := dk_4 (dk_at dksX6_readsThing_2 5 rfl rfl)
theorem dX6_readsThing_54 : decode cX6_readsThing 54 = .ok (.goto 4, 3) := dk_167 0 4 (dk_at dksX6_readsThing_2 6 rfl rfl)
theorem dX6_readsThing_57 : decode cX6_readsThing 57 = .ok (.iconst 0, 1) := dk_3 (dk_at dksX6_readsThing_2 9 rfl rfl)
theorem dX6_readsThing_58 : decode cX6_readsThing 58 = .ok (.ireturn, 1) := dk_172 (dk_at dksX6_readsThing_2 10 rfl rfl)
abbrev cX6_takes : ByteArray := prog_12_method_17_code
def yX6_takes : MethodName := ⟨RX6, "takes", "(I)Z"⟩
def dkwX6_takes_1 : List UInt8 := [4, 167, 0, 4, 3, 61, 42, 89, 180, 0, 139, 28, 184, 0, 154, 96, 181, 0, 139, 28, 172]
abbrev dktX6_takes_1 : List UInt8 := dkwX6_takes_1 ++ []
def dkwX6_takes_0 : List UInt8 := [42, 180, 0, 139, 42, 180, 0, 151, 162, 0, 20, 42, 180, 0, 47, 42, 180, 0, 139, 46, 27, 160, 0, 7]
abbrev dktX6_takes_0 : List UInt8 := dkwX6_takes_0 ++ dktX6_takes_1
theorem dksX6_takes_0 : cX6_takes.data.toList.drop 0 = dktX6_takes_0 := by decide +kernel
theorem dksX6_takes_1 : cX6_takes.data.toList.drop 24 = dktX6_takes_1 := dk_seg dksX6_takes_0 24 rfl rfl
theorem dX6_takes_0 : decode cX6_takes 0 = .ok (.aload_n 0, 1) := dk_42 (dk_at dksX6_takes_0 0 rfl rfl)
theorem dX6_takes_1 : decode cX6_takes 1 = .ok (.getfield 139, 3) := dk_180 0 139 (dk_at dksX6_takes_0 1 rfl rfl)
theorem dX6_takes_4 : decode cX6_takes 4 = .ok (.aload_n 0, 1) := dk_42 (dk_at dksX6_takes_0 4 rfl rfl)
theorem dX6_takes_5 : decode cX6_takes 5 = .ok (.getfield 151, 3) := dk_180 0 151 (dk_at dksX6_takes_0 5 rfl rfl)
theorem dX6_takes_8 : decode cX6_takes 8 = .ok (.if_icmp .ge 20, 3) := dk_162 0 20 (dk_at dksX6_takes_0 8 rfl rfl)
theorem dX6_takes_11 : decode cX6_takes 11 = .ok (.aload_n 0, 1) := dk_42 (dk_at dksX6_takes_0 11 rfl rfl)
theorem dX6_takes_12 : decode cX6_takes 12 = .ok (.getfield 47, 3) := dk_180 0 47 (dk_at dksX6_takes_0 12 rfl rfl)
theorem dX6_takes_15 : decode cX6_takes 15 = .ok (.aload_n 0, 1) := dk_42 (dk_at dksX6_takes_0 15 rfl rfl)
theorem dX6_takes_16 : decode cX6_takes 16 = .ok (.getfield 139, 3) := dk_180 0 139 (dk_at dksX6_takes_0 16 rfl rfl)
theorem dX6_takes_19 : decode cX6_takes 19 = .ok (.iaload, 1) := dk_46 (dk_at dksX6_takes_0 19 rfl rfl)
theorem dX6_takes_20 : decode cX6_takes 20 = .ok (.iload_n 1, 1) := dk_27 (dk_at dksX6_takes_0 20 rfl rfl)
theorem dX6_takes_21 : decode cX6_takes 21 = .ok (.if_icmp .ne 7, 3) := dk_160 0 7 (dk_at dksX6_takes_0 21 rfl rfl)
theorem dX6_takes_24 : decode cX6_takes 24 = .ok (.iconst 1, 1) := dk_4 (dk_at dksX6_takes_1 0 rfl rfl)
theorem dX6_takes_25 : decode cX6_takes 25 = .ok (.goto 4, 3) := dk_167 0 4 (dk_at dksX6_takes_1 1 rfl rfl)
theorem dX6_takes_28 : decode cX6_takes 28 = .ok (.iconst 0, 1) := dk_3 (dk_at dksX6_takes_1 4 rfl rfl)
theorem dX6_takes_29 : decode cX6_takes 29 = .ok (.istore_n 2, 1) := dk_61 (dk_at dksX6_takes_1 5 rfl rfl)
theorem dX6_takes_30 : decode cX6_takes 30 = .ok (.aload_n 0, 1) := dk_42 (dk_at dksX6_takes_1 6 rfl rfl)
theorem dX6_takes_31 : decode cX6_takes 31 = .ok (.dup, 1) := dk_89 (dk_at dksX6_takes_1 7 rfl rfl)
theorem dX6_takes_32 : decode cX6_takes 32 = .ok (.getfield 139, 3) := dk_180 0 139 (dk_at dksX6_takes_1 8 rfl rfl)
theorem dX6_takes_35 : decode cX6_takes 35 = .ok (.iload_n 2, 1) := dk_28 (dk_at dksX6_takes_1 11 rfl rfl)
theorem dX6_takes_36 : decode cX6_takes 36 = .ok (.invokestatic 154, 3) := dk_184 0 154 (dk_at dksX6_takes_1 12 rfl rfl)
theorem dX6_takes_39 : decode cX6_takes 39 = .ok (.iadd, 1) := dk_96 (dk_at dksX6_takes_1 15 rfl rfl)
theorem dX6_takes_40 : decode cX6_takes 40 = .ok (.putfield 139, 3) := dk_181 0 139 (dk_at dksX6_takes_1 16 rfl rfl)
theorem dX6_takes_43 : decode cX6_takes 43 = .ok (.iload_n 2, 1) := dk_28 (dk_at dksX6_takes_1 19 rfl rfl)
theorem dX6_takes_44 : decode cX6_takes 44 = .ok (.ireturn, 1) := dk_172 (dk_at dksX6_takes_1 20 rfl rfl)
abbrev cX6_flag : ByteArray := prog_12_method_5_code
def yX6_flag : MethodName := ⟨RX6, "flag", "(Z)I"⟩
def dkwX6_flag_0 : List UInt8 := [26, 153, 0, 7, 4, 167, 0, 4, 3, 172]
abbrev dktX6_flag_0 : List UInt8 := dkwX6_flag_0 ++ []
theorem dksX6_flag_0 : cX6_flag.data.toList.drop 0 = dktX6_flag_0 := by decide +kernel
theorem dX6_flag_0 : decode cX6_flag 0 = .ok (.iload_n 0, 1) := dk_26 (dk_at dksX6_flag_0 0 rfl rfl)
theorem dX6_flag_1 : decode cX6_flag 1 = .ok (.ifCond .eq 7, 3) := dk_153 0 7 (dk_at dksX6_flag_0 1 rfl rfl)
theorem dX6_flag_4 : decode cX6_flag 4 = .ok (.iconst 1, 1) := dk_4 (dk_at dksX6_flag_0 4 rfl rfl)
theorem dX6_flag_5 : decode cX6_flag 5 = .ok (.goto 4, 3) := dk_167 0 4 (dk_at dksX6_flag_0 5 rfl rfl)
theorem dX6_flag_8 : decode cX6_flag 8 = .ok (.iconst 0, 1) := dk_3 (dk_at dksX6_flag_0 8 rfl rfl)
theorem dX6_flag_9 : decode cX6_flag 9 = .ok (.ireturn, 1) := dk_172 (dk_at dksX6_flag_0 9 rfl rfl)
abbrev cX6_faultOf : ByteArray := prog_12_method_22_code
def yX6_faultOf : MethodName := ⟨RX6, "faultOf", "(IIZ)I"⟩
def dkwX6_faultOf_2 : List UInt8 := [153, 0, 7, 3, 167, 0, 9, 2, 42, 180, 0, 139, 100, 172]
abbrev dktX6_faultOf_2 : List UInt8 := dkwX6_faultOf_2 ++ []
def dkwX6_faultOf_1 : List UInt8 := [164, 0, 20, 21, 4, 154, 0, 11, 42, 180, 0, 139, 28, 161, 0, 7, 2, 28, 100, 172, 21, 4]
abbrev dktX6_faultOf_1 : List UInt8 := dkwX6_faultOf_1 ++ dktX6_faultOf_2
def dkwX6_faultOf_0 : List UInt8 := [29, 153, 0, 18, 42, 180, 0, 139, 42, 180, 0, 151, 160, 0, 7, 4, 167, 0, 4, 3, 54, 4, 27, 28]
abbrev dktX6_faultOf_0 : List UInt8 := dkwX6_faultOf_0 ++ dktX6_faultOf_1
theorem dksX6_faultOf_0 : cX6_faultOf.data.toList.drop 0 = dktX6_faultOf_0 := by decide +kernel
theorem dksX6_faultOf_1 : cX6_faultOf.data.toList.drop 24 = dktX6_faultOf_1 := dk_seg dksX6_faultOf_0 24 rfl rfl
theorem dksX6_faultOf_2 : cX6_faultOf.data.toList.drop 46 = dktX6_faultOf_2 := dk_seg dksX6_faultOf_1 22 rfl rfl
theorem dX6_faultOf_0 : decode cX6_faultOf 0 = .ok (.iload_n 3, 1) := dk_29 (dk_at dksX6_faultOf_0 0 rfl rfl)
theorem dX6_faultOf_1 : decode cX6_faultOf 1 = .ok (.ifCond .eq 18, 3) := dk_153 0 18 (dk_at dksX6_faultOf_0 1 rfl rfl)
theorem dX6_faultOf_4 : decode cX6_faultOf 4 = .ok (.aload_n 0, 1) := dk_42 (dk_at dksX6_faultOf_0 4 rfl rfl)
theorem dX6_faultOf_5 : decode cX6_faultOf 5 = .ok (.getfield 139, 3) := dk_180 0 139 (dk_at dksX6_faultOf_0 5 rfl rfl)
theorem dX6_faultOf_8 : decode cX6_faultOf 8 = .ok (.aload_n 0, 1) := dk_42 (dk_at dksX6_faultOf_0 8 rfl rfl)
theorem dX6_faultOf_9 : decode cX6_faultOf 9 = .ok (.getfield 151, 3) := dk_180 0 151 (dk_at dksX6_faultOf_0 9 rfl rfl)
theorem dX6_faultOf_12 : decode cX6_faultOf 12 = .ok (.if_icmp .ne 7, 3) := dk_160 0 7 (dk_at dksX6_faultOf_0 12 rfl rfl)
theorem dX6_faultOf_15 : decode cX6_faultOf 15 = .ok (.iconst 1, 1) := dk_4 (dk_at dksX6_faultOf_0 15 rfl rfl)
theorem dX6_faultOf_16 : decode cX6_faultOf 16 = .ok (.goto 4, 3) := dk_167 0 4 (dk_at dksX6_faultOf_0 16 rfl rfl)
theorem dX6_faultOf_19 : decode cX6_faultOf 19 = .ok (.iconst 0, 1) := dk_3 (dk_at dksX6_faultOf_0 19 rfl rfl)
theorem dX6_faultOf_20 : decode cX6_faultOf 20 = .ok (.istore 4, 2) := dk_54 4 (dk_at dksX6_faultOf_0 20 rfl rfl)
theorem dX6_faultOf_22 : decode cX6_faultOf 22 = .ok (.iload_n 1, 1) := dk_27 (dk_at dksX6_faultOf_0 22 rfl rfl)
theorem dX6_faultOf_23 : decode cX6_faultOf 23 = .ok (.iload_n 2, 1) := dk_28 (dk_at dksX6_faultOf_0 23 rfl rfl)
theorem dX6_faultOf_24 : decode cX6_faultOf 24 = .ok (.if_icmp .le 20, 3) := dk_164 0 20 (dk_at dksX6_faultOf_1 0 rfl rfl)
theorem dX6_faultOf_27 : decode cX6_faultOf 27 = .ok (.iload 4, 2) := dk_21 4 (dk_at dksX6_faultOf_1 3 rfl rfl)
theorem dX6_faultOf_29 : decode cX6_faultOf 29 = .ok (.ifCond .ne 11, 3) := dk_154 0 11 (dk_at dksX6_faultOf_1 5 rfl rfl)
theorem dX6_faultOf_32 : decode cX6_faultOf 32 = .ok (.aload_n 0, 1) := dk_42 (dk_at dksX6_faultOf_1 8 rfl rfl)
theorem dX6_faultOf_33 : decode cX6_faultOf 33 = .ok (.getfield 139, 3) := dk_180 0 139 (dk_at dksX6_faultOf_1 9 rfl rfl)
theorem dX6_faultOf_36 : decode cX6_faultOf 36 = .ok (.iload_n 2, 1) := dk_28 (dk_at dksX6_faultOf_1 12 rfl rfl)
theorem dX6_faultOf_37 : decode cX6_faultOf 37 = .ok (.if_icmp .lt 7, 3) := dk_161 0 7 (dk_at dksX6_faultOf_1 13 rfl rfl)
theorem dX6_faultOf_40 : decode cX6_faultOf 40 = .ok (.iconst (-1), 1) := dk_2 (dk_at dksX6_faultOf_1 16 rfl rfl)
theorem dX6_faultOf_41 : decode cX6_faultOf 41 = .ok (.iload_n 2, 1) := dk_28 (dk_at dksX6_faultOf_1 17 rfl rfl)
theorem dX6_faultOf_42 : decode cX6_faultOf 42 = .ok (.isub, 1) := dk_100 (dk_at dksX6_faultOf_1 18 rfl rfl)
theorem dX6_faultOf_43 : decode cX6_faultOf 43 = .ok (.ireturn, 1) := dk_172 (dk_at dksX6_faultOf_1 19 rfl rfl)
theorem dX6_faultOf_44 : decode cX6_faultOf 44 = .ok (.iload 4, 2) := dk_21 4 (dk_at dksX6_faultOf_1 20 rfl rfl)
theorem dX6_faultOf_46 : decode cX6_faultOf 46 = .ok (.ifCond .eq 7, 3) := dk_153 0 7 (dk_at dksX6_faultOf_2 0 rfl rfl)
theorem dX6_faultOf_49 : decode cX6_faultOf 49 = .ok (.iconst 0, 1) := dk_3 (dk_at dksX6_faultOf_2 3 rfl rfl)
theorem dX6_faultOf_50 : decode cX6_faultOf 50 = .ok (.goto 9, 3) := dk_167 0 9 (dk_at dksX6_faultOf_2 4 rfl rfl)
theorem dX6_faultOf_53 : decode cX6_faultOf 53 = .ok (.iconst (-1), 1) := dk_2 (dk_at dksX6_faultOf_2 7 rfl rfl)
theorem dX6_faultOf_54 : decode cX6_faultOf 54 = .ok (.aload_n 0, 1) := dk_42 (dk_at dksX6_faultOf_2 8 rfl rfl)
theorem dX6_faultOf_55 : decode cX6_faultOf 55 = .ok (.getfield 139, 3) := dk_180 0 139 (dk_at dksX6_faultOf_2 9 rfl rfl)
theorem dX6_faultOf_58 : decode cX6_faultOf 58 = .ok (.isub, 1) := dk_100 (dk_at dksX6_faultOf_2 12 rfl rfl)
theorem dX6_faultOf_59 : decode cX6_faultOf 59 = .ok (.ireturn, 1) := dk_172 (dk_at dksX6_faultOf_2 13 rfl rfl)
abbrev cX6_isNew : ByteArray := prog_12_method_28_code
def yX6_isNew : MethodName := ⟨RX6, "isNew", "()I"⟩
def dkwX6_isNew_1 : List UInt8 := [42, 180, 0, 197, 158, 0, 7, 4, 167, 0, 4, 3, 184, 0, 154, 96, 181, 0, 191, 42, 180, 0, 197, 172]
abbrev dktX6_isNew_1 : List UInt8 := dkwX6_isNew_1 ++ []
def dkwX6_isNew_0 : List UInt8 := [42, 42, 180, 0, 197, 158, 0, 7, 3, 167, 0, 7, 42, 180, 0, 188, 181, 0, 188, 42, 89, 180, 0, 191]
abbrev dktX6_isNew_0 : List UInt8 := dkwX6_isNew_0 ++ dktX6_isNew_1
theorem dksX6_isNew_0 : cX6_isNew.data.toList.drop 0 = dktX6_isNew_0 := by decide +kernel
theorem dksX6_isNew_1 : cX6_isNew.data.toList.drop 24 = dktX6_isNew_1 := dk_seg dksX6_isNew_0 24 rfl rfl
theorem dX6_isNew_0 : decode cX6_isNew 0 = .ok (.aload_n 0, 1) := dk_42 (dk_at dksX6_isNew_0 0 rfl rfl)
theorem dX6_isNew_1 : decode cX6_isNew 1 = .ok (.aload_n 0, 1) := dk_42 (dk_at dksX6_isNew_0 1 rfl rfl)
theorem dX6_isNew_2 : decode cX6_isNew 2 = .ok (.getfield 197, 3) := dk_180 0 197 (dk_at dksX6_isNew_0 2 rfl rfl)
theorem dX6_isNew_5 : decode cX6_isNew 5 = .ok (.ifCond .le 7, 3) := dk_158 0 7 (dk_at dksX6_isNew_0 5 rfl rfl)
theorem dX6_isNew_8 : decode cX6_isNew 8 = .ok (.iconst 0, 1) := dk_3 (dk_at dksX6_isNew_0 8 rfl rfl)
theorem dX6_isNew_9 : decode cX6_isNew 9 = .ok (.goto 7, 3) := dk_167 0 7 (dk_at dksX6_isNew_0 9 rfl rfl)
theorem dX6_isNew_12 : decode cX6_isNew 12 = .ok (.aload_n 0, 1) := dk_42 (dk_at dksX6_isNew_0 12 rfl rfl)
theorem dX6_isNew_13 : decode cX6_isNew 13 = .ok (.getfield 188, 3) := dk_180 0 188 (dk_at dksX6_isNew_0 13 rfl rfl)
theorem dX6_isNew_16 : decode cX6_isNew 16 = .ok (.putfield 188, 3) := dk_181 0 188 (dk_at dksX6_isNew_0 16 rfl rfl)
theorem dX6_isNew_19 : decode cX6_isNew 19 = .ok (.aload_n 0, 1) := dk_42 (dk_at dksX6_isNew_0 19 rfl rfl)
theorem dX6_isNew_20 : decode cX6_isNew 20 = .ok (.dup, 1) := dk_89 (dk_at dksX6_isNew_0 20 rfl rfl)
theorem dX6_isNew_21 : decode cX6_isNew 21 = .ok (.getfield 191, 3) := dk_180 0 191 (dk_at dksX6_isNew_0 21 rfl rfl)
theorem dX6_isNew_24 : decode cX6_isNew 24 = .ok (.aload_n 0, 1) := dk_42 (dk_at dksX6_isNew_1 0 rfl rfl)
theorem dX6_isNew_25 : decode cX6_isNew 25 = .ok (.getfield 197, 3) := dk_180 0 197 (dk_at dksX6_isNew_1 1 rfl rfl)
theorem dX6_isNew_28 : decode cX6_isNew 28 = .ok (.ifCond .le 7, 3) := dk_158 0 7 (dk_at dksX6_isNew_1 4 rfl rfl)
theorem dX6_isNew_31 : decode cX6_isNew 31 = .ok (.iconst 1, 1) := dk_4 (dk_at dksX6_isNew_1 7 rfl rfl)
theorem dX6_isNew_32 : decode cX6_isNew 32 = .ok (.goto 4, 3) := dk_167 0 4 (dk_at dksX6_isNew_1 8 rfl rfl)
theorem dX6_isNew_35 : decode cX6_isNew 35 = .ok (.iconst 0, 1) := dk_3 (dk_at dksX6_isNew_1 11 rfl rfl)
theorem dX6_isNew_36 : decode cX6_isNew 36 = .ok (.invokestatic 154, 3) := dk_184 0 154 (dk_at dksX6_isNew_1 12 rfl rfl)
theorem dX6_isNew_39 : decode cX6_isNew 39 = .ok (.iadd, 1) := dk_96 (dk_at dksX6_isNew_1 15 rfl rfl)
theorem dX6_isNew_40 : decode cX6_isNew 40 = .ok (.putfield 191, 3) := dk_181 0 191 (dk_at dksX6_isNew_1 16 rfl rfl)
theorem dX6_isNew_43 : decode cX6_isNew 43 = .ok (.aload_n 0, 1) := dk_42 (dk_at dksX6_isNew_1 19 rfl rfl)
theorem dX6_isNew_44 : decode cX6_isNew 44 = .ok (.getfield 197, 3) := dk_180 0 197 (dk_at dksX6_isNew_1 20 rfl rfl)
theorem dX6_isNew_47 : decode cX6_isNew 47 = .ok (.ireturn, 1) := dk_172 (dk_at dksX6_isNew_1 23 rfl rfl)
abbrev cX6_things : ByteArray := prog_12_method_30_code
def yX6_things : MethodName := ⟨RX6, "things", "()I"⟩
def dkwX6_things_2 : List UInt8 := [42, 89, 180, 0, 133, 4, 96, 181, 0, 133, 132, 2, 1, 167, 255, 217, 42, 182, 0, 221, 172]
abbrev dktX6_things_2 : List UInt8 := dkwX6_things_2 ++ []
def dkwX6_things_1 : List UInt8 := [180, 0, 197, 162, 0, 37, 42, 180, 0, 41, 16, 32, 42, 180, 0, 133, 96, 42, 180, 0, 53, 28, 46, 79]
abbrev dktX6_things_1 : List UInt8 := dkwX6_things_1 ++ dktX6_things_2
def dkwX6_things_0 : List UInt8 := [42, 3, 181, 0, 3, 42, 3, 16, 23, 182, 0, 217, 60, 27, 156, 0, 5, 27, 172, 3, 61, 28, 42]
abbrev dktX6_things_0 : List UInt8 := dkwX6_things_0 ++ dktX6_things_1
theorem dksX6_things_0 : cX6_things.data.toList.drop 0 = dktX6_things_0 := by decide +kernel
theorem dksX6_things_1 : cX6_things.data.toList.drop 23 = dktX6_things_1 := dk_seg dksX6_things_0 23 rfl rfl
theorem dksX6_things_2 : cX6_things.data.toList.drop 47 = dktX6_things_2 := dk_seg dksX6_things_1 24 rfl rfl
theorem dX6_things_0 : decode cX6_things 0 = .ok (.aload_n 0, 1) := dk_42 (dk_at dksX6_things_0 0 rfl rfl)
theorem dX6_things_1 : decode cX6_things 1 = .ok (.iconst 0, 1) := dk_3 (dk_at dksX6_things_0 1 rfl rfl)
theorem dX6_things_2 : decode cX6_things 2 = .ok (.putfield 3, 3) := dk_181 0 3 (dk_at dksX6_things_0 2 rfl rfl)
theorem dX6_things_5 : decode cX6_things 5 = .ok (.aload_n 0, 1) := dk_42 (dk_at dksX6_things_0 5 rfl rfl)
theorem dX6_things_6 : decode cX6_things 6 = .ok (.iconst 0, 1) := dk_3 (dk_at dksX6_things_0 6 rfl rfl)
theorem dX6_things_7 : decode cX6_things 7 = .ok (.bipush 23, 2) := dk_16 23 (dk_at dksX6_things_0 7 rfl rfl)
theorem dX6_things_9 : decode cX6_things 9 = .ok (.invokevirtual 217, 3) := dk_182 0 217 (dk_at dksX6_things_0 9 rfl rfl)
theorem dX6_things_12 : decode cX6_things 12 = .ok (.istore_n 1, 1) := dk_60 (dk_at dksX6_things_0 12 rfl rfl)
theorem dX6_things_13 : decode cX6_things 13 = .ok (.iload_n 1, 1) := dk_27 (dk_at dksX6_things_0 13 rfl rfl)
theorem dX6_things_14 : decode cX6_things 14 = .ok (.ifCond .ge 5, 3) := dk_156 0 5 (dk_at dksX6_things_0 14 rfl rfl)
theorem dX6_things_17 : decode cX6_things 17 = .ok (.iload_n 1, 1) := dk_27 (dk_at dksX6_things_0 17 rfl rfl)
theorem dX6_things_18 : decode cX6_things 18 = .ok (.ireturn, 1) := dk_172 (dk_at dksX6_things_0 18 rfl rfl)
theorem dX6_things_19 : decode cX6_things 19 = .ok (.iconst 0, 1) := dk_3 (dk_at dksX6_things_0 19 rfl rfl)
theorem dX6_things_20 : decode cX6_things 20 = .ok (.istore_n 2, 1) := dk_61 (dk_at dksX6_things_0 20 rfl rfl)
theorem dX6_things_21 : decode cX6_things 21 = .ok (.iload_n 2, 1) := dk_28 (dk_at dksX6_things_0 21 rfl rfl)
theorem dX6_things_22 : decode cX6_things 22 = .ok (.aload_n 0, 1) := dk_42 (dk_at dksX6_things_0 22 rfl rfl)
theorem dX6_things_23 : decode cX6_things 23 = .ok (.getfield 197, 3) := dk_180 0 197 (dk_at dksX6_things_1 0 rfl rfl)
theorem dX6_things_26 : decode cX6_things 26 = .ok (.if_icmp .ge 37, 3) := dk_162 0 37 (dk_at dksX6_things_1 3 rfl rfl)
theorem dX6_things_29 : decode cX6_things 29 = .ok (.aload_n 0, 1) := dk_42 (dk_at dksX6_things_1 6 rfl rfl)
theorem dX6_things_30 : decode cX6_things 30 = .ok (.getfield 41, 3) := dk_180 0 41 (dk_at dksX6_things_1 7 rfl rfl)
theorem dX6_things_33 : decode cX6_things 33 = .ok (.bipush 32, 2) := dk_16 32 (dk_at dksX6_things_1 10 rfl rfl)
theorem dX6_things_35 : decode cX6_things 35 = .ok (.aload_n 0, 1) := dk_42 (dk_at dksX6_things_1 12 rfl rfl)
theorem dX6_things_36 : decode cX6_things 36 = .ok (.getfield 133, 3) := dk_180 0 133 (dk_at dksX6_things_1 13 rfl rfl)
theorem dX6_things_39 : decode cX6_things 39 = .ok (.iadd, 1) := dk_96 (dk_at dksX6_things_1 16 rfl rfl)
theorem dX6_things_40 : decode cX6_things 40 = .ok (.aload_n 0, 1) := dk_42 (dk_at dksX6_things_1 17 rfl rfl)
theorem dX6_things_41 : decode cX6_things 41 = .ok (.getfield 53, 3) := dk_180 0 53 (dk_at dksX6_things_1 18 rfl rfl)
theorem dX6_things_44 : decode cX6_things 44 = .ok (.iload_n 2, 1) := dk_28 (dk_at dksX6_things_1 21 rfl rfl)
theorem dX6_things_45 : decode cX6_things 45 = .ok (.iaload, 1) := dk_46 (dk_at dksX6_things_1 22 rfl rfl)
theorem dX6_things_46 : decode cX6_things 46 = .ok (.iastore, 1) := dk_79 (dk_at dksX6_things_1 23 rfl rfl)
theorem dX6_things_47 : decode cX6_things 47 = .ok (.aload_n 0, 1) := dk_42 (dk_at dksX6_things_2 0 rfl rfl)
theorem dX6_things_48 : decode cX6_things 48 = .ok (.dup, 1) := dk_89 (dk_at dksX6_things_2 1 rfl rfl)
theorem dX6_things_49 : decode cX6_things 49 = .ok (.getfield 133, 3) := dk_180 0 133 (dk_at dksX6_things_2 2 rfl rfl)
theorem dX6_things_52 : decode cX6_things 52 = .ok (.iconst 1, 1) := dk_4 (dk_at dksX6_things_2 5 rfl rfl)
theorem dX6_things_53 : decode cX6_things 53 = .ok (.iadd, 1) := dk_96 (dk_at dksX6_things_2 6 rfl rfl)
theorem dX6_things_54 : decode cX6_things 54 = .ok (.putfield 133, 3) := dk_181 0 133 (dk_at dksX6_things_2 7 rfl rfl)
theorem dX6_things_57 : decode cX6_things 57 = .ok (.iinc 2 1, 3) := dk_132 2 1 (dk_at dksX6_things_2 10 rfl rfl)
theorem dX6_things_60 : decode cX6_things 60 = .ok (.goto (-39), 3) := dk_167 255 217 (dk_at dksX6_things_2 13 rfl rfl)
theorem dX6_things_63 : decode cX6_things 63 = .ok (.aload_n 0, 1) := dk_42 (dk_at dksX6_things_2 16 rfl rfl)
theorem dX6_things_64 : decode cX6_things 64 = .ok (.invokevirtual 221, 3) := dk_182 0 221 (dk_at dksX6_things_2 17 rfl rfl)
theorem dX6_things_67 : decode cX6_things 67 = .ok (.ireturn, 1) := dk_172 (dk_at dksX6_things_2 20 rfl rfl)
abbrev cX6_light : ByteArray := prog_12_method_31_code
def yX6_light : MethodName := ⟨RX6, "light", "()I"⟩
def dkwX6_light_4 : List UInt8 := [27, 172]
abbrev dktX6_light_4 : List UInt8 := dkwX6_light_4 ++ []
def dkwX6_light_3 : List UInt8 := [61, 28, 27, 162, 0, 21, 42, 180, 0, 37, 28, 42, 180, 0, 53, 28, 46, 79, 132, 2, 1, 167, 255, 236]
abbrev dktX6_light_3 : List UInt8 := dkwX6_light_3 ++ dktX6_light_4
def dkwX6_light_2 : List UInt8 := [42, 180, 0, 139, 42, 180, 0, 151, 162, 0, 10, 2, 42, 180, 0, 139, 100, 172, 42, 27, 181, 0, 30, 3]
abbrev dktX6_light_2 : List UInt8 := dkwX6_light_2 ++ dktX6_light_3
def dkwX6_light_1 : List UInt8 := [153, 0, 20, 42, 180, 0, 53, 27, 42, 4, 182, 0, 224, 79, 132, 1, 1, 167, 255, 229, 27, 153, 0, 14]
abbrev dktX6_light_1 : List UInt8 := dkwX6_light_1 ++ dktX6_light_2
def dkwX6_light_0 : List UInt8 := [42, 3, 181, 0, 3, 42, 16, 80, 182, 0, 175, 87, 3, 60, 27, 16, 20, 162, 0, 27, 42, 182, 0, 171]
abbrev dktX6_light_0 : List UInt8 := dkwX6_light_0 ++ dktX6_light_1
theorem dksX6_light_0 : cX6_light.data.toList.drop 0 = dktX6_light_0 := by decide +kernel
theorem dksX6_light_1 : cX6_light.data.toList.drop 24 = dktX6_light_1 := dk_seg dksX6_light_0 24 rfl rfl
theorem dksX6_light_2 : cX6_light.data.toList.drop 48 = dktX6_light_2 := dk_seg dksX6_light_1 24 rfl rfl
theorem dksX6_light_3 : cX6_light.data.toList.drop 72 = dktX6_light_3 := dk_seg dksX6_light_2 24 rfl rfl
theorem dksX6_light_4 : cX6_light.data.toList.drop 96 = dktX6_light_4 := dk_seg dksX6_light_3 24 rfl rfl
theorem dX6_light_0 : decode cX6_light 0 = .ok (.aload_n 0, 1) := dk_42 (dk_at dksX6_light_0 0 rfl rfl)
theorem dX6_light_1 : decode cX6_light 1 = .ok (.iconst 0, 1) := dk_3 (dk_at dksX6_light_0 1 rfl rfl)
theorem dX6_light_2 : decode cX6_light 2 = .ok (.putfield 3, 3) := dk_181 0 3 (dk_at dksX6_light_0 2 rfl rfl)
theorem dX6_light_5 : decode cX6_light 5 = .ok (.aload_n 0, 1) := dk_42 (dk_at dksX6_light_0 5 rfl rfl)
theorem dX6_light_6 : decode cX6_light 6 = .ok (.bipush 80, 2) := dk_16 80 (dk_at dksX6_light_0 6 rfl rfl)
theorem dX6_light_8 : decode cX6_light 8 = .ok (.invokevirtual 175, 3) := dk_182 0 175 (dk_at dksX6_light_0 8 rfl rfl)
theorem dX6_light_11 : decode cX6_light 11 = .ok (.pop, 1) := dk_87 (dk_at dksX6_light_0 11 rfl rfl)
theorem dX6_light_12 : decode cX6_light 12 = .ok (.iconst 0, 1) := dk_3 (dk_at dksX6_light_0 12 rfl rfl)
theorem dX6_light_13 : decode cX6_light 13 = .ok (.istore_n 1, 1) := dk_60 (dk_at dksX6_light_0 13 rfl rfl)
theorem dX6_light_14 : decode cX6_light 14 = .ok (.iload_n 1, 1) := dk_27 (dk_at dksX6_light_0 14 rfl rfl)
theorem dX6_light_15 : decode cX6_light 15 = .ok (.bipush 20, 2) := dk_16 20 (dk_at dksX6_light_0 15 rfl rfl)
theorem dX6_light_17 : decode cX6_light 17 = .ok (.if_icmp .ge 27, 3) := dk_162 0 27 (dk_at dksX6_light_0 17 rfl rfl)
theorem dX6_light_20 : decode cX6_light 20 = .ok (.aload_n 0, 1) := dk_42 (dk_at dksX6_light_0 20 rfl rfl)
theorem dX6_light_21 : decode cX6_light 21 = .ok (.invokevirtual 171, 3) := dk_182 0 171 (dk_at dksX6_light_0 21 rfl rfl)
theorem dX6_light_24 : decode cX6_light 24 = .ok (.ifCond .eq 20, 3) := dk_153 0 20 (dk_at dksX6_light_1 0 rfl rfl)
theorem dX6_light_27 : decode cX6_light 27 = .ok (.aload_n 0, 1) := dk_42 (dk_at dksX6_light_1 3 rfl rfl)
theorem dX6_light_28 : decode cX6_light 28 = .ok (.getfield 53, 3) := dk_180 0 53 (dk_at dksX6_light_1 4 rfl rfl)
theorem dX6_light_31 : decode cX6_light 31 = .ok (.iload_n 1, 1) := dk_27 (dk_at dksX6_light_1 7 rfl rfl)
theorem dX6_light_32 : decode cX6_light 32 = .ok (.aload_n 0, 1) := dk_42 (dk_at dksX6_light_1 8 rfl rfl)
theorem dX6_light_33 : decode cX6_light 33 = .ok (.iconst 1, 1) := dk_4 (dk_at dksX6_light_1 9 rfl rfl)
theorem dX6_light_34 : decode cX6_light 34 = .ok (.invokevirtual 224, 3) := dk_182 0 224 (dk_at dksX6_light_1 10 rfl rfl)
theorem dX6_light_37 : decode cX6_light 37 = .ok (.iastore, 1) := dk_79 (dk_at dksX6_light_1 13 rfl rfl)
theorem dX6_light_38 : decode cX6_light 38 = .ok (.iinc 1 1, 3) := dk_132 1 1 (dk_at dksX6_light_1 14 rfl rfl)
theorem dX6_light_41 : decode cX6_light 41 = .ok (.goto (-27), 3) := dk_167 255 229 (dk_at dksX6_light_1 17 rfl rfl)
theorem dX6_light_44 : decode cX6_light 44 = .ok (.iload_n 1, 1) := dk_27 (dk_at dksX6_light_1 20 rfl rfl)
theorem dX6_light_45 : decode cX6_light 45 = .ok (.ifCond .eq 14, 3) := dk_153 0 14 (dk_at dksX6_light_1 21 rfl rfl)
theorem dX6_light_48 : decode cX6_light 48 = .ok (.aload_n 0, 1) := dk_42 (dk_at dksX6_light_2 0 rfl rfl)
theorem dX6_light_49 : decode cX6_light 49 = .ok (.getfield 139, 3) := dk_180 0 139 (dk_at dksX6_light_2 1 rfl rfl)
theorem dX6_light_52 : decode cX6_light 52 = .ok (.aload_n 0, 1) := dk_42 (dk_at dksX6_light_2 4 rfl rfl)
theorem dX6_light_53 : decode cX6_light 53 = .ok (.getfield 151, 3) := dk_180 0 151 (dk_at dksX6_light_2 5 rfl rfl)
theorem dX6_light_56 : decode cX6_light 56 = .ok (.if_icmp .ge 10, 3) := dk_162 0 10 (dk_at dksX6_light_2 8 rfl rfl)
theorem dX6_light_59 : decode cX6_light 59 = .ok (.iconst (-1), 1) := dk_2 (dk_at dksX6_light_2 11 rfl rfl)
theorem dX6_light_60 : decode cX6_light 60 = .ok (.aload_n 0, 1) := dk_42 (dk_at dksX6_light_2 12 rfl rfl)
theorem dX6_light_61 : decode cX6_light 61 = .ok (.getfield 139, 3) := dk_180 0 139 (dk_at dksX6_light_2 13 rfl rfl)
theorem dX6_light_64 : decode cX6_light 64 = .ok (.isub, 1) := dk_100 (dk_at dksX6_light_2 16 rfl rfl)
theorem dX6_light_65 : decode cX6_light 65 = .ok (.ireturn, 1) := dk_172 (dk_at dksX6_light_2 17 rfl rfl)
theorem dX6_light_66 : decode cX6_light 66 = .ok (.aload_n 0, 1) := dk_42 (dk_at dksX6_light_2 18 rfl rfl)
theorem dX6_light_67 : decode cX6_light 67 = .ok (.iload_n 1, 1) := dk_27 (dk_at dksX6_light_2 19 rfl rfl)
theorem dX6_light_68 : decode cX6_light 68 = .ok (.putfield 30, 3) := dk_181 0 30 (dk_at dksX6_light_2 20 rfl rfl)
theorem dX6_light_71 : decode cX6_light 71 = .ok (.iconst 0, 1) := dk_3 (dk_at dksX6_light_2 23 rfl rfl)
theorem dX6_light_72 : decode cX6_light 72 = .ok (.istore_n 2, 1) := dk_61 (dk_at dksX6_light_3 0 rfl rfl)
theorem dX6_light_73 : decode cX6_light 73 = .ok (.iload_n 2, 1) := dk_28 (dk_at dksX6_light_3 1 rfl rfl)
theorem dX6_light_74 : decode cX6_light 74 = .ok (.iload_n 1, 1) := dk_27 (dk_at dksX6_light_3 2 rfl rfl)
theorem dX6_light_75 : decode cX6_light 75 = .ok (.if_icmp .ge 21, 3) := dk_162 0 21 (dk_at dksX6_light_3 3 rfl rfl)
theorem dX6_light_78 : decode cX6_light 78 = .ok (.aload_n 0, 1) := dk_42 (dk_at dksX6_light_3 6 rfl rfl)
theorem dX6_light_79 : decode cX6_light 79 = .ok (.getfield 37, 3) := dk_180 0 37 (dk_at dksX6_light_3 7 rfl rfl)
theorem dX6_light_82 : decode cX6_light 82 = .ok (.iload_n 2, 1) := dk_28 (dk_at dksX6_light_3 10 rfl rfl)
theorem dX6_light_83 : decode cX6_light 83 = .ok (.aload_n 0, 1) := dk_42 (dk_at dksX6_light_3 11 rfl rfl)
theorem dX6_light_84 : decode cX6_light 84 = .ok (.getfield 53, 3) := dk_180 0 53 (dk_at dksX6_light_3 12 rfl rfl)
theorem dX6_light_87 : decode cX6_light 87 = .ok (.iload_n 2, 1) := dk_28 (dk_at dksX6_light_3 15 rfl rfl)
theorem dX6_light_88 : decode cX6_light 88 = .ok (.iaload, 1) := dk_46 (dk_at dksX6_light_3 16 rfl rfl)
theorem dX6_light_89 : decode cX6_light 89 = .ok (.iastore, 1) := dk_79 (dk_at dksX6_light_3 17 rfl rfl)
theorem dX6_light_90 : decode cX6_light 90 = .ok (.iinc 2 1, 3) := dk_132 2 1 (dk_at dksX6_light_3 18 rfl rfl)
theorem dX6_light_93 : decode cX6_light 93 = .ok (.goto (-20), 3) := dk_167 255 236 (dk_at dksX6_light_3 21 rfl rfl)
theorem dX6_light_96 : decode cX6_light 96 = .ok (.iload_n 1, 1) := dk_27 (dk_at dksX6_light_4 0 rfl rfl)
theorem dX6_light_97 : decode cX6_light 97 = .ok (.ireturn, 1) := dk_172 (dk_at dksX6_light_4 1 rfl rfl)
abbrev cX6_isDigit : ByteArray := prog_12_method_18_code
def yX6_isDigit : MethodName := ⟨RX6, "isDigit", "()Z"⟩
def dkwX6_isDigit_1 : List UInt8 := [20, 0, 160, 184, 0, 126, 153, 0, 7, 4, 167, 0, 4, 3, 172]
abbrev dktX6_isDigit_1 : List UInt8 := dkwX6_isDigit_1 ++ []
def dkwX6_isDigit_0 : List UInt8 := [42, 180, 0, 139, 42, 180, 0, 151, 162, 0, 29, 42, 180, 0, 47, 42, 180, 0, 139, 46, 133, 20, 0, 158]
abbrev dktX6_isDigit_0 : List UInt8 := dkwX6_isDigit_0 ++ dktX6_isDigit_1
theorem dksX6_isDigit_0 : cX6_isDigit.data.toList.drop 0 = dktX6_isDigit_0 := by decide +kernel
theorem dksX6_isDigit_1 : cX6_isDigit.data.toList.drop 24 = dktX6_isDigit_1 := dk_seg dksX6_isDigit_0 24 rfl rfl
theorem dX6_isDigit_0 : decode cX6_isDigit 0 = .ok (.aload_n 0, 1) := dk_42 (dk_at dksX6_isDigit_0 0 rfl rfl)
theorem dX6_isDigit_1 : decode cX6_isDigit 1 = .ok (.getfield 139, 3) := dk_180 0 139 (dk_at dksX6_isDigit_0 1 rfl rfl)
theorem dX6_isDigit_4 : decode cX6_isDigit 4 = .ok (.aload_n 0, 1) := dk_42 (dk_at dksX6_isDigit_0 4 rfl rfl)
theorem dX6_isDigit_5 : decode cX6_isDigit 5 = .ok (.getfield 151, 3) := dk_180 0 151 (dk_at dksX6_isDigit_0 5 rfl rfl)
theorem dX6_isDigit_8 : decode cX6_isDigit 8 = .ok (.if_icmp .ge 29, 3) := dk_162 0 29 (dk_at dksX6_isDigit_0 8 rfl rfl)
theorem dX6_isDigit_11 : decode cX6_isDigit 11 = .ok (.aload_n 0, 1) := dk_42 (dk_at dksX6_isDigit_0 11 rfl rfl)
theorem dX6_isDigit_12 : decode cX6_isDigit 12 = .ok (.getfield 47, 3) := dk_180 0 47 (dk_at dksX6_isDigit_0 12 rfl rfl)
theorem dX6_isDigit_15 : decode cX6_isDigit 15 = .ok (.aload_n 0, 1) := dk_42 (dk_at dksX6_isDigit_0 15 rfl rfl)
theorem dX6_isDigit_16 : decode cX6_isDigit 16 = .ok (.getfield 139, 3) := dk_180 0 139 (dk_at dksX6_isDigit_0 16 rfl rfl)
theorem dX6_isDigit_19 : decode cX6_isDigit 19 = .ok (.iaload, 1) := dk_46 (dk_at dksX6_isDigit_0 19 rfl rfl)
theorem dX6_isDigit_20 : decode cX6_isDigit 20 = .ok (.i2l, 1) := dk_133 (dk_at dksX6_isDigit_0 20 rfl rfl)
theorem dX6_isDigit_21 : decode cX6_isDigit 21 = .ok (.ldc2_w 158, 3) := dk_20 0 158 (dk_at dksX6_isDigit_0 21 rfl rfl)
theorem dX6_isDigit_24 : decode cX6_isDigit 24 = .ok (.ldc2_w 160, 3) := dk_20 0 160 (dk_at dksX6_isDigit_1 0 rfl rfl)
theorem dX6_isDigit_27 : decode cX6_isDigit 27 = .ok (.invokestatic 126, 3) := dk_184 0 126 (dk_at dksX6_isDigit_1 3 rfl rfl)
theorem dX6_isDigit_30 : decode cX6_isDigit 30 = .ok (.ifCond .eq 7, 3) := dk_153 0 7 (dk_at dksX6_isDigit_1 6 rfl rfl)
theorem dX6_isDigit_33 : decode cX6_isDigit 33 = .ok (.iconst 1, 1) := dk_4 (dk_at dksX6_isDigit_1 9 rfl rfl)
theorem dX6_isDigit_34 : decode cX6_isDigit 34 = .ok (.goto 4, 3) := dk_167 0 4 (dk_at dksX6_isDigit_1 10 rfl rfl)
theorem dX6_isDigit_37 : decode cX6_isDigit 37 = .ok (.iconst 0, 1) := dk_3 (dk_at dksX6_isDigit_1 13 rfl rfl)
theorem dX6_isDigit_38 : decode cX6_isDigit 38 = .ok (.ireturn, 1) := dk_172 (dk_at dksX6_isDigit_1 14 rfl rfl)
abbrev cX6_number : ByteArray := prog_12_method_20_code
def yX6_number : MethodName := ⟨RX6, "number", "(I)I"⟩
def dkwX6_number_2 : List UInt8 := [180, 0, 139, 4, 96, 181, 0, 139, 132, 3, 1, 167, 255, 213, 28, 172]
abbrev dktX6_number_2 : List UInt8 := dkwX6_number_2 ++ []
def dkwX6_number_1 : List UInt8 := [153, 0, 37, 16, 10, 28, 104, 42, 180, 0, 47, 42, 180, 0, 139, 46, 96, 16, 48, 100, 61, 42, 89]
abbrev dktX6_number_1 : List UInt8 := dkwX6_number_1 ++ dktX6_number_2
def dkwX6_number_0 : List UInt8 := [42, 182, 0, 171, 154, 0, 5, 2, 172, 3, 61, 3, 62, 29, 27, 162, 0, 44, 42, 182, 0, 171]
abbrev dktX6_number_0 : List UInt8 := dkwX6_number_0 ++ dktX6_number_1
theorem dksX6_number_0 : cX6_number.data.toList.drop 0 = dktX6_number_0 := by decide +kernel
theorem dksX6_number_1 : cX6_number.data.toList.drop 22 = dktX6_number_1 := dk_seg dksX6_number_0 22 rfl rfl
theorem dksX6_number_2 : cX6_number.data.toList.drop 45 = dktX6_number_2 := dk_seg dksX6_number_1 23 rfl rfl
theorem dX6_number_0 : decode cX6_number 0 = .ok (.aload_n 0, 1) := dk_42 (dk_at dksX6_number_0 0 rfl rfl)
theorem dX6_number_1 : decode cX6_number 1 = .ok (.invokevirtual 171, 3) := dk_182 0 171 (dk_at dksX6_number_0 1 rfl rfl)
theorem dX6_number_4 : decode cX6_number 4 = .ok (.ifCond .ne 5, 3) := dk_154 0 5 (dk_at dksX6_number_0 4 rfl rfl)
theorem dX6_number_7 : decode cX6_number 7 = .ok (.iconst (-1), 1) := dk_2 (dk_at dksX6_number_0 7 rfl rfl)
theorem dX6_number_8 : decode cX6_number 8 = .ok (.ireturn, 1) := dk_172 (dk_at dksX6_number_0 8 rfl rfl)
theorem dX6_number_9 : decode cX6_number 9 = .ok (.iconst 0, 1) := dk_3 (dk_at dksX6_number_0 9 rfl rfl)
theorem dX6_number_10 : decode cX6_number 10 = .ok (.istore_n 2, 1) := dk_61 (dk_at dksX6_number_0 10 rfl rfl)
theorem dX6_number_11 : decode cX6_number 11 = .ok (.iconst 0, 1) := dk_3 (dk_at dksX6_number_0 11 rfl rfl)
theorem dX6_number_12 : decode cX6_number 12 = .ok (.istore_n 3, 1) := dk_62 (dk_at dksX6_number_0 12 rfl rfl)
theorem dX6_number_13 : decode cX6_number 13 = .ok (.iload_n 3, 1) := dk_29 (dk_at dksX6_number_0 13 rfl rfl)
theorem dX6_number_14 : decode cX6_number 14 = .ok (.iload_n 1, 1) := dk_27 (dk_at dksX6_number_0 14 rfl rfl)
theorem dX6_number_15 : decode cX6_number 15 = .ok (.if_icmp .ge 44, 3) := dk_162 0 44 (dk_at dksX6_number_0 15 rfl rfl)
theorem dX6_number_18 : decode cX6_number 18 = .ok (.aload_n 0, 1) := dk_42 (dk_at dksX6_number_0 18 rfl rfl)
theorem dX6_number_19 : decode cX6_number 19 = .ok (.invokevirtual 171, 3) := dk_182 0 171 (dk_at dksX6_number_0 19 rfl rfl)
theorem dX6_number_22 : decode cX6_number 22 = .ok (.ifCond .eq 37, 3) := dk_153 0 37 (dk_at dksX6_number_1 0 rfl rfl)
theorem dX6_number_25 : decode cX6_number 25 = .ok (.bipush 10, 2) := dk_16 10 (dk_at dksX6_number_1 3 rfl rfl)
theorem dX6_number_27 : decode cX6_number 27 = .ok (.iload_n 2, 1) := dk_28 (dk_at dksX6_number_1 5 rfl rfl)
theorem dX6_number_28 : decode cX6_number 28 = .ok (.imul, 1) := dk_104 (dk_at dksX6_number_1 6 rfl rfl)
theorem dX6_number_29 : decode cX6_number 29 = .ok (.aload_n 0, 1) := dk_42 (dk_at dksX6_number_1 7 rfl rfl)
theorem dX6_number_30 : decode cX6_number 30 = .ok (.getfield 47, 3) := dk_180 0 47 (dk_at dksX6_number_1 8 rfl rfl)
theorem dX6_number_33 : decode cX6_number 33 = .ok (.aload_n 0, 1) := dk_42 (dk_at dksX6_number_1 11 rfl rfl)
theorem dX6_number_34 : decode cX6_number 34 = .ok (.getfield 139, 3) := dk_180 0 139 (dk_at dksX6_number_1 12 rfl rfl)
theorem dX6_number_37 : decode cX6_number 37 = .ok (.iaload, 1) := dk_46 (dk_at dksX6_number_1 15 rfl rfl)
theorem dX6_number_38 : decode cX6_number 38 = .ok (.iadd, 1) := dk_96 (dk_at dksX6_number_1 16 rfl rfl)
theorem dX6_number_39 : decode cX6_number 39 = .ok (.bipush 48, 2) := dk_16 48 (dk_at dksX6_number_1 17 rfl rfl)
theorem dX6_number_41 : decode cX6_number 41 = .ok (.isub, 1) := dk_100 (dk_at dksX6_number_1 19 rfl rfl)
theorem dX6_number_42 : decode cX6_number 42 = .ok (.istore_n 2, 1) := dk_61 (dk_at dksX6_number_1 20 rfl rfl)
theorem dX6_number_43 : decode cX6_number 43 = .ok (.aload_n 0, 1) := dk_42 (dk_at dksX6_number_1 21 rfl rfl)
theorem dX6_number_44 : decode cX6_number 44 = .ok (.dup, 1) := dk_89 (dk_at dksX6_number_1 22 rfl rfl)
theorem dX6_number_45 : decode cX6_number 45 = .ok (.getfield 139, 3) := dk_180 0 139 (dk_at dksX6_number_2 0 rfl rfl)
theorem dX6_number_48 : decode cX6_number 48 = .ok (.iconst 1, 1) := dk_4 (dk_at dksX6_number_2 3 rfl rfl)
theorem dX6_number_49 : decode cX6_number 49 = .ok (.iadd, 1) := dk_96 (dk_at dksX6_number_2 4 rfl rfl)
theorem dX6_number_50 : decode cX6_number 50 = .ok (.putfield 139, 3) := dk_181 0 139 (dk_at dksX6_number_2 5 rfl rfl)
theorem dX6_number_53 : decode cX6_number 53 = .ok (.iinc 3 1, 3) := dk_132 3 1 (dk_at dksX6_number_2 8 rfl rfl)
theorem dX6_number_56 : decode cX6_number 56 = .ok (.goto (-43), 3) := dk_167 255 213 (dk_at dksX6_number_2 11 rfl rfl)
theorem dX6_number_59 : decode cX6_number 59 = .ok (.iload_n 2, 1) := dk_28 (dk_at dksX6_number_2 14 rfl rfl)
theorem dX6_number_60 : decode cX6_number 60 = .ok (.ireturn, 1) := dk_172 (dk_at dksX6_number_2 15 rfl rfl)
abbrev cX6_rule : ByteArray := prog_12_method_38_code
def yX6_rule : MethodName := ⟨RX6, "rule", "()I"⟩
def dkwX6_rule_1 : List UInt8 := [182, 0, 254, 27, 172]
abbrev dktX6_rule_1 : List UInt8 := dkwX6_rule_1 ++ []
def dkwX6_rule_0 : List UInt8 := [42, 3, 181, 0, 3, 42, 182, 0, 251, 60, 27, 154, 0, 15, 42, 42, 180, 0, 59, 42, 180, 0, 227]
abbrev dktX6_rule_0 : List UInt8 := dkwX6_rule_0 ++ dktX6_rule_1
theorem dksX6_rule_0 : cX6_rule.data.toList.drop 0 = dktX6_rule_0 := by decide +kernel
theorem dksX6_rule_1 : cX6_rule.data.toList.drop 23 = dktX6_rule_1 := dk_seg dksX6_rule_0 23 rfl rfl
theorem dX6_rule_0 : decode cX6_rule 0 = .ok (.aload_n 0, 1) := dk_42 (dk_at dksX6_rule_0 0 rfl rfl)
theorem dX6_rule_1 : decode cX6_rule 1 = .ok (.iconst 0, 1) := dk_3 (dk_at dksX6_rule_0 1 rfl rfl)
theorem dX6_rule_2 : decode cX6_rule 2 = .ok (.putfield 3, 3) := dk_181 0 3 (dk_at dksX6_rule_0 2 rfl rfl)
theorem dX6_rule_5 : decode cX6_rule 5 = .ok (.aload_n 0, 1) := dk_42 (dk_at dksX6_rule_0 5 rfl rfl)
theorem dX6_rule_6 : decode cX6_rule 6 = .ok (.invokevirtual 251, 3) := dk_182 0 251 (dk_at dksX6_rule_0 6 rfl rfl)
theorem dX6_rule_9 : decode cX6_rule 9 = .ok (.istore_n 1, 1) := dk_60 (dk_at dksX6_rule_0 9 rfl rfl)
theorem dX6_rule_10 : decode cX6_rule 10 = .ok (.iload_n 1, 1) := dk_27 (dk_at dksX6_rule_0 10 rfl rfl)
theorem dX6_rule_11 : decode cX6_rule 11 = .ok (.ifCond .ne 15, 3) := dk_154 0 15 (dk_at dksX6_rule_0 11 rfl rfl)
theorem dX6_rule_14 : decode cX6_rule 14 = .ok (.aload_n 0, 1) := dk_42 (dk_at dksX6_rule_0 14 rfl rfl)
theorem dX6_rule_15 : decode cX6_rule 15 = .ok (.aload_n 0, 1) := dk_42 (dk_at dksX6_rule_0 15 rfl rfl)
theorem dX6_rule_16 : decode cX6_rule 16 = .ok (.getfield 59, 3) := dk_180 0 59 (dk_at dksX6_rule_0 16 rfl rfl)
theorem dX6_rule_19 : decode cX6_rule 19 = .ok (.aload_n 0, 1) := dk_42 (dk_at dksX6_rule_0 19 rfl rfl)
theorem dX6_rule_20 : decode cX6_rule 20 = .ok (.getfield 227, 3) := dk_180 0 227 (dk_at dksX6_rule_0 20 rfl rfl)
theorem dX6_rule_23 : decode cX6_rule 23 = .ok (.invokevirtual 254, 3) := dk_182 0 254 (dk_at dksX6_rule_1 0 rfl rfl)
theorem dX6_rule_26 : decode cX6_rule 26 = .ok (.iload_n 1, 1) := dk_27 (dk_at dksX6_rule_1 3 rfl rfl)
theorem dX6_rule_27 : decode cX6_rule 27 = .ok (.ireturn, 1) := dk_172 (dk_at dksX6_rule_1 4 rfl rfl)
abbrev cX6_readsRule : ByteArray := prog_12_method_36_code
def yX6_readsRule : MethodName := ⟨RX6, "readsRule", "()I"⟩
def dkwX6_readsRule_1 : List UInt8 := [4, 167, 0, 4, 3, 61, 42, 27, 16, 40, 28, 182, 0, 213, 172]
abbrev dktX6_readsRule_1 : List UInt8 := dkwX6_readsRule_1 ++ []
def dkwX6_readsRule_0 : List UInt8 := [42, 16, 40, 182, 0, 175, 60, 42, 3, 181, 0, 227, 27, 153, 0, 11, 42, 3, 182, 0, 239, 153, 0, 7]
abbrev dktX6_readsRule_0 : List UInt8 := dkwX6_readsRule_0 ++ dktX6_readsRule_1
theorem dksX6_readsRule_0 : cX6_readsRule.data.toList.drop 0 = dktX6_readsRule_0 := by decide +kernel
theorem dksX6_readsRule_1 : cX6_readsRule.data.toList.drop 24 = dktX6_readsRule_1 := dk_seg dksX6_readsRule_0 24 rfl rfl
theorem dX6_readsRule_0 : decode cX6_readsRule 0 = .ok (.aload_n 0, 1) := dk_42 (dk_at dksX6_readsRule_0 0 rfl rfl)
theorem dX6_readsRule_1 : decode cX6_readsRule 1 = .ok (.bipush 40, 2) := dk_16 40 (dk_at dksX6_readsRule_0 1 rfl rfl)
theorem dX6_readsRule_3 : decode cX6_readsRule 3 = .ok (.invokevirtual 175, 3) := dk_182 0 175 (dk_at dksX6_readsRule_0 3 rfl rfl)
theorem dX6_readsRule_6 : decode cX6_readsRule 6 = .ok (.istore_n 1, 1) := dk_60 (dk_at dksX6_readsRule_0 6 rfl rfl)
theorem dX6_readsRule_7 : decode cX6_readsRule 7 = .ok (.aload_n 0, 1) := dk_42 (dk_at dksX6_readsRule_0 7 rfl rfl)
theorem dX6_readsRule_8 : decode cX6_readsRule 8 = .ok (.iconst 0, 1) := dk_3 (dk_at dksX6_readsRule_0 8 rfl rfl)
theorem dX6_readsRule_9 : decode cX6_readsRule 9 = .ok (.putfield 227, 3) := dk_181 0 227 (dk_at dksX6_readsRule_0 9 rfl rfl)
theorem dX6_readsRule_12 : decode cX6_readsRule 12 = .ok (.iload_n 1, 1) := dk_27 (dk_at dksX6_readsRule_0 12 rfl rfl)
theorem dX6_readsRule_13 : decode cX6_readsRule 13 = .ok (.ifCond .eq 11, 3) := dk_153 0 11 (dk_at dksX6_readsRule_0 13 rfl rfl)
theorem dX6_readsRule_16 : decode cX6_readsRule 16 = .ok (.aload_n 0, 1) := dk_42 (dk_at dksX6_readsRule_0 16 rfl rfl)
theorem dX6_readsRule_17 : decode cX6_readsRule 17 = .ok (.iconst 0, 1) := dk_3 (dk_at dksX6_readsRule_0 17 rfl rfl)
theorem dX6_readsRule_18 : decode cX6_readsRule 18 = .ok (.invokevirtual 239, 3) := dk_182 0 239 (dk_at dksX6_readsRule_0 18 rfl rfl)
theorem dX6_readsRule_21 : decode cX6_readsRule 21 = .ok (.ifCond .eq 7, 3) := dk_153 0 7 (dk_at dksX6_readsRule_0 21 rfl rfl)
theorem dX6_readsRule_24 : decode cX6_readsRule 24 = .ok (.iconst 1, 1) := dk_4 (dk_at dksX6_readsRule_1 0 rfl rfl)
theorem dX6_readsRule_25 : decode cX6_readsRule 25 = .ok (.goto 4, 3) := dk_167 0 4 (dk_at dksX6_readsRule_1 1 rfl rfl)
theorem dX6_readsRule_28 : decode cX6_readsRule 28 = .ok (.iconst 0, 1) := dk_3 (dk_at dksX6_readsRule_1 4 rfl rfl)
theorem dX6_readsRule_29 : decode cX6_readsRule 29 = .ok (.istore_n 2, 1) := dk_61 (dk_at dksX6_readsRule_1 5 rfl rfl)
theorem dX6_readsRule_30 : decode cX6_readsRule 30 = .ok (.aload_n 0, 1) := dk_42 (dk_at dksX6_readsRule_1 6 rfl rfl)
theorem dX6_readsRule_31 : decode cX6_readsRule 31 = .ok (.iload_n 1, 1) := dk_27 (dk_at dksX6_readsRule_1 7 rfl rfl)
theorem dX6_readsRule_32 : decode cX6_readsRule 32 = .ok (.bipush 40, 2) := dk_16 40 (dk_at dksX6_readsRule_1 8 rfl rfl)
theorem dX6_readsRule_34 : decode cX6_readsRule 34 = .ok (.iload_n 2, 1) := dk_28 (dk_at dksX6_readsRule_1 10 rfl rfl)
theorem dX6_readsRule_35 : decode cX6_readsRule 35 = .ok (.invokevirtual 213, 3) := dk_182 0 213 (dk_at dksX6_readsRule_1 11 rfl rfl)
theorem dX6_readsRule_38 : decode cX6_readsRule 38 = .ok (.ireturn, 1) := dk_172 (dk_at dksX6_readsRule_1 14 rfl rfl)
abbrev cX6_readsRank : ByteArray := prog_12_method_35_code
def yX6_readsRank : MethodName := ⟨RX6, "readsRank", "(I)Z"⟩
def dkwX6_readsRank_4 : List UInt8 := [96, 182, 0, 233, 27, 158, 0, 7, 4, 167, 0, 4, 3, 61, 167, 255, 170, 4, 172]
abbrev dktX6_readsRank_4 : List UInt8 := dkwX6_readsRank_4 ++ []
def dkwX6_readsRank_3 : List UInt8 := [42, 17, 7, 208, 29, 96, 27, 154, 0, 7, 3, 167, 0, 13, 27, 4, 160, 0, 7, 6, 167, 0, 4, 8]
abbrev dktX6_readsRank_3 : List UInt8 := dkwX6_readsRank_3 ++ dktX6_readsRank_4
def dkwX6_readsRank_2 : List UInt8 := [18, 246, 182, 0, 184, 62, 29, 156, 0, 5, 4, 172, 42, 27, 4, 96, 182, 0, 239, 154, 0, 5, 3, 172]
abbrev dktX6_readsRank_2 : List UInt8 := dkwX6_readsRank_2 ++ dktX6_readsRank_3
def dkwX6_readsRank_1 : List UInt8 := [28, 153, 0, 88, 42, 27, 154, 0, 8, 18, 242, 167, 0, 15, 27, 4, 160, 0, 8, 18, 244, 167, 0, 5]
abbrev dktX6_readsRank_1 : List UInt8 := dkwX6_readsRank_1 ++ dktX6_readsRank_2
def dkwX6_readsRank_0 : List UInt8 := [27, 6, 160, 0, 8, 42, 182, 0, 230, 172, 42, 27, 4, 96, 182, 0, 239, 154, 0, 5, 3, 172, 4, 61]
abbrev dktX6_readsRank_0 : List UInt8 := dkwX6_readsRank_0 ++ dktX6_readsRank_1
theorem dksX6_readsRank_0 : cX6_readsRank.data.toList.drop 0 = dktX6_readsRank_0 := by decide +kernel
theorem dksX6_readsRank_1 : cX6_readsRank.data.toList.drop 24 = dktX6_readsRank_1 := dk_seg dksX6_readsRank_0 24 rfl rfl
theorem dksX6_readsRank_2 : cX6_readsRank.data.toList.drop 48 = dktX6_readsRank_2 := dk_seg dksX6_readsRank_1 24 rfl rfl
theorem dksX6_readsRank_3 : cX6_readsRank.data.toList.drop 72 = dktX6_readsRank_3 := dk_seg dksX6_readsRank_2 24 rfl rfl
theorem dksX6_readsRank_4 : cX6_readsRank.data.toList.drop 96 = dktX6_readsRank_4 := dk_seg dksX6_readsRank_3 24 rfl rfl
theorem dX6_readsRank_0 : decode cX6_readsRank 0 = .ok (.iload_n 1, 1) := dk_27 (dk_at dksX6_readsRank_0 0 rfl rfl)
theorem dX6_readsRank_1 : decode cX6_readsRank 1 = .ok (.iconst 3, 1) := dk_6 (dk_at dksX6_readsRank_0 1 rfl rfl)
theorem dX6_readsRank_2 : decode cX6_readsRank 2 = .ok (.if_icmp .ne 8, 3) := dk_160 0 8 (dk_at dksX6_readsRank_0 2 rfl rfl)
theorem dX6_readsRank_5 : decode cX6_readsRank 5 = .ok (.aload_n 0, 1) := dk_42 (dk_at dksX6_readsRank_0 5 rfl rfl)
theorem dX6_readsRank_6 : decode cX6_readsRank 6 = .ok (.invokevirtual 230, 3) := dk_182 0 230 (dk_at dksX6_readsRank_0 6 rfl rfl)
theorem dX6_readsRank_9 : decode cX6_readsRank 9 = .ok (.ireturn, 1) := dk_172 (dk_at dksX6_readsRank_0 9 rfl rfl)
theorem dX6_readsRank_10 : decode cX6_readsRank 10 = .ok (.aload_n 0, 1) := dk_42 (dk_at dksX6_readsRank_0 10 rfl rfl)
theorem dX6_readsRank_11 : decode cX6_readsRank 11 = .ok (.iload_n 1, 1) := dk_27 (dk_at dksX6_readsRank_0 11 rfl rfl)
theorem dX6_readsRank_12 : decode cX6_readsRank 12 = .ok (.iconst 1, 1) := dk_4 (dk_at dksX6_readsRank_0 12 rfl rfl)
theorem dX6_readsRank_13 : decode cX6_readsRank 13 = .ok (.iadd, 1) := dk_96 (dk_at dksX6_readsRank_0 13 rfl rfl)
theorem dX6_readsRank_14 : decode cX6_readsRank 14 = .ok (.invokevirtual 239, 3) := dk_182 0 239 (dk_at dksX6_readsRank_0 14 rfl rfl)
theorem dX6_readsRank_17 : decode cX6_readsRank 17 = .ok (.ifCond .ne 5, 3) := dk_154 0 5 (dk_at dksX6_readsRank_0 17 rfl rfl)
theorem dX6_readsRank_20 : decode cX6_readsRank 20 = .ok (.iconst 0, 1) := dk_3 (dk_at dksX6_readsRank_0 20 rfl rfl)
theorem dX6_readsRank_21 : decode cX6_readsRank 21 = .ok (.ireturn, 1) := dk_172 (dk_at dksX6_readsRank_0 21 rfl rfl)
theorem dX6_readsRank_22 : decode cX6_readsRank 22 = .ok (.iconst 1, 1) := dk_4 (dk_at dksX6_readsRank_0 22 rfl rfl)
theorem dX6_readsRank_23 : decode cX6_readsRank 23 = .ok (.istore_n 2, 1) := dk_61 (dk_at dksX6_readsRank_0 23 rfl rfl)
theorem dX6_readsRank_24 : decode cX6_readsRank 24 = .ok (.iload_n 2, 1) := dk_28 (dk_at dksX6_readsRank_1 0 rfl rfl)
theorem dX6_readsRank_25 : decode cX6_readsRank 25 = .ok (.ifCond .eq 88, 3) := dk_153 0 88 (dk_at dksX6_readsRank_1 1 rfl rfl)
theorem dX6_readsRank_28 : decode cX6_readsRank 28 = .ok (.aload_n 0, 1) := dk_42 (dk_at dksX6_readsRank_1 4 rfl rfl)
theorem dX6_readsRank_29 : decode cX6_readsRank 29 = .ok (.iload_n 1, 1) := dk_27 (dk_at dksX6_readsRank_1 5 rfl rfl)
theorem dX6_readsRank_30 : decode cX6_readsRank 30 = .ok (.ifCond .ne 8, 3) := dk_154 0 8 (dk_at dksX6_readsRank_1 6 rfl rfl)
theorem dX6_readsRank_33 : decode cX6_readsRank 33 = .ok (.ldc 242, 2) := dk_18 242 (dk_at dksX6_readsRank_1 9 rfl rfl)
theorem dX6_readsRank_35 : decode cX6_readsRank 35 = .ok (.goto 15, 3) := dk_167 0 15 (dk_at dksX6_readsRank_1 11 rfl rfl)
theorem dX6_readsRank_38 : decode cX6_readsRank 38 = .ok (.iload_n 1, 1) := dk_27 (dk_at dksX6_readsRank_1 14 rfl rfl)
theorem dX6_readsRank_39 : decode cX6_readsRank 39 = .ok (.iconst 1, 1) := dk_4 (dk_at dksX6_readsRank_1 15 rfl rfl)
theorem dX6_readsRank_40 : decode cX6_readsRank 40 = .ok (.if_icmp .ne 8, 3) := dk_160 0 8 (dk_at dksX6_readsRank_1 16 rfl rfl)
theorem dX6_readsRank_43 : decode cX6_readsRank 43 = .ok (.ldc 244, 2) := dk_18 244 (dk_at dksX6_readsRank_1 19 rfl rfl)
theorem dX6_readsRank_45 : decode cX6_readsRank 45 = .ok (.goto 5, 3) := dk_167 0 5 (dk_at dksX6_readsRank_1 21 rfl rfl)
theorem dX6_readsRank_48 : decode cX6_readsRank 48 = .ok (.ldc 246, 2) := dk_18 246 (dk_at dksX6_readsRank_2 0 rfl rfl)
theorem dX6_readsRank_50 : decode cX6_readsRank 50 = .ok (.invokevirtual 184, 3) := dk_182 0 184 (dk_at dksX6_readsRank_2 2 rfl rfl)
theorem dX6_readsRank_53 : decode cX6_readsRank 53 = .ok (.istore_n 3, 1) := dk_62 (dk_at dksX6_readsRank_2 5 rfl rfl)
theorem dX6_readsRank_54 : decode cX6_readsRank 54 = .ok (.iload_n 3, 1) := dk_29 (dk_at dksX6_readsRank_2 6 rfl rfl)
theorem dX6_readsRank_55 : decode cX6_readsRank 55 = .ok (.ifCond .ge 5, 3) := dk_156 0 5 (dk_at dksX6_readsRank_2 7 rfl rfl)
theorem dX6_readsRank_58 : decode cX6_readsRank 58 = .ok (.iconst 1, 1) := dk_4 (dk_at dksX6_readsRank_2 10 rfl rfl)
theorem dX6_readsRank_59 : decode cX6_readsRank 59 = .ok (.ireturn, 1) := dk_172 (dk_at dksX6_readsRank_2 11 rfl rfl)
theorem dX6_readsRank_60 : decode cX6_readsRank 60 = .ok (.aload_n 0, 1) := dk_42 (dk_at dksX6_readsRank_2 12 rfl rfl)
theorem dX6_readsRank_61 : decode cX6_readsRank 61 = .ok (.iload_n 1, 1) := dk_27 (dk_at dksX6_readsRank_2 13 rfl rfl)
theorem dX6_readsRank_62 : decode cX6_readsRank 62 = .ok (.iconst 1, 1) := dk_4 (dk_at dksX6_readsRank_2 14 rfl rfl)
theorem dX6_readsRank_63 : decode cX6_readsRank 63 = .ok (.iadd, 1) := dk_96 (dk_at dksX6_readsRank_2 15 rfl rfl)
theorem dX6_readsRank_64 : decode cX6_readsRank 64 = .ok (.invokevirtual 239, 3) := dk_182 0 239 (dk_at dksX6_readsRank_2 16 rfl rfl)
theorem dX6_readsRank_67 : decode cX6_readsRank 67 = .ok (.ifCond .ne 5, 3) := dk_154 0 5 (dk_at dksX6_readsRank_2 19 rfl rfl)
theorem dX6_readsRank_70 : decode cX6_readsRank 70 = .ok (.iconst 0, 1) := dk_3 (dk_at dksX6_readsRank_2 22 rfl rfl)
theorem dX6_readsRank_71 : decode cX6_readsRank 71 = .ok (.ireturn, 1) := dk_172 (dk_at dksX6_readsRank_2 23 rfl rfl)
theorem dX6_readsRank_72 : decode cX6_readsRank 72 = .ok (.aload_n 0, 1) := dk_42 (dk_at dksX6_readsRank_3 0 rfl rfl)
theorem dX6_readsRank_73 : decode cX6_readsRank 73 = .ok (.sipush 2000, 3) := dk_17 7 208 (dk_at dksX6_readsRank_3 1 rfl rfl)
theorem dX6_readsRank_76 : decode cX6_readsRank 76 = .ok (.iload_n 3, 1) := dk_29 (dk_at dksX6_readsRank_3 4 rfl rfl)
theorem dX6_readsRank_77 : decode cX6_readsRank 77 = .ok (.iadd, 1) := dk_96 (dk_at dksX6_readsRank_3 5 rfl rfl)
theorem dX6_readsRank_78 : decode cX6_readsRank 78 = .ok (.iload_n 1, 1) := dk_27 (dk_at dksX6_readsRank_3 6 rfl rfl)
theorem dX6_readsRank_79 : decode cX6_readsRank 79 = .ok (.ifCond .ne 7, 3) := dk_154 0 7 (dk_at dksX6_readsRank_3 7 rfl rfl)
theorem dX6_readsRank_82 : decode cX6_readsRank 82 = .ok (.iconst 0, 1) := dk_3 (dk_at dksX6_readsRank_3 10 rfl rfl)
theorem dX6_readsRank_83 : decode cX6_readsRank 83 = .ok (.goto 13, 3) := dk_167 0 13 (dk_at dksX6_readsRank_3 11 rfl rfl)
theorem dX6_readsRank_86 : decode cX6_readsRank 86 = .ok (.iload_n 1, 1) := dk_27 (dk_at dksX6_readsRank_3 14 rfl rfl)
theorem dX6_readsRank_87 : decode cX6_readsRank 87 = .ok (.iconst 1, 1) := dk_4 (dk_at dksX6_readsRank_3 15 rfl rfl)
theorem dX6_readsRank_88 : decode cX6_readsRank 88 = .ok (.if_icmp .ne 7, 3) := dk_160 0 7 (dk_at dksX6_readsRank_3 16 rfl rfl)
theorem dX6_readsRank_91 : decode cX6_readsRank 91 = .ok (.iconst 3, 1) := dk_6 (dk_at dksX6_readsRank_3 19 rfl rfl)
theorem dX6_readsRank_92 : decode cX6_readsRank 92 = .ok (.goto 4, 3) := dk_167 0 4 (dk_at dksX6_readsRank_3 20 rfl rfl)
theorem dX6_readsRank_95 : decode cX6_readsRank 95 = .ok (.iconst 5, 1) := dk_8 (dk_at dksX6_readsRank_3 23 rfl rfl)
theorem dX6_readsRank_96 : decode cX6_readsRank 96 = .ok (.iadd, 1) := dk_96 (dk_at dksX6_readsRank_4 0 rfl rfl)
theorem dX6_readsRank_97 : decode cX6_readsRank 97 = .ok (.invokevirtual 233, 3) := dk_182 0 233 (dk_at dksX6_readsRank_4 1 rfl rfl)
theorem dX6_readsRank_100 : decode cX6_readsRank 100 = .ok (.iload_n 1, 1) := dk_27 (dk_at dksX6_readsRank_4 4 rfl rfl)
theorem dX6_readsRank_101 : decode cX6_readsRank 101 = .ok (.ifCond .le 7, 3) := dk_158 0 7 (dk_at dksX6_readsRank_4 5 rfl rfl)
theorem dX6_readsRank_104 : decode cX6_readsRank 104 = .ok (.iconst 1, 1) := dk_4 (dk_at dksX6_readsRank_4 8 rfl rfl)
theorem dX6_readsRank_105 : decode cX6_readsRank 105 = .ok (.goto 4, 3) := dk_167 0 4 (dk_at dksX6_readsRank_4 9 rfl rfl)
theorem dX6_readsRank_108 : decode cX6_readsRank 108 = .ok (.iconst 0, 1) := dk_3 (dk_at dksX6_readsRank_4 12 rfl rfl)
theorem dX6_readsRank_109 : decode cX6_readsRank 109 = .ok (.istore_n 2, 1) := dk_61 (dk_at dksX6_readsRank_4 13 rfl rfl)
theorem dX6_readsRank_110 : decode cX6_readsRank 110 = .ok (.goto (-86), 3) := dk_167 255 170 (dk_at dksX6_readsRank_4 14 rfl rfl)
theorem dX6_readsRank_113 : decode cX6_readsRank 113 = .ok (.iconst 1, 1) := dk_4 (dk_at dksX6_readsRank_4 17 rfl rfl)
theorem dX6_readsRank_114 : decode cX6_readsRank 114 = .ok (.ireturn, 1) := dk_172 (dk_at dksX6_readsRank_4 18 rfl rfl)
abbrev cX6_readsAsked : ByteArray := prog_12_method_34_code
def yX6_readsAsked : MethodName := ⟨RX6, "readsAsked", "()Z"⟩
def dkwX6_readsAsked_5 : List UInt8 := [181, 0, 142, 4, 172]
abbrev dktX6_readsAsked_5 : List UInt8 := dkwX6_readsAsked_5 ++ []
def dkwX6_readsAsked_4 : List UInt8 := [182, 0, 239, 153, 0, 12, 42, 16, 41, 182, 0, 209, 154, 0, 5, 3, 172, 42, 89, 180, 0, 142, 4, 100]
abbrev dktX6_readsAsked_4 : List UInt8 := dkwX6_readsAsked_4 ++ dktX6_readsAsked_5
def dkwX6_readsAsked_3 : List UInt8 := [16, 40, 182, 0, 209, 154, 0, 5, 3, 172, 42, 89, 180, 0, 142, 4, 96, 181, 0, 142, 42, 3]
abbrev dktX6_readsAsked_3 : List UInt8 := dkwX6_readsAsked_3 ++ dktX6_readsAsked_4
def dkwX6_readsAsked_2 : List UInt8 := [27, 155, 0, 14, 42, 17, 3, 232, 27, 96, 182, 0, 233, 4, 172, 42, 180, 0, 142, 7, 159, 0, 12, 42]
abbrev dktX6_readsAsked_2 : List UInt8 := dkwX6_readsAsked_2 ++ dktX6_readsAsked_3
def dkwX6_readsAsked_1 : List UInt8 := [182, 0, 171, 153, 0, 14, 42, 42, 6, 182, 0, 224, 182, 0, 233, 4, 172, 42, 18, 237, 182, 0, 184, 60]
abbrev dktX6_readsAsked_1 : List UInt8 := dkwX6_readsAsked_1 ++ dktX6_readsAsked_2
def dkwX6_readsAsked_0 : List UInt8 := [42, 16, 45, 182, 0, 209, 153, 0, 17, 42, 182, 0, 230, 60, 42, 17, 11, 184, 182, 0, 233, 27, 172, 42]
abbrev dktX6_readsAsked_0 : List UInt8 := dkwX6_readsAsked_0 ++ dktX6_readsAsked_1
theorem dksX6_readsAsked_0 : cX6_readsAsked.data.toList.drop 0 = dktX6_readsAsked_0 := by decide +kernel
theorem dksX6_readsAsked_1 : cX6_readsAsked.data.toList.drop 24 = dktX6_readsAsked_1 := dk_seg dksX6_readsAsked_0 24 rfl rfl
theorem dksX6_readsAsked_2 : cX6_readsAsked.data.toList.drop 48 = dktX6_readsAsked_2 := dk_seg dksX6_readsAsked_1 24 rfl rfl
theorem dksX6_readsAsked_3 : cX6_readsAsked.data.toList.drop 72 = dktX6_readsAsked_3 := dk_seg dksX6_readsAsked_2 24 rfl rfl
theorem dksX6_readsAsked_4 : cX6_readsAsked.data.toList.drop 94 = dktX6_readsAsked_4 := dk_seg dksX6_readsAsked_3 22 rfl rfl
theorem dksX6_readsAsked_5 : cX6_readsAsked.data.toList.drop 118 = dktX6_readsAsked_5 := dk_seg dksX6_readsAsked_4 24 rfl rfl
theorem dX6_readsAsked_0 : decode cX6_readsAsked 0 = .ok (.aload_n 0, 1) := dk_42 (dk_at dksX6_readsAsked_0 0 rfl rfl)
theorem dX6_readsAsked_1 : decode cX6_readsAsked 1 = .ok (.bipush 45, 2) := dk_16 45 (dk_at dksX6_readsAsked_0 1 rfl rfl)
theorem dX6_readsAsked_3 : decode cX6_readsAsked 3 = .ok (.invokevirtual 209, 3) := dk_182 0 209 (dk_at dksX6_readsAsked_0 3 rfl rfl)
theorem dX6_readsAsked_6 : decode cX6_readsAsked 6 = .ok (.ifCond .eq 17, 3) := dk_153 0 17 (dk_at dksX6_readsAsked_0 6 rfl rfl)
theorem dX6_readsAsked_9 : decode cX6_readsAsked 9 = .ok (.aload_n 0, 1) := dk_42 (dk_at dksX6_readsAsked_0 9 rfl rfl)
theorem dX6_readsAsked_10 : decode cX6_readsAsked 10 = .ok (.invokevirtual 230, 3) := dk_182 0 230 (dk_at dksX6_readsAsked_0 10 rfl rfl)
theorem dX6_readsAsked_13 : decode cX6_readsAsked 13 = .ok (.istore_n 1, 1) := dk_60 (dk_at dksX6_readsAsked_0 13 rfl rfl)
theorem dX6_readsAsked_14 : decode cX6_readsAsked 14 = .ok (.aload_n 0, 1) := dk_42 (dk_at dksX6_readsAsked_0 14 rfl rfl)
theorem dX6_readsAsked_15 : decode cX6_readsAsked 15 = .ok (.sipush 3000, 3) := dk_17 11 184 (dk_at dksX6_readsAsked_0 15 rfl rfl)
theorem dX6_readsAsked_18 : decode cX6_readsAsked 18 = .ok (.invokevirtual 233, 3) := dk_182 0 233 (dk_at dksX6_readsAsked_0 18 rfl rfl)
theorem dX6_readsAsked_21 : decode cX6_readsAsked 21 = .ok (.iload_n 1, 1) := dk_27 (dk_at dksX6_readsAsked_0 21 rfl rfl)
theorem dX6_readsAsked_22 : decode cX6_readsAsked 22 = .ok (.ireturn, 1) := dk_172 (dk_at dksX6_readsAsked_0 22 rfl rfl)
theorem dX6_readsAsked_23 : decode cX6_readsAsked 23 = .ok (.aload_n 0, 1) := dk_42 (dk_at dksX6_readsAsked_0 23 rfl rfl)
theorem dX6_readsAsked_24 : decode cX6_readsAsked 24 = .ok (.invokevirtual 171, 3) := dk_182 0 171 (dk_at dksX6_readsAsked_1 0 rfl rfl)
theorem dX6_readsAsked_27 : decode cX6_readsAsked 27 = .ok (.ifCond .eq 14, 3) := dk_153 0 14 (dk_at dksX6_readsAsked_1 3 rfl rfl)
theorem dX6_readsAsked_30 : decode cX6_readsAsked 30 = .ok (.aload_n 0, 1) := dk_42 (dk_at dksX6_readsAsked_1 6 rfl rfl)
theorem dX6_readsAsked_31 : decode cX6_readsAsked 31 = .ok (.aload_n 0, 1) := dk_42 (dk_at dksX6_readsAsked_1 7 rfl rfl)
theorem dX6_readsAsked_32 : decode cX6_readsAsked 32 = .ok (.iconst 3, 1) := dk_6 (dk_at dksX6_readsAsked_1 8 rfl rfl)
theorem dX6_readsAsked_33 : decode cX6_readsAsked 33 = .ok (.invokevirtual 224, 3) := dk_182 0 224 (dk_at dksX6_readsAsked_1 9 rfl rfl)
theorem dX6_readsAsked_36 : decode cX6_readsAsked 36 = .ok (.invokevirtual 233, 3) := dk_182 0 233 (dk_at dksX6_readsAsked_1 12 rfl rfl)
theorem dX6_readsAsked_39 : decode cX6_readsAsked 39 = .ok (.iconst 1, 1) := dk_4 (dk_at dksX6_readsAsked_1 15 rfl rfl)
theorem dX6_readsAsked_40 : decode cX6_readsAsked 40 = .ok (.ireturn, 1) := dk_172 (dk_at dksX6_readsAsked_1 16 rfl rfl)
theorem dX6_readsAsked_41 : decode cX6_readsAsked 41 = .ok (.aload_n 0, 1) := dk_42 (dk_at dksX6_readsAsked_1 17 rfl rfl)
theorem dX6_readsAsked_42 : decode cX6_readsAsked 42 = .ok (.ldc 237, 2) := dk_18 237 (dk_at dksX6_readsAsked_1 18 rfl rfl)
theorem dX6_readsAsked_44 : decode cX6_readsAsked 44 = .ok (.invokevirtual 184, 3) := dk_182 0 184 (dk_at dksX6_readsAsked_1 20 rfl rfl)
theorem dX6_readsAsked_47 : decode cX6_readsAsked 47 = .ok (.istore_n 1, 1) := dk_60 (dk_at dksX6_readsAsked_1 23 rfl rfl)
theorem dX6_readsAsked_48 : decode cX6_readsAsked 48 = .ok (.iload_n 1, 1) := dk_27 (dk_at dksX6_readsAsked_2 0 rfl rfl)
theorem dX6_readsAsked_49 : decode cX6_readsAsked 49 = .ok (.ifCond .lt 14, 3) := dk_155 0 14 (dk_at dksX6_readsAsked_2 1 rfl rfl)
theorem dX6_readsAsked_52 : decode cX6_readsAsked 52 = .ok (.aload_n 0, 1) := dk_42 (dk_at dksX6_readsAsked_2 4 rfl rfl)
theorem dX6_readsAsked_53 : decode cX6_readsAsked 53 = .ok (.sipush 1000, 3) := dk_17 3 232 (dk_at dksX6_readsAsked_2 5 rfl rfl)
theorem dX6_readsAsked_56 : decode cX6_readsAsked 56 = .ok (.iload_n 1, 1) := dk_27 (dk_at dksX6_readsAsked_2 8 rfl rfl)
theorem dX6_readsAsked_57 : decode cX6_readsAsked 57 = .ok (.iadd, 1) := dk_96 (dk_at dksX6_readsAsked_2 9 rfl rfl)
theorem dX6_readsAsked_58 : decode cX6_readsAsked 58 = .ok (.invokevirtual 233, 3) := dk_182 0 233 (dk_at dksX6_readsAsked_2 10 rfl rfl)
theorem dX6_readsAsked_61 : decode cX6_readsAsked 61 = .ok (.iconst 1, 1) := dk_4 (dk_at dksX6_readsAsked_2 13 rfl rfl)
theorem dX6_readsAsked_62 : decode cX6_readsAsked 62 = .ok (.ireturn, 1) := dk_172 (dk_at dksX6_readsAsked_2 14 rfl rfl)
theorem dX6_readsAsked_63 : decode cX6_readsAsked 63 = .ok (.aload_n 0, 1) := dk_42 (dk_at dksX6_readsAsked_2 15 rfl rfl)
theorem dX6_readsAsked_64 : decode cX6_readsAsked 64 = .ok (.getfield 142, 3) := dk_180 0 142 (dk_at dksX6_readsAsked_2 16 rfl rfl)
theorem dX6_readsAsked_67 : decode cX6_readsAsked 67 = .ok (.iconst 4, 1) := dk_7 (dk_at dksX6_readsAsked_2 19 rfl rfl)
theorem dX6_readsAsked_68 : decode cX6_readsAsked 68 = .ok (.if_icmp .eq 12, 3) := dk_159 0 12 (dk_at dksX6_readsAsked_2 20 rfl rfl)
theorem dX6_readsAsked_71 : decode cX6_readsAsked 71 = .ok (.aload_n 0, 1) := dk_42 (dk_at dksX6_readsAsked_2 23 rfl rfl)
theorem dX6_readsAsked_72 : decode cX6_readsAsked 72 = .ok (.bipush 40, 2) := dk_16 40 (dk_at dksX6_readsAsked_3 0 rfl rfl)
theorem dX6_readsAsked_74 : decode cX6_readsAsked 74 = .ok (.invokevirtual 209, 3) := dk_182 0 209 (dk_at dksX6_readsAsked_3 2 rfl rfl)
theorem dX6_readsAsked_77 : decode cX6_readsAsked 77 = .ok (.ifCond .ne 5, 3) := dk_154 0 5 (dk_at dksX6_readsAsked_3 5 rfl rfl)
theorem dX6_readsAsked_80 : decode cX6_readsAsked 80 = .ok (.iconst 0, 1) := dk_3 (dk_at dksX6_readsAsked_3 8 rfl rfl)
theorem dX6_readsAsked_81 : decode cX6_readsAsked 81 = .ok (.ireturn, 1) := dk_172 (dk_at dksX6_readsAsked_3 9 rfl rfl)
theorem dX6_readsAsked_82 : decode cX6_readsAsked 82 = .ok (.aload_n 0, 1) := dk_42 (dk_at dksX6_readsAsked_3 10 rfl rfl)
theorem dX6_readsAsked_83 : decode cX6_readsAsked 83 = .ok (.dup, 1) := dk_89 (dk_at dksX6_readsAsked_3 11 rfl rfl)
theorem dX6_readsAsked_84 : decode cX6_readsAsked 84 = .ok (.getfield 142, 3) := dk_180 0 142 (dk_at dksX6_readsAsked_3 12 rfl rfl)
theorem dX6_readsAsked_87 : decode cX6_readsAsked 87 = .ok (.iconst 1, 1) := dk_4 (dk_at dksX6_readsAsked_3 15 rfl rfl)
theorem dX6_readsAsked_88 : decode cX6_readsAsked 88 = .ok (.iadd, 1) := dk_96 (dk_at dksX6_readsAsked_3 16 rfl rfl)
theorem dX6_readsAsked_89 : decode cX6_readsAsked 89 = .ok (.putfield 142, 3) := dk_181 0 142 (dk_at dksX6_readsAsked_3 17 rfl rfl)
theorem dX6_readsAsked_92 : decode cX6_readsAsked 92 = .ok (.aload_n 0, 1) := dk_42 (dk_at dksX6_readsAsked_3 20 rfl rfl)
theorem dX6_readsAsked_93 : decode cX6_readsAsked 93 = .ok (.iconst 0, 1) := dk_3 (dk_at dksX6_readsAsked_3 21 rfl rfl)
theorem dX6_readsAsked_94 : decode cX6_readsAsked 94 = .ok (.invokevirtual 239, 3) := dk_182 0 239 (dk_at dksX6_readsAsked_4 0 rfl rfl)
theorem dX6_readsAsked_97 : decode cX6_readsAsked 97 = .ok (.ifCond .eq 12, 3) := dk_153 0 12 (dk_at dksX6_readsAsked_4 3 rfl rfl)
theorem dX6_readsAsked_100 : decode cX6_readsAsked 100 = .ok (.aload_n 0, 1) := dk_42 (dk_at dksX6_readsAsked_4 6 rfl rfl)
theorem dX6_readsAsked_101 : decode cX6_readsAsked 101 = .ok (.bipush 41, 2) := dk_16 41 (dk_at dksX6_readsAsked_4 7 rfl rfl)
theorem dX6_readsAsked_103 : decode cX6_readsAsked 103 = .ok (.invokevirtual 209, 3) := dk_182 0 209 (dk_at dksX6_readsAsked_4 9 rfl rfl)
theorem dX6_readsAsked_106 : decode cX6_readsAsked 106 = .ok (.ifCond .ne 5, 3) := dk_154 0 5 (dk_at dksX6_readsAsked_4 12 rfl rfl)
theorem dX6_readsAsked_109 : decode cX6_readsAsked 109 = .ok (.iconst 0, 1) := dk_3 (dk_at dksX6_readsAsked_4 15 rfl rfl)
theorem dX6_readsAsked_110 : decode cX6_readsAsked 110 = .ok (.ireturn, 1) := dk_172 (dk_at dksX6_readsAsked_4 16 rfl rfl)
theorem dX6_readsAsked_111 : decode cX6_readsAsked 111 = .ok (.aload_n 0, 1) := dk_42 (dk_at dksX6_readsAsked_4 17 rfl rfl)
theorem dX6_readsAsked_112 : decode cX6_readsAsked 112 = .ok (.dup, 1) := dk_89 (dk_at dksX6_readsAsked_4 18 rfl rfl)
theorem dX6_readsAsked_113 : decode cX6_readsAsked 113 = .ok (.getfield 142, 3) := dk_180 0 142 (dk_at dksX6_readsAsked_4 19 rfl rfl)
theorem dX6_readsAsked_116 : decode cX6_readsAsked 116 = .ok (.iconst 1, 1) := dk_4 (dk_at dksX6_readsAsked_4 22 rfl rfl)
theorem dX6_readsAsked_117 : decode cX6_readsAsked 117 = .ok (.isub, 1) := dk_100 (dk_at dksX6_readsAsked_4 23 rfl rfl)
theorem dX6_readsAsked_118 : decode cX6_readsAsked 118 = .ok (.putfield 142, 3) := dk_181 0 142 (dk_at dksX6_readsAsked_5 0 rfl rfl)
theorem dX6_readsAsked_121 : decode cX6_readsAsked 121 = .ok (.iconst 1, 1) := dk_4 (dk_at dksX6_readsAsked_5 3 rfl rfl)
theorem dX6_readsAsked_122 : decode cX6_readsAsked 122 = .ok (.ireturn, 1) := dk_172 (dk_at dksX6_readsAsked_5 4 rfl rfl)
abbrev cX6_codes : ByteArray := prog_12_method_33_code
def yX6_codes : MethodName := ⟨RX6, "codes", "(I)V"⟩
def dkwX6_codes_0 : List UInt8 := [42, 180, 0, 59, 42, 180, 0, 227, 27, 79, 42, 89, 180, 0, 227, 4, 96, 181, 0, 227, 177]
abbrev dktX6_codes_0 : List UInt8 := dkwX6_codes_0 ++ []
theorem dksX6_codes_0 : cX6_codes.data.toList.drop 0 = dktX6_codes_0 := by decide +kernel
theorem dX6_codes_0 : decode cX6_codes 0 = .ok (.aload_n 0, 1) := dk_42 (dk_at dksX6_codes_0 0 rfl rfl)
theorem dX6_codes_1 : decode cX6_codes 1 = .ok (.getfield 59, 3) := dk_180 0 59 (dk_at dksX6_codes_0 1 rfl rfl)
theorem dX6_codes_4 : decode cX6_codes 4 = .ok (.aload_n 0, 1) := dk_42 (dk_at dksX6_codes_0 4 rfl rfl)
theorem dX6_codes_5 : decode cX6_codes 5 = .ok (.getfield 227, 3) := dk_180 0 227 (dk_at dksX6_codes_0 5 rfl rfl)
theorem dX6_codes_8 : decode cX6_codes 8 = .ok (.iload_n 1, 1) := dk_27 (dk_at dksX6_codes_0 8 rfl rfl)
theorem dX6_codes_9 : decode cX6_codes 9 = .ok (.iastore, 1) := dk_79 (dk_at dksX6_codes_0 9 rfl rfl)
theorem dX6_codes_10 : decode cX6_codes 10 = .ok (.aload_n 0, 1) := dk_42 (dk_at dksX6_codes_0 10 rfl rfl)
theorem dX6_codes_11 : decode cX6_codes 11 = .ok (.dup, 1) := dk_89 (dk_at dksX6_codes_0 11 rfl rfl)
theorem dX6_codes_12 : decode cX6_codes 12 = .ok (.getfield 227, 3) := dk_180 0 227 (dk_at dksX6_codes_0 12 rfl rfl)
theorem dX6_codes_15 : decode cX6_codes 15 = .ok (.iconst 1, 1) := dk_4 (dk_at dksX6_codes_0 15 rfl rfl)
theorem dX6_codes_16 : decode cX6_codes 16 = .ok (.iadd, 1) := dk_96 (dk_at dksX6_codes_0 16 rfl rfl)
theorem dX6_codes_17 : decode cX6_codes 17 = .ok (.putfield 227, 3) := dk_181 0 227 (dk_at dksX6_codes_0 17 rfl rfl)
theorem dX6_codes_20 : decode cX6_codes 20 = .ok (.return_, 1) := dk_177 (dk_at dksX6_codes_0 20 rfl rfl)
abbrev cX6_laysCode : ByteArray := prog_12_method_37_code
def yX6_laysCode : MethodName := ⟨RX6, "laysCode", "([II)V"⟩
def dkwX6_laysCode_1 : List UInt8 := [167, 255, 239, 177]
abbrev dktX6_laysCode_1 : List UInt8 := dkwX6_laysCode_1 ++ []
def dkwX6_laysCode_0 : List UInt8 := [42, 28, 181, 0, 248, 3, 62, 29, 28, 162, 0, 18, 42, 180, 0, 56, 29, 43, 29, 46, 79, 132, 3, 1]
abbrev dktX6_laysCode_0 : List UInt8 := dkwX6_laysCode_0 ++ dktX6_laysCode_1
theorem dksX6_laysCode_0 : cX6_laysCode.data.toList.drop 0 = dktX6_laysCode_0 := by decide +kernel
theorem dksX6_laysCode_1 : cX6_laysCode.data.toList.drop 24 = dktX6_laysCode_1 := dk_seg dksX6_laysCode_0 24 rfl rfl
theorem dX6_laysCode_0 : decode cX6_laysCode 0 = .ok (.aload_n 0, 1) := dk_42 (dk_at dksX6_laysCode_0 0 rfl rfl)
theorem dX6_laysCode_1 : decode cX6_laysCode 1 = .ok (.iload_n 2, 1) := dk_28 (dk_at dksX6_laysCode_0 1 rfl rfl)
theorem dX6_laysCode_2 : decode cX6_laysCode 2 = .ok (.putfield 248, 3) := dk_181 0 248 (dk_at dksX6_laysCode_0 2 rfl rfl)
theorem dX6_laysCode_5 : decode cX6_laysCode 5 = .ok (.iconst 0, 1) := dk_3 (dk_at dksX6_laysCode_0 5 rfl rfl)
theorem dX6_laysCode_6 : decode cX6_laysCode 6 = .ok (.istore_n 3, 1) := dk_62 (dk_at dksX6_laysCode_0 6 rfl rfl)
theorem dX6_laysCode_7 : decode cX6_laysCode 7 = .ok (.iload_n 3, 1) := dk_29 (dk_at dksX6_laysCode_0 7 rfl rfl)
theorem dX6_laysCode_8 : decode cX6_laysCode 8 = .ok (.iload_n 2, 1) := dk_28 (dk_at dksX6_laysCode_0 8 rfl rfl)
theorem dX6_laysCode_9 : decode cX6_laysCode 9 = .ok (.if_icmp .ge 18, 3) := dk_162 0 18 (dk_at dksX6_laysCode_0 9 rfl rfl)
theorem dX6_laysCode_12 : decode cX6_laysCode 12 = .ok (.aload_n 0, 1) := dk_42 (dk_at dksX6_laysCode_0 12 rfl rfl)
theorem dX6_laysCode_13 : decode cX6_laysCode 13 = .ok (.getfield 56, 3) := dk_180 0 56 (dk_at dksX6_laysCode_0 13 rfl rfl)
theorem dX6_laysCode_16 : decode cX6_laysCode 16 = .ok (.iload_n 3, 1) := dk_29 (dk_at dksX6_laysCode_0 16 rfl rfl)
theorem dX6_laysCode_17 : decode cX6_laysCode 17 = .ok (.aload_n 1, 1) := dk_43 (dk_at dksX6_laysCode_0 17 rfl rfl)
theorem dX6_laysCode_18 : decode cX6_laysCode 18 = .ok (.iload_n 3, 1) := dk_29 (dk_at dksX6_laysCode_0 18 rfl rfl)
theorem dX6_laysCode_19 : decode cX6_laysCode 19 = .ok (.iaload, 1) := dk_46 (dk_at dksX6_laysCode_0 19 rfl rfl)
theorem dX6_laysCode_20 : decode cX6_laysCode 20 = .ok (.iastore, 1) := dk_79 (dk_at dksX6_laysCode_0 20 rfl rfl)
theorem dX6_laysCode_21 : decode cX6_laysCode 21 = .ok (.iinc 3 1, 3) := dk_132 3 1 (dk_at dksX6_laysCode_0 21 rfl rfl)
theorem dX6_laysCode_24 : decode cX6_laysCode 24 = .ok (.goto (-17), 3) := dk_167 255 239 (dk_at dksX6_laysCode_1 0 rfl rfl)
theorem dX6_laysCode_27 : decode cX6_laysCode 27 = .ok (.return_, 1) := dk_177 (dk_at dksX6_laysCode_1 3 rfl rfl)
abbrev cX6_person : ByteArray := prog_12_method_56_code
def yX6_person : MethodName := ⟨RX6, "person", "(II)I"⟩
def dkwX6_person_6 : List UInt8 := [182, 1, 67, 172]
abbrev dktX6_person_6 : List UInt8 := dkwX6_person_6 ++ []
def dkwX6_person_5 : List UInt8 := [16, 16, 27, 96, 46, 182, 1, 36, 172, 42, 42, 180, 0, 41, 42, 42, 180, 0, 41, 27, 182, 1, 44]
abbrev dktX6_person_5 : List UInt8 := dkwX6_person_5 ++ dktX6_person_6
def dkwX6_person_4 : List UInt8 := [96, 46, 172, 42, 180, 0, 41, 16, 24, 27, 96, 46, 172, 42, 42, 180, 0, 41, 27, 42, 180, 0, 41]
abbrev dktX6_person_4 : List UInt8 := dkwX6_person_4 ++ dktX6_person_5
def dkwX6_person_3 : List UInt8 := [42, 180, 0, 41, 27, 46, 172, 42, 180, 0, 41, 16, 8, 27, 96, 46, 172, 42, 180, 0, 41, 16, 16, 27]
abbrev dktX6_person_3 : List UInt8 := dkwX6_person_3 ++ dktX6_person_4
def dkwX6_person_2 : List UInt8 := [170, 0, 0, 0, 89, 0, 0, 0, 0, 0, 0, 0, 4, 0, 0, 0, 33, 0, 0, 0, 40, 0, 0, 0, 50, 0, 0, 0, 60, 0, 0, 0, 70]
abbrev dktX6_person_2 : List UInt8 := dkwX6_person_2 ++ dktX6_person_3
def dkwX6_person_1 : List UInt8 := [154, 0, 8, 42, 182, 1, 64, 172, 28]
abbrev dktX6_person_1 : List UInt8 := dkwX6_person_1 ++ dktX6_person_2
def dkwX6_person_0 : List UInt8 := [42, 3, 181, 0, 3, 42, 27, 182, 1, 59, 153, 0, 15, 28, 133, 9, 20, 1, 62, 184, 0, 126]
abbrev dktX6_person_0 : List UInt8 := dkwX6_person_0 ++ dktX6_person_1
theorem dksX6_person_0 : cX6_person.data.toList.drop 0 = dktX6_person_0 := by decide +kernel
theorem dksX6_person_1 : cX6_person.data.toList.drop 22 = dktX6_person_1 := dk_seg dksX6_person_0 22 rfl rfl
theorem dksX6_person_2 : cX6_person.data.toList.drop 31 = dktX6_person_2 := dk_seg dksX6_person_1 9 rfl rfl
theorem dksX6_person_3 : cX6_person.data.toList.drop 64 = dktX6_person_3 := dk_seg dksX6_person_2 33 rfl rfl
theorem dksX6_person_4 : cX6_person.data.toList.drop 88 = dktX6_person_4 := dk_seg dksX6_person_3 24 rfl rfl
theorem dksX6_person_5 : cX6_person.data.toList.drop 111 = dktX6_person_5 := dk_seg dksX6_person_4 23 rfl rfl
theorem dksX6_person_6 : cX6_person.data.toList.drop 134 = dktX6_person_6 := dk_seg dksX6_person_5 23 rfl rfl
theorem dX6_person_0 : decode cX6_person 0 = .ok (.aload_n 0, 1) := dk_42 (dk_at dksX6_person_0 0 rfl rfl)
theorem dX6_person_1 : decode cX6_person 1 = .ok (.iconst 0, 1) := dk_3 (dk_at dksX6_person_0 1 rfl rfl)
theorem dX6_person_2 : decode cX6_person 2 = .ok (.putfield 3, 3) := dk_181 0 3 (dk_at dksX6_person_0 2 rfl rfl)
theorem dX6_person_5 : decode cX6_person 5 = .ok (.aload_n 0, 1) := dk_42 (dk_at dksX6_person_0 5 rfl rfl)
theorem dX6_person_6 : decode cX6_person 6 = .ok (.iload_n 1, 1) := dk_27 (dk_at dksX6_person_0 6 rfl rfl)
theorem dX6_person_7 : decode cX6_person 7 = .ok (.invokevirtual 315, 3) := dk_182 1 59 (dk_at dksX6_person_0 7 rfl rfl)
theorem dX6_person_10 : decode cX6_person 10 = .ok (.ifCond .eq 15, 3) := dk_153 0 15 (dk_at dksX6_person_0 10 rfl rfl)
theorem dX6_person_13 : decode cX6_person 13 = .ok (.iload_n 2, 1) := dk_28 (dk_at dksX6_person_0 13 rfl rfl)
theorem dX6_person_14 : decode cX6_person 14 = .ok (.i2l, 1) := dk_133 (dk_at dksX6_person_0 14 rfl rfl)
theorem dX6_person_15 : decode cX6_person 15 = .ok (.lconst 0, 1) := dk_9 (dk_at dksX6_person_0 15 rfl rfl)
theorem dX6_person_16 : decode cX6_person 16 = .ok (.ldc2_w 318, 3) := dk_20 1 62 (dk_at dksX6_person_0 16 rfl rfl)
theorem dX6_person_19 : decode cX6_person 19 = .ok (.invokestatic 126, 3) := dk_184 0 126 (dk_at dksX6_person_0 19 rfl rfl)
theorem dX6_person_22 : decode cX6_person 22 = .ok (.ifCond .ne 8, 3) := dk_154 0 8 (dk_at dksX6_person_1 0 rfl rfl)
theorem dX6_person_25 : decode cX6_person 25 = .ok (.aload_n 0, 1) := dk_42 (dk_at dksX6_person_1 3 rfl rfl)
theorem dX6_person_26 : decode cX6_person 26 = .ok (.invokevirtual 320, 3) := dk_182 1 64 (dk_at dksX6_person_1 4 rfl rfl)
theorem dX6_person_29 : decode cX6_person 29 = .ok (.ireturn, 1) := dk_172 (dk_at dksX6_person_1 7 rfl rfl)
theorem dX6_person_30 : decode cX6_person 30 = .ok (.iload_n 2, 1) := dk_28 (dk_at dksX6_person_1 8 rfl rfl)
theorem dX6_person_31 : decode cX6_person 31 = .ok (.tableswitch 89 0 4 #[33, 40, 50, 60, 70], 33) := by decide +kernel
theorem dX6_person_64 : decode cX6_person 64 = .ok (.aload_n 0, 1) := dk_42 (dk_at dksX6_person_3 0 rfl rfl)
theorem dX6_person_65 : decode cX6_person 65 = .ok (.getfield 41, 3) := dk_180 0 41 (dk_at dksX6_person_3 1 rfl rfl)
theorem dX6_person_68 : decode cX6_person 68 = .ok (.iload_n 1, 1) := dk_27 (dk_at dksX6_person_3 4 rfl rfl)
theorem dX6_person_69 : decode cX6_person 69 = .ok (.iaload, 1) := dk_46 (dk_at dksX6_person_3 5 rfl rfl)
theorem dX6_person_70 : decode cX6_person 70 = .ok (.ireturn, 1) := dk_172 (dk_at dksX6_person_3 6 rfl rfl)
theorem dX6_person_71 : decode cX6_person 71 = .ok (.aload_n 0, 1) := dk_42 (dk_at dksX6_person_3 7 rfl rfl)
theorem dX6_person_72 : decode cX6_person 72 = .ok (.getfield 41, 3) := dk_180 0 41 (dk_at dksX6_person_3 8 rfl rfl)
theorem dX6_person_75 : decode cX6_person 75 = .ok (.bipush 8, 2) := dk_16 8 (dk_at dksX6_person_3 11 rfl rfl)
theorem dX6_person_77 : decode cX6_person 77 = .ok (.iload_n 1, 1) := dk_27 (dk_at dksX6_person_3 13 rfl rfl)
theorem dX6_person_78 : decode cX6_person 78 = .ok (.iadd, 1) := dk_96 (dk_at dksX6_person_3 14 rfl rfl)
theorem dX6_person_79 : decode cX6_person 79 = .ok (.iaload, 1) := dk_46 (dk_at dksX6_person_3 15 rfl rfl)
theorem dX6_person_80 : decode cX6_person 80 = .ok (.ireturn, 1) := dk_172 (dk_at dksX6_person_3 16 rfl rfl)
theorem dX6_person_81 : decode cX6_person 81 = .ok (.aload_n 0, 1) := dk_42 (dk_at dksX6_person_3 17 rfl rfl)
theorem dX6_person_82 : decode cX6_person 82 = .ok (.getfield 41, 3) := dk_180 0 41 (dk_at dksX6_person_3 18 rfl rfl)
theorem dX6_person_85 : decode cX6_person 85 = .ok (.bipush 16, 2) := dk_16 16 (dk_at dksX6_person_3 21 rfl rfl)
theorem dX6_person_87 : decode cX6_person 87 = .ok (.iload_n 1, 1) := dk_27 (dk_at dksX6_person_3 23 rfl rfl)
theorem dX6_person_88 : decode cX6_person 88 = .ok (.iadd, 1) := dk_96 (dk_at dksX6_person_4 0 rfl rfl)
theorem dX6_person_89 : decode cX6_person 89 = .ok (.iaload, 1) := dk_46 (dk_at dksX6_person_4 1 rfl rfl)
theorem dX6_person_90 : decode cX6_person 90 = .ok (.ireturn, 1) := dk_172 (dk_at dksX6_person_4 2 rfl rfl)
theorem dX6_person_91 : decode cX6_person 91 = .ok (.aload_n 0, 1) := dk_42 (dk_at dksX6_person_4 3 rfl rfl)
theorem dX6_person_92 : decode cX6_person 92 = .ok (.getfield 41, 3) := dk_180 0 41 (dk_at dksX6_person_4 4 rfl rfl)
theorem dX6_person_95 : decode cX6_person 95 = .ok (.bipush 24, 2) := dk_16 24 (dk_at dksX6_person_4 7 rfl rfl)
theorem dX6_person_97 : decode cX6_person 97 = .ok (.iload_n 1, 1) := dk_27 (dk_at dksX6_person_4 9 rfl rfl)
theorem dX6_person_98 : decode cX6_person 98 = .ok (.iadd, 1) := dk_96 (dk_at dksX6_person_4 10 rfl rfl)
theorem dX6_person_99 : decode cX6_person 99 = .ok (.iaload, 1) := dk_46 (dk_at dksX6_person_4 11 rfl rfl)
theorem dX6_person_100 : decode cX6_person 100 = .ok (.ireturn, 1) := dk_172 (dk_at dksX6_person_4 12 rfl rfl)
theorem dX6_person_101 : decode cX6_person 101 = .ok (.aload_n 0, 1) := dk_42 (dk_at dksX6_person_4 13 rfl rfl)
theorem dX6_person_102 : decode cX6_person 102 = .ok (.aload_n 0, 1) := dk_42 (dk_at dksX6_person_4 14 rfl rfl)
theorem dX6_person_103 : decode cX6_person 103 = .ok (.getfield 41, 3) := dk_180 0 41 (dk_at dksX6_person_4 15 rfl rfl)
theorem dX6_person_106 : decode cX6_person 106 = .ok (.iload_n 1, 1) := dk_27 (dk_at dksX6_person_4 18 rfl rfl)
theorem dX6_person_107 : decode cX6_person 107 = .ok (.aload_n 0, 1) := dk_42 (dk_at dksX6_person_4 19 rfl rfl)
theorem dX6_person_108 : decode cX6_person 108 = .ok (.getfield 41, 3) := dk_180 0 41 (dk_at dksX6_person_4 20 rfl rfl)
theorem dX6_person_111 : decode cX6_person 111 = .ok (.bipush 16, 2) := dk_16 16 (dk_at dksX6_person_5 0 rfl rfl)
theorem dX6_person_113 : decode cX6_person 113 = .ok (.iload_n 1, 1) := dk_27 (dk_at dksX6_person_5 2 rfl rfl)
theorem dX6_person_114 : decode cX6_person 114 = .ok (.iadd, 1) := dk_96 (dk_at dksX6_person_5 3 rfl rfl)
theorem dX6_person_115 : decode cX6_person 115 = .ok (.iaload, 1) := dk_46 (dk_at dksX6_person_5 4 rfl rfl)
theorem dX6_person_116 : decode cX6_person 116 = .ok (.invokevirtual 292, 3) := dk_182 1 36 (dk_at dksX6_person_5 5 rfl rfl)
theorem dX6_person_119 : decode cX6_person 119 = .ok (.ireturn, 1) := dk_172 (dk_at dksX6_person_5 8 rfl rfl)
theorem dX6_person_120 : decode cX6_person 120 = .ok (.aload_n 0, 1) := dk_42 (dk_at dksX6_person_5 9 rfl rfl)
theorem dX6_person_121 : decode cX6_person 121 = .ok (.aload_n 0, 1) := dk_42 (dk_at dksX6_person_5 10 rfl rfl)
theorem dX6_person_122 : decode cX6_person 122 = .ok (.getfield 41, 3) := dk_180 0 41 (dk_at dksX6_person_5 11 rfl rfl)
theorem dX6_person_125 : decode cX6_person 125 = .ok (.aload_n 0, 1) := dk_42 (dk_at dksX6_person_5 14 rfl rfl)
theorem dX6_person_126 : decode cX6_person 126 = .ok (.aload_n 0, 1) := dk_42 (dk_at dksX6_person_5 15 rfl rfl)
theorem dX6_person_127 : decode cX6_person 127 = .ok (.getfield 41, 3) := dk_180 0 41 (dk_at dksX6_person_5 16 rfl rfl)
theorem dX6_person_130 : decode cX6_person 130 = .ok (.iload_n 1, 1) := dk_27 (dk_at dksX6_person_5 19 rfl rfl)
theorem dX6_person_131 : decode cX6_person 131 = .ok (.invokevirtual 300, 3) := dk_182 1 44 (dk_at dksX6_person_5 20 rfl rfl)
theorem dX6_person_134 : decode cX6_person 134 = .ok (.invokevirtual 323, 3) := dk_182 1 67 (dk_at dksX6_person_6 0 rfl rfl)
theorem dX6_person_137 : decode cX6_person 137 = .ok (.ireturn, 1) := dk_172 (dk_at dksX6_person_6 3 rfl rfl)
abbrev cX6_isPerson : ByteArray := prog_12_method_11_code
def yX6_isPerson : MethodName := ⟨RX6, "isPerson", "(I)Z"⟩
def dkwX6_isPerson_0 : List UInt8 := [27, 133, 9, 42, 180, 0, 130, 4, 100, 133, 184, 0, 126, 172]
abbrev dktX6_isPerson_0 : List UInt8 := dkwX6_isPerson_0 ++ []
theorem dksX6_isPerson_0 : cX6_isPerson.data.toList.drop 0 = dktX6_isPerson_0 := by decide +kernel
theorem dX6_isPerson_0 : decode cX6_isPerson 0 = .ok (.iload_n 1, 1) := dk_27 (dk_at dksX6_isPerson_0 0 rfl rfl)
theorem dX6_isPerson_1 : decode cX6_isPerson 1 = .ok (.i2l, 1) := dk_133 (dk_at dksX6_isPerson_0 1 rfl rfl)
theorem dX6_isPerson_2 : decode cX6_isPerson 2 = .ok (.lconst 0, 1) := dk_9 (dk_at dksX6_isPerson_0 2 rfl rfl)
theorem dX6_isPerson_3 : decode cX6_isPerson 3 = .ok (.aload_n 0, 1) := dk_42 (dk_at dksX6_isPerson_0 3 rfl rfl)
theorem dX6_isPerson_4 : decode cX6_isPerson 4 = .ok (.getfield 130, 3) := dk_180 0 130 (dk_at dksX6_isPerson_0 4 rfl rfl)
theorem dX6_isPerson_7 : decode cX6_isPerson 7 = .ok (.iconst 1, 1) := dk_4 (dk_at dksX6_isPerson_0 7 rfl rfl)
theorem dX6_isPerson_8 : decode cX6_isPerson 8 = .ok (.isub, 1) := dk_100 (dk_at dksX6_isPerson_0 8 rfl rfl)
theorem dX6_isPerson_9 : decode cX6_isPerson 9 = .ok (.i2l, 1) := dk_133 (dk_at dksX6_isPerson_0 9 rfl rfl)
theorem dX6_isPerson_10 : decode cX6_isPerson 10 = .ok (.invokestatic 126, 3) := dk_184 0 126 (dk_at dksX6_isPerson_0 10 rfl rfl)
theorem dX6_isPerson_13 : decode cX6_isPerson 13 = .ok (.ireturn, 1) := dk_172 (dk_at dksX6_isPerson_0 13 rfl rfl)
abbrev cX6_refuse : ByteArray := prog_12_method_2_code
def yX6_refuse : MethodName := ⟨RX6, "refuse", "()I"⟩
def dkwX6_refuse_0 : List UInt8 := [42, 4, 181, 0, 3, 3, 172]
abbrev dktX6_refuse_0 : List UInt8 := dkwX6_refuse_0 ++ []
theorem dksX6_refuse_0 : cX6_refuse.data.toList.drop 0 = dktX6_refuse_0 := by decide +kernel
theorem dX6_refuse_0 : decode cX6_refuse 0 = .ok (.aload_n 0, 1) := dk_42 (dk_at dksX6_refuse_0 0 rfl rfl)
theorem dX6_refuse_1 : decode cX6_refuse 1 = .ok (.iconst 1, 1) := dk_4 (dk_at dksX6_refuse_0 1 rfl rfl)
theorem dX6_refuse_2 : decode cX6_refuse 2 = .ok (.putfield 3, 3) := dk_181 0 3 (dk_at dksX6_refuse_0 2 rfl rfl)
theorem dX6_refuse_5 : decode cX6_refuse 5 = .ok (.iconst 0, 1) := dk_3 (dk_at dksX6_refuse_0 5 rfl rfl)
theorem dX6_refuse_6 : decode cX6_refuse 6 = .ok (.ireturn, 1) := dk_172 (dk_at dksX6_refuse_0 6 rfl rfl)
abbrev cX6_reachBy : ByteArray := prog_12_method_41_code
def yX6_reachBy : MethodName := ⟨RX6, "reachBy", "([III)I"⟩
def dkwX6_reachBy_6 : List UInt8 := [16, 7, 21, 4, 79, 3, 16, 9, 42, 182, 1, 14, 184, 0, 145, 184, 1, 17, 172]
abbrev dktX6_reachBy_6 : List UInt8 := dkwX6_reachBy_6 ++ []
def dkwX6_reachBy_5 : List UInt8 := [180, 0, 27, 112, 79, 42, 180, 0, 65, 16, 6, 43, 16, 40, 46, 16, 7, 112, 79, 42, 180, 0, 65]
abbrev dktX6_reachBy_5 : List UInt8 := dkwX6_reachBy_5 ++ dktX6_reachBy_6
def dkwX6_reachBy_4 : List UInt8 := [180, 0, 65, 7, 43, 28, 46, 42, 180, 0, 27, 108, 79, 42, 180, 0, 65, 8, 43, 28, 46, 42]
abbrev dktX6_reachBy_4 : List UInt8 := dkwX6_reachBy_4 ++ dktX6_reachBy_5
def dkwX6_reachBy_3 : List UInt8 := [16, 24, 28, 96, 46, 184, 1, 9, 79, 42, 180, 0, 65, 6, 43, 16, 8, 28, 96, 46, 79, 42]
abbrev dktX6_reachBy_3 : List UInt8 := dkwX6_reachBy_3 ++ dktX6_reachBy_4
def dkwX6_reachBy_2 : List UInt8 := [3, 29, 79, 42, 180, 0, 65, 4, 42, 43, 16, 40, 46, 182, 1, 6, 79, 42, 180, 0, 65, 5, 43]
abbrev dktX6_reachBy_2 : List UInt8 := dkwX6_reachBy_2 ++ dktX6_reachBy_3
def dkwX6_reachBy_1 : List UInt8 := [160, 0, 7, 4, 167, 0, 4, 3, 184, 0, 154, 96, 54, 4, 132, 5, 1, 167, 255, 221, 42, 180, 0, 65]
abbrev dktX6_reachBy_1 : List UInt8 := dkwX6_reachBy_1 ++ dktX6_reachBy_2
def dkwX6_reachBy_0 : List UInt8 := [3, 54, 4, 3, 54, 5, 21, 5, 42, 180, 0, 130, 162, 0, 32, 21, 4, 43, 21, 5, 46, 43, 28, 46]
abbrev dktX6_reachBy_0 : List UInt8 := dkwX6_reachBy_0 ++ dktX6_reachBy_1
theorem dksX6_reachBy_0 : cX6_reachBy.data.toList.drop 0 = dktX6_reachBy_0 := by decide +kernel
theorem dksX6_reachBy_1 : cX6_reachBy.data.toList.drop 24 = dktX6_reachBy_1 := dk_seg dksX6_reachBy_0 24 rfl rfl
theorem dksX6_reachBy_2 : cX6_reachBy.data.toList.drop 48 = dktX6_reachBy_2 := dk_seg dksX6_reachBy_1 24 rfl rfl
theorem dksX6_reachBy_3 : cX6_reachBy.data.toList.drop 71 = dktX6_reachBy_3 := dk_seg dksX6_reachBy_2 23 rfl rfl
theorem dksX6_reachBy_4 : cX6_reachBy.data.toList.drop 93 = dktX6_reachBy_4 := dk_seg dksX6_reachBy_3 22 rfl rfl
theorem dksX6_reachBy_5 : cX6_reachBy.data.toList.drop 115 = dktX6_reachBy_5 := dk_seg dksX6_reachBy_4 22 rfl rfl
theorem dksX6_reachBy_6 : cX6_reachBy.data.toList.drop 138 = dktX6_reachBy_6 := dk_seg dksX6_reachBy_5 23 rfl rfl
theorem dX6_reachBy_0 : decode cX6_reachBy 0 = .ok (.iconst 0, 1) := dk_3 (dk_at dksX6_reachBy_0 0 rfl rfl)
theorem dX6_reachBy_1 : decode cX6_reachBy 1 = .ok (.istore 4, 2) := dk_54 4 (dk_at dksX6_reachBy_0 1 rfl rfl)
theorem dX6_reachBy_3 : decode cX6_reachBy 3 = .ok (.iconst 0, 1) := dk_3 (dk_at dksX6_reachBy_0 3 rfl rfl)
theorem dX6_reachBy_4 : decode cX6_reachBy 4 = .ok (.istore 5, 2) := dk_54 5 (dk_at dksX6_reachBy_0 4 rfl rfl)
theorem dX6_reachBy_6 : decode cX6_reachBy 6 = .ok (.iload 5, 2) := dk_21 5 (dk_at dksX6_reachBy_0 6 rfl rfl)
theorem dX6_reachBy_8 : decode cX6_reachBy 8 = .ok (.aload_n 0, 1) := dk_42 (dk_at dksX6_reachBy_0 8 rfl rfl)
theorem dX6_reachBy_9 : decode cX6_reachBy 9 = .ok (.getfield 130, 3) := dk_180 0 130 (dk_at dksX6_reachBy_0 9 rfl rfl)
theorem dX6_reachBy_12 : decode cX6_reachBy 12 = .ok (.if_icmp .ge 32, 3) := dk_162 0 32 (dk_at dksX6_reachBy_0 12 rfl rfl)
theorem dX6_reachBy_15 : decode cX6_reachBy 15 = .ok (.iload 4, 2) := dk_21 4 (dk_at dksX6_reachBy_0 15 rfl rfl)
theorem dX6_reachBy_17 : decode cX6_reachBy 17 = .ok (.aload_n 1, 1) := dk_43 (dk_at dksX6_reachBy_0 17 rfl rfl)
theorem dX6_reachBy_18 : decode cX6_reachBy 18 = .ok (.iload 5, 2) := dk_21 5 (dk_at dksX6_reachBy_0 18 rfl rfl)
theorem dX6_reachBy_20 : decode cX6_reachBy 20 = .ok (.iaload, 1) := dk_46 (dk_at dksX6_reachBy_0 20 rfl rfl)
theorem dX6_reachBy_21 : decode cX6_reachBy 21 = .ok (.aload_n 1, 1) := dk_43 (dk_at dksX6_reachBy_0 21 rfl rfl)
theorem dX6_reachBy_22 : decode cX6_reachBy 22 = .ok (.iload_n 2, 1) := dk_28 (dk_at dksX6_reachBy_0 22 rfl rfl)
theorem dX6_reachBy_23 : decode cX6_reachBy 23 = .ok (.iaload, 1) := dk_46 (dk_at dksX6_reachBy_0 23 rfl rfl)
theorem dX6_reachBy_24 : decode cX6_reachBy 24 = .ok (.if_icmp .ne 7, 3) := dk_160 0 7 (dk_at dksX6_reachBy_1 0 rfl rfl)
theorem dX6_reachBy_27 : decode cX6_reachBy 27 = .ok (.iconst 1, 1) := dk_4 (dk_at dksX6_reachBy_1 3 rfl rfl)
theorem dX6_reachBy_28 : decode cX6_reachBy 28 = .ok (.goto 4, 3) := dk_167 0 4 (dk_at dksX6_reachBy_1 4 rfl rfl)
theorem dX6_reachBy_31 : decode cX6_reachBy 31 = .ok (.iconst 0, 1) := dk_3 (dk_at dksX6_reachBy_1 7 rfl rfl)
theorem dX6_reachBy_32 : decode cX6_reachBy 32 = .ok (.invokestatic 154, 3) := dk_184 0 154 (dk_at dksX6_reachBy_1 8 rfl rfl)
theorem dX6_reachBy_35 : decode cX6_reachBy 35 = .ok (.iadd, 1) := dk_96 (dk_at dksX6_reachBy_1 11 rfl rfl)
theorem dX6_reachBy_36 : decode cX6_reachBy 36 = .ok (.istore 4, 2) := dk_54 4 (dk_at dksX6_reachBy_1 12 rfl rfl)
theorem dX6_reachBy_38 : decode cX6_reachBy 38 = .ok (.iinc 5 1, 3) := dk_132 5 1 (dk_at dksX6_reachBy_1 14 rfl rfl)
theorem dX6_reachBy_41 : decode cX6_reachBy 41 = .ok (.goto (-35), 3) := dk_167 255 221 (dk_at dksX6_reachBy_1 17 rfl rfl)
theorem dX6_reachBy_44 : decode cX6_reachBy 44 = .ok (.aload_n 0, 1) := dk_42 (dk_at dksX6_reachBy_1 20 rfl rfl)
theorem dX6_reachBy_45 : decode cX6_reachBy 45 = .ok (.getfield 65, 3) := dk_180 0 65 (dk_at dksX6_reachBy_1 21 rfl rfl)
theorem dX6_reachBy_48 : decode cX6_reachBy 48 = .ok (.iconst 0, 1) := dk_3 (dk_at dksX6_reachBy_2 0 rfl rfl)
theorem dX6_reachBy_49 : decode cX6_reachBy 49 = .ok (.iload_n 3, 1) := dk_29 (dk_at dksX6_reachBy_2 1 rfl rfl)
theorem dX6_reachBy_50 : decode cX6_reachBy 50 = .ok (.iastore, 1) := dk_79 (dk_at dksX6_reachBy_2 2 rfl rfl)
theorem dX6_reachBy_51 : decode cX6_reachBy 51 = .ok (.aload_n 0, 1) := dk_42 (dk_at dksX6_reachBy_2 3 rfl rfl)
theorem dX6_reachBy_52 : decode cX6_reachBy 52 = .ok (.getfield 65, 3) := dk_180 0 65 (dk_at dksX6_reachBy_2 4 rfl rfl)
theorem dX6_reachBy_55 : decode cX6_reachBy 55 = .ok (.iconst 1, 1) := dk_4 (dk_at dksX6_reachBy_2 7 rfl rfl)
theorem dX6_reachBy_56 : decode cX6_reachBy 56 = .ok (.aload_n 0, 1) := dk_42 (dk_at dksX6_reachBy_2 8 rfl rfl)
theorem dX6_reachBy_57 : decode cX6_reachBy 57 = .ok (.aload_n 1, 1) := dk_43 (dk_at dksX6_reachBy_2 9 rfl rfl)
theorem dX6_reachBy_58 : decode cX6_reachBy 58 = .ok (.bipush 40, 2) := dk_16 40 (dk_at dksX6_reachBy_2 10 rfl rfl)
theorem dX6_reachBy_60 : decode cX6_reachBy 60 = .ok (.iaload, 1) := dk_46 (dk_at dksX6_reachBy_2 12 rfl rfl)
theorem dX6_reachBy_61 : decode cX6_reachBy 61 = .ok (.invokevirtual 262, 3) := dk_182 1 6 (dk_at dksX6_reachBy_2 13 rfl rfl)
theorem dX6_reachBy_64 : decode cX6_reachBy 64 = .ok (.iastore, 1) := dk_79 (dk_at dksX6_reachBy_2 16 rfl rfl)
theorem dX6_reachBy_65 : decode cX6_reachBy 65 = .ok (.aload_n 0, 1) := dk_42 (dk_at dksX6_reachBy_2 17 rfl rfl)
theorem dX6_reachBy_66 : decode cX6_reachBy 66 = .ok (.getfield 65, 3) := dk_180 0 65 (dk_at dksX6_reachBy_2 18 rfl rfl)
theorem dX6_reachBy_69 : decode cX6_reachBy 69 = .ok (.iconst 2, 1) := dk_5 (dk_at dksX6_reachBy_2 21 rfl rfl)
theorem dX6_reachBy_70 : decode cX6_reachBy 70 = .ok (.aload_n 1, 1) := dk_43 (dk_at dksX6_reachBy_2 22 rfl rfl)
theorem dX6_reachBy_71 : decode cX6_reachBy 71 = .ok (.bipush 24, 2) := dk_16 24 (dk_at dksX6_reachBy_3 0 rfl rfl)
theorem dX6_reachBy_73 : decode cX6_reachBy 73 = .ok (.iload_n 2, 1) := dk_28 (dk_at dksX6_reachBy_3 2 rfl rfl)
theorem dX6_reachBy_74 : decode cX6_reachBy 74 = .ok (.iadd, 1) := dk_96 (dk_at dksX6_reachBy_3 3 rfl rfl)
theorem dX6_reachBy_75 : decode cX6_reachBy 75 = .ok (.iaload, 1) := dk_46 (dk_at dksX6_reachBy_3 4 rfl rfl)
theorem dX6_reachBy_76 : decode cX6_reachBy 76 = .ok (.invokestatic 265, 3) := dk_184 1 9 (dk_at dksX6_reachBy_3 5 rfl rfl)
theorem dX6_reachBy_79 : decode cX6_reachBy 79 = .ok (.iastore, 1) := dk_79 (dk_at dksX6_reachBy_3 8 rfl rfl)
theorem dX6_reachBy_80 : decode cX6_reachBy 80 = .ok (.aload_n 0, 1) := dk_42 (dk_at dksX6_reachBy_3 9 rfl rfl)
theorem dX6_reachBy_81 : decode cX6_reachBy 81 = .ok (.getfield 65, 3) := dk_180 0 65 (dk_at dksX6_reachBy_3 10 rfl rfl)
theorem dX6_reachBy_84 : decode cX6_reachBy 84 = .ok (.iconst 3, 1) := dk_6 (dk_at dksX6_reachBy_3 13 rfl rfl)
theorem dX6_reachBy_85 : decode cX6_reachBy 85 = .ok (.aload_n 1, 1) := dk_43 (dk_at dksX6_reachBy_3 14 rfl rfl)
theorem dX6_reachBy_86 : decode cX6_reachBy 86 = .ok (.bipush 8, 2) := dk_16 8 (dk_at dksX6_reachBy_3 15 rfl rfl)
theorem dX6_reachBy_88 : decode cX6_reachBy 88 = .ok (.iload_n 2, 1) := dk_28 (dk_at dksX6_reachBy_3 17 rfl rfl)
theorem dX6_reachBy_89 : decode cX6_reachBy 89 = .ok (.iadd, 1) := dk_96 (dk_at dksX6_reachBy_3 18 rfl rfl)
theorem dX6_reachBy_90 : decode cX6_reachBy 90 = .ok (.iaload, 1) := dk_46 (dk_at dksX6_reachBy_3 19 rfl rfl)
theorem dX6_reachBy_91 : decode cX6_reachBy 91 = .ok (.iastore, 1) := dk_79 (dk_at dksX6_reachBy_3 20 rfl rfl)
theorem dX6_reachBy_92 : decode cX6_reachBy 92 = .ok (.aload_n 0, 1) := dk_42 (dk_at dksX6_reachBy_3 21 rfl rfl)
theorem dX6_reachBy_93 : decode cX6_reachBy 93 = .ok (.getfield 65, 3) := dk_180 0 65 (dk_at dksX6_reachBy_4 0 rfl rfl)
theorem dX6_reachBy_96 : decode cX6_reachBy 96 = .ok (.iconst 4, 1) := dk_7 (dk_at dksX6_reachBy_4 3 rfl rfl)
theorem dX6_reachBy_97 : decode cX6_reachBy 97 = .ok (.aload_n 1, 1) := dk_43 (dk_at dksX6_reachBy_4 4 rfl rfl)
theorem dX6_reachBy_98 : decode cX6_reachBy 98 = .ok (.iload_n 2, 1) := dk_28 (dk_at dksX6_reachBy_4 5 rfl rfl)
theorem dX6_reachBy_99 : decode cX6_reachBy 99 = .ok (.iaload, 1) := dk_46 (dk_at dksX6_reachBy_4 6 rfl rfl)
theorem dX6_reachBy_100 : decode cX6_reachBy 100 = .ok (.aload_n 0, 1) := dk_42 (dk_at dksX6_reachBy_4 7 rfl rfl)
theorem dX6_reachBy_101 : decode cX6_reachBy 101 = .ok (.getfield 27, 3) := dk_180 0 27 (dk_at dksX6_reachBy_4 8 rfl rfl)
theorem dX6_reachBy_104 : decode cX6_reachBy 104 = .ok (.idiv, 1) := dk_108 (dk_at dksX6_reachBy_4 11 rfl rfl)
theorem dX6_reachBy_105 : decode cX6_reachBy 105 = .ok (.iastore, 1) := dk_79 (dk_at dksX6_reachBy_4 12 rfl rfl)
theorem dX6_reachBy_106 : decode cX6_reachBy 106 = .ok (.aload_n 0, 1) := dk_42 (dk_at dksX6_reachBy_4 13 rfl rfl)
theorem dX6_reachBy_107 : decode cX6_reachBy 107 = .ok (.getfield 65, 3) := dk_180 0 65 (dk_at dksX6_reachBy_4 14 rfl rfl)
theorem dX6_reachBy_110 : decode cX6_reachBy 110 = .ok (.iconst 5, 1) := dk_8 (dk_at dksX6_reachBy_4 17 rfl rfl)
theorem dX6_reachBy_111 : decode cX6_reachBy 111 = .ok (.aload_n 1, 1) := dk_43 (dk_at dksX6_reachBy_4 18 rfl rfl)
theorem dX6_reachBy_112 : decode cX6_reachBy 112 = .ok (.iload_n 2, 1) := dk_28 (dk_at dksX6_reachBy_4 19 rfl rfl)
theorem dX6_reachBy_113 : decode cX6_reachBy 113 = .ok (.iaload, 1) := dk_46 (dk_at dksX6_reachBy_4 20 rfl rfl)
theorem dX6_reachBy_114 : decode cX6_reachBy 114 = .ok (.aload_n 0, 1) := dk_42 (dk_at dksX6_reachBy_4 21 rfl rfl)
theorem dX6_reachBy_115 : decode cX6_reachBy 115 = .ok (.getfield 27, 3) := dk_180 0 27 (dk_at dksX6_reachBy_5 0 rfl rfl)
theorem dX6_reachBy_118 : decode cX6_reachBy 118 = .ok (.irem, 1) := dk_112 (dk_at dksX6_reachBy_5 3 rfl rfl)
theorem dX6_reachBy_119 : decode cX6_reachBy 119 = .ok (.iastore, 1) := dk_79 (dk_at dksX6_reachBy_5 4 rfl rfl)
theorem dX6_reachBy_120 : decode cX6_reachBy 120 = .ok (.aload_n 0, 1) := dk_42 (dk_at dksX6_reachBy_5 5 rfl rfl)
theorem dX6_reachBy_121 : decode cX6_reachBy 121 = .ok (.getfield 65, 3) := dk_180 0 65 (dk_at dksX6_reachBy_5 6 rfl rfl)
theorem dX6_reachBy_124 : decode cX6_reachBy 124 = .ok (.bipush 6, 2) := dk_16 6 (dk_at dksX6_reachBy_5 9 rfl rfl)
theorem dX6_reachBy_126 : decode cX6_reachBy 126 = .ok (.aload_n 1, 1) := dk_43 (dk_at dksX6_reachBy_5 11 rfl rfl)
theorem dX6_reachBy_127 : decode cX6_reachBy 127 = .ok (.bipush 40, 2) := dk_16 40 (dk_at dksX6_reachBy_5 12 rfl rfl)
theorem dX6_reachBy_129 : decode cX6_reachBy 129 = .ok (.iaload, 1) := dk_46 (dk_at dksX6_reachBy_5 14 rfl rfl)
theorem dX6_reachBy_130 : decode cX6_reachBy 130 = .ok (.bipush 7, 2) := dk_16 7 (dk_at dksX6_reachBy_5 15 rfl rfl)
theorem dX6_reachBy_132 : decode cX6_reachBy 132 = .ok (.irem, 1) := dk_112 (dk_at dksX6_reachBy_5 17 rfl rfl)
theorem dX6_reachBy_133 : decode cX6_reachBy 133 = .ok (.iastore, 1) := dk_79 (dk_at dksX6_reachBy_5 18 rfl rfl)
theorem dX6_reachBy_134 : decode cX6_reachBy 134 = .ok (.aload_n 0, 1) := dk_42 (dk_at dksX6_reachBy_5 19 rfl rfl)
theorem dX6_reachBy_135 : decode cX6_reachBy 135 = .ok (.getfield 65, 3) := dk_180 0 65 (dk_at dksX6_reachBy_5 20 rfl rfl)
theorem dX6_reachBy_138 : decode cX6_reachBy 138 = .ok (.bipush 7, 2) := dk_16 7 (dk_at dksX6_reachBy_6 0 rfl rfl)
theorem dX6_reachBy_140 : decode cX6_reachBy 140 = .ok (.iload 4, 2) := dk_21 4 (dk_at dksX6_reachBy_6 2 rfl rfl)
theorem dX6_reachBy_142 : decode cX6_reachBy 142 = .ok (.iastore, 1) := dk_79 (dk_at dksX6_reachBy_6 4 rfl rfl)
theorem dX6_reachBy_143 : decode cX6_reachBy 143 = .ok (.iconst 0, 1) := dk_3 (dk_at dksX6_reachBy_6 5 rfl rfl)
theorem dX6_reachBy_144 : decode cX6_reachBy 144 = .ok (.bipush 9, 2) := dk_16 9 (dk_at dksX6_reachBy_6 6 rfl rfl)
theorem dX6_reachBy_146 : decode cX6_reachBy 146 = .ok (.aload_n 0, 1) := dk_42 (dk_at dksX6_reachBy_6 8 rfl rfl)
theorem dX6_reachBy_147 : decode cX6_reachBy 147 = .ok (.invokevirtual 270, 3) := dk_182 1 14 (dk_at dksX6_reachBy_6 9 rfl rfl)
theorem dX6_reachBy_150 : decode cX6_reachBy 150 = .ok (.invokestatic 145, 3) := dk_184 0 145 (dk_at dksX6_reachBy_6 12 rfl rfl)
theorem dX6_reachBy_153 : decode cX6_reachBy 153 = .ok (.invokestatic 273, 3) := dk_184 1 17 (dk_at dksX6_reachBy_6 15 rfl rfl)
theorem dX6_reachBy_156 : decode cX6_reachBy 156 = .ok (.ireturn, 1) := dk_172 (dk_at dksX6_reachBy_6 18 rfl rfl)
abbrev cX6_lightOn : ByteArray := prog_12_method_32_code
def yX6_lightOn : MethodName := ⟨RX6, "lightOn", "(I)I"⟩
def dkwX6_lightOn_0 : List UInt8 := [42, 180, 0, 37, 27, 42, 180, 0, 30, 112, 46, 172]
abbrev dktX6_lightOn_0 : List UInt8 := dkwX6_lightOn_0 ++ []
theorem dksX6_lightOn_0 : cX6_lightOn.data.toList.drop 0 = dktX6_lightOn_0 := by decide +kernel
theorem dX6_lightOn_0 : decode cX6_lightOn 0 = .ok (.aload_n 0, 1) := dk_42 (dk_at dksX6_lightOn_0 0 rfl rfl)
theorem dX6_lightOn_1 : decode cX6_lightOn 1 = .ok (.getfield 37, 3) := dk_180 0 37 (dk_at dksX6_lightOn_0 1 rfl rfl)
theorem dX6_lightOn_4 : decode cX6_lightOn 4 = .ok (.iload_n 1, 1) := dk_27 (dk_at dksX6_lightOn_0 4 rfl rfl)
theorem dX6_lightOn_5 : decode cX6_lightOn 5 = .ok (.aload_n 0, 1) := dk_42 (dk_at dksX6_lightOn_0 5 rfl rfl)
theorem dX6_lightOn_6 : decode cX6_lightOn 6 = .ok (.getfield 30, 3) := dk_180 0 30 (dk_at dksX6_lightOn_0 6 rfl rfl)
theorem dX6_lightOn_9 : decode cX6_lightOn 9 = .ok (.irem, 1) := dk_112 (dk_at dksX6_lightOn_0 9 rfl rfl)
theorem dX6_lightOn_10 : decode cX6_lightOn 10 = .ok (.iaload, 1) := dk_46 (dk_at dksX6_lightOn_0 10 rfl rfl)
theorem dX6_lightOn_11 : decode cX6_lightOn 11 = .ok (.ireturn, 1) := dk_172 (dk_at dksX6_lightOn_0 11 rfl rfl)
abbrev cX6_ruled : ByteArray := prog_12_method_40_code
def yX6_ruled : MethodName := ⟨RX6, "ruled", "()I"⟩
def dkwX6_ruled_6 : List UInt8 := [180, 0, 65, 3, 46, 100, 167, 0, 9, 42, 180, 0, 62, 3, 46, 172]
abbrev dktX6_ruled_6 : List UInt8 := dkwX6_ruled_6 ++ []
def dkwX6_ruled_5 : List UInt8 := [132, 1, 1, 132, 2, 1, 167, 255, 138, 42, 180, 0, 248, 154, 0, 19, 42, 180, 0, 65, 4, 46, 42]
abbrev dktX6_ruled_5 : List UInt8 := dkwX6_ruled_5 ++ dktX6_ruled_6
def dkwX6_ruled_4 : List UInt8 := [27, 29, 17, 3, 232, 161, 0, 16, 42, 180, 0, 65, 29, 17, 3, 232, 100, 46, 167, 0, 4, 29, 79]
abbrev dktX6_ruled_4 : List UInt8 := dkwX6_ruled_4 ++ dktX6_ruled_5
def dkwX6_ruled_3 : List UInt8 := [180, 0, 62, 27, 4, 100, 46, 42, 180, 0, 62, 27, 46, 184, 1, 2, 79, 167, 0, 33, 42, 180, 0, 62]
abbrev dktX6_ruled_3 : List UInt8 := dkwX6_ruled_3 ++ dktX6_ruled_4
def dkwX6_ruled_2 : List UInt8 := [17, 7, 208, 161, 0, 39, 132, 1, 255, 42, 180, 0, 62, 27, 4, 100, 29, 17, 7, 208, 100, 42]
abbrev dktX6_ruled_2 : List UInt8 := dkwX6_ruled_2 ++ dktX6_ruled_3
def dkwX6_ruled_1 : List UInt8 := [160, 0, 23, 42, 180, 0, 62, 27, 4, 100, 42, 180, 0, 62, 27, 4, 100, 46, 116, 79, 167, 0, 76, 29]
abbrev dktX6_ruled_1 : List UInt8 := dkwX6_ruled_1 ++ dktX6_ruled_2
def dkwX6_ruled_0 : List UInt8 := [3, 60, 3, 61, 28, 42, 180, 0, 248, 162, 0, 116, 42, 180, 0, 56, 28, 46, 62, 29, 17, 11, 184]
abbrev dktX6_ruled_0 : List UInt8 := dkwX6_ruled_0 ++ dktX6_ruled_1
theorem dksX6_ruled_0 : cX6_ruled.data.toList.drop 0 = dktX6_ruled_0 := by decide +kernel
theorem dksX6_ruled_1 : cX6_ruled.data.toList.drop 23 = dktX6_ruled_1 := dk_seg dksX6_ruled_0 23 rfl rfl
theorem dksX6_ruled_2 : cX6_ruled.data.toList.drop 47 = dktX6_ruled_2 := dk_seg dksX6_ruled_1 24 rfl rfl
theorem dksX6_ruled_3 : cX6_ruled.data.toList.drop 69 = dktX6_ruled_3 := dk_seg dksX6_ruled_2 22 rfl rfl
theorem dksX6_ruled_4 : cX6_ruled.data.toList.drop 93 = dktX6_ruled_4 := dk_seg dksX6_ruled_3 24 rfl rfl
theorem dksX6_ruled_5 : cX6_ruled.data.toList.drop 116 = dktX6_ruled_5 := dk_seg dksX6_ruled_4 23 rfl rfl
theorem dksX6_ruled_6 : cX6_ruled.data.toList.drop 139 = dktX6_ruled_6 := dk_seg dksX6_ruled_5 23 rfl rfl
theorem dX6_ruled_0 : decode cX6_ruled 0 = .ok (.iconst 0, 1) := dk_3 (dk_at dksX6_ruled_0 0 rfl rfl)
theorem dX6_ruled_1 : decode cX6_ruled 1 = .ok (.istore_n 1, 1) := dk_60 (dk_at dksX6_ruled_0 1 rfl rfl)
theorem dX6_ruled_2 : decode cX6_ruled 2 = .ok (.iconst 0, 1) := dk_3 (dk_at dksX6_ruled_0 2 rfl rfl)
theorem dX6_ruled_3 : decode cX6_ruled 3 = .ok (.istore_n 2, 1) := dk_61 (dk_at dksX6_ruled_0 3 rfl rfl)
theorem dX6_ruled_4 : decode cX6_ruled 4 = .ok (.iload_n 2, 1) := dk_28 (dk_at dksX6_ruled_0 4 rfl rfl)
theorem dX6_ruled_5 : decode cX6_ruled 5 = .ok (.aload_n 0, 1) := dk_42 (dk_at dksX6_ruled_0 5 rfl rfl)
theorem dX6_ruled_6 : decode cX6_ruled 6 = .ok (.getfield 248, 3) := dk_180 0 248 (dk_at dksX6_ruled_0 6 rfl rfl)
theorem dX6_ruled_9 : decode cX6_ruled 9 = .ok (.if_icmp .ge 116, 3) := dk_162 0 116 (dk_at dksX6_ruled_0 9 rfl rfl)
theorem dX6_ruled_12 : decode cX6_ruled 12 = .ok (.aload_n 0, 1) := dk_42 (dk_at dksX6_ruled_0 12 rfl rfl)
theorem dX6_ruled_13 : decode cX6_ruled 13 = .ok (.getfield 56, 3) := dk_180 0 56 (dk_at dksX6_ruled_0 13 rfl rfl)
theorem dX6_ruled_16 : decode cX6_ruled 16 = .ok (.iload_n 2, 1) := dk_28 (dk_at dksX6_ruled_0 16 rfl rfl)
theorem dX6_ruled_17 : decode cX6_ruled 17 = .ok (.iaload, 1) := dk_46 (dk_at dksX6_ruled_0 17 rfl rfl)
theorem dX6_ruled_18 : decode cX6_ruled 18 = .ok (.istore_n 3, 1) := dk_62 (dk_at dksX6_ruled_0 18 rfl rfl)
theorem dX6_ruled_19 : decode cX6_ruled 19 = .ok (.iload_n 3, 1) := dk_29 (dk_at dksX6_ruled_0 19 rfl rfl)
theorem dX6_ruled_20 : decode cX6_ruled 20 = .ok (.sipush 3000, 3) := dk_17 11 184 (dk_at dksX6_ruled_0 20 rfl rfl)
theorem dX6_ruled_23 : decode cX6_ruled 23 = .ok (.if_icmp .ne 23, 3) := dk_160 0 23 (dk_at dksX6_ruled_1 0 rfl rfl)
theorem dX6_ruled_26 : decode cX6_ruled 26 = .ok (.aload_n 0, 1) := dk_42 (dk_at dksX6_ruled_1 3 rfl rfl)
theorem dX6_ruled_27 : decode cX6_ruled 27 = .ok (.getfield 62, 3) := dk_180 0 62 (dk_at dksX6_ruled_1 4 rfl rfl)
theorem dX6_ruled_30 : decode cX6_ruled 30 = .ok (.iload_n 1, 1) := dk_27 (dk_at dksX6_ruled_1 7 rfl rfl)
theorem dX6_ruled_31 : decode cX6_ruled 31 = .ok (.iconst 1, 1) := dk_4 (dk_at dksX6_ruled_1 8 rfl rfl)
theorem dX6_ruled_32 : decode cX6_ruled 32 = .ok (.isub, 1) := dk_100 (dk_at dksX6_ruled_1 9 rfl rfl)
theorem dX6_ruled_33 : decode cX6_ruled 33 = .ok (.aload_n 0, 1) := dk_42 (dk_at dksX6_ruled_1 10 rfl rfl)
theorem dX6_ruled_34 : decode cX6_ruled 34 = .ok (.getfield 62, 3) := dk_180 0 62 (dk_at dksX6_ruled_1 11 rfl rfl)
theorem dX6_ruled_37 : decode cX6_ruled 37 = .ok (.iload_n 1, 1) := dk_27 (dk_at dksX6_ruled_1 14 rfl rfl)
theorem dX6_ruled_38 : decode cX6_ruled 38 = .ok (.iconst 1, 1) := dk_4 (dk_at dksX6_ruled_1 15 rfl rfl)
theorem dX6_ruled_39 : decode cX6_ruled 39 = .ok (.isub, 1) := dk_100 (dk_at dksX6_ruled_1 16 rfl rfl)
theorem dX6_ruled_40 : decode cX6_ruled 40 = .ok (.iaload, 1) := dk_46 (dk_at dksX6_ruled_1 17 rfl rfl)
theorem dX6_ruled_41 : decode cX6_ruled 41 = .ok (.ineg, 1) := dk_116 (dk_at dksX6_ruled_1 18 rfl rfl)
theorem dX6_ruled_42 : decode cX6_ruled 42 = .ok (.iastore, 1) := dk_79 (dk_at dksX6_ruled_1 19 rfl rfl)
theorem dX6_ruled_43 : decode cX6_ruled 43 = .ok (.goto 76, 3) := dk_167 0 76 (dk_at dksX6_ruled_1 20 rfl rfl)
theorem dX6_ruled_46 : decode cX6_ruled 46 = .ok (.iload_n 3, 1) := dk_29 (dk_at dksX6_ruled_1 23 rfl rfl)
theorem dX6_ruled_47 : decode cX6_ruled 47 = .ok (.sipush 2000, 3) := dk_17 7 208 (dk_at dksX6_ruled_2 0 rfl rfl)
theorem dX6_ruled_50 : decode cX6_ruled 50 = .ok (.if_icmp .lt 39, 3) := dk_161 0 39 (dk_at dksX6_ruled_2 3 rfl rfl)
theorem dX6_ruled_53 : decode cX6_ruled 53 = .ok (.iinc 1 (-1), 3) := dk_132 1 255 (dk_at dksX6_ruled_2 6 rfl rfl)
theorem dX6_ruled_56 : decode cX6_ruled 56 = .ok (.aload_n 0, 1) := dk_42 (dk_at dksX6_ruled_2 9 rfl rfl)
theorem dX6_ruled_57 : decode cX6_ruled 57 = .ok (.getfield 62, 3) := dk_180 0 62 (dk_at dksX6_ruled_2 10 rfl rfl)
theorem dX6_ruled_60 : decode cX6_ruled 60 = .ok (.iload_n 1, 1) := dk_27 (dk_at dksX6_ruled_2 13 rfl rfl)
theorem dX6_ruled_61 : decode cX6_ruled 61 = .ok (.iconst 1, 1) := dk_4 (dk_at dksX6_ruled_2 14 rfl rfl)
theorem dX6_ruled_62 : decode cX6_ruled 62 = .ok (.isub, 1) := dk_100 (dk_at dksX6_ruled_2 15 rfl rfl)
theorem dX6_ruled_63 : decode cX6_ruled 63 = .ok (.iload_n 3, 1) := dk_29 (dk_at dksX6_ruled_2 16 rfl rfl)
theorem dX6_ruled_64 : decode cX6_ruled 64 = .ok (.sipush 2000, 3) := dk_17 7 208 (dk_at dksX6_ruled_2 17 rfl rfl)
theorem dX6_ruled_67 : decode cX6_ruled 67 = .ok (.isub, 1) := dk_100 (dk_at dksX6_ruled_2 20 rfl rfl)
theorem dX6_ruled_68 : decode cX6_ruled 68 = .ok (.aload_n 0, 1) := dk_42 (dk_at dksX6_ruled_2 21 rfl rfl)
theorem dX6_ruled_69 : decode cX6_ruled 69 = .ok (.getfield 62, 3) := dk_180 0 62 (dk_at dksX6_ruled_3 0 rfl rfl)
theorem dX6_ruled_72 : decode cX6_ruled 72 = .ok (.iload_n 1, 1) := dk_27 (dk_at dksX6_ruled_3 3 rfl rfl)
theorem dX6_ruled_73 : decode cX6_ruled 73 = .ok (.iconst 1, 1) := dk_4 (dk_at dksX6_ruled_3 4 rfl rfl)
theorem dX6_ruled_74 : decode cX6_ruled 74 = .ok (.isub, 1) := dk_100 (dk_at dksX6_ruled_3 5 rfl rfl)
theorem dX6_ruled_75 : decode cX6_ruled 75 = .ok (.iaload, 1) := dk_46 (dk_at dksX6_ruled_3 6 rfl rfl)
theorem dX6_ruled_76 : decode cX6_ruled 76 = .ok (.aload_n 0, 1) := dk_42 (dk_at dksX6_ruled_3 7 rfl rfl)
theorem dX6_ruled_77 : decode cX6_ruled 77 = .ok (.getfield 62, 3) := dk_180 0 62 (dk_at dksX6_ruled_3 8 rfl rfl)
theorem dX6_ruled_80 : decode cX6_ruled 80 = .ok (.iload_n 1, 1) := dk_27 (dk_at dksX6_ruled_3 11 rfl rfl)
theorem dX6_ruled_81 : decode cX6_ruled 81 = .ok (.iaload, 1) := dk_46 (dk_at dksX6_ruled_3 12 rfl rfl)
theorem dX6_ruled_82 : decode cX6_ruled 82 = .ok (.invokestatic 258, 3) := dk_184 1 2 (dk_at dksX6_ruled_3 13 rfl rfl)
theorem dX6_ruled_85 : decode cX6_ruled 85 = .ok (.iastore, 1) := dk_79 (dk_at dksX6_ruled_3 16 rfl rfl)
theorem dX6_ruled_86 : decode cX6_ruled 86 = .ok (.goto 33, 3) := dk_167 0 33 (dk_at dksX6_ruled_3 17 rfl rfl)
theorem dX6_ruled_89 : decode cX6_ruled 89 = .ok (.aload_n 0, 1) := dk_42 (dk_at dksX6_ruled_3 20 rfl rfl)
theorem dX6_ruled_90 : decode cX6_ruled 90 = .ok (.getfield 62, 3) := dk_180 0 62 (dk_at dksX6_ruled_3 21 rfl rfl)
theorem dX6_ruled_93 : decode cX6_ruled 93 = .ok (.iload_n 1, 1) := dk_27 (dk_at dksX6_ruled_4 0 rfl rfl)
theorem dX6_ruled_94 : decode cX6_ruled 94 = .ok (.iload_n 3, 1) := dk_29 (dk_at dksX6_ruled_4 1 rfl rfl)
theorem dX6_ruled_95 : decode cX6_ruled 95 = .ok (.sipush 1000, 3) := dk_17 3 232 (dk_at dksX6_ruled_4 2 rfl rfl)
theorem dX6_ruled_98 : decode cX6_ruled 98 = .ok (.if_icmp .lt 16, 3) := dk_161 0 16 (dk_at dksX6_ruled_4 5 rfl rfl)
theorem dX6_ruled_101 : decode cX6_ruled 101 = .ok (.aload_n 0, 1) := dk_42 (dk_at dksX6_ruled_4 8 rfl rfl)
theorem dX6_ruled_102 : decode cX6_ruled 102 = .ok (.getfield 65, 3) := dk_180 0 65 (dk_at dksX6_ruled_4 9 rfl rfl)
theorem dX6_ruled_105 : decode cX6_ruled 105 = .ok (.iload_n 3, 1) := dk_29 (dk_at dksX6_ruled_4 12 rfl rfl)
theorem dX6_ruled_106 : decode cX6_ruled 106 = .ok (.sipush 1000, 3) := dk_17 3 232 (dk_at dksX6_ruled_4 13 rfl rfl)
theorem dX6_ruled_109 : decode cX6_ruled 109 = .ok (.isub, 1) := dk_100 (dk_at dksX6_ruled_4 16 rfl rfl)
theorem dX6_ruled_110 : decode cX6_ruled 110 = .ok (.iaload, 1) := dk_46 (dk_at dksX6_ruled_4 17 rfl rfl)
theorem dX6_ruled_111 : decode cX6_ruled 111 = .ok (.goto 4, 3) := dk_167 0 4 (dk_at dksX6_ruled_4 18 rfl rfl)
theorem dX6_ruled_114 : decode cX6_ruled 114 = .ok (.iload_n 3, 1) := dk_29 (dk_at dksX6_ruled_4 21 rfl rfl)
theorem dX6_ruled_115 : decode cX6_ruled 115 = .ok (.iastore, 1) := dk_79 (dk_at dksX6_ruled_4 22 rfl rfl)
theorem dX6_ruled_116 : decode cX6_ruled 116 = .ok (.iinc 1 1, 3) := dk_132 1 1 (dk_at dksX6_ruled_5 0 rfl rfl)
theorem dX6_ruled_119 : decode cX6_ruled 119 = .ok (.iinc 2 1, 3) := dk_132 2 1 (dk_at dksX6_ruled_5 3 rfl rfl)
theorem dX6_ruled_122 : decode cX6_ruled 122 = .ok (.goto (-118), 3) := dk_167 255 138 (dk_at dksX6_ruled_5 6 rfl rfl)
theorem dX6_ruled_125 : decode cX6_ruled 125 = .ok (.aload_n 0, 1) := dk_42 (dk_at dksX6_ruled_5 9 rfl rfl)
theorem dX6_ruled_126 : decode cX6_ruled 126 = .ok (.getfield 248, 3) := dk_180 0 248 (dk_at dksX6_ruled_5 10 rfl rfl)
theorem dX6_ruled_129 : decode cX6_ruled 129 = .ok (.ifCond .ne 19, 3) := dk_154 0 19 (dk_at dksX6_ruled_5 13 rfl rfl)
theorem dX6_ruled_132 : decode cX6_ruled 132 = .ok (.aload_n 0, 1) := dk_42 (dk_at dksX6_ruled_5 16 rfl rfl)
theorem dX6_ruled_133 : decode cX6_ruled 133 = .ok (.getfield 65, 3) := dk_180 0 65 (dk_at dksX6_ruled_5 17 rfl rfl)
theorem dX6_ruled_136 : decode cX6_ruled 136 = .ok (.iconst 1, 1) := dk_4 (dk_at dksX6_ruled_5 20 rfl rfl)
theorem dX6_ruled_137 : decode cX6_ruled 137 = .ok (.iaload, 1) := dk_46 (dk_at dksX6_ruled_5 21 rfl rfl)
theorem dX6_ruled_138 : decode cX6_ruled 138 = .ok (.aload_n 0, 1) := dk_42 (dk_at dksX6_ruled_5 22 rfl rfl)
theorem dX6_ruled_139 : decode cX6_ruled 139 = .ok (.getfield 65, 3) := dk_180 0 65 (dk_at dksX6_ruled_6 0 rfl rfl)
theorem dX6_ruled_142 : decode cX6_ruled 142 = .ok (.iconst 0, 1) := dk_3 (dk_at dksX6_ruled_6 3 rfl rfl)
theorem dX6_ruled_143 : decode cX6_ruled 143 = .ok (.iaload, 1) := dk_46 (dk_at dksX6_ruled_6 4 rfl rfl)
theorem dX6_ruled_144 : decode cX6_ruled 144 = .ok (.isub, 1) := dk_100 (dk_at dksX6_ruled_6 5 rfl rfl)
theorem dX6_ruled_145 : decode cX6_ruled 145 = .ok (.goto 9, 3) := dk_167 0 9 (dk_at dksX6_ruled_6 6 rfl rfl)
theorem dX6_ruled_148 : decode cX6_ruled 148 = .ok (.aload_n 0, 1) := dk_42 (dk_at dksX6_ruled_6 9 rfl rfl)
theorem dX6_ruled_149 : decode cX6_ruled 149 = .ok (.getfield 62, 3) := dk_180 0 62 (dk_at dksX6_ruled_6 10 rfl rfl)
theorem dX6_ruled_152 : decode cX6_ruled 152 = .ok (.iconst 0, 1) := dk_3 (dk_at dksX6_ruled_6 13 rfl rfl)
theorem dX6_ruled_153 : decode cX6_ruled 153 = .ok (.iaload, 1) := dk_46 (dk_at dksX6_ruled_6 14 rfl rfl)
theorem dX6_ruled_154 : decode cX6_ruled 154 = .ok (.ireturn, 1) := dk_172 (dk_at dksX6_ruled_6 15 rfl rfl)
abbrev cX6_worked : ByteArray := prog_12_method_39_code
def yX6_worked : MethodName := ⟨RX6, "worked", "(III)I"⟩
def dkwX6_worked_4 : List UInt8 := [100, 172, 27, 28, 104, 172, 28, 154, 0, 7, 3, 167, 0, 6, 27, 28, 108, 172]
abbrev dktX6_worked_4 : List UInt8 := dkwX6_worked_4 ++ []
def dkwX6_worked_3 : List UInt8 := [184, 0, 154, 172, 27, 28, 160, 0, 7, 4, 167, 0, 4, 3, 184, 0, 154, 172, 27, 28, 96, 172, 27, 28]
abbrev dktX6_worked_3 : List UInt8 := dkwX6_worked_3 ++ dktX6_worked_4
def dkwX6_worked_2 : List UInt8 := [27, 28, 162, 0, 7, 4, 167, 0, 4, 3, 184, 0, 154, 172, 27, 28, 164, 0, 7, 4, 167, 0, 4, 3]
abbrev dktX6_worked_2 : List UInt8 := dkwX6_worked_2 ++ dktX6_worked_3
def dkwX6_worked_1 : List UInt8 := [170, 0, 0, 0, 0, 0, 93, 0, 0, 0, 0, 0, 0, 0, 5, 0, 0, 0, 39, 0, 0, 0, 53, 0, 0, 0, 67, 0, 0, 0, 81, 0, 0, 0, 85, 0, 0, 0, 89]
abbrev dktX6_worked_1 : List UInt8 := dkwX6_worked_1 ++ dktX6_worked_2
def dkwX6_worked_0 : List UInt8 := [26]
abbrev dktX6_worked_0 : List UInt8 := dkwX6_worked_0 ++ dktX6_worked_1
theorem dksX6_worked_0 : cX6_worked.data.toList.drop 0 = dktX6_worked_0 := by decide +kernel
theorem dksX6_worked_1 : cX6_worked.data.toList.drop 1 = dktX6_worked_1 := dk_seg dksX6_worked_0 1 rfl rfl
theorem dksX6_worked_2 : cX6_worked.data.toList.drop 40 = dktX6_worked_2 := dk_seg dksX6_worked_1 39 rfl rfl
theorem dksX6_worked_3 : cX6_worked.data.toList.drop 64 = dktX6_worked_3 := dk_seg dksX6_worked_2 24 rfl rfl
theorem dksX6_worked_4 : cX6_worked.data.toList.drop 88 = dktX6_worked_4 := dk_seg dksX6_worked_3 24 rfl rfl
theorem dX6_worked_0 : decode cX6_worked 0 = .ok (.iload_n 0, 1) := dk_26 (dk_at dksX6_worked_0 0 rfl rfl)
theorem dX6_worked_1 : decode cX6_worked 1 = .ok (.tableswitch 93 0 5 #[39, 53, 67, 81, 85, 89], 39) := by decide +kernel
theorem dX6_worked_40 : decode cX6_worked 40 = .ok (.iload_n 1, 1) := dk_27 (dk_at dksX6_worked_2 0 rfl rfl)
theorem dX6_worked_41 : decode cX6_worked 41 = .ok (.iload_n 2, 1) := dk_28 (dk_at dksX6_worked_2 1 rfl rfl)
theorem dX6_worked_42 : decode cX6_worked 42 = .ok (.if_icmp .ge 7, 3) := dk_162 0 7 (dk_at dksX6_worked_2 2 rfl rfl)
theorem dX6_worked_45 : decode cX6_worked 45 = .ok (.iconst 1, 1) := dk_4 (dk_at dksX6_worked_2 5 rfl rfl)
theorem dX6_worked_46 : decode cX6_worked 46 = .ok (.goto 4, 3) := dk_167 0 4 (dk_at dksX6_worked_2 6 rfl rfl)
theorem dX6_worked_49 : decode cX6_worked 49 = .ok (.iconst 0, 1) := dk_3 (dk_at dksX6_worked_2 9 rfl rfl)
theorem dX6_worked_50 : decode cX6_worked 50 = .ok (.invokestatic 154, 3) := dk_184 0 154 (dk_at dksX6_worked_2 10 rfl rfl)
theorem dX6_worked_53 : decode cX6_worked 53 = .ok (.ireturn, 1) := dk_172 (dk_at dksX6_worked_2 13 rfl rfl)
theorem dX6_worked_54 : decode cX6_worked 54 = .ok (.iload_n 1, 1) := dk_27 (dk_at dksX6_worked_2 14 rfl rfl)
theorem dX6_worked_55 : decode cX6_worked 55 = .ok (.iload_n 2, 1) := dk_28 (dk_at dksX6_worked_2 15 rfl rfl)
theorem dX6_worked_56 : decode cX6_worked 56 = .ok (.if_icmp .le 7, 3) := dk_164 0 7 (dk_at dksX6_worked_2 16 rfl rfl)
theorem dX6_worked_59 : decode cX6_worked 59 = .ok (.iconst 1, 1) := dk_4 (dk_at dksX6_worked_2 19 rfl rfl)
theorem dX6_worked_60 : decode cX6_worked 60 = .ok (.goto 4, 3) := dk_167 0 4 (dk_at dksX6_worked_2 20 rfl rfl)
theorem dX6_worked_63 : decode cX6_worked 63 = .ok (.iconst 0, 1) := dk_3 (dk_at dksX6_worked_2 23 rfl rfl)
theorem dX6_worked_64 : decode cX6_worked 64 = .ok (.invokestatic 154, 3) := dk_184 0 154 (dk_at dksX6_worked_3 0 rfl rfl)
theorem dX6_worked_67 : decode cX6_worked 67 = .ok (.ireturn, 1) := dk_172 (dk_at dksX6_worked_3 3 rfl rfl)
theorem dX6_worked_68 : decode cX6_worked 68 = .ok (.iload_n 1, 1) := dk_27 (dk_at dksX6_worked_3 4 rfl rfl)
theorem dX6_worked_69 : decode cX6_worked 69 = .ok (.iload_n 2, 1) := dk_28 (dk_at dksX6_worked_3 5 rfl rfl)
theorem dX6_worked_70 : decode cX6_worked 70 = .ok (.if_icmp .ne 7, 3) := dk_160 0 7 (dk_at dksX6_worked_3 6 rfl rfl)
theorem dX6_worked_73 : decode cX6_worked 73 = .ok (.iconst 1, 1) := dk_4 (dk_at dksX6_worked_3 9 rfl rfl)
theorem dX6_worked_74 : decode cX6_worked 74 = .ok (.goto 4, 3) := dk_167 0 4 (dk_at dksX6_worked_3 10 rfl rfl)
theorem dX6_worked_77 : decode cX6_worked 77 = .ok (.iconst 0, 1) := dk_3 (dk_at dksX6_worked_3 13 rfl rfl)
theorem dX6_worked_78 : decode cX6_worked 78 = .ok (.invokestatic 154, 3) := dk_184 0 154 (dk_at dksX6_worked_3 14 rfl rfl)
theorem dX6_worked_81 : decode cX6_worked 81 = .ok (.ireturn, 1) := dk_172 (dk_at dksX6_worked_3 17 rfl rfl)
theorem dX6_worked_82 : decode cX6_worked 82 = .ok (.iload_n 1, 1) := dk_27 (dk_at dksX6_worked_3 18 rfl rfl)
theorem dX6_worked_83 : decode cX6_worked 83 = .ok (.iload_n 2, 1) := dk_28 (dk_at dksX6_worked_3 19 rfl rfl)
theorem dX6_worked_84 : decode cX6_worked 84 = .ok (.iadd, 1) := dk_96 (dk_at dksX6_worked_3 20 rfl rfl)
theorem dX6_worked_85 : decode cX6_worked 85 = .ok (.ireturn, 1) := dk_172 (dk_at dksX6_worked_3 21 rfl rfl)
theorem dX6_worked_86 : decode cX6_worked 86 = .ok (.iload_n 1, 1) := dk_27 (dk_at dksX6_worked_3 22 rfl rfl)
theorem dX6_worked_87 : decode cX6_worked 87 = .ok (.iload_n 2, 1) := dk_28 (dk_at dksX6_worked_3 23 rfl rfl)
theorem dX6_worked_88 : decode cX6_worked 88 = .ok (.isub, 1) := dk_100 (dk_at dksX6_worked_4 0 rfl rfl)
theorem dX6_worked_89 : decode cX6_worked 89 = .ok (.ireturn, 1) := dk_172 (dk_at dksX6_worked_4 1 rfl rfl)
theorem dX6_worked_90 : decode cX6_worked 90 = .ok (.iload_n 1, 1) := dk_27 (dk_at dksX6_worked_4 2 rfl rfl)
theorem dX6_worked_91 : decode cX6_worked 91 = .ok (.iload_n 2, 1) := dk_28 (dk_at dksX6_worked_4 3 rfl rfl)
theorem dX6_worked_92 : decode cX6_worked 92 = .ok (.imul, 1) := dk_104 (dk_at dksX6_worked_4 4 rfl rfl)
theorem dX6_worked_93 : decode cX6_worked 93 = .ok (.ireturn, 1) := dk_172 (dk_at dksX6_worked_4 5 rfl rfl)
theorem dX6_worked_94 : decode cX6_worked 94 = .ok (.iload_n 2, 1) := dk_28 (dk_at dksX6_worked_4 6 rfl rfl)
theorem dX6_worked_95 : decode cX6_worked 95 = .ok (.ifCond .ne 7, 3) := dk_154 0 7 (dk_at dksX6_worked_4 7 rfl rfl)
theorem dX6_worked_98 : decode cX6_worked 98 = .ok (.iconst 0, 1) := dk_3 (dk_at dksX6_worked_4 10 rfl rfl)
theorem dX6_worked_99 : decode cX6_worked 99 = .ok (.goto 6, 3) := dk_167 0 6 (dk_at dksX6_worked_4 11 rfl rfl)
theorem dX6_worked_102 : decode cX6_worked 102 = .ok (.iload_n 1, 1) := dk_27 (dk_at dksX6_worked_4 14 rfl rfl)
theorem dX6_worked_103 : decode cX6_worked 103 = .ok (.iload_n 2, 1) := dk_28 (dk_at dksX6_worked_4 15 rfl rfl)
theorem dX6_worked_104 : decode cX6_worked 104 = .ok (.idiv, 1) := dk_108 (dk_at dksX6_worked_4 16 rfl rfl)
theorem dX6_worked_105 : decode cX6_worked 105 = .ok (.ireturn, 1) := dk_172 (dk_at dksX6_worked_4 17 rfl rfl)
abbrev cX6_fieldsSeen : ByteArray := prog_12_method_47_code
def yX6_fieldsSeen : MethodName := ⟨RX6, "fieldsSeen", "([II)J"⟩
def dkwX6_fieldsSeen_3 : List UInt8 := [167, 255, 206, 22, 4, 173]
abbrev dktX6_fieldsSeen_3 : List UInt8 := dkwX6_fieldsSeen_3 ++ []
def dkwX6_fieldsSeen_2 : List UInt8 := [96, 46, 29, 182, 1, 40, 153, 0, 10, 10, 21, 6, 121, 167, 0, 4, 9, 129, 55, 4, 132, 6, 1]
abbrev dktX6_fieldsSeen_2 : List UInt8 := dkwX6_fieldsSeen_2 ++ dktX6_fieldsSeen_3
def dkwX6_fieldsSeen_1 : List UInt8 := [182, 0, 122, 162, 0, 47, 22, 4, 42, 43, 28, 46, 21, 6, 43, 16, 8, 28, 96, 46, 43, 16, 16, 28]
abbrev dktX6_fieldsSeen_1 : List UInt8 := dkwX6_fieldsSeen_1 ++ dktX6_fieldsSeen_2
def dkwX6_fieldsSeen_0 : List UInt8 := [42, 43, 28, 43, 16, 16, 28, 96, 46, 182, 1, 36, 62, 9, 55, 4, 3, 54, 6, 21, 6, 42]
abbrev dktX6_fieldsSeen_0 : List UInt8 := dkwX6_fieldsSeen_0 ++ dktX6_fieldsSeen_1
theorem dksX6_fieldsSeen_0 : cX6_fieldsSeen.data.toList.drop 0 = dktX6_fieldsSeen_0 := by decide +kernel
theorem dksX6_fieldsSeen_1 : cX6_fieldsSeen.data.toList.drop 22 = dktX6_fieldsSeen_1 := dk_seg dksX6_fieldsSeen_0 22 rfl rfl
theorem dksX6_fieldsSeen_2 : cX6_fieldsSeen.data.toList.drop 46 = dktX6_fieldsSeen_2 := dk_seg dksX6_fieldsSeen_1 24 rfl rfl
theorem dksX6_fieldsSeen_3 : cX6_fieldsSeen.data.toList.drop 69 = dktX6_fieldsSeen_3 := dk_seg dksX6_fieldsSeen_2 23 rfl rfl
theorem dX6_fieldsSeen_0 : decode cX6_fieldsSeen 0 = .ok (.aload_n 0, 1) := dk_42 (dk_at dksX6_fieldsSeen_0 0 rfl rfl)
theorem dX6_fieldsSeen_1 : decode cX6_fieldsSeen 1 = .ok (.aload_n 1, 1) := dk_43 (dk_at dksX6_fieldsSeen_0 1 rfl rfl)
theorem dX6_fieldsSeen_2 : decode cX6_fieldsSeen 2 = .ok (.iload_n 2, 1) := dk_28 (dk_at dksX6_fieldsSeen_0 2 rfl rfl)
theorem dX6_fieldsSeen_3 : decode cX6_fieldsSeen 3 = .ok (.aload_n 1, 1) := dk_43 (dk_at dksX6_fieldsSeen_0 3 rfl rfl)
theorem dX6_fieldsSeen_4 : decode cX6_fieldsSeen 4 = .ok (.bipush 16, 2) := dk_16 16 (dk_at dksX6_fieldsSeen_0 4 rfl rfl)
theorem dX6_fieldsSeen_6 : decode cX6_fieldsSeen 6 = .ok (.iload_n 2, 1) := dk_28 (dk_at dksX6_fieldsSeen_0 6 rfl rfl)
theorem dX6_fieldsSeen_7 : decode cX6_fieldsSeen 7 = .ok (.iadd, 1) := dk_96 (dk_at dksX6_fieldsSeen_0 7 rfl rfl)
theorem dX6_fieldsSeen_8 : decode cX6_fieldsSeen 8 = .ok (.iaload, 1) := dk_46 (dk_at dksX6_fieldsSeen_0 8 rfl rfl)
theorem dX6_fieldsSeen_9 : decode cX6_fieldsSeen 9 = .ok (.invokevirtual 292, 3) := dk_182 1 36 (dk_at dksX6_fieldsSeen_0 9 rfl rfl)
theorem dX6_fieldsSeen_12 : decode cX6_fieldsSeen 12 = .ok (.istore_n 3, 1) := dk_62 (dk_at dksX6_fieldsSeen_0 12 rfl rfl)
theorem dX6_fieldsSeen_13 : decode cX6_fieldsSeen 13 = .ok (.lconst 0, 1) := dk_9 (dk_at dksX6_fieldsSeen_0 13 rfl rfl)
theorem dX6_fieldsSeen_14 : decode cX6_fieldsSeen 14 = .ok (.lstore 4, 2) := dk_55 4 (dk_at dksX6_fieldsSeen_0 14 rfl rfl)
theorem dX6_fieldsSeen_16 : decode cX6_fieldsSeen 16 = .ok (.iconst 0, 1) := dk_3 (dk_at dksX6_fieldsSeen_0 16 rfl rfl)
theorem dX6_fieldsSeen_17 : decode cX6_fieldsSeen 17 = .ok (.istore 6, 2) := dk_54 6 (dk_at dksX6_fieldsSeen_0 17 rfl rfl)
theorem dX6_fieldsSeen_19 : decode cX6_fieldsSeen 19 = .ok (.iload 6, 2) := dk_21 6 (dk_at dksX6_fieldsSeen_0 19 rfl rfl)
theorem dX6_fieldsSeen_21 : decode cX6_fieldsSeen 21 = .ok (.aload_n 0, 1) := dk_42 (dk_at dksX6_fieldsSeen_0 21 rfl rfl)
theorem dX6_fieldsSeen_22 : decode cX6_fieldsSeen 22 = .ok (.invokevirtual 122, 3) := dk_182 0 122 (dk_at dksX6_fieldsSeen_1 0 rfl rfl)
theorem dX6_fieldsSeen_25 : decode cX6_fieldsSeen 25 = .ok (.if_icmp .ge 47, 3) := dk_162 0 47 (dk_at dksX6_fieldsSeen_1 3 rfl rfl)
theorem dX6_fieldsSeen_28 : decode cX6_fieldsSeen 28 = .ok (.lload 4, 2) := dk_22 4 (dk_at dksX6_fieldsSeen_1 6 rfl rfl)
theorem dX6_fieldsSeen_30 : decode cX6_fieldsSeen 30 = .ok (.aload_n 0, 1) := dk_42 (dk_at dksX6_fieldsSeen_1 8 rfl rfl)
theorem dX6_fieldsSeen_31 : decode cX6_fieldsSeen 31 = .ok (.aload_n 1, 1) := dk_43 (dk_at dksX6_fieldsSeen_1 9 rfl rfl)
theorem dX6_fieldsSeen_32 : decode cX6_fieldsSeen 32 = .ok (.iload_n 2, 1) := dk_28 (dk_at dksX6_fieldsSeen_1 10 rfl rfl)
theorem dX6_fieldsSeen_33 : decode cX6_fieldsSeen 33 = .ok (.iaload, 1) := dk_46 (dk_at dksX6_fieldsSeen_1 11 rfl rfl)
theorem dX6_fieldsSeen_34 : decode cX6_fieldsSeen 34 = .ok (.iload 6, 2) := dk_21 6 (dk_at dksX6_fieldsSeen_1 12 rfl rfl)
theorem dX6_fieldsSeen_36 : decode cX6_fieldsSeen 36 = .ok (.aload_n 1, 1) := dk_43 (dk_at dksX6_fieldsSeen_1 14 rfl rfl)
theorem dX6_fieldsSeen_37 : decode cX6_fieldsSeen 37 = .ok (.bipush 8, 2) := dk_16 8 (dk_at dksX6_fieldsSeen_1 15 rfl rfl)
theorem dX6_fieldsSeen_39 : decode cX6_fieldsSeen 39 = .ok (.iload_n 2, 1) := dk_28 (dk_at dksX6_fieldsSeen_1 17 rfl rfl)
theorem dX6_fieldsSeen_40 : decode cX6_fieldsSeen 40 = .ok (.iadd, 1) := dk_96 (dk_at dksX6_fieldsSeen_1 18 rfl rfl)
theorem dX6_fieldsSeen_41 : decode cX6_fieldsSeen 41 = .ok (.iaload, 1) := dk_46 (dk_at dksX6_fieldsSeen_1 19 rfl rfl)
theorem dX6_fieldsSeen_42 : decode cX6_fieldsSeen 42 = .ok (.aload_n 1, 1) := dk_43 (dk_at dksX6_fieldsSeen_1 20 rfl rfl)
theorem dX6_fieldsSeen_43 : decode cX6_fieldsSeen 43 = .ok (.bipush 16, 2) := dk_16 16 (dk_at dksX6_fieldsSeen_1 21 rfl rfl)
theorem dX6_fieldsSeen_45 : decode cX6_fieldsSeen 45 = .ok (.iload_n 2, 1) := dk_28 (dk_at dksX6_fieldsSeen_1 23 rfl rfl)
theorem dX6_fieldsSeen_46 : decode cX6_fieldsSeen 46 = .ok (.iadd, 1) := dk_96 (dk_at dksX6_fieldsSeen_2 0 rfl rfl)
theorem dX6_fieldsSeen_47 : decode cX6_fieldsSeen 47 = .ok (.iaload, 1) := dk_46 (dk_at dksX6_fieldsSeen_2 1 rfl rfl)
theorem dX6_fieldsSeen_48 : decode cX6_fieldsSeen 48 = .ok (.iload_n 3, 1) := dk_29 (dk_at dksX6_fieldsSeen_2 2 rfl rfl)
theorem dX6_fieldsSeen_49 : decode cX6_fieldsSeen 49 = .ok (.invokevirtual 296, 3) := dk_182 1 40 (dk_at dksX6_fieldsSeen_2 3 rfl rfl)
theorem dX6_fieldsSeen_52 : decode cX6_fieldsSeen 52 = .ok (.ifCond .eq 10, 3) := dk_153 0 10 (dk_at dksX6_fieldsSeen_2 6 rfl rfl)
theorem dX6_fieldsSeen_55 : decode cX6_fieldsSeen 55 = .ok (.lconst 1, 1) := dk_10 (dk_at dksX6_fieldsSeen_2 9 rfl rfl)
theorem dX6_fieldsSeen_56 : decode cX6_fieldsSeen 56 = .ok (.iload 6, 2) := dk_21 6 (dk_at dksX6_fieldsSeen_2 10 rfl rfl)
theorem dX6_fieldsSeen_58 : decode cX6_fieldsSeen 58 = .ok (.lshl, 1) := dk_121 (dk_at dksX6_fieldsSeen_2 12 rfl rfl)
theorem dX6_fieldsSeen_59 : decode cX6_fieldsSeen 59 = .ok (.goto 4, 3) := dk_167 0 4 (dk_at dksX6_fieldsSeen_2 13 rfl rfl)
theorem dX6_fieldsSeen_62 : decode cX6_fieldsSeen 62 = .ok (.lconst 0, 1) := dk_9 (dk_at dksX6_fieldsSeen_2 16 rfl rfl)
theorem dX6_fieldsSeen_63 : decode cX6_fieldsSeen 63 = .ok (.lor, 1) := dk_129 (dk_at dksX6_fieldsSeen_2 17 rfl rfl)
theorem dX6_fieldsSeen_64 : decode cX6_fieldsSeen 64 = .ok (.lstore 4, 2) := dk_55 4 (dk_at dksX6_fieldsSeen_2 18 rfl rfl)
theorem dX6_fieldsSeen_66 : decode cX6_fieldsSeen 66 = .ok (.iinc 6 1, 3) := dk_132 6 1 (dk_at dksX6_fieldsSeen_2 20 rfl rfl)
theorem dX6_fieldsSeen_69 : decode cX6_fieldsSeen 69 = .ok (.goto (-50), 3) := dk_167 255 206 (dk_at dksX6_fieldsSeen_3 0 rfl rfl)
theorem dX6_fieldsSeen_72 : decode cX6_fieldsSeen 72 = .ok (.lload 4, 2) := dk_22 4 (dk_at dksX6_fieldsSeen_3 3 rfl rfl)
theorem dX6_fieldsSeen_74 : decode cX6_fieldsSeen 74 = .ok (.lreturn, 1) := dk_173 (dk_at dksX6_fieldsSeen_3 5 rfl rfl)
abbrev cX6_seesBy : ByteArray := prog_12_method_45_code
def yX6_seesBy : MethodName := ⟨RX6, "seesBy", "(IIIII)Z"⟩
def dkwX6_seesBy_4 : List UInt8 := [167, 0, 4, 3, 172]
abbrev dktX6_seesBy_4 : List UInt8 := dkwX6_seesBy_4 ++ []
def dkwX6_seesBy_3 : List UInt8 := [184, 1, 26, 29, 184, 1, 29, 7, 21, 4, 100, 163, 0, 16, 42, 27, 28, 182, 1, 32, 153, 0, 7, 4]
abbrev dktX6_seesBy_3 : List UInt8 := dkwX6_seesBy_3 ++ dktX6_seesBy_4
def dkwX6_seesBy_2 : List UInt8 := [184, 1, 17, 21, 5, 163, 0, 7, 4, 167, 0, 4, 3, 54, 8, 21, 8, 153, 0, 34, 21, 6, 21, 7]
abbrev dktX6_seesBy_2 : List UInt8 := dkwX6_seesBy_2 ++ dktX6_seesBy_3
def dkwX6_seesBy_1 : List UInt8 := [180, 0, 27, 112, 27, 42, 180, 0, 27, 112, 100, 54, 7, 21, 6, 184, 1, 20, 21, 7, 184, 1, 20]
abbrev dktX6_seesBy_1 : List UInt8 := dkwX6_seesBy_1 ++ dktX6_seesBy_2
def dkwX6_seesBy_0 : List UInt8 := [27, 28, 160, 0, 5, 4, 172, 28, 42, 180, 0, 27, 108, 27, 42, 180, 0, 27, 108, 100, 54, 6, 28, 42]
abbrev dktX6_seesBy_0 : List UInt8 := dkwX6_seesBy_0 ++ dktX6_seesBy_1
theorem dksX6_seesBy_0 : cX6_seesBy.data.toList.drop 0 = dktX6_seesBy_0 := by decide +kernel
theorem dksX6_seesBy_1 : cX6_seesBy.data.toList.drop 24 = dktX6_seesBy_1 := dk_seg dksX6_seesBy_0 24 rfl rfl
theorem dksX6_seesBy_2 : cX6_seesBy.data.toList.drop 47 = dktX6_seesBy_2 := dk_seg dksX6_seesBy_1 23 rfl rfl
theorem dksX6_seesBy_3 : cX6_seesBy.data.toList.drop 71 = dktX6_seesBy_3 := dk_seg dksX6_seesBy_2 24 rfl rfl
theorem dksX6_seesBy_4 : cX6_seesBy.data.toList.drop 95 = dktX6_seesBy_4 := dk_seg dksX6_seesBy_3 24 rfl rfl
theorem dX6_seesBy_0 : decode cX6_seesBy 0 = .ok (.iload_n 1, 1) := dk_27 (dk_at dksX6_seesBy_0 0 rfl rfl)
theorem dX6_seesBy_1 : decode cX6_seesBy 1 = .ok (.iload_n 2, 1) := dk_28 (dk_at dksX6_seesBy_0 1 rfl rfl)
theorem dX6_seesBy_2 : decode cX6_seesBy 2 = .ok (.if_icmp .ne 5, 3) := dk_160 0 5 (dk_at dksX6_seesBy_0 2 rfl rfl)
theorem dX6_seesBy_5 : decode cX6_seesBy 5 = .ok (.iconst 1, 1) := dk_4 (dk_at dksX6_seesBy_0 5 rfl rfl)
theorem dX6_seesBy_6 : decode cX6_seesBy 6 = .ok (.ireturn, 1) := dk_172 (dk_at dksX6_seesBy_0 6 rfl rfl)
theorem dX6_seesBy_7 : decode cX6_seesBy 7 = .ok (.iload_n 2, 1) := dk_28 (dk_at dksX6_seesBy_0 7 rfl rfl)
theorem dX6_seesBy_8 : decode cX6_seesBy 8 = .ok (.aload_n 0, 1) := dk_42 (dk_at dksX6_seesBy_0 8 rfl rfl)
theorem dX6_seesBy_9 : decode cX6_seesBy 9 = .ok (.getfield 27, 3) := dk_180 0 27 (dk_at dksX6_seesBy_0 9 rfl rfl)
theorem dX6_seesBy_12 : decode cX6_seesBy 12 = .ok (.idiv, 1) := dk_108 (dk_at dksX6_seesBy_0 12 rfl rfl)
theorem dX6_seesBy_13 : decode cX6_seesBy 13 = .ok (.iload_n 1, 1) := dk_27 (dk_at dksX6_seesBy_0 13 rfl rfl)
theorem dX6_seesBy_14 : decode cX6_seesBy 14 = .ok (.aload_n 0, 1) := dk_42 (dk_at dksX6_seesBy_0 14 rfl rfl)
theorem dX6_seesBy_15 : decode cX6_seesBy 15 = .ok (.getfield 27, 3) := dk_180 0 27 (dk_at dksX6_seesBy_0 15 rfl rfl)
theorem dX6_seesBy_18 : decode cX6_seesBy 18 = .ok (.idiv, 1) := dk_108 (dk_at dksX6_seesBy_0 18 rfl rfl)
theorem dX6_seesBy_19 : decode cX6_seesBy 19 = .ok (.isub, 1) := dk_100 (dk_at dksX6_seesBy_0 19 rfl rfl)
theorem dX6_seesBy_20 : decode cX6_seesBy 20 = .ok (.istore 6, 2) := dk_54 6 (dk_at dksX6_seesBy_0 20 rfl rfl)
theorem dX6_seesBy_22 : decode cX6_seesBy 22 = .ok (.iload_n 2, 1) := dk_28 (dk_at dksX6_seesBy_0 22 rfl rfl)
theorem dX6_seesBy_23 : decode cX6_seesBy 23 = .ok (.aload_n 0, 1) := dk_42 (dk_at dksX6_seesBy_0 23 rfl rfl)
theorem dX6_seesBy_24 : decode cX6_seesBy 24 = .ok (.getfield 27, 3) := dk_180 0 27 (dk_at dksX6_seesBy_1 0 rfl rfl)
theorem dX6_seesBy_27 : decode cX6_seesBy 27 = .ok (.irem, 1) := dk_112 (dk_at dksX6_seesBy_1 3 rfl rfl)
theorem dX6_seesBy_28 : decode cX6_seesBy 28 = .ok (.iload_n 1, 1) := dk_27 (dk_at dksX6_seesBy_1 4 rfl rfl)
theorem dX6_seesBy_29 : decode cX6_seesBy 29 = .ok (.aload_n 0, 1) := dk_42 (dk_at dksX6_seesBy_1 5 rfl rfl)
theorem dX6_seesBy_30 : decode cX6_seesBy 30 = .ok (.getfield 27, 3) := dk_180 0 27 (dk_at dksX6_seesBy_1 6 rfl rfl)
theorem dX6_seesBy_33 : decode cX6_seesBy 33 = .ok (.irem, 1) := dk_112 (dk_at dksX6_seesBy_1 9 rfl rfl)
theorem dX6_seesBy_34 : decode cX6_seesBy 34 = .ok (.isub, 1) := dk_100 (dk_at dksX6_seesBy_1 10 rfl rfl)
theorem dX6_seesBy_35 : decode cX6_seesBy 35 = .ok (.istore 7, 2) := dk_54 7 (dk_at dksX6_seesBy_1 11 rfl rfl)
theorem dX6_seesBy_37 : decode cX6_seesBy 37 = .ok (.iload 6, 2) := dk_21 6 (dk_at dksX6_seesBy_1 13 rfl rfl)
theorem dX6_seesBy_39 : decode cX6_seesBy 39 = .ok (.invokestatic 276, 3) := dk_184 1 20 (dk_at dksX6_seesBy_1 15 rfl rfl)
theorem dX6_seesBy_42 : decode cX6_seesBy 42 = .ok (.iload 7, 2) := dk_21 7 (dk_at dksX6_seesBy_1 18 rfl rfl)
theorem dX6_seesBy_44 : decode cX6_seesBy 44 = .ok (.invokestatic 276, 3) := dk_184 1 20 (dk_at dksX6_seesBy_1 20 rfl rfl)
theorem dX6_seesBy_47 : decode cX6_seesBy 47 = .ok (.invokestatic 273, 3) := dk_184 1 17 (dk_at dksX6_seesBy_2 0 rfl rfl)
theorem dX6_seesBy_50 : decode cX6_seesBy 50 = .ok (.iload 5, 2) := dk_21 5 (dk_at dksX6_seesBy_2 3 rfl rfl)
theorem dX6_seesBy_52 : decode cX6_seesBy 52 = .ok (.if_icmp .gt 7, 3) := dk_163 0 7 (dk_at dksX6_seesBy_2 5 rfl rfl)
theorem dX6_seesBy_55 : decode cX6_seesBy 55 = .ok (.iconst 1, 1) := dk_4 (dk_at dksX6_seesBy_2 8 rfl rfl)
theorem dX6_seesBy_56 : decode cX6_seesBy 56 = .ok (.goto 4, 3) := dk_167 0 4 (dk_at dksX6_seesBy_2 9 rfl rfl)
theorem dX6_seesBy_59 : decode cX6_seesBy 59 = .ok (.iconst 0, 1) := dk_3 (dk_at dksX6_seesBy_2 12 rfl rfl)
theorem dX6_seesBy_60 : decode cX6_seesBy 60 = .ok (.istore 8, 2) := dk_54 8 (dk_at dksX6_seesBy_2 13 rfl rfl)
theorem dX6_seesBy_62 : decode cX6_seesBy 62 = .ok (.iload 8, 2) := dk_21 8 (dk_at dksX6_seesBy_2 15 rfl rfl)
theorem dX6_seesBy_64 : decode cX6_seesBy 64 = .ok (.ifCond .eq 34, 3) := dk_153 0 34 (dk_at dksX6_seesBy_2 17 rfl rfl)
theorem dX6_seesBy_67 : decode cX6_seesBy 67 = .ok (.iload 6, 2) := dk_21 6 (dk_at dksX6_seesBy_2 20 rfl rfl)
theorem dX6_seesBy_69 : decode cX6_seesBy 69 = .ok (.iload 7, 2) := dk_21 7 (dk_at dksX6_seesBy_2 22 rfl rfl)
theorem dX6_seesBy_71 : decode cX6_seesBy 71 = .ok (.invokestatic 282, 3) := dk_184 1 26 (dk_at dksX6_seesBy_3 0 rfl rfl)
theorem dX6_seesBy_74 : decode cX6_seesBy 74 = .ok (.iload_n 3, 1) := dk_29 (dk_at dksX6_seesBy_3 3 rfl rfl)
theorem dX6_seesBy_75 : decode cX6_seesBy 75 = .ok (.invokestatic 285, 3) := dk_184 1 29 (dk_at dksX6_seesBy_3 4 rfl rfl)
theorem dX6_seesBy_78 : decode cX6_seesBy 78 = .ok (.iconst 4, 1) := dk_7 (dk_at dksX6_seesBy_3 7 rfl rfl)
theorem dX6_seesBy_79 : decode cX6_seesBy 79 = .ok (.iload 4, 2) := dk_21 4 (dk_at dksX6_seesBy_3 8 rfl rfl)
theorem dX6_seesBy_81 : decode cX6_seesBy 81 = .ok (.isub, 1) := dk_100 (dk_at dksX6_seesBy_3 10 rfl rfl)
theorem dX6_seesBy_82 : decode cX6_seesBy 82 = .ok (.if_icmp .gt 16, 3) := dk_163 0 16 (dk_at dksX6_seesBy_3 11 rfl rfl)
theorem dX6_seesBy_85 : decode cX6_seesBy 85 = .ok (.aload_n 0, 1) := dk_42 (dk_at dksX6_seesBy_3 14 rfl rfl)
theorem dX6_seesBy_86 : decode cX6_seesBy 86 = .ok (.iload_n 1, 1) := dk_27 (dk_at dksX6_seesBy_3 15 rfl rfl)
theorem dX6_seesBy_87 : decode cX6_seesBy 87 = .ok (.iload_n 2, 1) := dk_28 (dk_at dksX6_seesBy_3 16 rfl rfl)
theorem dX6_seesBy_88 : decode cX6_seesBy 88 = .ok (.invokevirtual 288, 3) := dk_182 1 32 (dk_at dksX6_seesBy_3 17 rfl rfl)
theorem dX6_seesBy_91 : decode cX6_seesBy 91 = .ok (.ifCond .eq 7, 3) := dk_153 0 7 (dk_at dksX6_seesBy_3 20 rfl rfl)
theorem dX6_seesBy_94 : decode cX6_seesBy 94 = .ok (.iconst 1, 1) := dk_4 (dk_at dksX6_seesBy_3 23 rfl rfl)
theorem dX6_seesBy_95 : decode cX6_seesBy 95 = .ok (.goto 4, 3) := dk_167 0 4 (dk_at dksX6_seesBy_4 0 rfl rfl)
theorem dX6_seesBy_98 : decode cX6_seesBy 98 = .ok (.iconst 0, 1) := dk_3 (dk_at dksX6_seesBy_4 3 rfl rfl)
theorem dX6_seesBy_99 : decode cX6_seesBy 99 = .ok (.ireturn, 1) := dk_172 (dk_at dksX6_seesBy_4 4 rfl rfl)
abbrev cX6_way : ByteArray := prog_12_method_42_code
def yX6_way : MethodName := ⟨RX6, "way", "(II)I"⟩
def dkwX6_way_3 : List UInt8 := [6, 172]
abbrev dktX6_way_3 : List UInt8 := dkwX6_way_3 ++ []
def dkwX6_way_2 : List UInt8 := [156, 0, 16, 27, 156, 0, 8, 16, 7, 167, 0, 16, 4, 167, 0, 12, 27, 156, 0, 7, 8, 167, 0, 4]
abbrev dktX6_way_2 : List UInt8 := dkwX6_way_2 ++ dktX6_way_3
def dkwX6_way_1 : List UInt8 := [184, 1, 20, 5, 26, 184, 1, 20, 104, 164, 0, 14, 27, 156, 0, 8, 16, 6, 167, 0, 4, 5, 172, 26]
abbrev dktX6_way_1 : List UInt8 := dkwX6_way_1 ++ dktX6_way_2
def dkwX6_way_0 : List UInt8 := [26, 184, 1, 20, 5, 27, 184, 1, 20, 104, 164, 0, 13, 26, 156, 0, 7, 3, 167, 0, 4, 7, 172, 27]
abbrev dktX6_way_0 : List UInt8 := dkwX6_way_0 ++ dktX6_way_1
theorem dksX6_way_0 : cX6_way.data.toList.drop 0 = dktX6_way_0 := by decide +kernel
theorem dksX6_way_1 : cX6_way.data.toList.drop 24 = dktX6_way_1 := dk_seg dksX6_way_0 24 rfl rfl
theorem dksX6_way_2 : cX6_way.data.toList.drop 48 = dktX6_way_2 := dk_seg dksX6_way_1 24 rfl rfl
theorem dksX6_way_3 : cX6_way.data.toList.drop 72 = dktX6_way_3 := dk_seg dksX6_way_2 24 rfl rfl
theorem dX6_way_0 : decode cX6_way 0 = .ok (.iload_n 0, 1) := dk_26 (dk_at dksX6_way_0 0 rfl rfl)
theorem dX6_way_1 : decode cX6_way 1 = .ok (.invokestatic 276, 3) := dk_184 1 20 (dk_at dksX6_way_0 1 rfl rfl)
theorem dX6_way_4 : decode cX6_way 4 = .ok (.iconst 2, 1) := dk_5 (dk_at dksX6_way_0 4 rfl rfl)
theorem dX6_way_5 : decode cX6_way 5 = .ok (.iload_n 1, 1) := dk_27 (dk_at dksX6_way_0 5 rfl rfl)
theorem dX6_way_6 : decode cX6_way 6 = .ok (.invokestatic 276, 3) := dk_184 1 20 (dk_at dksX6_way_0 6 rfl rfl)
theorem dX6_way_9 : decode cX6_way 9 = .ok (.imul, 1) := dk_104 (dk_at dksX6_way_0 9 rfl rfl)
theorem dX6_way_10 : decode cX6_way 10 = .ok (.if_icmp .le 13, 3) := dk_164 0 13 (dk_at dksX6_way_0 10 rfl rfl)
theorem dX6_way_13 : decode cX6_way 13 = .ok (.iload_n 0, 1) := dk_26 (dk_at dksX6_way_0 13 rfl rfl)
theorem dX6_way_14 : decode cX6_way 14 = .ok (.ifCond .ge 7, 3) := dk_156 0 7 (dk_at dksX6_way_0 14 rfl rfl)
theorem dX6_way_17 : decode cX6_way 17 = .ok (.iconst 0, 1) := dk_3 (dk_at dksX6_way_0 17 rfl rfl)
theorem dX6_way_18 : decode cX6_way 18 = .ok (.goto 4, 3) := dk_167 0 4 (dk_at dksX6_way_0 18 rfl rfl)
theorem dX6_way_21 : decode cX6_way 21 = .ok (.iconst 4, 1) := dk_7 (dk_at dksX6_way_0 21 rfl rfl)
theorem dX6_way_22 : decode cX6_way 22 = .ok (.ireturn, 1) := dk_172 (dk_at dksX6_way_0 22 rfl rfl)
theorem dX6_way_23 : decode cX6_way 23 = .ok (.iload_n 1, 1) := dk_27 (dk_at dksX6_way_0 23 rfl rfl)
theorem dX6_way_24 : decode cX6_way 24 = .ok (.invokestatic 276, 3) := dk_184 1 20 (dk_at dksX6_way_1 0 rfl rfl)
theorem dX6_way_27 : decode cX6_way 27 = .ok (.iconst 2, 1) := dk_5 (dk_at dksX6_way_1 3 rfl rfl)
theorem dX6_way_28 : decode cX6_way 28 = .ok (.iload_n 0, 1) := dk_26 (dk_at dksX6_way_1 4 rfl rfl)
theorem dX6_way_29 : decode cX6_way 29 = .ok (.invokestatic 276, 3) := dk_184 1 20 (dk_at dksX6_way_1 5 rfl rfl)
theorem dX6_way_32 : decode cX6_way 32 = .ok (.imul, 1) := dk_104 (dk_at dksX6_way_1 8 rfl rfl)
theorem dX6_way_33 : decode cX6_way 33 = .ok (.if_icmp .le 14, 3) := dk_164 0 14 (dk_at dksX6_way_1 9 rfl rfl)
theorem dX6_way_36 : decode cX6_way 36 = .ok (.iload_n 1, 1) := dk_27 (dk_at dksX6_way_1 12 rfl rfl)
theorem dX6_way_37 : decode cX6_way 37 = .ok (.ifCond .ge 8, 3) := dk_156 0 8 (dk_at dksX6_way_1 13 rfl rfl)
theorem dX6_way_40 : decode cX6_way 40 = .ok (.bipush 6, 2) := dk_16 6 (dk_at dksX6_way_1 16 rfl rfl)
theorem dX6_way_42 : decode cX6_way 42 = .ok (.goto 4, 3) := dk_167 0 4 (dk_at dksX6_way_1 18 rfl rfl)
theorem dX6_way_45 : decode cX6_way 45 = .ok (.iconst 2, 1) := dk_5 (dk_at dksX6_way_1 21 rfl rfl)
theorem dX6_way_46 : decode cX6_way 46 = .ok (.ireturn, 1) := dk_172 (dk_at dksX6_way_1 22 rfl rfl)
theorem dX6_way_47 : decode cX6_way 47 = .ok (.iload_n 0, 1) := dk_26 (dk_at dksX6_way_1 23 rfl rfl)
theorem dX6_way_48 : decode cX6_way 48 = .ok (.ifCond .ge 16, 3) := dk_156 0 16 (dk_at dksX6_way_2 0 rfl rfl)
theorem dX6_way_51 : decode cX6_way 51 = .ok (.iload_n 1, 1) := dk_27 (dk_at dksX6_way_2 3 rfl rfl)
theorem dX6_way_52 : decode cX6_way 52 = .ok (.ifCond .ge 8, 3) := dk_156 0 8 (dk_at dksX6_way_2 4 rfl rfl)
theorem dX6_way_55 : decode cX6_way 55 = .ok (.bipush 7, 2) := dk_16 7 (dk_at dksX6_way_2 7 rfl rfl)
theorem dX6_way_57 : decode cX6_way 57 = .ok (.goto 16, 3) := dk_167 0 16 (dk_at dksX6_way_2 9 rfl rfl)
theorem dX6_way_60 : decode cX6_way 60 = .ok (.iconst 1, 1) := dk_4 (dk_at dksX6_way_2 12 rfl rfl)
theorem dX6_way_61 : decode cX6_way 61 = .ok (.goto 12, 3) := dk_167 0 12 (dk_at dksX6_way_2 13 rfl rfl)
theorem dX6_way_64 : decode cX6_way 64 = .ok (.iload_n 1, 1) := dk_27 (dk_at dksX6_way_2 16 rfl rfl)
theorem dX6_way_65 : decode cX6_way 65 = .ok (.ifCond .ge 7, 3) := dk_156 0 7 (dk_at dksX6_way_2 17 rfl rfl)
theorem dX6_way_68 : decode cX6_way 68 = .ok (.iconst 5, 1) := dk_8 (dk_at dksX6_way_2 20 rfl rfl)
theorem dX6_way_69 : decode cX6_way 69 = .ok (.goto 4, 3) := dk_167 0 4 (dk_at dksX6_way_2 21 rfl rfl)
theorem dX6_way_72 : decode cX6_way 72 = .ok (.iconst 3, 1) := dk_6 (dk_at dksX6_way_3 0 rfl rfl)
theorem dX6_way_73 : decode cX6_way 73 = .ok (.ireturn, 1) := dk_172 (dk_at dksX6_way_3 1 rfl rfl)
abbrev cX6_eighthsBetween : ByteArray := prog_12_method_43_code
def yX6_eighthsBetween : MethodName := ⟨RX6, "eighthsBetween", "(II)I"⟩
def dkwX6_eighthsBetween_0 : List UInt8 := [26, 27, 100, 184, 1, 20, 61, 28, 16, 8, 28, 100, 184, 0, 145, 172]
abbrev dktX6_eighthsBetween_0 : List UInt8 := dkwX6_eighthsBetween_0 ++ []
theorem dksX6_eighthsBetween_0 : cX6_eighthsBetween.data.toList.drop 0 = dktX6_eighthsBetween_0 := by decide +kernel
theorem dX6_eighthsBetween_0 : decode cX6_eighthsBetween 0 = .ok (.iload_n 0, 1) := dk_26 (dk_at dksX6_eighthsBetween_0 0 rfl rfl)
theorem dX6_eighthsBetween_1 : decode cX6_eighthsBetween 1 = .ok (.iload_n 1, 1) := dk_27 (dk_at dksX6_eighthsBetween_0 1 rfl rfl)
theorem dX6_eighthsBetween_2 : decode cX6_eighthsBetween 2 = .ok (.isub, 1) := dk_100 (dk_at dksX6_eighthsBetween_0 2 rfl rfl)
theorem dX6_eighthsBetween_3 : decode cX6_eighthsBetween 3 = .ok (.invokestatic 276, 3) := dk_184 1 20 (dk_at dksX6_eighthsBetween_0 3 rfl rfl)
theorem dX6_eighthsBetween_6 : decode cX6_eighthsBetween 6 = .ok (.istore_n 2, 1) := dk_61 (dk_at dksX6_eighthsBetween_0 6 rfl rfl)
theorem dX6_eighthsBetween_7 : decode cX6_eighthsBetween 7 = .ok (.iload_n 2, 1) := dk_28 (dk_at dksX6_eighthsBetween_0 7 rfl rfl)
theorem dX6_eighthsBetween_8 : decode cX6_eighthsBetween 8 = .ok (.bipush 8, 2) := dk_16 8 (dk_at dksX6_eighthsBetween_0 8 rfl rfl)
theorem dX6_eighthsBetween_10 : decode cX6_eighthsBetween 10 = .ok (.iload_n 2, 1) := dk_28 (dk_at dksX6_eighthsBetween_0 10 rfl rfl)
theorem dX6_eighthsBetween_11 : decode cX6_eighthsBetween 11 = .ok (.isub, 1) := dk_100 (dk_at dksX6_eighthsBetween_0 11 rfl rfl)
theorem dX6_eighthsBetween_12 : decode cX6_eighthsBetween 12 = .ok (.invokestatic 145, 3) := dk_184 0 145 (dk_at dksX6_eighthsBetween_0 12 rfl rfl)
theorem dX6_eighthsBetween_15 : decode cX6_eighthsBetween 15 = .ok (.ireturn, 1) := dk_172 (dk_at dksX6_eighthsBetween_0 15 rfl rfl)
abbrev cX6_isClear : ByteArray := prog_12_method_44_code
def yX6_isClear : MethodName := ⟨RX6, "isClear", "(II)Z"⟩
def dkwX6_isClear_4 : List UInt8 := [29, 104, 21, 4, 96, 51, 154, 0, 7, 4, 167, 0, 4, 3, 54, 5, 167, 255, 166, 21, 5, 172]
abbrev dktX6_isClear_4 : List UInt8 := dkwX6_isClear_4 ++ []
def dkwX6_isClear_3 : List UInt8 := [167, 0, 4, 3, 54, 6, 21, 5, 153, 0, 29, 21, 6, 153, 0, 20, 42, 180, 0, 33, 42, 180, 0, 27]
abbrev dktX6_isClear_3 : List UInt8 := dkwX6_isClear_3 ++ dktX6_isClear_4
def dkwX6_isClear_2 : List UInt8 := [112, 21, 4, 100, 184, 1, 23, 96, 54, 4, 42, 180, 0, 27, 29, 104, 21, 4, 96, 28, 159, 0, 7, 4]
abbrev dktX6_isClear_2 : List UInt8 := dkwX6_isClear_2 ++ dktX6_isClear_3
def dkwX6_isClear_1 : List UInt8 := [153, 0, 91, 29, 28, 42, 180, 0, 27, 108, 29, 100, 184, 1, 23, 96, 62, 21, 4, 28, 42, 180, 0, 27]
abbrev dktX6_isClear_1 : List UInt8 := dkwX6_isClear_1 ++ dktX6_isClear_2
def dkwX6_isClear_0 : List UInt8 := [27, 42, 180, 0, 27, 108, 62, 27, 42, 180, 0, 27, 112, 54, 4, 4, 54, 5, 4, 54, 6, 21, 6]
abbrev dktX6_isClear_0 : List UInt8 := dkwX6_isClear_0 ++ dktX6_isClear_1
theorem dksX6_isClear_0 : cX6_isClear.data.toList.drop 0 = dktX6_isClear_0 := by decide +kernel
theorem dksX6_isClear_1 : cX6_isClear.data.toList.drop 23 = dktX6_isClear_1 := dk_seg dksX6_isClear_0 23 rfl rfl
theorem dksX6_isClear_2 : cX6_isClear.data.toList.drop 47 = dktX6_isClear_2 := dk_seg dksX6_isClear_1 24 rfl rfl
theorem dksX6_isClear_3 : cX6_isClear.data.toList.drop 71 = dktX6_isClear_3 := dk_seg dksX6_isClear_2 24 rfl rfl
theorem dksX6_isClear_4 : cX6_isClear.data.toList.drop 95 = dktX6_isClear_4 := dk_seg dksX6_isClear_3 24 rfl rfl
theorem dX6_isClear_0 : decode cX6_isClear 0 = .ok (.iload_n 1, 1) := dk_27 (dk_at dksX6_isClear_0 0 rfl rfl)
theorem dX6_isClear_1 : decode cX6_isClear 1 = .ok (.aload_n 0, 1) := dk_42 (dk_at dksX6_isClear_0 1 rfl rfl)
theorem dX6_isClear_2 : decode cX6_isClear 2 = .ok (.getfield 27, 3) := dk_180 0 27 (dk_at dksX6_isClear_0 2 rfl rfl)
theorem dX6_isClear_5 : decode cX6_isClear 5 = .ok (.idiv, 1) := dk_108 (dk_at dksX6_isClear_0 5 rfl rfl)
theorem dX6_isClear_6 : decode cX6_isClear 6 = .ok (.istore_n 3, 1) := dk_62 (dk_at dksX6_isClear_0 6 rfl rfl)
theorem dX6_isClear_7 : decode cX6_isClear 7 = .ok (.iload_n 1, 1) := dk_27 (dk_at dksX6_isClear_0 7 rfl rfl)
theorem dX6_isClear_8 : decode cX6_isClear 8 = .ok (.aload_n 0, 1) := dk_42 (dk_at dksX6_isClear_0 8 rfl rfl)
theorem dX6_isClear_9 : decode cX6_isClear 9 = .ok (.getfield 27, 3) := dk_180 0 27 (dk_at dksX6_isClear_0 9 rfl rfl)
theorem dX6_isClear_12 : decode cX6_isClear 12 = .ok (.irem, 1) := dk_112 (dk_at dksX6_isClear_0 12 rfl rfl)
theorem dX6_isClear_13 : decode cX6_isClear 13 = .ok (.istore 4, 2) := dk_54 4 (dk_at dksX6_isClear_0 13 rfl rfl)
theorem dX6_isClear_15 : decode cX6_isClear 15 = .ok (.iconst 1, 1) := dk_4 (dk_at dksX6_isClear_0 15 rfl rfl)
theorem dX6_isClear_16 : decode cX6_isClear 16 = .ok (.istore 5, 2) := dk_54 5 (dk_at dksX6_isClear_0 16 rfl rfl)
theorem dX6_isClear_18 : decode cX6_isClear 18 = .ok (.iconst 1, 1) := dk_4 (dk_at dksX6_isClear_0 18 rfl rfl)
theorem dX6_isClear_19 : decode cX6_isClear 19 = .ok (.istore 6, 2) := dk_54 6 (dk_at dksX6_isClear_0 19 rfl rfl)
theorem dX6_isClear_21 : decode cX6_isClear 21 = .ok (.iload 6, 2) := dk_21 6 (dk_at dksX6_isClear_0 21 rfl rfl)
theorem dX6_isClear_23 : decode cX6_isClear 23 = .ok (.ifCond .eq 91, 3) := dk_153 0 91 (dk_at dksX6_isClear_1 0 rfl rfl)
theorem dX6_isClear_26 : decode cX6_isClear 26 = .ok (.iload_n 3, 1) := dk_29 (dk_at dksX6_isClear_1 3 rfl rfl)
theorem dX6_isClear_27 : decode cX6_isClear 27 = .ok (.iload_n 2, 1) := dk_28 (dk_at dksX6_isClear_1 4 rfl rfl)
theorem dX6_isClear_28 : decode cX6_isClear 28 = .ok (.aload_n 0, 1) := dk_42 (dk_at dksX6_isClear_1 5 rfl rfl)
theorem dX6_isClear_29 : decode cX6_isClear 29 = .ok (.getfield 27, 3) := dk_180 0 27 (dk_at dksX6_isClear_1 6 rfl rfl)
theorem dX6_isClear_32 : decode cX6_isClear 32 = .ok (.idiv, 1) := dk_108 (dk_at dksX6_isClear_1 9 rfl rfl)
theorem dX6_isClear_33 : decode cX6_isClear 33 = .ok (.iload_n 3, 1) := dk_29 (dk_at dksX6_isClear_1 10 rfl rfl)
theorem dX6_isClear_34 : decode cX6_isClear 34 = .ok (.isub, 1) := dk_100 (dk_at dksX6_isClear_1 11 rfl rfl)
theorem dX6_isClear_35 : decode cX6_isClear 35 = .ok (.invokestatic 279, 3) := dk_184 1 23 (dk_at dksX6_isClear_1 12 rfl rfl)
theorem dX6_isClear_38 : decode cX6_isClear 38 = .ok (.iadd, 1) := dk_96 (dk_at dksX6_isClear_1 15 rfl rfl)
theorem dX6_isClear_39 : decode cX6_isClear 39 = .ok (.istore_n 3, 1) := dk_62 (dk_at dksX6_isClear_1 16 rfl rfl)
theorem dX6_isClear_40 : decode cX6_isClear 40 = .ok (.iload 4, 2) := dk_21 4 (dk_at dksX6_isClear_1 17 rfl rfl)
theorem dX6_isClear_42 : decode cX6_isClear 42 = .ok (.iload_n 2, 1) := dk_28 (dk_at dksX6_isClear_1 19 rfl rfl)
theorem dX6_isClear_43 : decode cX6_isClear 43 = .ok (.aload_n 0, 1) := dk_42 (dk_at dksX6_isClear_1 20 rfl rfl)
theorem dX6_isClear_44 : decode cX6_isClear 44 = .ok (.getfield 27, 3) := dk_180 0 27 (dk_at dksX6_isClear_1 21 rfl rfl)
theorem dX6_isClear_47 : decode cX6_isClear 47 = .ok (.irem, 1) := dk_112 (dk_at dksX6_isClear_2 0 rfl rfl)
theorem dX6_isClear_48 : decode cX6_isClear 48 = .ok (.iload 4, 2) := dk_21 4 (dk_at dksX6_isClear_2 1 rfl rfl)
theorem dX6_isClear_50 : decode cX6_isClear 50 = .ok (.isub, 1) := dk_100 (dk_at dksX6_isClear_2 3 rfl rfl)
theorem dX6_isClear_51 : decode cX6_isClear 51 = .ok (.invokestatic 279, 3) := dk_184 1 23 (dk_at dksX6_isClear_2 4 rfl rfl)
theorem dX6_isClear_54 : decode cX6_isClear 54 = .ok (.iadd, 1) := dk_96 (dk_at dksX6_isClear_2 7 rfl rfl)
theorem dX6_isClear_55 : decode cX6_isClear 55 = .ok (.istore 4, 2) := dk_54 4 (dk_at dksX6_isClear_2 8 rfl rfl)
theorem dX6_isClear_57 : decode cX6_isClear 57 = .ok (.aload_n 0, 1) := dk_42 (dk_at dksX6_isClear_2 10 rfl rfl)
theorem dX6_isClear_58 : decode cX6_isClear 58 = .ok (.getfield 27, 3) := dk_180 0 27 (dk_at dksX6_isClear_2 11 rfl rfl)
theorem dX6_isClear_61 : decode cX6_isClear 61 = .ok (.iload_n 3, 1) := dk_29 (dk_at dksX6_isClear_2 14 rfl rfl)
theorem dX6_isClear_62 : decode cX6_isClear 62 = .ok (.imul, 1) := dk_104 (dk_at dksX6_isClear_2 15 rfl rfl)
theorem dX6_isClear_63 : decode cX6_isClear 63 = .ok (.iload 4, 2) := dk_21 4 (dk_at dksX6_isClear_2 16 rfl rfl)
theorem dX6_isClear_65 : decode cX6_isClear 65 = .ok (.iadd, 1) := dk_96 (dk_at dksX6_isClear_2 18 rfl rfl)
theorem dX6_isClear_66 : decode cX6_isClear 66 = .ok (.iload_n 2, 1) := dk_28 (dk_at dksX6_isClear_2 19 rfl rfl)
theorem dX6_isClear_67 : decode cX6_isClear 67 = .ok (.if_icmp .eq 7, 3) := dk_159 0 7 (dk_at dksX6_isClear_2 20 rfl rfl)
theorem dX6_isClear_70 : decode cX6_isClear 70 = .ok (.iconst 1, 1) := dk_4 (dk_at dksX6_isClear_2 23 rfl rfl)
theorem dX6_isClear_71 : decode cX6_isClear 71 = .ok (.goto 4, 3) := dk_167 0 4 (dk_at dksX6_isClear_3 0 rfl rfl)
theorem dX6_isClear_74 : decode cX6_isClear 74 = .ok (.iconst 0, 1) := dk_3 (dk_at dksX6_isClear_3 3 rfl rfl)
theorem dX6_isClear_75 : decode cX6_isClear 75 = .ok (.istore 6, 2) := dk_54 6 (dk_at dksX6_isClear_3 4 rfl rfl)
theorem dX6_isClear_77 : decode cX6_isClear 77 = .ok (.iload 5, 2) := dk_21 5 (dk_at dksX6_isClear_3 6 rfl rfl)
theorem dX6_isClear_79 : decode cX6_isClear 79 = .ok (.ifCond .eq 29, 3) := dk_153 0 29 (dk_at dksX6_isClear_3 8 rfl rfl)
theorem dX6_isClear_82 : decode cX6_isClear 82 = .ok (.iload 6, 2) := dk_21 6 (dk_at dksX6_isClear_3 11 rfl rfl)
theorem dX6_isClear_84 : decode cX6_isClear 84 = .ok (.ifCond .eq 20, 3) := dk_153 0 20 (dk_at dksX6_isClear_3 13 rfl rfl)
theorem dX6_isClear_87 : decode cX6_isClear 87 = .ok (.aload_n 0, 1) := dk_42 (dk_at dksX6_isClear_3 16 rfl rfl)
theorem dX6_isClear_88 : decode cX6_isClear 88 = .ok (.getfield 33, 3) := dk_180 0 33 (dk_at dksX6_isClear_3 17 rfl rfl)
theorem dX6_isClear_91 : decode cX6_isClear 91 = .ok (.aload_n 0, 1) := dk_42 (dk_at dksX6_isClear_3 20 rfl rfl)
theorem dX6_isClear_92 : decode cX6_isClear 92 = .ok (.getfield 27, 3) := dk_180 0 27 (dk_at dksX6_isClear_3 21 rfl rfl)
theorem dX6_isClear_95 : decode cX6_isClear 95 = .ok (.iload_n 3, 1) := dk_29 (dk_at dksX6_isClear_4 0 rfl rfl)
theorem dX6_isClear_96 : decode cX6_isClear 96 = .ok (.imul, 1) := dk_104 (dk_at dksX6_isClear_4 1 rfl rfl)
theorem dX6_isClear_97 : decode cX6_isClear 97 = .ok (.iload 4, 2) := dk_21 4 (dk_at dksX6_isClear_4 2 rfl rfl)
theorem dX6_isClear_99 : decode cX6_isClear 99 = .ok (.iadd, 1) := dk_96 (dk_at dksX6_isClear_4 4 rfl rfl)
theorem dX6_isClear_100 : decode cX6_isClear 100 = .ok (.baload, 1) := dk_51 (dk_at dksX6_isClear_4 5 rfl rfl)
theorem dX6_isClear_101 : decode cX6_isClear 101 = .ok (.ifCond .ne 7, 3) := dk_154 0 7 (dk_at dksX6_isClear_4 6 rfl rfl)
theorem dX6_isClear_104 : decode cX6_isClear 104 = .ok (.iconst 1, 1) := dk_4 (dk_at dksX6_isClear_4 9 rfl rfl)
theorem dX6_isClear_105 : decode cX6_isClear 105 = .ok (.goto 4, 3) := dk_167 0 4 (dk_at dksX6_isClear_4 10 rfl rfl)
theorem dX6_isClear_108 : decode cX6_isClear 108 = .ok (.iconst 0, 1) := dk_3 (dk_at dksX6_isClear_4 13 rfl rfl)
theorem dX6_isClear_109 : decode cX6_isClear 109 = .ok (.istore 5, 2) := dk_54 5 (dk_at dksX6_isClear_4 14 rfl rfl)
theorem dX6_isClear_111 : decode cX6_isClear 111 = .ok (.goto (-90), 3) := dk_167 255 166 (dk_at dksX6_isClear_4 16 rfl rfl)
theorem dX6_isClear_114 : decode cX6_isClear 114 = .ok (.iload 5, 2) := dk_21 5 (dk_at dksX6_isClear_4 19 rfl rfl)
theorem dX6_isClear_116 : decode cX6_isClear 116 = .ok (.ireturn, 1) := dk_172 (dk_at dksX6_isClear_4 21 rfl rfl)
abbrev cX6_thingsOn : ByteArray := prog_12_method_49_code
def yX6_thingsOn : MethodName := ⟨RX6, "thingsOn", "([IJ)I"⟩
def dkwX6_thingsOn_2 : List UInt8 := [21, 4, 172]
abbrev dktX6_thingsOn_2 : List UInt8 := dkwX6_thingsOn_2 ++ []
def dkwX6_thingsOn_1 : List UInt8 := [46, 184, 1, 48, 153, 0, 10, 4, 21, 5, 120, 167, 0, 4, 3, 128, 54, 4, 132, 5, 1, 167, 255, 217]
abbrev dktX6_thingsOn_1 : List UInt8 := dkwX6_thingsOn_1 ++ dktX6_thingsOn_2
def dkwX6_thingsOn_0 : List UInt8 := [3, 54, 4, 3, 54, 5, 21, 5, 42, 180, 0, 133, 162, 0, 36, 21, 4, 32, 43, 16, 32, 21, 5, 96]
abbrev dktX6_thingsOn_0 : List UInt8 := dkwX6_thingsOn_0 ++ dktX6_thingsOn_1
theorem dksX6_thingsOn_0 : cX6_thingsOn.data.toList.drop 0 = dktX6_thingsOn_0 := by decide +kernel
theorem dksX6_thingsOn_1 : cX6_thingsOn.data.toList.drop 24 = dktX6_thingsOn_1 := dk_seg dksX6_thingsOn_0 24 rfl rfl
theorem dksX6_thingsOn_2 : cX6_thingsOn.data.toList.drop 48 = dktX6_thingsOn_2 := dk_seg dksX6_thingsOn_1 24 rfl rfl
theorem dX6_thingsOn_0 : decode cX6_thingsOn 0 = .ok (.iconst 0, 1) := dk_3 (dk_at dksX6_thingsOn_0 0 rfl rfl)
theorem dX6_thingsOn_1 : decode cX6_thingsOn 1 = .ok (.istore 4, 2) := dk_54 4 (dk_at dksX6_thingsOn_0 1 rfl rfl)
theorem dX6_thingsOn_3 : decode cX6_thingsOn 3 = .ok (.iconst 0, 1) := dk_3 (dk_at dksX6_thingsOn_0 3 rfl rfl)
theorem dX6_thingsOn_4 : decode cX6_thingsOn 4 = .ok (.istore 5, 2) := dk_54 5 (dk_at dksX6_thingsOn_0 4 rfl rfl)
theorem dX6_thingsOn_6 : decode cX6_thingsOn 6 = .ok (.iload 5, 2) := dk_21 5 (dk_at dksX6_thingsOn_0 6 rfl rfl)
theorem dX6_thingsOn_8 : decode cX6_thingsOn 8 = .ok (.aload_n 0, 1) := dk_42 (dk_at dksX6_thingsOn_0 8 rfl rfl)
theorem dX6_thingsOn_9 : decode cX6_thingsOn 9 = .ok (.getfield 133, 3) := dk_180 0 133 (dk_at dksX6_thingsOn_0 9 rfl rfl)
theorem dX6_thingsOn_12 : decode cX6_thingsOn 12 = .ok (.if_icmp .ge 36, 3) := dk_162 0 36 (dk_at dksX6_thingsOn_0 12 rfl rfl)
theorem dX6_thingsOn_15 : decode cX6_thingsOn 15 = .ok (.iload 4, 2) := dk_21 4 (dk_at dksX6_thingsOn_0 15 rfl rfl)
theorem dX6_thingsOn_17 : decode cX6_thingsOn 17 = .ok (.lload_n 2, 1) := dk_32 (dk_at dksX6_thingsOn_0 17 rfl rfl)
theorem dX6_thingsOn_18 : decode cX6_thingsOn 18 = .ok (.aload_n 1, 1) := dk_43 (dk_at dksX6_thingsOn_0 18 rfl rfl)
theorem dX6_thingsOn_19 : decode cX6_thingsOn 19 = .ok (.bipush 32, 2) := dk_16 32 (dk_at dksX6_thingsOn_0 19 rfl rfl)
theorem dX6_thingsOn_21 : decode cX6_thingsOn 21 = .ok (.iload 5, 2) := dk_21 5 (dk_at dksX6_thingsOn_0 21 rfl rfl)
theorem dX6_thingsOn_23 : decode cX6_thingsOn 23 = .ok (.iadd, 1) := dk_96 (dk_at dksX6_thingsOn_0 23 rfl rfl)
theorem dX6_thingsOn_24 : decode cX6_thingsOn 24 = .ok (.iaload, 1) := dk_46 (dk_at dksX6_thingsOn_1 0 rfl rfl)
theorem dX6_thingsOn_25 : decode cX6_thingsOn 25 = .ok (.invokestatic 304, 3) := dk_184 1 48 (dk_at dksX6_thingsOn_1 1 rfl rfl)
theorem dX6_thingsOn_28 : decode cX6_thingsOn 28 = .ok (.ifCond .eq 10, 3) := dk_153 0 10 (dk_at dksX6_thingsOn_1 4 rfl rfl)
theorem dX6_thingsOn_31 : decode cX6_thingsOn 31 = .ok (.iconst 1, 1) := dk_4 (dk_at dksX6_thingsOn_1 7 rfl rfl)
theorem dX6_thingsOn_32 : decode cX6_thingsOn 32 = .ok (.iload 5, 2) := dk_21 5 (dk_at dksX6_thingsOn_1 8 rfl rfl)
theorem dX6_thingsOn_34 : decode cX6_thingsOn 34 = .ok (.ishl, 1) := dk_120 (dk_at dksX6_thingsOn_1 10 rfl rfl)
theorem dX6_thingsOn_35 : decode cX6_thingsOn 35 = .ok (.goto 4, 3) := dk_167 0 4 (dk_at dksX6_thingsOn_1 11 rfl rfl)
theorem dX6_thingsOn_38 : decode cX6_thingsOn 38 = .ok (.iconst 0, 1) := dk_3 (dk_at dksX6_thingsOn_1 14 rfl rfl)
theorem dX6_thingsOn_39 : decode cX6_thingsOn 39 = .ok (.ior, 1) := dk_128 (dk_at dksX6_thingsOn_1 15 rfl rfl)
theorem dX6_thingsOn_40 : decode cX6_thingsOn 40 = .ok (.istore 4, 2) := dk_54 4 (dk_at dksX6_thingsOn_1 16 rfl rfl)
theorem dX6_thingsOn_42 : decode cX6_thingsOn 42 = .ok (.iinc 5 1, 3) := dk_132 5 1 (dk_at dksX6_thingsOn_1 18 rfl rfl)
theorem dX6_thingsOn_45 : decode cX6_thingsOn 45 = .ok (.goto (-39), 3) := dk_167 255 217 (dk_at dksX6_thingsOn_1 21 rfl rfl)
theorem dX6_thingsOn_48 : decode cX6_thingsOn 48 = .ok (.iload 4, 2) := dk_21 4 (dk_at dksX6_thingsOn_2 0 rfl rfl)
theorem dX6_thingsOn_50 : decode cX6_thingsOn 50 = .ok (.ireturn, 1) := dk_172 (dk_at dksX6_thingsOn_2 2 rfl rfl)
abbrev cX6_has : ByteArray := prog_12_method_4_code
def yX6_has : MethodName := ⟨RX6, "has", "(JI)Z"⟩
def dkwX6_has_0 : List UInt8 := [30, 28, 123, 10, 127, 10, 148, 154, 0, 7, 4, 167, 0, 4, 3, 172]
abbrev dktX6_has_0 : List UInt8 := dkwX6_has_0 ++ []
theorem dksX6_has_0 : cX6_has.data.toList.drop 0 = dktX6_has_0 := by decide +kernel
theorem dX6_has_0 : decode cX6_has 0 = .ok (.lload_n 0, 1) := dk_30 (dk_at dksX6_has_0 0 rfl rfl)
theorem dX6_has_1 : decode cX6_has 1 = .ok (.iload_n 2, 1) := dk_28 (dk_at dksX6_has_0 1 rfl rfl)
theorem dX6_has_2 : decode cX6_has 2 = .ok (.lshr, 1) := dk_123 (dk_at dksX6_has_0 2 rfl rfl)
theorem dX6_has_3 : decode cX6_has 3 = .ok (.lconst 1, 1) := dk_10 (dk_at dksX6_has_0 3 rfl rfl)
theorem dX6_has_4 : decode cX6_has 4 = .ok (.land, 1) := dk_127 (dk_at dksX6_has_0 4 rfl rfl)
theorem dX6_has_5 : decode cX6_has 5 = .ok (.lconst 1, 1) := dk_10 (dk_at dksX6_has_0 5 rfl rfl)
theorem dX6_has_6 : decode cX6_has 6 = .ok (.lcmp, 1) := dk_148 (dk_at dksX6_has_0 6 rfl rfl)
theorem dX6_has_7 : decode cX6_has 7 = .ok (.ifCond .ne 7, 3) := dk_154 0 7 (dk_at dksX6_has_0 7 rfl rfl)
theorem dX6_has_10 : decode cX6_has 10 = .ok (.iconst 1, 1) := dk_4 (dk_at dksX6_has_0 10 rfl rfl)
theorem dX6_has_11 : decode cX6_has 11 = .ok (.goto 4, 3) := dk_167 0 4 (dk_at dksX6_has_0 11 rfl rfl)
theorem dX6_has_14 : decode cX6_has 14 = .ok (.iconst 0, 1) := dk_3 (dk_at dksX6_has_0 14 rfl rfl)
theorem dX6_has_15 : decode cX6_has 15 = .ok (.ireturn, 1) := dk_172 (dk_at dksX6_has_0 15 rfl rfl)
abbrev cX6_thing : ByteArray := prog_12_method_57_code
def yX6_thing : MethodName := ⟨RX6, "thing", "(II)I"⟩
def dkwX6_thing_3 : List UInt8 := [180, 0, 41, 16, 32, 27, 96, 46, 182, 1, 80, 172]
abbrev dktX6_thing_3 : List UInt8 := dkwX6_thing_3 ++ []
def dkwX6_thing_2 : List UInt8 := [28, 4, 160, 0, 15, 42, 42, 180, 0, 41, 27, 182, 1, 76, 167, 0, 20, 42, 42, 180, 0, 41, 42]
abbrev dktX6_thing_2 : List UInt8 := dkwX6_thing_2 ++ dktX6_thing_3
def dkwX6_thing_1 : List UInt8 := [154, 0, 8, 42, 182, 1, 64, 172, 28, 154, 0, 15, 42, 180, 0, 41, 16, 32, 27, 96, 46, 167, 0, 37]
abbrev dktX6_thing_1 : List UInt8 := dkwX6_thing_1 ++ dktX6_thing_2
def dkwX6_thing_0 : List UInt8 := [42, 3, 181, 0, 3, 42, 27, 182, 1, 71, 153, 0, 15, 28, 133, 9, 20, 1, 74, 184, 0, 126]
abbrev dktX6_thing_0 : List UInt8 := dkwX6_thing_0 ++ dktX6_thing_1
theorem dksX6_thing_0 : cX6_thing.data.toList.drop 0 = dktX6_thing_0 := by decide +kernel
theorem dksX6_thing_1 : cX6_thing.data.toList.drop 22 = dktX6_thing_1 := dk_seg dksX6_thing_0 22 rfl rfl
theorem dksX6_thing_2 : cX6_thing.data.toList.drop 46 = dktX6_thing_2 := dk_seg dksX6_thing_1 24 rfl rfl
theorem dksX6_thing_3 : cX6_thing.data.toList.drop 69 = dktX6_thing_3 := dk_seg dksX6_thing_2 23 rfl rfl
theorem dX6_thing_0 : decode cX6_thing 0 = .ok (.aload_n 0, 1) := dk_42 (dk_at dksX6_thing_0 0 rfl rfl)
theorem dX6_thing_1 : decode cX6_thing 1 = .ok (.iconst 0, 1) := dk_3 (dk_at dksX6_thing_0 1 rfl rfl)
theorem dX6_thing_2 : decode cX6_thing 2 = .ok (.putfield 3, 3) := dk_181 0 3 (dk_at dksX6_thing_0 2 rfl rfl)
theorem dX6_thing_5 : decode cX6_thing 5 = .ok (.aload_n 0, 1) := dk_42 (dk_at dksX6_thing_0 5 rfl rfl)
theorem dX6_thing_6 : decode cX6_thing 6 = .ok (.iload_n 1, 1) := dk_27 (dk_at dksX6_thing_0 6 rfl rfl)
theorem dX6_thing_7 : decode cX6_thing 7 = .ok (.invokevirtual 327, 3) := dk_182 1 71 (dk_at dksX6_thing_0 7 rfl rfl)
theorem dX6_thing_10 : decode cX6_thing 10 = .ok (.ifCond .eq 15, 3) := dk_153 0 15 (dk_at dksX6_thing_0 10 rfl rfl)
theorem dX6_thing_13 : decode cX6_thing 13 = .ok (.iload_n 2, 1) := dk_28 (dk_at dksX6_thing_0 13 rfl rfl)
theorem dX6_thing_14 : decode cX6_thing 14 = .ok (.i2l, 1) := dk_133 (dk_at dksX6_thing_0 14 rfl rfl)
theorem dX6_thing_15 : decode cX6_thing 15 = .ok (.lconst 0, 1) := dk_9 (dk_at dksX6_thing_0 15 rfl rfl)
theorem dX6_thing_16 : decode cX6_thing 16 = .ok (.ldc2_w 330, 3) := dk_20 1 74 (dk_at dksX6_thing_0 16 rfl rfl)
theorem dX6_thing_19 : decode cX6_thing 19 = .ok (.invokestatic 126, 3) := dk_184 0 126 (dk_at dksX6_thing_0 19 rfl rfl)
theorem dX6_thing_22 : decode cX6_thing 22 = .ok (.ifCond .ne 8, 3) := dk_154 0 8 (dk_at dksX6_thing_1 0 rfl rfl)
theorem dX6_thing_25 : decode cX6_thing 25 = .ok (.aload_n 0, 1) := dk_42 (dk_at dksX6_thing_1 3 rfl rfl)
theorem dX6_thing_26 : decode cX6_thing 26 = .ok (.invokevirtual 320, 3) := dk_182 1 64 (dk_at dksX6_thing_1 4 rfl rfl)
theorem dX6_thing_29 : decode cX6_thing 29 = .ok (.ireturn, 1) := dk_172 (dk_at dksX6_thing_1 7 rfl rfl)
theorem dX6_thing_30 : decode cX6_thing 30 = .ok (.iload_n 2, 1) := dk_28 (dk_at dksX6_thing_1 8 rfl rfl)
theorem dX6_thing_31 : decode cX6_thing 31 = .ok (.ifCond .ne 15, 3) := dk_154 0 15 (dk_at dksX6_thing_1 9 rfl rfl)
theorem dX6_thing_34 : decode cX6_thing 34 = .ok (.aload_n 0, 1) := dk_42 (dk_at dksX6_thing_1 12 rfl rfl)
theorem dX6_thing_35 : decode cX6_thing 35 = .ok (.getfield 41, 3) := dk_180 0 41 (dk_at dksX6_thing_1 13 rfl rfl)
theorem dX6_thing_38 : decode cX6_thing 38 = .ok (.bipush 32, 2) := dk_16 32 (dk_at dksX6_thing_1 16 rfl rfl)
theorem dX6_thing_40 : decode cX6_thing 40 = .ok (.iload_n 1, 1) := dk_27 (dk_at dksX6_thing_1 18 rfl rfl)
theorem dX6_thing_41 : decode cX6_thing 41 = .ok (.iadd, 1) := dk_96 (dk_at dksX6_thing_1 19 rfl rfl)
theorem dX6_thing_42 : decode cX6_thing 42 = .ok (.iaload, 1) := dk_46 (dk_at dksX6_thing_1 20 rfl rfl)
theorem dX6_thing_43 : decode cX6_thing 43 = .ok (.goto 37, 3) := dk_167 0 37 (dk_at dksX6_thing_1 21 rfl rfl)
theorem dX6_thing_46 : decode cX6_thing 46 = .ok (.iload_n 2, 1) := dk_28 (dk_at dksX6_thing_2 0 rfl rfl)
theorem dX6_thing_47 : decode cX6_thing 47 = .ok (.iconst 1, 1) := dk_4 (dk_at dksX6_thing_2 1 rfl rfl)
theorem dX6_thing_48 : decode cX6_thing 48 = .ok (.if_icmp .ne 15, 3) := dk_160 0 15 (dk_at dksX6_thing_2 2 rfl rfl)
theorem dX6_thing_51 : decode cX6_thing 51 = .ok (.aload_n 0, 1) := dk_42 (dk_at dksX6_thing_2 5 rfl rfl)
theorem dX6_thing_52 : decode cX6_thing 52 = .ok (.aload_n 0, 1) := dk_42 (dk_at dksX6_thing_2 6 rfl rfl)
theorem dX6_thing_53 : decode cX6_thing 53 = .ok (.getfield 41, 3) := dk_180 0 41 (dk_at dksX6_thing_2 7 rfl rfl)
theorem dX6_thing_56 : decode cX6_thing 56 = .ok (.iload_n 1, 1) := dk_27 (dk_at dksX6_thing_2 10 rfl rfl)
theorem dX6_thing_57 : decode cX6_thing 57 = .ok (.invokevirtual 332, 3) := dk_182 1 76 (dk_at dksX6_thing_2 11 rfl rfl)
theorem dX6_thing_60 : decode cX6_thing 60 = .ok (.goto 20, 3) := dk_167 0 20 (dk_at dksX6_thing_2 14 rfl rfl)
theorem dX6_thing_63 : decode cX6_thing 63 = .ok (.aload_n 0, 1) := dk_42 (dk_at dksX6_thing_2 17 rfl rfl)
theorem dX6_thing_64 : decode cX6_thing 64 = .ok (.aload_n 0, 1) := dk_42 (dk_at dksX6_thing_2 18 rfl rfl)
theorem dX6_thing_65 : decode cX6_thing 65 = .ok (.getfield 41, 3) := dk_180 0 41 (dk_at dksX6_thing_2 19 rfl rfl)
theorem dX6_thing_68 : decode cX6_thing 68 = .ok (.aload_n 0, 1) := dk_42 (dk_at dksX6_thing_2 22 rfl rfl)
theorem dX6_thing_69 : decode cX6_thing 69 = .ok (.getfield 41, 3) := dk_180 0 41 (dk_at dksX6_thing_3 0 rfl rfl)
theorem dX6_thing_72 : decode cX6_thing 72 = .ok (.bipush 32, 2) := dk_16 32 (dk_at dksX6_thing_3 3 rfl rfl)
theorem dX6_thing_74 : decode cX6_thing 74 = .ok (.iload_n 1, 1) := dk_27 (dk_at dksX6_thing_3 5 rfl rfl)
theorem dX6_thing_75 : decode cX6_thing 75 = .ok (.iadd, 1) := dk_96 (dk_at dksX6_thing_3 6 rfl rfl)
theorem dX6_thing_76 : decode cX6_thing 76 = .ok (.iaload, 1) := dk_46 (dk_at dksX6_thing_3 7 rfl rfl)
theorem dX6_thing_77 : decode cX6_thing 77 = .ok (.invokevirtual 336, 3) := dk_182 1 80 (dk_at dksX6_thing_3 8 rfl rfl)
theorem dX6_thing_80 : decode cX6_thing 80 = .ok (.ireturn, 1) := dk_172 (dk_at dksX6_thing_3 11 rfl rfl)
abbrev cX6_isThing : ByteArray := prog_12_method_12_code
def yX6_isThing : MethodName := ⟨RX6, "isThing", "(I)Z"⟩
def dkwX6_isThing_0 : List UInt8 := [27, 133, 9, 42, 180, 0, 133, 4, 100, 133, 184, 0, 126, 172]
abbrev dktX6_isThing_0 : List UInt8 := dkwX6_isThing_0 ++ []
theorem dksX6_isThing_0 : cX6_isThing.data.toList.drop 0 = dktX6_isThing_0 := by decide +kernel
theorem dX6_isThing_0 : decode cX6_isThing 0 = .ok (.iload_n 1, 1) := dk_27 (dk_at dksX6_isThing_0 0 rfl rfl)
theorem dX6_isThing_1 : decode cX6_isThing 1 = .ok (.i2l, 1) := dk_133 (dk_at dksX6_isThing_0 1 rfl rfl)
theorem dX6_isThing_2 : decode cX6_isThing 2 = .ok (.lconst 0, 1) := dk_9 (dk_at dksX6_isThing_0 2 rfl rfl)
theorem dX6_isThing_3 : decode cX6_isThing 3 = .ok (.aload_n 0, 1) := dk_42 (dk_at dksX6_isThing_0 3 rfl rfl)
theorem dX6_isThing_4 : decode cX6_isThing 4 = .ok (.getfield 133, 3) := dk_180 0 133 (dk_at dksX6_isThing_0 4 rfl rfl)
theorem dX6_isThing_7 : decode cX6_isThing 7 = .ok (.iconst 1, 1) := dk_4 (dk_at dksX6_isThing_0 7 rfl rfl)
theorem dX6_isThing_8 : decode cX6_isThing 8 = .ok (.isub, 1) := dk_100 (dk_at dksX6_isThing_0 8 rfl rfl)
theorem dX6_isThing_9 : decode cX6_isThing 9 = .ok (.i2l, 1) := dk_133 (dk_at dksX6_isThing_0 9 rfl rfl)
theorem dX6_isThing_10 : decode cX6_isThing 10 = .ok (.invokestatic 126, 3) := dk_184 0 126 (dk_at dksX6_isThing_0 10 rfl rfl)
theorem dX6_isThing_13 : decode cX6_isThing 13 = .ok (.ireturn, 1) := dk_172 (dk_at dksX6_isThing_0 13 rfl rfl)
abbrev cX6_knowing : ByteArray := prog_12_method_54_code
def yX6_knowing : MethodName := ⟨RX6, "knowing", "([II)I"⟩
def dkwX6_knowing_1 : List UInt8 := [184, 1, 48, 153, 0, 10, 4, 21, 4, 120, 167, 0, 4, 3, 128, 62, 132, 4, 1, 167, 255, 218, 29, 172]
abbrev dktX6_knowing_1 : List UInt8 := dkwX6_knowing_1 ++ []
def dkwX6_knowing_0 : List UInt8 := [3, 62, 3, 54, 4, 21, 4, 42, 180, 0, 130, 162, 0, 35, 29, 43, 16, 24, 21, 4, 96, 46, 133, 28]
abbrev dktX6_knowing_0 : List UInt8 := dkwX6_knowing_0 ++ dktX6_knowing_1
theorem dksX6_knowing_0 : cX6_knowing.data.toList.drop 0 = dktX6_knowing_0 := by decide +kernel
theorem dksX6_knowing_1 : cX6_knowing.data.toList.drop 24 = dktX6_knowing_1 := dk_seg dksX6_knowing_0 24 rfl rfl
theorem dX6_knowing_0 : decode cX6_knowing 0 = .ok (.iconst 0, 1) := dk_3 (dk_at dksX6_knowing_0 0 rfl rfl)
theorem dX6_knowing_1 : decode cX6_knowing 1 = .ok (.istore_n 3, 1) := dk_62 (dk_at dksX6_knowing_0 1 rfl rfl)
theorem dX6_knowing_2 : decode cX6_knowing 2 = .ok (.iconst 0, 1) := dk_3 (dk_at dksX6_knowing_0 2 rfl rfl)
theorem dX6_knowing_3 : decode cX6_knowing 3 = .ok (.istore 4, 2) := dk_54 4 (dk_at dksX6_knowing_0 3 rfl rfl)
theorem dX6_knowing_5 : decode cX6_knowing 5 = .ok (.iload 4, 2) := dk_21 4 (dk_at dksX6_knowing_0 5 rfl rfl)
theorem dX6_knowing_7 : decode cX6_knowing 7 = .ok (.aload_n 0, 1) := dk_42 (dk_at dksX6_knowing_0 7 rfl rfl)
theorem dX6_knowing_8 : decode cX6_knowing 8 = .ok (.getfield 130, 3) := dk_180 0 130 (dk_at dksX6_knowing_0 8 rfl rfl)
theorem dX6_knowing_11 : decode cX6_knowing 11 = .ok (.if_icmp .ge 35, 3) := dk_162 0 35 (dk_at dksX6_knowing_0 11 rfl rfl)
theorem dX6_knowing_14 : decode cX6_knowing 14 = .ok (.iload_n 3, 1) := dk_29 (dk_at dksX6_knowing_0 14 rfl rfl)
theorem dX6_knowing_15 : decode cX6_knowing 15 = .ok (.aload_n 1, 1) := dk_43 (dk_at dksX6_knowing_0 15 rfl rfl)
theorem dX6_knowing_16 : decode cX6_knowing 16 = .ok (.bipush 24, 2) := dk_16 24 (dk_at dksX6_knowing_0 16 rfl rfl)
theorem dX6_knowing_18 : decode cX6_knowing 18 = .ok (.iload 4, 2) := dk_21 4 (dk_at dksX6_knowing_0 18 rfl rfl)
theorem dX6_knowing_20 : decode cX6_knowing 20 = .ok (.iadd, 1) := dk_96 (dk_at dksX6_knowing_0 20 rfl rfl)
theorem dX6_knowing_21 : decode cX6_knowing 21 = .ok (.iaload, 1) := dk_46 (dk_at dksX6_knowing_0 21 rfl rfl)
theorem dX6_knowing_22 : decode cX6_knowing 22 = .ok (.i2l, 1) := dk_133 (dk_at dksX6_knowing_0 22 rfl rfl)
theorem dX6_knowing_23 : decode cX6_knowing 23 = .ok (.iload_n 2, 1) := dk_28 (dk_at dksX6_knowing_0 23 rfl rfl)
theorem dX6_knowing_24 : decode cX6_knowing 24 = .ok (.invokestatic 304, 3) := dk_184 1 48 (dk_at dksX6_knowing_1 0 rfl rfl)
theorem dX6_knowing_27 : decode cX6_knowing 27 = .ok (.ifCond .eq 10, 3) := dk_153 0 10 (dk_at dksX6_knowing_1 3 rfl rfl)
theorem dX6_knowing_30 : decode cX6_knowing 30 = .ok (.iconst 1, 1) := dk_4 (dk_at dksX6_knowing_1 6 rfl rfl)
theorem dX6_knowing_31 : decode cX6_knowing 31 = .ok (.iload 4, 2) := dk_21 4 (dk_at dksX6_knowing_1 7 rfl rfl)
theorem dX6_knowing_33 : decode cX6_knowing 33 = .ok (.ishl, 1) := dk_120 (dk_at dksX6_knowing_1 9 rfl rfl)
theorem dX6_knowing_34 : decode cX6_knowing 34 = .ok (.goto 4, 3) := dk_167 0 4 (dk_at dksX6_knowing_1 10 rfl rfl)
theorem dX6_knowing_37 : decode cX6_knowing 37 = .ok (.iconst 0, 1) := dk_3 (dk_at dksX6_knowing_1 13 rfl rfl)
theorem dX6_knowing_38 : decode cX6_knowing 38 = .ok (.ior, 1) := dk_128 (dk_at dksX6_knowing_1 14 rfl rfl)
theorem dX6_knowing_39 : decode cX6_knowing 39 = .ok (.istore_n 3, 1) := dk_62 (dk_at dksX6_knowing_1 15 rfl rfl)
theorem dX6_knowing_40 : decode cX6_knowing 40 = .ok (.iinc 4 1, 3) := dk_132 4 1 (dk_at dksX6_knowing_1 16 rfl rfl)
theorem dX6_knowing_43 : decode cX6_knowing 43 = .ok (.goto (-38), 3) := dk_167 255 218 (dk_at dksX6_knowing_1 19 rfl rfl)
theorem dX6_knowing_46 : decode cX6_knowing 46 = .ok (.iload_n 3, 1) := dk_29 (dk_at dksX6_knowing_1 22 rfl rfl)
theorem dX6_knowing_47 : decode cX6_knowing 47 = .ok (.ireturn, 1) := dk_172 (dk_at dksX6_knowing_1 23 rfl rfl)
abbrev cX6_whoSees : ByteArray := prog_12_method_51_code
def yX6_whoSees : MethodName := ⟨RX6, "whoSees", "([II)I"⟩
def dkwX6_whoSees_1 : List UInt8 := [153, 0, 10, 4, 21, 4, 120, 167, 0, 4, 3, 128, 62, 132, 4, 1, 167, 255, 222, 29, 172]
abbrev dktX6_whoSees_1 : List UInt8 := dkwX6_whoSees_1 ++ []
def dkwX6_whoSees_0 : List UInt8 := [3, 62, 3, 54, 4, 21, 4, 42, 180, 0, 130, 162, 0, 31, 29, 42, 43, 21, 4, 28, 182, 1, 52]
abbrev dktX6_whoSees_0 : List UInt8 := dkwX6_whoSees_0 ++ dktX6_whoSees_1
theorem dksX6_whoSees_0 : cX6_whoSees.data.toList.drop 0 = dktX6_whoSees_0 := by decide +kernel
theorem dksX6_whoSees_1 : cX6_whoSees.data.toList.drop 23 = dktX6_whoSees_1 := dk_seg dksX6_whoSees_0 23 rfl rfl
theorem dX6_whoSees_0 : decode cX6_whoSees 0 = .ok (.iconst 0, 1) := dk_3 (dk_at dksX6_whoSees_0 0 rfl rfl)
theorem dX6_whoSees_1 : decode cX6_whoSees 1 = .ok (.istore_n 3, 1) := dk_62 (dk_at dksX6_whoSees_0 1 rfl rfl)
theorem dX6_whoSees_2 : decode cX6_whoSees 2 = .ok (.iconst 0, 1) := dk_3 (dk_at dksX6_whoSees_0 2 rfl rfl)
theorem dX6_whoSees_3 : decode cX6_whoSees 3 = .ok (.istore 4, 2) := dk_54 4 (dk_at dksX6_whoSees_0 3 rfl rfl)
theorem dX6_whoSees_5 : decode cX6_whoSees 5 = .ok (.iload 4, 2) := dk_21 4 (dk_at dksX6_whoSees_0 5 rfl rfl)
theorem dX6_whoSees_7 : decode cX6_whoSees 7 = .ok (.aload_n 0, 1) := dk_42 (dk_at dksX6_whoSees_0 7 rfl rfl)
theorem dX6_whoSees_8 : decode cX6_whoSees 8 = .ok (.getfield 130, 3) := dk_180 0 130 (dk_at dksX6_whoSees_0 8 rfl rfl)
theorem dX6_whoSees_11 : decode cX6_whoSees 11 = .ok (.if_icmp .ge 31, 3) := dk_162 0 31 (dk_at dksX6_whoSees_0 11 rfl rfl)
theorem dX6_whoSees_14 : decode cX6_whoSees 14 = .ok (.iload_n 3, 1) := dk_29 (dk_at dksX6_whoSees_0 14 rfl rfl)
theorem dX6_whoSees_15 : decode cX6_whoSees 15 = .ok (.aload_n 0, 1) := dk_42 (dk_at dksX6_whoSees_0 15 rfl rfl)
theorem dX6_whoSees_16 : decode cX6_whoSees 16 = .ok (.aload_n 1, 1) := dk_43 (dk_at dksX6_whoSees_0 16 rfl rfl)
theorem dX6_whoSees_17 : decode cX6_whoSees 17 = .ok (.iload 4, 2) := dk_21 4 (dk_at dksX6_whoSees_0 17 rfl rfl)
theorem dX6_whoSees_19 : decode cX6_whoSees 19 = .ok (.iload_n 2, 1) := dk_28 (dk_at dksX6_whoSees_0 19 rfl rfl)
theorem dX6_whoSees_20 : decode cX6_whoSees 20 = .ok (.invokevirtual 308, 3) := dk_182 1 52 (dk_at dksX6_whoSees_0 20 rfl rfl)
theorem dX6_whoSees_23 : decode cX6_whoSees 23 = .ok (.ifCond .eq 10, 3) := dk_153 0 10 (dk_at dksX6_whoSees_1 0 rfl rfl)
theorem dX6_whoSees_26 : decode cX6_whoSees 26 = .ok (.iconst 1, 1) := dk_4 (dk_at dksX6_whoSees_1 3 rfl rfl)
theorem dX6_whoSees_27 : decode cX6_whoSees 27 = .ok (.iload 4, 2) := dk_21 4 (dk_at dksX6_whoSees_1 4 rfl rfl)
theorem dX6_whoSees_29 : decode cX6_whoSees 29 = .ok (.ishl, 1) := dk_120 (dk_at dksX6_whoSees_1 6 rfl rfl)
theorem dX6_whoSees_30 : decode cX6_whoSees 30 = .ok (.goto 4, 3) := dk_167 0 4 (dk_at dksX6_whoSees_1 7 rfl rfl)
theorem dX6_whoSees_33 : decode cX6_whoSees 33 = .ok (.iconst 0, 1) := dk_3 (dk_at dksX6_whoSees_1 10 rfl rfl)
theorem dX6_whoSees_34 : decode cX6_whoSees 34 = .ok (.ior, 1) := dk_128 (dk_at dksX6_whoSees_1 11 rfl rfl)
theorem dX6_whoSees_35 : decode cX6_whoSees 35 = .ok (.istore_n 3, 1) := dk_62 (dk_at dksX6_whoSees_1 12 rfl rfl)
theorem dX6_whoSees_36 : decode cX6_whoSees 36 = .ok (.iinc 4 1, 3) := dk_132 4 1 (dk_at dksX6_whoSees_1 13 rfl rfl)
theorem dX6_whoSees_39 : decode cX6_whoSees 39 = .ok (.goto (-34), 3) := dk_167 255 222 (dk_at dksX6_whoSees_1 16 rfl rfl)
theorem dX6_whoSees_42 : decode cX6_whoSees 42 = .ok (.iload_n 3, 1) := dk_29 (dk_at dksX6_whoSees_1 19 rfl rfl)
theorem dX6_whoSees_43 : decode cX6_whoSees 43 = .ok (.ireturn, 1) := dk_172 (dk_at dksX6_whoSees_1 20 rfl rfl)
abbrev cX6_doesSee : ByteArray := prog_12_method_46_code
def yX6_doesSee : MethodName := ⟨RX6, "doesSee", "([III)Z"⟩
def dkwX6_doesSee_1 : List UInt8 := [96, 46, 182, 1, 36, 182, 1, 40, 172]
abbrev dktX6_doesSee_1 : List UInt8 := dkwX6_doesSee_1 ++ []
def dkwX6_doesSee_0 : List UInt8 := [42, 43, 28, 46, 29, 43, 16, 8, 28, 96, 46, 43, 16, 16, 28, 96, 46, 42, 43, 28, 43, 16, 16, 28]
abbrev dktX6_doesSee_0 : List UInt8 := dkwX6_doesSee_0 ++ dktX6_doesSee_1
theorem dksX6_doesSee_0 : cX6_doesSee.data.toList.drop 0 = dktX6_doesSee_0 := by decide +kernel
theorem dksX6_doesSee_1 : cX6_doesSee.data.toList.drop 24 = dktX6_doesSee_1 := dk_seg dksX6_doesSee_0 24 rfl rfl
theorem dX6_doesSee_0 : decode cX6_doesSee 0 = .ok (.aload_n 0, 1) := dk_42 (dk_at dksX6_doesSee_0 0 rfl rfl)
theorem dX6_doesSee_1 : decode cX6_doesSee 1 = .ok (.aload_n 1, 1) := dk_43 (dk_at dksX6_doesSee_0 1 rfl rfl)
theorem dX6_doesSee_2 : decode cX6_doesSee 2 = .ok (.iload_n 2, 1) := dk_28 (dk_at dksX6_doesSee_0 2 rfl rfl)
theorem dX6_doesSee_3 : decode cX6_doesSee 3 = .ok (.iaload, 1) := dk_46 (dk_at dksX6_doesSee_0 3 rfl rfl)
theorem dX6_doesSee_4 : decode cX6_doesSee 4 = .ok (.iload_n 3, 1) := dk_29 (dk_at dksX6_doesSee_0 4 rfl rfl)
theorem dX6_doesSee_5 : decode cX6_doesSee 5 = .ok (.aload_n 1, 1) := dk_43 (dk_at dksX6_doesSee_0 5 rfl rfl)
theorem dX6_doesSee_6 : decode cX6_doesSee 6 = .ok (.bipush 8, 2) := dk_16 8 (dk_at dksX6_doesSee_0 6 rfl rfl)
theorem dX6_doesSee_8 : decode cX6_doesSee 8 = .ok (.iload_n 2, 1) := dk_28 (dk_at dksX6_doesSee_0 8 rfl rfl)
theorem dX6_doesSee_9 : decode cX6_doesSee 9 = .ok (.iadd, 1) := dk_96 (dk_at dksX6_doesSee_0 9 rfl rfl)
theorem dX6_doesSee_10 : decode cX6_doesSee 10 = .ok (.iaload, 1) := dk_46 (dk_at dksX6_doesSee_0 10 rfl rfl)
theorem dX6_doesSee_11 : decode cX6_doesSee 11 = .ok (.aload_n 1, 1) := dk_43 (dk_at dksX6_doesSee_0 11 rfl rfl)
theorem dX6_doesSee_12 : decode cX6_doesSee 12 = .ok (.bipush 16, 2) := dk_16 16 (dk_at dksX6_doesSee_0 12 rfl rfl)
theorem dX6_doesSee_14 : decode cX6_doesSee 14 = .ok (.iload_n 2, 1) := dk_28 (dk_at dksX6_doesSee_0 14 rfl rfl)
theorem dX6_doesSee_15 : decode cX6_doesSee 15 = .ok (.iadd, 1) := dk_96 (dk_at dksX6_doesSee_0 15 rfl rfl)
theorem dX6_doesSee_16 : decode cX6_doesSee 16 = .ok (.iaload, 1) := dk_46 (dk_at dksX6_doesSee_0 16 rfl rfl)
theorem dX6_doesSee_17 : decode cX6_doesSee 17 = .ok (.aload_n 0, 1) := dk_42 (dk_at dksX6_doesSee_0 17 rfl rfl)
theorem dX6_doesSee_18 : decode cX6_doesSee 18 = .ok (.aload_n 1, 1) := dk_43 (dk_at dksX6_doesSee_0 18 rfl rfl)
theorem dX6_doesSee_19 : decode cX6_doesSee 19 = .ok (.iload_n 2, 1) := dk_28 (dk_at dksX6_doesSee_0 19 rfl rfl)
theorem dX6_doesSee_20 : decode cX6_doesSee 20 = .ok (.aload_n 1, 1) := dk_43 (dk_at dksX6_doesSee_0 20 rfl rfl)
theorem dX6_doesSee_21 : decode cX6_doesSee 21 = .ok (.bipush 16, 2) := dk_16 16 (dk_at dksX6_doesSee_0 21 rfl rfl)
theorem dX6_doesSee_23 : decode cX6_doesSee 23 = .ok (.iload_n 2, 1) := dk_28 (dk_at dksX6_doesSee_0 23 rfl rfl)
theorem dX6_doesSee_24 : decode cX6_doesSee 24 = .ok (.iadd, 1) := dk_96 (dk_at dksX6_doesSee_1 0 rfl rfl)
theorem dX6_doesSee_25 : decode cX6_doesSee 25 = .ok (.iaload, 1) := dk_46 (dk_at dksX6_doesSee_1 1 rfl rfl)
theorem dX6_doesSee_26 : decode cX6_doesSee 26 = .ok (.invokevirtual 292, 3) := dk_182 1 36 (dk_at dksX6_doesSee_1 2 rfl rfl)
theorem dX6_doesSee_29 : decode cX6_doesSee 29 = .ok (.invokevirtual 296, 3) := dk_182 1 40 (dk_at dksX6_doesSee_1 5 rfl rfl)
theorem dX6_doesSee_32 : decode cX6_doesSee 32 = .ok (.ireturn, 1) := dk_172 (dk_at dksX6_doesSee_1 8 rfl rfl)
abbrev cX6_sheet : ByteArray := prog_12_method_58_code
def yX6_sheet : MethodName := ⟨RX6, "sheet", "(IIII)I"⟩
def dkwX6_sheet_6 : List UInt8 := [167, 255, 162, 27, 6, 160, 0, 8, 16, 253, 167, 0, 5, 21, 5, 172]
abbrev dktX6_sheet_6 : List UInt8 := dkwX6_sheet_6 ++ []
def dkwX6_sheet_5 : List UInt8 := [180, 0, 41, 16, 16, 21, 7, 96, 46, 96, 54, 5, 21, 6, 21, 4, 96, 54, 6, 132, 7, 1]
abbrev dktX6_sheet_5 : List UInt8 := dkwX6_sheet_5 ++ dktX6_sheet_6
def dkwX6_sheet_4 : List UInt8 := [28, 161, 0, 7, 3, 167, 0, 13, 3, 7, 21, 8, 184, 0, 145, 184, 1, 17, 79, 21, 5, 42]
abbrev dktX6_sheet_4 : List UInt8 := dkwX6_sheet_4 ++ dktX6_sheet_5
def dkwX6_sheet_3 : List UInt8 := [147, 167, 0, 5, 21, 6, 54, 8, 42, 180, 0, 41, 16, 16, 21, 7, 96, 27, 6, 159, 0, 9, 21, 7]
abbrev dktX6_sheet_3 : List UInt8 := dkwX6_sheet_3 ++ dktX6_sheet_4
def dkwX6_sheet_2 : List UInt8 := [42, 180, 0, 130, 162, 0, 91, 27, 154, 0, 9, 21, 6, 145, 167, 0, 16, 27, 4, 160, 0, 9, 21, 6]
abbrev dktX6_sheet_2 : List UInt8 := dkwX6_sheet_2 ++ dktX6_sheet_3
def dkwX6_sheet_1 : List UInt8 := [172, 27, 6, 159, 0, 10, 28, 156, 0, 6, 16, 254, 172, 3, 54, 5, 29, 54, 6, 3, 54, 7, 21, 7]
abbrev dktX6_sheet_1 : List UInt8 := dkwX6_sheet_1 ++ dktX6_sheet_2
def dkwX6_sheet_0 : List UInt8 := [42, 3, 181, 0, 3, 27, 133, 9, 20, 1, 83, 184, 0, 126, 153, 0, 9, 28, 16, 8, 164, 0, 5, 2]
abbrev dktX6_sheet_0 : List UInt8 := dkwX6_sheet_0 ++ dktX6_sheet_1
theorem dksX6_sheet_0 : cX6_sheet.data.toList.drop 0 = dktX6_sheet_0 := by decide +kernel
theorem dksX6_sheet_1 : cX6_sheet.data.toList.drop 24 = dktX6_sheet_1 := dk_seg dksX6_sheet_0 24 rfl rfl
theorem dksX6_sheet_2 : cX6_sheet.data.toList.drop 48 = dktX6_sheet_2 := dk_seg dksX6_sheet_1 24 rfl rfl
theorem dksX6_sheet_3 : cX6_sheet.data.toList.drop 72 = dktX6_sheet_3 := dk_seg dksX6_sheet_2 24 rfl rfl
theorem dksX6_sheet_4 : cX6_sheet.data.toList.drop 96 = dktX6_sheet_4 := dk_seg dksX6_sheet_3 24 rfl rfl
theorem dksX6_sheet_5 : cX6_sheet.data.toList.drop 118 = dktX6_sheet_5 := dk_seg dksX6_sheet_4 22 rfl rfl
theorem dksX6_sheet_6 : cX6_sheet.data.toList.drop 140 = dktX6_sheet_6 := dk_seg dksX6_sheet_5 22 rfl rfl
theorem dX6_sheet_0 : decode cX6_sheet 0 = .ok (.aload_n 0, 1) := dk_42 (dk_at dksX6_sheet_0 0 rfl rfl)
theorem dX6_sheet_1 : decode cX6_sheet 1 = .ok (.iconst 0, 1) := dk_3 (dk_at dksX6_sheet_0 1 rfl rfl)
theorem dX6_sheet_2 : decode cX6_sheet 2 = .ok (.putfield 3, 3) := dk_181 0 3 (dk_at dksX6_sheet_0 2 rfl rfl)
theorem dX6_sheet_5 : decode cX6_sheet 5 = .ok (.iload_n 1, 1) := dk_27 (dk_at dksX6_sheet_0 5 rfl rfl)
theorem dX6_sheet_6 : decode cX6_sheet 6 = .ok (.i2l, 1) := dk_133 (dk_at dksX6_sheet_0 6 rfl rfl)
theorem dX6_sheet_7 : decode cX6_sheet 7 = .ok (.lconst 0, 1) := dk_9 (dk_at dksX6_sheet_0 7 rfl rfl)
theorem dX6_sheet_8 : decode cX6_sheet 8 = .ok (.ldc2_w 339, 3) := dk_20 1 83 (dk_at dksX6_sheet_0 8 rfl rfl)
theorem dX6_sheet_11 : decode cX6_sheet 11 = .ok (.invokestatic 126, 3) := dk_184 0 126 (dk_at dksX6_sheet_0 11 rfl rfl)
theorem dX6_sheet_14 : decode cX6_sheet 14 = .ok (.ifCond .eq 9, 3) := dk_153 0 9 (dk_at dksX6_sheet_0 14 rfl rfl)
theorem dX6_sheet_17 : decode cX6_sheet 17 = .ok (.iload_n 2, 1) := dk_28 (dk_at dksX6_sheet_0 17 rfl rfl)
theorem dX6_sheet_18 : decode cX6_sheet 18 = .ok (.bipush 8, 2) := dk_16 8 (dk_at dksX6_sheet_0 18 rfl rfl)
theorem dX6_sheet_20 : decode cX6_sheet 20 = .ok (.if_icmp .le 5, 3) := dk_164 0 5 (dk_at dksX6_sheet_0 20 rfl rfl)
theorem dX6_sheet_23 : decode cX6_sheet 23 = .ok (.iconst (-1), 1) := dk_2 (dk_at dksX6_sheet_0 23 rfl rfl)
theorem dX6_sheet_24 : decode cX6_sheet 24 = .ok (.ireturn, 1) := dk_172 (dk_at dksX6_sheet_1 0 rfl rfl)
theorem dX6_sheet_25 : decode cX6_sheet 25 = .ok (.iload_n 1, 1) := dk_27 (dk_at dksX6_sheet_1 1 rfl rfl)
theorem dX6_sheet_26 : decode cX6_sheet 26 = .ok (.iconst 3, 1) := dk_6 (dk_at dksX6_sheet_1 2 rfl rfl)
theorem dX6_sheet_27 : decode cX6_sheet 27 = .ok (.if_icmp .eq 10, 3) := dk_159 0 10 (dk_at dksX6_sheet_1 3 rfl rfl)
theorem dX6_sheet_30 : decode cX6_sheet 30 = .ok (.iload_n 2, 1) := dk_28 (dk_at dksX6_sheet_1 6 rfl rfl)
theorem dX6_sheet_31 : decode cX6_sheet 31 = .ok (.ifCond .ge 6, 3) := dk_156 0 6 (dk_at dksX6_sheet_1 7 rfl rfl)
theorem dX6_sheet_34 : decode cX6_sheet 34 = .ok (.bipush (-2), 2) := dk_16 254 (dk_at dksX6_sheet_1 10 rfl rfl)
theorem dX6_sheet_36 : decode cX6_sheet 36 = .ok (.ireturn, 1) := dk_172 (dk_at dksX6_sheet_1 12 rfl rfl)
theorem dX6_sheet_37 : decode cX6_sheet 37 = .ok (.iconst 0, 1) := dk_3 (dk_at dksX6_sheet_1 13 rfl rfl)
theorem dX6_sheet_38 : decode cX6_sheet 38 = .ok (.istore 5, 2) := dk_54 5 (dk_at dksX6_sheet_1 14 rfl rfl)
theorem dX6_sheet_40 : decode cX6_sheet 40 = .ok (.iload_n 3, 1) := dk_29 (dk_at dksX6_sheet_1 16 rfl rfl)
theorem dX6_sheet_41 : decode cX6_sheet 41 = .ok (.istore 6, 2) := dk_54 6 (dk_at dksX6_sheet_1 17 rfl rfl)
theorem dX6_sheet_43 : decode cX6_sheet 43 = .ok (.iconst 0, 1) := dk_3 (dk_at dksX6_sheet_1 19 rfl rfl)
theorem dX6_sheet_44 : decode cX6_sheet 44 = .ok (.istore 7, 2) := dk_54 7 (dk_at dksX6_sheet_1 20 rfl rfl)
theorem dX6_sheet_46 : decode cX6_sheet 46 = .ok (.iload 7, 2) := dk_21 7 (dk_at dksX6_sheet_1 22 rfl rfl)
theorem dX6_sheet_48 : decode cX6_sheet 48 = .ok (.aload_n 0, 1) := dk_42 (dk_at dksX6_sheet_2 0 rfl rfl)
theorem dX6_sheet_49 : decode cX6_sheet 49 = .ok (.getfield 130, 3) := dk_180 0 130 (dk_at dksX6_sheet_2 1 rfl rfl)
theorem dX6_sheet_52 : decode cX6_sheet 52 = .ok (.if_icmp .ge 91, 3) := dk_162 0 91 (dk_at dksX6_sheet_2 4 rfl rfl)
theorem dX6_sheet_55 : decode cX6_sheet 55 = .ok (.iload_n 1, 1) := dk_27 (dk_at dksX6_sheet_2 7 rfl rfl)
theorem dX6_sheet_56 : decode cX6_sheet 56 = .ok (.ifCond .ne 9, 3) := dk_154 0 9 (dk_at dksX6_sheet_2 8 rfl rfl)
theorem dX6_sheet_59 : decode cX6_sheet 59 = .ok (.iload 6, 2) := dk_21 6 (dk_at dksX6_sheet_2 11 rfl rfl)
theorem dX6_sheet_61 : decode cX6_sheet 61 = .ok (.i2b, 1) := dk_145 (dk_at dksX6_sheet_2 13 rfl rfl)
theorem dX6_sheet_62 : decode cX6_sheet 62 = .ok (.goto 16, 3) := dk_167 0 16 (dk_at dksX6_sheet_2 14 rfl rfl)
theorem dX6_sheet_65 : decode cX6_sheet 65 = .ok (.iload_n 1, 1) := dk_27 (dk_at dksX6_sheet_2 17 rfl rfl)
theorem dX6_sheet_66 : decode cX6_sheet 66 = .ok (.iconst 1, 1) := dk_4 (dk_at dksX6_sheet_2 18 rfl rfl)
theorem dX6_sheet_67 : decode cX6_sheet 67 = .ok (.if_icmp .ne 9, 3) := dk_160 0 9 (dk_at dksX6_sheet_2 19 rfl rfl)
theorem dX6_sheet_70 : decode cX6_sheet 70 = .ok (.iload 6, 2) := dk_21 6 (dk_at dksX6_sheet_2 22 rfl rfl)
theorem dX6_sheet_72 : decode cX6_sheet 72 = .ok (.i2s, 1) := dk_147 (dk_at dksX6_sheet_3 0 rfl rfl)
theorem dX6_sheet_73 : decode cX6_sheet 73 = .ok (.goto 5, 3) := dk_167 0 5 (dk_at dksX6_sheet_3 1 rfl rfl)
theorem dX6_sheet_76 : decode cX6_sheet 76 = .ok (.iload 6, 2) := dk_21 6 (dk_at dksX6_sheet_3 4 rfl rfl)
theorem dX6_sheet_78 : decode cX6_sheet 78 = .ok (.istore 8, 2) := dk_54 8 (dk_at dksX6_sheet_3 6 rfl rfl)
theorem dX6_sheet_80 : decode cX6_sheet 80 = .ok (.aload_n 0, 1) := dk_42 (dk_at dksX6_sheet_3 8 rfl rfl)
theorem dX6_sheet_81 : decode cX6_sheet 81 = .ok (.getfield 41, 3) := dk_180 0 41 (dk_at dksX6_sheet_3 9 rfl rfl)
theorem dX6_sheet_84 : decode cX6_sheet 84 = .ok (.bipush 16, 2) := dk_16 16 (dk_at dksX6_sheet_3 12 rfl rfl)
theorem dX6_sheet_86 : decode cX6_sheet 86 = .ok (.iload 7, 2) := dk_21 7 (dk_at dksX6_sheet_3 14 rfl rfl)
theorem dX6_sheet_88 : decode cX6_sheet 88 = .ok (.iadd, 1) := dk_96 (dk_at dksX6_sheet_3 16 rfl rfl)
theorem dX6_sheet_89 : decode cX6_sheet 89 = .ok (.iload_n 1, 1) := dk_27 (dk_at dksX6_sheet_3 17 rfl rfl)
theorem dX6_sheet_90 : decode cX6_sheet 90 = .ok (.iconst 3, 1) := dk_6 (dk_at dksX6_sheet_3 18 rfl rfl)
theorem dX6_sheet_91 : decode cX6_sheet 91 = .ok (.if_icmp .eq 9, 3) := dk_159 0 9 (dk_at dksX6_sheet_3 19 rfl rfl)
theorem dX6_sheet_94 : decode cX6_sheet 94 = .ok (.iload 7, 2) := dk_21 7 (dk_at dksX6_sheet_3 22 rfl rfl)
theorem dX6_sheet_96 : decode cX6_sheet 96 = .ok (.iload_n 2, 1) := dk_28 (dk_at dksX6_sheet_4 0 rfl rfl)
theorem dX6_sheet_97 : decode cX6_sheet 97 = .ok (.if_icmp .lt 7, 3) := dk_161 0 7 (dk_at dksX6_sheet_4 1 rfl rfl)
theorem dX6_sheet_100 : decode cX6_sheet 100 = .ok (.iconst 0, 1) := dk_3 (dk_at dksX6_sheet_4 4 rfl rfl)
theorem dX6_sheet_101 : decode cX6_sheet 101 = .ok (.goto 13, 3) := dk_167 0 13 (dk_at dksX6_sheet_4 5 rfl rfl)
theorem dX6_sheet_104 : decode cX6_sheet 104 = .ok (.iconst 0, 1) := dk_3 (dk_at dksX6_sheet_4 8 rfl rfl)
theorem dX6_sheet_105 : decode cX6_sheet 105 = .ok (.iconst 4, 1) := dk_7 (dk_at dksX6_sheet_4 9 rfl rfl)
theorem dX6_sheet_106 : decode cX6_sheet 106 = .ok (.iload 8, 2) := dk_21 8 (dk_at dksX6_sheet_4 10 rfl rfl)
theorem dX6_sheet_108 : decode cX6_sheet 108 = .ok (.invokestatic 145, 3) := dk_184 0 145 (dk_at dksX6_sheet_4 12 rfl rfl)
theorem dX6_sheet_111 : decode cX6_sheet 111 = .ok (.invokestatic 273, 3) := dk_184 1 17 (dk_at dksX6_sheet_4 15 rfl rfl)
theorem dX6_sheet_114 : decode cX6_sheet 114 = .ok (.iastore, 1) := dk_79 (dk_at dksX6_sheet_4 18 rfl rfl)
theorem dX6_sheet_115 : decode cX6_sheet 115 = .ok (.iload 5, 2) := dk_21 5 (dk_at dksX6_sheet_4 19 rfl rfl)
theorem dX6_sheet_117 : decode cX6_sheet 117 = .ok (.aload_n 0, 1) := dk_42 (dk_at dksX6_sheet_4 21 rfl rfl)
theorem dX6_sheet_118 : decode cX6_sheet 118 = .ok (.getfield 41, 3) := dk_180 0 41 (dk_at dksX6_sheet_5 0 rfl rfl)
theorem dX6_sheet_121 : decode cX6_sheet 121 = .ok (.bipush 16, 2) := dk_16 16 (dk_at dksX6_sheet_5 3 rfl rfl)
theorem dX6_sheet_123 : decode cX6_sheet 123 = .ok (.iload 7, 2) := dk_21 7 (dk_at dksX6_sheet_5 5 rfl rfl)
theorem dX6_sheet_125 : decode cX6_sheet 125 = .ok (.iadd, 1) := dk_96 (dk_at dksX6_sheet_5 7 rfl rfl)
theorem dX6_sheet_126 : decode cX6_sheet 126 = .ok (.iaload, 1) := dk_46 (dk_at dksX6_sheet_5 8 rfl rfl)
theorem dX6_sheet_127 : decode cX6_sheet 127 = .ok (.iadd, 1) := dk_96 (dk_at dksX6_sheet_5 9 rfl rfl)
theorem dX6_sheet_128 : decode cX6_sheet 128 = .ok (.istore 5, 2) := dk_54 5 (dk_at dksX6_sheet_5 10 rfl rfl)
theorem dX6_sheet_130 : decode cX6_sheet 130 = .ok (.iload 6, 2) := dk_21 6 (dk_at dksX6_sheet_5 12 rfl rfl)
theorem dX6_sheet_132 : decode cX6_sheet 132 = .ok (.iload 4, 2) := dk_21 4 (dk_at dksX6_sheet_5 14 rfl rfl)
theorem dX6_sheet_134 : decode cX6_sheet 134 = .ok (.iadd, 1) := dk_96 (dk_at dksX6_sheet_5 16 rfl rfl)
theorem dX6_sheet_135 : decode cX6_sheet 135 = .ok (.istore 6, 2) := dk_54 6 (dk_at dksX6_sheet_5 17 rfl rfl)
theorem dX6_sheet_137 : decode cX6_sheet 137 = .ok (.iinc 7 1, 3) := dk_132 7 1 (dk_at dksX6_sheet_5 19 rfl rfl)
theorem dX6_sheet_140 : decode cX6_sheet 140 = .ok (.goto (-94), 3) := dk_167 255 162 (dk_at dksX6_sheet_6 0 rfl rfl)
theorem dX6_sheet_143 : decode cX6_sheet 143 = .ok (.iload_n 1, 1) := dk_27 (dk_at dksX6_sheet_6 3 rfl rfl)
theorem dX6_sheet_144 : decode cX6_sheet 144 = .ok (.iconst 3, 1) := dk_6 (dk_at dksX6_sheet_6 4 rfl rfl)
theorem dX6_sheet_145 : decode cX6_sheet 145 = .ok (.if_icmp .ne 8, 3) := dk_160 0 8 (dk_at dksX6_sheet_6 5 rfl rfl)
theorem dX6_sheet_148 : decode cX6_sheet 148 = .ok (.bipush (-3), 2) := dk_16 253 (dk_at dksX6_sheet_6 8 rfl rfl)
theorem dX6_sheet_150 : decode cX6_sheet 150 = .ok (.goto 5, 3) := dk_167 0 5 (dk_at dksX6_sheet_6 10 rfl rfl)
theorem dX6_sheet_153 : decode cX6_sheet 153 = .ok (.iload 5, 2) := dk_21 5 (dk_at dksX6_sheet_6 13 rfl rfl)
theorem dX6_sheet_155 : decode cX6_sheet 155 = .ok (.ireturn, 1) := dk_172 (dk_at dksX6_sheet_6 15 rfl rfl)
abbrev cX6_undo : ByteArray := prog_12_method_62_code
def yX6_undo : MethodName := ⟨RX6, "undo", "()I"⟩
def dkwX6_undo_2 : List UInt8 := [27, 96, 46, 79, 132, 1, 1, 167, 255, 227, 42, 180, 0, 188, 172]
abbrev dktX6_undo_2 : List UInt8 := dkwX6_undo_2 ++ []
def dkwX6_undo_1 : List UInt8 := [3, 60, 27, 16, 41, 162, 0, 29, 42, 180, 0, 41, 27, 42, 180, 0, 68, 16, 41, 42, 180, 0, 188, 104]
abbrev dktX6_undo_1 : List UInt8 := dkwX6_undo_1 ++ dktX6_undo_2
def dkwX6_undo_0 : List UInt8 := [42, 3, 181, 0, 3, 42, 180, 0, 188, 154, 0, 5, 2, 172, 42, 89, 180, 0, 188, 4, 100, 181, 0, 188]
abbrev dktX6_undo_0 : List UInt8 := dkwX6_undo_0 ++ dktX6_undo_1
theorem dksX6_undo_0 : cX6_undo.data.toList.drop 0 = dktX6_undo_0 := by decide +kernel
theorem dksX6_undo_1 : cX6_undo.data.toList.drop 24 = dktX6_undo_1 := dk_seg dksX6_undo_0 24 rfl rfl
theorem dksX6_undo_2 : cX6_undo.data.toList.drop 48 = dktX6_undo_2 := dk_seg dksX6_undo_1 24 rfl rfl
theorem dX6_undo_0 : decode cX6_undo 0 = .ok (.aload_n 0, 1) := dk_42 (dk_at dksX6_undo_0 0 rfl rfl)
theorem dX6_undo_1 : decode cX6_undo 1 = .ok (.iconst 0, 1) := dk_3 (dk_at dksX6_undo_0 1 rfl rfl)
theorem dX6_undo_2 : decode cX6_undo 2 = .ok (.putfield 3, 3) := dk_181 0 3 (dk_at dksX6_undo_0 2 rfl rfl)
theorem dX6_undo_5 : decode cX6_undo 5 = .ok (.aload_n 0, 1) := dk_42 (dk_at dksX6_undo_0 5 rfl rfl)
theorem dX6_undo_6 : decode cX6_undo 6 = .ok (.getfield 188, 3) := dk_180 0 188 (dk_at dksX6_undo_0 6 rfl rfl)
theorem dX6_undo_9 : decode cX6_undo 9 = .ok (.ifCond .ne 5, 3) := dk_154 0 5 (dk_at dksX6_undo_0 9 rfl rfl)
theorem dX6_undo_12 : decode cX6_undo 12 = .ok (.iconst (-1), 1) := dk_2 (dk_at dksX6_undo_0 12 rfl rfl)
theorem dX6_undo_13 : decode cX6_undo 13 = .ok (.ireturn, 1) := dk_172 (dk_at dksX6_undo_0 13 rfl rfl)
theorem dX6_undo_14 : decode cX6_undo 14 = .ok (.aload_n 0, 1) := dk_42 (dk_at dksX6_undo_0 14 rfl rfl)
theorem dX6_undo_15 : decode cX6_undo 15 = .ok (.dup, 1) := dk_89 (dk_at dksX6_undo_0 15 rfl rfl)
theorem dX6_undo_16 : decode cX6_undo 16 = .ok (.getfield 188, 3) := dk_180 0 188 (dk_at dksX6_undo_0 16 rfl rfl)
theorem dX6_undo_19 : decode cX6_undo 19 = .ok (.iconst 1, 1) := dk_4 (dk_at dksX6_undo_0 19 rfl rfl)
theorem dX6_undo_20 : decode cX6_undo 20 = .ok (.isub, 1) := dk_100 (dk_at dksX6_undo_0 20 rfl rfl)
theorem dX6_undo_21 : decode cX6_undo 21 = .ok (.putfield 188, 3) := dk_181 0 188 (dk_at dksX6_undo_0 21 rfl rfl)
theorem dX6_undo_24 : decode cX6_undo 24 = .ok (.iconst 0, 1) := dk_3 (dk_at dksX6_undo_1 0 rfl rfl)
theorem dX6_undo_25 : decode cX6_undo 25 = .ok (.istore_n 1, 1) := dk_60 (dk_at dksX6_undo_1 1 rfl rfl)
theorem dX6_undo_26 : decode cX6_undo 26 = .ok (.iload_n 1, 1) := dk_27 (dk_at dksX6_undo_1 2 rfl rfl)
theorem dX6_undo_27 : decode cX6_undo 27 = .ok (.bipush 41, 2) := dk_16 41 (dk_at dksX6_undo_1 3 rfl rfl)
theorem dX6_undo_29 : decode cX6_undo 29 = .ok (.if_icmp .ge 29, 3) := dk_162 0 29 (dk_at dksX6_undo_1 5 rfl rfl)
theorem dX6_undo_32 : decode cX6_undo 32 = .ok (.aload_n 0, 1) := dk_42 (dk_at dksX6_undo_1 8 rfl rfl)
theorem dX6_undo_33 : decode cX6_undo 33 = .ok (.getfield 41, 3) := dk_180 0 41 (dk_at dksX6_undo_1 9 rfl rfl)
theorem dX6_undo_36 : decode cX6_undo 36 = .ok (.iload_n 1, 1) := dk_27 (dk_at dksX6_undo_1 12 rfl rfl)
theorem dX6_undo_37 : decode cX6_undo 37 = .ok (.aload_n 0, 1) := dk_42 (dk_at dksX6_undo_1 13 rfl rfl)
theorem dX6_undo_38 : decode cX6_undo 38 = .ok (.getfield 68, 3) := dk_180 0 68 (dk_at dksX6_undo_1 14 rfl rfl)
theorem dX6_undo_41 : decode cX6_undo 41 = .ok (.bipush 41, 2) := dk_16 41 (dk_at dksX6_undo_1 17 rfl rfl)
theorem dX6_undo_43 : decode cX6_undo 43 = .ok (.aload_n 0, 1) := dk_42 (dk_at dksX6_undo_1 19 rfl rfl)
theorem dX6_undo_44 : decode cX6_undo 44 = .ok (.getfield 188, 3) := dk_180 0 188 (dk_at dksX6_undo_1 20 rfl rfl)
theorem dX6_undo_47 : decode cX6_undo 47 = .ok (.imul, 1) := dk_104 (dk_at dksX6_undo_1 23 rfl rfl)
theorem dX6_undo_48 : decode cX6_undo 48 = .ok (.iload_n 1, 1) := dk_27 (dk_at dksX6_undo_2 0 rfl rfl)
theorem dX6_undo_49 : decode cX6_undo 49 = .ok (.iadd, 1) := dk_96 (dk_at dksX6_undo_2 1 rfl rfl)
theorem dX6_undo_50 : decode cX6_undo 50 = .ok (.iaload, 1) := dk_46 (dk_at dksX6_undo_2 2 rfl rfl)
theorem dX6_undo_51 : decode cX6_undo 51 = .ok (.iastore, 1) := dk_79 (dk_at dksX6_undo_2 3 rfl rfl)
theorem dX6_undo_52 : decode cX6_undo 52 = .ok (.iinc 1 1, 3) := dk_132 1 1 (dk_at dksX6_undo_2 4 rfl rfl)
theorem dX6_undo_55 : decode cX6_undo 55 = .ok (.goto (-29), 3) := dk_167 255 227 (dk_at dksX6_undo_2 7 rfl rfl)
theorem dX6_undo_58 : decode cX6_undo 58 = .ok (.aload_n 0, 1) := dk_42 (dk_at dksX6_undo_2 10 rfl rfl)
theorem dX6_undo_59 : decode cX6_undo 59 = .ok (.getfield 188, 3) := dk_180 0 188 (dk_at dksX6_undo_2 11 rfl rfl)
theorem dX6_undo_62 : decode cX6_undo 62 = .ok (.ireturn, 1) := dk_172 (dk_at dksX6_undo_2 14 rfl rfl)
abbrev cX6_hours : ByteArray := prog_12_method_69_code
def yX6_hours : MethodName := ⟨RX6, "hours", "(I)I"⟩
def dkwX6_hours_4 : List UInt8 := [29, 133, 182, 1, 117, 42, 42, 42, 180, 0, 41, 182, 1, 110, 182, 1, 85, 172]
abbrev dktX6_hours_4 : List UInt8 := dkwX6_hours_4 ++ []
def dkwX6_hours_3 : List UInt8 := [167, 255, 231, 42, 3, 181, 0, 15, 42, 42, 42, 180, 0, 41, 182, 1, 110, 28, 100, 133, 182, 1, 117, 42]
abbrev dktX6_hours_3 : List UInt8 := dkwX6_hours_3 ++ dktX6_hours_4
def dkwX6_hours_2 : List UInt8 := [42, 180, 0, 130, 162, 0, 22, 29, 42, 180, 0, 41, 16, 24, 21, 4, 96, 46, 128, 62, 132, 4, 1]
abbrev dktX6_hours_2 : List UInt8 := dkwX6_hours_2 ++ dktX6_hours_3
def dkwX6_hours_1 : List UInt8 := [42, 180, 0, 41, 182, 1, 110, 61, 42, 42, 180, 0, 41, 27, 182, 1, 114, 3, 62, 3, 54, 4, 21, 4]
abbrev dktX6_hours_1 : List UInt8 := dkwX6_hours_1 ++ dktX6_hours_2
def dkwX6_hours_0 : List UInt8 := [42, 3, 181, 0, 3, 27, 133, 9, 20, 1, 105, 184, 0, 126, 154, 0, 5, 2, 172, 42, 182, 1, 107, 42]
abbrev dktX6_hours_0 : List UInt8 := dkwX6_hours_0 ++ dktX6_hours_1
theorem dksX6_hours_0 : cX6_hours.data.toList.drop 0 = dktX6_hours_0 := by decide +kernel
theorem dksX6_hours_1 : cX6_hours.data.toList.drop 24 = dktX6_hours_1 := dk_seg dksX6_hours_0 24 rfl rfl
theorem dksX6_hours_2 : cX6_hours.data.toList.drop 48 = dktX6_hours_2 := dk_seg dksX6_hours_1 24 rfl rfl
theorem dksX6_hours_3 : cX6_hours.data.toList.drop 71 = dktX6_hours_3 := dk_seg dksX6_hours_2 23 rfl rfl
theorem dksX6_hours_4 : cX6_hours.data.toList.drop 95 = dktX6_hours_4 := dk_seg dksX6_hours_3 24 rfl rfl
theorem dX6_hours_0 : decode cX6_hours 0 = .ok (.aload_n 0, 1) := dk_42 (dk_at dksX6_hours_0 0 rfl rfl)
theorem dX6_hours_1 : decode cX6_hours 1 = .ok (.iconst 0, 1) := dk_3 (dk_at dksX6_hours_0 1 rfl rfl)
theorem dX6_hours_2 : decode cX6_hours 2 = .ok (.putfield 3, 3) := dk_181 0 3 (dk_at dksX6_hours_0 2 rfl rfl)
theorem dX6_hours_5 : decode cX6_hours 5 = .ok (.iload_n 1, 1) := dk_27 (dk_at dksX6_hours_0 5 rfl rfl)
theorem dX6_hours_6 : decode cX6_hours 6 = .ok (.i2l, 1) := dk_133 (dk_at dksX6_hours_0 6 rfl rfl)
theorem dX6_hours_7 : decode cX6_hours 7 = .ok (.lconst 0, 1) := dk_9 (dk_at dksX6_hours_0 7 rfl rfl)
theorem dX6_hours_8 : decode cX6_hours 8 = .ok (.ldc2_w 361, 3) := dk_20 1 105 (dk_at dksX6_hours_0 8 rfl rfl)
theorem dX6_hours_11 : decode cX6_hours 11 = .ok (.invokestatic 126, 3) := dk_184 0 126 (dk_at dksX6_hours_0 11 rfl rfl)
theorem dX6_hours_14 : decode cX6_hours 14 = .ok (.ifCond .ne 5, 3) := dk_154 0 5 (dk_at dksX6_hours_0 14 rfl rfl)
theorem dX6_hours_17 : decode cX6_hours 17 = .ok (.iconst (-1), 1) := dk_2 (dk_at dksX6_hours_0 17 rfl rfl)
theorem dX6_hours_18 : decode cX6_hours 18 = .ok (.ireturn, 1) := dk_172 (dk_at dksX6_hours_0 18 rfl rfl)
theorem dX6_hours_19 : decode cX6_hours 19 = .ok (.aload_n 0, 1) := dk_42 (dk_at dksX6_hours_0 19 rfl rfl)
theorem dX6_hours_20 : decode cX6_hours 20 = .ok (.invokevirtual 363, 3) := dk_182 1 107 (dk_at dksX6_hours_0 20 rfl rfl)
theorem dX6_hours_23 : decode cX6_hours 23 = .ok (.aload_n 0, 1) := dk_42 (dk_at dksX6_hours_0 23 rfl rfl)
theorem dX6_hours_24 : decode cX6_hours 24 = .ok (.aload_n 0, 1) := dk_42 (dk_at dksX6_hours_1 0 rfl rfl)
theorem dX6_hours_25 : decode cX6_hours 25 = .ok (.getfield 41, 3) := dk_180 0 41 (dk_at dksX6_hours_1 1 rfl rfl)
theorem dX6_hours_28 : decode cX6_hours 28 = .ok (.invokevirtual 366, 3) := dk_182 1 110 (dk_at dksX6_hours_1 4 rfl rfl)
theorem dX6_hours_31 : decode cX6_hours 31 = .ok (.istore_n 2, 1) := dk_61 (dk_at dksX6_hours_1 7 rfl rfl)
theorem dX6_hours_32 : decode cX6_hours 32 = .ok (.aload_n 0, 1) := dk_42 (dk_at dksX6_hours_1 8 rfl rfl)
theorem dX6_hours_33 : decode cX6_hours 33 = .ok (.aload_n 0, 1) := dk_42 (dk_at dksX6_hours_1 9 rfl rfl)
theorem dX6_hours_34 : decode cX6_hours 34 = .ok (.getfield 41, 3) := dk_180 0 41 (dk_at dksX6_hours_1 10 rfl rfl)
theorem dX6_hours_37 : decode cX6_hours 37 = .ok (.iload_n 1, 1) := dk_27 (dk_at dksX6_hours_1 13 rfl rfl)
theorem dX6_hours_38 : decode cX6_hours 38 = .ok (.invokevirtual 370, 3) := dk_182 1 114 (dk_at dksX6_hours_1 14 rfl rfl)
theorem dX6_hours_41 : decode cX6_hours 41 = .ok (.iconst 0, 1) := dk_3 (dk_at dksX6_hours_1 17 rfl rfl)
theorem dX6_hours_42 : decode cX6_hours 42 = .ok (.istore_n 3, 1) := dk_62 (dk_at dksX6_hours_1 18 rfl rfl)
theorem dX6_hours_43 : decode cX6_hours 43 = .ok (.iconst 0, 1) := dk_3 (dk_at dksX6_hours_1 19 rfl rfl)
theorem dX6_hours_44 : decode cX6_hours 44 = .ok (.istore 4, 2) := dk_54 4 (dk_at dksX6_hours_1 20 rfl rfl)
theorem dX6_hours_46 : decode cX6_hours 46 = .ok (.iload 4, 2) := dk_21 4 (dk_at dksX6_hours_1 22 rfl rfl)
theorem dX6_hours_48 : decode cX6_hours 48 = .ok (.aload_n 0, 1) := dk_42 (dk_at dksX6_hours_2 0 rfl rfl)
theorem dX6_hours_49 : decode cX6_hours 49 = .ok (.getfield 130, 3) := dk_180 0 130 (dk_at dksX6_hours_2 1 rfl rfl)
theorem dX6_hours_52 : decode cX6_hours 52 = .ok (.if_icmp .ge 22, 3) := dk_162 0 22 (dk_at dksX6_hours_2 4 rfl rfl)
theorem dX6_hours_55 : decode cX6_hours 55 = .ok (.iload_n 3, 1) := dk_29 (dk_at dksX6_hours_2 7 rfl rfl)
theorem dX6_hours_56 : decode cX6_hours 56 = .ok (.aload_n 0, 1) := dk_42 (dk_at dksX6_hours_2 8 rfl rfl)
theorem dX6_hours_57 : decode cX6_hours 57 = .ok (.getfield 41, 3) := dk_180 0 41 (dk_at dksX6_hours_2 9 rfl rfl)
theorem dX6_hours_60 : decode cX6_hours 60 = .ok (.bipush 24, 2) := dk_16 24 (dk_at dksX6_hours_2 12 rfl rfl)
theorem dX6_hours_62 : decode cX6_hours 62 = .ok (.iload 4, 2) := dk_21 4 (dk_at dksX6_hours_2 14 rfl rfl)
theorem dX6_hours_64 : decode cX6_hours 64 = .ok (.iadd, 1) := dk_96 (dk_at dksX6_hours_2 16 rfl rfl)
theorem dX6_hours_65 : decode cX6_hours 65 = .ok (.iaload, 1) := dk_46 (dk_at dksX6_hours_2 17 rfl rfl)
theorem dX6_hours_66 : decode cX6_hours 66 = .ok (.ior, 1) := dk_128 (dk_at dksX6_hours_2 18 rfl rfl)
theorem dX6_hours_67 : decode cX6_hours 67 = .ok (.istore_n 3, 1) := dk_62 (dk_at dksX6_hours_2 19 rfl rfl)
theorem dX6_hours_68 : decode cX6_hours 68 = .ok (.iinc 4 1, 3) := dk_132 4 1 (dk_at dksX6_hours_2 20 rfl rfl)
theorem dX6_hours_71 : decode cX6_hours 71 = .ok (.goto (-25), 3) := dk_167 255 231 (dk_at dksX6_hours_3 0 rfl rfl)
theorem dX6_hours_74 : decode cX6_hours 74 = .ok (.aload_n 0, 1) := dk_42 (dk_at dksX6_hours_3 3 rfl rfl)
theorem dX6_hours_75 : decode cX6_hours 75 = .ok (.iconst 0, 1) := dk_3 (dk_at dksX6_hours_3 4 rfl rfl)
theorem dX6_hours_76 : decode cX6_hours 76 = .ok (.putfield 15, 3) := dk_181 0 15 (dk_at dksX6_hours_3 5 rfl rfl)
theorem dX6_hours_79 : decode cX6_hours 79 = .ok (.aload_n 0, 1) := dk_42 (dk_at dksX6_hours_3 8 rfl rfl)
theorem dX6_hours_80 : decode cX6_hours 80 = .ok (.aload_n 0, 1) := dk_42 (dk_at dksX6_hours_3 9 rfl rfl)
theorem dX6_hours_81 : decode cX6_hours 81 = .ok (.aload_n 0, 1) := dk_42 (dk_at dksX6_hours_3 10 rfl rfl)
theorem dX6_hours_82 : decode cX6_hours 82 = .ok (.getfield 41, 3) := dk_180 0 41 (dk_at dksX6_hours_3 11 rfl rfl)
theorem dX6_hours_85 : decode cX6_hours 85 = .ok (.invokevirtual 366, 3) := dk_182 1 110 (dk_at dksX6_hours_3 14 rfl rfl)
theorem dX6_hours_88 : decode cX6_hours 88 = .ok (.iload_n 2, 1) := dk_28 (dk_at dksX6_hours_3 17 rfl rfl)
theorem dX6_hours_89 : decode cX6_hours 89 = .ok (.isub, 1) := dk_100 (dk_at dksX6_hours_3 18 rfl rfl)
theorem dX6_hours_90 : decode cX6_hours 90 = .ok (.i2l, 1) := dk_133 (dk_at dksX6_hours_3 19 rfl rfl)
theorem dX6_hours_91 : decode cX6_hours 91 = .ok (.invokevirtual 373, 3) := dk_182 1 117 (dk_at dksX6_hours_3 20 rfl rfl)
theorem dX6_hours_94 : decode cX6_hours 94 = .ok (.aload_n 0, 1) := dk_42 (dk_at dksX6_hours_3 23 rfl rfl)
theorem dX6_hours_95 : decode cX6_hours 95 = .ok (.iload_n 3, 1) := dk_29 (dk_at dksX6_hours_4 0 rfl rfl)
theorem dX6_hours_96 : decode cX6_hours 96 = .ok (.i2l, 1) := dk_133 (dk_at dksX6_hours_4 1 rfl rfl)
theorem dX6_hours_97 : decode cX6_hours 97 = .ok (.invokevirtual 373, 3) := dk_182 1 117 (dk_at dksX6_hours_4 2 rfl rfl)
theorem dX6_hours_100 : decode cX6_hours 100 = .ok (.aload_n 0, 1) := dk_42 (dk_at dksX6_hours_4 5 rfl rfl)
theorem dX6_hours_101 : decode cX6_hours 101 = .ok (.aload_n 0, 1) := dk_42 (dk_at dksX6_hours_4 6 rfl rfl)
theorem dX6_hours_102 : decode cX6_hours 102 = .ok (.aload_n 0, 1) := dk_42 (dk_at dksX6_hours_4 7 rfl rfl)
theorem dX6_hours_103 : decode cX6_hours 103 = .ok (.getfield 41, 3) := dk_180 0 41 (dk_at dksX6_hours_4 8 rfl rfl)
theorem dX6_hours_106 : decode cX6_hours 106 = .ok (.invokevirtual 366, 3) := dk_182 1 110 (dk_at dksX6_hours_4 11 rfl rfl)
theorem dX6_hours_109 : decode cX6_hours 109 = .ok (.invokevirtual 341, 3) := dk_182 1 85 (dk_at dksX6_hours_4 14 rfl rfl)
theorem dX6_hours_112 : decode cX6_hours 112 = .ok (.ireturn, 1) := dk_172 (dk_at dksX6_hours_4 17 rfl rfl)
abbrev cX6_putsBy : ByteArray := prog_12_method_59_code
def yX6_putsBy : MethodName := ⟨RX6, "putsBy", "()V"⟩
def dkwX6_putsBy_1 : List UInt8 := [180, 0, 41, 27, 46, 79, 132, 1, 1, 167, 255, 227, 177]
abbrev dktX6_putsBy_1 : List UInt8 := dkwX6_putsBy_1 ++ []
def dkwX6_putsBy_0 : List UInt8 := [3, 60, 27, 16, 41, 162, 0, 29, 42, 180, 0, 68, 16, 41, 42, 180, 0, 188, 104, 27, 96, 42]
abbrev dktX6_putsBy_0 : List UInt8 := dkwX6_putsBy_0 ++ dktX6_putsBy_1
theorem dksX6_putsBy_0 : cX6_putsBy.data.toList.drop 0 = dktX6_putsBy_0 := by decide +kernel
theorem dksX6_putsBy_1 : cX6_putsBy.data.toList.drop 22 = dktX6_putsBy_1 := dk_seg dksX6_putsBy_0 22 rfl rfl
theorem dX6_putsBy_0 : decode cX6_putsBy 0 = .ok (.iconst 0, 1) := dk_3 (dk_at dksX6_putsBy_0 0 rfl rfl)
theorem dX6_putsBy_1 : decode cX6_putsBy 1 = .ok (.istore_n 1, 1) := dk_60 (dk_at dksX6_putsBy_0 1 rfl rfl)
theorem dX6_putsBy_2 : decode cX6_putsBy 2 = .ok (.iload_n 1, 1) := dk_27 (dk_at dksX6_putsBy_0 2 rfl rfl)
theorem dX6_putsBy_3 : decode cX6_putsBy 3 = .ok (.bipush 41, 2) := dk_16 41 (dk_at dksX6_putsBy_0 3 rfl rfl)
theorem dX6_putsBy_5 : decode cX6_putsBy 5 = .ok (.if_icmp .ge 29, 3) := dk_162 0 29 (dk_at dksX6_putsBy_0 5 rfl rfl)
theorem dX6_putsBy_8 : decode cX6_putsBy 8 = .ok (.aload_n 0, 1) := dk_42 (dk_at dksX6_putsBy_0 8 rfl rfl)
theorem dX6_putsBy_9 : decode cX6_putsBy 9 = .ok (.getfield 68, 3) := dk_180 0 68 (dk_at dksX6_putsBy_0 9 rfl rfl)
theorem dX6_putsBy_12 : decode cX6_putsBy 12 = .ok (.bipush 41, 2) := dk_16 41 (dk_at dksX6_putsBy_0 12 rfl rfl)
theorem dX6_putsBy_14 : decode cX6_putsBy 14 = .ok (.aload_n 0, 1) := dk_42 (dk_at dksX6_putsBy_0 14 rfl rfl)
theorem dX6_putsBy_15 : decode cX6_putsBy 15 = .ok (.getfield 188, 3) := dk_180 0 188 (dk_at dksX6_putsBy_0 15 rfl rfl)
theorem dX6_putsBy_18 : decode cX6_putsBy 18 = .ok (.imul, 1) := dk_104 (dk_at dksX6_putsBy_0 18 rfl rfl)
theorem dX6_putsBy_19 : decode cX6_putsBy 19 = .ok (.iload_n 1, 1) := dk_27 (dk_at dksX6_putsBy_0 19 rfl rfl)
theorem dX6_putsBy_20 : decode cX6_putsBy 20 = .ok (.iadd, 1) := dk_96 (dk_at dksX6_putsBy_0 20 rfl rfl)
theorem dX6_putsBy_21 : decode cX6_putsBy 21 = .ok (.aload_n 0, 1) := dk_42 (dk_at dksX6_putsBy_0 21 rfl rfl)
theorem dX6_putsBy_22 : decode cX6_putsBy 22 = .ok (.getfield 41, 3) := dk_180 0 41 (dk_at dksX6_putsBy_1 0 rfl rfl)
theorem dX6_putsBy_25 : decode cX6_putsBy 25 = .ok (.iload_n 1, 1) := dk_27 (dk_at dksX6_putsBy_1 3 rfl rfl)
theorem dX6_putsBy_26 : decode cX6_putsBy 26 = .ok (.iaload, 1) := dk_46 (dk_at dksX6_putsBy_1 4 rfl rfl)
theorem dX6_putsBy_27 : decode cX6_putsBy 27 = .ok (.iastore, 1) := dk_79 (dk_at dksX6_putsBy_1 5 rfl rfl)
theorem dX6_putsBy_28 : decode cX6_putsBy 28 = .ok (.iinc 1 1, 3) := dk_132 1 1 (dk_at dksX6_putsBy_1 6 rfl rfl)
theorem dX6_putsBy_31 : decode cX6_putsBy 31 = .ok (.goto (-29), 3) := dk_167 255 227 (dk_at dksX6_putsBy_1 9 rfl rfl)
theorem dX6_putsBy_34 : decode cX6_putsBy 34 = .ok (.return_, 1) := dk_177 (dk_at dksX6_putsBy_1 12 rfl rfl)
abbrev cX6_known : ByteArray := prog_12_method_55_code
def yX6_known : MethodName := ⟨RX6, "known", "([I)I"⟩
def dkwX6_known_1 : List UInt8 := [132, 3, 1, 167, 255, 233, 28, 172]
abbrev dktX6_known_1 : List UInt8 := dkwX6_known_1 ++ []
def dkwX6_known_0 : List UInt8 := [3, 61, 3, 62, 29, 42, 180, 0, 130, 162, 0, 21, 28, 43, 16, 24, 29, 96, 46, 184, 1, 9, 96, 61]
abbrev dktX6_known_0 : List UInt8 := dkwX6_known_0 ++ dktX6_known_1
theorem dksX6_known_0 : cX6_known.data.toList.drop 0 = dktX6_known_0 := by decide +kernel
theorem dksX6_known_1 : cX6_known.data.toList.drop 24 = dktX6_known_1 := dk_seg dksX6_known_0 24 rfl rfl
theorem dX6_known_0 : decode cX6_known 0 = .ok (.iconst 0, 1) := dk_3 (dk_at dksX6_known_0 0 rfl rfl)
theorem dX6_known_1 : decode cX6_known 1 = .ok (.istore_n 2, 1) := dk_61 (dk_at dksX6_known_0 1 rfl rfl)
theorem dX6_known_2 : decode cX6_known 2 = .ok (.iconst 0, 1) := dk_3 (dk_at dksX6_known_0 2 rfl rfl)
theorem dX6_known_3 : decode cX6_known 3 = .ok (.istore_n 3, 1) := dk_62 (dk_at dksX6_known_0 3 rfl rfl)
theorem dX6_known_4 : decode cX6_known 4 = .ok (.iload_n 3, 1) := dk_29 (dk_at dksX6_known_0 4 rfl rfl)
theorem dX6_known_5 : decode cX6_known 5 = .ok (.aload_n 0, 1) := dk_42 (dk_at dksX6_known_0 5 rfl rfl)
theorem dX6_known_6 : decode cX6_known 6 = .ok (.getfield 130, 3) := dk_180 0 130 (dk_at dksX6_known_0 6 rfl rfl)
theorem dX6_known_9 : decode cX6_known 9 = .ok (.if_icmp .ge 21, 3) := dk_162 0 21 (dk_at dksX6_known_0 9 rfl rfl)
theorem dX6_known_12 : decode cX6_known 12 = .ok (.iload_n 2, 1) := dk_28 (dk_at dksX6_known_0 12 rfl rfl)
theorem dX6_known_13 : decode cX6_known 13 = .ok (.aload_n 1, 1) := dk_43 (dk_at dksX6_known_0 13 rfl rfl)
theorem dX6_known_14 : decode cX6_known 14 = .ok (.bipush 24, 2) := dk_16 24 (dk_at dksX6_known_0 14 rfl rfl)
theorem dX6_known_16 : decode cX6_known 16 = .ok (.iload_n 3, 1) := dk_29 (dk_at dksX6_known_0 16 rfl rfl)
theorem dX6_known_17 : decode cX6_known 17 = .ok (.iadd, 1) := dk_96 (dk_at dksX6_known_0 17 rfl rfl)
theorem dX6_known_18 : decode cX6_known 18 = .ok (.iaload, 1) := dk_46 (dk_at dksX6_known_0 18 rfl rfl)
theorem dX6_known_19 : decode cX6_known 19 = .ok (.invokestatic 265, 3) := dk_184 1 9 (dk_at dksX6_known_0 19 rfl rfl)
theorem dX6_known_22 : decode cX6_known 22 = .ok (.iadd, 1) := dk_96 (dk_at dksX6_known_0 22 rfl rfl)
theorem dX6_known_23 : decode cX6_known 23 = .ok (.istore_n 2, 1) := dk_61 (dk_at dksX6_known_0 23 rfl rfl)
theorem dX6_known_24 : decode cX6_known 24 = .ok (.iinc 3 1, 3) := dk_132 3 1 (dk_at dksX6_known_1 0 rfl rfl)
theorem dX6_known_27 : decode cX6_known 27 = .ok (.goto (-23), 3) := dk_167 255 233 (dk_at dksX6_known_1 3 rfl rfl)
theorem dX6_known_30 : decode cX6_known 30 = .ok (.iload_n 2, 1) := dk_28 (dk_at dksX6_known_1 6 rfl rfl)
theorem dX6_known_31 : decode cX6_known 31 = .ok (.ireturn, 1) := dk_172 (dk_at dksX6_known_1 7 rfl rfl)
abbrev cX6_goesOn : ByteArray := prog_12_method_64_code
def yX6_goesOn : MethodName := ⟨RX6, "goesOn", "([II)V"⟩
def dkwX6_goesOn_0 : List UInt8 := [3, 62, 29, 28, 162, 0, 14, 42, 43, 182, 1, 91, 132, 3, 1, 167, 255, 243, 177]
abbrev dktX6_goesOn_0 : List UInt8 := dkwX6_goesOn_0 ++ []
theorem dksX6_goesOn_0 : cX6_goesOn.data.toList.drop 0 = dktX6_goesOn_0 := by decide +kernel
theorem dX6_goesOn_0 : decode cX6_goesOn 0 = .ok (.iconst 0, 1) := dk_3 (dk_at dksX6_goesOn_0 0 rfl rfl)
theorem dX6_goesOn_1 : decode cX6_goesOn 1 = .ok (.istore_n 3, 1) := dk_62 (dk_at dksX6_goesOn_0 1 rfl rfl)
theorem dX6_goesOn_2 : decode cX6_goesOn 2 = .ok (.iload_n 3, 1) := dk_29 (dk_at dksX6_goesOn_0 2 rfl rfl)
theorem dX6_goesOn_3 : decode cX6_goesOn 3 = .ok (.iload_n 2, 1) := dk_28 (dk_at dksX6_goesOn_0 3 rfl rfl)
theorem dX6_goesOn_4 : decode cX6_goesOn 4 = .ok (.if_icmp .ge 14, 3) := dk_162 0 14 (dk_at dksX6_goesOn_0 4 rfl rfl)
theorem dX6_goesOn_7 : decode cX6_goesOn 7 = .ok (.aload_n 0, 1) := dk_42 (dk_at dksX6_goesOn_0 7 rfl rfl)
theorem dX6_goesOn_8 : decode cX6_goesOn 8 = .ok (.aload_n 1, 1) := dk_43 (dk_at dksX6_goesOn_0 8 rfl rfl)
theorem dX6_goesOn_9 : decode cX6_goesOn 9 = .ok (.invokevirtual 347, 3) := dk_182 1 91 (dk_at dksX6_goesOn_0 9 rfl rfl)
theorem dX6_goesOn_12 : decode cX6_goesOn 12 = .ok (.iinc 3 1, 3) := dk_132 3 1 (dk_at dksX6_goesOn_0 12 rfl rfl)
theorem dX6_goesOn_15 : decode cX6_goesOn 15 = .ok (.goto (-13), 3) := dk_167 255 243 (dk_at dksX6_goesOn_0 15 rfl rfl)
theorem dX6_goesOn_18 : decode cX6_goesOn 18 = .ok (.return_, 1) := dk_177 (dk_at dksX6_goesOn_0 18 rfl rfl)
abbrev cX6_hourGoes : ByteArray := prog_12_method_63_code
def yX6_hourGoes : MethodName := ⟨RX6, "hourGoes", "([I)V"⟩
def dkwX6_hourGoes_6 : List UInt8 := [167, 255, 233, 43, 16, 40, 92, 46, 4, 96, 79, 177]
abbrev dktX6_hourGoes_6 : List UInt8 := dkwX6_hourGoes_6 ++ []
def dkwX6_hourGoes_5 : List UInt8 := [42, 180, 0, 130, 162, 0, 21, 43, 16, 24, 28, 96, 42, 180, 0, 71, 28, 46, 79, 132, 2, 1]
abbrev dktX6_hourGoes_5 : List UInt8 := dkwX6_hourGoes_5 ++ dktX6_hourGoes_6
def dkwX6_hourGoes_4 : List UInt8 := [46, 43, 16, 24, 28, 96, 46, 128, 79, 132, 3, 1, 167, 255, 205, 132, 2, 1, 167, 255, 187, 3, 61, 28]
abbrev dktX6_hourGoes_4 : List UInt8 := dkwX6_hourGoes_4 ++ dktX6_hourGoes_5
def dkwX6_hourGoes_3 : List UInt8 := [153, 0, 33, 42, 180, 0, 71, 28, 92, 46, 43, 16, 24, 29, 96, 46, 128, 79, 42, 180, 0, 71, 29, 92]
abbrev dktX6_hourGoes_3 : List UInt8 := dkwX6_hourGoes_3 ++ dktX6_hourGoes_4
def dkwX6_hourGoes_2 : List UInt8 := [162, 0, 67, 28, 4, 96, 62, 29, 42, 180, 0, 130, 162, 0, 49, 42, 43, 28, 29, 182, 1, 88]
abbrev dktX6_hourGoes_2 : List UInt8 := dkwX6_hourGoes_2 ++ dktX6_hourGoes_3
def dkwX6_hourGoes_1 : List UInt8 := [43, 28, 182, 1, 44, 182, 1, 67, 128, 79, 132, 2, 1, 167, 255, 221, 3, 61, 28, 42, 180, 0, 130]
abbrev dktX6_hourGoes_1 : List UInt8 := dkwX6_hourGoes_1 ++ dktX6_hourGoes_2
def dkwX6_hourGoes_0 : List UInt8 := [3, 61, 28, 42, 180, 0, 130, 162, 0, 33, 42, 180, 0, 71, 28, 43, 16, 24, 28, 96, 46, 42, 43, 42]
abbrev dktX6_hourGoes_0 : List UInt8 := dkwX6_hourGoes_0 ++ dktX6_hourGoes_1
theorem dksX6_hourGoes_0 : cX6_hourGoes.data.toList.drop 0 = dktX6_hourGoes_0 := by decide +kernel
theorem dksX6_hourGoes_1 : cX6_hourGoes.data.toList.drop 24 = dktX6_hourGoes_1 := dk_seg dksX6_hourGoes_0 24 rfl rfl
theorem dksX6_hourGoes_2 : cX6_hourGoes.data.toList.drop 47 = dktX6_hourGoes_2 := dk_seg dksX6_hourGoes_1 23 rfl rfl
theorem dksX6_hourGoes_3 : cX6_hourGoes.data.toList.drop 69 = dktX6_hourGoes_3 := dk_seg dksX6_hourGoes_2 22 rfl rfl
theorem dksX6_hourGoes_4 : cX6_hourGoes.data.toList.drop 93 = dktX6_hourGoes_4 := dk_seg dksX6_hourGoes_3 24 rfl rfl
theorem dksX6_hourGoes_5 : cX6_hourGoes.data.toList.drop 117 = dktX6_hourGoes_5 := dk_seg dksX6_hourGoes_4 24 rfl rfl
theorem dksX6_hourGoes_6 : cX6_hourGoes.data.toList.drop 139 = dktX6_hourGoes_6 := dk_seg dksX6_hourGoes_5 22 rfl rfl
theorem dX6_hourGoes_0 : decode cX6_hourGoes 0 = .ok (.iconst 0, 1) := dk_3 (dk_at dksX6_hourGoes_0 0 rfl rfl)
theorem dX6_hourGoes_1 : decode cX6_hourGoes 1 = .ok (.istore_n 2, 1) := dk_61 (dk_at dksX6_hourGoes_0 1 rfl rfl)
theorem dX6_hourGoes_2 : decode cX6_hourGoes 2 = .ok (.iload_n 2, 1) := dk_28 (dk_at dksX6_hourGoes_0 2 rfl rfl)
theorem dX6_hourGoes_3 : decode cX6_hourGoes 3 = .ok (.aload_n 0, 1) := dk_42 (dk_at dksX6_hourGoes_0 3 rfl rfl)
theorem dX6_hourGoes_4 : decode cX6_hourGoes 4 = .ok (.getfield 130, 3) := dk_180 0 130 (dk_at dksX6_hourGoes_0 4 rfl rfl)
theorem dX6_hourGoes_7 : decode cX6_hourGoes 7 = .ok (.if_icmp .ge 33, 3) := dk_162 0 33 (dk_at dksX6_hourGoes_0 7 rfl rfl)
theorem dX6_hourGoes_10 : decode cX6_hourGoes 10 = .ok (.aload_n 0, 1) := dk_42 (dk_at dksX6_hourGoes_0 10 rfl rfl)
theorem dX6_hourGoes_11 : decode cX6_hourGoes 11 = .ok (.getfield 71, 3) := dk_180 0 71 (dk_at dksX6_hourGoes_0 11 rfl rfl)
theorem dX6_hourGoes_14 : decode cX6_hourGoes 14 = .ok (.iload_n 2, 1) := dk_28 (dk_at dksX6_hourGoes_0 14 rfl rfl)
theorem dX6_hourGoes_15 : decode cX6_hourGoes 15 = .ok (.aload_n 1, 1) := dk_43 (dk_at dksX6_hourGoes_0 15 rfl rfl)
theorem dX6_hourGoes_16 : decode cX6_hourGoes 16 = .ok (.bipush 24, 2) := dk_16 24 (dk_at dksX6_hourGoes_0 16 rfl rfl)
theorem dX6_hourGoes_18 : decode cX6_hourGoes 18 = .ok (.iload_n 2, 1) := dk_28 (dk_at dksX6_hourGoes_0 18 rfl rfl)
theorem dX6_hourGoes_19 : decode cX6_hourGoes 19 = .ok (.iadd, 1) := dk_96 (dk_at dksX6_hourGoes_0 19 rfl rfl)
theorem dX6_hourGoes_20 : decode cX6_hourGoes 20 = .ok (.iaload, 1) := dk_46 (dk_at dksX6_hourGoes_0 20 rfl rfl)
theorem dX6_hourGoes_21 : decode cX6_hourGoes 21 = .ok (.aload_n 0, 1) := dk_42 (dk_at dksX6_hourGoes_0 21 rfl rfl)
theorem dX6_hourGoes_22 : decode cX6_hourGoes 22 = .ok (.aload_n 1, 1) := dk_43 (dk_at dksX6_hourGoes_0 22 rfl rfl)
theorem dX6_hourGoes_23 : decode cX6_hourGoes 23 = .ok (.aload_n 0, 1) := dk_42 (dk_at dksX6_hourGoes_0 23 rfl rfl)
theorem dX6_hourGoes_24 : decode cX6_hourGoes 24 = .ok (.aload_n 1, 1) := dk_43 (dk_at dksX6_hourGoes_1 0 rfl rfl)
theorem dX6_hourGoes_25 : decode cX6_hourGoes 25 = .ok (.iload_n 2, 1) := dk_28 (dk_at dksX6_hourGoes_1 1 rfl rfl)
theorem dX6_hourGoes_26 : decode cX6_hourGoes 26 = .ok (.invokevirtual 300, 3) := dk_182 1 44 (dk_at dksX6_hourGoes_1 2 rfl rfl)
theorem dX6_hourGoes_29 : decode cX6_hourGoes 29 = .ok (.invokevirtual 323, 3) := dk_182 1 67 (dk_at dksX6_hourGoes_1 5 rfl rfl)
theorem dX6_hourGoes_32 : decode cX6_hourGoes 32 = .ok (.ior, 1) := dk_128 (dk_at dksX6_hourGoes_1 8 rfl rfl)
theorem dX6_hourGoes_33 : decode cX6_hourGoes 33 = .ok (.iastore, 1) := dk_79 (dk_at dksX6_hourGoes_1 9 rfl rfl)
theorem dX6_hourGoes_34 : decode cX6_hourGoes 34 = .ok (.iinc 2 1, 3) := dk_132 2 1 (dk_at dksX6_hourGoes_1 10 rfl rfl)
theorem dX6_hourGoes_37 : decode cX6_hourGoes 37 = .ok (.goto (-35), 3) := dk_167 255 221 (dk_at dksX6_hourGoes_1 13 rfl rfl)
theorem dX6_hourGoes_40 : decode cX6_hourGoes 40 = .ok (.iconst 0, 1) := dk_3 (dk_at dksX6_hourGoes_1 16 rfl rfl)
theorem dX6_hourGoes_41 : decode cX6_hourGoes 41 = .ok (.istore_n 2, 1) := dk_61 (dk_at dksX6_hourGoes_1 17 rfl rfl)
theorem dX6_hourGoes_42 : decode cX6_hourGoes 42 = .ok (.iload_n 2, 1) := dk_28 (dk_at dksX6_hourGoes_1 18 rfl rfl)
theorem dX6_hourGoes_43 : decode cX6_hourGoes 43 = .ok (.aload_n 0, 1) := dk_42 (dk_at dksX6_hourGoes_1 19 rfl rfl)
theorem dX6_hourGoes_44 : decode cX6_hourGoes 44 = .ok (.getfield 130, 3) := dk_180 0 130 (dk_at dksX6_hourGoes_1 20 rfl rfl)
theorem dX6_hourGoes_47 : decode cX6_hourGoes 47 = .ok (.if_icmp .ge 67, 3) := dk_162 0 67 (dk_at dksX6_hourGoes_2 0 rfl rfl)
theorem dX6_hourGoes_50 : decode cX6_hourGoes 50 = .ok (.iload_n 2, 1) := dk_28 (dk_at dksX6_hourGoes_2 3 rfl rfl)
theorem dX6_hourGoes_51 : decode cX6_hourGoes 51 = .ok (.iconst 1, 1) := dk_4 (dk_at dksX6_hourGoes_2 4 rfl rfl)
theorem dX6_hourGoes_52 : decode cX6_hourGoes 52 = .ok (.iadd, 1) := dk_96 (dk_at dksX6_hourGoes_2 5 rfl rfl)
theorem dX6_hourGoes_53 : decode cX6_hourGoes 53 = .ok (.istore_n 3, 1) := dk_62 (dk_at dksX6_hourGoes_2 6 rfl rfl)
theorem dX6_hourGoes_54 : decode cX6_hourGoes 54 = .ok (.iload_n 3, 1) := dk_29 (dk_at dksX6_hourGoes_2 7 rfl rfl)
theorem dX6_hourGoes_55 : decode cX6_hourGoes 55 = .ok (.aload_n 0, 1) := dk_42 (dk_at dksX6_hourGoes_2 8 rfl rfl)
theorem dX6_hourGoes_56 : decode cX6_hourGoes 56 = .ok (.getfield 130, 3) := dk_180 0 130 (dk_at dksX6_hourGoes_2 9 rfl rfl)
theorem dX6_hourGoes_59 : decode cX6_hourGoes 59 = .ok (.if_icmp .ge 49, 3) := dk_162 0 49 (dk_at dksX6_hourGoes_2 12 rfl rfl)
theorem dX6_hourGoes_62 : decode cX6_hourGoes 62 = .ok (.aload_n 0, 1) := dk_42 (dk_at dksX6_hourGoes_2 15 rfl rfl)
theorem dX6_hourGoes_63 : decode cX6_hourGoes 63 = .ok (.aload_n 1, 1) := dk_43 (dk_at dksX6_hourGoes_2 16 rfl rfl)
theorem dX6_hourGoes_64 : decode cX6_hourGoes 64 = .ok (.iload_n 2, 1) := dk_28 (dk_at dksX6_hourGoes_2 17 rfl rfl)
theorem dX6_hourGoes_65 : decode cX6_hourGoes 65 = .ok (.iload_n 3, 1) := dk_29 (dk_at dksX6_hourGoes_2 18 rfl rfl)
theorem dX6_hourGoes_66 : decode cX6_hourGoes 66 = .ok (.invokevirtual 344, 3) := dk_182 1 88 (dk_at dksX6_hourGoes_2 19 rfl rfl)
theorem dX6_hourGoes_69 : decode cX6_hourGoes 69 = .ok (.ifCond .eq 33, 3) := dk_153 0 33 (dk_at dksX6_hourGoes_3 0 rfl rfl)
theorem dX6_hourGoes_72 : decode cX6_hourGoes 72 = .ok (.aload_n 0, 1) := dk_42 (dk_at dksX6_hourGoes_3 3 rfl rfl)
theorem dX6_hourGoes_73 : decode cX6_hourGoes 73 = .ok (.getfield 71, 3) := dk_180 0 71 (dk_at dksX6_hourGoes_3 4 rfl rfl)
theorem dX6_hourGoes_76 : decode cX6_hourGoes 76 = .ok (.iload_n 2, 1) := dk_28 (dk_at dksX6_hourGoes_3 7 rfl rfl)
theorem dX6_hourGoes_77 : decode cX6_hourGoes 77 = .ok (.dup2, 1) := dk_92 (dk_at dksX6_hourGoes_3 8 rfl rfl)
theorem dX6_hourGoes_78 : decode cX6_hourGoes 78 = .ok (.iaload, 1) := dk_46 (dk_at dksX6_hourGoes_3 9 rfl rfl)
theorem dX6_hourGoes_79 : decode cX6_hourGoes 79 = .ok (.aload_n 1, 1) := dk_43 (dk_at dksX6_hourGoes_3 10 rfl rfl)
theorem dX6_hourGoes_80 : decode cX6_hourGoes 80 = .ok (.bipush 24, 2) := dk_16 24 (dk_at dksX6_hourGoes_3 11 rfl rfl)
theorem dX6_hourGoes_82 : decode cX6_hourGoes 82 = .ok (.iload_n 3, 1) := dk_29 (dk_at dksX6_hourGoes_3 13 rfl rfl)
theorem dX6_hourGoes_83 : decode cX6_hourGoes 83 = .ok (.iadd, 1) := dk_96 (dk_at dksX6_hourGoes_3 14 rfl rfl)
theorem dX6_hourGoes_84 : decode cX6_hourGoes 84 = .ok (.iaload, 1) := dk_46 (dk_at dksX6_hourGoes_3 15 rfl rfl)
theorem dX6_hourGoes_85 : decode cX6_hourGoes 85 = .ok (.ior, 1) := dk_128 (dk_at dksX6_hourGoes_3 16 rfl rfl)
theorem dX6_hourGoes_86 : decode cX6_hourGoes 86 = .ok (.iastore, 1) := dk_79 (dk_at dksX6_hourGoes_3 17 rfl rfl)
theorem dX6_hourGoes_87 : decode cX6_hourGoes 87 = .ok (.aload_n 0, 1) := dk_42 (dk_at dksX6_hourGoes_3 18 rfl rfl)
theorem dX6_hourGoes_88 : decode cX6_hourGoes 88 = .ok (.getfield 71, 3) := dk_180 0 71 (dk_at dksX6_hourGoes_3 19 rfl rfl)
theorem dX6_hourGoes_91 : decode cX6_hourGoes 91 = .ok (.iload_n 3, 1) := dk_29 (dk_at dksX6_hourGoes_3 22 rfl rfl)
theorem dX6_hourGoes_92 : decode cX6_hourGoes 92 = .ok (.dup2, 1) := dk_92 (dk_at dksX6_hourGoes_3 23 rfl rfl)
theorem dX6_hourGoes_93 : decode cX6_hourGoes 93 = .ok (.iaload, 1) := dk_46 (dk_at dksX6_hourGoes_4 0 rfl rfl)
theorem dX6_hourGoes_94 : decode cX6_hourGoes 94 = .ok (.aload_n 1, 1) := dk_43 (dk_at dksX6_hourGoes_4 1 rfl rfl)
theorem dX6_hourGoes_95 : decode cX6_hourGoes 95 = .ok (.bipush 24, 2) := dk_16 24 (dk_at dksX6_hourGoes_4 2 rfl rfl)
theorem dX6_hourGoes_97 : decode cX6_hourGoes 97 = .ok (.iload_n 2, 1) := dk_28 (dk_at dksX6_hourGoes_4 4 rfl rfl)
theorem dX6_hourGoes_98 : decode cX6_hourGoes 98 = .ok (.iadd, 1) := dk_96 (dk_at dksX6_hourGoes_4 5 rfl rfl)
theorem dX6_hourGoes_99 : decode cX6_hourGoes 99 = .ok (.iaload, 1) := dk_46 (dk_at dksX6_hourGoes_4 6 rfl rfl)
theorem dX6_hourGoes_100 : decode cX6_hourGoes 100 = .ok (.ior, 1) := dk_128 (dk_at dksX6_hourGoes_4 7 rfl rfl)
theorem dX6_hourGoes_101 : decode cX6_hourGoes 101 = .ok (.iastore, 1) := dk_79 (dk_at dksX6_hourGoes_4 8 rfl rfl)
theorem dX6_hourGoes_102 : decode cX6_hourGoes 102 = .ok (.iinc 3 1, 3) := dk_132 3 1 (dk_at dksX6_hourGoes_4 9 rfl rfl)
theorem dX6_hourGoes_105 : decode cX6_hourGoes 105 = .ok (.goto (-51), 3) := dk_167 255 205 (dk_at dksX6_hourGoes_4 12 rfl rfl)
theorem dX6_hourGoes_108 : decode cX6_hourGoes 108 = .ok (.iinc 2 1, 3) := dk_132 2 1 (dk_at dksX6_hourGoes_4 15 rfl rfl)
theorem dX6_hourGoes_111 : decode cX6_hourGoes 111 = .ok (.goto (-69), 3) := dk_167 255 187 (dk_at dksX6_hourGoes_4 18 rfl rfl)
theorem dX6_hourGoes_114 : decode cX6_hourGoes 114 = .ok (.iconst 0, 1) := dk_3 (dk_at dksX6_hourGoes_4 21 rfl rfl)
theorem dX6_hourGoes_115 : decode cX6_hourGoes 115 = .ok (.istore_n 2, 1) := dk_61 (dk_at dksX6_hourGoes_4 22 rfl rfl)
theorem dX6_hourGoes_116 : decode cX6_hourGoes 116 = .ok (.iload_n 2, 1) := dk_28 (dk_at dksX6_hourGoes_4 23 rfl rfl)
theorem dX6_hourGoes_117 : decode cX6_hourGoes 117 = .ok (.aload_n 0, 1) := dk_42 (dk_at dksX6_hourGoes_5 0 rfl rfl)
theorem dX6_hourGoes_118 : decode cX6_hourGoes 118 = .ok (.getfield 130, 3) := dk_180 0 130 (dk_at dksX6_hourGoes_5 1 rfl rfl)
theorem dX6_hourGoes_121 : decode cX6_hourGoes 121 = .ok (.if_icmp .ge 21, 3) := dk_162 0 21 (dk_at dksX6_hourGoes_5 4 rfl rfl)
theorem dX6_hourGoes_124 : decode cX6_hourGoes 124 = .ok (.aload_n 1, 1) := dk_43 (dk_at dksX6_hourGoes_5 7 rfl rfl)
theorem dX6_hourGoes_125 : decode cX6_hourGoes 125 = .ok (.bipush 24, 2) := dk_16 24 (dk_at dksX6_hourGoes_5 8 rfl rfl)
theorem dX6_hourGoes_127 : decode cX6_hourGoes 127 = .ok (.iload_n 2, 1) := dk_28 (dk_at dksX6_hourGoes_5 10 rfl rfl)
theorem dX6_hourGoes_128 : decode cX6_hourGoes 128 = .ok (.iadd, 1) := dk_96 (dk_at dksX6_hourGoes_5 11 rfl rfl)
theorem dX6_hourGoes_129 : decode cX6_hourGoes 129 = .ok (.aload_n 0, 1) := dk_42 (dk_at dksX6_hourGoes_5 12 rfl rfl)
theorem dX6_hourGoes_130 : decode cX6_hourGoes 130 = .ok (.getfield 71, 3) := dk_180 0 71 (dk_at dksX6_hourGoes_5 13 rfl rfl)
theorem dX6_hourGoes_133 : decode cX6_hourGoes 133 = .ok (.iload_n 2, 1) := dk_28 (dk_at dksX6_hourGoes_5 16 rfl rfl)
theorem dX6_hourGoes_134 : decode cX6_hourGoes 134 = .ok (.iaload, 1) := dk_46 (dk_at dksX6_hourGoes_5 17 rfl rfl)
theorem dX6_hourGoes_135 : decode cX6_hourGoes 135 = .ok (.iastore, 1) := dk_79 (dk_at dksX6_hourGoes_5 18 rfl rfl)
theorem dX6_hourGoes_136 : decode cX6_hourGoes 136 = .ok (.iinc 2 1, 3) := dk_132 2 1 (dk_at dksX6_hourGoes_5 19 rfl rfl)
theorem dX6_hourGoes_139 : decode cX6_hourGoes 139 = .ok (.goto (-23), 3) := dk_167 255 233 (dk_at dksX6_hourGoes_6 0 rfl rfl)
theorem dX6_hourGoes_142 : decode cX6_hourGoes 142 = .ok (.aload_n 1, 1) := dk_43 (dk_at dksX6_hourGoes_6 3 rfl rfl)
theorem dX6_hourGoes_143 : decode cX6_hourGoes 143 = .ok (.bipush 40, 2) := dk_16 40 (dk_at dksX6_hourGoes_6 4 rfl rfl)
theorem dX6_hourGoes_145 : decode cX6_hourGoes 145 = .ok (.dup2, 1) := dk_92 (dk_at dksX6_hourGoes_6 6 rfl rfl)
theorem dX6_hourGoes_146 : decode cX6_hourGoes 146 = .ok (.iaload, 1) := dk_46 (dk_at dksX6_hourGoes_6 7 rfl rfl)
theorem dX6_hourGoes_147 : decode cX6_hourGoes 147 = .ok (.iconst 1, 1) := dk_4 (dk_at dksX6_hourGoes_6 8 rfl rfl)
theorem dX6_hourGoes_148 : decode cX6_hourGoes 148 = .ok (.iadd, 1) := dk_96 (dk_at dksX6_hourGoes_6 9 rfl rfl)
theorem dX6_hourGoes_149 : decode cX6_hourGoes 149 = .ok (.iastore, 1) := dk_79 (dk_at dksX6_hourGoes_6 10 rfl rfl)
theorem dX6_hourGoes_150 : decode cX6_hourGoes 150 = .ok (.return_, 1) := dk_177 (dk_at dksX6_hourGoes_6 11 rfl rfl)
abbrev cX6_tellEachOther : ByteArray := prog_12_method_53_code
def yX6_tellEachOther : MethodName := ⟨RX6, "tellEachOther", "([III)Z"⟩
def dkwX6_tellEachOther_3 : List UInt8 := [167, 0, 4, 3, 172]
abbrev dktX6_tellEachOther_3 : List UInt8 := dkwX6_tellEachOther_3 ++ []
def dkwX6_tellEachOther_2 : List UInt8 := [4, 167, 0, 4, 3, 54, 4, 21, 4, 153, 0, 17, 42, 43, 28, 29, 182, 1, 56, 153, 0, 7, 4]
abbrev dktX6_tellEachOther_2 : List UInt8 := dkwX6_tellEachOther_2 ++ dktX6_tellEachOther_3
def dkwX6_tellEachOther_1 : List UInt8 := [43, 28, 46, 42, 180, 0, 27, 112, 43, 29, 46, 42, 180, 0, 27, 112, 100, 184, 1, 20, 5, 162, 0, 7]
abbrev dktX6_tellEachOther_1 : List UInt8 := dkwX6_tellEachOther_1 ++ dktX6_tellEachOther_2
def dkwX6_tellEachOther_0 : List UInt8 := [43, 28, 46, 42, 180, 0, 27, 108, 43, 29, 46, 42, 180, 0, 27, 108, 100, 184, 1, 20, 5, 162, 0, 31]
abbrev dktX6_tellEachOther_0 : List UInt8 := dkwX6_tellEachOther_0 ++ dktX6_tellEachOther_1
theorem dksX6_tellEachOther_0 : cX6_tellEachOther.data.toList.drop 0 = dktX6_tellEachOther_0 := by decide +kernel
theorem dksX6_tellEachOther_1 : cX6_tellEachOther.data.toList.drop 24 = dktX6_tellEachOther_1 := dk_seg dksX6_tellEachOther_0 24 rfl rfl
theorem dksX6_tellEachOther_2 : cX6_tellEachOther.data.toList.drop 48 = dktX6_tellEachOther_2 := dk_seg dksX6_tellEachOther_1 24 rfl rfl
theorem dksX6_tellEachOther_3 : cX6_tellEachOther.data.toList.drop 71 = dktX6_tellEachOther_3 := dk_seg dksX6_tellEachOther_2 23 rfl rfl
theorem dX6_tellEachOther_0 : decode cX6_tellEachOther 0 = .ok (.aload_n 1, 1) := dk_43 (dk_at dksX6_tellEachOther_0 0 rfl rfl)
theorem dX6_tellEachOther_1 : decode cX6_tellEachOther 1 = .ok (.iload_n 2, 1) := dk_28 (dk_at dksX6_tellEachOther_0 1 rfl rfl)
theorem dX6_tellEachOther_2 : decode cX6_tellEachOther 2 = .ok (.iaload, 1) := dk_46 (dk_at dksX6_tellEachOther_0 2 rfl rfl)
theorem dX6_tellEachOther_3 : decode cX6_tellEachOther 3 = .ok (.aload_n 0, 1) := dk_42 (dk_at dksX6_tellEachOther_0 3 rfl rfl)
theorem dX6_tellEachOther_4 : decode cX6_tellEachOther 4 = .ok (.getfield 27, 3) := dk_180 0 27 (dk_at dksX6_tellEachOther_0 4 rfl rfl)
theorem dX6_tellEachOther_7 : decode cX6_tellEachOther 7 = .ok (.idiv, 1) := dk_108 (dk_at dksX6_tellEachOther_0 7 rfl rfl)
theorem dX6_tellEachOther_8 : decode cX6_tellEachOther 8 = .ok (.aload_n 1, 1) := dk_43 (dk_at dksX6_tellEachOther_0 8 rfl rfl)
theorem dX6_tellEachOther_9 : decode cX6_tellEachOther 9 = .ok (.iload_n 3, 1) := dk_29 (dk_at dksX6_tellEachOther_0 9 rfl rfl)
theorem dX6_tellEachOther_10 : decode cX6_tellEachOther 10 = .ok (.iaload, 1) := dk_46 (dk_at dksX6_tellEachOther_0 10 rfl rfl)
theorem dX6_tellEachOther_11 : decode cX6_tellEachOther 11 = .ok (.aload_n 0, 1) := dk_42 (dk_at dksX6_tellEachOther_0 11 rfl rfl)
theorem dX6_tellEachOther_12 : decode cX6_tellEachOther 12 = .ok (.getfield 27, 3) := dk_180 0 27 (dk_at dksX6_tellEachOther_0 12 rfl rfl)
theorem dX6_tellEachOther_15 : decode cX6_tellEachOther 15 = .ok (.idiv, 1) := dk_108 (dk_at dksX6_tellEachOther_0 15 rfl rfl)
theorem dX6_tellEachOther_16 : decode cX6_tellEachOther 16 = .ok (.isub, 1) := dk_100 (dk_at dksX6_tellEachOther_0 16 rfl rfl)
theorem dX6_tellEachOther_17 : decode cX6_tellEachOther 17 = .ok (.invokestatic 276, 3) := dk_184 1 20 (dk_at dksX6_tellEachOther_0 17 rfl rfl)
theorem dX6_tellEachOther_20 : decode cX6_tellEachOther 20 = .ok (.iconst 2, 1) := dk_5 (dk_at dksX6_tellEachOther_0 20 rfl rfl)
theorem dX6_tellEachOther_21 : decode cX6_tellEachOther 21 = .ok (.if_icmp .ge 31, 3) := dk_162 0 31 (dk_at dksX6_tellEachOther_0 21 rfl rfl)
theorem dX6_tellEachOther_24 : decode cX6_tellEachOther 24 = .ok (.aload_n 1, 1) := dk_43 (dk_at dksX6_tellEachOther_1 0 rfl rfl)
theorem dX6_tellEachOther_25 : decode cX6_tellEachOther 25 = .ok (.iload_n 2, 1) := dk_28 (dk_at dksX6_tellEachOther_1 1 rfl rfl)
theorem dX6_tellEachOther_26 : decode cX6_tellEachOther 26 = .ok (.iaload, 1) := dk_46 (dk_at dksX6_tellEachOther_1 2 rfl rfl)
theorem dX6_tellEachOther_27 : decode cX6_tellEachOther 27 = .ok (.aload_n 0, 1) := dk_42 (dk_at dksX6_tellEachOther_1 3 rfl rfl)
theorem dX6_tellEachOther_28 : decode cX6_tellEachOther 28 = .ok (.getfield 27, 3) := dk_180 0 27 (dk_at dksX6_tellEachOther_1 4 rfl rfl)
theorem dX6_tellEachOther_31 : decode cX6_tellEachOther 31 = .ok (.irem, 1) := dk_112 (dk_at dksX6_tellEachOther_1 7 rfl rfl)
theorem dX6_tellEachOther_32 : decode cX6_tellEachOther 32 = .ok (.aload_n 1, 1) := dk_43 (dk_at dksX6_tellEachOther_1 8 rfl rfl)
theorem dX6_tellEachOther_33 : decode cX6_tellEachOther 33 = .ok (.iload_n 3, 1) := dk_29 (dk_at dksX6_tellEachOther_1 9 rfl rfl)
theorem dX6_tellEachOther_34 : decode cX6_tellEachOther 34 = .ok (.iaload, 1) := dk_46 (dk_at dksX6_tellEachOther_1 10 rfl rfl)
theorem dX6_tellEachOther_35 : decode cX6_tellEachOther 35 = .ok (.aload_n 0, 1) := dk_42 (dk_at dksX6_tellEachOther_1 11 rfl rfl)
theorem dX6_tellEachOther_36 : decode cX6_tellEachOther 36 = .ok (.getfield 27, 3) := dk_180 0 27 (dk_at dksX6_tellEachOther_1 12 rfl rfl)
theorem dX6_tellEachOther_39 : decode cX6_tellEachOther 39 = .ok (.irem, 1) := dk_112 (dk_at dksX6_tellEachOther_1 15 rfl rfl)
theorem dX6_tellEachOther_40 : decode cX6_tellEachOther 40 = .ok (.isub, 1) := dk_100 (dk_at dksX6_tellEachOther_1 16 rfl rfl)
theorem dX6_tellEachOther_41 : decode cX6_tellEachOther 41 = .ok (.invokestatic 276, 3) := dk_184 1 20 (dk_at dksX6_tellEachOther_1 17 rfl rfl)
theorem dX6_tellEachOther_44 : decode cX6_tellEachOther 44 = .ok (.iconst 2, 1) := dk_5 (dk_at dksX6_tellEachOther_1 20 rfl rfl)
theorem dX6_tellEachOther_45 : decode cX6_tellEachOther 45 = .ok (.if_icmp .ge 7, 3) := dk_162 0 7 (dk_at dksX6_tellEachOther_1 21 rfl rfl)
theorem dX6_tellEachOther_48 : decode cX6_tellEachOther 48 = .ok (.iconst 1, 1) := dk_4 (dk_at dksX6_tellEachOther_2 0 rfl rfl)
theorem dX6_tellEachOther_49 : decode cX6_tellEachOther 49 = .ok (.goto 4, 3) := dk_167 0 4 (dk_at dksX6_tellEachOther_2 1 rfl rfl)
theorem dX6_tellEachOther_52 : decode cX6_tellEachOther 52 = .ok (.iconst 0, 1) := dk_3 (dk_at dksX6_tellEachOther_2 4 rfl rfl)
theorem dX6_tellEachOther_53 : decode cX6_tellEachOther 53 = .ok (.istore 4, 2) := dk_54 4 (dk_at dksX6_tellEachOther_2 5 rfl rfl)
theorem dX6_tellEachOther_55 : decode cX6_tellEachOther 55 = .ok (.iload 4, 2) := dk_21 4 (dk_at dksX6_tellEachOther_2 7 rfl rfl)
theorem dX6_tellEachOther_57 : decode cX6_tellEachOther 57 = .ok (.ifCond .eq 17, 3) := dk_153 0 17 (dk_at dksX6_tellEachOther_2 9 rfl rfl)
theorem dX6_tellEachOther_60 : decode cX6_tellEachOther 60 = .ok (.aload_n 0, 1) := dk_42 (dk_at dksX6_tellEachOther_2 12 rfl rfl)
theorem dX6_tellEachOther_61 : decode cX6_tellEachOther 61 = .ok (.aload_n 1, 1) := dk_43 (dk_at dksX6_tellEachOther_2 13 rfl rfl)
theorem dX6_tellEachOther_62 : decode cX6_tellEachOther 62 = .ok (.iload_n 2, 1) := dk_28 (dk_at dksX6_tellEachOther_2 14 rfl rfl)
theorem dX6_tellEachOther_63 : decode cX6_tellEachOther 63 = .ok (.iload_n 3, 1) := dk_29 (dk_at dksX6_tellEachOther_2 15 rfl rfl)
theorem dX6_tellEachOther_64 : decode cX6_tellEachOther 64 = .ok (.invokevirtual 312, 3) := dk_182 1 56 (dk_at dksX6_tellEachOther_2 16 rfl rfl)
theorem dX6_tellEachOther_67 : decode cX6_tellEachOther 67 = .ok (.ifCond .eq 7, 3) := dk_153 0 7 (dk_at dksX6_tellEachOther_2 19 rfl rfl)
theorem dX6_tellEachOther_70 : decode cX6_tellEachOther 70 = .ok (.iconst 1, 1) := dk_4 (dk_at dksX6_tellEachOther_2 22 rfl rfl)
theorem dX6_tellEachOther_71 : decode cX6_tellEachOther 71 = .ok (.goto 4, 3) := dk_167 0 4 (dk_at dksX6_tellEachOther_3 0 rfl rfl)
theorem dX6_tellEachOther_74 : decode cX6_tellEachOther 74 = .ok (.iconst 0, 1) := dk_3 (dk_at dksX6_tellEachOther_3 3 rfl rfl)
theorem dX6_tellEachOther_75 : decode cX6_tellEachOther 75 = .ok (.ireturn, 1) := dk_172 (dk_at dksX6_tellEachOther_3 4 rfl rfl)
abbrev cX6_seeEachOther : ByteArray := prog_12_method_52_code
def yX6_seeEachOther : MethodName := ⟨RX6, "seeEachOther", "([III)Z"⟩
def dkwX6_seeEachOther_1 : List UInt8 := [4, 167, 0, 4, 3, 172]
abbrev dktX6_seeEachOther_1 : List UInt8 := dkwX6_seeEachOther_1 ++ []
def dkwX6_seeEachOther_0 : List UInt8 := [42, 43, 28, 43, 29, 46, 182, 1, 52, 153, 0, 19, 42, 43, 29, 43, 28, 46, 182, 1, 52, 153, 0, 7]
abbrev dktX6_seeEachOther_0 : List UInt8 := dkwX6_seeEachOther_0 ++ dktX6_seeEachOther_1
theorem dksX6_seeEachOther_0 : cX6_seeEachOther.data.toList.drop 0 = dktX6_seeEachOther_0 := by decide +kernel
theorem dksX6_seeEachOther_1 : cX6_seeEachOther.data.toList.drop 24 = dktX6_seeEachOther_1 := dk_seg dksX6_seeEachOther_0 24 rfl rfl
theorem dX6_seeEachOther_0 : decode cX6_seeEachOther 0 = .ok (.aload_n 0, 1) := dk_42 (dk_at dksX6_seeEachOther_0 0 rfl rfl)
theorem dX6_seeEachOther_1 : decode cX6_seeEachOther 1 = .ok (.aload_n 1, 1) := dk_43 (dk_at dksX6_seeEachOther_0 1 rfl rfl)
theorem dX6_seeEachOther_2 : decode cX6_seeEachOther 2 = .ok (.iload_n 2, 1) := dk_28 (dk_at dksX6_seeEachOther_0 2 rfl rfl)
theorem dX6_seeEachOther_3 : decode cX6_seeEachOther 3 = .ok (.aload_n 1, 1) := dk_43 (dk_at dksX6_seeEachOther_0 3 rfl rfl)
theorem dX6_seeEachOther_4 : decode cX6_seeEachOther 4 = .ok (.iload_n 3, 1) := dk_29 (dk_at dksX6_seeEachOther_0 4 rfl rfl)
theorem dX6_seeEachOther_5 : decode cX6_seeEachOther 5 = .ok (.iaload, 1) := dk_46 (dk_at dksX6_seeEachOther_0 5 rfl rfl)
theorem dX6_seeEachOther_6 : decode cX6_seeEachOther 6 = .ok (.invokevirtual 308, 3) := dk_182 1 52 (dk_at dksX6_seeEachOther_0 6 rfl rfl)
theorem dX6_seeEachOther_9 : decode cX6_seeEachOther 9 = .ok (.ifCond .eq 19, 3) := dk_153 0 19 (dk_at dksX6_seeEachOther_0 9 rfl rfl)
theorem dX6_seeEachOther_12 : decode cX6_seeEachOther 12 = .ok (.aload_n 0, 1) := dk_42 (dk_at dksX6_seeEachOther_0 12 rfl rfl)
theorem dX6_seeEachOther_13 : decode cX6_seeEachOther 13 = .ok (.aload_n 1, 1) := dk_43 (dk_at dksX6_seeEachOther_0 13 rfl rfl)
theorem dX6_seeEachOther_14 : decode cX6_seeEachOther 14 = .ok (.iload_n 3, 1) := dk_29 (dk_at dksX6_seeEachOther_0 14 rfl rfl)
theorem dX6_seeEachOther_15 : decode cX6_seeEachOther 15 = .ok (.aload_n 1, 1) := dk_43 (dk_at dksX6_seeEachOther_0 15 rfl rfl)
theorem dX6_seeEachOther_16 : decode cX6_seeEachOther 16 = .ok (.iload_n 2, 1) := dk_28 (dk_at dksX6_seeEachOther_0 16 rfl rfl)
theorem dX6_seeEachOther_17 : decode cX6_seeEachOther 17 = .ok (.iaload, 1) := dk_46 (dk_at dksX6_seeEachOther_0 17 rfl rfl)
theorem dX6_seeEachOther_18 : decode cX6_seeEachOther 18 = .ok (.invokevirtual 308, 3) := dk_182 1 52 (dk_at dksX6_seeEachOther_0 18 rfl rfl)
theorem dX6_seeEachOther_21 : decode cX6_seeEachOther 21 = .ok (.ifCond .eq 7, 3) := dk_153 0 7 (dk_at dksX6_seeEachOther_0 21 rfl rfl)
theorem dX6_seeEachOther_24 : decode cX6_seeEachOther 24 = .ok (.iconst 1, 1) := dk_4 (dk_at dksX6_seeEachOther_1 0 rfl rfl)
theorem dX6_seeEachOther_25 : decode cX6_seeEachOther 25 = .ok (.goto 4, 3) := dk_167 0 4 (dk_at dksX6_seeEachOther_1 1 rfl rfl)
theorem dX6_seeEachOther_28 : decode cX6_seeEachOther 28 = .ok (.iconst 0, 1) := dk_3 (dk_at dksX6_seeEachOther_1 4 rfl rfl)
theorem dX6_seeEachOther_29 : decode cX6_seeEachOther 29 = .ok (.ireturn, 1) := dk_172 (dk_at dksX6_seeEachOther_1 5 rfl rfl)
abbrev cX6_enters : ByteArray := prog_12_method_7_code
def yX6_enters : MethodName := ⟨RX6, "enters", "(J)V"⟩
def dkwX6_enters_0 : List UInt8 := [42, 180, 0, 11, 42, 180, 0, 15, 31, 80, 42, 89, 180, 0, 15, 4, 96, 181, 0, 15, 177]
abbrev dktX6_enters_0 : List UInt8 := dkwX6_enters_0 ++ []
theorem dksX6_enters_0 : cX6_enters.data.toList.drop 0 = dktX6_enters_0 := by decide +kernel
theorem dX6_enters_0 : decode cX6_enters 0 = .ok (.aload_n 0, 1) := dk_42 (dk_at dksX6_enters_0 0 rfl rfl)
theorem dX6_enters_1 : decode cX6_enters 1 = .ok (.getfield 11, 3) := dk_180 0 11 (dk_at dksX6_enters_0 1 rfl rfl)
theorem dX6_enters_4 : decode cX6_enters 4 = .ok (.aload_n 0, 1) := dk_42 (dk_at dksX6_enters_0 4 rfl rfl)
theorem dX6_enters_5 : decode cX6_enters 5 = .ok (.getfield 15, 3) := dk_180 0 15 (dk_at dksX6_enters_0 5 rfl rfl)
theorem dX6_enters_8 : decode cX6_enters 8 = .ok (.lload_n 1, 1) := dk_31 (dk_at dksX6_enters_0 8 rfl rfl)
theorem dX6_enters_9 : decode cX6_enters 9 = .ok (.lastore, 1) := dk_80 (dk_at dksX6_enters_0 9 rfl rfl)
theorem dX6_enters_10 : decode cX6_enters 10 = .ok (.aload_n 0, 1) := dk_42 (dk_at dksX6_enters_0 10 rfl rfl)
theorem dX6_enters_11 : decode cX6_enters 11 = .ok (.dup, 1) := dk_89 (dk_at dksX6_enters_0 11 rfl rfl)
theorem dX6_enters_12 : decode cX6_enters 12 = .ok (.getfield 15, 3) := dk_180 0 15 (dk_at dksX6_enters_0 12 rfl rfl)
theorem dX6_enters_15 : decode cX6_enters 15 = .ok (.iconst 1, 1) := dk_4 (dk_at dksX6_enters_0 15 rfl rfl)
theorem dX6_enters_16 : decode cX6_enters 16 = .ok (.iadd, 1) := dk_96 (dk_at dksX6_enters_0 16 rfl rfl)
theorem dX6_enters_17 : decode cX6_enters 17 = .ok (.putfield 15, 3) := dk_181 0 15 (dk_at dksX6_enters_0 17 rfl rfl)
theorem dX6_enters_20 : decode cX6_enters 20 = .ok (.return_, 1) := dk_177 (dk_at dksX6_enters_0 20 rfl rfl)
abbrev cX6_adds : ByteArray := prog_12_method_60_code
def yX6_adds : MethodName := ⟨RX6, "adds", "(I)I"⟩
def dkwX6_adds_2 : List UInt8 := [167, 255, 231, 42, 89, 180, 0, 188, 4, 100, 181, 0, 188, 27, 172]
abbrev dktX6_adds_2 : List UInt8 := dkwX6_adds_2 ++ []
def dkwX6_adds_1 : List UInt8 := [17, 2, 103, 162, 0, 24, 42, 180, 0, 68, 28, 42, 180, 0, 68, 28, 16, 41, 96, 46, 79, 132, 2, 1]
abbrev dktX6_adds_1 : List UInt8 := dkwX6_adds_1 ++ dktX6_adds_2
def dkwX6_adds_0 : List UInt8 := [42, 89, 180, 0, 188, 4, 96, 181, 0, 188, 42, 180, 0, 188, 16, 15, 164, 0, 43, 3, 61, 28]
abbrev dktX6_adds_0 : List UInt8 := dkwX6_adds_0 ++ dktX6_adds_1
theorem dksX6_adds_0 : cX6_adds.data.toList.drop 0 = dktX6_adds_0 := by decide +kernel
theorem dksX6_adds_1 : cX6_adds.data.toList.drop 22 = dktX6_adds_1 := dk_seg dksX6_adds_0 22 rfl rfl
theorem dksX6_adds_2 : cX6_adds.data.toList.drop 46 = dktX6_adds_2 := dk_seg dksX6_adds_1 24 rfl rfl
theorem dX6_adds_0 : decode cX6_adds 0 = .ok (.aload_n 0, 1) := dk_42 (dk_at dksX6_adds_0 0 rfl rfl)
theorem dX6_adds_1 : decode cX6_adds 1 = .ok (.dup, 1) := dk_89 (dk_at dksX6_adds_0 1 rfl rfl)
theorem dX6_adds_2 : decode cX6_adds 2 = .ok (.getfield 188, 3) := dk_180 0 188 (dk_at dksX6_adds_0 2 rfl rfl)
theorem dX6_adds_5 : decode cX6_adds 5 = .ok (.iconst 1, 1) := dk_4 (dk_at dksX6_adds_0 5 rfl rfl)
theorem dX6_adds_6 : decode cX6_adds 6 = .ok (.iadd, 1) := dk_96 (dk_at dksX6_adds_0 6 rfl rfl)
theorem dX6_adds_7 : decode cX6_adds 7 = .ok (.putfield 188, 3) := dk_181 0 188 (dk_at dksX6_adds_0 7 rfl rfl)
theorem dX6_adds_10 : decode cX6_adds 10 = .ok (.aload_n 0, 1) := dk_42 (dk_at dksX6_adds_0 10 rfl rfl)
theorem dX6_adds_11 : decode cX6_adds 11 = .ok (.getfield 188, 3) := dk_180 0 188 (dk_at dksX6_adds_0 11 rfl rfl)
theorem dX6_adds_14 : decode cX6_adds 14 = .ok (.bipush 15, 2) := dk_16 15 (dk_at dksX6_adds_0 14 rfl rfl)
theorem dX6_adds_16 : decode cX6_adds 16 = .ok (.if_icmp .le 43, 3) := dk_164 0 43 (dk_at dksX6_adds_0 16 rfl rfl)
theorem dX6_adds_19 : decode cX6_adds 19 = .ok (.iconst 0, 1) := dk_3 (dk_at dksX6_adds_0 19 rfl rfl)
theorem dX6_adds_20 : decode cX6_adds 20 = .ok (.istore_n 2, 1) := dk_61 (dk_at dksX6_adds_0 20 rfl rfl)
theorem dX6_adds_21 : decode cX6_adds 21 = .ok (.iload_n 2, 1) := dk_28 (dk_at dksX6_adds_0 21 rfl rfl)
theorem dX6_adds_22 : decode cX6_adds 22 = .ok (.sipush 615, 3) := dk_17 2 103 (dk_at dksX6_adds_1 0 rfl rfl)
theorem dX6_adds_25 : decode cX6_adds 25 = .ok (.if_icmp .ge 24, 3) := dk_162 0 24 (dk_at dksX6_adds_1 3 rfl rfl)
theorem dX6_adds_28 : decode cX6_adds 28 = .ok (.aload_n 0, 1) := dk_42 (dk_at dksX6_adds_1 6 rfl rfl)
theorem dX6_adds_29 : decode cX6_adds 29 = .ok (.getfield 68, 3) := dk_180 0 68 (dk_at dksX6_adds_1 7 rfl rfl)
theorem dX6_adds_32 : decode cX6_adds 32 = .ok (.iload_n 2, 1) := dk_28 (dk_at dksX6_adds_1 10 rfl rfl)
theorem dX6_adds_33 : decode cX6_adds 33 = .ok (.aload_n 0, 1) := dk_42 (dk_at dksX6_adds_1 11 rfl rfl)
theorem dX6_adds_34 : decode cX6_adds 34 = .ok (.getfield 68, 3) := dk_180 0 68 (dk_at dksX6_adds_1 12 rfl rfl)
theorem dX6_adds_37 : decode cX6_adds 37 = .ok (.iload_n 2, 1) := dk_28 (dk_at dksX6_adds_1 15 rfl rfl)
theorem dX6_adds_38 : decode cX6_adds 38 = .ok (.bipush 41, 2) := dk_16 41 (dk_at dksX6_adds_1 16 rfl rfl)
theorem dX6_adds_40 : decode cX6_adds 40 = .ok (.iadd, 1) := dk_96 (dk_at dksX6_adds_1 18 rfl rfl)
theorem dX6_adds_41 : decode cX6_adds 41 = .ok (.iaload, 1) := dk_46 (dk_at dksX6_adds_1 19 rfl rfl)
theorem dX6_adds_42 : decode cX6_adds 42 = .ok (.iastore, 1) := dk_79 (dk_at dksX6_adds_1 20 rfl rfl)
theorem dX6_adds_43 : decode cX6_adds 43 = .ok (.iinc 2 1, 3) := dk_132 2 1 (dk_at dksX6_adds_1 21 rfl rfl)
theorem dX6_adds_46 : decode cX6_adds 46 = .ok (.goto (-25), 3) := dk_167 255 231 (dk_at dksX6_adds_2 0 rfl rfl)
theorem dX6_adds_49 : decode cX6_adds 49 = .ok (.aload_n 0, 1) := dk_42 (dk_at dksX6_adds_2 3 rfl rfl)
theorem dX6_adds_50 : decode cX6_adds 50 = .ok (.dup, 1) := dk_89 (dk_at dksX6_adds_2 4 rfl rfl)
theorem dX6_adds_51 : decode cX6_adds 51 = .ok (.getfield 188, 3) := dk_180 0 188 (dk_at dksX6_adds_2 5 rfl rfl)
theorem dX6_adds_54 : decode cX6_adds 54 = .ok (.iconst 1, 1) := dk_4 (dk_at dksX6_adds_2 8 rfl rfl)
theorem dX6_adds_55 : decode cX6_adds 55 = .ok (.isub, 1) := dk_100 (dk_at dksX6_adds_2 9 rfl rfl)
theorem dX6_adds_56 : decode cX6_adds 56 = .ok (.putfield 188, 3) := dk_181 0 188 (dk_at dksX6_adds_2 10 rfl rfl)
theorem dX6_adds_59 : decode cX6_adds 59 = .ok (.iload_n 1, 1) := dk_27 (dk_at dksX6_adds_2 13 rfl rfl)
theorem dX6_adds_60 : decode cX6_adds 60 = .ok (.ireturn, 1) := dk_172 (dk_at dksX6_adds_2 14 rfl rfl)
abbrev cX6_faces : ByteArray := prog_12_method_70_code
def yX6_faces : MethodName := ⟨RX6, "faces", "(II)I"⟩
def dkwX6_faces_0 : List UInt8 := [42, 3, 181, 0, 3, 42, 182, 1, 107, 42, 42, 42, 180, 0, 41, 27, 28, 182, 1, 121, 182, 1, 124, 172]
abbrev dktX6_faces_0 : List UInt8 := dkwX6_faces_0 ++ []
theorem dksX6_faces_0 : cX6_faces.data.toList.drop 0 = dktX6_faces_0 := by decide +kernel
theorem dX6_faces_0 : decode cX6_faces 0 = .ok (.aload_n 0, 1) := dk_42 (dk_at dksX6_faces_0 0 rfl rfl)
theorem dX6_faces_1 : decode cX6_faces 1 = .ok (.iconst 0, 1) := dk_3 (dk_at dksX6_faces_0 1 rfl rfl)
theorem dX6_faces_2 : decode cX6_faces 2 = .ok (.putfield 3, 3) := dk_181 0 3 (dk_at dksX6_faces_0 2 rfl rfl)
theorem dX6_faces_5 : decode cX6_faces 5 = .ok (.aload_n 0, 1) := dk_42 (dk_at dksX6_faces_0 5 rfl rfl)
theorem dX6_faces_6 : decode cX6_faces 6 = .ok (.invokevirtual 363, 3) := dk_182 1 107 (dk_at dksX6_faces_0 6 rfl rfl)
theorem dX6_faces_9 : decode cX6_faces 9 = .ok (.aload_n 0, 1) := dk_42 (dk_at dksX6_faces_0 9 rfl rfl)
theorem dX6_faces_10 : decode cX6_faces 10 = .ok (.aload_n 0, 1) := dk_42 (dk_at dksX6_faces_0 10 rfl rfl)
theorem dX6_faces_11 : decode cX6_faces 11 = .ok (.aload_n 0, 1) := dk_42 (dk_at dksX6_faces_0 11 rfl rfl)
theorem dX6_faces_12 : decode cX6_faces 12 = .ok (.getfield 41, 3) := dk_180 0 41 (dk_at dksX6_faces_0 12 rfl rfl)
theorem dX6_faces_15 : decode cX6_faces 15 = .ok (.iload_n 1, 1) := dk_27 (dk_at dksX6_faces_0 15 rfl rfl)
theorem dX6_faces_16 : decode cX6_faces 16 = .ok (.iload_n 2, 1) := dk_28 (dk_at dksX6_faces_0 16 rfl rfl)
theorem dX6_faces_17 : decode cX6_faces 17 = .ok (.invokevirtual 377, 3) := dk_182 1 121 (dk_at dksX6_faces_0 17 rfl rfl)
theorem dX6_faces_20 : decode cX6_faces 20 = .ok (.invokevirtual 380, 3) := dk_182 1 124 (dk_at dksX6_faces_0 20 rfl rfl)
theorem dX6_faces_23 : decode cX6_faces 23 = .ok (.ireturn, 1) := dk_172 (dk_at dksX6_faces_0 23 rfl rfl)
abbrev cX6_facesOne : ByteArray := prog_12_method_65_code
def yX6_facesOne : MethodName := ⟨RX6, "facesOne", "([III)I"⟩
def dkwX6_facesOne_1 : List UInt8 := [16, 8, 28, 96, 46, 29, 184, 1, 29, 54, 4, 43, 16, 8, 28, 96, 29, 79, 21, 4, 172]
abbrev dktX6_facesOne_1 : List UInt8 := dkwX6_facesOne_1 ++ []
def dkwX6_facesOne_0 : List UInt8 := [42, 28, 182, 1, 59, 153, 0, 15, 29, 133, 9, 20, 1, 95, 184, 0, 126, 154, 0, 5, 2, 172, 43]
abbrev dktX6_facesOne_0 : List UInt8 := dkwX6_facesOne_0 ++ dktX6_facesOne_1
theorem dksX6_facesOne_0 : cX6_facesOne.data.toList.drop 0 = dktX6_facesOne_0 := by decide +kernel
theorem dksX6_facesOne_1 : cX6_facesOne.data.toList.drop 23 = dktX6_facesOne_1 := dk_seg dksX6_facesOne_0 23 rfl rfl
theorem dX6_facesOne_0 : decode cX6_facesOne 0 = .ok (.aload_n 0, 1) := dk_42 (dk_at dksX6_facesOne_0 0 rfl rfl)
theorem dX6_facesOne_1 : decode cX6_facesOne 1 = .ok (.iload_n 2, 1) := dk_28 (dk_at dksX6_facesOne_0 1 rfl rfl)
theorem dX6_facesOne_2 : decode cX6_facesOne 2 = .ok (.invokevirtual 315, 3) := dk_182 1 59 (dk_at dksX6_facesOne_0 2 rfl rfl)
theorem dX6_facesOne_5 : decode cX6_facesOne 5 = .ok (.ifCond .eq 15, 3) := dk_153 0 15 (dk_at dksX6_facesOne_0 5 rfl rfl)
theorem dX6_facesOne_8 : decode cX6_facesOne 8 = .ok (.iload_n 3, 1) := dk_29 (dk_at dksX6_facesOne_0 8 rfl rfl)
theorem dX6_facesOne_9 : decode cX6_facesOne 9 = .ok (.i2l, 1) := dk_133 (dk_at dksX6_facesOne_0 9 rfl rfl)
theorem dX6_facesOne_10 : decode cX6_facesOne 10 = .ok (.lconst 0, 1) := dk_9 (dk_at dksX6_facesOne_0 10 rfl rfl)
theorem dX6_facesOne_11 : decode cX6_facesOne 11 = .ok (.ldc2_w 351, 3) := dk_20 1 95 (dk_at dksX6_facesOne_0 11 rfl rfl)
theorem dX6_facesOne_14 : decode cX6_facesOne 14 = .ok (.invokestatic 126, 3) := dk_184 0 126 (dk_at dksX6_facesOne_0 14 rfl rfl)
theorem dX6_facesOne_17 : decode cX6_facesOne 17 = .ok (.ifCond .ne 5, 3) := dk_154 0 5 (dk_at dksX6_facesOne_0 17 rfl rfl)
theorem dX6_facesOne_20 : decode cX6_facesOne 20 = .ok (.iconst (-1), 1) := dk_2 (dk_at dksX6_facesOne_0 20 rfl rfl)
theorem dX6_facesOne_21 : decode cX6_facesOne 21 = .ok (.ireturn, 1) := dk_172 (dk_at dksX6_facesOne_0 21 rfl rfl)
theorem dX6_facesOne_22 : decode cX6_facesOne 22 = .ok (.aload_n 1, 1) := dk_43 (dk_at dksX6_facesOne_0 22 rfl rfl)
theorem dX6_facesOne_23 : decode cX6_facesOne 23 = .ok (.bipush 8, 2) := dk_16 8 (dk_at dksX6_facesOne_1 0 rfl rfl)
theorem dX6_facesOne_25 : decode cX6_facesOne 25 = .ok (.iload_n 2, 1) := dk_28 (dk_at dksX6_facesOne_1 2 rfl rfl)
theorem dX6_facesOne_26 : decode cX6_facesOne 26 = .ok (.iadd, 1) := dk_96 (dk_at dksX6_facesOne_1 3 rfl rfl)
theorem dX6_facesOne_27 : decode cX6_facesOne 27 = .ok (.iaload, 1) := dk_46 (dk_at dksX6_facesOne_1 4 rfl rfl)
theorem dX6_facesOne_28 : decode cX6_facesOne 28 = .ok (.iload_n 3, 1) := dk_29 (dk_at dksX6_facesOne_1 5 rfl rfl)
theorem dX6_facesOne_29 : decode cX6_facesOne 29 = .ok (.invokestatic 285, 3) := dk_184 1 29 (dk_at dksX6_facesOne_1 6 rfl rfl)
theorem dX6_facesOne_32 : decode cX6_facesOne 32 = .ok (.istore 4, 2) := dk_54 4 (dk_at dksX6_facesOne_1 9 rfl rfl)
theorem dX6_facesOne_34 : decode cX6_facesOne 34 = .ok (.aload_n 1, 1) := dk_43 (dk_at dksX6_facesOne_1 11 rfl rfl)
theorem dX6_facesOne_35 : decode cX6_facesOne 35 = .ok (.bipush 8, 2) := dk_16 8 (dk_at dksX6_facesOne_1 12 rfl rfl)
theorem dX6_facesOne_37 : decode cX6_facesOne 37 = .ok (.iload_n 2, 1) := dk_28 (dk_at dksX6_facesOne_1 14 rfl rfl)
theorem dX6_facesOne_38 : decode cX6_facesOne 38 = .ok (.iadd, 1) := dk_96 (dk_at dksX6_facesOne_1 15 rfl rfl)
theorem dX6_facesOne_39 : decode cX6_facesOne 39 = .ok (.iload_n 3, 1) := dk_29 (dk_at dksX6_facesOne_1 16 rfl rfl)
theorem dX6_facesOne_40 : decode cX6_facesOne 40 = .ok (.iastore, 1) := dk_79 (dk_at dksX6_facesOne_1 17 rfl rfl)
theorem dX6_facesOne_41 : decode cX6_facesOne 41 = .ok (.iload 4, 2) := dk_21 4 (dk_at dksX6_facesOne_1 18 rfl rfl)
theorem dX6_facesOne_43 : decode cX6_facesOne 43 = .ok (.ireturn, 1) := dk_172 (dk_at dksX6_facesOne_1 20 rfl rfl)
abbrev cX6_counted : ByteArray := prog_12_method_61_code
def yX6_counted : MethodName := ⟨RX6, "counted", "(I)I"⟩
def dkwX6_counted_0 : List UInt8 := [27, 156, 0, 7, 27, 167, 0, 8, 42, 27, 182, 1, 85, 172]
abbrev dktX6_counted_0 : List UInt8 := dkwX6_counted_0 ++ []
theorem dksX6_counted_0 : cX6_counted.data.toList.drop 0 = dktX6_counted_0 := by decide +kernel
theorem dX6_counted_0 : decode cX6_counted 0 = .ok (.iload_n 1, 1) := dk_27 (dk_at dksX6_counted_0 0 rfl rfl)
theorem dX6_counted_1 : decode cX6_counted 1 = .ok (.ifCond .ge 7, 3) := dk_156 0 7 (dk_at dksX6_counted_0 1 rfl rfl)
theorem dX6_counted_4 : decode cX6_counted 4 = .ok (.iload_n 1, 1) := dk_27 (dk_at dksX6_counted_0 4 rfl rfl)
theorem dX6_counted_5 : decode cX6_counted 5 = .ok (.goto 8, 3) := dk_167 0 8 (dk_at dksX6_counted_0 5 rfl rfl)
theorem dX6_counted_8 : decode cX6_counted 8 = .ok (.aload_n 0, 1) := dk_42 (dk_at dksX6_counted_0 8 rfl rfl)
theorem dX6_counted_9 : decode cX6_counted 9 = .ok (.iload_n 1, 1) := dk_27 (dk_at dksX6_counted_0 9 rfl rfl)
theorem dX6_counted_10 : decode cX6_counted 10 = .ok (.invokevirtual 341, 3) := dk_182 1 85 (dk_at dksX6_counted_0 10 rfl rfl)
theorem dX6_counted_13 : decode cX6_counted 13 = .ok (.ireturn, 1) := dk_172 (dk_at dksX6_counted_0 13 rfl rfl)
abbrev cX6_steps : ByteArray := prog_12_method_71_code
def yX6_steps : MethodName := ⟨RX6, "steps", "(II)I"⟩
def dkwX6_steps_0 : List UInt8 := [42, 3, 181, 0, 3, 42, 182, 1, 107, 42, 42, 42, 180, 0, 41, 27, 28, 182, 1, 127, 182, 1, 124, 172]
abbrev dktX6_steps_0 : List UInt8 := dkwX6_steps_0 ++ []
theorem dksX6_steps_0 : cX6_steps.data.toList.drop 0 = dktX6_steps_0 := by decide +kernel
theorem dX6_steps_0 : decode cX6_steps 0 = .ok (.aload_n 0, 1) := dk_42 (dk_at dksX6_steps_0 0 rfl rfl)
theorem dX6_steps_1 : decode cX6_steps 1 = .ok (.iconst 0, 1) := dk_3 (dk_at dksX6_steps_0 1 rfl rfl)
theorem dX6_steps_2 : decode cX6_steps 2 = .ok (.putfield 3, 3) := dk_181 0 3 (dk_at dksX6_steps_0 2 rfl rfl)
theorem dX6_steps_5 : decode cX6_steps 5 = .ok (.aload_n 0, 1) := dk_42 (dk_at dksX6_steps_0 5 rfl rfl)
theorem dX6_steps_6 : decode cX6_steps 6 = .ok (.invokevirtual 363, 3) := dk_182 1 107 (dk_at dksX6_steps_0 6 rfl rfl)
theorem dX6_steps_9 : decode cX6_steps 9 = .ok (.aload_n 0, 1) := dk_42 (dk_at dksX6_steps_0 9 rfl rfl)
theorem dX6_steps_10 : decode cX6_steps 10 = .ok (.aload_n 0, 1) := dk_42 (dk_at dksX6_steps_0 10 rfl rfl)
theorem dX6_steps_11 : decode cX6_steps 11 = .ok (.aload_n 0, 1) := dk_42 (dk_at dksX6_steps_0 11 rfl rfl)
theorem dX6_steps_12 : decode cX6_steps 12 = .ok (.getfield 41, 3) := dk_180 0 41 (dk_at dksX6_steps_0 12 rfl rfl)
theorem dX6_steps_15 : decode cX6_steps 15 = .ok (.iload_n 1, 1) := dk_27 (dk_at dksX6_steps_0 15 rfl rfl)
theorem dX6_steps_16 : decode cX6_steps 16 = .ok (.iload_n 2, 1) := dk_28 (dk_at dksX6_steps_0 16 rfl rfl)
theorem dX6_steps_17 : decode cX6_steps 17 = .ok (.invokevirtual 383, 3) := dk_182 1 127 (dk_at dksX6_steps_0 17 rfl rfl)
theorem dX6_steps_20 : decode cX6_steps 20 = .ok (.invokevirtual 380, 3) := dk_182 1 124 (dk_at dksX6_steps_0 20 rfl rfl)
theorem dX6_steps_23 : decode cX6_steps 23 = .ok (.ireturn, 1) := dk_172 (dk_at dksX6_steps_0 23 rfl rfl)
abbrev cX6_stepsOne : ByteArray := prog_12_method_66_code
def yX6_stepsOne : MethodName := ⟨RX6, "stepsOne", "([III)I"⟩
def dkwX6_stepsOne_2 : List UInt8 := [16, 254, 172, 43, 28, 21, 4, 79, 21, 4, 172]
abbrev dktX6_stepsOne_2 : List UInt8 := dkwX6_stepsOne_2 ++ []
def dkwX6_stepsOne_1 : List UInt8 := [28, 46, 29, 182, 1, 97, 54, 4, 21, 4, 155, 0, 13, 42, 180, 0, 33, 21, 4, 51, 153, 0, 6]
abbrev dktX6_stepsOne_1 : List UInt8 := dkwX6_stepsOne_1 ++ dktX6_stepsOne_2
def dkwX6_stepsOne_0 : List UInt8 := [42, 28, 182, 1, 59, 153, 0, 15, 29, 133, 9, 20, 1, 95, 184, 0, 126, 154, 0, 5, 2, 172, 42, 43]
abbrev dktX6_stepsOne_0 : List UInt8 := dkwX6_stepsOne_0 ++ dktX6_stepsOne_1
theorem dksX6_stepsOne_0 : cX6_stepsOne.data.toList.drop 0 = dktX6_stepsOne_0 := by decide +kernel
theorem dksX6_stepsOne_1 : cX6_stepsOne.data.toList.drop 24 = dktX6_stepsOne_1 := dk_seg dksX6_stepsOne_0 24 rfl rfl
theorem dksX6_stepsOne_2 : cX6_stepsOne.data.toList.drop 47 = dktX6_stepsOne_2 := dk_seg dksX6_stepsOne_1 23 rfl rfl
theorem dX6_stepsOne_0 : decode cX6_stepsOne 0 = .ok (.aload_n 0, 1) := dk_42 (dk_at dksX6_stepsOne_0 0 rfl rfl)
theorem dX6_stepsOne_1 : decode cX6_stepsOne 1 = .ok (.iload_n 2, 1) := dk_28 (dk_at dksX6_stepsOne_0 1 rfl rfl)
theorem dX6_stepsOne_2 : decode cX6_stepsOne 2 = .ok (.invokevirtual 315, 3) := dk_182 1 59 (dk_at dksX6_stepsOne_0 2 rfl rfl)
theorem dX6_stepsOne_5 : decode cX6_stepsOne 5 = .ok (.ifCond .eq 15, 3) := dk_153 0 15 (dk_at dksX6_stepsOne_0 5 rfl rfl)
theorem dX6_stepsOne_8 : decode cX6_stepsOne 8 = .ok (.iload_n 3, 1) := dk_29 (dk_at dksX6_stepsOne_0 8 rfl rfl)
theorem dX6_stepsOne_9 : decode cX6_stepsOne 9 = .ok (.i2l, 1) := dk_133 (dk_at dksX6_stepsOne_0 9 rfl rfl)
theorem dX6_stepsOne_10 : decode cX6_stepsOne 10 = .ok (.lconst 0, 1) := dk_9 (dk_at dksX6_stepsOne_0 10 rfl rfl)
theorem dX6_stepsOne_11 : decode cX6_stepsOne 11 = .ok (.ldc2_w 351, 3) := dk_20 1 95 (dk_at dksX6_stepsOne_0 11 rfl rfl)
theorem dX6_stepsOne_14 : decode cX6_stepsOne 14 = .ok (.invokestatic 126, 3) := dk_184 0 126 (dk_at dksX6_stepsOne_0 14 rfl rfl)
theorem dX6_stepsOne_17 : decode cX6_stepsOne 17 = .ok (.ifCond .ne 5, 3) := dk_154 0 5 (dk_at dksX6_stepsOne_0 17 rfl rfl)
theorem dX6_stepsOne_20 : decode cX6_stepsOne 20 = .ok (.iconst (-1), 1) := dk_2 (dk_at dksX6_stepsOne_0 20 rfl rfl)
theorem dX6_stepsOne_21 : decode cX6_stepsOne 21 = .ok (.ireturn, 1) := dk_172 (dk_at dksX6_stepsOne_0 21 rfl rfl)
theorem dX6_stepsOne_22 : decode cX6_stepsOne 22 = .ok (.aload_n 0, 1) := dk_42 (dk_at dksX6_stepsOne_0 22 rfl rfl)
theorem dX6_stepsOne_23 : decode cX6_stepsOne 23 = .ok (.aload_n 1, 1) := dk_43 (dk_at dksX6_stepsOne_0 23 rfl rfl)
theorem dX6_stepsOne_24 : decode cX6_stepsOne 24 = .ok (.iload_n 2, 1) := dk_28 (dk_at dksX6_stepsOne_1 0 rfl rfl)
theorem dX6_stepsOne_25 : decode cX6_stepsOne 25 = .ok (.iaload, 1) := dk_46 (dk_at dksX6_stepsOne_1 1 rfl rfl)
theorem dX6_stepsOne_26 : decode cX6_stepsOne 26 = .ok (.iload_n 3, 1) := dk_29 (dk_at dksX6_stepsOne_1 2 rfl rfl)
theorem dX6_stepsOne_27 : decode cX6_stepsOne 27 = .ok (.invokevirtual 353, 3) := dk_182 1 97 (dk_at dksX6_stepsOne_1 3 rfl rfl)
theorem dX6_stepsOne_30 : decode cX6_stepsOne 30 = .ok (.istore 4, 2) := dk_54 4 (dk_at dksX6_stepsOne_1 6 rfl rfl)
theorem dX6_stepsOne_32 : decode cX6_stepsOne 32 = .ok (.iload 4, 2) := dk_21 4 (dk_at dksX6_stepsOne_1 8 rfl rfl)
theorem dX6_stepsOne_34 : decode cX6_stepsOne 34 = .ok (.ifCond .lt 13, 3) := dk_155 0 13 (dk_at dksX6_stepsOne_1 10 rfl rfl)
theorem dX6_stepsOne_37 : decode cX6_stepsOne 37 = .ok (.aload_n 0, 1) := dk_42 (dk_at dksX6_stepsOne_1 13 rfl rfl)
theorem dX6_stepsOne_38 : decode cX6_stepsOne 38 = .ok (.getfield 33, 3) := dk_180 0 33 (dk_at dksX6_stepsOne_1 14 rfl rfl)
theorem dX6_stepsOne_41 : decode cX6_stepsOne 41 = .ok (.iload 4, 2) := dk_21 4 (dk_at dksX6_stepsOne_1 17 rfl rfl)
theorem dX6_stepsOne_43 : decode cX6_stepsOne 43 = .ok (.baload, 1) := dk_51 (dk_at dksX6_stepsOne_1 19 rfl rfl)
theorem dX6_stepsOne_44 : decode cX6_stepsOne 44 = .ok (.ifCond .eq 6, 3) := dk_153 0 6 (dk_at dksX6_stepsOne_1 20 rfl rfl)
theorem dX6_stepsOne_47 : decode cX6_stepsOne 47 = .ok (.bipush (-2), 2) := dk_16 254 (dk_at dksX6_stepsOne_2 0 rfl rfl)
theorem dX6_stepsOne_49 : decode cX6_stepsOne 49 = .ok (.ireturn, 1) := dk_172 (dk_at dksX6_stepsOne_2 2 rfl rfl)
theorem dX6_stepsOne_50 : decode cX6_stepsOne 50 = .ok (.aload_n 1, 1) := dk_43 (dk_at dksX6_stepsOne_2 3 rfl rfl)
theorem dX6_stepsOne_51 : decode cX6_stepsOne 51 = .ok (.iload_n 2, 1) := dk_28 (dk_at dksX6_stepsOne_2 4 rfl rfl)
theorem dX6_stepsOne_52 : decode cX6_stepsOne 52 = .ok (.iload 4, 2) := dk_21 4 (dk_at dksX6_stepsOne_2 5 rfl rfl)
theorem dX6_stepsOne_54 : decode cX6_stepsOne 54 = .ok (.iastore, 1) := dk_79 (dk_at dksX6_stepsOne_2 7 rfl rfl)
theorem dX6_stepsOne_55 : decode cX6_stepsOne 55 = .ok (.iload 4, 2) := dk_21 4 (dk_at dksX6_stepsOne_2 8 rfl rfl)
theorem dX6_stepsOne_57 : decode cX6_stepsOne 57 = .ok (.ireturn, 1) := dk_172 (dk_at dksX6_stepsOne_2 10 rfl rfl)
abbrev cX6_beside : ByteArray := prog_12_method_13_code
def yX6_beside : MethodName := ⟨RX6, "beside", "(II)I"⟩
def dkwX6_beside_5 : List UInt8 := [2, 172]
abbrev dktX6_beside_5 : List UInt8 := dkwX6_beside_5 ++ []
def dkwX6_beside_4 : List UInt8 := [180, 0, 27, 4, 100, 133, 184, 0, 126, 153, 0, 15, 42, 180, 0, 27, 29, 104, 21, 4, 96, 167, 0, 4]
abbrev dktX6_beside_4 : List UInt8 := dkwX6_beside_4 ++ dktX6_beside_5
def dkwX6_beside_3 : List UInt8 := [54, 4, 29, 133, 9, 42, 180, 0, 24, 4, 100, 133, 184, 0, 126, 153, 0, 32, 21, 4, 133, 9, 42]
abbrev dktX6_beside_3 : List UInt8 := dkwX6_beside_3 ++ dktX6_beside_4
def dkwX6_beside_2 : List UInt8 := [158, 0, 12, 28, 7, 162, 0, 7, 4, 167, 0, 13, 28, 7, 164, 0, 7, 2, 167, 0, 4, 3, 96]
abbrev dktX6_beside_2 : List UInt8 := dkwX6_beside_2 ++ dktX6_beside_3
def dkwX6_beside_1 : List UInt8 := [164, 0, 13, 28, 16, 6, 162, 0, 7, 4, 167, 0, 4, 3, 96, 62, 27, 42, 180, 0, 27, 112, 28]
abbrev dktX6_beside_1 : List UInt8 := dkwX6_beside_1 ++ dktX6_beside_2
def dkwX6_beside_0 : List UInt8 := [27, 42, 180, 0, 27, 108, 28, 16, 7, 159, 0, 8, 28, 5, 162, 0, 7, 2, 167, 0, 19, 28, 5]
abbrev dktX6_beside_0 : List UInt8 := dkwX6_beside_0 ++ dktX6_beside_1
theorem dksX6_beside_0 : cX6_beside.data.toList.drop 0 = dktX6_beside_0 := by decide +kernel
theorem dksX6_beside_1 : cX6_beside.data.toList.drop 23 = dktX6_beside_1 := dk_seg dksX6_beside_0 23 rfl rfl
theorem dksX6_beside_2 : cX6_beside.data.toList.drop 46 = dktX6_beside_2 := dk_seg dksX6_beside_1 23 rfl rfl
theorem dksX6_beside_3 : cX6_beside.data.toList.drop 69 = dktX6_beside_3 := dk_seg dksX6_beside_2 23 rfl rfl
theorem dksX6_beside_4 : cX6_beside.data.toList.drop 92 = dktX6_beside_4 := dk_seg dksX6_beside_3 23 rfl rfl
theorem dksX6_beside_5 : cX6_beside.data.toList.drop 116 = dktX6_beside_5 := dk_seg dksX6_beside_4 24 rfl rfl
theorem dX6_beside_0 : decode cX6_beside 0 = .ok (.iload_n 1, 1) := dk_27 (dk_at dksX6_beside_0 0 rfl rfl)
theorem dX6_beside_1 : decode cX6_beside 1 = .ok (.aload_n 0, 1) := dk_42 (dk_at dksX6_beside_0 1 rfl rfl)
theorem dX6_beside_2 : decode cX6_beside 2 = .ok (.getfield 27, 3) := dk_180 0 27 (dk_at dksX6_beside_0 2 rfl rfl)
theorem dX6_beside_5 : decode cX6_beside 5 = .ok (.idiv, 1) := dk_108 (dk_at dksX6_beside_0 5 rfl rfl)
theorem dX6_beside_6 : decode cX6_beside 6 = .ok (.iload_n 2, 1) := dk_28 (dk_at dksX6_beside_0 6 rfl rfl)
theorem dX6_beside_7 : decode cX6_beside 7 = .ok (.bipush 7, 2) := dk_16 7 (dk_at dksX6_beside_0 7 rfl rfl)
theorem dX6_beside_9 : decode cX6_beside 9 = .ok (.if_icmp .eq 8, 3) := dk_159 0 8 (dk_at dksX6_beside_0 9 rfl rfl)
theorem dX6_beside_12 : decode cX6_beside 12 = .ok (.iload_n 2, 1) := dk_28 (dk_at dksX6_beside_0 12 rfl rfl)
theorem dX6_beside_13 : decode cX6_beside 13 = .ok (.iconst 2, 1) := dk_5 (dk_at dksX6_beside_0 13 rfl rfl)
theorem dX6_beside_14 : decode cX6_beside 14 = .ok (.if_icmp .ge 7, 3) := dk_162 0 7 (dk_at dksX6_beside_0 14 rfl rfl)
theorem dX6_beside_17 : decode cX6_beside 17 = .ok (.iconst (-1), 1) := dk_2 (dk_at dksX6_beside_0 17 rfl rfl)
theorem dX6_beside_18 : decode cX6_beside 18 = .ok (.goto 19, 3) := dk_167 0 19 (dk_at dksX6_beside_0 18 rfl rfl)
theorem dX6_beside_21 : decode cX6_beside 21 = .ok (.iload_n 2, 1) := dk_28 (dk_at dksX6_beside_0 21 rfl rfl)
theorem dX6_beside_22 : decode cX6_beside 22 = .ok (.iconst 2, 1) := dk_5 (dk_at dksX6_beside_0 22 rfl rfl)
theorem dX6_beside_23 : decode cX6_beside 23 = .ok (.if_icmp .le 13, 3) := dk_164 0 13 (dk_at dksX6_beside_1 0 rfl rfl)
theorem dX6_beside_26 : decode cX6_beside 26 = .ok (.iload_n 2, 1) := dk_28 (dk_at dksX6_beside_1 3 rfl rfl)
theorem dX6_beside_27 : decode cX6_beside 27 = .ok (.bipush 6, 2) := dk_16 6 (dk_at dksX6_beside_1 4 rfl rfl)
theorem dX6_beside_29 : decode cX6_beside 29 = .ok (.if_icmp .ge 7, 3) := dk_162 0 7 (dk_at dksX6_beside_1 6 rfl rfl)
theorem dX6_beside_32 : decode cX6_beside 32 = .ok (.iconst 1, 1) := dk_4 (dk_at dksX6_beside_1 9 rfl rfl)
theorem dX6_beside_33 : decode cX6_beside 33 = .ok (.goto 4, 3) := dk_167 0 4 (dk_at dksX6_beside_1 10 rfl rfl)
theorem dX6_beside_36 : decode cX6_beside 36 = .ok (.iconst 0, 1) := dk_3 (dk_at dksX6_beside_1 13 rfl rfl)
theorem dX6_beside_37 : decode cX6_beside 37 = .ok (.iadd, 1) := dk_96 (dk_at dksX6_beside_1 14 rfl rfl)
theorem dX6_beside_38 : decode cX6_beside 38 = .ok (.istore_n 3, 1) := dk_62 (dk_at dksX6_beside_1 15 rfl rfl)
theorem dX6_beside_39 : decode cX6_beside 39 = .ok (.iload_n 1, 1) := dk_27 (dk_at dksX6_beside_1 16 rfl rfl)
theorem dX6_beside_40 : decode cX6_beside 40 = .ok (.aload_n 0, 1) := dk_42 (dk_at dksX6_beside_1 17 rfl rfl)
theorem dX6_beside_41 : decode cX6_beside 41 = .ok (.getfield 27, 3) := dk_180 0 27 (dk_at dksX6_beside_1 18 rfl rfl)
theorem dX6_beside_44 : decode cX6_beside 44 = .ok (.irem, 1) := dk_112 (dk_at dksX6_beside_1 21 rfl rfl)
theorem dX6_beside_45 : decode cX6_beside 45 = .ok (.iload_n 2, 1) := dk_28 (dk_at dksX6_beside_1 22 rfl rfl)
theorem dX6_beside_46 : decode cX6_beside 46 = .ok (.ifCond .le 12, 3) := dk_158 0 12 (dk_at dksX6_beside_2 0 rfl rfl)
theorem dX6_beside_49 : decode cX6_beside 49 = .ok (.iload_n 2, 1) := dk_28 (dk_at dksX6_beside_2 3 rfl rfl)
theorem dX6_beside_50 : decode cX6_beside 50 = .ok (.iconst 4, 1) := dk_7 (dk_at dksX6_beside_2 4 rfl rfl)
theorem dX6_beside_51 : decode cX6_beside 51 = .ok (.if_icmp .ge 7, 3) := dk_162 0 7 (dk_at dksX6_beside_2 5 rfl rfl)
theorem dX6_beside_54 : decode cX6_beside 54 = .ok (.iconst 1, 1) := dk_4 (dk_at dksX6_beside_2 8 rfl rfl)
theorem dX6_beside_55 : decode cX6_beside 55 = .ok (.goto 13, 3) := dk_167 0 13 (dk_at dksX6_beside_2 9 rfl rfl)
theorem dX6_beside_58 : decode cX6_beside 58 = .ok (.iload_n 2, 1) := dk_28 (dk_at dksX6_beside_2 12 rfl rfl)
theorem dX6_beside_59 : decode cX6_beside 59 = .ok (.iconst 4, 1) := dk_7 (dk_at dksX6_beside_2 13 rfl rfl)
theorem dX6_beside_60 : decode cX6_beside 60 = .ok (.if_icmp .le 7, 3) := dk_164 0 7 (dk_at dksX6_beside_2 14 rfl rfl)
theorem dX6_beside_63 : decode cX6_beside 63 = .ok (.iconst (-1), 1) := dk_2 (dk_at dksX6_beside_2 17 rfl rfl)
theorem dX6_beside_64 : decode cX6_beside 64 = .ok (.goto 4, 3) := dk_167 0 4 (dk_at dksX6_beside_2 18 rfl rfl)
theorem dX6_beside_67 : decode cX6_beside 67 = .ok (.iconst 0, 1) := dk_3 (dk_at dksX6_beside_2 21 rfl rfl)
theorem dX6_beside_68 : decode cX6_beside 68 = .ok (.iadd, 1) := dk_96 (dk_at dksX6_beside_2 22 rfl rfl)
theorem dX6_beside_69 : decode cX6_beside 69 = .ok (.istore 4, 2) := dk_54 4 (dk_at dksX6_beside_3 0 rfl rfl)
theorem dX6_beside_71 : decode cX6_beside 71 = .ok (.iload_n 3, 1) := dk_29 (dk_at dksX6_beside_3 2 rfl rfl)
theorem dX6_beside_72 : decode cX6_beside 72 = .ok (.i2l, 1) := dk_133 (dk_at dksX6_beside_3 3 rfl rfl)
theorem dX6_beside_73 : decode cX6_beside 73 = .ok (.lconst 0, 1) := dk_9 (dk_at dksX6_beside_3 4 rfl rfl)
theorem dX6_beside_74 : decode cX6_beside 74 = .ok (.aload_n 0, 1) := dk_42 (dk_at dksX6_beside_3 5 rfl rfl)
theorem dX6_beside_75 : decode cX6_beside 75 = .ok (.getfield 24, 3) := dk_180 0 24 (dk_at dksX6_beside_3 6 rfl rfl)
theorem dX6_beside_78 : decode cX6_beside 78 = .ok (.iconst 1, 1) := dk_4 (dk_at dksX6_beside_3 9 rfl rfl)
theorem dX6_beside_79 : decode cX6_beside 79 = .ok (.isub, 1) := dk_100 (dk_at dksX6_beside_3 10 rfl rfl)
theorem dX6_beside_80 : decode cX6_beside 80 = .ok (.i2l, 1) := dk_133 (dk_at dksX6_beside_3 11 rfl rfl)
theorem dX6_beside_81 : decode cX6_beside 81 = .ok (.invokestatic 126, 3) := dk_184 0 126 (dk_at dksX6_beside_3 12 rfl rfl)
theorem dX6_beside_84 : decode cX6_beside 84 = .ok (.ifCond .eq 32, 3) := dk_153 0 32 (dk_at dksX6_beside_3 15 rfl rfl)
theorem dX6_beside_87 : decode cX6_beside 87 = .ok (.iload 4, 2) := dk_21 4 (dk_at dksX6_beside_3 18 rfl rfl)
theorem dX6_beside_89 : decode cX6_beside 89 = .ok (.i2l, 1) := dk_133 (dk_at dksX6_beside_3 20 rfl rfl)
theorem dX6_beside_90 : decode cX6_beside 90 = .ok (.lconst 0, 1) := dk_9 (dk_at dksX6_beside_3 21 rfl rfl)
theorem dX6_beside_91 : decode cX6_beside 91 = .ok (.aload_n 0, 1) := dk_42 (dk_at dksX6_beside_3 22 rfl rfl)
theorem dX6_beside_92 : decode cX6_beside 92 = .ok (.getfield 27, 3) := dk_180 0 27 (dk_at dksX6_beside_4 0 rfl rfl)
theorem dX6_beside_95 : decode cX6_beside 95 = .ok (.iconst 1, 1) := dk_4 (dk_at dksX6_beside_4 3 rfl rfl)
theorem dX6_beside_96 : decode cX6_beside 96 = .ok (.isub, 1) := dk_100 (dk_at dksX6_beside_4 4 rfl rfl)
theorem dX6_beside_97 : decode cX6_beside 97 = .ok (.i2l, 1) := dk_133 (dk_at dksX6_beside_4 5 rfl rfl)
theorem dX6_beside_98 : decode cX6_beside 98 = .ok (.invokestatic 126, 3) := dk_184 0 126 (dk_at dksX6_beside_4 6 rfl rfl)
theorem dX6_beside_101 : decode cX6_beside 101 = .ok (.ifCond .eq 15, 3) := dk_153 0 15 (dk_at dksX6_beside_4 9 rfl rfl)
theorem dX6_beside_104 : decode cX6_beside 104 = .ok (.aload_n 0, 1) := dk_42 (dk_at dksX6_beside_4 12 rfl rfl)
theorem dX6_beside_105 : decode cX6_beside 105 = .ok (.getfield 27, 3) := dk_180 0 27 (dk_at dksX6_beside_4 13 rfl rfl)
theorem dX6_beside_108 : decode cX6_beside 108 = .ok (.iload_n 3, 1) := dk_29 (dk_at dksX6_beside_4 16 rfl rfl)
theorem dX6_beside_109 : decode cX6_beside 109 = .ok (.imul, 1) := dk_104 (dk_at dksX6_beside_4 17 rfl rfl)
theorem dX6_beside_110 : decode cX6_beside 110 = .ok (.iload 4, 2) := dk_21 4 (dk_at dksX6_beside_4 18 rfl rfl)
theorem dX6_beside_112 : decode cX6_beside 112 = .ok (.iadd, 1) := dk_96 (dk_at dksX6_beside_4 20 rfl rfl)
theorem dX6_beside_113 : decode cX6_beside 113 = .ok (.goto 4, 3) := dk_167 0 4 (dk_at dksX6_beside_4 21 rfl rfl)
theorem dX6_beside_116 : decode cX6_beside 116 = .ok (.iconst (-1), 1) := dk_2 (dk_at dksX6_beside_5 0 rfl rfl)
theorem dX6_beside_117 : decode cX6_beside 117 = .ok (.ireturn, 1) := dk_172 (dk_at dksX6_beside_5 1 rfl rfl)
abbrev cX6_trims : ByteArray := prog_12_method_72_code
def yX6_trims : MethodName := ⟨RX6, "trims", "(II)I"⟩
def dkwX6_trims_0 : List UInt8 := [42, 3, 181, 0, 3, 42, 182, 1, 107, 42, 42, 27, 28, 182, 1, 130, 182, 1, 124, 172]
abbrev dktX6_trims_0 : List UInt8 := dkwX6_trims_0 ++ []
theorem dksX6_trims_0 : cX6_trims.data.toList.drop 0 = dktX6_trims_0 := by decide +kernel
theorem dX6_trims_0 : decode cX6_trims 0 = .ok (.aload_n 0, 1) := dk_42 (dk_at dksX6_trims_0 0 rfl rfl)
theorem dX6_trims_1 : decode cX6_trims 1 = .ok (.iconst 0, 1) := dk_3 (dk_at dksX6_trims_0 1 rfl rfl)
theorem dX6_trims_2 : decode cX6_trims 2 = .ok (.putfield 3, 3) := dk_181 0 3 (dk_at dksX6_trims_0 2 rfl rfl)
theorem dX6_trims_5 : decode cX6_trims 5 = .ok (.aload_n 0, 1) := dk_42 (dk_at dksX6_trims_0 5 rfl rfl)
theorem dX6_trims_6 : decode cX6_trims 6 = .ok (.invokevirtual 363, 3) := dk_182 1 107 (dk_at dksX6_trims_0 6 rfl rfl)
theorem dX6_trims_9 : decode cX6_trims 9 = .ok (.aload_n 0, 1) := dk_42 (dk_at dksX6_trims_0 9 rfl rfl)
theorem dX6_trims_10 : decode cX6_trims 10 = .ok (.aload_n 0, 1) := dk_42 (dk_at dksX6_trims_0 10 rfl rfl)
theorem dX6_trims_11 : decode cX6_trims 11 = .ok (.iload_n 1, 1) := dk_27 (dk_at dksX6_trims_0 11 rfl rfl)
theorem dX6_trims_12 : decode cX6_trims 12 = .ok (.iload_n 2, 1) := dk_28 (dk_at dksX6_trims_0 12 rfl rfl)
theorem dX6_trims_13 : decode cX6_trims 13 = .ok (.invokevirtual 386, 3) := dk_182 1 130 (dk_at dksX6_trims_0 13 rfl rfl)
theorem dX6_trims_16 : decode cX6_trims 16 = .ok (.invokevirtual 380, 3) := dk_182 1 124 (dk_at dksX6_trims_0 16 rfl rfl)
theorem dX6_trims_19 : decode cX6_trims 19 = .ok (.ireturn, 1) := dk_172 (dk_at dksX6_trims_0 19 rfl rfl)
abbrev cX6_trimsOne : ByteArray := prog_12_method_67_code
def yX6_trimsOne : MethodName := ⟨RX6, "trimsOne", "(II)I"⟩
def dkwX6_trimsOne_1 : List UInt8 := [180, 0, 41, 16, 16, 27, 96, 46, 62, 42, 180, 0, 41, 16, 16, 27, 96, 28, 79, 29, 172]
abbrev dktX6_trimsOne_1 : List UInt8 := dkwX6_trimsOne_1 ++ []
def dkwX6_trimsOne_0 : List UInt8 := [42, 27, 182, 1, 59, 153, 0, 15, 28, 133, 9, 20, 1, 100, 184, 0, 126, 154, 0, 5, 2, 172, 42]
abbrev dktX6_trimsOne_0 : List UInt8 := dkwX6_trimsOne_0 ++ dktX6_trimsOne_1
theorem dksX6_trimsOne_0 : cX6_trimsOne.data.toList.drop 0 = dktX6_trimsOne_0 := by decide +kernel
theorem dksX6_trimsOne_1 : cX6_trimsOne.data.toList.drop 23 = dktX6_trimsOne_1 := dk_seg dksX6_trimsOne_0 23 rfl rfl
theorem dX6_trimsOne_0 : decode cX6_trimsOne 0 = .ok (.aload_n 0, 1) := dk_42 (dk_at dksX6_trimsOne_0 0 rfl rfl)
theorem dX6_trimsOne_1 : decode cX6_trimsOne 1 = .ok (.iload_n 1, 1) := dk_27 (dk_at dksX6_trimsOne_0 1 rfl rfl)
theorem dX6_trimsOne_2 : decode cX6_trimsOne 2 = .ok (.invokevirtual 315, 3) := dk_182 1 59 (dk_at dksX6_trimsOne_0 2 rfl rfl)
theorem dX6_trimsOne_5 : decode cX6_trimsOne 5 = .ok (.ifCond .eq 15, 3) := dk_153 0 15 (dk_at dksX6_trimsOne_0 5 rfl rfl)
theorem dX6_trimsOne_8 : decode cX6_trimsOne 8 = .ok (.iload_n 2, 1) := dk_28 (dk_at dksX6_trimsOne_0 8 rfl rfl)
theorem dX6_trimsOne_9 : decode cX6_trimsOne 9 = .ok (.i2l, 1) := dk_133 (dk_at dksX6_trimsOne_0 9 rfl rfl)
theorem dX6_trimsOne_10 : decode cX6_trimsOne 10 = .ok (.lconst 0, 1) := dk_9 (dk_at dksX6_trimsOne_0 10 rfl rfl)
theorem dX6_trimsOne_11 : decode cX6_trimsOne 11 = .ok (.ldc2_w 356, 3) := dk_20 1 100 (dk_at dksX6_trimsOne_0 11 rfl rfl)
theorem dX6_trimsOne_14 : decode cX6_trimsOne 14 = .ok (.invokestatic 126, 3) := dk_184 0 126 (dk_at dksX6_trimsOne_0 14 rfl rfl)
theorem dX6_trimsOne_17 : decode cX6_trimsOne 17 = .ok (.ifCond .ne 5, 3) := dk_154 0 5 (dk_at dksX6_trimsOne_0 17 rfl rfl)
theorem dX6_trimsOne_20 : decode cX6_trimsOne 20 = .ok (.iconst (-1), 1) := dk_2 (dk_at dksX6_trimsOne_0 20 rfl rfl)
theorem dX6_trimsOne_21 : decode cX6_trimsOne 21 = .ok (.ireturn, 1) := dk_172 (dk_at dksX6_trimsOne_0 21 rfl rfl)
theorem dX6_trimsOne_22 : decode cX6_trimsOne 22 = .ok (.aload_n 0, 1) := dk_42 (dk_at dksX6_trimsOne_0 22 rfl rfl)
theorem dX6_trimsOne_23 : decode cX6_trimsOne 23 = .ok (.getfield 41, 3) := dk_180 0 41 (dk_at dksX6_trimsOne_1 0 rfl rfl)
theorem dX6_trimsOne_26 : decode cX6_trimsOne 26 = .ok (.bipush 16, 2) := dk_16 16 (dk_at dksX6_trimsOne_1 3 rfl rfl)
theorem dX6_trimsOne_28 : decode cX6_trimsOne 28 = .ok (.iload_n 1, 1) := dk_27 (dk_at dksX6_trimsOne_1 5 rfl rfl)
theorem dX6_trimsOne_29 : decode cX6_trimsOne 29 = .ok (.iadd, 1) := dk_96 (dk_at dksX6_trimsOne_1 6 rfl rfl)
theorem dX6_trimsOne_30 : decode cX6_trimsOne 30 = .ok (.iaload, 1) := dk_46 (dk_at dksX6_trimsOne_1 7 rfl rfl)
theorem dX6_trimsOne_31 : decode cX6_trimsOne 31 = .ok (.istore_n 3, 1) := dk_62 (dk_at dksX6_trimsOne_1 8 rfl rfl)
theorem dX6_trimsOne_32 : decode cX6_trimsOne 32 = .ok (.aload_n 0, 1) := dk_42 (dk_at dksX6_trimsOne_1 9 rfl rfl)
theorem dX6_trimsOne_33 : decode cX6_trimsOne 33 = .ok (.getfield 41, 3) := dk_180 0 41 (dk_at dksX6_trimsOne_1 10 rfl rfl)
theorem dX6_trimsOne_36 : decode cX6_trimsOne 36 = .ok (.bipush 16, 2) := dk_16 16 (dk_at dksX6_trimsOne_1 13 rfl rfl)
theorem dX6_trimsOne_38 : decode cX6_trimsOne 38 = .ok (.iload_n 1, 1) := dk_27 (dk_at dksX6_trimsOne_1 15 rfl rfl)
theorem dX6_trimsOne_39 : decode cX6_trimsOne 39 = .ok (.iadd, 1) := dk_96 (dk_at dksX6_trimsOne_1 16 rfl rfl)
theorem dX6_trimsOne_40 : decode cX6_trimsOne 40 = .ok (.iload_n 2, 1) := dk_28 (dk_at dksX6_trimsOne_1 17 rfl rfl)
theorem dX6_trimsOne_41 : decode cX6_trimsOne 41 = .ok (.iastore, 1) := dk_79 (dk_at dksX6_trimsOne_1 18 rfl rfl)
theorem dX6_trimsOne_42 : decode cX6_trimsOne 42 = .ok (.iload_n 3, 1) := dk_29 (dk_at dksX6_trimsOne_1 19 rfl rfl)
theorem dX6_trimsOne_43 : decode cX6_trimsOne 43 = .ok (.ireturn, 1) := dk_172 (dk_at dksX6_trimsOne_1 20 rfl rfl)
abbrev cX6_puts : ByteArray := prog_12_method_73_code
def yX6_puts : MethodName := ⟨RX6, "puts", "(II)I"⟩
def dkwX6_puts_0 : List UInt8 := [42, 3, 181, 0, 3, 42, 182, 1, 107, 42, 42, 27, 28, 182, 1, 133, 182, 1, 124, 172]
abbrev dktX6_puts_0 : List UInt8 := dkwX6_puts_0 ++ []
theorem dksX6_puts_0 : cX6_puts.data.toList.drop 0 = dktX6_puts_0 := by decide +kernel
theorem dX6_puts_0 : decode cX6_puts 0 = .ok (.aload_n 0, 1) := dk_42 (dk_at dksX6_puts_0 0 rfl rfl)
theorem dX6_puts_1 : decode cX6_puts 1 = .ok (.iconst 0, 1) := dk_3 (dk_at dksX6_puts_0 1 rfl rfl)
theorem dX6_puts_2 : decode cX6_puts 2 = .ok (.putfield 3, 3) := dk_181 0 3 (dk_at dksX6_puts_0 2 rfl rfl)
theorem dX6_puts_5 : decode cX6_puts 5 = .ok (.aload_n 0, 1) := dk_42 (dk_at dksX6_puts_0 5 rfl rfl)
theorem dX6_puts_6 : decode cX6_puts 6 = .ok (.invokevirtual 363, 3) := dk_182 1 107 (dk_at dksX6_puts_0 6 rfl rfl)
theorem dX6_puts_9 : decode cX6_puts 9 = .ok (.aload_n 0, 1) := dk_42 (dk_at dksX6_puts_0 9 rfl rfl)
theorem dX6_puts_10 : decode cX6_puts 10 = .ok (.aload_n 0, 1) := dk_42 (dk_at dksX6_puts_0 10 rfl rfl)
theorem dX6_puts_11 : decode cX6_puts 11 = .ok (.iload_n 1, 1) := dk_27 (dk_at dksX6_puts_0 11 rfl rfl)
theorem dX6_puts_12 : decode cX6_puts 12 = .ok (.iload_n 2, 1) := dk_28 (dk_at dksX6_puts_0 12 rfl rfl)
theorem dX6_puts_13 : decode cX6_puts 13 = .ok (.invokevirtual 389, 3) := dk_182 1 133 (dk_at dksX6_puts_0 13 rfl rfl)
theorem dX6_puts_16 : decode cX6_puts 16 = .ok (.invokevirtual 380, 3) := dk_182 1 124 (dk_at dksX6_puts_0 16 rfl rfl)
theorem dX6_puts_19 : decode cX6_puts 19 = .ok (.ireturn, 1) := dk_172 (dk_at dksX6_puts_0 19 rfl rfl)
abbrev cX6_putsOne : ByteArray := prog_12_method_68_code
def yX6_putsOne : MethodName := ⟨RX6, "putsOne", "(II)I"⟩
def dkwX6_putsOne_2 : List UInt8 := [29, 172]
abbrev dktX6_putsOne_2 : List UInt8 := dkwX6_putsOne_2 ++ []
def dkwX6_putsOne_1 : List UInt8 := [27, 96, 46, 62, 42, 180, 0, 41, 16, 32, 27, 96, 28, 79, 29, 28, 160, 0, 8, 16, 254, 167, 0, 4]
abbrev dktX6_putsOne_1 : List UInt8 := dkwX6_putsOne_1 ++ dktX6_putsOne_2
def dkwX6_putsOne_0 : List UInt8 := [42, 27, 182, 1, 71, 153, 0, 11, 42, 28, 182, 1, 102, 154, 0, 5, 2, 172, 42, 180, 0, 41, 16, 32]
abbrev dktX6_putsOne_0 : List UInt8 := dkwX6_putsOne_0 ++ dktX6_putsOne_1
theorem dksX6_putsOne_0 : cX6_putsOne.data.toList.drop 0 = dktX6_putsOne_0 := by decide +kernel
theorem dksX6_putsOne_1 : cX6_putsOne.data.toList.drop 24 = dktX6_putsOne_1 := dk_seg dksX6_putsOne_0 24 rfl rfl
theorem dksX6_putsOne_2 : cX6_putsOne.data.toList.drop 48 = dktX6_putsOne_2 := dk_seg dksX6_putsOne_1 24 rfl rfl
theorem dX6_putsOne_0 : decode cX6_putsOne 0 = .ok (.aload_n 0, 1) := dk_42 (dk_at dksX6_putsOne_0 0 rfl rfl)
theorem dX6_putsOne_1 : decode cX6_putsOne 1 = .ok (.iload_n 1, 1) := dk_27 (dk_at dksX6_putsOne_0 1 rfl rfl)
theorem dX6_putsOne_2 : decode cX6_putsOne 2 = .ok (.invokevirtual 327, 3) := dk_182 1 71 (dk_at dksX6_putsOne_0 2 rfl rfl)
theorem dX6_putsOne_5 : decode cX6_putsOne 5 = .ok (.ifCond .eq 11, 3) := dk_153 0 11 (dk_at dksX6_putsOne_0 5 rfl rfl)
theorem dX6_putsOne_8 : decode cX6_putsOne 8 = .ok (.aload_n 0, 1) := dk_42 (dk_at dksX6_putsOne_0 8 rfl rfl)
theorem dX6_putsOne_9 : decode cX6_putsOne 9 = .ok (.iload_n 2, 1) := dk_28 (dk_at dksX6_putsOne_0 9 rfl rfl)
theorem dX6_putsOne_10 : decode cX6_putsOne 10 = .ok (.invokevirtual 358, 3) := dk_182 1 102 (dk_at dksX6_putsOne_0 10 rfl rfl)
theorem dX6_putsOne_13 : decode cX6_putsOne 13 = .ok (.ifCond .ne 5, 3) := dk_154 0 5 (dk_at dksX6_putsOne_0 13 rfl rfl)
theorem dX6_putsOne_16 : decode cX6_putsOne 16 = .ok (.iconst (-1), 1) := dk_2 (dk_at dksX6_putsOne_0 16 rfl rfl)
theorem dX6_putsOne_17 : decode cX6_putsOne 17 = .ok (.ireturn, 1) := dk_172 (dk_at dksX6_putsOne_0 17 rfl rfl)
theorem dX6_putsOne_18 : decode cX6_putsOne 18 = .ok (.aload_n 0, 1) := dk_42 (dk_at dksX6_putsOne_0 18 rfl rfl)
theorem dX6_putsOne_19 : decode cX6_putsOne 19 = .ok (.getfield 41, 3) := dk_180 0 41 (dk_at dksX6_putsOne_0 19 rfl rfl)
theorem dX6_putsOne_22 : decode cX6_putsOne 22 = .ok (.bipush 32, 2) := dk_16 32 (dk_at dksX6_putsOne_0 22 rfl rfl)
theorem dX6_putsOne_24 : decode cX6_putsOne 24 = .ok (.iload_n 1, 1) := dk_27 (dk_at dksX6_putsOne_1 0 rfl rfl)
theorem dX6_putsOne_25 : decode cX6_putsOne 25 = .ok (.iadd, 1) := dk_96 (dk_at dksX6_putsOne_1 1 rfl rfl)
theorem dX6_putsOne_26 : decode cX6_putsOne 26 = .ok (.iaload, 1) := dk_46 (dk_at dksX6_putsOne_1 2 rfl rfl)
theorem dX6_putsOne_27 : decode cX6_putsOne 27 = .ok (.istore_n 3, 1) := dk_62 (dk_at dksX6_putsOne_1 3 rfl rfl)
theorem dX6_putsOne_28 : decode cX6_putsOne 28 = .ok (.aload_n 0, 1) := dk_42 (dk_at dksX6_putsOne_1 4 rfl rfl)
theorem dX6_putsOne_29 : decode cX6_putsOne 29 = .ok (.getfield 41, 3) := dk_180 0 41 (dk_at dksX6_putsOne_1 5 rfl rfl)
theorem dX6_putsOne_32 : decode cX6_putsOne 32 = .ok (.bipush 32, 2) := dk_16 32 (dk_at dksX6_putsOne_1 8 rfl rfl)
theorem dX6_putsOne_34 : decode cX6_putsOne 34 = .ok (.iload_n 1, 1) := dk_27 (dk_at dksX6_putsOne_1 10 rfl rfl)
theorem dX6_putsOne_35 : decode cX6_putsOne 35 = .ok (.iadd, 1) := dk_96 (dk_at dksX6_putsOne_1 11 rfl rfl)
theorem dX6_putsOne_36 : decode cX6_putsOne 36 = .ok (.iload_n 2, 1) := dk_28 (dk_at dksX6_putsOne_1 12 rfl rfl)
theorem dX6_putsOne_37 : decode cX6_putsOne 37 = .ok (.iastore, 1) := dk_79 (dk_at dksX6_putsOne_1 13 rfl rfl)
theorem dX6_putsOne_38 : decode cX6_putsOne 38 = .ok (.iload_n 3, 1) := dk_29 (dk_at dksX6_putsOne_1 14 rfl rfl)
theorem dX6_putsOne_39 : decode cX6_putsOne 39 = .ok (.iload_n 2, 1) := dk_28 (dk_at dksX6_putsOne_1 15 rfl rfl)
theorem dX6_putsOne_40 : decode cX6_putsOne 40 = .ok (.if_icmp .ne 8, 3) := dk_160 0 8 (dk_at dksX6_putsOne_1 16 rfl rfl)
theorem dX6_putsOne_43 : decode cX6_putsOne 43 = .ok (.bipush (-2), 2) := dk_16 254 (dk_at dksX6_putsOne_1 19 rfl rfl)
theorem dX6_putsOne_45 : decode cX6_putsOne 45 = .ok (.goto 4, 3) := dk_167 0 4 (dk_at dksX6_putsOne_1 21 rfl rfl)
theorem dX6_putsOne_48 : decode cX6_putsOne 48 = .ok (.iload_n 3, 1) := dk_29 (dk_at dksX6_putsOne_2 0 rfl rfl)
theorem dX6_putsOne_49 : decode cX6_putsOne 49 = .ok (.ireturn, 1) := dk_172 (dk_at dksX6_putsOne_2 1 rfl rfl)
abbrev cX6_isField : ByteArray := prog_12_method_10_code
def yX6_isField : MethodName := ⟨RX6, "isField", "(I)Z"⟩
def dkwX6_isField_0 : List UInt8 := [27, 133, 9, 42, 182, 0, 122, 4, 100, 133, 184, 0, 126, 172]
abbrev dktX6_isField_0 : List UInt8 := dkwX6_isField_0 ++ []
theorem dksX6_isField_0 : cX6_isField.data.toList.drop 0 = dktX6_isField_0 := by decide +kernel
theorem dX6_isField_0 : decode cX6_isField 0 = .ok (.iload_n 1, 1) := dk_27 (dk_at dksX6_isField_0 0 rfl rfl)
theorem dX6_isField_1 : decode cX6_isField 1 = .ok (.i2l, 1) := dk_133 (dk_at dksX6_isField_0 1 rfl rfl)
theorem dX6_isField_2 : decode cX6_isField 2 = .ok (.lconst 0, 1) := dk_9 (dk_at dksX6_isField_0 2 rfl rfl)
theorem dX6_isField_3 : decode cX6_isField 3 = .ok (.aload_n 0, 1) := dk_42 (dk_at dksX6_isField_0 3 rfl rfl)
theorem dX6_isField_4 : decode cX6_isField 4 = .ok (.invokevirtual 122, 3) := dk_182 0 122 (dk_at dksX6_isField_0 4 rfl rfl)
theorem dX6_isField_7 : decode cX6_isField 7 = .ok (.iconst 1, 1) := dk_4 (dk_at dksX6_isField_0 7 rfl rfl)
theorem dX6_isField_8 : decode cX6_isField 8 = .ok (.isub, 1) := dk_100 (dk_at dksX6_isField_0 8 rfl rfl)
theorem dX6_isField_9 : decode cX6_isField 9 = .ok (.i2l, 1) := dk_133 (dk_at dksX6_isField_0 9 rfl rfl)
theorem dX6_isField_10 : decode cX6_isField 10 = .ok (.invokestatic 126, 3) := dk_184 0 126 (dk_at dksX6_isField_0 10 rfl rfl)
theorem dX6_isField_13 : decode cX6_isField 13 = .ok (.ireturn, 1) := dk_172 (dk_at dksX6_isField_0 13 rfl rfl)
abbrev cX6_day : ByteArray := prog_12_method_76_code
def yX6_day : MethodName := ⟨RX6, "day", "()I"⟩
def dkwX6_day_6 : List UInt8 := [3, 172]
abbrev dktX6_day_6 : List UInt8 := dkwX6_day_6 ++ []
def dkwX6_day_5 : List UInt8 := [180, 0, 41, 16, 40, 46, 133, 182, 1, 117, 21, 4, 158, 0, 12, 42, 21, 4, 182, 1, 85, 167, 0, 4]
abbrev dktX6_day_5 : List UInt8 := dkwX6_day_5 ++ dktX6_day_6
def dkwX6_day_4 : List UInt8 := [21, 4, 42, 180, 1, 136, 162, 0, 7, 4, 167, 0, 4, 3, 184, 0, 154, 133, 182, 1, 117, 42, 42]
abbrev dktX6_day_4 : List UInt8 := dkwX6_day_4 ++ dktX6_day_5
def dkwX6_day_3 : List UInt8 := [162, 0, 18, 42, 21, 4, 182, 1, 144, 153, 0, 9, 132, 4, 1, 167, 255, 235, 42, 3, 181, 0, 15, 42]
abbrev dktX6_day_3 : List UInt8 := dkwX6_day_3 ++ dktX6_day_4
def dkwX6_day_2 : List UInt8 := [182, 0, 213, 62, 29, 156, 0, 5, 29, 172, 42, 182, 1, 107, 3, 54, 4, 21, 4, 42, 180, 1, 136]
abbrev dktX6_day_2 : List UInt8 := dkwX6_day_2 ++ dktX6_day_3
def dkwX6_day_1 : List UInt8 := [180, 0, 139, 42, 180, 0, 151, 162, 0, 11, 42, 182, 1, 141, 61, 167, 255, 236, 42, 27, 16, 60, 28]
abbrev dktX6_day_1 : List UInt8 := dkwX6_day_1 ++ dktX6_day_2
def dkwX6_day_0 : List UInt8 := [42, 3, 181, 0, 3, 42, 16, 60, 182, 0, 175, 60, 42, 3, 181, 1, 136, 4, 61, 28, 153, 0, 22, 42]
abbrev dktX6_day_0 : List UInt8 := dkwX6_day_0 ++ dktX6_day_1
theorem dksX6_day_0 : cX6_day.data.toList.drop 0 = dktX6_day_0 := by decide +kernel
theorem dksX6_day_1 : cX6_day.data.toList.drop 24 = dktX6_day_1 := dk_seg dksX6_day_0 24 rfl rfl
theorem dksX6_day_2 : cX6_day.data.toList.drop 47 = dktX6_day_2 := dk_seg dksX6_day_1 23 rfl rfl
theorem dksX6_day_3 : cX6_day.data.toList.drop 70 = dktX6_day_3 := dk_seg dksX6_day_2 23 rfl rfl
theorem dksX6_day_4 : cX6_day.data.toList.drop 94 = dktX6_day_4 := dk_seg dksX6_day_3 24 rfl rfl
theorem dksX6_day_5 : cX6_day.data.toList.drop 117 = dktX6_day_5 := dk_seg dksX6_day_4 23 rfl rfl
theorem dksX6_day_6 : cX6_day.data.toList.drop 141 = dktX6_day_6 := dk_seg dksX6_day_5 24 rfl rfl
theorem dX6_day_0 : decode cX6_day 0 = .ok (.aload_n 0, 1) := dk_42 (dk_at dksX6_day_0 0 rfl rfl)
theorem dX6_day_1 : decode cX6_day 1 = .ok (.iconst 0, 1) := dk_3 (dk_at dksX6_day_0 1 rfl rfl)
theorem dX6_day_2 : decode cX6_day 2 = .ok (.putfield 3, 3) := dk_181 0 3 (dk_at dksX6_day_0 2 rfl rfl)
theorem dX6_day_5 : decode cX6_day 5 = .ok (.aload_n 0, 1) := dk_42 (dk_at dksX6_day_0 5 rfl rfl)
theorem dX6_day_6 : decode cX6_day 6 = .ok (.bipush 60, 2) := dk_16 60 (dk_at dksX6_day_0 6 rfl rfl)
theorem dX6_day_8 : decode cX6_day 8 = .ok (.invokevirtual 175, 3) := dk_182 0 175 (dk_at dksX6_day_0 8 rfl rfl)
theorem dX6_day_11 : decode cX6_day 11 = .ok (.istore_n 1, 1) := dk_60 (dk_at dksX6_day_0 11 rfl rfl)
theorem dX6_day_12 : decode cX6_day 12 = .ok (.aload_n 0, 1) := dk_42 (dk_at dksX6_day_0 12 rfl rfl)
theorem dX6_day_13 : decode cX6_day 13 = .ok (.iconst 0, 1) := dk_3 (dk_at dksX6_day_0 13 rfl rfl)
theorem dX6_day_14 : decode cX6_day 14 = .ok (.putfield 392, 3) := dk_181 1 136 (dk_at dksX6_day_0 14 rfl rfl)
theorem dX6_day_17 : decode cX6_day 17 = .ok (.iconst 1, 1) := dk_4 (dk_at dksX6_day_0 17 rfl rfl)
theorem dX6_day_18 : decode cX6_day 18 = .ok (.istore_n 2, 1) := dk_61 (dk_at dksX6_day_0 18 rfl rfl)
theorem dX6_day_19 : decode cX6_day 19 = .ok (.iload_n 2, 1) := dk_28 (dk_at dksX6_day_0 19 rfl rfl)
theorem dX6_day_20 : decode cX6_day 20 = .ok (.ifCond .eq 22, 3) := dk_153 0 22 (dk_at dksX6_day_0 20 rfl rfl)
theorem dX6_day_23 : decode cX6_day 23 = .ok (.aload_n 0, 1) := dk_42 (dk_at dksX6_day_0 23 rfl rfl)
theorem dX6_day_24 : decode cX6_day 24 = .ok (.getfield 139, 3) := dk_180 0 139 (dk_at dksX6_day_1 0 rfl rfl)
theorem dX6_day_27 : decode cX6_day 27 = .ok (.aload_n 0, 1) := dk_42 (dk_at dksX6_day_1 3 rfl rfl)
theorem dX6_day_28 : decode cX6_day 28 = .ok (.getfield 151, 3) := dk_180 0 151 (dk_at dksX6_day_1 4 rfl rfl)
theorem dX6_day_31 : decode cX6_day 31 = .ok (.if_icmp .ge 11, 3) := dk_162 0 11 (dk_at dksX6_day_1 7 rfl rfl)
theorem dX6_day_34 : decode cX6_day 34 = .ok (.aload_n 0, 1) := dk_42 (dk_at dksX6_day_1 10 rfl rfl)
theorem dX6_day_35 : decode cX6_day 35 = .ok (.invokevirtual 397, 3) := dk_182 1 141 (dk_at dksX6_day_1 11 rfl rfl)
theorem dX6_day_38 : decode cX6_day 38 = .ok (.istore_n 2, 1) := dk_61 (dk_at dksX6_day_1 14 rfl rfl)
theorem dX6_day_39 : decode cX6_day 39 = .ok (.goto (-20), 3) := dk_167 255 236 (dk_at dksX6_day_1 15 rfl rfl)
theorem dX6_day_42 : decode cX6_day 42 = .ok (.aload_n 0, 1) := dk_42 (dk_at dksX6_day_1 18 rfl rfl)
theorem dX6_day_43 : decode cX6_day 43 = .ok (.iload_n 1, 1) := dk_27 (dk_at dksX6_day_1 19 rfl rfl)
theorem dX6_day_44 : decode cX6_day 44 = .ok (.bipush 60, 2) := dk_16 60 (dk_at dksX6_day_1 20 rfl rfl)
theorem dX6_day_46 : decode cX6_day 46 = .ok (.iload_n 2, 1) := dk_28 (dk_at dksX6_day_1 22 rfl rfl)
theorem dX6_day_47 : decode cX6_day 47 = .ok (.invokevirtual 213, 3) := dk_182 0 213 (dk_at dksX6_day_2 0 rfl rfl)
theorem dX6_day_50 : decode cX6_day 50 = .ok (.istore_n 3, 1) := dk_62 (dk_at dksX6_day_2 3 rfl rfl)
theorem dX6_day_51 : decode cX6_day 51 = .ok (.iload_n 3, 1) := dk_29 (dk_at dksX6_day_2 4 rfl rfl)
theorem dX6_day_52 : decode cX6_day 52 = .ok (.ifCond .ge 5, 3) := dk_156 0 5 (dk_at dksX6_day_2 5 rfl rfl)
theorem dX6_day_55 : decode cX6_day 55 = .ok (.iload_n 3, 1) := dk_29 (dk_at dksX6_day_2 8 rfl rfl)
theorem dX6_day_56 : decode cX6_day 56 = .ok (.ireturn, 1) := dk_172 (dk_at dksX6_day_2 9 rfl rfl)
theorem dX6_day_57 : decode cX6_day 57 = .ok (.aload_n 0, 1) := dk_42 (dk_at dksX6_day_2 10 rfl rfl)
theorem dX6_day_58 : decode cX6_day 58 = .ok (.invokevirtual 363, 3) := dk_182 1 107 (dk_at dksX6_day_2 11 rfl rfl)
theorem dX6_day_61 : decode cX6_day 61 = .ok (.iconst 0, 1) := dk_3 (dk_at dksX6_day_2 14 rfl rfl)
theorem dX6_day_62 : decode cX6_day 62 = .ok (.istore 4, 2) := dk_54 4 (dk_at dksX6_day_2 15 rfl rfl)
theorem dX6_day_64 : decode cX6_day 64 = .ok (.iload 4, 2) := dk_21 4 (dk_at dksX6_day_2 17 rfl rfl)
theorem dX6_day_66 : decode cX6_day 66 = .ok (.aload_n 0, 1) := dk_42 (dk_at dksX6_day_2 19 rfl rfl)
theorem dX6_day_67 : decode cX6_day 67 = .ok (.getfield 392, 3) := dk_180 1 136 (dk_at dksX6_day_2 20 rfl rfl)
theorem dX6_day_70 : decode cX6_day 70 = .ok (.if_icmp .ge 18, 3) := dk_162 0 18 (dk_at dksX6_day_3 0 rfl rfl)
theorem dX6_day_73 : decode cX6_day 73 = .ok (.aload_n 0, 1) := dk_42 (dk_at dksX6_day_3 3 rfl rfl)
theorem dX6_day_74 : decode cX6_day 74 = .ok (.iload 4, 2) := dk_21 4 (dk_at dksX6_day_3 4 rfl rfl)
theorem dX6_day_76 : decode cX6_day 76 = .ok (.invokevirtual 400, 3) := dk_182 1 144 (dk_at dksX6_day_3 6 rfl rfl)
theorem dX6_day_79 : decode cX6_day 79 = .ok (.ifCond .eq 9, 3) := dk_153 0 9 (dk_at dksX6_day_3 9 rfl rfl)
theorem dX6_day_82 : decode cX6_day 82 = .ok (.iinc 4 1, 3) := dk_132 4 1 (dk_at dksX6_day_3 12 rfl rfl)
theorem dX6_day_85 : decode cX6_day 85 = .ok (.goto (-21), 3) := dk_167 255 235 (dk_at dksX6_day_3 15 rfl rfl)
theorem dX6_day_88 : decode cX6_day 88 = .ok (.aload_n 0, 1) := dk_42 (dk_at dksX6_day_3 18 rfl rfl)
theorem dX6_day_89 : decode cX6_day 89 = .ok (.iconst 0, 1) := dk_3 (dk_at dksX6_day_3 19 rfl rfl)
theorem dX6_day_90 : decode cX6_day 90 = .ok (.putfield 15, 3) := dk_181 0 15 (dk_at dksX6_day_3 20 rfl rfl)
theorem dX6_day_93 : decode cX6_day 93 = .ok (.aload_n 0, 1) := dk_42 (dk_at dksX6_day_3 23 rfl rfl)
theorem dX6_day_94 : decode cX6_day 94 = .ok (.iload 4, 2) := dk_21 4 (dk_at dksX6_day_4 0 rfl rfl)
theorem dX6_day_96 : decode cX6_day 96 = .ok (.aload_n 0, 1) := dk_42 (dk_at dksX6_day_4 2 rfl rfl)
theorem dX6_day_97 : decode cX6_day 97 = .ok (.getfield 392, 3) := dk_180 1 136 (dk_at dksX6_day_4 3 rfl rfl)
theorem dX6_day_100 : decode cX6_day 100 = .ok (.if_icmp .ge 7, 3) := dk_162 0 7 (dk_at dksX6_day_4 6 rfl rfl)
theorem dX6_day_103 : decode cX6_day 103 = .ok (.iconst 1, 1) := dk_4 (dk_at dksX6_day_4 9 rfl rfl)
theorem dX6_day_104 : decode cX6_day 104 = .ok (.goto 4, 3) := dk_167 0 4 (dk_at dksX6_day_4 10 rfl rfl)
theorem dX6_day_107 : decode cX6_day 107 = .ok (.iconst 0, 1) := dk_3 (dk_at dksX6_day_4 13 rfl rfl)
theorem dX6_day_108 : decode cX6_day 108 = .ok (.invokestatic 154, 3) := dk_184 0 154 (dk_at dksX6_day_4 14 rfl rfl)
theorem dX6_day_111 : decode cX6_day 111 = .ok (.i2l, 1) := dk_133 (dk_at dksX6_day_4 17 rfl rfl)
theorem dX6_day_112 : decode cX6_day 112 = .ok (.invokevirtual 373, 3) := dk_182 1 117 (dk_at dksX6_day_4 18 rfl rfl)
theorem dX6_day_115 : decode cX6_day 115 = .ok (.aload_n 0, 1) := dk_42 (dk_at dksX6_day_4 21 rfl rfl)
theorem dX6_day_116 : decode cX6_day 116 = .ok (.aload_n 0, 1) := dk_42 (dk_at dksX6_day_4 22 rfl rfl)
theorem dX6_day_117 : decode cX6_day 117 = .ok (.getfield 41, 3) := dk_180 0 41 (dk_at dksX6_day_5 0 rfl rfl)
theorem dX6_day_120 : decode cX6_day 120 = .ok (.bipush 40, 2) := dk_16 40 (dk_at dksX6_day_5 3 rfl rfl)
theorem dX6_day_122 : decode cX6_day 122 = .ok (.iaload, 1) := dk_46 (dk_at dksX6_day_5 5 rfl rfl)
theorem dX6_day_123 : decode cX6_day 123 = .ok (.i2l, 1) := dk_133 (dk_at dksX6_day_5 6 rfl rfl)
theorem dX6_day_124 : decode cX6_day 124 = .ok (.invokevirtual 373, 3) := dk_182 1 117 (dk_at dksX6_day_5 7 rfl rfl)
theorem dX6_day_127 : decode cX6_day 127 = .ok (.iload 4, 2) := dk_21 4 (dk_at dksX6_day_5 10 rfl rfl)
theorem dX6_day_129 : decode cX6_day 129 = .ok (.ifCond .le 12, 3) := dk_158 0 12 (dk_at dksX6_day_5 12 rfl rfl)
theorem dX6_day_132 : decode cX6_day 132 = .ok (.aload_n 0, 1) := dk_42 (dk_at dksX6_day_5 15 rfl rfl)
theorem dX6_day_133 : decode cX6_day 133 = .ok (.iload 4, 2) := dk_21 4 (dk_at dksX6_day_5 16 rfl rfl)
theorem dX6_day_135 : decode cX6_day 135 = .ok (.invokevirtual 341, 3) := dk_182 1 85 (dk_at dksX6_day_5 18 rfl rfl)
theorem dX6_day_138 : decode cX6_day 138 = .ok (.goto 4, 3) := dk_167 0 4 (dk_at dksX6_day_5 21 rfl rfl)
theorem dX6_day_141 : decode cX6_day 141 = .ok (.iconst 0, 1) := dk_3 (dk_at dksX6_day_6 0 rfl rfl)
theorem dX6_day_142 : decode cX6_day 142 = .ok (.ireturn, 1) := dk_172 (dk_at dksX6_day_6 1 rfl rfl)
abbrev cX6_readsAct : ByteArray := prog_12_method_74_code
def yX6_readsAct : MethodName := ⟨RX6, "readsAct", "()Z"⟩
def dkwX6_readsAct_6 : List UInt8 := [180, 0, 83, 27, 46, 155, 0, 7, 4, 167, 0, 4, 3, 172]
abbrev dktX6_readsAct_6 : List UInt8 := dkwX6_readsAct_6 ++ []
def dkwX6_readsAct_5 : List UInt8 := [27, 46, 155, 0, 7, 4, 167, 0, 4, 3, 172, 42, 180, 0, 83, 27, 42, 4, 182, 0, 224, 79, 42]
abbrev dktX6_readsAct_5 : List UInt8 := dkwX6_readsAct_5 ++ dktX6_readsAct_6
def dkwX6_readsAct_4 : List UInt8 := [79, 42, 180, 0, 80, 27, 46, 155, 0, 13, 42, 180, 0, 74, 27, 46, 7, 162, 0, 18, 42, 180, 0, 80]
abbrev dktX6_readsAct_4 : List UInt8 := dkwX6_readsAct_4 ++ dktX6_readsAct_5
def dkwX6_readsAct_3 : List UInt8 := [180, 0, 77, 27, 46, 155, 0, 7, 4, 167, 0, 4, 3, 172, 42, 180, 0, 80, 27, 42, 4, 182, 0, 224]
abbrev dktX6_readsAct_3 : List UInt8 := dkwX6_readsAct_3 ++ dktX6_readsAct_4
def dkwX6_readsAct_2 : List UInt8 := [182, 0, 224, 79, 42, 180, 0, 77, 27, 46, 155, 0, 12, 42, 180, 0, 74, 27, 46, 154, 0, 18, 42]
abbrev dktX6_readsAct_2 : List UInt8 := dkwX6_readsAct_2 ++ dktX6_readsAct_3
def dkwX6_readsAct_1 : List UInt8 := [96, 181, 1, 136, 42, 180, 0, 74, 27, 46, 156, 0, 5, 3, 172, 42, 180, 0, 77, 27, 42, 4]
abbrev dktX6_readsAct_1 : List UInt8 := dkwX6_readsAct_1 ++ dktX6_readsAct_2
def dkwX6_readsAct_0 : List UInt8 := [42, 180, 1, 136, 60, 42, 180, 0, 74, 27, 42, 19, 1, 139, 182, 0, 184, 79, 42, 89, 180, 1, 136, 4]
abbrev dktX6_readsAct_0 : List UInt8 := dkwX6_readsAct_0 ++ dktX6_readsAct_1
theorem dksX6_readsAct_0 : cX6_readsAct.data.toList.drop 0 = dktX6_readsAct_0 := by decide +kernel
theorem dksX6_readsAct_1 : cX6_readsAct.data.toList.drop 24 = dktX6_readsAct_1 := dk_seg dksX6_readsAct_0 24 rfl rfl
theorem dksX6_readsAct_2 : cX6_readsAct.data.toList.drop 46 = dktX6_readsAct_2 := dk_seg dksX6_readsAct_1 22 rfl rfl
theorem dksX6_readsAct_3 : cX6_readsAct.data.toList.drop 69 = dktX6_readsAct_3 := dk_seg dksX6_readsAct_2 23 rfl rfl
theorem dksX6_readsAct_4 : cX6_readsAct.data.toList.drop 93 = dktX6_readsAct_4 := dk_seg dksX6_readsAct_3 24 rfl rfl
theorem dksX6_readsAct_5 : cX6_readsAct.data.toList.drop 117 = dktX6_readsAct_5 := dk_seg dksX6_readsAct_4 24 rfl rfl
theorem dksX6_readsAct_6 : cX6_readsAct.data.toList.drop 140 = dktX6_readsAct_6 := dk_seg dksX6_readsAct_5 23 rfl rfl
theorem dX6_readsAct_0 : decode cX6_readsAct 0 = .ok (.aload_n 0, 1) := dk_42 (dk_at dksX6_readsAct_0 0 rfl rfl)
theorem dX6_readsAct_1 : decode cX6_readsAct 1 = .ok (.getfield 392, 3) := dk_180 1 136 (dk_at dksX6_readsAct_0 1 rfl rfl)
theorem dX6_readsAct_4 : decode cX6_readsAct 4 = .ok (.istore_n 1, 1) := dk_60 (dk_at dksX6_readsAct_0 4 rfl rfl)
theorem dX6_readsAct_5 : decode cX6_readsAct 5 = .ok (.aload_n 0, 1) := dk_42 (dk_at dksX6_readsAct_0 5 rfl rfl)
theorem dX6_readsAct_6 : decode cX6_readsAct 6 = .ok (.getfield 74, 3) := dk_180 0 74 (dk_at dksX6_readsAct_0 6 rfl rfl)
theorem dX6_readsAct_9 : decode cX6_readsAct 9 = .ok (.iload_n 1, 1) := dk_27 (dk_at dksX6_readsAct_0 9 rfl rfl)
theorem dX6_readsAct_10 : decode cX6_readsAct 10 = .ok (.aload_n 0, 1) := dk_42 (dk_at dksX6_readsAct_0 10 rfl rfl)
theorem dX6_readsAct_11 : decode cX6_readsAct 11 = .ok (.ldc_w 395, 3) := dk_19 1 139 (dk_at dksX6_readsAct_0 11 rfl rfl)
theorem dX6_readsAct_14 : decode cX6_readsAct 14 = .ok (.invokevirtual 184, 3) := dk_182 0 184 (dk_at dksX6_readsAct_0 14 rfl rfl)
theorem dX6_readsAct_17 : decode cX6_readsAct 17 = .ok (.iastore, 1) := dk_79 (dk_at dksX6_readsAct_0 17 rfl rfl)
theorem dX6_readsAct_18 : decode cX6_readsAct 18 = .ok (.aload_n 0, 1) := dk_42 (dk_at dksX6_readsAct_0 18 rfl rfl)
theorem dX6_readsAct_19 : decode cX6_readsAct 19 = .ok (.dup, 1) := dk_89 (dk_at dksX6_readsAct_0 19 rfl rfl)
theorem dX6_readsAct_20 : decode cX6_readsAct 20 = .ok (.getfield 392, 3) := dk_180 1 136 (dk_at dksX6_readsAct_0 20 rfl rfl)
theorem dX6_readsAct_23 : decode cX6_readsAct 23 = .ok (.iconst 1, 1) := dk_4 (dk_at dksX6_readsAct_0 23 rfl rfl)
theorem dX6_readsAct_24 : decode cX6_readsAct 24 = .ok (.iadd, 1) := dk_96 (dk_at dksX6_readsAct_1 0 rfl rfl)
theorem dX6_readsAct_25 : decode cX6_readsAct 25 = .ok (.putfield 392, 3) := dk_181 1 136 (dk_at dksX6_readsAct_1 1 rfl rfl)
theorem dX6_readsAct_28 : decode cX6_readsAct 28 = .ok (.aload_n 0, 1) := dk_42 (dk_at dksX6_readsAct_1 4 rfl rfl)
theorem dX6_readsAct_29 : decode cX6_readsAct 29 = .ok (.getfield 74, 3) := dk_180 0 74 (dk_at dksX6_readsAct_1 5 rfl rfl)
theorem dX6_readsAct_32 : decode cX6_readsAct 32 = .ok (.iload_n 1, 1) := dk_27 (dk_at dksX6_readsAct_1 8 rfl rfl)
theorem dX6_readsAct_33 : decode cX6_readsAct 33 = .ok (.iaload, 1) := dk_46 (dk_at dksX6_readsAct_1 9 rfl rfl)
theorem dX6_readsAct_34 : decode cX6_readsAct 34 = .ok (.ifCond .ge 5, 3) := dk_156 0 5 (dk_at dksX6_readsAct_1 10 rfl rfl)
theorem dX6_readsAct_37 : decode cX6_readsAct 37 = .ok (.iconst 0, 1) := dk_3 (dk_at dksX6_readsAct_1 13 rfl rfl)
theorem dX6_readsAct_38 : decode cX6_readsAct 38 = .ok (.ireturn, 1) := dk_172 (dk_at dksX6_readsAct_1 14 rfl rfl)
theorem dX6_readsAct_39 : decode cX6_readsAct 39 = .ok (.aload_n 0, 1) := dk_42 (dk_at dksX6_readsAct_1 15 rfl rfl)
theorem dX6_readsAct_40 : decode cX6_readsAct 40 = .ok (.getfield 77, 3) := dk_180 0 77 (dk_at dksX6_readsAct_1 16 rfl rfl)
theorem dX6_readsAct_43 : decode cX6_readsAct 43 = .ok (.iload_n 1, 1) := dk_27 (dk_at dksX6_readsAct_1 19 rfl rfl)
theorem dX6_readsAct_44 : decode cX6_readsAct 44 = .ok (.aload_n 0, 1) := dk_42 (dk_at dksX6_readsAct_1 20 rfl rfl)
theorem dX6_readsAct_45 : decode cX6_readsAct 45 = .ok (.iconst 1, 1) := dk_4 (dk_at dksX6_readsAct_1 21 rfl rfl)
theorem dX6_readsAct_46 : decode cX6_readsAct 46 = .ok (.invokevirtual 224, 3) := dk_182 0 224 (dk_at dksX6_readsAct_2 0 rfl rfl)
theorem dX6_readsAct_49 : decode cX6_readsAct 49 = .ok (.iastore, 1) := dk_79 (dk_at dksX6_readsAct_2 3 rfl rfl)
theorem dX6_readsAct_50 : decode cX6_readsAct 50 = .ok (.aload_n 0, 1) := dk_42 (dk_at dksX6_readsAct_2 4 rfl rfl)
theorem dX6_readsAct_51 : decode cX6_readsAct 51 = .ok (.getfield 77, 3) := dk_180 0 77 (dk_at dksX6_readsAct_2 5 rfl rfl)
theorem dX6_readsAct_54 : decode cX6_readsAct 54 = .ok (.iload_n 1, 1) := dk_27 (dk_at dksX6_readsAct_2 8 rfl rfl)
theorem dX6_readsAct_55 : decode cX6_readsAct 55 = .ok (.iaload, 1) := dk_46 (dk_at dksX6_readsAct_2 9 rfl rfl)
theorem dX6_readsAct_56 : decode cX6_readsAct 56 = .ok (.ifCond .lt 12, 3) := dk_155 0 12 (dk_at dksX6_readsAct_2 10 rfl rfl)
theorem dX6_readsAct_59 : decode cX6_readsAct 59 = .ok (.aload_n 0, 1) := dk_42 (dk_at dksX6_readsAct_2 13 rfl rfl)
theorem dX6_readsAct_60 : decode cX6_readsAct 60 = .ok (.getfield 74, 3) := dk_180 0 74 (dk_at dksX6_readsAct_2 14 rfl rfl)
theorem dX6_readsAct_63 : decode cX6_readsAct 63 = .ok (.iload_n 1, 1) := dk_27 (dk_at dksX6_readsAct_2 17 rfl rfl)
theorem dX6_readsAct_64 : decode cX6_readsAct 64 = .ok (.iaload, 1) := dk_46 (dk_at dksX6_readsAct_2 18 rfl rfl)
theorem dX6_readsAct_65 : decode cX6_readsAct 65 = .ok (.ifCond .ne 18, 3) := dk_154 0 18 (dk_at dksX6_readsAct_2 19 rfl rfl)
theorem dX6_readsAct_68 : decode cX6_readsAct 68 = .ok (.aload_n 0, 1) := dk_42 (dk_at dksX6_readsAct_2 22 rfl rfl)
theorem dX6_readsAct_69 : decode cX6_readsAct 69 = .ok (.getfield 77, 3) := dk_180 0 77 (dk_at dksX6_readsAct_3 0 rfl rfl)
theorem dX6_readsAct_72 : decode cX6_readsAct 72 = .ok (.iload_n 1, 1) := dk_27 (dk_at dksX6_readsAct_3 3 rfl rfl)
theorem dX6_readsAct_73 : decode cX6_readsAct 73 = .ok (.iaload, 1) := dk_46 (dk_at dksX6_readsAct_3 4 rfl rfl)
theorem dX6_readsAct_74 : decode cX6_readsAct 74 = .ok (.ifCond .lt 7, 3) := dk_155 0 7 (dk_at dksX6_readsAct_3 5 rfl rfl)
theorem dX6_readsAct_77 : decode cX6_readsAct 77 = .ok (.iconst 1, 1) := dk_4 (dk_at dksX6_readsAct_3 8 rfl rfl)
theorem dX6_readsAct_78 : decode cX6_readsAct 78 = .ok (.goto 4, 3) := dk_167 0 4 (dk_at dksX6_readsAct_3 9 rfl rfl)
theorem dX6_readsAct_81 : decode cX6_readsAct 81 = .ok (.iconst 0, 1) := dk_3 (dk_at dksX6_readsAct_3 12 rfl rfl)
theorem dX6_readsAct_82 : decode cX6_readsAct 82 = .ok (.ireturn, 1) := dk_172 (dk_at dksX6_readsAct_3 13 rfl rfl)
theorem dX6_readsAct_83 : decode cX6_readsAct 83 = .ok (.aload_n 0, 1) := dk_42 (dk_at dksX6_readsAct_3 14 rfl rfl)
theorem dX6_readsAct_84 : decode cX6_readsAct 84 = .ok (.getfield 80, 3) := dk_180 0 80 (dk_at dksX6_readsAct_3 15 rfl rfl)
theorem dX6_readsAct_87 : decode cX6_readsAct 87 = .ok (.iload_n 1, 1) := dk_27 (dk_at dksX6_readsAct_3 18 rfl rfl)
theorem dX6_readsAct_88 : decode cX6_readsAct 88 = .ok (.aload_n 0, 1) := dk_42 (dk_at dksX6_readsAct_3 19 rfl rfl)
theorem dX6_readsAct_89 : decode cX6_readsAct 89 = .ok (.iconst 1, 1) := dk_4 (dk_at dksX6_readsAct_3 20 rfl rfl)
theorem dX6_readsAct_90 : decode cX6_readsAct 90 = .ok (.invokevirtual 224, 3) := dk_182 0 224 (dk_at dksX6_readsAct_3 21 rfl rfl)
theorem dX6_readsAct_93 : decode cX6_readsAct 93 = .ok (.iastore, 1) := dk_79 (dk_at dksX6_readsAct_4 0 rfl rfl)
theorem dX6_readsAct_94 : decode cX6_readsAct 94 = .ok (.aload_n 0, 1) := dk_42 (dk_at dksX6_readsAct_4 1 rfl rfl)
theorem dX6_readsAct_95 : decode cX6_readsAct 95 = .ok (.getfield 80, 3) := dk_180 0 80 (dk_at dksX6_readsAct_4 2 rfl rfl)
theorem dX6_readsAct_98 : decode cX6_readsAct 98 = .ok (.iload_n 1, 1) := dk_27 (dk_at dksX6_readsAct_4 5 rfl rfl)
theorem dX6_readsAct_99 : decode cX6_readsAct 99 = .ok (.iaload, 1) := dk_46 (dk_at dksX6_readsAct_4 6 rfl rfl)
theorem dX6_readsAct_100 : decode cX6_readsAct 100 = .ok (.ifCond .lt 13, 3) := dk_155 0 13 (dk_at dksX6_readsAct_4 7 rfl rfl)
theorem dX6_readsAct_103 : decode cX6_readsAct 103 = .ok (.aload_n 0, 1) := dk_42 (dk_at dksX6_readsAct_4 10 rfl rfl)
theorem dX6_readsAct_104 : decode cX6_readsAct 104 = .ok (.getfield 74, 3) := dk_180 0 74 (dk_at dksX6_readsAct_4 11 rfl rfl)
theorem dX6_readsAct_107 : decode cX6_readsAct 107 = .ok (.iload_n 1, 1) := dk_27 (dk_at dksX6_readsAct_4 14 rfl rfl)
theorem dX6_readsAct_108 : decode cX6_readsAct 108 = .ok (.iaload, 1) := dk_46 (dk_at dksX6_readsAct_4 15 rfl rfl)
theorem dX6_readsAct_109 : decode cX6_readsAct 109 = .ok (.iconst 4, 1) := dk_7 (dk_at dksX6_readsAct_4 16 rfl rfl)
theorem dX6_readsAct_110 : decode cX6_readsAct 110 = .ok (.if_icmp .ge 18, 3) := dk_162 0 18 (dk_at dksX6_readsAct_4 17 rfl rfl)
theorem dX6_readsAct_113 : decode cX6_readsAct 113 = .ok (.aload_n 0, 1) := dk_42 (dk_at dksX6_readsAct_4 20 rfl rfl)
theorem dX6_readsAct_114 : decode cX6_readsAct 114 = .ok (.getfield 80, 3) := dk_180 0 80 (dk_at dksX6_readsAct_4 21 rfl rfl)
theorem dX6_readsAct_117 : decode cX6_readsAct 117 = .ok (.iload_n 1, 1) := dk_27 (dk_at dksX6_readsAct_5 0 rfl rfl)
theorem dX6_readsAct_118 : decode cX6_readsAct 118 = .ok (.iaload, 1) := dk_46 (dk_at dksX6_readsAct_5 1 rfl rfl)
theorem dX6_readsAct_119 : decode cX6_readsAct 119 = .ok (.ifCond .lt 7, 3) := dk_155 0 7 (dk_at dksX6_readsAct_5 2 rfl rfl)
theorem dX6_readsAct_122 : decode cX6_readsAct 122 = .ok (.iconst 1, 1) := dk_4 (dk_at dksX6_readsAct_5 5 rfl rfl)
theorem dX6_readsAct_123 : decode cX6_readsAct 123 = .ok (.goto 4, 3) := dk_167 0 4 (dk_at dksX6_readsAct_5 6 rfl rfl)
theorem dX6_readsAct_126 : decode cX6_readsAct 126 = .ok (.iconst 0, 1) := dk_3 (dk_at dksX6_readsAct_5 9 rfl rfl)
theorem dX6_readsAct_127 : decode cX6_readsAct 127 = .ok (.ireturn, 1) := dk_172 (dk_at dksX6_readsAct_5 10 rfl rfl)
theorem dX6_readsAct_128 : decode cX6_readsAct 128 = .ok (.aload_n 0, 1) := dk_42 (dk_at dksX6_readsAct_5 11 rfl rfl)
theorem dX6_readsAct_129 : decode cX6_readsAct 129 = .ok (.getfield 83, 3) := dk_180 0 83 (dk_at dksX6_readsAct_5 12 rfl rfl)
theorem dX6_readsAct_132 : decode cX6_readsAct 132 = .ok (.iload_n 1, 1) := dk_27 (dk_at dksX6_readsAct_5 15 rfl rfl)
theorem dX6_readsAct_133 : decode cX6_readsAct 133 = .ok (.aload_n 0, 1) := dk_42 (dk_at dksX6_readsAct_5 16 rfl rfl)
theorem dX6_readsAct_134 : decode cX6_readsAct 134 = .ok (.iconst 1, 1) := dk_4 (dk_at dksX6_readsAct_5 17 rfl rfl)
theorem dX6_readsAct_135 : decode cX6_readsAct 135 = .ok (.invokevirtual 224, 3) := dk_182 0 224 (dk_at dksX6_readsAct_5 18 rfl rfl)
theorem dX6_readsAct_138 : decode cX6_readsAct 138 = .ok (.iastore, 1) := dk_79 (dk_at dksX6_readsAct_5 21 rfl rfl)
theorem dX6_readsAct_139 : decode cX6_readsAct 139 = .ok (.aload_n 0, 1) := dk_42 (dk_at dksX6_readsAct_5 22 rfl rfl)
theorem dX6_readsAct_140 : decode cX6_readsAct 140 = .ok (.getfield 83, 3) := dk_180 0 83 (dk_at dksX6_readsAct_6 0 rfl rfl)
theorem dX6_readsAct_143 : decode cX6_readsAct 143 = .ok (.iload_n 1, 1) := dk_27 (dk_at dksX6_readsAct_6 3 rfl rfl)
theorem dX6_readsAct_144 : decode cX6_readsAct 144 = .ok (.iaload, 1) := dk_46 (dk_at dksX6_readsAct_6 4 rfl rfl)
theorem dX6_readsAct_145 : decode cX6_readsAct 145 = .ok (.ifCond .lt 7, 3) := dk_155 0 7 (dk_at dksX6_readsAct_6 5 rfl rfl)
theorem dX6_readsAct_148 : decode cX6_readsAct 148 = .ok (.iconst 1, 1) := dk_4 (dk_at dksX6_readsAct_6 8 rfl rfl)
theorem dX6_readsAct_149 : decode cX6_readsAct 149 = .ok (.goto 4, 3) := dk_167 0 4 (dk_at dksX6_readsAct_6 9 rfl rfl)
theorem dX6_readsAct_152 : decode cX6_readsAct 152 = .ok (.iconst 0, 1) := dk_3 (dk_at dksX6_readsAct_6 12 rfl rfl)
theorem dX6_readsAct_153 : decode cX6_readsAct 153 = .ok (.ireturn, 1) := dk_172 (dk_at dksX6_readsAct_6 13 rfl rfl)
abbrev cX6_does : ByteArray := prog_12_method_75_code
def yX6_does : MethodName := ⟨RX6, "does", "(I)Z"⟩
def dkwX6_does_8 : List UInt8 := [4, 167, 0, 4, 3, 172]
abbrev dktX6_does_8 : List UInt8 := dkwX6_does_8 ++ []
def dkwX6_does_7 : List UInt8 := [42, 180, 0, 27, 42, 180, 0, 80, 27, 46, 104, 42, 180, 0, 83, 27, 46, 96, 182, 1, 133, 155, 0, 7]
abbrev dktX6_does_7 : List UInt8 := dkwX6_does_7 ++ dktX6_does_8
def dkwX6_does_6 : List UInt8 := [180, 0, 83, 27, 46, 42, 180, 0, 27, 162, 0, 7, 4, 167, 0, 4, 3, 62, 29, 153, 0, 33, 42, 28]
abbrev dktX6_does_6 : List UInt8 := dkwX6_does_6 ++ dktX6_does_7
def dkwX6_does_5 : List UInt8 := [155, 0, 7, 4, 167, 0, 4, 3, 172, 42, 180, 0, 80, 27, 46, 42, 180, 0, 24, 162, 0, 20, 42]
abbrev dktX6_does_5 : List UInt8 := dkwX6_does_5 ++ dktX6_does_6
def dkwX6_does_4 : List UInt8 := [182, 1, 127, 155, 0, 7, 4, 167, 0, 4, 3, 172, 42, 28, 42, 180, 0, 80, 27, 46, 182, 1, 130]
abbrev dktX6_does_4 : List UInt8 := dkwX6_does_4 ++ dktX6_does_5
def dkwX6_does_3 : List UInt8 := [182, 1, 121, 155, 0, 7, 4, 167, 0, 4, 3, 172, 42, 42, 180, 0, 41, 28, 42, 180, 0, 80, 27, 46]
abbrev dktX6_does_3 : List UInt8 := dkwX6_does_3 ++ dktX6_does_4
def dkwX6_does_2 : List UInt8 := [42, 42, 180, 0, 41, 28, 182, 1, 114, 4, 172, 42, 42, 180, 0, 41, 28, 42, 180, 0, 80, 27, 46]
abbrev dktX6_does_2 : List UInt8 := dkwX6_does_2 ++ dktX6_does_3
def dkwX6_does_1 : List UInt8 := [170, 0, 0, 0, 0, 0, 110, 0, 0, 0, 0, 0, 0, 0, 3, 0, 0, 0, 31, 0, 0, 0, 42, 0, 0, 0, 66, 0, 0, 0, 90]
abbrev dktX6_does_1 : List UInt8 := dkwX6_does_1 ++ dktX6_does_2
def dkwX6_does_0 : List UInt8 := [42, 180, 0, 77, 27, 46, 61, 42, 180, 0, 74, 27, 46]
abbrev dktX6_does_0 : List UInt8 := dkwX6_does_0 ++ dktX6_does_1
theorem dksX6_does_0 : cX6_does.data.toList.drop 0 = dktX6_does_0 := by decide +kernel
theorem dksX6_does_1 : cX6_does.data.toList.drop 13 = dktX6_does_1 := dk_seg dksX6_does_0 13 rfl rfl
theorem dksX6_does_2 : cX6_does.data.toList.drop 44 = dktX6_does_2 := dk_seg dksX6_does_1 31 rfl rfl
theorem dksX6_does_3 : cX6_does.data.toList.drop 67 = dktX6_does_3 := dk_seg dksX6_does_2 23 rfl rfl
theorem dksX6_does_4 : cX6_does.data.toList.drop 91 = dktX6_does_4 := dk_seg dksX6_does_3 24 rfl rfl
theorem dksX6_does_5 : cX6_does.data.toList.drop 114 = dktX6_does_5 := dk_seg dksX6_does_4 23 rfl rfl
theorem dksX6_does_6 : cX6_does.data.toList.drop 137 = dktX6_does_6 := dk_seg dksX6_does_5 23 rfl rfl
theorem dksX6_does_7 : cX6_does.data.toList.drop 161 = dktX6_does_7 := dk_seg dksX6_does_6 24 rfl rfl
theorem dksX6_does_8 : cX6_does.data.toList.drop 185 = dktX6_does_8 := dk_seg dksX6_does_7 24 rfl rfl
theorem dX6_does_0 : decode cX6_does 0 = .ok (.aload_n 0, 1) := dk_42 (dk_at dksX6_does_0 0 rfl rfl)
theorem dX6_does_1 : decode cX6_does 1 = .ok (.getfield 77, 3) := dk_180 0 77 (dk_at dksX6_does_0 1 rfl rfl)
theorem dX6_does_4 : decode cX6_does 4 = .ok (.iload_n 1, 1) := dk_27 (dk_at dksX6_does_0 4 rfl rfl)
theorem dX6_does_5 : decode cX6_does 5 = .ok (.iaload, 1) := dk_46 (dk_at dksX6_does_0 5 rfl rfl)
theorem dX6_does_6 : decode cX6_does 6 = .ok (.istore_n 2, 1) := dk_61 (dk_at dksX6_does_0 6 rfl rfl)
theorem dX6_does_7 : decode cX6_does 7 = .ok (.aload_n 0, 1) := dk_42 (dk_at dksX6_does_0 7 rfl rfl)
theorem dX6_does_8 : decode cX6_does 8 = .ok (.getfield 74, 3) := dk_180 0 74 (dk_at dksX6_does_0 8 rfl rfl)
theorem dX6_does_11 : decode cX6_does 11 = .ok (.iload_n 1, 1) := dk_27 (dk_at dksX6_does_0 11 rfl rfl)
theorem dX6_does_12 : decode cX6_does 12 = .ok (.iaload, 1) := dk_46 (dk_at dksX6_does_0 12 rfl rfl)
theorem dX6_does_13 : decode cX6_does 13 = .ok (.tableswitch 110 0 3 #[31, 42, 66, 90], 31) := by decide +kernel
theorem dX6_does_44 : decode cX6_does 44 = .ok (.aload_n 0, 1) := dk_42 (dk_at dksX6_does_2 0 rfl rfl)
theorem dX6_does_45 : decode cX6_does 45 = .ok (.aload_n 0, 1) := dk_42 (dk_at dksX6_does_2 1 rfl rfl)
theorem dX6_does_46 : decode cX6_does 46 = .ok (.getfield 41, 3) := dk_180 0 41 (dk_at dksX6_does_2 2 rfl rfl)
theorem dX6_does_49 : decode cX6_does 49 = .ok (.iload_n 2, 1) := dk_28 (dk_at dksX6_does_2 5 rfl rfl)
theorem dX6_does_50 : decode cX6_does 50 = .ok (.invokevirtual 370, 3) := dk_182 1 114 (dk_at dksX6_does_2 6 rfl rfl)
theorem dX6_does_53 : decode cX6_does 53 = .ok (.iconst 1, 1) := dk_4 (dk_at dksX6_does_2 9 rfl rfl)
theorem dX6_does_54 : decode cX6_does 54 = .ok (.ireturn, 1) := dk_172 (dk_at dksX6_does_2 10 rfl rfl)
theorem dX6_does_55 : decode cX6_does 55 = .ok (.aload_n 0, 1) := dk_42 (dk_at dksX6_does_2 11 rfl rfl)
theorem dX6_does_56 : decode cX6_does 56 = .ok (.aload_n 0, 1) := dk_42 (dk_at dksX6_does_2 12 rfl rfl)
theorem dX6_does_57 : decode cX6_does 57 = .ok (.getfield 41, 3) := dk_180 0 41 (dk_at dksX6_does_2 13 rfl rfl)
theorem dX6_does_60 : decode cX6_does 60 = .ok (.iload_n 2, 1) := dk_28 (dk_at dksX6_does_2 16 rfl rfl)
theorem dX6_does_61 : decode cX6_does 61 = .ok (.aload_n 0, 1) := dk_42 (dk_at dksX6_does_2 17 rfl rfl)
theorem dX6_does_62 : decode cX6_does 62 = .ok (.getfield 80, 3) := dk_180 0 80 (dk_at dksX6_does_2 18 rfl rfl)
theorem dX6_does_65 : decode cX6_does 65 = .ok (.iload_n 1, 1) := dk_27 (dk_at dksX6_does_2 21 rfl rfl)
theorem dX6_does_66 : decode cX6_does 66 = .ok (.iaload, 1) := dk_46 (dk_at dksX6_does_2 22 rfl rfl)
theorem dX6_does_67 : decode cX6_does 67 = .ok (.invokevirtual 377, 3) := dk_182 1 121 (dk_at dksX6_does_3 0 rfl rfl)
theorem dX6_does_70 : decode cX6_does 70 = .ok (.ifCond .lt 7, 3) := dk_155 0 7 (dk_at dksX6_does_3 3 rfl rfl)
theorem dX6_does_73 : decode cX6_does 73 = .ok (.iconst 1, 1) := dk_4 (dk_at dksX6_does_3 6 rfl rfl)
theorem dX6_does_74 : decode cX6_does 74 = .ok (.goto 4, 3) := dk_167 0 4 (dk_at dksX6_does_3 7 rfl rfl)
theorem dX6_does_77 : decode cX6_does 77 = .ok (.iconst 0, 1) := dk_3 (dk_at dksX6_does_3 10 rfl rfl)
theorem dX6_does_78 : decode cX6_does 78 = .ok (.ireturn, 1) := dk_172 (dk_at dksX6_does_3 11 rfl rfl)
theorem dX6_does_79 : decode cX6_does 79 = .ok (.aload_n 0, 1) := dk_42 (dk_at dksX6_does_3 12 rfl rfl)
theorem dX6_does_80 : decode cX6_does 80 = .ok (.aload_n 0, 1) := dk_42 (dk_at dksX6_does_3 13 rfl rfl)
theorem dX6_does_81 : decode cX6_does 81 = .ok (.getfield 41, 3) := dk_180 0 41 (dk_at dksX6_does_3 14 rfl rfl)
theorem dX6_does_84 : decode cX6_does 84 = .ok (.iload_n 2, 1) := dk_28 (dk_at dksX6_does_3 17 rfl rfl)
theorem dX6_does_85 : decode cX6_does 85 = .ok (.aload_n 0, 1) := dk_42 (dk_at dksX6_does_3 18 rfl rfl)
theorem dX6_does_86 : decode cX6_does 86 = .ok (.getfield 80, 3) := dk_180 0 80 (dk_at dksX6_does_3 19 rfl rfl)
theorem dX6_does_89 : decode cX6_does 89 = .ok (.iload_n 1, 1) := dk_27 (dk_at dksX6_does_3 22 rfl rfl)
theorem dX6_does_90 : decode cX6_does 90 = .ok (.iaload, 1) := dk_46 (dk_at dksX6_does_3 23 rfl rfl)
theorem dX6_does_91 : decode cX6_does 91 = .ok (.invokevirtual 383, 3) := dk_182 1 127 (dk_at dksX6_does_4 0 rfl rfl)
theorem dX6_does_94 : decode cX6_does 94 = .ok (.ifCond .lt 7, 3) := dk_155 0 7 (dk_at dksX6_does_4 3 rfl rfl)
theorem dX6_does_97 : decode cX6_does 97 = .ok (.iconst 1, 1) := dk_4 (dk_at dksX6_does_4 6 rfl rfl)
theorem dX6_does_98 : decode cX6_does 98 = .ok (.goto 4, 3) := dk_167 0 4 (dk_at dksX6_does_4 7 rfl rfl)
theorem dX6_does_101 : decode cX6_does 101 = .ok (.iconst 0, 1) := dk_3 (dk_at dksX6_does_4 10 rfl rfl)
theorem dX6_does_102 : decode cX6_does 102 = .ok (.ireturn, 1) := dk_172 (dk_at dksX6_does_4 11 rfl rfl)
theorem dX6_does_103 : decode cX6_does 103 = .ok (.aload_n 0, 1) := dk_42 (dk_at dksX6_does_4 12 rfl rfl)
theorem dX6_does_104 : decode cX6_does 104 = .ok (.iload_n 2, 1) := dk_28 (dk_at dksX6_does_4 13 rfl rfl)
theorem dX6_does_105 : decode cX6_does 105 = .ok (.aload_n 0, 1) := dk_42 (dk_at dksX6_does_4 14 rfl rfl)
theorem dX6_does_106 : decode cX6_does 106 = .ok (.getfield 80, 3) := dk_180 0 80 (dk_at dksX6_does_4 15 rfl rfl)
theorem dX6_does_109 : decode cX6_does 109 = .ok (.iload_n 1, 1) := dk_27 (dk_at dksX6_does_4 18 rfl rfl)
theorem dX6_does_110 : decode cX6_does 110 = .ok (.iaload, 1) := dk_46 (dk_at dksX6_does_4 19 rfl rfl)
theorem dX6_does_111 : decode cX6_does 111 = .ok (.invokevirtual 386, 3) := dk_182 1 130 (dk_at dksX6_does_4 20 rfl rfl)
theorem dX6_does_114 : decode cX6_does 114 = .ok (.ifCond .lt 7, 3) := dk_155 0 7 (dk_at dksX6_does_5 0 rfl rfl)
theorem dX6_does_117 : decode cX6_does 117 = .ok (.iconst 1, 1) := dk_4 (dk_at dksX6_does_5 3 rfl rfl)
theorem dX6_does_118 : decode cX6_does 118 = .ok (.goto 4, 3) := dk_167 0 4 (dk_at dksX6_does_5 4 rfl rfl)
theorem dX6_does_121 : decode cX6_does 121 = .ok (.iconst 0, 1) := dk_3 (dk_at dksX6_does_5 7 rfl rfl)
theorem dX6_does_122 : decode cX6_does 122 = .ok (.ireturn, 1) := dk_172 (dk_at dksX6_does_5 8 rfl rfl)
theorem dX6_does_123 : decode cX6_does 123 = .ok (.aload_n 0, 1) := dk_42 (dk_at dksX6_does_5 9 rfl rfl)
theorem dX6_does_124 : decode cX6_does 124 = .ok (.getfield 80, 3) := dk_180 0 80 (dk_at dksX6_does_5 10 rfl rfl)
theorem dX6_does_127 : decode cX6_does 127 = .ok (.iload_n 1, 1) := dk_27 (dk_at dksX6_does_5 13 rfl rfl)
theorem dX6_does_128 : decode cX6_does 128 = .ok (.iaload, 1) := dk_46 (dk_at dksX6_does_5 14 rfl rfl)
theorem dX6_does_129 : decode cX6_does 129 = .ok (.aload_n 0, 1) := dk_42 (dk_at dksX6_does_5 15 rfl rfl)
theorem dX6_does_130 : decode cX6_does 130 = .ok (.getfield 24, 3) := dk_180 0 24 (dk_at dksX6_does_5 16 rfl rfl)
theorem dX6_does_133 : decode cX6_does 133 = .ok (.if_icmp .ge 20, 3) := dk_162 0 20 (dk_at dksX6_does_5 19 rfl rfl)
theorem dX6_does_136 : decode cX6_does 136 = .ok (.aload_n 0, 1) := dk_42 (dk_at dksX6_does_5 22 rfl rfl)
theorem dX6_does_137 : decode cX6_does 137 = .ok (.getfield 83, 3) := dk_180 0 83 (dk_at dksX6_does_6 0 rfl rfl)
theorem dX6_does_140 : decode cX6_does 140 = .ok (.iload_n 1, 1) := dk_27 (dk_at dksX6_does_6 3 rfl rfl)
theorem dX6_does_141 : decode cX6_does 141 = .ok (.iaload, 1) := dk_46 (dk_at dksX6_does_6 4 rfl rfl)
theorem dX6_does_142 : decode cX6_does 142 = .ok (.aload_n 0, 1) := dk_42 (dk_at dksX6_does_6 5 rfl rfl)
theorem dX6_does_143 : decode cX6_does 143 = .ok (.getfield 27, 3) := dk_180 0 27 (dk_at dksX6_does_6 6 rfl rfl)
theorem dX6_does_146 : decode cX6_does 146 = .ok (.if_icmp .ge 7, 3) := dk_162 0 7 (dk_at dksX6_does_6 9 rfl rfl)
theorem dX6_does_149 : decode cX6_does 149 = .ok (.iconst 1, 1) := dk_4 (dk_at dksX6_does_6 12 rfl rfl)
theorem dX6_does_150 : decode cX6_does 150 = .ok (.goto 4, 3) := dk_167 0 4 (dk_at dksX6_does_6 13 rfl rfl)
theorem dX6_does_153 : decode cX6_does 153 = .ok (.iconst 0, 1) := dk_3 (dk_at dksX6_does_6 16 rfl rfl)
theorem dX6_does_154 : decode cX6_does 154 = .ok (.istore_n 3, 1) := dk_62 (dk_at dksX6_does_6 17 rfl rfl)
theorem dX6_does_155 : decode cX6_does 155 = .ok (.iload_n 3, 1) := dk_29 (dk_at dksX6_does_6 18 rfl rfl)
theorem dX6_does_156 : decode cX6_does 156 = .ok (.ifCond .eq 33, 3) := dk_153 0 33 (dk_at dksX6_does_6 19 rfl rfl)
theorem dX6_does_159 : decode cX6_does 159 = .ok (.aload_n 0, 1) := dk_42 (dk_at dksX6_does_6 22 rfl rfl)
theorem dX6_does_160 : decode cX6_does 160 = .ok (.iload_n 2, 1) := dk_28 (dk_at dksX6_does_6 23 rfl rfl)
theorem dX6_does_161 : decode cX6_does 161 = .ok (.aload_n 0, 1) := dk_42 (dk_at dksX6_does_7 0 rfl rfl)
theorem dX6_does_162 : decode cX6_does 162 = .ok (.getfield 27, 3) := dk_180 0 27 (dk_at dksX6_does_7 1 rfl rfl)
theorem dX6_does_165 : decode cX6_does 165 = .ok (.aload_n 0, 1) := dk_42 (dk_at dksX6_does_7 4 rfl rfl)
theorem dX6_does_166 : decode cX6_does 166 = .ok (.getfield 80, 3) := dk_180 0 80 (dk_at dksX6_does_7 5 rfl rfl)
theorem dX6_does_169 : decode cX6_does 169 = .ok (.iload_n 1, 1) := dk_27 (dk_at dksX6_does_7 8 rfl rfl)
theorem dX6_does_170 : decode cX6_does 170 = .ok (.iaload, 1) := dk_46 (dk_at dksX6_does_7 9 rfl rfl)
theorem dX6_does_171 : decode cX6_does 171 = .ok (.imul, 1) := dk_104 (dk_at dksX6_does_7 10 rfl rfl)
theorem dX6_does_172 : decode cX6_does 172 = .ok (.aload_n 0, 1) := dk_42 (dk_at dksX6_does_7 11 rfl rfl)
theorem dX6_does_173 : decode cX6_does 173 = .ok (.getfield 83, 3) := dk_180 0 83 (dk_at dksX6_does_7 12 rfl rfl)
theorem dX6_does_176 : decode cX6_does 176 = .ok (.iload_n 1, 1) := dk_27 (dk_at dksX6_does_7 15 rfl rfl)
theorem dX6_does_177 : decode cX6_does 177 = .ok (.iaload, 1) := dk_46 (dk_at dksX6_does_7 16 rfl rfl)
theorem dX6_does_178 : decode cX6_does 178 = .ok (.iadd, 1) := dk_96 (dk_at dksX6_does_7 17 rfl rfl)
theorem dX6_does_179 : decode cX6_does 179 = .ok (.invokevirtual 389, 3) := dk_182 1 133 (dk_at dksX6_does_7 18 rfl rfl)
theorem dX6_does_182 : decode cX6_does 182 = .ok (.ifCond .lt 7, 3) := dk_155 0 7 (dk_at dksX6_does_7 21 rfl rfl)
theorem dX6_does_185 : decode cX6_does 185 = .ok (.iconst 1, 1) := dk_4 (dk_at dksX6_does_8 0 rfl rfl)
theorem dX6_does_186 : decode cX6_does 186 = .ok (.goto 4, 3) := dk_167 0 4 (dk_at dksX6_does_8 1 rfl rfl)
theorem dX6_does_189 : decode cX6_does 189 = .ok (.iconst 0, 1) := dk_3 (dk_at dksX6_does_8 4 rfl rfl)
theorem dX6_does_190 : decode cX6_does 190 = .ok (.ireturn, 1) := dk_172 (dk_at dksX6_does_8 5 rfl rfl)
abbrev cX6_sees : ByteArray := prog_12_method_78_code
def yX6_sees : MethodName := ⟨RX6, "sees", "(I)J"⟩
def dkwX6_sees_2 : List UInt8 := [32, 182, 1, 154, 4, 27, 120, 2, 130, 126, 133, 182, 1, 117, 32, 173]
abbrev dktX6_sees_2 : List UInt8 := dkwX6_sees_2 ++ []
def dkwX6_sees_1 : List UInt8 := [182, 1, 44, 65, 42, 3, 181, 0, 15, 42, 32, 184, 1, 149, 133, 182, 1, 117, 42, 42, 42, 180, 0, 41]
abbrev dktX6_sees_1 : List UInt8 := dkwX6_sees_1 ++ dktX6_sees_2
def dkwX6_sees_0 : List UInt8 := [42, 3, 181, 0, 3, 42, 27, 182, 1, 59, 154, 0, 7, 20, 1, 147, 173, 42, 42, 180, 0, 41, 27]
abbrev dktX6_sees_0 : List UInt8 := dkwX6_sees_0 ++ dktX6_sees_1
theorem dksX6_sees_0 : cX6_sees.data.toList.drop 0 = dktX6_sees_0 := by decide +kernel
theorem dksX6_sees_1 : cX6_sees.data.toList.drop 23 = dktX6_sees_1 := dk_seg dksX6_sees_0 23 rfl rfl
theorem dksX6_sees_2 : cX6_sees.data.toList.drop 47 = dktX6_sees_2 := dk_seg dksX6_sees_1 24 rfl rfl
theorem dX6_sees_0 : decode cX6_sees 0 = .ok (.aload_n 0, 1) := dk_42 (dk_at dksX6_sees_0 0 rfl rfl)
theorem dX6_sees_1 : decode cX6_sees 1 = .ok (.iconst 0, 1) := dk_3 (dk_at dksX6_sees_0 1 rfl rfl)
theorem dX6_sees_2 : decode cX6_sees 2 = .ok (.putfield 3, 3) := dk_181 0 3 (dk_at dksX6_sees_0 2 rfl rfl)
theorem dX6_sees_5 : decode cX6_sees 5 = .ok (.aload_n 0, 1) := dk_42 (dk_at dksX6_sees_0 5 rfl rfl)
theorem dX6_sees_6 : decode cX6_sees 6 = .ok (.iload_n 1, 1) := dk_27 (dk_at dksX6_sees_0 6 rfl rfl)
theorem dX6_sees_7 : decode cX6_sees 7 = .ok (.invokevirtual 315, 3) := dk_182 1 59 (dk_at dksX6_sees_0 7 rfl rfl)
theorem dX6_sees_10 : decode cX6_sees 10 = .ok (.ifCond .ne 7, 3) := dk_154 0 7 (dk_at dksX6_sees_0 10 rfl rfl)
theorem dX6_sees_13 : decode cX6_sees 13 = .ok (.ldc2_w 403, 3) := dk_20 1 147 (dk_at dksX6_sees_0 13 rfl rfl)
theorem dX6_sees_16 : decode cX6_sees 16 = .ok (.lreturn, 1) := dk_173 (dk_at dksX6_sees_0 16 rfl rfl)
theorem dX6_sees_17 : decode cX6_sees 17 = .ok (.aload_n 0, 1) := dk_42 (dk_at dksX6_sees_0 17 rfl rfl)
theorem dX6_sees_18 : decode cX6_sees 18 = .ok (.aload_n 0, 1) := dk_42 (dk_at dksX6_sees_0 18 rfl rfl)
theorem dX6_sees_19 : decode cX6_sees 19 = .ok (.getfield 41, 3) := dk_180 0 41 (dk_at dksX6_sees_0 19 rfl rfl)
theorem dX6_sees_22 : decode cX6_sees 22 = .ok (.iload_n 1, 1) := dk_27 (dk_at dksX6_sees_0 22 rfl rfl)
theorem dX6_sees_23 : decode cX6_sees 23 = .ok (.invokevirtual 300, 3) := dk_182 1 44 (dk_at dksX6_sees_1 0 rfl rfl)
theorem dX6_sees_26 : decode cX6_sees 26 = .ok (.lstore_n 2, 1) := dk_65 (dk_at dksX6_sees_1 3 rfl rfl)
theorem dX6_sees_27 : decode cX6_sees 27 = .ok (.aload_n 0, 1) := dk_42 (dk_at dksX6_sees_1 4 rfl rfl)
theorem dX6_sees_28 : decode cX6_sees 28 = .ok (.iconst 0, 1) := dk_3 (dk_at dksX6_sees_1 5 rfl rfl)
theorem dX6_sees_29 : decode cX6_sees 29 = .ok (.putfield 15, 3) := dk_181 0 15 (dk_at dksX6_sees_1 6 rfl rfl)
theorem dX6_sees_32 : decode cX6_sees 32 = .ok (.aload_n 0, 1) := dk_42 (dk_at dksX6_sees_1 9 rfl rfl)
theorem dX6_sees_33 : decode cX6_sees 33 = .ok (.lload_n 2, 1) := dk_32 (dk_at dksX6_sees_1 10 rfl rfl)
theorem dX6_sees_34 : decode cX6_sees 34 = .ok (.invokestatic 405, 3) := dk_184 1 149 (dk_at dksX6_sees_1 11 rfl rfl)
theorem dX6_sees_37 : decode cX6_sees 37 = .ok (.i2l, 1) := dk_133 (dk_at dksX6_sees_1 14 rfl rfl)
theorem dX6_sees_38 : decode cX6_sees 38 = .ok (.invokevirtual 373, 3) := dk_182 1 117 (dk_at dksX6_sees_1 15 rfl rfl)
theorem dX6_sees_41 : decode cX6_sees 41 = .ok (.aload_n 0, 1) := dk_42 (dk_at dksX6_sees_1 18 rfl rfl)
theorem dX6_sees_42 : decode cX6_sees 42 = .ok (.aload_n 0, 1) := dk_42 (dk_at dksX6_sees_1 19 rfl rfl)
theorem dX6_sees_43 : decode cX6_sees 43 = .ok (.aload_n 0, 1) := dk_42 (dk_at dksX6_sees_1 20 rfl rfl)
theorem dX6_sees_44 : decode cX6_sees 44 = .ok (.getfield 41, 3) := dk_180 0 41 (dk_at dksX6_sees_1 21 rfl rfl)
theorem dX6_sees_47 : decode cX6_sees 47 = .ok (.lload_n 2, 1) := dk_32 (dk_at dksX6_sees_2 0 rfl rfl)
theorem dX6_sees_48 : decode cX6_sees 48 = .ok (.invokevirtual 410, 3) := dk_182 1 154 (dk_at dksX6_sees_2 1 rfl rfl)
theorem dX6_sees_51 : decode cX6_sees 51 = .ok (.iconst 1, 1) := dk_4 (dk_at dksX6_sees_2 4 rfl rfl)
theorem dX6_sees_52 : decode cX6_sees 52 = .ok (.iload_n 1, 1) := dk_27 (dk_at dksX6_sees_2 5 rfl rfl)
theorem dX6_sees_53 : decode cX6_sees 53 = .ok (.ishl, 1) := dk_120 (dk_at dksX6_sees_2 6 rfl rfl)
theorem dX6_sees_54 : decode cX6_sees 54 = .ok (.iconst (-1), 1) := dk_2 (dk_at dksX6_sees_2 7 rfl rfl)
theorem dX6_sees_55 : decode cX6_sees 55 = .ok (.ixor, 1) := dk_130 (dk_at dksX6_sees_2 8 rfl rfl)
theorem dX6_sees_56 : decode cX6_sees 56 = .ok (.iand, 1) := dk_126 (dk_at dksX6_sees_2 9 rfl rfl)
theorem dX6_sees_57 : decode cX6_sees 57 = .ok (.i2l, 1) := dk_133 (dk_at dksX6_sees_2 10 rfl rfl)
theorem dX6_sees_58 : decode cX6_sees 58 = .ok (.invokevirtual 373, 3) := dk_182 1 117 (dk_at dksX6_sees_2 11 rfl rfl)
theorem dX6_sees_61 : decode cX6_sees 61 = .ok (.lload_n 2, 1) := dk_32 (dk_at dksX6_sees_2 14 rfl rfl)
theorem dX6_sees_62 : decode cX6_sees 62 = .ok (.lreturn, 1) := dk_173 (dk_at dksX6_sees_2 15 rfl rfl)
abbrev cX6_peopleOn : ByteArray := prog_12_method_50_code
def yX6_peopleOn : MethodName := ⟨RX6, "peopleOn", "([IJ)I"⟩
def dkwX6_peopleOn_2 : List UInt8 := [21, 4, 172]
abbrev dktX6_peopleOn_2 : List UInt8 := dkwX6_peopleOn_2 ++ []
def dkwX6_peopleOn_1 : List UInt8 := [184, 1, 48, 153, 0, 10, 4, 21, 5, 120, 167, 0, 4, 3, 128, 54, 4, 132, 5, 1, 167, 255, 220]
abbrev dktX6_peopleOn_1 : List UInt8 := dkwX6_peopleOn_1 ++ dktX6_peopleOn_2
def dkwX6_peopleOn_0 : List UInt8 := [3, 54, 4, 3, 54, 5, 21, 5, 42, 180, 0, 130, 162, 0, 33, 21, 4, 32, 43, 21, 5, 46]
abbrev dktX6_peopleOn_0 : List UInt8 := dkwX6_peopleOn_0 ++ dktX6_peopleOn_1
theorem dksX6_peopleOn_0 : cX6_peopleOn.data.toList.drop 0 = dktX6_peopleOn_0 := by decide +kernel
theorem dksX6_peopleOn_1 : cX6_peopleOn.data.toList.drop 22 = dktX6_peopleOn_1 := dk_seg dksX6_peopleOn_0 22 rfl rfl
theorem dksX6_peopleOn_2 : cX6_peopleOn.data.toList.drop 45 = dktX6_peopleOn_2 := dk_seg dksX6_peopleOn_1 23 rfl rfl
theorem dX6_peopleOn_0 : decode cX6_peopleOn 0 = .ok (.iconst 0, 1) := dk_3 (dk_at dksX6_peopleOn_0 0 rfl rfl)
theorem dX6_peopleOn_1 : decode cX6_peopleOn 1 = .ok (.istore 4, 2) := dk_54 4 (dk_at dksX6_peopleOn_0 1 rfl rfl)
theorem dX6_peopleOn_3 : decode cX6_peopleOn 3 = .ok (.iconst 0, 1) := dk_3 (dk_at dksX6_peopleOn_0 3 rfl rfl)
theorem dX6_peopleOn_4 : decode cX6_peopleOn 4 = .ok (.istore 5, 2) := dk_54 5 (dk_at dksX6_peopleOn_0 4 rfl rfl)
theorem dX6_peopleOn_6 : decode cX6_peopleOn 6 = .ok (.iload 5, 2) := dk_21 5 (dk_at dksX6_peopleOn_0 6 rfl rfl)
theorem dX6_peopleOn_8 : decode cX6_peopleOn 8 = .ok (.aload_n 0, 1) := dk_42 (dk_at dksX6_peopleOn_0 8 rfl rfl)
theorem dX6_peopleOn_9 : decode cX6_peopleOn 9 = .ok (.getfield 130, 3) := dk_180 0 130 (dk_at dksX6_peopleOn_0 9 rfl rfl)
theorem dX6_peopleOn_12 : decode cX6_peopleOn 12 = .ok (.if_icmp .ge 33, 3) := dk_162 0 33 (dk_at dksX6_peopleOn_0 12 rfl rfl)
theorem dX6_peopleOn_15 : decode cX6_peopleOn 15 = .ok (.iload 4, 2) := dk_21 4 (dk_at dksX6_peopleOn_0 15 rfl rfl)
theorem dX6_peopleOn_17 : decode cX6_peopleOn 17 = .ok (.lload_n 2, 1) := dk_32 (dk_at dksX6_peopleOn_0 17 rfl rfl)
theorem dX6_peopleOn_18 : decode cX6_peopleOn 18 = .ok (.aload_n 1, 1) := dk_43 (dk_at dksX6_peopleOn_0 18 rfl rfl)
theorem dX6_peopleOn_19 : decode cX6_peopleOn 19 = .ok (.iload 5, 2) := dk_21 5 (dk_at dksX6_peopleOn_0 19 rfl rfl)
theorem dX6_peopleOn_21 : decode cX6_peopleOn 21 = .ok (.iaload, 1) := dk_46 (dk_at dksX6_peopleOn_0 21 rfl rfl)
theorem dX6_peopleOn_22 : decode cX6_peopleOn 22 = .ok (.invokestatic 304, 3) := dk_184 1 48 (dk_at dksX6_peopleOn_1 0 rfl rfl)
theorem dX6_peopleOn_25 : decode cX6_peopleOn 25 = .ok (.ifCond .eq 10, 3) := dk_153 0 10 (dk_at dksX6_peopleOn_1 3 rfl rfl)
theorem dX6_peopleOn_28 : decode cX6_peopleOn 28 = .ok (.iconst 1, 1) := dk_4 (dk_at dksX6_peopleOn_1 6 rfl rfl)
theorem dX6_peopleOn_29 : decode cX6_peopleOn 29 = .ok (.iload 5, 2) := dk_21 5 (dk_at dksX6_peopleOn_1 7 rfl rfl)
theorem dX6_peopleOn_31 : decode cX6_peopleOn 31 = .ok (.ishl, 1) := dk_120 (dk_at dksX6_peopleOn_1 9 rfl rfl)
theorem dX6_peopleOn_32 : decode cX6_peopleOn 32 = .ok (.goto 4, 3) := dk_167 0 4 (dk_at dksX6_peopleOn_1 10 rfl rfl)
theorem dX6_peopleOn_35 : decode cX6_peopleOn 35 = .ok (.iconst 0, 1) := dk_3 (dk_at dksX6_peopleOn_1 13 rfl rfl)
theorem dX6_peopleOn_36 : decode cX6_peopleOn 36 = .ok (.ior, 1) := dk_128 (dk_at dksX6_peopleOn_1 14 rfl rfl)
theorem dX6_peopleOn_37 : decode cX6_peopleOn 37 = .ok (.istore 4, 2) := dk_54 4 (dk_at dksX6_peopleOn_1 15 rfl rfl)
theorem dX6_peopleOn_39 : decode cX6_peopleOn 39 = .ok (.iinc 5 1, 3) := dk_132 5 1 (dk_at dksX6_peopleOn_1 17 rfl rfl)
theorem dX6_peopleOn_42 : decode cX6_peopleOn 42 = .ok (.goto (-36), 3) := dk_167 255 220 (dk_at dksX6_peopleOn_1 20 rfl rfl)
theorem dX6_peopleOn_45 : decode cX6_peopleOn 45 = .ok (.iload 4, 2) := dk_21 4 (dk_at dksX6_peopleOn_2 0 rfl rfl)
theorem dX6_peopleOn_47 : decode cX6_peopleOn 47 = .ok (.ireturn, 1) := dk_172 (dk_at dksX6_peopleOn_2 2 rfl rfl)
abbrev cX6_seers : ByteArray := prog_12_method_79_code
def yX6_seers : MethodName := ⟨RX6, "seers", "(I)I"⟩
def dkwX6_seers_2 : List UInt8 := [182, 1, 67, 133, 182, 1, 117, 28, 172]
abbrev dktX6_seers_2 : List UInt8 := dkwX6_seers_2 ++ []
def dkwX6_seers_1 : List UInt8 := [61, 42, 3, 181, 0, 15, 42, 28, 184, 1, 9, 133, 182, 1, 117, 42, 42, 42, 180, 0, 41, 10, 27, 121]
abbrev dktX6_seers_1 : List UInt8 := dkwX6_seers_1 ++ dktX6_seers_2
def dkwX6_seers_0 : List UInt8 := [42, 3, 181, 0, 3, 42, 27, 182, 1, 102, 154, 0, 5, 2, 172, 42, 42, 180, 0, 41, 27, 182, 1, 80]
abbrev dktX6_seers_0 : List UInt8 := dkwX6_seers_0 ++ dktX6_seers_1
theorem dksX6_seers_0 : cX6_seers.data.toList.drop 0 = dktX6_seers_0 := by decide +kernel
theorem dksX6_seers_1 : cX6_seers.data.toList.drop 24 = dktX6_seers_1 := dk_seg dksX6_seers_0 24 rfl rfl
theorem dksX6_seers_2 : cX6_seers.data.toList.drop 48 = dktX6_seers_2 := dk_seg dksX6_seers_1 24 rfl rfl
theorem dX6_seers_0 : decode cX6_seers 0 = .ok (.aload_n 0, 1) := dk_42 (dk_at dksX6_seers_0 0 rfl rfl)
theorem dX6_seers_1 : decode cX6_seers 1 = .ok (.iconst 0, 1) := dk_3 (dk_at dksX6_seers_0 1 rfl rfl)
theorem dX6_seers_2 : decode cX6_seers 2 = .ok (.putfield 3, 3) := dk_181 0 3 (dk_at dksX6_seers_0 2 rfl rfl)
theorem dX6_seers_5 : decode cX6_seers 5 = .ok (.aload_n 0, 1) := dk_42 (dk_at dksX6_seers_0 5 rfl rfl)
theorem dX6_seers_6 : decode cX6_seers 6 = .ok (.iload_n 1, 1) := dk_27 (dk_at dksX6_seers_0 6 rfl rfl)
theorem dX6_seers_7 : decode cX6_seers 7 = .ok (.invokevirtual 358, 3) := dk_182 1 102 (dk_at dksX6_seers_0 7 rfl rfl)
theorem dX6_seers_10 : decode cX6_seers 10 = .ok (.ifCond .ne 5, 3) := dk_154 0 5 (dk_at dksX6_seers_0 10 rfl rfl)
theorem dX6_seers_13 : decode cX6_seers 13 = .ok (.iconst (-1), 1) := dk_2 (dk_at dksX6_seers_0 13 rfl rfl)
theorem dX6_seers_14 : decode cX6_seers 14 = .ok (.ireturn, 1) := dk_172 (dk_at dksX6_seers_0 14 rfl rfl)
theorem dX6_seers_15 : decode cX6_seers 15 = .ok (.aload_n 0, 1) := dk_42 (dk_at dksX6_seers_0 15 rfl rfl)
theorem dX6_seers_16 : decode cX6_seers 16 = .ok (.aload_n 0, 1) := dk_42 (dk_at dksX6_seers_0 16 rfl rfl)
theorem dX6_seers_17 : decode cX6_seers 17 = .ok (.getfield 41, 3) := dk_180 0 41 (dk_at dksX6_seers_0 17 rfl rfl)
theorem dX6_seers_20 : decode cX6_seers 20 = .ok (.iload_n 1, 1) := dk_27 (dk_at dksX6_seers_0 20 rfl rfl)
theorem dX6_seers_21 : decode cX6_seers 21 = .ok (.invokevirtual 336, 3) := dk_182 1 80 (dk_at dksX6_seers_0 21 rfl rfl)
theorem dX6_seers_24 : decode cX6_seers 24 = .ok (.istore_n 2, 1) := dk_61 (dk_at dksX6_seers_1 0 rfl rfl)
theorem dX6_seers_25 : decode cX6_seers 25 = .ok (.aload_n 0, 1) := dk_42 (dk_at dksX6_seers_1 1 rfl rfl)
theorem dX6_seers_26 : decode cX6_seers 26 = .ok (.iconst 0, 1) := dk_3 (dk_at dksX6_seers_1 2 rfl rfl)
theorem dX6_seers_27 : decode cX6_seers 27 = .ok (.putfield 15, 3) := dk_181 0 15 (dk_at dksX6_seers_1 3 rfl rfl)
theorem dX6_seers_30 : decode cX6_seers 30 = .ok (.aload_n 0, 1) := dk_42 (dk_at dksX6_seers_1 6 rfl rfl)
theorem dX6_seers_31 : decode cX6_seers 31 = .ok (.iload_n 2, 1) := dk_28 (dk_at dksX6_seers_1 7 rfl rfl)
theorem dX6_seers_32 : decode cX6_seers 32 = .ok (.invokestatic 265, 3) := dk_184 1 9 (dk_at dksX6_seers_1 8 rfl rfl)
theorem dX6_seers_35 : decode cX6_seers 35 = .ok (.i2l, 1) := dk_133 (dk_at dksX6_seers_1 11 rfl rfl)
theorem dX6_seers_36 : decode cX6_seers 36 = .ok (.invokevirtual 373, 3) := dk_182 1 117 (dk_at dksX6_seers_1 12 rfl rfl)
theorem dX6_seers_39 : decode cX6_seers 39 = .ok (.aload_n 0, 1) := dk_42 (dk_at dksX6_seers_1 15 rfl rfl)
theorem dX6_seers_40 : decode cX6_seers 40 = .ok (.aload_n 0, 1) := dk_42 (dk_at dksX6_seers_1 16 rfl rfl)
theorem dX6_seers_41 : decode cX6_seers 41 = .ok (.aload_n 0, 1) := dk_42 (dk_at dksX6_seers_1 17 rfl rfl)
theorem dX6_seers_42 : decode cX6_seers 42 = .ok (.getfield 41, 3) := dk_180 0 41 (dk_at dksX6_seers_1 18 rfl rfl)
theorem dX6_seers_45 : decode cX6_seers 45 = .ok (.lconst 1, 1) := dk_10 (dk_at dksX6_seers_1 21 rfl rfl)
theorem dX6_seers_46 : decode cX6_seers 46 = .ok (.iload_n 1, 1) := dk_27 (dk_at dksX6_seers_1 22 rfl rfl)
theorem dX6_seers_47 : decode cX6_seers 47 = .ok (.lshl, 1) := dk_121 (dk_at dksX6_seers_1 23 rfl rfl)
theorem dX6_seers_48 : decode cX6_seers 48 = .ok (.invokevirtual 323, 3) := dk_182 1 67 (dk_at dksX6_seers_2 0 rfl rfl)
theorem dX6_seers_51 : decode cX6_seers 51 = .ok (.i2l, 1) := dk_133 (dk_at dksX6_seers_2 3 rfl rfl)
theorem dX6_seers_52 : decode cX6_seers 52 = .ok (.invokevirtual 373, 3) := dk_182 1 117 (dk_at dksX6_seers_2 4 rfl rfl)
theorem dX6_seers_55 : decode cX6_seers 55 = .ok (.iload_n 2, 1) := dk_28 (dk_at dksX6_seers_2 7 rfl rfl)
theorem dX6_seers_56 : decode cX6_seers 56 = .ok (.ireturn, 1) := dk_172 (dk_at dksX6_seers_2 8 rfl rfl)
abbrev cX6_hidden : ByteArray := prog_12_method_81_code
def yX6_hidden : MethodName := ⟨RX6, "hidden", "()J"⟩
def dkwX6_hidden_2 : List UInt8 := [182, 1, 117, 31, 173]
abbrev dktX6_hidden_2 : List UInt8 := dkwX6_hidden_2 ++ []
def dkwX6_hidden_1 : List UInt8 := [3, 181, 0, 15, 42, 31, 184, 1, 149, 133, 182, 1, 117, 42, 42, 42, 180, 0, 41, 31, 182, 1, 67, 133]
abbrev dktX6_hidden_1 : List UInt8 := dkwX6_hidden_1 ++ dktX6_hidden_2
def dkwX6_hidden_0 : List UInt8 := [42, 3, 181, 0, 3, 42, 182, 1, 157, 42, 42, 180, 0, 41, 182, 1, 161, 20, 1, 147, 131, 127, 64, 42]
abbrev dktX6_hidden_0 : List UInt8 := dkwX6_hidden_0 ++ dktX6_hidden_1
theorem dksX6_hidden_0 : cX6_hidden.data.toList.drop 0 = dktX6_hidden_0 := by decide +kernel
theorem dksX6_hidden_1 : cX6_hidden.data.toList.drop 24 = dktX6_hidden_1 := dk_seg dksX6_hidden_0 24 rfl rfl
theorem dksX6_hidden_2 : cX6_hidden.data.toList.drop 48 = dktX6_hidden_2 := dk_seg dksX6_hidden_1 24 rfl rfl
theorem dX6_hidden_0 : decode cX6_hidden 0 = .ok (.aload_n 0, 1) := dk_42 (dk_at dksX6_hidden_0 0 rfl rfl)
theorem dX6_hidden_1 : decode cX6_hidden 1 = .ok (.iconst 0, 1) := dk_3 (dk_at dksX6_hidden_0 1 rfl rfl)
theorem dX6_hidden_2 : decode cX6_hidden 2 = .ok (.putfield 3, 3) := dk_181 0 3 (dk_at dksX6_hidden_0 2 rfl rfl)
theorem dX6_hidden_5 : decode cX6_hidden 5 = .ok (.aload_n 0, 1) := dk_42 (dk_at dksX6_hidden_0 5 rfl rfl)
theorem dX6_hidden_6 : decode cX6_hidden 6 = .ok (.invokevirtual 413, 3) := dk_182 1 157 (dk_at dksX6_hidden_0 6 rfl rfl)
theorem dX6_hidden_9 : decode cX6_hidden 9 = .ok (.aload_n 0, 1) := dk_42 (dk_at dksX6_hidden_0 9 rfl rfl)
theorem dX6_hidden_10 : decode cX6_hidden 10 = .ok (.aload_n 0, 1) := dk_42 (dk_at dksX6_hidden_0 10 rfl rfl)
theorem dX6_hidden_11 : decode cX6_hidden 11 = .ok (.getfield 41, 3) := dk_180 0 41 (dk_at dksX6_hidden_0 11 rfl rfl)
theorem dX6_hidden_14 : decode cX6_hidden 14 = .ok (.invokevirtual 417, 3) := dk_182 1 161 (dk_at dksX6_hidden_0 14 rfl rfl)
theorem dX6_hidden_17 : decode cX6_hidden 17 = .ok (.ldc2_w 403, 3) := dk_20 1 147 (dk_at dksX6_hidden_0 17 rfl rfl)
theorem dX6_hidden_20 : decode cX6_hidden 20 = .ok (.lxor, 1) := dk_131 (dk_at dksX6_hidden_0 20 rfl rfl)
theorem dX6_hidden_21 : decode cX6_hidden 21 = .ok (.land, 1) := dk_127 (dk_at dksX6_hidden_0 21 rfl rfl)
theorem dX6_hidden_22 : decode cX6_hidden 22 = .ok (.lstore_n 1, 1) := dk_64 (dk_at dksX6_hidden_0 22 rfl rfl)
theorem dX6_hidden_23 : decode cX6_hidden 23 = .ok (.aload_n 0, 1) := dk_42 (dk_at dksX6_hidden_0 23 rfl rfl)
theorem dX6_hidden_24 : decode cX6_hidden 24 = .ok (.iconst 0, 1) := dk_3 (dk_at dksX6_hidden_1 0 rfl rfl)
theorem dX6_hidden_25 : decode cX6_hidden 25 = .ok (.putfield 15, 3) := dk_181 0 15 (dk_at dksX6_hidden_1 1 rfl rfl)
theorem dX6_hidden_28 : decode cX6_hidden 28 = .ok (.aload_n 0, 1) := dk_42 (dk_at dksX6_hidden_1 4 rfl rfl)
theorem dX6_hidden_29 : decode cX6_hidden 29 = .ok (.lload_n 1, 1) := dk_31 (dk_at dksX6_hidden_1 5 rfl rfl)
theorem dX6_hidden_30 : decode cX6_hidden 30 = .ok (.invokestatic 405, 3) := dk_184 1 149 (dk_at dksX6_hidden_1 6 rfl rfl)
theorem dX6_hidden_33 : decode cX6_hidden 33 = .ok (.i2l, 1) := dk_133 (dk_at dksX6_hidden_1 9 rfl rfl)
theorem dX6_hidden_34 : decode cX6_hidden 34 = .ok (.invokevirtual 373, 3) := dk_182 1 117 (dk_at dksX6_hidden_1 10 rfl rfl)
theorem dX6_hidden_37 : decode cX6_hidden 37 = .ok (.aload_n 0, 1) := dk_42 (dk_at dksX6_hidden_1 13 rfl rfl)
theorem dX6_hidden_38 : decode cX6_hidden 38 = .ok (.aload_n 0, 1) := dk_42 (dk_at dksX6_hidden_1 14 rfl rfl)
theorem dX6_hidden_39 : decode cX6_hidden 39 = .ok (.aload_n 0, 1) := dk_42 (dk_at dksX6_hidden_1 15 rfl rfl)
theorem dX6_hidden_40 : decode cX6_hidden 40 = .ok (.getfield 41, 3) := dk_180 0 41 (dk_at dksX6_hidden_1 16 rfl rfl)
theorem dX6_hidden_43 : decode cX6_hidden 43 = .ok (.lload_n 1, 1) := dk_31 (dk_at dksX6_hidden_1 19 rfl rfl)
theorem dX6_hidden_44 : decode cX6_hidden 44 = .ok (.invokevirtual 323, 3) := dk_182 1 67 (dk_at dksX6_hidden_1 20 rfl rfl)
theorem dX6_hidden_47 : decode cX6_hidden 47 = .ok (.i2l, 1) := dk_133 (dk_at dksX6_hidden_1 23 rfl rfl)
theorem dX6_hidden_48 : decode cX6_hidden 48 = .ok (.invokevirtual 373, 3) := dk_182 1 117 (dk_at dksX6_hidden_2 0 rfl rfl)
theorem dX6_hidden_51 : decode cX6_hidden 51 = .ok (.lload_n 1, 1) := dk_31 (dk_at dksX6_hidden_2 3 rfl rfl)
theorem dX6_hidden_52 : decode cX6_hidden 52 = .ok (.lreturn, 1) := dk_173 (dk_at dksX6_hidden_2 4 rfl rfl)
abbrev cX6_free : ByteArray := prog_12_method_80_code
def yX6_free : MethodName := ⟨RX6, "free", "()J"⟩
def dkwX6_free_1 : List UInt8 := [167, 0, 6, 10, 29, 121, 129, 64, 132, 3, 1, 167, 255, 226, 31, 173]
abbrev dktX6_free_1 : List UInt8 := dkwX6_free_1 ++ []
def dkwX6_free_0 : List UInt8 := [9, 64, 3, 62, 29, 42, 182, 0, 122, 162, 0, 28, 31, 42, 180, 0, 33, 29, 51, 153, 0, 7, 9]
abbrev dktX6_free_0 : List UInt8 := dkwX6_free_0 ++ dktX6_free_1
theorem dksX6_free_0 : cX6_free.data.toList.drop 0 = dktX6_free_0 := by decide +kernel
theorem dksX6_free_1 : cX6_free.data.toList.drop 23 = dktX6_free_1 := dk_seg dksX6_free_0 23 rfl rfl
theorem dX6_free_0 : decode cX6_free 0 = .ok (.lconst 0, 1) := dk_9 (dk_at dksX6_free_0 0 rfl rfl)
theorem dX6_free_1 : decode cX6_free 1 = .ok (.lstore_n 1, 1) := dk_64 (dk_at dksX6_free_0 1 rfl rfl)
theorem dX6_free_2 : decode cX6_free 2 = .ok (.iconst 0, 1) := dk_3 (dk_at dksX6_free_0 2 rfl rfl)
theorem dX6_free_3 : decode cX6_free 3 = .ok (.istore_n 3, 1) := dk_62 (dk_at dksX6_free_0 3 rfl rfl)
theorem dX6_free_4 : decode cX6_free 4 = .ok (.iload_n 3, 1) := dk_29 (dk_at dksX6_free_0 4 rfl rfl)
theorem dX6_free_5 : decode cX6_free 5 = .ok (.aload_n 0, 1) := dk_42 (dk_at dksX6_free_0 5 rfl rfl)
theorem dX6_free_6 : decode cX6_free 6 = .ok (.invokevirtual 122, 3) := dk_182 0 122 (dk_at dksX6_free_0 6 rfl rfl)
theorem dX6_free_9 : decode cX6_free 9 = .ok (.if_icmp .ge 28, 3) := dk_162 0 28 (dk_at dksX6_free_0 9 rfl rfl)
theorem dX6_free_12 : decode cX6_free 12 = .ok (.lload_n 1, 1) := dk_31 (dk_at dksX6_free_0 12 rfl rfl)
theorem dX6_free_13 : decode cX6_free 13 = .ok (.aload_n 0, 1) := dk_42 (dk_at dksX6_free_0 13 rfl rfl)
theorem dX6_free_14 : decode cX6_free 14 = .ok (.getfield 33, 3) := dk_180 0 33 (dk_at dksX6_free_0 14 rfl rfl)
theorem dX6_free_17 : decode cX6_free 17 = .ok (.iload_n 3, 1) := dk_29 (dk_at dksX6_free_0 17 rfl rfl)
theorem dX6_free_18 : decode cX6_free 18 = .ok (.baload, 1) := dk_51 (dk_at dksX6_free_0 18 rfl rfl)
theorem dX6_free_19 : decode cX6_free 19 = .ok (.ifCond .eq 7, 3) := dk_153 0 7 (dk_at dksX6_free_0 19 rfl rfl)
theorem dX6_free_22 : decode cX6_free 22 = .ok (.lconst 0, 1) := dk_9 (dk_at dksX6_free_0 22 rfl rfl)
theorem dX6_free_23 : decode cX6_free 23 = .ok (.goto 6, 3) := dk_167 0 6 (dk_at dksX6_free_1 0 rfl rfl)
theorem dX6_free_26 : decode cX6_free 26 = .ok (.lconst 1, 1) := dk_10 (dk_at dksX6_free_1 3 rfl rfl)
theorem dX6_free_27 : decode cX6_free 27 = .ok (.iload_n 3, 1) := dk_29 (dk_at dksX6_free_1 4 rfl rfl)
theorem dX6_free_28 : decode cX6_free 28 = .ok (.lshl, 1) := dk_121 (dk_at dksX6_free_1 5 rfl rfl)
theorem dX6_free_29 : decode cX6_free 29 = .ok (.lor, 1) := dk_129 (dk_at dksX6_free_1 6 rfl rfl)
theorem dX6_free_30 : decode cX6_free 30 = .ok (.lstore_n 1, 1) := dk_64 (dk_at dksX6_free_1 7 rfl rfl)
theorem dX6_free_31 : decode cX6_free 31 = .ok (.iinc 3 1, 3) := dk_132 3 1 (dk_at dksX6_free_1 8 rfl rfl)
theorem dX6_free_34 : decode cX6_free 34 = .ok (.goto (-30), 3) := dk_167 255 226 (dk_at dksX6_free_1 11 rfl rfl)
theorem dX6_free_37 : decode cX6_free 37 = .ok (.lload_n 1, 1) := dk_31 (dk_at dksX6_free_1 14 rfl rfl)
theorem dX6_free_38 : decode cX6_free 38 = .ok (.lreturn, 1) := dk_173 (dk_at dksX6_free_1 15 rfl rfl)
abbrev cX6_allSeen : ByteArray := prog_12_method_48_code
def yX6_allSeen : MethodName := ⟨RX6, "allSeen", "([I)J"⟩
def dkwX6_allSeen_1 : List UInt8 := [132, 4, 1, 167, 255, 234, 32, 173]
abbrev dktX6_allSeen_1 : List UInt8 := dkwX6_allSeen_1 ++ []
def dkwX6_allSeen_0 : List UInt8 := [9, 65, 3, 54, 4, 21, 4, 42, 180, 0, 130, 162, 0, 19, 32, 42, 43, 21, 4, 182, 1, 44, 129, 65]
abbrev dktX6_allSeen_0 : List UInt8 := dkwX6_allSeen_0 ++ dktX6_allSeen_1
theorem dksX6_allSeen_0 : cX6_allSeen.data.toList.drop 0 = dktX6_allSeen_0 := by decide +kernel
theorem dksX6_allSeen_1 : cX6_allSeen.data.toList.drop 24 = dktX6_allSeen_1 := dk_seg dksX6_allSeen_0 24 rfl rfl
theorem dX6_allSeen_0 : decode cX6_allSeen 0 = .ok (.lconst 0, 1) := dk_9 (dk_at dksX6_allSeen_0 0 rfl rfl)
theorem dX6_allSeen_1 : decode cX6_allSeen 1 = .ok (.lstore_n 2, 1) := dk_65 (dk_at dksX6_allSeen_0 1 rfl rfl)
theorem dX6_allSeen_2 : decode cX6_allSeen 2 = .ok (.iconst 0, 1) := dk_3 (dk_at dksX6_allSeen_0 2 rfl rfl)
theorem dX6_allSeen_3 : decode cX6_allSeen 3 = .ok (.istore 4, 2) := dk_54 4 (dk_at dksX6_allSeen_0 3 rfl rfl)
theorem dX6_allSeen_5 : decode cX6_allSeen 5 = .ok (.iload 4, 2) := dk_21 4 (dk_at dksX6_allSeen_0 5 rfl rfl)
theorem dX6_allSeen_7 : decode cX6_allSeen 7 = .ok (.aload_n 0, 1) := dk_42 (dk_at dksX6_allSeen_0 7 rfl rfl)
theorem dX6_allSeen_8 : decode cX6_allSeen 8 = .ok (.getfield 130, 3) := dk_180 0 130 (dk_at dksX6_allSeen_0 8 rfl rfl)
theorem dX6_allSeen_11 : decode cX6_allSeen 11 = .ok (.if_icmp .ge 19, 3) := dk_162 0 19 (dk_at dksX6_allSeen_0 11 rfl rfl)
theorem dX6_allSeen_14 : decode cX6_allSeen 14 = .ok (.lload_n 2, 1) := dk_32 (dk_at dksX6_allSeen_0 14 rfl rfl)
theorem dX6_allSeen_15 : decode cX6_allSeen 15 = .ok (.aload_n 0, 1) := dk_42 (dk_at dksX6_allSeen_0 15 rfl rfl)
theorem dX6_allSeen_16 : decode cX6_allSeen 16 = .ok (.aload_n 1, 1) := dk_43 (dk_at dksX6_allSeen_0 16 rfl rfl)
theorem dX6_allSeen_17 : decode cX6_allSeen 17 = .ok (.iload 4, 2) := dk_21 4 (dk_at dksX6_allSeen_0 17 rfl rfl)
theorem dX6_allSeen_19 : decode cX6_allSeen 19 = .ok (.invokevirtual 300, 3) := dk_182 1 44 (dk_at dksX6_allSeen_0 19 rfl rfl)
theorem dX6_allSeen_22 : decode cX6_allSeen 22 = .ok (.lor, 1) := dk_129 (dk_at dksX6_allSeen_0 22 rfl rfl)
theorem dX6_allSeen_23 : decode cX6_allSeen 23 = .ok (.lstore_n 2, 1) := dk_65 (dk_at dksX6_allSeen_0 23 rfl rfl)
theorem dX6_allSeen_24 : decode cX6_allSeen 24 = .ok (.iinc 4 1, 3) := dk_132 4 1 (dk_at dksX6_allSeen_1 0 rfl rfl)
theorem dX6_allSeen_27 : decode cX6_allSeen 27 = .ok (.goto (-22), 3) := dk_167 255 234 (dk_at dksX6_allSeen_1 3 rfl rfl)
theorem dX6_allSeen_30 : decode cX6_allSeen 30 = .ok (.lload_n 2, 1) := dk_32 (dk_at dksX6_allSeen_1 6 rfl rfl)
theorem dX6_allSeen_31 : decode cX6_allSeen 31 = .ok (.lreturn, 1) := dk_173 (dk_at dksX6_allSeen_1 7 rfl rfl)
abbrev cX6_pairs : ByteArray := prog_12_method_82_code
def yX6_pairs : MethodName := ⟨RX6, "pairs", "()I"⟩
def dkwX6_pairs_6 : List UInt8 := [182, 1, 117, 27, 172]
abbrev dktX6_pairs_6 : List UInt8 := dkwX6_pairs_6 ++ []
def dkwX6_pairs_5 : List UInt8 := [181, 0, 15, 42, 28, 133, 182, 1, 117, 27, 158, 0, 16, 42, 29, 133, 182, 1, 117, 42, 21, 4, 133]
abbrev dktX6_pairs_5 : List UInt8 := dkwX6_pairs_5 ++ dktX6_pairs_6
def dkwX6_pairs_4 : List UInt8 := [21, 6, 182, 1, 88, 184, 0, 154, 96, 61, 132, 6, 1, 167, 255, 184, 132, 5, 1, 167, 255, 163, 42, 3]
abbrev dktX6_pairs_4 : List UInt8 := dkwX6_pairs_4 ++ dktX6_pairs_5
def dkwX6_pairs_3 : List UInt8 := [154, 0, 8, 21, 6, 167, 0, 5, 21, 4, 54, 4, 132, 1, 1, 28, 42, 42, 180, 0, 41, 21, 5]
abbrev dktX6_pairs_3 : List UInt8 := dkwX6_pairs_3 ++ dktX6_pairs_4
def dkwX6_pairs_2 : List UInt8 := [21, 5, 21, 6, 182, 1, 56, 153, 0, 48, 27, 154, 0, 8, 21, 5, 167, 0, 4, 29, 62, 27]
abbrev dktX6_pairs_2 : List UInt8 := dkwX6_pairs_2 ++ dktX6_pairs_3
def dkwX6_pairs_1 : List UInt8 := [162, 0, 90, 21, 5, 4, 96, 54, 6, 21, 6, 42, 180, 0, 130, 162, 0, 69, 42, 42, 180, 0, 41]
abbrev dktX6_pairs_1 : List UInt8 := dkwX6_pairs_1 ++ dktX6_pairs_2
def dkwX6_pairs_0 : List UInt8 := [42, 3, 181, 0, 3, 3, 60, 3, 61, 2, 62, 2, 54, 4, 3, 54, 5, 21, 5, 42, 180, 0, 130]
abbrev dktX6_pairs_0 : List UInt8 := dkwX6_pairs_0 ++ dktX6_pairs_1
theorem dksX6_pairs_0 : cX6_pairs.data.toList.drop 0 = dktX6_pairs_0 := by decide +kernel
theorem dksX6_pairs_1 : cX6_pairs.data.toList.drop 23 = dktX6_pairs_1 := dk_seg dksX6_pairs_0 23 rfl rfl
theorem dksX6_pairs_2 : cX6_pairs.data.toList.drop 46 = dktX6_pairs_2 := dk_seg dksX6_pairs_1 23 rfl rfl
theorem dksX6_pairs_3 : cX6_pairs.data.toList.drop 68 = dktX6_pairs_3 := dk_seg dksX6_pairs_2 22 rfl rfl
theorem dksX6_pairs_4 : cX6_pairs.data.toList.drop 91 = dktX6_pairs_4 := dk_seg dksX6_pairs_3 23 rfl rfl
theorem dksX6_pairs_5 : cX6_pairs.data.toList.drop 115 = dktX6_pairs_5 := dk_seg dksX6_pairs_4 24 rfl rfl
theorem dksX6_pairs_6 : cX6_pairs.data.toList.drop 138 = dktX6_pairs_6 := dk_seg dksX6_pairs_5 23 rfl rfl
theorem dX6_pairs_0 : decode cX6_pairs 0 = .ok (.aload_n 0, 1) := dk_42 (dk_at dksX6_pairs_0 0 rfl rfl)
theorem dX6_pairs_1 : decode cX6_pairs 1 = .ok (.iconst 0, 1) := dk_3 (dk_at dksX6_pairs_0 1 rfl rfl)
theorem dX6_pairs_2 : decode cX6_pairs 2 = .ok (.putfield 3, 3) := dk_181 0 3 (dk_at dksX6_pairs_0 2 rfl rfl)
theorem dX6_pairs_5 : decode cX6_pairs 5 = .ok (.iconst 0, 1) := dk_3 (dk_at dksX6_pairs_0 5 rfl rfl)
theorem dX6_pairs_6 : decode cX6_pairs 6 = .ok (.istore_n 1, 1) := dk_60 (dk_at dksX6_pairs_0 6 rfl rfl)
theorem dX6_pairs_7 : decode cX6_pairs 7 = .ok (.iconst 0, 1) := dk_3 (dk_at dksX6_pairs_0 7 rfl rfl)
theorem dX6_pairs_8 : decode cX6_pairs 8 = .ok (.istore_n 2, 1) := dk_61 (dk_at dksX6_pairs_0 8 rfl rfl)
theorem dX6_pairs_9 : decode cX6_pairs 9 = .ok (.iconst (-1), 1) := dk_2 (dk_at dksX6_pairs_0 9 rfl rfl)
theorem dX6_pairs_10 : decode cX6_pairs 10 = .ok (.istore_n 3, 1) := dk_62 (dk_at dksX6_pairs_0 10 rfl rfl)
theorem dX6_pairs_11 : decode cX6_pairs 11 = .ok (.iconst (-1), 1) := dk_2 (dk_at dksX6_pairs_0 11 rfl rfl)
theorem dX6_pairs_12 : decode cX6_pairs 12 = .ok (.istore 4, 2) := dk_54 4 (dk_at dksX6_pairs_0 12 rfl rfl)
theorem dX6_pairs_14 : decode cX6_pairs 14 = .ok (.iconst 0, 1) := dk_3 (dk_at dksX6_pairs_0 14 rfl rfl)
theorem dX6_pairs_15 : decode cX6_pairs 15 = .ok (.istore 5, 2) := dk_54 5 (dk_at dksX6_pairs_0 15 rfl rfl)
theorem dX6_pairs_17 : decode cX6_pairs 17 = .ok (.iload 5, 2) := dk_21 5 (dk_at dksX6_pairs_0 17 rfl rfl)
theorem dX6_pairs_19 : decode cX6_pairs 19 = .ok (.aload_n 0, 1) := dk_42 (dk_at dksX6_pairs_0 19 rfl rfl)
theorem dX6_pairs_20 : decode cX6_pairs 20 = .ok (.getfield 130, 3) := dk_180 0 130 (dk_at dksX6_pairs_0 20 rfl rfl)
theorem dX6_pairs_23 : decode cX6_pairs 23 = .ok (.if_icmp .ge 90, 3) := dk_162 0 90 (dk_at dksX6_pairs_1 0 rfl rfl)
theorem dX6_pairs_26 : decode cX6_pairs 26 = .ok (.iload 5, 2) := dk_21 5 (dk_at dksX6_pairs_1 3 rfl rfl)
theorem dX6_pairs_28 : decode cX6_pairs 28 = .ok (.iconst 1, 1) := dk_4 (dk_at dksX6_pairs_1 5 rfl rfl)
theorem dX6_pairs_29 : decode cX6_pairs 29 = .ok (.iadd, 1) := dk_96 (dk_at dksX6_pairs_1 6 rfl rfl)
theorem dX6_pairs_30 : decode cX6_pairs 30 = .ok (.istore 6, 2) := dk_54 6 (dk_at dksX6_pairs_1 7 rfl rfl)
theorem dX6_pairs_32 : decode cX6_pairs 32 = .ok (.iload 6, 2) := dk_21 6 (dk_at dksX6_pairs_1 9 rfl rfl)
theorem dX6_pairs_34 : decode cX6_pairs 34 = .ok (.aload_n 0, 1) := dk_42 (dk_at dksX6_pairs_1 11 rfl rfl)
theorem dX6_pairs_35 : decode cX6_pairs 35 = .ok (.getfield 130, 3) := dk_180 0 130 (dk_at dksX6_pairs_1 12 rfl rfl)
theorem dX6_pairs_38 : decode cX6_pairs 38 = .ok (.if_icmp .ge 69, 3) := dk_162 0 69 (dk_at dksX6_pairs_1 15 rfl rfl)
theorem dX6_pairs_41 : decode cX6_pairs 41 = .ok (.aload_n 0, 1) := dk_42 (dk_at dksX6_pairs_1 18 rfl rfl)
theorem dX6_pairs_42 : decode cX6_pairs 42 = .ok (.aload_n 0, 1) := dk_42 (dk_at dksX6_pairs_1 19 rfl rfl)
theorem dX6_pairs_43 : decode cX6_pairs 43 = .ok (.getfield 41, 3) := dk_180 0 41 (dk_at dksX6_pairs_1 20 rfl rfl)
theorem dX6_pairs_46 : decode cX6_pairs 46 = .ok (.iload 5, 2) := dk_21 5 (dk_at dksX6_pairs_2 0 rfl rfl)
theorem dX6_pairs_48 : decode cX6_pairs 48 = .ok (.iload 6, 2) := dk_21 6 (dk_at dksX6_pairs_2 2 rfl rfl)
theorem dX6_pairs_50 : decode cX6_pairs 50 = .ok (.invokevirtual 312, 3) := dk_182 1 56 (dk_at dksX6_pairs_2 4 rfl rfl)
theorem dX6_pairs_53 : decode cX6_pairs 53 = .ok (.ifCond .eq 48, 3) := dk_153 0 48 (dk_at dksX6_pairs_2 7 rfl rfl)
theorem dX6_pairs_56 : decode cX6_pairs 56 = .ok (.iload_n 1, 1) := dk_27 (dk_at dksX6_pairs_2 10 rfl rfl)
theorem dX6_pairs_57 : decode cX6_pairs 57 = .ok (.ifCond .ne 8, 3) := dk_154 0 8 (dk_at dksX6_pairs_2 11 rfl rfl)
theorem dX6_pairs_60 : decode cX6_pairs 60 = .ok (.iload 5, 2) := dk_21 5 (dk_at dksX6_pairs_2 14 rfl rfl)
theorem dX6_pairs_62 : decode cX6_pairs 62 = .ok (.goto 4, 3) := dk_167 0 4 (dk_at dksX6_pairs_2 16 rfl rfl)
theorem dX6_pairs_65 : decode cX6_pairs 65 = .ok (.iload_n 3, 1) := dk_29 (dk_at dksX6_pairs_2 19 rfl rfl)
theorem dX6_pairs_66 : decode cX6_pairs 66 = .ok (.istore_n 3, 1) := dk_62 (dk_at dksX6_pairs_2 20 rfl rfl)
theorem dX6_pairs_67 : decode cX6_pairs 67 = .ok (.iload_n 1, 1) := dk_27 (dk_at dksX6_pairs_2 21 rfl rfl)
theorem dX6_pairs_68 : decode cX6_pairs 68 = .ok (.ifCond .ne 8, 3) := dk_154 0 8 (dk_at dksX6_pairs_3 0 rfl rfl)
theorem dX6_pairs_71 : decode cX6_pairs 71 = .ok (.iload 6, 2) := dk_21 6 (dk_at dksX6_pairs_3 3 rfl rfl)
theorem dX6_pairs_73 : decode cX6_pairs 73 = .ok (.goto 5, 3) := dk_167 0 5 (dk_at dksX6_pairs_3 5 rfl rfl)
theorem dX6_pairs_76 : decode cX6_pairs 76 = .ok (.iload 4, 2) := dk_21 4 (dk_at dksX6_pairs_3 8 rfl rfl)
theorem dX6_pairs_78 : decode cX6_pairs 78 = .ok (.istore 4, 2) := dk_54 4 (dk_at dksX6_pairs_3 10 rfl rfl)
theorem dX6_pairs_80 : decode cX6_pairs 80 = .ok (.iinc 1 1, 3) := dk_132 1 1 (dk_at dksX6_pairs_3 12 rfl rfl)
theorem dX6_pairs_83 : decode cX6_pairs 83 = .ok (.iload_n 2, 1) := dk_28 (dk_at dksX6_pairs_3 15 rfl rfl)
theorem dX6_pairs_84 : decode cX6_pairs 84 = .ok (.aload_n 0, 1) := dk_42 (dk_at dksX6_pairs_3 16 rfl rfl)
theorem dX6_pairs_85 : decode cX6_pairs 85 = .ok (.aload_n 0, 1) := dk_42 (dk_at dksX6_pairs_3 17 rfl rfl)
theorem dX6_pairs_86 : decode cX6_pairs 86 = .ok (.getfield 41, 3) := dk_180 0 41 (dk_at dksX6_pairs_3 18 rfl rfl)
theorem dX6_pairs_89 : decode cX6_pairs 89 = .ok (.iload 5, 2) := dk_21 5 (dk_at dksX6_pairs_3 21 rfl rfl)
theorem dX6_pairs_91 : decode cX6_pairs 91 = .ok (.iload 6, 2) := dk_21 6 (dk_at dksX6_pairs_4 0 rfl rfl)
theorem dX6_pairs_93 : decode cX6_pairs 93 = .ok (.invokevirtual 344, 3) := dk_182 1 88 (dk_at dksX6_pairs_4 2 rfl rfl)
theorem dX6_pairs_96 : decode cX6_pairs 96 = .ok (.invokestatic 154, 3) := dk_184 0 154 (dk_at dksX6_pairs_4 5 rfl rfl)
theorem dX6_pairs_99 : decode cX6_pairs 99 = .ok (.iadd, 1) := dk_96 (dk_at dksX6_pairs_4 8 rfl rfl)
theorem dX6_pairs_100 : decode cX6_pairs 100 = .ok (.istore_n 2, 1) := dk_61 (dk_at dksX6_pairs_4 9 rfl rfl)
theorem dX6_pairs_101 : decode cX6_pairs 101 = .ok (.iinc 6 1, 3) := dk_132 6 1 (dk_at dksX6_pairs_4 10 rfl rfl)
theorem dX6_pairs_104 : decode cX6_pairs 104 = .ok (.goto (-72), 3) := dk_167 255 184 (dk_at dksX6_pairs_4 13 rfl rfl)
theorem dX6_pairs_107 : decode cX6_pairs 107 = .ok (.iinc 5 1, 3) := dk_132 5 1 (dk_at dksX6_pairs_4 16 rfl rfl)
theorem dX6_pairs_110 : decode cX6_pairs 110 = .ok (.goto (-93), 3) := dk_167 255 163 (dk_at dksX6_pairs_4 19 rfl rfl)
theorem dX6_pairs_113 : decode cX6_pairs 113 = .ok (.aload_n 0, 1) := dk_42 (dk_at dksX6_pairs_4 22 rfl rfl)
theorem dX6_pairs_114 : decode cX6_pairs 114 = .ok (.iconst 0, 1) := dk_3 (dk_at dksX6_pairs_4 23 rfl rfl)
theorem dX6_pairs_115 : decode cX6_pairs 115 = .ok (.putfield 15, 3) := dk_181 0 15 (dk_at dksX6_pairs_5 0 rfl rfl)
theorem dX6_pairs_118 : decode cX6_pairs 118 = .ok (.aload_n 0, 1) := dk_42 (dk_at dksX6_pairs_5 3 rfl rfl)
theorem dX6_pairs_119 : decode cX6_pairs 119 = .ok (.iload_n 2, 1) := dk_28 (dk_at dksX6_pairs_5 4 rfl rfl)
theorem dX6_pairs_120 : decode cX6_pairs 120 = .ok (.i2l, 1) := dk_133 (dk_at dksX6_pairs_5 5 rfl rfl)
theorem dX6_pairs_121 : decode cX6_pairs 121 = .ok (.invokevirtual 373, 3) := dk_182 1 117 (dk_at dksX6_pairs_5 6 rfl rfl)
theorem dX6_pairs_124 : decode cX6_pairs 124 = .ok (.iload_n 1, 1) := dk_27 (dk_at dksX6_pairs_5 9 rfl rfl)
theorem dX6_pairs_125 : decode cX6_pairs 125 = .ok (.ifCond .le 16, 3) := dk_158 0 16 (dk_at dksX6_pairs_5 10 rfl rfl)
theorem dX6_pairs_128 : decode cX6_pairs 128 = .ok (.aload_n 0, 1) := dk_42 (dk_at dksX6_pairs_5 13 rfl rfl)
theorem dX6_pairs_129 : decode cX6_pairs 129 = .ok (.iload_n 3, 1) := dk_29 (dk_at dksX6_pairs_5 14 rfl rfl)
theorem dX6_pairs_130 : decode cX6_pairs 130 = .ok (.i2l, 1) := dk_133 (dk_at dksX6_pairs_5 15 rfl rfl)
theorem dX6_pairs_131 : decode cX6_pairs 131 = .ok (.invokevirtual 373, 3) := dk_182 1 117 (dk_at dksX6_pairs_5 16 rfl rfl)
theorem dX6_pairs_134 : decode cX6_pairs 134 = .ok (.aload_n 0, 1) := dk_42 (dk_at dksX6_pairs_5 19 rfl rfl)
theorem dX6_pairs_135 : decode cX6_pairs 135 = .ok (.iload 4, 2) := dk_21 4 (dk_at dksX6_pairs_5 20 rfl rfl)
theorem dX6_pairs_137 : decode cX6_pairs 137 = .ok (.i2l, 1) := dk_133 (dk_at dksX6_pairs_5 22 rfl rfl)
theorem dX6_pairs_138 : decode cX6_pairs 138 = .ok (.invokevirtual 373, 3) := dk_182 1 117 (dk_at dksX6_pairs_6 0 rfl rfl)
theorem dX6_pairs_141 : decode cX6_pairs 141 = .ok (.iload_n 1, 1) := dk_27 (dk_at dksX6_pairs_6 3 rfl rfl)
theorem dX6_pairs_142 : decode cX6_pairs 142 = .ok (.ireturn, 1) := dk_172 (dk_at dksX6_pairs_6 4 rfl rfl)
abbrev cX6_behind : ByteArray := prog_12_method_83_code
def yX6_behind : MethodName := ⟨RX6, "behind", "(I)I"⟩
def dkwX6_behind_2 : List UInt8 := [126, 61, 42, 3, 181, 0, 15, 42, 28, 184, 1, 9, 133, 182, 1, 117, 28, 172]
abbrev dktX6_behind_2 : List UInt8 := dkwX6_behind_2 ++ []
def dkwX6_behind_1 : List UInt8 := [27, 46, 182, 1, 80, 42, 42, 180, 0, 41, 42, 42, 180, 0, 41, 27, 182, 1, 44, 182, 1, 154, 2, 130]
abbrev dktX6_behind_1 : List UInt8 := dkwX6_behind_1 ++ dktX6_behind_2
def dkwX6_behind_0 : List UInt8 := [42, 3, 181, 0, 3, 42, 27, 182, 1, 59, 154, 0, 5, 2, 172, 42, 42, 180, 0, 41, 42, 180, 0, 41]
abbrev dktX6_behind_0 : List UInt8 := dkwX6_behind_0 ++ dktX6_behind_1
theorem dksX6_behind_0 : cX6_behind.data.toList.drop 0 = dktX6_behind_0 := by decide +kernel
theorem dksX6_behind_1 : cX6_behind.data.toList.drop 24 = dktX6_behind_1 := dk_seg dksX6_behind_0 24 rfl rfl
theorem dksX6_behind_2 : cX6_behind.data.toList.drop 48 = dktX6_behind_2 := dk_seg dksX6_behind_1 24 rfl rfl
theorem dX6_behind_0 : decode cX6_behind 0 = .ok (.aload_n 0, 1) := dk_42 (dk_at dksX6_behind_0 0 rfl rfl)
theorem dX6_behind_1 : decode cX6_behind 1 = .ok (.iconst 0, 1) := dk_3 (dk_at dksX6_behind_0 1 rfl rfl)
theorem dX6_behind_2 : decode cX6_behind 2 = .ok (.putfield 3, 3) := dk_181 0 3 (dk_at dksX6_behind_0 2 rfl rfl)
theorem dX6_behind_5 : decode cX6_behind 5 = .ok (.aload_n 0, 1) := dk_42 (dk_at dksX6_behind_0 5 rfl rfl)
theorem dX6_behind_6 : decode cX6_behind 6 = .ok (.iload_n 1, 1) := dk_27 (dk_at dksX6_behind_0 6 rfl rfl)
theorem dX6_behind_7 : decode cX6_behind 7 = .ok (.invokevirtual 315, 3) := dk_182 1 59 (dk_at dksX6_behind_0 7 rfl rfl)
theorem dX6_behind_10 : decode cX6_behind 10 = .ok (.ifCond .ne 5, 3) := dk_154 0 5 (dk_at dksX6_behind_0 10 rfl rfl)
theorem dX6_behind_13 : decode cX6_behind 13 = .ok (.iconst (-1), 1) := dk_2 (dk_at dksX6_behind_0 13 rfl rfl)
theorem dX6_behind_14 : decode cX6_behind 14 = .ok (.ireturn, 1) := dk_172 (dk_at dksX6_behind_0 14 rfl rfl)
theorem dX6_behind_15 : decode cX6_behind 15 = .ok (.aload_n 0, 1) := dk_42 (dk_at dksX6_behind_0 15 rfl rfl)
theorem dX6_behind_16 : decode cX6_behind 16 = .ok (.aload_n 0, 1) := dk_42 (dk_at dksX6_behind_0 16 rfl rfl)
theorem dX6_behind_17 : decode cX6_behind 17 = .ok (.getfield 41, 3) := dk_180 0 41 (dk_at dksX6_behind_0 17 rfl rfl)
theorem dX6_behind_20 : decode cX6_behind 20 = .ok (.aload_n 0, 1) := dk_42 (dk_at dksX6_behind_0 20 rfl rfl)
theorem dX6_behind_21 : decode cX6_behind 21 = .ok (.getfield 41, 3) := dk_180 0 41 (dk_at dksX6_behind_0 21 rfl rfl)
theorem dX6_behind_24 : decode cX6_behind 24 = .ok (.iload_n 1, 1) := dk_27 (dk_at dksX6_behind_1 0 rfl rfl)
theorem dX6_behind_25 : decode cX6_behind 25 = .ok (.iaload, 1) := dk_46 (dk_at dksX6_behind_1 1 rfl rfl)
theorem dX6_behind_26 : decode cX6_behind 26 = .ok (.invokevirtual 336, 3) := dk_182 1 80 (dk_at dksX6_behind_1 2 rfl rfl)
theorem dX6_behind_29 : decode cX6_behind 29 = .ok (.aload_n 0, 1) := dk_42 (dk_at dksX6_behind_1 5 rfl rfl)
theorem dX6_behind_30 : decode cX6_behind 30 = .ok (.aload_n 0, 1) := dk_42 (dk_at dksX6_behind_1 6 rfl rfl)
theorem dX6_behind_31 : decode cX6_behind 31 = .ok (.getfield 41, 3) := dk_180 0 41 (dk_at dksX6_behind_1 7 rfl rfl)
theorem dX6_behind_34 : decode cX6_behind 34 = .ok (.aload_n 0, 1) := dk_42 (dk_at dksX6_behind_1 10 rfl rfl)
theorem dX6_behind_35 : decode cX6_behind 35 = .ok (.aload_n 0, 1) := dk_42 (dk_at dksX6_behind_1 11 rfl rfl)
theorem dX6_behind_36 : decode cX6_behind 36 = .ok (.getfield 41, 3) := dk_180 0 41 (dk_at dksX6_behind_1 12 rfl rfl)
theorem dX6_behind_39 : decode cX6_behind 39 = .ok (.iload_n 1, 1) := dk_27 (dk_at dksX6_behind_1 15 rfl rfl)
theorem dX6_behind_40 : decode cX6_behind 40 = .ok (.invokevirtual 300, 3) := dk_182 1 44 (dk_at dksX6_behind_1 16 rfl rfl)
theorem dX6_behind_43 : decode cX6_behind 43 = .ok (.invokevirtual 410, 3) := dk_182 1 154 (dk_at dksX6_behind_1 19 rfl rfl)
theorem dX6_behind_46 : decode cX6_behind 46 = .ok (.iconst (-1), 1) := dk_2 (dk_at dksX6_behind_1 22 rfl rfl)
theorem dX6_behind_47 : decode cX6_behind 47 = .ok (.ixor, 1) := dk_130 (dk_at dksX6_behind_1 23 rfl rfl)
theorem dX6_behind_48 : decode cX6_behind 48 = .ok (.iand, 1) := dk_126 (dk_at dksX6_behind_2 0 rfl rfl)
theorem dX6_behind_49 : decode cX6_behind 49 = .ok (.istore_n 2, 1) := dk_61 (dk_at dksX6_behind_2 1 rfl rfl)
theorem dX6_behind_50 : decode cX6_behind 50 = .ok (.aload_n 0, 1) := dk_42 (dk_at dksX6_behind_2 2 rfl rfl)
theorem dX6_behind_51 : decode cX6_behind 51 = .ok (.iconst 0, 1) := dk_3 (dk_at dksX6_behind_2 3 rfl rfl)
theorem dX6_behind_52 : decode cX6_behind 52 = .ok (.putfield 15, 3) := dk_181 0 15 (dk_at dksX6_behind_2 4 rfl rfl)
theorem dX6_behind_55 : decode cX6_behind 55 = .ok (.aload_n 0, 1) := dk_42 (dk_at dksX6_behind_2 7 rfl rfl)
theorem dX6_behind_56 : decode cX6_behind 56 = .ok (.iload_n 2, 1) := dk_28 (dk_at dksX6_behind_2 8 rfl rfl)
theorem dX6_behind_57 : decode cX6_behind 57 = .ok (.invokestatic 265, 3) := dk_184 1 9 (dk_at dksX6_behind_2 9 rfl rfl)
theorem dX6_behind_60 : decode cX6_behind 60 = .ok (.i2l, 1) := dk_133 (dk_at dksX6_behind_2 12 rfl rfl)
theorem dX6_behind_61 : decode cX6_behind 61 = .ok (.invokevirtual 373, 3) := dk_182 1 117 (dk_at dksX6_behind_2 13 rfl rfl)
theorem dX6_behind_64 : decode cX6_behind 64 = .ok (.iload_n 2, 1) := dk_28 (dk_at dksX6_behind_2 16 rfl rfl)
theorem dX6_behind_65 : decode cX6_behind 65 = .ok (.ireturn, 1) := dk_172 (dk_at dksX6_behind_2 17 rfl rfl)
abbrev cX6_widest : ByteArray := prog_12_method_84_code
def yX6_widest : MethodName := ⟨RX6, "widest", "()I"⟩
def dkwX6_widest_6 : List UInt8 := [182, 1, 117, 27, 172]
abbrev dktX6_widest_6 : List UInt8 := dkwX6_widest_6 ++ []
def dkwX6_widest_5 : List UInt8 := [182, 1, 117, 42, 28, 133, 182, 1, 117, 42, 42, 42, 180, 0, 41, 28, 182, 1, 44, 184, 1, 149, 133]
abbrev dktX6_widest_5 : List UInt8 := dkwX6_widest_5 ++ dktX6_widest_6
def dkwX6_widest_4 : List UInt8 := [167, 255, 185, 42, 3, 181, 0, 15, 42, 42, 42, 180, 0, 41, 27, 182, 1, 44, 184, 1, 149, 133]
abbrev dktX6_widest_4 : List UInt8 := dkwX6_widest_4 ++ dktX6_widest_5
def dkwX6_widest_3 : List UInt8 := [180, 0, 41, 28, 182, 1, 44, 184, 1, 149, 162, 0, 7, 29, 167, 0, 4, 28, 61, 132, 3, 1]
abbrev dktX6_widest_3 : List UInt8 := dkwX6_widest_3 ++ dktX6_widest_4
def dkwX6_widest_2 : List UInt8 := [180, 0, 41, 27, 182, 1, 44, 184, 1, 149, 164, 0, 7, 29, 167, 0, 4, 27, 60, 21, 4, 42, 42]
abbrev dktX6_widest_2 : List UInt8 := dkwX6_widest_2 ++ dktX6_widest_3
def dkwX6_widest_1 : List UInt8 := [180, 0, 130, 162, 0, 69, 42, 42, 180, 0, 41, 29, 182, 1, 44, 184, 1, 149, 54, 4, 21, 4, 42, 42]
abbrev dktX6_widest_1 : List UInt8 := dkwX6_widest_1 ++ dktX6_widest_2
def dkwX6_widest_0 : List UInt8 := [42, 3, 181, 0, 3, 42, 180, 0, 130, 154, 0, 6, 16, 254, 172, 3, 60, 3, 61, 4, 62, 29, 42]
abbrev dktX6_widest_0 : List UInt8 := dkwX6_widest_0 ++ dktX6_widest_1
theorem dksX6_widest_0 : cX6_widest.data.toList.drop 0 = dktX6_widest_0 := by decide +kernel
theorem dksX6_widest_1 : cX6_widest.data.toList.drop 23 = dktX6_widest_1 := dk_seg dksX6_widest_0 23 rfl rfl
theorem dksX6_widest_2 : cX6_widest.data.toList.drop 47 = dktX6_widest_2 := dk_seg dksX6_widest_1 24 rfl rfl
theorem dksX6_widest_3 : cX6_widest.data.toList.drop 70 = dktX6_widest_3 := dk_seg dksX6_widest_2 23 rfl rfl
theorem dksX6_widest_4 : cX6_widest.data.toList.drop 92 = dktX6_widest_4 := dk_seg dksX6_widest_3 22 rfl rfl
theorem dksX6_widest_5 : cX6_widest.data.toList.drop 114 = dktX6_widest_5 := dk_seg dksX6_widest_4 22 rfl rfl
theorem dksX6_widest_6 : cX6_widest.data.toList.drop 137 = dktX6_widest_6 := dk_seg dksX6_widest_5 23 rfl rfl
theorem dX6_widest_0 : decode cX6_widest 0 = .ok (.aload_n 0, 1) := dk_42 (dk_at dksX6_widest_0 0 rfl rfl)
theorem dX6_widest_1 : decode cX6_widest 1 = .ok (.iconst 0, 1) := dk_3 (dk_at dksX6_widest_0 1 rfl rfl)
theorem dX6_widest_2 : decode cX6_widest 2 = .ok (.putfield 3, 3) := dk_181 0 3 (dk_at dksX6_widest_0 2 rfl rfl)
theorem dX6_widest_5 : decode cX6_widest 5 = .ok (.aload_n 0, 1) := dk_42 (dk_at dksX6_widest_0 5 rfl rfl)
theorem dX6_widest_6 : decode cX6_widest 6 = .ok (.getfield 130, 3) := dk_180 0 130 (dk_at dksX6_widest_0 6 rfl rfl)
theorem dX6_widest_9 : decode cX6_widest 9 = .ok (.ifCond .ne 6, 3) := dk_154 0 6 (dk_at dksX6_widest_0 9 rfl rfl)
theorem dX6_widest_12 : decode cX6_widest 12 = .ok (.bipush (-2), 2) := dk_16 254 (dk_at dksX6_widest_0 12 rfl rfl)
theorem dX6_widest_14 : decode cX6_widest 14 = .ok (.ireturn, 1) := dk_172 (dk_at dksX6_widest_0 14 rfl rfl)
theorem dX6_widest_15 : decode cX6_widest 15 = .ok (.iconst 0, 1) := dk_3 (dk_at dksX6_widest_0 15 rfl rfl)
theorem dX6_widest_16 : decode cX6_widest 16 = .ok (.istore_n 1, 1) := dk_60 (dk_at dksX6_widest_0 16 rfl rfl)
theorem dX6_widest_17 : decode cX6_widest 17 = .ok (.iconst 0, 1) := dk_3 (dk_at dksX6_widest_0 17 rfl rfl)
theorem dX6_widest_18 : decode cX6_widest 18 = .ok (.istore_n 2, 1) := dk_61 (dk_at dksX6_widest_0 18 rfl rfl)
theorem dX6_widest_19 : decode cX6_widest 19 = .ok (.iconst 1, 1) := dk_4 (dk_at dksX6_widest_0 19 rfl rfl)
theorem dX6_widest_20 : decode cX6_widest 20 = .ok (.istore_n 3, 1) := dk_62 (dk_at dksX6_widest_0 20 rfl rfl)
theorem dX6_widest_21 : decode cX6_widest 21 = .ok (.iload_n 3, 1) := dk_29 (dk_at dksX6_widest_0 21 rfl rfl)
theorem dX6_widest_22 : decode cX6_widest 22 = .ok (.aload_n 0, 1) := dk_42 (dk_at dksX6_widest_0 22 rfl rfl)
theorem dX6_widest_23 : decode cX6_widest 23 = .ok (.getfield 130, 3) := dk_180 0 130 (dk_at dksX6_widest_1 0 rfl rfl)
theorem dX6_widest_26 : decode cX6_widest 26 = .ok (.if_icmp .ge 69, 3) := dk_162 0 69 (dk_at dksX6_widest_1 3 rfl rfl)
theorem dX6_widest_29 : decode cX6_widest 29 = .ok (.aload_n 0, 1) := dk_42 (dk_at dksX6_widest_1 6 rfl rfl)
theorem dX6_widest_30 : decode cX6_widest 30 = .ok (.aload_n 0, 1) := dk_42 (dk_at dksX6_widest_1 7 rfl rfl)
theorem dX6_widest_31 : decode cX6_widest 31 = .ok (.getfield 41, 3) := dk_180 0 41 (dk_at dksX6_widest_1 8 rfl rfl)
theorem dX6_widest_34 : decode cX6_widest 34 = .ok (.iload_n 3, 1) := dk_29 (dk_at dksX6_widest_1 11 rfl rfl)
theorem dX6_widest_35 : decode cX6_widest 35 = .ok (.invokevirtual 300, 3) := dk_182 1 44 (dk_at dksX6_widest_1 12 rfl rfl)
theorem dX6_widest_38 : decode cX6_widest 38 = .ok (.invokestatic 405, 3) := dk_184 1 149 (dk_at dksX6_widest_1 15 rfl rfl)
theorem dX6_widest_41 : decode cX6_widest 41 = .ok (.istore 4, 2) := dk_54 4 (dk_at dksX6_widest_1 18 rfl rfl)
theorem dX6_widest_43 : decode cX6_widest 43 = .ok (.iload 4, 2) := dk_21 4 (dk_at dksX6_widest_1 20 rfl rfl)
theorem dX6_widest_45 : decode cX6_widest 45 = .ok (.aload_n 0, 1) := dk_42 (dk_at dksX6_widest_1 22 rfl rfl)
theorem dX6_widest_46 : decode cX6_widest 46 = .ok (.aload_n 0, 1) := dk_42 (dk_at dksX6_widest_1 23 rfl rfl)
theorem dX6_widest_47 : decode cX6_widest 47 = .ok (.getfield 41, 3) := dk_180 0 41 (dk_at dksX6_widest_2 0 rfl rfl)
theorem dX6_widest_50 : decode cX6_widest 50 = .ok (.iload_n 1, 1) := dk_27 (dk_at dksX6_widest_2 3 rfl rfl)
theorem dX6_widest_51 : decode cX6_widest 51 = .ok (.invokevirtual 300, 3) := dk_182 1 44 (dk_at dksX6_widest_2 4 rfl rfl)
theorem dX6_widest_54 : decode cX6_widest 54 = .ok (.invokestatic 405, 3) := dk_184 1 149 (dk_at dksX6_widest_2 7 rfl rfl)
theorem dX6_widest_57 : decode cX6_widest 57 = .ok (.if_icmp .le 7, 3) := dk_164 0 7 (dk_at dksX6_widest_2 10 rfl rfl)
theorem dX6_widest_60 : decode cX6_widest 60 = .ok (.iload_n 3, 1) := dk_29 (dk_at dksX6_widest_2 13 rfl rfl)
theorem dX6_widest_61 : decode cX6_widest 61 = .ok (.goto 4, 3) := dk_167 0 4 (dk_at dksX6_widest_2 14 rfl rfl)
theorem dX6_widest_64 : decode cX6_widest 64 = .ok (.iload_n 1, 1) := dk_27 (dk_at dksX6_widest_2 17 rfl rfl)
theorem dX6_widest_65 : decode cX6_widest 65 = .ok (.istore_n 1, 1) := dk_60 (dk_at dksX6_widest_2 18 rfl rfl)
theorem dX6_widest_66 : decode cX6_widest 66 = .ok (.iload 4, 2) := dk_21 4 (dk_at dksX6_widest_2 19 rfl rfl)
theorem dX6_widest_68 : decode cX6_widest 68 = .ok (.aload_n 0, 1) := dk_42 (dk_at dksX6_widest_2 21 rfl rfl)
theorem dX6_widest_69 : decode cX6_widest 69 = .ok (.aload_n 0, 1) := dk_42 (dk_at dksX6_widest_2 22 rfl rfl)
theorem dX6_widest_70 : decode cX6_widest 70 = .ok (.getfield 41, 3) := dk_180 0 41 (dk_at dksX6_widest_3 0 rfl rfl)
theorem dX6_widest_73 : decode cX6_widest 73 = .ok (.iload_n 2, 1) := dk_28 (dk_at dksX6_widest_3 3 rfl rfl)
theorem dX6_widest_74 : decode cX6_widest 74 = .ok (.invokevirtual 300, 3) := dk_182 1 44 (dk_at dksX6_widest_3 4 rfl rfl)
theorem dX6_widest_77 : decode cX6_widest 77 = .ok (.invokestatic 405, 3) := dk_184 1 149 (dk_at dksX6_widest_3 7 rfl rfl)
theorem dX6_widest_80 : decode cX6_widest 80 = .ok (.if_icmp .ge 7, 3) := dk_162 0 7 (dk_at dksX6_widest_3 10 rfl rfl)
theorem dX6_widest_83 : decode cX6_widest 83 = .ok (.iload_n 3, 1) := dk_29 (dk_at dksX6_widest_3 13 rfl rfl)
theorem dX6_widest_84 : decode cX6_widest 84 = .ok (.goto 4, 3) := dk_167 0 4 (dk_at dksX6_widest_3 14 rfl rfl)
theorem dX6_widest_87 : decode cX6_widest 87 = .ok (.iload_n 2, 1) := dk_28 (dk_at dksX6_widest_3 17 rfl rfl)
theorem dX6_widest_88 : decode cX6_widest 88 = .ok (.istore_n 2, 1) := dk_61 (dk_at dksX6_widest_3 18 rfl rfl)
theorem dX6_widest_89 : decode cX6_widest 89 = .ok (.iinc 3 1, 3) := dk_132 3 1 (dk_at dksX6_widest_3 19 rfl rfl)
theorem dX6_widest_92 : decode cX6_widest 92 = .ok (.goto (-71), 3) := dk_167 255 185 (dk_at dksX6_widest_4 0 rfl rfl)
theorem dX6_widest_95 : decode cX6_widest 95 = .ok (.aload_n 0, 1) := dk_42 (dk_at dksX6_widest_4 3 rfl rfl)
theorem dX6_widest_96 : decode cX6_widest 96 = .ok (.iconst 0, 1) := dk_3 (dk_at dksX6_widest_4 4 rfl rfl)
theorem dX6_widest_97 : decode cX6_widest 97 = .ok (.putfield 15, 3) := dk_181 0 15 (dk_at dksX6_widest_4 5 rfl rfl)
theorem dX6_widest_100 : decode cX6_widest 100 = .ok (.aload_n 0, 1) := dk_42 (dk_at dksX6_widest_4 8 rfl rfl)
theorem dX6_widest_101 : decode cX6_widest 101 = .ok (.aload_n 0, 1) := dk_42 (dk_at dksX6_widest_4 9 rfl rfl)
theorem dX6_widest_102 : decode cX6_widest 102 = .ok (.aload_n 0, 1) := dk_42 (dk_at dksX6_widest_4 10 rfl rfl)
theorem dX6_widest_103 : decode cX6_widest 103 = .ok (.getfield 41, 3) := dk_180 0 41 (dk_at dksX6_widest_4 11 rfl rfl)
theorem dX6_widest_106 : decode cX6_widest 106 = .ok (.iload_n 1, 1) := dk_27 (dk_at dksX6_widest_4 14 rfl rfl)
theorem dX6_widest_107 : decode cX6_widest 107 = .ok (.invokevirtual 300, 3) := dk_182 1 44 (dk_at dksX6_widest_4 15 rfl rfl)
theorem dX6_widest_110 : decode cX6_widest 110 = .ok (.invokestatic 405, 3) := dk_184 1 149 (dk_at dksX6_widest_4 18 rfl rfl)
theorem dX6_widest_113 : decode cX6_widest 113 = .ok (.i2l, 1) := dk_133 (dk_at dksX6_widest_4 21 rfl rfl)
theorem dX6_widest_114 : decode cX6_widest 114 = .ok (.invokevirtual 373, 3) := dk_182 1 117 (dk_at dksX6_widest_5 0 rfl rfl)
theorem dX6_widest_117 : decode cX6_widest 117 = .ok (.aload_n 0, 1) := dk_42 (dk_at dksX6_widest_5 3 rfl rfl)
theorem dX6_widest_118 : decode cX6_widest 118 = .ok (.iload_n 2, 1) := dk_28 (dk_at dksX6_widest_5 4 rfl rfl)
theorem dX6_widest_119 : decode cX6_widest 119 = .ok (.i2l, 1) := dk_133 (dk_at dksX6_widest_5 5 rfl rfl)
theorem dX6_widest_120 : decode cX6_widest 120 = .ok (.invokevirtual 373, 3) := dk_182 1 117 (dk_at dksX6_widest_5 6 rfl rfl)
theorem dX6_widest_123 : decode cX6_widest 123 = .ok (.aload_n 0, 1) := dk_42 (dk_at dksX6_widest_5 9 rfl rfl)
theorem dX6_widest_124 : decode cX6_widest 124 = .ok (.aload_n 0, 1) := dk_42 (dk_at dksX6_widest_5 10 rfl rfl)
theorem dX6_widest_125 : decode cX6_widest 125 = .ok (.aload_n 0, 1) := dk_42 (dk_at dksX6_widest_5 11 rfl rfl)
theorem dX6_widest_126 : decode cX6_widest 126 = .ok (.getfield 41, 3) := dk_180 0 41 (dk_at dksX6_widest_5 12 rfl rfl)
theorem dX6_widest_129 : decode cX6_widest 129 = .ok (.iload_n 2, 1) := dk_28 (dk_at dksX6_widest_5 15 rfl rfl)
theorem dX6_widest_130 : decode cX6_widest 130 = .ok (.invokevirtual 300, 3) := dk_182 1 44 (dk_at dksX6_widest_5 16 rfl rfl)
theorem dX6_widest_133 : decode cX6_widest 133 = .ok (.invokestatic 405, 3) := dk_184 1 149 (dk_at dksX6_widest_5 19 rfl rfl)
theorem dX6_widest_136 : decode cX6_widest 136 = .ok (.i2l, 1) := dk_133 (dk_at dksX6_widest_5 22 rfl rfl)
theorem dX6_widest_137 : decode cX6_widest 137 = .ok (.invokevirtual 373, 3) := dk_182 1 117 (dk_at dksX6_widest_6 0 rfl rfl)
theorem dX6_widest_140 : decode cX6_widest 140 = .ok (.iload_n 1, 1) := dk_27 (dk_at dksX6_widest_6 3 rfl rfl)
theorem dX6_widest_141 : decode cX6_widest 141 = .ok (.ireturn, 1) := dk_172 (dk_at dksX6_widest_6 4 rfl rfl)
abbrev cX6_watch : ByteArray := prog_12_method_86_code
def yX6_watch : MethodName := ⟨RX6, "watch", "()I"⟩
def dkwX6_watch_6 : List UInt8 := [181, 0, 15, 42, 29, 133, 182, 1, 117, 29, 184, 1, 9, 172]
abbrev dktX6_watch_6 : List UInt8 := dkwX6_watch_6 ++ []
def dkwX6_watch_5 : List UInt8 := [21, 4, 29, 184, 1, 165, 153, 0, 8, 21, 4, 167, 0, 4, 29, 62, 132, 4, 1, 167, 255, 171, 42, 3]
abbrev dktX6_watch_5 : List UInt8 := dkwX6_watch_5 ++ dktX6_watch_6
def dkwX6_watch_4 : List UInt8 := [21, 7, 47, 167, 0, 4, 9, 129, 55, 5, 132, 7, 1, 167, 255, 217, 22, 5, 31, 148, 154, 0, 17]
abbrev dktX6_watch_4 : List UInt8 := dkwX6_watch_4 ++ dktX6_watch_5
def dkwX6_watch_3 : List UInt8 := [180, 0, 130, 162, 0, 36, 22, 5, 21, 4, 133, 21, 7, 184, 1, 48, 153, 0, 13, 42, 180, 0, 86]
abbrev dktX6_watch_3 : List UInt8 := dkwX6_watch_3 ++ dktX6_watch_4
def dkwX6_watch_2 : List UInt8 := [54, 4, 21, 4, 4, 42, 180, 0, 130, 120, 162, 0, 80, 9, 55, 5, 3, 54, 7, 21, 7, 42]
abbrev dktX6_watch_2 : List UInt8 := dkwX6_watch_2 ++ dktX6_watch_3
def dkwX6_watch_1 : List UInt8 := [42, 180, 0, 86, 29, 42, 42, 180, 0, 41, 29, 182, 1, 44, 80, 132, 3, 1, 167, 255, 230, 2, 62, 3]
abbrev dktX6_watch_1 : List UInt8 := dkwX6_watch_1 ++ dktX6_watch_2
def dkwX6_watch_0 : List UInt8 := [42, 3, 181, 0, 3, 42, 42, 180, 0, 41, 182, 1, 161, 64, 3, 62, 29, 42, 180, 0, 130, 162, 0, 24]
abbrev dktX6_watch_0 : List UInt8 := dkwX6_watch_0 ++ dktX6_watch_1
theorem dksX6_watch_0 : cX6_watch.data.toList.drop 0 = dktX6_watch_0 := by decide +kernel
theorem dksX6_watch_1 : cX6_watch.data.toList.drop 24 = dktX6_watch_1 := dk_seg dksX6_watch_0 24 rfl rfl
theorem dksX6_watch_2 : cX6_watch.data.toList.drop 48 = dktX6_watch_2 := dk_seg dksX6_watch_1 24 rfl rfl
theorem dksX6_watch_3 : cX6_watch.data.toList.drop 70 = dktX6_watch_3 := dk_seg dksX6_watch_2 22 rfl rfl
theorem dksX6_watch_4 : cX6_watch.data.toList.drop 93 = dktX6_watch_4 := dk_seg dksX6_watch_3 23 rfl rfl
theorem dksX6_watch_5 : cX6_watch.data.toList.drop 116 = dktX6_watch_5 := dk_seg dksX6_watch_4 23 rfl rfl
theorem dksX6_watch_6 : cX6_watch.data.toList.drop 140 = dktX6_watch_6 := dk_seg dksX6_watch_5 24 rfl rfl
theorem dX6_watch_0 : decode cX6_watch 0 = .ok (.aload_n 0, 1) := dk_42 (dk_at dksX6_watch_0 0 rfl rfl)
theorem dX6_watch_1 : decode cX6_watch 1 = .ok (.iconst 0, 1) := dk_3 (dk_at dksX6_watch_0 1 rfl rfl)
theorem dX6_watch_2 : decode cX6_watch 2 = .ok (.putfield 3, 3) := dk_181 0 3 (dk_at dksX6_watch_0 2 rfl rfl)
theorem dX6_watch_5 : decode cX6_watch 5 = .ok (.aload_n 0, 1) := dk_42 (dk_at dksX6_watch_0 5 rfl rfl)
theorem dX6_watch_6 : decode cX6_watch 6 = .ok (.aload_n 0, 1) := dk_42 (dk_at dksX6_watch_0 6 rfl rfl)
theorem dX6_watch_7 : decode cX6_watch 7 = .ok (.getfield 41, 3) := dk_180 0 41 (dk_at dksX6_watch_0 7 rfl rfl)
theorem dX6_watch_10 : decode cX6_watch 10 = .ok (.invokevirtual 417, 3) := dk_182 1 161 (dk_at dksX6_watch_0 10 rfl rfl)
theorem dX6_watch_13 : decode cX6_watch 13 = .ok (.lstore_n 1, 1) := dk_64 (dk_at dksX6_watch_0 13 rfl rfl)
theorem dX6_watch_14 : decode cX6_watch 14 = .ok (.iconst 0, 1) := dk_3 (dk_at dksX6_watch_0 14 rfl rfl)
theorem dX6_watch_15 : decode cX6_watch 15 = .ok (.istore_n 3, 1) := dk_62 (dk_at dksX6_watch_0 15 rfl rfl)
theorem dX6_watch_16 : decode cX6_watch 16 = .ok (.iload_n 3, 1) := dk_29 (dk_at dksX6_watch_0 16 rfl rfl)
theorem dX6_watch_17 : decode cX6_watch 17 = .ok (.aload_n 0, 1) := dk_42 (dk_at dksX6_watch_0 17 rfl rfl)
theorem dX6_watch_18 : decode cX6_watch 18 = .ok (.getfield 130, 3) := dk_180 0 130 (dk_at dksX6_watch_0 18 rfl rfl)
theorem dX6_watch_21 : decode cX6_watch 21 = .ok (.if_icmp .ge 24, 3) := dk_162 0 24 (dk_at dksX6_watch_0 21 rfl rfl)
theorem dX6_watch_24 : decode cX6_watch 24 = .ok (.aload_n 0, 1) := dk_42 (dk_at dksX6_watch_1 0 rfl rfl)
theorem dX6_watch_25 : decode cX6_watch 25 = .ok (.getfield 86, 3) := dk_180 0 86 (dk_at dksX6_watch_1 1 rfl rfl)
theorem dX6_watch_28 : decode cX6_watch 28 = .ok (.iload_n 3, 1) := dk_29 (dk_at dksX6_watch_1 4 rfl rfl)
theorem dX6_watch_29 : decode cX6_watch 29 = .ok (.aload_n 0, 1) := dk_42 (dk_at dksX6_watch_1 5 rfl rfl)
theorem dX6_watch_30 : decode cX6_watch 30 = .ok (.aload_n 0, 1) := dk_42 (dk_at dksX6_watch_1 6 rfl rfl)
theorem dX6_watch_31 : decode cX6_watch 31 = .ok (.getfield 41, 3) := dk_180 0 41 (dk_at dksX6_watch_1 7 rfl rfl)
theorem dX6_watch_34 : decode cX6_watch 34 = .ok (.iload_n 3, 1) := dk_29 (dk_at dksX6_watch_1 10 rfl rfl)
theorem dX6_watch_35 : decode cX6_watch 35 = .ok (.invokevirtual 300, 3) := dk_182 1 44 (dk_at dksX6_watch_1 11 rfl rfl)
theorem dX6_watch_38 : decode cX6_watch 38 = .ok (.lastore, 1) := dk_80 (dk_at dksX6_watch_1 14 rfl rfl)
theorem dX6_watch_39 : decode cX6_watch 39 = .ok (.iinc 3 1, 3) := dk_132 3 1 (dk_at dksX6_watch_1 15 rfl rfl)
theorem dX6_watch_42 : decode cX6_watch 42 = .ok (.goto (-26), 3) := dk_167 255 230 (dk_at dksX6_watch_1 18 rfl rfl)
theorem dX6_watch_45 : decode cX6_watch 45 = .ok (.iconst (-1), 1) := dk_2 (dk_at dksX6_watch_1 21 rfl rfl)
theorem dX6_watch_46 : decode cX6_watch 46 = .ok (.istore_n 3, 1) := dk_62 (dk_at dksX6_watch_1 22 rfl rfl)
theorem dX6_watch_47 : decode cX6_watch 47 = .ok (.iconst 0, 1) := dk_3 (dk_at dksX6_watch_1 23 rfl rfl)
theorem dX6_watch_48 : decode cX6_watch 48 = .ok (.istore 4, 2) := dk_54 4 (dk_at dksX6_watch_2 0 rfl rfl)
theorem dX6_watch_50 : decode cX6_watch 50 = .ok (.iload 4, 2) := dk_21 4 (dk_at dksX6_watch_2 2 rfl rfl)
theorem dX6_watch_52 : decode cX6_watch 52 = .ok (.iconst 1, 1) := dk_4 (dk_at dksX6_watch_2 4 rfl rfl)
theorem dX6_watch_53 : decode cX6_watch 53 = .ok (.aload_n 0, 1) := dk_42 (dk_at dksX6_watch_2 5 rfl rfl)
theorem dX6_watch_54 : decode cX6_watch 54 = .ok (.getfield 130, 3) := dk_180 0 130 (dk_at dksX6_watch_2 6 rfl rfl)
theorem dX6_watch_57 : decode cX6_watch 57 = .ok (.ishl, 1) := dk_120 (dk_at dksX6_watch_2 9 rfl rfl)
theorem dX6_watch_58 : decode cX6_watch 58 = .ok (.if_icmp .ge 80, 3) := dk_162 0 80 (dk_at dksX6_watch_2 10 rfl rfl)
theorem dX6_watch_61 : decode cX6_watch 61 = .ok (.lconst 0, 1) := dk_9 (dk_at dksX6_watch_2 13 rfl rfl)
theorem dX6_watch_62 : decode cX6_watch 62 = .ok (.lstore 5, 2) := dk_55 5 (dk_at dksX6_watch_2 14 rfl rfl)
theorem dX6_watch_64 : decode cX6_watch 64 = .ok (.iconst 0, 1) := dk_3 (dk_at dksX6_watch_2 16 rfl rfl)
theorem dX6_watch_65 : decode cX6_watch 65 = .ok (.istore 7, 2) := dk_54 7 (dk_at dksX6_watch_2 17 rfl rfl)
theorem dX6_watch_67 : decode cX6_watch 67 = .ok (.iload 7, 2) := dk_21 7 (dk_at dksX6_watch_2 19 rfl rfl)
theorem dX6_watch_69 : decode cX6_watch 69 = .ok (.aload_n 0, 1) := dk_42 (dk_at dksX6_watch_2 21 rfl rfl)
theorem dX6_watch_70 : decode cX6_watch 70 = .ok (.getfield 130, 3) := dk_180 0 130 (dk_at dksX6_watch_3 0 rfl rfl)
theorem dX6_watch_73 : decode cX6_watch 73 = .ok (.if_icmp .ge 36, 3) := dk_162 0 36 (dk_at dksX6_watch_3 3 rfl rfl)
theorem dX6_watch_76 : decode cX6_watch 76 = .ok (.lload 5, 2) := dk_22 5 (dk_at dksX6_watch_3 6 rfl rfl)
theorem dX6_watch_78 : decode cX6_watch 78 = .ok (.iload 4, 2) := dk_21 4 (dk_at dksX6_watch_3 8 rfl rfl)
theorem dX6_watch_80 : decode cX6_watch 80 = .ok (.i2l, 1) := dk_133 (dk_at dksX6_watch_3 10 rfl rfl)
theorem dX6_watch_81 : decode cX6_watch 81 = .ok (.iload 7, 2) := dk_21 7 (dk_at dksX6_watch_3 11 rfl rfl)
theorem dX6_watch_83 : decode cX6_watch 83 = .ok (.invokestatic 304, 3) := dk_184 1 48 (dk_at dksX6_watch_3 13 rfl rfl)
theorem dX6_watch_86 : decode cX6_watch 86 = .ok (.ifCond .eq 13, 3) := dk_153 0 13 (dk_at dksX6_watch_3 16 rfl rfl)
theorem dX6_watch_89 : decode cX6_watch 89 = .ok (.aload_n 0, 1) := dk_42 (dk_at dksX6_watch_3 19 rfl rfl)
theorem dX6_watch_90 : decode cX6_watch 90 = .ok (.getfield 86, 3) := dk_180 0 86 (dk_at dksX6_watch_3 20 rfl rfl)
theorem dX6_watch_93 : decode cX6_watch 93 = .ok (.iload 7, 2) := dk_21 7 (dk_at dksX6_watch_4 0 rfl rfl)
theorem dX6_watch_95 : decode cX6_watch 95 = .ok (.laload, 1) := dk_47 (dk_at dksX6_watch_4 2 rfl rfl)
theorem dX6_watch_96 : decode cX6_watch 96 = .ok (.goto 4, 3) := dk_167 0 4 (dk_at dksX6_watch_4 3 rfl rfl)
theorem dX6_watch_99 : decode cX6_watch 99 = .ok (.lconst 0, 1) := dk_9 (dk_at dksX6_watch_4 6 rfl rfl)
theorem dX6_watch_100 : decode cX6_watch 100 = .ok (.lor, 1) := dk_129 (dk_at dksX6_watch_4 7 rfl rfl)
theorem dX6_watch_101 : decode cX6_watch 101 = .ok (.lstore 5, 2) := dk_55 5 (dk_at dksX6_watch_4 8 rfl rfl)
theorem dX6_watch_103 : decode cX6_watch 103 = .ok (.iinc 7 1, 3) := dk_132 7 1 (dk_at dksX6_watch_4 10 rfl rfl)
theorem dX6_watch_106 : decode cX6_watch 106 = .ok (.goto (-39), 3) := dk_167 255 217 (dk_at dksX6_watch_4 13 rfl rfl)
theorem dX6_watch_109 : decode cX6_watch 109 = .ok (.lload 5, 2) := dk_22 5 (dk_at dksX6_watch_4 16 rfl rfl)
theorem dX6_watch_111 : decode cX6_watch 111 = .ok (.lload_n 1, 1) := dk_31 (dk_at dksX6_watch_4 18 rfl rfl)
theorem dX6_watch_112 : decode cX6_watch 112 = .ok (.lcmp, 1) := dk_148 (dk_at dksX6_watch_4 19 rfl rfl)
theorem dX6_watch_113 : decode cX6_watch 113 = .ok (.ifCond .ne 17, 3) := dk_154 0 17 (dk_at dksX6_watch_4 20 rfl rfl)
theorem dX6_watch_116 : decode cX6_watch 116 = .ok (.iload 4, 2) := dk_21 4 (dk_at dksX6_watch_5 0 rfl rfl)
theorem dX6_watch_118 : decode cX6_watch 118 = .ok (.iload_n 3, 1) := dk_29 (dk_at dksX6_watch_5 2 rfl rfl)
theorem dX6_watch_119 : decode cX6_watch 119 = .ok (.invokestatic 421, 3) := dk_184 1 165 (dk_at dksX6_watch_5 3 rfl rfl)
theorem dX6_watch_122 : decode cX6_watch 122 = .ok (.ifCond .eq 8, 3) := dk_153 0 8 (dk_at dksX6_watch_5 6 rfl rfl)
theorem dX6_watch_125 : decode cX6_watch 125 = .ok (.iload 4, 2) := dk_21 4 (dk_at dksX6_watch_5 9 rfl rfl)
theorem dX6_watch_127 : decode cX6_watch 127 = .ok (.goto 4, 3) := dk_167 0 4 (dk_at dksX6_watch_5 11 rfl rfl)
theorem dX6_watch_130 : decode cX6_watch 130 = .ok (.iload_n 3, 1) := dk_29 (dk_at dksX6_watch_5 14 rfl rfl)
theorem dX6_watch_131 : decode cX6_watch 131 = .ok (.istore_n 3, 1) := dk_62 (dk_at dksX6_watch_5 15 rfl rfl)
theorem dX6_watch_132 : decode cX6_watch 132 = .ok (.iinc 4 1, 3) := dk_132 4 1 (dk_at dksX6_watch_5 16 rfl rfl)
theorem dX6_watch_135 : decode cX6_watch 135 = .ok (.goto (-85), 3) := dk_167 255 171 (dk_at dksX6_watch_5 19 rfl rfl)
theorem dX6_watch_138 : decode cX6_watch 138 = .ok (.aload_n 0, 1) := dk_42 (dk_at dksX6_watch_5 22 rfl rfl)
theorem dX6_watch_139 : decode cX6_watch 139 = .ok (.iconst 0, 1) := dk_3 (dk_at dksX6_watch_5 23 rfl rfl)
theorem dX6_watch_140 : decode cX6_watch 140 = .ok (.putfield 15, 3) := dk_181 0 15 (dk_at dksX6_watch_6 0 rfl rfl)
theorem dX6_watch_143 : decode cX6_watch 143 = .ok (.aload_n 0, 1) := dk_42 (dk_at dksX6_watch_6 3 rfl rfl)
theorem dX6_watch_144 : decode cX6_watch 144 = .ok (.iload_n 3, 1) := dk_29 (dk_at dksX6_watch_6 4 rfl rfl)
theorem dX6_watch_145 : decode cX6_watch 145 = .ok (.i2l, 1) := dk_133 (dk_at dksX6_watch_6 5 rfl rfl)
theorem dX6_watch_146 : decode cX6_watch 146 = .ok (.invokevirtual 373, 3) := dk_182 1 117 (dk_at dksX6_watch_6 6 rfl rfl)
theorem dX6_watch_149 : decode cX6_watch 149 = .ok (.iload_n 3, 1) := dk_29 (dk_at dksX6_watch_6 9 rfl rfl)
theorem dX6_watch_150 : decode cX6_watch 150 = .ok (.invokestatic 265, 3) := dk_184 1 9 (dk_at dksX6_watch_6 10 rfl rfl)
theorem dX6_watch_153 : decode cX6_watch 153 = .ok (.ireturn, 1) := dk_172 (dk_at dksX6_watch_6 13 rfl rfl)
abbrev cX6_isFewer : ByteArray := prog_12_method_85_code
def yX6_isFewer : MethodName := ⟨RX6, "isFewer", "(II)Z"⟩
def dkwX6_isFewer_0 : List UInt8 := [27, 155, 0, 14, 26, 184, 1, 9, 27, 184, 1, 9, 162, 0, 7, 4, 167, 0, 4, 3, 172]
abbrev dktX6_isFewer_0 : List UInt8 := dkwX6_isFewer_0 ++ []
theorem dksX6_isFewer_0 : cX6_isFewer.data.toList.drop 0 = dktX6_isFewer_0 := by decide +kernel
theorem dX6_isFewer_0 : decode cX6_isFewer 0 = .ok (.iload_n 1, 1) := dk_27 (dk_at dksX6_isFewer_0 0 rfl rfl)
theorem dX6_isFewer_1 : decode cX6_isFewer 1 = .ok (.ifCond .lt 14, 3) := dk_155 0 14 (dk_at dksX6_isFewer_0 1 rfl rfl)
theorem dX6_isFewer_4 : decode cX6_isFewer 4 = .ok (.iload_n 0, 1) := dk_26 (dk_at dksX6_isFewer_0 4 rfl rfl)
theorem dX6_isFewer_5 : decode cX6_isFewer 5 = .ok (.invokestatic 265, 3) := dk_184 1 9 (dk_at dksX6_isFewer_0 5 rfl rfl)
theorem dX6_isFewer_8 : decode cX6_isFewer 8 = .ok (.iload_n 1, 1) := dk_27 (dk_at dksX6_isFewer_0 8 rfl rfl)
theorem dX6_isFewer_9 : decode cX6_isFewer 9 = .ok (.invokestatic 265, 3) := dk_184 1 9 (dk_at dksX6_isFewer_0 9 rfl rfl)
theorem dX6_isFewer_12 : decode cX6_isFewer 12 = .ok (.if_icmp .ge 7, 3) := dk_162 0 7 (dk_at dksX6_isFewer_0 12 rfl rfl)
theorem dX6_isFewer_15 : decode cX6_isFewer 15 = .ok (.iconst 1, 1) := dk_4 (dk_at dksX6_isFewer_0 15 rfl rfl)
theorem dX6_isFewer_16 : decode cX6_isFewer 16 = .ok (.goto 4, 3) := dk_167 0 4 (dk_at dksX6_isFewer_0 16 rfl rfl)
theorem dX6_isFewer_19 : decode cX6_isFewer 19 = .ok (.iconst 0, 1) := dk_3 (dk_at dksX6_isFewer_0 19 rfl rfl)
theorem dX6_isFewer_20 : decode cX6_isFewer 20 = .ok (.ireturn, 1) := dk_172 (dk_at dksX6_isFewer_0 20 rfl rfl)
abbrev cX6_learns : ByteArray := prog_12_method_87_code
def yX6_learns : MethodName := ⟨RX6, "learns", "(II)I"⟩
def dkwX6_learns_3 : List UInt8 := [133, 182, 1, 117, 29, 172, 42, 42, 180, 0, 44, 182, 1, 91, 132, 3, 1, 167, 255, 198, 16, 254, 172]
abbrev dktX6_learns_3 : List UInt8 := dkwX6_learns_3 ++ []
def dkwX6_learns_2 : List UInt8 := [184, 1, 48, 153, 0, 27, 42, 3, 181, 0, 15, 42, 42, 42, 180, 0, 44, 28, 182, 1, 76, 184, 1, 9]
abbrev dktX6_learns_2 : List UInt8 := dkwX6_learns_2 ++ dktX6_learns_3
def dkwX6_learns_1 : List UInt8 := [182, 1, 168, 3, 62, 29, 16, 99, 163, 0, 58, 42, 180, 0, 44, 16, 24, 27, 96, 46, 133, 28]
abbrev dktX6_learns_1 : List UInt8 := dkwX6_learns_1 ++ dktX6_learns_2
def dkwX6_learns_0 : List UInt8 := [42, 3, 181, 0, 3, 42, 27, 182, 1, 59, 153, 0, 11, 42, 28, 182, 1, 71, 154, 0, 5, 2, 172, 42]
abbrev dktX6_learns_0 : List UInt8 := dkwX6_learns_0 ++ dktX6_learns_1
theorem dksX6_learns_0 : cX6_learns.data.toList.drop 0 = dktX6_learns_0 := by decide +kernel
theorem dksX6_learns_1 : cX6_learns.data.toList.drop 24 = dktX6_learns_1 := dk_seg dksX6_learns_0 24 rfl rfl
theorem dksX6_learns_2 : cX6_learns.data.toList.drop 46 = dktX6_learns_2 := dk_seg dksX6_learns_1 22 rfl rfl
theorem dksX6_learns_3 : cX6_learns.data.toList.drop 70 = dktX6_learns_3 := dk_seg dksX6_learns_2 24 rfl rfl
theorem dX6_learns_0 : decode cX6_learns 0 = .ok (.aload_n 0, 1) := dk_42 (dk_at dksX6_learns_0 0 rfl rfl)
theorem dX6_learns_1 : decode cX6_learns 1 = .ok (.iconst 0, 1) := dk_3 (dk_at dksX6_learns_0 1 rfl rfl)
theorem dX6_learns_2 : decode cX6_learns 2 = .ok (.putfield 3, 3) := dk_181 0 3 (dk_at dksX6_learns_0 2 rfl rfl)
theorem dX6_learns_5 : decode cX6_learns 5 = .ok (.aload_n 0, 1) := dk_42 (dk_at dksX6_learns_0 5 rfl rfl)
theorem dX6_learns_6 : decode cX6_learns 6 = .ok (.iload_n 1, 1) := dk_27 (dk_at dksX6_learns_0 6 rfl rfl)
theorem dX6_learns_7 : decode cX6_learns 7 = .ok (.invokevirtual 315, 3) := dk_182 1 59 (dk_at dksX6_learns_0 7 rfl rfl)
theorem dX6_learns_10 : decode cX6_learns 10 = .ok (.ifCond .eq 11, 3) := dk_153 0 11 (dk_at dksX6_learns_0 10 rfl rfl)
theorem dX6_learns_13 : decode cX6_learns 13 = .ok (.aload_n 0, 1) := dk_42 (dk_at dksX6_learns_0 13 rfl rfl)
theorem dX6_learns_14 : decode cX6_learns 14 = .ok (.iload_n 2, 1) := dk_28 (dk_at dksX6_learns_0 14 rfl rfl)
theorem dX6_learns_15 : decode cX6_learns 15 = .ok (.invokevirtual 327, 3) := dk_182 1 71 (dk_at dksX6_learns_0 15 rfl rfl)
theorem dX6_learns_18 : decode cX6_learns 18 = .ok (.ifCond .ne 5, 3) := dk_154 0 5 (dk_at dksX6_learns_0 18 rfl rfl)
theorem dX6_learns_21 : decode cX6_learns 21 = .ok (.iconst (-1), 1) := dk_2 (dk_at dksX6_learns_0 21 rfl rfl)
theorem dX6_learns_22 : decode cX6_learns 22 = .ok (.ireturn, 1) := dk_172 (dk_at dksX6_learns_0 22 rfl rfl)
theorem dX6_learns_23 : decode cX6_learns 23 = .ok (.aload_n 0, 1) := dk_42 (dk_at dksX6_learns_0 23 rfl rfl)
theorem dX6_learns_24 : decode cX6_learns 24 = .ok (.invokevirtual 424, 3) := dk_182 1 168 (dk_at dksX6_learns_1 0 rfl rfl)
theorem dX6_learns_27 : decode cX6_learns 27 = .ok (.iconst 0, 1) := dk_3 (dk_at dksX6_learns_1 3 rfl rfl)
theorem dX6_learns_28 : decode cX6_learns 28 = .ok (.istore_n 3, 1) := dk_62 (dk_at dksX6_learns_1 4 rfl rfl)
theorem dX6_learns_29 : decode cX6_learns 29 = .ok (.iload_n 3, 1) := dk_29 (dk_at dksX6_learns_1 5 rfl rfl)
theorem dX6_learns_30 : decode cX6_learns 30 = .ok (.bipush 99, 2) := dk_16 99 (dk_at dksX6_learns_1 6 rfl rfl)
theorem dX6_learns_32 : decode cX6_learns 32 = .ok (.if_icmp .gt 58, 3) := dk_163 0 58 (dk_at dksX6_learns_1 8 rfl rfl)
theorem dX6_learns_35 : decode cX6_learns 35 = .ok (.aload_n 0, 1) := dk_42 (dk_at dksX6_learns_1 11 rfl rfl)
theorem dX6_learns_36 : decode cX6_learns 36 = .ok (.getfield 44, 3) := dk_180 0 44 (dk_at dksX6_learns_1 12 rfl rfl)
theorem dX6_learns_39 : decode cX6_learns 39 = .ok (.bipush 24, 2) := dk_16 24 (dk_at dksX6_learns_1 15 rfl rfl)
theorem dX6_learns_41 : decode cX6_learns 41 = .ok (.iload_n 1, 1) := dk_27 (dk_at dksX6_learns_1 17 rfl rfl)
theorem dX6_learns_42 : decode cX6_learns 42 = .ok (.iadd, 1) := dk_96 (dk_at dksX6_learns_1 18 rfl rfl)
theorem dX6_learns_43 : decode cX6_learns 43 = .ok (.iaload, 1) := dk_46 (dk_at dksX6_learns_1 19 rfl rfl)
theorem dX6_learns_44 : decode cX6_learns 44 = .ok (.i2l, 1) := dk_133 (dk_at dksX6_learns_1 20 rfl rfl)
theorem dX6_learns_45 : decode cX6_learns 45 = .ok (.iload_n 2, 1) := dk_28 (dk_at dksX6_learns_1 21 rfl rfl)
theorem dX6_learns_46 : decode cX6_learns 46 = .ok (.invokestatic 304, 3) := dk_184 1 48 (dk_at dksX6_learns_2 0 rfl rfl)
theorem dX6_learns_49 : decode cX6_learns 49 = .ok (.ifCond .eq 27, 3) := dk_153 0 27 (dk_at dksX6_learns_2 3 rfl rfl)
theorem dX6_learns_52 : decode cX6_learns 52 = .ok (.aload_n 0, 1) := dk_42 (dk_at dksX6_learns_2 6 rfl rfl)
theorem dX6_learns_53 : decode cX6_learns 53 = .ok (.iconst 0, 1) := dk_3 (dk_at dksX6_learns_2 7 rfl rfl)
theorem dX6_learns_54 : decode cX6_learns 54 = .ok (.putfield 15, 3) := dk_181 0 15 (dk_at dksX6_learns_2 8 rfl rfl)
theorem dX6_learns_57 : decode cX6_learns 57 = .ok (.aload_n 0, 1) := dk_42 (dk_at dksX6_learns_2 11 rfl rfl)
theorem dX6_learns_58 : decode cX6_learns 58 = .ok (.aload_n 0, 1) := dk_42 (dk_at dksX6_learns_2 12 rfl rfl)
theorem dX6_learns_59 : decode cX6_learns 59 = .ok (.aload_n 0, 1) := dk_42 (dk_at dksX6_learns_2 13 rfl rfl)
theorem dX6_learns_60 : decode cX6_learns 60 = .ok (.getfield 44, 3) := dk_180 0 44 (dk_at dksX6_learns_2 14 rfl rfl)
theorem dX6_learns_63 : decode cX6_learns 63 = .ok (.iload_n 2, 1) := dk_28 (dk_at dksX6_learns_2 17 rfl rfl)
theorem dX6_learns_64 : decode cX6_learns 64 = .ok (.invokevirtual 332, 3) := dk_182 1 76 (dk_at dksX6_learns_2 18 rfl rfl)
theorem dX6_learns_67 : decode cX6_learns 67 = .ok (.invokestatic 265, 3) := dk_184 1 9 (dk_at dksX6_learns_2 21 rfl rfl)
theorem dX6_learns_70 : decode cX6_learns 70 = .ok (.i2l, 1) := dk_133 (dk_at dksX6_learns_3 0 rfl rfl)
theorem dX6_learns_71 : decode cX6_learns 71 = .ok (.invokevirtual 373, 3) := dk_182 1 117 (dk_at dksX6_learns_3 1 rfl rfl)
theorem dX6_learns_74 : decode cX6_learns 74 = .ok (.iload_n 3, 1) := dk_29 (dk_at dksX6_learns_3 4 rfl rfl)
theorem dX6_learns_75 : decode cX6_learns 75 = .ok (.ireturn, 1) := dk_172 (dk_at dksX6_learns_3 5 rfl rfl)
theorem dX6_learns_76 : decode cX6_learns 76 = .ok (.aload_n 0, 1) := dk_42 (dk_at dksX6_learns_3 6 rfl rfl)
theorem dX6_learns_77 : decode cX6_learns 77 = .ok (.aload_n 0, 1) := dk_42 (dk_at dksX6_learns_3 7 rfl rfl)
theorem dX6_learns_78 : decode cX6_learns 78 = .ok (.getfield 44, 3) := dk_180 0 44 (dk_at dksX6_learns_3 8 rfl rfl)
theorem dX6_learns_81 : decode cX6_learns 81 = .ok (.invokevirtual 347, 3) := dk_182 1 91 (dk_at dksX6_learns_3 11 rfl rfl)
theorem dX6_learns_84 : decode cX6_learns 84 = .ok (.iinc 3 1, 3) := dk_132 3 1 (dk_at dksX6_learns_3 14 rfl rfl)
theorem dX6_learns_87 : decode cX6_learns 87 = .ok (.goto (-58), 3) := dk_167 255 198 (dk_at dksX6_learns_3 17 rfl rfl)
theorem dX6_learns_90 : decode cX6_learns 90 = .ok (.bipush (-2), 2) := dk_16 254 (dk_at dksX6_learns_3 20 rfl rfl)
theorem dX6_learns_92 : decode cX6_learns 92 = .ok (.ireturn, 1) := dk_172 (dk_at dksX6_learns_3 22 rfl rfl)
abbrev cX6_copies : ByteArray := prog_12_method_77_code
def yX6_copies : MethodName := ⟨RX6, "copies", "()V"⟩
def dkwX6_copies_1 : List UInt8 := [167, 255, 235, 177]
abbrev dktX6_copies_1 : List UInt8 := dkwX6_copies_1 ++ []
def dkwX6_copies_0 : List UInt8 := [3, 60, 27, 16, 41, 162, 0, 21, 42, 180, 0, 44, 27, 42, 180, 0, 41, 27, 46, 79, 132, 1, 1]
abbrev dktX6_copies_0 : List UInt8 := dkwX6_copies_0 ++ dktX6_copies_1
theorem dksX6_copies_0 : cX6_copies.data.toList.drop 0 = dktX6_copies_0 := by decide +kernel
theorem dksX6_copies_1 : cX6_copies.data.toList.drop 23 = dktX6_copies_1 := dk_seg dksX6_copies_0 23 rfl rfl
theorem dX6_copies_0 : decode cX6_copies 0 = .ok (.iconst 0, 1) := dk_3 (dk_at dksX6_copies_0 0 rfl rfl)
theorem dX6_copies_1 : decode cX6_copies 1 = .ok (.istore_n 1, 1) := dk_60 (dk_at dksX6_copies_0 1 rfl rfl)
theorem dX6_copies_2 : decode cX6_copies 2 = .ok (.iload_n 1, 1) := dk_27 (dk_at dksX6_copies_0 2 rfl rfl)
theorem dX6_copies_3 : decode cX6_copies 3 = .ok (.bipush 41, 2) := dk_16 41 (dk_at dksX6_copies_0 3 rfl rfl)
theorem dX6_copies_5 : decode cX6_copies 5 = .ok (.if_icmp .ge 21, 3) := dk_162 0 21 (dk_at dksX6_copies_0 5 rfl rfl)
theorem dX6_copies_8 : decode cX6_copies 8 = .ok (.aload_n 0, 1) := dk_42 (dk_at dksX6_copies_0 8 rfl rfl)
theorem dX6_copies_9 : decode cX6_copies 9 = .ok (.getfield 44, 3) := dk_180 0 44 (dk_at dksX6_copies_0 9 rfl rfl)
theorem dX6_copies_12 : decode cX6_copies 12 = .ok (.iload_n 1, 1) := dk_27 (dk_at dksX6_copies_0 12 rfl rfl)
theorem dX6_copies_13 : decode cX6_copies 13 = .ok (.aload_n 0, 1) := dk_42 (dk_at dksX6_copies_0 13 rfl rfl)
theorem dX6_copies_14 : decode cX6_copies 14 = .ok (.getfield 41, 3) := dk_180 0 41 (dk_at dksX6_copies_0 14 rfl rfl)
theorem dX6_copies_17 : decode cX6_copies 17 = .ok (.iload_n 1, 1) := dk_27 (dk_at dksX6_copies_0 17 rfl rfl)
theorem dX6_copies_18 : decode cX6_copies 18 = .ok (.iaload, 1) := dk_46 (dk_at dksX6_copies_0 18 rfl rfl)
theorem dX6_copies_19 : decode cX6_copies 19 = .ok (.iastore, 1) := dk_79 (dk_at dksX6_copies_0 19 rfl rfl)
theorem dX6_copies_20 : decode cX6_copies 20 = .ok (.iinc 1 1, 3) := dk_132 1 1 (dk_at dksX6_copies_0 20 rfl rfl)
theorem dX6_copies_23 : decode cX6_copies 23 = .ok (.goto (-21), 3) := dk_167 255 235 (dk_at dksX6_copies_1 0 rfl rfl)
theorem dX6_copies_26 : decode cX6_copies 26 = .ok (.return_, 1) := dk_177 (dk_at dksX6_copies_1 3 rfl rfl)
abbrev cX6_all : ByteArray := prog_12_method_89_code
def yX6_all : MethodName := ⟨RX6, "all", "()I"⟩
def dkwX6_all_2 : List UInt8 := [42, 180, 0, 44, 182, 1, 91, 132, 2, 1, 167, 255, 211, 16, 254, 172]
abbrev dktX6_all_2 : List UInt8 := dkwX6_all_2 ++ []
def dkwX6_all_1 : List UInt8 := [182, 1, 171, 62, 29, 156, 0, 16, 42, 3, 181, 0, 15, 42, 27, 133, 182, 1, 117, 28, 172, 29, 60, 42]
abbrev dktX6_all_1 : List UInt8 := dkwX6_all_1 ++ dktX6_all_2
def dkwX6_all_0 : List UInt8 := [42, 3, 181, 0, 3, 42, 182, 1, 168, 2, 60, 3, 61, 28, 16, 99, 163, 0, 45, 42, 42, 180, 0, 44]
abbrev dktX6_all_0 : List UInt8 := dkwX6_all_0 ++ dktX6_all_1
theorem dksX6_all_0 : cX6_all.data.toList.drop 0 = dktX6_all_0 := by decide +kernel
theorem dksX6_all_1 : cX6_all.data.toList.drop 24 = dktX6_all_1 := dk_seg dksX6_all_0 24 rfl rfl
theorem dksX6_all_2 : cX6_all.data.toList.drop 48 = dktX6_all_2 := dk_seg dksX6_all_1 24 rfl rfl
theorem dX6_all_0 : decode cX6_all 0 = .ok (.aload_n 0, 1) := dk_42 (dk_at dksX6_all_0 0 rfl rfl)
theorem dX6_all_1 : decode cX6_all 1 = .ok (.iconst 0, 1) := dk_3 (dk_at dksX6_all_0 1 rfl rfl)
theorem dX6_all_2 : decode cX6_all 2 = .ok (.putfield 3, 3) := dk_181 0 3 (dk_at dksX6_all_0 2 rfl rfl)
theorem dX6_all_5 : decode cX6_all 5 = .ok (.aload_n 0, 1) := dk_42 (dk_at dksX6_all_0 5 rfl rfl)
theorem dX6_all_6 : decode cX6_all 6 = .ok (.invokevirtual 424, 3) := dk_182 1 168 (dk_at dksX6_all_0 6 rfl rfl)
theorem dX6_all_9 : decode cX6_all 9 = .ok (.iconst (-1), 1) := dk_2 (dk_at dksX6_all_0 9 rfl rfl)
theorem dX6_all_10 : decode cX6_all 10 = .ok (.istore_n 1, 1) := dk_60 (dk_at dksX6_all_0 10 rfl rfl)
theorem dX6_all_11 : decode cX6_all 11 = .ok (.iconst 0, 1) := dk_3 (dk_at dksX6_all_0 11 rfl rfl)
theorem dX6_all_12 : decode cX6_all 12 = .ok (.istore_n 2, 1) := dk_61 (dk_at dksX6_all_0 12 rfl rfl)
theorem dX6_all_13 : decode cX6_all 13 = .ok (.iload_n 2, 1) := dk_28 (dk_at dksX6_all_0 13 rfl rfl)
theorem dX6_all_14 : decode cX6_all 14 = .ok (.bipush 99, 2) := dk_16 99 (dk_at dksX6_all_0 14 rfl rfl)
theorem dX6_all_16 : decode cX6_all 16 = .ok (.if_icmp .gt 45, 3) := dk_163 0 45 (dk_at dksX6_all_0 16 rfl rfl)
theorem dX6_all_19 : decode cX6_all 19 = .ok (.aload_n 0, 1) := dk_42 (dk_at dksX6_all_0 19 rfl rfl)
theorem dX6_all_20 : decode cX6_all 20 = .ok (.aload_n 0, 1) := dk_42 (dk_at dksX6_all_0 20 rfl rfl)
theorem dX6_all_21 : decode cX6_all 21 = .ok (.getfield 44, 3) := dk_180 0 44 (dk_at dksX6_all_0 21 rfl rfl)
theorem dX6_all_24 : decode cX6_all 24 = .ok (.invokevirtual 427, 3) := dk_182 1 171 (dk_at dksX6_all_1 0 rfl rfl)
theorem dX6_all_27 : decode cX6_all 27 = .ok (.istore_n 3, 1) := dk_62 (dk_at dksX6_all_1 3 rfl rfl)
theorem dX6_all_28 : decode cX6_all 28 = .ok (.iload_n 3, 1) := dk_29 (dk_at dksX6_all_1 4 rfl rfl)
theorem dX6_all_29 : decode cX6_all 29 = .ok (.ifCond .ge 16, 3) := dk_156 0 16 (dk_at dksX6_all_1 5 rfl rfl)
theorem dX6_all_32 : decode cX6_all 32 = .ok (.aload_n 0, 1) := dk_42 (dk_at dksX6_all_1 8 rfl rfl)
theorem dX6_all_33 : decode cX6_all 33 = .ok (.iconst 0, 1) := dk_3 (dk_at dksX6_all_1 9 rfl rfl)
theorem dX6_all_34 : decode cX6_all 34 = .ok (.putfield 15, 3) := dk_181 0 15 (dk_at dksX6_all_1 10 rfl rfl)
theorem dX6_all_37 : decode cX6_all 37 = .ok (.aload_n 0, 1) := dk_42 (dk_at dksX6_all_1 13 rfl rfl)
theorem dX6_all_38 : decode cX6_all 38 = .ok (.iload_n 1, 1) := dk_27 (dk_at dksX6_all_1 14 rfl rfl)
theorem dX6_all_39 : decode cX6_all 39 = .ok (.i2l, 1) := dk_133 (dk_at dksX6_all_1 15 rfl rfl)
theorem dX6_all_40 : decode cX6_all 40 = .ok (.invokevirtual 373, 3) := dk_182 1 117 (dk_at dksX6_all_1 16 rfl rfl)
theorem dX6_all_43 : decode cX6_all 43 = .ok (.iload_n 2, 1) := dk_28 (dk_at dksX6_all_1 19 rfl rfl)
theorem dX6_all_44 : decode cX6_all 44 = .ok (.ireturn, 1) := dk_172 (dk_at dksX6_all_1 20 rfl rfl)
theorem dX6_all_45 : decode cX6_all 45 = .ok (.iload_n 3, 1) := dk_29 (dk_at dksX6_all_1 21 rfl rfl)
theorem dX6_all_46 : decode cX6_all 46 = .ok (.istore_n 1, 1) := dk_60 (dk_at dksX6_all_1 22 rfl rfl)
theorem dX6_all_47 : decode cX6_all 47 = .ok (.aload_n 0, 1) := dk_42 (dk_at dksX6_all_1 23 rfl rfl)
theorem dX6_all_48 : decode cX6_all 48 = .ok (.aload_n 0, 1) := dk_42 (dk_at dksX6_all_2 0 rfl rfl)
theorem dX6_all_49 : decode cX6_all 49 = .ok (.getfield 44, 3) := dk_180 0 44 (dk_at dksX6_all_2 1 rfl rfl)
theorem dX6_all_52 : decode cX6_all 52 = .ok (.invokevirtual 347, 3) := dk_182 1 91 (dk_at dksX6_all_2 4 rfl rfl)
theorem dX6_all_55 : decode cX6_all 55 = .ok (.iinc 2 1, 3) := dk_132 2 1 (dk_at dksX6_all_2 7 rfl rfl)
theorem dX6_all_58 : decode cX6_all 58 = .ok (.goto (-45), 3) := dk_167 255 211 (dk_at dksX6_all_2 10 rfl rfl)
theorem dX6_all_61 : decode cX6_all 61 = .ok (.bipush (-2), 2) := dk_16 254 (dk_at dksX6_all_2 13 rfl rfl)
theorem dX6_all_63 : decode cX6_all 63 = .ok (.ireturn, 1) := dk_172 (dk_at dksX6_all_2 15 rfl rfl)
abbrev cX6_firstWithout : ByteArray := prog_12_method_88_code
def yX6_firstWithout : MethodName := ⟨RX6, "firstWithout", "([I)I"⟩
def dkwX6_firstWithout_1 : List UInt8 := [180, 0, 133, 162, 0, 7, 29, 167, 0, 4, 28, 61, 132, 3, 255, 167, 255, 227, 28, 172]
abbrev dktX6_firstWithout_1 : List UInt8 := dkwX6_firstWithout_1 ++ []
def dkwX6_firstWithout_0 : List UInt8 := [2, 61, 42, 180, 0, 130, 4, 100, 62, 29, 155, 0, 31, 43, 16, 24, 29, 96, 46, 184, 1, 9, 42]
abbrev dktX6_firstWithout_0 : List UInt8 := dkwX6_firstWithout_0 ++ dktX6_firstWithout_1
theorem dksX6_firstWithout_0 : cX6_firstWithout.data.toList.drop 0 = dktX6_firstWithout_0 := by decide +kernel
theorem dksX6_firstWithout_1 : cX6_firstWithout.data.toList.drop 23 = dktX6_firstWithout_1 := dk_seg dksX6_firstWithout_0 23 rfl rfl
theorem dX6_firstWithout_0 : decode cX6_firstWithout 0 = .ok (.iconst (-1), 1) := dk_2 (dk_at dksX6_firstWithout_0 0 rfl rfl)
theorem dX6_firstWithout_1 : decode cX6_firstWithout 1 = .ok (.istore_n 2, 1) := dk_61 (dk_at dksX6_firstWithout_0 1 rfl rfl)
theorem dX6_firstWithout_2 : decode cX6_firstWithout 2 = .ok (.aload_n 0, 1) := dk_42 (dk_at dksX6_firstWithout_0 2 rfl rfl)
theorem dX6_firstWithout_3 : decode cX6_firstWithout 3 = .ok (.getfield 130, 3) := dk_180 0 130 (dk_at dksX6_firstWithout_0 3 rfl rfl)
theorem dX6_firstWithout_6 : decode cX6_firstWithout 6 = .ok (.iconst 1, 1) := dk_4 (dk_at dksX6_firstWithout_0 6 rfl rfl)
theorem dX6_firstWithout_7 : decode cX6_firstWithout 7 = .ok (.isub, 1) := dk_100 (dk_at dksX6_firstWithout_0 7 rfl rfl)
theorem dX6_firstWithout_8 : decode cX6_firstWithout 8 = .ok (.istore_n 3, 1) := dk_62 (dk_at dksX6_firstWithout_0 8 rfl rfl)
theorem dX6_firstWithout_9 : decode cX6_firstWithout 9 = .ok (.iload_n 3, 1) := dk_29 (dk_at dksX6_firstWithout_0 9 rfl rfl)
theorem dX6_firstWithout_10 : decode cX6_firstWithout 10 = .ok (.ifCond .lt 31, 3) := dk_155 0 31 (dk_at dksX6_firstWithout_0 10 rfl rfl)
theorem dX6_firstWithout_13 : decode cX6_firstWithout 13 = .ok (.aload_n 1, 1) := dk_43 (dk_at dksX6_firstWithout_0 13 rfl rfl)
theorem dX6_firstWithout_14 : decode cX6_firstWithout 14 = .ok (.bipush 24, 2) := dk_16 24 (dk_at dksX6_firstWithout_0 14 rfl rfl)
theorem dX6_firstWithout_16 : decode cX6_firstWithout 16 = .ok (.iload_n 3, 1) := dk_29 (dk_at dksX6_firstWithout_0 16 rfl rfl)
theorem dX6_firstWithout_17 : decode cX6_firstWithout 17 = .ok (.iadd, 1) := dk_96 (dk_at dksX6_firstWithout_0 17 rfl rfl)
theorem dX6_firstWithout_18 : decode cX6_firstWithout 18 = .ok (.iaload, 1) := dk_46 (dk_at dksX6_firstWithout_0 18 rfl rfl)
theorem dX6_firstWithout_19 : decode cX6_firstWithout 19 = .ok (.invokestatic 265, 3) := dk_184 1 9 (dk_at dksX6_firstWithout_0 19 rfl rfl)
theorem dX6_firstWithout_22 : decode cX6_firstWithout 22 = .ok (.aload_n 0, 1) := dk_42 (dk_at dksX6_firstWithout_0 22 rfl rfl)
theorem dX6_firstWithout_23 : decode cX6_firstWithout 23 = .ok (.getfield 133, 3) := dk_180 0 133 (dk_at dksX6_firstWithout_1 0 rfl rfl)
theorem dX6_firstWithout_26 : decode cX6_firstWithout 26 = .ok (.if_icmp .ge 7, 3) := dk_162 0 7 (dk_at dksX6_firstWithout_1 3 rfl rfl)
theorem dX6_firstWithout_29 : decode cX6_firstWithout 29 = .ok (.iload_n 3, 1) := dk_29 (dk_at dksX6_firstWithout_1 6 rfl rfl)
theorem dX6_firstWithout_30 : decode cX6_firstWithout 30 = .ok (.goto 4, 3) := dk_167 0 4 (dk_at dksX6_firstWithout_1 7 rfl rfl)
theorem dX6_firstWithout_33 : decode cX6_firstWithout 33 = .ok (.iload_n 2, 1) := dk_28 (dk_at dksX6_firstWithout_1 10 rfl rfl)
theorem dX6_firstWithout_34 : decode cX6_firstWithout 34 = .ok (.istore_n 2, 1) := dk_61 (dk_at dksX6_firstWithout_1 11 rfl rfl)
theorem dX6_firstWithout_35 : decode cX6_firstWithout 35 = .ok (.iinc 3 (-1), 3) := dk_132 3 255 (dk_at dksX6_firstWithout_1 12 rfl rfl)
theorem dX6_firstWithout_38 : decode cX6_firstWithout 38 = .ok (.goto (-29), 3) := dk_167 255 227 (dk_at dksX6_firstWithout_1 15 rfl rfl)
theorem dX6_firstWithout_41 : decode cX6_firstWithout 41 = .ok (.iload_n 2, 1) := dk_28 (dk_at dksX6_firstWithout_1 18 rfl rfl)
theorem dX6_firstWithout_42 : decode cX6_firstWithout 42 = .ok (.ireturn, 1) := dk_172 (dk_at dksX6_firstWithout_1 19 rfl rfl)
abbrev cX6_ahead : ByteArray := prog_12_method_90_code
def yX6_ahead : MethodName := ⟨RX6, "ahead", "(I)I"⟩
def dkwX6_ahead_3 : List UInt8 := [182, 1, 110, 172]
abbrev dktX6_ahead_3 : List UInt8 := dkwX6_ahead_3 ++ []
def dkwX6_ahead_2 : List UInt8 := [42, 180, 0, 44, 16, 24, 28, 96, 46, 133, 182, 1, 117, 132, 2, 1, 167, 255, 231, 42, 42, 180, 0, 44]
abbrev dktX6_ahead_2 : List UInt8 := dkwX6_ahead_2 ++ dktX6_ahead_3
def dkwX6_ahead_1 : List UInt8 := [42, 180, 0, 44, 27, 182, 1, 114, 42, 3, 181, 0, 15, 3, 61, 28, 42, 180, 0, 130, 162, 0, 23, 42]
abbrev dktX6_ahead_1 : List UInt8 := dkwX6_ahead_1 ++ dktX6_ahead_2
def dkwX6_ahead_0 : List UInt8 := [42, 3, 181, 0, 3, 27, 133, 9, 20, 1, 174, 184, 0, 126, 154, 0, 5, 2, 172, 42, 182, 1, 168, 42]
abbrev dktX6_ahead_0 : List UInt8 := dkwX6_ahead_0 ++ dktX6_ahead_1
theorem dksX6_ahead_0 : cX6_ahead.data.toList.drop 0 = dktX6_ahead_0 := by decide +kernel
theorem dksX6_ahead_1 : cX6_ahead.data.toList.drop 24 = dktX6_ahead_1 := dk_seg dksX6_ahead_0 24 rfl rfl
theorem dksX6_ahead_2 : cX6_ahead.data.toList.drop 48 = dktX6_ahead_2 := dk_seg dksX6_ahead_1 24 rfl rfl
theorem dksX6_ahead_3 : cX6_ahead.data.toList.drop 72 = dktX6_ahead_3 := dk_seg dksX6_ahead_2 24 rfl rfl
theorem dX6_ahead_0 : decode cX6_ahead 0 = .ok (.aload_n 0, 1) := dk_42 (dk_at dksX6_ahead_0 0 rfl rfl)
theorem dX6_ahead_1 : decode cX6_ahead 1 = .ok (.iconst 0, 1) := dk_3 (dk_at dksX6_ahead_0 1 rfl rfl)
theorem dX6_ahead_2 : decode cX6_ahead 2 = .ok (.putfield 3, 3) := dk_181 0 3 (dk_at dksX6_ahead_0 2 rfl rfl)
theorem dX6_ahead_5 : decode cX6_ahead 5 = .ok (.iload_n 1, 1) := dk_27 (dk_at dksX6_ahead_0 5 rfl rfl)
theorem dX6_ahead_6 : decode cX6_ahead 6 = .ok (.i2l, 1) := dk_133 (dk_at dksX6_ahead_0 6 rfl rfl)
theorem dX6_ahead_7 : decode cX6_ahead 7 = .ok (.lconst 0, 1) := dk_9 (dk_at dksX6_ahead_0 7 rfl rfl)
theorem dX6_ahead_8 : decode cX6_ahead 8 = .ok (.ldc2_w 430, 3) := dk_20 1 174 (dk_at dksX6_ahead_0 8 rfl rfl)
theorem dX6_ahead_11 : decode cX6_ahead 11 = .ok (.invokestatic 126, 3) := dk_184 0 126 (dk_at dksX6_ahead_0 11 rfl rfl)
theorem dX6_ahead_14 : decode cX6_ahead 14 = .ok (.ifCond .ne 5, 3) := dk_154 0 5 (dk_at dksX6_ahead_0 14 rfl rfl)
theorem dX6_ahead_17 : decode cX6_ahead 17 = .ok (.iconst (-1), 1) := dk_2 (dk_at dksX6_ahead_0 17 rfl rfl)
theorem dX6_ahead_18 : decode cX6_ahead 18 = .ok (.ireturn, 1) := dk_172 (dk_at dksX6_ahead_0 18 rfl rfl)
theorem dX6_ahead_19 : decode cX6_ahead 19 = .ok (.aload_n 0, 1) := dk_42 (dk_at dksX6_ahead_0 19 rfl rfl)
theorem dX6_ahead_20 : decode cX6_ahead 20 = .ok (.invokevirtual 424, 3) := dk_182 1 168 (dk_at dksX6_ahead_0 20 rfl rfl)
theorem dX6_ahead_23 : decode cX6_ahead 23 = .ok (.aload_n 0, 1) := dk_42 (dk_at dksX6_ahead_0 23 rfl rfl)
theorem dX6_ahead_24 : decode cX6_ahead 24 = .ok (.aload_n 0, 1) := dk_42 (dk_at dksX6_ahead_1 0 rfl rfl)
theorem dX6_ahead_25 : decode cX6_ahead 25 = .ok (.getfield 44, 3) := dk_180 0 44 (dk_at dksX6_ahead_1 1 rfl rfl)
theorem dX6_ahead_28 : decode cX6_ahead 28 = .ok (.iload_n 1, 1) := dk_27 (dk_at dksX6_ahead_1 4 rfl rfl)
theorem dX6_ahead_29 : decode cX6_ahead 29 = .ok (.invokevirtual 370, 3) := dk_182 1 114 (dk_at dksX6_ahead_1 5 rfl rfl)
theorem dX6_ahead_32 : decode cX6_ahead 32 = .ok (.aload_n 0, 1) := dk_42 (dk_at dksX6_ahead_1 8 rfl rfl)
theorem dX6_ahead_33 : decode cX6_ahead 33 = .ok (.iconst 0, 1) := dk_3 (dk_at dksX6_ahead_1 9 rfl rfl)
theorem dX6_ahead_34 : decode cX6_ahead 34 = .ok (.putfield 15, 3) := dk_181 0 15 (dk_at dksX6_ahead_1 10 rfl rfl)
theorem dX6_ahead_37 : decode cX6_ahead 37 = .ok (.iconst 0, 1) := dk_3 (dk_at dksX6_ahead_1 13 rfl rfl)
theorem dX6_ahead_38 : decode cX6_ahead 38 = .ok (.istore_n 2, 1) := dk_61 (dk_at dksX6_ahead_1 14 rfl rfl)
theorem dX6_ahead_39 : decode cX6_ahead 39 = .ok (.iload_n 2, 1) := dk_28 (dk_at dksX6_ahead_1 15 rfl rfl)
theorem dX6_ahead_40 : decode cX6_ahead 40 = .ok (.aload_n 0, 1) := dk_42 (dk_at dksX6_ahead_1 16 rfl rfl)
theorem dX6_ahead_41 : decode cX6_ahead 41 = .ok (.getfield 130, 3) := dk_180 0 130 (dk_at dksX6_ahead_1 17 rfl rfl)
theorem dX6_ahead_44 : decode cX6_ahead 44 = .ok (.if_icmp .ge 23, 3) := dk_162 0 23 (dk_at dksX6_ahead_1 20 rfl rfl)
theorem dX6_ahead_47 : decode cX6_ahead 47 = .ok (.aload_n 0, 1) := dk_42 (dk_at dksX6_ahead_1 23 rfl rfl)
theorem dX6_ahead_48 : decode cX6_ahead 48 = .ok (.aload_n 0, 1) := dk_42 (dk_at dksX6_ahead_2 0 rfl rfl)
theorem dX6_ahead_49 : decode cX6_ahead 49 = .ok (.getfield 44, 3) := dk_180 0 44 (dk_at dksX6_ahead_2 1 rfl rfl)
theorem dX6_ahead_52 : decode cX6_ahead 52 = .ok (.bipush 24, 2) := dk_16 24 (dk_at dksX6_ahead_2 4 rfl rfl)
theorem dX6_ahead_54 : decode cX6_ahead 54 = .ok (.iload_n 2, 1) := dk_28 (dk_at dksX6_ahead_2 6 rfl rfl)
theorem dX6_ahead_55 : decode cX6_ahead 55 = .ok (.iadd, 1) := dk_96 (dk_at dksX6_ahead_2 7 rfl rfl)
theorem dX6_ahead_56 : decode cX6_ahead 56 = .ok (.iaload, 1) := dk_46 (dk_at dksX6_ahead_2 8 rfl rfl)
theorem dX6_ahead_57 : decode cX6_ahead 57 = .ok (.i2l, 1) := dk_133 (dk_at dksX6_ahead_2 9 rfl rfl)
theorem dX6_ahead_58 : decode cX6_ahead 58 = .ok (.invokevirtual 373, 3) := dk_182 1 117 (dk_at dksX6_ahead_2 10 rfl rfl)
theorem dX6_ahead_61 : decode cX6_ahead 61 = .ok (.iinc 2 1, 3) := dk_132 2 1 (dk_at dksX6_ahead_2 13 rfl rfl)
theorem dX6_ahead_64 : decode cX6_ahead 64 = .ok (.goto (-25), 3) := dk_167 255 231 (dk_at dksX6_ahead_2 16 rfl rfl)
theorem dX6_ahead_67 : decode cX6_ahead 67 = .ok (.aload_n 0, 1) := dk_42 (dk_at dksX6_ahead_2 19 rfl rfl)
theorem dX6_ahead_68 : decode cX6_ahead 68 = .ok (.aload_n 0, 1) := dk_42 (dk_at dksX6_ahead_2 20 rfl rfl)
theorem dX6_ahead_69 : decode cX6_ahead 69 = .ok (.getfield 44, 3) := dk_180 0 44 (dk_at dksX6_ahead_2 21 rfl rfl)
theorem dX6_ahead_72 : decode cX6_ahead 72 = .ok (.invokevirtual 366, 3) := dk_182 1 110 (dk_at dksX6_ahead_3 0 rfl rfl)
theorem dX6_ahead_75 : decode cX6_ahead 75 = .ok (.ireturn, 1) := dk_172 (dk_at dksX6_ahead_3 3 rfl rfl)
abbrev cX6_gossip : ByteArray := prog_12_method_91_code
def yX6_gossip : MethodName := ⟨RX6, "gossip", "(I)I"⟩
def dkwX6_gossip_6 : List UInt8 := [172]
abbrev dktX6_gossip_6 : List UInt8 := dkwX6_gossip_6 ++ []
def dkwX6_gossip_5 : List UInt8 := [167, 255, 196, 132, 5, 1, 167, 255, 178, 167, 255, 156, 42, 3, 181, 0, 15, 42, 29, 133, 182, 1, 117, 28]
abbrev dktX6_gossip_5 : List UInt8 := dkwX6_gossip_5 ++ dktX6_gossip_6
def dkwX6_gossip_4 : List UInt8 := [21, 6, 182, 1, 88, 153, 0, 10, 4, 21, 6, 120, 167, 0, 4, 3, 128, 54, 4, 132, 6, 1]
abbrev dktX6_gossip_4 : List UInt8 := dkwX6_gossip_4 ++ dktX6_gossip_5
def dkwX6_gossip_3 : List UInt8 := [184, 1, 48, 153, 0, 35, 28, 133, 21, 6, 184, 1, 48, 154, 0, 25, 42, 42, 180, 0, 41, 21, 5]
abbrev dktX6_gossip_3 : List UInt8 := dkwX6_gossip_3 ++ dktX6_gossip_4
def dkwX6_gossip_2 : List UInt8 := [180, 0, 130, 162, 0, 75, 3, 54, 6, 21, 6, 42, 180, 0, 130, 162, 0, 57, 21, 4, 28, 133, 21, 5]
abbrev dktX6_gossip_2 : List UInt8 := dkwX6_gossip_2 ++ dktX6_gossip_3
def dkwX6_gossip_1 : List UInt8 := [21, 4, 153, 0, 101, 132, 3, 1, 28, 21, 4, 128, 61, 3, 54, 4, 3, 54, 5, 21, 5, 42]
abbrev dktX6_gossip_1 : List UInt8 := dkwX6_gossip_1 ++ dktX6_gossip_2
def dkwX6_gossip_0 : List UInt8 := [42, 3, 181, 0, 3, 42, 27, 182, 1, 59, 154, 0, 5, 2, 172, 4, 27, 120, 61, 2, 62, 28, 54, 4]
abbrev dktX6_gossip_0 : List UInt8 := dkwX6_gossip_0 ++ dktX6_gossip_1
theorem dksX6_gossip_0 : cX6_gossip.data.toList.drop 0 = dktX6_gossip_0 := by decide +kernel
theorem dksX6_gossip_1 : cX6_gossip.data.toList.drop 24 = dktX6_gossip_1 := dk_seg dksX6_gossip_0 24 rfl rfl
theorem dksX6_gossip_2 : cX6_gossip.data.toList.drop 46 = dktX6_gossip_2 := dk_seg dksX6_gossip_1 22 rfl rfl
theorem dksX6_gossip_3 : cX6_gossip.data.toList.drop 70 = dktX6_gossip_3 := dk_seg dksX6_gossip_2 24 rfl rfl
theorem dksX6_gossip_4 : cX6_gossip.data.toList.drop 93 = dktX6_gossip_4 := dk_seg dksX6_gossip_3 23 rfl rfl
theorem dksX6_gossip_5 : cX6_gossip.data.toList.drop 115 = dktX6_gossip_5 := dk_seg dksX6_gossip_4 22 rfl rfl
theorem dksX6_gossip_6 : cX6_gossip.data.toList.drop 139 = dktX6_gossip_6 := dk_seg dksX6_gossip_5 24 rfl rfl
theorem dX6_gossip_0 : decode cX6_gossip 0 = .ok (.aload_n 0, 1) := dk_42 (dk_at dksX6_gossip_0 0 rfl rfl)
theorem dX6_gossip_1 : decode cX6_gossip 1 = .ok (.iconst 0, 1) := dk_3 (dk_at dksX6_gossip_0 1 rfl rfl)
theorem dX6_gossip_2 : decode cX6_gossip 2 = .ok (.putfield 3, 3) := dk_181 0 3 (dk_at dksX6_gossip_0 2 rfl rfl)
theorem dX6_gossip_5 : decode cX6_gossip 5 = .ok (.aload_n 0, 1) := dk_42 (dk_at dksX6_gossip_0 5 rfl rfl)
theorem dX6_gossip_6 : decode cX6_gossip 6 = .ok (.iload_n 1, 1) := dk_27 (dk_at dksX6_gossip_0 6 rfl rfl)
theorem dX6_gossip_7 : decode cX6_gossip 7 = .ok (.invokevirtual 315, 3) := dk_182 1 59 (dk_at dksX6_gossip_0 7 rfl rfl)
theorem dX6_gossip_10 : decode cX6_gossip 10 = .ok (.ifCond .ne 5, 3) := dk_154 0 5 (dk_at dksX6_gossip_0 10 rfl rfl)
theorem dX6_gossip_13 : decode cX6_gossip 13 = .ok (.iconst (-1), 1) := dk_2 (dk_at dksX6_gossip_0 13 rfl rfl)
theorem dX6_gossip_14 : decode cX6_gossip 14 = .ok (.ireturn, 1) := dk_172 (dk_at dksX6_gossip_0 14 rfl rfl)
theorem dX6_gossip_15 : decode cX6_gossip 15 = .ok (.iconst 1, 1) := dk_4 (dk_at dksX6_gossip_0 15 rfl rfl)
theorem dX6_gossip_16 : decode cX6_gossip 16 = .ok (.iload_n 1, 1) := dk_27 (dk_at dksX6_gossip_0 16 rfl rfl)
theorem dX6_gossip_17 : decode cX6_gossip 17 = .ok (.ishl, 1) := dk_120 (dk_at dksX6_gossip_0 17 rfl rfl)
theorem dX6_gossip_18 : decode cX6_gossip 18 = .ok (.istore_n 2, 1) := dk_61 (dk_at dksX6_gossip_0 18 rfl rfl)
theorem dX6_gossip_19 : decode cX6_gossip 19 = .ok (.iconst (-1), 1) := dk_2 (dk_at dksX6_gossip_0 19 rfl rfl)
theorem dX6_gossip_20 : decode cX6_gossip 20 = .ok (.istore_n 3, 1) := dk_62 (dk_at dksX6_gossip_0 20 rfl rfl)
theorem dX6_gossip_21 : decode cX6_gossip 21 = .ok (.iload_n 2, 1) := dk_28 (dk_at dksX6_gossip_0 21 rfl rfl)
theorem dX6_gossip_22 : decode cX6_gossip 22 = .ok (.istore 4, 2) := dk_54 4 (dk_at dksX6_gossip_0 22 rfl rfl)
theorem dX6_gossip_24 : decode cX6_gossip 24 = .ok (.iload 4, 2) := dk_21 4 (dk_at dksX6_gossip_1 0 rfl rfl)
theorem dX6_gossip_26 : decode cX6_gossip 26 = .ok (.ifCond .eq 101, 3) := dk_153 0 101 (dk_at dksX6_gossip_1 2 rfl rfl)
theorem dX6_gossip_29 : decode cX6_gossip 29 = .ok (.iinc 3 1, 3) := dk_132 3 1 (dk_at dksX6_gossip_1 5 rfl rfl)
theorem dX6_gossip_32 : decode cX6_gossip 32 = .ok (.iload_n 2, 1) := dk_28 (dk_at dksX6_gossip_1 8 rfl rfl)
theorem dX6_gossip_33 : decode cX6_gossip 33 = .ok (.iload 4, 2) := dk_21 4 (dk_at dksX6_gossip_1 9 rfl rfl)
theorem dX6_gossip_35 : decode cX6_gossip 35 = .ok (.ior, 1) := dk_128 (dk_at dksX6_gossip_1 11 rfl rfl)
theorem dX6_gossip_36 : decode cX6_gossip 36 = .ok (.istore_n 2, 1) := dk_61 (dk_at dksX6_gossip_1 12 rfl rfl)
theorem dX6_gossip_37 : decode cX6_gossip 37 = .ok (.iconst 0, 1) := dk_3 (dk_at dksX6_gossip_1 13 rfl rfl)
theorem dX6_gossip_38 : decode cX6_gossip 38 = .ok (.istore 4, 2) := dk_54 4 (dk_at dksX6_gossip_1 14 rfl rfl)
theorem dX6_gossip_40 : decode cX6_gossip 40 = .ok (.iconst 0, 1) := dk_3 (dk_at dksX6_gossip_1 16 rfl rfl)
theorem dX6_gossip_41 : decode cX6_gossip 41 = .ok (.istore 5, 2) := dk_54 5 (dk_at dksX6_gossip_1 17 rfl rfl)
theorem dX6_gossip_43 : decode cX6_gossip 43 = .ok (.iload 5, 2) := dk_21 5 (dk_at dksX6_gossip_1 19 rfl rfl)
theorem dX6_gossip_45 : decode cX6_gossip 45 = .ok (.aload_n 0, 1) := dk_42 (dk_at dksX6_gossip_1 21 rfl rfl)
theorem dX6_gossip_46 : decode cX6_gossip 46 = .ok (.getfield 130, 3) := dk_180 0 130 (dk_at dksX6_gossip_2 0 rfl rfl)
theorem dX6_gossip_49 : decode cX6_gossip 49 = .ok (.if_icmp .ge 75, 3) := dk_162 0 75 (dk_at dksX6_gossip_2 3 rfl rfl)
theorem dX6_gossip_52 : decode cX6_gossip 52 = .ok (.iconst 0, 1) := dk_3 (dk_at dksX6_gossip_2 6 rfl rfl)
theorem dX6_gossip_53 : decode cX6_gossip 53 = .ok (.istore 6, 2) := dk_54 6 (dk_at dksX6_gossip_2 7 rfl rfl)
theorem dX6_gossip_55 : decode cX6_gossip 55 = .ok (.iload 6, 2) := dk_21 6 (dk_at dksX6_gossip_2 9 rfl rfl)
theorem dX6_gossip_57 : decode cX6_gossip 57 = .ok (.aload_n 0, 1) := dk_42 (dk_at dksX6_gossip_2 11 rfl rfl)
theorem dX6_gossip_58 : decode cX6_gossip 58 = .ok (.getfield 130, 3) := dk_180 0 130 (dk_at dksX6_gossip_2 12 rfl rfl)
theorem dX6_gossip_61 : decode cX6_gossip 61 = .ok (.if_icmp .ge 57, 3) := dk_162 0 57 (dk_at dksX6_gossip_2 15 rfl rfl)
theorem dX6_gossip_64 : decode cX6_gossip 64 = .ok (.iload 4, 2) := dk_21 4 (dk_at dksX6_gossip_2 18 rfl rfl)
theorem dX6_gossip_66 : decode cX6_gossip 66 = .ok (.iload_n 2, 1) := dk_28 (dk_at dksX6_gossip_2 20 rfl rfl)
theorem dX6_gossip_67 : decode cX6_gossip 67 = .ok (.i2l, 1) := dk_133 (dk_at dksX6_gossip_2 21 rfl rfl)
theorem dX6_gossip_68 : decode cX6_gossip 68 = .ok (.iload 5, 2) := dk_21 5 (dk_at dksX6_gossip_2 22 rfl rfl)
theorem dX6_gossip_70 : decode cX6_gossip 70 = .ok (.invokestatic 304, 3) := dk_184 1 48 (dk_at dksX6_gossip_3 0 rfl rfl)
theorem dX6_gossip_73 : decode cX6_gossip 73 = .ok (.ifCond .eq 35, 3) := dk_153 0 35 (dk_at dksX6_gossip_3 3 rfl rfl)
theorem dX6_gossip_76 : decode cX6_gossip 76 = .ok (.iload_n 2, 1) := dk_28 (dk_at dksX6_gossip_3 6 rfl rfl)
theorem dX6_gossip_77 : decode cX6_gossip 77 = .ok (.i2l, 1) := dk_133 (dk_at dksX6_gossip_3 7 rfl rfl)
theorem dX6_gossip_78 : decode cX6_gossip 78 = .ok (.iload 6, 2) := dk_21 6 (dk_at dksX6_gossip_3 8 rfl rfl)
theorem dX6_gossip_80 : decode cX6_gossip 80 = .ok (.invokestatic 304, 3) := dk_184 1 48 (dk_at dksX6_gossip_3 10 rfl rfl)
theorem dX6_gossip_83 : decode cX6_gossip 83 = .ok (.ifCond .ne 25, 3) := dk_154 0 25 (dk_at dksX6_gossip_3 13 rfl rfl)
theorem dX6_gossip_86 : decode cX6_gossip 86 = .ok (.aload_n 0, 1) := dk_42 (dk_at dksX6_gossip_3 16 rfl rfl)
theorem dX6_gossip_87 : decode cX6_gossip 87 = .ok (.aload_n 0, 1) := dk_42 (dk_at dksX6_gossip_3 17 rfl rfl)
theorem dX6_gossip_88 : decode cX6_gossip 88 = .ok (.getfield 41, 3) := dk_180 0 41 (dk_at dksX6_gossip_3 18 rfl rfl)
theorem dX6_gossip_91 : decode cX6_gossip 91 = .ok (.iload 5, 2) := dk_21 5 (dk_at dksX6_gossip_3 21 rfl rfl)
theorem dX6_gossip_93 : decode cX6_gossip 93 = .ok (.iload 6, 2) := dk_21 6 (dk_at dksX6_gossip_4 0 rfl rfl)
theorem dX6_gossip_95 : decode cX6_gossip 95 = .ok (.invokevirtual 344, 3) := dk_182 1 88 (dk_at dksX6_gossip_4 2 rfl rfl)
theorem dX6_gossip_98 : decode cX6_gossip 98 = .ok (.ifCond .eq 10, 3) := dk_153 0 10 (dk_at dksX6_gossip_4 5 rfl rfl)
theorem dX6_gossip_101 : decode cX6_gossip 101 = .ok (.iconst 1, 1) := dk_4 (dk_at dksX6_gossip_4 8 rfl rfl)
theorem dX6_gossip_102 : decode cX6_gossip 102 = .ok (.iload 6, 2) := dk_21 6 (dk_at dksX6_gossip_4 9 rfl rfl)
theorem dX6_gossip_104 : decode cX6_gossip 104 = .ok (.ishl, 1) := dk_120 (dk_at dksX6_gossip_4 11 rfl rfl)
theorem dX6_gossip_105 : decode cX6_gossip 105 = .ok (.goto 4, 3) := dk_167 0 4 (dk_at dksX6_gossip_4 12 rfl rfl)
theorem dX6_gossip_108 : decode cX6_gossip 108 = .ok (.iconst 0, 1) := dk_3 (dk_at dksX6_gossip_4 15 rfl rfl)
theorem dX6_gossip_109 : decode cX6_gossip 109 = .ok (.ior, 1) := dk_128 (dk_at dksX6_gossip_4 16 rfl rfl)
theorem dX6_gossip_110 : decode cX6_gossip 110 = .ok (.istore 4, 2) := dk_54 4 (dk_at dksX6_gossip_4 17 rfl rfl)
theorem dX6_gossip_112 : decode cX6_gossip 112 = .ok (.iinc 6 1, 3) := dk_132 6 1 (dk_at dksX6_gossip_4 19 rfl rfl)
theorem dX6_gossip_115 : decode cX6_gossip 115 = .ok (.goto (-60), 3) := dk_167 255 196 (dk_at dksX6_gossip_5 0 rfl rfl)
theorem dX6_gossip_118 : decode cX6_gossip 118 = .ok (.iinc 5 1, 3) := dk_132 5 1 (dk_at dksX6_gossip_5 3 rfl rfl)
theorem dX6_gossip_121 : decode cX6_gossip 121 = .ok (.goto (-78), 3) := dk_167 255 178 (dk_at dksX6_gossip_5 6 rfl rfl)
theorem dX6_gossip_124 : decode cX6_gossip 124 = .ok (.goto (-100), 3) := dk_167 255 156 (dk_at dksX6_gossip_5 9 rfl rfl)
theorem dX6_gossip_127 : decode cX6_gossip 127 = .ok (.aload_n 0, 1) := dk_42 (dk_at dksX6_gossip_5 12 rfl rfl)
theorem dX6_gossip_128 : decode cX6_gossip 128 = .ok (.iconst 0, 1) := dk_3 (dk_at dksX6_gossip_5 13 rfl rfl)
theorem dX6_gossip_129 : decode cX6_gossip 129 = .ok (.putfield 15, 3) := dk_181 0 15 (dk_at dksX6_gossip_5 14 rfl rfl)
theorem dX6_gossip_132 : decode cX6_gossip 132 = .ok (.aload_n 0, 1) := dk_42 (dk_at dksX6_gossip_5 17 rfl rfl)
theorem dX6_gossip_133 : decode cX6_gossip 133 = .ok (.iload_n 3, 1) := dk_29 (dk_at dksX6_gossip_5 18 rfl rfl)
theorem dX6_gossip_134 : decode cX6_gossip 134 = .ok (.i2l, 1) := dk_133 (dk_at dksX6_gossip_5 19 rfl rfl)
theorem dX6_gossip_135 : decode cX6_gossip 135 = .ok (.invokevirtual 373, 3) := dk_182 1 117 (dk_at dksX6_gossip_5 20 rfl rfl)
theorem dX6_gossip_138 : decode cX6_gossip 138 = .ok (.iload_n 2, 1) := dk_28 (dk_at dksX6_gossip_5 23 rfl rfl)
theorem dX6_gossip_139 : decode cX6_gossip 139 = .ok (.ireturn, 1) := dk_172 (dk_at dksX6_gossip_6 0 rfl rfl)
abbrev cX6_eighths : ByteArray := prog_12_method_93_code
def yX6_eighths : MethodName := ⟨RX6, "eighths", "(II)I"⟩
def dkwX6_eighths_4 : List UInt8 := [3, 181, 0, 15, 42, 29, 133, 182, 1, 117, 21, 4, 172]
abbrev dktX6_eighths_4 : List UInt8 := dkwX6_eighths_4 ++ []
def dkwX6_eighths_3 : List UInt8 := [153, 0, 10, 21, 5, 62, 21, 6, 54, 4, 132, 5, 1, 167, 255, 205, 29, 156, 0, 6, 16, 254, 172, 42]
abbrev dktX6_eighths_3 : List UInt8 := dkwX6_eighths_3 ++ dktX6_eighths_4
def dkwX6_eighths_2 : List UInt8 := [46, 21, 5, 184, 1, 29, 54, 6, 21, 6, 21, 4, 162, 0, 21, 42, 27, 28, 21, 5, 182, 1, 177]
abbrev dktX6_eighths_2 : List UInt8 := dkwX6_eighths_2 ++ dktX6_eighths_3
def dkwX6_eighths_1 : List UInt8 := [62, 19, 1, 176, 54, 4, 3, 54, 5, 21, 5, 16, 8, 162, 0, 50, 42, 180, 0, 41, 16, 8, 27, 96]
abbrev dktX6_eighths_1 : List UInt8 := dkwX6_eighths_1 ++ dktX6_eighths_2
def dkwX6_eighths_0 : List UInt8 := [42, 3, 181, 0, 3, 42, 27, 182, 1, 59, 153, 0, 11, 42, 28, 182, 1, 102, 154, 0, 5, 2, 172, 2]
abbrev dktX6_eighths_0 : List UInt8 := dkwX6_eighths_0 ++ dktX6_eighths_1
theorem dksX6_eighths_0 : cX6_eighths.data.toList.drop 0 = dktX6_eighths_0 := by decide +kernel
theorem dksX6_eighths_1 : cX6_eighths.data.toList.drop 24 = dktX6_eighths_1 := dk_seg dksX6_eighths_0 24 rfl rfl
theorem dksX6_eighths_2 : cX6_eighths.data.toList.drop 48 = dktX6_eighths_2 := dk_seg dksX6_eighths_1 24 rfl rfl
theorem dksX6_eighths_3 : cX6_eighths.data.toList.drop 71 = dktX6_eighths_3 := dk_seg dksX6_eighths_2 23 rfl rfl
theorem dksX6_eighths_4 : cX6_eighths.data.toList.drop 95 = dktX6_eighths_4 := dk_seg dksX6_eighths_3 24 rfl rfl
theorem dX6_eighths_0 : decode cX6_eighths 0 = .ok (.aload_n 0, 1) := dk_42 (dk_at dksX6_eighths_0 0 rfl rfl)
theorem dX6_eighths_1 : decode cX6_eighths 1 = .ok (.iconst 0, 1) := dk_3 (dk_at dksX6_eighths_0 1 rfl rfl)
theorem dX6_eighths_2 : decode cX6_eighths 2 = .ok (.putfield 3, 3) := dk_181 0 3 (dk_at dksX6_eighths_0 2 rfl rfl)
theorem dX6_eighths_5 : decode cX6_eighths 5 = .ok (.aload_n 0, 1) := dk_42 (dk_at dksX6_eighths_0 5 rfl rfl)
theorem dX6_eighths_6 : decode cX6_eighths 6 = .ok (.iload_n 1, 1) := dk_27 (dk_at dksX6_eighths_0 6 rfl rfl)
theorem dX6_eighths_7 : decode cX6_eighths 7 = .ok (.invokevirtual 315, 3) := dk_182 1 59 (dk_at dksX6_eighths_0 7 rfl rfl)
theorem dX6_eighths_10 : decode cX6_eighths 10 = .ok (.ifCond .eq 11, 3) := dk_153 0 11 (dk_at dksX6_eighths_0 10 rfl rfl)
theorem dX6_eighths_13 : decode cX6_eighths 13 = .ok (.aload_n 0, 1) := dk_42 (dk_at dksX6_eighths_0 13 rfl rfl)
theorem dX6_eighths_14 : decode cX6_eighths 14 = .ok (.iload_n 2, 1) := dk_28 (dk_at dksX6_eighths_0 14 rfl rfl)
theorem dX6_eighths_15 : decode cX6_eighths 15 = .ok (.invokevirtual 358, 3) := dk_182 1 102 (dk_at dksX6_eighths_0 15 rfl rfl)
theorem dX6_eighths_18 : decode cX6_eighths 18 = .ok (.ifCond .ne 5, 3) := dk_154 0 5 (dk_at dksX6_eighths_0 18 rfl rfl)
theorem dX6_eighths_21 : decode cX6_eighths 21 = .ok (.iconst (-1), 1) := dk_2 (dk_at dksX6_eighths_0 21 rfl rfl)
theorem dX6_eighths_22 : decode cX6_eighths 22 = .ok (.ireturn, 1) := dk_172 (dk_at dksX6_eighths_0 22 rfl rfl)
theorem dX6_eighths_23 : decode cX6_eighths 23 = .ok (.iconst (-1), 1) := dk_2 (dk_at dksX6_eighths_0 23 rfl rfl)
theorem dX6_eighths_24 : decode cX6_eighths 24 = .ok (.istore_n 3, 1) := dk_62 (dk_at dksX6_eighths_1 0 rfl rfl)
theorem dX6_eighths_25 : decode cX6_eighths 25 = .ok (.ldc_w 432, 3) := dk_19 1 176 (dk_at dksX6_eighths_1 1 rfl rfl)
theorem dX6_eighths_28 : decode cX6_eighths 28 = .ok (.istore 4, 2) := dk_54 4 (dk_at dksX6_eighths_1 4 rfl rfl)
theorem dX6_eighths_30 : decode cX6_eighths 30 = .ok (.iconst 0, 1) := dk_3 (dk_at dksX6_eighths_1 6 rfl rfl)
theorem dX6_eighths_31 : decode cX6_eighths 31 = .ok (.istore 5, 2) := dk_54 5 (dk_at dksX6_eighths_1 7 rfl rfl)
theorem dX6_eighths_33 : decode cX6_eighths 33 = .ok (.iload 5, 2) := dk_21 5 (dk_at dksX6_eighths_1 9 rfl rfl)
theorem dX6_eighths_35 : decode cX6_eighths 35 = .ok (.bipush 8, 2) := dk_16 8 (dk_at dksX6_eighths_1 11 rfl rfl)
theorem dX6_eighths_37 : decode cX6_eighths 37 = .ok (.if_icmp .ge 50, 3) := dk_162 0 50 (dk_at dksX6_eighths_1 13 rfl rfl)
theorem dX6_eighths_40 : decode cX6_eighths 40 = .ok (.aload_n 0, 1) := dk_42 (dk_at dksX6_eighths_1 16 rfl rfl)
theorem dX6_eighths_41 : decode cX6_eighths 41 = .ok (.getfield 41, 3) := dk_180 0 41 (dk_at dksX6_eighths_1 17 rfl rfl)
theorem dX6_eighths_44 : decode cX6_eighths 44 = .ok (.bipush 8, 2) := dk_16 8 (dk_at dksX6_eighths_1 20 rfl rfl)
theorem dX6_eighths_46 : decode cX6_eighths 46 = .ok (.iload_n 1, 1) := dk_27 (dk_at dksX6_eighths_1 22 rfl rfl)
theorem dX6_eighths_47 : decode cX6_eighths 47 = .ok (.iadd, 1) := dk_96 (dk_at dksX6_eighths_1 23 rfl rfl)
theorem dX6_eighths_48 : decode cX6_eighths 48 = .ok (.iaload, 1) := dk_46 (dk_at dksX6_eighths_2 0 rfl rfl)
theorem dX6_eighths_49 : decode cX6_eighths 49 = .ok (.iload 5, 2) := dk_21 5 (dk_at dksX6_eighths_2 1 rfl rfl)
theorem dX6_eighths_51 : decode cX6_eighths 51 = .ok (.invokestatic 285, 3) := dk_184 1 29 (dk_at dksX6_eighths_2 3 rfl rfl)
theorem dX6_eighths_54 : decode cX6_eighths 54 = .ok (.istore 6, 2) := dk_54 6 (dk_at dksX6_eighths_2 6 rfl rfl)
theorem dX6_eighths_56 : decode cX6_eighths 56 = .ok (.iload 6, 2) := dk_21 6 (dk_at dksX6_eighths_2 8 rfl rfl)
theorem dX6_eighths_58 : decode cX6_eighths 58 = .ok (.iload 4, 2) := dk_21 4 (dk_at dksX6_eighths_2 10 rfl rfl)
theorem dX6_eighths_60 : decode cX6_eighths 60 = .ok (.if_icmp .ge 21, 3) := dk_162 0 21 (dk_at dksX6_eighths_2 12 rfl rfl)
theorem dX6_eighths_63 : decode cX6_eighths 63 = .ok (.aload_n 0, 1) := dk_42 (dk_at dksX6_eighths_2 15 rfl rfl)
theorem dX6_eighths_64 : decode cX6_eighths 64 = .ok (.iload_n 1, 1) := dk_27 (dk_at dksX6_eighths_2 16 rfl rfl)
theorem dX6_eighths_65 : decode cX6_eighths 65 = .ok (.iload_n 2, 1) := dk_28 (dk_at dksX6_eighths_2 17 rfl rfl)
theorem dX6_eighths_66 : decode cX6_eighths 66 = .ok (.iload 5, 2) := dk_21 5 (dk_at dksX6_eighths_2 18 rfl rfl)
theorem dX6_eighths_68 : decode cX6_eighths 68 = .ok (.invokevirtual 433, 3) := dk_182 1 177 (dk_at dksX6_eighths_2 20 rfl rfl)
theorem dX6_eighths_71 : decode cX6_eighths 71 = .ok (.ifCond .eq 10, 3) := dk_153 0 10 (dk_at dksX6_eighths_3 0 rfl rfl)
theorem dX6_eighths_74 : decode cX6_eighths 74 = .ok (.iload 5, 2) := dk_21 5 (dk_at dksX6_eighths_3 3 rfl rfl)
theorem dX6_eighths_76 : decode cX6_eighths 76 = .ok (.istore_n 3, 1) := dk_62 (dk_at dksX6_eighths_3 5 rfl rfl)
theorem dX6_eighths_77 : decode cX6_eighths 77 = .ok (.iload 6, 2) := dk_21 6 (dk_at dksX6_eighths_3 6 rfl rfl)
theorem dX6_eighths_79 : decode cX6_eighths 79 = .ok (.istore 4, 2) := dk_54 4 (dk_at dksX6_eighths_3 8 rfl rfl)
theorem dX6_eighths_81 : decode cX6_eighths 81 = .ok (.iinc 5 1, 3) := dk_132 5 1 (dk_at dksX6_eighths_3 10 rfl rfl)
theorem dX6_eighths_84 : decode cX6_eighths 84 = .ok (.goto (-51), 3) := dk_167 255 205 (dk_at dksX6_eighths_3 13 rfl rfl)
theorem dX6_eighths_87 : decode cX6_eighths 87 = .ok (.iload_n 3, 1) := dk_29 (dk_at dksX6_eighths_3 16 rfl rfl)
theorem dX6_eighths_88 : decode cX6_eighths 88 = .ok (.ifCond .ge 6, 3) := dk_156 0 6 (dk_at dksX6_eighths_3 17 rfl rfl)
theorem dX6_eighths_91 : decode cX6_eighths 91 = .ok (.bipush (-2), 2) := dk_16 254 (dk_at dksX6_eighths_3 20 rfl rfl)
theorem dX6_eighths_93 : decode cX6_eighths 93 = .ok (.ireturn, 1) := dk_172 (dk_at dksX6_eighths_3 22 rfl rfl)
theorem dX6_eighths_94 : decode cX6_eighths 94 = .ok (.aload_n 0, 1) := dk_42 (dk_at dksX6_eighths_3 23 rfl rfl)
theorem dX6_eighths_95 : decode cX6_eighths 95 = .ok (.iconst 0, 1) := dk_3 (dk_at dksX6_eighths_4 0 rfl rfl)
theorem dX6_eighths_96 : decode cX6_eighths 96 = .ok (.putfield 15, 3) := dk_181 0 15 (dk_at dksX6_eighths_4 1 rfl rfl)
theorem dX6_eighths_99 : decode cX6_eighths 99 = .ok (.aload_n 0, 1) := dk_42 (dk_at dksX6_eighths_4 4 rfl rfl)
theorem dX6_eighths_100 : decode cX6_eighths 100 = .ok (.iload_n 3, 1) := dk_29 (dk_at dksX6_eighths_4 5 rfl rfl)
theorem dX6_eighths_101 : decode cX6_eighths 101 = .ok (.i2l, 1) := dk_133 (dk_at dksX6_eighths_4 6 rfl rfl)
theorem dX6_eighths_102 : decode cX6_eighths 102 = .ok (.invokevirtual 373, 3) := dk_182 1 117 (dk_at dksX6_eighths_4 7 rfl rfl)
theorem dX6_eighths_105 : decode cX6_eighths 105 = .ok (.iload 4, 2) := dk_21 4 (dk_at dksX6_eighths_4 10 rfl rfl)
theorem dX6_eighths_107 : decode cX6_eighths 107 = .ok (.ireturn, 1) := dk_172 (dk_at dksX6_eighths_4 12 rfl rfl)
abbrev cX6_wouldSee : ByteArray := prog_12_method_92_code
def yX6_wouldSee : MethodName := ⟨RX6, "wouldSee", "(III)Z"⟩
def dkwX6_wouldSee_1 : List UInt8 := [42, 180, 0, 41, 16, 16, 27, 96, 46, 182, 1, 36, 182, 1, 40, 172]
abbrev dktX6_wouldSee_1 : List UInt8 := dkwX6_wouldSee_1 ++ []
def dkwX6_wouldSee_0 : List UInt8 := [42, 42, 180, 0, 41, 27, 46, 28, 29, 42, 180, 0, 41, 16, 16, 27, 96, 46, 42, 42, 180, 0, 41, 27]
abbrev dktX6_wouldSee_0 : List UInt8 := dkwX6_wouldSee_0 ++ dktX6_wouldSee_1
theorem dksX6_wouldSee_0 : cX6_wouldSee.data.toList.drop 0 = dktX6_wouldSee_0 := by decide +kernel
theorem dksX6_wouldSee_1 : cX6_wouldSee.data.toList.drop 24 = dktX6_wouldSee_1 := dk_seg dksX6_wouldSee_0 24 rfl rfl
theorem dX6_wouldSee_0 : decode cX6_wouldSee 0 = .ok (.aload_n 0, 1) := dk_42 (dk_at dksX6_wouldSee_0 0 rfl rfl)
theorem dX6_wouldSee_1 : decode cX6_wouldSee 1 = .ok (.aload_n 0, 1) := dk_42 (dk_at dksX6_wouldSee_0 1 rfl rfl)
theorem dX6_wouldSee_2 : decode cX6_wouldSee 2 = .ok (.getfield 41, 3) := dk_180 0 41 (dk_at dksX6_wouldSee_0 2 rfl rfl)
theorem dX6_wouldSee_5 : decode cX6_wouldSee 5 = .ok (.iload_n 1, 1) := dk_27 (dk_at dksX6_wouldSee_0 5 rfl rfl)
theorem dX6_wouldSee_6 : decode cX6_wouldSee 6 = .ok (.iaload, 1) := dk_46 (dk_at dksX6_wouldSee_0 6 rfl rfl)
theorem dX6_wouldSee_7 : decode cX6_wouldSee 7 = .ok (.iload_n 2, 1) := dk_28 (dk_at dksX6_wouldSee_0 7 rfl rfl)
theorem dX6_wouldSee_8 : decode cX6_wouldSee 8 = .ok (.iload_n 3, 1) := dk_29 (dk_at dksX6_wouldSee_0 8 rfl rfl)
theorem dX6_wouldSee_9 : decode cX6_wouldSee 9 = .ok (.aload_n 0, 1) := dk_42 (dk_at dksX6_wouldSee_0 9 rfl rfl)
theorem dX6_wouldSee_10 : decode cX6_wouldSee 10 = .ok (.getfield 41, 3) := dk_180 0 41 (dk_at dksX6_wouldSee_0 10 rfl rfl)
theorem dX6_wouldSee_13 : decode cX6_wouldSee 13 = .ok (.bipush 16, 2) := dk_16 16 (dk_at dksX6_wouldSee_0 13 rfl rfl)
theorem dX6_wouldSee_15 : decode cX6_wouldSee 15 = .ok (.iload_n 1, 1) := dk_27 (dk_at dksX6_wouldSee_0 15 rfl rfl)
theorem dX6_wouldSee_16 : decode cX6_wouldSee 16 = .ok (.iadd, 1) := dk_96 (dk_at dksX6_wouldSee_0 16 rfl rfl)
theorem dX6_wouldSee_17 : decode cX6_wouldSee 17 = .ok (.iaload, 1) := dk_46 (dk_at dksX6_wouldSee_0 17 rfl rfl)
theorem dX6_wouldSee_18 : decode cX6_wouldSee 18 = .ok (.aload_n 0, 1) := dk_42 (dk_at dksX6_wouldSee_0 18 rfl rfl)
theorem dX6_wouldSee_19 : decode cX6_wouldSee 19 = .ok (.aload_n 0, 1) := dk_42 (dk_at dksX6_wouldSee_0 19 rfl rfl)
theorem dX6_wouldSee_20 : decode cX6_wouldSee 20 = .ok (.getfield 41, 3) := dk_180 0 41 (dk_at dksX6_wouldSee_0 20 rfl rfl)
theorem dX6_wouldSee_23 : decode cX6_wouldSee 23 = .ok (.iload_n 1, 1) := dk_27 (dk_at dksX6_wouldSee_0 23 rfl rfl)
theorem dX6_wouldSee_24 : decode cX6_wouldSee 24 = .ok (.aload_n 0, 1) := dk_42 (dk_at dksX6_wouldSee_1 0 rfl rfl)
theorem dX6_wouldSee_25 : decode cX6_wouldSee 25 = .ok (.getfield 41, 3) := dk_180 0 41 (dk_at dksX6_wouldSee_1 1 rfl rfl)
theorem dX6_wouldSee_28 : decode cX6_wouldSee 28 = .ok (.bipush 16, 2) := dk_16 16 (dk_at dksX6_wouldSee_1 4 rfl rfl)
theorem dX6_wouldSee_30 : decode cX6_wouldSee 30 = .ok (.iload_n 1, 1) := dk_27 (dk_at dksX6_wouldSee_1 6 rfl rfl)
theorem dX6_wouldSee_31 : decode cX6_wouldSee 31 = .ok (.iadd, 1) := dk_96 (dk_at dksX6_wouldSee_1 7 rfl rfl)
theorem dX6_wouldSee_32 : decode cX6_wouldSee 32 = .ok (.iaload, 1) := dk_46 (dk_at dksX6_wouldSee_1 8 rfl rfl)
theorem dX6_wouldSee_33 : decode cX6_wouldSee 33 = .ok (.invokevirtual 292, 3) := dk_182 1 36 (dk_at dksX6_wouldSee_1 9 rfl rfl)
theorem dX6_wouldSee_36 : decode cX6_wouldSee 36 = .ok (.invokevirtual 296, 3) := dk_182 1 40 (dk_at dksX6_wouldSee_1 12 rfl rfl)
theorem dX6_wouldSee_39 : decode cX6_wouldSee 39 = .ok (.ireturn, 1) := dk_172 (dk_at dksX6_wouldSee_1 15 rfl rfl)
abbrev cX6_turned : ByteArray := prog_12_method_97_code
def yX6_turned : MethodName := ⟨RX6, "turned", "()I"⟩
def dkwX6_turned_11 : List UInt8 := [21, 4, 104, 21, 5, 96, 46, 128, 62, 42, 21, 5, 133, 182, 1, 117, 132, 4, 1, 167, 255, 189, 28, 172]
abbrev dktX6_turned_11 : List UInt8 := dkwX6_turned_11 ++ []
def dkwX6_turned_10 : List UInt8 := [21, 4, 29, 184, 1, 181, 46, 159, 0, 9, 132, 5, 1, 167, 255, 230, 29, 42, 180, 0, 89, 16, 8]
abbrev dktX6_turned_10 : List UInt8 := dkwX6_turned_10 ++ dktX6_turned_11
def dkwX6_turned_9 : List UInt8 := [42, 180, 0, 130, 162, 0, 64, 3, 54, 5, 42, 21, 4, 29, 21, 5, 182, 1, 187, 42, 180, 0, 92]
abbrev dktX6_turned_9 : List UInt8 := dkwX6_turned_9 ++ dktX6_turned_10
def dkwX6_turned_8 : List UInt8 := [46, 61, 28, 19, 1, 176, 161, 0, 6, 16, 254, 172, 42, 3, 181, 0, 15, 3, 62, 3, 54, 4, 21, 4]
abbrev dktX6_turned_8 : List UInt8 := dkwX6_turned_8 ++ dktX6_turned_9
def dkwX6_turned_7 : List UInt8 := [21, 4, 79, 132, 3, 1, 167, 255, 200, 132, 2, 255, 167, 255, 188, 42, 180, 0, 92, 3, 3, 184, 1, 181]
abbrev dktX6_turned_7 : List UInt8 := dkwX6_turned_7 ++ dktX6_turned_8
def dkwX6_turned_6 : List UInt8 := [182, 1, 187, 184, 0, 145, 54, 4, 132, 5, 1, 167, 255, 231, 42, 180, 0, 92, 28, 29, 184, 1, 181]
abbrev dktX6_turned_6 : List UInt8 := dkwX6_turned_6 ++ dktX6_turned_7
def dkwX6_turned_5 : List UInt8 := [19, 1, 176, 54, 4, 3, 54, 5, 21, 5, 16, 8, 162, 0, 24, 21, 4, 42, 28, 29, 21, 5]
abbrev dktX6_turned_5 : List UInt8 := dkwX6_turned_5 ++ dktX6_turned_6
def dkwX6_turned_4 : List UInt8 := [132, 2, 1, 167, 255, 223, 42, 180, 0, 130, 4, 100, 61, 28, 155, 0, 70, 3, 62, 29, 27, 163, 0, 57]
abbrev dktX6_turned_4 : List UInt8 := dkwX6_turned_4 ++ dktX6_turned_5
def dkwX6_turned_3 : List UInt8 := [180, 0, 92, 42, 180, 0, 130, 28, 184, 1, 181, 28, 27, 160, 0, 7, 3, 167, 0, 6, 19, 1, 176, 79]
abbrev dktX6_turned_3 : List UInt8 := dkwX6_turned_3 ++ dktX6_turned_4
def dkwX6_turned_2 : List UInt8 := [132, 1, 1, 167, 255, 214, 4, 42, 180, 0, 133, 120, 4, 100, 60, 3, 61, 28, 27, 163, 0, 34, 42]
abbrev dktX6_turned_2 : List UInt8 := dkwX6_turned_2 ++ dktX6_turned_3
def dkwX6_turned_1 : List UInt8 := [180, 0, 89, 16, 8, 27, 104, 28, 96, 42, 27, 28, 182, 1, 184, 79, 132, 2, 1, 167, 255, 230]
abbrev dktX6_turned_1 : List UInt8 := dkwX6_turned_1 ++ dktX6_turned_2
def dkwX6_turned_0 : List UInt8 := [42, 3, 181, 0, 3, 3, 60, 27, 42, 180, 0, 130, 162, 0, 40, 3, 61, 28, 16, 8, 162, 0, 26, 42]
abbrev dktX6_turned_0 : List UInt8 := dkwX6_turned_0 ++ dktX6_turned_1
theorem dksX6_turned_0 : cX6_turned.data.toList.drop 0 = dktX6_turned_0 := by decide +kernel
theorem dksX6_turned_1 : cX6_turned.data.toList.drop 24 = dktX6_turned_1 := dk_seg dksX6_turned_0 24 rfl rfl
theorem dksX6_turned_2 : cX6_turned.data.toList.drop 46 = dktX6_turned_2 := dk_seg dksX6_turned_1 22 rfl rfl
theorem dksX6_turned_3 : cX6_turned.data.toList.drop 69 = dktX6_turned_3 := dk_seg dksX6_turned_2 23 rfl rfl
theorem dksX6_turned_4 : cX6_turned.data.toList.drop 93 = dktX6_turned_4 := dk_seg dksX6_turned_3 24 rfl rfl
theorem dksX6_turned_5 : cX6_turned.data.toList.drop 117 = dktX6_turned_5 := dk_seg dksX6_turned_4 24 rfl rfl
theorem dksX6_turned_6 : cX6_turned.data.toList.drop 139 = dktX6_turned_6 := dk_seg dksX6_turned_5 22 rfl rfl
theorem dksX6_turned_7 : cX6_turned.data.toList.drop 162 = dktX6_turned_7 := dk_seg dksX6_turned_6 23 rfl rfl
theorem dksX6_turned_8 : cX6_turned.data.toList.drop 186 = dktX6_turned_8 := dk_seg dksX6_turned_7 24 rfl rfl
theorem dksX6_turned_9 : cX6_turned.data.toList.drop 210 = dktX6_turned_9 := dk_seg dksX6_turned_8 24 rfl rfl
theorem dksX6_turned_10 : cX6_turned.data.toList.drop 233 = dktX6_turned_10 := dk_seg dksX6_turned_9 23 rfl rfl
theorem dksX6_turned_11 : cX6_turned.data.toList.drop 256 = dktX6_turned_11 := dk_seg dksX6_turned_10 23 rfl rfl
theorem dX6_turned_0 : decode cX6_turned 0 = .ok (.aload_n 0, 1) := dk_42 (dk_at dksX6_turned_0 0 rfl rfl)
theorem dX6_turned_1 : decode cX6_turned 1 = .ok (.iconst 0, 1) := dk_3 (dk_at dksX6_turned_0 1 rfl rfl)
theorem dX6_turned_2 : decode cX6_turned 2 = .ok (.putfield 3, 3) := dk_181 0 3 (dk_at dksX6_turned_0 2 rfl rfl)
theorem dX6_turned_5 : decode cX6_turned 5 = .ok (.iconst 0, 1) := dk_3 (dk_at dksX6_turned_0 5 rfl rfl)
theorem dX6_turned_6 : decode cX6_turned 6 = .ok (.istore_n 1, 1) := dk_60 (dk_at dksX6_turned_0 6 rfl rfl)
theorem dX6_turned_7 : decode cX6_turned 7 = .ok (.iload_n 1, 1) := dk_27 (dk_at dksX6_turned_0 7 rfl rfl)
theorem dX6_turned_8 : decode cX6_turned 8 = .ok (.aload_n 0, 1) := dk_42 (dk_at dksX6_turned_0 8 rfl rfl)
theorem dX6_turned_9 : decode cX6_turned 9 = .ok (.getfield 130, 3) := dk_180 0 130 (dk_at dksX6_turned_0 9 rfl rfl)
theorem dX6_turned_12 : decode cX6_turned 12 = .ok (.if_icmp .ge 40, 3) := dk_162 0 40 (dk_at dksX6_turned_0 12 rfl rfl)
theorem dX6_turned_15 : decode cX6_turned 15 = .ok (.iconst 0, 1) := dk_3 (dk_at dksX6_turned_0 15 rfl rfl)
theorem dX6_turned_16 : decode cX6_turned 16 = .ok (.istore_n 2, 1) := dk_61 (dk_at dksX6_turned_0 16 rfl rfl)
theorem dX6_turned_17 : decode cX6_turned 17 = .ok (.iload_n 2, 1) := dk_28 (dk_at dksX6_turned_0 17 rfl rfl)
theorem dX6_turned_18 : decode cX6_turned 18 = .ok (.bipush 8, 2) := dk_16 8 (dk_at dksX6_turned_0 18 rfl rfl)
theorem dX6_turned_20 : decode cX6_turned 20 = .ok (.if_icmp .ge 26, 3) := dk_162 0 26 (dk_at dksX6_turned_0 20 rfl rfl)
theorem dX6_turned_23 : decode cX6_turned 23 = .ok (.aload_n 0, 1) := dk_42 (dk_at dksX6_turned_0 23 rfl rfl)
theorem dX6_turned_24 : decode cX6_turned 24 = .ok (.getfield 89, 3) := dk_180 0 89 (dk_at dksX6_turned_1 0 rfl rfl)
theorem dX6_turned_27 : decode cX6_turned 27 = .ok (.bipush 8, 2) := dk_16 8 (dk_at dksX6_turned_1 3 rfl rfl)
theorem dX6_turned_29 : decode cX6_turned 29 = .ok (.iload_n 1, 1) := dk_27 (dk_at dksX6_turned_1 5 rfl rfl)
theorem dX6_turned_30 : decode cX6_turned 30 = .ok (.imul, 1) := dk_104 (dk_at dksX6_turned_1 6 rfl rfl)
theorem dX6_turned_31 : decode cX6_turned 31 = .ok (.iload_n 2, 1) := dk_28 (dk_at dksX6_turned_1 7 rfl rfl)
theorem dX6_turned_32 : decode cX6_turned 32 = .ok (.iadd, 1) := dk_96 (dk_at dksX6_turned_1 8 rfl rfl)
theorem dX6_turned_33 : decode cX6_turned 33 = .ok (.aload_n 0, 1) := dk_42 (dk_at dksX6_turned_1 9 rfl rfl)
theorem dX6_turned_34 : decode cX6_turned 34 = .ok (.iload_n 1, 1) := dk_27 (dk_at dksX6_turned_1 10 rfl rfl)
theorem dX6_turned_35 : decode cX6_turned 35 = .ok (.iload_n 2, 1) := dk_28 (dk_at dksX6_turned_1 11 rfl rfl)
theorem dX6_turned_36 : decode cX6_turned 36 = .ok (.invokevirtual 440, 3) := dk_182 1 184 (dk_at dksX6_turned_1 12 rfl rfl)
theorem dX6_turned_39 : decode cX6_turned 39 = .ok (.iastore, 1) := dk_79 (dk_at dksX6_turned_1 15 rfl rfl)
theorem dX6_turned_40 : decode cX6_turned 40 = .ok (.iinc 2 1, 3) := dk_132 2 1 (dk_at dksX6_turned_1 16 rfl rfl)
theorem dX6_turned_43 : decode cX6_turned 43 = .ok (.goto (-26), 3) := dk_167 255 230 (dk_at dksX6_turned_1 19 rfl rfl)
theorem dX6_turned_46 : decode cX6_turned 46 = .ok (.iinc 1 1, 3) := dk_132 1 1 (dk_at dksX6_turned_2 0 rfl rfl)
theorem dX6_turned_49 : decode cX6_turned 49 = .ok (.goto (-42), 3) := dk_167 255 214 (dk_at dksX6_turned_2 3 rfl rfl)
theorem dX6_turned_52 : decode cX6_turned 52 = .ok (.iconst 1, 1) := dk_4 (dk_at dksX6_turned_2 6 rfl rfl)
theorem dX6_turned_53 : decode cX6_turned 53 = .ok (.aload_n 0, 1) := dk_42 (dk_at dksX6_turned_2 7 rfl rfl)
theorem dX6_turned_54 : decode cX6_turned 54 = .ok (.getfield 133, 3) := dk_180 0 133 (dk_at dksX6_turned_2 8 rfl rfl)
theorem dX6_turned_57 : decode cX6_turned 57 = .ok (.ishl, 1) := dk_120 (dk_at dksX6_turned_2 11 rfl rfl)
theorem dX6_turned_58 : decode cX6_turned 58 = .ok (.iconst 1, 1) := dk_4 (dk_at dksX6_turned_2 12 rfl rfl)
theorem dX6_turned_59 : decode cX6_turned 59 = .ok (.isub, 1) := dk_100 (dk_at dksX6_turned_2 13 rfl rfl)
theorem dX6_turned_60 : decode cX6_turned 60 = .ok (.istore_n 1, 1) := dk_60 (dk_at dksX6_turned_2 14 rfl rfl)
theorem dX6_turned_61 : decode cX6_turned 61 = .ok (.iconst 0, 1) := dk_3 (dk_at dksX6_turned_2 15 rfl rfl)
theorem dX6_turned_62 : decode cX6_turned 62 = .ok (.istore_n 2, 1) := dk_61 (dk_at dksX6_turned_2 16 rfl rfl)
theorem dX6_turned_63 : decode cX6_turned 63 = .ok (.iload_n 2, 1) := dk_28 (dk_at dksX6_turned_2 17 rfl rfl)
theorem dX6_turned_64 : decode cX6_turned 64 = .ok (.iload_n 1, 1) := dk_27 (dk_at dksX6_turned_2 18 rfl rfl)
theorem dX6_turned_65 : decode cX6_turned 65 = .ok (.if_icmp .gt 34, 3) := dk_163 0 34 (dk_at dksX6_turned_2 19 rfl rfl)
theorem dX6_turned_68 : decode cX6_turned 68 = .ok (.aload_n 0, 1) := dk_42 (dk_at dksX6_turned_2 22 rfl rfl)
theorem dX6_turned_69 : decode cX6_turned 69 = .ok (.getfield 92, 3) := dk_180 0 92 (dk_at dksX6_turned_3 0 rfl rfl)
theorem dX6_turned_72 : decode cX6_turned 72 = .ok (.aload_n 0, 1) := dk_42 (dk_at dksX6_turned_3 3 rfl rfl)
theorem dX6_turned_73 : decode cX6_turned 73 = .ok (.getfield 130, 3) := dk_180 0 130 (dk_at dksX6_turned_3 4 rfl rfl)
theorem dX6_turned_76 : decode cX6_turned 76 = .ok (.iload_n 2, 1) := dk_28 (dk_at dksX6_turned_3 7 rfl rfl)
theorem dX6_turned_77 : decode cX6_turned 77 = .ok (.invokestatic 437, 3) := dk_184 1 181 (dk_at dksX6_turned_3 8 rfl rfl)
theorem dX6_turned_80 : decode cX6_turned 80 = .ok (.iload_n 2, 1) := dk_28 (dk_at dksX6_turned_3 11 rfl rfl)
theorem dX6_turned_81 : decode cX6_turned 81 = .ok (.iload_n 1, 1) := dk_27 (dk_at dksX6_turned_3 12 rfl rfl)
theorem dX6_turned_82 : decode cX6_turned 82 = .ok (.if_icmp .ne 7, 3) := dk_160 0 7 (dk_at dksX6_turned_3 13 rfl rfl)
theorem dX6_turned_85 : decode cX6_turned 85 = .ok (.iconst 0, 1) := dk_3 (dk_at dksX6_turned_3 16 rfl rfl)
theorem dX6_turned_86 : decode cX6_turned 86 = .ok (.goto 6, 3) := dk_167 0 6 (dk_at dksX6_turned_3 17 rfl rfl)
theorem dX6_turned_89 : decode cX6_turned 89 = .ok (.ldc_w 432, 3) := dk_19 1 176 (dk_at dksX6_turned_3 20 rfl rfl)
theorem dX6_turned_92 : decode cX6_turned 92 = .ok (.iastore, 1) := dk_79 (dk_at dksX6_turned_3 23 rfl rfl)
theorem dX6_turned_93 : decode cX6_turned 93 = .ok (.iinc 2 1, 3) := dk_132 2 1 (dk_at dksX6_turned_4 0 rfl rfl)
theorem dX6_turned_96 : decode cX6_turned 96 = .ok (.goto (-33), 3) := dk_167 255 223 (dk_at dksX6_turned_4 3 rfl rfl)
theorem dX6_turned_99 : decode cX6_turned 99 = .ok (.aload_n 0, 1) := dk_42 (dk_at dksX6_turned_4 6 rfl rfl)
theorem dX6_turned_100 : decode cX6_turned 100 = .ok (.getfield 130, 3) := dk_180 0 130 (dk_at dksX6_turned_4 7 rfl rfl)
theorem dX6_turned_103 : decode cX6_turned 103 = .ok (.iconst 1, 1) := dk_4 (dk_at dksX6_turned_4 10 rfl rfl)
theorem dX6_turned_104 : decode cX6_turned 104 = .ok (.isub, 1) := dk_100 (dk_at dksX6_turned_4 11 rfl rfl)
theorem dX6_turned_105 : decode cX6_turned 105 = .ok (.istore_n 2, 1) := dk_61 (dk_at dksX6_turned_4 12 rfl rfl)
theorem dX6_turned_106 : decode cX6_turned 106 = .ok (.iload_n 2, 1) := dk_28 (dk_at dksX6_turned_4 13 rfl rfl)
theorem dX6_turned_107 : decode cX6_turned 107 = .ok (.ifCond .lt 70, 3) := dk_155 0 70 (dk_at dksX6_turned_4 14 rfl rfl)
theorem dX6_turned_110 : decode cX6_turned 110 = .ok (.iconst 0, 1) := dk_3 (dk_at dksX6_turned_4 17 rfl rfl)
theorem dX6_turned_111 : decode cX6_turned 111 = .ok (.istore_n 3, 1) := dk_62 (dk_at dksX6_turned_4 18 rfl rfl)
theorem dX6_turned_112 : decode cX6_turned 112 = .ok (.iload_n 3, 1) := dk_29 (dk_at dksX6_turned_4 19 rfl rfl)
theorem dX6_turned_113 : decode cX6_turned 113 = .ok (.iload_n 1, 1) := dk_27 (dk_at dksX6_turned_4 20 rfl rfl)
theorem dX6_turned_114 : decode cX6_turned 114 = .ok (.if_icmp .gt 57, 3) := dk_163 0 57 (dk_at dksX6_turned_4 21 rfl rfl)
theorem dX6_turned_117 : decode cX6_turned 117 = .ok (.ldc_w 432, 3) := dk_19 1 176 (dk_at dksX6_turned_5 0 rfl rfl)
theorem dX6_turned_120 : decode cX6_turned 120 = .ok (.istore 4, 2) := dk_54 4 (dk_at dksX6_turned_5 3 rfl rfl)
theorem dX6_turned_122 : decode cX6_turned 122 = .ok (.iconst 0, 1) := dk_3 (dk_at dksX6_turned_5 5 rfl rfl)
theorem dX6_turned_123 : decode cX6_turned 123 = .ok (.istore 5, 2) := dk_54 5 (dk_at dksX6_turned_5 6 rfl rfl)
theorem dX6_turned_125 : decode cX6_turned 125 = .ok (.iload 5, 2) := dk_21 5 (dk_at dksX6_turned_5 8 rfl rfl)
theorem dX6_turned_127 : decode cX6_turned 127 = .ok (.bipush 8, 2) := dk_16 8 (dk_at dksX6_turned_5 10 rfl rfl)
theorem dX6_turned_129 : decode cX6_turned 129 = .ok (.if_icmp .ge 24, 3) := dk_162 0 24 (dk_at dksX6_turned_5 12 rfl rfl)
theorem dX6_turned_132 : decode cX6_turned 132 = .ok (.iload 4, 2) := dk_21 4 (dk_at dksX6_turned_5 15 rfl rfl)
theorem dX6_turned_134 : decode cX6_turned 134 = .ok (.aload_n 0, 1) := dk_42 (dk_at dksX6_turned_5 17 rfl rfl)
theorem dX6_turned_135 : decode cX6_turned 135 = .ok (.iload_n 2, 1) := dk_28 (dk_at dksX6_turned_5 18 rfl rfl)
theorem dX6_turned_136 : decode cX6_turned 136 = .ok (.iload_n 3, 1) := dk_29 (dk_at dksX6_turned_5 19 rfl rfl)
theorem dX6_turned_137 : decode cX6_turned 137 = .ok (.iload 5, 2) := dk_21 5 (dk_at dksX6_turned_5 20 rfl rfl)
theorem dX6_turned_139 : decode cX6_turned 139 = .ok (.invokevirtual 443, 3) := dk_182 1 187 (dk_at dksX6_turned_6 0 rfl rfl)
theorem dX6_turned_142 : decode cX6_turned 142 = .ok (.invokestatic 145, 3) := dk_184 0 145 (dk_at dksX6_turned_6 3 rfl rfl)
theorem dX6_turned_145 : decode cX6_turned 145 = .ok (.istore 4, 2) := dk_54 4 (dk_at dksX6_turned_6 6 rfl rfl)
theorem dX6_turned_147 : decode cX6_turned 147 = .ok (.iinc 5 1, 3) := dk_132 5 1 (dk_at dksX6_turned_6 8 rfl rfl)
theorem dX6_turned_150 : decode cX6_turned 150 = .ok (.goto (-25), 3) := dk_167 255 231 (dk_at dksX6_turned_6 11 rfl rfl)
theorem dX6_turned_153 : decode cX6_turned 153 = .ok (.aload_n 0, 1) := dk_42 (dk_at dksX6_turned_6 14 rfl rfl)
theorem dX6_turned_154 : decode cX6_turned 154 = .ok (.getfield 92, 3) := dk_180 0 92 (dk_at dksX6_turned_6 15 rfl rfl)
theorem dX6_turned_157 : decode cX6_turned 157 = .ok (.iload_n 2, 1) := dk_28 (dk_at dksX6_turned_6 18 rfl rfl)
theorem dX6_turned_158 : decode cX6_turned 158 = .ok (.iload_n 3, 1) := dk_29 (dk_at dksX6_turned_6 19 rfl rfl)
theorem dX6_turned_159 : decode cX6_turned 159 = .ok (.invokestatic 437, 3) := dk_184 1 181 (dk_at dksX6_turned_6 20 rfl rfl)
theorem dX6_turned_162 : decode cX6_turned 162 = .ok (.iload 4, 2) := dk_21 4 (dk_at dksX6_turned_7 0 rfl rfl)
theorem dX6_turned_164 : decode cX6_turned 164 = .ok (.iastore, 1) := dk_79 (dk_at dksX6_turned_7 2 rfl rfl)
theorem dX6_turned_165 : decode cX6_turned 165 = .ok (.iinc 3 1, 3) := dk_132 3 1 (dk_at dksX6_turned_7 3 rfl rfl)
theorem dX6_turned_168 : decode cX6_turned 168 = .ok (.goto (-56), 3) := dk_167 255 200 (dk_at dksX6_turned_7 6 rfl rfl)
theorem dX6_turned_171 : decode cX6_turned 171 = .ok (.iinc 2 (-1), 3) := dk_132 2 255 (dk_at dksX6_turned_7 9 rfl rfl)
theorem dX6_turned_174 : decode cX6_turned 174 = .ok (.goto (-68), 3) := dk_167 255 188 (dk_at dksX6_turned_7 12 rfl rfl)
theorem dX6_turned_177 : decode cX6_turned 177 = .ok (.aload_n 0, 1) := dk_42 (dk_at dksX6_turned_7 15 rfl rfl)
theorem dX6_turned_178 : decode cX6_turned 178 = .ok (.getfield 92, 3) := dk_180 0 92 (dk_at dksX6_turned_7 16 rfl rfl)
theorem dX6_turned_181 : decode cX6_turned 181 = .ok (.iconst 0, 1) := dk_3 (dk_at dksX6_turned_7 19 rfl rfl)
theorem dX6_turned_182 : decode cX6_turned 182 = .ok (.iconst 0, 1) := dk_3 (dk_at dksX6_turned_7 20 rfl rfl)
theorem dX6_turned_183 : decode cX6_turned 183 = .ok (.invokestatic 437, 3) := dk_184 1 181 (dk_at dksX6_turned_7 21 rfl rfl)
theorem dX6_turned_186 : decode cX6_turned 186 = .ok (.iaload, 1) := dk_46 (dk_at dksX6_turned_8 0 rfl rfl)
theorem dX6_turned_187 : decode cX6_turned 187 = .ok (.istore_n 2, 1) := dk_61 (dk_at dksX6_turned_8 1 rfl rfl)
theorem dX6_turned_188 : decode cX6_turned 188 = .ok (.iload_n 2, 1) := dk_28 (dk_at dksX6_turned_8 2 rfl rfl)
theorem dX6_turned_189 : decode cX6_turned 189 = .ok (.ldc_w 432, 3) := dk_19 1 176 (dk_at dksX6_turned_8 3 rfl rfl)
theorem dX6_turned_192 : decode cX6_turned 192 = .ok (.if_icmp .lt 6, 3) := dk_161 0 6 (dk_at dksX6_turned_8 6 rfl rfl)
theorem dX6_turned_195 : decode cX6_turned 195 = .ok (.bipush (-2), 2) := dk_16 254 (dk_at dksX6_turned_8 9 rfl rfl)
theorem dX6_turned_197 : decode cX6_turned 197 = .ok (.ireturn, 1) := dk_172 (dk_at dksX6_turned_8 11 rfl rfl)
theorem dX6_turned_198 : decode cX6_turned 198 = .ok (.aload_n 0, 1) := dk_42 (dk_at dksX6_turned_8 12 rfl rfl)
theorem dX6_turned_199 : decode cX6_turned 199 = .ok (.iconst 0, 1) := dk_3 (dk_at dksX6_turned_8 13 rfl rfl)
theorem dX6_turned_200 : decode cX6_turned 200 = .ok (.putfield 15, 3) := dk_181 0 15 (dk_at dksX6_turned_8 14 rfl rfl)
theorem dX6_turned_203 : decode cX6_turned 203 = .ok (.iconst 0, 1) := dk_3 (dk_at dksX6_turned_8 17 rfl rfl)
theorem dX6_turned_204 : decode cX6_turned 204 = .ok (.istore_n 3, 1) := dk_62 (dk_at dksX6_turned_8 18 rfl rfl)
theorem dX6_turned_205 : decode cX6_turned 205 = .ok (.iconst 0, 1) := dk_3 (dk_at dksX6_turned_8 19 rfl rfl)
theorem dX6_turned_206 : decode cX6_turned 206 = .ok (.istore 4, 2) := dk_54 4 (dk_at dksX6_turned_8 20 rfl rfl)
theorem dX6_turned_208 : decode cX6_turned 208 = .ok (.iload 4, 2) := dk_21 4 (dk_at dksX6_turned_8 22 rfl rfl)
theorem dX6_turned_210 : decode cX6_turned 210 = .ok (.aload_n 0, 1) := dk_42 (dk_at dksX6_turned_9 0 rfl rfl)
theorem dX6_turned_211 : decode cX6_turned 211 = .ok (.getfield 130, 3) := dk_180 0 130 (dk_at dksX6_turned_9 1 rfl rfl)
theorem dX6_turned_214 : decode cX6_turned 214 = .ok (.if_icmp .ge 64, 3) := dk_162 0 64 (dk_at dksX6_turned_9 4 rfl rfl)
theorem dX6_turned_217 : decode cX6_turned 217 = .ok (.iconst 0, 1) := dk_3 (dk_at dksX6_turned_9 7 rfl rfl)
theorem dX6_turned_218 : decode cX6_turned 218 = .ok (.istore 5, 2) := dk_54 5 (dk_at dksX6_turned_9 8 rfl rfl)
theorem dX6_turned_220 : decode cX6_turned 220 = .ok (.aload_n 0, 1) := dk_42 (dk_at dksX6_turned_9 10 rfl rfl)
theorem dX6_turned_221 : decode cX6_turned 221 = .ok (.iload 4, 2) := dk_21 4 (dk_at dksX6_turned_9 11 rfl rfl)
theorem dX6_turned_223 : decode cX6_turned 223 = .ok (.iload_n 3, 1) := dk_29 (dk_at dksX6_turned_9 13 rfl rfl)
theorem dX6_turned_224 : decode cX6_turned 224 = .ok (.iload 5, 2) := dk_21 5 (dk_at dksX6_turned_9 14 rfl rfl)
theorem dX6_turned_226 : decode cX6_turned 226 = .ok (.invokevirtual 443, 3) := dk_182 1 187 (dk_at dksX6_turned_9 16 rfl rfl)
theorem dX6_turned_229 : decode cX6_turned 229 = .ok (.aload_n 0, 1) := dk_42 (dk_at dksX6_turned_9 19 rfl rfl)
theorem dX6_turned_230 : decode cX6_turned 230 = .ok (.getfield 92, 3) := dk_180 0 92 (dk_at dksX6_turned_9 20 rfl rfl)
theorem dX6_turned_233 : decode cX6_turned 233 = .ok (.iload 4, 2) := dk_21 4 (dk_at dksX6_turned_10 0 rfl rfl)
theorem dX6_turned_235 : decode cX6_turned 235 = .ok (.iload_n 3, 1) := dk_29 (dk_at dksX6_turned_10 2 rfl rfl)
theorem dX6_turned_236 : decode cX6_turned 236 = .ok (.invokestatic 437, 3) := dk_184 1 181 (dk_at dksX6_turned_10 3 rfl rfl)
theorem dX6_turned_239 : decode cX6_turned 239 = .ok (.iaload, 1) := dk_46 (dk_at dksX6_turned_10 6 rfl rfl)
theorem dX6_turned_240 : decode cX6_turned 240 = .ok (.if_icmp .eq 9, 3) := dk_159 0 9 (dk_at dksX6_turned_10 7 rfl rfl)
theorem dX6_turned_243 : decode cX6_turned 243 = .ok (.iinc 5 1, 3) := dk_132 5 1 (dk_at dksX6_turned_10 10 rfl rfl)
theorem dX6_turned_246 : decode cX6_turned 246 = .ok (.goto (-26), 3) := dk_167 255 230 (dk_at dksX6_turned_10 13 rfl rfl)
theorem dX6_turned_249 : decode cX6_turned 249 = .ok (.iload_n 3, 1) := dk_29 (dk_at dksX6_turned_10 16 rfl rfl)
theorem dX6_turned_250 : decode cX6_turned 250 = .ok (.aload_n 0, 1) := dk_42 (dk_at dksX6_turned_10 17 rfl rfl)
theorem dX6_turned_251 : decode cX6_turned 251 = .ok (.getfield 89, 3) := dk_180 0 89 (dk_at dksX6_turned_10 18 rfl rfl)
theorem dX6_turned_254 : decode cX6_turned 254 = .ok (.bipush 8, 2) := dk_16 8 (dk_at dksX6_turned_10 21 rfl rfl)
theorem dX6_turned_256 : decode cX6_turned 256 = .ok (.iload 4, 2) := dk_21 4 (dk_at dksX6_turned_11 0 rfl rfl)
theorem dX6_turned_258 : decode cX6_turned 258 = .ok (.imul, 1) := dk_104 (dk_at dksX6_turned_11 2 rfl rfl)
theorem dX6_turned_259 : decode cX6_turned 259 = .ok (.iload 5, 2) := dk_21 5 (dk_at dksX6_turned_11 3 rfl rfl)
theorem dX6_turned_261 : decode cX6_turned 261 = .ok (.iadd, 1) := dk_96 (dk_at dksX6_turned_11 5 rfl rfl)
theorem dX6_turned_262 : decode cX6_turned 262 = .ok (.iaload, 1) := dk_46 (dk_at dksX6_turned_11 6 rfl rfl)
theorem dX6_turned_263 : decode cX6_turned 263 = .ok (.ior, 1) := dk_128 (dk_at dksX6_turned_11 7 rfl rfl)
theorem dX6_turned_264 : decode cX6_turned 264 = .ok (.istore_n 3, 1) := dk_62 (dk_at dksX6_turned_11 8 rfl rfl)
theorem dX6_turned_265 : decode cX6_turned 265 = .ok (.aload_n 0, 1) := dk_42 (dk_at dksX6_turned_11 9 rfl rfl)
theorem dX6_turned_266 : decode cX6_turned 266 = .ok (.iload 5, 2) := dk_21 5 (dk_at dksX6_turned_11 10 rfl rfl)
theorem dX6_turned_268 : decode cX6_turned 268 = .ok (.i2l, 1) := dk_133 (dk_at dksX6_turned_11 12 rfl rfl)
theorem dX6_turned_269 : decode cX6_turned 269 = .ok (.invokevirtual 373, 3) := dk_182 1 117 (dk_at dksX6_turned_11 13 rfl rfl)
theorem dX6_turned_272 : decode cX6_turned 272 = .ok (.iinc 4 1, 3) := dk_132 4 1 (dk_at dksX6_turned_11 16 rfl rfl)
theorem dX6_turned_275 : decode cX6_turned 275 = .ok (.goto (-67), 3) := dk_167 255 189 (dk_at dksX6_turned_11 19 rfl rfl)
theorem dX6_turned_278 : decode cX6_turned 278 = .ok (.iload_n 2, 1) := dk_28 (dk_at dksX6_turned_11 22 rfl rfl)
theorem dX6_turned_279 : decode cX6_turned 279 = .ok (.ireturn, 1) := dk_172 (dk_at dksX6_turned_11 23 rfl rfl)
abbrev cX6_wouldSeeThings : ByteArray := prog_12_method_94_code
def yX6_wouldSeeThings : MethodName := ⟨RX6, "wouldSeeThings", "(II)I"⟩
def dkwX6_wouldSeeThings_2 : List UInt8 := [167, 255, 214, 29, 172]
abbrev dktX6_wouldSeeThings_2 : List UInt8 := dkwX6_wouldSeeThings_2 ++ []
def dkwX6_wouldSeeThings_1 : List UInt8 := [21, 4, 96, 46, 28, 182, 1, 177, 153, 0, 10, 4, 21, 4, 120, 167, 0, 4, 3, 128, 62, 132, 4, 1]
abbrev dktX6_wouldSeeThings_1 : List UInt8 := dkwX6_wouldSeeThings_1 ++ dktX6_wouldSeeThings_2
def dkwX6_wouldSeeThings_0 : List UInt8 := [3, 62, 3, 54, 4, 21, 4, 42, 180, 0, 133, 162, 0, 39, 29, 42, 27, 42, 180, 0, 41, 16, 32]
abbrev dktX6_wouldSeeThings_0 : List UInt8 := dkwX6_wouldSeeThings_0 ++ dktX6_wouldSeeThings_1
theorem dksX6_wouldSeeThings_0 : cX6_wouldSeeThings.data.toList.drop 0 = dktX6_wouldSeeThings_0 := by decide +kernel
theorem dksX6_wouldSeeThings_1 : cX6_wouldSeeThings.data.toList.drop 23 = dktX6_wouldSeeThings_1 := dk_seg dksX6_wouldSeeThings_0 23 rfl rfl
theorem dksX6_wouldSeeThings_2 : cX6_wouldSeeThings.data.toList.drop 47 = dktX6_wouldSeeThings_2 := dk_seg dksX6_wouldSeeThings_1 24 rfl rfl
theorem dX6_wouldSeeThings_0 : decode cX6_wouldSeeThings 0 = .ok (.iconst 0, 1) := dk_3 (dk_at dksX6_wouldSeeThings_0 0 rfl rfl)
theorem dX6_wouldSeeThings_1 : decode cX6_wouldSeeThings 1 = .ok (.istore_n 3, 1) := dk_62 (dk_at dksX6_wouldSeeThings_0 1 rfl rfl)
theorem dX6_wouldSeeThings_2 : decode cX6_wouldSeeThings 2 = .ok (.iconst 0, 1) := dk_3 (dk_at dksX6_wouldSeeThings_0 2 rfl rfl)
theorem dX6_wouldSeeThings_3 : decode cX6_wouldSeeThings 3 = .ok (.istore 4, 2) := dk_54 4 (dk_at dksX6_wouldSeeThings_0 3 rfl rfl)
theorem dX6_wouldSeeThings_5 : decode cX6_wouldSeeThings 5 = .ok (.iload 4, 2) := dk_21 4 (dk_at dksX6_wouldSeeThings_0 5 rfl rfl)
theorem dX6_wouldSeeThings_7 : decode cX6_wouldSeeThings 7 = .ok (.aload_n 0, 1) := dk_42 (dk_at dksX6_wouldSeeThings_0 7 rfl rfl)
theorem dX6_wouldSeeThings_8 : decode cX6_wouldSeeThings 8 = .ok (.getfield 133, 3) := dk_180 0 133 (dk_at dksX6_wouldSeeThings_0 8 rfl rfl)
theorem dX6_wouldSeeThings_11 : decode cX6_wouldSeeThings 11 = .ok (.if_icmp .ge 39, 3) := dk_162 0 39 (dk_at dksX6_wouldSeeThings_0 11 rfl rfl)
theorem dX6_wouldSeeThings_14 : decode cX6_wouldSeeThings 14 = .ok (.iload_n 3, 1) := dk_29 (dk_at dksX6_wouldSeeThings_0 14 rfl rfl)
theorem dX6_wouldSeeThings_15 : decode cX6_wouldSeeThings 15 = .ok (.aload_n 0, 1) := dk_42 (dk_at dksX6_wouldSeeThings_0 15 rfl rfl)
theorem dX6_wouldSeeThings_16 : decode cX6_wouldSeeThings 16 = .ok (.iload_n 1, 1) := dk_27 (dk_at dksX6_wouldSeeThings_0 16 rfl rfl)
theorem dX6_wouldSeeThings_17 : decode cX6_wouldSeeThings 17 = .ok (.aload_n 0, 1) := dk_42 (dk_at dksX6_wouldSeeThings_0 17 rfl rfl)
theorem dX6_wouldSeeThings_18 : decode cX6_wouldSeeThings 18 = .ok (.getfield 41, 3) := dk_180 0 41 (dk_at dksX6_wouldSeeThings_0 18 rfl rfl)
theorem dX6_wouldSeeThings_21 : decode cX6_wouldSeeThings 21 = .ok (.bipush 32, 2) := dk_16 32 (dk_at dksX6_wouldSeeThings_0 21 rfl rfl)
theorem dX6_wouldSeeThings_23 : decode cX6_wouldSeeThings 23 = .ok (.iload 4, 2) := dk_21 4 (dk_at dksX6_wouldSeeThings_1 0 rfl rfl)
theorem dX6_wouldSeeThings_25 : decode cX6_wouldSeeThings 25 = .ok (.iadd, 1) := dk_96 (dk_at dksX6_wouldSeeThings_1 2 rfl rfl)
theorem dX6_wouldSeeThings_26 : decode cX6_wouldSeeThings 26 = .ok (.iaload, 1) := dk_46 (dk_at dksX6_wouldSeeThings_1 3 rfl rfl)
theorem dX6_wouldSeeThings_27 : decode cX6_wouldSeeThings 27 = .ok (.iload_n 2, 1) := dk_28 (dk_at dksX6_wouldSeeThings_1 4 rfl rfl)
theorem dX6_wouldSeeThings_28 : decode cX6_wouldSeeThings 28 = .ok (.invokevirtual 433, 3) := dk_182 1 177 (dk_at dksX6_wouldSeeThings_1 5 rfl rfl)
theorem dX6_wouldSeeThings_31 : decode cX6_wouldSeeThings 31 = .ok (.ifCond .eq 10, 3) := dk_153 0 10 (dk_at dksX6_wouldSeeThings_1 8 rfl rfl)
theorem dX6_wouldSeeThings_34 : decode cX6_wouldSeeThings 34 = .ok (.iconst 1, 1) := dk_4 (dk_at dksX6_wouldSeeThings_1 11 rfl rfl)
theorem dX6_wouldSeeThings_35 : decode cX6_wouldSeeThings 35 = .ok (.iload 4, 2) := dk_21 4 (dk_at dksX6_wouldSeeThings_1 12 rfl rfl)
theorem dX6_wouldSeeThings_37 : decode cX6_wouldSeeThings 37 = .ok (.ishl, 1) := dk_120 (dk_at dksX6_wouldSeeThings_1 14 rfl rfl)
theorem dX6_wouldSeeThings_38 : decode cX6_wouldSeeThings 38 = .ok (.goto 4, 3) := dk_167 0 4 (dk_at dksX6_wouldSeeThings_1 15 rfl rfl)
theorem dX6_wouldSeeThings_41 : decode cX6_wouldSeeThings 41 = .ok (.iconst 0, 1) := dk_3 (dk_at dksX6_wouldSeeThings_1 18 rfl rfl)
theorem dX6_wouldSeeThings_42 : decode cX6_wouldSeeThings 42 = .ok (.ior, 1) := dk_128 (dk_at dksX6_wouldSeeThings_1 19 rfl rfl)
theorem dX6_wouldSeeThings_43 : decode cX6_wouldSeeThings 43 = .ok (.istore_n 3, 1) := dk_62 (dk_at dksX6_wouldSeeThings_1 20 rfl rfl)
theorem dX6_wouldSeeThings_44 : decode cX6_wouldSeeThings 44 = .ok (.iinc 4 1, 3) := dk_132 4 1 (dk_at dksX6_wouldSeeThings_1 21 rfl rfl)
theorem dX6_wouldSeeThings_47 : decode cX6_wouldSeeThings 47 = .ok (.goto (-42), 3) := dk_167 255 214 (dk_at dksX6_wouldSeeThings_2 0 rfl rfl)
theorem dX6_wouldSeeThings_50 : decode cX6_wouldSeeThings 50 = .ok (.iload_n 3, 1) := dk_29 (dk_at dksX6_wouldSeeThings_2 3 rfl rfl)
theorem dX6_wouldSeeThings_51 : decode cX6_wouldSeeThings 51 = .ok (.ireturn, 1) := dk_172 (dk_at dksX6_wouldSeeThings_2 4 rfl rfl)
abbrev cX6_place : ByteArray := prog_12_method_95_code
def yX6_place : MethodName := ⟨RX6, "place", "(II)I"⟩
def dkwX6_place_0 : List UInt8 := [26, 16, 8, 120, 27, 128, 172]
abbrev dktX6_place_0 : List UInt8 := dkwX6_place_0 ++ []
theorem dksX6_place_0 : cX6_place.data.toList.drop 0 = dktX6_place_0 := by decide +kernel
theorem dX6_place_0 : decode cX6_place 0 = .ok (.iload_n 0, 1) := dk_26 (dk_at dksX6_place_0 0 rfl rfl)
theorem dX6_place_1 : decode cX6_place 1 = .ok (.bipush 8, 2) := dk_16 8 (dk_at dksX6_place_0 1 rfl rfl)
theorem dX6_place_3 : decode cX6_place 3 = .ok (.ishl, 1) := dk_120 (dk_at dksX6_place_0 3 rfl rfl)
theorem dX6_place_4 : decode cX6_place 4 = .ok (.iload_n 1, 1) := dk_27 (dk_at dksX6_place_0 4 rfl rfl)
theorem dX6_place_5 : decode cX6_place 5 = .ok (.ior, 1) := dk_128 (dk_at dksX6_place_0 5 rfl rfl)
theorem dX6_place_6 : decode cX6_place 6 = .ok (.ireturn, 1) := dk_172 (dk_at dksX6_place_0 6 rfl rfl)
abbrev cX6_fewWith : ByteArray := prog_12_method_96_code
def yX6_fewWith : MethodName := ⟨RX6, "fewWith", "(III)I"⟩
def dkwX6_fewWith_1 : List UInt8 := [29, 42, 180, 0, 41, 16, 8, 27, 96, 46, 159, 0, 7, 4, 167, 0, 4, 3, 184, 0, 154, 96, 172]
abbrev dktX6_fewWith_1 : List UInt8 := dkwX6_fewWith_1 ++ []
def dkwX6_fewWith_0 : List UInt8 := [42, 180, 0, 92, 27, 4, 96, 28, 42, 180, 0, 89, 16, 8, 27, 104, 29, 96, 46, 128, 184, 1, 181, 46]
abbrev dktX6_fewWith_0 : List UInt8 := dkwX6_fewWith_0 ++ dktX6_fewWith_1
theorem dksX6_fewWith_0 : cX6_fewWith.data.toList.drop 0 = dktX6_fewWith_0 := by decide +kernel
theorem dksX6_fewWith_1 : cX6_fewWith.data.toList.drop 24 = dktX6_fewWith_1 := dk_seg dksX6_fewWith_0 24 rfl rfl
theorem dX6_fewWith_0 : decode cX6_fewWith 0 = .ok (.aload_n 0, 1) := dk_42 (dk_at dksX6_fewWith_0 0 rfl rfl)
theorem dX6_fewWith_1 : decode cX6_fewWith 1 = .ok (.getfield 92, 3) := dk_180 0 92 (dk_at dksX6_fewWith_0 1 rfl rfl)
theorem dX6_fewWith_4 : decode cX6_fewWith 4 = .ok (.iload_n 1, 1) := dk_27 (dk_at dksX6_fewWith_0 4 rfl rfl)
theorem dX6_fewWith_5 : decode cX6_fewWith 5 = .ok (.iconst 1, 1) := dk_4 (dk_at dksX6_fewWith_0 5 rfl rfl)
theorem dX6_fewWith_6 : decode cX6_fewWith 6 = .ok (.iadd, 1) := dk_96 (dk_at dksX6_fewWith_0 6 rfl rfl)
theorem dX6_fewWith_7 : decode cX6_fewWith 7 = .ok (.iload_n 2, 1) := dk_28 (dk_at dksX6_fewWith_0 7 rfl rfl)
theorem dX6_fewWith_8 : decode cX6_fewWith 8 = .ok (.aload_n 0, 1) := dk_42 (dk_at dksX6_fewWith_0 8 rfl rfl)
theorem dX6_fewWith_9 : decode cX6_fewWith 9 = .ok (.getfield 89, 3) := dk_180 0 89 (dk_at dksX6_fewWith_0 9 rfl rfl)
theorem dX6_fewWith_12 : decode cX6_fewWith 12 = .ok (.bipush 8, 2) := dk_16 8 (dk_at dksX6_fewWith_0 12 rfl rfl)
theorem dX6_fewWith_14 : decode cX6_fewWith 14 = .ok (.iload_n 1, 1) := dk_27 (dk_at dksX6_fewWith_0 14 rfl rfl)
theorem dX6_fewWith_15 : decode cX6_fewWith 15 = .ok (.imul, 1) := dk_104 (dk_at dksX6_fewWith_0 15 rfl rfl)
theorem dX6_fewWith_16 : decode cX6_fewWith 16 = .ok (.iload_n 3, 1) := dk_29 (dk_at dksX6_fewWith_0 16 rfl rfl)
theorem dX6_fewWith_17 : decode cX6_fewWith 17 = .ok (.iadd, 1) := dk_96 (dk_at dksX6_fewWith_0 17 rfl rfl)
theorem dX6_fewWith_18 : decode cX6_fewWith 18 = .ok (.iaload, 1) := dk_46 (dk_at dksX6_fewWith_0 18 rfl rfl)
theorem dX6_fewWith_19 : decode cX6_fewWith 19 = .ok (.ior, 1) := dk_128 (dk_at dksX6_fewWith_0 19 rfl rfl)
theorem dX6_fewWith_20 : decode cX6_fewWith 20 = .ok (.invokestatic 437, 3) := dk_184 1 181 (dk_at dksX6_fewWith_0 20 rfl rfl)
theorem dX6_fewWith_23 : decode cX6_fewWith 23 = .ok (.iaload, 1) := dk_46 (dk_at dksX6_fewWith_0 23 rfl rfl)
theorem dX6_fewWith_24 : decode cX6_fewWith 24 = .ok (.iload_n 3, 1) := dk_29 (dk_at dksX6_fewWith_1 0 rfl rfl)
theorem dX6_fewWith_25 : decode cX6_fewWith 25 = .ok (.aload_n 0, 1) := dk_42 (dk_at dksX6_fewWith_1 1 rfl rfl)
theorem dX6_fewWith_26 : decode cX6_fewWith 26 = .ok (.getfield 41, 3) := dk_180 0 41 (dk_at dksX6_fewWith_1 2 rfl rfl)
theorem dX6_fewWith_29 : decode cX6_fewWith 29 = .ok (.bipush 8, 2) := dk_16 8 (dk_at dksX6_fewWith_1 5 rfl rfl)
theorem dX6_fewWith_31 : decode cX6_fewWith 31 = .ok (.iload_n 1, 1) := dk_27 (dk_at dksX6_fewWith_1 7 rfl rfl)
theorem dX6_fewWith_32 : decode cX6_fewWith 32 = .ok (.iadd, 1) := dk_96 (dk_at dksX6_fewWith_1 8 rfl rfl)
theorem dX6_fewWith_33 : decode cX6_fewWith 33 = .ok (.iaload, 1) := dk_46 (dk_at dksX6_fewWith_1 9 rfl rfl)
theorem dX6_fewWith_34 : decode cX6_fewWith 34 = .ok (.if_icmp .eq 7, 3) := dk_159 0 7 (dk_at dksX6_fewWith_1 10 rfl rfl)
theorem dX6_fewWith_37 : decode cX6_fewWith 37 = .ok (.iconst 1, 1) := dk_4 (dk_at dksX6_fewWith_1 13 rfl rfl)
theorem dX6_fewWith_38 : decode cX6_fewWith 38 = .ok (.goto 4, 3) := dk_167 0 4 (dk_at dksX6_fewWith_1 14 rfl rfl)
theorem dX6_fewWith_41 : decode cX6_fewWith 41 = .ok (.iconst 0, 1) := dk_3 (dk_at dksX6_fewWith_1 17 rfl rfl)
theorem dX6_fewWith_42 : decode cX6_fewWith 42 = .ok (.invokestatic 154, 3) := dk_184 0 154 (dk_at dksX6_fewWith_1 18 rfl rfl)
theorem dX6_fewWith_45 : decode cX6_fewWith 45 = .ok (.iadd, 1) := dk_96 (dk_at dksX6_fewWith_1 21 rfl rfl)
theorem dX6_fewWith_46 : decode cX6_fewWith 46 = .ok (.ireturn, 1) := dk_172 (dk_at dksX6_fewWith_1 22 rfl rfl)
abbrev cX6_best : ByteArray := prog_12_method_98_code
def yX6_best : MethodName := ⟨RX6, "best", "(I)I"⟩
def dkwX6_best_3 : List UInt8 := [133, 182, 1, 117, 28, 172]
abbrev dktX6_best_3 : List UInt8 := dkwX6_best_3 ++ []
def dkwX6_best_2 : List UInt8 := [29, 167, 0, 4, 28, 61, 132, 3, 1, 167, 255, 220, 42, 3, 181, 0, 15, 42, 42, 27, 28, 182, 1, 184]
abbrev dktX6_best_2 : List UInt8 := dkwX6_best_2 ++ dktX6_best_3
def dkwX6_best_1 : List UInt8 := [162, 0, 36, 42, 27, 29, 182, 1, 184, 184, 1, 9, 42, 27, 28, 182, 1, 184, 184, 1, 9, 164, 0, 7]
abbrev dktX6_best_1 : List UInt8 := dkwX6_best_1 ++ dktX6_best_2
def dkwX6_best_0 : List UInt8 := [42, 3, 181, 0, 3, 42, 27, 182, 1, 59, 154, 0, 5, 2, 172, 3, 61, 4, 62, 29, 16, 8]
abbrev dktX6_best_0 : List UInt8 := dkwX6_best_0 ++ dktX6_best_1
theorem dksX6_best_0 : cX6_best.data.toList.drop 0 = dktX6_best_0 := by decide +kernel
theorem dksX6_best_1 : cX6_best.data.toList.drop 22 = dktX6_best_1 := dk_seg dksX6_best_0 22 rfl rfl
theorem dksX6_best_2 : cX6_best.data.toList.drop 46 = dktX6_best_2 := dk_seg dksX6_best_1 24 rfl rfl
theorem dksX6_best_3 : cX6_best.data.toList.drop 70 = dktX6_best_3 := dk_seg dksX6_best_2 24 rfl rfl
theorem dX6_best_0 : decode cX6_best 0 = .ok (.aload_n 0, 1) := dk_42 (dk_at dksX6_best_0 0 rfl rfl)
theorem dX6_best_1 : decode cX6_best 1 = .ok (.iconst 0, 1) := dk_3 (dk_at dksX6_best_0 1 rfl rfl)
theorem dX6_best_2 : decode cX6_best 2 = .ok (.putfield 3, 3) := dk_181 0 3 (dk_at dksX6_best_0 2 rfl rfl)
theorem dX6_best_5 : decode cX6_best 5 = .ok (.aload_n 0, 1) := dk_42 (dk_at dksX6_best_0 5 rfl rfl)
theorem dX6_best_6 : decode cX6_best 6 = .ok (.iload_n 1, 1) := dk_27 (dk_at dksX6_best_0 6 rfl rfl)
theorem dX6_best_7 : decode cX6_best 7 = .ok (.invokevirtual 315, 3) := dk_182 1 59 (dk_at dksX6_best_0 7 rfl rfl)
theorem dX6_best_10 : decode cX6_best 10 = .ok (.ifCond .ne 5, 3) := dk_154 0 5 (dk_at dksX6_best_0 10 rfl rfl)
theorem dX6_best_13 : decode cX6_best 13 = .ok (.iconst (-1), 1) := dk_2 (dk_at dksX6_best_0 13 rfl rfl)
theorem dX6_best_14 : decode cX6_best 14 = .ok (.ireturn, 1) := dk_172 (dk_at dksX6_best_0 14 rfl rfl)
theorem dX6_best_15 : decode cX6_best 15 = .ok (.iconst 0, 1) := dk_3 (dk_at dksX6_best_0 15 rfl rfl)
theorem dX6_best_16 : decode cX6_best 16 = .ok (.istore_n 2, 1) := dk_61 (dk_at dksX6_best_0 16 rfl rfl)
theorem dX6_best_17 : decode cX6_best 17 = .ok (.iconst 1, 1) := dk_4 (dk_at dksX6_best_0 17 rfl rfl)
theorem dX6_best_18 : decode cX6_best 18 = .ok (.istore_n 3, 1) := dk_62 (dk_at dksX6_best_0 18 rfl rfl)
theorem dX6_best_19 : decode cX6_best 19 = .ok (.iload_n 3, 1) := dk_29 (dk_at dksX6_best_0 19 rfl rfl)
theorem dX6_best_20 : decode cX6_best 20 = .ok (.bipush 8, 2) := dk_16 8 (dk_at dksX6_best_0 20 rfl rfl)
theorem dX6_best_22 : decode cX6_best 22 = .ok (.if_icmp .ge 36, 3) := dk_162 0 36 (dk_at dksX6_best_1 0 rfl rfl)
theorem dX6_best_25 : decode cX6_best 25 = .ok (.aload_n 0, 1) := dk_42 (dk_at dksX6_best_1 3 rfl rfl)
theorem dX6_best_26 : decode cX6_best 26 = .ok (.iload_n 1, 1) := dk_27 (dk_at dksX6_best_1 4 rfl rfl)
theorem dX6_best_27 : decode cX6_best 27 = .ok (.iload_n 3, 1) := dk_29 (dk_at dksX6_best_1 5 rfl rfl)
theorem dX6_best_28 : decode cX6_best 28 = .ok (.invokevirtual 440, 3) := dk_182 1 184 (dk_at dksX6_best_1 6 rfl rfl)
theorem dX6_best_31 : decode cX6_best 31 = .ok (.invokestatic 265, 3) := dk_184 1 9 (dk_at dksX6_best_1 9 rfl rfl)
theorem dX6_best_34 : decode cX6_best 34 = .ok (.aload_n 0, 1) := dk_42 (dk_at dksX6_best_1 12 rfl rfl)
theorem dX6_best_35 : decode cX6_best 35 = .ok (.iload_n 1, 1) := dk_27 (dk_at dksX6_best_1 13 rfl rfl)
theorem dX6_best_36 : decode cX6_best 36 = .ok (.iload_n 2, 1) := dk_28 (dk_at dksX6_best_1 14 rfl rfl)
theorem dX6_best_37 : decode cX6_best 37 = .ok (.invokevirtual 440, 3) := dk_182 1 184 (dk_at dksX6_best_1 15 rfl rfl)
theorem dX6_best_40 : decode cX6_best 40 = .ok (.invokestatic 265, 3) := dk_184 1 9 (dk_at dksX6_best_1 18 rfl rfl)
theorem dX6_best_43 : decode cX6_best 43 = .ok (.if_icmp .le 7, 3) := dk_164 0 7 (dk_at dksX6_best_1 21 rfl rfl)
theorem dX6_best_46 : decode cX6_best 46 = .ok (.iload_n 3, 1) := dk_29 (dk_at dksX6_best_2 0 rfl rfl)
theorem dX6_best_47 : decode cX6_best 47 = .ok (.goto 4, 3) := dk_167 0 4 (dk_at dksX6_best_2 1 rfl rfl)
theorem dX6_best_50 : decode cX6_best 50 = .ok (.iload_n 2, 1) := dk_28 (dk_at dksX6_best_2 4 rfl rfl)
theorem dX6_best_51 : decode cX6_best 51 = .ok (.istore_n 2, 1) := dk_61 (dk_at dksX6_best_2 5 rfl rfl)
theorem dX6_best_52 : decode cX6_best 52 = .ok (.iinc 3 1, 3) := dk_132 3 1 (dk_at dksX6_best_2 6 rfl rfl)
theorem dX6_best_55 : decode cX6_best 55 = .ok (.goto (-36), 3) := dk_167 255 220 (dk_at dksX6_best_2 9 rfl rfl)
theorem dX6_best_58 : decode cX6_best 58 = .ok (.aload_n 0, 1) := dk_42 (dk_at dksX6_best_2 12 rfl rfl)
theorem dX6_best_59 : decode cX6_best 59 = .ok (.iconst 0, 1) := dk_3 (dk_at dksX6_best_2 13 rfl rfl)
theorem dX6_best_60 : decode cX6_best 60 = .ok (.putfield 15, 3) := dk_181 0 15 (dk_at dksX6_best_2 14 rfl rfl)
theorem dX6_best_63 : decode cX6_best 63 = .ok (.aload_n 0, 1) := dk_42 (dk_at dksX6_best_2 17 rfl rfl)
theorem dX6_best_64 : decode cX6_best 64 = .ok (.aload_n 0, 1) := dk_42 (dk_at dksX6_best_2 18 rfl rfl)
theorem dX6_best_65 : decode cX6_best 65 = .ok (.iload_n 1, 1) := dk_27 (dk_at dksX6_best_2 19 rfl rfl)
theorem dX6_best_66 : decode cX6_best 66 = .ok (.iload_n 2, 1) := dk_28 (dk_at dksX6_best_2 20 rfl rfl)
theorem dX6_best_67 : decode cX6_best 67 = .ok (.invokevirtual 440, 3) := dk_182 1 184 (dk_at dksX6_best_2 21 rfl rfl)
theorem dX6_best_70 : decode cX6_best 70 = .ok (.i2l, 1) := dk_133 (dk_at dksX6_best_3 0 rfl rfl)
theorem dX6_best_71 : decode cX6_best 71 = .ok (.invokevirtual 373, 3) := dk_182 1 117 (dk_at dksX6_best_3 1 rfl rfl)
theorem dX6_best_74 : decode cX6_best 74 = .ok (.iload_n 2, 1) := dk_28 (dk_at dksX6_best_3 4 rfl rfl)
theorem dX6_best_75 : decode cX6_best 75 = .ok (.ireturn, 1) := dk_172 (dk_at dksX6_best_3 5 rfl rfl)
abbrev cX6_bears : ByteArray := prog_12_method_99_code
def yX6_bears : MethodName := ⟨RX6, "bears", "(II)I"⟩
def dkwX6_bears_3 : List UInt8 := [42, 21, 4, 133, 182, 1, 117, 29, 172, 132, 3, 255, 167, 255, 197, 16, 254, 172]
abbrev dktX6_bears_3 : List UInt8 := dkwX6_bears_3 ++ []
def dkwX6_bears_2 : List UInt8 := [28, 42, 180, 0, 41, 16, 8, 27, 96, 46, 29, 21, 4, 182, 1, 40, 153, 0, 17, 42, 3, 181, 0, 15]
abbrev dktX6_bears_2 : List UInt8 := dkwX6_bears_2 ++ dktX6_bears_3
def dkwX6_bears_1 : List UInt8 := [62, 29, 155, 0, 61, 42, 42, 180, 0, 41, 27, 29, 182, 1, 36, 54, 4, 42, 42, 180, 0, 41, 27, 46]
abbrev dktX6_bears_1 : List UInt8 := dkwX6_bears_1 ++ dktX6_bears_2
def dkwX6_bears_0 : List UInt8 := [42, 3, 181, 0, 3, 42, 27, 182, 1, 59, 153, 0, 11, 42, 28, 182, 1, 102, 154, 0, 5, 2, 172, 7]
abbrev dktX6_bears_0 : List UInt8 := dkwX6_bears_0 ++ dktX6_bears_1
theorem dksX6_bears_0 : cX6_bears.data.toList.drop 0 = dktX6_bears_0 := by decide +kernel
theorem dksX6_bears_1 : cX6_bears.data.toList.drop 24 = dktX6_bears_1 := dk_seg dksX6_bears_0 24 rfl rfl
theorem dksX6_bears_2 : cX6_bears.data.toList.drop 48 = dktX6_bears_2 := dk_seg dksX6_bears_1 24 rfl rfl
theorem dksX6_bears_3 : cX6_bears.data.toList.drop 72 = dktX6_bears_3 := dk_seg dksX6_bears_2 24 rfl rfl
theorem dX6_bears_0 : decode cX6_bears 0 = .ok (.aload_n 0, 1) := dk_42 (dk_at dksX6_bears_0 0 rfl rfl)
theorem dX6_bears_1 : decode cX6_bears 1 = .ok (.iconst 0, 1) := dk_3 (dk_at dksX6_bears_0 1 rfl rfl)
theorem dX6_bears_2 : decode cX6_bears 2 = .ok (.putfield 3, 3) := dk_181 0 3 (dk_at dksX6_bears_0 2 rfl rfl)
theorem dX6_bears_5 : decode cX6_bears 5 = .ok (.aload_n 0, 1) := dk_42 (dk_at dksX6_bears_0 5 rfl rfl)
theorem dX6_bears_6 : decode cX6_bears 6 = .ok (.iload_n 1, 1) := dk_27 (dk_at dksX6_bears_0 6 rfl rfl)
theorem dX6_bears_7 : decode cX6_bears 7 = .ok (.invokevirtual 315, 3) := dk_182 1 59 (dk_at dksX6_bears_0 7 rfl rfl)
theorem dX6_bears_10 : decode cX6_bears 10 = .ok (.ifCond .eq 11, 3) := dk_153 0 11 (dk_at dksX6_bears_0 10 rfl rfl)
theorem dX6_bears_13 : decode cX6_bears 13 = .ok (.aload_n 0, 1) := dk_42 (dk_at dksX6_bears_0 13 rfl rfl)
theorem dX6_bears_14 : decode cX6_bears 14 = .ok (.iload_n 2, 1) := dk_28 (dk_at dksX6_bears_0 14 rfl rfl)
theorem dX6_bears_15 : decode cX6_bears 15 = .ok (.invokevirtual 358, 3) := dk_182 1 102 (dk_at dksX6_bears_0 15 rfl rfl)
theorem dX6_bears_18 : decode cX6_bears 18 = .ok (.ifCond .ne 5, 3) := dk_154 0 5 (dk_at dksX6_bears_0 18 rfl rfl)
theorem dX6_bears_21 : decode cX6_bears 21 = .ok (.iconst (-1), 1) := dk_2 (dk_at dksX6_bears_0 21 rfl rfl)
theorem dX6_bears_22 : decode cX6_bears 22 = .ok (.ireturn, 1) := dk_172 (dk_at dksX6_bears_0 22 rfl rfl)
theorem dX6_bears_23 : decode cX6_bears 23 = .ok (.iconst 4, 1) := dk_7 (dk_at dksX6_bears_0 23 rfl rfl)
theorem dX6_bears_24 : decode cX6_bears 24 = .ok (.istore_n 3, 1) := dk_62 (dk_at dksX6_bears_1 0 rfl rfl)
theorem dX6_bears_25 : decode cX6_bears 25 = .ok (.iload_n 3, 1) := dk_29 (dk_at dksX6_bears_1 1 rfl rfl)
theorem dX6_bears_26 : decode cX6_bears 26 = .ok (.ifCond .lt 61, 3) := dk_155 0 61 (dk_at dksX6_bears_1 2 rfl rfl)
theorem dX6_bears_29 : decode cX6_bears 29 = .ok (.aload_n 0, 1) := dk_42 (dk_at dksX6_bears_1 5 rfl rfl)
theorem dX6_bears_30 : decode cX6_bears 30 = .ok (.aload_n 0, 1) := dk_42 (dk_at dksX6_bears_1 6 rfl rfl)
theorem dX6_bears_31 : decode cX6_bears 31 = .ok (.getfield 41, 3) := dk_180 0 41 (dk_at dksX6_bears_1 7 rfl rfl)
theorem dX6_bears_34 : decode cX6_bears 34 = .ok (.iload_n 1, 1) := dk_27 (dk_at dksX6_bears_1 10 rfl rfl)
theorem dX6_bears_35 : decode cX6_bears 35 = .ok (.iload_n 3, 1) := dk_29 (dk_at dksX6_bears_1 11 rfl rfl)
theorem dX6_bears_36 : decode cX6_bears 36 = .ok (.invokevirtual 292, 3) := dk_182 1 36 (dk_at dksX6_bears_1 12 rfl rfl)
theorem dX6_bears_39 : decode cX6_bears 39 = .ok (.istore 4, 2) := dk_54 4 (dk_at dksX6_bears_1 15 rfl rfl)
theorem dX6_bears_41 : decode cX6_bears 41 = .ok (.aload_n 0, 1) := dk_42 (dk_at dksX6_bears_1 17 rfl rfl)
theorem dX6_bears_42 : decode cX6_bears 42 = .ok (.aload_n 0, 1) := dk_42 (dk_at dksX6_bears_1 18 rfl rfl)
theorem dX6_bears_43 : decode cX6_bears 43 = .ok (.getfield 41, 3) := dk_180 0 41 (dk_at dksX6_bears_1 19 rfl rfl)
theorem dX6_bears_46 : decode cX6_bears 46 = .ok (.iload_n 1, 1) := dk_27 (dk_at dksX6_bears_1 22 rfl rfl)
theorem dX6_bears_47 : decode cX6_bears 47 = .ok (.iaload, 1) := dk_46 (dk_at dksX6_bears_1 23 rfl rfl)
theorem dX6_bears_48 : decode cX6_bears 48 = .ok (.iload_n 2, 1) := dk_28 (dk_at dksX6_bears_2 0 rfl rfl)
theorem dX6_bears_49 : decode cX6_bears 49 = .ok (.aload_n 0, 1) := dk_42 (dk_at dksX6_bears_2 1 rfl rfl)
theorem dX6_bears_50 : decode cX6_bears 50 = .ok (.getfield 41, 3) := dk_180 0 41 (dk_at dksX6_bears_2 2 rfl rfl)
theorem dX6_bears_53 : decode cX6_bears 53 = .ok (.bipush 8, 2) := dk_16 8 (dk_at dksX6_bears_2 5 rfl rfl)
theorem dX6_bears_55 : decode cX6_bears 55 = .ok (.iload_n 1, 1) := dk_27 (dk_at dksX6_bears_2 7 rfl rfl)
theorem dX6_bears_56 : decode cX6_bears 56 = .ok (.iadd, 1) := dk_96 (dk_at dksX6_bears_2 8 rfl rfl)
theorem dX6_bears_57 : decode cX6_bears 57 = .ok (.iaload, 1) := dk_46 (dk_at dksX6_bears_2 9 rfl rfl)
theorem dX6_bears_58 : decode cX6_bears 58 = .ok (.iload_n 3, 1) := dk_29 (dk_at dksX6_bears_2 10 rfl rfl)
theorem dX6_bears_59 : decode cX6_bears 59 = .ok (.iload 4, 2) := dk_21 4 (dk_at dksX6_bears_2 11 rfl rfl)
theorem dX6_bears_61 : decode cX6_bears 61 = .ok (.invokevirtual 296, 3) := dk_182 1 40 (dk_at dksX6_bears_2 13 rfl rfl)
theorem dX6_bears_64 : decode cX6_bears 64 = .ok (.ifCond .eq 17, 3) := dk_153 0 17 (dk_at dksX6_bears_2 16 rfl rfl)
theorem dX6_bears_67 : decode cX6_bears 67 = .ok (.aload_n 0, 1) := dk_42 (dk_at dksX6_bears_2 19 rfl rfl)
theorem dX6_bears_68 : decode cX6_bears 68 = .ok (.iconst 0, 1) := dk_3 (dk_at dksX6_bears_2 20 rfl rfl)
theorem dX6_bears_69 : decode cX6_bears 69 = .ok (.putfield 15, 3) := dk_181 0 15 (dk_at dksX6_bears_2 21 rfl rfl)
theorem dX6_bears_72 : decode cX6_bears 72 = .ok (.aload_n 0, 1) := dk_42 (dk_at dksX6_bears_3 0 rfl rfl)
theorem dX6_bears_73 : decode cX6_bears 73 = .ok (.iload 4, 2) := dk_21 4 (dk_at dksX6_bears_3 1 rfl rfl)
theorem dX6_bears_75 : decode cX6_bears 75 = .ok (.i2l, 1) := dk_133 (dk_at dksX6_bears_3 3 rfl rfl)
theorem dX6_bears_76 : decode cX6_bears 76 = .ok (.invokevirtual 373, 3) := dk_182 1 117 (dk_at dksX6_bears_3 4 rfl rfl)
theorem dX6_bears_79 : decode cX6_bears 79 = .ok (.iload_n 3, 1) := dk_29 (dk_at dksX6_bears_3 7 rfl rfl)
theorem dX6_bears_80 : decode cX6_bears 80 = .ok (.ireturn, 1) := dk_172 (dk_at dksX6_bears_3 8 rfl rfl)
theorem dX6_bears_81 : decode cX6_bears 81 = .ok (.iinc 3 (-1), 3) := dk_132 3 255 (dk_at dksX6_bears_3 9 rfl rfl)
theorem dX6_bears_84 : decode cX6_bears 84 = .ok (.goto (-59), 3) := dk_167 255 197 (dk_at dksX6_bears_3 12 rfl rfl)
theorem dX6_bears_87 : decode cX6_bears 87 = .ok (.bipush (-2), 2) := dk_16 254 (dk_at dksX6_bears_3 15 rfl rfl)
theorem dX6_bears_89 : decode cX6_bears 89 = .ok (.ireturn, 1) := dk_172 (dk_at dksX6_bears_3 17 rfl rfl)
abbrev cX6_back : ByteArray := prog_12_method_102_code
def yX6_back : MethodName := ⟨RX6, "back", "(II)I"⟩
def dkwX6_back_2 : List UInt8 := [172]
abbrev dktX6_back_2 : List UInt8 := dkwX6_back_2 ++ []
def dkwX6_back_1 : List UInt8 := [42, 182, 1, 157, 42, 42, 180, 0, 41, 182, 1, 161, 20, 1, 147, 131, 127, 182, 1, 194, 167, 0, 4, 2]
abbrev dktX6_back_1 : List UInt8 := dkwX6_back_1 ++ dktX6_back_2
def dkwX6_back_0 : List UInt8 := [42, 3, 181, 0, 3, 42, 27, 182, 1, 102, 153, 0, 37, 42, 28, 182, 1, 102, 153, 0, 29, 42, 27, 28]
abbrev dktX6_back_0 : List UInt8 := dkwX6_back_0 ++ dktX6_back_1
theorem dksX6_back_0 : cX6_back.data.toList.drop 0 = dktX6_back_0 := by decide +kernel
theorem dksX6_back_1 : cX6_back.data.toList.drop 24 = dktX6_back_1 := dk_seg dksX6_back_0 24 rfl rfl
theorem dksX6_back_2 : cX6_back.data.toList.drop 48 = dktX6_back_2 := dk_seg dksX6_back_1 24 rfl rfl
theorem dX6_back_0 : decode cX6_back 0 = .ok (.aload_n 0, 1) := dk_42 (dk_at dksX6_back_0 0 rfl rfl)
theorem dX6_back_1 : decode cX6_back 1 = .ok (.iconst 0, 1) := dk_3 (dk_at dksX6_back_0 1 rfl rfl)
theorem dX6_back_2 : decode cX6_back 2 = .ok (.putfield 3, 3) := dk_181 0 3 (dk_at dksX6_back_0 2 rfl rfl)
theorem dX6_back_5 : decode cX6_back 5 = .ok (.aload_n 0, 1) := dk_42 (dk_at dksX6_back_0 5 rfl rfl)
theorem dX6_back_6 : decode cX6_back 6 = .ok (.iload_n 1, 1) := dk_27 (dk_at dksX6_back_0 6 rfl rfl)
theorem dX6_back_7 : decode cX6_back 7 = .ok (.invokevirtual 358, 3) := dk_182 1 102 (dk_at dksX6_back_0 7 rfl rfl)
theorem dX6_back_10 : decode cX6_back 10 = .ok (.ifCond .eq 37, 3) := dk_153 0 37 (dk_at dksX6_back_0 10 rfl rfl)
theorem dX6_back_13 : decode cX6_back 13 = .ok (.aload_n 0, 1) := dk_42 (dk_at dksX6_back_0 13 rfl rfl)
theorem dX6_back_14 : decode cX6_back 14 = .ok (.iload_n 2, 1) := dk_28 (dk_at dksX6_back_0 14 rfl rfl)
theorem dX6_back_15 : decode cX6_back 15 = .ok (.invokevirtual 358, 3) := dk_182 1 102 (dk_at dksX6_back_0 15 rfl rfl)
theorem dX6_back_18 : decode cX6_back 18 = .ok (.ifCond .eq 29, 3) := dk_153 0 29 (dk_at dksX6_back_0 18 rfl rfl)
theorem dX6_back_21 : decode cX6_back 21 = .ok (.aload_n 0, 1) := dk_42 (dk_at dksX6_back_0 21 rfl rfl)
theorem dX6_back_22 : decode cX6_back 22 = .ok (.iload_n 1, 1) := dk_27 (dk_at dksX6_back_0 22 rfl rfl)
theorem dX6_back_23 : decode cX6_back 23 = .ok (.iload_n 2, 1) := dk_28 (dk_at dksX6_back_0 23 rfl rfl)
theorem dX6_back_24 : decode cX6_back 24 = .ok (.aload_n 0, 1) := dk_42 (dk_at dksX6_back_1 0 rfl rfl)
theorem dX6_back_25 : decode cX6_back 25 = .ok (.invokevirtual 413, 3) := dk_182 1 157 (dk_at dksX6_back_1 1 rfl rfl)
theorem dX6_back_28 : decode cX6_back 28 = .ok (.aload_n 0, 1) := dk_42 (dk_at dksX6_back_1 4 rfl rfl)
theorem dX6_back_29 : decode cX6_back 29 = .ok (.aload_n 0, 1) := dk_42 (dk_at dksX6_back_1 5 rfl rfl)
theorem dX6_back_30 : decode cX6_back 30 = .ok (.getfield 41, 3) := dk_180 0 41 (dk_at dksX6_back_1 6 rfl rfl)
theorem dX6_back_33 : decode cX6_back 33 = .ok (.invokevirtual 417, 3) := dk_182 1 161 (dk_at dksX6_back_1 9 rfl rfl)
theorem dX6_back_36 : decode cX6_back 36 = .ok (.ldc2_w 403, 3) := dk_20 1 147 (dk_at dksX6_back_1 12 rfl rfl)
theorem dX6_back_39 : decode cX6_back 39 = .ok (.lxor, 1) := dk_131 (dk_at dksX6_back_1 15 rfl rfl)
theorem dX6_back_40 : decode cX6_back 40 = .ok (.land, 1) := dk_127 (dk_at dksX6_back_1 16 rfl rfl)
theorem dX6_back_41 : decode cX6_back 41 = .ok (.invokevirtual 450, 3) := dk_182 1 194 (dk_at dksX6_back_1 17 rfl rfl)
theorem dX6_back_44 : decode cX6_back 44 = .ok (.goto 4, 3) := dk_167 0 4 (dk_at dksX6_back_1 20 rfl rfl)
theorem dX6_back_47 : decode cX6_back 47 = .ok (.iconst (-1), 1) := dk_2 (dk_at dksX6_back_1 23 rfl rfl)
theorem dX6_back_48 : decode cX6_back 48 = .ok (.ireturn, 1) := dk_172 (dk_at dksX6_back_2 0 rfl rfl)
abbrev cX6_laysWay : ByteArray := prog_12_method_101_code
def yX6_laysWay : MethodName := ⟨RX6, "laysWay", "(IIJ)I"⟩
def dkwX6_laysWay_8 : List UInt8 := [27, 46, 172]
abbrev dktX6_laysWay_8 : List UInt8 := dkwX6_laysWay_8 ++ []
def dkwX6_laysWay_7 : List UInt8 := [167, 255, 171, 21, 7, 54, 5, 42, 21, 5, 133, 182, 1, 117, 132, 6, 255, 167, 255, 143, 42, 180, 0, 95]
abbrev dktX6_laysWay_7 : List UInt8 := dkwX6_laysWay_7 ++ dktX6_laysWay_8
def dkwX6_laysWay_6 : List UInt8 := [155, 0, 10, 21, 9, 21, 7, 162, 0, 8, 21, 9, 167, 0, 5, 21, 7, 54, 7, 132, 8, 1]
abbrev dktX6_laysWay_6 : List UInt8 := dkwX6_laysWay_6 ++ dktX6_laysWay_7
def dkwX6_laysWay_5 : List UInt8 := [21, 9, 184, 1, 48, 153, 0, 7, 4, 167, 0, 4, 3, 54, 10, 21, 10, 153, 0, 20, 21, 7]
abbrev dktX6_laysWay_5 : List UInt8 := dkwX6_laysWay_5 ++ dktX6_laysWay_6
def dkwX6_laysWay_4 : List UInt8 := [21, 9, 155, 0, 34, 42, 180, 0, 95, 21, 9, 46, 21, 6, 160, 0, 22, 21, 9, 28, 159, 0, 12, 33]
abbrev dktX6_laysWay_4 : List UInt8 := dkwX6_laysWay_4 ++ dktX6_laysWay_5
def dkwX6_laysWay_3 : List UInt8 := [2, 54, 7, 3, 54, 8, 21, 8, 16, 8, 162, 0, 84, 42, 21, 5, 21, 8, 182, 1, 97, 54, 9]
abbrev dktX6_laysWay_3 : List UInt8 := dkwX6_laysWay_3 ++ dktX6_laysWay_4
def dkwX6_laysWay_2 : List UInt8 := [54, 5, 42, 21, 5, 133, 182, 1, 117, 42, 180, 0, 95, 27, 46, 4, 100, 54, 6, 21, 6, 155, 0, 114]
abbrev dktX6_laysWay_2 : List UInt8 := dkwX6_laysWay_2 ++ dktX6_laysWay_3
def dkwX6_laysWay_1 : List UInt8 := [154, 0, 15, 42, 180, 0, 95, 27, 46, 19, 1, 176, 161, 0, 6, 16, 254, 172, 42, 3, 181, 0, 15, 27]
abbrev dktX6_laysWay_1 : List UInt8 := dkwX6_laysWay_1 ++ dktX6_laysWay_2
def dkwX6_laysWay_0 : List UInt8 := [42, 27, 28, 33, 182, 1, 190, 42, 180, 0, 33, 27, 51, 154, 0, 24, 42, 180, 0, 33, 28, 51]
abbrev dktX6_laysWay_0 : List UInt8 := dkwX6_laysWay_0 ++ dktX6_laysWay_1
theorem dksX6_laysWay_0 : cX6_laysWay.data.toList.drop 0 = dktX6_laysWay_0 := by decide +kernel
theorem dksX6_laysWay_1 : cX6_laysWay.data.toList.drop 22 = dktX6_laysWay_1 := dk_seg dksX6_laysWay_0 22 rfl rfl
theorem dksX6_laysWay_2 : cX6_laysWay.data.toList.drop 46 = dktX6_laysWay_2 := dk_seg dksX6_laysWay_1 24 rfl rfl
theorem dksX6_laysWay_3 : cX6_laysWay.data.toList.drop 70 = dktX6_laysWay_3 := dk_seg dksX6_laysWay_2 24 rfl rfl
theorem dksX6_laysWay_4 : cX6_laysWay.data.toList.drop 93 = dktX6_laysWay_4 := dk_seg dksX6_laysWay_3 23 rfl rfl
theorem dksX6_laysWay_5 : cX6_laysWay.data.toList.drop 117 = dktX6_laysWay_5 := dk_seg dksX6_laysWay_4 24 rfl rfl
theorem dksX6_laysWay_6 : cX6_laysWay.data.toList.drop 139 = dktX6_laysWay_6 := dk_seg dksX6_laysWay_5 22 rfl rfl
theorem dksX6_laysWay_7 : cX6_laysWay.data.toList.drop 161 = dktX6_laysWay_7 := dk_seg dksX6_laysWay_6 22 rfl rfl
theorem dksX6_laysWay_8 : cX6_laysWay.data.toList.drop 185 = dktX6_laysWay_8 := dk_seg dksX6_laysWay_7 24 rfl rfl
theorem dX6_laysWay_0 : decode cX6_laysWay 0 = .ok (.aload_n 0, 1) := dk_42 (dk_at dksX6_laysWay_0 0 rfl rfl)
theorem dX6_laysWay_1 : decode cX6_laysWay 1 = .ok (.iload_n 1, 1) := dk_27 (dk_at dksX6_laysWay_0 1 rfl rfl)
theorem dX6_laysWay_2 : decode cX6_laysWay 2 = .ok (.iload_n 2, 1) := dk_28 (dk_at dksX6_laysWay_0 2 rfl rfl)
theorem dX6_laysWay_3 : decode cX6_laysWay 3 = .ok (.lload_n 3, 1) := dk_33 (dk_at dksX6_laysWay_0 3 rfl rfl)
theorem dX6_laysWay_4 : decode cX6_laysWay 4 = .ok (.invokevirtual 446, 3) := dk_182 1 190 (dk_at dksX6_laysWay_0 4 rfl rfl)
theorem dX6_laysWay_7 : decode cX6_laysWay 7 = .ok (.aload_n 0, 1) := dk_42 (dk_at dksX6_laysWay_0 7 rfl rfl)
theorem dX6_laysWay_8 : decode cX6_laysWay 8 = .ok (.getfield 33, 3) := dk_180 0 33 (dk_at dksX6_laysWay_0 8 rfl rfl)
theorem dX6_laysWay_11 : decode cX6_laysWay 11 = .ok (.iload_n 1, 1) := dk_27 (dk_at dksX6_laysWay_0 11 rfl rfl)
theorem dX6_laysWay_12 : decode cX6_laysWay 12 = .ok (.baload, 1) := dk_51 (dk_at dksX6_laysWay_0 12 rfl rfl)
theorem dX6_laysWay_13 : decode cX6_laysWay 13 = .ok (.ifCond .ne 24, 3) := dk_154 0 24 (dk_at dksX6_laysWay_0 13 rfl rfl)
theorem dX6_laysWay_16 : decode cX6_laysWay 16 = .ok (.aload_n 0, 1) := dk_42 (dk_at dksX6_laysWay_0 16 rfl rfl)
theorem dX6_laysWay_17 : decode cX6_laysWay 17 = .ok (.getfield 33, 3) := dk_180 0 33 (dk_at dksX6_laysWay_0 17 rfl rfl)
theorem dX6_laysWay_20 : decode cX6_laysWay 20 = .ok (.iload_n 2, 1) := dk_28 (dk_at dksX6_laysWay_0 20 rfl rfl)
theorem dX6_laysWay_21 : decode cX6_laysWay 21 = .ok (.baload, 1) := dk_51 (dk_at dksX6_laysWay_0 21 rfl rfl)
theorem dX6_laysWay_22 : decode cX6_laysWay 22 = .ok (.ifCond .ne 15, 3) := dk_154 0 15 (dk_at dksX6_laysWay_1 0 rfl rfl)
theorem dX6_laysWay_25 : decode cX6_laysWay 25 = .ok (.aload_n 0, 1) := dk_42 (dk_at dksX6_laysWay_1 3 rfl rfl)
theorem dX6_laysWay_26 : decode cX6_laysWay 26 = .ok (.getfield 95, 3) := dk_180 0 95 (dk_at dksX6_laysWay_1 4 rfl rfl)
theorem dX6_laysWay_29 : decode cX6_laysWay 29 = .ok (.iload_n 1, 1) := dk_27 (dk_at dksX6_laysWay_1 7 rfl rfl)
theorem dX6_laysWay_30 : decode cX6_laysWay 30 = .ok (.iaload, 1) := dk_46 (dk_at dksX6_laysWay_1 8 rfl rfl)
theorem dX6_laysWay_31 : decode cX6_laysWay 31 = .ok (.ldc_w 432, 3) := dk_19 1 176 (dk_at dksX6_laysWay_1 9 rfl rfl)
theorem dX6_laysWay_34 : decode cX6_laysWay 34 = .ok (.if_icmp .lt 6, 3) := dk_161 0 6 (dk_at dksX6_laysWay_1 12 rfl rfl)
theorem dX6_laysWay_37 : decode cX6_laysWay 37 = .ok (.bipush (-2), 2) := dk_16 254 (dk_at dksX6_laysWay_1 15 rfl rfl)
theorem dX6_laysWay_39 : decode cX6_laysWay 39 = .ok (.ireturn, 1) := dk_172 (dk_at dksX6_laysWay_1 17 rfl rfl)
theorem dX6_laysWay_40 : decode cX6_laysWay 40 = .ok (.aload_n 0, 1) := dk_42 (dk_at dksX6_laysWay_1 18 rfl rfl)
theorem dX6_laysWay_41 : decode cX6_laysWay 41 = .ok (.iconst 0, 1) := dk_3 (dk_at dksX6_laysWay_1 19 rfl rfl)
theorem dX6_laysWay_42 : decode cX6_laysWay 42 = .ok (.putfield 15, 3) := dk_181 0 15 (dk_at dksX6_laysWay_1 20 rfl rfl)
theorem dX6_laysWay_45 : decode cX6_laysWay 45 = .ok (.iload_n 1, 1) := dk_27 (dk_at dksX6_laysWay_1 23 rfl rfl)
theorem dX6_laysWay_46 : decode cX6_laysWay 46 = .ok (.istore 5, 2) := dk_54 5 (dk_at dksX6_laysWay_2 0 rfl rfl)
theorem dX6_laysWay_48 : decode cX6_laysWay 48 = .ok (.aload_n 0, 1) := dk_42 (dk_at dksX6_laysWay_2 2 rfl rfl)
theorem dX6_laysWay_49 : decode cX6_laysWay 49 = .ok (.iload 5, 2) := dk_21 5 (dk_at dksX6_laysWay_2 3 rfl rfl)
theorem dX6_laysWay_51 : decode cX6_laysWay 51 = .ok (.i2l, 1) := dk_133 (dk_at dksX6_laysWay_2 5 rfl rfl)
theorem dX6_laysWay_52 : decode cX6_laysWay 52 = .ok (.invokevirtual 373, 3) := dk_182 1 117 (dk_at dksX6_laysWay_2 6 rfl rfl)
theorem dX6_laysWay_55 : decode cX6_laysWay 55 = .ok (.aload_n 0, 1) := dk_42 (dk_at dksX6_laysWay_2 9 rfl rfl)
theorem dX6_laysWay_56 : decode cX6_laysWay 56 = .ok (.getfield 95, 3) := dk_180 0 95 (dk_at dksX6_laysWay_2 10 rfl rfl)
theorem dX6_laysWay_59 : decode cX6_laysWay 59 = .ok (.iload_n 1, 1) := dk_27 (dk_at dksX6_laysWay_2 13 rfl rfl)
theorem dX6_laysWay_60 : decode cX6_laysWay 60 = .ok (.iaload, 1) := dk_46 (dk_at dksX6_laysWay_2 14 rfl rfl)
theorem dX6_laysWay_61 : decode cX6_laysWay 61 = .ok (.iconst 1, 1) := dk_4 (dk_at dksX6_laysWay_2 15 rfl rfl)
theorem dX6_laysWay_62 : decode cX6_laysWay 62 = .ok (.isub, 1) := dk_100 (dk_at dksX6_laysWay_2 16 rfl rfl)
theorem dX6_laysWay_63 : decode cX6_laysWay 63 = .ok (.istore 6, 2) := dk_54 6 (dk_at dksX6_laysWay_2 17 rfl rfl)
theorem dX6_laysWay_65 : decode cX6_laysWay 65 = .ok (.iload 6, 2) := dk_21 6 (dk_at dksX6_laysWay_2 19 rfl rfl)
theorem dX6_laysWay_67 : decode cX6_laysWay 67 = .ok (.ifCond .lt 114, 3) := dk_155 0 114 (dk_at dksX6_laysWay_2 21 rfl rfl)
theorem dX6_laysWay_70 : decode cX6_laysWay 70 = .ok (.iconst (-1), 1) := dk_2 (dk_at dksX6_laysWay_3 0 rfl rfl)
theorem dX6_laysWay_71 : decode cX6_laysWay 71 = .ok (.istore 7, 2) := dk_54 7 (dk_at dksX6_laysWay_3 1 rfl rfl)
theorem dX6_laysWay_73 : decode cX6_laysWay 73 = .ok (.iconst 0, 1) := dk_3 (dk_at dksX6_laysWay_3 3 rfl rfl)
theorem dX6_laysWay_74 : decode cX6_laysWay 74 = .ok (.istore 8, 2) := dk_54 8 (dk_at dksX6_laysWay_3 4 rfl rfl)
theorem dX6_laysWay_76 : decode cX6_laysWay 76 = .ok (.iload 8, 2) := dk_21 8 (dk_at dksX6_laysWay_3 6 rfl rfl)
theorem dX6_laysWay_78 : decode cX6_laysWay 78 = .ok (.bipush 8, 2) := dk_16 8 (dk_at dksX6_laysWay_3 8 rfl rfl)
theorem dX6_laysWay_80 : decode cX6_laysWay 80 = .ok (.if_icmp .ge 84, 3) := dk_162 0 84 (dk_at dksX6_laysWay_3 10 rfl rfl)
theorem dX6_laysWay_83 : decode cX6_laysWay 83 = .ok (.aload_n 0, 1) := dk_42 (dk_at dksX6_laysWay_3 13 rfl rfl)
theorem dX6_laysWay_84 : decode cX6_laysWay 84 = .ok (.iload 5, 2) := dk_21 5 (dk_at dksX6_laysWay_3 14 rfl rfl)
theorem dX6_laysWay_86 : decode cX6_laysWay 86 = .ok (.iload 8, 2) := dk_21 8 (dk_at dksX6_laysWay_3 16 rfl rfl)
theorem dX6_laysWay_88 : decode cX6_laysWay 88 = .ok (.invokevirtual 353, 3) := dk_182 1 97 (dk_at dksX6_laysWay_3 18 rfl rfl)
theorem dX6_laysWay_91 : decode cX6_laysWay 91 = .ok (.istore 9, 2) := dk_54 9 (dk_at dksX6_laysWay_3 21 rfl rfl)
theorem dX6_laysWay_93 : decode cX6_laysWay 93 = .ok (.iload 9, 2) := dk_21 9 (dk_at dksX6_laysWay_4 0 rfl rfl)
theorem dX6_laysWay_95 : decode cX6_laysWay 95 = .ok (.ifCond .lt 34, 3) := dk_155 0 34 (dk_at dksX6_laysWay_4 2 rfl rfl)
theorem dX6_laysWay_98 : decode cX6_laysWay 98 = .ok (.aload_n 0, 1) := dk_42 (dk_at dksX6_laysWay_4 5 rfl rfl)
theorem dX6_laysWay_99 : decode cX6_laysWay 99 = .ok (.getfield 95, 3) := dk_180 0 95 (dk_at dksX6_laysWay_4 6 rfl rfl)
theorem dX6_laysWay_102 : decode cX6_laysWay 102 = .ok (.iload 9, 2) := dk_21 9 (dk_at dksX6_laysWay_4 9 rfl rfl)
theorem dX6_laysWay_104 : decode cX6_laysWay 104 = .ok (.iaload, 1) := dk_46 (dk_at dksX6_laysWay_4 11 rfl rfl)
theorem dX6_laysWay_105 : decode cX6_laysWay 105 = .ok (.iload 6, 2) := dk_21 6 (dk_at dksX6_laysWay_4 12 rfl rfl)
theorem dX6_laysWay_107 : decode cX6_laysWay 107 = .ok (.if_icmp .ne 22, 3) := dk_160 0 22 (dk_at dksX6_laysWay_4 14 rfl rfl)
theorem dX6_laysWay_110 : decode cX6_laysWay 110 = .ok (.iload 9, 2) := dk_21 9 (dk_at dksX6_laysWay_4 17 rfl rfl)
theorem dX6_laysWay_112 : decode cX6_laysWay 112 = .ok (.iload_n 2, 1) := dk_28 (dk_at dksX6_laysWay_4 19 rfl rfl)
theorem dX6_laysWay_113 : decode cX6_laysWay 113 = .ok (.if_icmp .eq 12, 3) := dk_159 0 12 (dk_at dksX6_laysWay_4 20 rfl rfl)
theorem dX6_laysWay_116 : decode cX6_laysWay 116 = .ok (.lload_n 3, 1) := dk_33 (dk_at dksX6_laysWay_4 23 rfl rfl)
theorem dX6_laysWay_117 : decode cX6_laysWay 117 = .ok (.iload 9, 2) := dk_21 9 (dk_at dksX6_laysWay_5 0 rfl rfl)
theorem dX6_laysWay_119 : decode cX6_laysWay 119 = .ok (.invokestatic 304, 3) := dk_184 1 48 (dk_at dksX6_laysWay_5 2 rfl rfl)
theorem dX6_laysWay_122 : decode cX6_laysWay 122 = .ok (.ifCond .eq 7, 3) := dk_153 0 7 (dk_at dksX6_laysWay_5 5 rfl rfl)
theorem dX6_laysWay_125 : decode cX6_laysWay 125 = .ok (.iconst 1, 1) := dk_4 (dk_at dksX6_laysWay_5 8 rfl rfl)
theorem dX6_laysWay_126 : decode cX6_laysWay 126 = .ok (.goto 4, 3) := dk_167 0 4 (dk_at dksX6_laysWay_5 9 rfl rfl)
theorem dX6_laysWay_129 : decode cX6_laysWay 129 = .ok (.iconst 0, 1) := dk_3 (dk_at dksX6_laysWay_5 12 rfl rfl)
theorem dX6_laysWay_130 : decode cX6_laysWay 130 = .ok (.istore 10, 2) := dk_54 10 (dk_at dksX6_laysWay_5 13 rfl rfl)
theorem dX6_laysWay_132 : decode cX6_laysWay 132 = .ok (.iload 10, 2) := dk_21 10 (dk_at dksX6_laysWay_5 15 rfl rfl)
theorem dX6_laysWay_134 : decode cX6_laysWay 134 = .ok (.ifCond .eq 20, 3) := dk_153 0 20 (dk_at dksX6_laysWay_5 17 rfl rfl)
theorem dX6_laysWay_137 : decode cX6_laysWay 137 = .ok (.iload 7, 2) := dk_21 7 (dk_at dksX6_laysWay_5 20 rfl rfl)
theorem dX6_laysWay_139 : decode cX6_laysWay 139 = .ok (.ifCond .lt 10, 3) := dk_155 0 10 (dk_at dksX6_laysWay_6 0 rfl rfl)
theorem dX6_laysWay_142 : decode cX6_laysWay 142 = .ok (.iload 9, 2) := dk_21 9 (dk_at dksX6_laysWay_6 3 rfl rfl)
theorem dX6_laysWay_144 : decode cX6_laysWay 144 = .ok (.iload 7, 2) := dk_21 7 (dk_at dksX6_laysWay_6 5 rfl rfl)
theorem dX6_laysWay_146 : decode cX6_laysWay 146 = .ok (.if_icmp .ge 8, 3) := dk_162 0 8 (dk_at dksX6_laysWay_6 7 rfl rfl)
theorem dX6_laysWay_149 : decode cX6_laysWay 149 = .ok (.iload 9, 2) := dk_21 9 (dk_at dksX6_laysWay_6 10 rfl rfl)
theorem dX6_laysWay_151 : decode cX6_laysWay 151 = .ok (.goto 5, 3) := dk_167 0 5 (dk_at dksX6_laysWay_6 12 rfl rfl)
theorem dX6_laysWay_154 : decode cX6_laysWay 154 = .ok (.iload 7, 2) := dk_21 7 (dk_at dksX6_laysWay_6 15 rfl rfl)
theorem dX6_laysWay_156 : decode cX6_laysWay 156 = .ok (.istore 7, 2) := dk_54 7 (dk_at dksX6_laysWay_6 17 rfl rfl)
theorem dX6_laysWay_158 : decode cX6_laysWay 158 = .ok (.iinc 8 1, 3) := dk_132 8 1 (dk_at dksX6_laysWay_6 19 rfl rfl)
theorem dX6_laysWay_161 : decode cX6_laysWay 161 = .ok (.goto (-85), 3) := dk_167 255 171 (dk_at dksX6_laysWay_7 0 rfl rfl)
theorem dX6_laysWay_164 : decode cX6_laysWay 164 = .ok (.iload 7, 2) := dk_21 7 (dk_at dksX6_laysWay_7 3 rfl rfl)
theorem dX6_laysWay_166 : decode cX6_laysWay 166 = .ok (.istore 5, 2) := dk_54 5 (dk_at dksX6_laysWay_7 5 rfl rfl)
theorem dX6_laysWay_168 : decode cX6_laysWay 168 = .ok (.aload_n 0, 1) := dk_42 (dk_at dksX6_laysWay_7 7 rfl rfl)
theorem dX6_laysWay_169 : decode cX6_laysWay 169 = .ok (.iload 5, 2) := dk_21 5 (dk_at dksX6_laysWay_7 8 rfl rfl)
theorem dX6_laysWay_171 : decode cX6_laysWay 171 = .ok (.i2l, 1) := dk_133 (dk_at dksX6_laysWay_7 10 rfl rfl)
theorem dX6_laysWay_172 : decode cX6_laysWay 172 = .ok (.invokevirtual 373, 3) := dk_182 1 117 (dk_at dksX6_laysWay_7 11 rfl rfl)
theorem dX6_laysWay_175 : decode cX6_laysWay 175 = .ok (.iinc 6 (-1), 3) := dk_132 6 255 (dk_at dksX6_laysWay_7 14 rfl rfl)
theorem dX6_laysWay_178 : decode cX6_laysWay 178 = .ok (.goto (-113), 3) := dk_167 255 143 (dk_at dksX6_laysWay_7 17 rfl rfl)
theorem dX6_laysWay_181 : decode cX6_laysWay 181 = .ok (.aload_n 0, 1) := dk_42 (dk_at dksX6_laysWay_7 20 rfl rfl)
theorem dX6_laysWay_182 : decode cX6_laysWay 182 = .ok (.getfield 95, 3) := dk_180 0 95 (dk_at dksX6_laysWay_7 21 rfl rfl)
theorem dX6_laysWay_185 : decode cX6_laysWay 185 = .ok (.iload_n 1, 1) := dk_27 (dk_at dksX6_laysWay_8 0 rfl rfl)
theorem dX6_laysWay_186 : decode cX6_laysWay 186 = .ok (.iaload, 1) := dk_46 (dk_at dksX6_laysWay_8 1 rfl rfl)
theorem dX6_laysWay_187 : decode cX6_laysWay 187 = .ok (.ireturn, 1) := dk_172 (dk_at dksX6_laysWay_8 2 rfl rfl)
abbrev cX6_laysSteps : ByteArray := prog_12_method_100_code
def yX6_laysSteps : MethodName := ⟨RX6, "laysSteps", "(IIJ)V"⟩
def dkwX6_laysSteps_7 : List UInt8 := [132, 7, 1, 167, 255, 153, 132, 6, 1, 167, 255, 135, 132, 5, 1, 167, 255, 117, 177]
abbrev dktX6_laysSteps_7 : List UInt8 := dkwX6_laysSteps_7 ++ []
def dkwX6_laysSteps_6 : List UInt8 := [46, 42, 180, 0, 95, 21, 8, 46, 4, 96, 184, 0, 145, 167, 0, 10, 42, 180, 0, 95, 21, 6, 46, 79]
abbrev dktX6_laysSteps_6 : List UInt8 := dkwX6_laysSteps_6 ++ dktX6_laysSteps_7
def dkwX6_laysSteps_5 : List UInt8 := [4, 167, 0, 4, 3, 54, 9, 42, 180, 0, 95, 21, 6, 21, 9, 153, 0, 25, 42, 180, 0, 95, 21, 6]
abbrev dktX6_laysSteps_5 : List UInt8 := dkwX6_laysSteps_5 ++ dktX6_laysSteps_6
def dkwX6_laysSteps_4 : List UInt8 := [33, 21, 6, 184, 1, 48, 153, 0, 22, 21, 8, 28, 159, 0, 12, 33, 21, 8, 184, 1, 48, 153, 0, 7]
abbrev dktX6_laysSteps_4 : List UInt8 := dkwX6_laysSteps_4 ++ dktX6_laysSteps_5
def dkwX6_laysSteps_3 : List UInt8 := [162, 0, 102, 42, 21, 6, 21, 7, 182, 1, 97, 54, 8, 21, 8, 155, 0, 37, 21, 6, 27, 159, 0, 12]
abbrev dktX6_laysSteps_3 : List UInt8 := dkwX6_laysSteps_3 ++ dktX6_laysSteps_4
def dkwX6_laysSteps_2 : List UInt8 := [162, 0, 136, 3, 54, 6, 21, 6, 42, 182, 0, 122, 162, 0, 118, 3, 54, 7, 21, 7, 16, 8]
abbrev dktX6_laysSteps_2 : List UInt8 := dkwX6_laysSteps_2 ++ dktX6_laysSteps_3
def dkwX6_laysSteps_1 : List UInt8 := [3, 167, 0, 6, 19, 1, 176, 79, 132, 5, 1, 167, 255, 224, 3, 54, 5, 21, 5, 42, 182, 0, 122]
abbrev dktX6_laysSteps_1 : List UInt8 := dkwX6_laysSteps_1 ++ dktX6_laysSteps_2
def dkwX6_laysSteps_0 : List UInt8 := [3, 54, 5, 21, 5, 42, 182, 0, 122, 162, 0, 29, 42, 180, 0, 95, 21, 5, 21, 5, 28, 160, 0, 7]
abbrev dktX6_laysSteps_0 : List UInt8 := dkwX6_laysSteps_0 ++ dktX6_laysSteps_1
theorem dksX6_laysSteps_0 : cX6_laysSteps.data.toList.drop 0 = dktX6_laysSteps_0 := by decide +kernel
theorem dksX6_laysSteps_1 : cX6_laysSteps.data.toList.drop 24 = dktX6_laysSteps_1 := dk_seg dksX6_laysSteps_0 24 rfl rfl
theorem dksX6_laysSteps_2 : cX6_laysSteps.data.toList.drop 47 = dktX6_laysSteps_2 := dk_seg dksX6_laysSteps_1 23 rfl rfl
theorem dksX6_laysSteps_3 : cX6_laysSteps.data.toList.drop 69 = dktX6_laysSteps_3 := dk_seg dksX6_laysSteps_2 22 rfl rfl
theorem dksX6_laysSteps_4 : cX6_laysSteps.data.toList.drop 93 = dktX6_laysSteps_4 := dk_seg dksX6_laysSteps_3 24 rfl rfl
theorem dksX6_laysSteps_5 : cX6_laysSteps.data.toList.drop 117 = dktX6_laysSteps_5 := dk_seg dksX6_laysSteps_4 24 rfl rfl
theorem dksX6_laysSteps_6 : cX6_laysSteps.data.toList.drop 141 = dktX6_laysSteps_6 := dk_seg dksX6_laysSteps_5 24 rfl rfl
theorem dksX6_laysSteps_7 : cX6_laysSteps.data.toList.drop 165 = dktX6_laysSteps_7 := dk_seg dksX6_laysSteps_6 24 rfl rfl
theorem dX6_laysSteps_0 : decode cX6_laysSteps 0 = .ok (.iconst 0, 1) := dk_3 (dk_at dksX6_laysSteps_0 0 rfl rfl)
theorem dX6_laysSteps_1 : decode cX6_laysSteps 1 = .ok (.istore 5, 2) := dk_54 5 (dk_at dksX6_laysSteps_0 1 rfl rfl)
theorem dX6_laysSteps_3 : decode cX6_laysSteps 3 = .ok (.iload 5, 2) := dk_21 5 (dk_at dksX6_laysSteps_0 3 rfl rfl)
theorem dX6_laysSteps_5 : decode cX6_laysSteps 5 = .ok (.aload_n 0, 1) := dk_42 (dk_at dksX6_laysSteps_0 5 rfl rfl)
theorem dX6_laysSteps_6 : decode cX6_laysSteps 6 = .ok (.invokevirtual 122, 3) := dk_182 0 122 (dk_at dksX6_laysSteps_0 6 rfl rfl)
theorem dX6_laysSteps_9 : decode cX6_laysSteps 9 = .ok (.if_icmp .ge 29, 3) := dk_162 0 29 (dk_at dksX6_laysSteps_0 9 rfl rfl)
theorem dX6_laysSteps_12 : decode cX6_laysSteps 12 = .ok (.aload_n 0, 1) := dk_42 (dk_at dksX6_laysSteps_0 12 rfl rfl)
theorem dX6_laysSteps_13 : decode cX6_laysSteps 13 = .ok (.getfield 95, 3) := dk_180 0 95 (dk_at dksX6_laysSteps_0 13 rfl rfl)
theorem dX6_laysSteps_16 : decode cX6_laysSteps 16 = .ok (.iload 5, 2) := dk_21 5 (dk_at dksX6_laysSteps_0 16 rfl rfl)
theorem dX6_laysSteps_18 : decode cX6_laysSteps 18 = .ok (.iload 5, 2) := dk_21 5 (dk_at dksX6_laysSteps_0 18 rfl rfl)
theorem dX6_laysSteps_20 : decode cX6_laysSteps 20 = .ok (.iload_n 2, 1) := dk_28 (dk_at dksX6_laysSteps_0 20 rfl rfl)
theorem dX6_laysSteps_21 : decode cX6_laysSteps 21 = .ok (.if_icmp .ne 7, 3) := dk_160 0 7 (dk_at dksX6_laysSteps_0 21 rfl rfl)
theorem dX6_laysSteps_24 : decode cX6_laysSteps 24 = .ok (.iconst 0, 1) := dk_3 (dk_at dksX6_laysSteps_1 0 rfl rfl)
theorem dX6_laysSteps_25 : decode cX6_laysSteps 25 = .ok (.goto 6, 3) := dk_167 0 6 (dk_at dksX6_laysSteps_1 1 rfl rfl)
theorem dX6_laysSteps_28 : decode cX6_laysSteps 28 = .ok (.ldc_w 432, 3) := dk_19 1 176 (dk_at dksX6_laysSteps_1 4 rfl rfl)
theorem dX6_laysSteps_31 : decode cX6_laysSteps 31 = .ok (.iastore, 1) := dk_79 (dk_at dksX6_laysSteps_1 7 rfl rfl)
theorem dX6_laysSteps_32 : decode cX6_laysSteps 32 = .ok (.iinc 5 1, 3) := dk_132 5 1 (dk_at dksX6_laysSteps_1 8 rfl rfl)
theorem dX6_laysSteps_35 : decode cX6_laysSteps 35 = .ok (.goto (-32), 3) := dk_167 255 224 (dk_at dksX6_laysSteps_1 11 rfl rfl)
theorem dX6_laysSteps_38 : decode cX6_laysSteps 38 = .ok (.iconst 0, 1) := dk_3 (dk_at dksX6_laysSteps_1 14 rfl rfl)
theorem dX6_laysSteps_39 : decode cX6_laysSteps 39 = .ok (.istore 5, 2) := dk_54 5 (dk_at dksX6_laysSteps_1 15 rfl rfl)
theorem dX6_laysSteps_41 : decode cX6_laysSteps 41 = .ok (.iload 5, 2) := dk_21 5 (dk_at dksX6_laysSteps_1 17 rfl rfl)
theorem dX6_laysSteps_43 : decode cX6_laysSteps 43 = .ok (.aload_n 0, 1) := dk_42 (dk_at dksX6_laysSteps_1 19 rfl rfl)
theorem dX6_laysSteps_44 : decode cX6_laysSteps 44 = .ok (.invokevirtual 122, 3) := dk_182 0 122 (dk_at dksX6_laysSteps_1 20 rfl rfl)
theorem dX6_laysSteps_47 : decode cX6_laysSteps 47 = .ok (.if_icmp .ge 136, 3) := dk_162 0 136 (dk_at dksX6_laysSteps_2 0 rfl rfl)
theorem dX6_laysSteps_50 : decode cX6_laysSteps 50 = .ok (.iconst 0, 1) := dk_3 (dk_at dksX6_laysSteps_2 3 rfl rfl)
theorem dX6_laysSteps_51 : decode cX6_laysSteps 51 = .ok (.istore 6, 2) := dk_54 6 (dk_at dksX6_laysSteps_2 4 rfl rfl)
theorem dX6_laysSteps_53 : decode cX6_laysSteps 53 = .ok (.iload 6, 2) := dk_21 6 (dk_at dksX6_laysSteps_2 6 rfl rfl)
theorem dX6_laysSteps_55 : decode cX6_laysSteps 55 = .ok (.aload_n 0, 1) := dk_42 (dk_at dksX6_laysSteps_2 8 rfl rfl)
theorem dX6_laysSteps_56 : decode cX6_laysSteps 56 = .ok (.invokevirtual 122, 3) := dk_182 0 122 (dk_at dksX6_laysSteps_2 9 rfl rfl)
theorem dX6_laysSteps_59 : decode cX6_laysSteps 59 = .ok (.if_icmp .ge 118, 3) := dk_162 0 118 (dk_at dksX6_laysSteps_2 12 rfl rfl)
theorem dX6_laysSteps_62 : decode cX6_laysSteps 62 = .ok (.iconst 0, 1) := dk_3 (dk_at dksX6_laysSteps_2 15 rfl rfl)
theorem dX6_laysSteps_63 : decode cX6_laysSteps 63 = .ok (.istore 7, 2) := dk_54 7 (dk_at dksX6_laysSteps_2 16 rfl rfl)
theorem dX6_laysSteps_65 : decode cX6_laysSteps 65 = .ok (.iload 7, 2) := dk_21 7 (dk_at dksX6_laysSteps_2 18 rfl rfl)
theorem dX6_laysSteps_67 : decode cX6_laysSteps 67 = .ok (.bipush 8, 2) := dk_16 8 (dk_at dksX6_laysSteps_2 20 rfl rfl)
theorem dX6_laysSteps_69 : decode cX6_laysSteps 69 = .ok (.if_icmp .ge 102, 3) := dk_162 0 102 (dk_at dksX6_laysSteps_3 0 rfl rfl)
theorem dX6_laysSteps_72 : decode cX6_laysSteps 72 = .ok (.aload_n 0, 1) := dk_42 (dk_at dksX6_laysSteps_3 3 rfl rfl)
theorem dX6_laysSteps_73 : decode cX6_laysSteps 73 = .ok (.iload 6, 2) := dk_21 6 (dk_at dksX6_laysSteps_3 4 rfl rfl)
theorem dX6_laysSteps_75 : decode cX6_laysSteps 75 = .ok (.iload 7, 2) := dk_21 7 (dk_at dksX6_laysSteps_3 6 rfl rfl)
theorem dX6_laysSteps_77 : decode cX6_laysSteps 77 = .ok (.invokevirtual 353, 3) := dk_182 1 97 (dk_at dksX6_laysSteps_3 8 rfl rfl)
theorem dX6_laysSteps_80 : decode cX6_laysSteps 80 = .ok (.istore 8, 2) := dk_54 8 (dk_at dksX6_laysSteps_3 11 rfl rfl)
theorem dX6_laysSteps_82 : decode cX6_laysSteps 82 = .ok (.iload 8, 2) := dk_21 8 (dk_at dksX6_laysSteps_3 13 rfl rfl)
theorem dX6_laysSteps_84 : decode cX6_laysSteps 84 = .ok (.ifCond .lt 37, 3) := dk_155 0 37 (dk_at dksX6_laysSteps_3 15 rfl rfl)
theorem dX6_laysSteps_87 : decode cX6_laysSteps 87 = .ok (.iload 6, 2) := dk_21 6 (dk_at dksX6_laysSteps_3 18 rfl rfl)
theorem dX6_laysSteps_89 : decode cX6_laysSteps 89 = .ok (.iload_n 1, 1) := dk_27 (dk_at dksX6_laysSteps_3 20 rfl rfl)
theorem dX6_laysSteps_90 : decode cX6_laysSteps 90 = .ok (.if_icmp .eq 12, 3) := dk_159 0 12 (dk_at dksX6_laysSteps_3 21 rfl rfl)
theorem dX6_laysSteps_93 : decode cX6_laysSteps 93 = .ok (.lload_n 3, 1) := dk_33 (dk_at dksX6_laysSteps_4 0 rfl rfl)
theorem dX6_laysSteps_94 : decode cX6_laysSteps 94 = .ok (.iload 6, 2) := dk_21 6 (dk_at dksX6_laysSteps_4 1 rfl rfl)
theorem dX6_laysSteps_96 : decode cX6_laysSteps 96 = .ok (.invokestatic 304, 3) := dk_184 1 48 (dk_at dksX6_laysSteps_4 3 rfl rfl)
theorem dX6_laysSteps_99 : decode cX6_laysSteps 99 = .ok (.ifCond .eq 22, 3) := dk_153 0 22 (dk_at dksX6_laysSteps_4 6 rfl rfl)
theorem dX6_laysSteps_102 : decode cX6_laysSteps 102 = .ok (.iload 8, 2) := dk_21 8 (dk_at dksX6_laysSteps_4 9 rfl rfl)
theorem dX6_laysSteps_104 : decode cX6_laysSteps 104 = .ok (.iload_n 2, 1) := dk_28 (dk_at dksX6_laysSteps_4 11 rfl rfl)
theorem dX6_laysSteps_105 : decode cX6_laysSteps 105 = .ok (.if_icmp .eq 12, 3) := dk_159 0 12 (dk_at dksX6_laysSteps_4 12 rfl rfl)
theorem dX6_laysSteps_108 : decode cX6_laysSteps 108 = .ok (.lload_n 3, 1) := dk_33 (dk_at dksX6_laysSteps_4 15 rfl rfl)
theorem dX6_laysSteps_109 : decode cX6_laysSteps 109 = .ok (.iload 8, 2) := dk_21 8 (dk_at dksX6_laysSteps_4 16 rfl rfl)
theorem dX6_laysSteps_111 : decode cX6_laysSteps 111 = .ok (.invokestatic 304, 3) := dk_184 1 48 (dk_at dksX6_laysSteps_4 18 rfl rfl)
theorem dX6_laysSteps_114 : decode cX6_laysSteps 114 = .ok (.ifCond .eq 7, 3) := dk_153 0 7 (dk_at dksX6_laysSteps_4 21 rfl rfl)
theorem dX6_laysSteps_117 : decode cX6_laysSteps 117 = .ok (.iconst 1, 1) := dk_4 (dk_at dksX6_laysSteps_5 0 rfl rfl)
theorem dX6_laysSteps_118 : decode cX6_laysSteps 118 = .ok (.goto 4, 3) := dk_167 0 4 (dk_at dksX6_laysSteps_5 1 rfl rfl)
theorem dX6_laysSteps_121 : decode cX6_laysSteps 121 = .ok (.iconst 0, 1) := dk_3 (dk_at dksX6_laysSteps_5 4 rfl rfl)
theorem dX6_laysSteps_122 : decode cX6_laysSteps 122 = .ok (.istore 9, 2) := dk_54 9 (dk_at dksX6_laysSteps_5 5 rfl rfl)
theorem dX6_laysSteps_124 : decode cX6_laysSteps 124 = .ok (.aload_n 0, 1) := dk_42 (dk_at dksX6_laysSteps_5 7 rfl rfl)
theorem dX6_laysSteps_125 : decode cX6_laysSteps 125 = .ok (.getfield 95, 3) := dk_180 0 95 (dk_at dksX6_laysSteps_5 8 rfl rfl)
theorem dX6_laysSteps_128 : decode cX6_laysSteps 128 = .ok (.iload 6, 2) := dk_21 6 (dk_at dksX6_laysSteps_5 11 rfl rfl)
theorem dX6_laysSteps_130 : decode cX6_laysSteps 130 = .ok (.iload 9, 2) := dk_21 9 (dk_at dksX6_laysSteps_5 13 rfl rfl)
theorem dX6_laysSteps_132 : decode cX6_laysSteps 132 = .ok (.ifCond .eq 25, 3) := dk_153 0 25 (dk_at dksX6_laysSteps_5 15 rfl rfl)
theorem dX6_laysSteps_135 : decode cX6_laysSteps 135 = .ok (.aload_n 0, 1) := dk_42 (dk_at dksX6_laysSteps_5 18 rfl rfl)
theorem dX6_laysSteps_136 : decode cX6_laysSteps 136 = .ok (.getfield 95, 3) := dk_180 0 95 (dk_at dksX6_laysSteps_5 19 rfl rfl)
theorem dX6_laysSteps_139 : decode cX6_laysSteps 139 = .ok (.iload 6, 2) := dk_21 6 (dk_at dksX6_laysSteps_5 22 rfl rfl)
theorem dX6_laysSteps_141 : decode cX6_laysSteps 141 = .ok (.iaload, 1) := dk_46 (dk_at dksX6_laysSteps_6 0 rfl rfl)
theorem dX6_laysSteps_142 : decode cX6_laysSteps 142 = .ok (.aload_n 0, 1) := dk_42 (dk_at dksX6_laysSteps_6 1 rfl rfl)
theorem dX6_laysSteps_143 : decode cX6_laysSteps 143 = .ok (.getfield 95, 3) := dk_180 0 95 (dk_at dksX6_laysSteps_6 2 rfl rfl)
theorem dX6_laysSteps_146 : decode cX6_laysSteps 146 = .ok (.iload 8, 2) := dk_21 8 (dk_at dksX6_laysSteps_6 5 rfl rfl)
theorem dX6_laysSteps_148 : decode cX6_laysSteps 148 = .ok (.iaload, 1) := dk_46 (dk_at dksX6_laysSteps_6 7 rfl rfl)
theorem dX6_laysSteps_149 : decode cX6_laysSteps 149 = .ok (.iconst 1, 1) := dk_4 (dk_at dksX6_laysSteps_6 8 rfl rfl)
theorem dX6_laysSteps_150 : decode cX6_laysSteps 150 = .ok (.iadd, 1) := dk_96 (dk_at dksX6_laysSteps_6 9 rfl rfl)
theorem dX6_laysSteps_151 : decode cX6_laysSteps 151 = .ok (.invokestatic 145, 3) := dk_184 0 145 (dk_at dksX6_laysSteps_6 10 rfl rfl)
theorem dX6_laysSteps_154 : decode cX6_laysSteps 154 = .ok (.goto 10, 3) := dk_167 0 10 (dk_at dksX6_laysSteps_6 13 rfl rfl)
theorem dX6_laysSteps_157 : decode cX6_laysSteps 157 = .ok (.aload_n 0, 1) := dk_42 (dk_at dksX6_laysSteps_6 16 rfl rfl)
theorem dX6_laysSteps_158 : decode cX6_laysSteps 158 = .ok (.getfield 95, 3) := dk_180 0 95 (dk_at dksX6_laysSteps_6 17 rfl rfl)
theorem dX6_laysSteps_161 : decode cX6_laysSteps 161 = .ok (.iload 6, 2) := dk_21 6 (dk_at dksX6_laysSteps_6 20 rfl rfl)
theorem dX6_laysSteps_163 : decode cX6_laysSteps 163 = .ok (.iaload, 1) := dk_46 (dk_at dksX6_laysSteps_6 22 rfl rfl)
theorem dX6_laysSteps_164 : decode cX6_laysSteps 164 = .ok (.iastore, 1) := dk_79 (dk_at dksX6_laysSteps_6 23 rfl rfl)
theorem dX6_laysSteps_165 : decode cX6_laysSteps 165 = .ok (.iinc 7 1, 3) := dk_132 7 1 (dk_at dksX6_laysSteps_7 0 rfl rfl)
theorem dX6_laysSteps_168 : decode cX6_laysSteps 168 = .ok (.goto (-103), 3) := dk_167 255 153 (dk_at dksX6_laysSteps_7 3 rfl rfl)
theorem dX6_laysSteps_171 : decode cX6_laysSteps 171 = .ok (.iinc 6 1, 3) := dk_132 6 1 (dk_at dksX6_laysSteps_7 6 rfl rfl)
theorem dX6_laysSteps_174 : decode cX6_laysSteps 174 = .ok (.goto (-121), 3) := dk_167 255 135 (dk_at dksX6_laysSteps_7 9 rfl rfl)
theorem dX6_laysSteps_177 : decode cX6_laysSteps 177 = .ok (.iinc 5 1, 3) := dk_132 5 1 (dk_at dksX6_laysSteps_7 12 rfl rfl)
theorem dX6_laysSteps_180 : decode cX6_laysSteps 180 = .ok (.goto (-139), 3) := dk_167 255 117 (dk_at dksX6_laysSteps_7 15 rfl rfl)
theorem dX6_laysSteps_183 : decode cX6_laysSteps 183 = .ok (.return_, 1) := dk_177 (dk_at dksX6_laysSteps_7 18 rfl rfl)
abbrev cX6_open : ByteArray := prog_12_method_103_code
def yX6_open : MethodName := ⟨RX6, "open", "(II)I"⟩
def dkwX6_open_4 : List UInt8 := [21, 6, 133, 182, 1, 117, 29, 172]
abbrev dktX6_open_4 : List UInt8 := dkwX6_open_4 ++ []
def dkwX6_open_3 : List UInt8 := [47, 136, 184, 1, 48, 184, 0, 154, 96, 54, 6, 132, 7, 1, 167, 255, 226, 42, 3, 181, 0, 15, 42]
abbrev dktX6_open_3 : List UInt8 := dkwX6_open_3 ++ dktX6_open_4
def dkwX6_open_2 : List UInt8 := [55, 4, 3, 54, 6, 3, 54, 7, 21, 7, 29, 163, 0, 30, 21, 6, 22, 4, 42, 180, 0, 11, 21, 7]
abbrev dktX6_open_2 : List UInt8 := dkwX6_open_2 ++ dktX6_open_3
def dkwX6_open_1 : List UInt8 := [27, 28, 42, 182, 1, 157, 182, 1, 194, 62, 29, 156, 0, 5, 29, 172, 42, 42, 180, 0, 41, 182, 1, 161]
abbrev dktX6_open_1 : List UInt8 := dkwX6_open_1 ++ dktX6_open_2
def dkwX6_open_0 : List UInt8 := [42, 3, 181, 0, 3, 42, 27, 182, 1, 102, 153, 0, 11, 42, 28, 182, 1, 102, 154, 0, 5, 2, 172, 42]
abbrev dktX6_open_0 : List UInt8 := dkwX6_open_0 ++ dktX6_open_1
theorem dksX6_open_0 : cX6_open.data.toList.drop 0 = dktX6_open_0 := by decide +kernel
theorem dksX6_open_1 : cX6_open.data.toList.drop 24 = dktX6_open_1 := dk_seg dksX6_open_0 24 rfl rfl
theorem dksX6_open_2 : cX6_open.data.toList.drop 48 = dktX6_open_2 := dk_seg dksX6_open_1 24 rfl rfl
theorem dksX6_open_3 : cX6_open.data.toList.drop 72 = dktX6_open_3 := dk_seg dksX6_open_2 24 rfl rfl
theorem dksX6_open_4 : cX6_open.data.toList.drop 95 = dktX6_open_4 := dk_seg dksX6_open_3 23 rfl rfl
theorem dX6_open_0 : decode cX6_open 0 = .ok (.aload_n 0, 1) := dk_42 (dk_at dksX6_open_0 0 rfl rfl)
theorem dX6_open_1 : decode cX6_open 1 = .ok (.iconst 0, 1) := dk_3 (dk_at dksX6_open_0 1 rfl rfl)
theorem dX6_open_2 : decode cX6_open 2 = .ok (.putfield 3, 3) := dk_181 0 3 (dk_at dksX6_open_0 2 rfl rfl)
theorem dX6_open_5 : decode cX6_open 5 = .ok (.aload_n 0, 1) := dk_42 (dk_at dksX6_open_0 5 rfl rfl)
theorem dX6_open_6 : decode cX6_open 6 = .ok (.iload_n 1, 1) := dk_27 (dk_at dksX6_open_0 6 rfl rfl)
theorem dX6_open_7 : decode cX6_open 7 = .ok (.invokevirtual 358, 3) := dk_182 1 102 (dk_at dksX6_open_0 7 rfl rfl)
theorem dX6_open_10 : decode cX6_open 10 = .ok (.ifCond .eq 11, 3) := dk_153 0 11 (dk_at dksX6_open_0 10 rfl rfl)
theorem dX6_open_13 : decode cX6_open 13 = .ok (.aload_n 0, 1) := dk_42 (dk_at dksX6_open_0 13 rfl rfl)
theorem dX6_open_14 : decode cX6_open 14 = .ok (.iload_n 2, 1) := dk_28 (dk_at dksX6_open_0 14 rfl rfl)
theorem dX6_open_15 : decode cX6_open 15 = .ok (.invokevirtual 358, 3) := dk_182 1 102 (dk_at dksX6_open_0 15 rfl rfl)
theorem dX6_open_18 : decode cX6_open 18 = .ok (.ifCond .ne 5, 3) := dk_154 0 5 (dk_at dksX6_open_0 18 rfl rfl)
theorem dX6_open_21 : decode cX6_open 21 = .ok (.iconst (-1), 1) := dk_2 (dk_at dksX6_open_0 21 rfl rfl)
theorem dX6_open_22 : decode cX6_open 22 = .ok (.ireturn, 1) := dk_172 (dk_at dksX6_open_0 22 rfl rfl)
theorem dX6_open_23 : decode cX6_open 23 = .ok (.aload_n 0, 1) := dk_42 (dk_at dksX6_open_0 23 rfl rfl)
theorem dX6_open_24 : decode cX6_open 24 = .ok (.iload_n 1, 1) := dk_27 (dk_at dksX6_open_1 0 rfl rfl)
theorem dX6_open_25 : decode cX6_open 25 = .ok (.iload_n 2, 1) := dk_28 (dk_at dksX6_open_1 1 rfl rfl)
theorem dX6_open_26 : decode cX6_open 26 = .ok (.aload_n 0, 1) := dk_42 (dk_at dksX6_open_1 2 rfl rfl)
theorem dX6_open_27 : decode cX6_open 27 = .ok (.invokevirtual 413, 3) := dk_182 1 157 (dk_at dksX6_open_1 3 rfl rfl)
theorem dX6_open_30 : decode cX6_open 30 = .ok (.invokevirtual 450, 3) := dk_182 1 194 (dk_at dksX6_open_1 6 rfl rfl)
theorem dX6_open_33 : decode cX6_open 33 = .ok (.istore_n 3, 1) := dk_62 (dk_at dksX6_open_1 9 rfl rfl)
theorem dX6_open_34 : decode cX6_open 34 = .ok (.iload_n 3, 1) := dk_29 (dk_at dksX6_open_1 10 rfl rfl)
theorem dX6_open_35 : decode cX6_open 35 = .ok (.ifCond .ge 5, 3) := dk_156 0 5 (dk_at dksX6_open_1 11 rfl rfl)
theorem dX6_open_38 : decode cX6_open 38 = .ok (.iload_n 3, 1) := dk_29 (dk_at dksX6_open_1 14 rfl rfl)
theorem dX6_open_39 : decode cX6_open 39 = .ok (.ireturn, 1) := dk_172 (dk_at dksX6_open_1 15 rfl rfl)
theorem dX6_open_40 : decode cX6_open 40 = .ok (.aload_n 0, 1) := dk_42 (dk_at dksX6_open_1 16 rfl rfl)
theorem dX6_open_41 : decode cX6_open 41 = .ok (.aload_n 0, 1) := dk_42 (dk_at dksX6_open_1 17 rfl rfl)
theorem dX6_open_42 : decode cX6_open 42 = .ok (.getfield 41, 3) := dk_180 0 41 (dk_at dksX6_open_1 18 rfl rfl)
theorem dX6_open_45 : decode cX6_open 45 = .ok (.invokevirtual 417, 3) := dk_182 1 161 (dk_at dksX6_open_1 21 rfl rfl)
theorem dX6_open_48 : decode cX6_open 48 = .ok (.lstore 4, 2) := dk_55 4 (dk_at dksX6_open_2 0 rfl rfl)
theorem dX6_open_50 : decode cX6_open 50 = .ok (.iconst 0, 1) := dk_3 (dk_at dksX6_open_2 2 rfl rfl)
theorem dX6_open_51 : decode cX6_open 51 = .ok (.istore 6, 2) := dk_54 6 (dk_at dksX6_open_2 3 rfl rfl)
theorem dX6_open_53 : decode cX6_open 53 = .ok (.iconst 0, 1) := dk_3 (dk_at dksX6_open_2 5 rfl rfl)
theorem dX6_open_54 : decode cX6_open 54 = .ok (.istore 7, 2) := dk_54 7 (dk_at dksX6_open_2 6 rfl rfl)
theorem dX6_open_56 : decode cX6_open 56 = .ok (.iload 7, 2) := dk_21 7 (dk_at dksX6_open_2 8 rfl rfl)
theorem dX6_open_58 : decode cX6_open 58 = .ok (.iload_n 3, 1) := dk_29 (dk_at dksX6_open_2 10 rfl rfl)
theorem dX6_open_59 : decode cX6_open 59 = .ok (.if_icmp .gt 30, 3) := dk_163 0 30 (dk_at dksX6_open_2 11 rfl rfl)
theorem dX6_open_62 : decode cX6_open 62 = .ok (.iload 6, 2) := dk_21 6 (dk_at dksX6_open_2 14 rfl rfl)
theorem dX6_open_64 : decode cX6_open 64 = .ok (.lload 4, 2) := dk_22 4 (dk_at dksX6_open_2 16 rfl rfl)
theorem dX6_open_66 : decode cX6_open 66 = .ok (.aload_n 0, 1) := dk_42 (dk_at dksX6_open_2 18 rfl rfl)
theorem dX6_open_67 : decode cX6_open 67 = .ok (.getfield 11, 3) := dk_180 0 11 (dk_at dksX6_open_2 19 rfl rfl)
theorem dX6_open_70 : decode cX6_open 70 = .ok (.iload 7, 2) := dk_21 7 (dk_at dksX6_open_2 22 rfl rfl)
theorem dX6_open_72 : decode cX6_open 72 = .ok (.laload, 1) := dk_47 (dk_at dksX6_open_3 0 rfl rfl)
theorem dX6_open_73 : decode cX6_open 73 = .ok (.l2i, 1) := dk_136 (dk_at dksX6_open_3 1 rfl rfl)
theorem dX6_open_74 : decode cX6_open 74 = .ok (.invokestatic 304, 3) := dk_184 1 48 (dk_at dksX6_open_3 2 rfl rfl)
theorem dX6_open_77 : decode cX6_open 77 = .ok (.invokestatic 154, 3) := dk_184 0 154 (dk_at dksX6_open_3 5 rfl rfl)
theorem dX6_open_80 : decode cX6_open 80 = .ok (.iadd, 1) := dk_96 (dk_at dksX6_open_3 8 rfl rfl)
theorem dX6_open_81 : decode cX6_open 81 = .ok (.istore 6, 2) := dk_54 6 (dk_at dksX6_open_3 9 rfl rfl)
theorem dX6_open_83 : decode cX6_open 83 = .ok (.iinc 7 1, 3) := dk_132 7 1 (dk_at dksX6_open_3 11 rfl rfl)
theorem dX6_open_86 : decode cX6_open 86 = .ok (.goto (-30), 3) := dk_167 255 226 (dk_at dksX6_open_3 14 rfl rfl)
theorem dX6_open_89 : decode cX6_open 89 = .ok (.aload_n 0, 1) := dk_42 (dk_at dksX6_open_3 17 rfl rfl)
theorem dX6_open_90 : decode cX6_open 90 = .ok (.iconst 0, 1) := dk_3 (dk_at dksX6_open_3 18 rfl rfl)
theorem dX6_open_91 : decode cX6_open 91 = .ok (.putfield 15, 3) := dk_181 0 15 (dk_at dksX6_open_3 19 rfl rfl)
theorem dX6_open_94 : decode cX6_open 94 = .ok (.aload_n 0, 1) := dk_42 (dk_at dksX6_open_3 22 rfl rfl)
theorem dX6_open_95 : decode cX6_open 95 = .ok (.iload 6, 2) := dk_21 6 (dk_at dksX6_open_4 0 rfl rfl)
theorem dX6_open_97 : decode cX6_open 97 = .ok (.i2l, 1) := dk_133 (dk_at dksX6_open_4 2 rfl rfl)
theorem dX6_open_98 : decode cX6_open 98 = .ok (.invokevirtual 373, 3) := dk_182 1 117 (dk_at dksX6_open_4 3 rfl rfl)
theorem dX6_open_101 : decode cX6_open 101 = .ok (.iload_n 3, 1) := dk_29 (dk_at dksX6_open_4 6 rfl rfl)
theorem dX6_open_102 : decode cX6_open 102 = .ok (.ireturn, 1) := dk_172 (dk_at dksX6_open_4 7 rfl rfl)
abbrev cX6_heard : ByteArray := prog_12_method_104_code
def yX6_heard : MethodName := ⟨RX6, "heard", "(II)I"⟩
def dkwX6_heard_2 : List UInt8 := [42, 180, 0, 194, 28, 79, 42, 89, 180, 0, 194, 4, 96, 181, 0, 194, 42, 180, 0, 194, 172]
abbrev dktX6_heard_2 : List UInt8 := dkwX6_heard_2 ++ []
def dkwX6_heard_1 : List UInt8 := [180, 0, 194, 16, 10, 160, 0, 5, 2, 172, 42, 180, 0, 98, 42, 180, 0, 194, 27, 79, 42, 180, 0, 101]
abbrev dktX6_heard_1 : List UInt8 := dkwX6_heard_1 ++ dktX6_heard_2
def dkwX6_heard_0 : List UInt8 := [42, 3, 181, 0, 3, 42, 27, 182, 1, 59, 153, 0, 22, 28, 133, 9, 10, 184, 0, 126, 153, 0, 12, 42]
abbrev dktX6_heard_0 : List UInt8 := dkwX6_heard_0 ++ dktX6_heard_1
theorem dksX6_heard_0 : cX6_heard.data.toList.drop 0 = dktX6_heard_0 := by decide +kernel
theorem dksX6_heard_1 : cX6_heard.data.toList.drop 24 = dktX6_heard_1 := dk_seg dksX6_heard_0 24 rfl rfl
theorem dksX6_heard_2 : cX6_heard.data.toList.drop 48 = dktX6_heard_2 := dk_seg dksX6_heard_1 24 rfl rfl
theorem dX6_heard_0 : decode cX6_heard 0 = .ok (.aload_n 0, 1) := dk_42 (dk_at dksX6_heard_0 0 rfl rfl)
theorem dX6_heard_1 : decode cX6_heard 1 = .ok (.iconst 0, 1) := dk_3 (dk_at dksX6_heard_0 1 rfl rfl)
theorem dX6_heard_2 : decode cX6_heard 2 = .ok (.putfield 3, 3) := dk_181 0 3 (dk_at dksX6_heard_0 2 rfl rfl)
theorem dX6_heard_5 : decode cX6_heard 5 = .ok (.aload_n 0, 1) := dk_42 (dk_at dksX6_heard_0 5 rfl rfl)
theorem dX6_heard_6 : decode cX6_heard 6 = .ok (.iload_n 1, 1) := dk_27 (dk_at dksX6_heard_0 6 rfl rfl)
theorem dX6_heard_7 : decode cX6_heard 7 = .ok (.invokevirtual 315, 3) := dk_182 1 59 (dk_at dksX6_heard_0 7 rfl rfl)
theorem dX6_heard_10 : decode cX6_heard 10 = .ok (.ifCond .eq 22, 3) := dk_153 0 22 (dk_at dksX6_heard_0 10 rfl rfl)
theorem dX6_heard_13 : decode cX6_heard 13 = .ok (.iload_n 2, 1) := dk_28 (dk_at dksX6_heard_0 13 rfl rfl)
theorem dX6_heard_14 : decode cX6_heard 14 = .ok (.i2l, 1) := dk_133 (dk_at dksX6_heard_0 14 rfl rfl)
theorem dX6_heard_15 : decode cX6_heard 15 = .ok (.lconst 0, 1) := dk_9 (dk_at dksX6_heard_0 15 rfl rfl)
theorem dX6_heard_16 : decode cX6_heard 16 = .ok (.lconst 1, 1) := dk_10 (dk_at dksX6_heard_0 16 rfl rfl)
theorem dX6_heard_17 : decode cX6_heard 17 = .ok (.invokestatic 126, 3) := dk_184 0 126 (dk_at dksX6_heard_0 17 rfl rfl)
theorem dX6_heard_20 : decode cX6_heard 20 = .ok (.ifCond .eq 12, 3) := dk_153 0 12 (dk_at dksX6_heard_0 20 rfl rfl)
theorem dX6_heard_23 : decode cX6_heard 23 = .ok (.aload_n 0, 1) := dk_42 (dk_at dksX6_heard_0 23 rfl rfl)
theorem dX6_heard_24 : decode cX6_heard 24 = .ok (.getfield 194, 3) := dk_180 0 194 (dk_at dksX6_heard_1 0 rfl rfl)
theorem dX6_heard_27 : decode cX6_heard 27 = .ok (.bipush 10, 2) := dk_16 10 (dk_at dksX6_heard_1 3 rfl rfl)
theorem dX6_heard_29 : decode cX6_heard 29 = .ok (.if_icmp .ne 5, 3) := dk_160 0 5 (dk_at dksX6_heard_1 5 rfl rfl)
theorem dX6_heard_32 : decode cX6_heard 32 = .ok (.iconst (-1), 1) := dk_2 (dk_at dksX6_heard_1 8 rfl rfl)
theorem dX6_heard_33 : decode cX6_heard 33 = .ok (.ireturn, 1) := dk_172 (dk_at dksX6_heard_1 9 rfl rfl)
theorem dX6_heard_34 : decode cX6_heard 34 = .ok (.aload_n 0, 1) := dk_42 (dk_at dksX6_heard_1 10 rfl rfl)
theorem dX6_heard_35 : decode cX6_heard 35 = .ok (.getfield 98, 3) := dk_180 0 98 (dk_at dksX6_heard_1 11 rfl rfl)
theorem dX6_heard_38 : decode cX6_heard 38 = .ok (.aload_n 0, 1) := dk_42 (dk_at dksX6_heard_1 14 rfl rfl)
theorem dX6_heard_39 : decode cX6_heard 39 = .ok (.getfield 194, 3) := dk_180 0 194 (dk_at dksX6_heard_1 15 rfl rfl)
theorem dX6_heard_42 : decode cX6_heard 42 = .ok (.iload_n 1, 1) := dk_27 (dk_at dksX6_heard_1 18 rfl rfl)
theorem dX6_heard_43 : decode cX6_heard 43 = .ok (.iastore, 1) := dk_79 (dk_at dksX6_heard_1 19 rfl rfl)
theorem dX6_heard_44 : decode cX6_heard 44 = .ok (.aload_n 0, 1) := dk_42 (dk_at dksX6_heard_1 20 rfl rfl)
theorem dX6_heard_45 : decode cX6_heard 45 = .ok (.getfield 101, 3) := dk_180 0 101 (dk_at dksX6_heard_1 21 rfl rfl)
theorem dX6_heard_48 : decode cX6_heard 48 = .ok (.aload_n 0, 1) := dk_42 (dk_at dksX6_heard_2 0 rfl rfl)
theorem dX6_heard_49 : decode cX6_heard 49 = .ok (.getfield 194, 3) := dk_180 0 194 (dk_at dksX6_heard_2 1 rfl rfl)
theorem dX6_heard_52 : decode cX6_heard 52 = .ok (.iload_n 2, 1) := dk_28 (dk_at dksX6_heard_2 4 rfl rfl)
theorem dX6_heard_53 : decode cX6_heard 53 = .ok (.iastore, 1) := dk_79 (dk_at dksX6_heard_2 5 rfl rfl)
theorem dX6_heard_54 : decode cX6_heard 54 = .ok (.aload_n 0, 1) := dk_42 (dk_at dksX6_heard_2 6 rfl rfl)
theorem dX6_heard_55 : decode cX6_heard 55 = .ok (.dup, 1) := dk_89 (dk_at dksX6_heard_2 7 rfl rfl)
theorem dX6_heard_56 : decode cX6_heard 56 = .ok (.getfield 194, 3) := dk_180 0 194 (dk_at dksX6_heard_2 8 rfl rfl)
theorem dX6_heard_59 : decode cX6_heard 59 = .ok (.iconst 1, 1) := dk_4 (dk_at dksX6_heard_2 11 rfl rfl)
theorem dX6_heard_60 : decode cX6_heard 60 = .ok (.iadd, 1) := dk_96 (dk_at dksX6_heard_2 12 rfl rfl)
theorem dX6_heard_61 : decode cX6_heard 61 = .ok (.putfield 194, 3) := dk_181 0 194 (dk_at dksX6_heard_2 13 rfl rfl)
theorem dX6_heard_64 : decode cX6_heard 64 = .ok (.aload_n 0, 1) := dk_42 (dk_at dksX6_heard_2 16 rfl rfl)
theorem dX6_heard_65 : decode cX6_heard 65 = .ok (.getfield 194, 3) := dk_180 0 194 (dk_at dksX6_heard_2 17 rfl rfl)
theorem dX6_heard_68 : decode cX6_heard 68 = .ok (.ireturn, 1) := dk_172 (dk_at dksX6_heard_2 20 rfl rfl)
abbrev cX6_forget : ByteArray := prog_12_method_105_code
def yX6_forget : MethodName := ⟨RX6, "forget", "()I"⟩
def dkwX6_forget_0 : List UInt8 := [42, 3, 181, 0, 3, 42, 180, 0, 194, 60, 42, 3, 181, 0, 194, 27, 172]
abbrev dktX6_forget_0 : List UInt8 := dkwX6_forget_0 ++ []
theorem dksX6_forget_0 : cX6_forget.data.toList.drop 0 = dktX6_forget_0 := by decide +kernel
theorem dX6_forget_0 : decode cX6_forget 0 = .ok (.aload_n 0, 1) := dk_42 (dk_at dksX6_forget_0 0 rfl rfl)
theorem dX6_forget_1 : decode cX6_forget 1 = .ok (.iconst 0, 1) := dk_3 (dk_at dksX6_forget_0 1 rfl rfl)
theorem dX6_forget_2 : decode cX6_forget 2 = .ok (.putfield 3, 3) := dk_181 0 3 (dk_at dksX6_forget_0 2 rfl rfl)
theorem dX6_forget_5 : decode cX6_forget 5 = .ok (.aload_n 0, 1) := dk_42 (dk_at dksX6_forget_0 5 rfl rfl)
theorem dX6_forget_6 : decode cX6_forget 6 = .ok (.getfield 194, 3) := dk_180 0 194 (dk_at dksX6_forget_0 6 rfl rfl)
theorem dX6_forget_9 : decode cX6_forget 9 = .ok (.istore_n 1, 1) := dk_60 (dk_at dksX6_forget_0 9 rfl rfl)
theorem dX6_forget_10 : decode cX6_forget 10 = .ok (.aload_n 0, 1) := dk_42 (dk_at dksX6_forget_0 10 rfl rfl)
theorem dX6_forget_11 : decode cX6_forget 11 = .ok (.iconst 0, 1) := dk_3 (dk_at dksX6_forget_0 11 rfl rfl)
theorem dX6_forget_12 : decode cX6_forget 12 = .ok (.putfield 194, 3) := dk_181 0 194 (dk_at dksX6_forget_0 12 rfl rfl)
theorem dX6_forget_15 : decode cX6_forget 15 = .ok (.iload_n 1, 1) := dk_27 (dk_at dksX6_forget_0 15 rfl rfl)
theorem dX6_forget_16 : decode cX6_forget 16 = .ok (.ireturn, 1) := dk_172 (dk_at dksX6_forget_0 16 rfl rfl)
abbrev cX6_lost : ByteArray := prog_12_method_107_code
def yX6_lost : MethodName := ⟨RX6, "lost", "()J"⟩
def dkwX6_lost_1 : List UInt8 := [31, 173]
abbrev dktX6_lost_1 : List UInt8 := dkwX6_lost_1 ++ []
def dkwX6_lost_0 : List UInt8 := [42, 3, 181, 0, 3, 42, 182, 1, 198, 64, 42, 3, 181, 0, 15, 42, 31, 184, 1, 149, 133, 182, 1, 117]
abbrev dktX6_lost_0 : List UInt8 := dkwX6_lost_0 ++ dktX6_lost_1
theorem dksX6_lost_0 : cX6_lost.data.toList.drop 0 = dktX6_lost_0 := by decide +kernel
theorem dksX6_lost_1 : cX6_lost.data.toList.drop 24 = dktX6_lost_1 := dk_seg dksX6_lost_0 24 rfl rfl
theorem dX6_lost_0 : decode cX6_lost 0 = .ok (.aload_n 0, 1) := dk_42 (dk_at dksX6_lost_0 0 rfl rfl)
theorem dX6_lost_1 : decode cX6_lost 1 = .ok (.iconst 0, 1) := dk_3 (dk_at dksX6_lost_0 1 rfl rfl)
theorem dX6_lost_2 : decode cX6_lost 2 = .ok (.putfield 3, 3) := dk_181 0 3 (dk_at dksX6_lost_0 2 rfl rfl)
theorem dX6_lost_5 : decode cX6_lost 5 = .ok (.aload_n 0, 1) := dk_42 (dk_at dksX6_lost_0 5 rfl rfl)
theorem dX6_lost_6 : decode cX6_lost 6 = .ok (.invokevirtual 454, 3) := dk_182 1 198 (dk_at dksX6_lost_0 6 rfl rfl)
theorem dX6_lost_9 : decode cX6_lost 9 = .ok (.lstore_n 1, 1) := dk_64 (dk_at dksX6_lost_0 9 rfl rfl)
theorem dX6_lost_10 : decode cX6_lost 10 = .ok (.aload_n 0, 1) := dk_42 (dk_at dksX6_lost_0 10 rfl rfl)
theorem dX6_lost_11 : decode cX6_lost 11 = .ok (.iconst 0, 1) := dk_3 (dk_at dksX6_lost_0 11 rfl rfl)
theorem dX6_lost_12 : decode cX6_lost 12 = .ok (.putfield 15, 3) := dk_181 0 15 (dk_at dksX6_lost_0 12 rfl rfl)
theorem dX6_lost_15 : decode cX6_lost 15 = .ok (.aload_n 0, 1) := dk_42 (dk_at dksX6_lost_0 15 rfl rfl)
theorem dX6_lost_16 : decode cX6_lost 16 = .ok (.lload_n 1, 1) := dk_31 (dk_at dksX6_lost_0 16 rfl rfl)
theorem dX6_lost_17 : decode cX6_lost 17 = .ok (.invokestatic 405, 3) := dk_184 1 149 (dk_at dksX6_lost_0 17 rfl rfl)
theorem dX6_lost_20 : decode cX6_lost 20 = .ok (.i2l, 1) := dk_133 (dk_at dksX6_lost_0 20 rfl rfl)
theorem dX6_lost_21 : decode cX6_lost 21 = .ok (.invokevirtual 373, 3) := dk_182 1 117 (dk_at dksX6_lost_0 21 rfl rfl)
theorem dX6_lost_24 : decode cX6_lost 24 = .ok (.lload_n 1, 1) := dk_31 (dk_at dksX6_lost_1 0 rfl rfl)
theorem dX6_lost_25 : decode cX6_lost 25 = .ok (.lreturn, 1) := dk_173 (dk_at dksX6_lost_1 1 rfl rfl)
abbrev cX6_fitting : ByteArray := prog_12_method_106_code
def yX6_fitting : MethodName := ⟨RX6, "fitting", "()J"⟩
def dkwX6_fitting_2 : List UInt8 := [22, 4, 20, 1, 147, 131, 127, 64, 132, 3, 1, 167, 255, 205, 31, 173]
abbrev dktX6_fitting_2 : List UInt8 := dkwX6_fitting_2 ++ []
def dkwX6_fitting_1 : List UInt8 := [29, 46, 182, 1, 44, 55, 4, 31, 42, 180, 0, 101, 29, 46, 4, 160, 0, 8, 22, 4, 167, 0, 9]
abbrev dktX6_fitting_1 : List UInt8 := dkwX6_fitting_1 ++ dktX6_fitting_2
def dkwX6_fitting_0 : List UInt8 := [42, 182, 1, 157, 64, 3, 62, 29, 42, 180, 0, 194, 162, 0, 49, 42, 42, 180, 0, 41, 42, 180, 0, 98]
abbrev dktX6_fitting_0 : List UInt8 := dkwX6_fitting_0 ++ dktX6_fitting_1
theorem dksX6_fitting_0 : cX6_fitting.data.toList.drop 0 = dktX6_fitting_0 := by decide +kernel
theorem dksX6_fitting_1 : cX6_fitting.data.toList.drop 24 = dktX6_fitting_1 := dk_seg dksX6_fitting_0 24 rfl rfl
theorem dksX6_fitting_2 : cX6_fitting.data.toList.drop 47 = dktX6_fitting_2 := dk_seg dksX6_fitting_1 23 rfl rfl
theorem dX6_fitting_0 : decode cX6_fitting 0 = .ok (.aload_n 0, 1) := dk_42 (dk_at dksX6_fitting_0 0 rfl rfl)
theorem dX6_fitting_1 : decode cX6_fitting 1 = .ok (.invokevirtual 413, 3) := dk_182 1 157 (dk_at dksX6_fitting_0 1 rfl rfl)
theorem dX6_fitting_4 : decode cX6_fitting 4 = .ok (.lstore_n 1, 1) := dk_64 (dk_at dksX6_fitting_0 4 rfl rfl)
theorem dX6_fitting_5 : decode cX6_fitting 5 = .ok (.iconst 0, 1) := dk_3 (dk_at dksX6_fitting_0 5 rfl rfl)
theorem dX6_fitting_6 : decode cX6_fitting 6 = .ok (.istore_n 3, 1) := dk_62 (dk_at dksX6_fitting_0 6 rfl rfl)
theorem dX6_fitting_7 : decode cX6_fitting 7 = .ok (.iload_n 3, 1) := dk_29 (dk_at dksX6_fitting_0 7 rfl rfl)
theorem dX6_fitting_8 : decode cX6_fitting 8 = .ok (.aload_n 0, 1) := dk_42 (dk_at dksX6_fitting_0 8 rfl rfl)
theorem dX6_fitting_9 : decode cX6_fitting 9 = .ok (.getfield 194, 3) := dk_180 0 194 (dk_at dksX6_fitting_0 9 rfl rfl)
theorem dX6_fitting_12 : decode cX6_fitting 12 = .ok (.if_icmp .ge 49, 3) := dk_162 0 49 (dk_at dksX6_fitting_0 12 rfl rfl)
theorem dX6_fitting_15 : decode cX6_fitting 15 = .ok (.aload_n 0, 1) := dk_42 (dk_at dksX6_fitting_0 15 rfl rfl)
theorem dX6_fitting_16 : decode cX6_fitting 16 = .ok (.aload_n 0, 1) := dk_42 (dk_at dksX6_fitting_0 16 rfl rfl)
theorem dX6_fitting_17 : decode cX6_fitting 17 = .ok (.getfield 41, 3) := dk_180 0 41 (dk_at dksX6_fitting_0 17 rfl rfl)
theorem dX6_fitting_20 : decode cX6_fitting 20 = .ok (.aload_n 0, 1) := dk_42 (dk_at dksX6_fitting_0 20 rfl rfl)
theorem dX6_fitting_21 : decode cX6_fitting 21 = .ok (.getfield 98, 3) := dk_180 0 98 (dk_at dksX6_fitting_0 21 rfl rfl)
theorem dX6_fitting_24 : decode cX6_fitting 24 = .ok (.iload_n 3, 1) := dk_29 (dk_at dksX6_fitting_1 0 rfl rfl)
theorem dX6_fitting_25 : decode cX6_fitting 25 = .ok (.iaload, 1) := dk_46 (dk_at dksX6_fitting_1 1 rfl rfl)
theorem dX6_fitting_26 : decode cX6_fitting 26 = .ok (.invokevirtual 300, 3) := dk_182 1 44 (dk_at dksX6_fitting_1 2 rfl rfl)
theorem dX6_fitting_29 : decode cX6_fitting 29 = .ok (.lstore 4, 2) := dk_55 4 (dk_at dksX6_fitting_1 5 rfl rfl)
theorem dX6_fitting_31 : decode cX6_fitting 31 = .ok (.lload_n 1, 1) := dk_31 (dk_at dksX6_fitting_1 7 rfl rfl)
theorem dX6_fitting_32 : decode cX6_fitting 32 = .ok (.aload_n 0, 1) := dk_42 (dk_at dksX6_fitting_1 8 rfl rfl)
theorem dX6_fitting_33 : decode cX6_fitting 33 = .ok (.getfield 101, 3) := dk_180 0 101 (dk_at dksX6_fitting_1 9 rfl rfl)
theorem dX6_fitting_36 : decode cX6_fitting 36 = .ok (.iload_n 3, 1) := dk_29 (dk_at dksX6_fitting_1 12 rfl rfl)
theorem dX6_fitting_37 : decode cX6_fitting 37 = .ok (.iaload, 1) := dk_46 (dk_at dksX6_fitting_1 13 rfl rfl)
theorem dX6_fitting_38 : decode cX6_fitting 38 = .ok (.iconst 1, 1) := dk_4 (dk_at dksX6_fitting_1 14 rfl rfl)
theorem dX6_fitting_39 : decode cX6_fitting 39 = .ok (.if_icmp .ne 8, 3) := dk_160 0 8 (dk_at dksX6_fitting_1 15 rfl rfl)
theorem dX6_fitting_42 : decode cX6_fitting 42 = .ok (.lload 4, 2) := dk_22 4 (dk_at dksX6_fitting_1 18 rfl rfl)
theorem dX6_fitting_44 : decode cX6_fitting 44 = .ok (.goto 9, 3) := dk_167 0 9 (dk_at dksX6_fitting_1 20 rfl rfl)
theorem dX6_fitting_47 : decode cX6_fitting 47 = .ok (.lload 4, 2) := dk_22 4 (dk_at dksX6_fitting_2 0 rfl rfl)
theorem dX6_fitting_49 : decode cX6_fitting 49 = .ok (.ldc2_w 403, 3) := dk_20 1 147 (dk_at dksX6_fitting_2 2 rfl rfl)
theorem dX6_fitting_52 : decode cX6_fitting 52 = .ok (.lxor, 1) := dk_131 (dk_at dksX6_fitting_2 5 rfl rfl)
theorem dX6_fitting_53 : decode cX6_fitting 53 = .ok (.land, 1) := dk_127 (dk_at dksX6_fitting_2 6 rfl rfl)
theorem dX6_fitting_54 : decode cX6_fitting 54 = .ok (.lstore_n 1, 1) := dk_64 (dk_at dksX6_fitting_2 7 rfl rfl)
theorem dX6_fitting_55 : decode cX6_fitting 55 = .ok (.iinc 3 1, 3) := dk_132 3 1 (dk_at dksX6_fitting_2 8 rfl rfl)
theorem dX6_fitting_58 : decode cX6_fitting 58 = .ok (.goto (-51), 3) := dk_167 255 205 (dk_at dksX6_fitting_2 11 rfl rfl)
theorem dX6_fitting_61 : decode cX6_fitting 61 = .ok (.lload_n 1, 1) := dk_31 (dk_at dksX6_fitting_2 14 rfl rfl)
theorem dX6_fitting_62 : decode cX6_fitting 62 = .ok (.lreturn, 1) := dk_173 (dk_at dksX6_fitting_2 15 rfl rfl)
abbrev cX6_asks : ByteArray := prog_12_method_108_code
def yX6_asks : MethodName := ⟨RX6, "asks", "()I"⟩
def dkwX6_asks_4 : List UInt8 := [167, 255, 184, 29, 155, 0, 15, 42, 3, 181, 0, 15, 42, 21, 4, 133, 182, 1, 117, 29, 172]
abbrev dktX6_asks_4 : List UInt8 := dkwX6_asks_4 ++ []
def dkwX6_asks_3 : List UInt8 := [162, 0, 8, 21, 5, 167, 0, 4, 29, 62, 21, 4, 21, 7, 184, 0, 145, 54, 4, 132, 5, 1]
abbrev dktX6_asks_3 : List UInt8 := dkwX6_asks_3 ++ dktX6_asks_4
def dkwX6_asks_2 : List UInt8 := [184, 1, 149, 54, 6, 21, 6, 31, 184, 1, 149, 21, 6, 100, 184, 1, 17, 54, 7, 21, 7, 21, 4]
abbrev dktX6_asks_2 : List UInt8 := dkwX6_asks_2 ++ dktX6_asks_3
def dkwX6_asks_1 : List UInt8 := [180, 0, 130, 162, 0, 69, 31, 9, 148, 153, 0, 63, 31, 42, 42, 180, 0, 41, 21, 5, 182, 1, 44, 127]
abbrev dktX6_asks_1 : List UInt8 := dkwX6_asks_1 ++ dktX6_asks_2
def dkwX6_asks_0 : List UInt8 := [42, 3, 181, 0, 3, 42, 182, 1, 198, 64, 16, 254, 62, 19, 1, 176, 54, 4, 3, 54, 5, 21, 5, 42]
abbrev dktX6_asks_0 : List UInt8 := dkwX6_asks_0 ++ dktX6_asks_1
theorem dksX6_asks_0 : cX6_asks.data.toList.drop 0 = dktX6_asks_0 := by decide +kernel
theorem dksX6_asks_1 : cX6_asks.data.toList.drop 24 = dktX6_asks_1 := dk_seg dksX6_asks_0 24 rfl rfl
theorem dksX6_asks_2 : cX6_asks.data.toList.drop 48 = dktX6_asks_2 := dk_seg dksX6_asks_1 24 rfl rfl
theorem dksX6_asks_3 : cX6_asks.data.toList.drop 71 = dktX6_asks_3 := dk_seg dksX6_asks_2 23 rfl rfl
theorem dksX6_asks_4 : cX6_asks.data.toList.drop 93 = dktX6_asks_4 := dk_seg dksX6_asks_3 22 rfl rfl
theorem dX6_asks_0 : decode cX6_asks 0 = .ok (.aload_n 0, 1) := dk_42 (dk_at dksX6_asks_0 0 rfl rfl)
theorem dX6_asks_1 : decode cX6_asks 1 = .ok (.iconst 0, 1) := dk_3 (dk_at dksX6_asks_0 1 rfl rfl)
theorem dX6_asks_2 : decode cX6_asks 2 = .ok (.putfield 3, 3) := dk_181 0 3 (dk_at dksX6_asks_0 2 rfl rfl)
theorem dX6_asks_5 : decode cX6_asks 5 = .ok (.aload_n 0, 1) := dk_42 (dk_at dksX6_asks_0 5 rfl rfl)
theorem dX6_asks_6 : decode cX6_asks 6 = .ok (.invokevirtual 454, 3) := dk_182 1 198 (dk_at dksX6_asks_0 6 rfl rfl)
theorem dX6_asks_9 : decode cX6_asks 9 = .ok (.lstore_n 1, 1) := dk_64 (dk_at dksX6_asks_0 9 rfl rfl)
theorem dX6_asks_10 : decode cX6_asks 10 = .ok (.bipush (-2), 2) := dk_16 254 (dk_at dksX6_asks_0 10 rfl rfl)
theorem dX6_asks_12 : decode cX6_asks 12 = .ok (.istore_n 3, 1) := dk_62 (dk_at dksX6_asks_0 12 rfl rfl)
theorem dX6_asks_13 : decode cX6_asks 13 = .ok (.ldc_w 432, 3) := dk_19 1 176 (dk_at dksX6_asks_0 13 rfl rfl)
theorem dX6_asks_16 : decode cX6_asks 16 = .ok (.istore 4, 2) := dk_54 4 (dk_at dksX6_asks_0 16 rfl rfl)
theorem dX6_asks_18 : decode cX6_asks 18 = .ok (.iconst 0, 1) := dk_3 (dk_at dksX6_asks_0 18 rfl rfl)
theorem dX6_asks_19 : decode cX6_asks 19 = .ok (.istore 5, 2) := dk_54 5 (dk_at dksX6_asks_0 19 rfl rfl)
theorem dX6_asks_21 : decode cX6_asks 21 = .ok (.iload 5, 2) := dk_21 5 (dk_at dksX6_asks_0 21 rfl rfl)
theorem dX6_asks_23 : decode cX6_asks 23 = .ok (.aload_n 0, 1) := dk_42 (dk_at dksX6_asks_0 23 rfl rfl)
theorem dX6_asks_24 : decode cX6_asks 24 = .ok (.getfield 130, 3) := dk_180 0 130 (dk_at dksX6_asks_1 0 rfl rfl)
theorem dX6_asks_27 : decode cX6_asks 27 = .ok (.if_icmp .ge 69, 3) := dk_162 0 69 (dk_at dksX6_asks_1 3 rfl rfl)
theorem dX6_asks_30 : decode cX6_asks 30 = .ok (.lload_n 1, 1) := dk_31 (dk_at dksX6_asks_1 6 rfl rfl)
theorem dX6_asks_31 : decode cX6_asks 31 = .ok (.lconst 0, 1) := dk_9 (dk_at dksX6_asks_1 7 rfl rfl)
theorem dX6_asks_32 : decode cX6_asks 32 = .ok (.lcmp, 1) := dk_148 (dk_at dksX6_asks_1 8 rfl rfl)
theorem dX6_asks_33 : decode cX6_asks 33 = .ok (.ifCond .eq 63, 3) := dk_153 0 63 (dk_at dksX6_asks_1 9 rfl rfl)
theorem dX6_asks_36 : decode cX6_asks 36 = .ok (.lload_n 1, 1) := dk_31 (dk_at dksX6_asks_1 12 rfl rfl)
theorem dX6_asks_37 : decode cX6_asks 37 = .ok (.aload_n 0, 1) := dk_42 (dk_at dksX6_asks_1 13 rfl rfl)
theorem dX6_asks_38 : decode cX6_asks 38 = .ok (.aload_n 0, 1) := dk_42 (dk_at dksX6_asks_1 14 rfl rfl)
theorem dX6_asks_39 : decode cX6_asks 39 = .ok (.getfield 41, 3) := dk_180 0 41 (dk_at dksX6_asks_1 15 rfl rfl)
theorem dX6_asks_42 : decode cX6_asks 42 = .ok (.iload 5, 2) := dk_21 5 (dk_at dksX6_asks_1 18 rfl rfl)
theorem dX6_asks_44 : decode cX6_asks 44 = .ok (.invokevirtual 300, 3) := dk_182 1 44 (dk_at dksX6_asks_1 20 rfl rfl)
theorem dX6_asks_47 : decode cX6_asks 47 = .ok (.land, 1) := dk_127 (dk_at dksX6_asks_1 23 rfl rfl)
theorem dX6_asks_48 : decode cX6_asks 48 = .ok (.invokestatic 405, 3) := dk_184 1 149 (dk_at dksX6_asks_2 0 rfl rfl)
theorem dX6_asks_51 : decode cX6_asks 51 = .ok (.istore 6, 2) := dk_54 6 (dk_at dksX6_asks_2 3 rfl rfl)
theorem dX6_asks_53 : decode cX6_asks 53 = .ok (.iload 6, 2) := dk_21 6 (dk_at dksX6_asks_2 5 rfl rfl)
theorem dX6_asks_55 : decode cX6_asks 55 = .ok (.lload_n 1, 1) := dk_31 (dk_at dksX6_asks_2 7 rfl rfl)
theorem dX6_asks_56 : decode cX6_asks 56 = .ok (.invokestatic 405, 3) := dk_184 1 149 (dk_at dksX6_asks_2 8 rfl rfl)
theorem dX6_asks_59 : decode cX6_asks 59 = .ok (.iload 6, 2) := dk_21 6 (dk_at dksX6_asks_2 11 rfl rfl)
theorem dX6_asks_61 : decode cX6_asks 61 = .ok (.isub, 1) := dk_100 (dk_at dksX6_asks_2 13 rfl rfl)
theorem dX6_asks_62 : decode cX6_asks 62 = .ok (.invokestatic 273, 3) := dk_184 1 17 (dk_at dksX6_asks_2 14 rfl rfl)
theorem dX6_asks_65 : decode cX6_asks 65 = .ok (.istore 7, 2) := dk_54 7 (dk_at dksX6_asks_2 17 rfl rfl)
theorem dX6_asks_67 : decode cX6_asks 67 = .ok (.iload 7, 2) := dk_21 7 (dk_at dksX6_asks_2 19 rfl rfl)
theorem dX6_asks_69 : decode cX6_asks 69 = .ok (.iload 4, 2) := dk_21 4 (dk_at dksX6_asks_2 21 rfl rfl)
theorem dX6_asks_71 : decode cX6_asks 71 = .ok (.if_icmp .ge 8, 3) := dk_162 0 8 (dk_at dksX6_asks_3 0 rfl rfl)
theorem dX6_asks_74 : decode cX6_asks 74 = .ok (.iload 5, 2) := dk_21 5 (dk_at dksX6_asks_3 3 rfl rfl)
theorem dX6_asks_76 : decode cX6_asks 76 = .ok (.goto 4, 3) := dk_167 0 4 (dk_at dksX6_asks_3 5 rfl rfl)
theorem dX6_asks_79 : decode cX6_asks 79 = .ok (.iload_n 3, 1) := dk_29 (dk_at dksX6_asks_3 8 rfl rfl)
theorem dX6_asks_80 : decode cX6_asks 80 = .ok (.istore_n 3, 1) := dk_62 (dk_at dksX6_asks_3 9 rfl rfl)
theorem dX6_asks_81 : decode cX6_asks 81 = .ok (.iload 4, 2) := dk_21 4 (dk_at dksX6_asks_3 10 rfl rfl)
theorem dX6_asks_83 : decode cX6_asks 83 = .ok (.iload 7, 2) := dk_21 7 (dk_at dksX6_asks_3 12 rfl rfl)
theorem dX6_asks_85 : decode cX6_asks 85 = .ok (.invokestatic 145, 3) := dk_184 0 145 (dk_at dksX6_asks_3 14 rfl rfl)
theorem dX6_asks_88 : decode cX6_asks 88 = .ok (.istore 4, 2) := dk_54 4 (dk_at dksX6_asks_3 17 rfl rfl)
theorem dX6_asks_90 : decode cX6_asks 90 = .ok (.iinc 5 1, 3) := dk_132 5 1 (dk_at dksX6_asks_3 19 rfl rfl)
theorem dX6_asks_93 : decode cX6_asks 93 = .ok (.goto (-72), 3) := dk_167 255 184 (dk_at dksX6_asks_4 0 rfl rfl)
theorem dX6_asks_96 : decode cX6_asks 96 = .ok (.iload_n 3, 1) := dk_29 (dk_at dksX6_asks_4 3 rfl rfl)
theorem dX6_asks_97 : decode cX6_asks 97 = .ok (.ifCond .lt 15, 3) := dk_155 0 15 (dk_at dksX6_asks_4 4 rfl rfl)
theorem dX6_asks_100 : decode cX6_asks 100 = .ok (.aload_n 0, 1) := dk_42 (dk_at dksX6_asks_4 7 rfl rfl)
theorem dX6_asks_101 : decode cX6_asks 101 = .ok (.iconst 0, 1) := dk_3 (dk_at dksX6_asks_4 8 rfl rfl)
theorem dX6_asks_102 : decode cX6_asks 102 = .ok (.putfield 15, 3) := dk_181 0 15 (dk_at dksX6_asks_4 9 rfl rfl)
theorem dX6_asks_105 : decode cX6_asks 105 = .ok (.aload_n 0, 1) := dk_42 (dk_at dksX6_asks_4 12 rfl rfl)
theorem dX6_asks_106 : decode cX6_asks 106 = .ok (.iload 4, 2) := dk_21 4 (dk_at dksX6_asks_4 13 rfl rfl)
theorem dX6_asks_108 : decode cX6_asks 108 = .ok (.i2l, 1) := dk_133 (dk_at dksX6_asks_4 15 rfl rfl)
theorem dX6_asks_109 : decode cX6_asks 109 = .ok (.invokevirtual 373, 3) := dk_182 1 117 (dk_at dksX6_asks_4 16 rfl rfl)
theorem dX6_asks_112 : decode cX6_asks 112 = .ok (.iload_n 3, 1) := dk_29 (dk_at dksX6_asks_4 19 rfl rfl)
theorem dX6_asks_113 : decode cX6_asks 113 = .ok (.ireturn, 1) := dk_172 (dk_at dksX6_asks_4 20 rfl rfl)
abbrev cX6_storm : ByteArray := prog_12_method_109_code
def yX6_storm : MethodName := ⟨RX6, "storm", "(III)I"⟩
def dkwX6_storm_12 : List UInt8 := [22, 8, 109, 182, 1, 117, 3, 172]
abbrev dktX6_storm_12 : List UInt8 := dkwX6_storm_12 ++ []
def dkwX6_storm_11 : List UInt8 := [22, 4, 184, 0, 7, 55, 8, 42, 3, 181, 0, 15, 42, 22, 6, 22, 8, 109, 182, 1, 117, 42, 22, 4]
abbrev dktX6_storm_11 : List UInt8 := dkwX6_storm_11 ++ dktX6_storm_12
def dkwX6_storm_10 : List UInt8 := [163, 0, 21, 22, 6, 42, 180, 0, 104, 21, 8, 47, 97, 55, 6, 132, 8, 1, 167, 255, 234, 22, 6]
abbrev dktX6_storm_10 : List UInt8 := dkwX6_storm_10 ++ dktX6_storm_11
def dkwX6_storm_9 : List UInt8 := [22, 4, 20, 1, 203, 105, 55, 4, 132, 6, 1, 167, 255, 116, 9, 55, 6, 28, 54, 8, 21, 8, 16, 8]
abbrev dktX6_storm_9 : List UInt8 := dkwX6_storm_9 ++ dktX6_storm_10
def dkwX6_storm_8 : List UInt8 := [180, 0, 104, 21, 8, 4, 100, 47, 21, 7, 133, 105, 167, 0, 4, 9, 97, 80, 132, 8, 255, 167, 255, 204]
abbrev dktX6_storm_8 : List UInt8 := dkwX6_storm_8 ++ dktX6_storm_9
def dkwX6_storm_7 : List UInt8 := [21, 8, 42, 180, 0, 104, 21, 8, 47, 16, 10, 21, 7, 100, 133, 105, 21, 8, 158, 0, 19, 42]
abbrev dktX6_storm_7 : List UInt8 := dkwX6_storm_7 ++ dktX6_storm_8
def dkwX6_storm_6 : List UInt8 := [182, 1, 40, 184, 0, 154, 29, 104, 96, 54, 7, 16, 8, 54, 8, 21, 8, 155, 0, 53, 42, 180, 0, 104]
abbrev dktX6_storm_6 : List UInt8 := dkwX6_storm_6 ++ dktX6_storm_7
def dkwX6_storm_5 : List UInt8 := [46, 27, 42, 180, 0, 41, 16, 8, 21, 6, 96, 46, 3, 42, 42, 180, 0, 41, 21, 6, 3, 182, 1, 36]
abbrev dktX6_storm_5 : List UInt8 := dkwX6_storm_5 ++ dktX6_storm_6
def dkwX6_storm_4 : List UInt8 := [180, 0, 41, 21, 6, 27, 182, 1, 52, 184, 0, 154, 16, 10, 29, 100, 104, 42, 42, 180, 0, 41, 21, 6]
abbrev dktX6_storm_4 : List UInt8 := dkwX6_storm_4 ++ dktX6_storm_5
def dkwX6_storm_3 : List UInt8 := [132, 4, 1, 167, 255, 225, 10, 55, 4, 3, 54, 6, 21, 6, 42, 180, 0, 130, 162, 0, 137, 42, 42]
abbrev dktX6_storm_3 : List UInt8 := dkwX6_storm_3 ++ dktX6_storm_4
def dkwX6_storm_2 : List UInt8 := [162, 0, 30, 42, 180, 0, 104, 21, 4, 21, 4, 154, 0, 7, 4, 167, 0, 4, 3, 184, 0, 154, 133, 80]
abbrev dktX6_storm_2 : List UInt8 := dkwX6_storm_2 ++ dktX6_storm_3
def dkwX6_storm_1 : List UInt8 := [153, 0, 15, 29, 133, 9, 20, 1, 203, 184, 0, 126, 154, 0, 5, 2, 172, 3, 54, 4, 21, 4, 16, 10]
abbrev dktX6_storm_1 : List UInt8 := dkwX6_storm_1 ++ dktX6_storm_2
def dkwX6_storm_0 : List UInt8 := [42, 3, 181, 0, 3, 42, 27, 182, 1, 102, 153, 0, 27, 28, 133, 9, 20, 1, 201, 184, 0, 126]
abbrev dktX6_storm_0 : List UInt8 := dkwX6_storm_0 ++ dktX6_storm_1
theorem dksX6_storm_0 : cX6_storm.data.toList.drop 0 = dktX6_storm_0 := by decide +kernel
theorem dksX6_storm_1 : cX6_storm.data.toList.drop 22 = dktX6_storm_1 := dk_seg dksX6_storm_0 22 rfl rfl
theorem dksX6_storm_2 : cX6_storm.data.toList.drop 46 = dktX6_storm_2 := dk_seg dksX6_storm_1 24 rfl rfl
theorem dksX6_storm_3 : cX6_storm.data.toList.drop 70 = dktX6_storm_3 := dk_seg dksX6_storm_2 24 rfl rfl
theorem dksX6_storm_4 : cX6_storm.data.toList.drop 93 = dktX6_storm_4 := dk_seg dksX6_storm_3 23 rfl rfl
theorem dksX6_storm_5 : cX6_storm.data.toList.drop 117 = dktX6_storm_5 := dk_seg dksX6_storm_4 24 rfl rfl
theorem dksX6_storm_6 : cX6_storm.data.toList.drop 141 = dktX6_storm_6 := dk_seg dksX6_storm_5 24 rfl rfl
theorem dksX6_storm_7 : cX6_storm.data.toList.drop 165 = dktX6_storm_7 := dk_seg dksX6_storm_6 24 rfl rfl
theorem dksX6_storm_8 : cX6_storm.data.toList.drop 187 = dktX6_storm_8 := dk_seg dksX6_storm_7 22 rfl rfl
theorem dksX6_storm_9 : cX6_storm.data.toList.drop 211 = dktX6_storm_9 := dk_seg dksX6_storm_8 24 rfl rfl
theorem dksX6_storm_10 : cX6_storm.data.toList.drop 235 = dktX6_storm_10 := dk_seg dksX6_storm_9 24 rfl rfl
theorem dksX6_storm_11 : cX6_storm.data.toList.drop 258 = dktX6_storm_11 := dk_seg dksX6_storm_10 23 rfl rfl
theorem dksX6_storm_12 : cX6_storm.data.toList.drop 282 = dktX6_storm_12 := dk_seg dksX6_storm_11 24 rfl rfl
theorem dX6_storm_0 : decode cX6_storm 0 = .ok (.aload_n 0, 1) := dk_42 (dk_at dksX6_storm_0 0 rfl rfl)
theorem dX6_storm_1 : decode cX6_storm 1 = .ok (.iconst 0, 1) := dk_3 (dk_at dksX6_storm_0 1 rfl rfl)
theorem dX6_storm_2 : decode cX6_storm 2 = .ok (.putfield 3, 3) := dk_181 0 3 (dk_at dksX6_storm_0 2 rfl rfl)
theorem dX6_storm_5 : decode cX6_storm 5 = .ok (.aload_n 0, 1) := dk_42 (dk_at dksX6_storm_0 5 rfl rfl)
theorem dX6_storm_6 : decode cX6_storm 6 = .ok (.iload_n 1, 1) := dk_27 (dk_at dksX6_storm_0 6 rfl rfl)
theorem dX6_storm_7 : decode cX6_storm 7 = .ok (.invokevirtual 358, 3) := dk_182 1 102 (dk_at dksX6_storm_0 7 rfl rfl)
theorem dX6_storm_10 : decode cX6_storm 10 = .ok (.ifCond .eq 27, 3) := dk_153 0 27 (dk_at dksX6_storm_0 10 rfl rfl)
theorem dX6_storm_13 : decode cX6_storm 13 = .ok (.iload_n 2, 1) := dk_28 (dk_at dksX6_storm_0 13 rfl rfl)
theorem dX6_storm_14 : decode cX6_storm 14 = .ok (.i2l, 1) := dk_133 (dk_at dksX6_storm_0 14 rfl rfl)
theorem dX6_storm_15 : decode cX6_storm 15 = .ok (.lconst 0, 1) := dk_9 (dk_at dksX6_storm_0 15 rfl rfl)
theorem dX6_storm_16 : decode cX6_storm 16 = .ok (.ldc2_w 457, 3) := dk_20 1 201 (dk_at dksX6_storm_0 16 rfl rfl)
theorem dX6_storm_19 : decode cX6_storm 19 = .ok (.invokestatic 126, 3) := dk_184 0 126 (dk_at dksX6_storm_0 19 rfl rfl)
theorem dX6_storm_22 : decode cX6_storm 22 = .ok (.ifCond .eq 15, 3) := dk_153 0 15 (dk_at dksX6_storm_1 0 rfl rfl)
theorem dX6_storm_25 : decode cX6_storm 25 = .ok (.iload_n 3, 1) := dk_29 (dk_at dksX6_storm_1 3 rfl rfl)
theorem dX6_storm_26 : decode cX6_storm 26 = .ok (.i2l, 1) := dk_133 (dk_at dksX6_storm_1 4 rfl rfl)
theorem dX6_storm_27 : decode cX6_storm 27 = .ok (.lconst 0, 1) := dk_9 (dk_at dksX6_storm_1 5 rfl rfl)
theorem dX6_storm_28 : decode cX6_storm 28 = .ok (.ldc2_w 459, 3) := dk_20 1 203 (dk_at dksX6_storm_1 6 rfl rfl)
theorem dX6_storm_31 : decode cX6_storm 31 = .ok (.invokestatic 126, 3) := dk_184 0 126 (dk_at dksX6_storm_1 9 rfl rfl)
theorem dX6_storm_34 : decode cX6_storm 34 = .ok (.ifCond .ne 5, 3) := dk_154 0 5 (dk_at dksX6_storm_1 12 rfl rfl)
theorem dX6_storm_37 : decode cX6_storm 37 = .ok (.iconst (-1), 1) := dk_2 (dk_at dksX6_storm_1 15 rfl rfl)
theorem dX6_storm_38 : decode cX6_storm 38 = .ok (.ireturn, 1) := dk_172 (dk_at dksX6_storm_1 16 rfl rfl)
theorem dX6_storm_39 : decode cX6_storm 39 = .ok (.iconst 0, 1) := dk_3 (dk_at dksX6_storm_1 17 rfl rfl)
theorem dX6_storm_40 : decode cX6_storm 40 = .ok (.istore 4, 2) := dk_54 4 (dk_at dksX6_storm_1 18 rfl rfl)
theorem dX6_storm_42 : decode cX6_storm 42 = .ok (.iload 4, 2) := dk_21 4 (dk_at dksX6_storm_1 20 rfl rfl)
theorem dX6_storm_44 : decode cX6_storm 44 = .ok (.bipush 10, 2) := dk_16 10 (dk_at dksX6_storm_1 22 rfl rfl)
theorem dX6_storm_46 : decode cX6_storm 46 = .ok (.if_icmp .ge 30, 3) := dk_162 0 30 (dk_at dksX6_storm_2 0 rfl rfl)
theorem dX6_storm_49 : decode cX6_storm 49 = .ok (.aload_n 0, 1) := dk_42 (dk_at dksX6_storm_2 3 rfl rfl)
theorem dX6_storm_50 : decode cX6_storm 50 = .ok (.getfield 104, 3) := dk_180 0 104 (dk_at dksX6_storm_2 4 rfl rfl)
theorem dX6_storm_53 : decode cX6_storm 53 = .ok (.iload 4, 2) := dk_21 4 (dk_at dksX6_storm_2 7 rfl rfl)
theorem dX6_storm_55 : decode cX6_storm 55 = .ok (.iload 4, 2) := dk_21 4 (dk_at dksX6_storm_2 9 rfl rfl)
theorem dX6_storm_57 : decode cX6_storm 57 = .ok (.ifCond .ne 7, 3) := dk_154 0 7 (dk_at dksX6_storm_2 11 rfl rfl)
theorem dX6_storm_60 : decode cX6_storm 60 = .ok (.iconst 1, 1) := dk_4 (dk_at dksX6_storm_2 14 rfl rfl)
theorem dX6_storm_61 : decode cX6_storm 61 = .ok (.goto 4, 3) := dk_167 0 4 (dk_at dksX6_storm_2 15 rfl rfl)
theorem dX6_storm_64 : decode cX6_storm 64 = .ok (.iconst 0, 1) := dk_3 (dk_at dksX6_storm_2 18 rfl rfl)
theorem dX6_storm_65 : decode cX6_storm 65 = .ok (.invokestatic 154, 3) := dk_184 0 154 (dk_at dksX6_storm_2 19 rfl rfl)
theorem dX6_storm_68 : decode cX6_storm 68 = .ok (.i2l, 1) := dk_133 (dk_at dksX6_storm_2 22 rfl rfl)
theorem dX6_storm_69 : decode cX6_storm 69 = .ok (.lastore, 1) := dk_80 (dk_at dksX6_storm_2 23 rfl rfl)
theorem dX6_storm_70 : decode cX6_storm 70 = .ok (.iinc 4 1, 3) := dk_132 4 1 (dk_at dksX6_storm_3 0 rfl rfl)
theorem dX6_storm_73 : decode cX6_storm 73 = .ok (.goto (-31), 3) := dk_167 255 225 (dk_at dksX6_storm_3 3 rfl rfl)
theorem dX6_storm_76 : decode cX6_storm 76 = .ok (.lconst 1, 1) := dk_10 (dk_at dksX6_storm_3 6 rfl rfl)
theorem dX6_storm_77 : decode cX6_storm 77 = .ok (.lstore 4, 2) := dk_55 4 (dk_at dksX6_storm_3 7 rfl rfl)
theorem dX6_storm_79 : decode cX6_storm 79 = .ok (.iconst 0, 1) := dk_3 (dk_at dksX6_storm_3 9 rfl rfl)
theorem dX6_storm_80 : decode cX6_storm 80 = .ok (.istore 6, 2) := dk_54 6 (dk_at dksX6_storm_3 10 rfl rfl)
theorem dX6_storm_82 : decode cX6_storm 82 = .ok (.iload 6, 2) := dk_21 6 (dk_at dksX6_storm_3 12 rfl rfl)
theorem dX6_storm_84 : decode cX6_storm 84 = .ok (.aload_n 0, 1) := dk_42 (dk_at dksX6_storm_3 14 rfl rfl)
theorem dX6_storm_85 : decode cX6_storm 85 = .ok (.getfield 130, 3) := dk_180 0 130 (dk_at dksX6_storm_3 15 rfl rfl)
theorem dX6_storm_88 : decode cX6_storm 88 = .ok (.if_icmp .ge 137, 3) := dk_162 0 137 (dk_at dksX6_storm_3 18 rfl rfl)
theorem dX6_storm_91 : decode cX6_storm 91 = .ok (.aload_n 0, 1) := dk_42 (dk_at dksX6_storm_3 21 rfl rfl)
theorem dX6_storm_92 : decode cX6_storm 92 = .ok (.aload_n 0, 1) := dk_42 (dk_at dksX6_storm_3 22 rfl rfl)
theorem dX6_storm_93 : decode cX6_storm 93 = .ok (.getfield 41, 3) := dk_180 0 41 (dk_at dksX6_storm_4 0 rfl rfl)
theorem dX6_storm_96 : decode cX6_storm 96 = .ok (.iload 6, 2) := dk_21 6 (dk_at dksX6_storm_4 3 rfl rfl)
theorem dX6_storm_98 : decode cX6_storm 98 = .ok (.iload_n 1, 1) := dk_27 (dk_at dksX6_storm_4 5 rfl rfl)
theorem dX6_storm_99 : decode cX6_storm 99 = .ok (.invokevirtual 308, 3) := dk_182 1 52 (dk_at dksX6_storm_4 6 rfl rfl)
theorem dX6_storm_102 : decode cX6_storm 102 = .ok (.invokestatic 154, 3) := dk_184 0 154 (dk_at dksX6_storm_4 9 rfl rfl)
theorem dX6_storm_105 : decode cX6_storm 105 = .ok (.bipush 10, 2) := dk_16 10 (dk_at dksX6_storm_4 12 rfl rfl)
theorem dX6_storm_107 : decode cX6_storm 107 = .ok (.iload_n 3, 1) := dk_29 (dk_at dksX6_storm_4 14 rfl rfl)
theorem dX6_storm_108 : decode cX6_storm 108 = .ok (.isub, 1) := dk_100 (dk_at dksX6_storm_4 15 rfl rfl)
theorem dX6_storm_109 : decode cX6_storm 109 = .ok (.imul, 1) := dk_104 (dk_at dksX6_storm_4 16 rfl rfl)
theorem dX6_storm_110 : decode cX6_storm 110 = .ok (.aload_n 0, 1) := dk_42 (dk_at dksX6_storm_4 17 rfl rfl)
theorem dX6_storm_111 : decode cX6_storm 111 = .ok (.aload_n 0, 1) := dk_42 (dk_at dksX6_storm_4 18 rfl rfl)
theorem dX6_storm_112 : decode cX6_storm 112 = .ok (.getfield 41, 3) := dk_180 0 41 (dk_at dksX6_storm_4 19 rfl rfl)
theorem dX6_storm_115 : decode cX6_storm 115 = .ok (.iload 6, 2) := dk_21 6 (dk_at dksX6_storm_4 22 rfl rfl)
theorem dX6_storm_117 : decode cX6_storm 117 = .ok (.iaload, 1) := dk_46 (dk_at dksX6_storm_5 0 rfl rfl)
theorem dX6_storm_118 : decode cX6_storm 118 = .ok (.iload_n 1, 1) := dk_27 (dk_at dksX6_storm_5 1 rfl rfl)
theorem dX6_storm_119 : decode cX6_storm 119 = .ok (.aload_n 0, 1) := dk_42 (dk_at dksX6_storm_5 2 rfl rfl)
theorem dX6_storm_120 : decode cX6_storm 120 = .ok (.getfield 41, 3) := dk_180 0 41 (dk_at dksX6_storm_5 3 rfl rfl)
theorem dX6_storm_123 : decode cX6_storm 123 = .ok (.bipush 8, 2) := dk_16 8 (dk_at dksX6_storm_5 6 rfl rfl)
theorem dX6_storm_125 : decode cX6_storm 125 = .ok (.iload 6, 2) := dk_21 6 (dk_at dksX6_storm_5 8 rfl rfl)
theorem dX6_storm_127 : decode cX6_storm 127 = .ok (.iadd, 1) := dk_96 (dk_at dksX6_storm_5 10 rfl rfl)
theorem dX6_storm_128 : decode cX6_storm 128 = .ok (.iaload, 1) := dk_46 (dk_at dksX6_storm_5 11 rfl rfl)
theorem dX6_storm_129 : decode cX6_storm 129 = .ok (.iconst 0, 1) := dk_3 (dk_at dksX6_storm_5 12 rfl rfl)
theorem dX6_storm_130 : decode cX6_storm 130 = .ok (.aload_n 0, 1) := dk_42 (dk_at dksX6_storm_5 13 rfl rfl)
theorem dX6_storm_131 : decode cX6_storm 131 = .ok (.aload_n 0, 1) := dk_42 (dk_at dksX6_storm_5 14 rfl rfl)
theorem dX6_storm_132 : decode cX6_storm 132 = .ok (.getfield 41, 3) := dk_180 0 41 (dk_at dksX6_storm_5 15 rfl rfl)
theorem dX6_storm_135 : decode cX6_storm 135 = .ok (.iload 6, 2) := dk_21 6 (dk_at dksX6_storm_5 18 rfl rfl)
theorem dX6_storm_137 : decode cX6_storm 137 = .ok (.iconst 0, 1) := dk_3 (dk_at dksX6_storm_5 20 rfl rfl)
theorem dX6_storm_138 : decode cX6_storm 138 = .ok (.invokevirtual 292, 3) := dk_182 1 36 (dk_at dksX6_storm_5 21 rfl rfl)
theorem dX6_storm_141 : decode cX6_storm 141 = .ok (.invokevirtual 296, 3) := dk_182 1 40 (dk_at dksX6_storm_6 0 rfl rfl)
theorem dX6_storm_144 : decode cX6_storm 144 = .ok (.invokestatic 154, 3) := dk_184 0 154 (dk_at dksX6_storm_6 3 rfl rfl)
theorem dX6_storm_147 : decode cX6_storm 147 = .ok (.iload_n 3, 1) := dk_29 (dk_at dksX6_storm_6 6 rfl rfl)
theorem dX6_storm_148 : decode cX6_storm 148 = .ok (.imul, 1) := dk_104 (dk_at dksX6_storm_6 7 rfl rfl)
theorem dX6_storm_149 : decode cX6_storm 149 = .ok (.iadd, 1) := dk_96 (dk_at dksX6_storm_6 8 rfl rfl)
theorem dX6_storm_150 : decode cX6_storm 150 = .ok (.istore 7, 2) := dk_54 7 (dk_at dksX6_storm_6 9 rfl rfl)
theorem dX6_storm_152 : decode cX6_storm 152 = .ok (.bipush 8, 2) := dk_16 8 (dk_at dksX6_storm_6 11 rfl rfl)
theorem dX6_storm_154 : decode cX6_storm 154 = .ok (.istore 8, 2) := dk_54 8 (dk_at dksX6_storm_6 13 rfl rfl)
theorem dX6_storm_156 : decode cX6_storm 156 = .ok (.iload 8, 2) := dk_21 8 (dk_at dksX6_storm_6 15 rfl rfl)
theorem dX6_storm_158 : decode cX6_storm 158 = .ok (.ifCond .lt 53, 3) := dk_155 0 53 (dk_at dksX6_storm_6 17 rfl rfl)
theorem dX6_storm_161 : decode cX6_storm 161 = .ok (.aload_n 0, 1) := dk_42 (dk_at dksX6_storm_6 20 rfl rfl)
theorem dX6_storm_162 : decode cX6_storm 162 = .ok (.getfield 104, 3) := dk_180 0 104 (dk_at dksX6_storm_6 21 rfl rfl)
theorem dX6_storm_165 : decode cX6_storm 165 = .ok (.iload 8, 2) := dk_21 8 (dk_at dksX6_storm_7 0 rfl rfl)
theorem dX6_storm_167 : decode cX6_storm 167 = .ok (.aload_n 0, 1) := dk_42 (dk_at dksX6_storm_7 2 rfl rfl)
theorem dX6_storm_168 : decode cX6_storm 168 = .ok (.getfield 104, 3) := dk_180 0 104 (dk_at dksX6_storm_7 3 rfl rfl)
theorem dX6_storm_171 : decode cX6_storm 171 = .ok (.iload 8, 2) := dk_21 8 (dk_at dksX6_storm_7 6 rfl rfl)
theorem dX6_storm_173 : decode cX6_storm 173 = .ok (.laload, 1) := dk_47 (dk_at dksX6_storm_7 8 rfl rfl)
theorem dX6_storm_174 : decode cX6_storm 174 = .ok (.bipush 10, 2) := dk_16 10 (dk_at dksX6_storm_7 9 rfl rfl)
theorem dX6_storm_176 : decode cX6_storm 176 = .ok (.iload 7, 2) := dk_21 7 (dk_at dksX6_storm_7 11 rfl rfl)
theorem dX6_storm_178 : decode cX6_storm 178 = .ok (.isub, 1) := dk_100 (dk_at dksX6_storm_7 13 rfl rfl)
theorem dX6_storm_179 : decode cX6_storm 179 = .ok (.i2l, 1) := dk_133 (dk_at dksX6_storm_7 14 rfl rfl)
theorem dX6_storm_180 : decode cX6_storm 180 = .ok (.lmul, 1) := dk_105 (dk_at dksX6_storm_7 15 rfl rfl)
theorem dX6_storm_181 : decode cX6_storm 181 = .ok (.iload 8, 2) := dk_21 8 (dk_at dksX6_storm_7 16 rfl rfl)
theorem dX6_storm_183 : decode cX6_storm 183 = .ok (.ifCond .le 19, 3) := dk_158 0 19 (dk_at dksX6_storm_7 18 rfl rfl)
theorem dX6_storm_186 : decode cX6_storm 186 = .ok (.aload_n 0, 1) := dk_42 (dk_at dksX6_storm_7 21 rfl rfl)
theorem dX6_storm_187 : decode cX6_storm 187 = .ok (.getfield 104, 3) := dk_180 0 104 (dk_at dksX6_storm_8 0 rfl rfl)
theorem dX6_storm_190 : decode cX6_storm 190 = .ok (.iload 8, 2) := dk_21 8 (dk_at dksX6_storm_8 3 rfl rfl)
theorem dX6_storm_192 : decode cX6_storm 192 = .ok (.iconst 1, 1) := dk_4 (dk_at dksX6_storm_8 5 rfl rfl)
theorem dX6_storm_193 : decode cX6_storm 193 = .ok (.isub, 1) := dk_100 (dk_at dksX6_storm_8 6 rfl rfl)
theorem dX6_storm_194 : decode cX6_storm 194 = .ok (.laload, 1) := dk_47 (dk_at dksX6_storm_8 7 rfl rfl)
theorem dX6_storm_195 : decode cX6_storm 195 = .ok (.iload 7, 2) := dk_21 7 (dk_at dksX6_storm_8 8 rfl rfl)
theorem dX6_storm_197 : decode cX6_storm 197 = .ok (.i2l, 1) := dk_133 (dk_at dksX6_storm_8 10 rfl rfl)
theorem dX6_storm_198 : decode cX6_storm 198 = .ok (.lmul, 1) := dk_105 (dk_at dksX6_storm_8 11 rfl rfl)
theorem dX6_storm_199 : decode cX6_storm 199 = .ok (.goto 4, 3) := dk_167 0 4 (dk_at dksX6_storm_8 12 rfl rfl)
theorem dX6_storm_202 : decode cX6_storm 202 = .ok (.lconst 0, 1) := dk_9 (dk_at dksX6_storm_8 15 rfl rfl)
theorem dX6_storm_203 : decode cX6_storm 203 = .ok (.ladd, 1) := dk_97 (dk_at dksX6_storm_8 16 rfl rfl)
theorem dX6_storm_204 : decode cX6_storm 204 = .ok (.lastore, 1) := dk_80 (dk_at dksX6_storm_8 17 rfl rfl)
theorem dX6_storm_205 : decode cX6_storm 205 = .ok (.iinc 8 (-1), 3) := dk_132 8 255 (dk_at dksX6_storm_8 18 rfl rfl)
theorem dX6_storm_208 : decode cX6_storm 208 = .ok (.goto (-52), 3) := dk_167 255 204 (dk_at dksX6_storm_8 21 rfl rfl)
theorem dX6_storm_211 : decode cX6_storm 211 = .ok (.lload 4, 2) := dk_22 4 (dk_at dksX6_storm_9 0 rfl rfl)
theorem dX6_storm_213 : decode cX6_storm 213 = .ok (.ldc2_w 459, 3) := dk_20 1 203 (dk_at dksX6_storm_9 2 rfl rfl)
theorem dX6_storm_216 : decode cX6_storm 216 = .ok (.lmul, 1) := dk_105 (dk_at dksX6_storm_9 5 rfl rfl)
theorem dX6_storm_217 : decode cX6_storm 217 = .ok (.lstore 4, 2) := dk_55 4 (dk_at dksX6_storm_9 6 rfl rfl)
theorem dX6_storm_219 : decode cX6_storm 219 = .ok (.iinc 6 1, 3) := dk_132 6 1 (dk_at dksX6_storm_9 8 rfl rfl)
theorem dX6_storm_222 : decode cX6_storm 222 = .ok (.goto (-140), 3) := dk_167 255 116 (dk_at dksX6_storm_9 11 rfl rfl)
theorem dX6_storm_225 : decode cX6_storm 225 = .ok (.lconst 0, 1) := dk_9 (dk_at dksX6_storm_9 14 rfl rfl)
theorem dX6_storm_226 : decode cX6_storm 226 = .ok (.lstore 6, 2) := dk_55 6 (dk_at dksX6_storm_9 15 rfl rfl)
theorem dX6_storm_228 : decode cX6_storm 228 = .ok (.iload_n 2, 1) := dk_28 (dk_at dksX6_storm_9 17 rfl rfl)
theorem dX6_storm_229 : decode cX6_storm 229 = .ok (.istore 8, 2) := dk_54 8 (dk_at dksX6_storm_9 18 rfl rfl)
theorem dX6_storm_231 : decode cX6_storm 231 = .ok (.iload 8, 2) := dk_21 8 (dk_at dksX6_storm_9 20 rfl rfl)
theorem dX6_storm_233 : decode cX6_storm 233 = .ok (.bipush 8, 2) := dk_16 8 (dk_at dksX6_storm_9 22 rfl rfl)
theorem dX6_storm_235 : decode cX6_storm 235 = .ok (.if_icmp .gt 21, 3) := dk_163 0 21 (dk_at dksX6_storm_10 0 rfl rfl)
theorem dX6_storm_238 : decode cX6_storm 238 = .ok (.lload 6, 2) := dk_22 6 (dk_at dksX6_storm_10 3 rfl rfl)
theorem dX6_storm_240 : decode cX6_storm 240 = .ok (.aload_n 0, 1) := dk_42 (dk_at dksX6_storm_10 5 rfl rfl)
theorem dX6_storm_241 : decode cX6_storm 241 = .ok (.getfield 104, 3) := dk_180 0 104 (dk_at dksX6_storm_10 6 rfl rfl)
theorem dX6_storm_244 : decode cX6_storm 244 = .ok (.iload 8, 2) := dk_21 8 (dk_at dksX6_storm_10 9 rfl rfl)
theorem dX6_storm_246 : decode cX6_storm 246 = .ok (.laload, 1) := dk_47 (dk_at dksX6_storm_10 11 rfl rfl)
theorem dX6_storm_247 : decode cX6_storm 247 = .ok (.ladd, 1) := dk_97 (dk_at dksX6_storm_10 12 rfl rfl)
theorem dX6_storm_248 : decode cX6_storm 248 = .ok (.lstore 6, 2) := dk_55 6 (dk_at dksX6_storm_10 13 rfl rfl)
theorem dX6_storm_250 : decode cX6_storm 250 = .ok (.iinc 8 1, 3) := dk_132 8 1 (dk_at dksX6_storm_10 15 rfl rfl)
theorem dX6_storm_253 : decode cX6_storm 253 = .ok (.goto (-22), 3) := dk_167 255 234 (dk_at dksX6_storm_10 18 rfl rfl)
theorem dX6_storm_256 : decode cX6_storm 256 = .ok (.lload 6, 2) := dk_22 6 (dk_at dksX6_storm_10 21 rfl rfl)
theorem dX6_storm_258 : decode cX6_storm 258 = .ok (.lload 4, 2) := dk_22 4 (dk_at dksX6_storm_11 0 rfl rfl)
theorem dX6_storm_260 : decode cX6_storm 260 = .ok (.invokestatic 7, 3) := dk_184 0 7 (dk_at dksX6_storm_11 2 rfl rfl)
theorem dX6_storm_263 : decode cX6_storm 263 = .ok (.lstore 8, 2) := dk_55 8 (dk_at dksX6_storm_11 5 rfl rfl)
theorem dX6_storm_265 : decode cX6_storm 265 = .ok (.aload_n 0, 1) := dk_42 (dk_at dksX6_storm_11 7 rfl rfl)
theorem dX6_storm_266 : decode cX6_storm 266 = .ok (.iconst 0, 1) := dk_3 (dk_at dksX6_storm_11 8 rfl rfl)
theorem dX6_storm_267 : decode cX6_storm 267 = .ok (.putfield 15, 3) := dk_181 0 15 (dk_at dksX6_storm_11 9 rfl rfl)
theorem dX6_storm_270 : decode cX6_storm 270 = .ok (.aload_n 0, 1) := dk_42 (dk_at dksX6_storm_11 12 rfl rfl)
theorem dX6_storm_271 : decode cX6_storm 271 = .ok (.lload 6, 2) := dk_22 6 (dk_at dksX6_storm_11 13 rfl rfl)
theorem dX6_storm_273 : decode cX6_storm 273 = .ok (.lload 8, 2) := dk_22 8 (dk_at dksX6_storm_11 15 rfl rfl)
theorem dX6_storm_275 : decode cX6_storm 275 = .ok (.ldiv, 1) := dk_109 (dk_at dksX6_storm_11 17 rfl rfl)
theorem dX6_storm_276 : decode cX6_storm 276 = .ok (.invokevirtual 373, 3) := dk_182 1 117 (dk_at dksX6_storm_11 18 rfl rfl)
theorem dX6_storm_279 : decode cX6_storm 279 = .ok (.aload_n 0, 1) := dk_42 (dk_at dksX6_storm_11 21 rfl rfl)
theorem dX6_storm_280 : decode cX6_storm 280 = .ok (.lload 4, 2) := dk_22 4 (dk_at dksX6_storm_11 22 rfl rfl)
theorem dX6_storm_282 : decode cX6_storm 282 = .ok (.lload 8, 2) := dk_22 8 (dk_at dksX6_storm_12 0 rfl rfl)
theorem dX6_storm_284 : decode cX6_storm 284 = .ok (.ldiv, 1) := dk_109 (dk_at dksX6_storm_12 2 rfl rfl)
theorem dX6_storm_285 : decode cX6_storm 285 = .ok (.invokevirtual 373, 3) := dk_182 1 117 (dk_at dksX6_storm_12 3 rfl rfl)
theorem dX6_storm_288 : decode cX6_storm 288 = .ok (.iconst 0, 1) := dk_3 (dk_at dksX6_storm_12 6 rfl rfl)
theorem dX6_storm_289 : decode cX6_storm 289 = .ok (.ireturn, 1) := dk_172 (dk_at dksX6_storm_12 7 rfl rfl)
abbrev cX6_common : ByteArray := prog_12_method_6_code
def yX6_common : MethodName := ⟨RX6, "common", "(JJ)J"⟩
def dkwX6_common_0 : List UInt8 := [32, 9, 148, 154, 0, 7, 30, 167, 0, 10, 32, 30, 32, 113, 184, 0, 7, 173]
abbrev dktX6_common_0 : List UInt8 := dkwX6_common_0 ++ []
theorem dksX6_common_0 : cX6_common.data.toList.drop 0 = dktX6_common_0 := by decide +kernel
theorem dX6_common_0 : decode cX6_common 0 = .ok (.lload_n 2, 1) := dk_32 (dk_at dksX6_common_0 0 rfl rfl)
theorem dX6_common_1 : decode cX6_common 1 = .ok (.lconst 0, 1) := dk_9 (dk_at dksX6_common_0 1 rfl rfl)
theorem dX6_common_2 : decode cX6_common 2 = .ok (.lcmp, 1) := dk_148 (dk_at dksX6_common_0 2 rfl rfl)
theorem dX6_common_3 : decode cX6_common 3 = .ok (.ifCond .ne 7, 3) := dk_154 0 7 (dk_at dksX6_common_0 3 rfl rfl)
theorem dX6_common_6 : decode cX6_common 6 = .ok (.lload_n 0, 1) := dk_30 (dk_at dksX6_common_0 6 rfl rfl)
theorem dX6_common_7 : decode cX6_common 7 = .ok (.goto 10, 3) := dk_167 0 10 (dk_at dksX6_common_0 7 rfl rfl)
theorem dX6_common_10 : decode cX6_common 10 = .ok (.lload_n 2, 1) := dk_32 (dk_at dksX6_common_0 10 rfl rfl)
theorem dX6_common_11 : decode cX6_common 11 = .ok (.lload_n 0, 1) := dk_30 (dk_at dksX6_common_0 11 rfl rfl)
theorem dX6_common_12 : decode cX6_common 12 = .ok (.lload_n 2, 1) := dk_32 (dk_at dksX6_common_0 12 rfl rfl)
theorem dX6_common_13 : decode cX6_common 13 = .ok (.lrem, 1) := dk_113 (dk_at dksX6_common_0 13 rfl rfl)
theorem dX6_common_14 : decode cX6_common 14 = .ok (.invokestatic 7, 3) := dk_184 0 7 (dk_at dksX6_common_0 14 rfl rfl)
theorem dX6_common_17 : decode cX6_common 17 = .ok (.lreturn, 1) := dk_173 (dk_at dksX6_common_0 17 rfl rfl)
abbrev cX6_cock : ByteArray := prog_12_method_110_code
def yX6_cock : MethodName := ⟨RX6, "cock", "(II)I"⟩
def dkwX6_cock_6 : List UInt8 := [167, 255, 153, 42, 180, 0, 107, 16, 10, 27, 104, 46, 172]
abbrev dktX6_cock_6 : List UInt8 := dkwX6_cock_6 ++ []
def dkwX6_cock_5 : List UInt8 := [180, 0, 107, 21, 5, 46, 79, 132, 6, 255, 167, 255, 204, 132, 4, 1, 167, 255, 167, 132, 3, 1]
abbrev dktX6_cock_5 : List UInt8 := dkwX6_cock_5 ++ dktX6_cock_6
def dkwX6_cock_4 : List UInt8 := [180, 0, 107, 16, 10, 29, 21, 6, 100, 104, 21, 6, 96, 46, 154, 0, 8, 21, 6, 167, 0, 10, 42]
abbrev dktX6_cock_4 : List UInt8 := dkwX6_cock_4 ++ dktX6_cock_5
def dkwX6_cock_3 : List UInt8 := [184, 0, 145, 54, 6, 21, 6, 158, 0, 53, 42, 180, 0, 107, 21, 5, 21, 6, 21, 4, 159, 0, 26, 42]
abbrev dktX6_cock_3 : List UInt8 := dkwX6_cock_3 ++ dktX6_cock_4
def dkwX6_cock_2 : List UInt8 := [16, 10, 162, 0, 88, 16, 10, 29, 104, 21, 4, 96, 54, 5, 42, 180, 0, 107, 21, 5, 3, 79, 28, 29]
abbrev dktX6_cock_2 : List UInt8 := dkwX6_cock_2 ++ dktX6_cock_3
def dkwX6_cock_1 : List UInt8 := [20, 1, 205, 184, 0, 126, 154, 0, 5, 2, 172, 3, 62, 29, 27, 163, 0, 104, 3, 54, 4, 21, 4]
abbrev dktX6_cock_1 : List UInt8 := dkwX6_cock_1 ++ dktX6_cock_2
def dkwX6_cock_0 : List UInt8 := [42, 3, 181, 0, 3, 27, 133, 9, 20, 1, 105, 184, 0, 126, 153, 0, 17, 28, 133, 20, 1, 74]
abbrev dktX6_cock_0 : List UInt8 := dkwX6_cock_0 ++ dktX6_cock_1
theorem dksX6_cock_0 : cX6_cock.data.toList.drop 0 = dktX6_cock_0 := by decide +kernel
theorem dksX6_cock_1 : cX6_cock.data.toList.drop 22 = dktX6_cock_1 := dk_seg dksX6_cock_0 22 rfl rfl
theorem dksX6_cock_2 : cX6_cock.data.toList.drop 45 = dktX6_cock_2 := dk_seg dksX6_cock_1 23 rfl rfl
theorem dksX6_cock_3 : cX6_cock.data.toList.drop 69 = dktX6_cock_3 := dk_seg dksX6_cock_2 24 rfl rfl
theorem dksX6_cock_4 : cX6_cock.data.toList.drop 93 = dktX6_cock_4 := dk_seg dksX6_cock_3 24 rfl rfl
theorem dksX6_cock_5 : cX6_cock.data.toList.drop 116 = dktX6_cock_5 := dk_seg dksX6_cock_4 23 rfl rfl
theorem dksX6_cock_6 : cX6_cock.data.toList.drop 138 = dktX6_cock_6 := dk_seg dksX6_cock_5 22 rfl rfl
theorem dX6_cock_0 : decode cX6_cock 0 = .ok (.aload_n 0, 1) := dk_42 (dk_at dksX6_cock_0 0 rfl rfl)
theorem dX6_cock_1 : decode cX6_cock 1 = .ok (.iconst 0, 1) := dk_3 (dk_at dksX6_cock_0 1 rfl rfl)
theorem dX6_cock_2 : decode cX6_cock 2 = .ok (.putfield 3, 3) := dk_181 0 3 (dk_at dksX6_cock_0 2 rfl rfl)
theorem dX6_cock_5 : decode cX6_cock 5 = .ok (.iload_n 1, 1) := dk_27 (dk_at dksX6_cock_0 5 rfl rfl)
theorem dX6_cock_6 : decode cX6_cock 6 = .ok (.i2l, 1) := dk_133 (dk_at dksX6_cock_0 6 rfl rfl)
theorem dX6_cock_7 : decode cX6_cock 7 = .ok (.lconst 0, 1) := dk_9 (dk_at dksX6_cock_0 7 rfl rfl)
theorem dX6_cock_8 : decode cX6_cock 8 = .ok (.ldc2_w 361, 3) := dk_20 1 105 (dk_at dksX6_cock_0 8 rfl rfl)
theorem dX6_cock_11 : decode cX6_cock 11 = .ok (.invokestatic 126, 3) := dk_184 0 126 (dk_at dksX6_cock_0 11 rfl rfl)
theorem dX6_cock_14 : decode cX6_cock 14 = .ok (.ifCond .eq 17, 3) := dk_153 0 17 (dk_at dksX6_cock_0 14 rfl rfl)
theorem dX6_cock_17 : decode cX6_cock 17 = .ok (.iload_n 2, 1) := dk_28 (dk_at dksX6_cock_0 17 rfl rfl)
theorem dX6_cock_18 : decode cX6_cock 18 = .ok (.i2l, 1) := dk_133 (dk_at dksX6_cock_0 18 rfl rfl)
theorem dX6_cock_19 : decode cX6_cock 19 = .ok (.ldc2_w 330, 3) := dk_20 1 74 (dk_at dksX6_cock_0 19 rfl rfl)
theorem dX6_cock_22 : decode cX6_cock 22 = .ok (.ldc2_w 461, 3) := dk_20 1 205 (dk_at dksX6_cock_1 0 rfl rfl)
theorem dX6_cock_25 : decode cX6_cock 25 = .ok (.invokestatic 126, 3) := dk_184 0 126 (dk_at dksX6_cock_1 3 rfl rfl)
theorem dX6_cock_28 : decode cX6_cock 28 = .ok (.ifCond .ne 5, 3) := dk_154 0 5 (dk_at dksX6_cock_1 6 rfl rfl)
theorem dX6_cock_31 : decode cX6_cock 31 = .ok (.iconst (-1), 1) := dk_2 (dk_at dksX6_cock_1 9 rfl rfl)
theorem dX6_cock_32 : decode cX6_cock 32 = .ok (.ireturn, 1) := dk_172 (dk_at dksX6_cock_1 10 rfl rfl)
theorem dX6_cock_33 : decode cX6_cock 33 = .ok (.iconst 0, 1) := dk_3 (dk_at dksX6_cock_1 11 rfl rfl)
theorem dX6_cock_34 : decode cX6_cock 34 = .ok (.istore_n 3, 1) := dk_62 (dk_at dksX6_cock_1 12 rfl rfl)
theorem dX6_cock_35 : decode cX6_cock 35 = .ok (.iload_n 3, 1) := dk_29 (dk_at dksX6_cock_1 13 rfl rfl)
theorem dX6_cock_36 : decode cX6_cock 36 = .ok (.iload_n 1, 1) := dk_27 (dk_at dksX6_cock_1 14 rfl rfl)
theorem dX6_cock_37 : decode cX6_cock 37 = .ok (.if_icmp .gt 104, 3) := dk_163 0 104 (dk_at dksX6_cock_1 15 rfl rfl)
theorem dX6_cock_40 : decode cX6_cock 40 = .ok (.iconst 0, 1) := dk_3 (dk_at dksX6_cock_1 18 rfl rfl)
theorem dX6_cock_41 : decode cX6_cock 41 = .ok (.istore 4, 2) := dk_54 4 (dk_at dksX6_cock_1 19 rfl rfl)
theorem dX6_cock_43 : decode cX6_cock 43 = .ok (.iload 4, 2) := dk_21 4 (dk_at dksX6_cock_1 21 rfl rfl)
theorem dX6_cock_45 : decode cX6_cock 45 = .ok (.bipush 10, 2) := dk_16 10 (dk_at dksX6_cock_2 0 rfl rfl)
theorem dX6_cock_47 : decode cX6_cock 47 = .ok (.if_icmp .ge 88, 3) := dk_162 0 88 (dk_at dksX6_cock_2 2 rfl rfl)
theorem dX6_cock_50 : decode cX6_cock 50 = .ok (.bipush 10, 2) := dk_16 10 (dk_at dksX6_cock_2 5 rfl rfl)
theorem dX6_cock_52 : decode cX6_cock 52 = .ok (.iload_n 3, 1) := dk_29 (dk_at dksX6_cock_2 7 rfl rfl)
theorem dX6_cock_53 : decode cX6_cock 53 = .ok (.imul, 1) := dk_104 (dk_at dksX6_cock_2 8 rfl rfl)
theorem dX6_cock_54 : decode cX6_cock 54 = .ok (.iload 4, 2) := dk_21 4 (dk_at dksX6_cock_2 9 rfl rfl)
theorem dX6_cock_56 : decode cX6_cock 56 = .ok (.iadd, 1) := dk_96 (dk_at dksX6_cock_2 11 rfl rfl)
theorem dX6_cock_57 : decode cX6_cock 57 = .ok (.istore 5, 2) := dk_54 5 (dk_at dksX6_cock_2 12 rfl rfl)
theorem dX6_cock_59 : decode cX6_cock 59 = .ok (.aload_n 0, 1) := dk_42 (dk_at dksX6_cock_2 14 rfl rfl)
theorem dX6_cock_60 : decode cX6_cock 60 = .ok (.getfield 107, 3) := dk_180 0 107 (dk_at dksX6_cock_2 15 rfl rfl)
theorem dX6_cock_63 : decode cX6_cock 63 = .ok (.iload 5, 2) := dk_21 5 (dk_at dksX6_cock_2 18 rfl rfl)
theorem dX6_cock_65 : decode cX6_cock 65 = .ok (.iconst 0, 1) := dk_3 (dk_at dksX6_cock_2 20 rfl rfl)
theorem dX6_cock_66 : decode cX6_cock 66 = .ok (.iastore, 1) := dk_79 (dk_at dksX6_cock_2 21 rfl rfl)
theorem dX6_cock_67 : decode cX6_cock 67 = .ok (.iload_n 2, 1) := dk_28 (dk_at dksX6_cock_2 22 rfl rfl)
theorem dX6_cock_68 : decode cX6_cock 68 = .ok (.iload_n 3, 1) := dk_29 (dk_at dksX6_cock_2 23 rfl rfl)
theorem dX6_cock_69 : decode cX6_cock 69 = .ok (.invokestatic 145, 3) := dk_184 0 145 (dk_at dksX6_cock_3 0 rfl rfl)
theorem dX6_cock_72 : decode cX6_cock 72 = .ok (.istore 6, 2) := dk_54 6 (dk_at dksX6_cock_3 3 rfl rfl)
theorem dX6_cock_74 : decode cX6_cock 74 = .ok (.iload 6, 2) := dk_21 6 (dk_at dksX6_cock_3 5 rfl rfl)
theorem dX6_cock_76 : decode cX6_cock 76 = .ok (.ifCond .le 53, 3) := dk_158 0 53 (dk_at dksX6_cock_3 7 rfl rfl)
theorem dX6_cock_79 : decode cX6_cock 79 = .ok (.aload_n 0, 1) := dk_42 (dk_at dksX6_cock_3 10 rfl rfl)
theorem dX6_cock_80 : decode cX6_cock 80 = .ok (.getfield 107, 3) := dk_180 0 107 (dk_at dksX6_cock_3 11 rfl rfl)
theorem dX6_cock_83 : decode cX6_cock 83 = .ok (.iload 5, 2) := dk_21 5 (dk_at dksX6_cock_3 14 rfl rfl)
theorem dX6_cock_85 : decode cX6_cock 85 = .ok (.iload 6, 2) := dk_21 6 (dk_at dksX6_cock_3 16 rfl rfl)
theorem dX6_cock_87 : decode cX6_cock 87 = .ok (.iload 4, 2) := dk_21 4 (dk_at dksX6_cock_3 18 rfl rfl)
theorem dX6_cock_89 : decode cX6_cock 89 = .ok (.if_icmp .eq 26, 3) := dk_159 0 26 (dk_at dksX6_cock_3 20 rfl rfl)
theorem dX6_cock_92 : decode cX6_cock 92 = .ok (.aload_n 0, 1) := dk_42 (dk_at dksX6_cock_3 23 rfl rfl)
theorem dX6_cock_93 : decode cX6_cock 93 = .ok (.getfield 107, 3) := dk_180 0 107 (dk_at dksX6_cock_4 0 rfl rfl)
theorem dX6_cock_96 : decode cX6_cock 96 = .ok (.bipush 10, 2) := dk_16 10 (dk_at dksX6_cock_4 3 rfl rfl)
theorem dX6_cock_98 : decode cX6_cock 98 = .ok (.iload_n 3, 1) := dk_29 (dk_at dksX6_cock_4 5 rfl rfl)
theorem dX6_cock_99 : decode cX6_cock 99 = .ok (.iload 6, 2) := dk_21 6 (dk_at dksX6_cock_4 6 rfl rfl)
theorem dX6_cock_101 : decode cX6_cock 101 = .ok (.isub, 1) := dk_100 (dk_at dksX6_cock_4 8 rfl rfl)
theorem dX6_cock_102 : decode cX6_cock 102 = .ok (.imul, 1) := dk_104 (dk_at dksX6_cock_4 9 rfl rfl)
theorem dX6_cock_103 : decode cX6_cock 103 = .ok (.iload 6, 2) := dk_21 6 (dk_at dksX6_cock_4 10 rfl rfl)
theorem dX6_cock_105 : decode cX6_cock 105 = .ok (.iadd, 1) := dk_96 (dk_at dksX6_cock_4 12 rfl rfl)
theorem dX6_cock_106 : decode cX6_cock 106 = .ok (.iaload, 1) := dk_46 (dk_at dksX6_cock_4 13 rfl rfl)
theorem dX6_cock_107 : decode cX6_cock 107 = .ok (.ifCond .ne 8, 3) := dk_154 0 8 (dk_at dksX6_cock_4 14 rfl rfl)
theorem dX6_cock_110 : decode cX6_cock 110 = .ok (.iload 6, 2) := dk_21 6 (dk_at dksX6_cock_4 17 rfl rfl)
theorem dX6_cock_112 : decode cX6_cock 112 = .ok (.goto 10, 3) := dk_167 0 10 (dk_at dksX6_cock_4 19 rfl rfl)
theorem dX6_cock_115 : decode cX6_cock 115 = .ok (.aload_n 0, 1) := dk_42 (dk_at dksX6_cock_4 22 rfl rfl)
theorem dX6_cock_116 : decode cX6_cock 116 = .ok (.getfield 107, 3) := dk_180 0 107 (dk_at dksX6_cock_5 0 rfl rfl)
theorem dX6_cock_119 : decode cX6_cock 119 = .ok (.iload 5, 2) := dk_21 5 (dk_at dksX6_cock_5 3 rfl rfl)
theorem dX6_cock_121 : decode cX6_cock 121 = .ok (.iaload, 1) := dk_46 (dk_at dksX6_cock_5 5 rfl rfl)
theorem dX6_cock_122 : decode cX6_cock 122 = .ok (.iastore, 1) := dk_79 (dk_at dksX6_cock_5 6 rfl rfl)
theorem dX6_cock_123 : decode cX6_cock 123 = .ok (.iinc 6 (-1), 3) := dk_132 6 255 (dk_at dksX6_cock_5 7 rfl rfl)
theorem dX6_cock_126 : decode cX6_cock 126 = .ok (.goto (-52), 3) := dk_167 255 204 (dk_at dksX6_cock_5 10 rfl rfl)
theorem dX6_cock_129 : decode cX6_cock 129 = .ok (.iinc 4 1, 3) := dk_132 4 1 (dk_at dksX6_cock_5 13 rfl rfl)
theorem dX6_cock_132 : decode cX6_cock 132 = .ok (.goto (-89), 3) := dk_167 255 167 (dk_at dksX6_cock_5 16 rfl rfl)
theorem dX6_cock_135 : decode cX6_cock 135 = .ok (.iinc 3 1, 3) := dk_132 3 1 (dk_at dksX6_cock_5 19 rfl rfl)
theorem dX6_cock_138 : decode cX6_cock 138 = .ok (.goto (-103), 3) := dk_167 255 153 (dk_at dksX6_cock_6 0 rfl rfl)
theorem dX6_cock_141 : decode cX6_cock 141 = .ok (.aload_n 0, 1) := dk_42 (dk_at dksX6_cock_6 3 rfl rfl)
theorem dX6_cock_142 : decode cX6_cock 142 = .ok (.getfield 107, 3) := dk_180 0 107 (dk_at dksX6_cock_6 4 rfl rfl)
theorem dX6_cock_145 : decode cX6_cock 145 = .ok (.bipush 10, 2) := dk_16 10 (dk_at dksX6_cock_6 7 rfl rfl)
theorem dX6_cock_147 : decode cX6_cock 147 = .ok (.iload_n 1, 1) := dk_27 (dk_at dksX6_cock_6 9 rfl rfl)
theorem dX6_cock_148 : decode cX6_cock 148 = .ok (.imul, 1) := dk_104 (dk_at dksX6_cock_6 10 rfl rfl)
theorem dX6_cock_149 : decode cX6_cock 149 = .ok (.iaload, 1) := dk_46 (dk_at dksX6_cock_6 11 rfl rfl)
theorem dX6_cock_150 : decode cX6_cock 150 = .ok (.ireturn, 1) := dk_172 (dk_at dksX6_cock_6 12 rfl rfl)
abbrev cX6_law : ByteArray := prog_12_method_111_code
def yX6_law : MethodName := ⟨RX6, "law", "()I"⟩
def dkwX6_law_5 : List UInt8 := [182, 1, 117, 21, 4, 28, 100, 172]
abbrev dktX6_law_5 : List UInt8 := dkwX6_law_5 ++ []
def dkwX6_law_4 : List UInt8 := [42, 42, 180, 0, 110, 29, 182, 0, 254, 42, 3, 181, 0, 15, 42, 21, 4, 133, 182, 1, 117, 42, 28, 133]
abbrev dktX6_law_4 : List UInt8 := dkwX6_law_4 ++ dktX6_law_5
def dkwX6_law_3 : List UInt8 := [42, 180, 0, 59, 42, 180, 0, 227, 182, 0, 254, 42, 42, 180, 0, 41, 182, 1, 161, 184, 1, 149, 54, 4]
abbrev dktX6_law_3 : List UInt8 := dkwX6_law_3 ++ dktX6_law_4
def dkwX6_law_2 : List UInt8 := [162, 0, 23, 42, 180, 0, 110, 21, 4, 42, 180, 0, 56, 21, 4, 46, 79, 132, 4, 1, 167, 255, 230, 42]
abbrev dktX6_law_2 : List UInt8 := dkwX6_law_2 ++ dktX6_law_3
def dkwX6_law_1 : List UInt8 := [180, 0, 41, 182, 1, 161, 184, 1, 149, 61, 42, 180, 0, 248, 62, 3, 54, 4, 21, 4, 42, 180, 0, 248]
abbrev dktX6_law_1 : List UInt8 := dkwX6_law_1 ++ dktX6_law_2
def dkwX6_law_0 : List UInt8 := [42, 3, 181, 0, 3, 42, 182, 0, 251, 60, 27, 156, 0, 11, 27, 4, 96, 17, 39, 16, 100, 172, 42, 42]
abbrev dktX6_law_0 : List UInt8 := dkwX6_law_0 ++ dktX6_law_1
theorem dksX6_law_0 : cX6_law.data.toList.drop 0 = dktX6_law_0 := by decide +kernel
theorem dksX6_law_1 : cX6_law.data.toList.drop 24 = dktX6_law_1 := dk_seg dksX6_law_0 24 rfl rfl
theorem dksX6_law_2 : cX6_law.data.toList.drop 48 = dktX6_law_2 := dk_seg dksX6_law_1 24 rfl rfl
theorem dksX6_law_3 : cX6_law.data.toList.drop 72 = dktX6_law_3 := dk_seg dksX6_law_2 24 rfl rfl
theorem dksX6_law_4 : cX6_law.data.toList.drop 96 = dktX6_law_4 := dk_seg dksX6_law_3 24 rfl rfl
theorem dksX6_law_5 : cX6_law.data.toList.drop 120 = dktX6_law_5 := dk_seg dksX6_law_4 24 rfl rfl
theorem dX6_law_0 : decode cX6_law 0 = .ok (.aload_n 0, 1) := dk_42 (dk_at dksX6_law_0 0 rfl rfl)
theorem dX6_law_1 : decode cX6_law 1 = .ok (.iconst 0, 1) := dk_3 (dk_at dksX6_law_0 1 rfl rfl)
theorem dX6_law_2 : decode cX6_law 2 = .ok (.putfield 3, 3) := dk_181 0 3 (dk_at dksX6_law_0 2 rfl rfl)
theorem dX6_law_5 : decode cX6_law 5 = .ok (.aload_n 0, 1) := dk_42 (dk_at dksX6_law_0 5 rfl rfl)
theorem dX6_law_6 : decode cX6_law 6 = .ok (.invokevirtual 251, 3) := dk_182 0 251 (dk_at dksX6_law_0 6 rfl rfl)
theorem dX6_law_9 : decode cX6_law 9 = .ok (.istore_n 1, 1) := dk_60 (dk_at dksX6_law_0 9 rfl rfl)
theorem dX6_law_10 : decode cX6_law 10 = .ok (.iload_n 1, 1) := dk_27 (dk_at dksX6_law_0 10 rfl rfl)
theorem dX6_law_11 : decode cX6_law 11 = .ok (.ifCond .ge 11, 3) := dk_156 0 11 (dk_at dksX6_law_0 11 rfl rfl)
theorem dX6_law_14 : decode cX6_law 14 = .ok (.iload_n 1, 1) := dk_27 (dk_at dksX6_law_0 14 rfl rfl)
theorem dX6_law_15 : decode cX6_law 15 = .ok (.iconst 1, 1) := dk_4 (dk_at dksX6_law_0 15 rfl rfl)
theorem dX6_law_16 : decode cX6_law 16 = .ok (.iadd, 1) := dk_96 (dk_at dksX6_law_0 16 rfl rfl)
theorem dX6_law_17 : decode cX6_law 17 = .ok (.sipush 10000, 3) := dk_17 39 16 (dk_at dksX6_law_0 17 rfl rfl)
theorem dX6_law_20 : decode cX6_law 20 = .ok (.isub, 1) := dk_100 (dk_at dksX6_law_0 20 rfl rfl)
theorem dX6_law_21 : decode cX6_law 21 = .ok (.ireturn, 1) := dk_172 (dk_at dksX6_law_0 21 rfl rfl)
theorem dX6_law_22 : decode cX6_law 22 = .ok (.aload_n 0, 1) := dk_42 (dk_at dksX6_law_0 22 rfl rfl)
theorem dX6_law_23 : decode cX6_law 23 = .ok (.aload_n 0, 1) := dk_42 (dk_at dksX6_law_0 23 rfl rfl)
theorem dX6_law_24 : decode cX6_law 24 = .ok (.getfield 41, 3) := dk_180 0 41 (dk_at dksX6_law_1 0 rfl rfl)
theorem dX6_law_27 : decode cX6_law 27 = .ok (.invokevirtual 417, 3) := dk_182 1 161 (dk_at dksX6_law_1 3 rfl rfl)
theorem dX6_law_30 : decode cX6_law 30 = .ok (.invokestatic 405, 3) := dk_184 1 149 (dk_at dksX6_law_1 6 rfl rfl)
theorem dX6_law_33 : decode cX6_law 33 = .ok (.istore_n 2, 1) := dk_61 (dk_at dksX6_law_1 9 rfl rfl)
theorem dX6_law_34 : decode cX6_law 34 = .ok (.aload_n 0, 1) := dk_42 (dk_at dksX6_law_1 10 rfl rfl)
theorem dX6_law_35 : decode cX6_law 35 = .ok (.getfield 248, 3) := dk_180 0 248 (dk_at dksX6_law_1 11 rfl rfl)
theorem dX6_law_38 : decode cX6_law 38 = .ok (.istore_n 3, 1) := dk_62 (dk_at dksX6_law_1 14 rfl rfl)
theorem dX6_law_39 : decode cX6_law 39 = .ok (.iconst 0, 1) := dk_3 (dk_at dksX6_law_1 15 rfl rfl)
theorem dX6_law_40 : decode cX6_law 40 = .ok (.istore 4, 2) := dk_54 4 (dk_at dksX6_law_1 16 rfl rfl)
theorem dX6_law_42 : decode cX6_law 42 = .ok (.iload 4, 2) := dk_21 4 (dk_at dksX6_law_1 18 rfl rfl)
theorem dX6_law_44 : decode cX6_law 44 = .ok (.aload_n 0, 1) := dk_42 (dk_at dksX6_law_1 20 rfl rfl)
theorem dX6_law_45 : decode cX6_law 45 = .ok (.getfield 248, 3) := dk_180 0 248 (dk_at dksX6_law_1 21 rfl rfl)
theorem dX6_law_48 : decode cX6_law 48 = .ok (.if_icmp .ge 23, 3) := dk_162 0 23 (dk_at dksX6_law_2 0 rfl rfl)
theorem dX6_law_51 : decode cX6_law 51 = .ok (.aload_n 0, 1) := dk_42 (dk_at dksX6_law_2 3 rfl rfl)
theorem dX6_law_52 : decode cX6_law 52 = .ok (.getfield 110, 3) := dk_180 0 110 (dk_at dksX6_law_2 4 rfl rfl)
theorem dX6_law_55 : decode cX6_law 55 = .ok (.iload 4, 2) := dk_21 4 (dk_at dksX6_law_2 7 rfl rfl)
theorem dX6_law_57 : decode cX6_law 57 = .ok (.aload_n 0, 1) := dk_42 (dk_at dksX6_law_2 9 rfl rfl)
theorem dX6_law_58 : decode cX6_law 58 = .ok (.getfield 56, 3) := dk_180 0 56 (dk_at dksX6_law_2 10 rfl rfl)
theorem dX6_law_61 : decode cX6_law 61 = .ok (.iload 4, 2) := dk_21 4 (dk_at dksX6_law_2 13 rfl rfl)
theorem dX6_law_63 : decode cX6_law 63 = .ok (.iaload, 1) := dk_46 (dk_at dksX6_law_2 15 rfl rfl)
theorem dX6_law_64 : decode cX6_law 64 = .ok (.iastore, 1) := dk_79 (dk_at dksX6_law_2 16 rfl rfl)
theorem dX6_law_65 : decode cX6_law 65 = .ok (.iinc 4 1, 3) := dk_132 4 1 (dk_at dksX6_law_2 17 rfl rfl)
theorem dX6_law_68 : decode cX6_law 68 = .ok (.goto (-26), 3) := dk_167 255 230 (dk_at dksX6_law_2 20 rfl rfl)
theorem dX6_law_71 : decode cX6_law 71 = .ok (.aload_n 0, 1) := dk_42 (dk_at dksX6_law_2 23 rfl rfl)
theorem dX6_law_72 : decode cX6_law 72 = .ok (.aload_n 0, 1) := dk_42 (dk_at dksX6_law_3 0 rfl rfl)
theorem dX6_law_73 : decode cX6_law 73 = .ok (.getfield 59, 3) := dk_180 0 59 (dk_at dksX6_law_3 1 rfl rfl)
theorem dX6_law_76 : decode cX6_law 76 = .ok (.aload_n 0, 1) := dk_42 (dk_at dksX6_law_3 4 rfl rfl)
theorem dX6_law_77 : decode cX6_law 77 = .ok (.getfield 227, 3) := dk_180 0 227 (dk_at dksX6_law_3 5 rfl rfl)
theorem dX6_law_80 : decode cX6_law 80 = .ok (.invokevirtual 254, 3) := dk_182 0 254 (dk_at dksX6_law_3 8 rfl rfl)
theorem dX6_law_83 : decode cX6_law 83 = .ok (.aload_n 0, 1) := dk_42 (dk_at dksX6_law_3 11 rfl rfl)
theorem dX6_law_84 : decode cX6_law 84 = .ok (.aload_n 0, 1) := dk_42 (dk_at dksX6_law_3 12 rfl rfl)
theorem dX6_law_85 : decode cX6_law 85 = .ok (.getfield 41, 3) := dk_180 0 41 (dk_at dksX6_law_3 13 rfl rfl)
theorem dX6_law_88 : decode cX6_law 88 = .ok (.invokevirtual 417, 3) := dk_182 1 161 (dk_at dksX6_law_3 16 rfl rfl)
theorem dX6_law_91 : decode cX6_law 91 = .ok (.invokestatic 405, 3) := dk_184 1 149 (dk_at dksX6_law_3 19 rfl rfl)
theorem dX6_law_94 : decode cX6_law 94 = .ok (.istore 4, 2) := dk_54 4 (dk_at dksX6_law_3 22 rfl rfl)
theorem dX6_law_96 : decode cX6_law 96 = .ok (.aload_n 0, 1) := dk_42 (dk_at dksX6_law_4 0 rfl rfl)
theorem dX6_law_97 : decode cX6_law 97 = .ok (.aload_n 0, 1) := dk_42 (dk_at dksX6_law_4 1 rfl rfl)
theorem dX6_law_98 : decode cX6_law 98 = .ok (.getfield 110, 3) := dk_180 0 110 (dk_at dksX6_law_4 2 rfl rfl)
theorem dX6_law_101 : decode cX6_law 101 = .ok (.iload_n 3, 1) := dk_29 (dk_at dksX6_law_4 5 rfl rfl)
theorem dX6_law_102 : decode cX6_law 102 = .ok (.invokevirtual 254, 3) := dk_182 0 254 (dk_at dksX6_law_4 6 rfl rfl)
theorem dX6_law_105 : decode cX6_law 105 = .ok (.aload_n 0, 1) := dk_42 (dk_at dksX6_law_4 9 rfl rfl)
theorem dX6_law_106 : decode cX6_law 106 = .ok (.iconst 0, 1) := dk_3 (dk_at dksX6_law_4 10 rfl rfl)
theorem dX6_law_107 : decode cX6_law 107 = .ok (.putfield 15, 3) := dk_181 0 15 (dk_at dksX6_law_4 11 rfl rfl)
theorem dX6_law_110 : decode cX6_law 110 = .ok (.aload_n 0, 1) := dk_42 (dk_at dksX6_law_4 14 rfl rfl)
theorem dX6_law_111 : decode cX6_law 111 = .ok (.iload 4, 2) := dk_21 4 (dk_at dksX6_law_4 15 rfl rfl)
theorem dX6_law_113 : decode cX6_law 113 = .ok (.i2l, 1) := dk_133 (dk_at dksX6_law_4 17 rfl rfl)
theorem dX6_law_114 : decode cX6_law 114 = .ok (.invokevirtual 373, 3) := dk_182 1 117 (dk_at dksX6_law_4 18 rfl rfl)
theorem dX6_law_117 : decode cX6_law 117 = .ok (.aload_n 0, 1) := dk_42 (dk_at dksX6_law_4 21 rfl rfl)
theorem dX6_law_118 : decode cX6_law 118 = .ok (.iload_n 2, 1) := dk_28 (dk_at dksX6_law_4 22 rfl rfl)
theorem dX6_law_119 : decode cX6_law 119 = .ok (.i2l, 1) := dk_133 (dk_at dksX6_law_4 23 rfl rfl)
theorem dX6_law_120 : decode cX6_law 120 = .ok (.invokevirtual 373, 3) := dk_182 1 117 (dk_at dksX6_law_5 0 rfl rfl)
theorem dX6_law_123 : decode cX6_law 123 = .ok (.iload 4, 2) := dk_21 4 (dk_at dksX6_law_5 3 rfl rfl)
theorem dX6_law_125 : decode cX6_law 125 = .ok (.iload_n 2, 1) := dk_28 (dk_at dksX6_law_5 5 rfl rfl)
theorem dX6_law_126 : decode cX6_law 126 = .ok (.isub, 1) := dk_100 (dk_at dksX6_law_5 6 rfl rfl)
theorem dX6_law_127 : decode cX6_law 127 = .ok (.ireturn, 1) := dk_172 (dk_at dksX6_law_5 7 rfl rfl)
abbrev cX6_rests : ByteArray := prog_12_method_114_code
def yX6_rests : MethodName := ⟨RX6, "rests", "(I)I"⟩
def dkwX6_rests_4 : List UInt8 := [167, 255, 191, 28, 172]
abbrev dktX6_rests_4 : List UInt8 := dkwX6_rests_4 ++ []
def dkwX6_rests_3 : List UInt8 := [182, 1, 117, 42, 21, 4, 133, 182, 1, 117, 132, 2, 1, 132, 4, 1, 167, 255, 206, 132, 3, 1]
abbrev dktX6_rests_3 : List UInt8 := dkwX6_rests_3 ++ dktX6_rests_4
def dkwX6_rests_2 : List UInt8 := [27, 184, 1, 212, 153, 0, 33, 21, 4, 29, 27, 184, 1, 212, 153, 0, 23, 28, 154, 0, 16, 42, 29, 133]
abbrev dktX6_rests_2 : List UInt8 := dkwX6_rests_2 ++ dktX6_rests_3
def dkwX6_rests_1 : List UInt8 := [181, 0, 15, 3, 62, 29, 16, 9, 163, 0, 65, 3, 54, 4, 21, 4, 16, 9, 163, 0, 49, 29, 21, 4]
abbrev dktX6_rests_1 : List UInt8 := dkwX6_rests_1 ++ dktX6_rests_2
def dkwX6_rests_0 : List UInt8 := [42, 3, 181, 0, 3, 27, 133, 9, 20, 1, 210, 184, 0, 126, 154, 0, 5, 2, 172, 3, 61, 42, 3]
abbrev dktX6_rests_0 : List UInt8 := dkwX6_rests_0 ++ dktX6_rests_1
theorem dksX6_rests_0 : cX6_rests.data.toList.drop 0 = dktX6_rests_0 := by decide +kernel
theorem dksX6_rests_1 : cX6_rests.data.toList.drop 23 = dktX6_rests_1 := dk_seg dksX6_rests_0 23 rfl rfl
theorem dksX6_rests_2 : cX6_rests.data.toList.drop 47 = dktX6_rests_2 := dk_seg dksX6_rests_1 24 rfl rfl
theorem dksX6_rests_3 : cX6_rests.data.toList.drop 71 = dktX6_rests_3 := dk_seg dksX6_rests_2 24 rfl rfl
theorem dksX6_rests_4 : cX6_rests.data.toList.drop 93 = dktX6_rests_4 := dk_seg dksX6_rests_3 22 rfl rfl
theorem dX6_rests_0 : decode cX6_rests 0 = .ok (.aload_n 0, 1) := dk_42 (dk_at dksX6_rests_0 0 rfl rfl)
theorem dX6_rests_1 : decode cX6_rests 1 = .ok (.iconst 0, 1) := dk_3 (dk_at dksX6_rests_0 1 rfl rfl)
theorem dX6_rests_2 : decode cX6_rests 2 = .ok (.putfield 3, 3) := dk_181 0 3 (dk_at dksX6_rests_0 2 rfl rfl)
theorem dX6_rests_5 : decode cX6_rests 5 = .ok (.iload_n 1, 1) := dk_27 (dk_at dksX6_rests_0 5 rfl rfl)
theorem dX6_rests_6 : decode cX6_rests 6 = .ok (.i2l, 1) := dk_133 (dk_at dksX6_rests_0 6 rfl rfl)
theorem dX6_rests_7 : decode cX6_rests 7 = .ok (.lconst 0, 1) := dk_9 (dk_at dksX6_rests_0 7 rfl rfl)
theorem dX6_rests_8 : decode cX6_rests 8 = .ok (.ldc2_w 466, 3) := dk_20 1 210 (dk_at dksX6_rests_0 8 rfl rfl)
theorem dX6_rests_11 : decode cX6_rests 11 = .ok (.invokestatic 126, 3) := dk_184 0 126 (dk_at dksX6_rests_0 11 rfl rfl)
theorem dX6_rests_14 : decode cX6_rests 14 = .ok (.ifCond .ne 5, 3) := dk_154 0 5 (dk_at dksX6_rests_0 14 rfl rfl)
theorem dX6_rests_17 : decode cX6_rests 17 = .ok (.iconst (-1), 1) := dk_2 (dk_at dksX6_rests_0 17 rfl rfl)
theorem dX6_rests_18 : decode cX6_rests 18 = .ok (.ireturn, 1) := dk_172 (dk_at dksX6_rests_0 18 rfl rfl)
theorem dX6_rests_19 : decode cX6_rests 19 = .ok (.iconst 0, 1) := dk_3 (dk_at dksX6_rests_0 19 rfl rfl)
theorem dX6_rests_20 : decode cX6_rests 20 = .ok (.istore_n 2, 1) := dk_61 (dk_at dksX6_rests_0 20 rfl rfl)
theorem dX6_rests_21 : decode cX6_rests 21 = .ok (.aload_n 0, 1) := dk_42 (dk_at dksX6_rests_0 21 rfl rfl)
theorem dX6_rests_22 : decode cX6_rests 22 = .ok (.iconst 0, 1) := dk_3 (dk_at dksX6_rests_0 22 rfl rfl)
theorem dX6_rests_23 : decode cX6_rests 23 = .ok (.putfield 15, 3) := dk_181 0 15 (dk_at dksX6_rests_1 0 rfl rfl)
theorem dX6_rests_26 : decode cX6_rests 26 = .ok (.iconst 0, 1) := dk_3 (dk_at dksX6_rests_1 3 rfl rfl)
theorem dX6_rests_27 : decode cX6_rests 27 = .ok (.istore_n 3, 1) := dk_62 (dk_at dksX6_rests_1 4 rfl rfl)
theorem dX6_rests_28 : decode cX6_rests 28 = .ok (.iload_n 3, 1) := dk_29 (dk_at dksX6_rests_1 5 rfl rfl)
theorem dX6_rests_29 : decode cX6_rests 29 = .ok (.bipush 9, 2) := dk_16 9 (dk_at dksX6_rests_1 6 rfl rfl)
theorem dX6_rests_31 : decode cX6_rests 31 = .ok (.if_icmp .gt 65, 3) := dk_163 0 65 (dk_at dksX6_rests_1 8 rfl rfl)
theorem dX6_rests_34 : decode cX6_rests 34 = .ok (.iconst 0, 1) := dk_3 (dk_at dksX6_rests_1 11 rfl rfl)
theorem dX6_rests_35 : decode cX6_rests 35 = .ok (.istore 4, 2) := dk_54 4 (dk_at dksX6_rests_1 12 rfl rfl)
theorem dX6_rests_37 : decode cX6_rests 37 = .ok (.iload 4, 2) := dk_21 4 (dk_at dksX6_rests_1 14 rfl rfl)
theorem dX6_rests_39 : decode cX6_rests 39 = .ok (.bipush 9, 2) := dk_16 9 (dk_at dksX6_rests_1 16 rfl rfl)
theorem dX6_rests_41 : decode cX6_rests 41 = .ok (.if_icmp .gt 49, 3) := dk_163 0 49 (dk_at dksX6_rests_1 18 rfl rfl)
theorem dX6_rests_44 : decode cX6_rests 44 = .ok (.iload_n 3, 1) := dk_29 (dk_at dksX6_rests_1 21 rfl rfl)
theorem dX6_rests_45 : decode cX6_rests 45 = .ok (.iload 4, 2) := dk_21 4 (dk_at dksX6_rests_1 22 rfl rfl)
theorem dX6_rests_47 : decode cX6_rests 47 = .ok (.iload_n 1, 1) := dk_27 (dk_at dksX6_rests_2 0 rfl rfl)
theorem dX6_rests_48 : decode cX6_rests 48 = .ok (.invokestatic 468, 3) := dk_184 1 212 (dk_at dksX6_rests_2 1 rfl rfl)
theorem dX6_rests_51 : decode cX6_rests 51 = .ok (.ifCond .eq 33, 3) := dk_153 0 33 (dk_at dksX6_rests_2 4 rfl rfl)
theorem dX6_rests_54 : decode cX6_rests 54 = .ok (.iload 4, 2) := dk_21 4 (dk_at dksX6_rests_2 7 rfl rfl)
theorem dX6_rests_56 : decode cX6_rests 56 = .ok (.iload_n 3, 1) := dk_29 (dk_at dksX6_rests_2 9 rfl rfl)
theorem dX6_rests_57 : decode cX6_rests 57 = .ok (.iload_n 1, 1) := dk_27 (dk_at dksX6_rests_2 10 rfl rfl)
theorem dX6_rests_58 : decode cX6_rests 58 = .ok (.invokestatic 468, 3) := dk_184 1 212 (dk_at dksX6_rests_2 11 rfl rfl)
theorem dX6_rests_61 : decode cX6_rests 61 = .ok (.ifCond .eq 23, 3) := dk_153 0 23 (dk_at dksX6_rests_2 14 rfl rfl)
theorem dX6_rests_64 : decode cX6_rests 64 = .ok (.iload_n 2, 1) := dk_28 (dk_at dksX6_rests_2 17 rfl rfl)
theorem dX6_rests_65 : decode cX6_rests 65 = .ok (.ifCond .ne 16, 3) := dk_154 0 16 (dk_at dksX6_rests_2 18 rfl rfl)
theorem dX6_rests_68 : decode cX6_rests 68 = .ok (.aload_n 0, 1) := dk_42 (dk_at dksX6_rests_2 21 rfl rfl)
theorem dX6_rests_69 : decode cX6_rests 69 = .ok (.iload_n 3, 1) := dk_29 (dk_at dksX6_rests_2 22 rfl rfl)
theorem dX6_rests_70 : decode cX6_rests 70 = .ok (.i2l, 1) := dk_133 (dk_at dksX6_rests_2 23 rfl rfl)
theorem dX6_rests_71 : decode cX6_rests 71 = .ok (.invokevirtual 373, 3) := dk_182 1 117 (dk_at dksX6_rests_3 0 rfl rfl)
theorem dX6_rests_74 : decode cX6_rests 74 = .ok (.aload_n 0, 1) := dk_42 (dk_at dksX6_rests_3 3 rfl rfl)
theorem dX6_rests_75 : decode cX6_rests 75 = .ok (.iload 4, 2) := dk_21 4 (dk_at dksX6_rests_3 4 rfl rfl)
theorem dX6_rests_77 : decode cX6_rests 77 = .ok (.i2l, 1) := dk_133 (dk_at dksX6_rests_3 6 rfl rfl)
theorem dX6_rests_78 : decode cX6_rests 78 = .ok (.invokevirtual 373, 3) := dk_182 1 117 (dk_at dksX6_rests_3 7 rfl rfl)
theorem dX6_rests_81 : decode cX6_rests 81 = .ok (.iinc 2 1, 3) := dk_132 2 1 (dk_at dksX6_rests_3 10 rfl rfl)
theorem dX6_rests_84 : decode cX6_rests 84 = .ok (.iinc 4 1, 3) := dk_132 4 1 (dk_at dksX6_rests_3 13 rfl rfl)
theorem dX6_rests_87 : decode cX6_rests 87 = .ok (.goto (-50), 3) := dk_167 255 206 (dk_at dksX6_rests_3 16 rfl rfl)
theorem dX6_rests_90 : decode cX6_rests 90 = .ok (.iinc 3 1, 3) := dk_132 3 1 (dk_at dksX6_rests_3 19 rfl rfl)
theorem dX6_rests_93 : decode cX6_rests 93 = .ok (.goto (-65), 3) := dk_167 255 191 (dk_at dksX6_rests_4 0 rfl rfl)
theorem dX6_rests_96 : decode cX6_rests 96 = .ok (.iload_n 2, 1) := dk_28 (dk_at dksX6_rests_4 3 rfl rfl)
theorem dX6_rests_97 : decode cX6_rests 97 = .ok (.ireturn, 1) := dk_172 (dk_at dksX6_rests_4 4 rfl rfl)
abbrev cX6_isRest : ByteArray := prog_12_method_113_code
def yX6_isRest : MethodName := ⟨RX6, "isRest", "(III)Z"⟩
def dkwX6_isRest_1 : List UInt8 := [27, 28, 184, 1, 207, 163, 0, 7, 4, 167, 0, 4, 3, 62, 132, 4, 1, 167, 255, 220, 29, 172]
abbrev dktX6_isRest_1 : List UInt8 := dkwX6_isRest_1 ++ []
def dkwX6_isRest_0 : List UInt8 := [4, 62, 3, 54, 4, 21, 4, 16, 9, 163, 0, 35, 29, 153, 0, 23, 21, 4, 27, 28, 184, 1, 207, 26]
abbrev dktX6_isRest_0 : List UInt8 := dkwX6_isRest_0 ++ dktX6_isRest_1
theorem dksX6_isRest_0 : cX6_isRest.data.toList.drop 0 = dktX6_isRest_0 := by decide +kernel
theorem dksX6_isRest_1 : cX6_isRest.data.toList.drop 24 = dktX6_isRest_1 := dk_seg dksX6_isRest_0 24 rfl rfl
theorem dX6_isRest_0 : decode cX6_isRest 0 = .ok (.iconst 1, 1) := dk_4 (dk_at dksX6_isRest_0 0 rfl rfl)
theorem dX6_isRest_1 : decode cX6_isRest 1 = .ok (.istore_n 3, 1) := dk_62 (dk_at dksX6_isRest_0 1 rfl rfl)
theorem dX6_isRest_2 : decode cX6_isRest 2 = .ok (.iconst 0, 1) := dk_3 (dk_at dksX6_isRest_0 2 rfl rfl)
theorem dX6_isRest_3 : decode cX6_isRest 3 = .ok (.istore 4, 2) := dk_54 4 (dk_at dksX6_isRest_0 3 rfl rfl)
theorem dX6_isRest_5 : decode cX6_isRest 5 = .ok (.iload 4, 2) := dk_21 4 (dk_at dksX6_isRest_0 5 rfl rfl)
theorem dX6_isRest_7 : decode cX6_isRest 7 = .ok (.bipush 9, 2) := dk_16 9 (dk_at dksX6_isRest_0 7 rfl rfl)
theorem dX6_isRest_9 : decode cX6_isRest 9 = .ok (.if_icmp .gt 35, 3) := dk_163 0 35 (dk_at dksX6_isRest_0 9 rfl rfl)
theorem dX6_isRest_12 : decode cX6_isRest 12 = .ok (.iload_n 3, 1) := dk_29 (dk_at dksX6_isRest_0 12 rfl rfl)
theorem dX6_isRest_13 : decode cX6_isRest 13 = .ok (.ifCond .eq 23, 3) := dk_153 0 23 (dk_at dksX6_isRest_0 13 rfl rfl)
theorem dX6_isRest_16 : decode cX6_isRest 16 = .ok (.iload 4, 2) := dk_21 4 (dk_at dksX6_isRest_0 16 rfl rfl)
theorem dX6_isRest_18 : decode cX6_isRest 18 = .ok (.iload_n 1, 1) := dk_27 (dk_at dksX6_isRest_0 18 rfl rfl)
theorem dX6_isRest_19 : decode cX6_isRest 19 = .ok (.iload_n 2, 1) := dk_28 (dk_at dksX6_isRest_0 19 rfl rfl)
theorem dX6_isRest_20 : decode cX6_isRest 20 = .ok (.invokestatic 463, 3) := dk_184 1 207 (dk_at dksX6_isRest_0 20 rfl rfl)
theorem dX6_isRest_23 : decode cX6_isRest 23 = .ok (.iload_n 0, 1) := dk_26 (dk_at dksX6_isRest_0 23 rfl rfl)
theorem dX6_isRest_24 : decode cX6_isRest 24 = .ok (.iload_n 1, 1) := dk_27 (dk_at dksX6_isRest_1 0 rfl rfl)
theorem dX6_isRest_25 : decode cX6_isRest 25 = .ok (.iload_n 2, 1) := dk_28 (dk_at dksX6_isRest_1 1 rfl rfl)
theorem dX6_isRest_26 : decode cX6_isRest 26 = .ok (.invokestatic 463, 3) := dk_184 1 207 (dk_at dksX6_isRest_1 2 rfl rfl)
theorem dX6_isRest_29 : decode cX6_isRest 29 = .ok (.if_icmp .gt 7, 3) := dk_163 0 7 (dk_at dksX6_isRest_1 5 rfl rfl)
theorem dX6_isRest_32 : decode cX6_isRest 32 = .ok (.iconst 1, 1) := dk_4 (dk_at dksX6_isRest_1 8 rfl rfl)
theorem dX6_isRest_33 : decode cX6_isRest 33 = .ok (.goto 4, 3) := dk_167 0 4 (dk_at dksX6_isRest_1 9 rfl rfl)
theorem dX6_isRest_36 : decode cX6_isRest 36 = .ok (.iconst 0, 1) := dk_3 (dk_at dksX6_isRest_1 12 rfl rfl)
theorem dX6_isRest_37 : decode cX6_isRest 37 = .ok (.istore_n 3, 1) := dk_62 (dk_at dksX6_isRest_1 13 rfl rfl)
theorem dX6_isRest_38 : decode cX6_isRest 38 = .ok (.iinc 4 1, 3) := dk_132 4 1 (dk_at dksX6_isRest_1 14 rfl rfl)
theorem dX6_isRest_41 : decode cX6_isRest 41 = .ok (.goto (-36), 3) := dk_167 255 220 (dk_at dksX6_isRest_1 17 rfl rfl)
theorem dX6_isRest_44 : decode cX6_isRest 44 = .ok (.iload_n 3, 1) := dk_29 (dk_at dksX6_isRest_1 20 rfl rfl)
theorem dX6_isRest_45 : decode cX6_isRest 45 = .ok (.ireturn, 1) := dk_172 (dk_at dksX6_isRest_1 21 rfl rfl)
abbrev cX6_gets : ByteArray := prog_12_method_112_code
def yX6_gets : MethodName := ⟨RX6, "gets", "(III)I"⟩
def dkwX6_gets_0 : List UInt8 := [28, 26, 27, 184, 0, 145, 104, 7, 108, 26, 100, 3, 26, 7, 100, 184, 1, 17, 100, 172]
abbrev dktX6_gets_0 : List UInt8 := dkwX6_gets_0 ++ []
theorem dksX6_gets_0 : cX6_gets.data.toList.drop 0 = dktX6_gets_0 := by decide +kernel
theorem dX6_gets_0 : decode cX6_gets 0 = .ok (.iload_n 2, 1) := dk_28 (dk_at dksX6_gets_0 0 rfl rfl)
theorem dX6_gets_1 : decode cX6_gets 1 = .ok (.iload_n 0, 1) := dk_26 (dk_at dksX6_gets_0 1 rfl rfl)
theorem dX6_gets_2 : decode cX6_gets 2 = .ok (.iload_n 1, 1) := dk_27 (dk_at dksX6_gets_0 2 rfl rfl)
theorem dX6_gets_3 : decode cX6_gets 3 = .ok (.invokestatic 145, 3) := dk_184 0 145 (dk_at dksX6_gets_0 3 rfl rfl)
theorem dX6_gets_6 : decode cX6_gets 6 = .ok (.imul, 1) := dk_104 (dk_at dksX6_gets_0 6 rfl rfl)
theorem dX6_gets_7 : decode cX6_gets 7 = .ok (.iconst 4, 1) := dk_7 (dk_at dksX6_gets_0 7 rfl rfl)
theorem dX6_gets_8 : decode cX6_gets 8 = .ok (.idiv, 1) := dk_108 (dk_at dksX6_gets_0 8 rfl rfl)
theorem dX6_gets_9 : decode cX6_gets 9 = .ok (.iload_n 0, 1) := dk_26 (dk_at dksX6_gets_0 9 rfl rfl)
theorem dX6_gets_10 : decode cX6_gets 10 = .ok (.isub, 1) := dk_100 (dk_at dksX6_gets_0 10 rfl rfl)
theorem dX6_gets_11 : decode cX6_gets 11 = .ok (.iconst 0, 1) := dk_3 (dk_at dksX6_gets_0 11 rfl rfl)
theorem dX6_gets_12 : decode cX6_gets 12 = .ok (.iload_n 0, 1) := dk_26 (dk_at dksX6_gets_0 12 rfl rfl)
theorem dX6_gets_13 : decode cX6_gets 13 = .ok (.iconst 4, 1) := dk_7 (dk_at dksX6_gets_0 13 rfl rfl)
theorem dX6_gets_14 : decode cX6_gets 14 = .ok (.isub, 1) := dk_100 (dk_at dksX6_gets_0 14 rfl rfl)
theorem dX6_gets_15 : decode cX6_gets 15 = .ok (.invokestatic 273, 3) := dk_184 1 17 (dk_at dksX6_gets_0 15 rfl rfl)
theorem dX6_gets_18 : decode cX6_gets 18 = .ok (.isub, 1) := dk_100 (dk_at dksX6_gets_0 18 rfl rfl)
theorem dX6_gets_19 : decode cX6_gets 19 = .ok (.ireturn, 1) := dk_172 (dk_at dksX6_gets_0 19 rfl rfl)
abbrev cX6_years : ByteArray := prog_12_method_116_code
def yX6_years : MethodName := ⟨RX6, "years", "(II)I"⟩
def dkwX6_years_8 : List UInt8 := [180, 0, 44, 182, 1, 110, 172]
abbrev dktX6_years_8 : List UInt8 := dkwX6_years_8 ++ []
def dkwX6_years_7 : List UInt8 := [42, 180, 0, 44, 182, 1, 161, 184, 1, 149, 133, 182, 1, 117, 42, 29, 133, 182, 1, 117, 42, 42]
abbrev dktX6_years_7 : List UInt8 := dkwX6_years_7 ++ dktX6_years_8
def dkwX6_years_6 : List UInt8 := [180, 0, 44, 16, 16, 21, 4, 96, 46, 96, 62, 132, 4, 1, 167, 255, 231, 42, 3, 181, 0, 15, 42, 42]
abbrev dktX6_years_6 : List UInt8 := dkwX6_years_6 ++ dktX6_years_7
def dkwX6_years_5 : List UInt8 := [132, 3, 1, 167, 255, 164, 3, 62, 3, 54, 4, 21, 4, 42, 180, 0, 130, 162, 0, 22, 29, 42]
abbrev dktX6_years_5 : List UInt8 := dkwX6_years_5 ++ dktX6_years_6
def dkwX6_years_4 : List UInt8 := [21, 5, 21, 6, 182, 1, 121, 87, 167, 0, 16, 42, 42, 180, 0, 44, 21, 5, 21, 6, 182, 1, 127, 87]
abbrev dktX6_years_4 : List UInt8 := dkwX6_years_4 ++ dktX6_years_5
def dkwX6_years_3 : List UInt8 := [182, 1, 219, 54, 5, 42, 16, 8, 182, 1, 219, 54, 6, 21, 4, 5, 160, 0, 19, 42, 42, 180, 0, 44]
abbrev dktX6_years_3 : List UInt8 := dkwX6_years_3 ++ dktX6_years_4
def dkwX6_years_2 : List UInt8 := [42, 42, 180, 0, 44, 182, 1, 91, 167, 0, 63, 42, 180, 0, 130, 158, 0, 56, 42, 42, 180, 0, 130]
abbrev dktX6_years_2 : List UInt8 := dkwX6_years_2 ++ dktX6_years_3
def dkwX6_years_1 : List UInt8 := [42, 182, 1, 168, 3, 62, 29, 28, 162, 0, 93, 42, 7, 182, 1, 219, 54, 4, 21, 4, 5, 162, 0, 14]
abbrev dktX6_years_1 : List UInt8 := dkwX6_years_1 ++ dktX6_years_2
def dkwX6_years_0 : List UInt8 := [42, 3, 181, 0, 3, 28, 133, 10, 20, 1, 105, 184, 0, 126, 154, 0, 5, 2, 172, 42, 27, 181, 1, 215]
abbrev dktX6_years_0 : List UInt8 := dkwX6_years_0 ++ dktX6_years_1
theorem dksX6_years_0 : cX6_years.data.toList.drop 0 = dktX6_years_0 := by decide +kernel
theorem dksX6_years_1 : cX6_years.data.toList.drop 24 = dktX6_years_1 := dk_seg dksX6_years_0 24 rfl rfl
theorem dksX6_years_2 : cX6_years.data.toList.drop 48 = dktX6_years_2 := dk_seg dksX6_years_1 24 rfl rfl
theorem dksX6_years_3 : cX6_years.data.toList.drop 71 = dktX6_years_3 := dk_seg dksX6_years_2 23 rfl rfl
theorem dksX6_years_4 : cX6_years.data.toList.drop 95 = dktX6_years_4 := dk_seg dksX6_years_3 24 rfl rfl
theorem dksX6_years_5 : cX6_years.data.toList.drop 119 = dktX6_years_5 := dk_seg dksX6_years_4 24 rfl rfl
theorem dksX6_years_6 : cX6_years.data.toList.drop 141 = dktX6_years_6 := dk_seg dksX6_years_5 22 rfl rfl
theorem dksX6_years_7 : cX6_years.data.toList.drop 165 = dktX6_years_7 := dk_seg dksX6_years_6 24 rfl rfl
theorem dksX6_years_8 : cX6_years.data.toList.drop 187 = dktX6_years_8 := dk_seg dksX6_years_7 22 rfl rfl
theorem dX6_years_0 : decode cX6_years 0 = .ok (.aload_n 0, 1) := dk_42 (dk_at dksX6_years_0 0 rfl rfl)
theorem dX6_years_1 : decode cX6_years 1 = .ok (.iconst 0, 1) := dk_3 (dk_at dksX6_years_0 1 rfl rfl)
theorem dX6_years_2 : decode cX6_years 2 = .ok (.putfield 3, 3) := dk_181 0 3 (dk_at dksX6_years_0 2 rfl rfl)
theorem dX6_years_5 : decode cX6_years 5 = .ok (.iload_n 2, 1) := dk_28 (dk_at dksX6_years_0 5 rfl rfl)
theorem dX6_years_6 : decode cX6_years 6 = .ok (.i2l, 1) := dk_133 (dk_at dksX6_years_0 6 rfl rfl)
theorem dX6_years_7 : decode cX6_years 7 = .ok (.lconst 1, 1) := dk_10 (dk_at dksX6_years_0 7 rfl rfl)
theorem dX6_years_8 : decode cX6_years 8 = .ok (.ldc2_w 361, 3) := dk_20 1 105 (dk_at dksX6_years_0 8 rfl rfl)
theorem dX6_years_11 : decode cX6_years 11 = .ok (.invokestatic 126, 3) := dk_184 0 126 (dk_at dksX6_years_0 11 rfl rfl)
theorem dX6_years_14 : decode cX6_years 14 = .ok (.ifCond .ne 5, 3) := dk_154 0 5 (dk_at dksX6_years_0 14 rfl rfl)
theorem dX6_years_17 : decode cX6_years 17 = .ok (.iconst (-1), 1) := dk_2 (dk_at dksX6_years_0 17 rfl rfl)
theorem dX6_years_18 : decode cX6_years 18 = .ok (.ireturn, 1) := dk_172 (dk_at dksX6_years_0 18 rfl rfl)
theorem dX6_years_19 : decode cX6_years 19 = .ok (.aload_n 0, 1) := dk_42 (dk_at dksX6_years_0 19 rfl rfl)
theorem dX6_years_20 : decode cX6_years 20 = .ok (.iload_n 1, 1) := dk_27 (dk_at dksX6_years_0 20 rfl rfl)
theorem dX6_years_21 : decode cX6_years 21 = .ok (.putfield 471, 3) := dk_181 1 215 (dk_at dksX6_years_0 21 rfl rfl)
theorem dX6_years_24 : decode cX6_years 24 = .ok (.aload_n 0, 1) := dk_42 (dk_at dksX6_years_1 0 rfl rfl)
theorem dX6_years_25 : decode cX6_years 25 = .ok (.invokevirtual 424, 3) := dk_182 1 168 (dk_at dksX6_years_1 1 rfl rfl)
theorem dX6_years_28 : decode cX6_years 28 = .ok (.iconst 0, 1) := dk_3 (dk_at dksX6_years_1 4 rfl rfl)
theorem dX6_years_29 : decode cX6_years 29 = .ok (.istore_n 3, 1) := dk_62 (dk_at dksX6_years_1 5 rfl rfl)
theorem dX6_years_30 : decode cX6_years 30 = .ok (.iload_n 3, 1) := dk_29 (dk_at dksX6_years_1 6 rfl rfl)
theorem dX6_years_31 : decode cX6_years 31 = .ok (.iload_n 2, 1) := dk_28 (dk_at dksX6_years_1 7 rfl rfl)
theorem dX6_years_32 : decode cX6_years 32 = .ok (.if_icmp .ge 93, 3) := dk_162 0 93 (dk_at dksX6_years_1 8 rfl rfl)
theorem dX6_years_35 : decode cX6_years 35 = .ok (.aload_n 0, 1) := dk_42 (dk_at dksX6_years_1 11 rfl rfl)
theorem dX6_years_36 : decode cX6_years 36 = .ok (.iconst 4, 1) := dk_7 (dk_at dksX6_years_1 12 rfl rfl)
theorem dX6_years_37 : decode cX6_years 37 = .ok (.invokevirtual 475, 3) := dk_182 1 219 (dk_at dksX6_years_1 13 rfl rfl)
theorem dX6_years_40 : decode cX6_years 40 = .ok (.istore 4, 2) := dk_54 4 (dk_at dksX6_years_1 16 rfl rfl)
theorem dX6_years_42 : decode cX6_years 42 = .ok (.iload 4, 2) := dk_21 4 (dk_at dksX6_years_1 18 rfl rfl)
theorem dX6_years_44 : decode cX6_years 44 = .ok (.iconst 2, 1) := dk_5 (dk_at dksX6_years_1 20 rfl rfl)
theorem dX6_years_45 : decode cX6_years 45 = .ok (.if_icmp .ge 14, 3) := dk_162 0 14 (dk_at dksX6_years_1 21 rfl rfl)
theorem dX6_years_48 : decode cX6_years 48 = .ok (.aload_n 0, 1) := dk_42 (dk_at dksX6_years_2 0 rfl rfl)
theorem dX6_years_49 : decode cX6_years 49 = .ok (.aload_n 0, 1) := dk_42 (dk_at dksX6_years_2 1 rfl rfl)
theorem dX6_years_50 : decode cX6_years 50 = .ok (.getfield 44, 3) := dk_180 0 44 (dk_at dksX6_years_2 2 rfl rfl)
theorem dX6_years_53 : decode cX6_years 53 = .ok (.invokevirtual 347, 3) := dk_182 1 91 (dk_at dksX6_years_2 5 rfl rfl)
theorem dX6_years_56 : decode cX6_years 56 = .ok (.goto 63, 3) := dk_167 0 63 (dk_at dksX6_years_2 8 rfl rfl)
theorem dX6_years_59 : decode cX6_years 59 = .ok (.aload_n 0, 1) := dk_42 (dk_at dksX6_years_2 11 rfl rfl)
theorem dX6_years_60 : decode cX6_years 60 = .ok (.getfield 130, 3) := dk_180 0 130 (dk_at dksX6_years_2 12 rfl rfl)
theorem dX6_years_63 : decode cX6_years 63 = .ok (.ifCond .le 56, 3) := dk_158 0 56 (dk_at dksX6_years_2 15 rfl rfl)
theorem dX6_years_66 : decode cX6_years 66 = .ok (.aload_n 0, 1) := dk_42 (dk_at dksX6_years_2 18 rfl rfl)
theorem dX6_years_67 : decode cX6_years 67 = .ok (.aload_n 0, 1) := dk_42 (dk_at dksX6_years_2 19 rfl rfl)
theorem dX6_years_68 : decode cX6_years 68 = .ok (.getfield 130, 3) := dk_180 0 130 (dk_at dksX6_years_2 20 rfl rfl)
theorem dX6_years_71 : decode cX6_years 71 = .ok (.invokevirtual 475, 3) := dk_182 1 219 (dk_at dksX6_years_3 0 rfl rfl)
theorem dX6_years_74 : decode cX6_years 74 = .ok (.istore 5, 2) := dk_54 5 (dk_at dksX6_years_3 3 rfl rfl)
theorem dX6_years_76 : decode cX6_years 76 = .ok (.aload_n 0, 1) := dk_42 (dk_at dksX6_years_3 5 rfl rfl)
theorem dX6_years_77 : decode cX6_years 77 = .ok (.bipush 8, 2) := dk_16 8 (dk_at dksX6_years_3 6 rfl rfl)
theorem dX6_years_79 : decode cX6_years 79 = .ok (.invokevirtual 475, 3) := dk_182 1 219 (dk_at dksX6_years_3 8 rfl rfl)
theorem dX6_years_82 : decode cX6_years 82 = .ok (.istore 6, 2) := dk_54 6 (dk_at dksX6_years_3 11 rfl rfl)
theorem dX6_years_84 : decode cX6_years 84 = .ok (.iload 4, 2) := dk_21 4 (dk_at dksX6_years_3 13 rfl rfl)
theorem dX6_years_86 : decode cX6_years 86 = .ok (.iconst 2, 1) := dk_5 (dk_at dksX6_years_3 15 rfl rfl)
theorem dX6_years_87 : decode cX6_years 87 = .ok (.if_icmp .ne 19, 3) := dk_160 0 19 (dk_at dksX6_years_3 16 rfl rfl)
theorem dX6_years_90 : decode cX6_years 90 = .ok (.aload_n 0, 1) := dk_42 (dk_at dksX6_years_3 19 rfl rfl)
theorem dX6_years_91 : decode cX6_years 91 = .ok (.aload_n 0, 1) := dk_42 (dk_at dksX6_years_3 20 rfl rfl)
theorem dX6_years_92 : decode cX6_years 92 = .ok (.getfield 44, 3) := dk_180 0 44 (dk_at dksX6_years_3 21 rfl rfl)
theorem dX6_years_95 : decode cX6_years 95 = .ok (.iload 5, 2) := dk_21 5 (dk_at dksX6_years_4 0 rfl rfl)
theorem dX6_years_97 : decode cX6_years 97 = .ok (.iload 6, 2) := dk_21 6 (dk_at dksX6_years_4 2 rfl rfl)
theorem dX6_years_99 : decode cX6_years 99 = .ok (.invokevirtual 377, 3) := dk_182 1 121 (dk_at dksX6_years_4 4 rfl rfl)
theorem dX6_years_102 : decode cX6_years 102 = .ok (.pop, 1) := dk_87 (dk_at dksX6_years_4 7 rfl rfl)
theorem dX6_years_103 : decode cX6_years 103 = .ok (.goto 16, 3) := dk_167 0 16 (dk_at dksX6_years_4 8 rfl rfl)
theorem dX6_years_106 : decode cX6_years 106 = .ok (.aload_n 0, 1) := dk_42 (dk_at dksX6_years_4 11 rfl rfl)
theorem dX6_years_107 : decode cX6_years 107 = .ok (.aload_n 0, 1) := dk_42 (dk_at dksX6_years_4 12 rfl rfl)
theorem dX6_years_108 : decode cX6_years 108 = .ok (.getfield 44, 3) := dk_180 0 44 (dk_at dksX6_years_4 13 rfl rfl)
theorem dX6_years_111 : decode cX6_years 111 = .ok (.iload 5, 2) := dk_21 5 (dk_at dksX6_years_4 16 rfl rfl)
theorem dX6_years_113 : decode cX6_years 113 = .ok (.iload 6, 2) := dk_21 6 (dk_at dksX6_years_4 18 rfl rfl)
theorem dX6_years_115 : decode cX6_years 115 = .ok (.invokevirtual 383, 3) := dk_182 1 127 (dk_at dksX6_years_4 20 rfl rfl)
theorem dX6_years_118 : decode cX6_years 118 = .ok (.pop, 1) := dk_87 (dk_at dksX6_years_4 23 rfl rfl)
theorem dX6_years_119 : decode cX6_years 119 = .ok (.iinc 3 1, 3) := dk_132 3 1 (dk_at dksX6_years_5 0 rfl rfl)
theorem dX6_years_122 : decode cX6_years 122 = .ok (.goto (-92), 3) := dk_167 255 164 (dk_at dksX6_years_5 3 rfl rfl)
theorem dX6_years_125 : decode cX6_years 125 = .ok (.iconst 0, 1) := dk_3 (dk_at dksX6_years_5 6 rfl rfl)
theorem dX6_years_126 : decode cX6_years 126 = .ok (.istore_n 3, 1) := dk_62 (dk_at dksX6_years_5 7 rfl rfl)
theorem dX6_years_127 : decode cX6_years 127 = .ok (.iconst 0, 1) := dk_3 (dk_at dksX6_years_5 8 rfl rfl)
theorem dX6_years_128 : decode cX6_years 128 = .ok (.istore 4, 2) := dk_54 4 (dk_at dksX6_years_5 9 rfl rfl)
theorem dX6_years_130 : decode cX6_years 130 = .ok (.iload 4, 2) := dk_21 4 (dk_at dksX6_years_5 11 rfl rfl)
theorem dX6_years_132 : decode cX6_years 132 = .ok (.aload_n 0, 1) := dk_42 (dk_at dksX6_years_5 13 rfl rfl)
theorem dX6_years_133 : decode cX6_years 133 = .ok (.getfield 130, 3) := dk_180 0 130 (dk_at dksX6_years_5 14 rfl rfl)
theorem dX6_years_136 : decode cX6_years 136 = .ok (.if_icmp .ge 22, 3) := dk_162 0 22 (dk_at dksX6_years_5 17 rfl rfl)
theorem dX6_years_139 : decode cX6_years 139 = .ok (.iload_n 3, 1) := dk_29 (dk_at dksX6_years_5 20 rfl rfl)
theorem dX6_years_140 : decode cX6_years 140 = .ok (.aload_n 0, 1) := dk_42 (dk_at dksX6_years_5 21 rfl rfl)
theorem dX6_years_141 : decode cX6_years 141 = .ok (.getfield 44, 3) := dk_180 0 44 (dk_at dksX6_years_6 0 rfl rfl)
theorem dX6_years_144 : decode cX6_years 144 = .ok (.bipush 16, 2) := dk_16 16 (dk_at dksX6_years_6 3 rfl rfl)
theorem dX6_years_146 : decode cX6_years 146 = .ok (.iload 4, 2) := dk_21 4 (dk_at dksX6_years_6 5 rfl rfl)
theorem dX6_years_148 : decode cX6_years 148 = .ok (.iadd, 1) := dk_96 (dk_at dksX6_years_6 7 rfl rfl)
theorem dX6_years_149 : decode cX6_years 149 = .ok (.iaload, 1) := dk_46 (dk_at dksX6_years_6 8 rfl rfl)
theorem dX6_years_150 : decode cX6_years 150 = .ok (.iadd, 1) := dk_96 (dk_at dksX6_years_6 9 rfl rfl)
theorem dX6_years_151 : decode cX6_years 151 = .ok (.istore_n 3, 1) := dk_62 (dk_at dksX6_years_6 10 rfl rfl)
theorem dX6_years_152 : decode cX6_years 152 = .ok (.iinc 4 1, 3) := dk_132 4 1 (dk_at dksX6_years_6 11 rfl rfl)
theorem dX6_years_155 : decode cX6_years 155 = .ok (.goto (-25), 3) := dk_167 255 231 (dk_at dksX6_years_6 14 rfl rfl)
theorem dX6_years_158 : decode cX6_years 158 = .ok (.aload_n 0, 1) := dk_42 (dk_at dksX6_years_6 17 rfl rfl)
theorem dX6_years_159 : decode cX6_years 159 = .ok (.iconst 0, 1) := dk_3 (dk_at dksX6_years_6 18 rfl rfl)
theorem dX6_years_160 : decode cX6_years 160 = .ok (.putfield 15, 3) := dk_181 0 15 (dk_at dksX6_years_6 19 rfl rfl)
theorem dX6_years_163 : decode cX6_years 163 = .ok (.aload_n 0, 1) := dk_42 (dk_at dksX6_years_6 22 rfl rfl)
theorem dX6_years_164 : decode cX6_years 164 = .ok (.aload_n 0, 1) := dk_42 (dk_at dksX6_years_6 23 rfl rfl)
theorem dX6_years_165 : decode cX6_years 165 = .ok (.aload_n 0, 1) := dk_42 (dk_at dksX6_years_7 0 rfl rfl)
theorem dX6_years_166 : decode cX6_years 166 = .ok (.getfield 44, 3) := dk_180 0 44 (dk_at dksX6_years_7 1 rfl rfl)
theorem dX6_years_169 : decode cX6_years 169 = .ok (.invokevirtual 417, 3) := dk_182 1 161 (dk_at dksX6_years_7 4 rfl rfl)
theorem dX6_years_172 : decode cX6_years 172 = .ok (.invokestatic 405, 3) := dk_184 1 149 (dk_at dksX6_years_7 7 rfl rfl)
theorem dX6_years_175 : decode cX6_years 175 = .ok (.i2l, 1) := dk_133 (dk_at dksX6_years_7 10 rfl rfl)
theorem dX6_years_176 : decode cX6_years 176 = .ok (.invokevirtual 373, 3) := dk_182 1 117 (dk_at dksX6_years_7 11 rfl rfl)
theorem dX6_years_179 : decode cX6_years 179 = .ok (.aload_n 0, 1) := dk_42 (dk_at dksX6_years_7 14 rfl rfl)
theorem dX6_years_180 : decode cX6_years 180 = .ok (.iload_n 3, 1) := dk_29 (dk_at dksX6_years_7 15 rfl rfl)
theorem dX6_years_181 : decode cX6_years 181 = .ok (.i2l, 1) := dk_133 (dk_at dksX6_years_7 16 rfl rfl)
theorem dX6_years_182 : decode cX6_years 182 = .ok (.invokevirtual 373, 3) := dk_182 1 117 (dk_at dksX6_years_7 17 rfl rfl)
theorem dX6_years_185 : decode cX6_years 185 = .ok (.aload_n 0, 1) := dk_42 (dk_at dksX6_years_7 20 rfl rfl)
theorem dX6_years_186 : decode cX6_years 186 = .ok (.aload_n 0, 1) := dk_42 (dk_at dksX6_years_7 21 rfl rfl)
theorem dX6_years_187 : decode cX6_years 187 = .ok (.getfield 44, 3) := dk_180 0 44 (dk_at dksX6_years_8 0 rfl rfl)
theorem dX6_years_190 : decode cX6_years 190 = .ok (.invokevirtual 366, 3) := dk_182 1 110 (dk_at dksX6_years_8 3 rfl rfl)
theorem dX6_years_193 : decode cX6_years 193 = .ok (.ireturn, 1) := dk_172 (dk_at dksX6_years_8 6 rfl rfl)
abbrev cX6_draws : ByteArray := prog_12_method_115_code
def yX6_draws : MethodName := ⟨RX6, "draws", "(I)I"⟩
def dkwX6_draws_1 : List UInt8 := [112, 172]
abbrev dktX6_draws_1 : List UInt8 := dkwX6_draws_1 ++ []
def dkwX6_draws_0 : List UInt8 := [42, 42, 180, 1, 215, 19, 1, 218, 104, 17, 48, 57, 96, 181, 1, 215, 42, 180, 1, 215, 16, 16, 124, 27]
abbrev dktX6_draws_0 : List UInt8 := dkwX6_draws_0 ++ dktX6_draws_1
theorem dksX6_draws_0 : cX6_draws.data.toList.drop 0 = dktX6_draws_0 := by decide +kernel
theorem dksX6_draws_1 : cX6_draws.data.toList.drop 24 = dktX6_draws_1 := dk_seg dksX6_draws_0 24 rfl rfl
theorem dX6_draws_0 : decode cX6_draws 0 = .ok (.aload_n 0, 1) := dk_42 (dk_at dksX6_draws_0 0 rfl rfl)
theorem dX6_draws_1 : decode cX6_draws 1 = .ok (.aload_n 0, 1) := dk_42 (dk_at dksX6_draws_0 1 rfl rfl)
theorem dX6_draws_2 : decode cX6_draws 2 = .ok (.getfield 471, 3) := dk_180 1 215 (dk_at dksX6_draws_0 2 rfl rfl)
theorem dX6_draws_5 : decode cX6_draws 5 = .ok (.ldc_w 474, 3) := dk_19 1 218 (dk_at dksX6_draws_0 5 rfl rfl)
theorem dX6_draws_8 : decode cX6_draws 8 = .ok (.imul, 1) := dk_104 (dk_at dksX6_draws_0 8 rfl rfl)
theorem dX6_draws_9 : decode cX6_draws 9 = .ok (.sipush 12345, 3) := dk_17 48 57 (dk_at dksX6_draws_0 9 rfl rfl)
theorem dX6_draws_12 : decode cX6_draws 12 = .ok (.iadd, 1) := dk_96 (dk_at dksX6_draws_0 12 rfl rfl)
theorem dX6_draws_13 : decode cX6_draws 13 = .ok (.putfield 471, 3) := dk_181 1 215 (dk_at dksX6_draws_0 13 rfl rfl)
theorem dX6_draws_16 : decode cX6_draws 16 = .ok (.aload_n 0, 1) := dk_42 (dk_at dksX6_draws_0 16 rfl rfl)
theorem dX6_draws_17 : decode cX6_draws 17 = .ok (.getfield 471, 3) := dk_180 1 215 (dk_at dksX6_draws_0 17 rfl rfl)
theorem dX6_draws_20 : decode cX6_draws 20 = .ok (.bipush 16, 2) := dk_16 16 (dk_at dksX6_draws_0 20 rfl rfl)
theorem dX6_draws_22 : decode cX6_draws 22 = .ok (.iushr, 1) := dk_124 (dk_at dksX6_draws_0 22 rfl rfl)
theorem dX6_draws_23 : decode cX6_draws 23 = .ok (.iload_n 1, 1) := dk_27 (dk_at dksX6_draws_0 23 rfl rfl)
theorem dX6_draws_24 : decode cX6_draws 24 = .ok (.irem, 1) := dk_112 (dk_at dksX6_draws_1 0 rfl rfl)
theorem dX6_draws_25 : decode cX6_draws 25 = .ok (.ireturn, 1) := dk_172 (dk_at dksX6_draws_1 1 rfl rfl)
abbrev cX6_keep : ByteArray := prog_12_method_117_code
def yX6_keep : MethodName := ⟨RX6, "keep", "(I)Z"⟩
def dkwX6_keep_2 : List UInt8 := [16, 41, 27, 104, 28, 96, 42, 180, 0, 41, 28, 46, 79, 132, 2, 1, 167, 255, 230, 4, 172]
abbrev dktX6_keep_2 : List UInt8 := dkwX6_keep_2 ++ []
def dkwX6_keep_1 : List UInt8 := [4, 84, 42, 180, 0, 116, 27, 42, 180, 0, 191, 79, 3, 61, 28, 16, 41, 162, 0, 26, 42, 180, 0, 119]
abbrev dktX6_keep_1 : List UInt8 := dkwX6_keep_1 ++ dktX6_keep_2
def dkwX6_keep_0 : List UInt8 := [42, 3, 181, 0, 3, 27, 133, 9, 20, 1, 74, 184, 0, 126, 154, 0, 5, 3, 172, 42, 180, 0, 113, 27]
abbrev dktX6_keep_0 : List UInt8 := dkwX6_keep_0 ++ dktX6_keep_1
theorem dksX6_keep_0 : cX6_keep.data.toList.drop 0 = dktX6_keep_0 := by decide +kernel
theorem dksX6_keep_1 : cX6_keep.data.toList.drop 24 = dktX6_keep_1 := dk_seg dksX6_keep_0 24 rfl rfl
theorem dksX6_keep_2 : cX6_keep.data.toList.drop 48 = dktX6_keep_2 := dk_seg dksX6_keep_1 24 rfl rfl
theorem dX6_keep_0 : decode cX6_keep 0 = .ok (.aload_n 0, 1) := dk_42 (dk_at dksX6_keep_0 0 rfl rfl)
theorem dX6_keep_1 : decode cX6_keep 1 = .ok (.iconst 0, 1) := dk_3 (dk_at dksX6_keep_0 1 rfl rfl)
theorem dX6_keep_2 : decode cX6_keep 2 = .ok (.putfield 3, 3) := dk_181 0 3 (dk_at dksX6_keep_0 2 rfl rfl)
theorem dX6_keep_5 : decode cX6_keep 5 = .ok (.iload_n 1, 1) := dk_27 (dk_at dksX6_keep_0 5 rfl rfl)
theorem dX6_keep_6 : decode cX6_keep 6 = .ok (.i2l, 1) := dk_133 (dk_at dksX6_keep_0 6 rfl rfl)
theorem dX6_keep_7 : decode cX6_keep 7 = .ok (.lconst 0, 1) := dk_9 (dk_at dksX6_keep_0 7 rfl rfl)
theorem dX6_keep_8 : decode cX6_keep 8 = .ok (.ldc2_w 330, 3) := dk_20 1 74 (dk_at dksX6_keep_0 8 rfl rfl)
theorem dX6_keep_11 : decode cX6_keep 11 = .ok (.invokestatic 126, 3) := dk_184 0 126 (dk_at dksX6_keep_0 11 rfl rfl)
theorem dX6_keep_14 : decode cX6_keep 14 = .ok (.ifCond .ne 5, 3) := dk_154 0 5 (dk_at dksX6_keep_0 14 rfl rfl)
theorem dX6_keep_17 : decode cX6_keep 17 = .ok (.iconst 0, 1) := dk_3 (dk_at dksX6_keep_0 17 rfl rfl)
theorem dX6_keep_18 : decode cX6_keep 18 = .ok (.ireturn, 1) := dk_172 (dk_at dksX6_keep_0 18 rfl rfl)
theorem dX6_keep_19 : decode cX6_keep 19 = .ok (.aload_n 0, 1) := dk_42 (dk_at dksX6_keep_0 19 rfl rfl)
theorem dX6_keep_20 : decode cX6_keep 20 = .ok (.getfield 113, 3) := dk_180 0 113 (dk_at dksX6_keep_0 20 rfl rfl)
theorem dX6_keep_23 : decode cX6_keep 23 = .ok (.iload_n 1, 1) := dk_27 (dk_at dksX6_keep_0 23 rfl rfl)
theorem dX6_keep_24 : decode cX6_keep 24 = .ok (.iconst 1, 1) := dk_4 (dk_at dksX6_keep_1 0 rfl rfl)
theorem dX6_keep_25 : decode cX6_keep 25 = .ok (.bastore, 1) := dk_84 (dk_at dksX6_keep_1 1 rfl rfl)
theorem dX6_keep_26 : decode cX6_keep 26 = .ok (.aload_n 0, 1) := dk_42 (dk_at dksX6_keep_1 2 rfl rfl)
theorem dX6_keep_27 : decode cX6_keep 27 = .ok (.getfield 116, 3) := dk_180 0 116 (dk_at dksX6_keep_1 3 rfl rfl)
theorem dX6_keep_30 : decode cX6_keep 30 = .ok (.iload_n 1, 1) := dk_27 (dk_at dksX6_keep_1 6 rfl rfl)
theorem dX6_keep_31 : decode cX6_keep 31 = .ok (.aload_n 0, 1) := dk_42 (dk_at dksX6_keep_1 7 rfl rfl)
theorem dX6_keep_32 : decode cX6_keep 32 = .ok (.getfield 191, 3) := dk_180 0 191 (dk_at dksX6_keep_1 8 rfl rfl)
theorem dX6_keep_35 : decode cX6_keep 35 = .ok (.iastore, 1) := dk_79 (dk_at dksX6_keep_1 11 rfl rfl)
theorem dX6_keep_36 : decode cX6_keep 36 = .ok (.iconst 0, 1) := dk_3 (dk_at dksX6_keep_1 12 rfl rfl)
theorem dX6_keep_37 : decode cX6_keep 37 = .ok (.istore_n 2, 1) := dk_61 (dk_at dksX6_keep_1 13 rfl rfl)
theorem dX6_keep_38 : decode cX6_keep 38 = .ok (.iload_n 2, 1) := dk_28 (dk_at dksX6_keep_1 14 rfl rfl)
theorem dX6_keep_39 : decode cX6_keep 39 = .ok (.bipush 41, 2) := dk_16 41 (dk_at dksX6_keep_1 15 rfl rfl)
theorem dX6_keep_41 : decode cX6_keep 41 = .ok (.if_icmp .ge 26, 3) := dk_162 0 26 (dk_at dksX6_keep_1 17 rfl rfl)
theorem dX6_keep_44 : decode cX6_keep 44 = .ok (.aload_n 0, 1) := dk_42 (dk_at dksX6_keep_1 20 rfl rfl)
theorem dX6_keep_45 : decode cX6_keep 45 = .ok (.getfield 119, 3) := dk_180 0 119 (dk_at dksX6_keep_1 21 rfl rfl)
theorem dX6_keep_48 : decode cX6_keep 48 = .ok (.bipush 41, 2) := dk_16 41 (dk_at dksX6_keep_2 0 rfl rfl)
theorem dX6_keep_50 : decode cX6_keep 50 = .ok (.iload_n 1, 1) := dk_27 (dk_at dksX6_keep_2 2 rfl rfl)
theorem dX6_keep_51 : decode cX6_keep 51 = .ok (.imul, 1) := dk_104 (dk_at dksX6_keep_2 3 rfl rfl)
theorem dX6_keep_52 : decode cX6_keep 52 = .ok (.iload_n 2, 1) := dk_28 (dk_at dksX6_keep_2 4 rfl rfl)
theorem dX6_keep_53 : decode cX6_keep 53 = .ok (.iadd, 1) := dk_96 (dk_at dksX6_keep_2 5 rfl rfl)
theorem dX6_keep_54 : decode cX6_keep 54 = .ok (.aload_n 0, 1) := dk_42 (dk_at dksX6_keep_2 6 rfl rfl)
theorem dX6_keep_55 : decode cX6_keep 55 = .ok (.getfield 41, 3) := dk_180 0 41 (dk_at dksX6_keep_2 7 rfl rfl)
theorem dX6_keep_58 : decode cX6_keep 58 = .ok (.iload_n 2, 1) := dk_28 (dk_at dksX6_keep_2 10 rfl rfl)
theorem dX6_keep_59 : decode cX6_keep 59 = .ok (.iaload, 1) := dk_46 (dk_at dksX6_keep_2 11 rfl rfl)
theorem dX6_keep_60 : decode cX6_keep 60 = .ok (.iastore, 1) := dk_79 (dk_at dksX6_keep_2 12 rfl rfl)
theorem dX6_keep_61 : decode cX6_keep 61 = .ok (.iinc 2 1, 3) := dk_132 2 1 (dk_at dksX6_keep_2 13 rfl rfl)
theorem dX6_keep_64 : decode cX6_keep 64 = .ok (.goto (-26), 3) := dk_167 255 230 (dk_at dksX6_keep_2 16 rfl rfl)
theorem dX6_keep_67 : decode cX6_keep 67 = .ok (.iconst 1, 1) := dk_4 (dk_at dksX6_keep_2 19 rfl rfl)
theorem dX6_keep_68 : decode cX6_keep 68 = .ok (.ireturn, 1) := dk_172 (dk_at dksX6_keep_2 20 rfl rfl)
abbrev cX6_again : ByteArray := prog_12_method_118_code
def yX6_again : MethodName := ⟨RX6, "again", "(I)Z"⟩
def dkwX6_again_3 : List UInt8 := [167, 255, 230, 42, 3, 181, 0, 188, 4, 172]
abbrev dktX6_again_3 : List UInt8 := dkwX6_again_3 ++ []
def dkwX6_again_2 : List UInt8 := [162, 0, 26, 42, 180, 0, 41, 28, 42, 180, 0, 119, 16, 41, 27, 104, 28, 96, 46, 79, 132, 2, 1]
abbrev dktX6_again_2 : List UInt8 := dkwX6_again_2 ++ dktX6_again_3
def dkwX6_again_1 : List UInt8 := [153, 0, 16, 42, 180, 0, 116, 27, 46, 42, 180, 0, 191, 159, 0, 5, 3, 172, 3, 61, 28, 16, 41]
abbrev dktX6_again_1 : List UInt8 := dkwX6_again_1 ++ dktX6_again_2
def dkwX6_again_0 : List UInt8 := [42, 3, 181, 0, 3, 27, 133, 9, 20, 1, 74, 184, 0, 126, 153, 0, 25, 42, 180, 0, 113, 27, 51]
abbrev dktX6_again_0 : List UInt8 := dkwX6_again_0 ++ dktX6_again_1
theorem dksX6_again_0 : cX6_again.data.toList.drop 0 = dktX6_again_0 := by decide +kernel
theorem dksX6_again_1 : cX6_again.data.toList.drop 23 = dktX6_again_1 := dk_seg dksX6_again_0 23 rfl rfl
theorem dksX6_again_2 : cX6_again.data.toList.drop 46 = dktX6_again_2 := dk_seg dksX6_again_1 23 rfl rfl
theorem dksX6_again_3 : cX6_again.data.toList.drop 69 = dktX6_again_3 := dk_seg dksX6_again_2 23 rfl rfl
theorem dX6_again_0 : decode cX6_again 0 = .ok (.aload_n 0, 1) := dk_42 (dk_at dksX6_again_0 0 rfl rfl)
theorem dX6_again_1 : decode cX6_again 1 = .ok (.iconst 0, 1) := dk_3 (dk_at dksX6_again_0 1 rfl rfl)
theorem dX6_again_2 : decode cX6_again 2 = .ok (.putfield 3, 3) := dk_181 0 3 (dk_at dksX6_again_0 2 rfl rfl)
theorem dX6_again_5 : decode cX6_again 5 = .ok (.iload_n 1, 1) := dk_27 (dk_at dksX6_again_0 5 rfl rfl)
theorem dX6_again_6 : decode cX6_again 6 = .ok (.i2l, 1) := dk_133 (dk_at dksX6_again_0 6 rfl rfl)
theorem dX6_again_7 : decode cX6_again 7 = .ok (.lconst 0, 1) := dk_9 (dk_at dksX6_again_0 7 rfl rfl)
theorem dX6_again_8 : decode cX6_again 8 = .ok (.ldc2_w 330, 3) := dk_20 1 74 (dk_at dksX6_again_0 8 rfl rfl)
theorem dX6_again_11 : decode cX6_again 11 = .ok (.invokestatic 126, 3) := dk_184 0 126 (dk_at dksX6_again_0 11 rfl rfl)
theorem dX6_again_14 : decode cX6_again 14 = .ok (.ifCond .eq 25, 3) := dk_153 0 25 (dk_at dksX6_again_0 14 rfl rfl)
theorem dX6_again_17 : decode cX6_again 17 = .ok (.aload_n 0, 1) := dk_42 (dk_at dksX6_again_0 17 rfl rfl)
theorem dX6_again_18 : decode cX6_again 18 = .ok (.getfield 113, 3) := dk_180 0 113 (dk_at dksX6_again_0 18 rfl rfl)
theorem dX6_again_21 : decode cX6_again 21 = .ok (.iload_n 1, 1) := dk_27 (dk_at dksX6_again_0 21 rfl rfl)
theorem dX6_again_22 : decode cX6_again 22 = .ok (.baload, 1) := dk_51 (dk_at dksX6_again_0 22 rfl rfl)
theorem dX6_again_23 : decode cX6_again 23 = .ok (.ifCond .eq 16, 3) := dk_153 0 16 (dk_at dksX6_again_1 0 rfl rfl)
theorem dX6_again_26 : decode cX6_again 26 = .ok (.aload_n 0, 1) := dk_42 (dk_at dksX6_again_1 3 rfl rfl)
theorem dX6_again_27 : decode cX6_again 27 = .ok (.getfield 116, 3) := dk_180 0 116 (dk_at dksX6_again_1 4 rfl rfl)
theorem dX6_again_30 : decode cX6_again 30 = .ok (.iload_n 1, 1) := dk_27 (dk_at dksX6_again_1 7 rfl rfl)
theorem dX6_again_31 : decode cX6_again 31 = .ok (.iaload, 1) := dk_46 (dk_at dksX6_again_1 8 rfl rfl)
theorem dX6_again_32 : decode cX6_again 32 = .ok (.aload_n 0, 1) := dk_42 (dk_at dksX6_again_1 9 rfl rfl)
theorem dX6_again_33 : decode cX6_again 33 = .ok (.getfield 191, 3) := dk_180 0 191 (dk_at dksX6_again_1 10 rfl rfl)
theorem dX6_again_36 : decode cX6_again 36 = .ok (.if_icmp .eq 5, 3) := dk_159 0 5 (dk_at dksX6_again_1 13 rfl rfl)
theorem dX6_again_39 : decode cX6_again 39 = .ok (.iconst 0, 1) := dk_3 (dk_at dksX6_again_1 16 rfl rfl)
theorem dX6_again_40 : decode cX6_again 40 = .ok (.ireturn, 1) := dk_172 (dk_at dksX6_again_1 17 rfl rfl)
theorem dX6_again_41 : decode cX6_again 41 = .ok (.iconst 0, 1) := dk_3 (dk_at dksX6_again_1 18 rfl rfl)
theorem dX6_again_42 : decode cX6_again 42 = .ok (.istore_n 2, 1) := dk_61 (dk_at dksX6_again_1 19 rfl rfl)
theorem dX6_again_43 : decode cX6_again 43 = .ok (.iload_n 2, 1) := dk_28 (dk_at dksX6_again_1 20 rfl rfl)
theorem dX6_again_44 : decode cX6_again 44 = .ok (.bipush 41, 2) := dk_16 41 (dk_at dksX6_again_1 21 rfl rfl)
theorem dX6_again_46 : decode cX6_again 46 = .ok (.if_icmp .ge 26, 3) := dk_162 0 26 (dk_at dksX6_again_2 0 rfl rfl)
theorem dX6_again_49 : decode cX6_again 49 = .ok (.aload_n 0, 1) := dk_42 (dk_at dksX6_again_2 3 rfl rfl)
theorem dX6_again_50 : decode cX6_again 50 = .ok (.getfield 41, 3) := dk_180 0 41 (dk_at dksX6_again_2 4 rfl rfl)
theorem dX6_again_53 : decode cX6_again 53 = .ok (.iload_n 2, 1) := dk_28 (dk_at dksX6_again_2 7 rfl rfl)
theorem dX6_again_54 : decode cX6_again 54 = .ok (.aload_n 0, 1) := dk_42 (dk_at dksX6_again_2 8 rfl rfl)
theorem dX6_again_55 : decode cX6_again 55 = .ok (.getfield 119, 3) := dk_180 0 119 (dk_at dksX6_again_2 9 rfl rfl)
theorem dX6_again_58 : decode cX6_again 58 = .ok (.bipush 41, 2) := dk_16 41 (dk_at dksX6_again_2 12 rfl rfl)
theorem dX6_again_60 : decode cX6_again 60 = .ok (.iload_n 1, 1) := dk_27 (dk_at dksX6_again_2 14 rfl rfl)
theorem dX6_again_61 : decode cX6_again 61 = .ok (.imul, 1) := dk_104 (dk_at dksX6_again_2 15 rfl rfl)
theorem dX6_again_62 : decode cX6_again 62 = .ok (.iload_n 2, 1) := dk_28 (dk_at dksX6_again_2 16 rfl rfl)
theorem dX6_again_63 : decode cX6_again 63 = .ok (.iadd, 1) := dk_96 (dk_at dksX6_again_2 17 rfl rfl)
theorem dX6_again_64 : decode cX6_again 64 = .ok (.iaload, 1) := dk_46 (dk_at dksX6_again_2 18 rfl rfl)
theorem dX6_again_65 : decode cX6_again 65 = .ok (.iastore, 1) := dk_79 (dk_at dksX6_again_2 19 rfl rfl)
theorem dX6_again_66 : decode cX6_again 66 = .ok (.iinc 2 1, 3) := dk_132 2 1 (dk_at dksX6_again_2 20 rfl rfl)
theorem dX6_again_69 : decode cX6_again 69 = .ok (.goto (-26), 3) := dk_167 255 230 (dk_at dksX6_again_3 0 rfl rfl)
theorem dX6_again_72 : decode cX6_again 72 = .ok (.aload_n 0, 1) := dk_42 (dk_at dksX6_again_3 3 rfl rfl)
theorem dX6_again_73 : decode cX6_again 73 = .ok (.iconst 0, 1) := dk_3 (dk_at dksX6_again_3 4 rfl rfl)
theorem dX6_again_74 : decode cX6_again 74 = .ok (.putfield 188, 3) := dk_181 0 188 (dk_at dksX6_again_3 5 rfl rfl)
theorem dX6_again_77 : decode cX6_again 77 = .ok (.iconst 1, 1) := dk_4 (dk_at dksX6_again_3 8 rfl rfl)
theorem dX6_again_78 : decode cX6_again 78 = .ok (.ireturn, 1) := dk_172 (dk_at dksX6_again_3 9 rfl rfl)
abbrev cX6_count : ByteArray := prog_12_method_119_code
def yX6_count : MethodName := ⟨RX6, "count", "(I)I"⟩
def dkwX6_count_6 : List UInt8 := [16, 156, 172]
abbrev dktX6_count_6 : List UInt8 := dkwX6_count_6 ++ []
def dkwX6_count_5 : List UInt8 := [184, 1, 149, 172, 42, 180, 0, 194, 172, 42, 180, 0, 188, 172, 42, 180, 0, 15, 172, 42, 180, 0, 136, 172]
abbrev dktX6_count_5 : List UInt8 := dkwX6_count_5 ++ dktX6_count_6
def dkwX6_count_4 : List UInt8 := [172, 42, 182, 0, 122, 42, 182, 1, 157, 184, 1, 149, 100, 172, 42, 42, 180, 0, 41, 182, 1, 161]
abbrev dktX6_count_4 : List UInt8 := dkwX6_count_4 ++ dktX6_count_5
def dkwX6_count_3 : List UInt8 := [16, 40, 46, 172, 42, 42, 180, 0, 41, 16, 40, 46, 182, 1, 6, 172, 42, 42, 180, 0, 41, 182, 1, 110]
abbrev dktX6_count_3 : List UInt8 := dkwX6_count_3 ++ dktX6_count_4
def dkwX6_count_2 : List UInt8 := [42, 180, 0, 24, 172, 42, 180, 0, 27, 172, 42, 180, 0, 130, 172, 42, 180, 0, 133, 172, 42, 180, 0, 41]
abbrev dktX6_count_2 : List UInt8 := dkwX6_count_2 ++ dktX6_count_3
def dkwX6_count_1 : List UInt8 := [170, 0, 0, 0, 0, 160, 0, 0, 0, 0, 0, 0, 0, 12, 0, 0, 0, 66, 0, 0, 0, 71, 0, 0, 0, 76, 0, 0, 0, 81, 0, 0, 0, 86, 0, 0, 0, 94, 0, 0, 0, 106, 0, 0, 0, 115, 0, 0, 0, 128, 0, 0, 0, 140, 0, 0, 0, 145, 0, 0, 0, 150, 0, 0, 0, 155]
abbrev dktX6_count_1 : List UInt8 := dkwX6_count_1 ++ dktX6_count_2
def dkwX6_count_0 : List UInt8 := [42, 3, 181, 0, 3, 27]
abbrev dktX6_count_0 : List UInt8 := dkwX6_count_0 ++ dktX6_count_1
theorem dksX6_count_0 : cX6_count.data.toList.drop 0 = dktX6_count_0 := by decide +kernel
theorem dksX6_count_1 : cX6_count.data.toList.drop 6 = dktX6_count_1 := dk_seg dksX6_count_0 6 rfl rfl
theorem dksX6_count_2 : cX6_count.data.toList.drop 72 = dktX6_count_2 := dk_seg dksX6_count_1 66 rfl rfl
theorem dksX6_count_3 : cX6_count.data.toList.drop 96 = dktX6_count_3 := dk_seg dksX6_count_2 24 rfl rfl
theorem dksX6_count_4 : cX6_count.data.toList.drop 120 = dktX6_count_4 := dk_seg dksX6_count_3 24 rfl rfl
theorem dksX6_count_5 : cX6_count.data.toList.drop 142 = dktX6_count_5 := dk_seg dksX6_count_4 22 rfl rfl
theorem dksX6_count_6 : cX6_count.data.toList.drop 166 = dktX6_count_6 := dk_seg dksX6_count_5 24 rfl rfl
theorem dX6_count_0 : decode cX6_count 0 = .ok (.aload_n 0, 1) := dk_42 (dk_at dksX6_count_0 0 rfl rfl)
theorem dX6_count_1 : decode cX6_count 1 = .ok (.iconst 0, 1) := dk_3 (dk_at dksX6_count_0 1 rfl rfl)
theorem dX6_count_2 : decode cX6_count 2 = .ok (.putfield 3, 3) := dk_181 0 3 (dk_at dksX6_count_0 2 rfl rfl)
theorem dX6_count_5 : decode cX6_count 5 = .ok (.iload_n 1, 1) := dk_27 (dk_at dksX6_count_0 5 rfl rfl)
theorem dX6_count_6 : decode cX6_count 6 = .ok (.tableswitch 160 0 12 #[66, 71, 76, 81, 86, 94, 106, 115, 128, 140, 145, 150, 155], 66) := by decide +kernel
theorem dX6_count_72 : decode cX6_count 72 = .ok (.aload_n 0, 1) := dk_42 (dk_at dksX6_count_2 0 rfl rfl)
theorem dX6_count_73 : decode cX6_count 73 = .ok (.getfield 24, 3) := dk_180 0 24 (dk_at dksX6_count_2 1 rfl rfl)
theorem dX6_count_76 : decode cX6_count 76 = .ok (.ireturn, 1) := dk_172 (dk_at dksX6_count_2 4 rfl rfl)
theorem dX6_count_77 : decode cX6_count 77 = .ok (.aload_n 0, 1) := dk_42 (dk_at dksX6_count_2 5 rfl rfl)
theorem dX6_count_78 : decode cX6_count 78 = .ok (.getfield 27, 3) := dk_180 0 27 (dk_at dksX6_count_2 6 rfl rfl)
theorem dX6_count_81 : decode cX6_count 81 = .ok (.ireturn, 1) := dk_172 (dk_at dksX6_count_2 9 rfl rfl)
theorem dX6_count_82 : decode cX6_count 82 = .ok (.aload_n 0, 1) := dk_42 (dk_at dksX6_count_2 10 rfl rfl)
theorem dX6_count_83 : decode cX6_count 83 = .ok (.getfield 130, 3) := dk_180 0 130 (dk_at dksX6_count_2 11 rfl rfl)
theorem dX6_count_86 : decode cX6_count 86 = .ok (.ireturn, 1) := dk_172 (dk_at dksX6_count_2 14 rfl rfl)
theorem dX6_count_87 : decode cX6_count 87 = .ok (.aload_n 0, 1) := dk_42 (dk_at dksX6_count_2 15 rfl rfl)
theorem dX6_count_88 : decode cX6_count 88 = .ok (.getfield 133, 3) := dk_180 0 133 (dk_at dksX6_count_2 16 rfl rfl)
theorem dX6_count_91 : decode cX6_count 91 = .ok (.ireturn, 1) := dk_172 (dk_at dksX6_count_2 19 rfl rfl)
theorem dX6_count_92 : decode cX6_count 92 = .ok (.aload_n 0, 1) := dk_42 (dk_at dksX6_count_2 20 rfl rfl)
theorem dX6_count_93 : decode cX6_count 93 = .ok (.getfield 41, 3) := dk_180 0 41 (dk_at dksX6_count_2 21 rfl rfl)
theorem dX6_count_96 : decode cX6_count 96 = .ok (.bipush 40, 2) := dk_16 40 (dk_at dksX6_count_3 0 rfl rfl)
theorem dX6_count_98 : decode cX6_count 98 = .ok (.iaload, 1) := dk_46 (dk_at dksX6_count_3 2 rfl rfl)
theorem dX6_count_99 : decode cX6_count 99 = .ok (.ireturn, 1) := dk_172 (dk_at dksX6_count_3 3 rfl rfl)
theorem dX6_count_100 : decode cX6_count 100 = .ok (.aload_n 0, 1) := dk_42 (dk_at dksX6_count_3 4 rfl rfl)
theorem dX6_count_101 : decode cX6_count 101 = .ok (.aload_n 0, 1) := dk_42 (dk_at dksX6_count_3 5 rfl rfl)
theorem dX6_count_102 : decode cX6_count 102 = .ok (.getfield 41, 3) := dk_180 0 41 (dk_at dksX6_count_3 6 rfl rfl)
theorem dX6_count_105 : decode cX6_count 105 = .ok (.bipush 40, 2) := dk_16 40 (dk_at dksX6_count_3 9 rfl rfl)
theorem dX6_count_107 : decode cX6_count 107 = .ok (.iaload, 1) := dk_46 (dk_at dksX6_count_3 11 rfl rfl)
theorem dX6_count_108 : decode cX6_count 108 = .ok (.invokevirtual 262, 3) := dk_182 1 6 (dk_at dksX6_count_3 12 rfl rfl)
theorem dX6_count_111 : decode cX6_count 111 = .ok (.ireturn, 1) := dk_172 (dk_at dksX6_count_3 15 rfl rfl)
theorem dX6_count_112 : decode cX6_count 112 = .ok (.aload_n 0, 1) := dk_42 (dk_at dksX6_count_3 16 rfl rfl)
theorem dX6_count_113 : decode cX6_count 113 = .ok (.aload_n 0, 1) := dk_42 (dk_at dksX6_count_3 17 rfl rfl)
theorem dX6_count_114 : decode cX6_count 114 = .ok (.getfield 41, 3) := dk_180 0 41 (dk_at dksX6_count_3 18 rfl rfl)
theorem dX6_count_117 : decode cX6_count 117 = .ok (.invokevirtual 366, 3) := dk_182 1 110 (dk_at dksX6_count_3 21 rfl rfl)
theorem dX6_count_120 : decode cX6_count 120 = .ok (.ireturn, 1) := dk_172 (dk_at dksX6_count_4 0 rfl rfl)
theorem dX6_count_121 : decode cX6_count 121 = .ok (.aload_n 0, 1) := dk_42 (dk_at dksX6_count_4 1 rfl rfl)
theorem dX6_count_122 : decode cX6_count 122 = .ok (.invokevirtual 122, 3) := dk_182 0 122 (dk_at dksX6_count_4 2 rfl rfl)
theorem dX6_count_125 : decode cX6_count 125 = .ok (.aload_n 0, 1) := dk_42 (dk_at dksX6_count_4 5 rfl rfl)
theorem dX6_count_126 : decode cX6_count 126 = .ok (.invokevirtual 413, 3) := dk_182 1 157 (dk_at dksX6_count_4 6 rfl rfl)
theorem dX6_count_129 : decode cX6_count 129 = .ok (.invokestatic 405, 3) := dk_184 1 149 (dk_at dksX6_count_4 9 rfl rfl)
theorem dX6_count_132 : decode cX6_count 132 = .ok (.isub, 1) := dk_100 (dk_at dksX6_count_4 12 rfl rfl)
theorem dX6_count_133 : decode cX6_count 133 = .ok (.ireturn, 1) := dk_172 (dk_at dksX6_count_4 13 rfl rfl)
theorem dX6_count_134 : decode cX6_count 134 = .ok (.aload_n 0, 1) := dk_42 (dk_at dksX6_count_4 14 rfl rfl)
theorem dX6_count_135 : decode cX6_count 135 = .ok (.aload_n 0, 1) := dk_42 (dk_at dksX6_count_4 15 rfl rfl)
theorem dX6_count_136 : decode cX6_count 136 = .ok (.getfield 41, 3) := dk_180 0 41 (dk_at dksX6_count_4 16 rfl rfl)
theorem dX6_count_139 : decode cX6_count 139 = .ok (.invokevirtual 417, 3) := dk_182 1 161 (dk_at dksX6_count_4 19 rfl rfl)
theorem dX6_count_142 : decode cX6_count 142 = .ok (.invokestatic 405, 3) := dk_184 1 149 (dk_at dksX6_count_5 0 rfl rfl)
theorem dX6_count_145 : decode cX6_count 145 = .ok (.ireturn, 1) := dk_172 (dk_at dksX6_count_5 3 rfl rfl)
theorem dX6_count_146 : decode cX6_count 146 = .ok (.aload_n 0, 1) := dk_42 (dk_at dksX6_count_5 4 rfl rfl)
theorem dX6_count_147 : decode cX6_count 147 = .ok (.getfield 194, 3) := dk_180 0 194 (dk_at dksX6_count_5 5 rfl rfl)
theorem dX6_count_150 : decode cX6_count 150 = .ok (.ireturn, 1) := dk_172 (dk_at dksX6_count_5 8 rfl rfl)
theorem dX6_count_151 : decode cX6_count 151 = .ok (.aload_n 0, 1) := dk_42 (dk_at dksX6_count_5 9 rfl rfl)
theorem dX6_count_152 : decode cX6_count 152 = .ok (.getfield 188, 3) := dk_180 0 188 (dk_at dksX6_count_5 10 rfl rfl)
theorem dX6_count_155 : decode cX6_count 155 = .ok (.ireturn, 1) := dk_172 (dk_at dksX6_count_5 13 rfl rfl)
theorem dX6_count_156 : decode cX6_count 156 = .ok (.aload_n 0, 1) := dk_42 (dk_at dksX6_count_5 14 rfl rfl)
theorem dX6_count_157 : decode cX6_count 157 = .ok (.getfield 15, 3) := dk_180 0 15 (dk_at dksX6_count_5 15 rfl rfl)
theorem dX6_count_160 : decode cX6_count 160 = .ok (.ireturn, 1) := dk_172 (dk_at dksX6_count_5 18 rfl rfl)
theorem dX6_count_161 : decode cX6_count 161 = .ok (.aload_n 0, 1) := dk_42 (dk_at dksX6_count_5 19 rfl rfl)
theorem dX6_count_162 : decode cX6_count 162 = .ok (.getfield 136, 3) := dk_180 0 136 (dk_at dksX6_count_5 20 rfl rfl)
theorem dX6_count_165 : decode cX6_count 165 = .ok (.ireturn, 1) := dk_172 (dk_at dksX6_count_5 23 rfl rfl)
theorem dX6_count_166 : decode cX6_count 166 = .ok (.bipush (-100), 2) := dk_16 156 (dk_at dksX6_count_6 0 rfl rfl)
theorem dX6_count_168 : decode cX6_count 168 = .ok (.ireturn, 1) := dk_172 (dk_at dksX6_count_6 2 rfl rfl)
abbrev cX6_row : ByteArray := prog_12_method_120_code
def yX6_row : MethodName := ⟨RX6, "row", "(I)J"⟩
def dkwX6_row_1 : List UInt8 := [181, 0, 3, 9, 173, 42, 180, 0, 11, 27, 47, 173]
abbrev dktX6_row_1 : List UInt8 := dkwX6_row_1 ++ []
def dkwX6_row_0 : List UInt8 := [42, 3, 181, 0, 3, 27, 133, 9, 42, 180, 0, 15, 4, 100, 133, 184, 0, 126, 154, 0, 10, 42, 4]
abbrev dktX6_row_0 : List UInt8 := dkwX6_row_0 ++ dktX6_row_1
theorem dksX6_row_0 : cX6_row.data.toList.drop 0 = dktX6_row_0 := by decide +kernel
theorem dksX6_row_1 : cX6_row.data.toList.drop 23 = dktX6_row_1 := dk_seg dksX6_row_0 23 rfl rfl
theorem dX6_row_0 : decode cX6_row 0 = .ok (.aload_n 0, 1) := dk_42 (dk_at dksX6_row_0 0 rfl rfl)
theorem dX6_row_1 : decode cX6_row 1 = .ok (.iconst 0, 1) := dk_3 (dk_at dksX6_row_0 1 rfl rfl)
theorem dX6_row_2 : decode cX6_row 2 = .ok (.putfield 3, 3) := dk_181 0 3 (dk_at dksX6_row_0 2 rfl rfl)
theorem dX6_row_5 : decode cX6_row 5 = .ok (.iload_n 1, 1) := dk_27 (dk_at dksX6_row_0 5 rfl rfl)
theorem dX6_row_6 : decode cX6_row 6 = .ok (.i2l, 1) := dk_133 (dk_at dksX6_row_0 6 rfl rfl)
theorem dX6_row_7 : decode cX6_row 7 = .ok (.lconst 0, 1) := dk_9 (dk_at dksX6_row_0 7 rfl rfl)
theorem dX6_row_8 : decode cX6_row 8 = .ok (.aload_n 0, 1) := dk_42 (dk_at dksX6_row_0 8 rfl rfl)
theorem dX6_row_9 : decode cX6_row 9 = .ok (.getfield 15, 3) := dk_180 0 15 (dk_at dksX6_row_0 9 rfl rfl)
theorem dX6_row_12 : decode cX6_row 12 = .ok (.iconst 1, 1) := dk_4 (dk_at dksX6_row_0 12 rfl rfl)
theorem dX6_row_13 : decode cX6_row 13 = .ok (.isub, 1) := dk_100 (dk_at dksX6_row_0 13 rfl rfl)
theorem dX6_row_14 : decode cX6_row 14 = .ok (.i2l, 1) := dk_133 (dk_at dksX6_row_0 14 rfl rfl)
theorem dX6_row_15 : decode cX6_row 15 = .ok (.invokestatic 126, 3) := dk_184 0 126 (dk_at dksX6_row_0 15 rfl rfl)
theorem dX6_row_18 : decode cX6_row 18 = .ok (.ifCond .ne 10, 3) := dk_154 0 10 (dk_at dksX6_row_0 18 rfl rfl)
theorem dX6_row_21 : decode cX6_row 21 = .ok (.aload_n 0, 1) := dk_42 (dk_at dksX6_row_0 21 rfl rfl)
theorem dX6_row_22 : decode cX6_row 22 = .ok (.iconst 1, 1) := dk_4 (dk_at dksX6_row_0 22 rfl rfl)
theorem dX6_row_23 : decode cX6_row 23 = .ok (.putfield 3, 3) := dk_181 0 3 (dk_at dksX6_row_1 0 rfl rfl)
theorem dX6_row_26 : decode cX6_row 26 = .ok (.lconst 0, 1) := dk_9 (dk_at dksX6_row_1 3 rfl rfl)
theorem dX6_row_27 : decode cX6_row 27 = .ok (.lreturn, 1) := dk_173 (dk_at dksX6_row_1 4 rfl rfl)
theorem dX6_row_28 : decode cX6_row 28 = .ok (.aload_n 0, 1) := dk_42 (dk_at dksX6_row_1 5 rfl rfl)
theorem dX6_row_29 : decode cX6_row 29 = .ok (.getfield 11, 3) := dk_180 0 11 (dk_at dksX6_row_1 6 rfl rfl)
theorem dX6_row_32 : decode cX6_row 32 = .ok (.iload_n 1, 1) := dk_27 (dk_at dksX6_row_1 9 rfl rfl)
theorem dX6_row_33 : decode cX6_row 33 = .ok (.laload, 1) := dk_47 (dk_at dksX6_row_1 10 rfl rfl)
theorem dX6_row_34 : decode cX6_row 34 = .ok (.lreturn, 1) := dk_173 (dk_at dksX6_row_1 11 rfl rfl)
theorem q115 : (Jvm.Cond.initialized "BonnetValleyModel") ∈ lw_all := lw_g (lw_at lw_m1 6 rfl) rfl
theorem q1279 : (Jvm.Cond.instanceMethod ({ cls := "BonnetValleyModel", name := "thrown", desc := "()I" } : Jvm.MethodName)) ∈ lw_all := lw_g (lw_at lw_m5 210 rfl) rfl
theorem q1280 : (Jvm.Cond.selects "BonnetValleyModel" ({ cls := "BonnetValleyModel", name := "thrown", desc := "()I" } : Jvm.MethodName) ({ cls := "BonnetValleyModel", name := "thrown", desc := "()I" } : Jvm.MethodName)) ∈ lw_all := lw_g (lw_at lw_m5 211 rfl) rfl
theorem q1281 : (Jvm.Cond.code ({ cls := "BonnetValleyModel", name := "thrown", desc := "()I" } : Jvm.MethodName) prog_12_method_1_code (1 : Nat) (Option.some Jvm.ClassFile.FieldType.int)) ∈ lw_all := lw_g (lw_at lw_m5 212 rfl) rfl
theorem q1283 : (Jvm.Cond.instantiable "BonnetValleyModel" (49 : Nat)) ∈ lw_all := lw_g (lw_at lw_m5 214 rfl) rfl
theorem q1285 : (Jvm.Cond.instanceMethod ({ cls := "BonnetValleyModel", name := "<init>", desc := "()V" } : Jvm.MethodName)) ∈ lw_all := lw_g (lw_at lw_m5 216 rfl) rfl
theorem q1286 : (Jvm.Cond.code ({ cls := "BonnetValleyModel", name := "<init>", desc := "()V" } : Jvm.MethodName) prog_12_method_8_code (1 : Nat) (Option.none : Option Jvm.ClassFile.FieldType)) ∈ lw_all := lw_g (lw_at lw_m5 217 rfl) rfl
theorem q1287 : (Jvm.Cond.methodLink "BonnetValleyModel" (18 : Nat) ({ cls := "java/lang/Object", name := "<init>", desc := "()V" } : Jvm.MethodName)) ∈ lw_all := lw_g (lw_at lw_m5 218 rfl) rfl
theorem q1288 : (Jvm.Cond.fieldLink "BonnetValleyModel" (3 : Nat) "BonnetValleyModel" "thrown" "I") ∈ lw_all := lw_g (lw_at lw_m5 219 rfl) rfl
theorem q1289 : (Jvm.Cond.fieldLink "BonnetValleyModel" (15 : Nat) "BonnetValleyModel" "told" "I") ∈ lw_all := lw_g (lw_at lw_m5 220 rfl) rfl
theorem q1290 : (Jvm.Cond.fieldLink "BonnetValleyModel" (11 : Nat) "BonnetValleyModel" "row" "[J") ∈ lw_all := lw_g (lw_at lw_m5 221 rfl) rfl
theorem q1291 : (Jvm.Cond.fieldLink "BonnetValleyModel" (24 : Nat) "BonnetValleyModel" "rows" "I") ∈ lw_all := lw_g (lw_at lw_m5 222 rfl) rfl
theorem q1292 : (Jvm.Cond.fieldLink "BonnetValleyModel" (27 : Nat) "BonnetValleyModel" "columns" "I") ∈ lw_all := lw_g (lw_at lw_m5 223 rfl) rfl
theorem q1293 : (Jvm.Cond.fieldLink "BonnetValleyModel" (130 : Nat) "BonnetValleyModel" "people" "I") ∈ lw_all := lw_g (lw_at lw_m5 224 rfl) rfl
theorem q1294 : (Jvm.Cond.fieldLink "BonnetValleyModel" (133 : Nat) "BonnetValleyModel" "things" "I") ∈ lw_all := lw_g (lw_at lw_m5 225 rfl) rfl
theorem q1295 : (Jvm.Cond.fieldLink "BonnetValleyModel" (191 : Nat) "BonnetValleyModel" "changes" "I") ∈ lw_all := lw_g (lw_at lw_m5 226 rfl) rfl
theorem q1296 : (Jvm.Cond.fieldLink "BonnetValleyModel" (30 : Nat) "BonnetValleyModel" "skyLong" "I") ∈ lw_all := lw_g (lw_at lw_m5 227 rfl) rfl
theorem q1297 : (Jvm.Cond.fieldLink "BonnetValleyModel" (33 : Nat) "BonnetValleyModel" "isRock" "[Z") ∈ lw_all := lw_g (lw_at lw_m5 228 rfl) rfl
theorem q1298 : (Jvm.Cond.fieldLink "BonnetValleyModel" (37 : Nat) "BonnetValleyModel" "sky" "[I") ∈ lw_all := lw_g (lw_at lw_m5 229 rfl) rfl
theorem q1299 : (Jvm.Cond.fieldLink "BonnetValleyModel" (41 : Nat) "BonnetValleyModel" "now" "[I") ∈ lw_all := lw_g (lw_at lw_m5 230 rfl) rfl
theorem q1300 : (Jvm.Cond.fieldLink "BonnetValleyModel" (44 : Nat) "BonnetValleyModel" "then" "[I") ∈ lw_all := lw_g (lw_at lw_m5 231 rfl) rfl
theorem q1301 : (Jvm.Cond.fieldLink "BonnetValleyModel" (47 : Nat) "BonnetValleyModel" "tape" "[I") ∈ lw_all := lw_g (lw_at lw_m5 232 rfl) rfl
theorem q1302 : (Jvm.Cond.fieldLink "BonnetValleyModel" (136 : Nat) "BonnetValleyModel" "taped" "I") ∈ lw_all := lw_g (lw_at lw_m5 233 rfl) rfl
theorem q1303 : (Jvm.Cond.fieldLink "BonnetValleyModel" (139 : Nat) "BonnetValleyModel" "at" "I") ∈ lw_all := lw_g (lw_at lw_m5 234 rfl) rfl
theorem q1304 : (Jvm.Cond.fieldLink "BonnetValleyModel" (151 : Nat) "BonnetValleyModel" "to" "I") ∈ lw_all := lw_g (lw_at lw_m5 235 rfl) rfl
theorem q1305 : (Jvm.Cond.fieldLink "BonnetValleyModel" (142 : Nat) "BonnetValleyModel" "nest" "I") ∈ lw_all := lw_g (lw_at lw_m5 236 rfl) rfl
theorem q1306 : (Jvm.Cond.fieldLink "BonnetValleyModel" (50 : Nat) "BonnetValleyModel" "readRock" "[Z") ∈ lw_all := lw_g (lw_at lw_m5 237 rfl) rfl
theorem q1307 : (Jvm.Cond.fieldLink "BonnetValleyModel" (53 : Nat) "BonnetValleyModel" "read" "[I") ∈ lw_all := lw_g (lw_at lw_m5 238 rfl) rfl
theorem q1308 : (Jvm.Cond.fieldLink "BonnetValleyModel" (197 : Nat) "BonnetValleyModel" "readMany" "I") ∈ lw_all := lw_g (lw_at lw_m5 239 rfl) rfl
theorem q1309 : (Jvm.Cond.fieldLink "BonnetValleyModel" (56 : Nat) "BonnetValleyModel" "code" "[I") ∈ lw_all := lw_g (lw_at lw_m6 0 rfl) rfl
theorem q1310 : (Jvm.Cond.fieldLink "BonnetValleyModel" (59 : Nat) "BonnetValleyModel" "readCode" "[I") ∈ lw_all := lw_g (lw_at lw_m6 1 rfl) rfl
theorem q1311 : (Jvm.Cond.fieldLink "BonnetValleyModel" (248 : Nat) "BonnetValleyModel" "codeLong" "I") ∈ lw_all := lw_g (lw_at lw_m6 2 rfl) rfl
theorem q1312 : (Jvm.Cond.fieldLink "BonnetValleyModel" (227 : Nat) "BonnetValleyModel" "codesRead" "I") ∈ lw_all := lw_g (lw_at lw_m6 3 rfl) rfl
theorem q1313 : (Jvm.Cond.fieldLink "BonnetValleyModel" (62 : Nat) "BonnetValleyModel" "stack" "[I") ∈ lw_all := lw_g (lw_at lw_m6 4 rfl) rfl
theorem q1314 : (Jvm.Cond.fieldLink "BonnetValleyModel" (65 : Nat) "BonnetValleyModel" "asked" "[I") ∈ lw_all := lw_g (lw_at lw_m6 5 rfl) rfl
theorem q1315 : (Jvm.Cond.fieldLink "BonnetValleyModel" (188 : Nat) "BonnetValleyModel" "undos" "I") ∈ lw_all := lw_g (lw_at lw_m6 6 rfl) rfl
theorem q1316 : (Jvm.Cond.fieldLink "BonnetValleyModel" (68 : Nat) "BonnetValleyModel" "undone" "[I") ∈ lw_all := lw_g (lw_at lw_m6 7 rfl) rfl
theorem q1317 : (Jvm.Cond.fieldLink "BonnetValleyModel" (71 : Nat) "BonnetValleyModel" "learnt" "[I") ∈ lw_all := lw_g (lw_at lw_m6 8 rfl) rfl
theorem q1318 : (Jvm.Cond.fieldLink "BonnetValleyModel" (74 : Nat) "BonnetValleyModel" "actSign" "[I") ∈ lw_all := lw_g (lw_at lw_m6 9 rfl) rfl
theorem q1319 : (Jvm.Cond.fieldLink "BonnetValleyModel" (77 : Nat) "BonnetValleyModel" "actOne" "[I") ∈ lw_all := lw_g (lw_at lw_m6 10 rfl) rfl
theorem q1320 : (Jvm.Cond.fieldLink "BonnetValleyModel" (80 : Nat) "BonnetValleyModel" "actTwo" "[I") ∈ lw_all := lw_g (lw_at lw_m6 11 rfl) rfl
theorem q1321 : (Jvm.Cond.fieldLink "BonnetValleyModel" (83 : Nat) "BonnetValleyModel" "actThree" "[I") ∈ lw_all := lw_g (lw_at lw_m6 12 rfl) rfl
theorem q1322 : (Jvm.Cond.fieldLink "BonnetValleyModel" (392 : Nat) "BonnetValleyModel" "acts" "I") ∈ lw_all := lw_g (lw_at lw_m6 13 rfl) rfl
theorem q1323 : (Jvm.Cond.fieldLink "BonnetValleyModel" (86 : Nat) "BonnetValleyModel" "view" "[J") ∈ lw_all := lw_g (lw_at lw_m6 14 rfl) rfl
theorem q1324 : (Jvm.Cond.fieldLink "BonnetValleyModel" (89 : Nat) "BonnetValleyModel" "shown" "[I") ∈ lw_all := lw_g (lw_at lw_m6 15 rfl) rfl
theorem q1325 : (Jvm.Cond.fieldLink "BonnetValleyModel" (92 : Nat) "BonnetValleyModel" "few" "[I") ∈ lw_all := lw_g (lw_at lw_m6 16 rfl) rfl
theorem q1326 : (Jvm.Cond.fieldLink "BonnetValleyModel" (95 : Nat) "BonnetValleyModel" "far" "[I") ∈ lw_all := lw_g (lw_at lw_m6 17 rfl) rfl
theorem q1327 : (Jvm.Cond.fieldLink "BonnetValleyModel" (194 : Nat) "BonnetValleyModel" "heardMany" "I") ∈ lw_all := lw_g (lw_at lw_m6 18 rfl) rfl
theorem q1328 : (Jvm.Cond.fieldLink "BonnetValleyModel" (98 : Nat) "BonnetValleyModel" "heardOf" "[I") ∈ lw_all := lw_g (lw_at lw_m6 19 rfl) rfl
theorem q1329 : (Jvm.Cond.fieldLink "BonnetValleyModel" (101 : Nat) "BonnetValleyModel" "heardIs" "[I") ∈ lw_all := lw_g (lw_at lw_m6 20 rfl) rfl
theorem q1330 : (Jvm.Cond.fieldLink "BonnetValleyModel" (104 : Nat) "BonnetValleyModel" "storms" "[J") ∈ lw_all := lw_g (lw_at lw_m6 21 rfl) rfl
theorem q1331 : (Jvm.Cond.fieldLink "BonnetValleyModel" (107 : Nat) "BonnetValleyModel" "winning" "[I") ∈ lw_all := lw_g (lw_at lw_m6 22 rfl) rfl
theorem q1332 : (Jvm.Cond.fieldLink "BonnetValleyModel" (110 : Nat) "BonnetValleyModel" "wasCode" "[I") ∈ lw_all := lw_g (lw_at lw_m6 23 rfl) rfl
theorem q1333 : (Jvm.Cond.fieldLink "BonnetValleyModel" (471 : Nat) "BonnetValleyModel" "random" "I") ∈ lw_all := lw_g (lw_at lw_m6 24 rfl) rfl
theorem q1334 : (Jvm.Cond.fieldLink "BonnetValleyModel" (113 : Nat) "BonnetValleyModel" "isKept" "[Z") ∈ lw_all := lw_g (lw_at lw_m6 25 rfl) rfl
theorem q1335 : (Jvm.Cond.fieldLink "BonnetValleyModel" (116 : Nat) "BonnetValleyModel" "keptChanges" "[I") ∈ lw_all := lw_g (lw_at lw_m6 26 rfl) rfl
theorem q1336 : (Jvm.Cond.fieldLink "BonnetValleyModel" (119 : Nat) "BonnetValleyModel" "kept" "[I") ∈ lw_all := lw_g (lw_at lw_m6 27 rfl) rfl
theorem q1337 : (Jvm.Cond.lays "BonnetValleyModel" "BonnetValleyModel" "thrown" "I") ∈ lw_all := lw_g (lw_at lw_m6 28 rfl) rfl
theorem q1338 : (Jvm.Cond.soleField "BonnetValleyModel" "thrown") ∈ lw_all := lw_g (lw_at lw_m6 29 rfl) rfl
theorem q1339 : (Jvm.Cond.lays "BonnetValleyModel" "BonnetValleyModel" "told" "I") ∈ lw_all := lw_g (lw_at lw_m6 30 rfl) rfl
theorem q1340 : (Jvm.Cond.soleField "BonnetValleyModel" "told") ∈ lw_all := lw_g (lw_at lw_m6 31 rfl) rfl
theorem q1341 : (Jvm.Cond.laysFinal "BonnetValleyModel" "BonnetValleyModel" "row" "[J") ∈ lw_all := lw_g (lw_at lw_m6 32 rfl) rfl
theorem q1342 : (Jvm.Cond.soleField "BonnetValleyModel" "row") ∈ lw_all := lw_g (lw_at lw_m6 33 rfl) rfl
theorem q1343 : (Jvm.Cond.lays "BonnetValleyModel" "BonnetValleyModel" "rows" "I") ∈ lw_all := lw_g (lw_at lw_m6 34 rfl) rfl
theorem q1344 : (Jvm.Cond.soleField "BonnetValleyModel" "rows") ∈ lw_all := lw_g (lw_at lw_m6 35 rfl) rfl
theorem q1345 : (Jvm.Cond.lays "BonnetValleyModel" "BonnetValleyModel" "columns" "I") ∈ lw_all := lw_g (lw_at lw_m6 36 rfl) rfl
theorem q1346 : (Jvm.Cond.soleField "BonnetValleyModel" "columns") ∈ lw_all := lw_g (lw_at lw_m6 37 rfl) rfl
theorem q1347 : (Jvm.Cond.lays "BonnetValleyModel" "BonnetValleyModel" "people" "I") ∈ lw_all := lw_g (lw_at lw_m6 38 rfl) rfl
theorem q1348 : (Jvm.Cond.soleField "BonnetValleyModel" "people") ∈ lw_all := lw_g (lw_at lw_m6 39 rfl) rfl
theorem q1349 : (Jvm.Cond.lays "BonnetValleyModel" "BonnetValleyModel" "things" "I") ∈ lw_all := lw_g (lw_at lw_m6 40 rfl) rfl
theorem q1350 : (Jvm.Cond.soleField "BonnetValleyModel" "things") ∈ lw_all := lw_g (lw_at lw_m6 41 rfl) rfl
theorem q1351 : (Jvm.Cond.lays "BonnetValleyModel" "BonnetValleyModel" "changes" "I") ∈ lw_all := lw_g (lw_at lw_m6 42 rfl) rfl
theorem q1352 : (Jvm.Cond.soleField "BonnetValleyModel" "changes") ∈ lw_all := lw_g (lw_at lw_m6 43 rfl) rfl
theorem q1353 : (Jvm.Cond.lays "BonnetValleyModel" "BonnetValleyModel" "skyLong" "I") ∈ lw_all := lw_g (lw_at lw_m6 44 rfl) rfl
theorem q1354 : (Jvm.Cond.soleField "BonnetValleyModel" "skyLong") ∈ lw_all := lw_g (lw_at lw_m6 45 rfl) rfl
theorem q1355 : (Jvm.Cond.laysFinal "BonnetValleyModel" "BonnetValleyModel" "isRock" "[Z") ∈ lw_all := lw_g (lw_at lw_m6 46 rfl) rfl
theorem q1356 : (Jvm.Cond.soleField "BonnetValleyModel" "isRock") ∈ lw_all := lw_g (lw_at lw_m6 47 rfl) rfl
theorem q1357 : (Jvm.Cond.laysFinal "BonnetValleyModel" "BonnetValleyModel" "sky" "[I") ∈ lw_all := lw_g (lw_at lw_m6 48 rfl) rfl
theorem q1358 : (Jvm.Cond.soleField "BonnetValleyModel" "sky") ∈ lw_all := lw_g (lw_at lw_m6 49 rfl) rfl
theorem q1359 : (Jvm.Cond.laysFinal "BonnetValleyModel" "BonnetValleyModel" "now" "[I") ∈ lw_all := lw_g (lw_at lw_m6 50 rfl) rfl
theorem q1360 : (Jvm.Cond.soleField "BonnetValleyModel" "now") ∈ lw_all := lw_g (lw_at lw_m6 51 rfl) rfl
theorem q1361 : (Jvm.Cond.laysFinal "BonnetValleyModel" "BonnetValleyModel" "then" "[I") ∈ lw_all := lw_g (lw_at lw_m6 52 rfl) rfl
theorem q1362 : (Jvm.Cond.soleField "BonnetValleyModel" "then") ∈ lw_all := lw_g (lw_at lw_m6 53 rfl) rfl
theorem q1363 : (Jvm.Cond.laysFinal "BonnetValleyModel" "BonnetValleyModel" "tape" "[I") ∈ lw_all := lw_g (lw_at lw_m6 54 rfl) rfl
theorem q1364 : (Jvm.Cond.soleField "BonnetValleyModel" "tape") ∈ lw_all := lw_g (lw_at lw_m6 55 rfl) rfl
theorem q1365 : (Jvm.Cond.lays "BonnetValleyModel" "BonnetValleyModel" "taped" "I") ∈ lw_all := lw_g (lw_at lw_m6 56 rfl) rfl
theorem q1366 : (Jvm.Cond.soleField "BonnetValleyModel" "taped") ∈ lw_all := lw_g (lw_at lw_m6 57 rfl) rfl
theorem q1367 : (Jvm.Cond.lays "BonnetValleyModel" "BonnetValleyModel" "at" "I") ∈ lw_all := lw_g (lw_at lw_m6 58 rfl) rfl
theorem q1368 : (Jvm.Cond.soleField "BonnetValleyModel" "at") ∈ lw_all := lw_g (lw_at lw_m6 59 rfl) rfl
theorem q1369 : (Jvm.Cond.lays "BonnetValleyModel" "BonnetValleyModel" "to" "I") ∈ lw_all := lw_g (lw_at lw_m6 60 rfl) rfl
theorem q1370 : (Jvm.Cond.soleField "BonnetValleyModel" "to") ∈ lw_all := lw_g (lw_at lw_m6 61 rfl) rfl
theorem q1371 : (Jvm.Cond.lays "BonnetValleyModel" "BonnetValleyModel" "nest" "I") ∈ lw_all := lw_g (lw_at lw_m6 62 rfl) rfl
theorem q1372 : (Jvm.Cond.soleField "BonnetValleyModel" "nest") ∈ lw_all := lw_g (lw_at lw_m6 63 rfl) rfl
theorem q1373 : (Jvm.Cond.laysFinal "BonnetValleyModel" "BonnetValleyModel" "readRock" "[Z") ∈ lw_all := lw_g (lw_at lw_m6 64 rfl) rfl
theorem q1374 : (Jvm.Cond.soleField "BonnetValleyModel" "readRock") ∈ lw_all := lw_g (lw_at lw_m6 65 rfl) rfl
theorem q1375 : (Jvm.Cond.laysFinal "BonnetValleyModel" "BonnetValleyModel" "read" "[I") ∈ lw_all := lw_g (lw_at lw_m6 66 rfl) rfl
theorem q1376 : (Jvm.Cond.soleField "BonnetValleyModel" "read") ∈ lw_all := lw_g (lw_at lw_m6 67 rfl) rfl
theorem q1377 : (Jvm.Cond.lays "BonnetValleyModel" "BonnetValleyModel" "readMany" "I") ∈ lw_all := lw_g (lw_at lw_m6 68 rfl) rfl
theorem q1378 : (Jvm.Cond.soleField "BonnetValleyModel" "readMany") ∈ lw_all := lw_g (lw_at lw_m6 69 rfl) rfl
theorem q1379 : (Jvm.Cond.laysFinal "BonnetValleyModel" "BonnetValleyModel" "code" "[I") ∈ lw_all := lw_g (lw_at lw_m6 70 rfl) rfl
theorem q1380 : (Jvm.Cond.soleField "BonnetValleyModel" "code") ∈ lw_all := lw_g (lw_at lw_m6 71 rfl) rfl
theorem q1381 : (Jvm.Cond.laysFinal "BonnetValleyModel" "BonnetValleyModel" "readCode" "[I") ∈ lw_all := lw_g (lw_at lw_m6 72 rfl) rfl
theorem q1382 : (Jvm.Cond.soleField "BonnetValleyModel" "readCode") ∈ lw_all := lw_g (lw_at lw_m6 73 rfl) rfl
theorem q1383 : (Jvm.Cond.lays "BonnetValleyModel" "BonnetValleyModel" "codeLong" "I") ∈ lw_all := lw_g (lw_at lw_m6 74 rfl) rfl
theorem q1384 : (Jvm.Cond.soleField "BonnetValleyModel" "codeLong") ∈ lw_all := lw_g (lw_at lw_m6 75 rfl) rfl
theorem q1385 : (Jvm.Cond.lays "BonnetValleyModel" "BonnetValleyModel" "codesRead" "I") ∈ lw_all := lw_g (lw_at lw_m6 76 rfl) rfl
theorem q1386 : (Jvm.Cond.soleField "BonnetValleyModel" "codesRead") ∈ lw_all := lw_g (lw_at lw_m6 77 rfl) rfl
theorem q1387 : (Jvm.Cond.laysFinal "BonnetValleyModel" "BonnetValleyModel" "stack" "[I") ∈ lw_all := lw_g (lw_at lw_m6 78 rfl) rfl
theorem q1388 : (Jvm.Cond.soleField "BonnetValleyModel" "stack") ∈ lw_all := lw_g (lw_at lw_m6 79 rfl) rfl
theorem q1389 : (Jvm.Cond.laysFinal "BonnetValleyModel" "BonnetValleyModel" "asked" "[I") ∈ lw_all := lw_g (lw_at lw_m6 80 rfl) rfl
theorem q1390 : (Jvm.Cond.soleField "BonnetValleyModel" "asked") ∈ lw_all := lw_g (lw_at lw_m6 81 rfl) rfl
theorem q1391 : (Jvm.Cond.lays "BonnetValleyModel" "BonnetValleyModel" "undos" "I") ∈ lw_all := lw_g (lw_at lw_m6 82 rfl) rfl
theorem q1392 : (Jvm.Cond.soleField "BonnetValleyModel" "undos") ∈ lw_all := lw_g (lw_at lw_m6 83 rfl) rfl
theorem q1393 : (Jvm.Cond.laysFinal "BonnetValleyModel" "BonnetValleyModel" "undone" "[I") ∈ lw_all := lw_g (lw_at lw_m6 84 rfl) rfl
theorem q1394 : (Jvm.Cond.soleField "BonnetValleyModel" "undone") ∈ lw_all := lw_g (lw_at lw_m6 85 rfl) rfl
theorem q1395 : (Jvm.Cond.laysFinal "BonnetValleyModel" "BonnetValleyModel" "learnt" "[I") ∈ lw_all := lw_g (lw_at lw_m6 86 rfl) rfl
theorem q1396 : (Jvm.Cond.soleField "BonnetValleyModel" "learnt") ∈ lw_all := lw_g (lw_at lw_m6 87 rfl) rfl
theorem q1397 : (Jvm.Cond.laysFinal "BonnetValleyModel" "BonnetValleyModel" "actSign" "[I") ∈ lw_all := lw_g (lw_at lw_m6 88 rfl) rfl
theorem q1398 : (Jvm.Cond.soleField "BonnetValleyModel" "actSign") ∈ lw_all := lw_g (lw_at lw_m6 89 rfl) rfl
theorem q1399 : (Jvm.Cond.laysFinal "BonnetValleyModel" "BonnetValleyModel" "actOne" "[I") ∈ lw_all := lw_g (lw_at lw_m6 90 rfl) rfl
theorem q1400 : (Jvm.Cond.soleField "BonnetValleyModel" "actOne") ∈ lw_all := lw_g (lw_at lw_m6 91 rfl) rfl
theorem q1401 : (Jvm.Cond.laysFinal "BonnetValleyModel" "BonnetValleyModel" "actTwo" "[I") ∈ lw_all := lw_g (lw_at lw_m6 92 rfl) rfl
theorem q1402 : (Jvm.Cond.soleField "BonnetValleyModel" "actTwo") ∈ lw_all := lw_g (lw_at lw_m6 93 rfl) rfl
theorem q1403 : (Jvm.Cond.laysFinal "BonnetValleyModel" "BonnetValleyModel" "actThree" "[I") ∈ lw_all := lw_g (lw_at lw_m6 94 rfl) rfl
theorem q1404 : (Jvm.Cond.soleField "BonnetValleyModel" "actThree") ∈ lw_all := lw_g (lw_at lw_m6 95 rfl) rfl
theorem q1405 : (Jvm.Cond.lays "BonnetValleyModel" "BonnetValleyModel" "acts" "I") ∈ lw_all := lw_g (lw_at lw_m6 96 rfl) rfl
theorem q1406 : (Jvm.Cond.soleField "BonnetValleyModel" "acts") ∈ lw_all := lw_g (lw_at lw_m6 97 rfl) rfl
theorem q1407 : (Jvm.Cond.laysFinal "BonnetValleyModel" "BonnetValleyModel" "view" "[J") ∈ lw_all := lw_g (lw_at lw_m6 98 rfl) rfl
theorem q1408 : (Jvm.Cond.soleField "BonnetValleyModel" "view") ∈ lw_all := lw_g (lw_at lw_m6 99 rfl) rfl
theorem q1409 : (Jvm.Cond.laysFinal "BonnetValleyModel" "BonnetValleyModel" "shown" "[I") ∈ lw_all := lw_g (lw_at lw_m6 100 rfl) rfl
theorem q1410 : (Jvm.Cond.soleField "BonnetValleyModel" "shown") ∈ lw_all := lw_g (lw_at lw_m6 101 rfl) rfl
theorem q1411 : (Jvm.Cond.laysFinal "BonnetValleyModel" "BonnetValleyModel" "few" "[I") ∈ lw_all := lw_g (lw_at lw_m6 102 rfl) rfl
theorem q1412 : (Jvm.Cond.soleField "BonnetValleyModel" "few") ∈ lw_all := lw_g (lw_at lw_m6 103 rfl) rfl
theorem q1413 : (Jvm.Cond.laysFinal "BonnetValleyModel" "BonnetValleyModel" "far" "[I") ∈ lw_all := lw_g (lw_at lw_m6 104 rfl) rfl
theorem q1414 : (Jvm.Cond.soleField "BonnetValleyModel" "far") ∈ lw_all := lw_g (lw_at lw_m6 105 rfl) rfl
theorem q1415 : (Jvm.Cond.lays "BonnetValleyModel" "BonnetValleyModel" "heardMany" "I") ∈ lw_all := lw_g (lw_at lw_m6 106 rfl) rfl
theorem q1416 : (Jvm.Cond.soleField "BonnetValleyModel" "heardMany") ∈ lw_all := lw_g (lw_at lw_m6 107 rfl) rfl
theorem q1417 : (Jvm.Cond.laysFinal "BonnetValleyModel" "BonnetValleyModel" "heardOf" "[I") ∈ lw_all := lw_g (lw_at lw_m6 108 rfl) rfl
theorem q1418 : (Jvm.Cond.soleField "BonnetValleyModel" "heardOf") ∈ lw_all := lw_g (lw_at lw_m6 109 rfl) rfl
theorem q1419 : (Jvm.Cond.laysFinal "BonnetValleyModel" "BonnetValleyModel" "heardIs" "[I") ∈ lw_all := lw_g (lw_at lw_m6 110 rfl) rfl
theorem q1420 : (Jvm.Cond.soleField "BonnetValleyModel" "heardIs") ∈ lw_all := lw_g (lw_at lw_m6 111 rfl) rfl
theorem q1421 : (Jvm.Cond.laysFinal "BonnetValleyModel" "BonnetValleyModel" "storms" "[J") ∈ lw_all := lw_g (lw_at lw_m6 112 rfl) rfl
theorem q1422 : (Jvm.Cond.soleField "BonnetValleyModel" "storms") ∈ lw_all := lw_g (lw_at lw_m6 113 rfl) rfl
theorem q1423 : (Jvm.Cond.laysFinal "BonnetValleyModel" "BonnetValleyModel" "winning" "[I") ∈ lw_all := lw_g (lw_at lw_m6 114 rfl) rfl
theorem q1424 : (Jvm.Cond.soleField "BonnetValleyModel" "winning") ∈ lw_all := lw_g (lw_at lw_m6 115 rfl) rfl
theorem q1425 : (Jvm.Cond.laysFinal "BonnetValleyModel" "BonnetValleyModel" "wasCode" "[I") ∈ lw_all := lw_g (lw_at lw_m6 116 rfl) rfl
theorem q1426 : (Jvm.Cond.soleField "BonnetValleyModel" "wasCode") ∈ lw_all := lw_g (lw_at lw_m6 117 rfl) rfl
theorem q1427 : (Jvm.Cond.lays "BonnetValleyModel" "BonnetValleyModel" "random" "I") ∈ lw_all := lw_g (lw_at lw_m6 118 rfl) rfl
theorem q1428 : (Jvm.Cond.soleField "BonnetValleyModel" "random") ∈ lw_all := lw_g (lw_at lw_m6 119 rfl) rfl
theorem q1429 : (Jvm.Cond.laysFinal "BonnetValleyModel" "BonnetValleyModel" "isKept" "[Z") ∈ lw_all := lw_g (lw_at lw_m6 120 rfl) rfl
theorem q1430 : (Jvm.Cond.soleField "BonnetValleyModel" "isKept") ∈ lw_all := lw_g (lw_at lw_m6 121 rfl) rfl
theorem q1431 : (Jvm.Cond.laysFinal "BonnetValleyModel" "BonnetValleyModel" "keptChanges" "[I") ∈ lw_all := lw_g (lw_at lw_m6 122 rfl) rfl
theorem q1432 : (Jvm.Cond.soleField "BonnetValleyModel" "keptChanges") ∈ lw_all := lw_g (lw_at lw_m6 123 rfl) rfl
theorem q1433 : (Jvm.Cond.laysFinal "BonnetValleyModel" "BonnetValleyModel" "kept" "[I") ∈ lw_all := lw_g (lw_at lw_m6 124 rfl) rfl
theorem q1434 : (Jvm.Cond.soleField "BonnetValleyModel" "kept") ∈ lw_all := lw_g (lw_at lw_m6 125 rfl) rfl
theorem q1435 : (Jvm.Cond.superclass "BonnetValleyModel" "java/lang/Object") ∈ lw_all := lw_g (lw_at lw_m6 126 rfl) rfl
theorem q1438 : (Jvm.Cond.instanceMethod ({ cls := "BonnetValleyModel", name := "sign", desc := "(I)I" } : Jvm.MethodName)) ∈ lw_all := lw_g (lw_at lw_m6 129 rfl) rfl
theorem q1439 : (Jvm.Cond.selects "BonnetValleyModel" ({ cls := "BonnetValleyModel", name := "sign", desc := "(I)I" } : Jvm.MethodName) ({ cls := "BonnetValleyModel", name := "sign", desc := "(I)I" } : Jvm.MethodName)) ∈ lw_all := lw_g (lw_at lw_m6 130 rfl) rfl
theorem q1440 : (Jvm.Cond.code ({ cls := "BonnetValleyModel", name := "sign", desc := "(I)I" } : Jvm.MethodName) prog_12_method_14_code (3 : Nat) (Option.some Jvm.ClassFile.FieldType.int)) ∈ lw_all := lw_g (lw_at lw_m6 131 rfl) rfl
theorem q1442 : (Jvm.Cond.instanceMethod ({ cls := "BonnetValleyModel", name := "end", desc := "(I)Z" } : Jvm.MethodName)) ∈ lw_all := lw_g (lw_at lw_m6 133 rfl) rfl
theorem q1443 : (Jvm.Cond.selects "BonnetValleyModel" ({ cls := "BonnetValleyModel", name := "end", desc := "(I)Z" } : Jvm.MethodName) ({ cls := "BonnetValleyModel", name := "end", desc := "(I)Z" } : Jvm.MethodName)) ∈ lw_all := lw_g (lw_at lw_m6 134 rfl) rfl
theorem q1444 : (Jvm.Cond.code ({ cls := "BonnetValleyModel", name := "end", desc := "(I)Z" } : Jvm.MethodName) prog_12_method_15_code (2 : Nat) (Option.some Jvm.ClassFile.FieldType.boolean)) ∈ lw_all := lw_g (lw_at lw_m6 135 rfl) rfl
theorem q1445 : (Jvm.Cond.methodLink "BonnetValleyModel" (126 : Nat) ({ cls := "BonnetValleyModel", name := "in", desc := "(JJJ)Z" } : Jvm.MethodName)) ∈ lw_all := lw_g (lw_at lw_m6 136 rfl) rfl
theorem q1446 : (Jvm.Cond.static ({ cls := "BonnetValleyModel", name := "in", desc := "(JJJ)Z" } : Jvm.MethodName)) ∈ lw_all := lw_g (lw_at lw_m6 137 rfl) rfl
theorem q1447 : (Jvm.Cond.code ({ cls := "BonnetValleyModel", name := "in", desc := "(JJJ)Z" } : Jvm.MethodName) prog_12_method_3_code (6 : Nat) (Option.some Jvm.ClassFile.FieldType.boolean)) ∈ lw_all := lw_g (lw_at lw_m6 138 rfl) rfl
theorem q1449 : (Jvm.Cond.instanceMethod ({ cls := "BonnetValleyModel", name := "valley", desc := "()I" } : Jvm.MethodName)) ∈ lw_all := lw_g (lw_at lw_m6 140 rfl) rfl
theorem q1450 : (Jvm.Cond.selects "BonnetValleyModel" ({ cls := "BonnetValleyModel", name := "valley", desc := "()I" } : Jvm.MethodName) ({ cls := "BonnetValleyModel", name := "valley", desc := "()I" } : Jvm.MethodName)) ∈ lw_all := lw_g (lw_at lw_m6 141 rfl) rfl
theorem q1451 : (Jvm.Cond.code ({ cls := "BonnetValleyModel", name := "valley", desc := "()I" } : Jvm.MethodName) prog_12_method_23_code (6 : Nat) (Option.some Jvm.ClassFile.FieldType.int)) ∈ lw_all := lw_g (lw_at lw_m6 142 rfl) rfl
theorem q1452 : (Jvm.Cond.methodLink "BonnetValleyModel" (175 : Nat) ({ cls := "BonnetValleyModel", name := "begins", desc := "(I)I" } : Jvm.MethodName)) ∈ lw_all := lw_g (lw_at lw_m6 143 rfl) rfl
theorem q1453 : (Jvm.Cond.privateMethod ({ cls := "BonnetValleyModel", name := "begins", desc := "(I)I" } : Jvm.MethodName)) ∈ lw_tbl := lw_at lw_m6 144 rfl
theorem q1454 : (Jvm.Cond.instanceMethod ({ cls := "BonnetValleyModel", name := "begins", desc := "(I)I" } : Jvm.MethodName)) ∈ lw_all := lw_g (lw_at lw_m6 145 rfl) rfl
theorem q1455 : (Jvm.Cond.code ({ cls := "BonnetValleyModel", name := "begins", desc := "(I)I" } : Jvm.MethodName) prog_12_method_16_code (3 : Nat) (Option.some Jvm.ClassFile.FieldType.int)) ∈ lw_all := lw_g (lw_at lw_m6 146 rfl) rfl
theorem q1456 : (Jvm.Cond.methodLink "BonnetValleyModel" (145 : Nat) ({ cls := "java/lang/Math", name := "min", desc := "(II)I" } : Jvm.MethodName)) ∈ lw_all := lw_g (lw_at lw_m6 147 rfl) rfl
theorem q1457 : (Jvm.Cond.methodLink "BonnetValleyModel" (179 : Nat) ({ cls := "BonnetValleyModel", name := "digitIn", desc := "(II)I" } : Jvm.MethodName)) ∈ lw_all := lw_g (lw_at lw_m6 148 rfl) rfl
theorem q1458 : (Jvm.Cond.privateMethod ({ cls := "BonnetValleyModel", name := "digitIn", desc := "(II)I" } : Jvm.MethodName)) ∈ lw_tbl := lw_at lw_m6 149 rfl
theorem q1459 : (Jvm.Cond.instanceMethod ({ cls := "BonnetValleyModel", name := "digitIn", desc := "(II)I" } : Jvm.MethodName)) ∈ lw_all := lw_g (lw_at lw_m6 150 rfl) rfl
theorem q1460 : (Jvm.Cond.code ({ cls := "BonnetValleyModel", name := "digitIn", desc := "(II)I" } : Jvm.MethodName) prog_12_method_21_code (3 : Nat) (Option.some Jvm.ClassFile.FieldType.int)) ∈ lw_all := lw_g (lw_at lw_m6 151 rfl) rfl
theorem q1461 : (Jvm.Cond.stringRef "BonnetValleyModel" (182 : Nat) ".#") ∈ lw_tbl := lw_at lw_m6 152 rfl
theorem q1462 : (Jvm.Cond.methodLink "BonnetValleyModel" (184 : Nat) ({ cls := "BonnetValleyModel", name := "takesOf", desc := "(Ljava/lang/String;)I" } : Jvm.MethodName)) ∈ lw_all := lw_g (lw_at lw_m6 153 rfl) rfl
theorem q1463 : (Jvm.Cond.privateMethod ({ cls := "BonnetValleyModel", name := "takesOf", desc := "(Ljava/lang/String;)I" } : Jvm.MethodName)) ∈ lw_tbl := lw_at lw_m6 154 rfl
theorem q1464 : (Jvm.Cond.instanceMethod ({ cls := "BonnetValleyModel", name := "takesOf", desc := "(Ljava/lang/String;)I" } : Jvm.MethodName)) ∈ lw_all := lw_g (lw_at lw_m6 155 rfl) rfl
theorem q1465 : (Jvm.Cond.code ({ cls := "BonnetValleyModel", name := "takesOf", desc := "(Ljava/lang/String;)I" } : Jvm.MethodName) prog_12_method_19_code (3 : Nat) (Option.some Jvm.ClassFile.FieldType.int)) ∈ lw_all := lw_g (lw_at lw_m6 156 rfl) rfl
theorem q1466 : (Jvm.Cond.methodLink "BonnetValleyModel" (162 : Nat) ({ cls := "java/lang/String", name := "length", desc := "()I" } : Jvm.MethodName)) ∈ lw_all := lw_g (lw_at lw_m6 157 rfl) rfl
theorem q1467 : (Jvm.Cond.methodLink "BonnetValleyModel" (167 : Nat) ({ cls := "java/lang/String", name := "charAt", desc := "(I)C" } : Jvm.MethodName)) ∈ lw_all := lw_g (lw_at lw_m6 158 rfl) rfl
theorem q1487 : (Jvm.Cond.methodLink "BonnetValleyModel" (122 : Nat) ({ cls := "BonnetValleyModel", name := "fields", desc := "()I" } : Jvm.MethodName)) ∈ lw_all := lw_g (lw_at lw_m6 178 rfl) rfl
theorem q1488 : (Jvm.Cond.privateMethod ({ cls := "BonnetValleyModel", name := "fields", desc := "()I" } : Jvm.MethodName)) ∈ lw_tbl := lw_at lw_m6 179 rfl
theorem q1489 : (Jvm.Cond.instanceMethod ({ cls := "BonnetValleyModel", name := "fields", desc := "()I" } : Jvm.MethodName)) ∈ lw_all := lw_g (lw_at lw_m6 180 rfl) rfl
theorem q1490 : (Jvm.Cond.code ({ cls := "BonnetValleyModel", name := "fields", desc := "()I" } : Jvm.MethodName) prog_12_method_9_code (1 : Nat) (Option.some Jvm.ClassFile.FieldType.int)) ∈ lw_all := lw_g (lw_at lw_m6 181 rfl) rfl
theorem q1492 : (Jvm.Cond.instanceMethod ({ cls := "BonnetValleyModel", name := "people", desc := "()I" } : Jvm.MethodName)) ∈ lw_all := lw_g (lw_at lw_m6 183 rfl) rfl
theorem q1493 : (Jvm.Cond.selects "BonnetValleyModel" ({ cls := "BonnetValleyModel", name := "people", desc := "()I" } : Jvm.MethodName) ({ cls := "BonnetValleyModel", name := "people", desc := "()I" } : Jvm.MethodName)) ∈ lw_all := lw_g (lw_at lw_m6 184 rfl) rfl
theorem q1494 : (Jvm.Cond.code ({ cls := "BonnetValleyModel", name := "people", desc := "()I" } : Jvm.MethodName) prog_12_method_29_code (3 : Nat) (Option.some Jvm.ClassFile.FieldType.int)) ∈ lw_all := lw_g (lw_at lw_m6 185 rfl) rfl
theorem q1495 : (Jvm.Cond.methodLink "BonnetValleyModel" (217 : Nat) ({ cls := "BonnetValleyModel", name := "readsLines", desc := "(ZI)I" } : Jvm.MethodName)) ∈ lw_all := lw_g (lw_at lw_m6 186 rfl) rfl
theorem q1496 : (Jvm.Cond.privateMethod ({ cls := "BonnetValleyModel", name := "readsLines", desc := "(ZI)I" } : Jvm.MethodName)) ∈ lw_tbl := lw_at lw_m6 187 rfl
theorem q1497 : (Jvm.Cond.instanceMethod ({ cls := "BonnetValleyModel", name := "readsLines", desc := "(ZI)I" } : Jvm.MethodName)) ∈ lw_all := lw_g (lw_at lw_m6 188 rfl) rfl
theorem q1498 : (Jvm.Cond.code ({ cls := "BonnetValleyModel", name := "readsLines", desc := "(ZI)I" } : Jvm.MethodName) prog_12_method_27_code (6 : Nat) (Option.some Jvm.ClassFile.FieldType.int)) ∈ lw_all := lw_g (lw_at lw_m6 189 rfl) rfl
theorem q1499 : (Jvm.Cond.methodLink "BonnetValleyModel" (203 : Nat) ({ cls := "BonnetValleyModel", name := "readsPerson", desc := "()Z" } : Jvm.MethodName)) ∈ lw_all := lw_g (lw_at lw_m6 190 rfl) rfl
theorem q1500 : (Jvm.Cond.privateMethod ({ cls := "BonnetValleyModel", name := "readsPerson", desc := "()Z" } : Jvm.MethodName)) ∈ lw_tbl := lw_at lw_m6 191 rfl
theorem q1501 : (Jvm.Cond.instanceMethod ({ cls := "BonnetValleyModel", name := "readsPerson", desc := "()Z" } : Jvm.MethodName)) ∈ lw_all := lw_g (lw_at lw_m6 192 rfl) rfl
theorem q1502 : (Jvm.Cond.code ({ cls := "BonnetValleyModel", name := "readsPerson", desc := "()Z" } : Jvm.MethodName) prog_12_method_25_code (2 : Nat) (Option.some Jvm.ClassFile.FieldType.boolean)) ∈ lw_all := lw_g (lw_at lw_m6 193 rfl) rfl
theorem q1503 : (Jvm.Cond.methodLink "BonnetValleyModel" (200 : Nat) ({ cls := "BonnetValleyModel", name := "readsField", desc := "()I" } : Jvm.MethodName)) ∈ lw_all := lw_g (lw_at lw_m6 194 rfl) rfl
theorem q1504 : (Jvm.Cond.privateMethod ({ cls := "BonnetValleyModel", name := "readsField", desc := "()I" } : Jvm.MethodName)) ∈ lw_tbl := lw_at lw_m6 195 rfl
theorem q1505 : (Jvm.Cond.instanceMethod ({ cls := "BonnetValleyModel", name := "readsField", desc := "()I" } : Jvm.MethodName)) ∈ lw_all := lw_g (lw_at lw_m6 196 rfl) rfl
theorem q1506 : (Jvm.Cond.code ({ cls := "BonnetValleyModel", name := "readsField", desc := "()I" } : Jvm.MethodName) prog_12_method_24_code (3 : Nat) (Option.some Jvm.ClassFile.FieldType.int)) ∈ lw_all := lw_g (lw_at lw_m6 197 rfl) rfl
theorem q1507 : (Jvm.Cond.methodLink "BonnetValleyModel" (206 : Nat) ({ cls := "BonnetValleyModel", name := "readsThing", desc := "()Z" } : Jvm.MethodName)) ∈ lw_all := lw_g (lw_at lw_m6 198 rfl) rfl
theorem q1508 : (Jvm.Cond.privateMethod ({ cls := "BonnetValleyModel", name := "readsThing", desc := "()Z" } : Jvm.MethodName)) ∈ lw_tbl := lw_at lw_m6 199 rfl
theorem q1509 : (Jvm.Cond.instanceMethod ({ cls := "BonnetValleyModel", name := "readsThing", desc := "()Z" } : Jvm.MethodName)) ∈ lw_all := lw_g (lw_at lw_m6 200 rfl) rfl
theorem q1510 : (Jvm.Cond.code ({ cls := "BonnetValleyModel", name := "readsThing", desc := "()Z" } : Jvm.MethodName) prog_12_method_26_code (1 : Nat) (Option.some Jvm.ClassFile.FieldType.boolean)) ∈ lw_all := lw_g (lw_at lw_m6 201 rfl) rfl
theorem q1511 : (Jvm.Cond.methodLink "BonnetValleyModel" (209 : Nat) ({ cls := "BonnetValleyModel", name := "takes", desc := "(I)Z" } : Jvm.MethodName)) ∈ lw_all := lw_g (lw_at lw_m6 202 rfl) rfl
theorem q1512 : (Jvm.Cond.privateMethod ({ cls := "BonnetValleyModel", name := "takes", desc := "(I)Z" } : Jvm.MethodName)) ∈ lw_tbl := lw_at lw_m6 203 rfl
theorem q1513 : (Jvm.Cond.instanceMethod ({ cls := "BonnetValleyModel", name := "takes", desc := "(I)Z" } : Jvm.MethodName)) ∈ lw_all := lw_g (lw_at lw_m6 204 rfl) rfl
theorem q1514 : (Jvm.Cond.code ({ cls := "BonnetValleyModel", name := "takes", desc := "(I)Z" } : Jvm.MethodName) prog_12_method_17_code (3 : Nat) (Option.some Jvm.ClassFile.FieldType.boolean)) ∈ lw_all := lw_g (lw_at lw_m6 205 rfl) rfl
theorem q1515 : (Jvm.Cond.methodLink "BonnetValleyModel" (154 : Nat) ({ cls := "BonnetValleyModel", name := "flag", desc := "(Z)I" } : Jvm.MethodName)) ∈ lw_all := lw_g (lw_at lw_m6 206 rfl) rfl
theorem q1516 : (Jvm.Cond.static ({ cls := "BonnetValleyModel", name := "flag", desc := "(Z)I" } : Jvm.MethodName)) ∈ lw_all := lw_g (lw_at lw_m6 207 rfl) rfl
theorem q1517 : (Jvm.Cond.code ({ cls := "BonnetValleyModel", name := "flag", desc := "(Z)I" } : Jvm.MethodName) prog_12_method_5_code (1 : Nat) (Option.some Jvm.ClassFile.FieldType.int)) ∈ lw_all := lw_g (lw_at lw_m6 208 rfl) rfl
theorem q1518 : (Jvm.Cond.methodLink "BonnetValleyModel" (213 : Nat) ({ cls := "BonnetValleyModel", name := "faultOf", desc := "(IIZ)I" } : Jvm.MethodName)) ∈ lw_all := lw_g (lw_at lw_m6 209 rfl) rfl
theorem q1519 : (Jvm.Cond.privateMethod ({ cls := "BonnetValleyModel", name := "faultOf", desc := "(IIZ)I" } : Jvm.MethodName)) ∈ lw_tbl := lw_at lw_m6 210 rfl
theorem q1520 : (Jvm.Cond.instanceMethod ({ cls := "BonnetValleyModel", name := "faultOf", desc := "(IIZ)I" } : Jvm.MethodName)) ∈ lw_all := lw_g (lw_at lw_m6 211 rfl) rfl
theorem q1521 : (Jvm.Cond.code ({ cls := "BonnetValleyModel", name := "faultOf", desc := "(IIZ)I" } : Jvm.MethodName) prog_12_method_22_code (5 : Nat) (Option.some Jvm.ClassFile.FieldType.int)) ∈ lw_all := lw_g (lw_at lw_m6 212 rfl) rfl
theorem q1522 : (Jvm.Cond.methodLink "BonnetValleyModel" (221 : Nat) ({ cls := "BonnetValleyModel", name := "isNew", desc := "()I" } : Jvm.MethodName)) ∈ lw_all := lw_g (lw_at lw_m6 213 rfl) rfl
theorem q1523 : (Jvm.Cond.privateMethod ({ cls := "BonnetValleyModel", name := "isNew", desc := "()I" } : Jvm.MethodName)) ∈ lw_tbl := lw_at lw_m6 214 rfl
theorem q1524 : (Jvm.Cond.instanceMethod ({ cls := "BonnetValleyModel", name := "isNew", desc := "()I" } : Jvm.MethodName)) ∈ lw_all := lw_g (lw_at lw_m6 215 rfl) rfl
theorem q1525 : (Jvm.Cond.code ({ cls := "BonnetValleyModel", name := "isNew", desc := "()I" } : Jvm.MethodName) prog_12_method_28_code (1 : Nat) (Option.some Jvm.ClassFile.FieldType.int)) ∈ lw_all := lw_g (lw_at lw_m6 216 rfl) rfl
theorem q1527 : (Jvm.Cond.instanceMethod ({ cls := "BonnetValleyModel", name := "things", desc := "()I" } : Jvm.MethodName)) ∈ lw_all := lw_g (lw_at lw_m6 218 rfl) rfl
theorem q1528 : (Jvm.Cond.selects "BonnetValleyModel" ({ cls := "BonnetValleyModel", name := "things", desc := "()I" } : Jvm.MethodName) ({ cls := "BonnetValleyModel", name := "things", desc := "()I" } : Jvm.MethodName)) ∈ lw_all := lw_g (lw_at lw_m6 219 rfl) rfl
theorem q1529 : (Jvm.Cond.code ({ cls := "BonnetValleyModel", name := "things", desc := "()I" } : Jvm.MethodName) prog_12_method_30_code (3 : Nat) (Option.some Jvm.ClassFile.FieldType.int)) ∈ lw_all := lw_g (lw_at lw_m6 220 rfl) rfl
theorem q1531 : (Jvm.Cond.instanceMethod ({ cls := "BonnetValleyModel", name := "light", desc := "()I" } : Jvm.MethodName)) ∈ lw_all := lw_g (lw_at lw_m6 222 rfl) rfl
theorem q1532 : (Jvm.Cond.selects "BonnetValleyModel" ({ cls := "BonnetValleyModel", name := "light", desc := "()I" } : Jvm.MethodName) ({ cls := "BonnetValleyModel", name := "light", desc := "()I" } : Jvm.MethodName)) ∈ lw_all := lw_g (lw_at lw_m6 223 rfl) rfl
theorem q1533 : (Jvm.Cond.code ({ cls := "BonnetValleyModel", name := "light", desc := "()I" } : Jvm.MethodName) prog_12_method_31_code (3 : Nat) (Option.some Jvm.ClassFile.FieldType.int)) ∈ lw_all := lw_g (lw_at lw_m6 224 rfl) rfl
theorem q1534 : (Jvm.Cond.methodLink "BonnetValleyModel" (171 : Nat) ({ cls := "BonnetValleyModel", name := "isDigit", desc := "()Z" } : Jvm.MethodName)) ∈ lw_all := lw_g (lw_at lw_m6 225 rfl) rfl
theorem q1535 : (Jvm.Cond.privateMethod ({ cls := "BonnetValleyModel", name := "isDigit", desc := "()Z" } : Jvm.MethodName)) ∈ lw_tbl := lw_at lw_m6 226 rfl
theorem q1536 : (Jvm.Cond.instanceMethod ({ cls := "BonnetValleyModel", name := "isDigit", desc := "()Z" } : Jvm.MethodName)) ∈ lw_all := lw_g (lw_at lw_m6 227 rfl) rfl
theorem q1537 : (Jvm.Cond.code ({ cls := "BonnetValleyModel", name := "isDigit", desc := "()Z" } : Jvm.MethodName) prog_12_method_18_code (1 : Nat) (Option.some Jvm.ClassFile.FieldType.boolean)) ∈ lw_all := lw_g (lw_at lw_m6 228 rfl) rfl
theorem q1538 : (Jvm.Cond.constantLong "BonnetValleyModel" (158 : Nat) (48 : Int64)) ∈ lw_all := lw_g (lw_at lw_m6 229 rfl) rfl
theorem q1539 : (Jvm.Cond.constantLong "BonnetValleyModel" (160 : Nat) (57 : Int64)) ∈ lw_all := lw_g (lw_at lw_m6 230 rfl) rfl
theorem q1540 : (Jvm.Cond.methodLink "BonnetValleyModel" (224 : Nat) ({ cls := "BonnetValleyModel", name := "number", desc := "(I)I" } : Jvm.MethodName)) ∈ lw_all := lw_g (lw_at lw_m6 231 rfl) rfl
theorem q1541 : (Jvm.Cond.privateMethod ({ cls := "BonnetValleyModel", name := "number", desc := "(I)I" } : Jvm.MethodName)) ∈ lw_tbl := lw_at lw_m6 232 rfl
theorem q1542 : (Jvm.Cond.instanceMethod ({ cls := "BonnetValleyModel", name := "number", desc := "(I)I" } : Jvm.MethodName)) ∈ lw_all := lw_g (lw_at lw_m6 233 rfl) rfl
theorem q1543 : (Jvm.Cond.code ({ cls := "BonnetValleyModel", name := "number", desc := "(I)I" } : Jvm.MethodName) prog_12_method_20_code (4 : Nat) (Option.some Jvm.ClassFile.FieldType.int)) ∈ lw_all := lw_g (lw_at lw_m6 234 rfl) rfl
theorem q1545 : (Jvm.Cond.instanceMethod ({ cls := "BonnetValleyModel", name := "rule", desc := "()I" } : Jvm.MethodName)) ∈ lw_all := lw_g (lw_at lw_m6 236 rfl) rfl
theorem q1546 : (Jvm.Cond.selects "BonnetValleyModel" ({ cls := "BonnetValleyModel", name := "rule", desc := "()I" } : Jvm.MethodName) ({ cls := "BonnetValleyModel", name := "rule", desc := "()I" } : Jvm.MethodName)) ∈ lw_all := lw_g (lw_at lw_m6 237 rfl) rfl
theorem q1547 : (Jvm.Cond.code ({ cls := "BonnetValleyModel", name := "rule", desc := "()I" } : Jvm.MethodName) prog_12_method_38_code (2 : Nat) (Option.some Jvm.ClassFile.FieldType.int)) ∈ lw_all := lw_g (lw_at lw_m6 238 rfl) rfl
theorem q1548 : (Jvm.Cond.methodLink "BonnetValleyModel" (251 : Nat) ({ cls := "BonnetValleyModel", name := "readsRule", desc := "()I" } : Jvm.MethodName)) ∈ lw_all := lw_g (lw_at lw_m6 239 rfl) rfl
theorem q1549 : (Jvm.Cond.privateMethod ({ cls := "BonnetValleyModel", name := "readsRule", desc := "()I" } : Jvm.MethodName)) ∈ lw_tbl := lw_at lw_m7 0 rfl
theorem q1550 : (Jvm.Cond.instanceMethod ({ cls := "BonnetValleyModel", name := "readsRule", desc := "()I" } : Jvm.MethodName)) ∈ lw_all := lw_g (lw_at lw_m7 1 rfl) rfl
theorem q1551 : (Jvm.Cond.code ({ cls := "BonnetValleyModel", name := "readsRule", desc := "()I" } : Jvm.MethodName) prog_12_method_36_code (3 : Nat) (Option.some Jvm.ClassFile.FieldType.int)) ∈ lw_all := lw_g (lw_at lw_m7 2 rfl) rfl
theorem q1552 : (Jvm.Cond.methodLink "BonnetValleyModel" (239 : Nat) ({ cls := "BonnetValleyModel", name := "readsRank", desc := "(I)Z" } : Jvm.MethodName)) ∈ lw_all := lw_g (lw_at lw_m7 3 rfl) rfl
theorem q1553 : (Jvm.Cond.privateMethod ({ cls := "BonnetValleyModel", name := "readsRank", desc := "(I)Z" } : Jvm.MethodName)) ∈ lw_tbl := lw_at lw_m7 4 rfl
theorem q1554 : (Jvm.Cond.instanceMethod ({ cls := "BonnetValleyModel", name := "readsRank", desc := "(I)Z" } : Jvm.MethodName)) ∈ lw_all := lw_g (lw_at lw_m7 5 rfl) rfl
theorem q1555 : (Jvm.Cond.code ({ cls := "BonnetValleyModel", name := "readsRank", desc := "(I)Z" } : Jvm.MethodName) prog_12_method_35_code (4 : Nat) (Option.some Jvm.ClassFile.FieldType.boolean)) ∈ lw_all := lw_g (lw_at lw_m7 6 rfl) rfl
theorem q1556 : (Jvm.Cond.methodLink "BonnetValleyModel" (230 : Nat) ({ cls := "BonnetValleyModel", name := "readsAsked", desc := "()Z" } : Jvm.MethodName)) ∈ lw_all := lw_g (lw_at lw_m7 7 rfl) rfl
theorem q1557 : (Jvm.Cond.privateMethod ({ cls := "BonnetValleyModel", name := "readsAsked", desc := "()Z" } : Jvm.MethodName)) ∈ lw_tbl := lw_at lw_m7 8 rfl
theorem q1558 : (Jvm.Cond.instanceMethod ({ cls := "BonnetValleyModel", name := "readsAsked", desc := "()Z" } : Jvm.MethodName)) ∈ lw_all := lw_g (lw_at lw_m7 9 rfl) rfl
theorem q1559 : (Jvm.Cond.code ({ cls := "BonnetValleyModel", name := "readsAsked", desc := "()Z" } : Jvm.MethodName) prog_12_method_34_code (2 : Nat) (Option.some Jvm.ClassFile.FieldType.boolean)) ∈ lw_all := lw_g (lw_at lw_m7 10 rfl) rfl
theorem q1560 : (Jvm.Cond.methodLink "BonnetValleyModel" (233 : Nat) ({ cls := "BonnetValleyModel", name := "codes", desc := "(I)V" } : Jvm.MethodName)) ∈ lw_all := lw_g (lw_at lw_m7 11 rfl) rfl
theorem q1561 : (Jvm.Cond.privateMethod ({ cls := "BonnetValleyModel", name := "codes", desc := "(I)V" } : Jvm.MethodName)) ∈ lw_tbl := lw_at lw_m7 12 rfl
theorem q1562 : (Jvm.Cond.instanceMethod ({ cls := "BonnetValleyModel", name := "codes", desc := "(I)V" } : Jvm.MethodName)) ∈ lw_all := lw_g (lw_at lw_m7 13 rfl) rfl
theorem q1563 : (Jvm.Cond.code ({ cls := "BonnetValleyModel", name := "codes", desc := "(I)V" } : Jvm.MethodName) prog_12_method_33_code (2 : Nat) (Option.none : Option Jvm.ClassFile.FieldType)) ∈ lw_all := lw_g (lw_at lw_m7 14 rfl) rfl
theorem q1564 : (Jvm.Cond.stringRef "BonnetValleyModel" (237 : Nat) "blkfrcnp") ∈ lw_tbl := lw_at lw_m7 15 rfl
theorem q1565 : (Jvm.Cond.stringRef "BonnetValleyModel" (242 : Nat) "<>=") ∈ lw_tbl := lw_at lw_m7 16 rfl
theorem q1566 : (Jvm.Cond.stringRef "BonnetValleyModel" (244 : Nat) "+-") ∈ lw_tbl := lw_at lw_m7 17 rfl
theorem q1567 : (Jvm.Cond.stringRef "BonnetValleyModel" (246 : Nat) "*/") ∈ lw_tbl := lw_at lw_m7 18 rfl
theorem q1568 : (Jvm.Cond.methodLink "BonnetValleyModel" (254 : Nat) ({ cls := "BonnetValleyModel", name := "laysCode", desc := "([II)V" } : Jvm.MethodName)) ∈ lw_all := lw_g (lw_at lw_m7 19 rfl) rfl
theorem q1569 : (Jvm.Cond.privateMethod ({ cls := "BonnetValleyModel", name := "laysCode", desc := "([II)V" } : Jvm.MethodName)) ∈ lw_tbl := lw_at lw_m7 20 rfl
theorem q1570 : (Jvm.Cond.instanceMethod ({ cls := "BonnetValleyModel", name := "laysCode", desc := "([II)V" } : Jvm.MethodName)) ∈ lw_all := lw_g (lw_at lw_m7 21 rfl) rfl
theorem q1571 : (Jvm.Cond.code ({ cls := "BonnetValleyModel", name := "laysCode", desc := "([II)V" } : Jvm.MethodName) prog_12_method_37_code (4 : Nat) (Option.none : Option Jvm.ClassFile.FieldType)) ∈ lw_all := lw_g (lw_at lw_m7 22 rfl) rfl
theorem q1573 : (Jvm.Cond.instanceMethod ({ cls := "BonnetValleyModel", name := "person", desc := "(II)I" } : Jvm.MethodName)) ∈ lw_all := lw_g (lw_at lw_m7 24 rfl) rfl
theorem q1574 : (Jvm.Cond.selects "BonnetValleyModel" ({ cls := "BonnetValleyModel", name := "person", desc := "(II)I" } : Jvm.MethodName) ({ cls := "BonnetValleyModel", name := "person", desc := "(II)I" } : Jvm.MethodName)) ∈ lw_all := lw_g (lw_at lw_m7 25 rfl) rfl
theorem q1575 : (Jvm.Cond.code ({ cls := "BonnetValleyModel", name := "person", desc := "(II)I" } : Jvm.MethodName) prog_12_method_56_code (3 : Nat) (Option.some Jvm.ClassFile.FieldType.int)) ∈ lw_all := lw_g (lw_at lw_m7 26 rfl) rfl
theorem q1576 : (Jvm.Cond.methodLink "BonnetValleyModel" (315 : Nat) ({ cls := "BonnetValleyModel", name := "isPerson", desc := "(I)Z" } : Jvm.MethodName)) ∈ lw_all := lw_g (lw_at lw_m7 27 rfl) rfl
theorem q1577 : (Jvm.Cond.privateMethod ({ cls := "BonnetValleyModel", name := "isPerson", desc := "(I)Z" } : Jvm.MethodName)) ∈ lw_tbl := lw_at lw_m7 28 rfl
theorem q1578 : (Jvm.Cond.instanceMethod ({ cls := "BonnetValleyModel", name := "isPerson", desc := "(I)Z" } : Jvm.MethodName)) ∈ lw_all := lw_g (lw_at lw_m7 29 rfl) rfl
theorem q1579 : (Jvm.Cond.code ({ cls := "BonnetValleyModel", name := "isPerson", desc := "(I)Z" } : Jvm.MethodName) prog_12_method_11_code (2 : Nat) (Option.some Jvm.ClassFile.FieldType.boolean)) ∈ lw_all := lw_g (lw_at lw_m7 30 rfl) rfl
theorem q1580 : (Jvm.Cond.constantLong "BonnetValleyModel" (318 : Nat) (5 : Int64)) ∈ lw_all := lw_g (lw_at lw_m7 31 rfl) rfl
theorem q1581 : (Jvm.Cond.methodLink "BonnetValleyModel" (320 : Nat) ({ cls := "BonnetValleyModel", name := "refuse", desc := "()I" } : Jvm.MethodName)) ∈ lw_all := lw_g (lw_at lw_m7 32 rfl) rfl
theorem q1582 : (Jvm.Cond.privateMethod ({ cls := "BonnetValleyModel", name := "refuse", desc := "()I" } : Jvm.MethodName)) ∈ lw_tbl := lw_at lw_m7 33 rfl
theorem q1583 : (Jvm.Cond.instanceMethod ({ cls := "BonnetValleyModel", name := "refuse", desc := "()I" } : Jvm.MethodName)) ∈ lw_all := lw_g (lw_at lw_m7 34 rfl) rfl
theorem q1584 : (Jvm.Cond.code ({ cls := "BonnetValleyModel", name := "refuse", desc := "()I" } : Jvm.MethodName) prog_12_method_2_code (1 : Nat) (Option.some Jvm.ClassFile.FieldType.int)) ∈ lw_all := lw_g (lw_at lw_m7 35 rfl) rfl
theorem q1585 : (Jvm.Cond.methodLink "BonnetValleyModel" (292 : Nat) ({ cls := "BonnetValleyModel", name := "reachBy", desc := "([III)I" } : Jvm.MethodName)) ∈ lw_all := lw_g (lw_at lw_m7 36 rfl) rfl
theorem q1586 : (Jvm.Cond.privateMethod ({ cls := "BonnetValleyModel", name := "reachBy", desc := "([III)I" } : Jvm.MethodName)) ∈ lw_tbl := lw_at lw_m7 37 rfl
theorem q1587 : (Jvm.Cond.instanceMethod ({ cls := "BonnetValleyModel", name := "reachBy", desc := "([III)I" } : Jvm.MethodName)) ∈ lw_all := lw_g (lw_at lw_m7 38 rfl) rfl
theorem q1588 : (Jvm.Cond.code ({ cls := "BonnetValleyModel", name := "reachBy", desc := "([III)I" } : Jvm.MethodName) prog_12_method_41_code (6 : Nat) (Option.some Jvm.ClassFile.FieldType.int)) ∈ lw_all := lw_g (lw_at lw_m7 39 rfl) rfl
theorem q1589 : (Jvm.Cond.methodLink "BonnetValleyModel" (262 : Nat) ({ cls := "BonnetValleyModel", name := "lightOn", desc := "(I)I" } : Jvm.MethodName)) ∈ lw_all := lw_g (lw_at lw_m7 40 rfl) rfl
theorem q1590 : (Jvm.Cond.privateMethod ({ cls := "BonnetValleyModel", name := "lightOn", desc := "(I)I" } : Jvm.MethodName)) ∈ lw_tbl := lw_at lw_m7 41 rfl
theorem q1591 : (Jvm.Cond.instanceMethod ({ cls := "BonnetValleyModel", name := "lightOn", desc := "(I)I" } : Jvm.MethodName)) ∈ lw_all := lw_g (lw_at lw_m7 42 rfl) rfl
theorem q1592 : (Jvm.Cond.code ({ cls := "BonnetValleyModel", name := "lightOn", desc := "(I)I" } : Jvm.MethodName) prog_12_method_32_code (2 : Nat) (Option.some Jvm.ClassFile.FieldType.int)) ∈ lw_all := lw_g (lw_at lw_m7 43 rfl) rfl
theorem q1593 : (Jvm.Cond.methodLink "BonnetValleyModel" (265 : Nat) ({ cls := "java/lang/Integer", name := "bitCount", desc := "(I)I" } : Jvm.MethodName)) ∈ lw_all := lw_g (lw_at lw_m7 44 rfl) rfl
theorem q1594 : (Jvm.Cond.methodLink "BonnetValleyModel" (270 : Nat) ({ cls := "BonnetValleyModel", name := "ruled", desc := "()I" } : Jvm.MethodName)) ∈ lw_all := lw_g (lw_at lw_m7 45 rfl) rfl
theorem q1595 : (Jvm.Cond.privateMethod ({ cls := "BonnetValleyModel", name := "ruled", desc := "()I" } : Jvm.MethodName)) ∈ lw_tbl := lw_at lw_m7 46 rfl
theorem q1596 : (Jvm.Cond.instanceMethod ({ cls := "BonnetValleyModel", name := "ruled", desc := "()I" } : Jvm.MethodName)) ∈ lw_all := lw_g (lw_at lw_m7 47 rfl) rfl
theorem q1597 : (Jvm.Cond.code ({ cls := "BonnetValleyModel", name := "ruled", desc := "()I" } : Jvm.MethodName) prog_12_method_40_code (4 : Nat) (Option.some Jvm.ClassFile.FieldType.int)) ∈ lw_all := lw_g (lw_at lw_m7 48 rfl) rfl
theorem q1598 : (Jvm.Cond.methodLink "BonnetValleyModel" (258 : Nat) ({ cls := "BonnetValleyModel", name := "worked", desc := "(III)I" } : Jvm.MethodName)) ∈ lw_all := lw_g (lw_at lw_m7 49 rfl) rfl
theorem q1599 : (Jvm.Cond.static ({ cls := "BonnetValleyModel", name := "worked", desc := "(III)I" } : Jvm.MethodName)) ∈ lw_all := lw_g (lw_at lw_m7 50 rfl) rfl
theorem q1600 : (Jvm.Cond.code ({ cls := "BonnetValleyModel", name := "worked", desc := "(III)I" } : Jvm.MethodName) prog_12_method_39_code (3 : Nat) (Option.some Jvm.ClassFile.FieldType.int)) ∈ lw_all := lw_g (lw_at lw_m7 51 rfl) rfl
theorem q1601 : (Jvm.Cond.methodLink "BonnetValleyModel" (273 : Nat) ({ cls := "java/lang/Math", name := "max", desc := "(II)I" } : Jvm.MethodName)) ∈ lw_all := lw_g (lw_at lw_m7 52 rfl) rfl
theorem q1602 : (Jvm.Cond.methodLink "BonnetValleyModel" (300 : Nat) ({ cls := "BonnetValleyModel", name := "fieldsSeen", desc := "([II)J" } : Jvm.MethodName)) ∈ lw_all := lw_g (lw_at lw_m7 53 rfl) rfl
theorem q1603 : (Jvm.Cond.privateMethod ({ cls := "BonnetValleyModel", name := "fieldsSeen", desc := "([II)J" } : Jvm.MethodName)) ∈ lw_tbl := lw_at lw_m7 54 rfl
theorem q1604 : (Jvm.Cond.instanceMethod ({ cls := "BonnetValleyModel", name := "fieldsSeen", desc := "([II)J" } : Jvm.MethodName)) ∈ lw_all := lw_g (lw_at lw_m7 55 rfl) rfl
theorem q1605 : (Jvm.Cond.code ({ cls := "BonnetValleyModel", name := "fieldsSeen", desc := "([II)J" } : Jvm.MethodName) prog_12_method_47_code (7 : Nat) (Option.some Jvm.ClassFile.FieldType.long)) ∈ lw_all := lw_g (lw_at lw_m7 56 rfl) rfl
theorem q1606 : (Jvm.Cond.methodLink "BonnetValleyModel" (296 : Nat) ({ cls := "BonnetValleyModel", name := "seesBy", desc := "(IIIII)Z" } : Jvm.MethodName)) ∈ lw_all := lw_g (lw_at lw_m7 57 rfl) rfl
theorem q1607 : (Jvm.Cond.privateMethod ({ cls := "BonnetValleyModel", name := "seesBy", desc := "(IIIII)Z" } : Jvm.MethodName)) ∈ lw_tbl := lw_at lw_m7 58 rfl
theorem q1608 : (Jvm.Cond.instanceMethod ({ cls := "BonnetValleyModel", name := "seesBy", desc := "(IIIII)Z" } : Jvm.MethodName)) ∈ lw_all := lw_g (lw_at lw_m7 59 rfl) rfl
theorem q1609 : (Jvm.Cond.code ({ cls := "BonnetValleyModel", name := "seesBy", desc := "(IIIII)Z" } : Jvm.MethodName) prog_12_method_45_code (9 : Nat) (Option.some Jvm.ClassFile.FieldType.boolean)) ∈ lw_all := lw_g (lw_at lw_m7 60 rfl) rfl
theorem q1610 : (Jvm.Cond.methodLink "BonnetValleyModel" (276 : Nat) ({ cls := "java/lang/Math", name := "abs", desc := "(I)I" } : Jvm.MethodName)) ∈ lw_all := lw_g (lw_at lw_m7 61 rfl) rfl
theorem q1611 : (Jvm.Cond.methodLink "BonnetValleyModel" (282 : Nat) ({ cls := "BonnetValleyModel", name := "way", desc := "(II)I" } : Jvm.MethodName)) ∈ lw_all := lw_g (lw_at lw_m7 62 rfl) rfl
theorem q1612 : (Jvm.Cond.static ({ cls := "BonnetValleyModel", name := "way", desc := "(II)I" } : Jvm.MethodName)) ∈ lw_all := lw_g (lw_at lw_m7 63 rfl) rfl
theorem q1613 : (Jvm.Cond.code ({ cls := "BonnetValleyModel", name := "way", desc := "(II)I" } : Jvm.MethodName) prog_12_method_42_code (2 : Nat) (Option.some Jvm.ClassFile.FieldType.int)) ∈ lw_all := lw_g (lw_at lw_m7 64 rfl) rfl
theorem q1614 : (Jvm.Cond.methodLink "BonnetValleyModel" (285 : Nat) ({ cls := "BonnetValleyModel", name := "eighthsBetween", desc := "(II)I" } : Jvm.MethodName)) ∈ lw_all := lw_g (lw_at lw_m7 65 rfl) rfl
theorem q1615 : (Jvm.Cond.static ({ cls := "BonnetValleyModel", name := "eighthsBetween", desc := "(II)I" } : Jvm.MethodName)) ∈ lw_all := lw_g (lw_at lw_m7 66 rfl) rfl
theorem q1616 : (Jvm.Cond.code ({ cls := "BonnetValleyModel", name := "eighthsBetween", desc := "(II)I" } : Jvm.MethodName) prog_12_method_43_code (3 : Nat) (Option.some Jvm.ClassFile.FieldType.int)) ∈ lw_all := lw_g (lw_at lw_m7 67 rfl) rfl
theorem q1617 : (Jvm.Cond.methodLink "BonnetValleyModel" (288 : Nat) ({ cls := "BonnetValleyModel", name := "isClear", desc := "(II)Z" } : Jvm.MethodName)) ∈ lw_all := lw_g (lw_at lw_m7 68 rfl) rfl
theorem q1618 : (Jvm.Cond.privateMethod ({ cls := "BonnetValleyModel", name := "isClear", desc := "(II)Z" } : Jvm.MethodName)) ∈ lw_tbl := lw_at lw_m7 69 rfl
theorem q1619 : (Jvm.Cond.instanceMethod ({ cls := "BonnetValleyModel", name := "isClear", desc := "(II)Z" } : Jvm.MethodName)) ∈ lw_all := lw_g (lw_at lw_m7 70 rfl) rfl
theorem q1620 : (Jvm.Cond.code ({ cls := "BonnetValleyModel", name := "isClear", desc := "(II)Z" } : Jvm.MethodName) prog_12_method_44_code (7 : Nat) (Option.some Jvm.ClassFile.FieldType.boolean)) ∈ lw_all := lw_g (lw_at lw_m7 71 rfl) rfl
theorem q1621 : (Jvm.Cond.methodLink "BonnetValleyModel" (279 : Nat) ({ cls := "java/lang/Integer", name := "signum", desc := "(I)I" } : Jvm.MethodName)) ∈ lw_all := lw_g (lw_at lw_m7 72 rfl) rfl
theorem q1622 : (Jvm.Cond.methodLink "BonnetValleyModel" (323 : Nat) ({ cls := "BonnetValleyModel", name := "thingsOn", desc := "([IJ)I" } : Jvm.MethodName)) ∈ lw_all := lw_g (lw_at lw_m7 73 rfl) rfl
theorem q1623 : (Jvm.Cond.privateMethod ({ cls := "BonnetValleyModel", name := "thingsOn", desc := "([IJ)I" } : Jvm.MethodName)) ∈ lw_tbl := lw_at lw_m7 74 rfl
theorem q1624 : (Jvm.Cond.instanceMethod ({ cls := "BonnetValleyModel", name := "thingsOn", desc := "([IJ)I" } : Jvm.MethodName)) ∈ lw_all := lw_g (lw_at lw_m7 75 rfl) rfl
theorem q1625 : (Jvm.Cond.code ({ cls := "BonnetValleyModel", name := "thingsOn", desc := "([IJ)I" } : Jvm.MethodName) prog_12_method_49_code (6 : Nat) (Option.some Jvm.ClassFile.FieldType.int)) ∈ lw_all := lw_g (lw_at lw_m7 76 rfl) rfl
theorem q1626 : (Jvm.Cond.methodLink "BonnetValleyModel" (304 : Nat) ({ cls := "BonnetValleyModel", name := "has", desc := "(JI)Z" } : Jvm.MethodName)) ∈ lw_all := lw_g (lw_at lw_m7 77 rfl) rfl
theorem q1627 : (Jvm.Cond.static ({ cls := "BonnetValleyModel", name := "has", desc := "(JI)Z" } : Jvm.MethodName)) ∈ lw_all := lw_g (lw_at lw_m7 78 rfl) rfl
theorem q1628 : (Jvm.Cond.code ({ cls := "BonnetValleyModel", name := "has", desc := "(JI)Z" } : Jvm.MethodName) prog_12_method_4_code (3 : Nat) (Option.some Jvm.ClassFile.FieldType.boolean)) ∈ lw_all := lw_g (lw_at lw_m7 79 rfl) rfl
theorem q1630 : (Jvm.Cond.instanceMethod ({ cls := "BonnetValleyModel", name := "thing", desc := "(II)I" } : Jvm.MethodName)) ∈ lw_all := lw_g (lw_at lw_m7 81 rfl) rfl
theorem q1631 : (Jvm.Cond.selects "BonnetValleyModel" ({ cls := "BonnetValleyModel", name := "thing", desc := "(II)I" } : Jvm.MethodName) ({ cls := "BonnetValleyModel", name := "thing", desc := "(II)I" } : Jvm.MethodName)) ∈ lw_all := lw_g (lw_at lw_m7 82 rfl) rfl
theorem q1632 : (Jvm.Cond.code ({ cls := "BonnetValleyModel", name := "thing", desc := "(II)I" } : Jvm.MethodName) prog_12_method_57_code (3 : Nat) (Option.some Jvm.ClassFile.FieldType.int)) ∈ lw_all := lw_g (lw_at lw_m7 83 rfl) rfl
theorem q1633 : (Jvm.Cond.methodLink "BonnetValleyModel" (327 : Nat) ({ cls := "BonnetValleyModel", name := "isThing", desc := "(I)Z" } : Jvm.MethodName)) ∈ lw_all := lw_g (lw_at lw_m7 84 rfl) rfl
theorem q1634 : (Jvm.Cond.privateMethod ({ cls := "BonnetValleyModel", name := "isThing", desc := "(I)Z" } : Jvm.MethodName)) ∈ lw_tbl := lw_at lw_m7 85 rfl
theorem q1635 : (Jvm.Cond.instanceMethod ({ cls := "BonnetValleyModel", name := "isThing", desc := "(I)Z" } : Jvm.MethodName)) ∈ lw_all := lw_g (lw_at lw_m7 86 rfl) rfl
theorem q1636 : (Jvm.Cond.code ({ cls := "BonnetValleyModel", name := "isThing", desc := "(I)Z" } : Jvm.MethodName) prog_12_method_12_code (2 : Nat) (Option.some Jvm.ClassFile.FieldType.boolean)) ∈ lw_all := lw_g (lw_at lw_m7 87 rfl) rfl
theorem q1637 : (Jvm.Cond.constantLong "BonnetValleyModel" (330 : Nat) (2 : Int64)) ∈ lw_all := lw_g (lw_at lw_m7 88 rfl) rfl
theorem q1638 : (Jvm.Cond.methodLink "BonnetValleyModel" (332 : Nat) ({ cls := "BonnetValleyModel", name := "knowing", desc := "([II)I" } : Jvm.MethodName)) ∈ lw_all := lw_g (lw_at lw_m7 89 rfl) rfl
theorem q1639 : (Jvm.Cond.privateMethod ({ cls := "BonnetValleyModel", name := "knowing", desc := "([II)I" } : Jvm.MethodName)) ∈ lw_tbl := lw_at lw_m7 90 rfl
theorem q1640 : (Jvm.Cond.instanceMethod ({ cls := "BonnetValleyModel", name := "knowing", desc := "([II)I" } : Jvm.MethodName)) ∈ lw_all := lw_g (lw_at lw_m7 91 rfl) rfl
theorem q1641 : (Jvm.Cond.code ({ cls := "BonnetValleyModel", name := "knowing", desc := "([II)I" } : Jvm.MethodName) prog_12_method_54_code (5 : Nat) (Option.some Jvm.ClassFile.FieldType.int)) ∈ lw_all := lw_g (lw_at lw_m7 92 rfl) rfl
theorem q1642 : (Jvm.Cond.methodLink "BonnetValleyModel" (336 : Nat) ({ cls := "BonnetValleyModel", name := "whoSees", desc := "([II)I" } : Jvm.MethodName)) ∈ lw_all := lw_g (lw_at lw_m7 93 rfl) rfl
theorem q1643 : (Jvm.Cond.privateMethod ({ cls := "BonnetValleyModel", name := "whoSees", desc := "([II)I" } : Jvm.MethodName)) ∈ lw_tbl := lw_at lw_m7 94 rfl
theorem q1644 : (Jvm.Cond.instanceMethod ({ cls := "BonnetValleyModel", name := "whoSees", desc := "([II)I" } : Jvm.MethodName)) ∈ lw_all := lw_g (lw_at lw_m7 95 rfl) rfl
theorem q1645 : (Jvm.Cond.code ({ cls := "BonnetValleyModel", name := "whoSees", desc := "([II)I" } : Jvm.MethodName) prog_12_method_51_code (5 : Nat) (Option.some Jvm.ClassFile.FieldType.int)) ∈ lw_all := lw_g (lw_at lw_m7 96 rfl) rfl
theorem q1646 : (Jvm.Cond.methodLink "BonnetValleyModel" (308 : Nat) ({ cls := "BonnetValleyModel", name := "doesSee", desc := "([III)Z" } : Jvm.MethodName)) ∈ lw_all := lw_g (lw_at lw_m7 97 rfl) rfl
theorem q1647 : (Jvm.Cond.privateMethod ({ cls := "BonnetValleyModel", name := "doesSee", desc := "([III)Z" } : Jvm.MethodName)) ∈ lw_tbl := lw_at lw_m7 98 rfl
theorem q1648 : (Jvm.Cond.instanceMethod ({ cls := "BonnetValleyModel", name := "doesSee", desc := "([III)Z" } : Jvm.MethodName)) ∈ lw_all := lw_g (lw_at lw_m7 99 rfl) rfl
theorem q1649 : (Jvm.Cond.code ({ cls := "BonnetValleyModel", name := "doesSee", desc := "([III)Z" } : Jvm.MethodName) prog_12_method_46_code (4 : Nat) (Option.some Jvm.ClassFile.FieldType.boolean)) ∈ lw_all := lw_g (lw_at lw_m7 100 rfl) rfl
theorem q1651 : (Jvm.Cond.instanceMethod ({ cls := "BonnetValleyModel", name := "sheet", desc := "(IIII)I" } : Jvm.MethodName)) ∈ lw_all := lw_g (lw_at lw_m7 102 rfl) rfl
theorem q1652 : (Jvm.Cond.selects "BonnetValleyModel" ({ cls := "BonnetValleyModel", name := "sheet", desc := "(IIII)I" } : Jvm.MethodName) ({ cls := "BonnetValleyModel", name := "sheet", desc := "(IIII)I" } : Jvm.MethodName)) ∈ lw_all := lw_g (lw_at lw_m7 103 rfl) rfl
theorem q1653 : (Jvm.Cond.code ({ cls := "BonnetValleyModel", name := "sheet", desc := "(IIII)I" } : Jvm.MethodName) prog_12_method_58_code (9 : Nat) (Option.some Jvm.ClassFile.FieldType.int)) ∈ lw_all := lw_g (lw_at lw_m7 104 rfl) rfl
theorem q1654 : (Jvm.Cond.constantLong "BonnetValleyModel" (339 : Nat) (3 : Int64)) ∈ lw_all := lw_g (lw_at lw_m7 105 rfl) rfl
theorem q1656 : (Jvm.Cond.instanceMethod ({ cls := "BonnetValleyModel", name := "undo", desc := "()I" } : Jvm.MethodName)) ∈ lw_all := lw_g (lw_at lw_m7 107 rfl) rfl
theorem q1657 : (Jvm.Cond.selects "BonnetValleyModel" ({ cls := "BonnetValleyModel", name := "undo", desc := "()I" } : Jvm.MethodName) ({ cls := "BonnetValleyModel", name := "undo", desc := "()I" } : Jvm.MethodName)) ∈ lw_all := lw_g (lw_at lw_m7 108 rfl) rfl
theorem q1658 : (Jvm.Cond.code ({ cls := "BonnetValleyModel", name := "undo", desc := "()I" } : Jvm.MethodName) prog_12_method_62_code (2 : Nat) (Option.some Jvm.ClassFile.FieldType.int)) ∈ lw_all := lw_g (lw_at lw_m7 109 rfl) rfl
theorem q1660 : (Jvm.Cond.instanceMethod ({ cls := "BonnetValleyModel", name := "hours", desc := "(I)I" } : Jvm.MethodName)) ∈ lw_all := lw_g (lw_at lw_m7 111 rfl) rfl
theorem q1661 : (Jvm.Cond.selects "BonnetValleyModel" ({ cls := "BonnetValleyModel", name := "hours", desc := "(I)I" } : Jvm.MethodName) ({ cls := "BonnetValleyModel", name := "hours", desc := "(I)I" } : Jvm.MethodName)) ∈ lw_all := lw_g (lw_at lw_m7 112 rfl) rfl
theorem q1662 : (Jvm.Cond.code ({ cls := "BonnetValleyModel", name := "hours", desc := "(I)I" } : Jvm.MethodName) prog_12_method_69_code (5 : Nat) (Option.some Jvm.ClassFile.FieldType.int)) ∈ lw_all := lw_g (lw_at lw_m7 113 rfl) rfl
theorem q1663 : (Jvm.Cond.constantLong "BonnetValleyModel" (361 : Nat) (60 : Int64)) ∈ lw_all := lw_g (lw_at lw_m7 114 rfl) rfl
theorem q1664 : (Jvm.Cond.methodLink "BonnetValleyModel" (363 : Nat) ({ cls := "BonnetValleyModel", name := "putsBy", desc := "()V" } : Jvm.MethodName)) ∈ lw_all := lw_g (lw_at lw_m7 115 rfl) rfl
theorem q1665 : (Jvm.Cond.privateMethod ({ cls := "BonnetValleyModel", name := "putsBy", desc := "()V" } : Jvm.MethodName)) ∈ lw_tbl := lw_at lw_m7 116 rfl
theorem q1666 : (Jvm.Cond.instanceMethod ({ cls := "BonnetValleyModel", name := "putsBy", desc := "()V" } : Jvm.MethodName)) ∈ lw_all := lw_g (lw_at lw_m7 117 rfl) rfl
theorem q1667 : (Jvm.Cond.code ({ cls := "BonnetValleyModel", name := "putsBy", desc := "()V" } : Jvm.MethodName) prog_12_method_59_code (2 : Nat) (Option.none : Option Jvm.ClassFile.FieldType)) ∈ lw_all := lw_g (lw_at lw_m7 118 rfl) rfl
theorem q1668 : (Jvm.Cond.methodLink "BonnetValleyModel" (366 : Nat) ({ cls := "BonnetValleyModel", name := "known", desc := "([I)I" } : Jvm.MethodName)) ∈ lw_all := lw_g (lw_at lw_m7 119 rfl) rfl
theorem q1669 : (Jvm.Cond.privateMethod ({ cls := "BonnetValleyModel", name := "known", desc := "([I)I" } : Jvm.MethodName)) ∈ lw_tbl := lw_at lw_m7 120 rfl
theorem q1670 : (Jvm.Cond.instanceMethod ({ cls := "BonnetValleyModel", name := "known", desc := "([I)I" } : Jvm.MethodName)) ∈ lw_all := lw_g (lw_at lw_m7 121 rfl) rfl
theorem q1671 : (Jvm.Cond.code ({ cls := "BonnetValleyModel", name := "known", desc := "([I)I" } : Jvm.MethodName) prog_12_method_55_code (4 : Nat) (Option.some Jvm.ClassFile.FieldType.int)) ∈ lw_all := lw_g (lw_at lw_m7 122 rfl) rfl
theorem q1672 : (Jvm.Cond.methodLink "BonnetValleyModel" (370 : Nat) ({ cls := "BonnetValleyModel", name := "goesOn", desc := "([II)V" } : Jvm.MethodName)) ∈ lw_all := lw_g (lw_at lw_m7 123 rfl) rfl
theorem q1673 : (Jvm.Cond.privateMethod ({ cls := "BonnetValleyModel", name := "goesOn", desc := "([II)V" } : Jvm.MethodName)) ∈ lw_tbl := lw_at lw_m7 124 rfl
theorem q1674 : (Jvm.Cond.instanceMethod ({ cls := "BonnetValleyModel", name := "goesOn", desc := "([II)V" } : Jvm.MethodName)) ∈ lw_all := lw_g (lw_at lw_m7 125 rfl) rfl
theorem q1675 : (Jvm.Cond.code ({ cls := "BonnetValleyModel", name := "goesOn", desc := "([II)V" } : Jvm.MethodName) prog_12_method_64_code (4 : Nat) (Option.none : Option Jvm.ClassFile.FieldType)) ∈ lw_all := lw_g (lw_at lw_m7 126 rfl) rfl
theorem q1676 : (Jvm.Cond.methodLink "BonnetValleyModel" (347 : Nat) ({ cls := "BonnetValleyModel", name := "hourGoes", desc := "([I)V" } : Jvm.MethodName)) ∈ lw_all := lw_g (lw_at lw_m7 127 rfl) rfl
theorem q1677 : (Jvm.Cond.privateMethod ({ cls := "BonnetValleyModel", name := "hourGoes", desc := "([I)V" } : Jvm.MethodName)) ∈ lw_tbl := lw_at lw_m7 128 rfl
theorem q1678 : (Jvm.Cond.instanceMethod ({ cls := "BonnetValleyModel", name := "hourGoes", desc := "([I)V" } : Jvm.MethodName)) ∈ lw_all := lw_g (lw_at lw_m7 129 rfl) rfl
theorem q1679 : (Jvm.Cond.code ({ cls := "BonnetValleyModel", name := "hourGoes", desc := "([I)V" } : Jvm.MethodName) prog_12_method_63_code (4 : Nat) (Option.none : Option Jvm.ClassFile.FieldType)) ∈ lw_all := lw_g (lw_at lw_m7 130 rfl) rfl
theorem q1680 : (Jvm.Cond.methodLink "BonnetValleyModel" (344 : Nat) ({ cls := "BonnetValleyModel", name := "tellEachOther", desc := "([III)Z" } : Jvm.MethodName)) ∈ lw_all := lw_g (lw_at lw_m7 131 rfl) rfl
theorem q1681 : (Jvm.Cond.privateMethod ({ cls := "BonnetValleyModel", name := "tellEachOther", desc := "([III)Z" } : Jvm.MethodName)) ∈ lw_tbl := lw_at lw_m7 132 rfl
theorem q1682 : (Jvm.Cond.instanceMethod ({ cls := "BonnetValleyModel", name := "tellEachOther", desc := "([III)Z" } : Jvm.MethodName)) ∈ lw_all := lw_g (lw_at lw_m7 133 rfl) rfl
theorem q1683 : (Jvm.Cond.code ({ cls := "BonnetValleyModel", name := "tellEachOther", desc := "([III)Z" } : Jvm.MethodName) prog_12_method_53_code (5 : Nat) (Option.some Jvm.ClassFile.FieldType.boolean)) ∈ lw_all := lw_g (lw_at lw_m7 134 rfl) rfl
theorem q1684 : (Jvm.Cond.methodLink "BonnetValleyModel" (312 : Nat) ({ cls := "BonnetValleyModel", name := "seeEachOther", desc := "([III)Z" } : Jvm.MethodName)) ∈ lw_all := lw_g (lw_at lw_m7 135 rfl) rfl
theorem q1685 : (Jvm.Cond.privateMethod ({ cls := "BonnetValleyModel", name := "seeEachOther", desc := "([III)Z" } : Jvm.MethodName)) ∈ lw_tbl := lw_at lw_m7 136 rfl
theorem q1686 : (Jvm.Cond.instanceMethod ({ cls := "BonnetValleyModel", name := "seeEachOther", desc := "([III)Z" } : Jvm.MethodName)) ∈ lw_all := lw_g (lw_at lw_m7 137 rfl) rfl
theorem q1687 : (Jvm.Cond.code ({ cls := "BonnetValleyModel", name := "seeEachOther", desc := "([III)Z" } : Jvm.MethodName) prog_12_method_52_code (4 : Nat) (Option.some Jvm.ClassFile.FieldType.boolean)) ∈ lw_all := lw_g (lw_at lw_m7 138 rfl) rfl
theorem q1688 : (Jvm.Cond.methodLink "BonnetValleyModel" (373 : Nat) ({ cls := "BonnetValleyModel", name := "enters", desc := "(J)V" } : Jvm.MethodName)) ∈ lw_all := lw_g (lw_at lw_m7 139 rfl) rfl
theorem q1689 : (Jvm.Cond.privateMethod ({ cls := "BonnetValleyModel", name := "enters", desc := "(J)V" } : Jvm.MethodName)) ∈ lw_tbl := lw_at lw_m7 140 rfl
theorem q1690 : (Jvm.Cond.instanceMethod ({ cls := "BonnetValleyModel", name := "enters", desc := "(J)V" } : Jvm.MethodName)) ∈ lw_all := lw_g (lw_at lw_m7 141 rfl) rfl
theorem q1691 : (Jvm.Cond.code ({ cls := "BonnetValleyModel", name := "enters", desc := "(J)V" } : Jvm.MethodName) prog_12_method_7_code (3 : Nat) (Option.none : Option Jvm.ClassFile.FieldType)) ∈ lw_all := lw_g (lw_at lw_m7 142 rfl) rfl
theorem q1692 : (Jvm.Cond.methodLink "BonnetValleyModel" (341 : Nat) ({ cls := "BonnetValleyModel", name := "adds", desc := "(I)I" } : Jvm.MethodName)) ∈ lw_all := lw_g (lw_at lw_m7 143 rfl) rfl
theorem q1693 : (Jvm.Cond.privateMethod ({ cls := "BonnetValleyModel", name := "adds", desc := "(I)I" } : Jvm.MethodName)) ∈ lw_tbl := lw_at lw_m7 144 rfl
theorem q1694 : (Jvm.Cond.instanceMethod ({ cls := "BonnetValleyModel", name := "adds", desc := "(I)I" } : Jvm.MethodName)) ∈ lw_all := lw_g (lw_at lw_m7 145 rfl) rfl
theorem q1695 : (Jvm.Cond.code ({ cls := "BonnetValleyModel", name := "adds", desc := "(I)I" } : Jvm.MethodName) prog_12_method_60_code (3 : Nat) (Option.some Jvm.ClassFile.FieldType.int)) ∈ lw_all := lw_g (lw_at lw_m7 146 rfl) rfl
theorem q1697 : (Jvm.Cond.instanceMethod ({ cls := "BonnetValleyModel", name := "faces", desc := "(II)I" } : Jvm.MethodName)) ∈ lw_all := lw_g (lw_at lw_m7 148 rfl) rfl
theorem q1698 : (Jvm.Cond.selects "BonnetValleyModel" ({ cls := "BonnetValleyModel", name := "faces", desc := "(II)I" } : Jvm.MethodName) ({ cls := "BonnetValleyModel", name := "faces", desc := "(II)I" } : Jvm.MethodName)) ∈ lw_all := lw_g (lw_at lw_m7 149 rfl) rfl
theorem q1699 : (Jvm.Cond.code ({ cls := "BonnetValleyModel", name := "faces", desc := "(II)I" } : Jvm.MethodName) prog_12_method_70_code (3 : Nat) (Option.some Jvm.ClassFile.FieldType.int)) ∈ lw_all := lw_g (lw_at lw_m7 150 rfl) rfl
theorem q1700 : (Jvm.Cond.methodLink "BonnetValleyModel" (377 : Nat) ({ cls := "BonnetValleyModel", name := "facesOne", desc := "([III)I" } : Jvm.MethodName)) ∈ lw_all := lw_g (lw_at lw_m7 151 rfl) rfl
theorem q1701 : (Jvm.Cond.privateMethod ({ cls := "BonnetValleyModel", name := "facesOne", desc := "([III)I" } : Jvm.MethodName)) ∈ lw_tbl := lw_at lw_m7 152 rfl
theorem q1702 : (Jvm.Cond.instanceMethod ({ cls := "BonnetValleyModel", name := "facesOne", desc := "([III)I" } : Jvm.MethodName)) ∈ lw_all := lw_g (lw_at lw_m7 153 rfl) rfl
theorem q1703 : (Jvm.Cond.code ({ cls := "BonnetValleyModel", name := "facesOne", desc := "([III)I" } : Jvm.MethodName) prog_12_method_65_code (5 : Nat) (Option.some Jvm.ClassFile.FieldType.int)) ∈ lw_all := lw_g (lw_at lw_m7 154 rfl) rfl
theorem q1704 : (Jvm.Cond.constantLong "BonnetValleyModel" (351 : Nat) (7 : Int64)) ∈ lw_all := lw_g (lw_at lw_m7 155 rfl) rfl
theorem q1705 : (Jvm.Cond.methodLink "BonnetValleyModel" (380 : Nat) ({ cls := "BonnetValleyModel", name := "counted", desc := "(I)I" } : Jvm.MethodName)) ∈ lw_all := lw_g (lw_at lw_m7 156 rfl) rfl
theorem q1706 : (Jvm.Cond.privateMethod ({ cls := "BonnetValleyModel", name := "counted", desc := "(I)I" } : Jvm.MethodName)) ∈ lw_tbl := lw_at lw_m7 157 rfl
theorem q1707 : (Jvm.Cond.instanceMethod ({ cls := "BonnetValleyModel", name := "counted", desc := "(I)I" } : Jvm.MethodName)) ∈ lw_all := lw_g (lw_at lw_m7 158 rfl) rfl
theorem q1708 : (Jvm.Cond.code ({ cls := "BonnetValleyModel", name := "counted", desc := "(I)I" } : Jvm.MethodName) prog_12_method_61_code (2 : Nat) (Option.some Jvm.ClassFile.FieldType.int)) ∈ lw_all := lw_g (lw_at lw_m7 159 rfl) rfl
theorem q1710 : (Jvm.Cond.instanceMethod ({ cls := "BonnetValleyModel", name := "steps", desc := "(II)I" } : Jvm.MethodName)) ∈ lw_all := lw_g (lw_at lw_m7 161 rfl) rfl
theorem q1711 : (Jvm.Cond.selects "BonnetValleyModel" ({ cls := "BonnetValleyModel", name := "steps", desc := "(II)I" } : Jvm.MethodName) ({ cls := "BonnetValleyModel", name := "steps", desc := "(II)I" } : Jvm.MethodName)) ∈ lw_all := lw_g (lw_at lw_m7 162 rfl) rfl
theorem q1712 : (Jvm.Cond.code ({ cls := "BonnetValleyModel", name := "steps", desc := "(II)I" } : Jvm.MethodName) prog_12_method_71_code (3 : Nat) (Option.some Jvm.ClassFile.FieldType.int)) ∈ lw_all := lw_g (lw_at lw_m7 163 rfl) rfl
theorem q1713 : (Jvm.Cond.methodLink "BonnetValleyModel" (383 : Nat) ({ cls := "BonnetValleyModel", name := "stepsOne", desc := "([III)I" } : Jvm.MethodName)) ∈ lw_all := lw_g (lw_at lw_m7 164 rfl) rfl
theorem q1714 : (Jvm.Cond.privateMethod ({ cls := "BonnetValleyModel", name := "stepsOne", desc := "([III)I" } : Jvm.MethodName)) ∈ lw_tbl := lw_at lw_m7 165 rfl
theorem q1715 : (Jvm.Cond.instanceMethod ({ cls := "BonnetValleyModel", name := "stepsOne", desc := "([III)I" } : Jvm.MethodName)) ∈ lw_all := lw_g (lw_at lw_m7 166 rfl) rfl
theorem q1716 : (Jvm.Cond.code ({ cls := "BonnetValleyModel", name := "stepsOne", desc := "([III)I" } : Jvm.MethodName) prog_12_method_66_code (5 : Nat) (Option.some Jvm.ClassFile.FieldType.int)) ∈ lw_all := lw_g (lw_at lw_m7 167 rfl) rfl
theorem q1717 : (Jvm.Cond.methodLink "BonnetValleyModel" (353 : Nat) ({ cls := "BonnetValleyModel", name := "beside", desc := "(II)I" } : Jvm.MethodName)) ∈ lw_all := lw_g (lw_at lw_m7 168 rfl) rfl
theorem q1718 : (Jvm.Cond.privateMethod ({ cls := "BonnetValleyModel", name := "beside", desc := "(II)I" } : Jvm.MethodName)) ∈ lw_tbl := lw_at lw_m7 169 rfl
theorem q1719 : (Jvm.Cond.instanceMethod ({ cls := "BonnetValleyModel", name := "beside", desc := "(II)I" } : Jvm.MethodName)) ∈ lw_all := lw_g (lw_at lw_m7 170 rfl) rfl
theorem q1720 : (Jvm.Cond.code ({ cls := "BonnetValleyModel", name := "beside", desc := "(II)I" } : Jvm.MethodName) prog_12_method_13_code (5 : Nat) (Option.some Jvm.ClassFile.FieldType.int)) ∈ lw_all := lw_g (lw_at lw_m7 171 rfl) rfl
theorem q1722 : (Jvm.Cond.instanceMethod ({ cls := "BonnetValleyModel", name := "trims", desc := "(II)I" } : Jvm.MethodName)) ∈ lw_all := lw_g (lw_at lw_m7 173 rfl) rfl
theorem q1723 : (Jvm.Cond.selects "BonnetValleyModel" ({ cls := "BonnetValleyModel", name := "trims", desc := "(II)I" } : Jvm.MethodName) ({ cls := "BonnetValleyModel", name := "trims", desc := "(II)I" } : Jvm.MethodName)) ∈ lw_all := lw_g (lw_at lw_m7 174 rfl) rfl
theorem q1724 : (Jvm.Cond.code ({ cls := "BonnetValleyModel", name := "trims", desc := "(II)I" } : Jvm.MethodName) prog_12_method_72_code (3 : Nat) (Option.some Jvm.ClassFile.FieldType.int)) ∈ lw_all := lw_g (lw_at lw_m7 175 rfl) rfl
theorem q1725 : (Jvm.Cond.methodLink "BonnetValleyModel" (386 : Nat) ({ cls := "BonnetValleyModel", name := "trimsOne", desc := "(II)I" } : Jvm.MethodName)) ∈ lw_all := lw_g (lw_at lw_m7 176 rfl) rfl
theorem q1726 : (Jvm.Cond.privateMethod ({ cls := "BonnetValleyModel", name := "trimsOne", desc := "(II)I" } : Jvm.MethodName)) ∈ lw_tbl := lw_at lw_m7 177 rfl
theorem q1727 : (Jvm.Cond.instanceMethod ({ cls := "BonnetValleyModel", name := "trimsOne", desc := "(II)I" } : Jvm.MethodName)) ∈ lw_all := lw_g (lw_at lw_m7 178 rfl) rfl
theorem q1728 : (Jvm.Cond.code ({ cls := "BonnetValleyModel", name := "trimsOne", desc := "(II)I" } : Jvm.MethodName) prog_12_method_67_code (4 : Nat) (Option.some Jvm.ClassFile.FieldType.int)) ∈ lw_all := lw_g (lw_at lw_m7 179 rfl) rfl
theorem q1729 : (Jvm.Cond.constantLong "BonnetValleyModel" (356 : Nat) (4 : Int64)) ∈ lw_all := lw_g (lw_at lw_m7 180 rfl) rfl
theorem q1731 : (Jvm.Cond.instanceMethod ({ cls := "BonnetValleyModel", name := "puts", desc := "(II)I" } : Jvm.MethodName)) ∈ lw_all := lw_g (lw_at lw_m7 182 rfl) rfl
theorem q1732 : (Jvm.Cond.selects "BonnetValleyModel" ({ cls := "BonnetValleyModel", name := "puts", desc := "(II)I" } : Jvm.MethodName) ({ cls := "BonnetValleyModel", name := "puts", desc := "(II)I" } : Jvm.MethodName)) ∈ lw_all := lw_g (lw_at lw_m7 183 rfl) rfl
theorem q1733 : (Jvm.Cond.code ({ cls := "BonnetValleyModel", name := "puts", desc := "(II)I" } : Jvm.MethodName) prog_12_method_73_code (3 : Nat) (Option.some Jvm.ClassFile.FieldType.int)) ∈ lw_all := lw_g (lw_at lw_m7 184 rfl) rfl
theorem q1734 : (Jvm.Cond.methodLink "BonnetValleyModel" (389 : Nat) ({ cls := "BonnetValleyModel", name := "putsOne", desc := "(II)I" } : Jvm.MethodName)) ∈ lw_all := lw_g (lw_at lw_m7 185 rfl) rfl
theorem q1735 : (Jvm.Cond.privateMethod ({ cls := "BonnetValleyModel", name := "putsOne", desc := "(II)I" } : Jvm.MethodName)) ∈ lw_tbl := lw_at lw_m7 186 rfl
theorem q1736 : (Jvm.Cond.instanceMethod ({ cls := "BonnetValleyModel", name := "putsOne", desc := "(II)I" } : Jvm.MethodName)) ∈ lw_all := lw_g (lw_at lw_m7 187 rfl) rfl
theorem q1737 : (Jvm.Cond.code ({ cls := "BonnetValleyModel", name := "putsOne", desc := "(II)I" } : Jvm.MethodName) prog_12_method_68_code (4 : Nat) (Option.some Jvm.ClassFile.FieldType.int)) ∈ lw_all := lw_g (lw_at lw_m7 188 rfl) rfl
theorem q1738 : (Jvm.Cond.methodLink "BonnetValleyModel" (358 : Nat) ({ cls := "BonnetValleyModel", name := "isField", desc := "(I)Z" } : Jvm.MethodName)) ∈ lw_all := lw_g (lw_at lw_m7 189 rfl) rfl
theorem q1739 : (Jvm.Cond.privateMethod ({ cls := "BonnetValleyModel", name := "isField", desc := "(I)Z" } : Jvm.MethodName)) ∈ lw_tbl := lw_at lw_m7 190 rfl
theorem q1740 : (Jvm.Cond.instanceMethod ({ cls := "BonnetValleyModel", name := "isField", desc := "(I)Z" } : Jvm.MethodName)) ∈ lw_all := lw_g (lw_at lw_m7 191 rfl) rfl
theorem q1741 : (Jvm.Cond.code ({ cls := "BonnetValleyModel", name := "isField", desc := "(I)Z" } : Jvm.MethodName) prog_12_method_10_code (2 : Nat) (Option.some Jvm.ClassFile.FieldType.boolean)) ∈ lw_all := lw_g (lw_at lw_m7 192 rfl) rfl
theorem q1743 : (Jvm.Cond.instanceMethod ({ cls := "BonnetValleyModel", name := "day", desc := "()I" } : Jvm.MethodName)) ∈ lw_all := lw_g (lw_at lw_m7 194 rfl) rfl
theorem q1744 : (Jvm.Cond.selects "BonnetValleyModel" ({ cls := "BonnetValleyModel", name := "day", desc := "()I" } : Jvm.MethodName) ({ cls := "BonnetValleyModel", name := "day", desc := "()I" } : Jvm.MethodName)) ∈ lw_all := lw_g (lw_at lw_m7 195 rfl) rfl
theorem q1745 : (Jvm.Cond.code ({ cls := "BonnetValleyModel", name := "day", desc := "()I" } : Jvm.MethodName) prog_12_method_76_code (5 : Nat) (Option.some Jvm.ClassFile.FieldType.int)) ∈ lw_all := lw_g (lw_at lw_m7 196 rfl) rfl
theorem q1746 : (Jvm.Cond.methodLink "BonnetValleyModel" (397 : Nat) ({ cls := "BonnetValleyModel", name := "readsAct", desc := "()Z" } : Jvm.MethodName)) ∈ lw_all := lw_g (lw_at lw_m7 197 rfl) rfl
theorem q1747 : (Jvm.Cond.privateMethod ({ cls := "BonnetValleyModel", name := "readsAct", desc := "()Z" } : Jvm.MethodName)) ∈ lw_tbl := lw_at lw_m7 198 rfl
theorem q1748 : (Jvm.Cond.instanceMethod ({ cls := "BonnetValleyModel", name := "readsAct", desc := "()Z" } : Jvm.MethodName)) ∈ lw_all := lw_g (lw_at lw_m7 199 rfl) rfl
theorem q1749 : (Jvm.Cond.code ({ cls := "BonnetValleyModel", name := "readsAct", desc := "()Z" } : Jvm.MethodName) prog_12_method_74_code (2 : Nat) (Option.some Jvm.ClassFile.FieldType.boolean)) ∈ lw_all := lw_g (lw_at lw_m7 200 rfl) rfl
theorem q1750 : (Jvm.Cond.stringRef "BonnetValleyModel" (395 : Nat) "nfgbp") ∈ lw_tbl := lw_at lw_m7 201 rfl
theorem q1751 : (Jvm.Cond.methodLink "BonnetValleyModel" (400 : Nat) ({ cls := "BonnetValleyModel", name := "does", desc := "(I)Z" } : Jvm.MethodName)) ∈ lw_all := lw_g (lw_at lw_m7 202 rfl) rfl
theorem q1752 : (Jvm.Cond.privateMethod ({ cls := "BonnetValleyModel", name := "does", desc := "(I)Z" } : Jvm.MethodName)) ∈ lw_tbl := lw_at lw_m7 203 rfl
theorem q1753 : (Jvm.Cond.instanceMethod ({ cls := "BonnetValleyModel", name := "does", desc := "(I)Z" } : Jvm.MethodName)) ∈ lw_all := lw_g (lw_at lw_m7 204 rfl) rfl
theorem q1754 : (Jvm.Cond.code ({ cls := "BonnetValleyModel", name := "does", desc := "(I)Z" } : Jvm.MethodName) prog_12_method_75_code (4 : Nat) (Option.some Jvm.ClassFile.FieldType.boolean)) ∈ lw_all := lw_g (lw_at lw_m7 205 rfl) rfl
theorem q1756 : (Jvm.Cond.instanceMethod ({ cls := "BonnetValleyModel", name := "sees", desc := "(I)J" } : Jvm.MethodName)) ∈ lw_all := lw_g (lw_at lw_m7 207 rfl) rfl
theorem q1757 : (Jvm.Cond.selects "BonnetValleyModel" ({ cls := "BonnetValleyModel", name := "sees", desc := "(I)J" } : Jvm.MethodName) ({ cls := "BonnetValleyModel", name := "sees", desc := "(I)J" } : Jvm.MethodName)) ∈ lw_all := lw_g (lw_at lw_m7 208 rfl) rfl
theorem q1758 : (Jvm.Cond.code ({ cls := "BonnetValleyModel", name := "sees", desc := "(I)J" } : Jvm.MethodName) prog_12_method_78_code (4 : Nat) (Option.some Jvm.ClassFile.FieldType.long)) ∈ lw_all := lw_g (lw_at lw_m7 209 rfl) rfl
theorem q1759 : (Jvm.Cond.constantLong "BonnetValleyModel" (403 : Nat) (-1 : Int64)) ∈ lw_all := lw_g (lw_at lw_m7 210 rfl) rfl
theorem q1760 : (Jvm.Cond.methodLink "BonnetValleyModel" (405 : Nat) ({ cls := "java/lang/Long", name := "bitCount", desc := "(J)I" } : Jvm.MethodName)) ∈ lw_all := lw_g (lw_at lw_m7 211 rfl) rfl
theorem q1761 : (Jvm.Cond.methodLink "BonnetValleyModel" (410 : Nat) ({ cls := "BonnetValleyModel", name := "peopleOn", desc := "([IJ)I" } : Jvm.MethodName)) ∈ lw_all := lw_g (lw_at lw_m7 212 rfl) rfl
theorem q1762 : (Jvm.Cond.privateMethod ({ cls := "BonnetValleyModel", name := "peopleOn", desc := "([IJ)I" } : Jvm.MethodName)) ∈ lw_tbl := lw_at lw_m7 213 rfl
theorem q1763 : (Jvm.Cond.instanceMethod ({ cls := "BonnetValleyModel", name := "peopleOn", desc := "([IJ)I" } : Jvm.MethodName)) ∈ lw_all := lw_g (lw_at lw_m7 214 rfl) rfl
theorem q1764 : (Jvm.Cond.code ({ cls := "BonnetValleyModel", name := "peopleOn", desc := "([IJ)I" } : Jvm.MethodName) prog_12_method_50_code (6 : Nat) (Option.some Jvm.ClassFile.FieldType.int)) ∈ lw_all := lw_g (lw_at lw_m7 215 rfl) rfl
theorem q1766 : (Jvm.Cond.instanceMethod ({ cls := "BonnetValleyModel", name := "seers", desc := "(I)I" } : Jvm.MethodName)) ∈ lw_all := lw_g (lw_at lw_m7 217 rfl) rfl
theorem q1767 : (Jvm.Cond.selects "BonnetValleyModel" ({ cls := "BonnetValleyModel", name := "seers", desc := "(I)I" } : Jvm.MethodName) ({ cls := "BonnetValleyModel", name := "seers", desc := "(I)I" } : Jvm.MethodName)) ∈ lw_all := lw_g (lw_at lw_m7 218 rfl) rfl
theorem q1768 : (Jvm.Cond.code ({ cls := "BonnetValleyModel", name := "seers", desc := "(I)I" } : Jvm.MethodName) prog_12_method_79_code (3 : Nat) (Option.some Jvm.ClassFile.FieldType.int)) ∈ lw_all := lw_g (lw_at lw_m7 219 rfl) rfl
theorem q1770 : (Jvm.Cond.instanceMethod ({ cls := "BonnetValleyModel", name := "hidden", desc := "()J" } : Jvm.MethodName)) ∈ lw_all := lw_g (lw_at lw_m7 221 rfl) rfl
theorem q1771 : (Jvm.Cond.selects "BonnetValleyModel" ({ cls := "BonnetValleyModel", name := "hidden", desc := "()J" } : Jvm.MethodName) ({ cls := "BonnetValleyModel", name := "hidden", desc := "()J" } : Jvm.MethodName)) ∈ lw_all := lw_g (lw_at lw_m7 222 rfl) rfl
theorem q1772 : (Jvm.Cond.code ({ cls := "BonnetValleyModel", name := "hidden", desc := "()J" } : Jvm.MethodName) prog_12_method_81_code (3 : Nat) (Option.some Jvm.ClassFile.FieldType.long)) ∈ lw_all := lw_g (lw_at lw_m7 223 rfl) rfl
theorem q1773 : (Jvm.Cond.methodLink "BonnetValleyModel" (413 : Nat) ({ cls := "BonnetValleyModel", name := "free", desc := "()J" } : Jvm.MethodName)) ∈ lw_all := lw_g (lw_at lw_m7 224 rfl) rfl
theorem q1774 : (Jvm.Cond.privateMethod ({ cls := "BonnetValleyModel", name := "free", desc := "()J" } : Jvm.MethodName)) ∈ lw_tbl := lw_at lw_m7 225 rfl
theorem q1775 : (Jvm.Cond.instanceMethod ({ cls := "BonnetValleyModel", name := "free", desc := "()J" } : Jvm.MethodName)) ∈ lw_all := lw_g (lw_at lw_m7 226 rfl) rfl
theorem q1776 : (Jvm.Cond.code ({ cls := "BonnetValleyModel", name := "free", desc := "()J" } : Jvm.MethodName) prog_12_method_80_code (4 : Nat) (Option.some Jvm.ClassFile.FieldType.long)) ∈ lw_all := lw_g (lw_at lw_m7 227 rfl) rfl
theorem q1777 : (Jvm.Cond.methodLink "BonnetValleyModel" (417 : Nat) ({ cls := "BonnetValleyModel", name := "allSeen", desc := "([I)J" } : Jvm.MethodName)) ∈ lw_all := lw_g (lw_at lw_m7 228 rfl) rfl
theorem q1778 : (Jvm.Cond.privateMethod ({ cls := "BonnetValleyModel", name := "allSeen", desc := "([I)J" } : Jvm.MethodName)) ∈ lw_tbl := lw_at lw_m7 229 rfl
theorem q1779 : (Jvm.Cond.instanceMethod ({ cls := "BonnetValleyModel", name := "allSeen", desc := "([I)J" } : Jvm.MethodName)) ∈ lw_all := lw_g (lw_at lw_m7 230 rfl) rfl
theorem q1780 : (Jvm.Cond.code ({ cls := "BonnetValleyModel", name := "allSeen", desc := "([I)J" } : Jvm.MethodName) prog_12_method_48_code (5 : Nat) (Option.some Jvm.ClassFile.FieldType.long)) ∈ lw_all := lw_g (lw_at lw_m7 231 rfl) rfl
theorem q1782 : (Jvm.Cond.instanceMethod ({ cls := "BonnetValleyModel", name := "pairs", desc := "()I" } : Jvm.MethodName)) ∈ lw_all := lw_g (lw_at lw_m7 233 rfl) rfl
theorem q1783 : (Jvm.Cond.selects "BonnetValleyModel" ({ cls := "BonnetValleyModel", name := "pairs", desc := "()I" } : Jvm.MethodName) ({ cls := "BonnetValleyModel", name := "pairs", desc := "()I" } : Jvm.MethodName)) ∈ lw_all := lw_g (lw_at lw_m7 234 rfl) rfl
theorem q1784 : (Jvm.Cond.code ({ cls := "BonnetValleyModel", name := "pairs", desc := "()I" } : Jvm.MethodName) prog_12_method_82_code (7 : Nat) (Option.some Jvm.ClassFile.FieldType.int)) ∈ lw_all := lw_g (lw_at lw_m7 235 rfl) rfl
theorem q1786 : (Jvm.Cond.instanceMethod ({ cls := "BonnetValleyModel", name := "behind", desc := "(I)I" } : Jvm.MethodName)) ∈ lw_all := lw_g (lw_at lw_m7 237 rfl) rfl
theorem q1787 : (Jvm.Cond.selects "BonnetValleyModel" ({ cls := "BonnetValleyModel", name := "behind", desc := "(I)I" } : Jvm.MethodName) ({ cls := "BonnetValleyModel", name := "behind", desc := "(I)I" } : Jvm.MethodName)) ∈ lw_all := lw_g (lw_at lw_m7 238 rfl) rfl
theorem q1788 : (Jvm.Cond.code ({ cls := "BonnetValleyModel", name := "behind", desc := "(I)I" } : Jvm.MethodName) prog_12_method_83_code (3 : Nat) (Option.some Jvm.ClassFile.FieldType.int)) ∈ lw_all := lw_g (lw_at lw_m7 239 rfl) rfl
theorem q1790 : (Jvm.Cond.instanceMethod ({ cls := "BonnetValleyModel", name := "widest", desc := "()I" } : Jvm.MethodName)) ∈ lw_all := lw_g (lw_at lw_m8 1 rfl) rfl
theorem q1791 : (Jvm.Cond.selects "BonnetValleyModel" ({ cls := "BonnetValleyModel", name := "widest", desc := "()I" } : Jvm.MethodName) ({ cls := "BonnetValleyModel", name := "widest", desc := "()I" } : Jvm.MethodName)) ∈ lw_all := lw_g (lw_at lw_m8 2 rfl) rfl
theorem q1792 : (Jvm.Cond.code ({ cls := "BonnetValleyModel", name := "widest", desc := "()I" } : Jvm.MethodName) prog_12_method_84_code (5 : Nat) (Option.some Jvm.ClassFile.FieldType.int)) ∈ lw_all := lw_g (lw_at lw_m8 3 rfl) rfl
theorem q1794 : (Jvm.Cond.instanceMethod ({ cls := "BonnetValleyModel", name := "watch", desc := "()I" } : Jvm.MethodName)) ∈ lw_all := lw_g (lw_at lw_m8 5 rfl) rfl
theorem q1795 : (Jvm.Cond.selects "BonnetValleyModel" ({ cls := "BonnetValleyModel", name := "watch", desc := "()I" } : Jvm.MethodName) ({ cls := "BonnetValleyModel", name := "watch", desc := "()I" } : Jvm.MethodName)) ∈ lw_all := lw_g (lw_at lw_m8 6 rfl) rfl
theorem q1796 : (Jvm.Cond.code ({ cls := "BonnetValleyModel", name := "watch", desc := "()I" } : Jvm.MethodName) prog_12_method_86_code (8 : Nat) (Option.some Jvm.ClassFile.FieldType.int)) ∈ lw_all := lw_g (lw_at lw_m8 7 rfl) rfl
theorem q1797 : (Jvm.Cond.methodLink "BonnetValleyModel" (421 : Nat) ({ cls := "BonnetValleyModel", name := "isFewer", desc := "(II)Z" } : Jvm.MethodName)) ∈ lw_all := lw_g (lw_at lw_m8 8 rfl) rfl
theorem q1798 : (Jvm.Cond.static ({ cls := "BonnetValleyModel", name := "isFewer", desc := "(II)Z" } : Jvm.MethodName)) ∈ lw_all := lw_g (lw_at lw_m8 9 rfl) rfl
theorem q1799 : (Jvm.Cond.code ({ cls := "BonnetValleyModel", name := "isFewer", desc := "(II)Z" } : Jvm.MethodName) prog_12_method_85_code (2 : Nat) (Option.some Jvm.ClassFile.FieldType.boolean)) ∈ lw_all := lw_g (lw_at lw_m8 10 rfl) rfl
theorem q1801 : (Jvm.Cond.instanceMethod ({ cls := "BonnetValleyModel", name := "learns", desc := "(II)I" } : Jvm.MethodName)) ∈ lw_all := lw_g (lw_at lw_m8 12 rfl) rfl
theorem q1802 : (Jvm.Cond.selects "BonnetValleyModel" ({ cls := "BonnetValleyModel", name := "learns", desc := "(II)I" } : Jvm.MethodName) ({ cls := "BonnetValleyModel", name := "learns", desc := "(II)I" } : Jvm.MethodName)) ∈ lw_all := lw_g (lw_at lw_m8 13 rfl) rfl
theorem q1803 : (Jvm.Cond.code ({ cls := "BonnetValleyModel", name := "learns", desc := "(II)I" } : Jvm.MethodName) prog_12_method_87_code (4 : Nat) (Option.some Jvm.ClassFile.FieldType.int)) ∈ lw_all := lw_g (lw_at lw_m8 14 rfl) rfl
theorem q1804 : (Jvm.Cond.methodLink "BonnetValleyModel" (424 : Nat) ({ cls := "BonnetValleyModel", name := "copies", desc := "()V" } : Jvm.MethodName)) ∈ lw_all := lw_g (lw_at lw_m8 15 rfl) rfl
theorem q1805 : (Jvm.Cond.privateMethod ({ cls := "BonnetValleyModel", name := "copies", desc := "()V" } : Jvm.MethodName)) ∈ lw_tbl := lw_at lw_m8 16 rfl
theorem q1806 : (Jvm.Cond.instanceMethod ({ cls := "BonnetValleyModel", name := "copies", desc := "()V" } : Jvm.MethodName)) ∈ lw_all := lw_g (lw_at lw_m8 17 rfl) rfl
theorem q1807 : (Jvm.Cond.code ({ cls := "BonnetValleyModel", name := "copies", desc := "()V" } : Jvm.MethodName) prog_12_method_77_code (2 : Nat) (Option.none : Option Jvm.ClassFile.FieldType)) ∈ lw_all := lw_g (lw_at lw_m8 18 rfl) rfl
theorem q1809 : (Jvm.Cond.instanceMethod ({ cls := "BonnetValleyModel", name := "all", desc := "()I" } : Jvm.MethodName)) ∈ lw_all := lw_g (lw_at lw_m8 20 rfl) rfl
theorem q1810 : (Jvm.Cond.selects "BonnetValleyModel" ({ cls := "BonnetValleyModel", name := "all", desc := "()I" } : Jvm.MethodName) ({ cls := "BonnetValleyModel", name := "all", desc := "()I" } : Jvm.MethodName)) ∈ lw_all := lw_g (lw_at lw_m8 21 rfl) rfl
theorem q1811 : (Jvm.Cond.code ({ cls := "BonnetValleyModel", name := "all", desc := "()I" } : Jvm.MethodName) prog_12_method_89_code (4 : Nat) (Option.some Jvm.ClassFile.FieldType.int)) ∈ lw_all := lw_g (lw_at lw_m8 22 rfl) rfl
theorem q1812 : (Jvm.Cond.methodLink "BonnetValleyModel" (427 : Nat) ({ cls := "BonnetValleyModel", name := "firstWithout", desc := "([I)I" } : Jvm.MethodName)) ∈ lw_all := lw_g (lw_at lw_m8 23 rfl) rfl
theorem q1813 : (Jvm.Cond.privateMethod ({ cls := "BonnetValleyModel", name := "firstWithout", desc := "([I)I" } : Jvm.MethodName)) ∈ lw_tbl := lw_at lw_m8 24 rfl
theorem q1814 : (Jvm.Cond.instanceMethod ({ cls := "BonnetValleyModel", name := "firstWithout", desc := "([I)I" } : Jvm.MethodName)) ∈ lw_all := lw_g (lw_at lw_m8 25 rfl) rfl
theorem q1815 : (Jvm.Cond.code ({ cls := "BonnetValleyModel", name := "firstWithout", desc := "([I)I" } : Jvm.MethodName) prog_12_method_88_code (4 : Nat) (Option.some Jvm.ClassFile.FieldType.int)) ∈ lw_all := lw_g (lw_at lw_m8 26 rfl) rfl
theorem q1817 : (Jvm.Cond.instanceMethod ({ cls := "BonnetValleyModel", name := "ahead", desc := "(I)I" } : Jvm.MethodName)) ∈ lw_all := lw_g (lw_at lw_m8 28 rfl) rfl
theorem q1818 : (Jvm.Cond.selects "BonnetValleyModel" ({ cls := "BonnetValleyModel", name := "ahead", desc := "(I)I" } : Jvm.MethodName) ({ cls := "BonnetValleyModel", name := "ahead", desc := "(I)I" } : Jvm.MethodName)) ∈ lw_all := lw_g (lw_at lw_m8 29 rfl) rfl
theorem q1819 : (Jvm.Cond.code ({ cls := "BonnetValleyModel", name := "ahead", desc := "(I)I" } : Jvm.MethodName) prog_12_method_90_code (3 : Nat) (Option.some Jvm.ClassFile.FieldType.int)) ∈ lw_all := lw_g (lw_at lw_m8 30 rfl) rfl
theorem q1820 : (Jvm.Cond.constantLong "BonnetValleyModel" (430 : Nat) (99 : Int64)) ∈ lw_all := lw_g (lw_at lw_m8 31 rfl) rfl
theorem q1822 : (Jvm.Cond.instanceMethod ({ cls := "BonnetValleyModel", name := "gossip", desc := "(I)I" } : Jvm.MethodName)) ∈ lw_all := lw_g (lw_at lw_m8 33 rfl) rfl
theorem q1823 : (Jvm.Cond.selects "BonnetValleyModel" ({ cls := "BonnetValleyModel", name := "gossip", desc := "(I)I" } : Jvm.MethodName) ({ cls := "BonnetValleyModel", name := "gossip", desc := "(I)I" } : Jvm.MethodName)) ∈ lw_all := lw_g (lw_at lw_m8 34 rfl) rfl
theorem q1824 : (Jvm.Cond.code ({ cls := "BonnetValleyModel", name := "gossip", desc := "(I)I" } : Jvm.MethodName) prog_12_method_91_code (7 : Nat) (Option.some Jvm.ClassFile.FieldType.int)) ∈ lw_all := lw_g (lw_at lw_m8 35 rfl) rfl
theorem q1826 : (Jvm.Cond.instanceMethod ({ cls := "BonnetValleyModel", name := "eighths", desc := "(II)I" } : Jvm.MethodName)) ∈ lw_all := lw_g (lw_at lw_m8 37 rfl) rfl
theorem q1827 : (Jvm.Cond.selects "BonnetValleyModel" ({ cls := "BonnetValleyModel", name := "eighths", desc := "(II)I" } : Jvm.MethodName) ({ cls := "BonnetValleyModel", name := "eighths", desc := "(II)I" } : Jvm.MethodName)) ∈ lw_all := lw_g (lw_at lw_m8 38 rfl) rfl
theorem q1828 : (Jvm.Cond.code ({ cls := "BonnetValleyModel", name := "eighths", desc := "(II)I" } : Jvm.MethodName) prog_12_method_93_code (7 : Nat) (Option.some Jvm.ClassFile.FieldType.int)) ∈ lw_all := lw_g (lw_at lw_m8 39 rfl) rfl
theorem q1829 : (Jvm.Cond.constant "BonnetValleyModel" (432 : Nat) (1000000 : Int32)) ∈ lw_all := lw_g (lw_at lw_m8 40 rfl) rfl
theorem q1830 : (Jvm.Cond.methodLink "BonnetValleyModel" (433 : Nat) ({ cls := "BonnetValleyModel", name := "wouldSee", desc := "(III)Z" } : Jvm.MethodName)) ∈ lw_all := lw_g (lw_at lw_m8 41 rfl) rfl
theorem q1831 : (Jvm.Cond.privateMethod ({ cls := "BonnetValleyModel", name := "wouldSee", desc := "(III)Z" } : Jvm.MethodName)) ∈ lw_tbl := lw_at lw_m8 42 rfl
theorem q1832 : (Jvm.Cond.instanceMethod ({ cls := "BonnetValleyModel", name := "wouldSee", desc := "(III)Z" } : Jvm.MethodName)) ∈ lw_all := lw_g (lw_at lw_m8 43 rfl) rfl
theorem q1833 : (Jvm.Cond.code ({ cls := "BonnetValleyModel", name := "wouldSee", desc := "(III)Z" } : Jvm.MethodName) prog_12_method_92_code (4 : Nat) (Option.some Jvm.ClassFile.FieldType.boolean)) ∈ lw_all := lw_g (lw_at lw_m8 44 rfl) rfl
theorem q1835 : (Jvm.Cond.instanceMethod ({ cls := "BonnetValleyModel", name := "turned", desc := "()I" } : Jvm.MethodName)) ∈ lw_all := lw_g (lw_at lw_m8 46 rfl) rfl
theorem q1836 : (Jvm.Cond.selects "BonnetValleyModel" ({ cls := "BonnetValleyModel", name := "turned", desc := "()I" } : Jvm.MethodName) ({ cls := "BonnetValleyModel", name := "turned", desc := "()I" } : Jvm.MethodName)) ∈ lw_all := lw_g (lw_at lw_m8 47 rfl) rfl
theorem q1837 : (Jvm.Cond.code ({ cls := "BonnetValleyModel", name := "turned", desc := "()I" } : Jvm.MethodName) prog_12_method_97_code (6 : Nat) (Option.some Jvm.ClassFile.FieldType.int)) ∈ lw_all := lw_g (lw_at lw_m8 48 rfl) rfl
theorem q1838 : (Jvm.Cond.methodLink "BonnetValleyModel" (440 : Nat) ({ cls := "BonnetValleyModel", name := "wouldSeeThings", desc := "(II)I" } : Jvm.MethodName)) ∈ lw_all := lw_g (lw_at lw_m8 49 rfl) rfl
theorem q1839 : (Jvm.Cond.privateMethod ({ cls := "BonnetValleyModel", name := "wouldSeeThings", desc := "(II)I" } : Jvm.MethodName)) ∈ lw_tbl := lw_at lw_m8 50 rfl
theorem q1840 : (Jvm.Cond.instanceMethod ({ cls := "BonnetValleyModel", name := "wouldSeeThings", desc := "(II)I" } : Jvm.MethodName)) ∈ lw_all := lw_g (lw_at lw_m8 51 rfl) rfl
theorem q1841 : (Jvm.Cond.code ({ cls := "BonnetValleyModel", name := "wouldSeeThings", desc := "(II)I" } : Jvm.MethodName) prog_12_method_94_code (5 : Nat) (Option.some Jvm.ClassFile.FieldType.int)) ∈ lw_all := lw_g (lw_at lw_m8 52 rfl) rfl
theorem q1842 : (Jvm.Cond.methodLink "BonnetValleyModel" (437 : Nat) ({ cls := "BonnetValleyModel", name := "place", desc := "(II)I" } : Jvm.MethodName)) ∈ lw_all := lw_g (lw_at lw_m8 53 rfl) rfl
theorem q1843 : (Jvm.Cond.static ({ cls := "BonnetValleyModel", name := "place", desc := "(II)I" } : Jvm.MethodName)) ∈ lw_all := lw_g (lw_at lw_m8 54 rfl) rfl
theorem q1844 : (Jvm.Cond.code ({ cls := "BonnetValleyModel", name := "place", desc := "(II)I" } : Jvm.MethodName) prog_12_method_95_code (2 : Nat) (Option.some Jvm.ClassFile.FieldType.int)) ∈ lw_all := lw_g (lw_at lw_m8 55 rfl) rfl
theorem q1845 : (Jvm.Cond.methodLink "BonnetValleyModel" (443 : Nat) ({ cls := "BonnetValleyModel", name := "fewWith", desc := "(III)I" } : Jvm.MethodName)) ∈ lw_all := lw_g (lw_at lw_m8 56 rfl) rfl
theorem q1846 : (Jvm.Cond.privateMethod ({ cls := "BonnetValleyModel", name := "fewWith", desc := "(III)I" } : Jvm.MethodName)) ∈ lw_tbl := lw_at lw_m8 57 rfl
theorem q1847 : (Jvm.Cond.instanceMethod ({ cls := "BonnetValleyModel", name := "fewWith", desc := "(III)I" } : Jvm.MethodName)) ∈ lw_all := lw_g (lw_at lw_m8 58 rfl) rfl
theorem q1848 : (Jvm.Cond.code ({ cls := "BonnetValleyModel", name := "fewWith", desc := "(III)I" } : Jvm.MethodName) prog_12_method_96_code (4 : Nat) (Option.some Jvm.ClassFile.FieldType.int)) ∈ lw_all := lw_g (lw_at lw_m8 59 rfl) rfl
theorem q1850 : (Jvm.Cond.instanceMethod ({ cls := "BonnetValleyModel", name := "best", desc := "(I)I" } : Jvm.MethodName)) ∈ lw_all := lw_g (lw_at lw_m8 61 rfl) rfl
theorem q1851 : (Jvm.Cond.selects "BonnetValleyModel" ({ cls := "BonnetValleyModel", name := "best", desc := "(I)I" } : Jvm.MethodName) ({ cls := "BonnetValleyModel", name := "best", desc := "(I)I" } : Jvm.MethodName)) ∈ lw_all := lw_g (lw_at lw_m8 62 rfl) rfl
theorem q1852 : (Jvm.Cond.code ({ cls := "BonnetValleyModel", name := "best", desc := "(I)I" } : Jvm.MethodName) prog_12_method_98_code (4 : Nat) (Option.some Jvm.ClassFile.FieldType.int)) ∈ lw_all := lw_g (lw_at lw_m8 63 rfl) rfl
theorem q1854 : (Jvm.Cond.instanceMethod ({ cls := "BonnetValleyModel", name := "bears", desc := "(II)I" } : Jvm.MethodName)) ∈ lw_all := lw_g (lw_at lw_m8 65 rfl) rfl
theorem q1855 : (Jvm.Cond.selects "BonnetValleyModel" ({ cls := "BonnetValleyModel", name := "bears", desc := "(II)I" } : Jvm.MethodName) ({ cls := "BonnetValleyModel", name := "bears", desc := "(II)I" } : Jvm.MethodName)) ∈ lw_all := lw_g (lw_at lw_m8 66 rfl) rfl
theorem q1856 : (Jvm.Cond.code ({ cls := "BonnetValleyModel", name := "bears", desc := "(II)I" } : Jvm.MethodName) prog_12_method_99_code (5 : Nat) (Option.some Jvm.ClassFile.FieldType.int)) ∈ lw_all := lw_g (lw_at lw_m8 67 rfl) rfl
theorem q1858 : (Jvm.Cond.instanceMethod ({ cls := "BonnetValleyModel", name := "back", desc := "(II)I" } : Jvm.MethodName)) ∈ lw_all := lw_g (lw_at lw_m8 69 rfl) rfl
theorem q1859 : (Jvm.Cond.selects "BonnetValleyModel" ({ cls := "BonnetValleyModel", name := "back", desc := "(II)I" } : Jvm.MethodName) ({ cls := "BonnetValleyModel", name := "back", desc := "(II)I" } : Jvm.MethodName)) ∈ lw_all := lw_g (lw_at lw_m8 70 rfl) rfl
theorem q1860 : (Jvm.Cond.code ({ cls := "BonnetValleyModel", name := "back", desc := "(II)I" } : Jvm.MethodName) prog_12_method_102_code (3 : Nat) (Option.some Jvm.ClassFile.FieldType.int)) ∈ lw_all := lw_g (lw_at lw_m8 71 rfl) rfl
theorem q1861 : (Jvm.Cond.methodLink "BonnetValleyModel" (450 : Nat) ({ cls := "BonnetValleyModel", name := "laysWay", desc := "(IIJ)I" } : Jvm.MethodName)) ∈ lw_all := lw_g (lw_at lw_m8 72 rfl) rfl
theorem q1862 : (Jvm.Cond.privateMethod ({ cls := "BonnetValleyModel", name := "laysWay", desc := "(IIJ)I" } : Jvm.MethodName)) ∈ lw_tbl := lw_at lw_m8 73 rfl
theorem q1863 : (Jvm.Cond.instanceMethod ({ cls := "BonnetValleyModel", name := "laysWay", desc := "(IIJ)I" } : Jvm.MethodName)) ∈ lw_all := lw_g (lw_at lw_m8 74 rfl) rfl
theorem q1864 : (Jvm.Cond.code ({ cls := "BonnetValleyModel", name := "laysWay", desc := "(IIJ)I" } : Jvm.MethodName) prog_12_method_101_code (11 : Nat) (Option.some Jvm.ClassFile.FieldType.int)) ∈ lw_all := lw_g (lw_at lw_m8 75 rfl) rfl
theorem q1865 : (Jvm.Cond.methodLink "BonnetValleyModel" (446 : Nat) ({ cls := "BonnetValleyModel", name := "laysSteps", desc := "(IIJ)V" } : Jvm.MethodName)) ∈ lw_all := lw_g (lw_at lw_m8 76 rfl) rfl
theorem q1866 : (Jvm.Cond.privateMethod ({ cls := "BonnetValleyModel", name := "laysSteps", desc := "(IIJ)V" } : Jvm.MethodName)) ∈ lw_tbl := lw_at lw_m8 77 rfl
theorem q1867 : (Jvm.Cond.instanceMethod ({ cls := "BonnetValleyModel", name := "laysSteps", desc := "(IIJ)V" } : Jvm.MethodName)) ∈ lw_all := lw_g (lw_at lw_m8 78 rfl) rfl
theorem q1868 : (Jvm.Cond.code ({ cls := "BonnetValleyModel", name := "laysSteps", desc := "(IIJ)V" } : Jvm.MethodName) prog_12_method_100_code (10 : Nat) (Option.none : Option Jvm.ClassFile.FieldType)) ∈ lw_all := lw_g (lw_at lw_m8 79 rfl) rfl
theorem q1870 : (Jvm.Cond.instanceMethod ({ cls := "BonnetValleyModel", name := "open", desc := "(II)I" } : Jvm.MethodName)) ∈ lw_all := lw_g (lw_at lw_m8 81 rfl) rfl
theorem q1871 : (Jvm.Cond.selects "BonnetValleyModel" ({ cls := "BonnetValleyModel", name := "open", desc := "(II)I" } : Jvm.MethodName) ({ cls := "BonnetValleyModel", name := "open", desc := "(II)I" } : Jvm.MethodName)) ∈ lw_all := lw_g (lw_at lw_m8 82 rfl) rfl
theorem q1872 : (Jvm.Cond.code ({ cls := "BonnetValleyModel", name := "open", desc := "(II)I" } : Jvm.MethodName) prog_12_method_103_code (8 : Nat) (Option.some Jvm.ClassFile.FieldType.int)) ∈ lw_all := lw_g (lw_at lw_m8 83 rfl) rfl
theorem q1874 : (Jvm.Cond.instanceMethod ({ cls := "BonnetValleyModel", name := "heard", desc := "(II)I" } : Jvm.MethodName)) ∈ lw_all := lw_g (lw_at lw_m8 85 rfl) rfl
theorem q1875 : (Jvm.Cond.selects "BonnetValleyModel" ({ cls := "BonnetValleyModel", name := "heard", desc := "(II)I" } : Jvm.MethodName) ({ cls := "BonnetValleyModel", name := "heard", desc := "(II)I" } : Jvm.MethodName)) ∈ lw_all := lw_g (lw_at lw_m8 86 rfl) rfl
theorem q1876 : (Jvm.Cond.code ({ cls := "BonnetValleyModel", name := "heard", desc := "(II)I" } : Jvm.MethodName) prog_12_method_104_code (3 : Nat) (Option.some Jvm.ClassFile.FieldType.int)) ∈ lw_all := lw_g (lw_at lw_m8 87 rfl) rfl
theorem q1878 : (Jvm.Cond.instanceMethod ({ cls := "BonnetValleyModel", name := "forget", desc := "()I" } : Jvm.MethodName)) ∈ lw_all := lw_g (lw_at lw_m8 89 rfl) rfl
theorem q1879 : (Jvm.Cond.selects "BonnetValleyModel" ({ cls := "BonnetValleyModel", name := "forget", desc := "()I" } : Jvm.MethodName) ({ cls := "BonnetValleyModel", name := "forget", desc := "()I" } : Jvm.MethodName)) ∈ lw_all := lw_g (lw_at lw_m8 90 rfl) rfl
theorem q1880 : (Jvm.Cond.code ({ cls := "BonnetValleyModel", name := "forget", desc := "()I" } : Jvm.MethodName) prog_12_method_105_code (2 : Nat) (Option.some Jvm.ClassFile.FieldType.int)) ∈ lw_all := lw_g (lw_at lw_m8 91 rfl) rfl
theorem q1882 : (Jvm.Cond.instanceMethod ({ cls := "BonnetValleyModel", name := "lost", desc := "()J" } : Jvm.MethodName)) ∈ lw_all := lw_g (lw_at lw_m8 93 rfl) rfl
theorem q1883 : (Jvm.Cond.selects "BonnetValleyModel" ({ cls := "BonnetValleyModel", name := "lost", desc := "()J" } : Jvm.MethodName) ({ cls := "BonnetValleyModel", name := "lost", desc := "()J" } : Jvm.MethodName)) ∈ lw_all := lw_g (lw_at lw_m8 94 rfl) rfl
theorem q1884 : (Jvm.Cond.code ({ cls := "BonnetValleyModel", name := "lost", desc := "()J" } : Jvm.MethodName) prog_12_method_107_code (3 : Nat) (Option.some Jvm.ClassFile.FieldType.long)) ∈ lw_all := lw_g (lw_at lw_m8 95 rfl) rfl
theorem q1885 : (Jvm.Cond.methodLink "BonnetValleyModel" (454 : Nat) ({ cls := "BonnetValleyModel", name := "fitting", desc := "()J" } : Jvm.MethodName)) ∈ lw_all := lw_g (lw_at lw_m8 96 rfl) rfl
theorem q1886 : (Jvm.Cond.privateMethod ({ cls := "BonnetValleyModel", name := "fitting", desc := "()J" } : Jvm.MethodName)) ∈ lw_tbl := lw_at lw_m8 97 rfl
theorem q1887 : (Jvm.Cond.instanceMethod ({ cls := "BonnetValleyModel", name := "fitting", desc := "()J" } : Jvm.MethodName)) ∈ lw_all := lw_g (lw_at lw_m8 98 rfl) rfl
theorem q1888 : (Jvm.Cond.code ({ cls := "BonnetValleyModel", name := "fitting", desc := "()J" } : Jvm.MethodName) prog_12_method_106_code (6 : Nat) (Option.some Jvm.ClassFile.FieldType.long)) ∈ lw_all := lw_g (lw_at lw_m8 99 rfl) rfl
theorem q1890 : (Jvm.Cond.instanceMethod ({ cls := "BonnetValleyModel", name := "asks", desc := "()I" } : Jvm.MethodName)) ∈ lw_all := lw_g (lw_at lw_m8 101 rfl) rfl
theorem q1891 : (Jvm.Cond.selects "BonnetValleyModel" ({ cls := "BonnetValleyModel", name := "asks", desc := "()I" } : Jvm.MethodName) ({ cls := "BonnetValleyModel", name := "asks", desc := "()I" } : Jvm.MethodName)) ∈ lw_all := lw_g (lw_at lw_m8 102 rfl) rfl
theorem q1892 : (Jvm.Cond.code ({ cls := "BonnetValleyModel", name := "asks", desc := "()I" } : Jvm.MethodName) prog_12_method_108_code (8 : Nat) (Option.some Jvm.ClassFile.FieldType.int)) ∈ lw_all := lw_g (lw_at lw_m8 103 rfl) rfl
theorem q1894 : (Jvm.Cond.instanceMethod ({ cls := "BonnetValleyModel", name := "storm", desc := "(III)I" } : Jvm.MethodName)) ∈ lw_all := lw_g (lw_at lw_m8 105 rfl) rfl
theorem q1895 : (Jvm.Cond.selects "BonnetValleyModel" ({ cls := "BonnetValleyModel", name := "storm", desc := "(III)I" } : Jvm.MethodName) ({ cls := "BonnetValleyModel", name := "storm", desc := "(III)I" } : Jvm.MethodName)) ∈ lw_all := lw_g (lw_at lw_m8 106 rfl) rfl
theorem q1896 : (Jvm.Cond.code ({ cls := "BonnetValleyModel", name := "storm", desc := "(III)I" } : Jvm.MethodName) prog_12_method_109_code (10 : Nat) (Option.some Jvm.ClassFile.FieldType.int)) ∈ lw_all := lw_g (lw_at lw_m8 107 rfl) rfl
theorem q1897 : (Jvm.Cond.constantLong "BonnetValleyModel" (457 : Nat) (8 : Int64)) ∈ lw_all := lw_g (lw_at lw_m8 108 rfl) rfl
theorem q1898 : (Jvm.Cond.constantLong "BonnetValleyModel" (459 : Nat) (10 : Int64)) ∈ lw_all := lw_g (lw_at lw_m8 109 rfl) rfl
theorem q1899 : (Jvm.Cond.methodLink "BonnetValleyModel" (7 : Nat) ({ cls := "BonnetValleyModel", name := "common", desc := "(JJ)J" } : Jvm.MethodName)) ∈ lw_all := lw_g (lw_at lw_m8 110 rfl) rfl
theorem q1900 : (Jvm.Cond.static ({ cls := "BonnetValleyModel", name := "common", desc := "(JJ)J" } : Jvm.MethodName)) ∈ lw_all := lw_g (lw_at lw_m8 111 rfl) rfl
theorem q1901 : (Jvm.Cond.code ({ cls := "BonnetValleyModel", name := "common", desc := "(JJ)J" } : Jvm.MethodName) prog_12_method_6_code (4 : Nat) (Option.some Jvm.ClassFile.FieldType.long)) ∈ lw_all := lw_g (lw_at lw_m8 112 rfl) rfl
theorem q1903 : (Jvm.Cond.instanceMethod ({ cls := "BonnetValleyModel", name := "cock", desc := "(II)I" } : Jvm.MethodName)) ∈ lw_all := lw_g (lw_at lw_m8 114 rfl) rfl
theorem q1904 : (Jvm.Cond.selects "BonnetValleyModel" ({ cls := "BonnetValleyModel", name := "cock", desc := "(II)I" } : Jvm.MethodName) ({ cls := "BonnetValleyModel", name := "cock", desc := "(II)I" } : Jvm.MethodName)) ∈ lw_all := lw_g (lw_at lw_m8 115 rfl) rfl
theorem q1905 : (Jvm.Cond.code ({ cls := "BonnetValleyModel", name := "cock", desc := "(II)I" } : Jvm.MethodName) prog_12_method_110_code (7 : Nat) (Option.some Jvm.ClassFile.FieldType.int)) ∈ lw_all := lw_g (lw_at lw_m8 116 rfl) rfl
theorem q1906 : (Jvm.Cond.constantLong "BonnetValleyModel" (461 : Nat) (9 : Int64)) ∈ lw_all := lw_g (lw_at lw_m8 117 rfl) rfl
theorem q1908 : (Jvm.Cond.instanceMethod ({ cls := "BonnetValleyModel", name := "law", desc := "()I" } : Jvm.MethodName)) ∈ lw_all := lw_g (lw_at lw_m8 119 rfl) rfl
theorem q1909 : (Jvm.Cond.selects "BonnetValleyModel" ({ cls := "BonnetValleyModel", name := "law", desc := "()I" } : Jvm.MethodName) ({ cls := "BonnetValleyModel", name := "law", desc := "()I" } : Jvm.MethodName)) ∈ lw_all := lw_g (lw_at lw_m8 120 rfl) rfl
theorem q1910 : (Jvm.Cond.code ({ cls := "BonnetValleyModel", name := "law", desc := "()I" } : Jvm.MethodName) prog_12_method_111_code (5 : Nat) (Option.some Jvm.ClassFile.FieldType.int)) ∈ lw_all := lw_g (lw_at lw_m8 121 rfl) rfl
theorem q1912 : (Jvm.Cond.instanceMethod ({ cls := "BonnetValleyModel", name := "rests", desc := "(I)I" } : Jvm.MethodName)) ∈ lw_all := lw_g (lw_at lw_m8 123 rfl) rfl
theorem q1913 : (Jvm.Cond.selects "BonnetValleyModel" ({ cls := "BonnetValleyModel", name := "rests", desc := "(I)I" } : Jvm.MethodName) ({ cls := "BonnetValleyModel", name := "rests", desc := "(I)I" } : Jvm.MethodName)) ∈ lw_all := lw_g (lw_at lw_m8 124 rfl) rfl
theorem q1914 : (Jvm.Cond.code ({ cls := "BonnetValleyModel", name := "rests", desc := "(I)I" } : Jvm.MethodName) prog_12_method_114_code (5 : Nat) (Option.some Jvm.ClassFile.FieldType.int)) ∈ lw_all := lw_g (lw_at lw_m8 125 rfl) rfl
theorem q1915 : (Jvm.Cond.constantLong "BonnetValleyModel" (466 : Nat) (20 : Int64)) ∈ lw_all := lw_g (lw_at lw_m8 126 rfl) rfl
theorem q1916 : (Jvm.Cond.methodLink "BonnetValleyModel" (468 : Nat) ({ cls := "BonnetValleyModel", name := "isRest", desc := "(III)Z" } : Jvm.MethodName)) ∈ lw_all := lw_g (lw_at lw_m8 127 rfl) rfl
theorem q1917 : (Jvm.Cond.static ({ cls := "BonnetValleyModel", name := "isRest", desc := "(III)Z" } : Jvm.MethodName)) ∈ lw_all := lw_g (lw_at lw_m8 128 rfl) rfl
theorem q1918 : (Jvm.Cond.code ({ cls := "BonnetValleyModel", name := "isRest", desc := "(III)Z" } : Jvm.MethodName) prog_12_method_113_code (5 : Nat) (Option.some Jvm.ClassFile.FieldType.boolean)) ∈ lw_all := lw_g (lw_at lw_m8 129 rfl) rfl
theorem q1919 : (Jvm.Cond.methodLink "BonnetValleyModel" (463 : Nat) ({ cls := "BonnetValleyModel", name := "gets", desc := "(III)I" } : Jvm.MethodName)) ∈ lw_all := lw_g (lw_at lw_m8 130 rfl) rfl
theorem q1920 : (Jvm.Cond.static ({ cls := "BonnetValleyModel", name := "gets", desc := "(III)I" } : Jvm.MethodName)) ∈ lw_all := lw_g (lw_at lw_m8 131 rfl) rfl
theorem q1921 : (Jvm.Cond.code ({ cls := "BonnetValleyModel", name := "gets", desc := "(III)I" } : Jvm.MethodName) prog_12_method_112_code (3 : Nat) (Option.some Jvm.ClassFile.FieldType.int)) ∈ lw_all := lw_g (lw_at lw_m8 132 rfl) rfl
theorem q1923 : (Jvm.Cond.instanceMethod ({ cls := "BonnetValleyModel", name := "years", desc := "(II)I" } : Jvm.MethodName)) ∈ lw_all := lw_g (lw_at lw_m8 134 rfl) rfl
theorem q1924 : (Jvm.Cond.selects "BonnetValleyModel" ({ cls := "BonnetValleyModel", name := "years", desc := "(II)I" } : Jvm.MethodName) ({ cls := "BonnetValleyModel", name := "years", desc := "(II)I" } : Jvm.MethodName)) ∈ lw_all := lw_g (lw_at lw_m8 135 rfl) rfl
theorem q1925 : (Jvm.Cond.code ({ cls := "BonnetValleyModel", name := "years", desc := "(II)I" } : Jvm.MethodName) prog_12_method_116_code (7 : Nat) (Option.some Jvm.ClassFile.FieldType.int)) ∈ lw_all := lw_g (lw_at lw_m8 136 rfl) rfl
theorem q1926 : (Jvm.Cond.methodLink "BonnetValleyModel" (475 : Nat) ({ cls := "BonnetValleyModel", name := "draws", desc := "(I)I" } : Jvm.MethodName)) ∈ lw_all := lw_g (lw_at lw_m8 137 rfl) rfl
theorem q1927 : (Jvm.Cond.privateMethod ({ cls := "BonnetValleyModel", name := "draws", desc := "(I)I" } : Jvm.MethodName)) ∈ lw_tbl := lw_at lw_m8 138 rfl
theorem q1928 : (Jvm.Cond.instanceMethod ({ cls := "BonnetValleyModel", name := "draws", desc := "(I)I" } : Jvm.MethodName)) ∈ lw_all := lw_g (lw_at lw_m8 139 rfl) rfl
theorem q1929 : (Jvm.Cond.code ({ cls := "BonnetValleyModel", name := "draws", desc := "(I)I" } : Jvm.MethodName) prog_12_method_115_code (2 : Nat) (Option.some Jvm.ClassFile.FieldType.int)) ∈ lw_all := lw_g (lw_at lw_m8 140 rfl) rfl
theorem q1930 : (Jvm.Cond.constant "BonnetValleyModel" (474 : Nat) (1103515245 : Int32)) ∈ lw_all := lw_g (lw_at lw_m8 141 rfl) rfl
theorem q1932 : (Jvm.Cond.instanceMethod ({ cls := "BonnetValleyModel", name := "keep", desc := "(I)Z" } : Jvm.MethodName)) ∈ lw_all := lw_g (lw_at lw_m8 143 rfl) rfl
theorem q1933 : (Jvm.Cond.selects "BonnetValleyModel" ({ cls := "BonnetValleyModel", name := "keep", desc := "(I)Z" } : Jvm.MethodName) ({ cls := "BonnetValleyModel", name := "keep", desc := "(I)Z" } : Jvm.MethodName)) ∈ lw_all := lw_g (lw_at lw_m8 144 rfl) rfl
theorem q1934 : (Jvm.Cond.code ({ cls := "BonnetValleyModel", name := "keep", desc := "(I)Z" } : Jvm.MethodName) prog_12_method_117_code (3 : Nat) (Option.some Jvm.ClassFile.FieldType.boolean)) ∈ lw_all := lw_g (lw_at lw_m8 145 rfl) rfl
theorem q1936 : (Jvm.Cond.instanceMethod ({ cls := "BonnetValleyModel", name := "again", desc := "(I)Z" } : Jvm.MethodName)) ∈ lw_all := lw_g (lw_at lw_m8 147 rfl) rfl
theorem q1937 : (Jvm.Cond.selects "BonnetValleyModel" ({ cls := "BonnetValleyModel", name := "again", desc := "(I)Z" } : Jvm.MethodName) ({ cls := "BonnetValleyModel", name := "again", desc := "(I)Z" } : Jvm.MethodName)) ∈ lw_all := lw_g (lw_at lw_m8 148 rfl) rfl
theorem q1938 : (Jvm.Cond.code ({ cls := "BonnetValleyModel", name := "again", desc := "(I)Z" } : Jvm.MethodName) prog_12_method_118_code (3 : Nat) (Option.some Jvm.ClassFile.FieldType.boolean)) ∈ lw_all := lw_g (lw_at lw_m8 149 rfl) rfl
theorem q1940 : (Jvm.Cond.instanceMethod ({ cls := "BonnetValleyModel", name := "count", desc := "(I)I" } : Jvm.MethodName)) ∈ lw_all := lw_g (lw_at lw_m8 151 rfl) rfl
theorem q1941 : (Jvm.Cond.selects "BonnetValleyModel" ({ cls := "BonnetValleyModel", name := "count", desc := "(I)I" } : Jvm.MethodName) ({ cls := "BonnetValleyModel", name := "count", desc := "(I)I" } : Jvm.MethodName)) ∈ lw_all := lw_g (lw_at lw_m8 152 rfl) rfl
theorem q1942 : (Jvm.Cond.code ({ cls := "BonnetValleyModel", name := "count", desc := "(I)I" } : Jvm.MethodName) prog_12_method_119_code (2 : Nat) (Option.some Jvm.ClassFile.FieldType.int)) ∈ lw_all := lw_g (lw_at lw_m8 153 rfl) rfl
theorem q1944 : (Jvm.Cond.instanceMethod ({ cls := "BonnetValleyModel", name := "row", desc := "(I)J" } : Jvm.MethodName)) ∈ lw_all := lw_g (lw_at lw_m8 155 rfl) rfl
theorem q1945 : (Jvm.Cond.selects "BonnetValleyModel" ({ cls := "BonnetValleyModel", name := "row", desc := "(I)J" } : Jvm.MethodName) ({ cls := "BonnetValleyModel", name := "row", desc := "(I)J" } : Jvm.MethodName)) ∈ lw_all := lw_g (lw_at lw_m8 156 rfl) rfl
theorem q1946 : (Jvm.Cond.code ({ cls := "BonnetValleyModel", name := "row", desc := "(I)J" } : Jvm.MethodName) prog_12_method_120_code (2 : Nat) (Option.some Jvm.ClassFile.FieldType.long)) ∈ lw_all := lw_g (lw_at lw_m8 157 rfl) rfl
theorem q1955 : (Jvm.Cond.castable "BonnetValleyModel" "java/lang/Object") ∈ lw_tbl := lw_at lw_m8 166 rfl
theorem in_X6 : ∀ w ∈ wsX60, w ∈ lw_all := lw_in wsX60 [1337, 1339, 1341, 1343, 1345, 1347, 1349, 1351, 1353, 1355, 1357, 1359, 1361, 1363, 1365, 1367, 1369, 1371, 1373, 1375, 1377, 1379, 1381, 1383, 1385, 1387, 1389, 1391, 1393, 1395, 1397, 1399, 1401, 1403, 1405, 1407, 1409, 1411, 1413, 1415, 1417, 1419, 1421, 1423, 1425, 1427, 1429, 1431, 1433] (by decide +kernel) (by decide +kernel)
