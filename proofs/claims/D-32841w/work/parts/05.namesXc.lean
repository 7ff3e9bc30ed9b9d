/-! LifeofficeModel -/
set_option maxRecDepth 100000
def RX4 : String := "LifeofficeModel"
def TX4 : u_T := fun k => match k with
  | 0 => ("LifeofficeModel", "thrown", "I", false)
  | 1 => ("LifeofficeModel", "year", "I", false)
  | 2 => ("LifeofficeModel", "improvement", "I", false)
  | 3 => ("LifeofficeModel", "loading", "I", false)
  | 4 => ("LifeofficeModel", "flat", "I", false)
  | 5 => ("LifeofficeModel", "smoothing", "I", false)
  | 6 => ("LifeofficeModel", "lastBonus", "I", false)
  | 7 => ("LifeofficeModel", "finalRate", "I", false)
  | 8 => ("LifeofficeModel", "retention", "I", false)
  | 9 => ("LifeofficeModel", "quota", "I", false)
  | 10 => ("LifeofficeModel", "policies", "I", false)
  | 11 => ("LifeofficeModel", "bonds", "I", false)
  | 12 => ("LifeofficeModel", "wasDeclared", "Z", false)
  | 13 => ("LifeofficeModel", "isClosed", "Z", false)
  | 14 => ("LifeofficeModel", "cash", "J", false)
  | 15 => ("LifeofficeModel", "deaths", "J", false)
  | 16 => ("LifeofficeModel", "expected", "J", false)
  | 17 => ("LifeofficeModel", "latest", "J", false)
  | 18 => ("LifeofficeModel", "interest", "[I", true)
  | 19 => ("LifeofficeModel", "percent", "[I", true)
  | 20 => ("LifeofficeModel", "isZeroised", "[Z", true)
  | 21 => ("LifeofficeModel", "now", "[J", true)
  | 22 => ("LifeofficeModel", "closed", "[J", true)
  | 23 => ("LifeofficeModel", "kind", "[I", true)
  | 24 => ("LifeofficeModel", "birth", "[I", true)
  | 25 => ("LifeofficeModel", "flags", "[I", true)
  | 26 => ("LifeofficeModel", "points", "[I", true)
  | 27 => ("LifeofficeModel", "start", "[I", true)
  | 28 => ("LifeofficeModel", "end", "[I", true)
  | 29 => ("LifeofficeModel", "state", "[I", true)
  | 30 => ("LifeofficeModel", "truePoints", "[I", true)
  | 31 => ("LifeofficeModel", "payments", "[I", true)
  | 32 => ("LifeofficeModel", "lapsed", "[I", true)
  | 33 => ("LifeofficeModel", "guarantee", "[I", true)
  | 34 => ("LifeofficeModel", "isPaid", "[Z", true)
  | 35 => ("LifeofficeModel", "sum", "[J", true)
  | 36 => ("LifeofficeModel", "bonus", "[J", true)
  | 37 => ("LifeofficeModel", "share", "[J", true)
  | 38 => ("LifeofficeModel", "loan", "[J", true)
  | 39 => ("LifeofficeModel", "premium", "[J", true)
  | 40 => ("LifeofficeModel", "premiums", "[J", true)
  | 41 => ("LifeofficeModel", "got", "[J", true)
  | 42 => ("LifeofficeModel", "left", "[I", true)
  | 43 => ("LifeofficeModel", "nominal", "[I", true)
  | 44 => ("LifeofficeModel", "rate", "[I", true)
  | 45 => ("LifeofficeModel", "valueD", "J", false)
  | 46 => ("LifeofficeModel", "valueP", "J", false)
  | 47 => ("LifeofficeModel", "valueN", "J", false)
  | 48 => ("LifeofficeModel", "startD", "J", false)
  | 49 => ("LifeofficeModel", "startP", "J", false)
  | 50 => ("LifeofficeModel", "startN", "J", false)
  | 51 => ("LifeofficeModel", "was", "[J", true)
  | 52 => ("LifeofficeModel", "nets", "[J", true)
  | 53 => ("LifeofficeModel", "living", "[Z", true)
  | _ => ("LifeofficeModel", "values", "[J", true)
def tyX4 : Nat → FieldType := fun k => match k with
  | 0 => .int
  | 1 => .int
  | 2 => .int
  | 3 => .int
  | 4 => .int
  | 5 => .int
  | 6 => .int
  | 7 => .int
  | 8 => .int
  | 9 => .int
  | 10 => .int
  | 11 => .int
  | 12 => .boolean
  | 13 => .boolean
  | 14 => .long
  | 15 => .long
  | 16 => .long
  | 17 => .long
  | 18 => .array .int
  | 19 => .array .int
  | 20 => .array .boolean
  | 21 => .array .long
  | 22 => .array .long
  | 23 => .array .int
  | 24 => .array .int
  | 25 => .array .int
  | 26 => .array .int
  | 27 => .array .int
  | 28 => .array .int
  | 29 => .array .int
  | 30 => .array .int
  | 31 => .array .int
  | 32 => .array .int
  | 33 => .array .int
  | 34 => .array .boolean
  | 35 => .array .long
  | 36 => .array .long
  | 37 => .array .long
  | 38 => .array .long
  | 39 => .array .long
  | 40 => .array .long
  | 41 => .array .long
  | 42 => .array .int
  | 43 => .array .int
  | 44 => .array .int
  | 45 => .long
  | 46 => .long
  | 47 => .long
  | 48 => .long
  | 49 => .long
  | 50 => .long
  | 51 => .array .long
  | 52 => .array .long
  | 53 => .array .boolean
  | _ => .array .long
abbrev wsX40 : List Cond := u_ws RX4 TX4 55
set_option maxRecDepth 100000 in
theorem nmX4 : ∀ a, a < 55 → ∀ b, b < 55 → a ≠ b → (TX4 a).2.1 ≠ (TX4 b).2.1 := by decide +kernel
set_option maxRecDepth 100000 in
theorem tyX4_ok : ∀ k, k < 55 → parseFieldDescriptor (TX4 k).2.2.1 = some (tyX4 k) := by decide +kernel
abbrev cX4_thrown : ByteArray := prog_12_method_1_code
def yX4_thrown : MethodName := ⟨RX4, "thrown", "()I"⟩
theorem dX4_thrown_0 : decode cX4_thrown 0 = .ok (.aload_n 0, 1) := by decide +kernel
theorem dX4_thrown_1 : decode cX4_thrown 1 = .ok (.getfield 1, 3) := by decide +kernel
theorem dX4_thrown_4 : decode cX4_thrown 4 = .ok (.ireturn, 1) := by decide +kernel
abbrev cX4_init : ByteArray := prog_12_method_4_code
def yX4_init : MethodName := ⟨RX4, "<init>", "()V"⟩
def dkwX4_init_10 : List UInt8 := [181, 0, 103, 42, 16, 64, 188, 11, 181, 0, 106, 42, 17, 7, 158, 18, 109, 182, 0, 110, 177]
abbrev dktX4_init_10 : List UInt8 := dkwX4_init_10 ++ []
def dkwX4_init_9 : List UInt8 := [181, 0, 94, 42, 16, 24, 188, 11, 181, 0, 97, 42, 16, 24, 188, 11, 181, 0, 100, 42, 16, 24, 188, 4]
abbrev dktX4_init_9 : List UInt8 := dkwX4_init_9 ++ dktX4_init_10
def dkwX4_init_8 : List UInt8 := [181, 0, 85, 42, 16, 16, 188, 10, 181, 0, 88, 42, 16, 16, 188, 10, 181, 0, 91, 42, 16, 16, 188, 10]
abbrev dktX4_init_8 : List UInt8 := dkwX4_init_8 ++ dktX4_init_9
def dkwX4_init_7 : List UInt8 := [181, 0, 76, 42, 16, 24, 188, 11, 181, 0, 79, 42, 16, 24, 188, 11, 181, 0, 82, 42, 16, 24, 188, 11]
abbrev dktX4_init_7 : List UInt8 := dkwX4_init_7 ++ dktX4_init_8
def dkwX4_init_6 : List UInt8 := [181, 0, 67, 42, 16, 24, 188, 11, 181, 0, 70, 42, 16, 24, 188, 11, 181, 0, 73, 42, 16, 24, 188, 11]
abbrev dktX4_init_6 : List UInt8 := dkwX4_init_6 ++ dktX4_init_7
def dkwX4_init_5 : List UInt8 := [181, 0, 58, 42, 16, 24, 188, 10, 181, 0, 61, 42, 16, 24, 188, 4, 181, 0, 64, 42, 16, 24, 188, 11]
abbrev dktX4_init_5 : List UInt8 := dkwX4_init_5 ++ dktX4_init_6
def dkwX4_init_4 : List UInt8 := [181, 0, 49, 42, 16, 24, 188, 10, 181, 0, 52, 42, 16, 24, 188, 10, 181, 0, 55, 42, 16, 24, 188, 10]
abbrev dktX4_init_4 : List UInt8 := dkwX4_init_4 ++ dktX4_init_5
def dkwX4_init_3 : List UInt8 := [181, 0, 40, 42, 16, 24, 188, 10, 181, 0, 43, 42, 16, 24, 188, 10, 181, 0, 46, 42, 16, 24, 188, 10]
abbrev dktX4_init_3 : List UInt8 := dkwX4_init_3 ++ dktX4_init_4
def dkwX4_init_2 : List UInt8 := [181, 0, 31, 42, 16, 24, 188, 10, 181, 0, 34, 42, 16, 24, 188, 10, 181, 0, 37, 42, 16, 24, 188, 10]
abbrev dktX4_init_2 : List UInt8 := dkwX4_init_2 ++ dktX4_init_3
def dkwX4_init_1 : List UInt8 := [181, 0, 20, 42, 16, 9, 188, 11, 181, 0, 24, 42, 16, 9, 188, 11, 181, 0, 28, 42, 16, 24, 188, 10]
abbrev dktX4_init_1 : List UInt8 := dkwX4_init_1 ++ dktX4_init_2
def dkwX4_init_0 : List UInt8 := [42, 183, 0, 7, 42, 6, 188, 10, 181, 0, 13, 42, 6, 188, 10, 181, 0, 17, 42, 6, 188, 4]
abbrev dktX4_init_0 : List UInt8 := dkwX4_init_0 ++ dktX4_init_1
theorem dksX4_init_0 : cX4_init.data.toList.drop 0 = dktX4_init_0 := by decide +kernel
theorem dksX4_init_1 : cX4_init.data.toList.drop 22 = dktX4_init_1 := dk_seg dksX4_init_0 22 rfl rfl
theorem dksX4_init_2 : cX4_init.data.toList.drop 46 = dktX4_init_2 := dk_seg dksX4_init_1 24 rfl rfl
theorem dksX4_init_3 : cX4_init.data.toList.drop 70 = dktX4_init_3 := dk_seg dksX4_init_2 24 rfl rfl
theorem dksX4_init_4 : cX4_init.data.toList.drop 94 = dktX4_init_4 := dk_seg dksX4_init_3 24 rfl rfl
theorem dksX4_init_5 : cX4_init.data.toList.drop 118 = dktX4_init_5 := dk_seg dksX4_init_4 24 rfl rfl
theorem dksX4_init_6 : cX4_init.data.toList.drop 142 = dktX4_init_6 := dk_seg dksX4_init_5 24 rfl rfl
theorem dksX4_init_7 : cX4_init.data.toList.drop 166 = dktX4_init_7 := dk_seg dksX4_init_6 24 rfl rfl
theorem dksX4_init_8 : cX4_init.data.toList.drop 190 = dktX4_init_8 := dk_seg dksX4_init_7 24 rfl rfl
theorem dksX4_init_9 : cX4_init.data.toList.drop 214 = dktX4_init_9 := dk_seg dksX4_init_8 24 rfl rfl
theorem dksX4_init_10 : cX4_init.data.toList.drop 238 = dktX4_init_10 := dk_seg dksX4_init_9 24 rfl rfl
theorem dX4_init_0 : decode cX4_init 0 = .ok (.aload_n 0, 1) := dk_42 (dk_at dksX4_init_0 0 rfl rfl)
theorem dX4_init_1 : decode cX4_init 1 = .ok (.invokespecial 7, 3) := dk_183 0 7 (dk_at dksX4_init_0 1 rfl rfl)
theorem dX4_init_4 : decode cX4_init 4 = .ok (.aload_n 0, 1) := dk_42 (dk_at dksX4_init_0 4 rfl rfl)
theorem dX4_init_5 : decode cX4_init 5 = .ok (.iconst 3, 1) := dk_6 (dk_at dksX4_init_0 5 rfl rfl)
theorem dX4_init_6 : decode cX4_init 6 = .ok (.newarray .int, 2) := dk_188_10 (dk_at dksX4_init_0 6 rfl rfl)
theorem dX4_init_8 : decode cX4_init 8 = .ok (.putfield 13, 3) := dk_181 0 13 (dk_at dksX4_init_0 8 rfl rfl)
theorem dX4_init_11 : decode cX4_init 11 = .ok (.aload_n 0, 1) := dk_42 (dk_at dksX4_init_0 11 rfl rfl)
theorem dX4_init_12 : decode cX4_init 12 = .ok (.iconst 3, 1) := dk_6 (dk_at dksX4_init_0 12 rfl rfl)
theorem dX4_init_13 : decode cX4_init 13 = .ok (.newarray .int, 2) := dk_188_10 (dk_at dksX4_init_0 13 rfl rfl)
theorem dX4_init_15 : decode cX4_init 15 = .ok (.putfield 17, 3) := dk_181 0 17 (dk_at dksX4_init_0 15 rfl rfl)
theorem dX4_init_18 : decode cX4_init 18 = .ok (.aload_n 0, 1) := dk_42 (dk_at dksX4_init_0 18 rfl rfl)
theorem dX4_init_19 : decode cX4_init 19 = .ok (.iconst 3, 1) := dk_6 (dk_at dksX4_init_0 19 rfl rfl)
theorem dX4_init_20 : decode cX4_init 20 = .ok (.newarray .boolean, 2) := dk_188_4 (dk_at dksX4_init_0 20 rfl rfl)
theorem dX4_init_22 : decode cX4_init 22 = .ok (.putfield 20, 3) := dk_181 0 20 (dk_at dksX4_init_1 0 rfl rfl)
theorem dX4_init_25 : decode cX4_init 25 = .ok (.aload_n 0, 1) := dk_42 (dk_at dksX4_init_1 3 rfl rfl)
theorem dX4_init_26 : decode cX4_init 26 = .ok (.bipush 9, 2) := dk_16 9 (dk_at dksX4_init_1 4 rfl rfl)
theorem dX4_init_28 : decode cX4_init 28 = .ok (.newarray .long, 2) := dk_188_11 (dk_at dksX4_init_1 6 rfl rfl)
theorem dX4_init_30 : decode cX4_init 30 = .ok (.putfield 24, 3) := dk_181 0 24 (dk_at dksX4_init_1 8 rfl rfl)
theorem dX4_init_33 : decode cX4_init 33 = .ok (.aload_n 0, 1) := dk_42 (dk_at dksX4_init_1 11 rfl rfl)
theorem dX4_init_34 : decode cX4_init 34 = .ok (.bipush 9, 2) := dk_16 9 (dk_at dksX4_init_1 12 rfl rfl)
theorem dX4_init_36 : decode cX4_init 36 = .ok (.newarray .long, 2) := dk_188_11 (dk_at dksX4_init_1 14 rfl rfl)
theorem dX4_init_38 : decode cX4_init 38 = .ok (.putfield 28, 3) := dk_181 0 28 (dk_at dksX4_init_1 16 rfl rfl)
theorem dX4_init_41 : decode cX4_init 41 = .ok (.aload_n 0, 1) := dk_42 (dk_at dksX4_init_1 19 rfl rfl)
theorem dX4_init_42 : decode cX4_init 42 = .ok (.bipush 24, 2) := dk_16 24 (dk_at dksX4_init_1 20 rfl rfl)
theorem dX4_init_44 : decode cX4_init 44 = .ok (.newarray .int, 2) := dk_188_10 (dk_at dksX4_init_1 22 rfl rfl)
theorem dX4_init_46 : decode cX4_init 46 = .ok (.putfield 31, 3) := dk_181 0 31 (dk_at dksX4_init_2 0 rfl rfl)
theorem dX4_init_49 : decode cX4_init 49 = .ok (.aload_n 0, 1) := dk_42 (dk_at dksX4_init_2 3 rfl rfl)
theorem dX4_init_50 : decode cX4_init 50 = .ok (.bipush 24, 2) := dk_16 24 (dk_at dksX4_init_2 4 rfl rfl)
theorem dX4_init_52 : decode cX4_init 52 = .ok (.newarray .int, 2) := dk_188_10 (dk_at dksX4_init_2 6 rfl rfl)
theorem dX4_init_54 : decode cX4_init 54 = .ok (.putfield 34, 3) := dk_181 0 34 (dk_at dksX4_init_2 8 rfl rfl)
theorem dX4_init_57 : decode cX4_init 57 = .ok (.aload_n 0, 1) := dk_42 (dk_at dksX4_init_2 11 rfl rfl)
theorem dX4_init_58 : decode cX4_init 58 = .ok (.bipush 24, 2) := dk_16 24 (dk_at dksX4_init_2 12 rfl rfl)
theorem dX4_init_60 : decode cX4_init 60 = .ok (.newarray .int, 2) := dk_188_10 (dk_at dksX4_init_2 14 rfl rfl)
theorem dX4_init_62 : decode cX4_init 62 = .ok (.putfield 37, 3) := dk_181 0 37 (dk_at dksX4_init_2 16 rfl rfl)
theorem dX4_init_65 : decode cX4_init 65 = .ok (.aload_n 0, 1) := dk_42 (dk_at dksX4_init_2 19 rfl rfl)
theorem dX4_init_66 : decode cX4_init 66 = .ok (.bipush 24, 2) := dk_16 24 (dk_at dksX4_init_2 20 rfl rfl)
theorem dX4_init_68 : decode cX4_init 68 = .ok (.newarray .int, 2) := dk_188_10 (dk_at dksX4_init_2 22 rfl rfl)
theorem dX4_init_70 : decode cX4_init 70 = .ok (.putfield 40, 3) := dk_181 0 40 (dk_at dksX4_init_3 0 rfl rfl)
theorem dX4_init_73 : decode cX4_init 73 = .ok (.aload_n 0, 1) := dk_42 (dk_at dksX4_init_3 3 rfl rfl)
theorem dX4_init_74 : decode cX4_init 74 = .ok (.bipush 24, 2) := dk_16 24 (dk_at dksX4_init_3 4 rfl rfl)
theorem dX4_init_76 : decode cX4_init 76 = .ok (.newarray .int, 2) := dk_188_10 (dk_at dksX4_init_3 6 rfl rfl)
theorem dX4_init_78 : decode cX4_init 78 = .ok (.putfield 43, 3) := dk_181 0 43 (dk_at dksX4_init_3 8 rfl rfl)
theorem dX4_init_81 : decode cX4_init 81 = .ok (.aload_n 0, 1) := dk_42 (dk_at dksX4_init_3 11 rfl rfl)
theorem dX4_init_82 : decode cX4_init 82 = .ok (.bipush 24, 2) := dk_16 24 (dk_at dksX4_init_3 12 rfl rfl)
theorem dX4_init_84 : decode cX4_init 84 = .ok (.newarray .int, 2) := dk_188_10 (dk_at dksX4_init_3 14 rfl rfl)
theorem dX4_init_86 : decode cX4_init 86 = .ok (.putfield 46, 3) := dk_181 0 46 (dk_at dksX4_init_3 16 rfl rfl)
theorem dX4_init_89 : decode cX4_init 89 = .ok (.aload_n 0, 1) := dk_42 (dk_at dksX4_init_3 19 rfl rfl)
theorem dX4_init_90 : decode cX4_init 90 = .ok (.bipush 24, 2) := dk_16 24 (dk_at dksX4_init_3 20 rfl rfl)
theorem dX4_init_92 : decode cX4_init 92 = .ok (.newarray .int, 2) := dk_188_10 (dk_at dksX4_init_3 22 rfl rfl)
theorem dX4_init_94 : decode cX4_init 94 = .ok (.putfield 49, 3) := dk_181 0 49 (dk_at dksX4_init_4 0 rfl rfl)
theorem dX4_init_97 : decode cX4_init 97 = .ok (.aload_n 0, 1) := dk_42 (dk_at dksX4_init_4 3 rfl rfl)
theorem dX4_init_98 : decode cX4_init 98 = .ok (.bipush 24, 2) := dk_16 24 (dk_at dksX4_init_4 4 rfl rfl)
theorem dX4_init_100 : decode cX4_init 100 = .ok (.newarray .int, 2) := dk_188_10 (dk_at dksX4_init_4 6 rfl rfl)
theorem dX4_init_102 : decode cX4_init 102 = .ok (.putfield 52, 3) := dk_181 0 52 (dk_at dksX4_init_4 8 rfl rfl)
theorem dX4_init_105 : decode cX4_init 105 = .ok (.aload_n 0, 1) := dk_42 (dk_at dksX4_init_4 11 rfl rfl)
theorem dX4_init_106 : decode cX4_init 106 = .ok (.bipush 24, 2) := dk_16 24 (dk_at dksX4_init_4 12 rfl rfl)
theorem dX4_init_108 : decode cX4_init 108 = .ok (.newarray .int, 2) := dk_188_10 (dk_at dksX4_init_4 14 rfl rfl)
theorem dX4_init_110 : decode cX4_init 110 = .ok (.putfield 55, 3) := dk_181 0 55 (dk_at dksX4_init_4 16 rfl rfl)
theorem dX4_init_113 : decode cX4_init 113 = .ok (.aload_n 0, 1) := dk_42 (dk_at dksX4_init_4 19 rfl rfl)
theorem dX4_init_114 : decode cX4_init 114 = .ok (.bipush 24, 2) := dk_16 24 (dk_at dksX4_init_4 20 rfl rfl)
theorem dX4_init_116 : decode cX4_init 116 = .ok (.newarray .int, 2) := dk_188_10 (dk_at dksX4_init_4 22 rfl rfl)
theorem dX4_init_118 : decode cX4_init 118 = .ok (.putfield 58, 3) := dk_181 0 58 (dk_at dksX4_init_5 0 rfl rfl)
theorem dX4_init_121 : decode cX4_init 121 = .ok (.aload_n 0, 1) := dk_42 (dk_at dksX4_init_5 3 rfl rfl)
theorem dX4_init_122 : decode cX4_init 122 = .ok (.bipush 24, 2) := dk_16 24 (dk_at dksX4_init_5 4 rfl rfl)
theorem dX4_init_124 : decode cX4_init 124 = .ok (.newarray .int, 2) := dk_188_10 (dk_at dksX4_init_5 6 rfl rfl)
theorem dX4_init_126 : decode cX4_init 126 = .ok (.putfield 61, 3) := dk_181 0 61 (dk_at dksX4_init_5 8 rfl rfl)
theorem dX4_init_129 : decode cX4_init 129 = .ok (.aload_n 0, 1) := dk_42 (dk_at dksX4_init_5 11 rfl rfl)
theorem dX4_init_130 : decode cX4_init 130 = .ok (.bipush 24, 2) := dk_16 24 (dk_at dksX4_init_5 12 rfl rfl)
theorem dX4_init_132 : decode cX4_init 132 = .ok (.newarray .boolean, 2) := dk_188_4 (dk_at dksX4_init_5 14 rfl rfl)
theorem dX4_init_134 : decode cX4_init 134 = .ok (.putfield 64, 3) := dk_181 0 64 (dk_at dksX4_init_5 16 rfl rfl)
theorem dX4_init_137 : decode cX4_init 137 = .ok (.aload_n 0, 1) := dk_42 (dk_at dksX4_init_5 19 rfl rfl)
theorem dX4_init_138 : decode cX4_init 138 = .ok (.bipush 24, 2) := dk_16 24 (dk_at dksX4_init_5 20 rfl rfl)
theorem dX4_init_140 : decode cX4_init 140 = .ok (.newarray .long, 2) := dk_188_11 (dk_at dksX4_init_5 22 rfl rfl)
theorem dX4_init_142 : decode cX4_init 142 = .ok (.putfield 67, 3) := dk_181 0 67 (dk_at dksX4_init_6 0 rfl rfl)
theorem dX4_init_145 : decode cX4_init 145 = .ok (.aload_n 0, 1) := dk_42 (dk_at dksX4_init_6 3 rfl rfl)
theorem dX4_init_146 : decode cX4_init 146 = .ok (.bipush 24, 2) := dk_16 24 (dk_at dksX4_init_6 4 rfl rfl)
theorem dX4_init_148 : decode cX4_init 148 = .ok (.newarray .long, 2) := dk_188_11 (dk_at dksX4_init_6 6 rfl rfl)
theorem dX4_init_150 : decode cX4_init 150 = .ok (.putfield 70, 3) := dk_181 0 70 (dk_at dksX4_init_6 8 rfl rfl)
theorem dX4_init_153 : decode cX4_init 153 = .ok (.aload_n 0, 1) := dk_42 (dk_at dksX4_init_6 11 rfl rfl)
theorem dX4_init_154 : decode cX4_init 154 = .ok (.bipush 24, 2) := dk_16 24 (dk_at dksX4_init_6 12 rfl rfl)
theorem dX4_init_156 : decode cX4_init 156 = .ok (.newarray .long, 2) := dk_188_11 (dk_at dksX4_init_6 14 rfl rfl)
theorem dX4_init_158 : decode cX4_init 158 = .ok (.putfield 73, 3) := dk_181 0 73 (dk_at dksX4_init_6 16 rfl rfl)
theorem dX4_init_161 : decode cX4_init 161 = .ok (.aload_n 0, 1) := dk_42 (dk_at dksX4_init_6 19 rfl rfl)
theorem dX4_init_162 : decode cX4_init 162 = .ok (.bipush 24, 2) := dk_16 24 (dk_at dksX4_init_6 20 rfl rfl)
theorem dX4_init_164 : decode cX4_init 164 = .ok (.newarray .long, 2) := dk_188_11 (dk_at dksX4_init_6 22 rfl rfl)
theorem dX4_init_166 : decode cX4_init 166 = .ok (.putfield 76, 3) := dk_181 0 76 (dk_at dksX4_init_7 0 rfl rfl)
theorem dX4_init_169 : decode cX4_init 169 = .ok (.aload_n 0, 1) := dk_42 (dk_at dksX4_init_7 3 rfl rfl)
theorem dX4_init_170 : decode cX4_init 170 = .ok (.bipush 24, 2) := dk_16 24 (dk_at dksX4_init_7 4 rfl rfl)
theorem dX4_init_172 : decode cX4_init 172 = .ok (.newarray .long, 2) := dk_188_11 (dk_at dksX4_init_7 6 rfl rfl)
theorem dX4_init_174 : decode cX4_init 174 = .ok (.putfield 79, 3) := dk_181 0 79 (dk_at dksX4_init_7 8 rfl rfl)
theorem dX4_init_177 : decode cX4_init 177 = .ok (.aload_n 0, 1) := dk_42 (dk_at dksX4_init_7 11 rfl rfl)
theorem dX4_init_178 : decode cX4_init 178 = .ok (.bipush 24, 2) := dk_16 24 (dk_at dksX4_init_7 12 rfl rfl)
theorem dX4_init_180 : decode cX4_init 180 = .ok (.newarray .long, 2) := dk_188_11 (dk_at dksX4_init_7 14 rfl rfl)
theorem dX4_init_182 : decode cX4_init 182 = .ok (.putfield 82, 3) := dk_181 0 82 (dk_at dksX4_init_7 16 rfl rfl)
theorem dX4_init_185 : decode cX4_init 185 = .ok (.aload_n 0, 1) := dk_42 (dk_at dksX4_init_7 19 rfl rfl)
theorem dX4_init_186 : decode cX4_init 186 = .ok (.bipush 24, 2) := dk_16 24 (dk_at dksX4_init_7 20 rfl rfl)
theorem dX4_init_188 : decode cX4_init 188 = .ok (.newarray .long, 2) := dk_188_11 (dk_at dksX4_init_7 22 rfl rfl)
theorem dX4_init_190 : decode cX4_init 190 = .ok (.putfield 85, 3) := dk_181 0 85 (dk_at dksX4_init_8 0 rfl rfl)
theorem dX4_init_193 : decode cX4_init 193 = .ok (.aload_n 0, 1) := dk_42 (dk_at dksX4_init_8 3 rfl rfl)
theorem dX4_init_194 : decode cX4_init 194 = .ok (.bipush 16, 2) := dk_16 16 (dk_at dksX4_init_8 4 rfl rfl)
theorem dX4_init_196 : decode cX4_init 196 = .ok (.newarray .int, 2) := dk_188_10 (dk_at dksX4_init_8 6 rfl rfl)
theorem dX4_init_198 : decode cX4_init 198 = .ok (.putfield 88, 3) := dk_181 0 88 (dk_at dksX4_init_8 8 rfl rfl)
theorem dX4_init_201 : decode cX4_init 201 = .ok (.aload_n 0, 1) := dk_42 (dk_at dksX4_init_8 11 rfl rfl)
theorem dX4_init_202 : decode cX4_init 202 = .ok (.bipush 16, 2) := dk_16 16 (dk_at dksX4_init_8 12 rfl rfl)
theorem dX4_init_204 : decode cX4_init 204 = .ok (.newarray .int, 2) := dk_188_10 (dk_at dksX4_init_8 14 rfl rfl)
theorem dX4_init_206 : decode cX4_init 206 = .ok (.putfield 91, 3) := dk_181 0 91 (dk_at dksX4_init_8 16 rfl rfl)
theorem dX4_init_209 : decode cX4_init 209 = .ok (.aload_n 0, 1) := dk_42 (dk_at dksX4_init_8 19 rfl rfl)
theorem dX4_init_210 : decode cX4_init 210 = .ok (.bipush 16, 2) := dk_16 16 (dk_at dksX4_init_8 20 rfl rfl)
theorem dX4_init_212 : decode cX4_init 212 = .ok (.newarray .int, 2) := dk_188_10 (dk_at dksX4_init_8 22 rfl rfl)
theorem dX4_init_214 : decode cX4_init 214 = .ok (.putfield 94, 3) := dk_181 0 94 (dk_at dksX4_init_9 0 rfl rfl)
theorem dX4_init_217 : decode cX4_init 217 = .ok (.aload_n 0, 1) := dk_42 (dk_at dksX4_init_9 3 rfl rfl)
theorem dX4_init_218 : decode cX4_init 218 = .ok (.bipush 24, 2) := dk_16 24 (dk_at dksX4_init_9 4 rfl rfl)
theorem dX4_init_220 : decode cX4_init 220 = .ok (.newarray .long, 2) := dk_188_11 (dk_at dksX4_init_9 6 rfl rfl)
theorem dX4_init_222 : decode cX4_init 222 = .ok (.putfield 97, 3) := dk_181 0 97 (dk_at dksX4_init_9 8 rfl rfl)
theorem dX4_init_225 : decode cX4_init 225 = .ok (.aload_n 0, 1) := dk_42 (dk_at dksX4_init_9 11 rfl rfl)
theorem dX4_init_226 : decode cX4_init 226 = .ok (.bipush 24, 2) := dk_16 24 (dk_at dksX4_init_9 12 rfl rfl)
theorem dX4_init_228 : decode cX4_init 228 = .ok (.newarray .long, 2) := dk_188_11 (dk_at dksX4_init_9 14 rfl rfl)
theorem dX4_init_230 : decode cX4_init 230 = .ok (.putfield 100, 3) := dk_181 0 100 (dk_at dksX4_init_9 16 rfl rfl)
theorem dX4_init_233 : decode cX4_init 233 = .ok (.aload_n 0, 1) := dk_42 (dk_at dksX4_init_9 19 rfl rfl)
theorem dX4_init_234 : decode cX4_init 234 = .ok (.bipush 24, 2) := dk_16 24 (dk_at dksX4_init_9 20 rfl rfl)
theorem dX4_init_236 : decode cX4_init 236 = .ok (.newarray .boolean, 2) := dk_188_4 (dk_at dksX4_init_9 22 rfl rfl)
theorem dX4_init_238 : decode cX4_init 238 = .ok (.putfield 103, 3) := dk_181 0 103 (dk_at dksX4_init_10 0 rfl rfl)
theorem dX4_init_241 : decode cX4_init 241 = .ok (.aload_n 0, 1) := dk_42 (dk_at dksX4_init_10 3 rfl rfl)
theorem dX4_init_242 : decode cX4_init 242 = .ok (.bipush 64, 2) := dk_16 64 (dk_at dksX4_init_10 4 rfl rfl)
theorem dX4_init_244 : decode cX4_init 244 = .ok (.newarray .long, 2) := dk_188_11 (dk_at dksX4_init_10 6 rfl rfl)
theorem dX4_init_246 : decode cX4_init 246 = .ok (.putfield 106, 3) := dk_181 0 106 (dk_at dksX4_init_10 8 rfl rfl)
theorem dX4_init_249 : decode cX4_init 249 = .ok (.aload_n 0, 1) := dk_42 (dk_at dksX4_init_10 11 rfl rfl)
theorem dX4_init_250 : decode cX4_init 250 = .ok (.sipush 1950, 3) := dk_17 7 158 (dk_at dksX4_init_10 12 rfl rfl)
theorem dX4_init_253 : decode cX4_init 253 = .ok (.ldc 109, 2) := dk_18 109 (dk_at dksX4_init_10 15 rfl rfl)
theorem dX4_init_255 : decode cX4_init 255 = .ok (.invokevirtual 110, 3) := dk_182 0 110 (dk_at dksX4_init_10 17 rfl rfl)
theorem dX4_init_258 : decode cX4_init 258 = .ok (.return_, 1) := dk_177 (dk_at dksX4_init_10 20 rfl rfl)
abbrev cX4_founds : ByteArray := prog_12_method_5_code
def yX4_founds : MethodName := ⟨RX4, "founds", "(II)V"⟩
def dkwX4_founds_7 : List UInt8 := [80, 132, 3, 1, 167, 255, 233, 177]
abbrev dktX4_founds_7 : List UInt8 := dkwX4_founds_7 ++ []
def dkwX4_founds_6 : List UInt8 := [167, 255, 207, 3, 62, 29, 16, 9, 162, 0, 23, 42, 180, 0, 24, 29, 9, 80, 42, 180, 0, 28, 29, 9]
abbrev dktX4_founds_6 : List UInt8 := dkwX4_founds_6 ++ dktX4_founds_7
def dkwX4_founds_5 : List UInt8 := [16, 10, 29, 104, 96, 79, 42, 180, 0, 20, 29, 29, 158, 0, 7, 4, 167, 0, 4, 3, 84, 132, 3, 1]
abbrev dktX4_founds_5 : List UInt8 := dkwX4_founds_5 ++ dktX4_founds_6
def dkwX4_founds_4 : List UInt8 := [162, 0, 50, 42, 180, 0, 13, 29, 16, 30, 16, 10, 29, 104, 100, 79, 42, 180, 0, 17, 29, 16, 100]
abbrev dktX4_founds_4 : List UInt8 := dkwX4_founds_4 ++ dktX4_founds_5
def dkwX4_founds_3 : List UInt8 := [3, 181, 0, 156, 42, 9, 181, 0, 159, 42, 9, 181, 0, 162, 42, 9, 181, 0, 165, 3, 62, 29, 6]
abbrev dktX4_founds_3 : List UInt8 := dkwX4_founds_3 ++ dktX4_founds_4
def dkwX4_founds_2 : List UInt8 := [181, 0, 140, 42, 3, 181, 0, 143, 42, 3, 181, 0, 146, 42, 3, 181, 0, 149, 42, 3, 181, 0, 152, 42]
abbrev dktX4_founds_2 : List UInt8 := dkwX4_founds_2 ++ dktX4_founds_3
def dkwX4_founds_1 : List UInt8 := [16, 10, 181, 0, 127, 42, 16, 10, 181, 0, 130, 42, 3, 181, 0, 133, 42, 3, 181, 0, 136, 42, 18, 139]
abbrev dktX4_founds_1 : List UInt8 := dkwX4_founds_1 ++ dktX4_founds_2
def dkwX4_founds_0 : List UInt8 := [42, 27, 181, 0, 114, 42, 28, 133, 181, 0, 117, 42, 8, 181, 0, 121, 42, 16, 100, 181, 0, 124, 42]
abbrev dktX4_founds_0 : List UInt8 := dkwX4_founds_0 ++ dktX4_founds_1
theorem dksX4_founds_0 : cX4_founds.data.toList.drop 0 = dktX4_founds_0 := by decide +kernel
theorem dksX4_founds_1 : cX4_founds.data.toList.drop 23 = dktX4_founds_1 := dk_seg dksX4_founds_0 23 rfl rfl
theorem dksX4_founds_2 : cX4_founds.data.toList.drop 47 = dktX4_founds_2 := dk_seg dksX4_founds_1 24 rfl rfl
theorem dksX4_founds_3 : cX4_founds.data.toList.drop 71 = dktX4_founds_3 := dk_seg dksX4_founds_2 24 rfl rfl
theorem dksX4_founds_4 : cX4_founds.data.toList.drop 94 = dktX4_founds_4 := dk_seg dksX4_founds_3 23 rfl rfl
theorem dksX4_founds_5 : cX4_founds.data.toList.drop 117 = dktX4_founds_5 := dk_seg dksX4_founds_4 23 rfl rfl
theorem dksX4_founds_6 : cX4_founds.data.toList.drop 141 = dktX4_founds_6 := dk_seg dksX4_founds_5 24 rfl rfl
theorem dksX4_founds_7 : cX4_founds.data.toList.drop 165 = dktX4_founds_7 := dk_seg dksX4_founds_6 24 rfl rfl
theorem dX4_founds_0 : decode cX4_founds 0 = .ok (.aload_n 0, 1) := dk_42 (dk_at dksX4_founds_0 0 rfl rfl)
theorem dX4_founds_1 : decode cX4_founds 1 = .ok (.iload_n 1, 1) := dk_27 (dk_at dksX4_founds_0 1 rfl rfl)
theorem dX4_founds_2 : decode cX4_founds 2 = .ok (.putfield 114, 3) := dk_181 0 114 (dk_at dksX4_founds_0 2 rfl rfl)
theorem dX4_founds_5 : decode cX4_founds 5 = .ok (.aload_n 0, 1) := dk_42 (dk_at dksX4_founds_0 5 rfl rfl)
theorem dX4_founds_6 : decode cX4_founds 6 = .ok (.iload_n 2, 1) := dk_28 (dk_at dksX4_founds_0 6 rfl rfl)
theorem dX4_founds_7 : decode cX4_founds 7 = .ok (.i2l, 1) := dk_133 (dk_at dksX4_founds_0 7 rfl rfl)
theorem dX4_founds_8 : decode cX4_founds 8 = .ok (.putfield 117, 3) := dk_181 0 117 (dk_at dksX4_founds_0 8 rfl rfl)
theorem dX4_founds_11 : decode cX4_founds 11 = .ok (.aload_n 0, 1) := dk_42 (dk_at dksX4_founds_0 11 rfl rfl)
theorem dX4_founds_12 : decode cX4_founds 12 = .ok (.iconst 5, 1) := dk_8 (dk_at dksX4_founds_0 12 rfl rfl)
theorem dX4_founds_13 : decode cX4_founds 13 = .ok (.putfield 121, 3) := dk_181 0 121 (dk_at dksX4_founds_0 13 rfl rfl)
theorem dX4_founds_16 : decode cX4_founds 16 = .ok (.aload_n 0, 1) := dk_42 (dk_at dksX4_founds_0 16 rfl rfl)
theorem dX4_founds_17 : decode cX4_founds 17 = .ok (.bipush 100, 2) := dk_16 100 (dk_at dksX4_founds_0 17 rfl rfl)
theorem dX4_founds_19 : decode cX4_founds 19 = .ok (.putfield 124, 3) := dk_181 0 124 (dk_at dksX4_founds_0 19 rfl rfl)
theorem dX4_founds_22 : decode cX4_founds 22 = .ok (.aload_n 0, 1) := dk_42 (dk_at dksX4_founds_0 22 rfl rfl)
theorem dX4_founds_23 : decode cX4_founds 23 = .ok (.bipush 10, 2) := dk_16 10 (dk_at dksX4_founds_1 0 rfl rfl)
theorem dX4_founds_25 : decode cX4_founds 25 = .ok (.putfield 127, 3) := dk_181 0 127 (dk_at dksX4_founds_1 2 rfl rfl)
theorem dX4_founds_28 : decode cX4_founds 28 = .ok (.aload_n 0, 1) := dk_42 (dk_at dksX4_founds_1 5 rfl rfl)
theorem dX4_founds_29 : decode cX4_founds 29 = .ok (.bipush 10, 2) := dk_16 10 (dk_at dksX4_founds_1 6 rfl rfl)
theorem dX4_founds_31 : decode cX4_founds 31 = .ok (.putfield 130, 3) := dk_181 0 130 (dk_at dksX4_founds_1 8 rfl rfl)
theorem dX4_founds_34 : decode cX4_founds 34 = .ok (.aload_n 0, 1) := dk_42 (dk_at dksX4_founds_1 11 rfl rfl)
theorem dX4_founds_35 : decode cX4_founds 35 = .ok (.iconst 0, 1) := dk_3 (dk_at dksX4_founds_1 12 rfl rfl)
theorem dX4_founds_36 : decode cX4_founds 36 = .ok (.putfield 133, 3) := dk_181 0 133 (dk_at dksX4_founds_1 13 rfl rfl)
theorem dX4_founds_39 : decode cX4_founds 39 = .ok (.aload_n 0, 1) := dk_42 (dk_at dksX4_founds_1 16 rfl rfl)
theorem dX4_founds_40 : decode cX4_founds 40 = .ok (.iconst 0, 1) := dk_3 (dk_at dksX4_founds_1 17 rfl rfl)
theorem dX4_founds_41 : decode cX4_founds 41 = .ok (.putfield 136, 3) := dk_181 0 136 (dk_at dksX4_founds_1 18 rfl rfl)
theorem dX4_founds_44 : decode cX4_founds 44 = .ok (.aload_n 0, 1) := dk_42 (dk_at dksX4_founds_1 21 rfl rfl)
theorem dX4_founds_45 : decode cX4_founds 45 = .ok (.ldc 139, 2) := dk_18 139 (dk_at dksX4_founds_1 22 rfl rfl)
theorem dX4_founds_47 : decode cX4_founds 47 = .ok (.putfield 140, 3) := dk_181 0 140 (dk_at dksX4_founds_2 0 rfl rfl)
theorem dX4_founds_50 : decode cX4_founds 50 = .ok (.aload_n 0, 1) := dk_42 (dk_at dksX4_founds_2 3 rfl rfl)
theorem dX4_founds_51 : decode cX4_founds 51 = .ok (.iconst 0, 1) := dk_3 (dk_at dksX4_founds_2 4 rfl rfl)
theorem dX4_founds_52 : decode cX4_founds 52 = .ok (.putfield 143, 3) := dk_181 0 143 (dk_at dksX4_founds_2 5 rfl rfl)
theorem dX4_founds_55 : decode cX4_founds 55 = .ok (.aload_n 0, 1) := dk_42 (dk_at dksX4_founds_2 8 rfl rfl)
theorem dX4_founds_56 : decode cX4_founds 56 = .ok (.iconst 0, 1) := dk_3 (dk_at dksX4_founds_2 9 rfl rfl)
theorem dX4_founds_57 : decode cX4_founds 57 = .ok (.putfield 146, 3) := dk_181 0 146 (dk_at dksX4_founds_2 10 rfl rfl)
theorem dX4_founds_60 : decode cX4_founds 60 = .ok (.aload_n 0, 1) := dk_42 (dk_at dksX4_founds_2 13 rfl rfl)
theorem dX4_founds_61 : decode cX4_founds 61 = .ok (.iconst 0, 1) := dk_3 (dk_at dksX4_founds_2 14 rfl rfl)
theorem dX4_founds_62 : decode cX4_founds 62 = .ok (.putfield 149, 3) := dk_181 0 149 (dk_at dksX4_founds_2 15 rfl rfl)
theorem dX4_founds_65 : decode cX4_founds 65 = .ok (.aload_n 0, 1) := dk_42 (dk_at dksX4_founds_2 18 rfl rfl)
theorem dX4_founds_66 : decode cX4_founds 66 = .ok (.iconst 0, 1) := dk_3 (dk_at dksX4_founds_2 19 rfl rfl)
theorem dX4_founds_67 : decode cX4_founds 67 = .ok (.putfield 152, 3) := dk_181 0 152 (dk_at dksX4_founds_2 20 rfl rfl)
theorem dX4_founds_70 : decode cX4_founds 70 = .ok (.aload_n 0, 1) := dk_42 (dk_at dksX4_founds_2 23 rfl rfl)
theorem dX4_founds_71 : decode cX4_founds 71 = .ok (.iconst 0, 1) := dk_3 (dk_at dksX4_founds_3 0 rfl rfl)
theorem dX4_founds_72 : decode cX4_founds 72 = .ok (.putfield 156, 3) := dk_181 0 156 (dk_at dksX4_founds_3 1 rfl rfl)
theorem dX4_founds_75 : decode cX4_founds 75 = .ok (.aload_n 0, 1) := dk_42 (dk_at dksX4_founds_3 4 rfl rfl)
theorem dX4_founds_76 : decode cX4_founds 76 = .ok (.lconst 0, 1) := dk_9 (dk_at dksX4_founds_3 5 rfl rfl)
theorem dX4_founds_77 : decode cX4_founds 77 = .ok (.putfield 159, 3) := dk_181 0 159 (dk_at dksX4_founds_3 6 rfl rfl)
theorem dX4_founds_80 : decode cX4_founds 80 = .ok (.aload_n 0, 1) := dk_42 (dk_at dksX4_founds_3 9 rfl rfl)
theorem dX4_founds_81 : decode cX4_founds 81 = .ok (.lconst 0, 1) := dk_9 (dk_at dksX4_founds_3 10 rfl rfl)
theorem dX4_founds_82 : decode cX4_founds 82 = .ok (.putfield 162, 3) := dk_181 0 162 (dk_at dksX4_founds_3 11 rfl rfl)
theorem dX4_founds_85 : decode cX4_founds 85 = .ok (.aload_n 0, 1) := dk_42 (dk_at dksX4_founds_3 14 rfl rfl)
theorem dX4_founds_86 : decode cX4_founds 86 = .ok (.lconst 0, 1) := dk_9 (dk_at dksX4_founds_3 15 rfl rfl)
theorem dX4_founds_87 : decode cX4_founds 87 = .ok (.putfield 165, 3) := dk_181 0 165 (dk_at dksX4_founds_3 16 rfl rfl)
theorem dX4_founds_90 : decode cX4_founds 90 = .ok (.iconst 0, 1) := dk_3 (dk_at dksX4_founds_3 19 rfl rfl)
theorem dX4_founds_91 : decode cX4_founds 91 = .ok (.istore_n 3, 1) := dk_62 (dk_at dksX4_founds_3 20 rfl rfl)
theorem dX4_founds_92 : decode cX4_founds 92 = .ok (.iload_n 3, 1) := dk_29 (dk_at dksX4_founds_3 21 rfl rfl)
theorem dX4_founds_93 : decode cX4_founds 93 = .ok (.iconst 3, 1) := dk_6 (dk_at dksX4_founds_3 22 rfl rfl)
theorem dX4_founds_94 : decode cX4_founds 94 = .ok (.if_icmp .ge 50, 3) := dk_162 0 50 (dk_at dksX4_founds_4 0 rfl rfl)
theorem dX4_founds_97 : decode cX4_founds 97 = .ok (.aload_n 0, 1) := dk_42 (dk_at dksX4_founds_4 3 rfl rfl)
theorem dX4_founds_98 : decode cX4_founds 98 = .ok (.getfield 13, 3) := dk_180 0 13 (dk_at dksX4_founds_4 4 rfl rfl)
theorem dX4_founds_101 : decode cX4_founds 101 = .ok (.iload_n 3, 1) := dk_29 (dk_at dksX4_founds_4 7 rfl rfl)
theorem dX4_founds_102 : decode cX4_founds 102 = .ok (.bipush 30, 2) := dk_16 30 (dk_at dksX4_founds_4 8 rfl rfl)
theorem dX4_founds_104 : decode cX4_founds 104 = .ok (.bipush 10, 2) := dk_16 10 (dk_at dksX4_founds_4 10 rfl rfl)
theorem dX4_founds_106 : decode cX4_founds 106 = .ok (.iload_n 3, 1) := dk_29 (dk_at dksX4_founds_4 12 rfl rfl)
theorem dX4_founds_107 : decode cX4_founds 107 = .ok (.imul, 1) := dk_104 (dk_at dksX4_founds_4 13 rfl rfl)
theorem dX4_founds_108 : decode cX4_founds 108 = .ok (.isub, 1) := dk_100 (dk_at dksX4_founds_4 14 rfl rfl)
theorem dX4_founds_109 : decode cX4_founds 109 = .ok (.iastore, 1) := dk_79 (dk_at dksX4_founds_4 15 rfl rfl)
theorem dX4_founds_110 : decode cX4_founds 110 = .ok (.aload_n 0, 1) := dk_42 (dk_at dksX4_founds_4 16 rfl rfl)
theorem dX4_founds_111 : decode cX4_founds 111 = .ok (.getfield 17, 3) := dk_180 0 17 (dk_at dksX4_founds_4 17 rfl rfl)
theorem dX4_founds_114 : decode cX4_founds 114 = .ok (.iload_n 3, 1) := dk_29 (dk_at dksX4_founds_4 20 rfl rfl)
theorem dX4_founds_115 : decode cX4_founds 115 = .ok (.bipush 100, 2) := dk_16 100 (dk_at dksX4_founds_4 21 rfl rfl)
theorem dX4_founds_117 : decode cX4_founds 117 = .ok (.bipush 10, 2) := dk_16 10 (dk_at dksX4_founds_5 0 rfl rfl)
theorem dX4_founds_119 : decode cX4_founds 119 = .ok (.iload_n 3, 1) := dk_29 (dk_at dksX4_founds_5 2 rfl rfl)
theorem dX4_founds_120 : decode cX4_founds 120 = .ok (.imul, 1) := dk_104 (dk_at dksX4_founds_5 3 rfl rfl)
theorem dX4_founds_121 : decode cX4_founds 121 = .ok (.iadd, 1) := dk_96 (dk_at dksX4_founds_5 4 rfl rfl)
theorem dX4_founds_122 : decode cX4_founds 122 = .ok (.iastore, 1) := dk_79 (dk_at dksX4_founds_5 5 rfl rfl)
theorem dX4_founds_123 : decode cX4_founds 123 = .ok (.aload_n 0, 1) := dk_42 (dk_at dksX4_founds_5 6 rfl rfl)
theorem dX4_founds_124 : decode cX4_founds 124 = .ok (.getfield 20, 3) := dk_180 0 20 (dk_at dksX4_founds_5 7 rfl rfl)
theorem dX4_founds_127 : decode cX4_founds 127 = .ok (.iload_n 3, 1) := dk_29 (dk_at dksX4_founds_5 10 rfl rfl)
theorem dX4_founds_128 : decode cX4_founds 128 = .ok (.iload_n 3, 1) := dk_29 (dk_at dksX4_founds_5 11 rfl rfl)
theorem dX4_founds_129 : decode cX4_founds 129 = .ok (.ifCond .le 7, 3) := dk_158 0 7 (dk_at dksX4_founds_5 12 rfl rfl)
theorem dX4_founds_132 : decode cX4_founds 132 = .ok (.iconst 1, 1) := dk_4 (dk_at dksX4_founds_5 15 rfl rfl)
theorem dX4_founds_133 : decode cX4_founds 133 = .ok (.goto 4, 3) := dk_167 0 4 (dk_at dksX4_founds_5 16 rfl rfl)
theorem dX4_founds_136 : decode cX4_founds 136 = .ok (.iconst 0, 1) := dk_3 (dk_at dksX4_founds_5 19 rfl rfl)
theorem dX4_founds_137 : decode cX4_founds 137 = .ok (.bastore, 1) := dk_84 (dk_at dksX4_founds_5 20 rfl rfl)
theorem dX4_founds_138 : decode cX4_founds 138 = .ok (.iinc 3 1, 3) := dk_132 3 1 (dk_at dksX4_founds_5 21 rfl rfl)
theorem dX4_founds_141 : decode cX4_founds 141 = .ok (.goto (-49), 3) := dk_167 255 207 (dk_at dksX4_founds_6 0 rfl rfl)
theorem dX4_founds_144 : decode cX4_founds 144 = .ok (.iconst 0, 1) := dk_3 (dk_at dksX4_founds_6 3 rfl rfl)
theorem dX4_founds_145 : decode cX4_founds 145 = .ok (.istore_n 3, 1) := dk_62 (dk_at dksX4_founds_6 4 rfl rfl)
theorem dX4_founds_146 : decode cX4_founds 146 = .ok (.iload_n 3, 1) := dk_29 (dk_at dksX4_founds_6 5 rfl rfl)
theorem dX4_founds_147 : decode cX4_founds 147 = .ok (.bipush 9, 2) := dk_16 9 (dk_at dksX4_founds_6 6 rfl rfl)
theorem dX4_founds_149 : decode cX4_founds 149 = .ok (.if_icmp .ge 23, 3) := dk_162 0 23 (dk_at dksX4_founds_6 8 rfl rfl)
theorem dX4_founds_152 : decode cX4_founds 152 = .ok (.aload_n 0, 1) := dk_42 (dk_at dksX4_founds_6 11 rfl rfl)
theorem dX4_founds_153 : decode cX4_founds 153 = .ok (.getfield 24, 3) := dk_180 0 24 (dk_at dksX4_founds_6 12 rfl rfl)
theorem dX4_founds_156 : decode cX4_founds 156 = .ok (.iload_n 3, 1) := dk_29 (dk_at dksX4_founds_6 15 rfl rfl)
theorem dX4_founds_157 : decode cX4_founds 157 = .ok (.lconst 0, 1) := dk_9 (dk_at dksX4_founds_6 16 rfl rfl)
theorem dX4_founds_158 : decode cX4_founds 158 = .ok (.lastore, 1) := dk_80 (dk_at dksX4_founds_6 17 rfl rfl)
theorem dX4_founds_159 : decode cX4_founds 159 = .ok (.aload_n 0, 1) := dk_42 (dk_at dksX4_founds_6 18 rfl rfl)
theorem dX4_founds_160 : decode cX4_founds 160 = .ok (.getfield 28, 3) := dk_180 0 28 (dk_at dksX4_founds_6 19 rfl rfl)
theorem dX4_founds_163 : decode cX4_founds 163 = .ok (.iload_n 3, 1) := dk_29 (dk_at dksX4_founds_6 22 rfl rfl)
theorem dX4_founds_164 : decode cX4_founds 164 = .ok (.lconst 0, 1) := dk_9 (dk_at dksX4_founds_6 23 rfl rfl)
theorem dX4_founds_165 : decode cX4_founds 165 = .ok (.lastore, 1) := dk_80 (dk_at dksX4_founds_7 0 rfl rfl)
theorem dX4_founds_166 : decode cX4_founds 166 = .ok (.iinc 3 1, 3) := dk_132 3 1 (dk_at dksX4_founds_7 1 rfl rfl)
theorem dX4_founds_169 : decode cX4_founds 169 = .ok (.goto (-23), 3) := dk_167 255 233 (dk_at dksX4_founds_7 4 rfl rfl)
theorem dX4_founds_172 : decode cX4_founds 172 = .ok (.return_, 1) := dk_177 (dk_at dksX4_founds_7 7 rfl rfl)
abbrev cX4_found : ByteArray := prog_12_method_43_code
def yX4_found : MethodName := ⟨RX4, "found", "(II)I"⟩
def dkwX4_found_2 : List UInt8 := [182, 0, 110, 29, 172]
abbrev dktX4_found_2 : List UInt8 := dkwX4_found_2 ++ []
def dkwX4_found_1 : List UInt8 := [20, 1, 17, 184, 0, 168, 154, 0, 9, 42, 4, 182, 1, 86, 172, 42, 180, 0, 146, 62, 42, 27, 28]
abbrev dktX4_found_1 : List UInt8 := dkwX4_found_1 ++ dktX4_found_2
def dkwX4_found_0 : List UInt8 := [42, 3, 181, 0, 1, 27, 133, 20, 1, 82, 20, 1, 84, 184, 0, 168, 153, 0, 15, 28, 133, 9]
abbrev dktX4_found_0 : List UInt8 := dkwX4_found_0 ++ dktX4_found_1
theorem dksX4_found_0 : cX4_found.data.toList.drop 0 = dktX4_found_0 := by decide +kernel
theorem dksX4_found_1 : cX4_found.data.toList.drop 22 = dktX4_found_1 := dk_seg dksX4_found_0 22 rfl rfl
theorem dksX4_found_2 : cX4_found.data.toList.drop 45 = dktX4_found_2 := dk_seg dksX4_found_1 23 rfl rfl
theorem dX4_found_0 : decode cX4_found 0 = .ok (.aload_n 0, 1) := dk_42 (dk_at dksX4_found_0 0 rfl rfl)
theorem dX4_found_1 : decode cX4_found 1 = .ok (.iconst 0, 1) := dk_3 (dk_at dksX4_found_0 1 rfl rfl)
theorem dX4_found_2 : decode cX4_found 2 = .ok (.putfield 1, 3) := dk_181 0 1 (dk_at dksX4_found_0 2 rfl rfl)
theorem dX4_found_5 : decode cX4_found 5 = .ok (.iload_n 1, 1) := dk_27 (dk_at dksX4_found_0 5 rfl rfl)
theorem dX4_found_6 : decode cX4_found 6 = .ok (.i2l, 1) := dk_133 (dk_at dksX4_found_0 6 rfl rfl)
theorem dX4_found_7 : decode cX4_found 7 = .ok (.ldc2_w 338, 3) := dk_20 1 82 (dk_at dksX4_found_0 7 rfl rfl)
theorem dX4_found_10 : decode cX4_found 10 = .ok (.ldc2_w 340, 3) := dk_20 1 84 (dk_at dksX4_found_0 10 rfl rfl)
theorem dX4_found_13 : decode cX4_found 13 = .ok (.invokestatic 168, 3) := dk_184 0 168 (dk_at dksX4_found_0 13 rfl rfl)
theorem dX4_found_16 : decode cX4_found 16 = .ok (.ifCond .eq 15, 3) := dk_153 0 15 (dk_at dksX4_found_0 16 rfl rfl)
theorem dX4_found_19 : decode cX4_found 19 = .ok (.iload_n 2, 1) := dk_28 (dk_at dksX4_found_0 19 rfl rfl)
theorem dX4_found_20 : decode cX4_found 20 = .ok (.i2l, 1) := dk_133 (dk_at dksX4_found_0 20 rfl rfl)
theorem dX4_found_21 : decode cX4_found 21 = .ok (.lconst 0, 1) := dk_9 (dk_at dksX4_found_0 21 rfl rfl)
theorem dX4_found_22 : decode cX4_found 22 = .ok (.ldc2_w 273, 3) := dk_20 1 17 (dk_at dksX4_found_1 0 rfl rfl)
theorem dX4_found_25 : decode cX4_found 25 = .ok (.invokestatic 168, 3) := dk_184 0 168 (dk_at dksX4_found_1 3 rfl rfl)
theorem dX4_found_28 : decode cX4_found 28 = .ok (.ifCond .ne 9, 3) := dk_154 0 9 (dk_at dksX4_found_1 6 rfl rfl)
theorem dX4_found_31 : decode cX4_found 31 = .ok (.aload_n 0, 1) := dk_42 (dk_at dksX4_found_1 9 rfl rfl)
theorem dX4_found_32 : decode cX4_found 32 = .ok (.iconst 1, 1) := dk_4 (dk_at dksX4_found_1 10 rfl rfl)
theorem dX4_found_33 : decode cX4_found 33 = .ok (.invokevirtual 342, 3) := dk_182 1 86 (dk_at dksX4_found_1 11 rfl rfl)
theorem dX4_found_36 : decode cX4_found 36 = .ok (.ireturn, 1) := dk_172 (dk_at dksX4_found_1 14 rfl rfl)
theorem dX4_found_37 : decode cX4_found 37 = .ok (.aload_n 0, 1) := dk_42 (dk_at dksX4_found_1 15 rfl rfl)
theorem dX4_found_38 : decode cX4_found 38 = .ok (.getfield 146, 3) := dk_180 0 146 (dk_at dksX4_found_1 16 rfl rfl)
theorem dX4_found_41 : decode cX4_found 41 = .ok (.istore_n 3, 1) := dk_62 (dk_at dksX4_found_1 19 rfl rfl)
theorem dX4_found_42 : decode cX4_found 42 = .ok (.aload_n 0, 1) := dk_42 (dk_at dksX4_found_1 20 rfl rfl)
theorem dX4_found_43 : decode cX4_found 43 = .ok (.iload_n 1, 1) := dk_27 (dk_at dksX4_found_1 21 rfl rfl)
theorem dX4_found_44 : decode cX4_found 44 = .ok (.iload_n 2, 1) := dk_28 (dk_at dksX4_found_1 22 rfl rfl)
theorem dX4_found_45 : decode cX4_found 45 = .ok (.invokevirtual 110, 3) := dk_182 0 110 (dk_at dksX4_found_2 0 rfl rfl)
theorem dX4_found_48 : decode cX4_found 48 = .ok (.iload_n 3, 1) := dk_29 (dk_at dksX4_found_2 3 rfl rfl)
theorem dX4_found_49 : decode cX4_found 49 = .ok (.ireturn, 1) := dk_172 (dk_at dksX4_found_2 4 rfl rfl)
abbrev cX4_isIn : ByteArray := prog_12_method_3_code
def yX4_isIn : MethodName := ⟨RX4, "isIn", "(JJJ)Z"⟩
def dkwX4_isIn_0 : List UInt8 := [30, 32, 148, 155, 0, 14, 30, 22, 4, 148, 157, 0, 7, 4, 167, 0, 4, 3, 172]
abbrev dktX4_isIn_0 : List UInt8 := dkwX4_isIn_0 ++ []
theorem dksX4_isIn_0 : cX4_isIn.data.toList.drop 0 = dktX4_isIn_0 := by decide +kernel
theorem dX4_isIn_0 : decode cX4_isIn 0 = .ok (.lload_n 0, 1) := dk_30 (dk_at dksX4_isIn_0 0 rfl rfl)
theorem dX4_isIn_1 : decode cX4_isIn 1 = .ok (.lload_n 2, 1) := dk_32 (dk_at dksX4_isIn_0 1 rfl rfl)
theorem dX4_isIn_2 : decode cX4_isIn 2 = .ok (.lcmp, 1) := dk_148 (dk_at dksX4_isIn_0 2 rfl rfl)
theorem dX4_isIn_3 : decode cX4_isIn 3 = .ok (.ifCond .lt 14, 3) := dk_155 0 14 (dk_at dksX4_isIn_0 3 rfl rfl)
theorem dX4_isIn_6 : decode cX4_isIn 6 = .ok (.lload_n 0, 1) := dk_30 (dk_at dksX4_isIn_0 6 rfl rfl)
theorem dX4_isIn_7 : decode cX4_isIn 7 = .ok (.lload 4, 2) := dk_22 4 (dk_at dksX4_isIn_0 7 rfl rfl)
theorem dX4_isIn_9 : decode cX4_isIn 9 = .ok (.lcmp, 1) := dk_148 (dk_at dksX4_isIn_0 9 rfl rfl)
theorem dX4_isIn_10 : decode cX4_isIn 10 = .ok (.ifCond .gt 7, 3) := dk_157 0 7 (dk_at dksX4_isIn_0 10 rfl rfl)
theorem dX4_isIn_13 : decode cX4_isIn 13 = .ok (.iconst 1, 1) := dk_4 (dk_at dksX4_isIn_0 13 rfl rfl)
theorem dX4_isIn_14 : decode cX4_isIn 14 = .ok (.goto 4, 3) := dk_167 0 4 (dk_at dksX4_isIn_0 14 rfl rfl)
theorem dX4_isIn_17 : decode cX4_isIn 17 = .ok (.iconst 0, 1) := dk_3 (dk_at dksX4_isIn_0 17 rfl rfl)
theorem dX4_isIn_18 : decode cX4_isIn 18 = .ok (.ireturn, 1) := dk_172 (dk_at dksX4_isIn_0 18 rfl rfl)
abbrev cX4_fails : ByteArray := prog_12_method_2_code
def yX4_fails : MethodName := ⟨RX4, "fails", "(I)I"⟩
def dkwX4_fails_0 : List UInt8 := [42, 27, 181, 0, 1, 3, 172]
abbrev dktX4_fails_0 : List UInt8 := dkwX4_fails_0 ++ []
theorem dksX4_fails_0 : cX4_fails.data.toList.drop 0 = dktX4_fails_0 := by decide +kernel
theorem dX4_fails_0 : decode cX4_fails 0 = .ok (.aload_n 0, 1) := dk_42 (dk_at dksX4_fails_0 0 rfl rfl)
theorem dX4_fails_1 : decode cX4_fails 1 = .ok (.iload_n 1, 1) := dk_27 (dk_at dksX4_fails_0 1 rfl rfl)
theorem dX4_fails_2 : decode cX4_fails 2 = .ok (.putfield 1, 3) := dk_181 0 1 (dk_at dksX4_fails_0 2 rfl rfl)
theorem dX4_fails_5 : decode cX4_fails 5 = .ok (.iconst 0, 1) := dk_3 (dk_at dksX4_fails_0 5 rfl rfl)
theorem dX4_fails_6 : decode cX4_fails 6 = .ok (.ireturn, 1) := dk_172 (dk_at dksX4_fails_0 6 rfl rfl)
abbrev cX4_year : ByteArray := prog_12_method_44_code
def yX4_year : MethodName := ⟨RX4, "year", "()I"⟩
def dkwX4_year_0 : List UInt8 := [42, 3, 181, 0, 1, 42, 180, 0, 114, 172]
abbrev dktX4_year_0 : List UInt8 := dkwX4_year_0 ++ []
theorem dksX4_year_0 : cX4_year.data.toList.drop 0 = dktX4_year_0 := by decide +kernel
theorem dX4_year_0 : decode cX4_year 0 = .ok (.aload_n 0, 1) := dk_42 (dk_at dksX4_year_0 0 rfl rfl)
theorem dX4_year_1 : decode cX4_year 1 = .ok (.iconst 0, 1) := dk_3 (dk_at dksX4_year_0 1 rfl rfl)
theorem dX4_year_2 : decode cX4_year 2 = .ok (.putfield 1, 3) := dk_181 0 1 (dk_at dksX4_year_0 2 rfl rfl)
theorem dX4_year_5 : decode cX4_year 5 = .ok (.aload_n 0, 1) := dk_42 (dk_at dksX4_year_0 5 rfl rfl)
theorem dX4_year_6 : decode cX4_year 6 = .ok (.getfield 114, 3) := dk_180 0 114 (dk_at dksX4_year_0 6 rfl rfl)
theorem dX4_year_9 : decode cX4_year 9 = .ok (.ireturn, 1) := dk_172 (dk_at dksX4_year_0 9 rfl rfl)
abbrev cX4_setLaw : ByteArray := prog_12_method_45_code
def yX4_setLaw : MethodName := ⟨RX4, "setLaw", "(IIIZ)J"⟩
def dkwX4_setLaw_4 : List UInt8 := [180, 0, 24, 16, 6, 92, 47, 42, 3, 182, 1, 3, 22, 5, 101, 101, 80, 42, 27, 182, 1, 3, 173]
abbrev dktX4_setLaw_4 : List UInt8 := dkwX4_setLaw_4 ++ []
def dkwX4_setLaw_3 : List UInt8 := [180, 0, 13, 27, 28, 79, 42, 180, 0, 17, 27, 29, 79, 42, 180, 0, 20, 27, 21, 4, 84, 42]
abbrev dktX4_setLaw_3 : List UInt8 := dkwX4_setLaw_3 ++ dktX4_setLaw_4
def dkwX4_setLaw_2 : List UInt8 := [154, 0, 15, 21, 4, 153, 0, 10, 42, 5, 182, 1, 86, 133, 173, 42, 3, 182, 1, 3, 55, 5, 42]
abbrev dktX4_setLaw_2 : List UInt8 := dkwX4_setLaw_2 ++ dktX4_setLaw_3
def dkwX4_setLaw_1 : List UInt8 := [20, 1, 93, 184, 0, 168, 153, 0, 26, 29, 133, 20, 1, 74, 20, 1, 95, 184, 0, 168, 153, 0, 12, 27]
abbrev dktX4_setLaw_1 : List UInt8 := dkwX4_setLaw_1 ++ dktX4_setLaw_2
def dkwX4_setLaw_0 : List UInt8 := [42, 3, 181, 0, 1, 27, 184, 1, 90, 154, 0, 10, 42, 4, 182, 1, 86, 133, 173, 28, 133, 9]
abbrev dktX4_setLaw_0 : List UInt8 := dkwX4_setLaw_0 ++ dktX4_setLaw_1
theorem dksX4_setLaw_0 : cX4_setLaw.data.toList.drop 0 = dktX4_setLaw_0 := by decide +kernel
theorem dksX4_setLaw_1 : cX4_setLaw.data.toList.drop 22 = dktX4_setLaw_1 := dk_seg dksX4_setLaw_0 22 rfl rfl
theorem dksX4_setLaw_2 : cX4_setLaw.data.toList.drop 46 = dktX4_setLaw_2 := dk_seg dksX4_setLaw_1 24 rfl rfl
theorem dksX4_setLaw_3 : cX4_setLaw.data.toList.drop 69 = dktX4_setLaw_3 := dk_seg dksX4_setLaw_2 23 rfl rfl
theorem dksX4_setLaw_4 : cX4_setLaw.data.toList.drop 91 = dktX4_setLaw_4 := dk_seg dksX4_setLaw_3 22 rfl rfl
theorem dX4_setLaw_0 : decode cX4_setLaw 0 = .ok (.aload_n 0, 1) := dk_42 (dk_at dksX4_setLaw_0 0 rfl rfl)
theorem dX4_setLaw_1 : decode cX4_setLaw 1 = .ok (.iconst 0, 1) := dk_3 (dk_at dksX4_setLaw_0 1 rfl rfl)
theorem dX4_setLaw_2 : decode cX4_setLaw 2 = .ok (.putfield 1, 3) := dk_181 0 1 (dk_at dksX4_setLaw_0 2 rfl rfl)
theorem dX4_setLaw_5 : decode cX4_setLaw 5 = .ok (.iload_n 1, 1) := dk_27 (dk_at dksX4_setLaw_0 5 rfl rfl)
theorem dX4_setLaw_6 : decode cX4_setLaw 6 = .ok (.invokestatic 346, 3) := dk_184 1 90 (dk_at dksX4_setLaw_0 6 rfl rfl)
theorem dX4_setLaw_9 : decode cX4_setLaw 9 = .ok (.ifCond .ne 10, 3) := dk_154 0 10 (dk_at dksX4_setLaw_0 9 rfl rfl)
theorem dX4_setLaw_12 : decode cX4_setLaw 12 = .ok (.aload_n 0, 1) := dk_42 (dk_at dksX4_setLaw_0 12 rfl rfl)
theorem dX4_setLaw_13 : decode cX4_setLaw 13 = .ok (.iconst 1, 1) := dk_4 (dk_at dksX4_setLaw_0 13 rfl rfl)
theorem dX4_setLaw_14 : decode cX4_setLaw 14 = .ok (.invokevirtual 342, 3) := dk_182 1 86 (dk_at dksX4_setLaw_0 14 rfl rfl)
theorem dX4_setLaw_17 : decode cX4_setLaw 17 = .ok (.i2l, 1) := dk_133 (dk_at dksX4_setLaw_0 17 rfl rfl)
theorem dX4_setLaw_18 : decode cX4_setLaw 18 = .ok (.lreturn, 1) := dk_173 (dk_at dksX4_setLaw_0 18 rfl rfl)
theorem dX4_setLaw_19 : decode cX4_setLaw 19 = .ok (.iload_n 2, 1) := dk_28 (dk_at dksX4_setLaw_0 19 rfl rfl)
theorem dX4_setLaw_20 : decode cX4_setLaw 20 = .ok (.i2l, 1) := dk_133 (dk_at dksX4_setLaw_0 20 rfl rfl)
theorem dX4_setLaw_21 : decode cX4_setLaw 21 = .ok (.lconst 0, 1) := dk_9 (dk_at dksX4_setLaw_0 21 rfl rfl)
theorem dX4_setLaw_22 : decode cX4_setLaw 22 = .ok (.ldc2_w 349, 3) := dk_20 1 93 (dk_at dksX4_setLaw_1 0 rfl rfl)
theorem dX4_setLaw_25 : decode cX4_setLaw 25 = .ok (.invokestatic 168, 3) := dk_184 0 168 (dk_at dksX4_setLaw_1 3 rfl rfl)
theorem dX4_setLaw_28 : decode cX4_setLaw 28 = .ok (.ifCond .eq 26, 3) := dk_153 0 26 (dk_at dksX4_setLaw_1 6 rfl rfl)
theorem dX4_setLaw_31 : decode cX4_setLaw 31 = .ok (.iload_n 3, 1) := dk_29 (dk_at dksX4_setLaw_1 9 rfl rfl)
theorem dX4_setLaw_32 : decode cX4_setLaw 32 = .ok (.i2l, 1) := dk_133 (dk_at dksX4_setLaw_1 10 rfl rfl)
theorem dX4_setLaw_33 : decode cX4_setLaw 33 = .ok (.ldc2_w 330, 3) := dk_20 1 74 (dk_at dksX4_setLaw_1 11 rfl rfl)
theorem dX4_setLaw_36 : decode cX4_setLaw 36 = .ok (.ldc2_w 351, 3) := dk_20 1 95 (dk_at dksX4_setLaw_1 14 rfl rfl)
theorem dX4_setLaw_39 : decode cX4_setLaw 39 = .ok (.invokestatic 168, 3) := dk_184 0 168 (dk_at dksX4_setLaw_1 17 rfl rfl)
theorem dX4_setLaw_42 : decode cX4_setLaw 42 = .ok (.ifCond .eq 12, 3) := dk_153 0 12 (dk_at dksX4_setLaw_1 20 rfl rfl)
theorem dX4_setLaw_45 : decode cX4_setLaw 45 = .ok (.iload_n 1, 1) := dk_27 (dk_at dksX4_setLaw_1 23 rfl rfl)
theorem dX4_setLaw_46 : decode cX4_setLaw 46 = .ok (.ifCond .ne 15, 3) := dk_154 0 15 (dk_at dksX4_setLaw_2 0 rfl rfl)
theorem dX4_setLaw_49 : decode cX4_setLaw 49 = .ok (.iload 4, 2) := dk_21 4 (dk_at dksX4_setLaw_2 3 rfl rfl)
theorem dX4_setLaw_51 : decode cX4_setLaw 51 = .ok (.ifCond .eq 10, 3) := dk_153 0 10 (dk_at dksX4_setLaw_2 5 rfl rfl)
theorem dX4_setLaw_54 : decode cX4_setLaw 54 = .ok (.aload_n 0, 1) := dk_42 (dk_at dksX4_setLaw_2 8 rfl rfl)
theorem dX4_setLaw_55 : decode cX4_setLaw 55 = .ok (.iconst 2, 1) := dk_5 (dk_at dksX4_setLaw_2 9 rfl rfl)
theorem dX4_setLaw_56 : decode cX4_setLaw 56 = .ok (.invokevirtual 342, 3) := dk_182 1 86 (dk_at dksX4_setLaw_2 10 rfl rfl)
theorem dX4_setLaw_59 : decode cX4_setLaw 59 = .ok (.i2l, 1) := dk_133 (dk_at dksX4_setLaw_2 13 rfl rfl)
theorem dX4_setLaw_60 : decode cX4_setLaw 60 = .ok (.lreturn, 1) := dk_173 (dk_at dksX4_setLaw_2 14 rfl rfl)
theorem dX4_setLaw_61 : decode cX4_setLaw 61 = .ok (.aload_n 0, 1) := dk_42 (dk_at dksX4_setLaw_2 15 rfl rfl)
theorem dX4_setLaw_62 : decode cX4_setLaw 62 = .ok (.iconst 0, 1) := dk_3 (dk_at dksX4_setLaw_2 16 rfl rfl)
theorem dX4_setLaw_63 : decode cX4_setLaw 63 = .ok (.invokevirtual 259, 3) := dk_182 1 3 (dk_at dksX4_setLaw_2 17 rfl rfl)
theorem dX4_setLaw_66 : decode cX4_setLaw 66 = .ok (.lstore 5, 2) := dk_55 5 (dk_at dksX4_setLaw_2 20 rfl rfl)
theorem dX4_setLaw_68 : decode cX4_setLaw 68 = .ok (.aload_n 0, 1) := dk_42 (dk_at dksX4_setLaw_2 22 rfl rfl)
theorem dX4_setLaw_69 : decode cX4_setLaw 69 = .ok (.getfield 13, 3) := dk_180 0 13 (dk_at dksX4_setLaw_3 0 rfl rfl)
theorem dX4_setLaw_72 : decode cX4_setLaw 72 = .ok (.iload_n 1, 1) := dk_27 (dk_at dksX4_setLaw_3 3 rfl rfl)
theorem dX4_setLaw_73 : decode cX4_setLaw 73 = .ok (.iload_n 2, 1) := dk_28 (dk_at dksX4_setLaw_3 4 rfl rfl)
theorem dX4_setLaw_74 : decode cX4_setLaw 74 = .ok (.iastore, 1) := dk_79 (dk_at dksX4_setLaw_3 5 rfl rfl)
theorem dX4_setLaw_75 : decode cX4_setLaw 75 = .ok (.aload_n 0, 1) := dk_42 (dk_at dksX4_setLaw_3 6 rfl rfl)
theorem dX4_setLaw_76 : decode cX4_setLaw 76 = .ok (.getfield 17, 3) := dk_180 0 17 (dk_at dksX4_setLaw_3 7 rfl rfl)
theorem dX4_setLaw_79 : decode cX4_setLaw 79 = .ok (.iload_n 1, 1) := dk_27 (dk_at dksX4_setLaw_3 10 rfl rfl)
theorem dX4_setLaw_80 : decode cX4_setLaw 80 = .ok (.iload_n 3, 1) := dk_29 (dk_at dksX4_setLaw_3 11 rfl rfl)
theorem dX4_setLaw_81 : decode cX4_setLaw 81 = .ok (.iastore, 1) := dk_79 (dk_at dksX4_setLaw_3 12 rfl rfl)
theorem dX4_setLaw_82 : decode cX4_setLaw 82 = .ok (.aload_n 0, 1) := dk_42 (dk_at dksX4_setLaw_3 13 rfl rfl)
theorem dX4_setLaw_83 : decode cX4_setLaw 83 = .ok (.getfield 20, 3) := dk_180 0 20 (dk_at dksX4_setLaw_3 14 rfl rfl)
theorem dX4_setLaw_86 : decode cX4_setLaw 86 = .ok (.iload_n 1, 1) := dk_27 (dk_at dksX4_setLaw_3 17 rfl rfl)
theorem dX4_setLaw_87 : decode cX4_setLaw 87 = .ok (.iload 4, 2) := dk_21 4 (dk_at dksX4_setLaw_3 18 rfl rfl)
theorem dX4_setLaw_89 : decode cX4_setLaw 89 = .ok (.bastore, 1) := dk_84 (dk_at dksX4_setLaw_3 20 rfl rfl)
theorem dX4_setLaw_90 : decode cX4_setLaw 90 = .ok (.aload_n 0, 1) := dk_42 (dk_at dksX4_setLaw_3 21 rfl rfl)
theorem dX4_setLaw_91 : decode cX4_setLaw 91 = .ok (.getfield 24, 3) := dk_180 0 24 (dk_at dksX4_setLaw_4 0 rfl rfl)
theorem dX4_setLaw_94 : decode cX4_setLaw 94 = .ok (.bipush 6, 2) := dk_16 6 (dk_at dksX4_setLaw_4 3 rfl rfl)
theorem dX4_setLaw_96 : decode cX4_setLaw 96 = .ok (.dup2, 1) := dk_92 (dk_at dksX4_setLaw_4 5 rfl rfl)
theorem dX4_setLaw_97 : decode cX4_setLaw 97 = .ok (.laload, 1) := dk_47 (dk_at dksX4_setLaw_4 6 rfl rfl)
theorem dX4_setLaw_98 : decode cX4_setLaw 98 = .ok (.aload_n 0, 1) := dk_42 (dk_at dksX4_setLaw_4 7 rfl rfl)
theorem dX4_setLaw_99 : decode cX4_setLaw 99 = .ok (.iconst 0, 1) := dk_3 (dk_at dksX4_setLaw_4 8 rfl rfl)
theorem dX4_setLaw_100 : decode cX4_setLaw 100 = .ok (.invokevirtual 259, 3) := dk_182 1 3 (dk_at dksX4_setLaw_4 9 rfl rfl)
theorem dX4_setLaw_103 : decode cX4_setLaw 103 = .ok (.lload 5, 2) := dk_22 5 (dk_at dksX4_setLaw_4 12 rfl rfl)
theorem dX4_setLaw_105 : decode cX4_setLaw 105 = .ok (.lsub, 1) := dk_101 (dk_at dksX4_setLaw_4 14 rfl rfl)
theorem dX4_setLaw_106 : decode cX4_setLaw 106 = .ok (.lsub, 1) := dk_101 (dk_at dksX4_setLaw_4 15 rfl rfl)
theorem dX4_setLaw_107 : decode cX4_setLaw 107 = .ok (.lastore, 1) := dk_80 (dk_at dksX4_setLaw_4 16 rfl rfl)
theorem dX4_setLaw_108 : decode cX4_setLaw 108 = .ok (.aload_n 0, 1) := dk_42 (dk_at dksX4_setLaw_4 17 rfl rfl)
theorem dX4_setLaw_109 : decode cX4_setLaw 109 = .ok (.iload_n 1, 1) := dk_27 (dk_at dksX4_setLaw_4 18 rfl rfl)
theorem dX4_setLaw_110 : decode cX4_setLaw 110 = .ok (.invokevirtual 259, 3) := dk_182 1 3 (dk_at dksX4_setLaw_4 19 rfl rfl)
theorem dX4_setLaw_113 : decode cX4_setLaw 113 = .ok (.lreturn, 1) := dk_173 (dk_at dksX4_setLaw_4 22 rfl rfl)
abbrev cX4_isLaw : ByteArray := prog_12_method_7_code
def yX4_isLaw : MethodName := ⟨RX4, "isLaw", "(I)Z"⟩
def dkwX4_isLaw_0 : List UInt8 := [26, 133, 9, 20, 0, 172, 184, 0, 168, 172]
abbrev dktX4_isLaw_0 : List UInt8 := dkwX4_isLaw_0 ++ []
theorem dksX4_isLaw_0 : cX4_isLaw.data.toList.drop 0 = dktX4_isLaw_0 := by decide +kernel
theorem dX4_isLaw_0 : decode cX4_isLaw 0 = .ok (.iload_n 0, 1) := dk_26 (dk_at dksX4_isLaw_0 0 rfl rfl)
theorem dX4_isLaw_1 : decode cX4_isLaw 1 = .ok (.i2l, 1) := dk_133 (dk_at dksX4_isLaw_0 1 rfl rfl)
theorem dX4_isLaw_2 : decode cX4_isLaw 2 = .ok (.lconst 0, 1) := dk_9 (dk_at dksX4_isLaw_0 2 rfl rfl)
theorem dX4_isLaw_3 : decode cX4_isLaw 3 = .ok (.ldc2_w 172, 3) := dk_20 0 172 (dk_at dksX4_isLaw_0 3 rfl rfl)
theorem dX4_isLaw_6 : decode cX4_isLaw 6 = .ok (.invokestatic 168, 3) := dk_184 0 168 (dk_at dksX4_isLaw_0 6 rfl rfl)
theorem dX4_isLaw_9 : decode cX4_isLaw 9 = .ok (.ireturn, 1) := dk_172 (dk_at dksX4_isLaw_0 9 rfl rfl)
abbrev cX4_allReserves : ByteArray := prog_12_method_18_code
def yX4_allReserves : MethodName := ⟨RX4, "allReserves", "(I)J"⟩
def dkwX4_allReserves_1 : List UInt8 := [182, 0, 244, 97, 65, 132, 4, 1, 167, 255, 230, 32, 173]
abbrev dktX4_allReserves_1 : List UInt8 := dkwX4_allReserves_1 ++ []
def dkwX4_allReserves_0 : List UInt8 := [9, 65, 3, 54, 4, 21, 4, 42, 180, 0, 146, 162, 0, 23, 32, 42, 21, 4, 42, 180, 0, 114, 27]
abbrev dktX4_allReserves_0 : List UInt8 := dkwX4_allReserves_0 ++ dktX4_allReserves_1
theorem dksX4_allReserves_0 : cX4_allReserves.data.toList.drop 0 = dktX4_allReserves_0 := by decide +kernel
theorem dksX4_allReserves_1 : cX4_allReserves.data.toList.drop 23 = dktX4_allReserves_1 := dk_seg dksX4_allReserves_0 23 rfl rfl
theorem dX4_allReserves_0 : decode cX4_allReserves 0 = .ok (.lconst 0, 1) := dk_9 (dk_at dksX4_allReserves_0 0 rfl rfl)
theorem dX4_allReserves_1 : decode cX4_allReserves 1 = .ok (.lstore_n 2, 1) := dk_65 (dk_at dksX4_allReserves_0 1 rfl rfl)
theorem dX4_allReserves_2 : decode cX4_allReserves 2 = .ok (.iconst 0, 1) := dk_3 (dk_at dksX4_allReserves_0 2 rfl rfl)
theorem dX4_allReserves_3 : decode cX4_allReserves 3 = .ok (.istore 4, 2) := dk_54 4 (dk_at dksX4_allReserves_0 3 rfl rfl)
theorem dX4_allReserves_5 : decode cX4_allReserves 5 = .ok (.iload 4, 2) := dk_21 4 (dk_at dksX4_allReserves_0 5 rfl rfl)
theorem dX4_allReserves_7 : decode cX4_allReserves 7 = .ok (.aload_n 0, 1) := dk_42 (dk_at dksX4_allReserves_0 7 rfl rfl)
theorem dX4_allReserves_8 : decode cX4_allReserves 8 = .ok (.getfield 146, 3) := dk_180 0 146 (dk_at dksX4_allReserves_0 8 rfl rfl)
theorem dX4_allReserves_11 : decode cX4_allReserves 11 = .ok (.if_icmp .ge 23, 3) := dk_162 0 23 (dk_at dksX4_allReserves_0 11 rfl rfl)
theorem dX4_allReserves_14 : decode cX4_allReserves 14 = .ok (.lload_n 2, 1) := dk_32 (dk_at dksX4_allReserves_0 14 rfl rfl)
theorem dX4_allReserves_15 : decode cX4_allReserves 15 = .ok (.aload_n 0, 1) := dk_42 (dk_at dksX4_allReserves_0 15 rfl rfl)
theorem dX4_allReserves_16 : decode cX4_allReserves 16 = .ok (.iload 4, 2) := dk_21 4 (dk_at dksX4_allReserves_0 16 rfl rfl)
theorem dX4_allReserves_18 : decode cX4_allReserves 18 = .ok (.aload_n 0, 1) := dk_42 (dk_at dksX4_allReserves_0 18 rfl rfl)
theorem dX4_allReserves_19 : decode cX4_allReserves 19 = .ok (.getfield 114, 3) := dk_180 0 114 (dk_at dksX4_allReserves_0 19 rfl rfl)
theorem dX4_allReserves_22 : decode cX4_allReserves 22 = .ok (.iload_n 1, 1) := dk_27 (dk_at dksX4_allReserves_0 22 rfl rfl)
theorem dX4_allReserves_23 : decode cX4_allReserves 23 = .ok (.invokevirtual 244, 3) := dk_182 0 244 (dk_at dksX4_allReserves_1 0 rfl rfl)
theorem dX4_allReserves_26 : decode cX4_allReserves 26 = .ok (.ladd, 1) := dk_97 (dk_at dksX4_allReserves_1 3 rfl rfl)
theorem dX4_allReserves_27 : decode cX4_allReserves 27 = .ok (.lstore_n 2, 1) := dk_65 (dk_at dksX4_allReserves_1 4 rfl rfl)
theorem dX4_allReserves_28 : decode cX4_allReserves 28 = .ok (.iinc 4 1, 3) := dk_132 4 1 (dk_at dksX4_allReserves_1 5 rfl rfl)
theorem dX4_allReserves_31 : decode cX4_allReserves 31 = .ok (.goto (-26), 3) := dk_167 255 230 (dk_at dksX4_allReserves_1 8 rfl rfl)
theorem dX4_allReserves_34 : decode cX4_allReserves 34 = .ok (.lload_n 2, 1) := dk_32 (dk_at dksX4_allReserves_1 11 rfl rfl)
theorem dX4_allReserves_35 : decode cX4_allReserves 35 = .ok (.lreturn, 1) := dk_173 (dk_at dksX4_allReserves_1 12 rfl rfl)
abbrev cX4_reserveAt : ByteArray := prog_12_method_17_code
def yX4_reserveAt : MethodName := ⟨RX4, "reserveAt", "(III)J"⟩
def dkwX4_reserveAt_5 : List UInt8 := [101, 55, 4, 42, 180, 0, 20, 29, 51, 153, 0, 12, 9, 22, 4, 184, 0, 241, 167, 0, 5, 22, 4, 173]
abbrev dktX4_reserveAt_5 : List UInt8 := dkwX4_reserveAt_5 ++ []
def dkwX4_reserveAt_4 : List UInt8 := [42, 180, 0, 31, 27, 46, 42, 180, 0, 67, 27, 47, 182, 0, 230, 42, 180, 0, 208, 105, 20, 0, 180, 109]
abbrev dktX4_reserveAt_4 : List UInt8 := dkwX4_reserveAt_4 ++ dktX4_reserveAt_5
def dkwX4_reserveAt_3 : List UInt8 := [180, 0, 205, 105, 20, 0, 180, 184, 0, 238, 42, 180, 0, 64, 27, 51, 153, 0, 7, 9, 167, 0, 28, 42]
abbrev dktX4_reserveAt_3 : List UInt8 := dkwX4_reserveAt_3 ++ dktX4_reserveAt_4
def dkwX4_reserveAt_2 : List UInt8 := [20, 0, 180, 109, 55, 4, 167, 0, 68, 42, 180, 0, 67, 27, 47, 42, 180, 0, 70, 27, 47, 97, 42]
abbrev dktX4_reserveAt_2 : List UInt8 := dkwX4_reserveAt_2 ++ dktX4_reserveAt_3
def dkwX4_reserveAt_1 : List UInt8 := [182, 0, 227, 42, 180, 0, 31, 27, 46, 6, 160, 0, 23, 42, 180, 0, 67, 27, 47, 42, 180, 0, 211, 105]
abbrev dktX4_reserveAt_1 : List UInt8 := dkwX4_reserveAt_1 ++ dktX4_reserveAt_2
def dkwX4_reserveAt_0 : List UInt8 := [42, 27, 182, 0, 234, 153, 0, 13, 28, 42, 180, 0, 43, 27, 46, 160, 0, 5, 9, 173, 42, 27, 28, 29]
abbrev dktX4_reserveAt_0 : List UInt8 := dkwX4_reserveAt_0 ++ dktX4_reserveAt_1
theorem dksX4_reserveAt_0 : cX4_reserveAt.data.toList.drop 0 = dktX4_reserveAt_0 := by decide +kernel
theorem dksX4_reserveAt_1 : cX4_reserveAt.data.toList.drop 24 = dktX4_reserveAt_1 := dk_seg dksX4_reserveAt_0 24 rfl rfl
theorem dksX4_reserveAt_2 : cX4_reserveAt.data.toList.drop 48 = dktX4_reserveAt_2 := dk_seg dksX4_reserveAt_1 24 rfl rfl
theorem dksX4_reserveAt_3 : cX4_reserveAt.data.toList.drop 71 = dktX4_reserveAt_3 := dk_seg dksX4_reserveAt_2 23 rfl rfl
theorem dksX4_reserveAt_4 : cX4_reserveAt.data.toList.drop 95 = dktX4_reserveAt_4 := dk_seg dksX4_reserveAt_3 24 rfl rfl
theorem dksX4_reserveAt_5 : cX4_reserveAt.data.toList.drop 119 = dktX4_reserveAt_5 := dk_seg dksX4_reserveAt_4 24 rfl rfl
theorem dX4_reserveAt_0 : decode cX4_reserveAt 0 = .ok (.aload_n 0, 1) := dk_42 (dk_at dksX4_reserveAt_0 0 rfl rfl)
theorem dX4_reserveAt_1 : decode cX4_reserveAt 1 = .ok (.iload_n 1, 1) := dk_27 (dk_at dksX4_reserveAt_0 1 rfl rfl)
theorem dX4_reserveAt_2 : decode cX4_reserveAt 2 = .ok (.invokevirtual 234, 3) := dk_182 0 234 (dk_at dksX4_reserveAt_0 2 rfl rfl)
theorem dX4_reserveAt_5 : decode cX4_reserveAt 5 = .ok (.ifCond .eq 13, 3) := dk_153 0 13 (dk_at dksX4_reserveAt_0 5 rfl rfl)
theorem dX4_reserveAt_8 : decode cX4_reserveAt 8 = .ok (.iload_n 2, 1) := dk_28 (dk_at dksX4_reserveAt_0 8 rfl rfl)
theorem dX4_reserveAt_9 : decode cX4_reserveAt 9 = .ok (.aload_n 0, 1) := dk_42 (dk_at dksX4_reserveAt_0 9 rfl rfl)
theorem dX4_reserveAt_10 : decode cX4_reserveAt 10 = .ok (.getfield 43, 3) := dk_180 0 43 (dk_at dksX4_reserveAt_0 10 rfl rfl)
theorem dX4_reserveAt_13 : decode cX4_reserveAt 13 = .ok (.iload_n 1, 1) := dk_27 (dk_at dksX4_reserveAt_0 13 rfl rfl)
theorem dX4_reserveAt_14 : decode cX4_reserveAt 14 = .ok (.iaload, 1) := dk_46 (dk_at dksX4_reserveAt_0 14 rfl rfl)
theorem dX4_reserveAt_15 : decode cX4_reserveAt 15 = .ok (.if_icmp .ne 5, 3) := dk_160 0 5 (dk_at dksX4_reserveAt_0 15 rfl rfl)
theorem dX4_reserveAt_18 : decode cX4_reserveAt 18 = .ok (.lconst 0, 1) := dk_9 (dk_at dksX4_reserveAt_0 18 rfl rfl)
theorem dX4_reserveAt_19 : decode cX4_reserveAt 19 = .ok (.lreturn, 1) := dk_173 (dk_at dksX4_reserveAt_0 19 rfl rfl)
theorem dX4_reserveAt_20 : decode cX4_reserveAt 20 = .ok (.aload_n 0, 1) := dk_42 (dk_at dksX4_reserveAt_0 20 rfl rfl)
theorem dX4_reserveAt_21 : decode cX4_reserveAt 21 = .ok (.iload_n 1, 1) := dk_27 (dk_at dksX4_reserveAt_0 21 rfl rfl)
theorem dX4_reserveAt_22 : decode cX4_reserveAt 22 = .ok (.iload_n 2, 1) := dk_28 (dk_at dksX4_reserveAt_0 22 rfl rfl)
theorem dX4_reserveAt_23 : decode cX4_reserveAt 23 = .ok (.iload_n 3, 1) := dk_29 (dk_at dksX4_reserveAt_0 23 rfl rfl)
theorem dX4_reserveAt_24 : decode cX4_reserveAt 24 = .ok (.invokevirtual 227, 3) := dk_182 0 227 (dk_at dksX4_reserveAt_1 0 rfl rfl)
theorem dX4_reserveAt_27 : decode cX4_reserveAt 27 = .ok (.aload_n 0, 1) := dk_42 (dk_at dksX4_reserveAt_1 3 rfl rfl)
theorem dX4_reserveAt_28 : decode cX4_reserveAt 28 = .ok (.getfield 31, 3) := dk_180 0 31 (dk_at dksX4_reserveAt_1 4 rfl rfl)
theorem dX4_reserveAt_31 : decode cX4_reserveAt 31 = .ok (.iload_n 1, 1) := dk_27 (dk_at dksX4_reserveAt_1 7 rfl rfl)
theorem dX4_reserveAt_32 : decode cX4_reserveAt 32 = .ok (.iaload, 1) := dk_46 (dk_at dksX4_reserveAt_1 8 rfl rfl)
theorem dX4_reserveAt_33 : decode cX4_reserveAt 33 = .ok (.iconst 3, 1) := dk_6 (dk_at dksX4_reserveAt_1 9 rfl rfl)
theorem dX4_reserveAt_34 : decode cX4_reserveAt 34 = .ok (.if_icmp .ne 23, 3) := dk_160 0 23 (dk_at dksX4_reserveAt_1 10 rfl rfl)
theorem dX4_reserveAt_37 : decode cX4_reserveAt 37 = .ok (.aload_n 0, 1) := dk_42 (dk_at dksX4_reserveAt_1 13 rfl rfl)
theorem dX4_reserveAt_38 : decode cX4_reserveAt 38 = .ok (.getfield 67, 3) := dk_180 0 67 (dk_at dksX4_reserveAt_1 14 rfl rfl)
theorem dX4_reserveAt_41 : decode cX4_reserveAt 41 = .ok (.iload_n 1, 1) := dk_27 (dk_at dksX4_reserveAt_1 17 rfl rfl)
theorem dX4_reserveAt_42 : decode cX4_reserveAt 42 = .ok (.laload, 1) := dk_47 (dk_at dksX4_reserveAt_1 18 rfl rfl)
theorem dX4_reserveAt_43 : decode cX4_reserveAt 43 = .ok (.aload_n 0, 1) := dk_42 (dk_at dksX4_reserveAt_1 19 rfl rfl)
theorem dX4_reserveAt_44 : decode cX4_reserveAt 44 = .ok (.getfield 211, 3) := dk_180 0 211 (dk_at dksX4_reserveAt_1 20 rfl rfl)
theorem dX4_reserveAt_47 : decode cX4_reserveAt 47 = .ok (.lmul, 1) := dk_105 (dk_at dksX4_reserveAt_1 23 rfl rfl)
theorem dX4_reserveAt_48 : decode cX4_reserveAt 48 = .ok (.ldc2_w 180, 3) := dk_20 0 180 (dk_at dksX4_reserveAt_2 0 rfl rfl)
theorem dX4_reserveAt_51 : decode cX4_reserveAt 51 = .ok (.ldiv, 1) := dk_109 (dk_at dksX4_reserveAt_2 3 rfl rfl)
theorem dX4_reserveAt_52 : decode cX4_reserveAt 52 = .ok (.lstore 4, 2) := dk_55 4 (dk_at dksX4_reserveAt_2 4 rfl rfl)
theorem dX4_reserveAt_54 : decode cX4_reserveAt 54 = .ok (.goto 68, 3) := dk_167 0 68 (dk_at dksX4_reserveAt_2 6 rfl rfl)
theorem dX4_reserveAt_57 : decode cX4_reserveAt 57 = .ok (.aload_n 0, 1) := dk_42 (dk_at dksX4_reserveAt_2 9 rfl rfl)
theorem dX4_reserveAt_58 : decode cX4_reserveAt 58 = .ok (.getfield 67, 3) := dk_180 0 67 (dk_at dksX4_reserveAt_2 10 rfl rfl)
theorem dX4_reserveAt_61 : decode cX4_reserveAt 61 = .ok (.iload_n 1, 1) := dk_27 (dk_at dksX4_reserveAt_2 13 rfl rfl)
theorem dX4_reserveAt_62 : decode cX4_reserveAt 62 = .ok (.laload, 1) := dk_47 (dk_at dksX4_reserveAt_2 14 rfl rfl)
theorem dX4_reserveAt_63 : decode cX4_reserveAt 63 = .ok (.aload_n 0, 1) := dk_42 (dk_at dksX4_reserveAt_2 15 rfl rfl)
theorem dX4_reserveAt_64 : decode cX4_reserveAt 64 = .ok (.getfield 70, 3) := dk_180 0 70 (dk_at dksX4_reserveAt_2 16 rfl rfl)
theorem dX4_reserveAt_67 : decode cX4_reserveAt 67 = .ok (.iload_n 1, 1) := dk_27 (dk_at dksX4_reserveAt_2 19 rfl rfl)
theorem dX4_reserveAt_68 : decode cX4_reserveAt 68 = .ok (.laload, 1) := dk_47 (dk_at dksX4_reserveAt_2 20 rfl rfl)
theorem dX4_reserveAt_69 : decode cX4_reserveAt 69 = .ok (.ladd, 1) := dk_97 (dk_at dksX4_reserveAt_2 21 rfl rfl)
theorem dX4_reserveAt_70 : decode cX4_reserveAt 70 = .ok (.aload_n 0, 1) := dk_42 (dk_at dksX4_reserveAt_2 22 rfl rfl)
theorem dX4_reserveAt_71 : decode cX4_reserveAt 71 = .ok (.getfield 205, 3) := dk_180 0 205 (dk_at dksX4_reserveAt_3 0 rfl rfl)
theorem dX4_reserveAt_74 : decode cX4_reserveAt 74 = .ok (.lmul, 1) := dk_105 (dk_at dksX4_reserveAt_3 3 rfl rfl)
theorem dX4_reserveAt_75 : decode cX4_reserveAt 75 = .ok (.ldc2_w 180, 3) := dk_20 0 180 (dk_at dksX4_reserveAt_3 4 rfl rfl)
theorem dX4_reserveAt_78 : decode cX4_reserveAt 78 = .ok (.invokestatic 238, 3) := dk_184 0 238 (dk_at dksX4_reserveAt_3 7 rfl rfl)
theorem dX4_reserveAt_81 : decode cX4_reserveAt 81 = .ok (.aload_n 0, 1) := dk_42 (dk_at dksX4_reserveAt_3 10 rfl rfl)
theorem dX4_reserveAt_82 : decode cX4_reserveAt 82 = .ok (.getfield 64, 3) := dk_180 0 64 (dk_at dksX4_reserveAt_3 11 rfl rfl)
theorem dX4_reserveAt_85 : decode cX4_reserveAt 85 = .ok (.iload_n 1, 1) := dk_27 (dk_at dksX4_reserveAt_3 14 rfl rfl)
theorem dX4_reserveAt_86 : decode cX4_reserveAt 86 = .ok (.baload, 1) := dk_51 (dk_at dksX4_reserveAt_3 15 rfl rfl)
theorem dX4_reserveAt_87 : decode cX4_reserveAt 87 = .ok (.ifCond .eq 7, 3) := dk_153 0 7 (dk_at dksX4_reserveAt_3 16 rfl rfl)
theorem dX4_reserveAt_90 : decode cX4_reserveAt 90 = .ok (.lconst 0, 1) := dk_9 (dk_at dksX4_reserveAt_3 19 rfl rfl)
theorem dX4_reserveAt_91 : decode cX4_reserveAt 91 = .ok (.goto 28, 3) := dk_167 0 28 (dk_at dksX4_reserveAt_3 20 rfl rfl)
theorem dX4_reserveAt_94 : decode cX4_reserveAt 94 = .ok (.aload_n 0, 1) := dk_42 (dk_at dksX4_reserveAt_3 23 rfl rfl)
theorem dX4_reserveAt_95 : decode cX4_reserveAt 95 = .ok (.aload_n 0, 1) := dk_42 (dk_at dksX4_reserveAt_4 0 rfl rfl)
theorem dX4_reserveAt_96 : decode cX4_reserveAt 96 = .ok (.getfield 31, 3) := dk_180 0 31 (dk_at dksX4_reserveAt_4 1 rfl rfl)
theorem dX4_reserveAt_99 : decode cX4_reserveAt 99 = .ok (.iload_n 1, 1) := dk_27 (dk_at dksX4_reserveAt_4 4 rfl rfl)
theorem dX4_reserveAt_100 : decode cX4_reserveAt 100 = .ok (.iaload, 1) := dk_46 (dk_at dksX4_reserveAt_4 5 rfl rfl)
theorem dX4_reserveAt_101 : decode cX4_reserveAt 101 = .ok (.aload_n 0, 1) := dk_42 (dk_at dksX4_reserveAt_4 6 rfl rfl)
theorem dX4_reserveAt_102 : decode cX4_reserveAt 102 = .ok (.getfield 67, 3) := dk_180 0 67 (dk_at dksX4_reserveAt_4 7 rfl rfl)
theorem dX4_reserveAt_105 : decode cX4_reserveAt 105 = .ok (.iload_n 1, 1) := dk_27 (dk_at dksX4_reserveAt_4 10 rfl rfl)
theorem dX4_reserveAt_106 : decode cX4_reserveAt 106 = .ok (.laload, 1) := dk_47 (dk_at dksX4_reserveAt_4 11 rfl rfl)
theorem dX4_reserveAt_107 : decode cX4_reserveAt 107 = .ok (.invokevirtual 230, 3) := dk_182 0 230 (dk_at dksX4_reserveAt_4 12 rfl rfl)
theorem dX4_reserveAt_110 : decode cX4_reserveAt 110 = .ok (.aload_n 0, 1) := dk_42 (dk_at dksX4_reserveAt_4 15 rfl rfl)
theorem dX4_reserveAt_111 : decode cX4_reserveAt 111 = .ok (.getfield 208, 3) := dk_180 0 208 (dk_at dksX4_reserveAt_4 16 rfl rfl)
theorem dX4_reserveAt_114 : decode cX4_reserveAt 114 = .ok (.lmul, 1) := dk_105 (dk_at dksX4_reserveAt_4 19 rfl rfl)
theorem dX4_reserveAt_115 : decode cX4_reserveAt 115 = .ok (.ldc2_w 180, 3) := dk_20 0 180 (dk_at dksX4_reserveAt_4 20 rfl rfl)
theorem dX4_reserveAt_118 : decode cX4_reserveAt 118 = .ok (.ldiv, 1) := dk_109 (dk_at dksX4_reserveAt_4 23 rfl rfl)
theorem dX4_reserveAt_119 : decode cX4_reserveAt 119 = .ok (.lsub, 1) := dk_101 (dk_at dksX4_reserveAt_5 0 rfl rfl)
theorem dX4_reserveAt_120 : decode cX4_reserveAt 120 = .ok (.lstore 4, 2) := dk_55 4 (dk_at dksX4_reserveAt_5 1 rfl rfl)
theorem dX4_reserveAt_122 : decode cX4_reserveAt 122 = .ok (.aload_n 0, 1) := dk_42 (dk_at dksX4_reserveAt_5 3 rfl rfl)
theorem dX4_reserveAt_123 : decode cX4_reserveAt 123 = .ok (.getfield 20, 3) := dk_180 0 20 (dk_at dksX4_reserveAt_5 4 rfl rfl)
theorem dX4_reserveAt_126 : decode cX4_reserveAt 126 = .ok (.iload_n 3, 1) := dk_29 (dk_at dksX4_reserveAt_5 7 rfl rfl)
theorem dX4_reserveAt_127 : decode cX4_reserveAt 127 = .ok (.baload, 1) := dk_51 (dk_at dksX4_reserveAt_5 8 rfl rfl)
theorem dX4_reserveAt_128 : decode cX4_reserveAt 128 = .ok (.ifCond .eq 12, 3) := dk_153 0 12 (dk_at dksX4_reserveAt_5 9 rfl rfl)
theorem dX4_reserveAt_131 : decode cX4_reserveAt 131 = .ok (.lconst 0, 1) := dk_9 (dk_at dksX4_reserveAt_5 12 rfl rfl)
theorem dX4_reserveAt_132 : decode cX4_reserveAt 132 = .ok (.lload 4, 2) := dk_22 4 (dk_at dksX4_reserveAt_5 13 rfl rfl)
theorem dX4_reserveAt_134 : decode cX4_reserveAt 134 = .ok (.invokestatic 241, 3) := dk_184 0 241 (dk_at dksX4_reserveAt_5 15 rfl rfl)
theorem dX4_reserveAt_137 : decode cX4_reserveAt 137 = .ok (.goto 5, 3) := dk_167 0 5 (dk_at dksX4_reserveAt_5 18 rfl rfl)
theorem dX4_reserveAt_140 : decode cX4_reserveAt 140 = .ok (.lload 4, 2) := dk_22 4 (dk_at dksX4_reserveAt_5 21 rfl rfl)
theorem dX4_reserveAt_142 : decode cX4_reserveAt 142 = .ok (.lreturn, 1) := dk_173 (dk_at dksX4_reserveAt_5 23 rfl rfl)
abbrev cX4_isLiving : ByteArray := prog_12_method_8_code
def yX4_isLiving : MethodName := ⟨RX4, "isLiving", "(I)Z"⟩
def dkwX4_isLiving_0 : List UInt8 := [42, 180, 0, 49, 27, 46, 6, 163, 0, 7, 4, 167, 0, 4, 3, 172]
abbrev dktX4_isLiving_0 : List UInt8 := dkwX4_isLiving_0 ++ []
theorem dksX4_isLiving_0 : cX4_isLiving.data.toList.drop 0 = dktX4_isLiving_0 := by decide +kernel
theorem dX4_isLiving_0 : decode cX4_isLiving 0 = .ok (.aload_n 0, 1) := dk_42 (dk_at dksX4_isLiving_0 0 rfl rfl)
theorem dX4_isLiving_1 : decode cX4_isLiving 1 = .ok (.getfield 49, 3) := dk_180 0 49 (dk_at dksX4_isLiving_0 1 rfl rfl)
theorem dX4_isLiving_4 : decode cX4_isLiving 4 = .ok (.iload_n 1, 1) := dk_27 (dk_at dksX4_isLiving_0 4 rfl rfl)
theorem dX4_isLiving_5 : decode cX4_isLiving 5 = .ok (.iaload, 1) := dk_46 (dk_at dksX4_isLiving_0 5 rfl rfl)
theorem dX4_isLiving_6 : decode cX4_isLiving 6 = .ok (.iconst 3, 1) := dk_6 (dk_at dksX4_isLiving_0 6 rfl rfl)
theorem dX4_isLiving_7 : decode cX4_isLiving 7 = .ok (.if_icmp .gt 7, 3) := dk_163 0 7 (dk_at dksX4_isLiving_0 7 rfl rfl)
theorem dX4_isLiving_10 : decode cX4_isLiving 10 = .ok (.iconst 1, 1) := dk_4 (dk_at dksX4_isLiving_0 10 rfl rfl)
theorem dX4_isLiving_11 : decode cX4_isLiving 11 = .ok (.goto 4, 3) := dk_167 0 4 (dk_at dksX4_isLiving_0 11 rfl rfl)
theorem dX4_isLiving_14 : decode cX4_isLiving 14 = .ok (.iconst 0, 1) := dk_3 (dk_at dksX4_isLiving_0 14 rfl rfl)
theorem dX4_isLiving_15 : decode cX4_isLiving 15 = .ok (.ireturn, 1) := dk_172 (dk_at dksX4_isLiving_0 15 rfl rfl)
abbrev cX4_runs : ByteArray := prog_12_method_15_code
def yX4_runs : MethodName := ⟨RX4, "runs", "(III)V"⟩
def dkwX4_runs_1 : List UInt8 := [46, 42, 180, 0, 43, 27, 46, 42, 180, 0, 46, 27, 46, 28, 29, 182, 0, 223, 177]
abbrev dktX4_runs_1 : List UInt8 := dkwX4_runs_1 ++ []
def dkwX4_runs_0 : List UInt8 := [42, 42, 180, 0, 31, 27, 46, 42, 180, 0, 37, 27, 46, 42, 180, 0, 34, 27, 46, 42, 180, 0, 40, 27]
abbrev dktX4_runs_0 : List UInt8 := dkwX4_runs_0 ++ dktX4_runs_1
theorem dksX4_runs_0 : cX4_runs.data.toList.drop 0 = dktX4_runs_0 := by decide +kernel
theorem dksX4_runs_1 : cX4_runs.data.toList.drop 24 = dktX4_runs_1 := dk_seg dksX4_runs_0 24 rfl rfl
theorem dX4_runs_0 : decode cX4_runs 0 = .ok (.aload_n 0, 1) := dk_42 (dk_at dksX4_runs_0 0 rfl rfl)
theorem dX4_runs_1 : decode cX4_runs 1 = .ok (.aload_n 0, 1) := dk_42 (dk_at dksX4_runs_0 1 rfl rfl)
theorem dX4_runs_2 : decode cX4_runs 2 = .ok (.getfield 31, 3) := dk_180 0 31 (dk_at dksX4_runs_0 2 rfl rfl)
theorem dX4_runs_5 : decode cX4_runs 5 = .ok (.iload_n 1, 1) := dk_27 (dk_at dksX4_runs_0 5 rfl rfl)
theorem dX4_runs_6 : decode cX4_runs 6 = .ok (.iaload, 1) := dk_46 (dk_at dksX4_runs_0 6 rfl rfl)
theorem dX4_runs_7 : decode cX4_runs 7 = .ok (.aload_n 0, 1) := dk_42 (dk_at dksX4_runs_0 7 rfl rfl)
theorem dX4_runs_8 : decode cX4_runs 8 = .ok (.getfield 37, 3) := dk_180 0 37 (dk_at dksX4_runs_0 8 rfl rfl)
theorem dX4_runs_11 : decode cX4_runs 11 = .ok (.iload_n 1, 1) := dk_27 (dk_at dksX4_runs_0 11 rfl rfl)
theorem dX4_runs_12 : decode cX4_runs 12 = .ok (.iaload, 1) := dk_46 (dk_at dksX4_runs_0 12 rfl rfl)
theorem dX4_runs_13 : decode cX4_runs 13 = .ok (.aload_n 0, 1) := dk_42 (dk_at dksX4_runs_0 13 rfl rfl)
theorem dX4_runs_14 : decode cX4_runs 14 = .ok (.getfield 34, 3) := dk_180 0 34 (dk_at dksX4_runs_0 14 rfl rfl)
theorem dX4_runs_17 : decode cX4_runs 17 = .ok (.iload_n 1, 1) := dk_27 (dk_at dksX4_runs_0 17 rfl rfl)
theorem dX4_runs_18 : decode cX4_runs 18 = .ok (.iaload, 1) := dk_46 (dk_at dksX4_runs_0 18 rfl rfl)
theorem dX4_runs_19 : decode cX4_runs 19 = .ok (.aload_n 0, 1) := dk_42 (dk_at dksX4_runs_0 19 rfl rfl)
theorem dX4_runs_20 : decode cX4_runs 20 = .ok (.getfield 40, 3) := dk_180 0 40 (dk_at dksX4_runs_0 20 rfl rfl)
theorem dX4_runs_23 : decode cX4_runs 23 = .ok (.iload_n 1, 1) := dk_27 (dk_at dksX4_runs_0 23 rfl rfl)
theorem dX4_runs_24 : decode cX4_runs 24 = .ok (.iaload, 1) := dk_46 (dk_at dksX4_runs_1 0 rfl rfl)
theorem dX4_runs_25 : decode cX4_runs 25 = .ok (.aload_n 0, 1) := dk_42 (dk_at dksX4_runs_1 1 rfl rfl)
theorem dX4_runs_26 : decode cX4_runs 26 = .ok (.getfield 43, 3) := dk_180 0 43 (dk_at dksX4_runs_1 2 rfl rfl)
theorem dX4_runs_29 : decode cX4_runs 29 = .ok (.iload_n 1, 1) := dk_27 (dk_at dksX4_runs_1 5 rfl rfl)
theorem dX4_runs_30 : decode cX4_runs 30 = .ok (.iaload, 1) := dk_46 (dk_at dksX4_runs_1 6 rfl rfl)
theorem dX4_runs_31 : decode cX4_runs 31 = .ok (.aload_n 0, 1) := dk_42 (dk_at dksX4_runs_1 7 rfl rfl)
theorem dX4_runs_32 : decode cX4_runs 32 = .ok (.getfield 46, 3) := dk_180 0 46 (dk_at dksX4_runs_1 8 rfl rfl)
theorem dX4_runs_35 : decode cX4_runs 35 = .ok (.iload_n 1, 1) := dk_27 (dk_at dksX4_runs_1 11 rfl rfl)
theorem dX4_runs_36 : decode cX4_runs 36 = .ok (.iaload, 1) := dk_46 (dk_at dksX4_runs_1 12 rfl rfl)
theorem dX4_runs_37 : decode cX4_runs 37 = .ok (.iload_n 2, 1) := dk_28 (dk_at dksX4_runs_1 13 rfl rfl)
theorem dX4_runs_38 : decode cX4_runs 38 = .ok (.iload_n 3, 1) := dk_29 (dk_at dksX4_runs_1 14 rfl rfl)
theorem dX4_runs_39 : decode cX4_runs 39 = .ok (.invokevirtual 223, 3) := dk_182 0 223 (dk_at dksX4_runs_1 15 rfl rfl)
theorem dX4_runs_42 : decode cX4_runs 42 = .ok (.return_, 1) := dk_177 (dk_at dksX4_runs_1 18 rfl rfl)
abbrev cX4_runs_2 : ByteArray := prog_12_method_13_code
def yX4_runs_2 : MethodName := ⟨RX4, "runs", "(IIIIIIII)V"⟩
def dkwX4_runs_2_9 : List UInt8 := [181, 0, 220, 177]
abbrev dktX4_runs_2_9 : List UInt8 := dkwX4_runs_2_9 ++ []
def dkwX4_runs_2_8 : List UInt8 := [181, 0, 211, 132, 17, 255, 167, 255, 125, 42, 22, 9, 181, 0, 214, 42, 22, 11, 181, 0, 217, 42, 22, 13]
abbrev dktX4_runs_2_8 : List UInt8 := dkwX4_runs_2_8 ++ dktX4_runs_2_9
def dkwX4_runs_2_7 : List UInt8 := [21, 17, 21, 7, 160, 0, 21, 42, 22, 9, 181, 0, 205, 42, 22, 11, 181, 0, 208, 42, 22, 13]
abbrev dktX4_runs_2_7 : List UInt8 := dkwX4_runs_2_7 ++ dktX4_runs_2_8
def dkwX4_runs_2_6 : List UInt8 := [55, 11, 22, 20, 20, 0, 180, 22, 13, 97, 105, 20, 0, 176, 109, 20, 0, 194, 105, 22, 15, 109, 55, 13]
abbrev dktX4_runs_2_6 : List UInt8 := dkwX4_runs_2_6 ++ dktX4_runs_2_7
def dkwX4_runs_2_5 : List UInt8 := [109, 55, 9, 20, 0, 180, 22, 20, 22, 11, 105, 20, 0, 176, 109, 20, 0, 194, 105, 22, 15, 109, 97]
abbrev dktX4_runs_2_5 : List UInt8 := dkwX4_runs_2_5 ++ dktX4_runs_2_6
def dkwX4_runs_2_4 : List UInt8 := [55, 20, 22, 18, 20, 0, 180, 105, 22, 20, 22, 9, 105, 97, 20, 0, 176, 109, 20, 0, 194, 105, 22, 15]
abbrev dktX4_runs_2_4 : List UInt8 := dkwX4_runs_2_4 ++ dktX4_runs_2_5
def dkwX4_runs_2_3 : List UInt8 := [21, 8, 28, 29, 21, 17, 21, 17, 21, 5, 100, 21, 4, 182, 0, 201, 55, 18, 20, 0, 176, 22, 18, 101]
abbrev dktX4_runs_2_3 : List UInt8 := dkwX4_runs_2_3 ++ dktX4_runs_2_4
def dkwX4_runs_2_2 : List UInt8 := [180, 0, 13, 21, 8, 46, 96, 133, 55, 15, 21, 6, 4, 100, 54, 17, 21, 17, 21, 5, 161, 0, 130, 42]
abbrev dktX4_runs_2_2 : List UInt8 := dkwX4_runs_2_2 ++ dktX4_runs_2_3
def dkwX4_runs_2_1 : List UInt8 := [42, 22, 9, 181, 0, 205, 42, 22, 11, 181, 0, 208, 42, 22, 13, 181, 0, 211, 17, 3, 232, 42]
abbrev dktX4_runs_2_1 : List UInt8 := dkwX4_runs_2_1 ++ dktX4_runs_2_2
def dkwX4_runs_2_0 : List UInt8 := [27, 153, 0, 8, 27, 4, 160, 0, 9, 20, 0, 180, 167, 0, 4, 9, 55, 9, 9, 55, 11, 9, 55, 13]
abbrev dktX4_runs_2_0 : List UInt8 := dkwX4_runs_2_0 ++ dktX4_runs_2_1
theorem dksX4_runs_2_0 : cX4_runs_2.data.toList.drop 0 = dktX4_runs_2_0 := by decide +kernel
theorem dksX4_runs_2_1 : cX4_runs_2.data.toList.drop 24 = dktX4_runs_2_1 := dk_seg dksX4_runs_2_0 24 rfl rfl
theorem dksX4_runs_2_2 : cX4_runs_2.data.toList.drop 46 = dktX4_runs_2_2 := dk_seg dksX4_runs_2_1 22 rfl rfl
theorem dksX4_runs_2_3 : cX4_runs_2.data.toList.drop 70 = dktX4_runs_2_3 := dk_seg dksX4_runs_2_2 24 rfl rfl
theorem dksX4_runs_2_4 : cX4_runs_2.data.toList.drop 94 = dktX4_runs_2_4 := dk_seg dksX4_runs_2_3 24 rfl rfl
theorem dksX4_runs_2_5 : cX4_runs_2.data.toList.drop 118 = dktX4_runs_2_5 := dk_seg dksX4_runs_2_4 24 rfl rfl
theorem dksX4_runs_2_6 : cX4_runs_2.data.toList.drop 141 = dktX4_runs_2_6 := dk_seg dksX4_runs_2_5 23 rfl rfl
theorem dksX4_runs_2_7 : cX4_runs_2.data.toList.drop 165 = dktX4_runs_2_7 := dk_seg dksX4_runs_2_6 24 rfl rfl
theorem dksX4_runs_2_8 : cX4_runs_2.data.toList.drop 187 = dktX4_runs_2_8 := dk_seg dksX4_runs_2_7 22 rfl rfl
theorem dksX4_runs_2_9 : cX4_runs_2.data.toList.drop 211 = dktX4_runs_2_9 := dk_seg dksX4_runs_2_8 24 rfl rfl
theorem dX4_runs_2_0 : decode cX4_runs_2 0 = .ok (.iload_n 1, 1) := dk_27 (dk_at dksX4_runs_2_0 0 rfl rfl)
theorem dX4_runs_2_1 : decode cX4_runs_2 1 = .ok (.ifCond .eq 8, 3) := dk_153 0 8 (dk_at dksX4_runs_2_0 1 rfl rfl)
theorem dX4_runs_2_4 : decode cX4_runs_2 4 = .ok (.iload_n 1, 1) := dk_27 (dk_at dksX4_runs_2_0 4 rfl rfl)
theorem dX4_runs_2_5 : decode cX4_runs_2 5 = .ok (.iconst 1, 1) := dk_4 (dk_at dksX4_runs_2_0 5 rfl rfl)
theorem dX4_runs_2_6 : decode cX4_runs_2 6 = .ok (.if_icmp .ne 9, 3) := dk_160 0 9 (dk_at dksX4_runs_2_0 6 rfl rfl)
theorem dX4_runs_2_9 : decode cX4_runs_2 9 = .ok (.ldc2_w 180, 3) := dk_20 0 180 (dk_at dksX4_runs_2_0 9 rfl rfl)
theorem dX4_runs_2_12 : decode cX4_runs_2 12 = .ok (.goto 4, 3) := dk_167 0 4 (dk_at dksX4_runs_2_0 12 rfl rfl)
theorem dX4_runs_2_15 : decode cX4_runs_2 15 = .ok (.lconst 0, 1) := dk_9 (dk_at dksX4_runs_2_0 15 rfl rfl)
theorem dX4_runs_2_16 : decode cX4_runs_2 16 = .ok (.lstore 9, 2) := dk_55 9 (dk_at dksX4_runs_2_0 16 rfl rfl)
theorem dX4_runs_2_18 : decode cX4_runs_2 18 = .ok (.lconst 0, 1) := dk_9 (dk_at dksX4_runs_2_0 18 rfl rfl)
theorem dX4_runs_2_19 : decode cX4_runs_2 19 = .ok (.lstore 11, 2) := dk_55 11 (dk_at dksX4_runs_2_0 19 rfl rfl)
theorem dX4_runs_2_21 : decode cX4_runs_2 21 = .ok (.lconst 0, 1) := dk_9 (dk_at dksX4_runs_2_0 21 rfl rfl)
theorem dX4_runs_2_22 : decode cX4_runs_2 22 = .ok (.lstore 13, 2) := dk_55 13 (dk_at dksX4_runs_2_0 22 rfl rfl)
theorem dX4_runs_2_24 : decode cX4_runs_2 24 = .ok (.aload_n 0, 1) := dk_42 (dk_at dksX4_runs_2_1 0 rfl rfl)
theorem dX4_runs_2_25 : decode cX4_runs_2 25 = .ok (.lload 9, 2) := dk_22 9 (dk_at dksX4_runs_2_1 1 rfl rfl)
theorem dX4_runs_2_27 : decode cX4_runs_2 27 = .ok (.putfield 205, 3) := dk_181 0 205 (dk_at dksX4_runs_2_1 3 rfl rfl)
theorem dX4_runs_2_30 : decode cX4_runs_2 30 = .ok (.aload_n 0, 1) := dk_42 (dk_at dksX4_runs_2_1 6 rfl rfl)
theorem dX4_runs_2_31 : decode cX4_runs_2 31 = .ok (.lload 11, 2) := dk_22 11 (dk_at dksX4_runs_2_1 7 rfl rfl)
theorem dX4_runs_2_33 : decode cX4_runs_2 33 = .ok (.putfield 208, 3) := dk_181 0 208 (dk_at dksX4_runs_2_1 9 rfl rfl)
theorem dX4_runs_2_36 : decode cX4_runs_2 36 = .ok (.aload_n 0, 1) := dk_42 (dk_at dksX4_runs_2_1 12 rfl rfl)
theorem dX4_runs_2_37 : decode cX4_runs_2 37 = .ok (.lload 13, 2) := dk_22 13 (dk_at dksX4_runs_2_1 13 rfl rfl)
theorem dX4_runs_2_39 : decode cX4_runs_2 39 = .ok (.putfield 211, 3) := dk_181 0 211 (dk_at dksX4_runs_2_1 15 rfl rfl)
theorem dX4_runs_2_42 : decode cX4_runs_2 42 = .ok (.sipush 1000, 3) := dk_17 3 232 (dk_at dksX4_runs_2_1 18 rfl rfl)
theorem dX4_runs_2_45 : decode cX4_runs_2 45 = .ok (.aload_n 0, 1) := dk_42 (dk_at dksX4_runs_2_1 21 rfl rfl)
theorem dX4_runs_2_46 : decode cX4_runs_2 46 = .ok (.getfield 13, 3) := dk_180 0 13 (dk_at dksX4_runs_2_2 0 rfl rfl)
theorem dX4_runs_2_49 : decode cX4_runs_2 49 = .ok (.iload 8, 2) := dk_21 8 (dk_at dksX4_runs_2_2 3 rfl rfl)
theorem dX4_runs_2_51 : decode cX4_runs_2 51 = .ok (.iaload, 1) := dk_46 (dk_at dksX4_runs_2_2 5 rfl rfl)
theorem dX4_runs_2_52 : decode cX4_runs_2 52 = .ok (.iadd, 1) := dk_96 (dk_at dksX4_runs_2_2 6 rfl rfl)
theorem dX4_runs_2_53 : decode cX4_runs_2 53 = .ok (.i2l, 1) := dk_133 (dk_at dksX4_runs_2_2 7 rfl rfl)
theorem dX4_runs_2_54 : decode cX4_runs_2 54 = .ok (.lstore 15, 2) := dk_55 15 (dk_at dksX4_runs_2_2 8 rfl rfl)
theorem dX4_runs_2_56 : decode cX4_runs_2 56 = .ok (.iload 6, 2) := dk_21 6 (dk_at dksX4_runs_2_2 10 rfl rfl)
theorem dX4_runs_2_58 : decode cX4_runs_2 58 = .ok (.iconst 1, 1) := dk_4 (dk_at dksX4_runs_2_2 12 rfl rfl)
theorem dX4_runs_2_59 : decode cX4_runs_2 59 = .ok (.isub, 1) := dk_100 (dk_at dksX4_runs_2_2 13 rfl rfl)
theorem dX4_runs_2_60 : decode cX4_runs_2 60 = .ok (.istore 17, 2) := dk_54 17 (dk_at dksX4_runs_2_2 14 rfl rfl)
theorem dX4_runs_2_62 : decode cX4_runs_2 62 = .ok (.iload 17, 2) := dk_21 17 (dk_at dksX4_runs_2_2 16 rfl rfl)
theorem dX4_runs_2_64 : decode cX4_runs_2 64 = .ok (.iload 5, 2) := dk_21 5 (dk_at dksX4_runs_2_2 18 rfl rfl)
theorem dX4_runs_2_66 : decode cX4_runs_2 66 = .ok (.if_icmp .lt 130, 3) := dk_161 0 130 (dk_at dksX4_runs_2_2 20 rfl rfl)
theorem dX4_runs_2_69 : decode cX4_runs_2 69 = .ok (.aload_n 0, 1) := dk_42 (dk_at dksX4_runs_2_2 23 rfl rfl)
theorem dX4_runs_2_70 : decode cX4_runs_2 70 = .ok (.iload 8, 2) := dk_21 8 (dk_at dksX4_runs_2_3 0 rfl rfl)
theorem dX4_runs_2_72 : decode cX4_runs_2 72 = .ok (.iload_n 2, 1) := dk_28 (dk_at dksX4_runs_2_3 2 rfl rfl)
theorem dX4_runs_2_73 : decode cX4_runs_2 73 = .ok (.iload_n 3, 1) := dk_29 (dk_at dksX4_runs_2_3 3 rfl rfl)
theorem dX4_runs_2_74 : decode cX4_runs_2 74 = .ok (.iload 17, 2) := dk_21 17 (dk_at dksX4_runs_2_3 4 rfl rfl)
theorem dX4_runs_2_76 : decode cX4_runs_2 76 = .ok (.iload 17, 2) := dk_21 17 (dk_at dksX4_runs_2_3 6 rfl rfl)
theorem dX4_runs_2_78 : decode cX4_runs_2 78 = .ok (.iload 5, 2) := dk_21 5 (dk_at dksX4_runs_2_3 8 rfl rfl)
theorem dX4_runs_2_80 : decode cX4_runs_2 80 = .ok (.isub, 1) := dk_100 (dk_at dksX4_runs_2_3 10 rfl rfl)
theorem dX4_runs_2_81 : decode cX4_runs_2 81 = .ok (.iload 4, 2) := dk_21 4 (dk_at dksX4_runs_2_3 11 rfl rfl)
theorem dX4_runs_2_83 : decode cX4_runs_2 83 = .ok (.invokevirtual 201, 3) := dk_182 0 201 (dk_at dksX4_runs_2_3 13 rfl rfl)
theorem dX4_runs_2_86 : decode cX4_runs_2 86 = .ok (.lstore 18, 2) := dk_55 18 (dk_at dksX4_runs_2_3 16 rfl rfl)
theorem dX4_runs_2_88 : decode cX4_runs_2 88 = .ok (.ldc2_w 176, 3) := dk_20 0 176 (dk_at dksX4_runs_2_3 18 rfl rfl)
theorem dX4_runs_2_91 : decode cX4_runs_2 91 = .ok (.lload 18, 2) := dk_22 18 (dk_at dksX4_runs_2_3 21 rfl rfl)
theorem dX4_runs_2_93 : decode cX4_runs_2 93 = .ok (.lsub, 1) := dk_101 (dk_at dksX4_runs_2_3 23 rfl rfl)
theorem dX4_runs_2_94 : decode cX4_runs_2 94 = .ok (.lstore 20, 2) := dk_55 20 (dk_at dksX4_runs_2_4 0 rfl rfl)
theorem dX4_runs_2_96 : decode cX4_runs_2 96 = .ok (.lload 18, 2) := dk_22 18 (dk_at dksX4_runs_2_4 2 rfl rfl)
theorem dX4_runs_2_98 : decode cX4_runs_2 98 = .ok (.ldc2_w 180, 3) := dk_20 0 180 (dk_at dksX4_runs_2_4 4 rfl rfl)
theorem dX4_runs_2_101 : decode cX4_runs_2 101 = .ok (.lmul, 1) := dk_105 (dk_at dksX4_runs_2_4 7 rfl rfl)
theorem dX4_runs_2_102 : decode cX4_runs_2 102 = .ok (.lload 20, 2) := dk_22 20 (dk_at dksX4_runs_2_4 8 rfl rfl)
theorem dX4_runs_2_104 : decode cX4_runs_2 104 = .ok (.lload 9, 2) := dk_22 9 (dk_at dksX4_runs_2_4 10 rfl rfl)
theorem dX4_runs_2_106 : decode cX4_runs_2 106 = .ok (.lmul, 1) := dk_105 (dk_at dksX4_runs_2_4 12 rfl rfl)
theorem dX4_runs_2_107 : decode cX4_runs_2 107 = .ok (.ladd, 1) := dk_97 (dk_at dksX4_runs_2_4 13 rfl rfl)
theorem dX4_runs_2_108 : decode cX4_runs_2 108 = .ok (.ldc2_w 176, 3) := dk_20 0 176 (dk_at dksX4_runs_2_4 14 rfl rfl)
theorem dX4_runs_2_111 : decode cX4_runs_2 111 = .ok (.ldiv, 1) := dk_109 (dk_at dksX4_runs_2_4 17 rfl rfl)
theorem dX4_runs_2_112 : decode cX4_runs_2 112 = .ok (.ldc2_w 194, 3) := dk_20 0 194 (dk_at dksX4_runs_2_4 18 rfl rfl)
theorem dX4_runs_2_115 : decode cX4_runs_2 115 = .ok (.lmul, 1) := dk_105 (dk_at dksX4_runs_2_4 21 rfl rfl)
theorem dX4_runs_2_116 : decode cX4_runs_2 116 = .ok (.lload 15, 2) := dk_22 15 (dk_at dksX4_runs_2_4 22 rfl rfl)
theorem dX4_runs_2_118 : decode cX4_runs_2 118 = .ok (.ldiv, 1) := dk_109 (dk_at dksX4_runs_2_5 0 rfl rfl)
theorem dX4_runs_2_119 : decode cX4_runs_2 119 = .ok (.lstore 9, 2) := dk_55 9 (dk_at dksX4_runs_2_5 1 rfl rfl)
theorem dX4_runs_2_121 : decode cX4_runs_2 121 = .ok (.ldc2_w 180, 3) := dk_20 0 180 (dk_at dksX4_runs_2_5 3 rfl rfl)
theorem dX4_runs_2_124 : decode cX4_runs_2 124 = .ok (.lload 20, 2) := dk_22 20 (dk_at dksX4_runs_2_5 6 rfl rfl)
theorem dX4_runs_2_126 : decode cX4_runs_2 126 = .ok (.lload 11, 2) := dk_22 11 (dk_at dksX4_runs_2_5 8 rfl rfl)
theorem dX4_runs_2_128 : decode cX4_runs_2 128 = .ok (.lmul, 1) := dk_105 (dk_at dksX4_runs_2_5 10 rfl rfl)
theorem dX4_runs_2_129 : decode cX4_runs_2 129 = .ok (.ldc2_w 176, 3) := dk_20 0 176 (dk_at dksX4_runs_2_5 11 rfl rfl)
theorem dX4_runs_2_132 : decode cX4_runs_2 132 = .ok (.ldiv, 1) := dk_109 (dk_at dksX4_runs_2_5 14 rfl rfl)
theorem dX4_runs_2_133 : decode cX4_runs_2 133 = .ok (.ldc2_w 194, 3) := dk_20 0 194 (dk_at dksX4_runs_2_5 15 rfl rfl)
theorem dX4_runs_2_136 : decode cX4_runs_2 136 = .ok (.lmul, 1) := dk_105 (dk_at dksX4_runs_2_5 18 rfl rfl)
theorem dX4_runs_2_137 : decode cX4_runs_2 137 = .ok (.lload 15, 2) := dk_22 15 (dk_at dksX4_runs_2_5 19 rfl rfl)
theorem dX4_runs_2_139 : decode cX4_runs_2 139 = .ok (.ldiv, 1) := dk_109 (dk_at dksX4_runs_2_5 21 rfl rfl)
theorem dX4_runs_2_140 : decode cX4_runs_2 140 = .ok (.ladd, 1) := dk_97 (dk_at dksX4_runs_2_5 22 rfl rfl)
theorem dX4_runs_2_141 : decode cX4_runs_2 141 = .ok (.lstore 11, 2) := dk_55 11 (dk_at dksX4_runs_2_6 0 rfl rfl)
theorem dX4_runs_2_143 : decode cX4_runs_2 143 = .ok (.lload 20, 2) := dk_22 20 (dk_at dksX4_runs_2_6 2 rfl rfl)
theorem dX4_runs_2_145 : decode cX4_runs_2 145 = .ok (.ldc2_w 180, 3) := dk_20 0 180 (dk_at dksX4_runs_2_6 4 rfl rfl)
theorem dX4_runs_2_148 : decode cX4_runs_2 148 = .ok (.lload 13, 2) := dk_22 13 (dk_at dksX4_runs_2_6 7 rfl rfl)
theorem dX4_runs_2_150 : decode cX4_runs_2 150 = .ok (.ladd, 1) := dk_97 (dk_at dksX4_runs_2_6 9 rfl rfl)
theorem dX4_runs_2_151 : decode cX4_runs_2 151 = .ok (.lmul, 1) := dk_105 (dk_at dksX4_runs_2_6 10 rfl rfl)
theorem dX4_runs_2_152 : decode cX4_runs_2 152 = .ok (.ldc2_w 176, 3) := dk_20 0 176 (dk_at dksX4_runs_2_6 11 rfl rfl)
theorem dX4_runs_2_155 : decode cX4_runs_2 155 = .ok (.ldiv, 1) := dk_109 (dk_at dksX4_runs_2_6 14 rfl rfl)
theorem dX4_runs_2_156 : decode cX4_runs_2 156 = .ok (.ldc2_w 194, 3) := dk_20 0 194 (dk_at dksX4_runs_2_6 15 rfl rfl)
theorem dX4_runs_2_159 : decode cX4_runs_2 159 = .ok (.lmul, 1) := dk_105 (dk_at dksX4_runs_2_6 18 rfl rfl)
theorem dX4_runs_2_160 : decode cX4_runs_2 160 = .ok (.lload 15, 2) := dk_22 15 (dk_at dksX4_runs_2_6 19 rfl rfl)
theorem dX4_runs_2_162 : decode cX4_runs_2 162 = .ok (.ldiv, 1) := dk_109 (dk_at dksX4_runs_2_6 21 rfl rfl)
theorem dX4_runs_2_163 : decode cX4_runs_2 163 = .ok (.lstore 13, 2) := dk_55 13 (dk_at dksX4_runs_2_6 22 rfl rfl)
theorem dX4_runs_2_165 : decode cX4_runs_2 165 = .ok (.iload 17, 2) := dk_21 17 (dk_at dksX4_runs_2_7 0 rfl rfl)
theorem dX4_runs_2_167 : decode cX4_runs_2 167 = .ok (.iload 7, 2) := dk_21 7 (dk_at dksX4_runs_2_7 2 rfl rfl)
theorem dX4_runs_2_169 : decode cX4_runs_2 169 = .ok (.if_icmp .ne 21, 3) := dk_160 0 21 (dk_at dksX4_runs_2_7 4 rfl rfl)
theorem dX4_runs_2_172 : decode cX4_runs_2 172 = .ok (.aload_n 0, 1) := dk_42 (dk_at dksX4_runs_2_7 7 rfl rfl)
theorem dX4_runs_2_173 : decode cX4_runs_2 173 = .ok (.lload 9, 2) := dk_22 9 (dk_at dksX4_runs_2_7 8 rfl rfl)
theorem dX4_runs_2_175 : decode cX4_runs_2 175 = .ok (.putfield 205, 3) := dk_181 0 205 (dk_at dksX4_runs_2_7 10 rfl rfl)
theorem dX4_runs_2_178 : decode cX4_runs_2 178 = .ok (.aload_n 0, 1) := dk_42 (dk_at dksX4_runs_2_7 13 rfl rfl)
theorem dX4_runs_2_179 : decode cX4_runs_2 179 = .ok (.lload 11, 2) := dk_22 11 (dk_at dksX4_runs_2_7 14 rfl rfl)
theorem dX4_runs_2_181 : decode cX4_runs_2 181 = .ok (.putfield 208, 3) := dk_181 0 208 (dk_at dksX4_runs_2_7 16 rfl rfl)
theorem dX4_runs_2_184 : decode cX4_runs_2 184 = .ok (.aload_n 0, 1) := dk_42 (dk_at dksX4_runs_2_7 19 rfl rfl)
theorem dX4_runs_2_185 : decode cX4_runs_2 185 = .ok (.lload 13, 2) := dk_22 13 (dk_at dksX4_runs_2_7 20 rfl rfl)
theorem dX4_runs_2_187 : decode cX4_runs_2 187 = .ok (.putfield 211, 3) := dk_181 0 211 (dk_at dksX4_runs_2_8 0 rfl rfl)
theorem dX4_runs_2_190 : decode cX4_runs_2 190 = .ok (.iinc 17 (-1), 3) := dk_132 17 255 (dk_at dksX4_runs_2_8 3 rfl rfl)
theorem dX4_runs_2_193 : decode cX4_runs_2 193 = .ok (.goto (-131), 3) := dk_167 255 125 (dk_at dksX4_runs_2_8 6 rfl rfl)
theorem dX4_runs_2_196 : decode cX4_runs_2 196 = .ok (.aload_n 0, 1) := dk_42 (dk_at dksX4_runs_2_8 9 rfl rfl)
theorem dX4_runs_2_197 : decode cX4_runs_2 197 = .ok (.lload 9, 2) := dk_22 9 (dk_at dksX4_runs_2_8 10 rfl rfl)
theorem dX4_runs_2_199 : decode cX4_runs_2 199 = .ok (.putfield 214, 3) := dk_181 0 214 (dk_at dksX4_runs_2_8 12 rfl rfl)
theorem dX4_runs_2_202 : decode cX4_runs_2 202 = .ok (.aload_n 0, 1) := dk_42 (dk_at dksX4_runs_2_8 15 rfl rfl)
theorem dX4_runs_2_203 : decode cX4_runs_2 203 = .ok (.lload 11, 2) := dk_22 11 (dk_at dksX4_runs_2_8 16 rfl rfl)
theorem dX4_runs_2_205 : decode cX4_runs_2 205 = .ok (.putfield 217, 3) := dk_181 0 217 (dk_at dksX4_runs_2_8 18 rfl rfl)
theorem dX4_runs_2_208 : decode cX4_runs_2 208 = .ok (.aload_n 0, 1) := dk_42 (dk_at dksX4_runs_2_8 21 rfl rfl)
theorem dX4_runs_2_209 : decode cX4_runs_2 209 = .ok (.lload 13, 2) := dk_22 13 (dk_at dksX4_runs_2_8 22 rfl rfl)
theorem dX4_runs_2_211 : decode cX4_runs_2 211 = .ok (.putfield 220, 3) := dk_181 0 220 (dk_at dksX4_runs_2_9 0 rfl rfl)
theorem dX4_runs_2_214 : decode cX4_runs_2 214 = .ok (.return_, 1) := dk_177 (dk_at dksX4_runs_2_9 3 rfl rfl)
abbrev cX4_mortalityOf : ByteArray := prog_12_method_11_code
def yX4_mortalityOf : MethodName := ⟨RX4, "mortalityOf", "(IIIIII)J"⟩
def dkwX4_mortalityOf_8 : List UInt8 := [55, 9, 20, 0, 176, 22, 9, 184, 0, 198, 173]
abbrev dktX4_mortalityOf_8 : List UInt8 := dkwX4_mortalityOf_8 ++ []
def dkwX4_mortalityOf_7 : List UInt8 := [16, 100, 21, 6, 96, 133, 105, 20, 0, 196, 109, 42, 180, 0, 17, 27, 46, 133, 105, 20, 0, 196, 109]
abbrev dktX4_mortalityOf_7 : List UInt8 := dkwX4_mortalityOf_7 ++ dktX4_mortalityOf_8
def dkwX4_mortalityOf_6 : List UInt8 := [180, 0, 121, 21, 4, 17, 7, 208, 100, 104, 184, 0, 188, 133, 105, 20, 0, 194, 109, 101, 55, 9, 22, 9]
abbrev dktX4_mortalityOf_6 : List UInt8 := dkwX4_mortalityOf_6 ++ dktX4_mortalityOf_7
def dkwX4_mortalityOf_5 : List UInt8 := [109, 167, 0, 5, 22, 9, 55, 9, 21, 4, 17, 7, 208, 164, 0, 33, 22, 9, 22, 9, 17, 1, 244, 42]
abbrev dktX4_mortalityOf_5 : List UInt8 := dkwX4_mortalityOf_5 ++ dktX4_mortalityOf_6
def dkwX4_mortalityOf_4 : List UInt8 := [22, 9, 20, 0, 172, 109, 167, 0, 24, 21, 5, 4, 160, 0, 16, 22, 9, 20, 0, 186, 105, 20, 0, 182]
abbrev dktX4_mortalityOf_4 : List UInt8 := dkwX4_mortalityOf_4 ++ dktX4_mortalityOf_5
def dkwX4_mortalityOf_3 : List UInt8 := [5, 112, 4, 160, 0, 12, 22, 9, 20, 0, 172, 105, 167, 0, 5, 22, 9, 55, 9, 21, 5, 154, 0, 12]
abbrev dktX4_mortalityOf_3 : List UInt8 := dkwX4_mortalityOf_3 ++ dktX4_mortalityOf_4
def dkwX4_mortalityOf_2 : List UInt8 := [4, 160, 0, 16, 22, 9, 20, 0, 182, 105, 20, 0, 184, 109, 167, 0, 5, 22, 9, 55, 9, 28, 5, 108]
abbrev dktX4_mortalityOf_2 : List UInt8 := dkwX4_mortalityOf_2 ++ dktX4_mortalityOf_3
def dkwX4_mortalityOf_1 : List UInt8 := [22, 7, 22, 7, 105, 22, 7, 105, 22, 7, 105, 22, 7, 105, 20, 0, 180, 109, 97, 55, 9, 28, 5, 112]
abbrev dktX4_mortalityOf_1 : List UInt8 := dkwX4_mortalityOf_1 ++ dktX4_mortalityOf_2
def dkwX4_mortalityOf_0 : List UInt8 := [21, 4, 29, 100, 133, 55, 7, 22, 7, 20, 0, 174, 148, 155, 0, 7, 20, 0, 176, 173, 20, 0, 178]
abbrev dktX4_mortalityOf_0 : List UInt8 := dkwX4_mortalityOf_0 ++ dktX4_mortalityOf_1
theorem dksX4_mortalityOf_0 : cX4_mortalityOf.data.toList.drop 0 = dktX4_mortalityOf_0 := by decide +kernel
theorem dksX4_mortalityOf_1 : cX4_mortalityOf.data.toList.drop 23 = dktX4_mortalityOf_1 := dk_seg dksX4_mortalityOf_0 23 rfl rfl
theorem dksX4_mortalityOf_2 : cX4_mortalityOf.data.toList.drop 47 = dktX4_mortalityOf_2 := dk_seg dksX4_mortalityOf_1 24 rfl rfl
theorem dksX4_mortalityOf_3 : cX4_mortalityOf.data.toList.drop 71 = dktX4_mortalityOf_3 := dk_seg dksX4_mortalityOf_2 24 rfl rfl
theorem dksX4_mortalityOf_4 : cX4_mortalityOf.data.toList.drop 95 = dktX4_mortalityOf_4 := dk_seg dksX4_mortalityOf_3 24 rfl rfl
theorem dksX4_mortalityOf_5 : cX4_mortalityOf.data.toList.drop 119 = dktX4_mortalityOf_5 := dk_seg dksX4_mortalityOf_4 24 rfl rfl
theorem dksX4_mortalityOf_6 : cX4_mortalityOf.data.toList.drop 143 = dktX4_mortalityOf_6 := dk_seg dksX4_mortalityOf_5 24 rfl rfl
theorem dksX4_mortalityOf_7 : cX4_mortalityOf.data.toList.drop 167 = dktX4_mortalityOf_7 := dk_seg dksX4_mortalityOf_6 24 rfl rfl
theorem dksX4_mortalityOf_8 : cX4_mortalityOf.data.toList.drop 190 = dktX4_mortalityOf_8 := dk_seg dksX4_mortalityOf_7 23 rfl rfl
theorem dX4_mortalityOf_0 : decode cX4_mortalityOf 0 = .ok (.iload 4, 2) := dk_21 4 (dk_at dksX4_mortalityOf_0 0 rfl rfl)
theorem dX4_mortalityOf_2 : decode cX4_mortalityOf 2 = .ok (.iload_n 3, 1) := dk_29 (dk_at dksX4_mortalityOf_0 2 rfl rfl)
theorem dX4_mortalityOf_3 : decode cX4_mortalityOf 3 = .ok (.isub, 1) := dk_100 (dk_at dksX4_mortalityOf_0 3 rfl rfl)
theorem dX4_mortalityOf_4 : decode cX4_mortalityOf 4 = .ok (.i2l, 1) := dk_133 (dk_at dksX4_mortalityOf_0 4 rfl rfl)
theorem dX4_mortalityOf_5 : decode cX4_mortalityOf 5 = .ok (.lstore 7, 2) := dk_55 7 (dk_at dksX4_mortalityOf_0 5 rfl rfl)
theorem dX4_mortalityOf_7 : decode cX4_mortalityOf 7 = .ok (.lload 7, 2) := dk_22 7 (dk_at dksX4_mortalityOf_0 7 rfl rfl)
theorem dX4_mortalityOf_9 : decode cX4_mortalityOf 9 = .ok (.ldc2_w 174, 3) := dk_20 0 174 (dk_at dksX4_mortalityOf_0 9 rfl rfl)
theorem dX4_mortalityOf_12 : decode cX4_mortalityOf 12 = .ok (.lcmp, 1) := dk_148 (dk_at dksX4_mortalityOf_0 12 rfl rfl)
theorem dX4_mortalityOf_13 : decode cX4_mortalityOf 13 = .ok (.ifCond .lt 7, 3) := dk_155 0 7 (dk_at dksX4_mortalityOf_0 13 rfl rfl)
theorem dX4_mortalityOf_16 : decode cX4_mortalityOf 16 = .ok (.ldc2_w 176, 3) := dk_20 0 176 (dk_at dksX4_mortalityOf_0 16 rfl rfl)
theorem dX4_mortalityOf_19 : decode cX4_mortalityOf 19 = .ok (.lreturn, 1) := dk_173 (dk_at dksX4_mortalityOf_0 19 rfl rfl)
theorem dX4_mortalityOf_20 : decode cX4_mortalityOf 20 = .ok (.ldc2_w 178, 3) := dk_20 0 178 (dk_at dksX4_mortalityOf_0 20 rfl rfl)
theorem dX4_mortalityOf_23 : decode cX4_mortalityOf 23 = .ok (.lload 7, 2) := dk_22 7 (dk_at dksX4_mortalityOf_1 0 rfl rfl)
theorem dX4_mortalityOf_25 : decode cX4_mortalityOf 25 = .ok (.lload 7, 2) := dk_22 7 (dk_at dksX4_mortalityOf_1 2 rfl rfl)
theorem dX4_mortalityOf_27 : decode cX4_mortalityOf 27 = .ok (.lmul, 1) := dk_105 (dk_at dksX4_mortalityOf_1 4 rfl rfl)
theorem dX4_mortalityOf_28 : decode cX4_mortalityOf 28 = .ok (.lload 7, 2) := dk_22 7 (dk_at dksX4_mortalityOf_1 5 rfl rfl)
theorem dX4_mortalityOf_30 : decode cX4_mortalityOf 30 = .ok (.lmul, 1) := dk_105 (dk_at dksX4_mortalityOf_1 7 rfl rfl)
theorem dX4_mortalityOf_31 : decode cX4_mortalityOf 31 = .ok (.lload 7, 2) := dk_22 7 (dk_at dksX4_mortalityOf_1 8 rfl rfl)
theorem dX4_mortalityOf_33 : decode cX4_mortalityOf 33 = .ok (.lmul, 1) := dk_105 (dk_at dksX4_mortalityOf_1 10 rfl rfl)
theorem dX4_mortalityOf_34 : decode cX4_mortalityOf 34 = .ok (.lload 7, 2) := dk_22 7 (dk_at dksX4_mortalityOf_1 11 rfl rfl)
theorem dX4_mortalityOf_36 : decode cX4_mortalityOf 36 = .ok (.lmul, 1) := dk_105 (dk_at dksX4_mortalityOf_1 13 rfl rfl)
theorem dX4_mortalityOf_37 : decode cX4_mortalityOf 37 = .ok (.ldc2_w 180, 3) := dk_20 0 180 (dk_at dksX4_mortalityOf_1 14 rfl rfl)
theorem dX4_mortalityOf_40 : decode cX4_mortalityOf 40 = .ok (.ldiv, 1) := dk_109 (dk_at dksX4_mortalityOf_1 17 rfl rfl)
theorem dX4_mortalityOf_41 : decode cX4_mortalityOf 41 = .ok (.ladd, 1) := dk_97 (dk_at dksX4_mortalityOf_1 18 rfl rfl)
theorem dX4_mortalityOf_42 : decode cX4_mortalityOf 42 = .ok (.lstore 9, 2) := dk_55 9 (dk_at dksX4_mortalityOf_1 19 rfl rfl)
theorem dX4_mortalityOf_44 : decode cX4_mortalityOf 44 = .ok (.iload_n 2, 1) := dk_28 (dk_at dksX4_mortalityOf_1 21 rfl rfl)
theorem dX4_mortalityOf_45 : decode cX4_mortalityOf 45 = .ok (.iconst 2, 1) := dk_5 (dk_at dksX4_mortalityOf_1 22 rfl rfl)
theorem dX4_mortalityOf_46 : decode cX4_mortalityOf 46 = .ok (.irem, 1) := dk_112 (dk_at dksX4_mortalityOf_1 23 rfl rfl)
theorem dX4_mortalityOf_47 : decode cX4_mortalityOf 47 = .ok (.iconst 1, 1) := dk_4 (dk_at dksX4_mortalityOf_2 0 rfl rfl)
theorem dX4_mortalityOf_48 : decode cX4_mortalityOf 48 = .ok (.if_icmp .ne 16, 3) := dk_160 0 16 (dk_at dksX4_mortalityOf_2 1 rfl rfl)
theorem dX4_mortalityOf_51 : decode cX4_mortalityOf 51 = .ok (.lload 9, 2) := dk_22 9 (dk_at dksX4_mortalityOf_2 4 rfl rfl)
theorem dX4_mortalityOf_53 : decode cX4_mortalityOf 53 = .ok (.ldc2_w 182, 3) := dk_20 0 182 (dk_at dksX4_mortalityOf_2 6 rfl rfl)
theorem dX4_mortalityOf_56 : decode cX4_mortalityOf 56 = .ok (.lmul, 1) := dk_105 (dk_at dksX4_mortalityOf_2 9 rfl rfl)
theorem dX4_mortalityOf_57 : decode cX4_mortalityOf 57 = .ok (.ldc2_w 184, 3) := dk_20 0 184 (dk_at dksX4_mortalityOf_2 10 rfl rfl)
theorem dX4_mortalityOf_60 : decode cX4_mortalityOf 60 = .ok (.ldiv, 1) := dk_109 (dk_at dksX4_mortalityOf_2 13 rfl rfl)
theorem dX4_mortalityOf_61 : decode cX4_mortalityOf 61 = .ok (.goto 5, 3) := dk_167 0 5 (dk_at dksX4_mortalityOf_2 14 rfl rfl)
theorem dX4_mortalityOf_64 : decode cX4_mortalityOf 64 = .ok (.lload 9, 2) := dk_22 9 (dk_at dksX4_mortalityOf_2 17 rfl rfl)
theorem dX4_mortalityOf_66 : decode cX4_mortalityOf 66 = .ok (.lstore 9, 2) := dk_55 9 (dk_at dksX4_mortalityOf_2 19 rfl rfl)
theorem dX4_mortalityOf_68 : decode cX4_mortalityOf 68 = .ok (.iload_n 2, 1) := dk_28 (dk_at dksX4_mortalityOf_2 21 rfl rfl)
theorem dX4_mortalityOf_69 : decode cX4_mortalityOf 69 = .ok (.iconst 2, 1) := dk_5 (dk_at dksX4_mortalityOf_2 22 rfl rfl)
theorem dX4_mortalityOf_70 : decode cX4_mortalityOf 70 = .ok (.idiv, 1) := dk_108 (dk_at dksX4_mortalityOf_2 23 rfl rfl)
theorem dX4_mortalityOf_71 : decode cX4_mortalityOf 71 = .ok (.iconst 2, 1) := dk_5 (dk_at dksX4_mortalityOf_3 0 rfl rfl)
theorem dX4_mortalityOf_72 : decode cX4_mortalityOf 72 = .ok (.irem, 1) := dk_112 (dk_at dksX4_mortalityOf_3 1 rfl rfl)
theorem dX4_mortalityOf_73 : decode cX4_mortalityOf 73 = .ok (.iconst 1, 1) := dk_4 (dk_at dksX4_mortalityOf_3 2 rfl rfl)
theorem dX4_mortalityOf_74 : decode cX4_mortalityOf 74 = .ok (.if_icmp .ne 12, 3) := dk_160 0 12 (dk_at dksX4_mortalityOf_3 3 rfl rfl)
theorem dX4_mortalityOf_77 : decode cX4_mortalityOf 77 = .ok (.lload 9, 2) := dk_22 9 (dk_at dksX4_mortalityOf_3 6 rfl rfl)
theorem dX4_mortalityOf_79 : decode cX4_mortalityOf 79 = .ok (.ldc2_w 172, 3) := dk_20 0 172 (dk_at dksX4_mortalityOf_3 8 rfl rfl)
theorem dX4_mortalityOf_82 : decode cX4_mortalityOf 82 = .ok (.lmul, 1) := dk_105 (dk_at dksX4_mortalityOf_3 11 rfl rfl)
theorem dX4_mortalityOf_83 : decode cX4_mortalityOf 83 = .ok (.goto 5, 3) := dk_167 0 5 (dk_at dksX4_mortalityOf_3 12 rfl rfl)
theorem dX4_mortalityOf_86 : decode cX4_mortalityOf 86 = .ok (.lload 9, 2) := dk_22 9 (dk_at dksX4_mortalityOf_3 15 rfl rfl)
theorem dX4_mortalityOf_88 : decode cX4_mortalityOf 88 = .ok (.lstore 9, 2) := dk_55 9 (dk_at dksX4_mortalityOf_3 17 rfl rfl)
theorem dX4_mortalityOf_90 : decode cX4_mortalityOf 90 = .ok (.iload 5, 2) := dk_21 5 (dk_at dksX4_mortalityOf_3 19 rfl rfl)
theorem dX4_mortalityOf_92 : decode cX4_mortalityOf 92 = .ok (.ifCond .ne 12, 3) := dk_154 0 12 (dk_at dksX4_mortalityOf_3 21 rfl rfl)
theorem dX4_mortalityOf_95 : decode cX4_mortalityOf 95 = .ok (.lload 9, 2) := dk_22 9 (dk_at dksX4_mortalityOf_4 0 rfl rfl)
theorem dX4_mortalityOf_97 : decode cX4_mortalityOf 97 = .ok (.ldc2_w 172, 3) := dk_20 0 172 (dk_at dksX4_mortalityOf_4 2 rfl rfl)
theorem dX4_mortalityOf_100 : decode cX4_mortalityOf 100 = .ok (.ldiv, 1) := dk_109 (dk_at dksX4_mortalityOf_4 5 rfl rfl)
theorem dX4_mortalityOf_101 : decode cX4_mortalityOf 101 = .ok (.goto 24, 3) := dk_167 0 24 (dk_at dksX4_mortalityOf_4 6 rfl rfl)
theorem dX4_mortalityOf_104 : decode cX4_mortalityOf 104 = .ok (.iload 5, 2) := dk_21 5 (dk_at dksX4_mortalityOf_4 9 rfl rfl)
theorem dX4_mortalityOf_106 : decode cX4_mortalityOf 106 = .ok (.iconst 1, 1) := dk_4 (dk_at dksX4_mortalityOf_4 11 rfl rfl)
theorem dX4_mortalityOf_107 : decode cX4_mortalityOf 107 = .ok (.if_icmp .ne 16, 3) := dk_160 0 16 (dk_at dksX4_mortalityOf_4 12 rfl rfl)
theorem dX4_mortalityOf_110 : decode cX4_mortalityOf 110 = .ok (.lload 9, 2) := dk_22 9 (dk_at dksX4_mortalityOf_4 15 rfl rfl)
theorem dX4_mortalityOf_112 : decode cX4_mortalityOf 112 = .ok (.ldc2_w 186, 3) := dk_20 0 186 (dk_at dksX4_mortalityOf_4 17 rfl rfl)
theorem dX4_mortalityOf_115 : decode cX4_mortalityOf 115 = .ok (.lmul, 1) := dk_105 (dk_at dksX4_mortalityOf_4 20 rfl rfl)
theorem dX4_mortalityOf_116 : decode cX4_mortalityOf 116 = .ok (.ldc2_w 182, 3) := dk_20 0 182 (dk_at dksX4_mortalityOf_4 21 rfl rfl)
theorem dX4_mortalityOf_119 : decode cX4_mortalityOf 119 = .ok (.ldiv, 1) := dk_109 (dk_at dksX4_mortalityOf_5 0 rfl rfl)
theorem dX4_mortalityOf_120 : decode cX4_mortalityOf 120 = .ok (.goto 5, 3) := dk_167 0 5 (dk_at dksX4_mortalityOf_5 1 rfl rfl)
theorem dX4_mortalityOf_123 : decode cX4_mortalityOf 123 = .ok (.lload 9, 2) := dk_22 9 (dk_at dksX4_mortalityOf_5 4 rfl rfl)
theorem dX4_mortalityOf_125 : decode cX4_mortalityOf 125 = .ok (.lstore 9, 2) := dk_55 9 (dk_at dksX4_mortalityOf_5 6 rfl rfl)
theorem dX4_mortalityOf_127 : decode cX4_mortalityOf 127 = .ok (.iload 4, 2) := dk_21 4 (dk_at dksX4_mortalityOf_5 8 rfl rfl)
theorem dX4_mortalityOf_129 : decode cX4_mortalityOf 129 = .ok (.sipush 2000, 3) := dk_17 7 208 (dk_at dksX4_mortalityOf_5 10 rfl rfl)
theorem dX4_mortalityOf_132 : decode cX4_mortalityOf 132 = .ok (.if_icmp .le 33, 3) := dk_164 0 33 (dk_at dksX4_mortalityOf_5 13 rfl rfl)
theorem dX4_mortalityOf_135 : decode cX4_mortalityOf 135 = .ok (.lload 9, 2) := dk_22 9 (dk_at dksX4_mortalityOf_5 16 rfl rfl)
theorem dX4_mortalityOf_137 : decode cX4_mortalityOf 137 = .ok (.lload 9, 2) := dk_22 9 (dk_at dksX4_mortalityOf_5 18 rfl rfl)
theorem dX4_mortalityOf_139 : decode cX4_mortalityOf 139 = .ok (.sipush 500, 3) := dk_17 1 244 (dk_at dksX4_mortalityOf_5 20 rfl rfl)
theorem dX4_mortalityOf_142 : decode cX4_mortalityOf 142 = .ok (.aload_n 0, 1) := dk_42 (dk_at dksX4_mortalityOf_5 23 rfl rfl)
theorem dX4_mortalityOf_143 : decode cX4_mortalityOf 143 = .ok (.getfield 121, 3) := dk_180 0 121 (dk_at dksX4_mortalityOf_6 0 rfl rfl)
theorem dX4_mortalityOf_146 : decode cX4_mortalityOf 146 = .ok (.iload 4, 2) := dk_21 4 (dk_at dksX4_mortalityOf_6 3 rfl rfl)
theorem dX4_mortalityOf_148 : decode cX4_mortalityOf 148 = .ok (.sipush 2000, 3) := dk_17 7 208 (dk_at dksX4_mortalityOf_6 5 rfl rfl)
theorem dX4_mortalityOf_151 : decode cX4_mortalityOf 151 = .ok (.isub, 1) := dk_100 (dk_at dksX4_mortalityOf_6 8 rfl rfl)
theorem dX4_mortalityOf_152 : decode cX4_mortalityOf 152 = .ok (.imul, 1) := dk_104 (dk_at dksX4_mortalityOf_6 9 rfl rfl)
theorem dX4_mortalityOf_153 : decode cX4_mortalityOf 153 = .ok (.invokestatic 188, 3) := dk_184 0 188 (dk_at dksX4_mortalityOf_6 10 rfl rfl)
theorem dX4_mortalityOf_156 : decode cX4_mortalityOf 156 = .ok (.i2l, 1) := dk_133 (dk_at dksX4_mortalityOf_6 13 rfl rfl)
theorem dX4_mortalityOf_157 : decode cX4_mortalityOf 157 = .ok (.lmul, 1) := dk_105 (dk_at dksX4_mortalityOf_6 14 rfl rfl)
theorem dX4_mortalityOf_158 : decode cX4_mortalityOf 158 = .ok (.ldc2_w 194, 3) := dk_20 0 194 (dk_at dksX4_mortalityOf_6 15 rfl rfl)
theorem dX4_mortalityOf_161 : decode cX4_mortalityOf 161 = .ok (.ldiv, 1) := dk_109 (dk_at dksX4_mortalityOf_6 18 rfl rfl)
theorem dX4_mortalityOf_162 : decode cX4_mortalityOf 162 = .ok (.lsub, 1) := dk_101 (dk_at dksX4_mortalityOf_6 19 rfl rfl)
theorem dX4_mortalityOf_163 : decode cX4_mortalityOf 163 = .ok (.lstore 9, 2) := dk_55 9 (dk_at dksX4_mortalityOf_6 20 rfl rfl)
theorem dX4_mortalityOf_165 : decode cX4_mortalityOf 165 = .ok (.lload 9, 2) := dk_22 9 (dk_at dksX4_mortalityOf_6 22 rfl rfl)
theorem dX4_mortalityOf_167 : decode cX4_mortalityOf 167 = .ok (.bipush 100, 2) := dk_16 100 (dk_at dksX4_mortalityOf_7 0 rfl rfl)
theorem dX4_mortalityOf_169 : decode cX4_mortalityOf 169 = .ok (.iload 6, 2) := dk_21 6 (dk_at dksX4_mortalityOf_7 2 rfl rfl)
theorem dX4_mortalityOf_171 : decode cX4_mortalityOf 171 = .ok (.iadd, 1) := dk_96 (dk_at dksX4_mortalityOf_7 4 rfl rfl)
theorem dX4_mortalityOf_172 : decode cX4_mortalityOf 172 = .ok (.i2l, 1) := dk_133 (dk_at dksX4_mortalityOf_7 5 rfl rfl)
theorem dX4_mortalityOf_173 : decode cX4_mortalityOf 173 = .ok (.lmul, 1) := dk_105 (dk_at dksX4_mortalityOf_7 6 rfl rfl)
theorem dX4_mortalityOf_174 : decode cX4_mortalityOf 174 = .ok (.ldc2_w 196, 3) := dk_20 0 196 (dk_at dksX4_mortalityOf_7 7 rfl rfl)
theorem dX4_mortalityOf_177 : decode cX4_mortalityOf 177 = .ok (.ldiv, 1) := dk_109 (dk_at dksX4_mortalityOf_7 10 rfl rfl)
theorem dX4_mortalityOf_178 : decode cX4_mortalityOf 178 = .ok (.aload_n 0, 1) := dk_42 (dk_at dksX4_mortalityOf_7 11 rfl rfl)
theorem dX4_mortalityOf_179 : decode cX4_mortalityOf 179 = .ok (.getfield 17, 3) := dk_180 0 17 (dk_at dksX4_mortalityOf_7 12 rfl rfl)
theorem dX4_mortalityOf_182 : decode cX4_mortalityOf 182 = .ok (.iload_n 1, 1) := dk_27 (dk_at dksX4_mortalityOf_7 15 rfl rfl)
theorem dX4_mortalityOf_183 : decode cX4_mortalityOf 183 = .ok (.iaload, 1) := dk_46 (dk_at dksX4_mortalityOf_7 16 rfl rfl)
theorem dX4_mortalityOf_184 : decode cX4_mortalityOf 184 = .ok (.i2l, 1) := dk_133 (dk_at dksX4_mortalityOf_7 17 rfl rfl)
theorem dX4_mortalityOf_185 : decode cX4_mortalityOf 185 = .ok (.lmul, 1) := dk_105 (dk_at dksX4_mortalityOf_7 18 rfl rfl)
theorem dX4_mortalityOf_186 : decode cX4_mortalityOf 186 = .ok (.ldc2_w 196, 3) := dk_20 0 196 (dk_at dksX4_mortalityOf_7 19 rfl rfl)
theorem dX4_mortalityOf_189 : decode cX4_mortalityOf 189 = .ok (.ldiv, 1) := dk_109 (dk_at dksX4_mortalityOf_7 22 rfl rfl)
theorem dX4_mortalityOf_190 : decode cX4_mortalityOf 190 = .ok (.lstore 9, 2) := dk_55 9 (dk_at dksX4_mortalityOf_8 0 rfl rfl)
theorem dX4_mortalityOf_192 : decode cX4_mortalityOf 192 = .ok (.ldc2_w 176, 3) := dk_20 0 176 (dk_at dksX4_mortalityOf_8 2 rfl rfl)
theorem dX4_mortalityOf_195 : decode cX4_mortalityOf 195 = .ok (.lload 9, 2) := dk_22 9 (dk_at dksX4_mortalityOf_8 5 rfl rfl)
theorem dX4_mortalityOf_197 : decode cX4_mortalityOf 197 = .ok (.invokestatic 198, 3) := dk_184 0 198 (dk_at dksX4_mortalityOf_8 7 rfl rfl)
theorem dX4_mortalityOf_200 : decode cX4_mortalityOf 200 = .ok (.lreturn, 1) := dk_173 (dk_at dksX4_mortalityOf_8 10 rfl rfl)
abbrev cX4_netOf : ByteArray := prog_12_method_14_code
def yX4_netOf : MethodName := ⟨RX4, "netOf", "(IJ)J"⟩
def dkwX4_netOf_1 : List UInt8 := [42, 180, 0, 217, 109, 173]
abbrev dktX4_netOf_1 : List UInt8 := dkwX4_netOf_1 ++ []
def dkwX4_netOf_0 : List UInt8 := [27, 6, 160, 0, 16, 32, 42, 180, 0, 220, 105, 20, 0, 180, 109, 167, 0, 14, 32, 42, 180, 0, 214, 105]
abbrev dktX4_netOf_0 : List UInt8 := dkwX4_netOf_0 ++ dktX4_netOf_1
theorem dksX4_netOf_0 : cX4_netOf.data.toList.drop 0 = dktX4_netOf_0 := by decide +kernel
theorem dksX4_netOf_1 : cX4_netOf.data.toList.drop 24 = dktX4_netOf_1 := dk_seg dksX4_netOf_0 24 rfl rfl
theorem dX4_netOf_0 : decode cX4_netOf 0 = .ok (.iload_n 1, 1) := dk_27 (dk_at dksX4_netOf_0 0 rfl rfl)
theorem dX4_netOf_1 : decode cX4_netOf 1 = .ok (.iconst 3, 1) := dk_6 (dk_at dksX4_netOf_0 1 rfl rfl)
theorem dX4_netOf_2 : decode cX4_netOf 2 = .ok (.if_icmp .ne 16, 3) := dk_160 0 16 (dk_at dksX4_netOf_0 2 rfl rfl)
theorem dX4_netOf_5 : decode cX4_netOf 5 = .ok (.lload_n 2, 1) := dk_32 (dk_at dksX4_netOf_0 5 rfl rfl)
theorem dX4_netOf_6 : decode cX4_netOf 6 = .ok (.aload_n 0, 1) := dk_42 (dk_at dksX4_netOf_0 6 rfl rfl)
theorem dX4_netOf_7 : decode cX4_netOf 7 = .ok (.getfield 220, 3) := dk_180 0 220 (dk_at dksX4_netOf_0 7 rfl rfl)
theorem dX4_netOf_10 : decode cX4_netOf 10 = .ok (.lmul, 1) := dk_105 (dk_at dksX4_netOf_0 10 rfl rfl)
theorem dX4_netOf_11 : decode cX4_netOf 11 = .ok (.ldc2_w 180, 3) := dk_20 0 180 (dk_at dksX4_netOf_0 11 rfl rfl)
theorem dX4_netOf_14 : decode cX4_netOf 14 = .ok (.ldiv, 1) := dk_109 (dk_at dksX4_netOf_0 14 rfl rfl)
theorem dX4_netOf_15 : decode cX4_netOf 15 = .ok (.goto 14, 3) := dk_167 0 14 (dk_at dksX4_netOf_0 15 rfl rfl)
theorem dX4_netOf_18 : decode cX4_netOf 18 = .ok (.lload_n 2, 1) := dk_32 (dk_at dksX4_netOf_0 18 rfl rfl)
theorem dX4_netOf_19 : decode cX4_netOf 19 = .ok (.aload_n 0, 1) := dk_42 (dk_at dksX4_netOf_0 19 rfl rfl)
theorem dX4_netOf_20 : decode cX4_netOf 20 = .ok (.getfield 214, 3) := dk_180 0 214 (dk_at dksX4_netOf_0 20 rfl rfl)
theorem dX4_netOf_23 : decode cX4_netOf 23 = .ok (.lmul, 1) := dk_105 (dk_at dksX4_netOf_0 23 rfl rfl)
theorem dX4_netOf_24 : decode cX4_netOf 24 = .ok (.aload_n 0, 1) := dk_42 (dk_at dksX4_netOf_1 0 rfl rfl)
theorem dX4_netOf_25 : decode cX4_netOf 25 = .ok (.getfield 217, 3) := dk_180 0 217 (dk_at dksX4_netOf_1 1 rfl rfl)
theorem dX4_netOf_28 : decode cX4_netOf 28 = .ok (.ldiv, 1) := dk_109 (dk_at dksX4_netOf_1 4 rfl rfl)
theorem dX4_netOf_29 : decode cX4_netOf 29 = .ok (.lreturn, 1) := dk_173 (dk_at dksX4_netOf_1 5 rfl rfl)
abbrev cX4_setImprovement : ByteArray := prog_12_method_46_code
def yX4_setImprovement : MethodName := ⟨RX4, "setImprovement", "(I)I"⟩
def dkwX4_setImprovement_2 : List UInt8 := [42, 3, 182, 1, 3, 32, 101, 101, 80, 21, 4, 172]
abbrev dktX4_setImprovement_2 : List UInt8 := dkwX4_setImprovement_2 ++ []
def dkwX4_setImprovement_1 : List UInt8 := [3, 182, 1, 3, 65, 42, 180, 0, 121, 54, 4, 42, 27, 181, 0, 121, 42, 180, 0, 24, 16, 6, 92, 47]
abbrev dktX4_setImprovement_1 : List UInt8 := dkwX4_setImprovement_1 ++ dktX4_setImprovement_2
def dkwX4_setImprovement_0 : List UInt8 := [42, 3, 181, 0, 1, 27, 133, 9, 20, 0, 178, 184, 0, 168, 154, 0, 9, 42, 4, 182, 1, 86, 172, 42]
abbrev dktX4_setImprovement_0 : List UInt8 := dkwX4_setImprovement_0 ++ dktX4_setImprovement_1
theorem dksX4_setImprovement_0 : cX4_setImprovement.data.toList.drop 0 = dktX4_setImprovement_0 := by decide +kernel
theorem dksX4_setImprovement_1 : cX4_setImprovement.data.toList.drop 24 = dktX4_setImprovement_1 := dk_seg dksX4_setImprovement_0 24 rfl rfl
theorem dksX4_setImprovement_2 : cX4_setImprovement.data.toList.drop 48 = dktX4_setImprovement_2 := dk_seg dksX4_setImprovement_1 24 rfl rfl
theorem dX4_setImprovement_0 : decode cX4_setImprovement 0 = .ok (.aload_n 0, 1) := dk_42 (dk_at dksX4_setImprovement_0 0 rfl rfl)
theorem dX4_setImprovement_1 : decode cX4_setImprovement 1 = .ok (.iconst 0, 1) := dk_3 (dk_at dksX4_setImprovement_0 1 rfl rfl)
theorem dX4_setImprovement_2 : decode cX4_setImprovement 2 = .ok (.putfield 1, 3) := dk_181 0 1 (dk_at dksX4_setImprovement_0 2 rfl rfl)
theorem dX4_setImprovement_5 : decode cX4_setImprovement 5 = .ok (.iload_n 1, 1) := dk_27 (dk_at dksX4_setImprovement_0 5 rfl rfl)
theorem dX4_setImprovement_6 : decode cX4_setImprovement 6 = .ok (.i2l, 1) := dk_133 (dk_at dksX4_setImprovement_0 6 rfl rfl)
theorem dX4_setImprovement_7 : decode cX4_setImprovement 7 = .ok (.lconst 0, 1) := dk_9 (dk_at dksX4_setImprovement_0 7 rfl rfl)
theorem dX4_setImprovement_8 : decode cX4_setImprovement 8 = .ok (.ldc2_w 178, 3) := dk_20 0 178 (dk_at dksX4_setImprovement_0 8 rfl rfl)
theorem dX4_setImprovement_11 : decode cX4_setImprovement 11 = .ok (.invokestatic 168, 3) := dk_184 0 168 (dk_at dksX4_setImprovement_0 11 rfl rfl)
theorem dX4_setImprovement_14 : decode cX4_setImprovement 14 = .ok (.ifCond .ne 9, 3) := dk_154 0 9 (dk_at dksX4_setImprovement_0 14 rfl rfl)
theorem dX4_setImprovement_17 : decode cX4_setImprovement 17 = .ok (.aload_n 0, 1) := dk_42 (dk_at dksX4_setImprovement_0 17 rfl rfl)
theorem dX4_setImprovement_18 : decode cX4_setImprovement 18 = .ok (.iconst 1, 1) := dk_4 (dk_at dksX4_setImprovement_0 18 rfl rfl)
theorem dX4_setImprovement_19 : decode cX4_setImprovement 19 = .ok (.invokevirtual 342, 3) := dk_182 1 86 (dk_at dksX4_setImprovement_0 19 rfl rfl)
theorem dX4_setImprovement_22 : decode cX4_setImprovement 22 = .ok (.ireturn, 1) := dk_172 (dk_at dksX4_setImprovement_0 22 rfl rfl)
theorem dX4_setImprovement_23 : decode cX4_setImprovement 23 = .ok (.aload_n 0, 1) := dk_42 (dk_at dksX4_setImprovement_0 23 rfl rfl)
theorem dX4_setImprovement_24 : decode cX4_setImprovement 24 = .ok (.iconst 0, 1) := dk_3 (dk_at dksX4_setImprovement_1 0 rfl rfl)
theorem dX4_setImprovement_25 : decode cX4_setImprovement 25 = .ok (.invokevirtual 259, 3) := dk_182 1 3 (dk_at dksX4_setImprovement_1 1 rfl rfl)
theorem dX4_setImprovement_28 : decode cX4_setImprovement 28 = .ok (.lstore_n 2, 1) := dk_65 (dk_at dksX4_setImprovement_1 4 rfl rfl)
theorem dX4_setImprovement_29 : decode cX4_setImprovement 29 = .ok (.aload_n 0, 1) := dk_42 (dk_at dksX4_setImprovement_1 5 rfl rfl)
theorem dX4_setImprovement_30 : decode cX4_setImprovement 30 = .ok (.getfield 121, 3) := dk_180 0 121 (dk_at dksX4_setImprovement_1 6 rfl rfl)
theorem dX4_setImprovement_33 : decode cX4_setImprovement 33 = .ok (.istore 4, 2) := dk_54 4 (dk_at dksX4_setImprovement_1 9 rfl rfl)
theorem dX4_setImprovement_35 : decode cX4_setImprovement 35 = .ok (.aload_n 0, 1) := dk_42 (dk_at dksX4_setImprovement_1 11 rfl rfl)
theorem dX4_setImprovement_36 : decode cX4_setImprovement 36 = .ok (.iload_n 1, 1) := dk_27 (dk_at dksX4_setImprovement_1 12 rfl rfl)
theorem dX4_setImprovement_37 : decode cX4_setImprovement 37 = .ok (.putfield 121, 3) := dk_181 0 121 (dk_at dksX4_setImprovement_1 13 rfl rfl)
theorem dX4_setImprovement_40 : decode cX4_setImprovement 40 = .ok (.aload_n 0, 1) := dk_42 (dk_at dksX4_setImprovement_1 16 rfl rfl)
theorem dX4_setImprovement_41 : decode cX4_setImprovement 41 = .ok (.getfield 24, 3) := dk_180 0 24 (dk_at dksX4_setImprovement_1 17 rfl rfl)
theorem dX4_setImprovement_44 : decode cX4_setImprovement 44 = .ok (.bipush 6, 2) := dk_16 6 (dk_at dksX4_setImprovement_1 20 rfl rfl)
theorem dX4_setImprovement_46 : decode cX4_setImprovement 46 = .ok (.dup2, 1) := dk_92 (dk_at dksX4_setImprovement_1 22 rfl rfl)
theorem dX4_setImprovement_47 : decode cX4_setImprovement 47 = .ok (.laload, 1) := dk_47 (dk_at dksX4_setImprovement_1 23 rfl rfl)
theorem dX4_setImprovement_48 : decode cX4_setImprovement 48 = .ok (.aload_n 0, 1) := dk_42 (dk_at dksX4_setImprovement_2 0 rfl rfl)
theorem dX4_setImprovement_49 : decode cX4_setImprovement 49 = .ok (.iconst 0, 1) := dk_3 (dk_at dksX4_setImprovement_2 1 rfl rfl)
theorem dX4_setImprovement_50 : decode cX4_setImprovement 50 = .ok (.invokevirtual 259, 3) := dk_182 1 3 (dk_at dksX4_setImprovement_2 2 rfl rfl)
theorem dX4_setImprovement_53 : decode cX4_setImprovement 53 = .ok (.lload_n 2, 1) := dk_32 (dk_at dksX4_setImprovement_2 5 rfl rfl)
theorem dX4_setImprovement_54 : decode cX4_setImprovement 54 = .ok (.lsub, 1) := dk_101 (dk_at dksX4_setImprovement_2 6 rfl rfl)
theorem dX4_setImprovement_55 : decode cX4_setImprovement 55 = .ok (.lsub, 1) := dk_101 (dk_at dksX4_setImprovement_2 7 rfl rfl)
theorem dX4_setImprovement_56 : decode cX4_setImprovement 56 = .ok (.lastore, 1) := dk_80 (dk_at dksX4_setImprovement_2 8 rfl rfl)
theorem dX4_setImprovement_57 : decode cX4_setImprovement 57 = .ok (.iload 4, 2) := dk_21 4 (dk_at dksX4_setImprovement_2 9 rfl rfl)
theorem dX4_setImprovement_59 : decode cX4_setImprovement 59 = .ok (.ireturn, 1) := dk_172 (dk_at dksX4_setImprovement_2 11 rfl rfl)
abbrev cX4_setLoading : ByteArray := prog_12_method_47_code
def yX4_setLoading : MethodName := ⟨RX4, "setLoading", "(II)I"⟩
def dkwX4_setLoading_2 : List UInt8 := [181, 0, 127, 29, 172]
abbrev dktX4_setLoading_2 : List UInt8 := dkwX4_setLoading_2 ++ []
def dkwX4_setLoading_1 : List UInt8 := [184, 0, 168, 154, 0, 9, 42, 4, 182, 1, 86, 172, 42, 180, 0, 124, 62, 42, 27, 181, 0, 124, 42, 28]
abbrev dktX4_setLoading_1 : List UInt8 := dkwX4_setLoading_1 ++ dktX4_setLoading_2
def dkwX4_setLoading_0 : List UInt8 := [42, 3, 181, 0, 1, 27, 133, 9, 20, 1, 97, 184, 0, 168, 153, 0, 15, 28, 133, 9, 20, 0, 194]
abbrev dktX4_setLoading_0 : List UInt8 := dkwX4_setLoading_0 ++ dktX4_setLoading_1
theorem dksX4_setLoading_0 : cX4_setLoading.data.toList.drop 0 = dktX4_setLoading_0 := by decide +kernel
theorem dksX4_setLoading_1 : cX4_setLoading.data.toList.drop 23 = dktX4_setLoading_1 := dk_seg dksX4_setLoading_0 23 rfl rfl
theorem dksX4_setLoading_2 : cX4_setLoading.data.toList.drop 47 = dktX4_setLoading_2 := dk_seg dksX4_setLoading_1 24 rfl rfl
theorem dX4_setLoading_0 : decode cX4_setLoading 0 = .ok (.aload_n 0, 1) := dk_42 (dk_at dksX4_setLoading_0 0 rfl rfl)
theorem dX4_setLoading_1 : decode cX4_setLoading 1 = .ok (.iconst 0, 1) := dk_3 (dk_at dksX4_setLoading_0 1 rfl rfl)
theorem dX4_setLoading_2 : decode cX4_setLoading 2 = .ok (.putfield 1, 3) := dk_181 0 1 (dk_at dksX4_setLoading_0 2 rfl rfl)
theorem dX4_setLoading_5 : decode cX4_setLoading 5 = .ok (.iload_n 1, 1) := dk_27 (dk_at dksX4_setLoading_0 5 rfl rfl)
theorem dX4_setLoading_6 : decode cX4_setLoading 6 = .ok (.i2l, 1) := dk_133 (dk_at dksX4_setLoading_0 6 rfl rfl)
theorem dX4_setLoading_7 : decode cX4_setLoading 7 = .ok (.lconst 0, 1) := dk_9 (dk_at dksX4_setLoading_0 7 rfl rfl)
theorem dX4_setLoading_8 : decode cX4_setLoading 8 = .ok (.ldc2_w 353, 3) := dk_20 1 97 (dk_at dksX4_setLoading_0 8 rfl rfl)
theorem dX4_setLoading_11 : decode cX4_setLoading 11 = .ok (.invokestatic 168, 3) := dk_184 0 168 (dk_at dksX4_setLoading_0 11 rfl rfl)
theorem dX4_setLoading_14 : decode cX4_setLoading 14 = .ok (.ifCond .eq 15, 3) := dk_153 0 15 (dk_at dksX4_setLoading_0 14 rfl rfl)
theorem dX4_setLoading_17 : decode cX4_setLoading 17 = .ok (.iload_n 2, 1) := dk_28 (dk_at dksX4_setLoading_0 17 rfl rfl)
theorem dX4_setLoading_18 : decode cX4_setLoading 18 = .ok (.i2l, 1) := dk_133 (dk_at dksX4_setLoading_0 18 rfl rfl)
theorem dX4_setLoading_19 : decode cX4_setLoading 19 = .ok (.lconst 0, 1) := dk_9 (dk_at dksX4_setLoading_0 19 rfl rfl)
theorem dX4_setLoading_20 : decode cX4_setLoading 20 = .ok (.ldc2_w 194, 3) := dk_20 0 194 (dk_at dksX4_setLoading_0 20 rfl rfl)
theorem dX4_setLoading_23 : decode cX4_setLoading 23 = .ok (.invokestatic 168, 3) := dk_184 0 168 (dk_at dksX4_setLoading_1 0 rfl rfl)
theorem dX4_setLoading_26 : decode cX4_setLoading 26 = .ok (.ifCond .ne 9, 3) := dk_154 0 9 (dk_at dksX4_setLoading_1 3 rfl rfl)
theorem dX4_setLoading_29 : decode cX4_setLoading 29 = .ok (.aload_n 0, 1) := dk_42 (dk_at dksX4_setLoading_1 6 rfl rfl)
theorem dX4_setLoading_30 : decode cX4_setLoading 30 = .ok (.iconst 1, 1) := dk_4 (dk_at dksX4_setLoading_1 7 rfl rfl)
theorem dX4_setLoading_31 : decode cX4_setLoading 31 = .ok (.invokevirtual 342, 3) := dk_182 1 86 (dk_at dksX4_setLoading_1 8 rfl rfl)
theorem dX4_setLoading_34 : decode cX4_setLoading 34 = .ok (.ireturn, 1) := dk_172 (dk_at dksX4_setLoading_1 11 rfl rfl)
theorem dX4_setLoading_35 : decode cX4_setLoading 35 = .ok (.aload_n 0, 1) := dk_42 (dk_at dksX4_setLoading_1 12 rfl rfl)
theorem dX4_setLoading_36 : decode cX4_setLoading 36 = .ok (.getfield 124, 3) := dk_180 0 124 (dk_at dksX4_setLoading_1 13 rfl rfl)
theorem dX4_setLoading_39 : decode cX4_setLoading 39 = .ok (.istore_n 3, 1) := dk_62 (dk_at dksX4_setLoading_1 16 rfl rfl)
theorem dX4_setLoading_40 : decode cX4_setLoading 40 = .ok (.aload_n 0, 1) := dk_42 (dk_at dksX4_setLoading_1 17 rfl rfl)
theorem dX4_setLoading_41 : decode cX4_setLoading 41 = .ok (.iload_n 1, 1) := dk_27 (dk_at dksX4_setLoading_1 18 rfl rfl)
theorem dX4_setLoading_42 : decode cX4_setLoading 42 = .ok (.putfield 124, 3) := dk_181 0 124 (dk_at dksX4_setLoading_1 19 rfl rfl)
theorem dX4_setLoading_45 : decode cX4_setLoading 45 = .ok (.aload_n 0, 1) := dk_42 (dk_at dksX4_setLoading_1 22 rfl rfl)
theorem dX4_setLoading_46 : decode cX4_setLoading 46 = .ok (.iload_n 2, 1) := dk_28 (dk_at dksX4_setLoading_1 23 rfl rfl)
theorem dX4_setLoading_47 : decode cX4_setLoading 47 = .ok (.putfield 127, 3) := dk_181 0 127 (dk_at dksX4_setLoading_2 0 rfl rfl)
theorem dX4_setLoading_50 : decode cX4_setLoading 50 = .ok (.iload_n 3, 1) := dk_29 (dk_at dksX4_setLoading_2 3 rfl rfl)
theorem dX4_setLoading_51 : decode cX4_setLoading 51 = .ok (.ireturn, 1) := dk_172 (dk_at dksX4_setLoading_2 4 rfl rfl)
abbrev cX4_mortality : ByteArray := prog_12_method_48_code
def yX4_mortality : MethodName := ⟨RX4, "mortality", "(IIIII)I"⟩
def dkwX4_mortality_3 : List UInt8 := [5, 182, 1, 86, 172, 42, 27, 28, 29, 21, 4, 21, 5, 3, 182, 0, 201, 136, 172]
abbrev dktX4_mortality_3 : List UInt8 := dkwX4_mortality_3 ++ []
def dkwX4_mortality_2 : List UInt8 := [133, 20, 1, 103, 184, 0, 168, 153, 0, 16, 21, 5, 133, 9, 20, 1, 95, 184, 0, 168, 154, 0, 9, 42]
abbrev dktX4_mortality_2 : List UInt8 := dkwX4_mortality_2 ++ dktX4_mortality_3
def dkwX4_mortality_1 : List UInt8 := [184, 0, 168, 153, 0, 44, 29, 133, 20, 1, 99, 20, 1, 101, 184, 0, 168, 153, 0, 30, 21, 4, 133, 29]
abbrev dktX4_mortality_1 : List UInt8 := dkwX4_mortality_1 ++ dktX4_mortality_2
def dkwX4_mortality_0 : List UInt8 := [42, 3, 181, 0, 1, 27, 184, 1, 90, 154, 0, 9, 42, 4, 182, 1, 86, 172, 28, 133, 9, 20, 0, 186]
abbrev dktX4_mortality_0 : List UInt8 := dkwX4_mortality_0 ++ dktX4_mortality_1
theorem dksX4_mortality_0 : cX4_mortality.data.toList.drop 0 = dktX4_mortality_0 := by decide +kernel
theorem dksX4_mortality_1 : cX4_mortality.data.toList.drop 24 = dktX4_mortality_1 := dk_seg dksX4_mortality_0 24 rfl rfl
theorem dksX4_mortality_2 : cX4_mortality.data.toList.drop 48 = dktX4_mortality_2 := dk_seg dksX4_mortality_1 24 rfl rfl
theorem dksX4_mortality_3 : cX4_mortality.data.toList.drop 72 = dktX4_mortality_3 := dk_seg dksX4_mortality_2 24 rfl rfl
theorem dX4_mortality_0 : decode cX4_mortality 0 = .ok (.aload_n 0, 1) := dk_42 (dk_at dksX4_mortality_0 0 rfl rfl)
theorem dX4_mortality_1 : decode cX4_mortality 1 = .ok (.iconst 0, 1) := dk_3 (dk_at dksX4_mortality_0 1 rfl rfl)
theorem dX4_mortality_2 : decode cX4_mortality 2 = .ok (.putfield 1, 3) := dk_181 0 1 (dk_at dksX4_mortality_0 2 rfl rfl)
theorem dX4_mortality_5 : decode cX4_mortality 5 = .ok (.iload_n 1, 1) := dk_27 (dk_at dksX4_mortality_0 5 rfl rfl)
theorem dX4_mortality_6 : decode cX4_mortality 6 = .ok (.invokestatic 346, 3) := dk_184 1 90 (dk_at dksX4_mortality_0 6 rfl rfl)
theorem dX4_mortality_9 : decode cX4_mortality 9 = .ok (.ifCond .ne 9, 3) := dk_154 0 9 (dk_at dksX4_mortality_0 9 rfl rfl)
theorem dX4_mortality_12 : decode cX4_mortality 12 = .ok (.aload_n 0, 1) := dk_42 (dk_at dksX4_mortality_0 12 rfl rfl)
theorem dX4_mortality_13 : decode cX4_mortality 13 = .ok (.iconst 1, 1) := dk_4 (dk_at dksX4_mortality_0 13 rfl rfl)
theorem dX4_mortality_14 : decode cX4_mortality 14 = .ok (.invokevirtual 342, 3) := dk_182 1 86 (dk_at dksX4_mortality_0 14 rfl rfl)
theorem dX4_mortality_17 : decode cX4_mortality 17 = .ok (.ireturn, 1) := dk_172 (dk_at dksX4_mortality_0 17 rfl rfl)
theorem dX4_mortality_18 : decode cX4_mortality 18 = .ok (.iload_n 2, 1) := dk_28 (dk_at dksX4_mortality_0 18 rfl rfl)
theorem dX4_mortality_19 : decode cX4_mortality 19 = .ok (.i2l, 1) := dk_133 (dk_at dksX4_mortality_0 19 rfl rfl)
theorem dX4_mortality_20 : decode cX4_mortality 20 = .ok (.lconst 0, 1) := dk_9 (dk_at dksX4_mortality_0 20 rfl rfl)
theorem dX4_mortality_21 : decode cX4_mortality 21 = .ok (.ldc2_w 186, 3) := dk_20 0 186 (dk_at dksX4_mortality_0 21 rfl rfl)
theorem dX4_mortality_24 : decode cX4_mortality 24 = .ok (.invokestatic 168, 3) := dk_184 0 168 (dk_at dksX4_mortality_1 0 rfl rfl)
theorem dX4_mortality_27 : decode cX4_mortality 27 = .ok (.ifCond .eq 44, 3) := dk_153 0 44 (dk_at dksX4_mortality_1 3 rfl rfl)
theorem dX4_mortality_30 : decode cX4_mortality 30 = .ok (.iload_n 3, 1) := dk_29 (dk_at dksX4_mortality_1 6 rfl rfl)
theorem dX4_mortality_31 : decode cX4_mortality 31 = .ok (.i2l, 1) := dk_133 (dk_at dksX4_mortality_1 7 rfl rfl)
theorem dX4_mortality_32 : decode cX4_mortality 32 = .ok (.ldc2_w 355, 3) := dk_20 1 99 (dk_at dksX4_mortality_1 8 rfl rfl)
theorem dX4_mortality_35 : decode cX4_mortality 35 = .ok (.ldc2_w 357, 3) := dk_20 1 101 (dk_at dksX4_mortality_1 11 rfl rfl)
theorem dX4_mortality_38 : decode cX4_mortality 38 = .ok (.invokestatic 168, 3) := dk_184 0 168 (dk_at dksX4_mortality_1 14 rfl rfl)
theorem dX4_mortality_41 : decode cX4_mortality 41 = .ok (.ifCond .eq 30, 3) := dk_153 0 30 (dk_at dksX4_mortality_1 17 rfl rfl)
theorem dX4_mortality_44 : decode cX4_mortality 44 = .ok (.iload 4, 2) := dk_21 4 (dk_at dksX4_mortality_1 20 rfl rfl)
theorem dX4_mortality_46 : decode cX4_mortality 46 = .ok (.i2l, 1) := dk_133 (dk_at dksX4_mortality_1 22 rfl rfl)
theorem dX4_mortality_47 : decode cX4_mortality 47 = .ok (.iload_n 3, 1) := dk_29 (dk_at dksX4_mortality_1 23 rfl rfl)
theorem dX4_mortality_48 : decode cX4_mortality 48 = .ok (.i2l, 1) := dk_133 (dk_at dksX4_mortality_2 0 rfl rfl)
theorem dX4_mortality_49 : decode cX4_mortality 49 = .ok (.ldc2_w 359, 3) := dk_20 1 103 (dk_at dksX4_mortality_2 1 rfl rfl)
theorem dX4_mortality_52 : decode cX4_mortality 52 = .ok (.invokestatic 168, 3) := dk_184 0 168 (dk_at dksX4_mortality_2 4 rfl rfl)
theorem dX4_mortality_55 : decode cX4_mortality 55 = .ok (.ifCond .eq 16, 3) := dk_153 0 16 (dk_at dksX4_mortality_2 7 rfl rfl)
theorem dX4_mortality_58 : decode cX4_mortality 58 = .ok (.iload 5, 2) := dk_21 5 (dk_at dksX4_mortality_2 10 rfl rfl)
theorem dX4_mortality_60 : decode cX4_mortality 60 = .ok (.i2l, 1) := dk_133 (dk_at dksX4_mortality_2 12 rfl rfl)
theorem dX4_mortality_61 : decode cX4_mortality 61 = .ok (.lconst 0, 1) := dk_9 (dk_at dksX4_mortality_2 13 rfl rfl)
theorem dX4_mortality_62 : decode cX4_mortality 62 = .ok (.ldc2_w 351, 3) := dk_20 1 95 (dk_at dksX4_mortality_2 14 rfl rfl)
theorem dX4_mortality_65 : decode cX4_mortality 65 = .ok (.invokestatic 168, 3) := dk_184 0 168 (dk_at dksX4_mortality_2 17 rfl rfl)
theorem dX4_mortality_68 : decode cX4_mortality 68 = .ok (.ifCond .ne 9, 3) := dk_154 0 9 (dk_at dksX4_mortality_2 20 rfl rfl)
theorem dX4_mortality_71 : decode cX4_mortality 71 = .ok (.aload_n 0, 1) := dk_42 (dk_at dksX4_mortality_2 23 rfl rfl)
theorem dX4_mortality_72 : decode cX4_mortality 72 = .ok (.iconst 2, 1) := dk_5 (dk_at dksX4_mortality_3 0 rfl rfl)
theorem dX4_mortality_73 : decode cX4_mortality 73 = .ok (.invokevirtual 342, 3) := dk_182 1 86 (dk_at dksX4_mortality_3 1 rfl rfl)
theorem dX4_mortality_76 : decode cX4_mortality 76 = .ok (.ireturn, 1) := dk_172 (dk_at dksX4_mortality_3 4 rfl rfl)
theorem dX4_mortality_77 : decode cX4_mortality 77 = .ok (.aload_n 0, 1) := dk_42 (dk_at dksX4_mortality_3 5 rfl rfl)
theorem dX4_mortality_78 : decode cX4_mortality 78 = .ok (.iload_n 1, 1) := dk_27 (dk_at dksX4_mortality_3 6 rfl rfl)
theorem dX4_mortality_79 : decode cX4_mortality 79 = .ok (.iload_n 2, 1) := dk_28 (dk_at dksX4_mortality_3 7 rfl rfl)
theorem dX4_mortality_80 : decode cX4_mortality 80 = .ok (.iload_n 3, 1) := dk_29 (dk_at dksX4_mortality_3 8 rfl rfl)
theorem dX4_mortality_81 : decode cX4_mortality 81 = .ok (.iload 4, 2) := dk_21 4 (dk_at dksX4_mortality_3 9 rfl rfl)
theorem dX4_mortality_83 : decode cX4_mortality 83 = .ok (.iload 5, 2) := dk_21 5 (dk_at dksX4_mortality_3 11 rfl rfl)
theorem dX4_mortality_85 : decode cX4_mortality 85 = .ok (.iconst 0, 1) := dk_3 (dk_at dksX4_mortality_3 13 rfl rfl)
theorem dX4_mortality_86 : decode cX4_mortality 86 = .ok (.invokevirtual 201, 3) := dk_182 0 201 (dk_at dksX4_mortality_3 14 rfl rfl)
theorem dX4_mortality_89 : decode cX4_mortality 89 = .ok (.l2i, 1) := dk_136 (dk_at dksX4_mortality_3 17 rfl rfl)
theorem dX4_mortality_90 : decode cX4_mortality 90 = .ok (.ireturn, 1) := dk_172 (dk_at dksX4_mortality_3 18 rfl rfl)
abbrev cX4_money : ByteArray := prog_12_method_49_code
def yX4_money : MethodName := ⟨RX4, "money", "(I)J"⟩
def dkwX4_money_4 : List UInt8 := [173]
abbrev dktX4_money_4 : List UInt8 := dkwX4_money_4 ++ []
def dkwX4_money_3 : List UInt8 := [42, 182, 1, 0, 173, 42, 180, 0, 117, 173, 42, 182, 1, 105, 173, 42, 182, 0, 252, 173, 42, 180, 0, 165]
abbrev dktX4_money_3 : List UInt8 := dkwX4_money_3 ++ dktX4_money_4
def dkwX4_money_2 : List UInt8 := [170, 0, 0, 0, 0, 0, 51, 0, 0, 0, 0, 0, 0, 0, 3, 0, 0, 0, 31, 0, 0, 0, 36, 0, 0, 0, 41, 0, 0, 0, 46]
abbrev dktX4_money_2 : List UInt8 := dkwX4_money_2 ++ dktX4_money_3
def dkwX4_money_1 : List UInt8 := [27]
abbrev dktX4_money_1 : List UInt8 := dkwX4_money_1 ++ dktX4_money_2
def dkwX4_money_0 : List UInt8 := [42, 3, 181, 0, 1, 27, 133, 9, 20, 0, 182, 184, 0, 168, 154, 0, 10, 42, 4, 182, 1, 86, 133, 173]
abbrev dktX4_money_0 : List UInt8 := dkwX4_money_0 ++ dktX4_money_1
theorem dksX4_money_0 : cX4_money.data.toList.drop 0 = dktX4_money_0 := by decide +kernel
theorem dksX4_money_1 : cX4_money.data.toList.drop 24 = dktX4_money_1 := dk_seg dksX4_money_0 24 rfl rfl
theorem dksX4_money_2 : cX4_money.data.toList.drop 25 = dktX4_money_2 := dk_seg dksX4_money_1 1 rfl rfl
theorem dksX4_money_3 : cX4_money.data.toList.drop 56 = dktX4_money_3 := dk_seg dksX4_money_2 31 rfl rfl
theorem dksX4_money_4 : cX4_money.data.toList.drop 80 = dktX4_money_4 := dk_seg dksX4_money_3 24 rfl rfl
theorem dX4_money_0 : decode cX4_money 0 = .ok (.aload_n 0, 1) := dk_42 (dk_at dksX4_money_0 0 rfl rfl)
theorem dX4_money_1 : decode cX4_money 1 = .ok (.iconst 0, 1) := dk_3 (dk_at dksX4_money_0 1 rfl rfl)
theorem dX4_money_2 : decode cX4_money 2 = .ok (.putfield 1, 3) := dk_181 0 1 (dk_at dksX4_money_0 2 rfl rfl)
theorem dX4_money_5 : decode cX4_money 5 = .ok (.iload_n 1, 1) := dk_27 (dk_at dksX4_money_0 5 rfl rfl)
theorem dX4_money_6 : decode cX4_money 6 = .ok (.i2l, 1) := dk_133 (dk_at dksX4_money_0 6 rfl rfl)
theorem dX4_money_7 : decode cX4_money 7 = .ok (.lconst 0, 1) := dk_9 (dk_at dksX4_money_0 7 rfl rfl)
theorem dX4_money_8 : decode cX4_money 8 = .ok (.ldc2_w 182, 3) := dk_20 0 182 (dk_at dksX4_money_0 8 rfl rfl)
theorem dX4_money_11 : decode cX4_money 11 = .ok (.invokestatic 168, 3) := dk_184 0 168 (dk_at dksX4_money_0 11 rfl rfl)
theorem dX4_money_14 : decode cX4_money 14 = .ok (.ifCond .ne 10, 3) := dk_154 0 10 (dk_at dksX4_money_0 14 rfl rfl)
theorem dX4_money_17 : decode cX4_money 17 = .ok (.aload_n 0, 1) := dk_42 (dk_at dksX4_money_0 17 rfl rfl)
theorem dX4_money_18 : decode cX4_money 18 = .ok (.iconst 1, 1) := dk_4 (dk_at dksX4_money_0 18 rfl rfl)
theorem dX4_money_19 : decode cX4_money 19 = .ok (.invokevirtual 342, 3) := dk_182 1 86 (dk_at dksX4_money_0 19 rfl rfl)
theorem dX4_money_22 : decode cX4_money 22 = .ok (.i2l, 1) := dk_133 (dk_at dksX4_money_0 22 rfl rfl)
theorem dX4_money_23 : decode cX4_money 23 = .ok (.lreturn, 1) := dk_173 (dk_at dksX4_money_0 23 rfl rfl)
theorem dX4_money_24 : decode cX4_money 24 = .ok (.iload_n 1, 1) := dk_27 (dk_at dksX4_money_1 0 rfl rfl)
theorem dX4_money_25 : decode cX4_money 25 = .ok (.tableswitch 51 0 3 #[31, 36, 41, 46], 31) := by decide +kernel
theorem dX4_money_56 : decode cX4_money 56 = .ok (.aload_n 0, 1) := dk_42 (dk_at dksX4_money_3 0 rfl rfl)
theorem dX4_money_57 : decode cX4_money 57 = .ok (.invokevirtual 256, 3) := dk_182 1 0 (dk_at dksX4_money_3 1 rfl rfl)
theorem dX4_money_60 : decode cX4_money 60 = .ok (.lreturn, 1) := dk_173 (dk_at dksX4_money_3 4 rfl rfl)
theorem dX4_money_61 : decode cX4_money 61 = .ok (.aload_n 0, 1) := dk_42 (dk_at dksX4_money_3 5 rfl rfl)
theorem dX4_money_62 : decode cX4_money 62 = .ok (.getfield 117, 3) := dk_180 0 117 (dk_at dksX4_money_3 6 rfl rfl)
theorem dX4_money_65 : decode cX4_money 65 = .ok (.lreturn, 1) := dk_173 (dk_at dksX4_money_3 9 rfl rfl)
theorem dX4_money_66 : decode cX4_money 66 = .ok (.aload_n 0, 1) := dk_42 (dk_at dksX4_money_3 10 rfl rfl)
theorem dX4_money_67 : decode cX4_money 67 = .ok (.invokevirtual 361, 3) := dk_182 1 105 (dk_at dksX4_money_3 11 rfl rfl)
theorem dX4_money_70 : decode cX4_money 70 = .ok (.lreturn, 1) := dk_173 (dk_at dksX4_money_3 14 rfl rfl)
theorem dX4_money_71 : decode cX4_money 71 = .ok (.aload_n 0, 1) := dk_42 (dk_at dksX4_money_3 15 rfl rfl)
theorem dX4_money_72 : decode cX4_money 72 = .ok (.invokevirtual 252, 3) := dk_182 0 252 (dk_at dksX4_money_3 16 rfl rfl)
theorem dX4_money_75 : decode cX4_money 75 = .ok (.lreturn, 1) := dk_173 (dk_at dksX4_money_3 19 rfl rfl)
theorem dX4_money_76 : decode cX4_money 76 = .ok (.aload_n 0, 1) := dk_42 (dk_at dksX4_money_3 20 rfl rfl)
theorem dX4_money_77 : decode cX4_money 77 = .ok (.getfield 165, 3) := dk_180 0 165 (dk_at dksX4_money_3 21 rfl rfl)
theorem dX4_money_80 : decode cX4_money 80 = .ok (.lreturn, 1) := dk_173 (dk_at dksX4_money_4 0 rfl rfl)
abbrev cX4_fund : ByteArray := prog_12_method_21_code
def yX4_fund : MethodName := ⟨RX4, "fund", "()J"⟩
def dkwX4_fund_1 : List UInt8 := [180, 0, 91, 29, 46, 133, 97, 64, 132, 3, 1, 167, 255, 235, 31, 173]
abbrev dktX4_fund_1 : List UInt8 := dkwX4_fund_1 ++ []
def dkwX4_fund_0 : List UInt8 := [42, 180, 0, 117, 42, 182, 0, 252, 97, 64, 3, 62, 29, 42, 180, 0, 149, 162, 0, 19, 31, 42]
abbrev dktX4_fund_0 : List UInt8 := dkwX4_fund_0 ++ dktX4_fund_1
theorem dksX4_fund_0 : cX4_fund.data.toList.drop 0 = dktX4_fund_0 := by decide +kernel
theorem dksX4_fund_1 : cX4_fund.data.toList.drop 22 = dktX4_fund_1 := dk_seg dksX4_fund_0 22 rfl rfl
theorem dX4_fund_0 : decode cX4_fund 0 = .ok (.aload_n 0, 1) := dk_42 (dk_at dksX4_fund_0 0 rfl rfl)
theorem dX4_fund_1 : decode cX4_fund 1 = .ok (.getfield 117, 3) := dk_180 0 117 (dk_at dksX4_fund_0 1 rfl rfl)
theorem dX4_fund_4 : decode cX4_fund 4 = .ok (.aload_n 0, 1) := dk_42 (dk_at dksX4_fund_0 4 rfl rfl)
theorem dX4_fund_5 : decode cX4_fund 5 = .ok (.invokevirtual 252, 3) := dk_182 0 252 (dk_at dksX4_fund_0 5 rfl rfl)
theorem dX4_fund_8 : decode cX4_fund 8 = .ok (.ladd, 1) := dk_97 (dk_at dksX4_fund_0 8 rfl rfl)
theorem dX4_fund_9 : decode cX4_fund 9 = .ok (.lstore_n 1, 1) := dk_64 (dk_at dksX4_fund_0 9 rfl rfl)
theorem dX4_fund_10 : decode cX4_fund 10 = .ok (.iconst 0, 1) := dk_3 (dk_at dksX4_fund_0 10 rfl rfl)
theorem dX4_fund_11 : decode cX4_fund 11 = .ok (.istore_n 3, 1) := dk_62 (dk_at dksX4_fund_0 11 rfl rfl)
theorem dX4_fund_12 : decode cX4_fund 12 = .ok (.iload_n 3, 1) := dk_29 (dk_at dksX4_fund_0 12 rfl rfl)
theorem dX4_fund_13 : decode cX4_fund 13 = .ok (.aload_n 0, 1) := dk_42 (dk_at dksX4_fund_0 13 rfl rfl)
theorem dX4_fund_14 : decode cX4_fund 14 = .ok (.getfield 149, 3) := dk_180 0 149 (dk_at dksX4_fund_0 14 rfl rfl)
theorem dX4_fund_17 : decode cX4_fund 17 = .ok (.if_icmp .ge 19, 3) := dk_162 0 19 (dk_at dksX4_fund_0 17 rfl rfl)
theorem dX4_fund_20 : decode cX4_fund 20 = .ok (.lload_n 1, 1) := dk_31 (dk_at dksX4_fund_0 20 rfl rfl)
theorem dX4_fund_21 : decode cX4_fund 21 = .ok (.aload_n 0, 1) := dk_42 (dk_at dksX4_fund_0 21 rfl rfl)
theorem dX4_fund_22 : decode cX4_fund 22 = .ok (.getfield 91, 3) := dk_180 0 91 (dk_at dksX4_fund_1 0 rfl rfl)
theorem dX4_fund_25 : decode cX4_fund 25 = .ok (.iload_n 3, 1) := dk_29 (dk_at dksX4_fund_1 3 rfl rfl)
theorem dX4_fund_26 : decode cX4_fund 26 = .ok (.iaload, 1) := dk_46 (dk_at dksX4_fund_1 4 rfl rfl)
theorem dX4_fund_27 : decode cX4_fund 27 = .ok (.i2l, 1) := dk_133 (dk_at dksX4_fund_1 5 rfl rfl)
theorem dX4_fund_28 : decode cX4_fund 28 = .ok (.ladd, 1) := dk_97 (dk_at dksX4_fund_1 6 rfl rfl)
theorem dX4_fund_29 : decode cX4_fund 29 = .ok (.lstore_n 1, 1) := dk_64 (dk_at dksX4_fund_1 7 rfl rfl)
theorem dX4_fund_30 : decode cX4_fund 30 = .ok (.iinc 3 1, 3) := dk_132 3 1 (dk_at dksX4_fund_1 8 rfl rfl)
theorem dX4_fund_33 : decode cX4_fund 33 = .ok (.goto (-21), 3) := dk_167 255 235 (dk_at dksX4_fund_1 11 rfl rfl)
theorem dX4_fund_36 : decode cX4_fund 36 = .ok (.lload_n 1, 1) := dk_31 (dk_at dksX4_fund_1 14 rfl rfl)
theorem dX4_fund_37 : decode cX4_fund 37 = .ok (.lreturn, 1) := dk_173 (dk_at dksX4_fund_1 15 rfl rfl)
abbrev cX4_loans : ByteArray := prog_12_method_20_code
def yX4_loans : MethodName := ⟨RX4, "loans", "()J"⟩
def dkwX4_loans_1 : List UInt8 := [167, 255, 236, 31, 173]
abbrev dktX4_loans_1 : List UInt8 := dkwX4_loans_1 ++ []
def dkwX4_loans_0 : List UInt8 := [9, 64, 3, 62, 29, 42, 180, 0, 146, 162, 0, 18, 31, 42, 180, 0, 76, 29, 47, 97, 64, 132, 3, 1]
abbrev dktX4_loans_0 : List UInt8 := dkwX4_loans_0 ++ dktX4_loans_1
theorem dksX4_loans_0 : cX4_loans.data.toList.drop 0 = dktX4_loans_0 := by decide +kernel
theorem dksX4_loans_1 : cX4_loans.data.toList.drop 24 = dktX4_loans_1 := dk_seg dksX4_loans_0 24 rfl rfl
theorem dX4_loans_0 : decode cX4_loans 0 = .ok (.lconst 0, 1) := dk_9 (dk_at dksX4_loans_0 0 rfl rfl)
theorem dX4_loans_1 : decode cX4_loans 1 = .ok (.lstore_n 1, 1) := dk_64 (dk_at dksX4_loans_0 1 rfl rfl)
theorem dX4_loans_2 : decode cX4_loans 2 = .ok (.iconst 0, 1) := dk_3 (dk_at dksX4_loans_0 2 rfl rfl)
theorem dX4_loans_3 : decode cX4_loans 3 = .ok (.istore_n 3, 1) := dk_62 (dk_at dksX4_loans_0 3 rfl rfl)
theorem dX4_loans_4 : decode cX4_loans 4 = .ok (.iload_n 3, 1) := dk_29 (dk_at dksX4_loans_0 4 rfl rfl)
theorem dX4_loans_5 : decode cX4_loans 5 = .ok (.aload_n 0, 1) := dk_42 (dk_at dksX4_loans_0 5 rfl rfl)
theorem dX4_loans_6 : decode cX4_loans 6 = .ok (.getfield 146, 3) := dk_180 0 146 (dk_at dksX4_loans_0 6 rfl rfl)
theorem dX4_loans_9 : decode cX4_loans 9 = .ok (.if_icmp .ge 18, 3) := dk_162 0 18 (dk_at dksX4_loans_0 9 rfl rfl)
theorem dX4_loans_12 : decode cX4_loans 12 = .ok (.lload_n 1, 1) := dk_31 (dk_at dksX4_loans_0 12 rfl rfl)
theorem dX4_loans_13 : decode cX4_loans 13 = .ok (.aload_n 0, 1) := dk_42 (dk_at dksX4_loans_0 13 rfl rfl)
theorem dX4_loans_14 : decode cX4_loans 14 = .ok (.getfield 76, 3) := dk_180 0 76 (dk_at dksX4_loans_0 14 rfl rfl)
theorem dX4_loans_17 : decode cX4_loans 17 = .ok (.iload_n 3, 1) := dk_29 (dk_at dksX4_loans_0 17 rfl rfl)
theorem dX4_loans_18 : decode cX4_loans 18 = .ok (.laload, 1) := dk_47 (dk_at dksX4_loans_0 18 rfl rfl)
theorem dX4_loans_19 : decode cX4_loans 19 = .ok (.ladd, 1) := dk_97 (dk_at dksX4_loans_0 19 rfl rfl)
theorem dX4_loans_20 : decode cX4_loans 20 = .ok (.lstore_n 1, 1) := dk_64 (dk_at dksX4_loans_0 20 rfl rfl)
theorem dX4_loans_21 : decode cX4_loans 21 = .ok (.iinc 3 1, 3) := dk_132 3 1 (dk_at dksX4_loans_0 21 rfl rfl)
theorem dX4_loans_24 : decode cX4_loans 24 = .ok (.goto (-20), 3) := dk_167 255 236 (dk_at dksX4_loans_1 0 rfl rfl)
theorem dX4_loans_27 : decode cX4_loans 27 = .ok (.lload_n 1, 1) := dk_31 (dk_at dksX4_loans_1 3 rfl rfl)
theorem dX4_loans_28 : decode cX4_loans 28 = .ok (.lreturn, 1) := dk_173 (dk_at dksX4_loans_1 4 rfl rfl)
abbrev cX4_estate : ByteArray := prog_12_method_22_code
def yX4_estate : MethodName := ⟨RX4, "estate", "()J"⟩
def dkwX4_estate_0 : List UInt8 := [42, 182, 1, 0, 42, 3, 182, 1, 3, 101, 173]
abbrev dktX4_estate_0 : List UInt8 := dkwX4_estate_0 ++ []
theorem dksX4_estate_0 : cX4_estate.data.toList.drop 0 = dktX4_estate_0 := by decide +kernel
theorem dX4_estate_0 : decode cX4_estate 0 = .ok (.aload_n 0, 1) := dk_42 (dk_at dksX4_estate_0 0 rfl rfl)
theorem dX4_estate_1 : decode cX4_estate 1 = .ok (.invokevirtual 256, 3) := dk_182 1 0 (dk_at dksX4_estate_0 1 rfl rfl)
theorem dX4_estate_4 : decode cX4_estate 4 = .ok (.aload_n 0, 1) := dk_42 (dk_at dksX4_estate_0 4 rfl rfl)
theorem dX4_estate_5 : decode cX4_estate 5 = .ok (.iconst 0, 1) := dk_3 (dk_at dksX4_estate_0 5 rfl rfl)
theorem dX4_estate_6 : decode cX4_estate 6 = .ok (.invokevirtual 259, 3) := dk_182 1 3 (dk_at dksX4_estate_0 6 rfl rfl)
theorem dX4_estate_9 : decode cX4_estate 9 = .ok (.lsub, 1) := dk_101 (dk_at dksX4_estate_0 9 rfl rfl)
theorem dX4_estate_10 : decode cX4_estate 10 = .ok (.lreturn, 1) := dk_173 (dk_at dksX4_estate_0 10 rfl rfl)
abbrev cX4_quote : ByteArray := prog_12_method_53_code
def yX4_quote : MethodName := ⟨RX4, "quote", "(IIIIII)J"⟩
def dkwX4_quote_1 : List UInt8 := [182, 1, 86, 133, 173, 42, 27, 28, 29, 21, 4, 21, 5, 21, 6, 182, 1, 121, 173]
abbrev dktX4_quote_1 : List UInt8 := dkwX4_quote_1 ++ []
def dkwX4_quote_0 : List UInt8 := [42, 3, 181, 0, 1, 42, 27, 28, 29, 21, 4, 21, 5, 21, 6, 182, 1, 117, 154, 0, 10, 42, 4]
abbrev dktX4_quote_0 : List UInt8 := dkwX4_quote_0 ++ dktX4_quote_1
theorem dksX4_quote_0 : cX4_quote.data.toList.drop 0 = dktX4_quote_0 := by decide +kernel
theorem dksX4_quote_1 : cX4_quote.data.toList.drop 23 = dktX4_quote_1 := dk_seg dksX4_quote_0 23 rfl rfl
theorem dX4_quote_0 : decode cX4_quote 0 = .ok (.aload_n 0, 1) := dk_42 (dk_at dksX4_quote_0 0 rfl rfl)
theorem dX4_quote_1 : decode cX4_quote 1 = .ok (.iconst 0, 1) := dk_3 (dk_at dksX4_quote_0 1 rfl rfl)
theorem dX4_quote_2 : decode cX4_quote 2 = .ok (.putfield 1, 3) := dk_181 0 1 (dk_at dksX4_quote_0 2 rfl rfl)
theorem dX4_quote_5 : decode cX4_quote 5 = .ok (.aload_n 0, 1) := dk_42 (dk_at dksX4_quote_0 5 rfl rfl)
theorem dX4_quote_6 : decode cX4_quote 6 = .ok (.iload_n 1, 1) := dk_27 (dk_at dksX4_quote_0 6 rfl rfl)
theorem dX4_quote_7 : decode cX4_quote 7 = .ok (.iload_n 2, 1) := dk_28 (dk_at dksX4_quote_0 7 rfl rfl)
theorem dX4_quote_8 : decode cX4_quote 8 = .ok (.iload_n 3, 1) := dk_29 (dk_at dksX4_quote_0 8 rfl rfl)
theorem dX4_quote_9 : decode cX4_quote 9 = .ok (.iload 4, 2) := dk_21 4 (dk_at dksX4_quote_0 9 rfl rfl)
theorem dX4_quote_11 : decode cX4_quote 11 = .ok (.iload 5, 2) := dk_21 5 (dk_at dksX4_quote_0 11 rfl rfl)
theorem dX4_quote_13 : decode cX4_quote 13 = .ok (.iload 6, 2) := dk_21 6 (dk_at dksX4_quote_0 13 rfl rfl)
theorem dX4_quote_15 : decode cX4_quote 15 = .ok (.invokevirtual 373, 3) := dk_182 1 117 (dk_at dksX4_quote_0 15 rfl rfl)
theorem dX4_quote_18 : decode cX4_quote 18 = .ok (.ifCond .ne 10, 3) := dk_154 0 10 (dk_at dksX4_quote_0 18 rfl rfl)
theorem dX4_quote_21 : decode cX4_quote 21 = .ok (.aload_n 0, 1) := dk_42 (dk_at dksX4_quote_0 21 rfl rfl)
theorem dX4_quote_22 : decode cX4_quote 22 = .ok (.iconst 1, 1) := dk_4 (dk_at dksX4_quote_0 22 rfl rfl)
theorem dX4_quote_23 : decode cX4_quote 23 = .ok (.invokevirtual 342, 3) := dk_182 1 86 (dk_at dksX4_quote_1 0 rfl rfl)
theorem dX4_quote_26 : decode cX4_quote 26 = .ok (.i2l, 1) := dk_133 (dk_at dksX4_quote_1 3 rfl rfl)
theorem dX4_quote_27 : decode cX4_quote 27 = .ok (.lreturn, 1) := dk_173 (dk_at dksX4_quote_1 4 rfl rfl)
theorem dX4_quote_28 : decode cX4_quote 28 = .ok (.aload_n 0, 1) := dk_42 (dk_at dksX4_quote_1 5 rfl rfl)
theorem dX4_quote_29 : decode cX4_quote 29 = .ok (.iload_n 1, 1) := dk_27 (dk_at dksX4_quote_1 6 rfl rfl)
theorem dX4_quote_30 : decode cX4_quote 30 = .ok (.iload_n 2, 1) := dk_28 (dk_at dksX4_quote_1 7 rfl rfl)
theorem dX4_quote_31 : decode cX4_quote 31 = .ok (.iload_n 3, 1) := dk_29 (dk_at dksX4_quote_1 8 rfl rfl)
theorem dX4_quote_32 : decode cX4_quote 32 = .ok (.iload 4, 2) := dk_21 4 (dk_at dksX4_quote_1 9 rfl rfl)
theorem dX4_quote_34 : decode cX4_quote 34 = .ok (.iload 5, 2) := dk_21 5 (dk_at dksX4_quote_1 11 rfl rfl)
theorem dX4_quote_36 : decode cX4_quote 36 = .ok (.iload 6, 2) := dk_21 6 (dk_at dksX4_quote_1 13 rfl rfl)
theorem dX4_quote_38 : decode cX4_quote 38 = .ok (.invokevirtual 377, 3) := dk_182 1 121 (dk_at dksX4_quote_1 15 rfl rfl)
theorem dX4_quote_41 : decode cX4_quote 41 = .ok (.lreturn, 1) := dk_173 (dk_at dksX4_quote_1 18 rfl rfl)
abbrev cX4_isOffer : ByteArray := prog_12_method_50_code
def yX4_isOffer : MethodName := ⟨RX4, "isOffer", "(IIIIII)Z"⟩
def dkwX4_isOffer_5 : List UInt8 := [21, 6, 133, 9, 20, 1, 112, 184, 0, 168, 153, 0, 7, 4, 167, 0, 4, 3, 172]
abbrev dktX4_isOffer_5 : List UInt8 := dkwX4_isOffer_5 ++ []
def dkwX4_isOffer_4 : List UInt8 := [21, 5, 133, 9, 27, 4, 163, 0, 9, 20, 1, 110, 167, 0, 6, 20, 0, 186, 184, 0, 168, 153, 0, 20]
abbrev dktX4_isOffer_4 : List UInt8 := dkwX4_isOffer_4 ++ dktX4_isOffer_5
def dkwX4_isOffer_3 : List UInt8 := [16, 80, 16, 110, 29, 100, 184, 0, 188, 133, 167, 0, 6, 20, 1, 108, 184, 0, 168, 154, 0, 5, 3, 172]
abbrev dktX4_isOffer_3 : List UInt8 := dkwX4_isOffer_3 ++ dktX4_isOffer_4
def dkwX4_isOffer_2 : List UInt8 := [20, 1, 37, 184, 0, 168, 153, 0, 40, 42, 180, 0, 114, 133, 21, 4, 133, 101, 9, 21, 7, 153, 0, 16]
abbrev dktX4_isOffer_2 : List UInt8 := dkwX4_isOffer_2 ++ dktX4_isOffer_3
def dkwX4_isOffer_1 : List UInt8 := [184, 0, 168, 153, 0, 66, 28, 133, 20, 0, 196, 20, 0, 180, 184, 0, 168, 153, 0, 52, 29, 133, 10]
abbrev dktX4_isOffer_1 : List UInt8 := dkwX4_isOffer_1 ++ dktX4_isOffer_2
def dkwX4_isOffer_0 : List UInt8 := [27, 4, 159, 0, 8, 27, 5, 160, 0, 7, 4, 167, 0, 4, 3, 54, 7, 27, 133, 9, 20, 0, 186]
abbrev dktX4_isOffer_0 : List UInt8 := dkwX4_isOffer_0 ++ dktX4_isOffer_1
theorem dksX4_isOffer_0 : cX4_isOffer.data.toList.drop 0 = dktX4_isOffer_0 := by decide +kernel
theorem dksX4_isOffer_1 : cX4_isOffer.data.toList.drop 23 = dktX4_isOffer_1 := dk_seg dksX4_isOffer_0 23 rfl rfl
theorem dksX4_isOffer_2 : cX4_isOffer.data.toList.drop 46 = dktX4_isOffer_2 := dk_seg dksX4_isOffer_1 23 rfl rfl
theorem dksX4_isOffer_3 : cX4_isOffer.data.toList.drop 70 = dktX4_isOffer_3 := dk_seg dksX4_isOffer_2 24 rfl rfl
theorem dksX4_isOffer_4 : cX4_isOffer.data.toList.drop 94 = dktX4_isOffer_4 := dk_seg dksX4_isOffer_3 24 rfl rfl
theorem dksX4_isOffer_5 : cX4_isOffer.data.toList.drop 118 = dktX4_isOffer_5 := dk_seg dksX4_isOffer_4 24 rfl rfl
theorem dX4_isOffer_0 : decode cX4_isOffer 0 = .ok (.iload_n 1, 1) := dk_27 (dk_at dksX4_isOffer_0 0 rfl rfl)
theorem dX4_isOffer_1 : decode cX4_isOffer 1 = .ok (.iconst 1, 1) := dk_4 (dk_at dksX4_isOffer_0 1 rfl rfl)
theorem dX4_isOffer_2 : decode cX4_isOffer 2 = .ok (.if_icmp .eq 8, 3) := dk_159 0 8 (dk_at dksX4_isOffer_0 2 rfl rfl)
theorem dX4_isOffer_5 : decode cX4_isOffer 5 = .ok (.iload_n 1, 1) := dk_27 (dk_at dksX4_isOffer_0 5 rfl rfl)
theorem dX4_isOffer_6 : decode cX4_isOffer 6 = .ok (.iconst 2, 1) := dk_5 (dk_at dksX4_isOffer_0 6 rfl rfl)
theorem dX4_isOffer_7 : decode cX4_isOffer 7 = .ok (.if_icmp .ne 7, 3) := dk_160 0 7 (dk_at dksX4_isOffer_0 7 rfl rfl)
theorem dX4_isOffer_10 : decode cX4_isOffer 10 = .ok (.iconst 1, 1) := dk_4 (dk_at dksX4_isOffer_0 10 rfl rfl)
theorem dX4_isOffer_11 : decode cX4_isOffer 11 = .ok (.goto 4, 3) := dk_167 0 4 (dk_at dksX4_isOffer_0 11 rfl rfl)
theorem dX4_isOffer_14 : decode cX4_isOffer 14 = .ok (.iconst 0, 1) := dk_3 (dk_at dksX4_isOffer_0 14 rfl rfl)
theorem dX4_isOffer_15 : decode cX4_isOffer 15 = .ok (.istore 7, 2) := dk_54 7 (dk_at dksX4_isOffer_0 15 rfl rfl)
theorem dX4_isOffer_17 : decode cX4_isOffer 17 = .ok (.iload_n 1, 1) := dk_27 (dk_at dksX4_isOffer_0 17 rfl rfl)
theorem dX4_isOffer_18 : decode cX4_isOffer 18 = .ok (.i2l, 1) := dk_133 (dk_at dksX4_isOffer_0 18 rfl rfl)
theorem dX4_isOffer_19 : decode cX4_isOffer 19 = .ok (.lconst 0, 1) := dk_9 (dk_at dksX4_isOffer_0 19 rfl rfl)
theorem dX4_isOffer_20 : decode cX4_isOffer 20 = .ok (.ldc2_w 186, 3) := dk_20 0 186 (dk_at dksX4_isOffer_0 20 rfl rfl)
theorem dX4_isOffer_23 : decode cX4_isOffer 23 = .ok (.invokestatic 168, 3) := dk_184 0 168 (dk_at dksX4_isOffer_1 0 rfl rfl)
theorem dX4_isOffer_26 : decode cX4_isOffer 26 = .ok (.ifCond .eq 66, 3) := dk_153 0 66 (dk_at dksX4_isOffer_1 3 rfl rfl)
theorem dX4_isOffer_29 : decode cX4_isOffer 29 = .ok (.iload_n 2, 1) := dk_28 (dk_at dksX4_isOffer_1 6 rfl rfl)
theorem dX4_isOffer_30 : decode cX4_isOffer 30 = .ok (.i2l, 1) := dk_133 (dk_at dksX4_isOffer_1 7 rfl rfl)
theorem dX4_isOffer_31 : decode cX4_isOffer 31 = .ok (.ldc2_w 196, 3) := dk_20 0 196 (dk_at dksX4_isOffer_1 8 rfl rfl)
theorem dX4_isOffer_34 : decode cX4_isOffer 34 = .ok (.ldc2_w 180, 3) := dk_20 0 180 (dk_at dksX4_isOffer_1 11 rfl rfl)
theorem dX4_isOffer_37 : decode cX4_isOffer 37 = .ok (.invokestatic 168, 3) := dk_184 0 168 (dk_at dksX4_isOffer_1 14 rfl rfl)
theorem dX4_isOffer_40 : decode cX4_isOffer 40 = .ok (.ifCond .eq 52, 3) := dk_153 0 52 (dk_at dksX4_isOffer_1 17 rfl rfl)
theorem dX4_isOffer_43 : decode cX4_isOffer 43 = .ok (.iload_n 3, 1) := dk_29 (dk_at dksX4_isOffer_1 20 rfl rfl)
theorem dX4_isOffer_44 : decode cX4_isOffer 44 = .ok (.i2l, 1) := dk_133 (dk_at dksX4_isOffer_1 21 rfl rfl)
theorem dX4_isOffer_45 : decode cX4_isOffer 45 = .ok (.lconst 1, 1) := dk_10 (dk_at dksX4_isOffer_1 22 rfl rfl)
theorem dX4_isOffer_46 : decode cX4_isOffer 46 = .ok (.ldc2_w 293, 3) := dk_20 1 37 (dk_at dksX4_isOffer_2 0 rfl rfl)
theorem dX4_isOffer_49 : decode cX4_isOffer 49 = .ok (.invokestatic 168, 3) := dk_184 0 168 (dk_at dksX4_isOffer_2 3 rfl rfl)
theorem dX4_isOffer_52 : decode cX4_isOffer 52 = .ok (.ifCond .eq 40, 3) := dk_153 0 40 (dk_at dksX4_isOffer_2 6 rfl rfl)
theorem dX4_isOffer_55 : decode cX4_isOffer 55 = .ok (.aload_n 0, 1) := dk_42 (dk_at dksX4_isOffer_2 9 rfl rfl)
theorem dX4_isOffer_56 : decode cX4_isOffer 56 = .ok (.getfield 114, 3) := dk_180 0 114 (dk_at dksX4_isOffer_2 10 rfl rfl)
theorem dX4_isOffer_59 : decode cX4_isOffer 59 = .ok (.i2l, 1) := dk_133 (dk_at dksX4_isOffer_2 13 rfl rfl)
theorem dX4_isOffer_60 : decode cX4_isOffer 60 = .ok (.iload 4, 2) := dk_21 4 (dk_at dksX4_isOffer_2 14 rfl rfl)
theorem dX4_isOffer_62 : decode cX4_isOffer 62 = .ok (.i2l, 1) := dk_133 (dk_at dksX4_isOffer_2 16 rfl rfl)
theorem dX4_isOffer_63 : decode cX4_isOffer 63 = .ok (.lsub, 1) := dk_101 (dk_at dksX4_isOffer_2 17 rfl rfl)
theorem dX4_isOffer_64 : decode cX4_isOffer 64 = .ok (.lconst 0, 1) := dk_9 (dk_at dksX4_isOffer_2 18 rfl rfl)
theorem dX4_isOffer_65 : decode cX4_isOffer 65 = .ok (.iload 7, 2) := dk_21 7 (dk_at dksX4_isOffer_2 19 rfl rfl)
theorem dX4_isOffer_67 : decode cX4_isOffer 67 = .ok (.ifCond .eq 16, 3) := dk_153 0 16 (dk_at dksX4_isOffer_2 21 rfl rfl)
theorem dX4_isOffer_70 : decode cX4_isOffer 70 = .ok (.bipush 80, 2) := dk_16 80 (dk_at dksX4_isOffer_3 0 rfl rfl)
theorem dX4_isOffer_72 : decode cX4_isOffer 72 = .ok (.bipush 110, 2) := dk_16 110 (dk_at dksX4_isOffer_3 2 rfl rfl)
theorem dX4_isOffer_74 : decode cX4_isOffer 74 = .ok (.iload_n 3, 1) := dk_29 (dk_at dksX4_isOffer_3 4 rfl rfl)
theorem dX4_isOffer_75 : decode cX4_isOffer 75 = .ok (.isub, 1) := dk_100 (dk_at dksX4_isOffer_3 5 rfl rfl)
theorem dX4_isOffer_76 : decode cX4_isOffer 76 = .ok (.invokestatic 188, 3) := dk_184 0 188 (dk_at dksX4_isOffer_3 6 rfl rfl)
theorem dX4_isOffer_79 : decode cX4_isOffer 79 = .ok (.i2l, 1) := dk_133 (dk_at dksX4_isOffer_3 9 rfl rfl)
theorem dX4_isOffer_80 : decode cX4_isOffer 80 = .ok (.goto 6, 3) := dk_167 0 6 (dk_at dksX4_isOffer_3 10 rfl rfl)
theorem dX4_isOffer_83 : decode cX4_isOffer 83 = .ok (.ldc2_w 364, 3) := dk_20 1 108 (dk_at dksX4_isOffer_3 13 rfl rfl)
theorem dX4_isOffer_86 : decode cX4_isOffer 86 = .ok (.invokestatic 168, 3) := dk_184 0 168 (dk_at dksX4_isOffer_3 16 rfl rfl)
theorem dX4_isOffer_89 : decode cX4_isOffer 89 = .ok (.ifCond .ne 5, 3) := dk_154 0 5 (dk_at dksX4_isOffer_3 19 rfl rfl)
theorem dX4_isOffer_92 : decode cX4_isOffer 92 = .ok (.iconst 0, 1) := dk_3 (dk_at dksX4_isOffer_3 22 rfl rfl)
theorem dX4_isOffer_93 : decode cX4_isOffer 93 = .ok (.ireturn, 1) := dk_172 (dk_at dksX4_isOffer_3 23 rfl rfl)
theorem dX4_isOffer_94 : decode cX4_isOffer 94 = .ok (.iload 5, 2) := dk_21 5 (dk_at dksX4_isOffer_4 0 rfl rfl)
theorem dX4_isOffer_96 : decode cX4_isOffer 96 = .ok (.i2l, 1) := dk_133 (dk_at dksX4_isOffer_4 2 rfl rfl)
theorem dX4_isOffer_97 : decode cX4_isOffer 97 = .ok (.lconst 0, 1) := dk_9 (dk_at dksX4_isOffer_4 3 rfl rfl)
theorem dX4_isOffer_98 : decode cX4_isOffer 98 = .ok (.iload_n 1, 1) := dk_27 (dk_at dksX4_isOffer_4 4 rfl rfl)
theorem dX4_isOffer_99 : decode cX4_isOffer 99 = .ok (.iconst 1, 1) := dk_4 (dk_at dksX4_isOffer_4 5 rfl rfl)
theorem dX4_isOffer_100 : decode cX4_isOffer 100 = .ok (.if_icmp .gt 9, 3) := dk_163 0 9 (dk_at dksX4_isOffer_4 6 rfl rfl)
theorem dX4_isOffer_103 : decode cX4_isOffer 103 = .ok (.ldc2_w 366, 3) := dk_20 1 110 (dk_at dksX4_isOffer_4 9 rfl rfl)
theorem dX4_isOffer_106 : decode cX4_isOffer 106 = .ok (.goto 6, 3) := dk_167 0 6 (dk_at dksX4_isOffer_4 12 rfl rfl)
theorem dX4_isOffer_109 : decode cX4_isOffer 109 = .ok (.ldc2_w 186, 3) := dk_20 0 186 (dk_at dksX4_isOffer_4 15 rfl rfl)
theorem dX4_isOffer_112 : decode cX4_isOffer 112 = .ok (.invokestatic 168, 3) := dk_184 0 168 (dk_at dksX4_isOffer_4 18 rfl rfl)
theorem dX4_isOffer_115 : decode cX4_isOffer 115 = .ok (.ifCond .eq 20, 3) := dk_153 0 20 (dk_at dksX4_isOffer_4 21 rfl rfl)
theorem dX4_isOffer_118 : decode cX4_isOffer 118 = .ok (.iload 6, 2) := dk_21 6 (dk_at dksX4_isOffer_5 0 rfl rfl)
theorem dX4_isOffer_120 : decode cX4_isOffer 120 = .ok (.i2l, 1) := dk_133 (dk_at dksX4_isOffer_5 2 rfl rfl)
theorem dX4_isOffer_121 : decode cX4_isOffer 121 = .ok (.lconst 0, 1) := dk_9 (dk_at dksX4_isOffer_5 3 rfl rfl)
theorem dX4_isOffer_122 : decode cX4_isOffer 122 = .ok (.ldc2_w 368, 3) := dk_20 1 112 (dk_at dksX4_isOffer_5 4 rfl rfl)
theorem dX4_isOffer_125 : decode cX4_isOffer 125 = .ok (.invokestatic 168, 3) := dk_184 0 168 (dk_at dksX4_isOffer_5 7 rfl rfl)
theorem dX4_isOffer_128 : decode cX4_isOffer 128 = .ok (.ifCond .eq 7, 3) := dk_153 0 7 (dk_at dksX4_isOffer_5 10 rfl rfl)
theorem dX4_isOffer_131 : decode cX4_isOffer 131 = .ok (.iconst 1, 1) := dk_4 (dk_at dksX4_isOffer_5 13 rfl rfl)
theorem dX4_isOffer_132 : decode cX4_isOffer 132 = .ok (.goto 4, 3) := dk_167 0 4 (dk_at dksX4_isOffer_5 14 rfl rfl)
theorem dX4_isOffer_135 : decode cX4_isOffer 135 = .ok (.iconst 0, 1) := dk_3 (dk_at dksX4_isOffer_5 17 rfl rfl)
theorem dX4_isOffer_136 : decode cX4_isOffer 136 = .ok (.ireturn, 1) := dk_172 (dk_at dksX4_isOffer_5 18 rfl rfl)
abbrev cX4_premiumOf : ByteArray := prog_12_method_52_code
def yX4_premiumOf : MethodName := ⟨RX4, "premiumOf", "(IIIIII)J"⟩
def dkwX4_premiumOf_2 : List UInt8 := [109, 42, 180, 0, 127, 133, 97, 173]
abbrev dktX4_premiumOf_2 : List UInt8 := dkwX4_premiumOf_2 ++ []
def dkwX4_premiumOf_1 : List UInt8 := [3, 182, 0, 223, 42, 27, 28, 133, 182, 0, 230, 17, 3, 232, 42, 180, 0, 124, 96, 133, 105, 20, 0, 194]
abbrev dktX4_premiumOf_1 : List UInt8 := dkwX4_premiumOf_1 ++ dktX4_premiumOf_2
def dkwX4_premiumOf_0 : List UInt8 := [42, 27, 21, 5, 21, 4, 21, 6, 42, 180, 0, 114, 42, 27, 29, 21, 4, 182, 1, 114, 42, 180, 0, 114]
abbrev dktX4_premiumOf_0 : List UInt8 := dkwX4_premiumOf_0 ++ dktX4_premiumOf_1
theorem dksX4_premiumOf_0 : cX4_premiumOf.data.toList.drop 0 = dktX4_premiumOf_0 := by decide +kernel
theorem dksX4_premiumOf_1 : cX4_premiumOf.data.toList.drop 24 = dktX4_premiumOf_1 := dk_seg dksX4_premiumOf_0 24 rfl rfl
theorem dksX4_premiumOf_2 : cX4_premiumOf.data.toList.drop 48 = dktX4_premiumOf_2 := dk_seg dksX4_premiumOf_1 24 rfl rfl
theorem dX4_premiumOf_0 : decode cX4_premiumOf 0 = .ok (.aload_n 0, 1) := dk_42 (dk_at dksX4_premiumOf_0 0 rfl rfl)
theorem dX4_premiumOf_1 : decode cX4_premiumOf 1 = .ok (.iload_n 1, 1) := dk_27 (dk_at dksX4_premiumOf_0 1 rfl rfl)
theorem dX4_premiumOf_2 : decode cX4_premiumOf 2 = .ok (.iload 5, 2) := dk_21 5 (dk_at dksX4_premiumOf_0 2 rfl rfl)
theorem dX4_premiumOf_4 : decode cX4_premiumOf 4 = .ok (.iload 4, 2) := dk_21 4 (dk_at dksX4_premiumOf_0 4 rfl rfl)
theorem dX4_premiumOf_6 : decode cX4_premiumOf 6 = .ok (.iload 6, 2) := dk_21 6 (dk_at dksX4_premiumOf_0 6 rfl rfl)
theorem dX4_premiumOf_8 : decode cX4_premiumOf 8 = .ok (.aload_n 0, 1) := dk_42 (dk_at dksX4_premiumOf_0 8 rfl rfl)
theorem dX4_premiumOf_9 : decode cX4_premiumOf 9 = .ok (.getfield 114, 3) := dk_180 0 114 (dk_at dksX4_premiumOf_0 9 rfl rfl)
theorem dX4_premiumOf_12 : decode cX4_premiumOf 12 = .ok (.aload_n 0, 1) := dk_42 (dk_at dksX4_premiumOf_0 12 rfl rfl)
theorem dX4_premiumOf_13 : decode cX4_premiumOf 13 = .ok (.iload_n 1, 1) := dk_27 (dk_at dksX4_premiumOf_0 13 rfl rfl)
theorem dX4_premiumOf_14 : decode cX4_premiumOf 14 = .ok (.iload_n 3, 1) := dk_29 (dk_at dksX4_premiumOf_0 14 rfl rfl)
theorem dX4_premiumOf_15 : decode cX4_premiumOf 15 = .ok (.iload 4, 2) := dk_21 4 (dk_at dksX4_premiumOf_0 15 rfl rfl)
theorem dX4_premiumOf_17 : decode cX4_premiumOf 17 = .ok (.invokevirtual 370, 3) := dk_182 1 114 (dk_at dksX4_premiumOf_0 17 rfl rfl)
theorem dX4_premiumOf_20 : decode cX4_premiumOf 20 = .ok (.aload_n 0, 1) := dk_42 (dk_at dksX4_premiumOf_0 20 rfl rfl)
theorem dX4_premiumOf_21 : decode cX4_premiumOf 21 = .ok (.getfield 114, 3) := dk_180 0 114 (dk_at dksX4_premiumOf_0 21 rfl rfl)
theorem dX4_premiumOf_24 : decode cX4_premiumOf 24 = .ok (.iconst 0, 1) := dk_3 (dk_at dksX4_premiumOf_1 0 rfl rfl)
theorem dX4_premiumOf_25 : decode cX4_premiumOf 25 = .ok (.invokevirtual 223, 3) := dk_182 0 223 (dk_at dksX4_premiumOf_1 1 rfl rfl)
theorem dX4_premiumOf_28 : decode cX4_premiumOf 28 = .ok (.aload_n 0, 1) := dk_42 (dk_at dksX4_premiumOf_1 4 rfl rfl)
theorem dX4_premiumOf_29 : decode cX4_premiumOf 29 = .ok (.iload_n 1, 1) := dk_27 (dk_at dksX4_premiumOf_1 5 rfl rfl)
theorem dX4_premiumOf_30 : decode cX4_premiumOf 30 = .ok (.iload_n 2, 1) := dk_28 (dk_at dksX4_premiumOf_1 6 rfl rfl)
theorem dX4_premiumOf_31 : decode cX4_premiumOf 31 = .ok (.i2l, 1) := dk_133 (dk_at dksX4_premiumOf_1 7 rfl rfl)
theorem dX4_premiumOf_32 : decode cX4_premiumOf 32 = .ok (.invokevirtual 230, 3) := dk_182 0 230 (dk_at dksX4_premiumOf_1 8 rfl rfl)
theorem dX4_premiumOf_35 : decode cX4_premiumOf 35 = .ok (.sipush 1000, 3) := dk_17 3 232 (dk_at dksX4_premiumOf_1 11 rfl rfl)
theorem dX4_premiumOf_38 : decode cX4_premiumOf 38 = .ok (.aload_n 0, 1) := dk_42 (dk_at dksX4_premiumOf_1 14 rfl rfl)
theorem dX4_premiumOf_39 : decode cX4_premiumOf 39 = .ok (.getfield 124, 3) := dk_180 0 124 (dk_at dksX4_premiumOf_1 15 rfl rfl)
theorem dX4_premiumOf_42 : decode cX4_premiumOf 42 = .ok (.iadd, 1) := dk_96 (dk_at dksX4_premiumOf_1 18 rfl rfl)
theorem dX4_premiumOf_43 : decode cX4_premiumOf 43 = .ok (.i2l, 1) := dk_133 (dk_at dksX4_premiumOf_1 19 rfl rfl)
theorem dX4_premiumOf_44 : decode cX4_premiumOf 44 = .ok (.lmul, 1) := dk_105 (dk_at dksX4_premiumOf_1 20 rfl rfl)
theorem dX4_premiumOf_45 : decode cX4_premiumOf 45 = .ok (.ldc2_w 194, 3) := dk_20 0 194 (dk_at dksX4_premiumOf_1 21 rfl rfl)
theorem dX4_premiumOf_48 : decode cX4_premiumOf 48 = .ok (.ldiv, 1) := dk_109 (dk_at dksX4_premiumOf_2 0 rfl rfl)
theorem dX4_premiumOf_49 : decode cX4_premiumOf 49 = .ok (.aload_n 0, 1) := dk_42 (dk_at dksX4_premiumOf_2 1 rfl rfl)
theorem dX4_premiumOf_50 : decode cX4_premiumOf 50 = .ok (.getfield 127, 3) := dk_180 0 127 (dk_at dksX4_premiumOf_2 2 rfl rfl)
theorem dX4_premiumOf_53 : decode cX4_premiumOf 53 = .ok (.i2l, 1) := dk_133 (dk_at dksX4_premiumOf_2 5 rfl rfl)
theorem dX4_premiumOf_54 : decode cX4_premiumOf 54 = .ok (.ladd, 1) := dk_97 (dk_at dksX4_premiumOf_2 6 rfl rfl)
theorem dX4_premiumOf_55 : decode cX4_premiumOf 55 = .ok (.lreturn, 1) := dk_173 (dk_at dksX4_premiumOf_2 7 rfl rfl)
abbrev cX4_endOf : ByteArray := prog_12_method_51_code
def yX4_endOf : MethodName := ⟨RX4, "endOf", "(III)I"⟩
def dkwX4_endOf_0 : List UInt8 := [27, 4, 159, 0, 8, 27, 5, 160, 0, 12, 42, 180, 0, 114, 28, 96, 167, 0, 7, 29, 16, 110, 96, 172]
abbrev dktX4_endOf_0 : List UInt8 := dkwX4_endOf_0 ++ []
theorem dksX4_endOf_0 : cX4_endOf.data.toList.drop 0 = dktX4_endOf_0 := by decide +kernel
theorem dX4_endOf_0 : decode cX4_endOf 0 = .ok (.iload_n 1, 1) := dk_27 (dk_at dksX4_endOf_0 0 rfl rfl)
theorem dX4_endOf_1 : decode cX4_endOf 1 = .ok (.iconst 1, 1) := dk_4 (dk_at dksX4_endOf_0 1 rfl rfl)
theorem dX4_endOf_2 : decode cX4_endOf 2 = .ok (.if_icmp .eq 8, 3) := dk_159 0 8 (dk_at dksX4_endOf_0 2 rfl rfl)
theorem dX4_endOf_5 : decode cX4_endOf 5 = .ok (.iload_n 1, 1) := dk_27 (dk_at dksX4_endOf_0 5 rfl rfl)
theorem dX4_endOf_6 : decode cX4_endOf 6 = .ok (.iconst 2, 1) := dk_5 (dk_at dksX4_endOf_0 6 rfl rfl)
theorem dX4_endOf_7 : decode cX4_endOf 7 = .ok (.if_icmp .ne 12, 3) := dk_160 0 12 (dk_at dksX4_endOf_0 7 rfl rfl)
theorem dX4_endOf_10 : decode cX4_endOf 10 = .ok (.aload_n 0, 1) := dk_42 (dk_at dksX4_endOf_0 10 rfl rfl)
theorem dX4_endOf_11 : decode cX4_endOf 11 = .ok (.getfield 114, 3) := dk_180 0 114 (dk_at dksX4_endOf_0 11 rfl rfl)
theorem dX4_endOf_14 : decode cX4_endOf 14 = .ok (.iload_n 2, 1) := dk_28 (dk_at dksX4_endOf_0 14 rfl rfl)
theorem dX4_endOf_15 : decode cX4_endOf 15 = .ok (.iadd, 1) := dk_96 (dk_at dksX4_endOf_0 15 rfl rfl)
theorem dX4_endOf_16 : decode cX4_endOf 16 = .ok (.goto 7, 3) := dk_167 0 7 (dk_at dksX4_endOf_0 16 rfl rfl)
theorem dX4_endOf_19 : decode cX4_endOf 19 = .ok (.iload_n 3, 1) := dk_29 (dk_at dksX4_endOf_0 19 rfl rfl)
theorem dX4_endOf_20 : decode cX4_endOf 20 = .ok (.bipush 110, 2) := dk_16 110 (dk_at dksX4_endOf_0 20 rfl rfl)
theorem dX4_endOf_22 : decode cX4_endOf 22 = .ok (.iadd, 1) := dk_96 (dk_at dksX4_endOf_0 22 rfl rfl)
theorem dX4_endOf_23 : decode cX4_endOf 23 = .ok (.ireturn, 1) := dk_172 (dk_at dksX4_endOf_0 23 rfl rfl)
abbrev cX4_issue : ByteArray := prog_12_method_54_code
def yX4_issue : MethodName := ⟨RX4, "issue", "(IIIIII)I"⟩
def dkwX4_issue_11 : List UInt8 := [80, 21, 7, 172]
abbrev dktX4_issue_11 : List UInt8 := dkwX4_issue_11 ++ []
def dkwX4_issue_10 : List UInt8 := [80, 42, 180, 0, 76, 21, 7, 9, 80, 42, 180, 0, 82, 21, 7, 9, 80, 42, 180, 0, 85, 21, 7, 9]
abbrev dktX4_issue_10 : List UInt8 := dkwX4_issue_10 ++ dktX4_issue_11
def dkwX4_issue_9 : List UInt8 := [79, 42, 180, 0, 61, 21, 7, 3, 79, 42, 180, 0, 70, 21, 7, 9, 80, 42, 180, 0, 73, 21, 7, 9]
abbrev dktX4_issue_9 : List UInt8 := dkwX4_issue_9 ++ dktX4_issue_10
def dkwX4_issue_8 : List UInt8 := [42, 180, 0, 52, 21, 7, 21, 6, 79, 42, 180, 0, 55, 21, 7, 3, 79, 42, 180, 0, 58, 21, 7, 3]
abbrev dktX4_issue_8 : List UInt8 := dkwX4_issue_8 ++ dktX4_issue_9
def dkwX4_issue_7 : List UInt8 := [21, 5, 21, 6, 182, 1, 121, 80, 42, 180, 0, 49, 21, 7, 3, 79, 42, 180, 0, 64, 21, 7, 3, 84]
abbrev dktX4_issue_7 : List UInt8 := dkwX4_issue_7 ++ dktX4_issue_8
def dkwX4_issue_6 : List UInt8 := [21, 7, 42, 27, 29, 21, 4, 182, 1, 114, 79, 42, 180, 0, 79, 21, 7, 42, 27, 28, 29, 21, 4]
abbrev dktX4_issue_6 : List UInt8 := dkwX4_issue_6 ++ dktX4_issue_7
def dkwX4_issue_5 : List UInt8 := [180, 0, 40, 21, 7, 21, 6, 79, 42, 180, 0, 43, 21, 7, 42, 180, 0, 114, 79, 42, 180, 0, 46]
abbrev dktX4_issue_5 : List UInt8 := dkwX4_issue_5 ++ dktX4_issue_6
def dkwX4_issue_4 : List UInt8 := [21, 7, 28, 133, 80, 42, 180, 0, 34, 21, 7, 21, 4, 79, 42, 180, 0, 37, 21, 7, 21, 5, 79, 42]
abbrev dktX4_issue_4 : List UInt8 := dkwX4_issue_4 ++ dktX4_issue_5
def dkwX4_issue_3 : List UInt8 := [180, 0, 146, 90, 4, 96, 181, 0, 146, 54, 7, 42, 180, 0, 31, 21, 7, 27, 79, 42, 180, 0, 67]
abbrev dktX4_issue_3 : List UInt8 := dkwX4_issue_3 ++ dktX4_issue_4
def dkwX4_issue_2 : List UInt8 := [17, 0, 150, 163, 0, 13, 42, 180, 0, 114, 17, 8, 102, 160, 0, 9, 42, 5, 182, 1, 86, 172, 42, 89]
abbrev dktX4_issue_2 : List UInt8 := dkwX4_issue_2 ++ dktX4_issue_3
def dkwX4_issue_1 : List UInt8 := [182, 1, 86, 172, 42, 180, 0, 146, 16, 24, 159, 0, 28, 42, 180, 0, 156, 154, 0, 21, 21, 6]
abbrev dktX4_issue_1 : List UInt8 := dkwX4_issue_1 ++ dktX4_issue_2
def dkwX4_issue_0 : List UInt8 := [42, 3, 181, 0, 1, 42, 27, 28, 29, 21, 4, 21, 5, 21, 6, 182, 1, 117, 154, 0, 9, 42, 4]
abbrev dktX4_issue_0 : List UInt8 := dkwX4_issue_0 ++ dktX4_issue_1
theorem dksX4_issue_0 : cX4_issue.data.toList.drop 0 = dktX4_issue_0 := by decide +kernel
theorem dksX4_issue_1 : cX4_issue.data.toList.drop 23 = dktX4_issue_1 := dk_seg dksX4_issue_0 23 rfl rfl
theorem dksX4_issue_2 : cX4_issue.data.toList.drop 45 = dktX4_issue_2 := dk_seg dksX4_issue_1 22 rfl rfl
theorem dksX4_issue_3 : cX4_issue.data.toList.drop 69 = dktX4_issue_3 := dk_seg dksX4_issue_2 24 rfl rfl
theorem dksX4_issue_4 : cX4_issue.data.toList.drop 92 = dktX4_issue_4 := dk_seg dksX4_issue_3 23 rfl rfl
theorem dksX4_issue_5 : cX4_issue.data.toList.drop 116 = dktX4_issue_5 := dk_seg dksX4_issue_4 24 rfl rfl
theorem dksX4_issue_6 : cX4_issue.data.toList.drop 139 = dktX4_issue_6 := dk_seg dksX4_issue_5 23 rfl rfl
theorem dksX4_issue_7 : cX4_issue.data.toList.drop 162 = dktX4_issue_7 := dk_seg dksX4_issue_6 23 rfl rfl
theorem dksX4_issue_8 : cX4_issue.data.toList.drop 186 = dktX4_issue_8 := dk_seg dksX4_issue_7 24 rfl rfl
theorem dksX4_issue_9 : cX4_issue.data.toList.drop 210 = dktX4_issue_9 := dk_seg dksX4_issue_8 24 rfl rfl
theorem dksX4_issue_10 : cX4_issue.data.toList.drop 234 = dktX4_issue_10 := dk_seg dksX4_issue_9 24 rfl rfl
theorem dksX4_issue_11 : cX4_issue.data.toList.drop 258 = dktX4_issue_11 := dk_seg dksX4_issue_10 24 rfl rfl
theorem dX4_issue_0 : decode cX4_issue 0 = .ok (.aload_n 0, 1) := dk_42 (dk_at dksX4_issue_0 0 rfl rfl)
theorem dX4_issue_1 : decode cX4_issue 1 = .ok (.iconst 0, 1) := dk_3 (dk_at dksX4_issue_0 1 rfl rfl)
theorem dX4_issue_2 : decode cX4_issue 2 = .ok (.putfield 1, 3) := dk_181 0 1 (dk_at dksX4_issue_0 2 rfl rfl)
theorem dX4_issue_5 : decode cX4_issue 5 = .ok (.aload_n 0, 1) := dk_42 (dk_at dksX4_issue_0 5 rfl rfl)
theorem dX4_issue_6 : decode cX4_issue 6 = .ok (.iload_n 1, 1) := dk_27 (dk_at dksX4_issue_0 6 rfl rfl)
theorem dX4_issue_7 : decode cX4_issue 7 = .ok (.iload_n 2, 1) := dk_28 (dk_at dksX4_issue_0 7 rfl rfl)
theorem dX4_issue_8 : decode cX4_issue 8 = .ok (.iload_n 3, 1) := dk_29 (dk_at dksX4_issue_0 8 rfl rfl)
theorem dX4_issue_9 : decode cX4_issue 9 = .ok (.iload 4, 2) := dk_21 4 (dk_at dksX4_issue_0 9 rfl rfl)
theorem dX4_issue_11 : decode cX4_issue 11 = .ok (.iload 5, 2) := dk_21 5 (dk_at dksX4_issue_0 11 rfl rfl)
theorem dX4_issue_13 : decode cX4_issue 13 = .ok (.iload 6, 2) := dk_21 6 (dk_at dksX4_issue_0 13 rfl rfl)
theorem dX4_issue_15 : decode cX4_issue 15 = .ok (.invokevirtual 373, 3) := dk_182 1 117 (dk_at dksX4_issue_0 15 rfl rfl)
theorem dX4_issue_18 : decode cX4_issue 18 = .ok (.ifCond .ne 9, 3) := dk_154 0 9 (dk_at dksX4_issue_0 18 rfl rfl)
theorem dX4_issue_21 : decode cX4_issue 21 = .ok (.aload_n 0, 1) := dk_42 (dk_at dksX4_issue_0 21 rfl rfl)
theorem dX4_issue_22 : decode cX4_issue 22 = .ok (.iconst 1, 1) := dk_4 (dk_at dksX4_issue_0 22 rfl rfl)
theorem dX4_issue_23 : decode cX4_issue 23 = .ok (.invokevirtual 342, 3) := dk_182 1 86 (dk_at dksX4_issue_1 0 rfl rfl)
theorem dX4_issue_26 : decode cX4_issue 26 = .ok (.ireturn, 1) := dk_172 (dk_at dksX4_issue_1 3 rfl rfl)
theorem dX4_issue_27 : decode cX4_issue 27 = .ok (.aload_n 0, 1) := dk_42 (dk_at dksX4_issue_1 4 rfl rfl)
theorem dX4_issue_28 : decode cX4_issue 28 = .ok (.getfield 146, 3) := dk_180 0 146 (dk_at dksX4_issue_1 5 rfl rfl)
theorem dX4_issue_31 : decode cX4_issue 31 = .ok (.bipush 24, 2) := dk_16 24 (dk_at dksX4_issue_1 8 rfl rfl)
theorem dX4_issue_33 : decode cX4_issue 33 = .ok (.if_icmp .eq 28, 3) := dk_159 0 28 (dk_at dksX4_issue_1 10 rfl rfl)
theorem dX4_issue_36 : decode cX4_issue 36 = .ok (.aload_n 0, 1) := dk_42 (dk_at dksX4_issue_1 13 rfl rfl)
theorem dX4_issue_37 : decode cX4_issue 37 = .ok (.getfield 156, 3) := dk_180 0 156 (dk_at dksX4_issue_1 14 rfl rfl)
theorem dX4_issue_40 : decode cX4_issue 40 = .ok (.ifCond .ne 21, 3) := dk_154 0 21 (dk_at dksX4_issue_1 17 rfl rfl)
theorem dX4_issue_43 : decode cX4_issue 43 = .ok (.iload 6, 2) := dk_21 6 (dk_at dksX4_issue_1 20 rfl rfl)
theorem dX4_issue_45 : decode cX4_issue 45 = .ok (.sipush 150, 3) := dk_17 0 150 (dk_at dksX4_issue_2 0 rfl rfl)
theorem dX4_issue_48 : decode cX4_issue 48 = .ok (.if_icmp .gt 13, 3) := dk_163 0 13 (dk_at dksX4_issue_2 3 rfl rfl)
theorem dX4_issue_51 : decode cX4_issue 51 = .ok (.aload_n 0, 1) := dk_42 (dk_at dksX4_issue_2 6 rfl rfl)
theorem dX4_issue_52 : decode cX4_issue 52 = .ok (.getfield 114, 3) := dk_180 0 114 (dk_at dksX4_issue_2 7 rfl rfl)
theorem dX4_issue_55 : decode cX4_issue 55 = .ok (.sipush 2150, 3) := dk_17 8 102 (dk_at dksX4_issue_2 10 rfl rfl)
theorem dX4_issue_58 : decode cX4_issue 58 = .ok (.if_icmp .ne 9, 3) := dk_160 0 9 (dk_at dksX4_issue_2 13 rfl rfl)
theorem dX4_issue_61 : decode cX4_issue 61 = .ok (.aload_n 0, 1) := dk_42 (dk_at dksX4_issue_2 16 rfl rfl)
theorem dX4_issue_62 : decode cX4_issue 62 = .ok (.iconst 2, 1) := dk_5 (dk_at dksX4_issue_2 17 rfl rfl)
theorem dX4_issue_63 : decode cX4_issue 63 = .ok (.invokevirtual 342, 3) := dk_182 1 86 (dk_at dksX4_issue_2 18 rfl rfl)
theorem dX4_issue_66 : decode cX4_issue 66 = .ok (.ireturn, 1) := dk_172 (dk_at dksX4_issue_2 21 rfl rfl)
theorem dX4_issue_67 : decode cX4_issue 67 = .ok (.aload_n 0, 1) := dk_42 (dk_at dksX4_issue_2 22 rfl rfl)
theorem dX4_issue_68 : decode cX4_issue 68 = .ok (.dup, 1) := dk_89 (dk_at dksX4_issue_2 23 rfl rfl)
theorem dX4_issue_69 : decode cX4_issue 69 = .ok (.getfield 146, 3) := dk_180 0 146 (dk_at dksX4_issue_3 0 rfl rfl)
theorem dX4_issue_72 : decode cX4_issue 72 = .ok (.dup_x1, 1) := dk_90 (dk_at dksX4_issue_3 3 rfl rfl)
theorem dX4_issue_73 : decode cX4_issue 73 = .ok (.iconst 1, 1) := dk_4 (dk_at dksX4_issue_3 4 rfl rfl)
theorem dX4_issue_74 : decode cX4_issue 74 = .ok (.iadd, 1) := dk_96 (dk_at dksX4_issue_3 5 rfl rfl)
theorem dX4_issue_75 : decode cX4_issue 75 = .ok (.putfield 146, 3) := dk_181 0 146 (dk_at dksX4_issue_3 6 rfl rfl)
theorem dX4_issue_78 : decode cX4_issue 78 = .ok (.istore 7, 2) := dk_54 7 (dk_at dksX4_issue_3 9 rfl rfl)
theorem dX4_issue_80 : decode cX4_issue 80 = .ok (.aload_n 0, 1) := dk_42 (dk_at dksX4_issue_3 11 rfl rfl)
theorem dX4_issue_81 : decode cX4_issue 81 = .ok (.getfield 31, 3) := dk_180 0 31 (dk_at dksX4_issue_3 12 rfl rfl)
theorem dX4_issue_84 : decode cX4_issue 84 = .ok (.iload 7, 2) := dk_21 7 (dk_at dksX4_issue_3 15 rfl rfl)
theorem dX4_issue_86 : decode cX4_issue 86 = .ok (.iload_n 1, 1) := dk_27 (dk_at dksX4_issue_3 17 rfl rfl)
theorem dX4_issue_87 : decode cX4_issue 87 = .ok (.iastore, 1) := dk_79 (dk_at dksX4_issue_3 18 rfl rfl)
theorem dX4_issue_88 : decode cX4_issue 88 = .ok (.aload_n 0, 1) := dk_42 (dk_at dksX4_issue_3 19 rfl rfl)
theorem dX4_issue_89 : decode cX4_issue 89 = .ok (.getfield 67, 3) := dk_180 0 67 (dk_at dksX4_issue_3 20 rfl rfl)
theorem dX4_issue_92 : decode cX4_issue 92 = .ok (.iload 7, 2) := dk_21 7 (dk_at dksX4_issue_4 0 rfl rfl)
theorem dX4_issue_94 : decode cX4_issue 94 = .ok (.iload_n 2, 1) := dk_28 (dk_at dksX4_issue_4 2 rfl rfl)
theorem dX4_issue_95 : decode cX4_issue 95 = .ok (.i2l, 1) := dk_133 (dk_at dksX4_issue_4 3 rfl rfl)
theorem dX4_issue_96 : decode cX4_issue 96 = .ok (.lastore, 1) := dk_80 (dk_at dksX4_issue_4 4 rfl rfl)
theorem dX4_issue_97 : decode cX4_issue 97 = .ok (.aload_n 0, 1) := dk_42 (dk_at dksX4_issue_4 5 rfl rfl)
theorem dX4_issue_98 : decode cX4_issue 98 = .ok (.getfield 34, 3) := dk_180 0 34 (dk_at dksX4_issue_4 6 rfl rfl)
theorem dX4_issue_101 : decode cX4_issue 101 = .ok (.iload 7, 2) := dk_21 7 (dk_at dksX4_issue_4 9 rfl rfl)
theorem dX4_issue_103 : decode cX4_issue 103 = .ok (.iload 4, 2) := dk_21 4 (dk_at dksX4_issue_4 11 rfl rfl)
theorem dX4_issue_105 : decode cX4_issue 105 = .ok (.iastore, 1) := dk_79 (dk_at dksX4_issue_4 13 rfl rfl)
theorem dX4_issue_106 : decode cX4_issue 106 = .ok (.aload_n 0, 1) := dk_42 (dk_at dksX4_issue_4 14 rfl rfl)
theorem dX4_issue_107 : decode cX4_issue 107 = .ok (.getfield 37, 3) := dk_180 0 37 (dk_at dksX4_issue_4 15 rfl rfl)
theorem dX4_issue_110 : decode cX4_issue 110 = .ok (.iload 7, 2) := dk_21 7 (dk_at dksX4_issue_4 18 rfl rfl)
theorem dX4_issue_112 : decode cX4_issue 112 = .ok (.iload 5, 2) := dk_21 5 (dk_at dksX4_issue_4 20 rfl rfl)
theorem dX4_issue_114 : decode cX4_issue 114 = .ok (.iastore, 1) := dk_79 (dk_at dksX4_issue_4 22 rfl rfl)
theorem dX4_issue_115 : decode cX4_issue 115 = .ok (.aload_n 0, 1) := dk_42 (dk_at dksX4_issue_4 23 rfl rfl)
theorem dX4_issue_116 : decode cX4_issue 116 = .ok (.getfield 40, 3) := dk_180 0 40 (dk_at dksX4_issue_5 0 rfl rfl)
theorem dX4_issue_119 : decode cX4_issue 119 = .ok (.iload 7, 2) := dk_21 7 (dk_at dksX4_issue_5 3 rfl rfl)
theorem dX4_issue_121 : decode cX4_issue 121 = .ok (.iload 6, 2) := dk_21 6 (dk_at dksX4_issue_5 5 rfl rfl)
theorem dX4_issue_123 : decode cX4_issue 123 = .ok (.iastore, 1) := dk_79 (dk_at dksX4_issue_5 7 rfl rfl)
theorem dX4_issue_124 : decode cX4_issue 124 = .ok (.aload_n 0, 1) := dk_42 (dk_at dksX4_issue_5 8 rfl rfl)
theorem dX4_issue_125 : decode cX4_issue 125 = .ok (.getfield 43, 3) := dk_180 0 43 (dk_at dksX4_issue_5 9 rfl rfl)
theorem dX4_issue_128 : decode cX4_issue 128 = .ok (.iload 7, 2) := dk_21 7 (dk_at dksX4_issue_5 12 rfl rfl)
theorem dX4_issue_130 : decode cX4_issue 130 = .ok (.aload_n 0, 1) := dk_42 (dk_at dksX4_issue_5 14 rfl rfl)
theorem dX4_issue_131 : decode cX4_issue 131 = .ok (.getfield 114, 3) := dk_180 0 114 (dk_at dksX4_issue_5 15 rfl rfl)
theorem dX4_issue_134 : decode cX4_issue 134 = .ok (.iastore, 1) := dk_79 (dk_at dksX4_issue_5 18 rfl rfl)
theorem dX4_issue_135 : decode cX4_issue 135 = .ok (.aload_n 0, 1) := dk_42 (dk_at dksX4_issue_5 19 rfl rfl)
theorem dX4_issue_136 : decode cX4_issue 136 = .ok (.getfield 46, 3) := dk_180 0 46 (dk_at dksX4_issue_5 20 rfl rfl)
theorem dX4_issue_139 : decode cX4_issue 139 = .ok (.iload 7, 2) := dk_21 7 (dk_at dksX4_issue_6 0 rfl rfl)
theorem dX4_issue_141 : decode cX4_issue 141 = .ok (.aload_n 0, 1) := dk_42 (dk_at dksX4_issue_6 2 rfl rfl)
theorem dX4_issue_142 : decode cX4_issue 142 = .ok (.iload_n 1, 1) := dk_27 (dk_at dksX4_issue_6 3 rfl rfl)
theorem dX4_issue_143 : decode cX4_issue 143 = .ok (.iload_n 3, 1) := dk_29 (dk_at dksX4_issue_6 4 rfl rfl)
theorem dX4_issue_144 : decode cX4_issue 144 = .ok (.iload 4, 2) := dk_21 4 (dk_at dksX4_issue_6 5 rfl rfl)
theorem dX4_issue_146 : decode cX4_issue 146 = .ok (.invokevirtual 370, 3) := dk_182 1 114 (dk_at dksX4_issue_6 7 rfl rfl)
theorem dX4_issue_149 : decode cX4_issue 149 = .ok (.iastore, 1) := dk_79 (dk_at dksX4_issue_6 10 rfl rfl)
theorem dX4_issue_150 : decode cX4_issue 150 = .ok (.aload_n 0, 1) := dk_42 (dk_at dksX4_issue_6 11 rfl rfl)
theorem dX4_issue_151 : decode cX4_issue 151 = .ok (.getfield 79, 3) := dk_180 0 79 (dk_at dksX4_issue_6 12 rfl rfl)
theorem dX4_issue_154 : decode cX4_issue 154 = .ok (.iload 7, 2) := dk_21 7 (dk_at dksX4_issue_6 15 rfl rfl)
theorem dX4_issue_156 : decode cX4_issue 156 = .ok (.aload_n 0, 1) := dk_42 (dk_at dksX4_issue_6 17 rfl rfl)
theorem dX4_issue_157 : decode cX4_issue 157 = .ok (.iload_n 1, 1) := dk_27 (dk_at dksX4_issue_6 18 rfl rfl)
theorem dX4_issue_158 : decode cX4_issue 158 = .ok (.iload_n 2, 1) := dk_28 (dk_at dksX4_issue_6 19 rfl rfl)
theorem dX4_issue_159 : decode cX4_issue 159 = .ok (.iload_n 3, 1) := dk_29 (dk_at dksX4_issue_6 20 rfl rfl)
theorem dX4_issue_160 : decode cX4_issue 160 = .ok (.iload 4, 2) := dk_21 4 (dk_at dksX4_issue_6 21 rfl rfl)
theorem dX4_issue_162 : decode cX4_issue 162 = .ok (.iload 5, 2) := dk_21 5 (dk_at dksX4_issue_7 0 rfl rfl)
theorem dX4_issue_164 : decode cX4_issue 164 = .ok (.iload 6, 2) := dk_21 6 (dk_at dksX4_issue_7 2 rfl rfl)
theorem dX4_issue_166 : decode cX4_issue 166 = .ok (.invokevirtual 377, 3) := dk_182 1 121 (dk_at dksX4_issue_7 4 rfl rfl)
theorem dX4_issue_169 : decode cX4_issue 169 = .ok (.lastore, 1) := dk_80 (dk_at dksX4_issue_7 7 rfl rfl)
theorem dX4_issue_170 : decode cX4_issue 170 = .ok (.aload_n 0, 1) := dk_42 (dk_at dksX4_issue_7 8 rfl rfl)
theorem dX4_issue_171 : decode cX4_issue 171 = .ok (.getfield 49, 3) := dk_180 0 49 (dk_at dksX4_issue_7 9 rfl rfl)
theorem dX4_issue_174 : decode cX4_issue 174 = .ok (.iload 7, 2) := dk_21 7 (dk_at dksX4_issue_7 12 rfl rfl)
theorem dX4_issue_176 : decode cX4_issue 176 = .ok (.iconst 0, 1) := dk_3 (dk_at dksX4_issue_7 14 rfl rfl)
theorem dX4_issue_177 : decode cX4_issue 177 = .ok (.iastore, 1) := dk_79 (dk_at dksX4_issue_7 15 rfl rfl)
theorem dX4_issue_178 : decode cX4_issue 178 = .ok (.aload_n 0, 1) := dk_42 (dk_at dksX4_issue_7 16 rfl rfl)
theorem dX4_issue_179 : decode cX4_issue 179 = .ok (.getfield 64, 3) := dk_180 0 64 (dk_at dksX4_issue_7 17 rfl rfl)
theorem dX4_issue_182 : decode cX4_issue 182 = .ok (.iload 7, 2) := dk_21 7 (dk_at dksX4_issue_7 20 rfl rfl)
theorem dX4_issue_184 : decode cX4_issue 184 = .ok (.iconst 0, 1) := dk_3 (dk_at dksX4_issue_7 22 rfl rfl)
theorem dX4_issue_185 : decode cX4_issue 185 = .ok (.bastore, 1) := dk_84 (dk_at dksX4_issue_7 23 rfl rfl)
theorem dX4_issue_186 : decode cX4_issue 186 = .ok (.aload_n 0, 1) := dk_42 (dk_at dksX4_issue_8 0 rfl rfl)
theorem dX4_issue_187 : decode cX4_issue 187 = .ok (.getfield 52, 3) := dk_180 0 52 (dk_at dksX4_issue_8 1 rfl rfl)
theorem dX4_issue_190 : decode cX4_issue 190 = .ok (.iload 7, 2) := dk_21 7 (dk_at dksX4_issue_8 4 rfl rfl)
theorem dX4_issue_192 : decode cX4_issue 192 = .ok (.iload 6, 2) := dk_21 6 (dk_at dksX4_issue_8 6 rfl rfl)
theorem dX4_issue_194 : decode cX4_issue 194 = .ok (.iastore, 1) := dk_79 (dk_at dksX4_issue_8 8 rfl rfl)
theorem dX4_issue_195 : decode cX4_issue 195 = .ok (.aload_n 0, 1) := dk_42 (dk_at dksX4_issue_8 9 rfl rfl)
theorem dX4_issue_196 : decode cX4_issue 196 = .ok (.getfield 55, 3) := dk_180 0 55 (dk_at dksX4_issue_8 10 rfl rfl)
theorem dX4_issue_199 : decode cX4_issue 199 = .ok (.iload 7, 2) := dk_21 7 (dk_at dksX4_issue_8 13 rfl rfl)
theorem dX4_issue_201 : decode cX4_issue 201 = .ok (.iconst 0, 1) := dk_3 (dk_at dksX4_issue_8 15 rfl rfl)
theorem dX4_issue_202 : decode cX4_issue 202 = .ok (.iastore, 1) := dk_79 (dk_at dksX4_issue_8 16 rfl rfl)
theorem dX4_issue_203 : decode cX4_issue 203 = .ok (.aload_n 0, 1) := dk_42 (dk_at dksX4_issue_8 17 rfl rfl)
theorem dX4_issue_204 : decode cX4_issue 204 = .ok (.getfield 58, 3) := dk_180 0 58 (dk_at dksX4_issue_8 18 rfl rfl)
theorem dX4_issue_207 : decode cX4_issue 207 = .ok (.iload 7, 2) := dk_21 7 (dk_at dksX4_issue_8 21 rfl rfl)
theorem dX4_issue_209 : decode cX4_issue 209 = .ok (.iconst 0, 1) := dk_3 (dk_at dksX4_issue_8 23 rfl rfl)
theorem dX4_issue_210 : decode cX4_issue 210 = .ok (.iastore, 1) := dk_79 (dk_at dksX4_issue_9 0 rfl rfl)
theorem dX4_issue_211 : decode cX4_issue 211 = .ok (.aload_n 0, 1) := dk_42 (dk_at dksX4_issue_9 1 rfl rfl)
theorem dX4_issue_212 : decode cX4_issue 212 = .ok (.getfield 61, 3) := dk_180 0 61 (dk_at dksX4_issue_9 2 rfl rfl)
theorem dX4_issue_215 : decode cX4_issue 215 = .ok (.iload 7, 2) := dk_21 7 (dk_at dksX4_issue_9 5 rfl rfl)
theorem dX4_issue_217 : decode cX4_issue 217 = .ok (.iconst 0, 1) := dk_3 (dk_at dksX4_issue_9 7 rfl rfl)
theorem dX4_issue_218 : decode cX4_issue 218 = .ok (.iastore, 1) := dk_79 (dk_at dksX4_issue_9 8 rfl rfl)
theorem dX4_issue_219 : decode cX4_issue 219 = .ok (.aload_n 0, 1) := dk_42 (dk_at dksX4_issue_9 9 rfl rfl)
theorem dX4_issue_220 : decode cX4_issue 220 = .ok (.getfield 70, 3) := dk_180 0 70 (dk_at dksX4_issue_9 10 rfl rfl)
theorem dX4_issue_223 : decode cX4_issue 223 = .ok (.iload 7, 2) := dk_21 7 (dk_at dksX4_issue_9 13 rfl rfl)
theorem dX4_issue_225 : decode cX4_issue 225 = .ok (.lconst 0, 1) := dk_9 (dk_at dksX4_issue_9 15 rfl rfl)
theorem dX4_issue_226 : decode cX4_issue 226 = .ok (.lastore, 1) := dk_80 (dk_at dksX4_issue_9 16 rfl rfl)
theorem dX4_issue_227 : decode cX4_issue 227 = .ok (.aload_n 0, 1) := dk_42 (dk_at dksX4_issue_9 17 rfl rfl)
theorem dX4_issue_228 : decode cX4_issue 228 = .ok (.getfield 73, 3) := dk_180 0 73 (dk_at dksX4_issue_9 18 rfl rfl)
theorem dX4_issue_231 : decode cX4_issue 231 = .ok (.iload 7, 2) := dk_21 7 (dk_at dksX4_issue_9 21 rfl rfl)
theorem dX4_issue_233 : decode cX4_issue 233 = .ok (.lconst 0, 1) := dk_9 (dk_at dksX4_issue_9 23 rfl rfl)
theorem dX4_issue_234 : decode cX4_issue 234 = .ok (.lastore, 1) := dk_80 (dk_at dksX4_issue_10 0 rfl rfl)
theorem dX4_issue_235 : decode cX4_issue 235 = .ok (.aload_n 0, 1) := dk_42 (dk_at dksX4_issue_10 1 rfl rfl)
theorem dX4_issue_236 : decode cX4_issue 236 = .ok (.getfield 76, 3) := dk_180 0 76 (dk_at dksX4_issue_10 2 rfl rfl)
theorem dX4_issue_239 : decode cX4_issue 239 = .ok (.iload 7, 2) := dk_21 7 (dk_at dksX4_issue_10 5 rfl rfl)
theorem dX4_issue_241 : decode cX4_issue 241 = .ok (.lconst 0, 1) := dk_9 (dk_at dksX4_issue_10 7 rfl rfl)
theorem dX4_issue_242 : decode cX4_issue 242 = .ok (.lastore, 1) := dk_80 (dk_at dksX4_issue_10 8 rfl rfl)
theorem dX4_issue_243 : decode cX4_issue 243 = .ok (.aload_n 0, 1) := dk_42 (dk_at dksX4_issue_10 9 rfl rfl)
theorem dX4_issue_244 : decode cX4_issue 244 = .ok (.getfield 82, 3) := dk_180 0 82 (dk_at dksX4_issue_10 10 rfl rfl)
theorem dX4_issue_247 : decode cX4_issue 247 = .ok (.iload 7, 2) := dk_21 7 (dk_at dksX4_issue_10 13 rfl rfl)
theorem dX4_issue_249 : decode cX4_issue 249 = .ok (.lconst 0, 1) := dk_9 (dk_at dksX4_issue_10 15 rfl rfl)
theorem dX4_issue_250 : decode cX4_issue 250 = .ok (.lastore, 1) := dk_80 (dk_at dksX4_issue_10 16 rfl rfl)
theorem dX4_issue_251 : decode cX4_issue 251 = .ok (.aload_n 0, 1) := dk_42 (dk_at dksX4_issue_10 17 rfl rfl)
theorem dX4_issue_252 : decode cX4_issue 252 = .ok (.getfield 85, 3) := dk_180 0 85 (dk_at dksX4_issue_10 18 rfl rfl)
theorem dX4_issue_255 : decode cX4_issue 255 = .ok (.iload 7, 2) := dk_21 7 (dk_at dksX4_issue_10 21 rfl rfl)
theorem dX4_issue_257 : decode cX4_issue 257 = .ok (.lconst 0, 1) := dk_9 (dk_at dksX4_issue_10 23 rfl rfl)
theorem dX4_issue_258 : decode cX4_issue 258 = .ok (.lastore, 1) := dk_80 (dk_at dksX4_issue_11 0 rfl rfl)
theorem dX4_issue_259 : decode cX4_issue 259 = .ok (.iload 7, 2) := dk_21 7 (dk_at dksX4_issue_11 1 rfl rfl)
theorem dX4_issue_261 : decode cX4_issue 261 = .ok (.ireturn, 1) := dk_172 (dk_at dksX4_issue_11 3 rfl rfl)
abbrev cX4_policies : ByteArray := prog_12_method_55_code
def yX4_policies : MethodName := ⟨RX4, "policies", "()I"⟩
def dkwX4_policies_0 : List UInt8 := [42, 3, 181, 0, 1, 42, 180, 0, 146, 172]
abbrev dktX4_policies_0 : List UInt8 := dkwX4_policies_0 ++ []
theorem dksX4_policies_0 : cX4_policies.data.toList.drop 0 = dktX4_policies_0 := by decide +kernel
theorem dX4_policies_0 : decode cX4_policies 0 = .ok (.aload_n 0, 1) := dk_42 (dk_at dksX4_policies_0 0 rfl rfl)
theorem dX4_policies_1 : decode cX4_policies 1 = .ok (.iconst 0, 1) := dk_3 (dk_at dksX4_policies_0 1 rfl rfl)
theorem dX4_policies_2 : decode cX4_policies 2 = .ok (.putfield 1, 3) := dk_181 0 1 (dk_at dksX4_policies_0 2 rfl rfl)
theorem dX4_policies_5 : decode cX4_policies 5 = .ok (.aload_n 0, 1) := dk_42 (dk_at dksX4_policies_0 5 rfl rfl)
theorem dX4_policies_6 : decode cX4_policies 6 = .ok (.getfield 146, 3) := dk_180 0 146 (dk_at dksX4_policies_0 6 rfl rfl)
theorem dX4_policies_9 : decode cX4_policies 9 = .ok (.ireturn, 1) := dk_172 (dk_at dksX4_policies_0 9 rfl rfl)
abbrev cX4_stateOf : ByteArray := prog_12_method_56_code
def yX4_stateOf : MethodName := ⟨RX4, "stateOf", "(I)I"⟩
def dkwX4_stateOf_1 : List UInt8 := [46, 172]
abbrev dktX4_stateOf_1 : List UInt8 := dkwX4_stateOf_1 ++ []
def dkwX4_stateOf_0 : List UInt8 := [42, 3, 181, 0, 1, 42, 27, 182, 1, 124, 154, 0, 9, 42, 4, 182, 1, 86, 172, 42, 180, 0, 49, 27]
abbrev dktX4_stateOf_0 : List UInt8 := dkwX4_stateOf_0 ++ dktX4_stateOf_1
theorem dksX4_stateOf_0 : cX4_stateOf.data.toList.drop 0 = dktX4_stateOf_0 := by decide +kernel
theorem dksX4_stateOf_1 : cX4_stateOf.data.toList.drop 24 = dktX4_stateOf_1 := dk_seg dksX4_stateOf_0 24 rfl rfl
theorem dX4_stateOf_0 : decode cX4_stateOf 0 = .ok (.aload_n 0, 1) := dk_42 (dk_at dksX4_stateOf_0 0 rfl rfl)
theorem dX4_stateOf_1 : decode cX4_stateOf 1 = .ok (.iconst 0, 1) := dk_3 (dk_at dksX4_stateOf_0 1 rfl rfl)
theorem dX4_stateOf_2 : decode cX4_stateOf 2 = .ok (.putfield 1, 3) := dk_181 0 1 (dk_at dksX4_stateOf_0 2 rfl rfl)
theorem dX4_stateOf_5 : decode cX4_stateOf 5 = .ok (.aload_n 0, 1) := dk_42 (dk_at dksX4_stateOf_0 5 rfl rfl)
theorem dX4_stateOf_6 : decode cX4_stateOf 6 = .ok (.iload_n 1, 1) := dk_27 (dk_at dksX4_stateOf_0 6 rfl rfl)
theorem dX4_stateOf_7 : decode cX4_stateOf 7 = .ok (.invokevirtual 380, 3) := dk_182 1 124 (dk_at dksX4_stateOf_0 7 rfl rfl)
theorem dX4_stateOf_10 : decode cX4_stateOf 10 = .ok (.ifCond .ne 9, 3) := dk_154 0 9 (dk_at dksX4_stateOf_0 10 rfl rfl)
theorem dX4_stateOf_13 : decode cX4_stateOf 13 = .ok (.aload_n 0, 1) := dk_42 (dk_at dksX4_stateOf_0 13 rfl rfl)
theorem dX4_stateOf_14 : decode cX4_stateOf 14 = .ok (.iconst 1, 1) := dk_4 (dk_at dksX4_stateOf_0 14 rfl rfl)
theorem dX4_stateOf_15 : decode cX4_stateOf 15 = .ok (.invokevirtual 342, 3) := dk_182 1 86 (dk_at dksX4_stateOf_0 15 rfl rfl)
theorem dX4_stateOf_18 : decode cX4_stateOf 18 = .ok (.ireturn, 1) := dk_172 (dk_at dksX4_stateOf_0 18 rfl rfl)
theorem dX4_stateOf_19 : decode cX4_stateOf 19 = .ok (.aload_n 0, 1) := dk_42 (dk_at dksX4_stateOf_0 19 rfl rfl)
theorem dX4_stateOf_20 : decode cX4_stateOf 20 = .ok (.getfield 49, 3) := dk_180 0 49 (dk_at dksX4_stateOf_0 20 rfl rfl)
theorem dX4_stateOf_23 : decode cX4_stateOf 23 = .ok (.iload_n 1, 1) := dk_27 (dk_at dksX4_stateOf_0 23 rfl rfl)
theorem dX4_stateOf_24 : decode cX4_stateOf 24 = .ok (.iaload, 1) := dk_46 (dk_at dksX4_stateOf_1 0 rfl rfl)
theorem dX4_stateOf_25 : decode cX4_stateOf 25 = .ok (.ireturn, 1) := dk_172 (dk_at dksX4_stateOf_1 1 rfl rfl)
abbrev cX4_isPolicy : ByteArray := prog_12_method_6_code
def yX4_isPolicy : MethodName := ⟨RX4, "isPolicy", "(I)Z"⟩
def dkwX4_isPolicy_0 : List UInt8 := [27, 133, 9, 42, 180, 0, 146, 4, 100, 133, 184, 0, 168, 172]
abbrev dktX4_isPolicy_0 : List UInt8 := dkwX4_isPolicy_0 ++ []
theorem dksX4_isPolicy_0 : cX4_isPolicy.data.toList.drop 0 = dktX4_isPolicy_0 := by decide +kernel
theorem dX4_isPolicy_0 : decode cX4_isPolicy 0 = .ok (.iload_n 1, 1) := dk_27 (dk_at dksX4_isPolicy_0 0 rfl rfl)
theorem dX4_isPolicy_1 : decode cX4_isPolicy 1 = .ok (.i2l, 1) := dk_133 (dk_at dksX4_isPolicy_0 1 rfl rfl)
theorem dX4_isPolicy_2 : decode cX4_isPolicy 2 = .ok (.lconst 0, 1) := dk_9 (dk_at dksX4_isPolicy_0 2 rfl rfl)
theorem dX4_isPolicy_3 : decode cX4_isPolicy 3 = .ok (.aload_n 0, 1) := dk_42 (dk_at dksX4_isPolicy_0 3 rfl rfl)
theorem dX4_isPolicy_4 : decode cX4_isPolicy 4 = .ok (.getfield 146, 3) := dk_180 0 146 (dk_at dksX4_isPolicy_0 4 rfl rfl)
theorem dX4_isPolicy_7 : decode cX4_isPolicy 7 = .ok (.iconst 1, 1) := dk_4 (dk_at dksX4_isPolicy_0 7 rfl rfl)
theorem dX4_isPolicy_8 : decode cX4_isPolicy 8 = .ok (.isub, 1) := dk_100 (dk_at dksX4_isPolicy_0 8 rfl rfl)
theorem dX4_isPolicy_9 : decode cX4_isPolicy 9 = .ok (.i2l, 1) := dk_133 (dk_at dksX4_isPolicy_0 9 rfl rfl)
theorem dX4_isPolicy_10 : decode cX4_isPolicy 10 = .ok (.invokestatic 168, 3) := dk_184 0 168 (dk_at dksX4_isPolicy_0 10 rfl rfl)
theorem dX4_isPolicy_13 : decode cX4_isPolicy 13 = .ok (.ireturn, 1) := dk_172 (dk_at dksX4_isPolicy_0 13 rfl rfl)
abbrev cX4_policyAt : ByteArray := prog_12_method_57_code
def yX4_policyAt : MethodName := ⟨RX4, "policyAt", "(II)J"⟩
def dkwX4_policyAt_6 : List UInt8 := [46, 133, 173]
abbrev dktX4_policyAt_6 : List UInt8 := dkwX4_policyAt_6 ++ []
def dkwX4_policyAt_5 : List UInt8 := [180, 0, 114, 182, 1, 46, 167, 0, 4, 9, 173, 42, 180, 0, 43, 27, 46, 133, 173, 42, 180, 0, 46, 27]
abbrev dktX4_policyAt_5 : List UInt8 := dkwX4_policyAt_5 ++ dktX4_policyAt_6
def dkwX4_policyAt_4 : List UInt8 := [180, 0, 73, 27, 47, 173, 42, 180, 0, 76, 27, 47, 173, 42, 27, 182, 0, 234, 153, 0, 15, 42, 27, 42]
abbrev dktX4_policyAt_4 : List UInt8 := dkwX4_policyAt_4 ++ dktX4_policyAt_5
def dkwX4_policyAt_3 : List UInt8 := [42, 180, 0, 79, 27, 47, 173, 42, 180, 0, 67, 27, 47, 173, 42, 180, 0, 70, 27, 47, 173, 42]
abbrev dktX4_policyAt_3 : List UInt8 := dkwX4_policyAt_3 ++ dktX4_policyAt_4
def dkwX4_policyAt_2 : List UInt8 := [170, 0, 0, 0, 0, 0, 0, 109, 0, 0, 0, 0, 0, 0, 0, 6, 0, 0, 0, 44, 0, 0, 0, 51, 0, 0, 0, 58, 0, 0, 0, 65, 0, 0, 0, 72, 0, 0, 0, 79, 0, 0, 0, 101]
abbrev dktX4_policyAt_2 : List UInt8 := dkwX4_policyAt_2 ++ dktX4_policyAt_3
def dkwX4_policyAt_1 : List UInt8 := [20, 1, 110, 184, 0, 168, 154, 0, 10, 42, 5, 182, 1, 86, 133, 173, 28]
abbrev dktX4_policyAt_1 : List UInt8 := dkwX4_policyAt_1 ++ dktX4_policyAt_2
def dkwX4_policyAt_0 : List UInt8 := [42, 3, 181, 0, 1, 42, 27, 182, 1, 124, 154, 0, 10, 42, 4, 182, 1, 86, 133, 173, 28, 133, 9]
abbrev dktX4_policyAt_0 : List UInt8 := dkwX4_policyAt_0 ++ dktX4_policyAt_1
theorem dksX4_policyAt_0 : cX4_policyAt.data.toList.drop 0 = dktX4_policyAt_0 := by decide +kernel
theorem dksX4_policyAt_1 : cX4_policyAt.data.toList.drop 23 = dktX4_policyAt_1 := dk_seg dksX4_policyAt_0 23 rfl rfl
theorem dksX4_policyAt_2 : cX4_policyAt.data.toList.drop 40 = dktX4_policyAt_2 := dk_seg dksX4_policyAt_1 17 rfl rfl
theorem dksX4_policyAt_3 : cX4_policyAt.data.toList.drop 84 = dktX4_policyAt_3 := dk_seg dksX4_policyAt_2 44 rfl rfl
theorem dksX4_policyAt_4 : cX4_policyAt.data.toList.drop 106 = dktX4_policyAt_4 := dk_seg dksX4_policyAt_3 22 rfl rfl
theorem dksX4_policyAt_5 : cX4_policyAt.data.toList.drop 130 = dktX4_policyAt_5 := dk_seg dksX4_policyAt_4 24 rfl rfl
theorem dksX4_policyAt_6 : cX4_policyAt.data.toList.drop 154 = dktX4_policyAt_6 := dk_seg dksX4_policyAt_5 24 rfl rfl
theorem dX4_policyAt_0 : decode cX4_policyAt 0 = .ok (.aload_n 0, 1) := dk_42 (dk_at dksX4_policyAt_0 0 rfl rfl)
theorem dX4_policyAt_1 : decode cX4_policyAt 1 = .ok (.iconst 0, 1) := dk_3 (dk_at dksX4_policyAt_0 1 rfl rfl)
theorem dX4_policyAt_2 : decode cX4_policyAt 2 = .ok (.putfield 1, 3) := dk_181 0 1 (dk_at dksX4_policyAt_0 2 rfl rfl)
theorem dX4_policyAt_5 : decode cX4_policyAt 5 = .ok (.aload_n 0, 1) := dk_42 (dk_at dksX4_policyAt_0 5 rfl rfl)
theorem dX4_policyAt_6 : decode cX4_policyAt 6 = .ok (.iload_n 1, 1) := dk_27 (dk_at dksX4_policyAt_0 6 rfl rfl)
theorem dX4_policyAt_7 : decode cX4_policyAt 7 = .ok (.invokevirtual 380, 3) := dk_182 1 124 (dk_at dksX4_policyAt_0 7 rfl rfl)
theorem dX4_policyAt_10 : decode cX4_policyAt 10 = .ok (.ifCond .ne 10, 3) := dk_154 0 10 (dk_at dksX4_policyAt_0 10 rfl rfl)
theorem dX4_policyAt_13 : decode cX4_policyAt 13 = .ok (.aload_n 0, 1) := dk_42 (dk_at dksX4_policyAt_0 13 rfl rfl)
theorem dX4_policyAt_14 : decode cX4_policyAt 14 = .ok (.iconst 1, 1) := dk_4 (dk_at dksX4_policyAt_0 14 rfl rfl)
theorem dX4_policyAt_15 : decode cX4_policyAt 15 = .ok (.invokevirtual 342, 3) := dk_182 1 86 (dk_at dksX4_policyAt_0 15 rfl rfl)
theorem dX4_policyAt_18 : decode cX4_policyAt 18 = .ok (.i2l, 1) := dk_133 (dk_at dksX4_policyAt_0 18 rfl rfl)
theorem dX4_policyAt_19 : decode cX4_policyAt 19 = .ok (.lreturn, 1) := dk_173 (dk_at dksX4_policyAt_0 19 rfl rfl)
theorem dX4_policyAt_20 : decode cX4_policyAt 20 = .ok (.iload_n 2, 1) := dk_28 (dk_at dksX4_policyAt_0 20 rfl rfl)
theorem dX4_policyAt_21 : decode cX4_policyAt 21 = .ok (.i2l, 1) := dk_133 (dk_at dksX4_policyAt_0 21 rfl rfl)
theorem dX4_policyAt_22 : decode cX4_policyAt 22 = .ok (.lconst 0, 1) := dk_9 (dk_at dksX4_policyAt_0 22 rfl rfl)
theorem dX4_policyAt_23 : decode cX4_policyAt 23 = .ok (.ldc2_w 366, 3) := dk_20 1 110 (dk_at dksX4_policyAt_1 0 rfl rfl)
theorem dX4_policyAt_26 : decode cX4_policyAt 26 = .ok (.invokestatic 168, 3) := dk_184 0 168 (dk_at dksX4_policyAt_1 3 rfl rfl)
theorem dX4_policyAt_29 : decode cX4_policyAt 29 = .ok (.ifCond .ne 10, 3) := dk_154 0 10 (dk_at dksX4_policyAt_1 6 rfl rfl)
theorem dX4_policyAt_32 : decode cX4_policyAt 32 = .ok (.aload_n 0, 1) := dk_42 (dk_at dksX4_policyAt_1 9 rfl rfl)
theorem dX4_policyAt_33 : decode cX4_policyAt 33 = .ok (.iconst 2, 1) := dk_5 (dk_at dksX4_policyAt_1 10 rfl rfl)
theorem dX4_policyAt_34 : decode cX4_policyAt 34 = .ok (.invokevirtual 342, 3) := dk_182 1 86 (dk_at dksX4_policyAt_1 11 rfl rfl)
theorem dX4_policyAt_37 : decode cX4_policyAt 37 = .ok (.i2l, 1) := dk_133 (dk_at dksX4_policyAt_1 14 rfl rfl)
theorem dX4_policyAt_38 : decode cX4_policyAt 38 = .ok (.lreturn, 1) := dk_173 (dk_at dksX4_policyAt_1 15 rfl rfl)
theorem dX4_policyAt_39 : decode cX4_policyAt 39 = .ok (.iload_n 2, 1) := dk_28 (dk_at dksX4_policyAt_1 16 rfl rfl)
theorem dX4_policyAt_40 : decode cX4_policyAt 40 = .ok (.tableswitch 109 0 6 #[44, 51, 58, 65, 72, 79, 101], 44) := by decide +kernel
theorem dX4_policyAt_84 : decode cX4_policyAt 84 = .ok (.aload_n 0, 1) := dk_42 (dk_at dksX4_policyAt_3 0 rfl rfl)
theorem dX4_policyAt_85 : decode cX4_policyAt 85 = .ok (.getfield 79, 3) := dk_180 0 79 (dk_at dksX4_policyAt_3 1 rfl rfl)
theorem dX4_policyAt_88 : decode cX4_policyAt 88 = .ok (.iload_n 1, 1) := dk_27 (dk_at dksX4_policyAt_3 4 rfl rfl)
theorem dX4_policyAt_89 : decode cX4_policyAt 89 = .ok (.laload, 1) := dk_47 (dk_at dksX4_policyAt_3 5 rfl rfl)
theorem dX4_policyAt_90 : decode cX4_policyAt 90 = .ok (.lreturn, 1) := dk_173 (dk_at dksX4_policyAt_3 6 rfl rfl)
theorem dX4_policyAt_91 : decode cX4_policyAt 91 = .ok (.aload_n 0, 1) := dk_42 (dk_at dksX4_policyAt_3 7 rfl rfl)
theorem dX4_policyAt_92 : decode cX4_policyAt 92 = .ok (.getfield 67, 3) := dk_180 0 67 (dk_at dksX4_policyAt_3 8 rfl rfl)
theorem dX4_policyAt_95 : decode cX4_policyAt 95 = .ok (.iload_n 1, 1) := dk_27 (dk_at dksX4_policyAt_3 11 rfl rfl)
theorem dX4_policyAt_96 : decode cX4_policyAt 96 = .ok (.laload, 1) := dk_47 (dk_at dksX4_policyAt_3 12 rfl rfl)
theorem dX4_policyAt_97 : decode cX4_policyAt 97 = .ok (.lreturn, 1) := dk_173 (dk_at dksX4_policyAt_3 13 rfl rfl)
theorem dX4_policyAt_98 : decode cX4_policyAt 98 = .ok (.aload_n 0, 1) := dk_42 (dk_at dksX4_policyAt_3 14 rfl rfl)
theorem dX4_policyAt_99 : decode cX4_policyAt 99 = .ok (.getfield 70, 3) := dk_180 0 70 (dk_at dksX4_policyAt_3 15 rfl rfl)
theorem dX4_policyAt_102 : decode cX4_policyAt 102 = .ok (.iload_n 1, 1) := dk_27 (dk_at dksX4_policyAt_3 18 rfl rfl)
theorem dX4_policyAt_103 : decode cX4_policyAt 103 = .ok (.laload, 1) := dk_47 (dk_at dksX4_policyAt_3 19 rfl rfl)
theorem dX4_policyAt_104 : decode cX4_policyAt 104 = .ok (.lreturn, 1) := dk_173 (dk_at dksX4_policyAt_3 20 rfl rfl)
theorem dX4_policyAt_105 : decode cX4_policyAt 105 = .ok (.aload_n 0, 1) := dk_42 (dk_at dksX4_policyAt_3 21 rfl rfl)
theorem dX4_policyAt_106 : decode cX4_policyAt 106 = .ok (.getfield 73, 3) := dk_180 0 73 (dk_at dksX4_policyAt_4 0 rfl rfl)
theorem dX4_policyAt_109 : decode cX4_policyAt 109 = .ok (.iload_n 1, 1) := dk_27 (dk_at dksX4_policyAt_4 3 rfl rfl)
theorem dX4_policyAt_110 : decode cX4_policyAt 110 = .ok (.laload, 1) := dk_47 (dk_at dksX4_policyAt_4 4 rfl rfl)
theorem dX4_policyAt_111 : decode cX4_policyAt 111 = .ok (.lreturn, 1) := dk_173 (dk_at dksX4_policyAt_4 5 rfl rfl)
theorem dX4_policyAt_112 : decode cX4_policyAt 112 = .ok (.aload_n 0, 1) := dk_42 (dk_at dksX4_policyAt_4 6 rfl rfl)
theorem dX4_policyAt_113 : decode cX4_policyAt 113 = .ok (.getfield 76, 3) := dk_180 0 76 (dk_at dksX4_policyAt_4 7 rfl rfl)
theorem dX4_policyAt_116 : decode cX4_policyAt 116 = .ok (.iload_n 1, 1) := dk_27 (dk_at dksX4_policyAt_4 10 rfl rfl)
theorem dX4_policyAt_117 : decode cX4_policyAt 117 = .ok (.laload, 1) := dk_47 (dk_at dksX4_policyAt_4 11 rfl rfl)
theorem dX4_policyAt_118 : decode cX4_policyAt 118 = .ok (.lreturn, 1) := dk_173 (dk_at dksX4_policyAt_4 12 rfl rfl)
theorem dX4_policyAt_119 : decode cX4_policyAt 119 = .ok (.aload_n 0, 1) := dk_42 (dk_at dksX4_policyAt_4 13 rfl rfl)
theorem dX4_policyAt_120 : decode cX4_policyAt 120 = .ok (.iload_n 1, 1) := dk_27 (dk_at dksX4_policyAt_4 14 rfl rfl)
theorem dX4_policyAt_121 : decode cX4_policyAt 121 = .ok (.invokevirtual 234, 3) := dk_182 0 234 (dk_at dksX4_policyAt_4 15 rfl rfl)
theorem dX4_policyAt_124 : decode cX4_policyAt 124 = .ok (.ifCond .eq 15, 3) := dk_153 0 15 (dk_at dksX4_policyAt_4 18 rfl rfl)
theorem dX4_policyAt_127 : decode cX4_policyAt 127 = .ok (.aload_n 0, 1) := dk_42 (dk_at dksX4_policyAt_4 21 rfl rfl)
theorem dX4_policyAt_128 : decode cX4_policyAt 128 = .ok (.iload_n 1, 1) := dk_27 (dk_at dksX4_policyAt_4 22 rfl rfl)
theorem dX4_policyAt_129 : decode cX4_policyAt 129 = .ok (.aload_n 0, 1) := dk_42 (dk_at dksX4_policyAt_4 23 rfl rfl)
theorem dX4_policyAt_130 : decode cX4_policyAt 130 = .ok (.getfield 114, 3) := dk_180 0 114 (dk_at dksX4_policyAt_5 0 rfl rfl)
theorem dX4_policyAt_133 : decode cX4_policyAt 133 = .ok (.invokevirtual 302, 3) := dk_182 1 46 (dk_at dksX4_policyAt_5 3 rfl rfl)
theorem dX4_policyAt_136 : decode cX4_policyAt 136 = .ok (.goto 4, 3) := dk_167 0 4 (dk_at dksX4_policyAt_5 6 rfl rfl)
theorem dX4_policyAt_139 : decode cX4_policyAt 139 = .ok (.lconst 0, 1) := dk_9 (dk_at dksX4_policyAt_5 9 rfl rfl)
theorem dX4_policyAt_140 : decode cX4_policyAt 140 = .ok (.lreturn, 1) := dk_173 (dk_at dksX4_policyAt_5 10 rfl rfl)
theorem dX4_policyAt_141 : decode cX4_policyAt 141 = .ok (.aload_n 0, 1) := dk_42 (dk_at dksX4_policyAt_5 11 rfl rfl)
theorem dX4_policyAt_142 : decode cX4_policyAt 142 = .ok (.getfield 43, 3) := dk_180 0 43 (dk_at dksX4_policyAt_5 12 rfl rfl)
theorem dX4_policyAt_145 : decode cX4_policyAt 145 = .ok (.iload_n 1, 1) := dk_27 (dk_at dksX4_policyAt_5 15 rfl rfl)
theorem dX4_policyAt_146 : decode cX4_policyAt 146 = .ok (.iaload, 1) := dk_46 (dk_at dksX4_policyAt_5 16 rfl rfl)
theorem dX4_policyAt_147 : decode cX4_policyAt 147 = .ok (.i2l, 1) := dk_133 (dk_at dksX4_policyAt_5 17 rfl rfl)
theorem dX4_policyAt_148 : decode cX4_policyAt 148 = .ok (.lreturn, 1) := dk_173 (dk_at dksX4_policyAt_5 18 rfl rfl)
theorem dX4_policyAt_149 : decode cX4_policyAt 149 = .ok (.aload_n 0, 1) := dk_42 (dk_at dksX4_policyAt_5 19 rfl rfl)
theorem dX4_policyAt_150 : decode cX4_policyAt 150 = .ok (.getfield 46, 3) := dk_180 0 46 (dk_at dksX4_policyAt_5 20 rfl rfl)
theorem dX4_policyAt_153 : decode cX4_policyAt 153 = .ok (.iload_n 1, 1) := dk_27 (dk_at dksX4_policyAt_5 23 rfl rfl)
theorem dX4_policyAt_154 : decode cX4_policyAt 154 = .ok (.iaload, 1) := dk_46 (dk_at dksX4_policyAt_6 0 rfl rfl)
theorem dX4_policyAt_155 : decode cX4_policyAt 155 = .ok (.i2l, 1) := dk_133 (dk_at dksX4_policyAt_6 1 rfl rfl)
theorem dX4_policyAt_156 : decode cX4_policyAt 156 = .ok (.lreturn, 1) := dk_173 (dk_at dksX4_policyAt_6 2 rfl rfl)
abbrev cX4_surrenderAt : ByteArray := prog_12_method_19_code
def yX4_surrenderAt : MethodName := ⟨RX4, "surrenderAt", "(II)J"⟩
def dkwX4_surrenderAt_1 : List UInt8 := [20, 0, 248, 105, 20, 0, 250, 184, 0, 238, 184, 0, 241, 173]
abbrev dktX4_surrenderAt_1 : List UInt8 := dkwX4_surrenderAt_1 ++ []
def dkwX4_surrenderAt_0 : List UInt8 := [42, 180, 0, 31, 27, 46, 5, 161, 0, 7, 9, 167, 0, 24, 9, 42, 27, 28, 3, 182, 0, 244]
abbrev dktX4_surrenderAt_0 : List UInt8 := dkwX4_surrenderAt_0 ++ dktX4_surrenderAt_1
theorem dksX4_surrenderAt_0 : cX4_surrenderAt.data.toList.drop 0 = dktX4_surrenderAt_0 := by decide +kernel
theorem dksX4_surrenderAt_1 : cX4_surrenderAt.data.toList.drop 22 = dktX4_surrenderAt_1 := dk_seg dksX4_surrenderAt_0 22 rfl rfl
theorem dX4_surrenderAt_0 : decode cX4_surrenderAt 0 = .ok (.aload_n 0, 1) := dk_42 (dk_at dksX4_surrenderAt_0 0 rfl rfl)
theorem dX4_surrenderAt_1 : decode cX4_surrenderAt 1 = .ok (.getfield 31, 3) := dk_180 0 31 (dk_at dksX4_surrenderAt_0 1 rfl rfl)
theorem dX4_surrenderAt_4 : decode cX4_surrenderAt 4 = .ok (.iload_n 1, 1) := dk_27 (dk_at dksX4_surrenderAt_0 4 rfl rfl)
theorem dX4_surrenderAt_5 : decode cX4_surrenderAt 5 = .ok (.iaload, 1) := dk_46 (dk_at dksX4_surrenderAt_0 5 rfl rfl)
theorem dX4_surrenderAt_6 : decode cX4_surrenderAt 6 = .ok (.iconst 2, 1) := dk_5 (dk_at dksX4_surrenderAt_0 6 rfl rfl)
theorem dX4_surrenderAt_7 : decode cX4_surrenderAt 7 = .ok (.if_icmp .lt 7, 3) := dk_161 0 7 (dk_at dksX4_surrenderAt_0 7 rfl rfl)
theorem dX4_surrenderAt_10 : decode cX4_surrenderAt 10 = .ok (.lconst 0, 1) := dk_9 (dk_at dksX4_surrenderAt_0 10 rfl rfl)
theorem dX4_surrenderAt_11 : decode cX4_surrenderAt 11 = .ok (.goto 24, 3) := dk_167 0 24 (dk_at dksX4_surrenderAt_0 11 rfl rfl)
theorem dX4_surrenderAt_14 : decode cX4_surrenderAt 14 = .ok (.lconst 0, 1) := dk_9 (dk_at dksX4_surrenderAt_0 14 rfl rfl)
theorem dX4_surrenderAt_15 : decode cX4_surrenderAt 15 = .ok (.aload_n 0, 1) := dk_42 (dk_at dksX4_surrenderAt_0 15 rfl rfl)
theorem dX4_surrenderAt_16 : decode cX4_surrenderAt 16 = .ok (.iload_n 1, 1) := dk_27 (dk_at dksX4_surrenderAt_0 16 rfl rfl)
theorem dX4_surrenderAt_17 : decode cX4_surrenderAt 17 = .ok (.iload_n 2, 1) := dk_28 (dk_at dksX4_surrenderAt_0 17 rfl rfl)
theorem dX4_surrenderAt_18 : decode cX4_surrenderAt 18 = .ok (.iconst 0, 1) := dk_3 (dk_at dksX4_surrenderAt_0 18 rfl rfl)
theorem dX4_surrenderAt_19 : decode cX4_surrenderAt 19 = .ok (.invokevirtual 244, 3) := dk_182 0 244 (dk_at dksX4_surrenderAt_0 19 rfl rfl)
theorem dX4_surrenderAt_22 : decode cX4_surrenderAt 22 = .ok (.ldc2_w 248, 3) := dk_20 0 248 (dk_at dksX4_surrenderAt_1 0 rfl rfl)
theorem dX4_surrenderAt_25 : decode cX4_surrenderAt 25 = .ok (.lmul, 1) := dk_105 (dk_at dksX4_surrenderAt_1 3 rfl rfl)
theorem dX4_surrenderAt_26 : decode cX4_surrenderAt 26 = .ok (.ldc2_w 250, 3) := dk_20 0 250 (dk_at dksX4_surrenderAt_1 4 rfl rfl)
theorem dX4_surrenderAt_29 : decode cX4_surrenderAt 29 = .ok (.invokestatic 238, 3) := dk_184 0 238 (dk_at dksX4_surrenderAt_1 7 rfl rfl)
theorem dX4_surrenderAt_32 : decode cX4_surrenderAt 32 = .ok (.invokestatic 241, 3) := dk_184 0 241 (dk_at dksX4_surrenderAt_1 10 rfl rfl)
theorem dX4_surrenderAt_35 : decode cX4_surrenderAt 35 = .ok (.lreturn, 1) := dk_173 (dk_at dksX4_surrenderAt_1 13 rfl rfl)
abbrev cX4_reserve : ByteArray := prog_12_method_58_code
def yX4_reserve : MethodName := ⟨RX4, "reserve", "(II)J"⟩
def dkwX4_reserve_1 : List UInt8 := [182, 1, 86, 133, 173, 42, 27, 42, 180, 0, 114, 28, 182, 0, 244, 173]
abbrev dktX4_reserve_1 : List UInt8 := dkwX4_reserve_1 ++ []
def dkwX4_reserve_0 : List UInt8 := [42, 3, 181, 0, 1, 42, 27, 182, 1, 124, 153, 0, 10, 28, 184, 1, 90, 154, 0, 10, 42, 4]
abbrev dktX4_reserve_0 : List UInt8 := dkwX4_reserve_0 ++ dktX4_reserve_1
theorem dksX4_reserve_0 : cX4_reserve.data.toList.drop 0 = dktX4_reserve_0 := by decide +kernel
theorem dksX4_reserve_1 : cX4_reserve.data.toList.drop 22 = dktX4_reserve_1 := dk_seg dksX4_reserve_0 22 rfl rfl
theorem dX4_reserve_0 : decode cX4_reserve 0 = .ok (.aload_n 0, 1) := dk_42 (dk_at dksX4_reserve_0 0 rfl rfl)
theorem dX4_reserve_1 : decode cX4_reserve 1 = .ok (.iconst 0, 1) := dk_3 (dk_at dksX4_reserve_0 1 rfl rfl)
theorem dX4_reserve_2 : decode cX4_reserve 2 = .ok (.putfield 1, 3) := dk_181 0 1 (dk_at dksX4_reserve_0 2 rfl rfl)
theorem dX4_reserve_5 : decode cX4_reserve 5 = .ok (.aload_n 0, 1) := dk_42 (dk_at dksX4_reserve_0 5 rfl rfl)
theorem dX4_reserve_6 : decode cX4_reserve 6 = .ok (.iload_n 1, 1) := dk_27 (dk_at dksX4_reserve_0 6 rfl rfl)
theorem dX4_reserve_7 : decode cX4_reserve 7 = .ok (.invokevirtual 380, 3) := dk_182 1 124 (dk_at dksX4_reserve_0 7 rfl rfl)
theorem dX4_reserve_10 : decode cX4_reserve 10 = .ok (.ifCond .eq 10, 3) := dk_153 0 10 (dk_at dksX4_reserve_0 10 rfl rfl)
theorem dX4_reserve_13 : decode cX4_reserve 13 = .ok (.iload_n 2, 1) := dk_28 (dk_at dksX4_reserve_0 13 rfl rfl)
theorem dX4_reserve_14 : decode cX4_reserve 14 = .ok (.invokestatic 346, 3) := dk_184 1 90 (dk_at dksX4_reserve_0 14 rfl rfl)
theorem dX4_reserve_17 : decode cX4_reserve 17 = .ok (.ifCond .ne 10, 3) := dk_154 0 10 (dk_at dksX4_reserve_0 17 rfl rfl)
theorem dX4_reserve_20 : decode cX4_reserve 20 = .ok (.aload_n 0, 1) := dk_42 (dk_at dksX4_reserve_0 20 rfl rfl)
theorem dX4_reserve_21 : decode cX4_reserve 21 = .ok (.iconst 1, 1) := dk_4 (dk_at dksX4_reserve_0 21 rfl rfl)
theorem dX4_reserve_22 : decode cX4_reserve 22 = .ok (.invokevirtual 342, 3) := dk_182 1 86 (dk_at dksX4_reserve_1 0 rfl rfl)
theorem dX4_reserve_25 : decode cX4_reserve 25 = .ok (.i2l, 1) := dk_133 (dk_at dksX4_reserve_1 3 rfl rfl)
theorem dX4_reserve_26 : decode cX4_reserve 26 = .ok (.lreturn, 1) := dk_173 (dk_at dksX4_reserve_1 4 rfl rfl)
theorem dX4_reserve_27 : decode cX4_reserve 27 = .ok (.aload_n 0, 1) := dk_42 (dk_at dksX4_reserve_1 5 rfl rfl)
theorem dX4_reserve_28 : decode cX4_reserve 28 = .ok (.iload_n 1, 1) := dk_27 (dk_at dksX4_reserve_1 6 rfl rfl)
theorem dX4_reserve_29 : decode cX4_reserve 29 = .ok (.aload_n 0, 1) := dk_42 (dk_at dksX4_reserve_1 7 rfl rfl)
theorem dX4_reserve_30 : decode cX4_reserve 30 = .ok (.getfield 114, 3) := dk_180 0 114 (dk_at dksX4_reserve_1 8 rfl rfl)
theorem dX4_reserve_33 : decode cX4_reserve 33 = .ok (.iload_n 2, 1) := dk_28 (dk_at dksX4_reserve_1 11 rfl rfl)
theorem dX4_reserve_34 : decode cX4_reserve 34 = .ok (.invokevirtual 244, 3) := dk_182 0 244 (dk_at dksX4_reserve_1 12 rfl rfl)
theorem dX4_reserve_37 : decode cX4_reserve 37 = .ok (.lreturn, 1) := dk_173 (dk_at dksX4_reserve_1 15 rfl rfl)
abbrev cX4_reserves : ByteArray := prog_12_method_59_code
def yX4_reserves : MethodName := ⟨RX4, "reserves", "(I)J"⟩
def dkwX4_reserves_1 : List UInt8 := [173]
abbrev dktX4_reserves_1 : List UInt8 := dkwX4_reserves_1 ++ []
def dkwX4_reserves_0 : List UInt8 := [42, 3, 181, 0, 1, 27, 184, 1, 90, 154, 0, 10, 42, 4, 182, 1, 86, 133, 173, 42, 27, 182, 1, 3]
abbrev dktX4_reserves_0 : List UInt8 := dkwX4_reserves_0 ++ dktX4_reserves_1
theorem dksX4_reserves_0 : cX4_reserves.data.toList.drop 0 = dktX4_reserves_0 := by decide +kernel
theorem dksX4_reserves_1 : cX4_reserves.data.toList.drop 24 = dktX4_reserves_1 := dk_seg dksX4_reserves_0 24 rfl rfl
theorem dX4_reserves_0 : decode cX4_reserves 0 = .ok (.aload_n 0, 1) := dk_42 (dk_at dksX4_reserves_0 0 rfl rfl)
theorem dX4_reserves_1 : decode cX4_reserves 1 = .ok (.iconst 0, 1) := dk_3 (dk_at dksX4_reserves_0 1 rfl rfl)
theorem dX4_reserves_2 : decode cX4_reserves 2 = .ok (.putfield 1, 3) := dk_181 0 1 (dk_at dksX4_reserves_0 2 rfl rfl)
theorem dX4_reserves_5 : decode cX4_reserves 5 = .ok (.iload_n 1, 1) := dk_27 (dk_at dksX4_reserves_0 5 rfl rfl)
theorem dX4_reserves_6 : decode cX4_reserves 6 = .ok (.invokestatic 346, 3) := dk_184 1 90 (dk_at dksX4_reserves_0 6 rfl rfl)
theorem dX4_reserves_9 : decode cX4_reserves 9 = .ok (.ifCond .ne 10, 3) := dk_154 0 10 (dk_at dksX4_reserves_0 9 rfl rfl)
theorem dX4_reserves_12 : decode cX4_reserves 12 = .ok (.aload_n 0, 1) := dk_42 (dk_at dksX4_reserves_0 12 rfl rfl)
theorem dX4_reserves_13 : decode cX4_reserves 13 = .ok (.iconst 1, 1) := dk_4 (dk_at dksX4_reserves_0 13 rfl rfl)
theorem dX4_reserves_14 : decode cX4_reserves 14 = .ok (.invokevirtual 342, 3) := dk_182 1 86 (dk_at dksX4_reserves_0 14 rfl rfl)
theorem dX4_reserves_17 : decode cX4_reserves 17 = .ok (.i2l, 1) := dk_133 (dk_at dksX4_reserves_0 17 rfl rfl)
theorem dX4_reserves_18 : decode cX4_reserves 18 = .ok (.lreturn, 1) := dk_173 (dk_at dksX4_reserves_0 18 rfl rfl)
theorem dX4_reserves_19 : decode cX4_reserves 19 = .ok (.aload_n 0, 1) := dk_42 (dk_at dksX4_reserves_0 19 rfl rfl)
theorem dX4_reserves_20 : decode cX4_reserves 20 = .ok (.iload_n 1, 1) := dk_27 (dk_at dksX4_reserves_0 20 rfl rfl)
theorem dX4_reserves_21 : decode cX4_reserves 21 = .ok (.invokevirtual 259, 3) := dk_182 1 3 (dk_at dksX4_reserves_0 21 rfl rfl)
theorem dX4_reserves_24 : decode cX4_reserves 24 = .ok (.lreturn, 1) := dk_173 (dk_at dksX4_reserves_1 0 rfl rfl)
abbrev cX4_makePaidUp : ByteArray := prog_12_method_60_code
def yX4_makePaidUp : MethodName := ⟨RX4, "makePaidUp", "(I)I"⟩
def dkwX4_makePaidUp_6 : List UInt8 := [182, 0, 244, 101, 97, 80, 42, 180, 0, 67, 27, 47, 136, 172]
abbrev dktX4_makePaidUp_6 : List UInt8 := dkwX4_makePaidUp_6 ++ []
def dkwX4_makePaidUp_5 : List UInt8 := [42, 180, 0, 64, 27, 4, 84, 42, 180, 0, 24, 7, 92, 47, 32, 42, 27, 42, 180, 0, 114, 3]
abbrev dktX4_makePaidUp_5 : List UInt8 := dkwX4_makePaidUp_5 ++ dktX4_makePaidUp_6
def dkwX4_makePaidUp_4 : List UInt8 := [105, 42, 180, 0, 205, 109, 42, 180, 0, 70, 27, 47, 101, 184, 0, 241, 80, 42, 180, 0, 49, 27, 4, 79]
abbrev dktX4_makePaidUp_4 : List UInt8 := dkwX4_makePaidUp_4 ++ dktX4_makePaidUp_5
def dkwX4_makePaidUp_3 : List UInt8 := [182, 1, 86, 172, 42, 27, 42, 180, 0, 114, 3, 182, 0, 227, 42, 180, 0, 67, 27, 9, 32, 20, 0, 180]
abbrev dktX4_makePaidUp_3 : List UInt8 := dkwX4_makePaidUp_3 ++ dktX4_makePaidUp_4
def dkwX4_makePaidUp_2 : List UInt8 := [162, 0, 22, 42, 180, 0, 43, 27, 46, 42, 180, 0, 114, 159, 0, 9, 32, 9, 148, 157, 0, 9, 42, 5]
abbrev dktX4_makePaidUp_2 : List UInt8 := dkwX4_makePaidUp_2 ++ dktX4_makePaidUp_3
def dkwX4_makePaidUp_1 : List UInt8 := [180, 0, 114, 3, 182, 0, 244, 65, 42, 180, 0, 49, 27, 46, 154, 0, 32, 42, 180, 0, 31, 27, 46, 5]
abbrev dktX4_makePaidUp_1 : List UInt8 := dkwX4_makePaidUp_1 ++ dktX4_makePaidUp_2
def dkwX4_makePaidUp_0 : List UInt8 := [42, 3, 181, 0, 1, 42, 27, 182, 1, 124, 154, 0, 9, 42, 4, 182, 1, 86, 172, 42, 27, 42]
abbrev dktX4_makePaidUp_0 : List UInt8 := dkwX4_makePaidUp_0 ++ dktX4_makePaidUp_1
theorem dksX4_makePaidUp_0 : cX4_makePaidUp.data.toList.drop 0 = dktX4_makePaidUp_0 := by decide +kernel
theorem dksX4_makePaidUp_1 : cX4_makePaidUp.data.toList.drop 22 = dktX4_makePaidUp_1 := dk_seg dksX4_makePaidUp_0 22 rfl rfl
theorem dksX4_makePaidUp_2 : cX4_makePaidUp.data.toList.drop 46 = dktX4_makePaidUp_2 := dk_seg dksX4_makePaidUp_1 24 rfl rfl
theorem dksX4_makePaidUp_3 : cX4_makePaidUp.data.toList.drop 70 = dktX4_makePaidUp_3 := dk_seg dksX4_makePaidUp_2 24 rfl rfl
theorem dksX4_makePaidUp_4 : cX4_makePaidUp.data.toList.drop 94 = dktX4_makePaidUp_4 := dk_seg dksX4_makePaidUp_3 24 rfl rfl
theorem dksX4_makePaidUp_5 : cX4_makePaidUp.data.toList.drop 118 = dktX4_makePaidUp_5 := dk_seg dksX4_makePaidUp_4 24 rfl rfl
theorem dksX4_makePaidUp_6 : cX4_makePaidUp.data.toList.drop 140 = dktX4_makePaidUp_6 := dk_seg dksX4_makePaidUp_5 22 rfl rfl
theorem dX4_makePaidUp_0 : decode cX4_makePaidUp 0 = .ok (.aload_n 0, 1) := dk_42 (dk_at dksX4_makePaidUp_0 0 rfl rfl)
theorem dX4_makePaidUp_1 : decode cX4_makePaidUp 1 = .ok (.iconst 0, 1) := dk_3 (dk_at dksX4_makePaidUp_0 1 rfl rfl)
theorem dX4_makePaidUp_2 : decode cX4_makePaidUp 2 = .ok (.putfield 1, 3) := dk_181 0 1 (dk_at dksX4_makePaidUp_0 2 rfl rfl)
theorem dX4_makePaidUp_5 : decode cX4_makePaidUp 5 = .ok (.aload_n 0, 1) := dk_42 (dk_at dksX4_makePaidUp_0 5 rfl rfl)
theorem dX4_makePaidUp_6 : decode cX4_makePaidUp 6 = .ok (.iload_n 1, 1) := dk_27 (dk_at dksX4_makePaidUp_0 6 rfl rfl)
theorem dX4_makePaidUp_7 : decode cX4_makePaidUp 7 = .ok (.invokevirtual 380, 3) := dk_182 1 124 (dk_at dksX4_makePaidUp_0 7 rfl rfl)
theorem dX4_makePaidUp_10 : decode cX4_makePaidUp 10 = .ok (.ifCond .ne 9, 3) := dk_154 0 9 (dk_at dksX4_makePaidUp_0 10 rfl rfl)
theorem dX4_makePaidUp_13 : decode cX4_makePaidUp 13 = .ok (.aload_n 0, 1) := dk_42 (dk_at dksX4_makePaidUp_0 13 rfl rfl)
theorem dX4_makePaidUp_14 : decode cX4_makePaidUp 14 = .ok (.iconst 1, 1) := dk_4 (dk_at dksX4_makePaidUp_0 14 rfl rfl)
theorem dX4_makePaidUp_15 : decode cX4_makePaidUp 15 = .ok (.invokevirtual 342, 3) := dk_182 1 86 (dk_at dksX4_makePaidUp_0 15 rfl rfl)
theorem dX4_makePaidUp_18 : decode cX4_makePaidUp 18 = .ok (.ireturn, 1) := dk_172 (dk_at dksX4_makePaidUp_0 18 rfl rfl)
theorem dX4_makePaidUp_19 : decode cX4_makePaidUp 19 = .ok (.aload_n 0, 1) := dk_42 (dk_at dksX4_makePaidUp_0 19 rfl rfl)
theorem dX4_makePaidUp_20 : decode cX4_makePaidUp 20 = .ok (.iload_n 1, 1) := dk_27 (dk_at dksX4_makePaidUp_0 20 rfl rfl)
theorem dX4_makePaidUp_21 : decode cX4_makePaidUp 21 = .ok (.aload_n 0, 1) := dk_42 (dk_at dksX4_makePaidUp_0 21 rfl rfl)
theorem dX4_makePaidUp_22 : decode cX4_makePaidUp 22 = .ok (.getfield 114, 3) := dk_180 0 114 (dk_at dksX4_makePaidUp_1 0 rfl rfl)
theorem dX4_makePaidUp_25 : decode cX4_makePaidUp 25 = .ok (.iconst 0, 1) := dk_3 (dk_at dksX4_makePaidUp_1 3 rfl rfl)
theorem dX4_makePaidUp_26 : decode cX4_makePaidUp 26 = .ok (.invokevirtual 244, 3) := dk_182 0 244 (dk_at dksX4_makePaidUp_1 4 rfl rfl)
theorem dX4_makePaidUp_29 : decode cX4_makePaidUp 29 = .ok (.lstore_n 2, 1) := dk_65 (dk_at dksX4_makePaidUp_1 7 rfl rfl)
theorem dX4_makePaidUp_30 : decode cX4_makePaidUp 30 = .ok (.aload_n 0, 1) := dk_42 (dk_at dksX4_makePaidUp_1 8 rfl rfl)
theorem dX4_makePaidUp_31 : decode cX4_makePaidUp 31 = .ok (.getfield 49, 3) := dk_180 0 49 (dk_at dksX4_makePaidUp_1 9 rfl rfl)
theorem dX4_makePaidUp_34 : decode cX4_makePaidUp 34 = .ok (.iload_n 1, 1) := dk_27 (dk_at dksX4_makePaidUp_1 12 rfl rfl)
theorem dX4_makePaidUp_35 : decode cX4_makePaidUp 35 = .ok (.iaload, 1) := dk_46 (dk_at dksX4_makePaidUp_1 13 rfl rfl)
theorem dX4_makePaidUp_36 : decode cX4_makePaidUp 36 = .ok (.ifCond .ne 32, 3) := dk_154 0 32 (dk_at dksX4_makePaidUp_1 14 rfl rfl)
theorem dX4_makePaidUp_39 : decode cX4_makePaidUp 39 = .ok (.aload_n 0, 1) := dk_42 (dk_at dksX4_makePaidUp_1 17 rfl rfl)
theorem dX4_makePaidUp_40 : decode cX4_makePaidUp 40 = .ok (.getfield 31, 3) := dk_180 0 31 (dk_at dksX4_makePaidUp_1 18 rfl rfl)
theorem dX4_makePaidUp_43 : decode cX4_makePaidUp 43 = .ok (.iload_n 1, 1) := dk_27 (dk_at dksX4_makePaidUp_1 21 rfl rfl)
theorem dX4_makePaidUp_44 : decode cX4_makePaidUp 44 = .ok (.iaload, 1) := dk_46 (dk_at dksX4_makePaidUp_1 22 rfl rfl)
theorem dX4_makePaidUp_45 : decode cX4_makePaidUp 45 = .ok (.iconst 2, 1) := dk_5 (dk_at dksX4_makePaidUp_1 23 rfl rfl)
theorem dX4_makePaidUp_46 : decode cX4_makePaidUp 46 = .ok (.if_icmp .ge 22, 3) := dk_162 0 22 (dk_at dksX4_makePaidUp_2 0 rfl rfl)
theorem dX4_makePaidUp_49 : decode cX4_makePaidUp 49 = .ok (.aload_n 0, 1) := dk_42 (dk_at dksX4_makePaidUp_2 3 rfl rfl)
theorem dX4_makePaidUp_50 : decode cX4_makePaidUp 50 = .ok (.getfield 43, 3) := dk_180 0 43 (dk_at dksX4_makePaidUp_2 4 rfl rfl)
theorem dX4_makePaidUp_53 : decode cX4_makePaidUp 53 = .ok (.iload_n 1, 1) := dk_27 (dk_at dksX4_makePaidUp_2 7 rfl rfl)
theorem dX4_makePaidUp_54 : decode cX4_makePaidUp 54 = .ok (.iaload, 1) := dk_46 (dk_at dksX4_makePaidUp_2 8 rfl rfl)
theorem dX4_makePaidUp_55 : decode cX4_makePaidUp 55 = .ok (.aload_n 0, 1) := dk_42 (dk_at dksX4_makePaidUp_2 9 rfl rfl)
theorem dX4_makePaidUp_56 : decode cX4_makePaidUp 56 = .ok (.getfield 114, 3) := dk_180 0 114 (dk_at dksX4_makePaidUp_2 10 rfl rfl)
theorem dX4_makePaidUp_59 : decode cX4_makePaidUp 59 = .ok (.if_icmp .eq 9, 3) := dk_159 0 9 (dk_at dksX4_makePaidUp_2 13 rfl rfl)
theorem dX4_makePaidUp_62 : decode cX4_makePaidUp 62 = .ok (.lload_n 2, 1) := dk_32 (dk_at dksX4_makePaidUp_2 16 rfl rfl)
theorem dX4_makePaidUp_63 : decode cX4_makePaidUp 63 = .ok (.lconst 0, 1) := dk_9 (dk_at dksX4_makePaidUp_2 17 rfl rfl)
theorem dX4_makePaidUp_64 : decode cX4_makePaidUp 64 = .ok (.lcmp, 1) := dk_148 (dk_at dksX4_makePaidUp_2 18 rfl rfl)
theorem dX4_makePaidUp_65 : decode cX4_makePaidUp 65 = .ok (.ifCond .gt 9, 3) := dk_157 0 9 (dk_at dksX4_makePaidUp_2 19 rfl rfl)
theorem dX4_makePaidUp_68 : decode cX4_makePaidUp 68 = .ok (.aload_n 0, 1) := dk_42 (dk_at dksX4_makePaidUp_2 22 rfl rfl)
theorem dX4_makePaidUp_69 : decode cX4_makePaidUp 69 = .ok (.iconst 2, 1) := dk_5 (dk_at dksX4_makePaidUp_2 23 rfl rfl)
theorem dX4_makePaidUp_70 : decode cX4_makePaidUp 70 = .ok (.invokevirtual 342, 3) := dk_182 1 86 (dk_at dksX4_makePaidUp_3 0 rfl rfl)
theorem dX4_makePaidUp_73 : decode cX4_makePaidUp 73 = .ok (.ireturn, 1) := dk_172 (dk_at dksX4_makePaidUp_3 3 rfl rfl)
theorem dX4_makePaidUp_74 : decode cX4_makePaidUp 74 = .ok (.aload_n 0, 1) := dk_42 (dk_at dksX4_makePaidUp_3 4 rfl rfl)
theorem dX4_makePaidUp_75 : decode cX4_makePaidUp 75 = .ok (.iload_n 1, 1) := dk_27 (dk_at dksX4_makePaidUp_3 5 rfl rfl)
theorem dX4_makePaidUp_76 : decode cX4_makePaidUp 76 = .ok (.aload_n 0, 1) := dk_42 (dk_at dksX4_makePaidUp_3 6 rfl rfl)
theorem dX4_makePaidUp_77 : decode cX4_makePaidUp 77 = .ok (.getfield 114, 3) := dk_180 0 114 (dk_at dksX4_makePaidUp_3 7 rfl rfl)
theorem dX4_makePaidUp_80 : decode cX4_makePaidUp 80 = .ok (.iconst 0, 1) := dk_3 (dk_at dksX4_makePaidUp_3 10 rfl rfl)
theorem dX4_makePaidUp_81 : decode cX4_makePaidUp 81 = .ok (.invokevirtual 227, 3) := dk_182 0 227 (dk_at dksX4_makePaidUp_3 11 rfl rfl)
theorem dX4_makePaidUp_84 : decode cX4_makePaidUp 84 = .ok (.aload_n 0, 1) := dk_42 (dk_at dksX4_makePaidUp_3 14 rfl rfl)
theorem dX4_makePaidUp_85 : decode cX4_makePaidUp 85 = .ok (.getfield 67, 3) := dk_180 0 67 (dk_at dksX4_makePaidUp_3 15 rfl rfl)
theorem dX4_makePaidUp_88 : decode cX4_makePaidUp 88 = .ok (.iload_n 1, 1) := dk_27 (dk_at dksX4_makePaidUp_3 18 rfl rfl)
theorem dX4_makePaidUp_89 : decode cX4_makePaidUp 89 = .ok (.lconst 0, 1) := dk_9 (dk_at dksX4_makePaidUp_3 19 rfl rfl)
theorem dX4_makePaidUp_90 : decode cX4_makePaidUp 90 = .ok (.lload_n 2, 1) := dk_32 (dk_at dksX4_makePaidUp_3 20 rfl rfl)
theorem dX4_makePaidUp_91 : decode cX4_makePaidUp 91 = .ok (.ldc2_w 180, 3) := dk_20 0 180 (dk_at dksX4_makePaidUp_3 21 rfl rfl)
theorem dX4_makePaidUp_94 : decode cX4_makePaidUp 94 = .ok (.lmul, 1) := dk_105 (dk_at dksX4_makePaidUp_4 0 rfl rfl)
theorem dX4_makePaidUp_95 : decode cX4_makePaidUp 95 = .ok (.aload_n 0, 1) := dk_42 (dk_at dksX4_makePaidUp_4 1 rfl rfl)
theorem dX4_makePaidUp_96 : decode cX4_makePaidUp 96 = .ok (.getfield 205, 3) := dk_180 0 205 (dk_at dksX4_makePaidUp_4 2 rfl rfl)
theorem dX4_makePaidUp_99 : decode cX4_makePaidUp 99 = .ok (.ldiv, 1) := dk_109 (dk_at dksX4_makePaidUp_4 5 rfl rfl)
theorem dX4_makePaidUp_100 : decode cX4_makePaidUp 100 = .ok (.aload_n 0, 1) := dk_42 (dk_at dksX4_makePaidUp_4 6 rfl rfl)
theorem dX4_makePaidUp_101 : decode cX4_makePaidUp 101 = .ok (.getfield 70, 3) := dk_180 0 70 (dk_at dksX4_makePaidUp_4 7 rfl rfl)
theorem dX4_makePaidUp_104 : decode cX4_makePaidUp 104 = .ok (.iload_n 1, 1) := dk_27 (dk_at dksX4_makePaidUp_4 10 rfl rfl)
theorem dX4_makePaidUp_105 : decode cX4_makePaidUp 105 = .ok (.laload, 1) := dk_47 (dk_at dksX4_makePaidUp_4 11 rfl rfl)
theorem dX4_makePaidUp_106 : decode cX4_makePaidUp 106 = .ok (.lsub, 1) := dk_101 (dk_at dksX4_makePaidUp_4 12 rfl rfl)
theorem dX4_makePaidUp_107 : decode cX4_makePaidUp 107 = .ok (.invokestatic 241, 3) := dk_184 0 241 (dk_at dksX4_makePaidUp_4 13 rfl rfl)
theorem dX4_makePaidUp_110 : decode cX4_makePaidUp 110 = .ok (.lastore, 1) := dk_80 (dk_at dksX4_makePaidUp_4 16 rfl rfl)
theorem dX4_makePaidUp_111 : decode cX4_makePaidUp 111 = .ok (.aload_n 0, 1) := dk_42 (dk_at dksX4_makePaidUp_4 17 rfl rfl)
theorem dX4_makePaidUp_112 : decode cX4_makePaidUp 112 = .ok (.getfield 49, 3) := dk_180 0 49 (dk_at dksX4_makePaidUp_4 18 rfl rfl)
theorem dX4_makePaidUp_115 : decode cX4_makePaidUp 115 = .ok (.iload_n 1, 1) := dk_27 (dk_at dksX4_makePaidUp_4 21 rfl rfl)
theorem dX4_makePaidUp_116 : decode cX4_makePaidUp 116 = .ok (.iconst 1, 1) := dk_4 (dk_at dksX4_makePaidUp_4 22 rfl rfl)
theorem dX4_makePaidUp_117 : decode cX4_makePaidUp 117 = .ok (.iastore, 1) := dk_79 (dk_at dksX4_makePaidUp_4 23 rfl rfl)
theorem dX4_makePaidUp_118 : decode cX4_makePaidUp 118 = .ok (.aload_n 0, 1) := dk_42 (dk_at dksX4_makePaidUp_5 0 rfl rfl)
theorem dX4_makePaidUp_119 : decode cX4_makePaidUp 119 = .ok (.getfield 64, 3) := dk_180 0 64 (dk_at dksX4_makePaidUp_5 1 rfl rfl)
theorem dX4_makePaidUp_122 : decode cX4_makePaidUp 122 = .ok (.iload_n 1, 1) := dk_27 (dk_at dksX4_makePaidUp_5 4 rfl rfl)
theorem dX4_makePaidUp_123 : decode cX4_makePaidUp 123 = .ok (.iconst 1, 1) := dk_4 (dk_at dksX4_makePaidUp_5 5 rfl rfl)
theorem dX4_makePaidUp_124 : decode cX4_makePaidUp 124 = .ok (.bastore, 1) := dk_84 (dk_at dksX4_makePaidUp_5 6 rfl rfl)
theorem dX4_makePaidUp_125 : decode cX4_makePaidUp 125 = .ok (.aload_n 0, 1) := dk_42 (dk_at dksX4_makePaidUp_5 7 rfl rfl)
theorem dX4_makePaidUp_126 : decode cX4_makePaidUp 126 = .ok (.getfield 24, 3) := dk_180 0 24 (dk_at dksX4_makePaidUp_5 8 rfl rfl)
theorem dX4_makePaidUp_129 : decode cX4_makePaidUp 129 = .ok (.iconst 4, 1) := dk_7 (dk_at dksX4_makePaidUp_5 11 rfl rfl)
theorem dX4_makePaidUp_130 : decode cX4_makePaidUp 130 = .ok (.dup2, 1) := dk_92 (dk_at dksX4_makePaidUp_5 12 rfl rfl)
theorem dX4_makePaidUp_131 : decode cX4_makePaidUp 131 = .ok (.laload, 1) := dk_47 (dk_at dksX4_makePaidUp_5 13 rfl rfl)
theorem dX4_makePaidUp_132 : decode cX4_makePaidUp 132 = .ok (.lload_n 2, 1) := dk_32 (dk_at dksX4_makePaidUp_5 14 rfl rfl)
theorem dX4_makePaidUp_133 : decode cX4_makePaidUp 133 = .ok (.aload_n 0, 1) := dk_42 (dk_at dksX4_makePaidUp_5 15 rfl rfl)
theorem dX4_makePaidUp_134 : decode cX4_makePaidUp 134 = .ok (.iload_n 1, 1) := dk_27 (dk_at dksX4_makePaidUp_5 16 rfl rfl)
theorem dX4_makePaidUp_135 : decode cX4_makePaidUp 135 = .ok (.aload_n 0, 1) := dk_42 (dk_at dksX4_makePaidUp_5 17 rfl rfl)
theorem dX4_makePaidUp_136 : decode cX4_makePaidUp 136 = .ok (.getfield 114, 3) := dk_180 0 114 (dk_at dksX4_makePaidUp_5 18 rfl rfl)
theorem dX4_makePaidUp_139 : decode cX4_makePaidUp 139 = .ok (.iconst 0, 1) := dk_3 (dk_at dksX4_makePaidUp_5 21 rfl rfl)
theorem dX4_makePaidUp_140 : decode cX4_makePaidUp 140 = .ok (.invokevirtual 244, 3) := dk_182 0 244 (dk_at dksX4_makePaidUp_6 0 rfl rfl)
theorem dX4_makePaidUp_143 : decode cX4_makePaidUp 143 = .ok (.lsub, 1) := dk_101 (dk_at dksX4_makePaidUp_6 3 rfl rfl)
theorem dX4_makePaidUp_144 : decode cX4_makePaidUp 144 = .ok (.ladd, 1) := dk_97 (dk_at dksX4_makePaidUp_6 4 rfl rfl)
theorem dX4_makePaidUp_145 : decode cX4_makePaidUp 145 = .ok (.lastore, 1) := dk_80 (dk_at dksX4_makePaidUp_6 5 rfl rfl)
theorem dX4_makePaidUp_146 : decode cX4_makePaidUp 146 = .ok (.aload_n 0, 1) := dk_42 (dk_at dksX4_makePaidUp_6 6 rfl rfl)
theorem dX4_makePaidUp_147 : decode cX4_makePaidUp 147 = .ok (.getfield 67, 3) := dk_180 0 67 (dk_at dksX4_makePaidUp_6 7 rfl rfl)
theorem dX4_makePaidUp_150 : decode cX4_makePaidUp 150 = .ok (.iload_n 1, 1) := dk_27 (dk_at dksX4_makePaidUp_6 10 rfl rfl)
theorem dX4_makePaidUp_151 : decode cX4_makePaidUp 151 = .ok (.laload, 1) := dk_47 (dk_at dksX4_makePaidUp_6 11 rfl rfl)
theorem dX4_makePaidUp_152 : decode cX4_makePaidUp 152 = .ok (.l2i, 1) := dk_136 (dk_at dksX4_makePaidUp_6 12 rfl rfl)
theorem dX4_makePaidUp_153 : decode cX4_makePaidUp 153 = .ok (.ireturn, 1) := dk_172 (dk_at dksX4_makePaidUp_6 13 rfl rfl)
abbrev cX4_lend : ByteArray := prog_12_method_61_code
def yX4_lend : MethodName := ⟨RX4, "lend", "(II)J"⟩
def dkwX4_lend_4 : List UInt8 := [133, 101, 181, 0, 117, 42, 180, 0, 76, 27, 47, 173]
abbrev dktX4_lend_4 : List UInt8 := dkwX4_lend_4 ++ []
def dkwX4_lend_3 : List UInt8 := [42, 6, 182, 1, 86, 133, 173, 42, 180, 0, 76, 27, 92, 47, 28, 133, 97, 80, 42, 89, 180, 0, 117, 28]
abbrev dktX4_lend_3 : List UInt8 := dkwX4_lend_3 ++ dktX4_lend_4
def dkwX4_lend_2 : List UInt8 := [28, 133, 97, 42, 27, 42, 180, 0, 114, 182, 1, 46, 20, 0, 248, 105, 20, 0, 250, 109, 148, 158, 0, 10]
abbrev dktX4_lend_2 : List UInt8 := dkwX4_lend_2 ++ dktX4_lend_3
def dkwX4_lend_1 : List UInt8 := [162, 0, 10, 42, 5, 182, 1, 86, 133, 173, 42, 27, 182, 1, 127, 153, 0, 33, 42, 180, 0, 76, 27, 47]
abbrev dktX4_lend_1 : List UInt8 := dkwX4_lend_1 ++ dktX4_lend_2
def dkwX4_lend_0 : List UInt8 := [42, 3, 181, 0, 1, 42, 27, 182, 1, 124, 154, 0, 10, 42, 4, 182, 1, 86, 133, 173, 28, 4]
abbrev dktX4_lend_0 : List UInt8 := dkwX4_lend_0 ++ dktX4_lend_1
theorem dksX4_lend_0 : cX4_lend.data.toList.drop 0 = dktX4_lend_0 := by decide +kernel
theorem dksX4_lend_1 : cX4_lend.data.toList.drop 22 = dktX4_lend_1 := dk_seg dksX4_lend_0 22 rfl rfl
theorem dksX4_lend_2 : cX4_lend.data.toList.drop 46 = dktX4_lend_2 := dk_seg dksX4_lend_1 24 rfl rfl
theorem dksX4_lend_3 : cX4_lend.data.toList.drop 70 = dktX4_lend_3 := dk_seg dksX4_lend_2 24 rfl rfl
theorem dksX4_lend_4 : cX4_lend.data.toList.drop 94 = dktX4_lend_4 := dk_seg dksX4_lend_3 24 rfl rfl
theorem dX4_lend_0 : decode cX4_lend 0 = .ok (.aload_n 0, 1) := dk_42 (dk_at dksX4_lend_0 0 rfl rfl)
theorem dX4_lend_1 : decode cX4_lend 1 = .ok (.iconst 0, 1) := dk_3 (dk_at dksX4_lend_0 1 rfl rfl)
theorem dX4_lend_2 : decode cX4_lend 2 = .ok (.putfield 1, 3) := dk_181 0 1 (dk_at dksX4_lend_0 2 rfl rfl)
theorem dX4_lend_5 : decode cX4_lend 5 = .ok (.aload_n 0, 1) := dk_42 (dk_at dksX4_lend_0 5 rfl rfl)
theorem dX4_lend_6 : decode cX4_lend 6 = .ok (.iload_n 1, 1) := dk_27 (dk_at dksX4_lend_0 6 rfl rfl)
theorem dX4_lend_7 : decode cX4_lend 7 = .ok (.invokevirtual 380, 3) := dk_182 1 124 (dk_at dksX4_lend_0 7 rfl rfl)
theorem dX4_lend_10 : decode cX4_lend 10 = .ok (.ifCond .ne 10, 3) := dk_154 0 10 (dk_at dksX4_lend_0 10 rfl rfl)
theorem dX4_lend_13 : decode cX4_lend 13 = .ok (.aload_n 0, 1) := dk_42 (dk_at dksX4_lend_0 13 rfl rfl)
theorem dX4_lend_14 : decode cX4_lend 14 = .ok (.iconst 1, 1) := dk_4 (dk_at dksX4_lend_0 14 rfl rfl)
theorem dX4_lend_15 : decode cX4_lend 15 = .ok (.invokevirtual 342, 3) := dk_182 1 86 (dk_at dksX4_lend_0 15 rfl rfl)
theorem dX4_lend_18 : decode cX4_lend 18 = .ok (.i2l, 1) := dk_133 (dk_at dksX4_lend_0 18 rfl rfl)
theorem dX4_lend_19 : decode cX4_lend 19 = .ok (.lreturn, 1) := dk_173 (dk_at dksX4_lend_0 19 rfl rfl)
theorem dX4_lend_20 : decode cX4_lend 20 = .ok (.iload_n 2, 1) := dk_28 (dk_at dksX4_lend_0 20 rfl rfl)
theorem dX4_lend_21 : decode cX4_lend 21 = .ok (.iconst 1, 1) := dk_4 (dk_at dksX4_lend_0 21 rfl rfl)
theorem dX4_lend_22 : decode cX4_lend 22 = .ok (.if_icmp .ge 10, 3) := dk_162 0 10 (dk_at dksX4_lend_1 0 rfl rfl)
theorem dX4_lend_25 : decode cX4_lend 25 = .ok (.aload_n 0, 1) := dk_42 (dk_at dksX4_lend_1 3 rfl rfl)
theorem dX4_lend_26 : decode cX4_lend 26 = .ok (.iconst 2, 1) := dk_5 (dk_at dksX4_lend_1 4 rfl rfl)
theorem dX4_lend_27 : decode cX4_lend 27 = .ok (.invokevirtual 342, 3) := dk_182 1 86 (dk_at dksX4_lend_1 5 rfl rfl)
theorem dX4_lend_30 : decode cX4_lend 30 = .ok (.i2l, 1) := dk_133 (dk_at dksX4_lend_1 8 rfl rfl)
theorem dX4_lend_31 : decode cX4_lend 31 = .ok (.lreturn, 1) := dk_173 (dk_at dksX4_lend_1 9 rfl rfl)
theorem dX4_lend_32 : decode cX4_lend 32 = .ok (.aload_n 0, 1) := dk_42 (dk_at dksX4_lend_1 10 rfl rfl)
theorem dX4_lend_33 : decode cX4_lend 33 = .ok (.iload_n 1, 1) := dk_27 (dk_at dksX4_lend_1 11 rfl rfl)
theorem dX4_lend_34 : decode cX4_lend 34 = .ok (.invokevirtual 383, 3) := dk_182 1 127 (dk_at dksX4_lend_1 12 rfl rfl)
theorem dX4_lend_37 : decode cX4_lend 37 = .ok (.ifCond .eq 33, 3) := dk_153 0 33 (dk_at dksX4_lend_1 15 rfl rfl)
theorem dX4_lend_40 : decode cX4_lend 40 = .ok (.aload_n 0, 1) := dk_42 (dk_at dksX4_lend_1 18 rfl rfl)
theorem dX4_lend_41 : decode cX4_lend 41 = .ok (.getfield 76, 3) := dk_180 0 76 (dk_at dksX4_lend_1 19 rfl rfl)
theorem dX4_lend_44 : decode cX4_lend 44 = .ok (.iload_n 1, 1) := dk_27 (dk_at dksX4_lend_1 22 rfl rfl)
theorem dX4_lend_45 : decode cX4_lend 45 = .ok (.laload, 1) := dk_47 (dk_at dksX4_lend_1 23 rfl rfl)
theorem dX4_lend_46 : decode cX4_lend 46 = .ok (.iload_n 2, 1) := dk_28 (dk_at dksX4_lend_2 0 rfl rfl)
theorem dX4_lend_47 : decode cX4_lend 47 = .ok (.i2l, 1) := dk_133 (dk_at dksX4_lend_2 1 rfl rfl)
theorem dX4_lend_48 : decode cX4_lend 48 = .ok (.ladd, 1) := dk_97 (dk_at dksX4_lend_2 2 rfl rfl)
theorem dX4_lend_49 : decode cX4_lend 49 = .ok (.aload_n 0, 1) := dk_42 (dk_at dksX4_lend_2 3 rfl rfl)
theorem dX4_lend_50 : decode cX4_lend 50 = .ok (.iload_n 1, 1) := dk_27 (dk_at dksX4_lend_2 4 rfl rfl)
theorem dX4_lend_51 : decode cX4_lend 51 = .ok (.aload_n 0, 1) := dk_42 (dk_at dksX4_lend_2 5 rfl rfl)
theorem dX4_lend_52 : decode cX4_lend 52 = .ok (.getfield 114, 3) := dk_180 0 114 (dk_at dksX4_lend_2 6 rfl rfl)
theorem dX4_lend_55 : decode cX4_lend 55 = .ok (.invokevirtual 302, 3) := dk_182 1 46 (dk_at dksX4_lend_2 9 rfl rfl)
theorem dX4_lend_58 : decode cX4_lend 58 = .ok (.ldc2_w 248, 3) := dk_20 0 248 (dk_at dksX4_lend_2 12 rfl rfl)
theorem dX4_lend_61 : decode cX4_lend 61 = .ok (.lmul, 1) := dk_105 (dk_at dksX4_lend_2 15 rfl rfl)
theorem dX4_lend_62 : decode cX4_lend 62 = .ok (.ldc2_w 250, 3) := dk_20 0 250 (dk_at dksX4_lend_2 16 rfl rfl)
theorem dX4_lend_65 : decode cX4_lend 65 = .ok (.ldiv, 1) := dk_109 (dk_at dksX4_lend_2 19 rfl rfl)
theorem dX4_lend_66 : decode cX4_lend 66 = .ok (.lcmp, 1) := dk_148 (dk_at dksX4_lend_2 20 rfl rfl)
theorem dX4_lend_67 : decode cX4_lend 67 = .ok (.ifCond .le 10, 3) := dk_158 0 10 (dk_at dksX4_lend_2 21 rfl rfl)
theorem dX4_lend_70 : decode cX4_lend 70 = .ok (.aload_n 0, 1) := dk_42 (dk_at dksX4_lend_3 0 rfl rfl)
theorem dX4_lend_71 : decode cX4_lend 71 = .ok (.iconst 3, 1) := dk_6 (dk_at dksX4_lend_3 1 rfl rfl)
theorem dX4_lend_72 : decode cX4_lend 72 = .ok (.invokevirtual 342, 3) := dk_182 1 86 (dk_at dksX4_lend_3 2 rfl rfl)
theorem dX4_lend_75 : decode cX4_lend 75 = .ok (.i2l, 1) := dk_133 (dk_at dksX4_lend_3 5 rfl rfl)
theorem dX4_lend_76 : decode cX4_lend 76 = .ok (.lreturn, 1) := dk_173 (dk_at dksX4_lend_3 6 rfl rfl)
theorem dX4_lend_77 : decode cX4_lend 77 = .ok (.aload_n 0, 1) := dk_42 (dk_at dksX4_lend_3 7 rfl rfl)
theorem dX4_lend_78 : decode cX4_lend 78 = .ok (.getfield 76, 3) := dk_180 0 76 (dk_at dksX4_lend_3 8 rfl rfl)
theorem dX4_lend_81 : decode cX4_lend 81 = .ok (.iload_n 1, 1) := dk_27 (dk_at dksX4_lend_3 11 rfl rfl)
theorem dX4_lend_82 : decode cX4_lend 82 = .ok (.dup2, 1) := dk_92 (dk_at dksX4_lend_3 12 rfl rfl)
theorem dX4_lend_83 : decode cX4_lend 83 = .ok (.laload, 1) := dk_47 (dk_at dksX4_lend_3 13 rfl rfl)
theorem dX4_lend_84 : decode cX4_lend 84 = .ok (.iload_n 2, 1) := dk_28 (dk_at dksX4_lend_3 14 rfl rfl)
theorem dX4_lend_85 : decode cX4_lend 85 = .ok (.i2l, 1) := dk_133 (dk_at dksX4_lend_3 15 rfl rfl)
theorem dX4_lend_86 : decode cX4_lend 86 = .ok (.ladd, 1) := dk_97 (dk_at dksX4_lend_3 16 rfl rfl)
theorem dX4_lend_87 : decode cX4_lend 87 = .ok (.lastore, 1) := dk_80 (dk_at dksX4_lend_3 17 rfl rfl)
theorem dX4_lend_88 : decode cX4_lend 88 = .ok (.aload_n 0, 1) := dk_42 (dk_at dksX4_lend_3 18 rfl rfl)
theorem dX4_lend_89 : decode cX4_lend 89 = .ok (.dup, 1) := dk_89 (dk_at dksX4_lend_3 19 rfl rfl)
theorem dX4_lend_90 : decode cX4_lend 90 = .ok (.getfield 117, 3) := dk_180 0 117 (dk_at dksX4_lend_3 20 rfl rfl)
theorem dX4_lend_93 : decode cX4_lend 93 = .ok (.iload_n 2, 1) := dk_28 (dk_at dksX4_lend_3 23 rfl rfl)
theorem dX4_lend_94 : decode cX4_lend 94 = .ok (.i2l, 1) := dk_133 (dk_at dksX4_lend_4 0 rfl rfl)
theorem dX4_lend_95 : decode cX4_lend 95 = .ok (.lsub, 1) := dk_101 (dk_at dksX4_lend_4 1 rfl rfl)
theorem dX4_lend_96 : decode cX4_lend 96 = .ok (.putfield 117, 3) := dk_181 0 117 (dk_at dksX4_lend_4 2 rfl rfl)
theorem dX4_lend_99 : decode cX4_lend 99 = .ok (.aload_n 0, 1) := dk_42 (dk_at dksX4_lend_4 5 rfl rfl)
theorem dX4_lend_100 : decode cX4_lend 100 = .ok (.getfield 76, 3) := dk_180 0 76 (dk_at dksX4_lend_4 6 rfl rfl)
theorem dX4_lend_103 : decode cX4_lend 103 = .ok (.iload_n 1, 1) := dk_27 (dk_at dksX4_lend_4 9 rfl rfl)
theorem dX4_lend_104 : decode cX4_lend 104 = .ok (.laload, 1) := dk_47 (dk_at dksX4_lend_4 10 rfl rfl)
theorem dX4_lend_105 : decode cX4_lend 105 = .ok (.lreturn, 1) := dk_173 (dk_at dksX4_lend_4 11 rfl rfl)
abbrev cX4_isQuiet : ByteArray := prog_12_method_9_code
def yX4_isQuiet : MethodName := ⟨RX4, "isQuiet", "(I)Z"⟩
def dkwX4_isQuiet_0 : List UInt8 := [42, 180, 0, 49, 27, 46, 4, 163, 0, 7, 4, 167, 0, 4, 3, 172]
abbrev dktX4_isQuiet_0 : List UInt8 := dkwX4_isQuiet_0 ++ []
theorem dksX4_isQuiet_0 : cX4_isQuiet.data.toList.drop 0 = dktX4_isQuiet_0 := by decide +kernel
theorem dX4_isQuiet_0 : decode cX4_isQuiet 0 = .ok (.aload_n 0, 1) := dk_42 (dk_at dksX4_isQuiet_0 0 rfl rfl)
theorem dX4_isQuiet_1 : decode cX4_isQuiet 1 = .ok (.getfield 49, 3) := dk_180 0 49 (dk_at dksX4_isQuiet_0 1 rfl rfl)
theorem dX4_isQuiet_4 : decode cX4_isQuiet 4 = .ok (.iload_n 1, 1) := dk_27 (dk_at dksX4_isQuiet_0 4 rfl rfl)
theorem dX4_isQuiet_5 : decode cX4_isQuiet 5 = .ok (.iaload, 1) := dk_46 (dk_at dksX4_isQuiet_0 5 rfl rfl)
theorem dX4_isQuiet_6 : decode cX4_isQuiet 6 = .ok (.iconst 1, 1) := dk_4 (dk_at dksX4_isQuiet_0 6 rfl rfl)
theorem dX4_isQuiet_7 : decode cX4_isQuiet 7 = .ok (.if_icmp .gt 7, 3) := dk_163 0 7 (dk_at dksX4_isQuiet_0 7 rfl rfl)
theorem dX4_isQuiet_10 : decode cX4_isQuiet 10 = .ok (.iconst 1, 1) := dk_4 (dk_at dksX4_isQuiet_0 10 rfl rfl)
theorem dX4_isQuiet_11 : decode cX4_isQuiet 11 = .ok (.goto 4, 3) := dk_167 0 4 (dk_at dksX4_isQuiet_0 11 rfl rfl)
theorem dX4_isQuiet_14 : decode cX4_isQuiet 14 = .ok (.iconst 0, 1) := dk_3 (dk_at dksX4_isQuiet_0 14 rfl rfl)
theorem dX4_isQuiet_15 : decode cX4_isQuiet 15 = .ok (.ireturn, 1) := dk_172 (dk_at dksX4_isQuiet_0 15 rfl rfl)
abbrev cX4_repay : ByteArray := prog_12_method_62_code
def yX4_repay : MethodName := ⟨RX4, "repay", "(II)J"⟩
def dkwX4_repay_3 : List UInt8 := [180, 0, 117, 28, 133, 97, 181, 0, 117, 42, 180, 0, 76, 27, 47, 173]
abbrev dktX4_repay_3 : List UInt8 := dkwX4_repay_3 ++ []
def dkwX4_repay_2 : List UInt8 := [154, 0, 10, 42, 6, 182, 1, 86, 133, 173, 42, 180, 0, 76, 27, 92, 47, 28, 133, 101, 80, 42, 89]
abbrev dktX4_repay_2 : List UInt8 := dkwX4_repay_2 ++ dktX4_repay_3
def dkwX4_repay_1 : List UInt8 := [180, 0, 76, 27, 47, 184, 0, 168, 154, 0, 10, 42, 5, 182, 1, 86, 133, 173, 42, 27, 182, 1, 127]
abbrev dktX4_repay_1 : List UInt8 := dkwX4_repay_1 ++ dktX4_repay_2
def dkwX4_repay_0 : List UInt8 := [42, 3, 181, 0, 1, 42, 27, 182, 1, 124, 154, 0, 10, 42, 4, 182, 1, 86, 133, 173, 28, 133, 10, 42]
abbrev dktX4_repay_0 : List UInt8 := dkwX4_repay_0 ++ dktX4_repay_1
theorem dksX4_repay_0 : cX4_repay.data.toList.drop 0 = dktX4_repay_0 := by decide +kernel
theorem dksX4_repay_1 : cX4_repay.data.toList.drop 24 = dktX4_repay_1 := dk_seg dksX4_repay_0 24 rfl rfl
theorem dksX4_repay_2 : cX4_repay.data.toList.drop 47 = dktX4_repay_2 := dk_seg dksX4_repay_1 23 rfl rfl
theorem dksX4_repay_3 : cX4_repay.data.toList.drop 70 = dktX4_repay_3 := dk_seg dksX4_repay_2 23 rfl rfl
theorem dX4_repay_0 : decode cX4_repay 0 = .ok (.aload_n 0, 1) := dk_42 (dk_at dksX4_repay_0 0 rfl rfl)
theorem dX4_repay_1 : decode cX4_repay 1 = .ok (.iconst 0, 1) := dk_3 (dk_at dksX4_repay_0 1 rfl rfl)
theorem dX4_repay_2 : decode cX4_repay 2 = .ok (.putfield 1, 3) := dk_181 0 1 (dk_at dksX4_repay_0 2 rfl rfl)
theorem dX4_repay_5 : decode cX4_repay 5 = .ok (.aload_n 0, 1) := dk_42 (dk_at dksX4_repay_0 5 rfl rfl)
theorem dX4_repay_6 : decode cX4_repay 6 = .ok (.iload_n 1, 1) := dk_27 (dk_at dksX4_repay_0 6 rfl rfl)
theorem dX4_repay_7 : decode cX4_repay 7 = .ok (.invokevirtual 380, 3) := dk_182 1 124 (dk_at dksX4_repay_0 7 rfl rfl)
theorem dX4_repay_10 : decode cX4_repay 10 = .ok (.ifCond .ne 10, 3) := dk_154 0 10 (dk_at dksX4_repay_0 10 rfl rfl)
theorem dX4_repay_13 : decode cX4_repay 13 = .ok (.aload_n 0, 1) := dk_42 (dk_at dksX4_repay_0 13 rfl rfl)
theorem dX4_repay_14 : decode cX4_repay 14 = .ok (.iconst 1, 1) := dk_4 (dk_at dksX4_repay_0 14 rfl rfl)
theorem dX4_repay_15 : decode cX4_repay 15 = .ok (.invokevirtual 342, 3) := dk_182 1 86 (dk_at dksX4_repay_0 15 rfl rfl)
theorem dX4_repay_18 : decode cX4_repay 18 = .ok (.i2l, 1) := dk_133 (dk_at dksX4_repay_0 18 rfl rfl)
theorem dX4_repay_19 : decode cX4_repay 19 = .ok (.lreturn, 1) := dk_173 (dk_at dksX4_repay_0 19 rfl rfl)
theorem dX4_repay_20 : decode cX4_repay 20 = .ok (.iload_n 2, 1) := dk_28 (dk_at dksX4_repay_0 20 rfl rfl)
theorem dX4_repay_21 : decode cX4_repay 21 = .ok (.i2l, 1) := dk_133 (dk_at dksX4_repay_0 21 rfl rfl)
theorem dX4_repay_22 : decode cX4_repay 22 = .ok (.lconst 1, 1) := dk_10 (dk_at dksX4_repay_0 22 rfl rfl)
theorem dX4_repay_23 : decode cX4_repay 23 = .ok (.aload_n 0, 1) := dk_42 (dk_at dksX4_repay_0 23 rfl rfl)
theorem dX4_repay_24 : decode cX4_repay 24 = .ok (.getfield 76, 3) := dk_180 0 76 (dk_at dksX4_repay_1 0 rfl rfl)
theorem dX4_repay_27 : decode cX4_repay 27 = .ok (.iload_n 1, 1) := dk_27 (dk_at dksX4_repay_1 3 rfl rfl)
theorem dX4_repay_28 : decode cX4_repay 28 = .ok (.laload, 1) := dk_47 (dk_at dksX4_repay_1 4 rfl rfl)
theorem dX4_repay_29 : decode cX4_repay 29 = .ok (.invokestatic 168, 3) := dk_184 0 168 (dk_at dksX4_repay_1 5 rfl rfl)
theorem dX4_repay_32 : decode cX4_repay 32 = .ok (.ifCond .ne 10, 3) := dk_154 0 10 (dk_at dksX4_repay_1 8 rfl rfl)
theorem dX4_repay_35 : decode cX4_repay 35 = .ok (.aload_n 0, 1) := dk_42 (dk_at dksX4_repay_1 11 rfl rfl)
theorem dX4_repay_36 : decode cX4_repay 36 = .ok (.iconst 2, 1) := dk_5 (dk_at dksX4_repay_1 12 rfl rfl)
theorem dX4_repay_37 : decode cX4_repay 37 = .ok (.invokevirtual 342, 3) := dk_182 1 86 (dk_at dksX4_repay_1 13 rfl rfl)
theorem dX4_repay_40 : decode cX4_repay 40 = .ok (.i2l, 1) := dk_133 (dk_at dksX4_repay_1 16 rfl rfl)
theorem dX4_repay_41 : decode cX4_repay 41 = .ok (.lreturn, 1) := dk_173 (dk_at dksX4_repay_1 17 rfl rfl)
theorem dX4_repay_42 : decode cX4_repay 42 = .ok (.aload_n 0, 1) := dk_42 (dk_at dksX4_repay_1 18 rfl rfl)
theorem dX4_repay_43 : decode cX4_repay 43 = .ok (.iload_n 1, 1) := dk_27 (dk_at dksX4_repay_1 19 rfl rfl)
theorem dX4_repay_44 : decode cX4_repay 44 = .ok (.invokevirtual 383, 3) := dk_182 1 127 (dk_at dksX4_repay_1 20 rfl rfl)
theorem dX4_repay_47 : decode cX4_repay 47 = .ok (.ifCond .ne 10, 3) := dk_154 0 10 (dk_at dksX4_repay_2 0 rfl rfl)
theorem dX4_repay_50 : decode cX4_repay 50 = .ok (.aload_n 0, 1) := dk_42 (dk_at dksX4_repay_2 3 rfl rfl)
theorem dX4_repay_51 : decode cX4_repay 51 = .ok (.iconst 3, 1) := dk_6 (dk_at dksX4_repay_2 4 rfl rfl)
theorem dX4_repay_52 : decode cX4_repay 52 = .ok (.invokevirtual 342, 3) := dk_182 1 86 (dk_at dksX4_repay_2 5 rfl rfl)
theorem dX4_repay_55 : decode cX4_repay 55 = .ok (.i2l, 1) := dk_133 (dk_at dksX4_repay_2 8 rfl rfl)
theorem dX4_repay_56 : decode cX4_repay 56 = .ok (.lreturn, 1) := dk_173 (dk_at dksX4_repay_2 9 rfl rfl)
theorem dX4_repay_57 : decode cX4_repay 57 = .ok (.aload_n 0, 1) := dk_42 (dk_at dksX4_repay_2 10 rfl rfl)
theorem dX4_repay_58 : decode cX4_repay 58 = .ok (.getfield 76, 3) := dk_180 0 76 (dk_at dksX4_repay_2 11 rfl rfl)
theorem dX4_repay_61 : decode cX4_repay 61 = .ok (.iload_n 1, 1) := dk_27 (dk_at dksX4_repay_2 14 rfl rfl)
theorem dX4_repay_62 : decode cX4_repay 62 = .ok (.dup2, 1) := dk_92 (dk_at dksX4_repay_2 15 rfl rfl)
theorem dX4_repay_63 : decode cX4_repay 63 = .ok (.laload, 1) := dk_47 (dk_at dksX4_repay_2 16 rfl rfl)
theorem dX4_repay_64 : decode cX4_repay 64 = .ok (.iload_n 2, 1) := dk_28 (dk_at dksX4_repay_2 17 rfl rfl)
theorem dX4_repay_65 : decode cX4_repay 65 = .ok (.i2l, 1) := dk_133 (dk_at dksX4_repay_2 18 rfl rfl)
theorem dX4_repay_66 : decode cX4_repay 66 = .ok (.lsub, 1) := dk_101 (dk_at dksX4_repay_2 19 rfl rfl)
theorem dX4_repay_67 : decode cX4_repay 67 = .ok (.lastore, 1) := dk_80 (dk_at dksX4_repay_2 20 rfl rfl)
theorem dX4_repay_68 : decode cX4_repay 68 = .ok (.aload_n 0, 1) := dk_42 (dk_at dksX4_repay_2 21 rfl rfl)
theorem dX4_repay_69 : decode cX4_repay 69 = .ok (.dup, 1) := dk_89 (dk_at dksX4_repay_2 22 rfl rfl)
theorem dX4_repay_70 : decode cX4_repay 70 = .ok (.getfield 117, 3) := dk_180 0 117 (dk_at dksX4_repay_3 0 rfl rfl)
theorem dX4_repay_73 : decode cX4_repay 73 = .ok (.iload_n 2, 1) := dk_28 (dk_at dksX4_repay_3 3 rfl rfl)
theorem dX4_repay_74 : decode cX4_repay 74 = .ok (.i2l, 1) := dk_133 (dk_at dksX4_repay_3 4 rfl rfl)
theorem dX4_repay_75 : decode cX4_repay 75 = .ok (.ladd, 1) := dk_97 (dk_at dksX4_repay_3 5 rfl rfl)
theorem dX4_repay_76 : decode cX4_repay 76 = .ok (.putfield 117, 3) := dk_181 0 117 (dk_at dksX4_repay_3 6 rfl rfl)
theorem dX4_repay_79 : decode cX4_repay 79 = .ok (.aload_n 0, 1) := dk_42 (dk_at dksX4_repay_3 9 rfl rfl)
theorem dX4_repay_80 : decode cX4_repay 80 = .ok (.getfield 76, 3) := dk_180 0 76 (dk_at dksX4_repay_3 10 rfl rfl)
theorem dX4_repay_83 : decode cX4_repay 83 = .ok (.iload_n 1, 1) := dk_27 (dk_at dksX4_repay_3 13 rfl rfl)
theorem dX4_repay_84 : decode cX4_repay 84 = .ok (.laload, 1) := dk_47 (dk_at dksX4_repay_3 14 rfl rfl)
theorem dX4_repay_85 : decode cX4_repay 85 = .ok (.lreturn, 1) := dk_173 (dk_at dksX4_repay_3 15 rfl rfl)
abbrev cX4_tellDeath : ByteArray := prog_12_method_63_code
def yX4_tellDeath : MethodName := ⟨RX4, "tellDeath", "(II)J"⟩
def dkwX4_tellDeath_3 : List UInt8 := [182, 1, 39, 173]
abbrev dktX4_tellDeath_3 : List UInt8 := dkwX4_tellDeath_3 ++ []
def dkwX4_tellDeath_2 : List UInt8 := [42, 6, 182, 1, 86, 133, 173, 42, 180, 0, 49, 27, 5, 79, 42, 180, 0, 52, 27, 28, 79, 42, 27]
abbrev dktX4_tellDeath_2 : List UInt8 := dkwX4_tellDeath_2 ++ dktX4_tellDeath_3
def dkwX4_tellDeath_1 : List UInt8 := [20, 1, 112, 184, 0, 168, 154, 0, 10, 42, 5, 182, 1, 86, 133, 173, 42, 27, 182, 1, 127, 154, 0, 10]
abbrev dktX4_tellDeath_1 : List UInt8 := dkwX4_tellDeath_1 ++ dktX4_tellDeath_2
def dkwX4_tellDeath_0 : List UInt8 := [42, 3, 181, 0, 1, 42, 27, 182, 1, 124, 154, 0, 10, 42, 4, 182, 1, 86, 133, 173, 28, 133, 9]
abbrev dktX4_tellDeath_0 : List UInt8 := dkwX4_tellDeath_0 ++ dktX4_tellDeath_1
theorem dksX4_tellDeath_0 : cX4_tellDeath.data.toList.drop 0 = dktX4_tellDeath_0 := by decide +kernel
theorem dksX4_tellDeath_1 : cX4_tellDeath.data.toList.drop 23 = dktX4_tellDeath_1 := dk_seg dksX4_tellDeath_0 23 rfl rfl
theorem dksX4_tellDeath_2 : cX4_tellDeath.data.toList.drop 47 = dktX4_tellDeath_2 := dk_seg dksX4_tellDeath_1 24 rfl rfl
theorem dksX4_tellDeath_3 : cX4_tellDeath.data.toList.drop 70 = dktX4_tellDeath_3 := dk_seg dksX4_tellDeath_2 23 rfl rfl
theorem dX4_tellDeath_0 : decode cX4_tellDeath 0 = .ok (.aload_n 0, 1) := dk_42 (dk_at dksX4_tellDeath_0 0 rfl rfl)
theorem dX4_tellDeath_1 : decode cX4_tellDeath 1 = .ok (.iconst 0, 1) := dk_3 (dk_at dksX4_tellDeath_0 1 rfl rfl)
theorem dX4_tellDeath_2 : decode cX4_tellDeath 2 = .ok (.putfield 1, 3) := dk_181 0 1 (dk_at dksX4_tellDeath_0 2 rfl rfl)
theorem dX4_tellDeath_5 : decode cX4_tellDeath 5 = .ok (.aload_n 0, 1) := dk_42 (dk_at dksX4_tellDeath_0 5 rfl rfl)
theorem dX4_tellDeath_6 : decode cX4_tellDeath 6 = .ok (.iload_n 1, 1) := dk_27 (dk_at dksX4_tellDeath_0 6 rfl rfl)
theorem dX4_tellDeath_7 : decode cX4_tellDeath 7 = .ok (.invokevirtual 380, 3) := dk_182 1 124 (dk_at dksX4_tellDeath_0 7 rfl rfl)
theorem dX4_tellDeath_10 : decode cX4_tellDeath 10 = .ok (.ifCond .ne 10, 3) := dk_154 0 10 (dk_at dksX4_tellDeath_0 10 rfl rfl)
theorem dX4_tellDeath_13 : decode cX4_tellDeath 13 = .ok (.aload_n 0, 1) := dk_42 (dk_at dksX4_tellDeath_0 13 rfl rfl)
theorem dX4_tellDeath_14 : decode cX4_tellDeath 14 = .ok (.iconst 1, 1) := dk_4 (dk_at dksX4_tellDeath_0 14 rfl rfl)
theorem dX4_tellDeath_15 : decode cX4_tellDeath 15 = .ok (.invokevirtual 342, 3) := dk_182 1 86 (dk_at dksX4_tellDeath_0 15 rfl rfl)
theorem dX4_tellDeath_18 : decode cX4_tellDeath 18 = .ok (.i2l, 1) := dk_133 (dk_at dksX4_tellDeath_0 18 rfl rfl)
theorem dX4_tellDeath_19 : decode cX4_tellDeath 19 = .ok (.lreturn, 1) := dk_173 (dk_at dksX4_tellDeath_0 19 rfl rfl)
theorem dX4_tellDeath_20 : decode cX4_tellDeath 20 = .ok (.iload_n 2, 1) := dk_28 (dk_at dksX4_tellDeath_0 20 rfl rfl)
theorem dX4_tellDeath_21 : decode cX4_tellDeath 21 = .ok (.i2l, 1) := dk_133 (dk_at dksX4_tellDeath_0 21 rfl rfl)
theorem dX4_tellDeath_22 : decode cX4_tellDeath 22 = .ok (.lconst 0, 1) := dk_9 (dk_at dksX4_tellDeath_0 22 rfl rfl)
theorem dX4_tellDeath_23 : decode cX4_tellDeath 23 = .ok (.ldc2_w 368, 3) := dk_20 1 112 (dk_at dksX4_tellDeath_1 0 rfl rfl)
theorem dX4_tellDeath_26 : decode cX4_tellDeath 26 = .ok (.invokestatic 168, 3) := dk_184 0 168 (dk_at dksX4_tellDeath_1 3 rfl rfl)
theorem dX4_tellDeath_29 : decode cX4_tellDeath 29 = .ok (.ifCond .ne 10, 3) := dk_154 0 10 (dk_at dksX4_tellDeath_1 6 rfl rfl)
theorem dX4_tellDeath_32 : decode cX4_tellDeath 32 = .ok (.aload_n 0, 1) := dk_42 (dk_at dksX4_tellDeath_1 9 rfl rfl)
theorem dX4_tellDeath_33 : decode cX4_tellDeath 33 = .ok (.iconst 2, 1) := dk_5 (dk_at dksX4_tellDeath_1 10 rfl rfl)
theorem dX4_tellDeath_34 : decode cX4_tellDeath 34 = .ok (.invokevirtual 342, 3) := dk_182 1 86 (dk_at dksX4_tellDeath_1 11 rfl rfl)
theorem dX4_tellDeath_37 : decode cX4_tellDeath 37 = .ok (.i2l, 1) := dk_133 (dk_at dksX4_tellDeath_1 14 rfl rfl)
theorem dX4_tellDeath_38 : decode cX4_tellDeath 38 = .ok (.lreturn, 1) := dk_173 (dk_at dksX4_tellDeath_1 15 rfl rfl)
theorem dX4_tellDeath_39 : decode cX4_tellDeath 39 = .ok (.aload_n 0, 1) := dk_42 (dk_at dksX4_tellDeath_1 16 rfl rfl)
theorem dX4_tellDeath_40 : decode cX4_tellDeath 40 = .ok (.iload_n 1, 1) := dk_27 (dk_at dksX4_tellDeath_1 17 rfl rfl)
theorem dX4_tellDeath_41 : decode cX4_tellDeath 41 = .ok (.invokevirtual 383, 3) := dk_182 1 127 (dk_at dksX4_tellDeath_1 18 rfl rfl)
theorem dX4_tellDeath_44 : decode cX4_tellDeath 44 = .ok (.ifCond .ne 10, 3) := dk_154 0 10 (dk_at dksX4_tellDeath_1 21 rfl rfl)
theorem dX4_tellDeath_47 : decode cX4_tellDeath 47 = .ok (.aload_n 0, 1) := dk_42 (dk_at dksX4_tellDeath_2 0 rfl rfl)
theorem dX4_tellDeath_48 : decode cX4_tellDeath 48 = .ok (.iconst 3, 1) := dk_6 (dk_at dksX4_tellDeath_2 1 rfl rfl)
theorem dX4_tellDeath_49 : decode cX4_tellDeath 49 = .ok (.invokevirtual 342, 3) := dk_182 1 86 (dk_at dksX4_tellDeath_2 2 rfl rfl)
theorem dX4_tellDeath_52 : decode cX4_tellDeath 52 = .ok (.i2l, 1) := dk_133 (dk_at dksX4_tellDeath_2 5 rfl rfl)
theorem dX4_tellDeath_53 : decode cX4_tellDeath 53 = .ok (.lreturn, 1) := dk_173 (dk_at dksX4_tellDeath_2 6 rfl rfl)
theorem dX4_tellDeath_54 : decode cX4_tellDeath 54 = .ok (.aload_n 0, 1) := dk_42 (dk_at dksX4_tellDeath_2 7 rfl rfl)
theorem dX4_tellDeath_55 : decode cX4_tellDeath 55 = .ok (.getfield 49, 3) := dk_180 0 49 (dk_at dksX4_tellDeath_2 8 rfl rfl)
theorem dX4_tellDeath_58 : decode cX4_tellDeath 58 = .ok (.iload_n 1, 1) := dk_27 (dk_at dksX4_tellDeath_2 11 rfl rfl)
theorem dX4_tellDeath_59 : decode cX4_tellDeath 59 = .ok (.iconst 2, 1) := dk_5 (dk_at dksX4_tellDeath_2 12 rfl rfl)
theorem dX4_tellDeath_60 : decode cX4_tellDeath 60 = .ok (.iastore, 1) := dk_79 (dk_at dksX4_tellDeath_2 13 rfl rfl)
theorem dX4_tellDeath_61 : decode cX4_tellDeath 61 = .ok (.aload_n 0, 1) := dk_42 (dk_at dksX4_tellDeath_2 14 rfl rfl)
theorem dX4_tellDeath_62 : decode cX4_tellDeath 62 = .ok (.getfield 52, 3) := dk_180 0 52 (dk_at dksX4_tellDeath_2 15 rfl rfl)
theorem dX4_tellDeath_65 : decode cX4_tellDeath 65 = .ok (.iload_n 1, 1) := dk_27 (dk_at dksX4_tellDeath_2 18 rfl rfl)
theorem dX4_tellDeath_66 : decode cX4_tellDeath 66 = .ok (.iload_n 2, 1) := dk_28 (dk_at dksX4_tellDeath_2 19 rfl rfl)
theorem dX4_tellDeath_67 : decode cX4_tellDeath 67 = .ok (.iastore, 1) := dk_79 (dk_at dksX4_tellDeath_2 20 rfl rfl)
theorem dX4_tellDeath_68 : decode cX4_tellDeath 68 = .ok (.aload_n 0, 1) := dk_42 (dk_at dksX4_tellDeath_2 21 rfl rfl)
theorem dX4_tellDeath_69 : decode cX4_tellDeath 69 = .ok (.iload_n 1, 1) := dk_27 (dk_at dksX4_tellDeath_2 22 rfl rfl)
theorem dX4_tellDeath_70 : decode cX4_tellDeath 70 = .ok (.invokevirtual 295, 3) := dk_182 1 39 (dk_at dksX4_tellDeath_3 0 rfl rfl)
theorem dX4_tellDeath_73 : decode cX4_tellDeath 73 = .ok (.lreturn, 1) := dk_173 (dk_at dksX4_tellDeath_3 3 rfl rfl)
abbrev cX4_claim : ByteArray := prog_12_method_25_code
def yX4_claim : MethodName := ⟨RX4, "claim", "(I)J"⟩
def dkwX4_claim_5 : List UInt8 := [182, 0, 230, 55, 6, 22, 6, 9, 148, 154, 0, 7, 32, 167, 0, 10, 32, 22, 4, 105, 22, 6, 109, 173]
abbrev dktX4_claim_5 : List UInt8 := dkwX4_claim_5 ++ []
def dkwX4_claim_4 : List UInt8 := [180, 0, 43, 27, 46, 3, 182, 0, 223, 42, 42, 180, 0, 31, 27, 46, 42, 180, 0, 67, 27, 47]
abbrev dktX4_claim_4 : List UInt8 := dkwX4_claim_4 ++ dktX4_claim_5
def dkwX4_claim_3 : List UInt8 := [180, 0, 34, 27, 46, 42, 180, 0, 52, 27, 46, 42, 180, 0, 43, 27, 46, 42, 180, 0, 46, 27, 46, 42]
abbrev dktX4_claim_3 : List UInt8 := dkwX4_claim_3 ++ dktX4_claim_4
def dkwX4_claim_2 : List UInt8 := [173, 42, 27, 3, 182, 1, 13, 55, 4, 42, 42, 180, 0, 31, 27, 46, 42, 180, 0, 37, 27, 46, 42]
abbrev dktX4_claim_2 : List UInt8 := dkwX4_claim_2 ++ dktX4_claim_3
def dkwX4_claim_1 : List UInt8 := [97, 42, 27, 182, 1, 10, 97, 65, 42, 180, 0, 52, 27, 46, 42, 180, 0, 40, 27, 46, 163, 0, 5, 32]
abbrev dktX4_claim_1 : List UInt8 := dkwX4_claim_1 ++ dktX4_claim_2
def dkwX4_claim_0 : List UInt8 := [42, 180, 0, 31, 27, 46, 6, 160, 0, 5, 9, 173, 42, 180, 0, 67, 27, 47, 42, 180, 0, 70, 27, 47]
abbrev dktX4_claim_0 : List UInt8 := dkwX4_claim_0 ++ dktX4_claim_1
theorem dksX4_claim_0 : cX4_claim.data.toList.drop 0 = dktX4_claim_0 := by decide +kernel
theorem dksX4_claim_1 : cX4_claim.data.toList.drop 24 = dktX4_claim_1 := dk_seg dksX4_claim_0 24 rfl rfl
theorem dksX4_claim_2 : cX4_claim.data.toList.drop 48 = dktX4_claim_2 := dk_seg dksX4_claim_1 24 rfl rfl
theorem dksX4_claim_3 : cX4_claim.data.toList.drop 71 = dktX4_claim_3 := dk_seg dksX4_claim_2 23 rfl rfl
theorem dksX4_claim_4 : cX4_claim.data.toList.drop 95 = dktX4_claim_4 := dk_seg dksX4_claim_3 24 rfl rfl
theorem dksX4_claim_5 : cX4_claim.data.toList.drop 117 = dktX4_claim_5 := dk_seg dksX4_claim_4 22 rfl rfl
theorem dX4_claim_0 : decode cX4_claim 0 = .ok (.aload_n 0, 1) := dk_42 (dk_at dksX4_claim_0 0 rfl rfl)
theorem dX4_claim_1 : decode cX4_claim 1 = .ok (.getfield 31, 3) := dk_180 0 31 (dk_at dksX4_claim_0 1 rfl rfl)
theorem dX4_claim_4 : decode cX4_claim 4 = .ok (.iload_n 1, 1) := dk_27 (dk_at dksX4_claim_0 4 rfl rfl)
theorem dX4_claim_5 : decode cX4_claim 5 = .ok (.iaload, 1) := dk_46 (dk_at dksX4_claim_0 5 rfl rfl)
theorem dX4_claim_6 : decode cX4_claim 6 = .ok (.iconst 3, 1) := dk_6 (dk_at dksX4_claim_0 6 rfl rfl)
theorem dX4_claim_7 : decode cX4_claim 7 = .ok (.if_icmp .ne 5, 3) := dk_160 0 5 (dk_at dksX4_claim_0 7 rfl rfl)
theorem dX4_claim_10 : decode cX4_claim 10 = .ok (.lconst 0, 1) := dk_9 (dk_at dksX4_claim_0 10 rfl rfl)
theorem dX4_claim_11 : decode cX4_claim 11 = .ok (.lreturn, 1) := dk_173 (dk_at dksX4_claim_0 11 rfl rfl)
theorem dX4_claim_12 : decode cX4_claim 12 = .ok (.aload_n 0, 1) := dk_42 (dk_at dksX4_claim_0 12 rfl rfl)
theorem dX4_claim_13 : decode cX4_claim 13 = .ok (.getfield 67, 3) := dk_180 0 67 (dk_at dksX4_claim_0 13 rfl rfl)
theorem dX4_claim_16 : decode cX4_claim 16 = .ok (.iload_n 1, 1) := dk_27 (dk_at dksX4_claim_0 16 rfl rfl)
theorem dX4_claim_17 : decode cX4_claim 17 = .ok (.laload, 1) := dk_47 (dk_at dksX4_claim_0 17 rfl rfl)
theorem dX4_claim_18 : decode cX4_claim 18 = .ok (.aload_n 0, 1) := dk_42 (dk_at dksX4_claim_0 18 rfl rfl)
theorem dX4_claim_19 : decode cX4_claim 19 = .ok (.getfield 70, 3) := dk_180 0 70 (dk_at dksX4_claim_0 19 rfl rfl)
theorem dX4_claim_22 : decode cX4_claim 22 = .ok (.iload_n 1, 1) := dk_27 (dk_at dksX4_claim_0 22 rfl rfl)
theorem dX4_claim_23 : decode cX4_claim 23 = .ok (.laload, 1) := dk_47 (dk_at dksX4_claim_0 23 rfl rfl)
theorem dX4_claim_24 : decode cX4_claim 24 = .ok (.ladd, 1) := dk_97 (dk_at dksX4_claim_1 0 rfl rfl)
theorem dX4_claim_25 : decode cX4_claim 25 = .ok (.aload_n 0, 1) := dk_42 (dk_at dksX4_claim_1 1 rfl rfl)
theorem dX4_claim_26 : decode cX4_claim 26 = .ok (.iload_n 1, 1) := dk_27 (dk_at dksX4_claim_1 2 rfl rfl)
theorem dX4_claim_27 : decode cX4_claim 27 = .ok (.invokevirtual 266, 3) := dk_182 1 10 (dk_at dksX4_claim_1 3 rfl rfl)
theorem dX4_claim_30 : decode cX4_claim 30 = .ok (.ladd, 1) := dk_97 (dk_at dksX4_claim_1 6 rfl rfl)
theorem dX4_claim_31 : decode cX4_claim 31 = .ok (.lstore_n 2, 1) := dk_65 (dk_at dksX4_claim_1 7 rfl rfl)
theorem dX4_claim_32 : decode cX4_claim 32 = .ok (.aload_n 0, 1) := dk_42 (dk_at dksX4_claim_1 8 rfl rfl)
theorem dX4_claim_33 : decode cX4_claim 33 = .ok (.getfield 52, 3) := dk_180 0 52 (dk_at dksX4_claim_1 9 rfl rfl)
theorem dX4_claim_36 : decode cX4_claim 36 = .ok (.iload_n 1, 1) := dk_27 (dk_at dksX4_claim_1 12 rfl rfl)
theorem dX4_claim_37 : decode cX4_claim 37 = .ok (.iaload, 1) := dk_46 (dk_at dksX4_claim_1 13 rfl rfl)
theorem dX4_claim_38 : decode cX4_claim 38 = .ok (.aload_n 0, 1) := dk_42 (dk_at dksX4_claim_1 14 rfl rfl)
theorem dX4_claim_39 : decode cX4_claim 39 = .ok (.getfield 40, 3) := dk_180 0 40 (dk_at dksX4_claim_1 15 rfl rfl)
theorem dX4_claim_42 : decode cX4_claim 42 = .ok (.iload_n 1, 1) := dk_27 (dk_at dksX4_claim_1 18 rfl rfl)
theorem dX4_claim_43 : decode cX4_claim 43 = .ok (.iaload, 1) := dk_46 (dk_at dksX4_claim_1 19 rfl rfl)
theorem dX4_claim_44 : decode cX4_claim 44 = .ok (.if_icmp .gt 5, 3) := dk_163 0 5 (dk_at dksX4_claim_1 20 rfl rfl)
theorem dX4_claim_47 : decode cX4_claim 47 = .ok (.lload_n 2, 1) := dk_32 (dk_at dksX4_claim_1 23 rfl rfl)
theorem dX4_claim_48 : decode cX4_claim 48 = .ok (.lreturn, 1) := dk_173 (dk_at dksX4_claim_2 0 rfl rfl)
theorem dX4_claim_49 : decode cX4_claim 49 = .ok (.aload_n 0, 1) := dk_42 (dk_at dksX4_claim_2 1 rfl rfl)
theorem dX4_claim_50 : decode cX4_claim 50 = .ok (.iload_n 1, 1) := dk_27 (dk_at dksX4_claim_2 2 rfl rfl)
theorem dX4_claim_51 : decode cX4_claim 51 = .ok (.iconst 0, 1) := dk_3 (dk_at dksX4_claim_2 3 rfl rfl)
theorem dX4_claim_52 : decode cX4_claim 52 = .ok (.invokevirtual 269, 3) := dk_182 1 13 (dk_at dksX4_claim_2 4 rfl rfl)
theorem dX4_claim_55 : decode cX4_claim 55 = .ok (.lstore 4, 2) := dk_55 4 (dk_at dksX4_claim_2 7 rfl rfl)
theorem dX4_claim_57 : decode cX4_claim 57 = .ok (.aload_n 0, 1) := dk_42 (dk_at dksX4_claim_2 9 rfl rfl)
theorem dX4_claim_58 : decode cX4_claim 58 = .ok (.aload_n 0, 1) := dk_42 (dk_at dksX4_claim_2 10 rfl rfl)
theorem dX4_claim_59 : decode cX4_claim 59 = .ok (.getfield 31, 3) := dk_180 0 31 (dk_at dksX4_claim_2 11 rfl rfl)
theorem dX4_claim_62 : decode cX4_claim 62 = .ok (.iload_n 1, 1) := dk_27 (dk_at dksX4_claim_2 14 rfl rfl)
theorem dX4_claim_63 : decode cX4_claim 63 = .ok (.iaload, 1) := dk_46 (dk_at dksX4_claim_2 15 rfl rfl)
theorem dX4_claim_64 : decode cX4_claim 64 = .ok (.aload_n 0, 1) := dk_42 (dk_at dksX4_claim_2 16 rfl rfl)
theorem dX4_claim_65 : decode cX4_claim 65 = .ok (.getfield 37, 3) := dk_180 0 37 (dk_at dksX4_claim_2 17 rfl rfl)
theorem dX4_claim_68 : decode cX4_claim 68 = .ok (.iload_n 1, 1) := dk_27 (dk_at dksX4_claim_2 20 rfl rfl)
theorem dX4_claim_69 : decode cX4_claim 69 = .ok (.iaload, 1) := dk_46 (dk_at dksX4_claim_2 21 rfl rfl)
theorem dX4_claim_70 : decode cX4_claim 70 = .ok (.aload_n 0, 1) := dk_42 (dk_at dksX4_claim_2 22 rfl rfl)
theorem dX4_claim_71 : decode cX4_claim 71 = .ok (.getfield 34, 3) := dk_180 0 34 (dk_at dksX4_claim_3 0 rfl rfl)
theorem dX4_claim_74 : decode cX4_claim 74 = .ok (.iload_n 1, 1) := dk_27 (dk_at dksX4_claim_3 3 rfl rfl)
theorem dX4_claim_75 : decode cX4_claim 75 = .ok (.iaload, 1) := dk_46 (dk_at dksX4_claim_3 4 rfl rfl)
theorem dX4_claim_76 : decode cX4_claim 76 = .ok (.aload_n 0, 1) := dk_42 (dk_at dksX4_claim_3 5 rfl rfl)
theorem dX4_claim_77 : decode cX4_claim 77 = .ok (.getfield 52, 3) := dk_180 0 52 (dk_at dksX4_claim_3 6 rfl rfl)
theorem dX4_claim_80 : decode cX4_claim 80 = .ok (.iload_n 1, 1) := dk_27 (dk_at dksX4_claim_3 9 rfl rfl)
theorem dX4_claim_81 : decode cX4_claim 81 = .ok (.iaload, 1) := dk_46 (dk_at dksX4_claim_3 10 rfl rfl)
theorem dX4_claim_82 : decode cX4_claim 82 = .ok (.aload_n 0, 1) := dk_42 (dk_at dksX4_claim_3 11 rfl rfl)
theorem dX4_claim_83 : decode cX4_claim 83 = .ok (.getfield 43, 3) := dk_180 0 43 (dk_at dksX4_claim_3 12 rfl rfl)
theorem dX4_claim_86 : decode cX4_claim 86 = .ok (.iload_n 1, 1) := dk_27 (dk_at dksX4_claim_3 15 rfl rfl)
theorem dX4_claim_87 : decode cX4_claim 87 = .ok (.iaload, 1) := dk_46 (dk_at dksX4_claim_3 16 rfl rfl)
theorem dX4_claim_88 : decode cX4_claim 88 = .ok (.aload_n 0, 1) := dk_42 (dk_at dksX4_claim_3 17 rfl rfl)
theorem dX4_claim_89 : decode cX4_claim 89 = .ok (.getfield 46, 3) := dk_180 0 46 (dk_at dksX4_claim_3 18 rfl rfl)
theorem dX4_claim_92 : decode cX4_claim 92 = .ok (.iload_n 1, 1) := dk_27 (dk_at dksX4_claim_3 21 rfl rfl)
theorem dX4_claim_93 : decode cX4_claim 93 = .ok (.iaload, 1) := dk_46 (dk_at dksX4_claim_3 22 rfl rfl)
theorem dX4_claim_94 : decode cX4_claim 94 = .ok (.aload_n 0, 1) := dk_42 (dk_at dksX4_claim_3 23 rfl rfl)
theorem dX4_claim_95 : decode cX4_claim 95 = .ok (.getfield 43, 3) := dk_180 0 43 (dk_at dksX4_claim_4 0 rfl rfl)
theorem dX4_claim_98 : decode cX4_claim 98 = .ok (.iload_n 1, 1) := dk_27 (dk_at dksX4_claim_4 3 rfl rfl)
theorem dX4_claim_99 : decode cX4_claim 99 = .ok (.iaload, 1) := dk_46 (dk_at dksX4_claim_4 4 rfl rfl)
theorem dX4_claim_100 : decode cX4_claim 100 = .ok (.iconst 0, 1) := dk_3 (dk_at dksX4_claim_4 5 rfl rfl)
theorem dX4_claim_101 : decode cX4_claim 101 = .ok (.invokevirtual 223, 3) := dk_182 0 223 (dk_at dksX4_claim_4 6 rfl rfl)
theorem dX4_claim_104 : decode cX4_claim 104 = .ok (.aload_n 0, 1) := dk_42 (dk_at dksX4_claim_4 9 rfl rfl)
theorem dX4_claim_105 : decode cX4_claim 105 = .ok (.aload_n 0, 1) := dk_42 (dk_at dksX4_claim_4 10 rfl rfl)
theorem dX4_claim_106 : decode cX4_claim 106 = .ok (.getfield 31, 3) := dk_180 0 31 (dk_at dksX4_claim_4 11 rfl rfl)
theorem dX4_claim_109 : decode cX4_claim 109 = .ok (.iload_n 1, 1) := dk_27 (dk_at dksX4_claim_4 14 rfl rfl)
theorem dX4_claim_110 : decode cX4_claim 110 = .ok (.iaload, 1) := dk_46 (dk_at dksX4_claim_4 15 rfl rfl)
theorem dX4_claim_111 : decode cX4_claim 111 = .ok (.aload_n 0, 1) := dk_42 (dk_at dksX4_claim_4 16 rfl rfl)
theorem dX4_claim_112 : decode cX4_claim 112 = .ok (.getfield 67, 3) := dk_180 0 67 (dk_at dksX4_claim_4 17 rfl rfl)
theorem dX4_claim_115 : decode cX4_claim 115 = .ok (.iload_n 1, 1) := dk_27 (dk_at dksX4_claim_4 20 rfl rfl)
theorem dX4_claim_116 : decode cX4_claim 116 = .ok (.laload, 1) := dk_47 (dk_at dksX4_claim_4 21 rfl rfl)
theorem dX4_claim_117 : decode cX4_claim 117 = .ok (.invokevirtual 230, 3) := dk_182 0 230 (dk_at dksX4_claim_5 0 rfl rfl)
theorem dX4_claim_120 : decode cX4_claim 120 = .ok (.lstore 6, 2) := dk_55 6 (dk_at dksX4_claim_5 3 rfl rfl)
theorem dX4_claim_122 : decode cX4_claim 122 = .ok (.lload 6, 2) := dk_22 6 (dk_at dksX4_claim_5 5 rfl rfl)
theorem dX4_claim_124 : decode cX4_claim 124 = .ok (.lconst 0, 1) := dk_9 (dk_at dksX4_claim_5 7 rfl rfl)
theorem dX4_claim_125 : decode cX4_claim 125 = .ok (.lcmp, 1) := dk_148 (dk_at dksX4_claim_5 8 rfl rfl)
theorem dX4_claim_126 : decode cX4_claim 126 = .ok (.ifCond .ne 7, 3) := dk_154 0 7 (dk_at dksX4_claim_5 9 rfl rfl)
theorem dX4_claim_129 : decode cX4_claim 129 = .ok (.lload_n 2, 1) := dk_32 (dk_at dksX4_claim_5 12 rfl rfl)
theorem dX4_claim_130 : decode cX4_claim 130 = .ok (.goto 10, 3) := dk_167 0 10 (dk_at dksX4_claim_5 13 rfl rfl)
theorem dX4_claim_133 : decode cX4_claim 133 = .ok (.lload_n 2, 1) := dk_32 (dk_at dksX4_claim_5 16 rfl rfl)
theorem dX4_claim_134 : decode cX4_claim 134 = .ok (.lload 4, 2) := dk_22 4 (dk_at dksX4_claim_5 17 rfl rfl)
theorem dX4_claim_136 : decode cX4_claim 136 = .ok (.lmul, 1) := dk_105 (dk_at dksX4_claim_5 19 rfl rfl)
theorem dX4_claim_137 : decode cX4_claim 137 = .ok (.lload 6, 2) := dk_22 6 (dk_at dksX4_claim_5 20 rfl rfl)
theorem dX4_claim_139 : decode cX4_claim 139 = .ok (.ldiv, 1) := dk_109 (dk_at dksX4_claim_5 22 rfl rfl)
theorem dX4_claim_140 : decode cX4_claim 140 = .ok (.lreturn, 1) := dk_173 (dk_at dksX4_claim_5 23 rfl rfl)
abbrev cX4_finalBonus : ByteArray := prog_12_method_24_code
def yX4_finalBonus : MethodName := ⟨RX4, "finalBonus", "(I)J"⟩
def dkwX4_finalBonus_2 : List UInt8 := [9, 173]
abbrev dktX4_finalBonus_2 : List UInt8 := dkwX4_finalBonus_2 ++ []
def dkwX4_finalBonus_1 : List UInt8 := [180, 0, 70, 27, 47, 101, 42, 180, 0, 136, 133, 105, 20, 0, 194, 184, 0, 238, 184, 0, 241, 167, 0, 4]
abbrev dktX4_finalBonus_1 : List UInt8 := dkwX4_finalBonus_1 ++ dktX4_finalBonus_2
def dkwX4_finalBonus_0 : List UInt8 := [42, 27, 182, 1, 7, 153, 0, 42, 9, 42, 180, 0, 73, 27, 47, 42, 180, 0, 67, 27, 47, 101, 42]
abbrev dktX4_finalBonus_0 : List UInt8 := dkwX4_finalBonus_0 ++ dktX4_finalBonus_1
theorem dksX4_finalBonus_0 : cX4_finalBonus.data.toList.drop 0 = dktX4_finalBonus_0 := by decide +kernel
theorem dksX4_finalBonus_1 : cX4_finalBonus.data.toList.drop 23 = dktX4_finalBonus_1 := dk_seg dksX4_finalBonus_0 23 rfl rfl
theorem dksX4_finalBonus_2 : cX4_finalBonus.data.toList.drop 47 = dktX4_finalBonus_2 := dk_seg dksX4_finalBonus_1 24 rfl rfl
theorem dX4_finalBonus_0 : decode cX4_finalBonus 0 = .ok (.aload_n 0, 1) := dk_42 (dk_at dksX4_finalBonus_0 0 rfl rfl)
theorem dX4_finalBonus_1 : decode cX4_finalBonus 1 = .ok (.iload_n 1, 1) := dk_27 (dk_at dksX4_finalBonus_0 1 rfl rfl)
theorem dX4_finalBonus_2 : decode cX4_finalBonus 2 = .ok (.invokevirtual 263, 3) := dk_182 1 7 (dk_at dksX4_finalBonus_0 2 rfl rfl)
theorem dX4_finalBonus_5 : decode cX4_finalBonus 5 = .ok (.ifCond .eq 42, 3) := dk_153 0 42 (dk_at dksX4_finalBonus_0 5 rfl rfl)
theorem dX4_finalBonus_8 : decode cX4_finalBonus 8 = .ok (.lconst 0, 1) := dk_9 (dk_at dksX4_finalBonus_0 8 rfl rfl)
theorem dX4_finalBonus_9 : decode cX4_finalBonus 9 = .ok (.aload_n 0, 1) := dk_42 (dk_at dksX4_finalBonus_0 9 rfl rfl)
theorem dX4_finalBonus_10 : decode cX4_finalBonus 10 = .ok (.getfield 73, 3) := dk_180 0 73 (dk_at dksX4_finalBonus_0 10 rfl rfl)
theorem dX4_finalBonus_13 : decode cX4_finalBonus 13 = .ok (.iload_n 1, 1) := dk_27 (dk_at dksX4_finalBonus_0 13 rfl rfl)
theorem dX4_finalBonus_14 : decode cX4_finalBonus 14 = .ok (.laload, 1) := dk_47 (dk_at dksX4_finalBonus_0 14 rfl rfl)
theorem dX4_finalBonus_15 : decode cX4_finalBonus 15 = .ok (.aload_n 0, 1) := dk_42 (dk_at dksX4_finalBonus_0 15 rfl rfl)
theorem dX4_finalBonus_16 : decode cX4_finalBonus 16 = .ok (.getfield 67, 3) := dk_180 0 67 (dk_at dksX4_finalBonus_0 16 rfl rfl)
theorem dX4_finalBonus_19 : decode cX4_finalBonus 19 = .ok (.iload_n 1, 1) := dk_27 (dk_at dksX4_finalBonus_0 19 rfl rfl)
theorem dX4_finalBonus_20 : decode cX4_finalBonus 20 = .ok (.laload, 1) := dk_47 (dk_at dksX4_finalBonus_0 20 rfl rfl)
theorem dX4_finalBonus_21 : decode cX4_finalBonus 21 = .ok (.lsub, 1) := dk_101 (dk_at dksX4_finalBonus_0 21 rfl rfl)
theorem dX4_finalBonus_22 : decode cX4_finalBonus 22 = .ok (.aload_n 0, 1) := dk_42 (dk_at dksX4_finalBonus_0 22 rfl rfl)
theorem dX4_finalBonus_23 : decode cX4_finalBonus 23 = .ok (.getfield 70, 3) := dk_180 0 70 (dk_at dksX4_finalBonus_1 0 rfl rfl)
theorem dX4_finalBonus_26 : decode cX4_finalBonus 26 = .ok (.iload_n 1, 1) := dk_27 (dk_at dksX4_finalBonus_1 3 rfl rfl)
theorem dX4_finalBonus_27 : decode cX4_finalBonus 27 = .ok (.laload, 1) := dk_47 (dk_at dksX4_finalBonus_1 4 rfl rfl)
theorem dX4_finalBonus_28 : decode cX4_finalBonus 28 = .ok (.lsub, 1) := dk_101 (dk_at dksX4_finalBonus_1 5 rfl rfl)
theorem dX4_finalBonus_29 : decode cX4_finalBonus 29 = .ok (.aload_n 0, 1) := dk_42 (dk_at dksX4_finalBonus_1 6 rfl rfl)
theorem dX4_finalBonus_30 : decode cX4_finalBonus 30 = .ok (.getfield 136, 3) := dk_180 0 136 (dk_at dksX4_finalBonus_1 7 rfl rfl)
theorem dX4_finalBonus_33 : decode cX4_finalBonus 33 = .ok (.i2l, 1) := dk_133 (dk_at dksX4_finalBonus_1 10 rfl rfl)
theorem dX4_finalBonus_34 : decode cX4_finalBonus 34 = .ok (.lmul, 1) := dk_105 (dk_at dksX4_finalBonus_1 11 rfl rfl)
theorem dX4_finalBonus_35 : decode cX4_finalBonus 35 = .ok (.ldc2_w 194, 3) := dk_20 0 194 (dk_at dksX4_finalBonus_1 12 rfl rfl)
theorem dX4_finalBonus_38 : decode cX4_finalBonus 38 = .ok (.invokestatic 238, 3) := dk_184 0 238 (dk_at dksX4_finalBonus_1 15 rfl rfl)
theorem dX4_finalBonus_41 : decode cX4_finalBonus 41 = .ok (.invokestatic 241, 3) := dk_184 0 241 (dk_at dksX4_finalBonus_1 18 rfl rfl)
theorem dX4_finalBonus_44 : decode cX4_finalBonus 44 = .ok (.goto 4, 3) := dk_167 0 4 (dk_at dksX4_finalBonus_1 21 rfl rfl)
theorem dX4_finalBonus_47 : decode cX4_finalBonus 47 = .ok (.lconst 0, 1) := dk_9 (dk_at dksX4_finalBonus_2 0 rfl rfl)
theorem dX4_finalBonus_48 : decode cX4_finalBonus 48 = .ok (.lreturn, 1) := dk_173 (dk_at dksX4_finalBonus_2 1 rfl rfl)
abbrev cX4_hasProfits : ByteArray := prog_12_method_10_code
def yX4_hasProfits : MethodName := ⟨RX4, "hasProfits", "(I)Z"⟩
def dkwX4_hasProfits_0 : List UInt8 := [42, 180, 0, 37, 27, 46, 7, 161, 0, 7, 4, 167, 0, 4, 3, 172]
abbrev dktX4_hasProfits_0 : List UInt8 := dkwX4_hasProfits_0 ++ []
theorem dksX4_hasProfits_0 : cX4_hasProfits.data.toList.drop 0 = dktX4_hasProfits_0 := by decide +kernel
theorem dX4_hasProfits_0 : decode cX4_hasProfits 0 = .ok (.aload_n 0, 1) := dk_42 (dk_at dksX4_hasProfits_0 0 rfl rfl)
theorem dX4_hasProfits_1 : decode cX4_hasProfits 1 = .ok (.getfield 37, 3) := dk_180 0 37 (dk_at dksX4_hasProfits_0 1 rfl rfl)
theorem dX4_hasProfits_4 : decode cX4_hasProfits 4 = .ok (.iload_n 1, 1) := dk_27 (dk_at dksX4_hasProfits_0 4 rfl rfl)
theorem dX4_hasProfits_5 : decode cX4_hasProfits 5 = .ok (.iaload, 1) := dk_46 (dk_at dksX4_hasProfits_0 5 rfl rfl)
theorem dX4_hasProfits_6 : decode cX4_hasProfits 6 = .ok (.iconst 4, 1) := dk_7 (dk_at dksX4_hasProfits_0 6 rfl rfl)
theorem dX4_hasProfits_7 : decode cX4_hasProfits 7 = .ok (.if_icmp .lt 7, 3) := dk_161 0 7 (dk_at dksX4_hasProfits_0 7 rfl rfl)
theorem dX4_hasProfits_10 : decode cX4_hasProfits 10 = .ok (.iconst 1, 1) := dk_4 (dk_at dksX4_hasProfits_0 10 rfl rfl)
theorem dX4_hasProfits_11 : decode cX4_hasProfits 11 = .ok (.goto 4, 3) := dk_167 0 4 (dk_at dksX4_hasProfits_0 11 rfl rfl)
theorem dX4_hasProfits_14 : decode cX4_hasProfits 14 = .ok (.iconst 0, 1) := dk_3 (dk_at dksX4_hasProfits_0 14 rfl rfl)
theorem dX4_hasProfits_15 : decode cX4_hasProfits 15 = .ok (.ireturn, 1) := dk_172 (dk_at dksX4_hasProfits_0 15 rfl rfl)
abbrev cX4_net : ByteArray := prog_12_method_16_code
def yX4_net : MethodName := ⟨RX4, "net", "(II)J"⟩
def dkwX4_net_1 : List UInt8 := [47, 182, 0, 230, 173]
abbrev dktX4_net_1 : List UInt8 := dkwX4_net_1 ++ []
def dkwX4_net_0 : List UInt8 := [42, 27, 42, 180, 0, 43, 27, 46, 28, 182, 0, 227, 42, 42, 180, 0, 31, 27, 46, 42, 180, 0, 67, 27]
abbrev dktX4_net_0 : List UInt8 := dkwX4_net_0 ++ dktX4_net_1
theorem dksX4_net_0 : cX4_net.data.toList.drop 0 = dktX4_net_0 := by decide +kernel
theorem dksX4_net_1 : cX4_net.data.toList.drop 24 = dktX4_net_1 := dk_seg dksX4_net_0 24 rfl rfl
theorem dX4_net_0 : decode cX4_net 0 = .ok (.aload_n 0, 1) := dk_42 (dk_at dksX4_net_0 0 rfl rfl)
theorem dX4_net_1 : decode cX4_net 1 = .ok (.iload_n 1, 1) := dk_27 (dk_at dksX4_net_0 1 rfl rfl)
theorem dX4_net_2 : decode cX4_net 2 = .ok (.aload_n 0, 1) := dk_42 (dk_at dksX4_net_0 2 rfl rfl)
theorem dX4_net_3 : decode cX4_net 3 = .ok (.getfield 43, 3) := dk_180 0 43 (dk_at dksX4_net_0 3 rfl rfl)
theorem dX4_net_6 : decode cX4_net 6 = .ok (.iload_n 1, 1) := dk_27 (dk_at dksX4_net_0 6 rfl rfl)
theorem dX4_net_7 : decode cX4_net 7 = .ok (.iaload, 1) := dk_46 (dk_at dksX4_net_0 7 rfl rfl)
theorem dX4_net_8 : decode cX4_net 8 = .ok (.iload_n 2, 1) := dk_28 (dk_at dksX4_net_0 8 rfl rfl)
theorem dX4_net_9 : decode cX4_net 9 = .ok (.invokevirtual 227, 3) := dk_182 0 227 (dk_at dksX4_net_0 9 rfl rfl)
theorem dX4_net_12 : decode cX4_net 12 = .ok (.aload_n 0, 1) := dk_42 (dk_at dksX4_net_0 12 rfl rfl)
theorem dX4_net_13 : decode cX4_net 13 = .ok (.aload_n 0, 1) := dk_42 (dk_at dksX4_net_0 13 rfl rfl)
theorem dX4_net_14 : decode cX4_net 14 = .ok (.getfield 31, 3) := dk_180 0 31 (dk_at dksX4_net_0 14 rfl rfl)
theorem dX4_net_17 : decode cX4_net 17 = .ok (.iload_n 1, 1) := dk_27 (dk_at dksX4_net_0 17 rfl rfl)
theorem dX4_net_18 : decode cX4_net 18 = .ok (.iaload, 1) := dk_46 (dk_at dksX4_net_0 18 rfl rfl)
theorem dX4_net_19 : decode cX4_net 19 = .ok (.aload_n 0, 1) := dk_42 (dk_at dksX4_net_0 19 rfl rfl)
theorem dX4_net_20 : decode cX4_net 20 = .ok (.getfield 67, 3) := dk_180 0 67 (dk_at dksX4_net_0 20 rfl rfl)
theorem dX4_net_23 : decode cX4_net 23 = .ok (.iload_n 1, 1) := dk_27 (dk_at dksX4_net_0 23 rfl rfl)
theorem dX4_net_24 : decode cX4_net 24 = .ok (.laload, 1) := dk_47 (dk_at dksX4_net_1 0 rfl rfl)
theorem dX4_net_25 : decode cX4_net 25 = .ok (.invokevirtual 230, 3) := dk_182 0 230 (dk_at dksX4_net_1 1 rfl rfl)
theorem dX4_net_28 : decode cX4_net 28 = .ok (.lreturn, 1) := dk_173 (dk_at dksX4_net_1 4 rfl rfl)
abbrev cX4_tellLate : ByteArray := prog_12_method_64_code
def yX4_tellLate : MethodName := ⟨RX4, "tellLate", "(II)J"⟩
def dkwX4_tellLate_5 : List UInt8 := [180, 0, 117, 33, 97, 181, 0, 117, 42, 180, 0, 49, 27, 7, 79, 33, 173]
abbrev dktX4_tellLate_5 : List UInt8 := dkwX4_tellLate_5 ++ []
def dkwX4_tellLate_4 : List UInt8 := [180, 0, 24, 3, 92, 47, 33, 42, 27, 42, 180, 0, 114, 3, 182, 0, 244, 97, 97, 80, 42, 89]
abbrev dktX4_tellLate_4 : List UInt8 := dkwX4_tellLate_4 ++ dktX4_tellLate_5
def dkwX4_tellLate_3 : List UInt8 := [27, 46, 153, 0, 10, 42, 6, 182, 1, 86, 133, 173, 42, 180, 0, 67, 27, 47, 28, 133, 105, 66, 42]
abbrev dktX4_tellLate_3 : List UInt8 := dkwX4_tellLate_3 ++ dktX4_tellLate_4
def dkwX4_tellLate_2 : List UInt8 := [154, 0, 10, 42, 5, 182, 1, 86, 133, 173, 42, 180, 0, 31, 27, 46, 6, 160, 0, 12, 42, 180, 0, 49]
abbrev dktX4_tellLate_2 : List UInt8 := dkwX4_tellLate_2 ++ dktX4_tellLate_3
def dkwX4_tellLate_1 : List UInt8 := [180, 0, 31, 27, 46, 6, 160, 0, 13, 42, 180, 0, 55, 27, 46, 133, 167, 0, 4, 9, 184, 0, 168]
abbrev dktX4_tellLate_1 : List UInt8 := dkwX4_tellLate_1 ++ dktX4_tellLate_2
def dkwX4_tellLate_0 : List UInt8 := [42, 3, 181, 0, 1, 42, 27, 182, 1, 124, 154, 0, 10, 42, 4, 182, 1, 86, 133, 173, 28, 133, 10, 42]
abbrev dktX4_tellLate_0 : List UInt8 := dkwX4_tellLate_0 ++ dktX4_tellLate_1
theorem dksX4_tellLate_0 : cX4_tellLate.data.toList.drop 0 = dktX4_tellLate_0 := by decide +kernel
theorem dksX4_tellLate_1 : cX4_tellLate.data.toList.drop 24 = dktX4_tellLate_1 := dk_seg dksX4_tellLate_0 24 rfl rfl
theorem dksX4_tellLate_2 : cX4_tellLate.data.toList.drop 47 = dktX4_tellLate_2 := dk_seg dksX4_tellLate_1 23 rfl rfl
theorem dksX4_tellLate_3 : cX4_tellLate.data.toList.drop 71 = dktX4_tellLate_3 := dk_seg dksX4_tellLate_2 24 rfl rfl
theorem dksX4_tellLate_4 : cX4_tellLate.data.toList.drop 94 = dktX4_tellLate_4 := dk_seg dksX4_tellLate_3 23 rfl rfl
theorem dksX4_tellLate_5 : cX4_tellLate.data.toList.drop 116 = dktX4_tellLate_5 := dk_seg dksX4_tellLate_4 22 rfl rfl
theorem dX4_tellLate_0 : decode cX4_tellLate 0 = .ok (.aload_n 0, 1) := dk_42 (dk_at dksX4_tellLate_0 0 rfl rfl)
theorem dX4_tellLate_1 : decode cX4_tellLate 1 = .ok (.iconst 0, 1) := dk_3 (dk_at dksX4_tellLate_0 1 rfl rfl)
theorem dX4_tellLate_2 : decode cX4_tellLate 2 = .ok (.putfield 1, 3) := dk_181 0 1 (dk_at dksX4_tellLate_0 2 rfl rfl)
theorem dX4_tellLate_5 : decode cX4_tellLate 5 = .ok (.aload_n 0, 1) := dk_42 (dk_at dksX4_tellLate_0 5 rfl rfl)
theorem dX4_tellLate_6 : decode cX4_tellLate 6 = .ok (.iload_n 1, 1) := dk_27 (dk_at dksX4_tellLate_0 6 rfl rfl)
theorem dX4_tellLate_7 : decode cX4_tellLate 7 = .ok (.invokevirtual 380, 3) := dk_182 1 124 (dk_at dksX4_tellLate_0 7 rfl rfl)
theorem dX4_tellLate_10 : decode cX4_tellLate 10 = .ok (.ifCond .ne 10, 3) := dk_154 0 10 (dk_at dksX4_tellLate_0 10 rfl rfl)
theorem dX4_tellLate_13 : decode cX4_tellLate 13 = .ok (.aload_n 0, 1) := dk_42 (dk_at dksX4_tellLate_0 13 rfl rfl)
theorem dX4_tellLate_14 : decode cX4_tellLate 14 = .ok (.iconst 1, 1) := dk_4 (dk_at dksX4_tellLate_0 14 rfl rfl)
theorem dX4_tellLate_15 : decode cX4_tellLate 15 = .ok (.invokevirtual 342, 3) := dk_182 1 86 (dk_at dksX4_tellLate_0 15 rfl rfl)
theorem dX4_tellLate_18 : decode cX4_tellLate 18 = .ok (.i2l, 1) := dk_133 (dk_at dksX4_tellLate_0 18 rfl rfl)
theorem dX4_tellLate_19 : decode cX4_tellLate 19 = .ok (.lreturn, 1) := dk_173 (dk_at dksX4_tellLate_0 19 rfl rfl)
theorem dX4_tellLate_20 : decode cX4_tellLate 20 = .ok (.iload_n 2, 1) := dk_28 (dk_at dksX4_tellLate_0 20 rfl rfl)
theorem dX4_tellLate_21 : decode cX4_tellLate 21 = .ok (.i2l, 1) := dk_133 (dk_at dksX4_tellLate_0 21 rfl rfl)
theorem dX4_tellLate_22 : decode cX4_tellLate 22 = .ok (.lconst 1, 1) := dk_10 (dk_at dksX4_tellLate_0 22 rfl rfl)
theorem dX4_tellLate_23 : decode cX4_tellLate 23 = .ok (.aload_n 0, 1) := dk_42 (dk_at dksX4_tellLate_0 23 rfl rfl)
theorem dX4_tellLate_24 : decode cX4_tellLate 24 = .ok (.getfield 31, 3) := dk_180 0 31 (dk_at dksX4_tellLate_1 0 rfl rfl)
theorem dX4_tellLate_27 : decode cX4_tellLate 27 = .ok (.iload_n 1, 1) := dk_27 (dk_at dksX4_tellLate_1 3 rfl rfl)
theorem dX4_tellLate_28 : decode cX4_tellLate 28 = .ok (.iaload, 1) := dk_46 (dk_at dksX4_tellLate_1 4 rfl rfl)
theorem dX4_tellLate_29 : decode cX4_tellLate 29 = .ok (.iconst 3, 1) := dk_6 (dk_at dksX4_tellLate_1 5 rfl rfl)
theorem dX4_tellLate_30 : decode cX4_tellLate 30 = .ok (.if_icmp .ne 13, 3) := dk_160 0 13 (dk_at dksX4_tellLate_1 6 rfl rfl)
theorem dX4_tellLate_33 : decode cX4_tellLate 33 = .ok (.aload_n 0, 1) := dk_42 (dk_at dksX4_tellLate_1 9 rfl rfl)
theorem dX4_tellLate_34 : decode cX4_tellLate 34 = .ok (.getfield 55, 3) := dk_180 0 55 (dk_at dksX4_tellLate_1 10 rfl rfl)
theorem dX4_tellLate_37 : decode cX4_tellLate 37 = .ok (.iload_n 1, 1) := dk_27 (dk_at dksX4_tellLate_1 13 rfl rfl)
theorem dX4_tellLate_38 : decode cX4_tellLate 38 = .ok (.iaload, 1) := dk_46 (dk_at dksX4_tellLate_1 14 rfl rfl)
theorem dX4_tellLate_39 : decode cX4_tellLate 39 = .ok (.i2l, 1) := dk_133 (dk_at dksX4_tellLate_1 15 rfl rfl)
theorem dX4_tellLate_40 : decode cX4_tellLate 40 = .ok (.goto 4, 3) := dk_167 0 4 (dk_at dksX4_tellLate_1 16 rfl rfl)
theorem dX4_tellLate_43 : decode cX4_tellLate 43 = .ok (.lconst 0, 1) := dk_9 (dk_at dksX4_tellLate_1 19 rfl rfl)
theorem dX4_tellLate_44 : decode cX4_tellLate 44 = .ok (.invokestatic 168, 3) := dk_184 0 168 (dk_at dksX4_tellLate_1 20 rfl rfl)
theorem dX4_tellLate_47 : decode cX4_tellLate 47 = .ok (.ifCond .ne 10, 3) := dk_154 0 10 (dk_at dksX4_tellLate_2 0 rfl rfl)
theorem dX4_tellLate_50 : decode cX4_tellLate 50 = .ok (.aload_n 0, 1) := dk_42 (dk_at dksX4_tellLate_2 3 rfl rfl)
theorem dX4_tellLate_51 : decode cX4_tellLate 51 = .ok (.iconst 2, 1) := dk_5 (dk_at dksX4_tellLate_2 4 rfl rfl)
theorem dX4_tellLate_52 : decode cX4_tellLate 52 = .ok (.invokevirtual 342, 3) := dk_182 1 86 (dk_at dksX4_tellLate_2 5 rfl rfl)
theorem dX4_tellLate_55 : decode cX4_tellLate 55 = .ok (.i2l, 1) := dk_133 (dk_at dksX4_tellLate_2 8 rfl rfl)
theorem dX4_tellLate_56 : decode cX4_tellLate 56 = .ok (.lreturn, 1) := dk_173 (dk_at dksX4_tellLate_2 9 rfl rfl)
theorem dX4_tellLate_57 : decode cX4_tellLate 57 = .ok (.aload_n 0, 1) := dk_42 (dk_at dksX4_tellLate_2 10 rfl rfl)
theorem dX4_tellLate_58 : decode cX4_tellLate 58 = .ok (.getfield 31, 3) := dk_180 0 31 (dk_at dksX4_tellLate_2 11 rfl rfl)
theorem dX4_tellLate_61 : decode cX4_tellLate 61 = .ok (.iload_n 1, 1) := dk_27 (dk_at dksX4_tellLate_2 14 rfl rfl)
theorem dX4_tellLate_62 : decode cX4_tellLate 62 = .ok (.iaload, 1) := dk_46 (dk_at dksX4_tellLate_2 15 rfl rfl)
theorem dX4_tellLate_63 : decode cX4_tellLate 63 = .ok (.iconst 3, 1) := dk_6 (dk_at dksX4_tellLate_2 16 rfl rfl)
theorem dX4_tellLate_64 : decode cX4_tellLate 64 = .ok (.if_icmp .ne 12, 3) := dk_160 0 12 (dk_at dksX4_tellLate_2 17 rfl rfl)
theorem dX4_tellLate_67 : decode cX4_tellLate 67 = .ok (.aload_n 0, 1) := dk_42 (dk_at dksX4_tellLate_2 20 rfl rfl)
theorem dX4_tellLate_68 : decode cX4_tellLate 68 = .ok (.getfield 49, 3) := dk_180 0 49 (dk_at dksX4_tellLate_2 21 rfl rfl)
theorem dX4_tellLate_71 : decode cX4_tellLate 71 = .ok (.iload_n 1, 1) := dk_27 (dk_at dksX4_tellLate_3 0 rfl rfl)
theorem dX4_tellLate_72 : decode cX4_tellLate 72 = .ok (.iaload, 1) := dk_46 (dk_at dksX4_tellLate_3 1 rfl rfl)
theorem dX4_tellLate_73 : decode cX4_tellLate 73 = .ok (.ifCond .eq 10, 3) := dk_153 0 10 (dk_at dksX4_tellLate_3 2 rfl rfl)
theorem dX4_tellLate_76 : decode cX4_tellLate 76 = .ok (.aload_n 0, 1) := dk_42 (dk_at dksX4_tellLate_3 5 rfl rfl)
theorem dX4_tellLate_77 : decode cX4_tellLate 77 = .ok (.iconst 3, 1) := dk_6 (dk_at dksX4_tellLate_3 6 rfl rfl)
theorem dX4_tellLate_78 : decode cX4_tellLate 78 = .ok (.invokevirtual 342, 3) := dk_182 1 86 (dk_at dksX4_tellLate_3 7 rfl rfl)
theorem dX4_tellLate_81 : decode cX4_tellLate 81 = .ok (.i2l, 1) := dk_133 (dk_at dksX4_tellLate_3 10 rfl rfl)
theorem dX4_tellLate_82 : decode cX4_tellLate 82 = .ok (.lreturn, 1) := dk_173 (dk_at dksX4_tellLate_3 11 rfl rfl)
theorem dX4_tellLate_83 : decode cX4_tellLate 83 = .ok (.aload_n 0, 1) := dk_42 (dk_at dksX4_tellLate_3 12 rfl rfl)
theorem dX4_tellLate_84 : decode cX4_tellLate 84 = .ok (.getfield 67, 3) := dk_180 0 67 (dk_at dksX4_tellLate_3 13 rfl rfl)
theorem dX4_tellLate_87 : decode cX4_tellLate 87 = .ok (.iload_n 1, 1) := dk_27 (dk_at dksX4_tellLate_3 16 rfl rfl)
theorem dX4_tellLate_88 : decode cX4_tellLate 88 = .ok (.laload, 1) := dk_47 (dk_at dksX4_tellLate_3 17 rfl rfl)
theorem dX4_tellLate_89 : decode cX4_tellLate 89 = .ok (.iload_n 2, 1) := dk_28 (dk_at dksX4_tellLate_3 18 rfl rfl)
theorem dX4_tellLate_90 : decode cX4_tellLate 90 = .ok (.i2l, 1) := dk_133 (dk_at dksX4_tellLate_3 19 rfl rfl)
theorem dX4_tellLate_91 : decode cX4_tellLate 91 = .ok (.lmul, 1) := dk_105 (dk_at dksX4_tellLate_3 20 rfl rfl)
theorem dX4_tellLate_92 : decode cX4_tellLate 92 = .ok (.lstore_n 3, 1) := dk_66 (dk_at dksX4_tellLate_3 21 rfl rfl)
theorem dX4_tellLate_93 : decode cX4_tellLate 93 = .ok (.aload_n 0, 1) := dk_42 (dk_at dksX4_tellLate_3 22 rfl rfl)
theorem dX4_tellLate_94 : decode cX4_tellLate 94 = .ok (.getfield 24, 3) := dk_180 0 24 (dk_at dksX4_tellLate_4 0 rfl rfl)
theorem dX4_tellLate_97 : decode cX4_tellLate 97 = .ok (.iconst 0, 1) := dk_3 (dk_at dksX4_tellLate_4 3 rfl rfl)
theorem dX4_tellLate_98 : decode cX4_tellLate 98 = .ok (.dup2, 1) := dk_92 (dk_at dksX4_tellLate_4 4 rfl rfl)
theorem dX4_tellLate_99 : decode cX4_tellLate 99 = .ok (.laload, 1) := dk_47 (dk_at dksX4_tellLate_4 5 rfl rfl)
theorem dX4_tellLate_100 : decode cX4_tellLate 100 = .ok (.lload_n 3, 1) := dk_33 (dk_at dksX4_tellLate_4 6 rfl rfl)
theorem dX4_tellLate_101 : decode cX4_tellLate 101 = .ok (.aload_n 0, 1) := dk_42 (dk_at dksX4_tellLate_4 7 rfl rfl)
theorem dX4_tellLate_102 : decode cX4_tellLate 102 = .ok (.iload_n 1, 1) := dk_27 (dk_at dksX4_tellLate_4 8 rfl rfl)
theorem dX4_tellLate_103 : decode cX4_tellLate 103 = .ok (.aload_n 0, 1) := dk_42 (dk_at dksX4_tellLate_4 9 rfl rfl)
theorem dX4_tellLate_104 : decode cX4_tellLate 104 = .ok (.getfield 114, 3) := dk_180 0 114 (dk_at dksX4_tellLate_4 10 rfl rfl)
theorem dX4_tellLate_107 : decode cX4_tellLate 107 = .ok (.iconst 0, 1) := dk_3 (dk_at dksX4_tellLate_4 13 rfl rfl)
theorem dX4_tellLate_108 : decode cX4_tellLate 108 = .ok (.invokevirtual 244, 3) := dk_182 0 244 (dk_at dksX4_tellLate_4 14 rfl rfl)
theorem dX4_tellLate_111 : decode cX4_tellLate 111 = .ok (.ladd, 1) := dk_97 (dk_at dksX4_tellLate_4 17 rfl rfl)
theorem dX4_tellLate_112 : decode cX4_tellLate 112 = .ok (.ladd, 1) := dk_97 (dk_at dksX4_tellLate_4 18 rfl rfl)
theorem dX4_tellLate_113 : decode cX4_tellLate 113 = .ok (.lastore, 1) := dk_80 (dk_at dksX4_tellLate_4 19 rfl rfl)
theorem dX4_tellLate_114 : decode cX4_tellLate 114 = .ok (.aload_n 0, 1) := dk_42 (dk_at dksX4_tellLate_4 20 rfl rfl)
theorem dX4_tellLate_115 : decode cX4_tellLate 115 = .ok (.dup, 1) := dk_89 (dk_at dksX4_tellLate_4 21 rfl rfl)
theorem dX4_tellLate_116 : decode cX4_tellLate 116 = .ok (.getfield 117, 3) := dk_180 0 117 (dk_at dksX4_tellLate_5 0 rfl rfl)
theorem dX4_tellLate_119 : decode cX4_tellLate 119 = .ok (.lload_n 3, 1) := dk_33 (dk_at dksX4_tellLate_5 3 rfl rfl)
theorem dX4_tellLate_120 : decode cX4_tellLate 120 = .ok (.ladd, 1) := dk_97 (dk_at dksX4_tellLate_5 4 rfl rfl)
theorem dX4_tellLate_121 : decode cX4_tellLate 121 = .ok (.putfield 117, 3) := dk_181 0 117 (dk_at dksX4_tellLate_5 5 rfl rfl)
theorem dX4_tellLate_124 : decode cX4_tellLate 124 = .ok (.aload_n 0, 1) := dk_42 (dk_at dksX4_tellLate_5 8 rfl rfl)
theorem dX4_tellLate_125 : decode cX4_tellLate 125 = .ok (.getfield 49, 3) := dk_180 0 49 (dk_at dksX4_tellLate_5 9 rfl rfl)
theorem dX4_tellLate_128 : decode cX4_tellLate 128 = .ok (.iload_n 1, 1) := dk_27 (dk_at dksX4_tellLate_5 12 rfl rfl)
theorem dX4_tellLate_129 : decode cX4_tellLate 129 = .ok (.iconst 4, 1) := dk_7 (dk_at dksX4_tellLate_5 13 rfl rfl)
theorem dX4_tellLate_130 : decode cX4_tellLate 130 = .ok (.iastore, 1) := dk_79 (dk_at dksX4_tellLate_5 14 rfl rfl)
theorem dX4_tellLate_131 : decode cX4_tellLate 131 = .ok (.lload_n 3, 1) := dk_33 (dk_at dksX4_tellLate_5 15 rfl rfl)
theorem dX4_tellLate_132 : decode cX4_tellLate 132 = .ok (.lreturn, 1) := dk_173 (dk_at dksX4_tellLate_5 16 rfl rfl)
abbrev cX4_tellSurrender : ByteArray := prog_12_method_65_code
def yX4_tellSurrender : MethodName := ⟨RX4, "tellSurrender", "(I)J"⟩
def dkwX4_tellSurrender_2 : List UInt8 := [180, 0, 49, 27, 6, 79, 42, 27, 42, 180, 0, 114, 182, 1, 46, 173]
abbrev dktX4_tellSurrender_2 : List UInt8 := dkwX4_tellSurrender_2 ++ []
def dkwX4_tellSurrender_1 : List UInt8 := [182, 1, 127, 153, 0, 13, 42, 180, 0, 31, 27, 46, 5, 161, 0, 10, 42, 5, 182, 1, 86, 133, 173, 42]
abbrev dktX4_tellSurrender_1 : List UInt8 := dkwX4_tellSurrender_1 ++ dktX4_tellSurrender_2
def dkwX4_tellSurrender_0 : List UInt8 := [42, 3, 181, 0, 1, 42, 27, 182, 1, 124, 154, 0, 10, 42, 4, 182, 1, 86, 133, 173, 42, 27]
abbrev dktX4_tellSurrender_0 : List UInt8 := dkwX4_tellSurrender_0 ++ dktX4_tellSurrender_1
theorem dksX4_tellSurrender_0 : cX4_tellSurrender.data.toList.drop 0 = dktX4_tellSurrender_0 := by decide +kernel
theorem dksX4_tellSurrender_1 : cX4_tellSurrender.data.toList.drop 22 = dktX4_tellSurrender_1 := dk_seg dksX4_tellSurrender_0 22 rfl rfl
theorem dksX4_tellSurrender_2 : cX4_tellSurrender.data.toList.drop 46 = dktX4_tellSurrender_2 := dk_seg dksX4_tellSurrender_1 24 rfl rfl
theorem dX4_tellSurrender_0 : decode cX4_tellSurrender 0 = .ok (.aload_n 0, 1) := dk_42 (dk_at dksX4_tellSurrender_0 0 rfl rfl)
theorem dX4_tellSurrender_1 : decode cX4_tellSurrender 1 = .ok (.iconst 0, 1) := dk_3 (dk_at dksX4_tellSurrender_0 1 rfl rfl)
theorem dX4_tellSurrender_2 : decode cX4_tellSurrender 2 = .ok (.putfield 1, 3) := dk_181 0 1 (dk_at dksX4_tellSurrender_0 2 rfl rfl)
theorem dX4_tellSurrender_5 : decode cX4_tellSurrender 5 = .ok (.aload_n 0, 1) := dk_42 (dk_at dksX4_tellSurrender_0 5 rfl rfl)
theorem dX4_tellSurrender_6 : decode cX4_tellSurrender 6 = .ok (.iload_n 1, 1) := dk_27 (dk_at dksX4_tellSurrender_0 6 rfl rfl)
theorem dX4_tellSurrender_7 : decode cX4_tellSurrender 7 = .ok (.invokevirtual 380, 3) := dk_182 1 124 (dk_at dksX4_tellSurrender_0 7 rfl rfl)
theorem dX4_tellSurrender_10 : decode cX4_tellSurrender 10 = .ok (.ifCond .ne 10, 3) := dk_154 0 10 (dk_at dksX4_tellSurrender_0 10 rfl rfl)
theorem dX4_tellSurrender_13 : decode cX4_tellSurrender 13 = .ok (.aload_n 0, 1) := dk_42 (dk_at dksX4_tellSurrender_0 13 rfl rfl)
theorem dX4_tellSurrender_14 : decode cX4_tellSurrender 14 = .ok (.iconst 1, 1) := dk_4 (dk_at dksX4_tellSurrender_0 14 rfl rfl)
theorem dX4_tellSurrender_15 : decode cX4_tellSurrender 15 = .ok (.invokevirtual 342, 3) := dk_182 1 86 (dk_at dksX4_tellSurrender_0 15 rfl rfl)
theorem dX4_tellSurrender_18 : decode cX4_tellSurrender 18 = .ok (.i2l, 1) := dk_133 (dk_at dksX4_tellSurrender_0 18 rfl rfl)
theorem dX4_tellSurrender_19 : decode cX4_tellSurrender 19 = .ok (.lreturn, 1) := dk_173 (dk_at dksX4_tellSurrender_0 19 rfl rfl)
theorem dX4_tellSurrender_20 : decode cX4_tellSurrender 20 = .ok (.aload_n 0, 1) := dk_42 (dk_at dksX4_tellSurrender_0 20 rfl rfl)
theorem dX4_tellSurrender_21 : decode cX4_tellSurrender 21 = .ok (.iload_n 1, 1) := dk_27 (dk_at dksX4_tellSurrender_0 21 rfl rfl)
theorem dX4_tellSurrender_22 : decode cX4_tellSurrender 22 = .ok (.invokevirtual 383, 3) := dk_182 1 127 (dk_at dksX4_tellSurrender_1 0 rfl rfl)
theorem dX4_tellSurrender_25 : decode cX4_tellSurrender 25 = .ok (.ifCond .eq 13, 3) := dk_153 0 13 (dk_at dksX4_tellSurrender_1 3 rfl rfl)
theorem dX4_tellSurrender_28 : decode cX4_tellSurrender 28 = .ok (.aload_n 0, 1) := dk_42 (dk_at dksX4_tellSurrender_1 6 rfl rfl)
theorem dX4_tellSurrender_29 : decode cX4_tellSurrender 29 = .ok (.getfield 31, 3) := dk_180 0 31 (dk_at dksX4_tellSurrender_1 7 rfl rfl)
theorem dX4_tellSurrender_32 : decode cX4_tellSurrender 32 = .ok (.iload_n 1, 1) := dk_27 (dk_at dksX4_tellSurrender_1 10 rfl rfl)
theorem dX4_tellSurrender_33 : decode cX4_tellSurrender 33 = .ok (.iaload, 1) := dk_46 (dk_at dksX4_tellSurrender_1 11 rfl rfl)
theorem dX4_tellSurrender_34 : decode cX4_tellSurrender 34 = .ok (.iconst 2, 1) := dk_5 (dk_at dksX4_tellSurrender_1 12 rfl rfl)
theorem dX4_tellSurrender_35 : decode cX4_tellSurrender 35 = .ok (.if_icmp .lt 10, 3) := dk_161 0 10 (dk_at dksX4_tellSurrender_1 13 rfl rfl)
theorem dX4_tellSurrender_38 : decode cX4_tellSurrender 38 = .ok (.aload_n 0, 1) := dk_42 (dk_at dksX4_tellSurrender_1 16 rfl rfl)
theorem dX4_tellSurrender_39 : decode cX4_tellSurrender 39 = .ok (.iconst 2, 1) := dk_5 (dk_at dksX4_tellSurrender_1 17 rfl rfl)
theorem dX4_tellSurrender_40 : decode cX4_tellSurrender 40 = .ok (.invokevirtual 342, 3) := dk_182 1 86 (dk_at dksX4_tellSurrender_1 18 rfl rfl)
theorem dX4_tellSurrender_43 : decode cX4_tellSurrender 43 = .ok (.i2l, 1) := dk_133 (dk_at dksX4_tellSurrender_1 21 rfl rfl)
theorem dX4_tellSurrender_44 : decode cX4_tellSurrender 44 = .ok (.lreturn, 1) := dk_173 (dk_at dksX4_tellSurrender_1 22 rfl rfl)
theorem dX4_tellSurrender_45 : decode cX4_tellSurrender 45 = .ok (.aload_n 0, 1) := dk_42 (dk_at dksX4_tellSurrender_1 23 rfl rfl)
theorem dX4_tellSurrender_46 : decode cX4_tellSurrender 46 = .ok (.getfield 49, 3) := dk_180 0 49 (dk_at dksX4_tellSurrender_2 0 rfl rfl)
theorem dX4_tellSurrender_49 : decode cX4_tellSurrender 49 = .ok (.iload_n 1, 1) := dk_27 (dk_at dksX4_tellSurrender_2 3 rfl rfl)
theorem dX4_tellSurrender_50 : decode cX4_tellSurrender 50 = .ok (.iconst 3, 1) := dk_6 (dk_at dksX4_tellSurrender_2 4 rfl rfl)
theorem dX4_tellSurrender_51 : decode cX4_tellSurrender 51 = .ok (.iastore, 1) := dk_79 (dk_at dksX4_tellSurrender_2 5 rfl rfl)
theorem dX4_tellSurrender_52 : decode cX4_tellSurrender 52 = .ok (.aload_n 0, 1) := dk_42 (dk_at dksX4_tellSurrender_2 6 rfl rfl)
theorem dX4_tellSurrender_53 : decode cX4_tellSurrender 53 = .ok (.iload_n 1, 1) := dk_27 (dk_at dksX4_tellSurrender_2 7 rfl rfl)
theorem dX4_tellSurrender_54 : decode cX4_tellSurrender 54 = .ok (.aload_n 0, 1) := dk_42 (dk_at dksX4_tellSurrender_2 8 rfl rfl)
theorem dX4_tellSurrender_55 : decode cX4_tellSurrender 55 = .ok (.getfield 114, 3) := dk_180 0 114 (dk_at dksX4_tellSurrender_2 9 rfl rfl)
theorem dX4_tellSurrender_58 : decode cX4_tellSurrender 58 = .ok (.invokevirtual 302, 3) := dk_182 1 46 (dk_at dksX4_tellSurrender_2 12 rfl rfl)
theorem dX4_tellSurrender_61 : decode cX4_tellSurrender 61 = .ok (.lreturn, 1) := dk_173 (dk_at dksX4_tellSurrender_2 15 rfl rfl)
abbrev cX4_lapse : ByteArray := prog_12_method_66_code
def yX4_lapse : MethodName := ⟨RX4, "lapse", "(I)J"⟩
def dkwX4_lapse_4 : List UInt8 := [16, 7, 79, 32, 173]
abbrev dktX4_lapse_4 : List UInt8 := dkwX4_lapse_4 ++ []
def dkwX4_lapse_3 : List UInt8 := [97, 80, 42, 180, 0, 76, 27, 9, 80, 42, 180, 0, 58, 27, 42, 180, 0, 114, 79, 42, 180, 0, 49, 27]
abbrev dktX4_lapse_3 : List UInt8 := dkwX4_lapse_3 ++ dktX4_lapse_4
def dkwX4_lapse_2 : List UInt8 := [42, 180, 0, 114, 3, 182, 0, 244, 65, 42, 180, 0, 24, 7, 92, 47, 32, 42, 180, 0, 76, 27, 47, 101]
abbrev dktX4_lapse_2 : List UInt8 := dkwX4_lapse_2 ++ dktX4_lapse_3
def dkwX4_lapse_1 : List UInt8 := [27, 46, 154, 0, 13, 42, 180, 0, 31, 27, 46, 6, 160, 0, 10, 42, 5, 182, 1, 86, 133, 173, 42, 27]
abbrev dktX4_lapse_1 : List UInt8 := dkwX4_lapse_1 ++ dktX4_lapse_2
def dkwX4_lapse_0 : List UInt8 := [42, 3, 181, 0, 1, 42, 27, 182, 1, 124, 154, 0, 10, 42, 4, 182, 1, 86, 133, 173, 42, 180, 0, 49]
abbrev dktX4_lapse_0 : List UInt8 := dkwX4_lapse_0 ++ dktX4_lapse_1
theorem dksX4_lapse_0 : cX4_lapse.data.toList.drop 0 = dktX4_lapse_0 := by decide +kernel
theorem dksX4_lapse_1 : cX4_lapse.data.toList.drop 24 = dktX4_lapse_1 := dk_seg dksX4_lapse_0 24 rfl rfl
theorem dksX4_lapse_2 : cX4_lapse.data.toList.drop 48 = dktX4_lapse_2 := dk_seg dksX4_lapse_1 24 rfl rfl
theorem dksX4_lapse_3 : cX4_lapse.data.toList.drop 72 = dktX4_lapse_3 := dk_seg dksX4_lapse_2 24 rfl rfl
theorem dksX4_lapse_4 : cX4_lapse.data.toList.drop 96 = dktX4_lapse_4 := dk_seg dksX4_lapse_3 24 rfl rfl
theorem dX4_lapse_0 : decode cX4_lapse 0 = .ok (.aload_n 0, 1) := dk_42 (dk_at dksX4_lapse_0 0 rfl rfl)
theorem dX4_lapse_1 : decode cX4_lapse 1 = .ok (.iconst 0, 1) := dk_3 (dk_at dksX4_lapse_0 1 rfl rfl)
theorem dX4_lapse_2 : decode cX4_lapse 2 = .ok (.putfield 1, 3) := dk_181 0 1 (dk_at dksX4_lapse_0 2 rfl rfl)
theorem dX4_lapse_5 : decode cX4_lapse 5 = .ok (.aload_n 0, 1) := dk_42 (dk_at dksX4_lapse_0 5 rfl rfl)
theorem dX4_lapse_6 : decode cX4_lapse 6 = .ok (.iload_n 1, 1) := dk_27 (dk_at dksX4_lapse_0 6 rfl rfl)
theorem dX4_lapse_7 : decode cX4_lapse 7 = .ok (.invokevirtual 380, 3) := dk_182 1 124 (dk_at dksX4_lapse_0 7 rfl rfl)
theorem dX4_lapse_10 : decode cX4_lapse 10 = .ok (.ifCond .ne 10, 3) := dk_154 0 10 (dk_at dksX4_lapse_0 10 rfl rfl)
theorem dX4_lapse_13 : decode cX4_lapse 13 = .ok (.aload_n 0, 1) := dk_42 (dk_at dksX4_lapse_0 13 rfl rfl)
theorem dX4_lapse_14 : decode cX4_lapse 14 = .ok (.iconst 1, 1) := dk_4 (dk_at dksX4_lapse_0 14 rfl rfl)
theorem dX4_lapse_15 : decode cX4_lapse 15 = .ok (.invokevirtual 342, 3) := dk_182 1 86 (dk_at dksX4_lapse_0 15 rfl rfl)
theorem dX4_lapse_18 : decode cX4_lapse 18 = .ok (.i2l, 1) := dk_133 (dk_at dksX4_lapse_0 18 rfl rfl)
theorem dX4_lapse_19 : decode cX4_lapse 19 = .ok (.lreturn, 1) := dk_173 (dk_at dksX4_lapse_0 19 rfl rfl)
theorem dX4_lapse_20 : decode cX4_lapse 20 = .ok (.aload_n 0, 1) := dk_42 (dk_at dksX4_lapse_0 20 rfl rfl)
theorem dX4_lapse_21 : decode cX4_lapse 21 = .ok (.getfield 49, 3) := dk_180 0 49 (dk_at dksX4_lapse_0 21 rfl rfl)
theorem dX4_lapse_24 : decode cX4_lapse 24 = .ok (.iload_n 1, 1) := dk_27 (dk_at dksX4_lapse_1 0 rfl rfl)
theorem dX4_lapse_25 : decode cX4_lapse 25 = .ok (.iaload, 1) := dk_46 (dk_at dksX4_lapse_1 1 rfl rfl)
theorem dX4_lapse_26 : decode cX4_lapse 26 = .ok (.ifCond .ne 13, 3) := dk_154 0 13 (dk_at dksX4_lapse_1 2 rfl rfl)
theorem dX4_lapse_29 : decode cX4_lapse 29 = .ok (.aload_n 0, 1) := dk_42 (dk_at dksX4_lapse_1 5 rfl rfl)
theorem dX4_lapse_30 : decode cX4_lapse 30 = .ok (.getfield 31, 3) := dk_180 0 31 (dk_at dksX4_lapse_1 6 rfl rfl)
theorem dX4_lapse_33 : decode cX4_lapse 33 = .ok (.iload_n 1, 1) := dk_27 (dk_at dksX4_lapse_1 9 rfl rfl)
theorem dX4_lapse_34 : decode cX4_lapse 34 = .ok (.iaload, 1) := dk_46 (dk_at dksX4_lapse_1 10 rfl rfl)
theorem dX4_lapse_35 : decode cX4_lapse 35 = .ok (.iconst 3, 1) := dk_6 (dk_at dksX4_lapse_1 11 rfl rfl)
theorem dX4_lapse_36 : decode cX4_lapse 36 = .ok (.if_icmp .ne 10, 3) := dk_160 0 10 (dk_at dksX4_lapse_1 12 rfl rfl)
theorem dX4_lapse_39 : decode cX4_lapse 39 = .ok (.aload_n 0, 1) := dk_42 (dk_at dksX4_lapse_1 15 rfl rfl)
theorem dX4_lapse_40 : decode cX4_lapse 40 = .ok (.iconst 2, 1) := dk_5 (dk_at dksX4_lapse_1 16 rfl rfl)
theorem dX4_lapse_41 : decode cX4_lapse 41 = .ok (.invokevirtual 342, 3) := dk_182 1 86 (dk_at dksX4_lapse_1 17 rfl rfl)
theorem dX4_lapse_44 : decode cX4_lapse 44 = .ok (.i2l, 1) := dk_133 (dk_at dksX4_lapse_1 20 rfl rfl)
theorem dX4_lapse_45 : decode cX4_lapse 45 = .ok (.lreturn, 1) := dk_173 (dk_at dksX4_lapse_1 21 rfl rfl)
theorem dX4_lapse_46 : decode cX4_lapse 46 = .ok (.aload_n 0, 1) := dk_42 (dk_at dksX4_lapse_1 22 rfl rfl)
theorem dX4_lapse_47 : decode cX4_lapse 47 = .ok (.iload_n 1, 1) := dk_27 (dk_at dksX4_lapse_1 23 rfl rfl)
theorem dX4_lapse_48 : decode cX4_lapse 48 = .ok (.aload_n 0, 1) := dk_42 (dk_at dksX4_lapse_2 0 rfl rfl)
theorem dX4_lapse_49 : decode cX4_lapse 49 = .ok (.getfield 114, 3) := dk_180 0 114 (dk_at dksX4_lapse_2 1 rfl rfl)
theorem dX4_lapse_52 : decode cX4_lapse 52 = .ok (.iconst 0, 1) := dk_3 (dk_at dksX4_lapse_2 4 rfl rfl)
theorem dX4_lapse_53 : decode cX4_lapse 53 = .ok (.invokevirtual 244, 3) := dk_182 0 244 (dk_at dksX4_lapse_2 5 rfl rfl)
theorem dX4_lapse_56 : decode cX4_lapse 56 = .ok (.lstore_n 2, 1) := dk_65 (dk_at dksX4_lapse_2 8 rfl rfl)
theorem dX4_lapse_57 : decode cX4_lapse 57 = .ok (.aload_n 0, 1) := dk_42 (dk_at dksX4_lapse_2 9 rfl rfl)
theorem dX4_lapse_58 : decode cX4_lapse 58 = .ok (.getfield 24, 3) := dk_180 0 24 (dk_at dksX4_lapse_2 10 rfl rfl)
theorem dX4_lapse_61 : decode cX4_lapse 61 = .ok (.iconst 4, 1) := dk_7 (dk_at dksX4_lapse_2 13 rfl rfl)
theorem dX4_lapse_62 : decode cX4_lapse 62 = .ok (.dup2, 1) := dk_92 (dk_at dksX4_lapse_2 14 rfl rfl)
theorem dX4_lapse_63 : decode cX4_lapse 63 = .ok (.laload, 1) := dk_47 (dk_at dksX4_lapse_2 15 rfl rfl)
theorem dX4_lapse_64 : decode cX4_lapse 64 = .ok (.lload_n 2, 1) := dk_32 (dk_at dksX4_lapse_2 16 rfl rfl)
theorem dX4_lapse_65 : decode cX4_lapse 65 = .ok (.aload_n 0, 1) := dk_42 (dk_at dksX4_lapse_2 17 rfl rfl)
theorem dX4_lapse_66 : decode cX4_lapse 66 = .ok (.getfield 76, 3) := dk_180 0 76 (dk_at dksX4_lapse_2 18 rfl rfl)
theorem dX4_lapse_69 : decode cX4_lapse 69 = .ok (.iload_n 1, 1) := dk_27 (dk_at dksX4_lapse_2 21 rfl rfl)
theorem dX4_lapse_70 : decode cX4_lapse 70 = .ok (.laload, 1) := dk_47 (dk_at dksX4_lapse_2 22 rfl rfl)
theorem dX4_lapse_71 : decode cX4_lapse 71 = .ok (.lsub, 1) := dk_101 (dk_at dksX4_lapse_2 23 rfl rfl)
theorem dX4_lapse_72 : decode cX4_lapse 72 = .ok (.ladd, 1) := dk_97 (dk_at dksX4_lapse_3 0 rfl rfl)
theorem dX4_lapse_73 : decode cX4_lapse 73 = .ok (.lastore, 1) := dk_80 (dk_at dksX4_lapse_3 1 rfl rfl)
theorem dX4_lapse_74 : decode cX4_lapse 74 = .ok (.aload_n 0, 1) := dk_42 (dk_at dksX4_lapse_3 2 rfl rfl)
theorem dX4_lapse_75 : decode cX4_lapse 75 = .ok (.getfield 76, 3) := dk_180 0 76 (dk_at dksX4_lapse_3 3 rfl rfl)
theorem dX4_lapse_78 : decode cX4_lapse 78 = .ok (.iload_n 1, 1) := dk_27 (dk_at dksX4_lapse_3 6 rfl rfl)
theorem dX4_lapse_79 : decode cX4_lapse 79 = .ok (.lconst 0, 1) := dk_9 (dk_at dksX4_lapse_3 7 rfl rfl)
theorem dX4_lapse_80 : decode cX4_lapse 80 = .ok (.lastore, 1) := dk_80 (dk_at dksX4_lapse_3 8 rfl rfl)
theorem dX4_lapse_81 : decode cX4_lapse 81 = .ok (.aload_n 0, 1) := dk_42 (dk_at dksX4_lapse_3 9 rfl rfl)
theorem dX4_lapse_82 : decode cX4_lapse 82 = .ok (.getfield 58, 3) := dk_180 0 58 (dk_at dksX4_lapse_3 10 rfl rfl)
theorem dX4_lapse_85 : decode cX4_lapse 85 = .ok (.iload_n 1, 1) := dk_27 (dk_at dksX4_lapse_3 13 rfl rfl)
theorem dX4_lapse_86 : decode cX4_lapse 86 = .ok (.aload_n 0, 1) := dk_42 (dk_at dksX4_lapse_3 14 rfl rfl)
theorem dX4_lapse_87 : decode cX4_lapse 87 = .ok (.getfield 114, 3) := dk_180 0 114 (dk_at dksX4_lapse_3 15 rfl rfl)
theorem dX4_lapse_90 : decode cX4_lapse 90 = .ok (.iastore, 1) := dk_79 (dk_at dksX4_lapse_3 18 rfl rfl)
theorem dX4_lapse_91 : decode cX4_lapse 91 = .ok (.aload_n 0, 1) := dk_42 (dk_at dksX4_lapse_3 19 rfl rfl)
theorem dX4_lapse_92 : decode cX4_lapse 92 = .ok (.getfield 49, 3) := dk_180 0 49 (dk_at dksX4_lapse_3 20 rfl rfl)
theorem dX4_lapse_95 : decode cX4_lapse 95 = .ok (.iload_n 1, 1) := dk_27 (dk_at dksX4_lapse_3 23 rfl rfl)
theorem dX4_lapse_96 : decode cX4_lapse 96 = .ok (.bipush 7, 2) := dk_16 7 (dk_at dksX4_lapse_4 0 rfl rfl)
theorem dX4_lapse_98 : decode cX4_lapse 98 = .ok (.iastore, 1) := dk_79 (dk_at dksX4_lapse_4 2 rfl rfl)
theorem dX4_lapse_99 : decode cX4_lapse 99 = .ok (.lload_n 2, 1) := dk_32 (dk_at dksX4_lapse_4 3 rfl rfl)
theorem dX4_lapse_100 : decode cX4_lapse 100 = .ok (.lreturn, 1) := dk_173 (dk_at dksX4_lapse_4 4 rfl rfl)
abbrev cX4_reinstate : ByteArray := prog_12_method_67_code
def yX4_reinstate : MethodName := ⟨RX4, "reinstate", "(I)J"⟩
def dkwX4_reinstate_6 : List UInt8 := [92, 47, 32, 42, 27, 42, 180, 0, 114, 3, 182, 0, 244, 101, 97, 80, 32, 173]
abbrev dktX4_reinstate_6 : List UInt8 := dkwX4_reinstate_6 ++ []
def dkwX4_reinstate_5 : List UInt8 := [153, 0, 7, 4, 167, 0, 4, 3, 79, 42, 89, 180, 0, 117, 32, 97, 181, 0, 117, 42, 180, 0, 24, 7]
abbrev dktX4_reinstate_5 : List UInt8 := dkwX4_reinstate_5 ++ dktX4_reinstate_6
def dkwX4_reinstate_4 : List UInt8 := [27, 47, 20, 1, 130, 105, 20, 0, 194, 109, 105, 65, 42, 180, 0, 49, 27, 42, 180, 0, 64, 27, 51]
abbrev dktX4_reinstate_4 : List UInt8 := dkwX4_reinstate_4 ++ dktX4_reinstate_5
def dkwX4_reinstate_3 : List UInt8 := [51, 153, 0, 7, 9, 167, 0, 30, 42, 180, 0, 114, 42, 180, 0, 58, 27, 46, 100, 133, 42, 180, 0, 79]
abbrev dktX4_reinstate_3 : List UInt8 := dkwX4_reinstate_3 ++ dktX4_reinstate_4
def dkwX4_reinstate_2 : List UInt8 := [180, 0, 46, 27, 46, 42, 180, 0, 114, 163, 0, 10, 42, 5, 182, 1, 86, 133, 173, 42, 180, 0, 64, 27]
abbrev dktX4_reinstate_2 : List UInt8 := dkwX4_reinstate_2 ++ dktX4_reinstate_3
def dkwX4_reinstate_1 : List UInt8 := [27, 46, 16, 7, 160, 0, 31, 42, 180, 0, 114, 42, 180, 0, 58, 27, 46, 100, 5, 163, 0, 16, 42]
abbrev dktX4_reinstate_1 : List UInt8 := dkwX4_reinstate_1 ++ dktX4_reinstate_2
def dkwX4_reinstate_0 : List UInt8 := [42, 3, 181, 0, 1, 42, 27, 182, 1, 124, 154, 0, 10, 42, 4, 182, 1, 86, 133, 173, 42, 180, 0, 49]
abbrev dktX4_reinstate_0 : List UInt8 := dkwX4_reinstate_0 ++ dktX4_reinstate_1
theorem dksX4_reinstate_0 : cX4_reinstate.data.toList.drop 0 = dktX4_reinstate_0 := by decide +kernel
theorem dksX4_reinstate_1 : cX4_reinstate.data.toList.drop 24 = dktX4_reinstate_1 := dk_seg dksX4_reinstate_0 24 rfl rfl
theorem dksX4_reinstate_2 : cX4_reinstate.data.toList.drop 47 = dktX4_reinstate_2 := dk_seg dksX4_reinstate_1 23 rfl rfl
theorem dksX4_reinstate_3 : cX4_reinstate.data.toList.drop 71 = dktX4_reinstate_3 := dk_seg dksX4_reinstate_2 24 rfl rfl
theorem dksX4_reinstate_4 : cX4_reinstate.data.toList.drop 95 = dktX4_reinstate_4 := dk_seg dksX4_reinstate_3 24 rfl rfl
theorem dksX4_reinstate_5 : cX4_reinstate.data.toList.drop 118 = dktX4_reinstate_5 := dk_seg dksX4_reinstate_4 23 rfl rfl
theorem dksX4_reinstate_6 : cX4_reinstate.data.toList.drop 142 = dktX4_reinstate_6 := dk_seg dksX4_reinstate_5 24 rfl rfl
theorem dX4_reinstate_0 : decode cX4_reinstate 0 = .ok (.aload_n 0, 1) := dk_42 (dk_at dksX4_reinstate_0 0 rfl rfl)
theorem dX4_reinstate_1 : decode cX4_reinstate 1 = .ok (.iconst 0, 1) := dk_3 (dk_at dksX4_reinstate_0 1 rfl rfl)
theorem dX4_reinstate_2 : decode cX4_reinstate 2 = .ok (.putfield 1, 3) := dk_181 0 1 (dk_at dksX4_reinstate_0 2 rfl rfl)
theorem dX4_reinstate_5 : decode cX4_reinstate 5 = .ok (.aload_n 0, 1) := dk_42 (dk_at dksX4_reinstate_0 5 rfl rfl)
theorem dX4_reinstate_6 : decode cX4_reinstate 6 = .ok (.iload_n 1, 1) := dk_27 (dk_at dksX4_reinstate_0 6 rfl rfl)
theorem dX4_reinstate_7 : decode cX4_reinstate 7 = .ok (.invokevirtual 380, 3) := dk_182 1 124 (dk_at dksX4_reinstate_0 7 rfl rfl)
theorem dX4_reinstate_10 : decode cX4_reinstate 10 = .ok (.ifCond .ne 10, 3) := dk_154 0 10 (dk_at dksX4_reinstate_0 10 rfl rfl)
theorem dX4_reinstate_13 : decode cX4_reinstate 13 = .ok (.aload_n 0, 1) := dk_42 (dk_at dksX4_reinstate_0 13 rfl rfl)
theorem dX4_reinstate_14 : decode cX4_reinstate 14 = .ok (.iconst 1, 1) := dk_4 (dk_at dksX4_reinstate_0 14 rfl rfl)
theorem dX4_reinstate_15 : decode cX4_reinstate 15 = .ok (.invokevirtual 342, 3) := dk_182 1 86 (dk_at dksX4_reinstate_0 15 rfl rfl)
theorem dX4_reinstate_18 : decode cX4_reinstate 18 = .ok (.i2l, 1) := dk_133 (dk_at dksX4_reinstate_0 18 rfl rfl)
theorem dX4_reinstate_19 : decode cX4_reinstate 19 = .ok (.lreturn, 1) := dk_173 (dk_at dksX4_reinstate_0 19 rfl rfl)
theorem dX4_reinstate_20 : decode cX4_reinstate 20 = .ok (.aload_n 0, 1) := dk_42 (dk_at dksX4_reinstate_0 20 rfl rfl)
theorem dX4_reinstate_21 : decode cX4_reinstate 21 = .ok (.getfield 49, 3) := dk_180 0 49 (dk_at dksX4_reinstate_0 21 rfl rfl)
theorem dX4_reinstate_24 : decode cX4_reinstate 24 = .ok (.iload_n 1, 1) := dk_27 (dk_at dksX4_reinstate_1 0 rfl rfl)
theorem dX4_reinstate_25 : decode cX4_reinstate 25 = .ok (.iaload, 1) := dk_46 (dk_at dksX4_reinstate_1 1 rfl rfl)
theorem dX4_reinstate_26 : decode cX4_reinstate 26 = .ok (.bipush 7, 2) := dk_16 7 (dk_at dksX4_reinstate_1 2 rfl rfl)
theorem dX4_reinstate_28 : decode cX4_reinstate 28 = .ok (.if_icmp .ne 31, 3) := dk_160 0 31 (dk_at dksX4_reinstate_1 4 rfl rfl)
theorem dX4_reinstate_31 : decode cX4_reinstate 31 = .ok (.aload_n 0, 1) := dk_42 (dk_at dksX4_reinstate_1 7 rfl rfl)
theorem dX4_reinstate_32 : decode cX4_reinstate 32 = .ok (.getfield 114, 3) := dk_180 0 114 (dk_at dksX4_reinstate_1 8 rfl rfl)
theorem dX4_reinstate_35 : decode cX4_reinstate 35 = .ok (.aload_n 0, 1) := dk_42 (dk_at dksX4_reinstate_1 11 rfl rfl)
theorem dX4_reinstate_36 : decode cX4_reinstate 36 = .ok (.getfield 58, 3) := dk_180 0 58 (dk_at dksX4_reinstate_1 12 rfl rfl)
theorem dX4_reinstate_39 : decode cX4_reinstate 39 = .ok (.iload_n 1, 1) := dk_27 (dk_at dksX4_reinstate_1 15 rfl rfl)
theorem dX4_reinstate_40 : decode cX4_reinstate 40 = .ok (.iaload, 1) := dk_46 (dk_at dksX4_reinstate_1 16 rfl rfl)
theorem dX4_reinstate_41 : decode cX4_reinstate 41 = .ok (.isub, 1) := dk_100 (dk_at dksX4_reinstate_1 17 rfl rfl)
theorem dX4_reinstate_42 : decode cX4_reinstate 42 = .ok (.iconst 2, 1) := dk_5 (dk_at dksX4_reinstate_1 18 rfl rfl)
theorem dX4_reinstate_43 : decode cX4_reinstate 43 = .ok (.if_icmp .gt 16, 3) := dk_163 0 16 (dk_at dksX4_reinstate_1 19 rfl rfl)
theorem dX4_reinstate_46 : decode cX4_reinstate 46 = .ok (.aload_n 0, 1) := dk_42 (dk_at dksX4_reinstate_1 22 rfl rfl)
theorem dX4_reinstate_47 : decode cX4_reinstate 47 = .ok (.getfield 46, 3) := dk_180 0 46 (dk_at dksX4_reinstate_2 0 rfl rfl)
theorem dX4_reinstate_50 : decode cX4_reinstate 50 = .ok (.iload_n 1, 1) := dk_27 (dk_at dksX4_reinstate_2 3 rfl rfl)
theorem dX4_reinstate_51 : decode cX4_reinstate 51 = .ok (.iaload, 1) := dk_46 (dk_at dksX4_reinstate_2 4 rfl rfl)
theorem dX4_reinstate_52 : decode cX4_reinstate 52 = .ok (.aload_n 0, 1) := dk_42 (dk_at dksX4_reinstate_2 5 rfl rfl)
theorem dX4_reinstate_53 : decode cX4_reinstate 53 = .ok (.getfield 114, 3) := dk_180 0 114 (dk_at dksX4_reinstate_2 6 rfl rfl)
theorem dX4_reinstate_56 : decode cX4_reinstate 56 = .ok (.if_icmp .gt 10, 3) := dk_163 0 10 (dk_at dksX4_reinstate_2 9 rfl rfl)
theorem dX4_reinstate_59 : decode cX4_reinstate 59 = .ok (.aload_n 0, 1) := dk_42 (dk_at dksX4_reinstate_2 12 rfl rfl)
theorem dX4_reinstate_60 : decode cX4_reinstate 60 = .ok (.iconst 2, 1) := dk_5 (dk_at dksX4_reinstate_2 13 rfl rfl)
theorem dX4_reinstate_61 : decode cX4_reinstate 61 = .ok (.invokevirtual 342, 3) := dk_182 1 86 (dk_at dksX4_reinstate_2 14 rfl rfl)
theorem dX4_reinstate_64 : decode cX4_reinstate 64 = .ok (.i2l, 1) := dk_133 (dk_at dksX4_reinstate_2 17 rfl rfl)
theorem dX4_reinstate_65 : decode cX4_reinstate 65 = .ok (.lreturn, 1) := dk_173 (dk_at dksX4_reinstate_2 18 rfl rfl)
theorem dX4_reinstate_66 : decode cX4_reinstate 66 = .ok (.aload_n 0, 1) := dk_42 (dk_at dksX4_reinstate_2 19 rfl rfl)
theorem dX4_reinstate_67 : decode cX4_reinstate 67 = .ok (.getfield 64, 3) := dk_180 0 64 (dk_at dksX4_reinstate_2 20 rfl rfl)
theorem dX4_reinstate_70 : decode cX4_reinstate 70 = .ok (.iload_n 1, 1) := dk_27 (dk_at dksX4_reinstate_2 23 rfl rfl)
theorem dX4_reinstate_71 : decode cX4_reinstate 71 = .ok (.baload, 1) := dk_51 (dk_at dksX4_reinstate_3 0 rfl rfl)
theorem dX4_reinstate_72 : decode cX4_reinstate 72 = .ok (.ifCond .eq 7, 3) := dk_153 0 7 (dk_at dksX4_reinstate_3 1 rfl rfl)
theorem dX4_reinstate_75 : decode cX4_reinstate 75 = .ok (.lconst 0, 1) := dk_9 (dk_at dksX4_reinstate_3 4 rfl rfl)
theorem dX4_reinstate_76 : decode cX4_reinstate 76 = .ok (.goto 30, 3) := dk_167 0 30 (dk_at dksX4_reinstate_3 5 rfl rfl)
theorem dX4_reinstate_79 : decode cX4_reinstate 79 = .ok (.aload_n 0, 1) := dk_42 (dk_at dksX4_reinstate_3 8 rfl rfl)
theorem dX4_reinstate_80 : decode cX4_reinstate 80 = .ok (.getfield 114, 3) := dk_180 0 114 (dk_at dksX4_reinstate_3 9 rfl rfl)
theorem dX4_reinstate_83 : decode cX4_reinstate 83 = .ok (.aload_n 0, 1) := dk_42 (dk_at dksX4_reinstate_3 12 rfl rfl)
theorem dX4_reinstate_84 : decode cX4_reinstate 84 = .ok (.getfield 58, 3) := dk_180 0 58 (dk_at dksX4_reinstate_3 13 rfl rfl)
theorem dX4_reinstate_87 : decode cX4_reinstate 87 = .ok (.iload_n 1, 1) := dk_27 (dk_at dksX4_reinstate_3 16 rfl rfl)
theorem dX4_reinstate_88 : decode cX4_reinstate 88 = .ok (.iaload, 1) := dk_46 (dk_at dksX4_reinstate_3 17 rfl rfl)
theorem dX4_reinstate_89 : decode cX4_reinstate 89 = .ok (.isub, 1) := dk_100 (dk_at dksX4_reinstate_3 18 rfl rfl)
theorem dX4_reinstate_90 : decode cX4_reinstate 90 = .ok (.i2l, 1) := dk_133 (dk_at dksX4_reinstate_3 19 rfl rfl)
theorem dX4_reinstate_91 : decode cX4_reinstate 91 = .ok (.aload_n 0, 1) := dk_42 (dk_at dksX4_reinstate_3 20 rfl rfl)
theorem dX4_reinstate_92 : decode cX4_reinstate 92 = .ok (.getfield 79, 3) := dk_180 0 79 (dk_at dksX4_reinstate_3 21 rfl rfl)
theorem dX4_reinstate_95 : decode cX4_reinstate 95 = .ok (.iload_n 1, 1) := dk_27 (dk_at dksX4_reinstate_4 0 rfl rfl)
theorem dX4_reinstate_96 : decode cX4_reinstate 96 = .ok (.laload, 1) := dk_47 (dk_at dksX4_reinstate_4 1 rfl rfl)
theorem dX4_reinstate_97 : decode cX4_reinstate 97 = .ok (.ldc2_w 386, 3) := dk_20 1 130 (dk_at dksX4_reinstate_4 2 rfl rfl)
theorem dX4_reinstate_100 : decode cX4_reinstate 100 = .ok (.lmul, 1) := dk_105 (dk_at dksX4_reinstate_4 5 rfl rfl)
theorem dX4_reinstate_101 : decode cX4_reinstate 101 = .ok (.ldc2_w 194, 3) := dk_20 0 194 (dk_at dksX4_reinstate_4 6 rfl rfl)
theorem dX4_reinstate_104 : decode cX4_reinstate 104 = .ok (.ldiv, 1) := dk_109 (dk_at dksX4_reinstate_4 9 rfl rfl)
theorem dX4_reinstate_105 : decode cX4_reinstate 105 = .ok (.lmul, 1) := dk_105 (dk_at dksX4_reinstate_4 10 rfl rfl)
theorem dX4_reinstate_106 : decode cX4_reinstate 106 = .ok (.lstore_n 2, 1) := dk_65 (dk_at dksX4_reinstate_4 11 rfl rfl)
theorem dX4_reinstate_107 : decode cX4_reinstate 107 = .ok (.aload_n 0, 1) := dk_42 (dk_at dksX4_reinstate_4 12 rfl rfl)
theorem dX4_reinstate_108 : decode cX4_reinstate 108 = .ok (.getfield 49, 3) := dk_180 0 49 (dk_at dksX4_reinstate_4 13 rfl rfl)
theorem dX4_reinstate_111 : decode cX4_reinstate 111 = .ok (.iload_n 1, 1) := dk_27 (dk_at dksX4_reinstate_4 16 rfl rfl)
theorem dX4_reinstate_112 : decode cX4_reinstate 112 = .ok (.aload_n 0, 1) := dk_42 (dk_at dksX4_reinstate_4 17 rfl rfl)
theorem dX4_reinstate_113 : decode cX4_reinstate 113 = .ok (.getfield 64, 3) := dk_180 0 64 (dk_at dksX4_reinstate_4 18 rfl rfl)
theorem dX4_reinstate_116 : decode cX4_reinstate 116 = .ok (.iload_n 1, 1) := dk_27 (dk_at dksX4_reinstate_4 21 rfl rfl)
theorem dX4_reinstate_117 : decode cX4_reinstate 117 = .ok (.baload, 1) := dk_51 (dk_at dksX4_reinstate_4 22 rfl rfl)
theorem dX4_reinstate_118 : decode cX4_reinstate 118 = .ok (.ifCond .eq 7, 3) := dk_153 0 7 (dk_at dksX4_reinstate_5 0 rfl rfl)
theorem dX4_reinstate_121 : decode cX4_reinstate 121 = .ok (.iconst 1, 1) := dk_4 (dk_at dksX4_reinstate_5 3 rfl rfl)
theorem dX4_reinstate_122 : decode cX4_reinstate 122 = .ok (.goto 4, 3) := dk_167 0 4 (dk_at dksX4_reinstate_5 4 rfl rfl)
theorem dX4_reinstate_125 : decode cX4_reinstate 125 = .ok (.iconst 0, 1) := dk_3 (dk_at dksX4_reinstate_5 7 rfl rfl)
theorem dX4_reinstate_126 : decode cX4_reinstate 126 = .ok (.iastore, 1) := dk_79 (dk_at dksX4_reinstate_5 8 rfl rfl)
theorem dX4_reinstate_127 : decode cX4_reinstate 127 = .ok (.aload_n 0, 1) := dk_42 (dk_at dksX4_reinstate_5 9 rfl rfl)
theorem dX4_reinstate_128 : decode cX4_reinstate 128 = .ok (.dup, 1) := dk_89 (dk_at dksX4_reinstate_5 10 rfl rfl)
theorem dX4_reinstate_129 : decode cX4_reinstate 129 = .ok (.getfield 117, 3) := dk_180 0 117 (dk_at dksX4_reinstate_5 11 rfl rfl)
theorem dX4_reinstate_132 : decode cX4_reinstate 132 = .ok (.lload_n 2, 1) := dk_32 (dk_at dksX4_reinstate_5 14 rfl rfl)
theorem dX4_reinstate_133 : decode cX4_reinstate 133 = .ok (.ladd, 1) := dk_97 (dk_at dksX4_reinstate_5 15 rfl rfl)
theorem dX4_reinstate_134 : decode cX4_reinstate 134 = .ok (.putfield 117, 3) := dk_181 0 117 (dk_at dksX4_reinstate_5 16 rfl rfl)
theorem dX4_reinstate_137 : decode cX4_reinstate 137 = .ok (.aload_n 0, 1) := dk_42 (dk_at dksX4_reinstate_5 19 rfl rfl)
theorem dX4_reinstate_138 : decode cX4_reinstate 138 = .ok (.getfield 24, 3) := dk_180 0 24 (dk_at dksX4_reinstate_5 20 rfl rfl)
theorem dX4_reinstate_141 : decode cX4_reinstate 141 = .ok (.iconst 4, 1) := dk_7 (dk_at dksX4_reinstate_5 23 rfl rfl)
theorem dX4_reinstate_142 : decode cX4_reinstate 142 = .ok (.dup2, 1) := dk_92 (dk_at dksX4_reinstate_6 0 rfl rfl)
theorem dX4_reinstate_143 : decode cX4_reinstate 143 = .ok (.laload, 1) := dk_47 (dk_at dksX4_reinstate_6 1 rfl rfl)
theorem dX4_reinstate_144 : decode cX4_reinstate 144 = .ok (.lload_n 2, 1) := dk_32 (dk_at dksX4_reinstate_6 2 rfl rfl)
theorem dX4_reinstate_145 : decode cX4_reinstate 145 = .ok (.aload_n 0, 1) := dk_42 (dk_at dksX4_reinstate_6 3 rfl rfl)
theorem dX4_reinstate_146 : decode cX4_reinstate 146 = .ok (.iload_n 1, 1) := dk_27 (dk_at dksX4_reinstate_6 4 rfl rfl)
theorem dX4_reinstate_147 : decode cX4_reinstate 147 = .ok (.aload_n 0, 1) := dk_42 (dk_at dksX4_reinstate_6 5 rfl rfl)
theorem dX4_reinstate_148 : decode cX4_reinstate 148 = .ok (.getfield 114, 3) := dk_180 0 114 (dk_at dksX4_reinstate_6 6 rfl rfl)
theorem dX4_reinstate_151 : decode cX4_reinstate 151 = .ok (.iconst 0, 1) := dk_3 (dk_at dksX4_reinstate_6 9 rfl rfl)
theorem dX4_reinstate_152 : decode cX4_reinstate 152 = .ok (.invokevirtual 244, 3) := dk_182 0 244 (dk_at dksX4_reinstate_6 10 rfl rfl)
theorem dX4_reinstate_155 : decode cX4_reinstate 155 = .ok (.lsub, 1) := dk_101 (dk_at dksX4_reinstate_6 13 rfl rfl)
theorem dX4_reinstate_156 : decode cX4_reinstate 156 = .ok (.ladd, 1) := dk_97 (dk_at dksX4_reinstate_6 14 rfl rfl)
theorem dX4_reinstate_157 : decode cX4_reinstate 157 = .ok (.lastore, 1) := dk_80 (dk_at dksX4_reinstate_6 15 rfl rfl)
theorem dX4_reinstate_158 : decode cX4_reinstate 158 = .ok (.lload_n 2, 1) := dk_32 (dk_at dksX4_reinstate_6 16 rfl rfl)
theorem dX4_reinstate_159 : decode cX4_reinstate 159 = .ok (.lreturn, 1) := dk_173 (dk_at dksX4_reinstate_6 17 rfl rfl)
abbrev cX4_setGuarantee : ByteArray := prog_12_method_68_code
def yX4_setGuarantee : MethodName := ⟨RX4, "setGuarantee", "(II)I"⟩
def dkwX4_setGuarantee_3 : List UInt8 := [42, 180, 0, 61, 27, 28, 79, 29, 172]
abbrev dktX4_setGuarantee_3 : List UInt8 := dkwX4_setGuarantee_3 ++ []
def dkwX4_setGuarantee_2 : List UInt8 := [160, 0, 11, 42, 27, 182, 1, 127, 154, 0, 9, 42, 6, 182, 1, 86, 172, 42, 180, 0, 61, 27, 46, 62]
abbrev dktX4_setGuarantee_2 : List UInt8 := dkwX4_setGuarantee_2 ++ dktX4_setGuarantee_3
def dkwX4_setGuarantee_1 : List UInt8 := [20, 1, 112, 184, 0, 168, 154, 0, 9, 42, 5, 182, 1, 86, 172, 42, 180, 0, 31, 27, 46, 4]
abbrev dktX4_setGuarantee_1 : List UInt8 := dkwX4_setGuarantee_1 ++ dktX4_setGuarantee_2
def dkwX4_setGuarantee_0 : List UInt8 := [42, 3, 181, 0, 1, 42, 27, 182, 1, 124, 154, 0, 9, 42, 4, 182, 1, 86, 172, 28, 133, 9]
abbrev dktX4_setGuarantee_0 : List UInt8 := dkwX4_setGuarantee_0 ++ dktX4_setGuarantee_1
theorem dksX4_setGuarantee_0 : cX4_setGuarantee.data.toList.drop 0 = dktX4_setGuarantee_0 := by decide +kernel
theorem dksX4_setGuarantee_1 : cX4_setGuarantee.data.toList.drop 22 = dktX4_setGuarantee_1 := dk_seg dksX4_setGuarantee_0 22 rfl rfl
theorem dksX4_setGuarantee_2 : cX4_setGuarantee.data.toList.drop 44 = dktX4_setGuarantee_2 := dk_seg dksX4_setGuarantee_1 22 rfl rfl
theorem dksX4_setGuarantee_3 : cX4_setGuarantee.data.toList.drop 68 = dktX4_setGuarantee_3 := dk_seg dksX4_setGuarantee_2 24 rfl rfl
theorem dX4_setGuarantee_0 : decode cX4_setGuarantee 0 = .ok (.aload_n 0, 1) := dk_42 (dk_at dksX4_setGuarantee_0 0 rfl rfl)
theorem dX4_setGuarantee_1 : decode cX4_setGuarantee 1 = .ok (.iconst 0, 1) := dk_3 (dk_at dksX4_setGuarantee_0 1 rfl rfl)
theorem dX4_setGuarantee_2 : decode cX4_setGuarantee 2 = .ok (.putfield 1, 3) := dk_181 0 1 (dk_at dksX4_setGuarantee_0 2 rfl rfl)
theorem dX4_setGuarantee_5 : decode cX4_setGuarantee 5 = .ok (.aload_n 0, 1) := dk_42 (dk_at dksX4_setGuarantee_0 5 rfl rfl)
theorem dX4_setGuarantee_6 : decode cX4_setGuarantee 6 = .ok (.iload_n 1, 1) := dk_27 (dk_at dksX4_setGuarantee_0 6 rfl rfl)
theorem dX4_setGuarantee_7 : decode cX4_setGuarantee 7 = .ok (.invokevirtual 380, 3) := dk_182 1 124 (dk_at dksX4_setGuarantee_0 7 rfl rfl)
theorem dX4_setGuarantee_10 : decode cX4_setGuarantee 10 = .ok (.ifCond .ne 9, 3) := dk_154 0 9 (dk_at dksX4_setGuarantee_0 10 rfl rfl)
theorem dX4_setGuarantee_13 : decode cX4_setGuarantee 13 = .ok (.aload_n 0, 1) := dk_42 (dk_at dksX4_setGuarantee_0 13 rfl rfl)
theorem dX4_setGuarantee_14 : decode cX4_setGuarantee 14 = .ok (.iconst 1, 1) := dk_4 (dk_at dksX4_setGuarantee_0 14 rfl rfl)
theorem dX4_setGuarantee_15 : decode cX4_setGuarantee 15 = .ok (.invokevirtual 342, 3) := dk_182 1 86 (dk_at dksX4_setGuarantee_0 15 rfl rfl)
theorem dX4_setGuarantee_18 : decode cX4_setGuarantee 18 = .ok (.ireturn, 1) := dk_172 (dk_at dksX4_setGuarantee_0 18 rfl rfl)
theorem dX4_setGuarantee_19 : decode cX4_setGuarantee 19 = .ok (.iload_n 2, 1) := dk_28 (dk_at dksX4_setGuarantee_0 19 rfl rfl)
theorem dX4_setGuarantee_20 : decode cX4_setGuarantee 20 = .ok (.i2l, 1) := dk_133 (dk_at dksX4_setGuarantee_0 20 rfl rfl)
theorem dX4_setGuarantee_21 : decode cX4_setGuarantee 21 = .ok (.lconst 0, 1) := dk_9 (dk_at dksX4_setGuarantee_0 21 rfl rfl)
theorem dX4_setGuarantee_22 : decode cX4_setGuarantee 22 = .ok (.ldc2_w 368, 3) := dk_20 1 112 (dk_at dksX4_setGuarantee_1 0 rfl rfl)
theorem dX4_setGuarantee_25 : decode cX4_setGuarantee 25 = .ok (.invokestatic 168, 3) := dk_184 0 168 (dk_at dksX4_setGuarantee_1 3 rfl rfl)
theorem dX4_setGuarantee_28 : decode cX4_setGuarantee 28 = .ok (.ifCond .ne 9, 3) := dk_154 0 9 (dk_at dksX4_setGuarantee_1 6 rfl rfl)
theorem dX4_setGuarantee_31 : decode cX4_setGuarantee 31 = .ok (.aload_n 0, 1) := dk_42 (dk_at dksX4_setGuarantee_1 9 rfl rfl)
theorem dX4_setGuarantee_32 : decode cX4_setGuarantee 32 = .ok (.iconst 2, 1) := dk_5 (dk_at dksX4_setGuarantee_1 10 rfl rfl)
theorem dX4_setGuarantee_33 : decode cX4_setGuarantee 33 = .ok (.invokevirtual 342, 3) := dk_182 1 86 (dk_at dksX4_setGuarantee_1 11 rfl rfl)
theorem dX4_setGuarantee_36 : decode cX4_setGuarantee 36 = .ok (.ireturn, 1) := dk_172 (dk_at dksX4_setGuarantee_1 14 rfl rfl)
theorem dX4_setGuarantee_37 : decode cX4_setGuarantee 37 = .ok (.aload_n 0, 1) := dk_42 (dk_at dksX4_setGuarantee_1 15 rfl rfl)
theorem dX4_setGuarantee_38 : decode cX4_setGuarantee 38 = .ok (.getfield 31, 3) := dk_180 0 31 (dk_at dksX4_setGuarantee_1 16 rfl rfl)
theorem dX4_setGuarantee_41 : decode cX4_setGuarantee 41 = .ok (.iload_n 1, 1) := dk_27 (dk_at dksX4_setGuarantee_1 19 rfl rfl)
theorem dX4_setGuarantee_42 : decode cX4_setGuarantee 42 = .ok (.iaload, 1) := dk_46 (dk_at dksX4_setGuarantee_1 20 rfl rfl)
theorem dX4_setGuarantee_43 : decode cX4_setGuarantee 43 = .ok (.iconst 1, 1) := dk_4 (dk_at dksX4_setGuarantee_1 21 rfl rfl)
theorem dX4_setGuarantee_44 : decode cX4_setGuarantee 44 = .ok (.if_icmp .ne 11, 3) := dk_160 0 11 (dk_at dksX4_setGuarantee_2 0 rfl rfl)
theorem dX4_setGuarantee_47 : decode cX4_setGuarantee 47 = .ok (.aload_n 0, 1) := dk_42 (dk_at dksX4_setGuarantee_2 3 rfl rfl)
theorem dX4_setGuarantee_48 : decode cX4_setGuarantee 48 = .ok (.iload_n 1, 1) := dk_27 (dk_at dksX4_setGuarantee_2 4 rfl rfl)
theorem dX4_setGuarantee_49 : decode cX4_setGuarantee 49 = .ok (.invokevirtual 383, 3) := dk_182 1 127 (dk_at dksX4_setGuarantee_2 5 rfl rfl)
theorem dX4_setGuarantee_52 : decode cX4_setGuarantee 52 = .ok (.ifCond .ne 9, 3) := dk_154 0 9 (dk_at dksX4_setGuarantee_2 8 rfl rfl)
theorem dX4_setGuarantee_55 : decode cX4_setGuarantee 55 = .ok (.aload_n 0, 1) := dk_42 (dk_at dksX4_setGuarantee_2 11 rfl rfl)
theorem dX4_setGuarantee_56 : decode cX4_setGuarantee 56 = .ok (.iconst 3, 1) := dk_6 (dk_at dksX4_setGuarantee_2 12 rfl rfl)
theorem dX4_setGuarantee_57 : decode cX4_setGuarantee 57 = .ok (.invokevirtual 342, 3) := dk_182 1 86 (dk_at dksX4_setGuarantee_2 13 rfl rfl)
theorem dX4_setGuarantee_60 : decode cX4_setGuarantee 60 = .ok (.ireturn, 1) := dk_172 (dk_at dksX4_setGuarantee_2 16 rfl rfl)
theorem dX4_setGuarantee_61 : decode cX4_setGuarantee 61 = .ok (.aload_n 0, 1) := dk_42 (dk_at dksX4_setGuarantee_2 17 rfl rfl)
theorem dX4_setGuarantee_62 : decode cX4_setGuarantee 62 = .ok (.getfield 61, 3) := dk_180 0 61 (dk_at dksX4_setGuarantee_2 18 rfl rfl)
theorem dX4_setGuarantee_65 : decode cX4_setGuarantee 65 = .ok (.iload_n 1, 1) := dk_27 (dk_at dksX4_setGuarantee_2 21 rfl rfl)
theorem dX4_setGuarantee_66 : decode cX4_setGuarantee 66 = .ok (.iaload, 1) := dk_46 (dk_at dksX4_setGuarantee_2 22 rfl rfl)
theorem dX4_setGuarantee_67 : decode cX4_setGuarantee 67 = .ok (.istore_n 3, 1) := dk_62 (dk_at dksX4_setGuarantee_2 23 rfl rfl)
theorem dX4_setGuarantee_68 : decode cX4_setGuarantee 68 = .ok (.aload_n 0, 1) := dk_42 (dk_at dksX4_setGuarantee_3 0 rfl rfl)
theorem dX4_setGuarantee_69 : decode cX4_setGuarantee 69 = .ok (.getfield 61, 3) := dk_180 0 61 (dk_at dksX4_setGuarantee_3 1 rfl rfl)
theorem dX4_setGuarantee_72 : decode cX4_setGuarantee 72 = .ok (.iload_n 1, 1) := dk_27 (dk_at dksX4_setGuarantee_3 4 rfl rfl)
theorem dX4_setGuarantee_73 : decode cX4_setGuarantee 73 = .ok (.iload_n 2, 1) := dk_28 (dk_at dksX4_setGuarantee_3 5 rfl rfl)
theorem dX4_setGuarantee_74 : decode cX4_setGuarantee 74 = .ok (.iastore, 1) := dk_79 (dk_at dksX4_setGuarantee_3 6 rfl rfl)
theorem dX4_setGuarantee_75 : decode cX4_setGuarantee 75 = .ok (.iload_n 3, 1) := dk_29 (dk_at dksX4_setGuarantee_3 7 rfl rfl)
theorem dX4_setGuarantee_76 : decode cX4_setGuarantee 76 = .ok (.ireturn, 1) := dk_172 (dk_at dksX4_setGuarantee_3 8 rfl rfl)
abbrev cX4_optionValue : ByteArray := prog_12_method_69_code
def yX4_optionValue : MethodName := ⟨RX4, "optionValue", "(II)J"⟩
def dkwX4_optionValue_3 : List UInt8 := [154, 0, 7, 9, 167, 0, 9, 42, 27, 28, 182, 1, 132, 173]
abbrev dktX4_optionValue_3 : List UInt8 := dkwX4_optionValue_3 ++ []
def dkwX4_optionValue_2 : List UInt8 := [160, 0, 11, 42, 27, 182, 0, 234, 154, 0, 10, 42, 6, 182, 1, 86, 133, 173, 42, 180, 0, 61, 27, 46]
abbrev dktX4_optionValue_2 : List UInt8 := dkwX4_optionValue_2 ++ dktX4_optionValue_3
def dkwX4_optionValue_1 : List UInt8 := [20, 0, 178, 184, 0, 168, 154, 0, 10, 42, 5, 182, 1, 86, 133, 173, 42, 180, 0, 31, 27, 46, 4]
abbrev dktX4_optionValue_1 : List UInt8 := dkwX4_optionValue_1 ++ dktX4_optionValue_2
def dkwX4_optionValue_0 : List UInt8 := [42, 3, 181, 0, 1, 42, 27, 182, 1, 124, 154, 0, 10, 42, 4, 182, 1, 86, 133, 173, 28, 133, 9]
abbrev dktX4_optionValue_0 : List UInt8 := dkwX4_optionValue_0 ++ dktX4_optionValue_1
theorem dksX4_optionValue_0 : cX4_optionValue.data.toList.drop 0 = dktX4_optionValue_0 := by decide +kernel
theorem dksX4_optionValue_1 : cX4_optionValue.data.toList.drop 23 = dktX4_optionValue_1 := dk_seg dksX4_optionValue_0 23 rfl rfl
theorem dksX4_optionValue_2 : cX4_optionValue.data.toList.drop 46 = dktX4_optionValue_2 := dk_seg dksX4_optionValue_1 23 rfl rfl
theorem dksX4_optionValue_3 : cX4_optionValue.data.toList.drop 70 = dktX4_optionValue_3 := dk_seg dksX4_optionValue_2 24 rfl rfl
theorem dX4_optionValue_0 : decode cX4_optionValue 0 = .ok (.aload_n 0, 1) := dk_42 (dk_at dksX4_optionValue_0 0 rfl rfl)
theorem dX4_optionValue_1 : decode cX4_optionValue 1 = .ok (.iconst 0, 1) := dk_3 (dk_at dksX4_optionValue_0 1 rfl rfl)
theorem dX4_optionValue_2 : decode cX4_optionValue 2 = .ok (.putfield 1, 3) := dk_181 0 1 (dk_at dksX4_optionValue_0 2 rfl rfl)
theorem dX4_optionValue_5 : decode cX4_optionValue 5 = .ok (.aload_n 0, 1) := dk_42 (dk_at dksX4_optionValue_0 5 rfl rfl)
theorem dX4_optionValue_6 : decode cX4_optionValue 6 = .ok (.iload_n 1, 1) := dk_27 (dk_at dksX4_optionValue_0 6 rfl rfl)
theorem dX4_optionValue_7 : decode cX4_optionValue 7 = .ok (.invokevirtual 380, 3) := dk_182 1 124 (dk_at dksX4_optionValue_0 7 rfl rfl)
theorem dX4_optionValue_10 : decode cX4_optionValue 10 = .ok (.ifCond .ne 10, 3) := dk_154 0 10 (dk_at dksX4_optionValue_0 10 rfl rfl)
theorem dX4_optionValue_13 : decode cX4_optionValue 13 = .ok (.aload_n 0, 1) := dk_42 (dk_at dksX4_optionValue_0 13 rfl rfl)
theorem dX4_optionValue_14 : decode cX4_optionValue 14 = .ok (.iconst 1, 1) := dk_4 (dk_at dksX4_optionValue_0 14 rfl rfl)
theorem dX4_optionValue_15 : decode cX4_optionValue 15 = .ok (.invokevirtual 342, 3) := dk_182 1 86 (dk_at dksX4_optionValue_0 15 rfl rfl)
theorem dX4_optionValue_18 : decode cX4_optionValue 18 = .ok (.i2l, 1) := dk_133 (dk_at dksX4_optionValue_0 18 rfl rfl)
theorem dX4_optionValue_19 : decode cX4_optionValue 19 = .ok (.lreturn, 1) := dk_173 (dk_at dksX4_optionValue_0 19 rfl rfl)
theorem dX4_optionValue_20 : decode cX4_optionValue 20 = .ok (.iload_n 2, 1) := dk_28 (dk_at dksX4_optionValue_0 20 rfl rfl)
theorem dX4_optionValue_21 : decode cX4_optionValue 21 = .ok (.i2l, 1) := dk_133 (dk_at dksX4_optionValue_0 21 rfl rfl)
theorem dX4_optionValue_22 : decode cX4_optionValue 22 = .ok (.lconst 0, 1) := dk_9 (dk_at dksX4_optionValue_0 22 rfl rfl)
theorem dX4_optionValue_23 : decode cX4_optionValue 23 = .ok (.ldc2_w 178, 3) := dk_20 0 178 (dk_at dksX4_optionValue_1 0 rfl rfl)
theorem dX4_optionValue_26 : decode cX4_optionValue 26 = .ok (.invokestatic 168, 3) := dk_184 0 168 (dk_at dksX4_optionValue_1 3 rfl rfl)
theorem dX4_optionValue_29 : decode cX4_optionValue 29 = .ok (.ifCond .ne 10, 3) := dk_154 0 10 (dk_at dksX4_optionValue_1 6 rfl rfl)
theorem dX4_optionValue_32 : decode cX4_optionValue 32 = .ok (.aload_n 0, 1) := dk_42 (dk_at dksX4_optionValue_1 9 rfl rfl)
theorem dX4_optionValue_33 : decode cX4_optionValue 33 = .ok (.iconst 2, 1) := dk_5 (dk_at dksX4_optionValue_1 10 rfl rfl)
theorem dX4_optionValue_34 : decode cX4_optionValue 34 = .ok (.invokevirtual 342, 3) := dk_182 1 86 (dk_at dksX4_optionValue_1 11 rfl rfl)
theorem dX4_optionValue_37 : decode cX4_optionValue 37 = .ok (.i2l, 1) := dk_133 (dk_at dksX4_optionValue_1 14 rfl rfl)
theorem dX4_optionValue_38 : decode cX4_optionValue 38 = .ok (.lreturn, 1) := dk_173 (dk_at dksX4_optionValue_1 15 rfl rfl)
theorem dX4_optionValue_39 : decode cX4_optionValue 39 = .ok (.aload_n 0, 1) := dk_42 (dk_at dksX4_optionValue_1 16 rfl rfl)
theorem dX4_optionValue_40 : decode cX4_optionValue 40 = .ok (.getfield 31, 3) := dk_180 0 31 (dk_at dksX4_optionValue_1 17 rfl rfl)
theorem dX4_optionValue_43 : decode cX4_optionValue 43 = .ok (.iload_n 1, 1) := dk_27 (dk_at dksX4_optionValue_1 20 rfl rfl)
theorem dX4_optionValue_44 : decode cX4_optionValue 44 = .ok (.iaload, 1) := dk_46 (dk_at dksX4_optionValue_1 21 rfl rfl)
theorem dX4_optionValue_45 : decode cX4_optionValue 45 = .ok (.iconst 1, 1) := dk_4 (dk_at dksX4_optionValue_1 22 rfl rfl)
theorem dX4_optionValue_46 : decode cX4_optionValue 46 = .ok (.if_icmp .ne 11, 3) := dk_160 0 11 (dk_at dksX4_optionValue_2 0 rfl rfl)
theorem dX4_optionValue_49 : decode cX4_optionValue 49 = .ok (.aload_n 0, 1) := dk_42 (dk_at dksX4_optionValue_2 3 rfl rfl)
theorem dX4_optionValue_50 : decode cX4_optionValue 50 = .ok (.iload_n 1, 1) := dk_27 (dk_at dksX4_optionValue_2 4 rfl rfl)
theorem dX4_optionValue_51 : decode cX4_optionValue 51 = .ok (.invokevirtual 234, 3) := dk_182 0 234 (dk_at dksX4_optionValue_2 5 rfl rfl)
theorem dX4_optionValue_54 : decode cX4_optionValue 54 = .ok (.ifCond .ne 10, 3) := dk_154 0 10 (dk_at dksX4_optionValue_2 8 rfl rfl)
theorem dX4_optionValue_57 : decode cX4_optionValue 57 = .ok (.aload_n 0, 1) := dk_42 (dk_at dksX4_optionValue_2 11 rfl rfl)
theorem dX4_optionValue_58 : decode cX4_optionValue 58 = .ok (.iconst 3, 1) := dk_6 (dk_at dksX4_optionValue_2 12 rfl rfl)
theorem dX4_optionValue_59 : decode cX4_optionValue 59 = .ok (.invokevirtual 342, 3) := dk_182 1 86 (dk_at dksX4_optionValue_2 13 rfl rfl)
theorem dX4_optionValue_62 : decode cX4_optionValue 62 = .ok (.i2l, 1) := dk_133 (dk_at dksX4_optionValue_2 16 rfl rfl)
theorem dX4_optionValue_63 : decode cX4_optionValue 63 = .ok (.lreturn, 1) := dk_173 (dk_at dksX4_optionValue_2 17 rfl rfl)
theorem dX4_optionValue_64 : decode cX4_optionValue 64 = .ok (.aload_n 0, 1) := dk_42 (dk_at dksX4_optionValue_2 18 rfl rfl)
theorem dX4_optionValue_65 : decode cX4_optionValue 65 = .ok (.getfield 61, 3) := dk_180 0 61 (dk_at dksX4_optionValue_2 19 rfl rfl)
theorem dX4_optionValue_68 : decode cX4_optionValue 68 = .ok (.iload_n 1, 1) := dk_27 (dk_at dksX4_optionValue_2 22 rfl rfl)
theorem dX4_optionValue_69 : decode cX4_optionValue 69 = .ok (.iaload, 1) := dk_46 (dk_at dksX4_optionValue_2 23 rfl rfl)
theorem dX4_optionValue_70 : decode cX4_optionValue 70 = .ok (.ifCond .ne 7, 3) := dk_154 0 7 (dk_at dksX4_optionValue_3 0 rfl rfl)
theorem dX4_optionValue_73 : decode cX4_optionValue 73 = .ok (.lconst 0, 1) := dk_9 (dk_at dksX4_optionValue_3 3 rfl rfl)
theorem dX4_optionValue_74 : decode cX4_optionValue 74 = .ok (.goto 9, 3) := dk_167 0 9 (dk_at dksX4_optionValue_3 4 rfl rfl)
theorem dX4_optionValue_77 : decode cX4_optionValue 77 = .ok (.aload_n 0, 1) := dk_42 (dk_at dksX4_optionValue_3 7 rfl rfl)
theorem dX4_optionValue_78 : decode cX4_optionValue 78 = .ok (.iload_n 1, 1) := dk_27 (dk_at dksX4_optionValue_3 8 rfl rfl)
theorem dX4_optionValue_79 : decode cX4_optionValue 79 = .ok (.iload_n 2, 1) := dk_28 (dk_at dksX4_optionValue_3 9 rfl rfl)
theorem dX4_optionValue_80 : decode cX4_optionValue 80 = .ok (.invokevirtual 388, 3) := dk_182 1 132 (dk_at dksX4_optionValue_3 10 rfl rfl)
theorem dX4_optionValue_83 : decode cX4_optionValue 83 = .ok (.lreturn, 1) := dk_173 (dk_at dksX4_optionValue_3 13 rfl rfl)
abbrev cX4_option : ByteArray := prog_12_method_36_code
def yX4_option : MethodName := ⟨RX4, "option", "(II)J"⟩
def dkwX4_option_8 : List UInt8 := [132, 9, 1, 167, 255, 192, 132, 6, 255, 167, 255, 159, 42, 180, 0, 106, 3, 47, 173]
abbrev dktX4_option_8 : List UInt8 := dkwX4_option_8 ++ []
def dkwX4_option_7 : List UInt8 := [17, 3, 232, 42, 21, 6, 21, 9, 28, 182, 1, 64, 96, 133, 109, 22, 7, 105, 20, 0, 176, 109, 80]
abbrev dktX4_option_7 : List UInt8 := dkwX4_option_7 ++ dktX4_option_8
def dkwX4_option_6 : List UInt8 := [180, 0, 106, 21, 9, 47, 42, 180, 0, 106, 21, 9, 4, 96, 47, 97, 20, 0, 172, 109, 20, 0, 194, 105]
abbrev dktX4_option_6 : List UInt8 := dkwX4_option_6 ++ dktX4_option_7
def dkwX4_option_5 : List UInt8 := [182, 1, 23, 101, 55, 7, 3, 54, 9, 21, 9, 21, 6, 163, 0, 63, 42, 180, 0, 106, 21, 9, 42]
abbrev dktX4_option_5 : List UInt8 := dkwX4_option_5 ++ dktX4_option_6
def dkwX4_option_4 : List UInt8 := [29, 4, 100, 54, 6, 21, 6, 155, 0, 98, 20, 0, 176, 42, 27, 42, 180, 0, 114, 21, 6, 96, 3]
abbrev dktX4_option_4 : List UInt8 := dkwX4_option_4 ++ dktX4_option_5
def dkwX4_option_3 : List UInt8 := [182, 1, 64, 182, 1, 68, 105, 20, 0, 180, 109, 22, 4, 101, 184, 0, 241, 80, 132, 6, 1, 167, 255, 195]
abbrev dktX4_option_3 : List UInt8 := dkwX4_option_3 ++ dktX4_option_4
def dkwX4_option_2 : List UInt8 := [180, 0, 61, 27, 46, 133, 105, 20, 0, 194, 109, 42, 27, 42, 180, 0, 46, 27, 46, 42, 29, 21, 6, 28]
abbrev dktX4_option_2 : List UInt8 := dkwX4_option_2 ++ dktX4_option_3
def dkwX4_option_1 : List UInt8 := [97, 55, 4, 3, 54, 6, 21, 6, 29, 163, 0, 61, 42, 180, 0, 106, 21, 6, 9, 22, 4, 42]
abbrev dktX4_option_1 : List UInt8 := dkwX4_option_1 ++ dktX4_option_2
def dkwX4_option_0 : List UInt8 := [42, 180, 0, 46, 27, 46, 42, 180, 0, 114, 100, 62, 42, 180, 0, 67, 27, 47, 42, 180, 0, 70, 27, 47]
abbrev dktX4_option_0 : List UInt8 := dkwX4_option_0 ++ dktX4_option_1
theorem dksX4_option_0 : cX4_option.data.toList.drop 0 = dktX4_option_0 := by decide +kernel
theorem dksX4_option_1 : cX4_option.data.toList.drop 24 = dktX4_option_1 := dk_seg dksX4_option_0 24 rfl rfl
theorem dksX4_option_2 : cX4_option.data.toList.drop 46 = dktX4_option_2 := dk_seg dksX4_option_1 22 rfl rfl
theorem dksX4_option_3 : cX4_option.data.toList.drop 70 = dktX4_option_3 := dk_seg dksX4_option_2 24 rfl rfl
theorem dksX4_option_4 : cX4_option.data.toList.drop 94 = dktX4_option_4 := dk_seg dksX4_option_3 24 rfl rfl
theorem dksX4_option_5 : cX4_option.data.toList.drop 117 = dktX4_option_5 := dk_seg dksX4_option_4 23 rfl rfl
theorem dksX4_option_6 : cX4_option.data.toList.drop 140 = dktX4_option_6 := dk_seg dksX4_option_5 23 rfl rfl
theorem dksX4_option_7 : cX4_option.data.toList.drop 164 = dktX4_option_7 := dk_seg dksX4_option_6 24 rfl rfl
theorem dksX4_option_8 : cX4_option.data.toList.drop 187 = dktX4_option_8 := dk_seg dksX4_option_7 23 rfl rfl
theorem dX4_option_0 : decode cX4_option 0 = .ok (.aload_n 0, 1) := dk_42 (dk_at dksX4_option_0 0 rfl rfl)
theorem dX4_option_1 : decode cX4_option 1 = .ok (.getfield 46, 3) := dk_180 0 46 (dk_at dksX4_option_0 1 rfl rfl)
theorem dX4_option_4 : decode cX4_option 4 = .ok (.iload_n 1, 1) := dk_27 (dk_at dksX4_option_0 4 rfl rfl)
theorem dX4_option_5 : decode cX4_option 5 = .ok (.iaload, 1) := dk_46 (dk_at dksX4_option_0 5 rfl rfl)
theorem dX4_option_6 : decode cX4_option 6 = .ok (.aload_n 0, 1) := dk_42 (dk_at dksX4_option_0 6 rfl rfl)
theorem dX4_option_7 : decode cX4_option 7 = .ok (.getfield 114, 3) := dk_180 0 114 (dk_at dksX4_option_0 7 rfl rfl)
theorem dX4_option_10 : decode cX4_option 10 = .ok (.isub, 1) := dk_100 (dk_at dksX4_option_0 10 rfl rfl)
theorem dX4_option_11 : decode cX4_option 11 = .ok (.istore_n 3, 1) := dk_62 (dk_at dksX4_option_0 11 rfl rfl)
theorem dX4_option_12 : decode cX4_option 12 = .ok (.aload_n 0, 1) := dk_42 (dk_at dksX4_option_0 12 rfl rfl)
theorem dX4_option_13 : decode cX4_option 13 = .ok (.getfield 67, 3) := dk_180 0 67 (dk_at dksX4_option_0 13 rfl rfl)
theorem dX4_option_16 : decode cX4_option 16 = .ok (.iload_n 1, 1) := dk_27 (dk_at dksX4_option_0 16 rfl rfl)
theorem dX4_option_17 : decode cX4_option 17 = .ok (.laload, 1) := dk_47 (dk_at dksX4_option_0 17 rfl rfl)
theorem dX4_option_18 : decode cX4_option 18 = .ok (.aload_n 0, 1) := dk_42 (dk_at dksX4_option_0 18 rfl rfl)
theorem dX4_option_19 : decode cX4_option 19 = .ok (.getfield 70, 3) := dk_180 0 70 (dk_at dksX4_option_0 19 rfl rfl)
theorem dX4_option_22 : decode cX4_option 22 = .ok (.iload_n 1, 1) := dk_27 (dk_at dksX4_option_0 22 rfl rfl)
theorem dX4_option_23 : decode cX4_option 23 = .ok (.laload, 1) := dk_47 (dk_at dksX4_option_0 23 rfl rfl)
theorem dX4_option_24 : decode cX4_option 24 = .ok (.ladd, 1) := dk_97 (dk_at dksX4_option_1 0 rfl rfl)
theorem dX4_option_25 : decode cX4_option 25 = .ok (.lstore 4, 2) := dk_55 4 (dk_at dksX4_option_1 1 rfl rfl)
theorem dX4_option_27 : decode cX4_option 27 = .ok (.iconst 0, 1) := dk_3 (dk_at dksX4_option_1 3 rfl rfl)
theorem dX4_option_28 : decode cX4_option 28 = .ok (.istore 6, 2) := dk_54 6 (dk_at dksX4_option_1 4 rfl rfl)
theorem dX4_option_30 : decode cX4_option 30 = .ok (.iload 6, 2) := dk_21 6 (dk_at dksX4_option_1 6 rfl rfl)
theorem dX4_option_32 : decode cX4_option 32 = .ok (.iload_n 3, 1) := dk_29 (dk_at dksX4_option_1 8 rfl rfl)
theorem dX4_option_33 : decode cX4_option 33 = .ok (.if_icmp .gt 61, 3) := dk_163 0 61 (dk_at dksX4_option_1 9 rfl rfl)
theorem dX4_option_36 : decode cX4_option 36 = .ok (.aload_n 0, 1) := dk_42 (dk_at dksX4_option_1 12 rfl rfl)
theorem dX4_option_37 : decode cX4_option 37 = .ok (.getfield 106, 3) := dk_180 0 106 (dk_at dksX4_option_1 13 rfl rfl)
theorem dX4_option_40 : decode cX4_option 40 = .ok (.iload 6, 2) := dk_21 6 (dk_at dksX4_option_1 16 rfl rfl)
theorem dX4_option_42 : decode cX4_option 42 = .ok (.lconst 0, 1) := dk_9 (dk_at dksX4_option_1 18 rfl rfl)
theorem dX4_option_43 : decode cX4_option 43 = .ok (.lload 4, 2) := dk_22 4 (dk_at dksX4_option_1 19 rfl rfl)
theorem dX4_option_45 : decode cX4_option 45 = .ok (.aload_n 0, 1) := dk_42 (dk_at dksX4_option_1 21 rfl rfl)
theorem dX4_option_46 : decode cX4_option 46 = .ok (.getfield 61, 3) := dk_180 0 61 (dk_at dksX4_option_2 0 rfl rfl)
theorem dX4_option_49 : decode cX4_option 49 = .ok (.iload_n 1, 1) := dk_27 (dk_at dksX4_option_2 3 rfl rfl)
theorem dX4_option_50 : decode cX4_option 50 = .ok (.iaload, 1) := dk_46 (dk_at dksX4_option_2 4 rfl rfl)
theorem dX4_option_51 : decode cX4_option 51 = .ok (.i2l, 1) := dk_133 (dk_at dksX4_option_2 5 rfl rfl)
theorem dX4_option_52 : decode cX4_option 52 = .ok (.lmul, 1) := dk_105 (dk_at dksX4_option_2 6 rfl rfl)
theorem dX4_option_53 : decode cX4_option 53 = .ok (.ldc2_w 194, 3) := dk_20 0 194 (dk_at dksX4_option_2 7 rfl rfl)
theorem dX4_option_56 : decode cX4_option 56 = .ok (.ldiv, 1) := dk_109 (dk_at dksX4_option_2 10 rfl rfl)
theorem dX4_option_57 : decode cX4_option 57 = .ok (.aload_n 0, 1) := dk_42 (dk_at dksX4_option_2 11 rfl rfl)
theorem dX4_option_58 : decode cX4_option 58 = .ok (.iload_n 1, 1) := dk_27 (dk_at dksX4_option_2 12 rfl rfl)
theorem dX4_option_59 : decode cX4_option 59 = .ok (.aload_n 0, 1) := dk_42 (dk_at dksX4_option_2 13 rfl rfl)
theorem dX4_option_60 : decode cX4_option 60 = .ok (.getfield 46, 3) := dk_180 0 46 (dk_at dksX4_option_2 14 rfl rfl)
theorem dX4_option_63 : decode cX4_option 63 = .ok (.iload_n 1, 1) := dk_27 (dk_at dksX4_option_2 17 rfl rfl)
theorem dX4_option_64 : decode cX4_option 64 = .ok (.iaload, 1) := dk_46 (dk_at dksX4_option_2 18 rfl rfl)
theorem dX4_option_65 : decode cX4_option 65 = .ok (.aload_n 0, 1) := dk_42 (dk_at dksX4_option_2 19 rfl rfl)
theorem dX4_option_66 : decode cX4_option 66 = .ok (.iload_n 3, 1) := dk_29 (dk_at dksX4_option_2 20 rfl rfl)
theorem dX4_option_67 : decode cX4_option 67 = .ok (.iload 6, 2) := dk_21 6 (dk_at dksX4_option_2 21 rfl rfl)
theorem dX4_option_69 : decode cX4_option 69 = .ok (.iload_n 2, 1) := dk_28 (dk_at dksX4_option_2 23 rfl rfl)
theorem dX4_option_70 : decode cX4_option 70 = .ok (.invokevirtual 320, 3) := dk_182 1 64 (dk_at dksX4_option_3 0 rfl rfl)
theorem dX4_option_73 : decode cX4_option 73 = .ok (.invokevirtual 324, 3) := dk_182 1 68 (dk_at dksX4_option_3 3 rfl rfl)
theorem dX4_option_76 : decode cX4_option 76 = .ok (.lmul, 1) := dk_105 (dk_at dksX4_option_3 6 rfl rfl)
theorem dX4_option_77 : decode cX4_option 77 = .ok (.ldc2_w 180, 3) := dk_20 0 180 (dk_at dksX4_option_3 7 rfl rfl)
theorem dX4_option_80 : decode cX4_option 80 = .ok (.ldiv, 1) := dk_109 (dk_at dksX4_option_3 10 rfl rfl)
theorem dX4_option_81 : decode cX4_option 81 = .ok (.lload 4, 2) := dk_22 4 (dk_at dksX4_option_3 11 rfl rfl)
theorem dX4_option_83 : decode cX4_option 83 = .ok (.lsub, 1) := dk_101 (dk_at dksX4_option_3 13 rfl rfl)
theorem dX4_option_84 : decode cX4_option 84 = .ok (.invokestatic 241, 3) := dk_184 0 241 (dk_at dksX4_option_3 14 rfl rfl)
theorem dX4_option_87 : decode cX4_option 87 = .ok (.lastore, 1) := dk_80 (dk_at dksX4_option_3 17 rfl rfl)
theorem dX4_option_88 : decode cX4_option 88 = .ok (.iinc 6 1, 3) := dk_132 6 1 (dk_at dksX4_option_3 18 rfl rfl)
theorem dX4_option_91 : decode cX4_option 91 = .ok (.goto (-61), 3) := dk_167 255 195 (dk_at dksX4_option_3 21 rfl rfl)
theorem dX4_option_94 : decode cX4_option 94 = .ok (.iload_n 3, 1) := dk_29 (dk_at dksX4_option_4 0 rfl rfl)
theorem dX4_option_95 : decode cX4_option 95 = .ok (.iconst 1, 1) := dk_4 (dk_at dksX4_option_4 1 rfl rfl)
theorem dX4_option_96 : decode cX4_option 96 = .ok (.isub, 1) := dk_100 (dk_at dksX4_option_4 2 rfl rfl)
theorem dX4_option_97 : decode cX4_option 97 = .ok (.istore 6, 2) := dk_54 6 (dk_at dksX4_option_4 3 rfl rfl)
theorem dX4_option_99 : decode cX4_option 99 = .ok (.iload 6, 2) := dk_21 6 (dk_at dksX4_option_4 5 rfl rfl)
theorem dX4_option_101 : decode cX4_option 101 = .ok (.ifCond .lt 98, 3) := dk_155 0 98 (dk_at dksX4_option_4 7 rfl rfl)
theorem dX4_option_104 : decode cX4_option 104 = .ok (.ldc2_w 176, 3) := dk_20 0 176 (dk_at dksX4_option_4 10 rfl rfl)
theorem dX4_option_107 : decode cX4_option 107 = .ok (.aload_n 0, 1) := dk_42 (dk_at dksX4_option_4 13 rfl rfl)
theorem dX4_option_108 : decode cX4_option 108 = .ok (.iload_n 1, 1) := dk_27 (dk_at dksX4_option_4 14 rfl rfl)
theorem dX4_option_109 : decode cX4_option 109 = .ok (.aload_n 0, 1) := dk_42 (dk_at dksX4_option_4 15 rfl rfl)
theorem dX4_option_110 : decode cX4_option 110 = .ok (.getfield 114, 3) := dk_180 0 114 (dk_at dksX4_option_4 16 rfl rfl)
theorem dX4_option_113 : decode cX4_option 113 = .ok (.iload 6, 2) := dk_21 6 (dk_at dksX4_option_4 19 rfl rfl)
theorem dX4_option_115 : decode cX4_option 115 = .ok (.iadd, 1) := dk_96 (dk_at dksX4_option_4 21 rfl rfl)
theorem dX4_option_116 : decode cX4_option 116 = .ok (.iconst 0, 1) := dk_3 (dk_at dksX4_option_4 22 rfl rfl)
theorem dX4_option_117 : decode cX4_option 117 = .ok (.invokevirtual 279, 3) := dk_182 1 23 (dk_at dksX4_option_5 0 rfl rfl)
theorem dX4_option_120 : decode cX4_option 120 = .ok (.lsub, 1) := dk_101 (dk_at dksX4_option_5 3 rfl rfl)
theorem dX4_option_121 : decode cX4_option 121 = .ok (.lstore 7, 2) := dk_55 7 (dk_at dksX4_option_5 4 rfl rfl)
theorem dX4_option_123 : decode cX4_option 123 = .ok (.iconst 0, 1) := dk_3 (dk_at dksX4_option_5 6 rfl rfl)
theorem dX4_option_124 : decode cX4_option 124 = .ok (.istore 9, 2) := dk_54 9 (dk_at dksX4_option_5 7 rfl rfl)
theorem dX4_option_126 : decode cX4_option 126 = .ok (.iload 9, 2) := dk_21 9 (dk_at dksX4_option_5 9 rfl rfl)
theorem dX4_option_128 : decode cX4_option 128 = .ok (.iload 6, 2) := dk_21 6 (dk_at dksX4_option_5 11 rfl rfl)
theorem dX4_option_130 : decode cX4_option 130 = .ok (.if_icmp .gt 63, 3) := dk_163 0 63 (dk_at dksX4_option_5 13 rfl rfl)
theorem dX4_option_133 : decode cX4_option 133 = .ok (.aload_n 0, 1) := dk_42 (dk_at dksX4_option_5 16 rfl rfl)
theorem dX4_option_134 : decode cX4_option 134 = .ok (.getfield 106, 3) := dk_180 0 106 (dk_at dksX4_option_5 17 rfl rfl)
theorem dX4_option_137 : decode cX4_option 137 = .ok (.iload 9, 2) := dk_21 9 (dk_at dksX4_option_5 20 rfl rfl)
theorem dX4_option_139 : decode cX4_option 139 = .ok (.aload_n 0, 1) := dk_42 (dk_at dksX4_option_5 22 rfl rfl)
theorem dX4_option_140 : decode cX4_option 140 = .ok (.getfield 106, 3) := dk_180 0 106 (dk_at dksX4_option_6 0 rfl rfl)
theorem dX4_option_143 : decode cX4_option 143 = .ok (.iload 9, 2) := dk_21 9 (dk_at dksX4_option_6 3 rfl rfl)
theorem dX4_option_145 : decode cX4_option 145 = .ok (.laload, 1) := dk_47 (dk_at dksX4_option_6 5 rfl rfl)
theorem dX4_option_146 : decode cX4_option 146 = .ok (.aload_n 0, 1) := dk_42 (dk_at dksX4_option_6 6 rfl rfl)
theorem dX4_option_147 : decode cX4_option 147 = .ok (.getfield 106, 3) := dk_180 0 106 (dk_at dksX4_option_6 7 rfl rfl)
theorem dX4_option_150 : decode cX4_option 150 = .ok (.iload 9, 2) := dk_21 9 (dk_at dksX4_option_6 10 rfl rfl)
theorem dX4_option_152 : decode cX4_option 152 = .ok (.iconst 1, 1) := dk_4 (dk_at dksX4_option_6 12 rfl rfl)
theorem dX4_option_153 : decode cX4_option 153 = .ok (.iadd, 1) := dk_96 (dk_at dksX4_option_6 13 rfl rfl)
theorem dX4_option_154 : decode cX4_option 154 = .ok (.laload, 1) := dk_47 (dk_at dksX4_option_6 14 rfl rfl)
theorem dX4_option_155 : decode cX4_option 155 = .ok (.ladd, 1) := dk_97 (dk_at dksX4_option_6 15 rfl rfl)
theorem dX4_option_156 : decode cX4_option 156 = .ok (.ldc2_w 172, 3) := dk_20 0 172 (dk_at dksX4_option_6 16 rfl rfl)
theorem dX4_option_159 : decode cX4_option 159 = .ok (.ldiv, 1) := dk_109 (dk_at dksX4_option_6 19 rfl rfl)
theorem dX4_option_160 : decode cX4_option 160 = .ok (.ldc2_w 194, 3) := dk_20 0 194 (dk_at dksX4_option_6 20 rfl rfl)
theorem dX4_option_163 : decode cX4_option 163 = .ok (.lmul, 1) := dk_105 (dk_at dksX4_option_6 23 rfl rfl)
theorem dX4_option_164 : decode cX4_option 164 = .ok (.sipush 1000, 3) := dk_17 3 232 (dk_at dksX4_option_7 0 rfl rfl)
theorem dX4_option_167 : decode cX4_option 167 = .ok (.aload_n 0, 1) := dk_42 (dk_at dksX4_option_7 3 rfl rfl)
theorem dX4_option_168 : decode cX4_option 168 = .ok (.iload 6, 2) := dk_21 6 (dk_at dksX4_option_7 4 rfl rfl)
theorem dX4_option_170 : decode cX4_option 170 = .ok (.iload 9, 2) := dk_21 9 (dk_at dksX4_option_7 6 rfl rfl)
theorem dX4_option_172 : decode cX4_option 172 = .ok (.iload_n 2, 1) := dk_28 (dk_at dksX4_option_7 8 rfl rfl)
theorem dX4_option_173 : decode cX4_option 173 = .ok (.invokevirtual 320, 3) := dk_182 1 64 (dk_at dksX4_option_7 9 rfl rfl)
theorem dX4_option_176 : decode cX4_option 176 = .ok (.iadd, 1) := dk_96 (dk_at dksX4_option_7 12 rfl rfl)
theorem dX4_option_177 : decode cX4_option 177 = .ok (.i2l, 1) := dk_133 (dk_at dksX4_option_7 13 rfl rfl)
theorem dX4_option_178 : decode cX4_option 178 = .ok (.ldiv, 1) := dk_109 (dk_at dksX4_option_7 14 rfl rfl)
theorem dX4_option_179 : decode cX4_option 179 = .ok (.lload 7, 2) := dk_22 7 (dk_at dksX4_option_7 15 rfl rfl)
theorem dX4_option_181 : decode cX4_option 181 = .ok (.lmul, 1) := dk_105 (dk_at dksX4_option_7 17 rfl rfl)
theorem dX4_option_182 : decode cX4_option 182 = .ok (.ldc2_w 176, 3) := dk_20 0 176 (dk_at dksX4_option_7 18 rfl rfl)
theorem dX4_option_185 : decode cX4_option 185 = .ok (.ldiv, 1) := dk_109 (dk_at dksX4_option_7 21 rfl rfl)
theorem dX4_option_186 : decode cX4_option 186 = .ok (.lastore, 1) := dk_80 (dk_at dksX4_option_7 22 rfl rfl)
theorem dX4_option_187 : decode cX4_option 187 = .ok (.iinc 9 1, 3) := dk_132 9 1 (dk_at dksX4_option_8 0 rfl rfl)
theorem dX4_option_190 : decode cX4_option 190 = .ok (.goto (-64), 3) := dk_167 255 192 (dk_at dksX4_option_8 3 rfl rfl)
theorem dX4_option_193 : decode cX4_option 193 = .ok (.iinc 6 (-1), 3) := dk_132 6 255 (dk_at dksX4_option_8 6 rfl rfl)
theorem dX4_option_196 : decode cX4_option 196 = .ok (.goto (-97), 3) := dk_167 255 159 (dk_at dksX4_option_8 9 rfl rfl)
theorem dX4_option_199 : decode cX4_option 199 = .ok (.aload_n 0, 1) := dk_42 (dk_at dksX4_option_8 12 rfl rfl)
theorem dX4_option_200 : decode cX4_option 200 = .ok (.getfield 106, 3) := dk_180 0 106 (dk_at dksX4_option_8 13 rfl rfl)
theorem dX4_option_203 : decode cX4_option 203 = .ok (.iconst 0, 1) := dk_3 (dk_at dksX4_option_8 16 rfl rfl)
theorem dX4_option_204 : decode cX4_option 204 = .ok (.laload, 1) := dk_47 (dk_at dksX4_option_8 17 rfl rfl)
theorem dX4_option_205 : decode cX4_option 205 = .ok (.lreturn, 1) := dk_173 (dk_at dksX4_option_8 18 rfl rfl)
abbrev cX4_rateOn : ByteArray := prog_12_method_35_code
def yX4_rateOn : MethodName := ⟨RX4, "rateOn", "(III)I"⟩
def dkwX4_rateOn_1 : List UInt8 := [172]
abbrev dktX4_rateOn_1 : List UInt8 := dkwX4_rateOn_1 ++ []
def dkwX4_rateOn_0 : List UInt8 := [3, 17, 0, 150, 42, 180, 0, 13, 3, 46, 29, 5, 28, 104, 27, 100, 104, 96, 184, 0, 188, 184, 1, 62]
abbrev dktX4_rateOn_0 : List UInt8 := dkwX4_rateOn_0 ++ dktX4_rateOn_1
theorem dksX4_rateOn_0 : cX4_rateOn.data.toList.drop 0 = dktX4_rateOn_0 := by decide +kernel
theorem dksX4_rateOn_1 : cX4_rateOn.data.toList.drop 24 = dktX4_rateOn_1 := dk_seg dksX4_rateOn_0 24 rfl rfl
theorem dX4_rateOn_0 : decode cX4_rateOn 0 = .ok (.iconst 0, 1) := dk_3 (dk_at dksX4_rateOn_0 0 rfl rfl)
theorem dX4_rateOn_1 : decode cX4_rateOn 1 = .ok (.sipush 150, 3) := dk_17 0 150 (dk_at dksX4_rateOn_0 1 rfl rfl)
theorem dX4_rateOn_4 : decode cX4_rateOn 4 = .ok (.aload_n 0, 1) := dk_42 (dk_at dksX4_rateOn_0 4 rfl rfl)
theorem dX4_rateOn_5 : decode cX4_rateOn 5 = .ok (.getfield 13, 3) := dk_180 0 13 (dk_at dksX4_rateOn_0 5 rfl rfl)
theorem dX4_rateOn_8 : decode cX4_rateOn 8 = .ok (.iconst 0, 1) := dk_3 (dk_at dksX4_rateOn_0 8 rfl rfl)
theorem dX4_rateOn_9 : decode cX4_rateOn 9 = .ok (.iaload, 1) := dk_46 (dk_at dksX4_rateOn_0 9 rfl rfl)
theorem dX4_rateOn_10 : decode cX4_rateOn 10 = .ok (.iload_n 3, 1) := dk_29 (dk_at dksX4_rateOn_0 10 rfl rfl)
theorem dX4_rateOn_11 : decode cX4_rateOn 11 = .ok (.iconst 2, 1) := dk_5 (dk_at dksX4_rateOn_0 11 rfl rfl)
theorem dX4_rateOn_12 : decode cX4_rateOn 12 = .ok (.iload_n 2, 1) := dk_28 (dk_at dksX4_rateOn_0 12 rfl rfl)
theorem dX4_rateOn_13 : decode cX4_rateOn 13 = .ok (.imul, 1) := dk_104 (dk_at dksX4_rateOn_0 13 rfl rfl)
theorem dX4_rateOn_14 : decode cX4_rateOn 14 = .ok (.iload_n 1, 1) := dk_27 (dk_at dksX4_rateOn_0 14 rfl rfl)
theorem dX4_rateOn_15 : decode cX4_rateOn 15 = .ok (.isub, 1) := dk_100 (dk_at dksX4_rateOn_0 15 rfl rfl)
theorem dX4_rateOn_16 : decode cX4_rateOn 16 = .ok (.imul, 1) := dk_104 (dk_at dksX4_rateOn_0 16 rfl rfl)
theorem dX4_rateOn_17 : decode cX4_rateOn 17 = .ok (.iadd, 1) := dk_96 (dk_at dksX4_rateOn_0 17 rfl rfl)
theorem dX4_rateOn_18 : decode cX4_rateOn 18 = .ok (.invokestatic 188, 3) := dk_184 0 188 (dk_at dksX4_rateOn_0 18 rfl rfl)
theorem dX4_rateOn_21 : decode cX4_rateOn 21 = .ok (.invokestatic 318, 3) := dk_184 1 62 (dk_at dksX4_rateOn_0 21 rfl rfl)
theorem dX4_rateOn_24 : decode cX4_rateOn 24 = .ok (.ireturn, 1) := dk_172 (dk_at dksX4_rateOn_1 0 rfl rfl)
abbrev cX4_annuityOf : ByteArray := prog_12_method_34_code
def yX4_annuityOf : MethodName := ⟨RX4, "annuityOf", "(III)J"⟩
def dkwX4_annuityOf_3 : List UInt8 := [17, 3, 232, 29, 96, 133, 109, 55, 4, 132, 6, 255, 167, 255, 187, 22, 4, 173]
abbrev dktX4_annuityOf_3 : List UInt8 := dkwX4_annuityOf_3 ++ []
def dkwX4_annuityOf_2 : List UInt8 := [182, 0, 201, 101, 55, 7, 22, 7, 20, 0, 180, 22, 4, 97, 105, 20, 0, 176, 109, 20, 0, 194, 105]
abbrev dktX4_annuityOf_2 : List UInt8 := dkwX4_annuityOf_2 ++ dktX4_annuityOf_3
def dkwX4_annuityOf_1 : List UInt8 := [3, 42, 180, 0, 37, 27, 46, 42, 180, 0, 34, 27, 46, 21, 6, 17, 252, 24, 42, 180, 0, 40, 27, 46]
abbrev dktX4_annuityOf_1 : List UInt8 := dkwX4_annuityOf_1 ++ dktX4_annuityOf_2
def dkwX4_annuityOf_0 : List UInt8 := [9, 55, 4, 42, 180, 0, 34, 27, 46, 16, 109, 96, 54, 6, 21, 6, 28, 161, 0, 69, 20, 0, 176, 42]
abbrev dktX4_annuityOf_0 : List UInt8 := dkwX4_annuityOf_0 ++ dktX4_annuityOf_1
theorem dksX4_annuityOf_0 : cX4_annuityOf.data.toList.drop 0 = dktX4_annuityOf_0 := by decide +kernel
theorem dksX4_annuityOf_1 : cX4_annuityOf.data.toList.drop 24 = dktX4_annuityOf_1 := dk_seg dksX4_annuityOf_0 24 rfl rfl
theorem dksX4_annuityOf_2 : cX4_annuityOf.data.toList.drop 48 = dktX4_annuityOf_2 := dk_seg dksX4_annuityOf_1 24 rfl rfl
theorem dksX4_annuityOf_3 : cX4_annuityOf.data.toList.drop 71 = dktX4_annuityOf_3 := dk_seg dksX4_annuityOf_2 23 rfl rfl
theorem dX4_annuityOf_0 : decode cX4_annuityOf 0 = .ok (.lconst 0, 1) := dk_9 (dk_at dksX4_annuityOf_0 0 rfl rfl)
theorem dX4_annuityOf_1 : decode cX4_annuityOf 1 = .ok (.lstore 4, 2) := dk_55 4 (dk_at dksX4_annuityOf_0 1 rfl rfl)
theorem dX4_annuityOf_3 : decode cX4_annuityOf 3 = .ok (.aload_n 0, 1) := dk_42 (dk_at dksX4_annuityOf_0 3 rfl rfl)
theorem dX4_annuityOf_4 : decode cX4_annuityOf 4 = .ok (.getfield 34, 3) := dk_180 0 34 (dk_at dksX4_annuityOf_0 4 rfl rfl)
theorem dX4_annuityOf_7 : decode cX4_annuityOf 7 = .ok (.iload_n 1, 1) := dk_27 (dk_at dksX4_annuityOf_0 7 rfl rfl)
theorem dX4_annuityOf_8 : decode cX4_annuityOf 8 = .ok (.iaload, 1) := dk_46 (dk_at dksX4_annuityOf_0 8 rfl rfl)
theorem dX4_annuityOf_9 : decode cX4_annuityOf 9 = .ok (.bipush 109, 2) := dk_16 109 (dk_at dksX4_annuityOf_0 9 rfl rfl)
theorem dX4_annuityOf_11 : decode cX4_annuityOf 11 = .ok (.iadd, 1) := dk_96 (dk_at dksX4_annuityOf_0 11 rfl rfl)
theorem dX4_annuityOf_12 : decode cX4_annuityOf 12 = .ok (.istore 6, 2) := dk_54 6 (dk_at dksX4_annuityOf_0 12 rfl rfl)
theorem dX4_annuityOf_14 : decode cX4_annuityOf 14 = .ok (.iload 6, 2) := dk_21 6 (dk_at dksX4_annuityOf_0 14 rfl rfl)
theorem dX4_annuityOf_16 : decode cX4_annuityOf 16 = .ok (.iload_n 2, 1) := dk_28 (dk_at dksX4_annuityOf_0 16 rfl rfl)
theorem dX4_annuityOf_17 : decode cX4_annuityOf 17 = .ok (.if_icmp .lt 69, 3) := dk_161 0 69 (dk_at dksX4_annuityOf_0 17 rfl rfl)
theorem dX4_annuityOf_20 : decode cX4_annuityOf 20 = .ok (.ldc2_w 176, 3) := dk_20 0 176 (dk_at dksX4_annuityOf_0 20 rfl rfl)
theorem dX4_annuityOf_23 : decode cX4_annuityOf 23 = .ok (.aload_n 0, 1) := dk_42 (dk_at dksX4_annuityOf_0 23 rfl rfl)
theorem dX4_annuityOf_24 : decode cX4_annuityOf 24 = .ok (.iconst 0, 1) := dk_3 (dk_at dksX4_annuityOf_1 0 rfl rfl)
theorem dX4_annuityOf_25 : decode cX4_annuityOf 25 = .ok (.aload_n 0, 1) := dk_42 (dk_at dksX4_annuityOf_1 1 rfl rfl)
theorem dX4_annuityOf_26 : decode cX4_annuityOf 26 = .ok (.getfield 37, 3) := dk_180 0 37 (dk_at dksX4_annuityOf_1 2 rfl rfl)
theorem dX4_annuityOf_29 : decode cX4_annuityOf 29 = .ok (.iload_n 1, 1) := dk_27 (dk_at dksX4_annuityOf_1 5 rfl rfl)
theorem dX4_annuityOf_30 : decode cX4_annuityOf 30 = .ok (.iaload, 1) := dk_46 (dk_at dksX4_annuityOf_1 6 rfl rfl)
theorem dX4_annuityOf_31 : decode cX4_annuityOf 31 = .ok (.aload_n 0, 1) := dk_42 (dk_at dksX4_annuityOf_1 7 rfl rfl)
theorem dX4_annuityOf_32 : decode cX4_annuityOf 32 = .ok (.getfield 34, 3) := dk_180 0 34 (dk_at dksX4_annuityOf_1 8 rfl rfl)
theorem dX4_annuityOf_35 : decode cX4_annuityOf 35 = .ok (.iload_n 1, 1) := dk_27 (dk_at dksX4_annuityOf_1 11 rfl rfl)
theorem dX4_annuityOf_36 : decode cX4_annuityOf 36 = .ok (.iaload, 1) := dk_46 (dk_at dksX4_annuityOf_1 12 rfl rfl)
theorem dX4_annuityOf_37 : decode cX4_annuityOf 37 = .ok (.iload 6, 2) := dk_21 6 (dk_at dksX4_annuityOf_1 13 rfl rfl)
theorem dX4_annuityOf_39 : decode cX4_annuityOf 39 = .ok (.sipush (-1000), 3) := dk_17 252 24 (dk_at dksX4_annuityOf_1 15 rfl rfl)
theorem dX4_annuityOf_42 : decode cX4_annuityOf 42 = .ok (.aload_n 0, 1) := dk_42 (dk_at dksX4_annuityOf_1 18 rfl rfl)
theorem dX4_annuityOf_43 : decode cX4_annuityOf 43 = .ok (.getfield 40, 3) := dk_180 0 40 (dk_at dksX4_annuityOf_1 19 rfl rfl)
theorem dX4_annuityOf_46 : decode cX4_annuityOf 46 = .ok (.iload_n 1, 1) := dk_27 (dk_at dksX4_annuityOf_1 22 rfl rfl)
theorem dX4_annuityOf_47 : decode cX4_annuityOf 47 = .ok (.iaload, 1) := dk_46 (dk_at dksX4_annuityOf_1 23 rfl rfl)
theorem dX4_annuityOf_48 : decode cX4_annuityOf 48 = .ok (.invokevirtual 201, 3) := dk_182 0 201 (dk_at dksX4_annuityOf_2 0 rfl rfl)
theorem dX4_annuityOf_51 : decode cX4_annuityOf 51 = .ok (.lsub, 1) := dk_101 (dk_at dksX4_annuityOf_2 3 rfl rfl)
theorem dX4_annuityOf_52 : decode cX4_annuityOf 52 = .ok (.lstore 7, 2) := dk_55 7 (dk_at dksX4_annuityOf_2 4 rfl rfl)
theorem dX4_annuityOf_54 : decode cX4_annuityOf 54 = .ok (.lload 7, 2) := dk_22 7 (dk_at dksX4_annuityOf_2 6 rfl rfl)
theorem dX4_annuityOf_56 : decode cX4_annuityOf 56 = .ok (.ldc2_w 180, 3) := dk_20 0 180 (dk_at dksX4_annuityOf_2 8 rfl rfl)
theorem dX4_annuityOf_59 : decode cX4_annuityOf 59 = .ok (.lload 4, 2) := dk_22 4 (dk_at dksX4_annuityOf_2 11 rfl rfl)
theorem dX4_annuityOf_61 : decode cX4_annuityOf 61 = .ok (.ladd, 1) := dk_97 (dk_at dksX4_annuityOf_2 13 rfl rfl)
theorem dX4_annuityOf_62 : decode cX4_annuityOf 62 = .ok (.lmul, 1) := dk_105 (dk_at dksX4_annuityOf_2 14 rfl rfl)
theorem dX4_annuityOf_63 : decode cX4_annuityOf 63 = .ok (.ldc2_w 176, 3) := dk_20 0 176 (dk_at dksX4_annuityOf_2 15 rfl rfl)
theorem dX4_annuityOf_66 : decode cX4_annuityOf 66 = .ok (.ldiv, 1) := dk_109 (dk_at dksX4_annuityOf_2 18 rfl rfl)
theorem dX4_annuityOf_67 : decode cX4_annuityOf 67 = .ok (.ldc2_w 194, 3) := dk_20 0 194 (dk_at dksX4_annuityOf_2 19 rfl rfl)
theorem dX4_annuityOf_70 : decode cX4_annuityOf 70 = .ok (.lmul, 1) := dk_105 (dk_at dksX4_annuityOf_2 22 rfl rfl)
theorem dX4_annuityOf_71 : decode cX4_annuityOf 71 = .ok (.sipush 1000, 3) := dk_17 3 232 (dk_at dksX4_annuityOf_3 0 rfl rfl)
theorem dX4_annuityOf_74 : decode cX4_annuityOf 74 = .ok (.iload_n 3, 1) := dk_29 (dk_at dksX4_annuityOf_3 3 rfl rfl)
theorem dX4_annuityOf_75 : decode cX4_annuityOf 75 = .ok (.iadd, 1) := dk_96 (dk_at dksX4_annuityOf_3 4 rfl rfl)
theorem dX4_annuityOf_76 : decode cX4_annuityOf 76 = .ok (.i2l, 1) := dk_133 (dk_at dksX4_annuityOf_3 5 rfl rfl)
theorem dX4_annuityOf_77 : decode cX4_annuityOf 77 = .ok (.ldiv, 1) := dk_109 (dk_at dksX4_annuityOf_3 6 rfl rfl)
theorem dX4_annuityOf_78 : decode cX4_annuityOf 78 = .ok (.lstore 4, 2) := dk_55 4 (dk_at dksX4_annuityOf_3 7 rfl rfl)
theorem dX4_annuityOf_80 : decode cX4_annuityOf 80 = .ok (.iinc 6 (-1), 3) := dk_132 6 255 (dk_at dksX4_annuityOf_3 9 rfl rfl)
theorem dX4_annuityOf_83 : decode cX4_annuityOf 83 = .ok (.goto (-69), 3) := dk_167 255 187 (dk_at dksX4_annuityOf_3 12 rfl rfl)
theorem dX4_annuityOf_86 : decode cX4_annuityOf 86 = .ok (.lload 4, 2) := dk_22 4 (dk_at dksX4_annuityOf_3 15 rfl rfl)
theorem dX4_annuityOf_88 : decode cX4_annuityOf 88 = .ok (.lreturn, 1) := dk_173 (dk_at dksX4_annuityOf_3 17 rfl rfl)
abbrev cX4_q : ByteArray := prog_12_method_12_code
def yX4_q : MethodName := ⟨RX4, "q", "(III)J"⟩
def dkwX4_q_1 : List UInt8 := [180, 0, 40, 27, 46, 182, 0, 201, 173]
abbrev dktX4_q_1 : List UInt8 := dkwX4_q_1 ++ []
def dkwX4_q_0 : List UInt8 := [42, 29, 42, 180, 0, 37, 27, 46, 42, 180, 0, 34, 27, 46, 28, 28, 42, 180, 0, 43, 27, 46, 100, 42]
abbrev dktX4_q_0 : List UInt8 := dkwX4_q_0 ++ dktX4_q_1
theorem dksX4_q_0 : cX4_q.data.toList.drop 0 = dktX4_q_0 := by decide +kernel
theorem dksX4_q_1 : cX4_q.data.toList.drop 24 = dktX4_q_1 := dk_seg dksX4_q_0 24 rfl rfl
theorem dX4_q_0 : decode cX4_q 0 = .ok (.aload_n 0, 1) := dk_42 (dk_at dksX4_q_0 0 rfl rfl)
theorem dX4_q_1 : decode cX4_q 1 = .ok (.iload_n 3, 1) := dk_29 (dk_at dksX4_q_0 1 rfl rfl)
theorem dX4_q_2 : decode cX4_q 2 = .ok (.aload_n 0, 1) := dk_42 (dk_at dksX4_q_0 2 rfl rfl)
theorem dX4_q_3 : decode cX4_q 3 = .ok (.getfield 37, 3) := dk_180 0 37 (dk_at dksX4_q_0 3 rfl rfl)
theorem dX4_q_6 : decode cX4_q 6 = .ok (.iload_n 1, 1) := dk_27 (dk_at dksX4_q_0 6 rfl rfl)
theorem dX4_q_7 : decode cX4_q 7 = .ok (.iaload, 1) := dk_46 (dk_at dksX4_q_0 7 rfl rfl)
theorem dX4_q_8 : decode cX4_q 8 = .ok (.aload_n 0, 1) := dk_42 (dk_at dksX4_q_0 8 rfl rfl)
theorem dX4_q_9 : decode cX4_q 9 = .ok (.getfield 34, 3) := dk_180 0 34 (dk_at dksX4_q_0 9 rfl rfl)
theorem dX4_q_12 : decode cX4_q 12 = .ok (.iload_n 1, 1) := dk_27 (dk_at dksX4_q_0 12 rfl rfl)
theorem dX4_q_13 : decode cX4_q 13 = .ok (.iaload, 1) := dk_46 (dk_at dksX4_q_0 13 rfl rfl)
theorem dX4_q_14 : decode cX4_q 14 = .ok (.iload_n 2, 1) := dk_28 (dk_at dksX4_q_0 14 rfl rfl)
theorem dX4_q_15 : decode cX4_q 15 = .ok (.iload_n 2, 1) := dk_28 (dk_at dksX4_q_0 15 rfl rfl)
theorem dX4_q_16 : decode cX4_q 16 = .ok (.aload_n 0, 1) := dk_42 (dk_at dksX4_q_0 16 rfl rfl)
theorem dX4_q_17 : decode cX4_q 17 = .ok (.getfield 43, 3) := dk_180 0 43 (dk_at dksX4_q_0 17 rfl rfl)
theorem dX4_q_20 : decode cX4_q 20 = .ok (.iload_n 1, 1) := dk_27 (dk_at dksX4_q_0 20 rfl rfl)
theorem dX4_q_21 : decode cX4_q 21 = .ok (.iaload, 1) := dk_46 (dk_at dksX4_q_0 21 rfl rfl)
theorem dX4_q_22 : decode cX4_q 22 = .ok (.isub, 1) := dk_100 (dk_at dksX4_q_0 22 rfl rfl)
theorem dX4_q_23 : decode cX4_q 23 = .ok (.aload_n 0, 1) := dk_42 (dk_at dksX4_q_0 23 rfl rfl)
theorem dX4_q_24 : decode cX4_q 24 = .ok (.getfield 40, 3) := dk_180 0 40 (dk_at dksX4_q_1 0 rfl rfl)
theorem dX4_q_27 : decode cX4_q 27 = .ok (.iload_n 1, 1) := dk_27 (dk_at dksX4_q_1 3 rfl rfl)
theorem dX4_q_28 : decode cX4_q 28 = .ok (.iaload, 1) := dk_46 (dk_at dksX4_q_1 4 rfl rfl)
theorem dX4_q_29 : decode cX4_q 29 = .ok (.invokevirtual 201, 3) := dk_182 0 201 (dk_at dksX4_q_1 5 rfl rfl)
theorem dX4_q_32 : decode cX4_q 32 = .ok (.lreturn, 1) := dk_173 (dk_at dksX4_q_1 8 rfl rfl)
abbrev cX4_byReserve : ByteArray := prog_12_method_70_code
def yX4_byReserve : MethodName := ⟨RX4, "byReserve", "(I)I"⟩
def dkwX4_byReserve_5 : List UInt8 := [29, 27, 160, 0, 5, 28, 172, 132, 2, 1, 167, 255, 138, 42, 4, 182, 1, 86, 172]
abbrev dktX4_byReserve_5 : List UInt8 := dkwX4_byReserve_5 ++ []
def dkwX4_byReserve_4 : List UInt8 := [162, 0, 7, 4, 167, 0, 4, 3, 96, 62, 132, 4, 1, 167, 255, 172, 42, 28, 182, 0, 234, 153, 0, 10]
abbrev dktX4_byReserve_4 : List UInt8 := dkwX4_byReserve_4 ++ dktX4_byReserve_5
def dkwX4_byReserve_3 : List UInt8 := [153, 0, 29, 22, 5, 22, 7, 148, 157, 0, 17, 22, 5, 22, 7, 148, 154, 0, 13, 21, 4, 28]
abbrev dktX4_byReserve_3 : List UInt8 := dkwX4_byReserve_3 ++ dktX4_byReserve_4
def dkwX4_byReserve_2 : List UInt8 := [182, 0, 244, 55, 5, 42, 28, 42, 180, 0, 114, 3, 182, 0, 244, 55, 7, 29, 42, 21, 4, 182, 0, 234]
abbrev dktX4_byReserve_2 : List UInt8 := dkwX4_byReserve_2 ++ dktX4_byReserve_3
def dkwX4_byReserve_1 : List UInt8 := [180, 0, 146, 162, 0, 81, 42, 28, 182, 0, 234, 153, 0, 73, 42, 21, 4, 42, 180, 0, 114, 3]
abbrev dktX4_byReserve_1 : List UInt8 := dkwX4_byReserve_1 ++ dktX4_byReserve_2
def dkwX4_byReserve_0 : List UInt8 := [42, 3, 181, 0, 1, 3, 61, 28, 42, 180, 0, 146, 162, 0, 116, 3, 62, 3, 54, 4, 21, 4, 42]
abbrev dktX4_byReserve_0 : List UInt8 := dkwX4_byReserve_0 ++ dktX4_byReserve_1
theorem dksX4_byReserve_0 : cX4_byReserve.data.toList.drop 0 = dktX4_byReserve_0 := by decide +kernel
theorem dksX4_byReserve_1 : cX4_byReserve.data.toList.drop 23 = dktX4_byReserve_1 := dk_seg dksX4_byReserve_0 23 rfl rfl
theorem dksX4_byReserve_2 : cX4_byReserve.data.toList.drop 45 = dktX4_byReserve_2 := dk_seg dksX4_byReserve_1 22 rfl rfl
theorem dksX4_byReserve_3 : cX4_byReserve.data.toList.drop 69 = dktX4_byReserve_3 := dk_seg dksX4_byReserve_2 24 rfl rfl
theorem dksX4_byReserve_4 : cX4_byReserve.data.toList.drop 91 = dktX4_byReserve_4 := dk_seg dksX4_byReserve_3 22 rfl rfl
theorem dksX4_byReserve_5 : cX4_byReserve.data.toList.drop 115 = dktX4_byReserve_5 := dk_seg dksX4_byReserve_4 24 rfl rfl
theorem dX4_byReserve_0 : decode cX4_byReserve 0 = .ok (.aload_n 0, 1) := dk_42 (dk_at dksX4_byReserve_0 0 rfl rfl)
theorem dX4_byReserve_1 : decode cX4_byReserve 1 = .ok (.iconst 0, 1) := dk_3 (dk_at dksX4_byReserve_0 1 rfl rfl)
theorem dX4_byReserve_2 : decode cX4_byReserve 2 = .ok (.putfield 1, 3) := dk_181 0 1 (dk_at dksX4_byReserve_0 2 rfl rfl)
theorem dX4_byReserve_5 : decode cX4_byReserve 5 = .ok (.iconst 0, 1) := dk_3 (dk_at dksX4_byReserve_0 5 rfl rfl)
theorem dX4_byReserve_6 : decode cX4_byReserve 6 = .ok (.istore_n 2, 1) := dk_61 (dk_at dksX4_byReserve_0 6 rfl rfl)
theorem dX4_byReserve_7 : decode cX4_byReserve 7 = .ok (.iload_n 2, 1) := dk_28 (dk_at dksX4_byReserve_0 7 rfl rfl)
theorem dX4_byReserve_8 : decode cX4_byReserve 8 = .ok (.aload_n 0, 1) := dk_42 (dk_at dksX4_byReserve_0 8 rfl rfl)
theorem dX4_byReserve_9 : decode cX4_byReserve 9 = .ok (.getfield 146, 3) := dk_180 0 146 (dk_at dksX4_byReserve_0 9 rfl rfl)
theorem dX4_byReserve_12 : decode cX4_byReserve 12 = .ok (.if_icmp .ge 116, 3) := dk_162 0 116 (dk_at dksX4_byReserve_0 12 rfl rfl)
theorem dX4_byReserve_15 : decode cX4_byReserve 15 = .ok (.iconst 0, 1) := dk_3 (dk_at dksX4_byReserve_0 15 rfl rfl)
theorem dX4_byReserve_16 : decode cX4_byReserve 16 = .ok (.istore_n 3, 1) := dk_62 (dk_at dksX4_byReserve_0 16 rfl rfl)
theorem dX4_byReserve_17 : decode cX4_byReserve 17 = .ok (.iconst 0, 1) := dk_3 (dk_at dksX4_byReserve_0 17 rfl rfl)
theorem dX4_byReserve_18 : decode cX4_byReserve 18 = .ok (.istore 4, 2) := dk_54 4 (dk_at dksX4_byReserve_0 18 rfl rfl)
theorem dX4_byReserve_20 : decode cX4_byReserve 20 = .ok (.iload 4, 2) := dk_21 4 (dk_at dksX4_byReserve_0 20 rfl rfl)
theorem dX4_byReserve_22 : decode cX4_byReserve 22 = .ok (.aload_n 0, 1) := dk_42 (dk_at dksX4_byReserve_0 22 rfl rfl)
theorem dX4_byReserve_23 : decode cX4_byReserve 23 = .ok (.getfield 146, 3) := dk_180 0 146 (dk_at dksX4_byReserve_1 0 rfl rfl)
theorem dX4_byReserve_26 : decode cX4_byReserve 26 = .ok (.if_icmp .ge 81, 3) := dk_162 0 81 (dk_at dksX4_byReserve_1 3 rfl rfl)
theorem dX4_byReserve_29 : decode cX4_byReserve 29 = .ok (.aload_n 0, 1) := dk_42 (dk_at dksX4_byReserve_1 6 rfl rfl)
theorem dX4_byReserve_30 : decode cX4_byReserve 30 = .ok (.iload_n 2, 1) := dk_28 (dk_at dksX4_byReserve_1 7 rfl rfl)
theorem dX4_byReserve_31 : decode cX4_byReserve 31 = .ok (.invokevirtual 234, 3) := dk_182 0 234 (dk_at dksX4_byReserve_1 8 rfl rfl)
theorem dX4_byReserve_34 : decode cX4_byReserve 34 = .ok (.ifCond .eq 73, 3) := dk_153 0 73 (dk_at dksX4_byReserve_1 11 rfl rfl)
theorem dX4_byReserve_37 : decode cX4_byReserve 37 = .ok (.aload_n 0, 1) := dk_42 (dk_at dksX4_byReserve_1 14 rfl rfl)
theorem dX4_byReserve_38 : decode cX4_byReserve 38 = .ok (.iload 4, 2) := dk_21 4 (dk_at dksX4_byReserve_1 15 rfl rfl)
theorem dX4_byReserve_40 : decode cX4_byReserve 40 = .ok (.aload_n 0, 1) := dk_42 (dk_at dksX4_byReserve_1 17 rfl rfl)
theorem dX4_byReserve_41 : decode cX4_byReserve 41 = .ok (.getfield 114, 3) := dk_180 0 114 (dk_at dksX4_byReserve_1 18 rfl rfl)
theorem dX4_byReserve_44 : decode cX4_byReserve 44 = .ok (.iconst 0, 1) := dk_3 (dk_at dksX4_byReserve_1 21 rfl rfl)
theorem dX4_byReserve_45 : decode cX4_byReserve 45 = .ok (.invokevirtual 244, 3) := dk_182 0 244 (dk_at dksX4_byReserve_2 0 rfl rfl)
theorem dX4_byReserve_48 : decode cX4_byReserve 48 = .ok (.lstore 5, 2) := dk_55 5 (dk_at dksX4_byReserve_2 3 rfl rfl)
theorem dX4_byReserve_50 : decode cX4_byReserve 50 = .ok (.aload_n 0, 1) := dk_42 (dk_at dksX4_byReserve_2 5 rfl rfl)
theorem dX4_byReserve_51 : decode cX4_byReserve 51 = .ok (.iload_n 2, 1) := dk_28 (dk_at dksX4_byReserve_2 6 rfl rfl)
theorem dX4_byReserve_52 : decode cX4_byReserve 52 = .ok (.aload_n 0, 1) := dk_42 (dk_at dksX4_byReserve_2 7 rfl rfl)
theorem dX4_byReserve_53 : decode cX4_byReserve 53 = .ok (.getfield 114, 3) := dk_180 0 114 (dk_at dksX4_byReserve_2 8 rfl rfl)
theorem dX4_byReserve_56 : decode cX4_byReserve 56 = .ok (.iconst 0, 1) := dk_3 (dk_at dksX4_byReserve_2 11 rfl rfl)
theorem dX4_byReserve_57 : decode cX4_byReserve 57 = .ok (.invokevirtual 244, 3) := dk_182 0 244 (dk_at dksX4_byReserve_2 12 rfl rfl)
theorem dX4_byReserve_60 : decode cX4_byReserve 60 = .ok (.lstore 7, 2) := dk_55 7 (dk_at dksX4_byReserve_2 15 rfl rfl)
theorem dX4_byReserve_62 : decode cX4_byReserve 62 = .ok (.iload_n 3, 1) := dk_29 (dk_at dksX4_byReserve_2 17 rfl rfl)
theorem dX4_byReserve_63 : decode cX4_byReserve 63 = .ok (.aload_n 0, 1) := dk_42 (dk_at dksX4_byReserve_2 18 rfl rfl)
theorem dX4_byReserve_64 : decode cX4_byReserve 64 = .ok (.iload 4, 2) := dk_21 4 (dk_at dksX4_byReserve_2 19 rfl rfl)
theorem dX4_byReserve_66 : decode cX4_byReserve 66 = .ok (.invokevirtual 234, 3) := dk_182 0 234 (dk_at dksX4_byReserve_2 21 rfl rfl)
theorem dX4_byReserve_69 : decode cX4_byReserve 69 = .ok (.ifCond .eq 29, 3) := dk_153 0 29 (dk_at dksX4_byReserve_3 0 rfl rfl)
theorem dX4_byReserve_72 : decode cX4_byReserve 72 = .ok (.lload 5, 2) := dk_22 5 (dk_at dksX4_byReserve_3 3 rfl rfl)
theorem dX4_byReserve_74 : decode cX4_byReserve 74 = .ok (.lload 7, 2) := dk_22 7 (dk_at dksX4_byReserve_3 5 rfl rfl)
theorem dX4_byReserve_76 : decode cX4_byReserve 76 = .ok (.lcmp, 1) := dk_148 (dk_at dksX4_byReserve_3 7 rfl rfl)
theorem dX4_byReserve_77 : decode cX4_byReserve 77 = .ok (.ifCond .gt 17, 3) := dk_157 0 17 (dk_at dksX4_byReserve_3 8 rfl rfl)
theorem dX4_byReserve_80 : decode cX4_byReserve 80 = .ok (.lload 5, 2) := dk_22 5 (dk_at dksX4_byReserve_3 11 rfl rfl)
theorem dX4_byReserve_82 : decode cX4_byReserve 82 = .ok (.lload 7, 2) := dk_22 7 (dk_at dksX4_byReserve_3 13 rfl rfl)
theorem dX4_byReserve_84 : decode cX4_byReserve 84 = .ok (.lcmp, 1) := dk_148 (dk_at dksX4_byReserve_3 15 rfl rfl)
theorem dX4_byReserve_85 : decode cX4_byReserve 85 = .ok (.ifCond .ne 13, 3) := dk_154 0 13 (dk_at dksX4_byReserve_3 16 rfl rfl)
theorem dX4_byReserve_88 : decode cX4_byReserve 88 = .ok (.iload 4, 2) := dk_21 4 (dk_at dksX4_byReserve_3 19 rfl rfl)
theorem dX4_byReserve_90 : decode cX4_byReserve 90 = .ok (.iload_n 2, 1) := dk_28 (dk_at dksX4_byReserve_3 21 rfl rfl)
theorem dX4_byReserve_91 : decode cX4_byReserve 91 = .ok (.if_icmp .ge 7, 3) := dk_162 0 7 (dk_at dksX4_byReserve_4 0 rfl rfl)
theorem dX4_byReserve_94 : decode cX4_byReserve 94 = .ok (.iconst 1, 1) := dk_4 (dk_at dksX4_byReserve_4 3 rfl rfl)
theorem dX4_byReserve_95 : decode cX4_byReserve 95 = .ok (.goto 4, 3) := dk_167 0 4 (dk_at dksX4_byReserve_4 4 rfl rfl)
theorem dX4_byReserve_98 : decode cX4_byReserve 98 = .ok (.iconst 0, 1) := dk_3 (dk_at dksX4_byReserve_4 7 rfl rfl)
theorem dX4_byReserve_99 : decode cX4_byReserve 99 = .ok (.iadd, 1) := dk_96 (dk_at dksX4_byReserve_4 8 rfl rfl)
theorem dX4_byReserve_100 : decode cX4_byReserve 100 = .ok (.istore_n 3, 1) := dk_62 (dk_at dksX4_byReserve_4 9 rfl rfl)
theorem dX4_byReserve_101 : decode cX4_byReserve 101 = .ok (.iinc 4 1, 3) := dk_132 4 1 (dk_at dksX4_byReserve_4 10 rfl rfl)
theorem dX4_byReserve_104 : decode cX4_byReserve 104 = .ok (.goto (-84), 3) := dk_167 255 172 (dk_at dksX4_byReserve_4 13 rfl rfl)
theorem dX4_byReserve_107 : decode cX4_byReserve 107 = .ok (.aload_n 0, 1) := dk_42 (dk_at dksX4_byReserve_4 16 rfl rfl)
theorem dX4_byReserve_108 : decode cX4_byReserve 108 = .ok (.iload_n 2, 1) := dk_28 (dk_at dksX4_byReserve_4 17 rfl rfl)
theorem dX4_byReserve_109 : decode cX4_byReserve 109 = .ok (.invokevirtual 234, 3) := dk_182 0 234 (dk_at dksX4_byReserve_4 18 rfl rfl)
theorem dX4_byReserve_112 : decode cX4_byReserve 112 = .ok (.ifCond .eq 10, 3) := dk_153 0 10 (dk_at dksX4_byReserve_4 21 rfl rfl)
theorem dX4_byReserve_115 : decode cX4_byReserve 115 = .ok (.iload_n 3, 1) := dk_29 (dk_at dksX4_byReserve_5 0 rfl rfl)
theorem dX4_byReserve_116 : decode cX4_byReserve 116 = .ok (.iload_n 1, 1) := dk_27 (dk_at dksX4_byReserve_5 1 rfl rfl)
theorem dX4_byReserve_117 : decode cX4_byReserve 117 = .ok (.if_icmp .ne 5, 3) := dk_160 0 5 (dk_at dksX4_byReserve_5 2 rfl rfl)
theorem dX4_byReserve_120 : decode cX4_byReserve 120 = .ok (.iload_n 2, 1) := dk_28 (dk_at dksX4_byReserve_5 5 rfl rfl)
theorem dX4_byReserve_121 : decode cX4_byReserve 121 = .ok (.ireturn, 1) := dk_172 (dk_at dksX4_byReserve_5 6 rfl rfl)
theorem dX4_byReserve_122 : decode cX4_byReserve 122 = .ok (.iinc 2 1, 3) := dk_132 2 1 (dk_at dksX4_byReserve_5 7 rfl rfl)
theorem dX4_byReserve_125 : decode cX4_byReserve 125 = .ok (.goto (-118), 3) := dk_167 255 138 (dk_at dksX4_byReserve_5 10 rfl rfl)
theorem dX4_byReserve_128 : decode cX4_byReserve 128 = .ok (.aload_n 0, 1) := dk_42 (dk_at dksX4_byReserve_5 13 rfl rfl)
theorem dX4_byReserve_129 : decode cX4_byReserve 129 = .ok (.iconst 1, 1) := dk_4 (dk_at dksX4_byReserve_5 14 rfl rfl)
theorem dX4_byReserve_130 : decode cX4_byReserve 130 = .ok (.invokevirtual 342, 3) := dk_182 1 86 (dk_at dksX4_byReserve_5 15 rfl rfl)
theorem dX4_byReserve_133 : decode cX4_byReserve 133 = .ok (.ireturn, 1) := dk_172 (dk_at dksX4_byReserve_5 18 rfl rfl)
abbrev cX4_declare : ByteArray := prog_12_method_71_code
def yX4_declare : MethodName := ⟨RX4, "declare", "(I)J"⟩
def dkwX4_declare_11 : List UInt8 := [181, 0, 133, 22, 5, 173]
abbrev dktX4_declare_11 : List UInt8 := dkwX4_declare_11 ++ []
def dkwX4_declare_10 : List UInt8 := [182, 1, 86, 133, 173, 42, 180, 0, 24, 8, 92, 47, 22, 5, 101, 80, 42, 4, 181, 0, 152, 42, 27]
abbrev dktX4_declare_10 : List UInt8 := dkwX4_declare_10 ++ dktX4_declare_11
def dkwX4_declare_9 : List UInt8 := [42, 180, 0, 70, 21, 7, 42, 180, 0, 97, 21, 7, 47, 80, 132, 7, 1, 167, 255, 230, 42, 5]
abbrev dktX4_declare_9 : List UInt8 := dkwX4_declare_9 ++ dktX4_declare_10
def dkwX4_declare_8 : List UInt8 := [154, 0, 12, 42, 182, 1, 105, 9, 148, 156, 0, 42, 3, 54, 7, 21, 7, 42, 180, 0, 146, 162, 0, 23]
abbrev dktX4_declare_8 : List UInt8 := dkwX4_declare_8 ++ dktX4_declare_9
def dkwX4_declare_7 : List UInt8 := [167, 0, 4, 3, 128, 54, 4, 132, 5, 1, 167, 255, 148, 42, 3, 182, 1, 3, 32, 101, 55, 5, 21, 4]
abbrev dktX4_declare_7 : List UInt8 := dkwX4_declare_7 ++ dktX4_declare_8
def dkwX4_declare_6 : List UInt8 := [180, 0, 67, 21, 5, 47, 42, 180, 0, 70, 21, 5, 47, 97, 20, 1, 138, 148, 158, 0, 7, 4]
abbrev dktX4_declare_6 : List UInt8 := dkwX4_declare_6 ++ dktX4_declare_7
def dkwX4_declare_5 : List UInt8 := [21, 5, 47, 42, 180, 0, 70, 21, 5, 47, 97, 27, 133, 105, 20, 0, 194, 109, 97, 80, 21, 4, 42]
abbrev dktX4_declare_5 : List UInt8 := dkwX4_declare_5 ++ dktX4_declare_6
def dkwX4_declare_4 : List UInt8 := [153, 0, 76, 42, 21, 5, 182, 1, 127, 153, 0, 67, 42, 180, 0, 70, 21, 5, 92, 47, 42, 180, 0, 67]
abbrev dktX4_declare_4 : List UInt8 := dkwX4_declare_4 ++ dktX4_declare_5
def dkwX4_declare_3 : List UInt8 := [162, 0, 105, 42, 180, 0, 97, 21, 5, 42, 180, 0, 70, 21, 5, 47, 80, 42, 21, 5, 182, 1, 7]
abbrev dktX4_declare_3 : List UInt8 := dkwX4_declare_3 ++ dktX4_declare_4
def dkwX4_declare_2 : List UInt8 := [5, 182, 1, 86, 133, 173, 42, 3, 182, 1, 3, 65, 3, 54, 4, 3, 54, 5, 21, 5, 42, 180, 0, 146]
abbrev dktX4_declare_2 : List UInt8 := dkwX4_declare_2 ++ dktX4_declare_3
def dkwX4_declare_1 : List UInt8 := [42, 180, 0, 152, 154, 0, 19, 27, 42, 180, 0, 133, 100, 184, 1, 135, 42, 180, 0, 130, 164, 0, 10, 42]
abbrev dktX4_declare_1 : List UInt8 := dkwX4_declare_1 ++ dktX4_declare_2
def dkwX4_declare_0 : List UInt8 := [42, 3, 181, 0, 1, 27, 133, 9, 20, 0, 196, 184, 0, 168, 154, 0, 10, 42, 4, 182, 1, 86, 133, 173]
abbrev dktX4_declare_0 : List UInt8 := dkwX4_declare_0 ++ dktX4_declare_1
theorem dksX4_declare_0 : cX4_declare.data.toList.drop 0 = dktX4_declare_0 := by decide +kernel
theorem dksX4_declare_1 : cX4_declare.data.toList.drop 24 = dktX4_declare_1 := dk_seg dksX4_declare_0 24 rfl rfl
theorem dksX4_declare_2 : cX4_declare.data.toList.drop 48 = dktX4_declare_2 := dk_seg dksX4_declare_1 24 rfl rfl
theorem dksX4_declare_3 : cX4_declare.data.toList.drop 72 = dktX4_declare_3 := dk_seg dksX4_declare_2 24 rfl rfl
theorem dksX4_declare_4 : cX4_declare.data.toList.drop 95 = dktX4_declare_4 := dk_seg dksX4_declare_3 23 rfl rfl
theorem dksX4_declare_5 : cX4_declare.data.toList.drop 119 = dktX4_declare_5 := dk_seg dksX4_declare_4 24 rfl rfl
theorem dksX4_declare_6 : cX4_declare.data.toList.drop 142 = dktX4_declare_6 := dk_seg dksX4_declare_5 23 rfl rfl
theorem dksX4_declare_7 : cX4_declare.data.toList.drop 164 = dktX4_declare_7 := dk_seg dksX4_declare_6 22 rfl rfl
theorem dksX4_declare_8 : cX4_declare.data.toList.drop 188 = dktX4_declare_8 := dk_seg dksX4_declare_7 24 rfl rfl
theorem dksX4_declare_9 : cX4_declare.data.toList.drop 212 = dktX4_declare_9 := dk_seg dksX4_declare_8 24 rfl rfl
theorem dksX4_declare_10 : cX4_declare.data.toList.drop 234 = dktX4_declare_10 := dk_seg dksX4_declare_9 22 rfl rfl
theorem dksX4_declare_11 : cX4_declare.data.toList.drop 257 = dktX4_declare_11 := dk_seg dksX4_declare_10 23 rfl rfl
theorem dX4_declare_0 : decode cX4_declare 0 = .ok (.aload_n 0, 1) := dk_42 (dk_at dksX4_declare_0 0 rfl rfl)
theorem dX4_declare_1 : decode cX4_declare 1 = .ok (.iconst 0, 1) := dk_3 (dk_at dksX4_declare_0 1 rfl rfl)
theorem dX4_declare_2 : decode cX4_declare 2 = .ok (.putfield 1, 3) := dk_181 0 1 (dk_at dksX4_declare_0 2 rfl rfl)
theorem dX4_declare_5 : decode cX4_declare 5 = .ok (.iload_n 1, 1) := dk_27 (dk_at dksX4_declare_0 5 rfl rfl)
theorem dX4_declare_6 : decode cX4_declare 6 = .ok (.i2l, 1) := dk_133 (dk_at dksX4_declare_0 6 rfl rfl)
theorem dX4_declare_7 : decode cX4_declare 7 = .ok (.lconst 0, 1) := dk_9 (dk_at dksX4_declare_0 7 rfl rfl)
theorem dX4_declare_8 : decode cX4_declare 8 = .ok (.ldc2_w 196, 3) := dk_20 0 196 (dk_at dksX4_declare_0 8 rfl rfl)
theorem dX4_declare_11 : decode cX4_declare 11 = .ok (.invokestatic 168, 3) := dk_184 0 168 (dk_at dksX4_declare_0 11 rfl rfl)
theorem dX4_declare_14 : decode cX4_declare 14 = .ok (.ifCond .ne 10, 3) := dk_154 0 10 (dk_at dksX4_declare_0 14 rfl rfl)
theorem dX4_declare_17 : decode cX4_declare 17 = .ok (.aload_n 0, 1) := dk_42 (dk_at dksX4_declare_0 17 rfl rfl)
theorem dX4_declare_18 : decode cX4_declare 18 = .ok (.iconst 1, 1) := dk_4 (dk_at dksX4_declare_0 18 rfl rfl)
theorem dX4_declare_19 : decode cX4_declare 19 = .ok (.invokevirtual 342, 3) := dk_182 1 86 (dk_at dksX4_declare_0 19 rfl rfl)
theorem dX4_declare_22 : decode cX4_declare 22 = .ok (.i2l, 1) := dk_133 (dk_at dksX4_declare_0 22 rfl rfl)
theorem dX4_declare_23 : decode cX4_declare 23 = .ok (.lreturn, 1) := dk_173 (dk_at dksX4_declare_0 23 rfl rfl)
theorem dX4_declare_24 : decode cX4_declare 24 = .ok (.aload_n 0, 1) := dk_42 (dk_at dksX4_declare_1 0 rfl rfl)
theorem dX4_declare_25 : decode cX4_declare 25 = .ok (.getfield 152, 3) := dk_180 0 152 (dk_at dksX4_declare_1 1 rfl rfl)
theorem dX4_declare_28 : decode cX4_declare 28 = .ok (.ifCond .ne 19, 3) := dk_154 0 19 (dk_at dksX4_declare_1 4 rfl rfl)
theorem dX4_declare_31 : decode cX4_declare 31 = .ok (.iload_n 1, 1) := dk_27 (dk_at dksX4_declare_1 7 rfl rfl)
theorem dX4_declare_32 : decode cX4_declare 32 = .ok (.aload_n 0, 1) := dk_42 (dk_at dksX4_declare_1 8 rfl rfl)
theorem dX4_declare_33 : decode cX4_declare 33 = .ok (.getfield 133, 3) := dk_180 0 133 (dk_at dksX4_declare_1 9 rfl rfl)
theorem dX4_declare_36 : decode cX4_declare 36 = .ok (.isub, 1) := dk_100 (dk_at dksX4_declare_1 12 rfl rfl)
theorem dX4_declare_37 : decode cX4_declare 37 = .ok (.invokestatic 391, 3) := dk_184 1 135 (dk_at dksX4_declare_1 13 rfl rfl)
theorem dX4_declare_40 : decode cX4_declare 40 = .ok (.aload_n 0, 1) := dk_42 (dk_at dksX4_declare_1 16 rfl rfl)
theorem dX4_declare_41 : decode cX4_declare 41 = .ok (.getfield 130, 3) := dk_180 0 130 (dk_at dksX4_declare_1 17 rfl rfl)
theorem dX4_declare_44 : decode cX4_declare 44 = .ok (.if_icmp .le 10, 3) := dk_164 0 10 (dk_at dksX4_declare_1 20 rfl rfl)
theorem dX4_declare_47 : decode cX4_declare 47 = .ok (.aload_n 0, 1) := dk_42 (dk_at dksX4_declare_1 23 rfl rfl)
theorem dX4_declare_48 : decode cX4_declare 48 = .ok (.iconst 2, 1) := dk_5 (dk_at dksX4_declare_2 0 rfl rfl)
theorem dX4_declare_49 : decode cX4_declare 49 = .ok (.invokevirtual 342, 3) := dk_182 1 86 (dk_at dksX4_declare_2 1 rfl rfl)
theorem dX4_declare_52 : decode cX4_declare 52 = .ok (.i2l, 1) := dk_133 (dk_at dksX4_declare_2 4 rfl rfl)
theorem dX4_declare_53 : decode cX4_declare 53 = .ok (.lreturn, 1) := dk_173 (dk_at dksX4_declare_2 5 rfl rfl)
theorem dX4_declare_54 : decode cX4_declare 54 = .ok (.aload_n 0, 1) := dk_42 (dk_at dksX4_declare_2 6 rfl rfl)
theorem dX4_declare_55 : decode cX4_declare 55 = .ok (.iconst 0, 1) := dk_3 (dk_at dksX4_declare_2 7 rfl rfl)
theorem dX4_declare_56 : decode cX4_declare 56 = .ok (.invokevirtual 259, 3) := dk_182 1 3 (dk_at dksX4_declare_2 8 rfl rfl)
theorem dX4_declare_59 : decode cX4_declare 59 = .ok (.lstore_n 2, 1) := dk_65 (dk_at dksX4_declare_2 11 rfl rfl)
theorem dX4_declare_60 : decode cX4_declare 60 = .ok (.iconst 0, 1) := dk_3 (dk_at dksX4_declare_2 12 rfl rfl)
theorem dX4_declare_61 : decode cX4_declare 61 = .ok (.istore 4, 2) := dk_54 4 (dk_at dksX4_declare_2 13 rfl rfl)
theorem dX4_declare_63 : decode cX4_declare 63 = .ok (.iconst 0, 1) := dk_3 (dk_at dksX4_declare_2 15 rfl rfl)
theorem dX4_declare_64 : decode cX4_declare 64 = .ok (.istore 5, 2) := dk_54 5 (dk_at dksX4_declare_2 16 rfl rfl)
theorem dX4_declare_66 : decode cX4_declare 66 = .ok (.iload 5, 2) := dk_21 5 (dk_at dksX4_declare_2 18 rfl rfl)
theorem dX4_declare_68 : decode cX4_declare 68 = .ok (.aload_n 0, 1) := dk_42 (dk_at dksX4_declare_2 20 rfl rfl)
theorem dX4_declare_69 : decode cX4_declare 69 = .ok (.getfield 146, 3) := dk_180 0 146 (dk_at dksX4_declare_2 21 rfl rfl)
theorem dX4_declare_72 : decode cX4_declare 72 = .ok (.if_icmp .ge 105, 3) := dk_162 0 105 (dk_at dksX4_declare_3 0 rfl rfl)
theorem dX4_declare_75 : decode cX4_declare 75 = .ok (.aload_n 0, 1) := dk_42 (dk_at dksX4_declare_3 3 rfl rfl)
theorem dX4_declare_76 : decode cX4_declare 76 = .ok (.getfield 97, 3) := dk_180 0 97 (dk_at dksX4_declare_3 4 rfl rfl)
theorem dX4_declare_79 : decode cX4_declare 79 = .ok (.iload 5, 2) := dk_21 5 (dk_at dksX4_declare_3 7 rfl rfl)
theorem dX4_declare_81 : decode cX4_declare 81 = .ok (.aload_n 0, 1) := dk_42 (dk_at dksX4_declare_3 9 rfl rfl)
theorem dX4_declare_82 : decode cX4_declare 82 = .ok (.getfield 70, 3) := dk_180 0 70 (dk_at dksX4_declare_3 10 rfl rfl)
theorem dX4_declare_85 : decode cX4_declare 85 = .ok (.iload 5, 2) := dk_21 5 (dk_at dksX4_declare_3 13 rfl rfl)
theorem dX4_declare_87 : decode cX4_declare 87 = .ok (.laload, 1) := dk_47 (dk_at dksX4_declare_3 15 rfl rfl)
theorem dX4_declare_88 : decode cX4_declare 88 = .ok (.lastore, 1) := dk_80 (dk_at dksX4_declare_3 16 rfl rfl)
theorem dX4_declare_89 : decode cX4_declare 89 = .ok (.aload_n 0, 1) := dk_42 (dk_at dksX4_declare_3 17 rfl rfl)
theorem dX4_declare_90 : decode cX4_declare 90 = .ok (.iload 5, 2) := dk_21 5 (dk_at dksX4_declare_3 18 rfl rfl)
theorem dX4_declare_92 : decode cX4_declare 92 = .ok (.invokevirtual 263, 3) := dk_182 1 7 (dk_at dksX4_declare_3 20 rfl rfl)
theorem dX4_declare_95 : decode cX4_declare 95 = .ok (.ifCond .eq 76, 3) := dk_153 0 76 (dk_at dksX4_declare_4 0 rfl rfl)
theorem dX4_declare_98 : decode cX4_declare 98 = .ok (.aload_n 0, 1) := dk_42 (dk_at dksX4_declare_4 3 rfl rfl)
theorem dX4_declare_99 : decode cX4_declare 99 = .ok (.iload 5, 2) := dk_21 5 (dk_at dksX4_declare_4 4 rfl rfl)
theorem dX4_declare_101 : decode cX4_declare 101 = .ok (.invokevirtual 383, 3) := dk_182 1 127 (dk_at dksX4_declare_4 6 rfl rfl)
theorem dX4_declare_104 : decode cX4_declare 104 = .ok (.ifCond .eq 67, 3) := dk_153 0 67 (dk_at dksX4_declare_4 9 rfl rfl)
theorem dX4_declare_107 : decode cX4_declare 107 = .ok (.aload_n 0, 1) := dk_42 (dk_at dksX4_declare_4 12 rfl rfl)
theorem dX4_declare_108 : decode cX4_declare 108 = .ok (.getfield 70, 3) := dk_180 0 70 (dk_at dksX4_declare_4 13 rfl rfl)
theorem dX4_declare_111 : decode cX4_declare 111 = .ok (.iload 5, 2) := dk_21 5 (dk_at dksX4_declare_4 16 rfl rfl)
theorem dX4_declare_113 : decode cX4_declare 113 = .ok (.dup2, 1) := dk_92 (dk_at dksX4_declare_4 18 rfl rfl)
theorem dX4_declare_114 : decode cX4_declare 114 = .ok (.laload, 1) := dk_47 (dk_at dksX4_declare_4 19 rfl rfl)
theorem dX4_declare_115 : decode cX4_declare 115 = .ok (.aload_n 0, 1) := dk_42 (dk_at dksX4_declare_4 20 rfl rfl)
theorem dX4_declare_116 : decode cX4_declare 116 = .ok (.getfield 67, 3) := dk_180 0 67 (dk_at dksX4_declare_4 21 rfl rfl)
theorem dX4_declare_119 : decode cX4_declare 119 = .ok (.iload 5, 2) := dk_21 5 (dk_at dksX4_declare_5 0 rfl rfl)
theorem dX4_declare_121 : decode cX4_declare 121 = .ok (.laload, 1) := dk_47 (dk_at dksX4_declare_5 2 rfl rfl)
theorem dX4_declare_122 : decode cX4_declare 122 = .ok (.aload_n 0, 1) := dk_42 (dk_at dksX4_declare_5 3 rfl rfl)
theorem dX4_declare_123 : decode cX4_declare 123 = .ok (.getfield 70, 3) := dk_180 0 70 (dk_at dksX4_declare_5 4 rfl rfl)
theorem dX4_declare_126 : decode cX4_declare 126 = .ok (.iload 5, 2) := dk_21 5 (dk_at dksX4_declare_5 7 rfl rfl)
theorem dX4_declare_128 : decode cX4_declare 128 = .ok (.laload, 1) := dk_47 (dk_at dksX4_declare_5 9 rfl rfl)
theorem dX4_declare_129 : decode cX4_declare 129 = .ok (.ladd, 1) := dk_97 (dk_at dksX4_declare_5 10 rfl rfl)
theorem dX4_declare_130 : decode cX4_declare 130 = .ok (.iload_n 1, 1) := dk_27 (dk_at dksX4_declare_5 11 rfl rfl)
theorem dX4_declare_131 : decode cX4_declare 131 = .ok (.i2l, 1) := dk_133 (dk_at dksX4_declare_5 12 rfl rfl)
theorem dX4_declare_132 : decode cX4_declare 132 = .ok (.lmul, 1) := dk_105 (dk_at dksX4_declare_5 13 rfl rfl)
theorem dX4_declare_133 : decode cX4_declare 133 = .ok (.ldc2_w 194, 3) := dk_20 0 194 (dk_at dksX4_declare_5 14 rfl rfl)
theorem dX4_declare_136 : decode cX4_declare 136 = .ok (.ldiv, 1) := dk_109 (dk_at dksX4_declare_5 17 rfl rfl)
theorem dX4_declare_137 : decode cX4_declare 137 = .ok (.ladd, 1) := dk_97 (dk_at dksX4_declare_5 18 rfl rfl)
theorem dX4_declare_138 : decode cX4_declare 138 = .ok (.lastore, 1) := dk_80 (dk_at dksX4_declare_5 19 rfl rfl)
theorem dX4_declare_139 : decode cX4_declare 139 = .ok (.iload 4, 2) := dk_21 4 (dk_at dksX4_declare_5 20 rfl rfl)
theorem dX4_declare_141 : decode cX4_declare 141 = .ok (.aload_n 0, 1) := dk_42 (dk_at dksX4_declare_5 22 rfl rfl)
theorem dX4_declare_142 : decode cX4_declare 142 = .ok (.getfield 67, 3) := dk_180 0 67 (dk_at dksX4_declare_6 0 rfl rfl)
theorem dX4_declare_145 : decode cX4_declare 145 = .ok (.iload 5, 2) := dk_21 5 (dk_at dksX4_declare_6 3 rfl rfl)
theorem dX4_declare_147 : decode cX4_declare 147 = .ok (.laload, 1) := dk_47 (dk_at dksX4_declare_6 5 rfl rfl)
theorem dX4_declare_148 : decode cX4_declare 148 = .ok (.aload_n 0, 1) := dk_42 (dk_at dksX4_declare_6 6 rfl rfl)
theorem dX4_declare_149 : decode cX4_declare 149 = .ok (.getfield 70, 3) := dk_180 0 70 (dk_at dksX4_declare_6 7 rfl rfl)
theorem dX4_declare_152 : decode cX4_declare 152 = .ok (.iload 5, 2) := dk_21 5 (dk_at dksX4_declare_6 10 rfl rfl)
theorem dX4_declare_154 : decode cX4_declare 154 = .ok (.laload, 1) := dk_47 (dk_at dksX4_declare_6 12 rfl rfl)
theorem dX4_declare_155 : decode cX4_declare 155 = .ok (.ladd, 1) := dk_97 (dk_at dksX4_declare_6 13 rfl rfl)
theorem dX4_declare_156 : decode cX4_declare 156 = .ok (.ldc2_w 394, 3) := dk_20 1 138 (dk_at dksX4_declare_6 14 rfl rfl)
theorem dX4_declare_159 : decode cX4_declare 159 = .ok (.lcmp, 1) := dk_148 (dk_at dksX4_declare_6 17 rfl rfl)
theorem dX4_declare_160 : decode cX4_declare 160 = .ok (.ifCond .le 7, 3) := dk_158 0 7 (dk_at dksX4_declare_6 18 rfl rfl)
theorem dX4_declare_163 : decode cX4_declare 163 = .ok (.iconst 1, 1) := dk_4 (dk_at dksX4_declare_6 21 rfl rfl)
theorem dX4_declare_164 : decode cX4_declare 164 = .ok (.goto 4, 3) := dk_167 0 4 (dk_at dksX4_declare_7 0 rfl rfl)
theorem dX4_declare_167 : decode cX4_declare 167 = .ok (.iconst 0, 1) := dk_3 (dk_at dksX4_declare_7 3 rfl rfl)
theorem dX4_declare_168 : decode cX4_declare 168 = .ok (.ior, 1) := dk_128 (dk_at dksX4_declare_7 4 rfl rfl)
theorem dX4_declare_169 : decode cX4_declare 169 = .ok (.istore 4, 2) := dk_54 4 (dk_at dksX4_declare_7 5 rfl rfl)
theorem dX4_declare_171 : decode cX4_declare 171 = .ok (.iinc 5 1, 3) := dk_132 5 1 (dk_at dksX4_declare_7 7 rfl rfl)
theorem dX4_declare_174 : decode cX4_declare 174 = .ok (.goto (-108), 3) := dk_167 255 148 (dk_at dksX4_declare_7 10 rfl rfl)
theorem dX4_declare_177 : decode cX4_declare 177 = .ok (.aload_n 0, 1) := dk_42 (dk_at dksX4_declare_7 13 rfl rfl)
theorem dX4_declare_178 : decode cX4_declare 178 = .ok (.iconst 0, 1) := dk_3 (dk_at dksX4_declare_7 14 rfl rfl)
theorem dX4_declare_179 : decode cX4_declare 179 = .ok (.invokevirtual 259, 3) := dk_182 1 3 (dk_at dksX4_declare_7 15 rfl rfl)
theorem dX4_declare_182 : decode cX4_declare 182 = .ok (.lload_n 2, 1) := dk_32 (dk_at dksX4_declare_7 18 rfl rfl)
theorem dX4_declare_183 : decode cX4_declare 183 = .ok (.lsub, 1) := dk_101 (dk_at dksX4_declare_7 19 rfl rfl)
theorem dX4_declare_184 : decode cX4_declare 184 = .ok (.lstore 5, 2) := dk_55 5 (dk_at dksX4_declare_7 20 rfl rfl)
theorem dX4_declare_186 : decode cX4_declare 186 = .ok (.iload 4, 2) := dk_21 4 (dk_at dksX4_declare_7 22 rfl rfl)
theorem dX4_declare_188 : decode cX4_declare 188 = .ok (.ifCond .ne 12, 3) := dk_154 0 12 (dk_at dksX4_declare_8 0 rfl rfl)
theorem dX4_declare_191 : decode cX4_declare 191 = .ok (.aload_n 0, 1) := dk_42 (dk_at dksX4_declare_8 3 rfl rfl)
theorem dX4_declare_192 : decode cX4_declare 192 = .ok (.invokevirtual 361, 3) := dk_182 1 105 (dk_at dksX4_declare_8 4 rfl rfl)
theorem dX4_declare_195 : decode cX4_declare 195 = .ok (.lconst 0, 1) := dk_9 (dk_at dksX4_declare_8 7 rfl rfl)
theorem dX4_declare_196 : decode cX4_declare 196 = .ok (.lcmp, 1) := dk_148 (dk_at dksX4_declare_8 8 rfl rfl)
theorem dX4_declare_197 : decode cX4_declare 197 = .ok (.ifCond .ge 42, 3) := dk_156 0 42 (dk_at dksX4_declare_8 9 rfl rfl)
theorem dX4_declare_200 : decode cX4_declare 200 = .ok (.iconst 0, 1) := dk_3 (dk_at dksX4_declare_8 12 rfl rfl)
theorem dX4_declare_201 : decode cX4_declare 201 = .ok (.istore 7, 2) := dk_54 7 (dk_at dksX4_declare_8 13 rfl rfl)
theorem dX4_declare_203 : decode cX4_declare 203 = .ok (.iload 7, 2) := dk_21 7 (dk_at dksX4_declare_8 15 rfl rfl)
theorem dX4_declare_205 : decode cX4_declare 205 = .ok (.aload_n 0, 1) := dk_42 (dk_at dksX4_declare_8 17 rfl rfl)
theorem dX4_declare_206 : decode cX4_declare 206 = .ok (.getfield 146, 3) := dk_180 0 146 (dk_at dksX4_declare_8 18 rfl rfl)
theorem dX4_declare_209 : decode cX4_declare 209 = .ok (.if_icmp .ge 23, 3) := dk_162 0 23 (dk_at dksX4_declare_8 21 rfl rfl)
theorem dX4_declare_212 : decode cX4_declare 212 = .ok (.aload_n 0, 1) := dk_42 (dk_at dksX4_declare_9 0 rfl rfl)
theorem dX4_declare_213 : decode cX4_declare 213 = .ok (.getfield 70, 3) := dk_180 0 70 (dk_at dksX4_declare_9 1 rfl rfl)
theorem dX4_declare_216 : decode cX4_declare 216 = .ok (.iload 7, 2) := dk_21 7 (dk_at dksX4_declare_9 4 rfl rfl)
theorem dX4_declare_218 : decode cX4_declare 218 = .ok (.aload_n 0, 1) := dk_42 (dk_at dksX4_declare_9 6 rfl rfl)
theorem dX4_declare_219 : decode cX4_declare 219 = .ok (.getfield 97, 3) := dk_180 0 97 (dk_at dksX4_declare_9 7 rfl rfl)
theorem dX4_declare_222 : decode cX4_declare 222 = .ok (.iload 7, 2) := dk_21 7 (dk_at dksX4_declare_9 10 rfl rfl)
theorem dX4_declare_224 : decode cX4_declare 224 = .ok (.laload, 1) := dk_47 (dk_at dksX4_declare_9 12 rfl rfl)
theorem dX4_declare_225 : decode cX4_declare 225 = .ok (.lastore, 1) := dk_80 (dk_at dksX4_declare_9 13 rfl rfl)
theorem dX4_declare_226 : decode cX4_declare 226 = .ok (.iinc 7 1, 3) := dk_132 7 1 (dk_at dksX4_declare_9 14 rfl rfl)
theorem dX4_declare_229 : decode cX4_declare 229 = .ok (.goto (-26), 3) := dk_167 255 230 (dk_at dksX4_declare_9 17 rfl rfl)
theorem dX4_declare_232 : decode cX4_declare 232 = .ok (.aload_n 0, 1) := dk_42 (dk_at dksX4_declare_9 20 rfl rfl)
theorem dX4_declare_233 : decode cX4_declare 233 = .ok (.iconst 2, 1) := dk_5 (dk_at dksX4_declare_9 21 rfl rfl)
theorem dX4_declare_234 : decode cX4_declare 234 = .ok (.invokevirtual 342, 3) := dk_182 1 86 (dk_at dksX4_declare_10 0 rfl rfl)
theorem dX4_declare_237 : decode cX4_declare 237 = .ok (.i2l, 1) := dk_133 (dk_at dksX4_declare_10 3 rfl rfl)
theorem dX4_declare_238 : decode cX4_declare 238 = .ok (.lreturn, 1) := dk_173 (dk_at dksX4_declare_10 4 rfl rfl)
theorem dX4_declare_239 : decode cX4_declare 239 = .ok (.aload_n 0, 1) := dk_42 (dk_at dksX4_declare_10 5 rfl rfl)
theorem dX4_declare_240 : decode cX4_declare 240 = .ok (.getfield 24, 3) := dk_180 0 24 (dk_at dksX4_declare_10 6 rfl rfl)
theorem dX4_declare_243 : decode cX4_declare 243 = .ok (.iconst 5, 1) := dk_8 (dk_at dksX4_declare_10 9 rfl rfl)
theorem dX4_declare_244 : decode cX4_declare 244 = .ok (.dup2, 1) := dk_92 (dk_at dksX4_declare_10 10 rfl rfl)
theorem dX4_declare_245 : decode cX4_declare 245 = .ok (.laload, 1) := dk_47 (dk_at dksX4_declare_10 11 rfl rfl)
theorem dX4_declare_246 : decode cX4_declare 246 = .ok (.lload 5, 2) := dk_22 5 (dk_at dksX4_declare_10 12 rfl rfl)
theorem dX4_declare_248 : decode cX4_declare 248 = .ok (.lsub, 1) := dk_101 (dk_at dksX4_declare_10 14 rfl rfl)
theorem dX4_declare_249 : decode cX4_declare 249 = .ok (.lastore, 1) := dk_80 (dk_at dksX4_declare_10 15 rfl rfl)
theorem dX4_declare_250 : decode cX4_declare 250 = .ok (.aload_n 0, 1) := dk_42 (dk_at dksX4_declare_10 16 rfl rfl)
theorem dX4_declare_251 : decode cX4_declare 251 = .ok (.iconst 1, 1) := dk_4 (dk_at dksX4_declare_10 17 rfl rfl)
theorem dX4_declare_252 : decode cX4_declare 252 = .ok (.putfield 152, 3) := dk_181 0 152 (dk_at dksX4_declare_10 18 rfl rfl)
theorem dX4_declare_255 : decode cX4_declare 255 = .ok (.aload_n 0, 1) := dk_42 (dk_at dksX4_declare_10 21 rfl rfl)
theorem dX4_declare_256 : decode cX4_declare 256 = .ok (.iload_n 1, 1) := dk_27 (dk_at dksX4_declare_10 22 rfl rfl)
theorem dX4_declare_257 : decode cX4_declare 257 = .ok (.putfield 133, 3) := dk_181 0 133 (dk_at dksX4_declare_11 0 rfl rfl)
theorem dX4_declare_260 : decode cX4_declare 260 = .ok (.lload 5, 2) := dk_22 5 (dk_at dksX4_declare_11 3 rfl rfl)
theorem dX4_declare_262 : decode cX4_declare 262 = .ok (.lreturn, 1) := dk_173 (dk_at dksX4_declare_11 5 rfl rfl)
abbrev cX4_setSmoothing : ByteArray := prog_12_method_72_code
def yX4_setSmoothing : MethodName := ⟨RX4, "setSmoothing", "(I)I"⟩
def dkwX4_setSmoothing_1 : List UInt8 := [180, 0, 130, 61, 42, 27, 181, 0, 130, 28, 172]
abbrev dktX4_setSmoothing_1 : List UInt8 := dkwX4_setSmoothing_1 ++ []
def dkwX4_setSmoothing_0 : List UInt8 := [42, 3, 181, 0, 1, 27, 133, 9, 20, 0, 196, 184, 0, 168, 154, 0, 9, 42, 4, 182, 1, 86, 172, 42]
abbrev dktX4_setSmoothing_0 : List UInt8 := dkwX4_setSmoothing_0 ++ dktX4_setSmoothing_1
theorem dksX4_setSmoothing_0 : cX4_setSmoothing.data.toList.drop 0 = dktX4_setSmoothing_0 := by decide +kernel
theorem dksX4_setSmoothing_1 : cX4_setSmoothing.data.toList.drop 24 = dktX4_setSmoothing_1 := dk_seg dksX4_setSmoothing_0 24 rfl rfl
theorem dX4_setSmoothing_0 : decode cX4_setSmoothing 0 = .ok (.aload_n 0, 1) := dk_42 (dk_at dksX4_setSmoothing_0 0 rfl rfl)
theorem dX4_setSmoothing_1 : decode cX4_setSmoothing 1 = .ok (.iconst 0, 1) := dk_3 (dk_at dksX4_setSmoothing_0 1 rfl rfl)
theorem dX4_setSmoothing_2 : decode cX4_setSmoothing 2 = .ok (.putfield 1, 3) := dk_181 0 1 (dk_at dksX4_setSmoothing_0 2 rfl rfl)
theorem dX4_setSmoothing_5 : decode cX4_setSmoothing 5 = .ok (.iload_n 1, 1) := dk_27 (dk_at dksX4_setSmoothing_0 5 rfl rfl)
theorem dX4_setSmoothing_6 : decode cX4_setSmoothing 6 = .ok (.i2l, 1) := dk_133 (dk_at dksX4_setSmoothing_0 6 rfl rfl)
theorem dX4_setSmoothing_7 : decode cX4_setSmoothing 7 = .ok (.lconst 0, 1) := dk_9 (dk_at dksX4_setSmoothing_0 7 rfl rfl)
theorem dX4_setSmoothing_8 : decode cX4_setSmoothing 8 = .ok (.ldc2_w 196, 3) := dk_20 0 196 (dk_at dksX4_setSmoothing_0 8 rfl rfl)
theorem dX4_setSmoothing_11 : decode cX4_setSmoothing 11 = .ok (.invokestatic 168, 3) := dk_184 0 168 (dk_at dksX4_setSmoothing_0 11 rfl rfl)
theorem dX4_setSmoothing_14 : decode cX4_setSmoothing 14 = .ok (.ifCond .ne 9, 3) := dk_154 0 9 (dk_at dksX4_setSmoothing_0 14 rfl rfl)
theorem dX4_setSmoothing_17 : decode cX4_setSmoothing 17 = .ok (.aload_n 0, 1) := dk_42 (dk_at dksX4_setSmoothing_0 17 rfl rfl)
theorem dX4_setSmoothing_18 : decode cX4_setSmoothing 18 = .ok (.iconst 1, 1) := dk_4 (dk_at dksX4_setSmoothing_0 18 rfl rfl)
theorem dX4_setSmoothing_19 : decode cX4_setSmoothing 19 = .ok (.invokevirtual 342, 3) := dk_182 1 86 (dk_at dksX4_setSmoothing_0 19 rfl rfl)
theorem dX4_setSmoothing_22 : decode cX4_setSmoothing 22 = .ok (.ireturn, 1) := dk_172 (dk_at dksX4_setSmoothing_0 22 rfl rfl)
theorem dX4_setSmoothing_23 : decode cX4_setSmoothing 23 = .ok (.aload_n 0, 1) := dk_42 (dk_at dksX4_setSmoothing_0 23 rfl rfl)
theorem dX4_setSmoothing_24 : decode cX4_setSmoothing 24 = .ok (.getfield 130, 3) := dk_180 0 130 (dk_at dksX4_setSmoothing_1 0 rfl rfl)
theorem dX4_setSmoothing_27 : decode cX4_setSmoothing 27 = .ok (.istore_n 2, 1) := dk_61 (dk_at dksX4_setSmoothing_1 3 rfl rfl)
theorem dX4_setSmoothing_28 : decode cX4_setSmoothing 28 = .ok (.aload_n 0, 1) := dk_42 (dk_at dksX4_setSmoothing_1 4 rfl rfl)
theorem dX4_setSmoothing_29 : decode cX4_setSmoothing 29 = .ok (.iload_n 1, 1) := dk_27 (dk_at dksX4_setSmoothing_1 5 rfl rfl)
theorem dX4_setSmoothing_30 : decode cX4_setSmoothing 30 = .ok (.putfield 130, 3) := dk_181 0 130 (dk_at dksX4_setSmoothing_1 6 rfl rfl)
theorem dX4_setSmoothing_33 : decode cX4_setSmoothing 33 = .ok (.iload_n 2, 1) := dk_28 (dk_at dksX4_setSmoothing_1 9 rfl rfl)
theorem dX4_setSmoothing_34 : decode cX4_setSmoothing 34 = .ok (.ireturn, 1) := dk_172 (dk_at dksX4_setSmoothing_1 10 rfl rfl)
abbrev cX4_setFinal : ByteArray := prog_12_method_73_code
def yX4_setFinal : MethodName := ⟨RX4, "setFinal", "(I)I"⟩
def dkwX4_setFinal_2 : List UInt8 := [42, 180, 0, 136, 61, 42, 27, 181, 0, 136, 28, 172]
abbrev dktX4_setFinal_2 : List UInt8 := dkwX4_setFinal_2 ++ []
def dkwX4_setFinal_1 : List UInt8 := [42, 180, 0, 136, 100, 184, 1, 135, 16, 20, 42, 180, 0, 130, 104, 164, 0, 9, 42, 5, 182, 1, 86, 172]
abbrev dktX4_setFinal_1 : List UInt8 := dkwX4_setFinal_1 ++ dktX4_setFinal_2
def dkwX4_setFinal_0 : List UInt8 := [42, 3, 181, 0, 1, 27, 133, 9, 20, 0, 194, 184, 0, 168, 154, 0, 9, 42, 4, 182, 1, 86, 172, 27]
abbrev dktX4_setFinal_0 : List UInt8 := dkwX4_setFinal_0 ++ dktX4_setFinal_1
theorem dksX4_setFinal_0 : cX4_setFinal.data.toList.drop 0 = dktX4_setFinal_0 := by decide +kernel
theorem dksX4_setFinal_1 : cX4_setFinal.data.toList.drop 24 = dktX4_setFinal_1 := dk_seg dksX4_setFinal_0 24 rfl rfl
theorem dksX4_setFinal_2 : cX4_setFinal.data.toList.drop 48 = dktX4_setFinal_2 := dk_seg dksX4_setFinal_1 24 rfl rfl
theorem dX4_setFinal_0 : decode cX4_setFinal 0 = .ok (.aload_n 0, 1) := dk_42 (dk_at dksX4_setFinal_0 0 rfl rfl)
theorem dX4_setFinal_1 : decode cX4_setFinal 1 = .ok (.iconst 0, 1) := dk_3 (dk_at dksX4_setFinal_0 1 rfl rfl)
theorem dX4_setFinal_2 : decode cX4_setFinal 2 = .ok (.putfield 1, 3) := dk_181 0 1 (dk_at dksX4_setFinal_0 2 rfl rfl)
theorem dX4_setFinal_5 : decode cX4_setFinal 5 = .ok (.iload_n 1, 1) := dk_27 (dk_at dksX4_setFinal_0 5 rfl rfl)
theorem dX4_setFinal_6 : decode cX4_setFinal 6 = .ok (.i2l, 1) := dk_133 (dk_at dksX4_setFinal_0 6 rfl rfl)
theorem dX4_setFinal_7 : decode cX4_setFinal 7 = .ok (.lconst 0, 1) := dk_9 (dk_at dksX4_setFinal_0 7 rfl rfl)
theorem dX4_setFinal_8 : decode cX4_setFinal 8 = .ok (.ldc2_w 194, 3) := dk_20 0 194 (dk_at dksX4_setFinal_0 8 rfl rfl)
theorem dX4_setFinal_11 : decode cX4_setFinal 11 = .ok (.invokestatic 168, 3) := dk_184 0 168 (dk_at dksX4_setFinal_0 11 rfl rfl)
theorem dX4_setFinal_14 : decode cX4_setFinal 14 = .ok (.ifCond .ne 9, 3) := dk_154 0 9 (dk_at dksX4_setFinal_0 14 rfl rfl)
theorem dX4_setFinal_17 : decode cX4_setFinal 17 = .ok (.aload_n 0, 1) := dk_42 (dk_at dksX4_setFinal_0 17 rfl rfl)
theorem dX4_setFinal_18 : decode cX4_setFinal 18 = .ok (.iconst 1, 1) := dk_4 (dk_at dksX4_setFinal_0 18 rfl rfl)
theorem dX4_setFinal_19 : decode cX4_setFinal 19 = .ok (.invokevirtual 342, 3) := dk_182 1 86 (dk_at dksX4_setFinal_0 19 rfl rfl)
theorem dX4_setFinal_22 : decode cX4_setFinal 22 = .ok (.ireturn, 1) := dk_172 (dk_at dksX4_setFinal_0 22 rfl rfl)
theorem dX4_setFinal_23 : decode cX4_setFinal 23 = .ok (.iload_n 1, 1) := dk_27 (dk_at dksX4_setFinal_0 23 rfl rfl)
theorem dX4_setFinal_24 : decode cX4_setFinal 24 = .ok (.aload_n 0, 1) := dk_42 (dk_at dksX4_setFinal_1 0 rfl rfl)
theorem dX4_setFinal_25 : decode cX4_setFinal 25 = .ok (.getfield 136, 3) := dk_180 0 136 (dk_at dksX4_setFinal_1 1 rfl rfl)
theorem dX4_setFinal_28 : decode cX4_setFinal 28 = .ok (.isub, 1) := dk_100 (dk_at dksX4_setFinal_1 4 rfl rfl)
theorem dX4_setFinal_29 : decode cX4_setFinal 29 = .ok (.invokestatic 391, 3) := dk_184 1 135 (dk_at dksX4_setFinal_1 5 rfl rfl)
theorem dX4_setFinal_32 : decode cX4_setFinal 32 = .ok (.bipush 20, 2) := dk_16 20 (dk_at dksX4_setFinal_1 8 rfl rfl)
theorem dX4_setFinal_34 : decode cX4_setFinal 34 = .ok (.aload_n 0, 1) := dk_42 (dk_at dksX4_setFinal_1 10 rfl rfl)
theorem dX4_setFinal_35 : decode cX4_setFinal 35 = .ok (.getfield 130, 3) := dk_180 0 130 (dk_at dksX4_setFinal_1 11 rfl rfl)
theorem dX4_setFinal_38 : decode cX4_setFinal 38 = .ok (.imul, 1) := dk_104 (dk_at dksX4_setFinal_1 14 rfl rfl)
theorem dX4_setFinal_39 : decode cX4_setFinal 39 = .ok (.if_icmp .le 9, 3) := dk_164 0 9 (dk_at dksX4_setFinal_1 15 rfl rfl)
theorem dX4_setFinal_42 : decode cX4_setFinal 42 = .ok (.aload_n 0, 1) := dk_42 (dk_at dksX4_setFinal_1 18 rfl rfl)
theorem dX4_setFinal_43 : decode cX4_setFinal 43 = .ok (.iconst 2, 1) := dk_5 (dk_at dksX4_setFinal_1 19 rfl rfl)
theorem dX4_setFinal_44 : decode cX4_setFinal 44 = .ok (.invokevirtual 342, 3) := dk_182 1 86 (dk_at dksX4_setFinal_1 20 rfl rfl)
theorem dX4_setFinal_47 : decode cX4_setFinal 47 = .ok (.ireturn, 1) := dk_172 (dk_at dksX4_setFinal_1 23 rfl rfl)
theorem dX4_setFinal_48 : decode cX4_setFinal 48 = .ok (.aload_n 0, 1) := dk_42 (dk_at dksX4_setFinal_2 0 rfl rfl)
theorem dX4_setFinal_49 : decode cX4_setFinal 49 = .ok (.getfield 136, 3) := dk_180 0 136 (dk_at dksX4_setFinal_2 1 rfl rfl)
theorem dX4_setFinal_52 : decode cX4_setFinal 52 = .ok (.istore_n 2, 1) := dk_61 (dk_at dksX4_setFinal_2 4 rfl rfl)
theorem dX4_setFinal_53 : decode cX4_setFinal 53 = .ok (.aload_n 0, 1) := dk_42 (dk_at dksX4_setFinal_2 5 rfl rfl)
theorem dX4_setFinal_54 : decode cX4_setFinal 54 = .ok (.iload_n 1, 1) := dk_27 (dk_at dksX4_setFinal_2 6 rfl rfl)
theorem dX4_setFinal_55 : decode cX4_setFinal 55 = .ok (.putfield 136, 3) := dk_181 0 136 (dk_at dksX4_setFinal_2 7 rfl rfl)
theorem dX4_setFinal_58 : decode cX4_setFinal 58 = .ok (.iload_n 2, 1) := dk_28 (dk_at dksX4_setFinal_2 10 rfl rfl)
theorem dX4_setFinal_59 : decode cX4_setFinal 59 = .ok (.ireturn, 1) := dk_172 (dk_at dksX4_setFinal_2 11 rfl rfl)
abbrev cX4_buyBond : ByteArray := prog_12_method_74_code
def yX4_buyBond : MethodName := ⟨RX4, "buyBond", "(III)I"⟩
def dkwX4_buyBond_8 : List UInt8 := [181, 0, 117, 42, 180, 0, 149, 172]
abbrev dktX4_buyBond_8 : List UInt8 := dkwX4_buyBond_8 ++ []
def dkwX4_buyBond_7 : List UInt8 := [180, 0, 91, 21, 4, 28, 79, 42, 180, 0, 94, 21, 4, 29, 79, 42, 89, 180, 0, 117, 28, 133, 101]
abbrev dktX4_buyBond_7 : List UInt8 := dkwX4_buyBond_7 ++ dktX4_buyBond_8
def dkwX4_buyBond_6 : List UInt8 := [180, 0, 94, 21, 4, 4, 100, 46, 79, 132, 4, 255, 167, 255, 187, 42, 180, 0, 88, 21, 4, 27, 79, 42]
abbrev dktX4_buyBond_6 : List UInt8 := dkwX4_buyBond_6 ++ dktX4_buyBond_7
def dkwX4_buyBond_5 : List UInt8 := [79, 42, 180, 0, 91, 21, 4, 42, 180, 0, 91, 21, 4, 4, 100, 46, 79, 42, 180, 0, 94, 21, 4, 42]
abbrev dktX4_buyBond_5 : List UInt8 := dkwX4_buyBond_5 ++ dktX4_buyBond_6
def dkwX4_buyBond_4 : List UInt8 := [21, 4, 4, 100, 46, 27, 164, 0, 57, 42, 180, 0, 88, 21, 4, 42, 180, 0, 88, 21, 4, 4, 100, 46]
abbrev dktX4_buyBond_4 : List UInt8 := dkwX4_buyBond_4 ++ dktX4_buyBond_5
def dkwX4_buyBond_3 : List UInt8 := [172, 42, 89, 180, 0, 149, 90, 4, 96, 181, 0, 149, 54, 4, 21, 4, 158, 0, 70, 42, 180, 0, 88]
abbrev dktX4_buyBond_3 : List UInt8 := dkwX4_buyBond_3 ++ dktX4_buyBond_4
def dkwX4_buyBond_2 : List UInt8 := [42, 180, 0, 149, 16, 16, 159, 0, 13, 42, 180, 0, 117, 28, 133, 148, 156, 0, 9, 42, 5, 182, 1, 86]
abbrev dktX4_buyBond_2 : List UInt8 := dkwX4_buyBond_2 ++ dktX4_buyBond_3
def dkwX4_buyBond_1 : List UInt8 := [184, 0, 168, 153, 0, 15, 29, 133, 9, 20, 1, 93, 184, 0, 168, 154, 0, 9, 42, 4, 182, 1, 86, 172]
abbrev dktX4_buyBond_1 : List UInt8 := dkwX4_buyBond_1 ++ dktX4_buyBond_2
def dkwX4_buyBond_0 : List UInt8 := [42, 3, 181, 0, 1, 27, 133, 10, 20, 1, 74, 184, 0, 168, 153, 0, 27, 28, 133, 10, 20, 1, 138]
abbrev dktX4_buyBond_0 : List UInt8 := dkwX4_buyBond_0 ++ dktX4_buyBond_1
theorem dksX4_buyBond_0 : cX4_buyBond.data.toList.drop 0 = dktX4_buyBond_0 := by decide +kernel
theorem dksX4_buyBond_1 : cX4_buyBond.data.toList.drop 23 = dktX4_buyBond_1 := dk_seg dksX4_buyBond_0 23 rfl rfl
theorem dksX4_buyBond_2 : cX4_buyBond.data.toList.drop 47 = dktX4_buyBond_2 := dk_seg dksX4_buyBond_1 24 rfl rfl
theorem dksX4_buyBond_3 : cX4_buyBond.data.toList.drop 71 = dktX4_buyBond_3 := dk_seg dksX4_buyBond_2 24 rfl rfl
theorem dksX4_buyBond_4 : cX4_buyBond.data.toList.drop 94 = dktX4_buyBond_4 := dk_seg dksX4_buyBond_3 23 rfl rfl
theorem dksX4_buyBond_5 : cX4_buyBond.data.toList.drop 118 = dktX4_buyBond_5 := dk_seg dksX4_buyBond_4 24 rfl rfl
theorem dksX4_buyBond_6 : cX4_buyBond.data.toList.drop 142 = dktX4_buyBond_6 := dk_seg dksX4_buyBond_5 24 rfl rfl
theorem dksX4_buyBond_7 : cX4_buyBond.data.toList.drop 166 = dktX4_buyBond_7 := dk_seg dksX4_buyBond_6 24 rfl rfl
theorem dksX4_buyBond_8 : cX4_buyBond.data.toList.drop 189 = dktX4_buyBond_8 := dk_seg dksX4_buyBond_7 23 rfl rfl
theorem dX4_buyBond_0 : decode cX4_buyBond 0 = .ok (.aload_n 0, 1) := dk_42 (dk_at dksX4_buyBond_0 0 rfl rfl)
theorem dX4_buyBond_1 : decode cX4_buyBond 1 = .ok (.iconst 0, 1) := dk_3 (dk_at dksX4_buyBond_0 1 rfl rfl)
theorem dX4_buyBond_2 : decode cX4_buyBond 2 = .ok (.putfield 1, 3) := dk_181 0 1 (dk_at dksX4_buyBond_0 2 rfl rfl)
theorem dX4_buyBond_5 : decode cX4_buyBond 5 = .ok (.iload_n 1, 1) := dk_27 (dk_at dksX4_buyBond_0 5 rfl rfl)
theorem dX4_buyBond_6 : decode cX4_buyBond 6 = .ok (.i2l, 1) := dk_133 (dk_at dksX4_buyBond_0 6 rfl rfl)
theorem dX4_buyBond_7 : decode cX4_buyBond 7 = .ok (.lconst 1, 1) := dk_10 (dk_at dksX4_buyBond_0 7 rfl rfl)
theorem dX4_buyBond_8 : decode cX4_buyBond 8 = .ok (.ldc2_w 330, 3) := dk_20 1 74 (dk_at dksX4_buyBond_0 8 rfl rfl)
theorem dX4_buyBond_11 : decode cX4_buyBond 11 = .ok (.invokestatic 168, 3) := dk_184 0 168 (dk_at dksX4_buyBond_0 11 rfl rfl)
theorem dX4_buyBond_14 : decode cX4_buyBond 14 = .ok (.ifCond .eq 27, 3) := dk_153 0 27 (dk_at dksX4_buyBond_0 14 rfl rfl)
theorem dX4_buyBond_17 : decode cX4_buyBond 17 = .ok (.iload_n 2, 1) := dk_28 (dk_at dksX4_buyBond_0 17 rfl rfl)
theorem dX4_buyBond_18 : decode cX4_buyBond 18 = .ok (.i2l, 1) := dk_133 (dk_at dksX4_buyBond_0 18 rfl rfl)
theorem dX4_buyBond_19 : decode cX4_buyBond 19 = .ok (.lconst 1, 1) := dk_10 (dk_at dksX4_buyBond_0 19 rfl rfl)
theorem dX4_buyBond_20 : decode cX4_buyBond 20 = .ok (.ldc2_w 394, 3) := dk_20 1 138 (dk_at dksX4_buyBond_0 20 rfl rfl)
theorem dX4_buyBond_23 : decode cX4_buyBond 23 = .ok (.invokestatic 168, 3) := dk_184 0 168 (dk_at dksX4_buyBond_1 0 rfl rfl)
theorem dX4_buyBond_26 : decode cX4_buyBond 26 = .ok (.ifCond .eq 15, 3) := dk_153 0 15 (dk_at dksX4_buyBond_1 3 rfl rfl)
theorem dX4_buyBond_29 : decode cX4_buyBond 29 = .ok (.iload_n 3, 1) := dk_29 (dk_at dksX4_buyBond_1 6 rfl rfl)
theorem dX4_buyBond_30 : decode cX4_buyBond 30 = .ok (.i2l, 1) := dk_133 (dk_at dksX4_buyBond_1 7 rfl rfl)
theorem dX4_buyBond_31 : decode cX4_buyBond 31 = .ok (.lconst 0, 1) := dk_9 (dk_at dksX4_buyBond_1 8 rfl rfl)
theorem dX4_buyBond_32 : decode cX4_buyBond 32 = .ok (.ldc2_w 349, 3) := dk_20 1 93 (dk_at dksX4_buyBond_1 9 rfl rfl)
theorem dX4_buyBond_35 : decode cX4_buyBond 35 = .ok (.invokestatic 168, 3) := dk_184 0 168 (dk_at dksX4_buyBond_1 12 rfl rfl)
theorem dX4_buyBond_38 : decode cX4_buyBond 38 = .ok (.ifCond .ne 9, 3) := dk_154 0 9 (dk_at dksX4_buyBond_1 15 rfl rfl)
theorem dX4_buyBond_41 : decode cX4_buyBond 41 = .ok (.aload_n 0, 1) := dk_42 (dk_at dksX4_buyBond_1 18 rfl rfl)
theorem dX4_buyBond_42 : decode cX4_buyBond 42 = .ok (.iconst 1, 1) := dk_4 (dk_at dksX4_buyBond_1 19 rfl rfl)
theorem dX4_buyBond_43 : decode cX4_buyBond 43 = .ok (.invokevirtual 342, 3) := dk_182 1 86 (dk_at dksX4_buyBond_1 20 rfl rfl)
theorem dX4_buyBond_46 : decode cX4_buyBond 46 = .ok (.ireturn, 1) := dk_172 (dk_at dksX4_buyBond_1 23 rfl rfl)
theorem dX4_buyBond_47 : decode cX4_buyBond 47 = .ok (.aload_n 0, 1) := dk_42 (dk_at dksX4_buyBond_2 0 rfl rfl)
theorem dX4_buyBond_48 : decode cX4_buyBond 48 = .ok (.getfield 149, 3) := dk_180 0 149 (dk_at dksX4_buyBond_2 1 rfl rfl)
theorem dX4_buyBond_51 : decode cX4_buyBond 51 = .ok (.bipush 16, 2) := dk_16 16 (dk_at dksX4_buyBond_2 4 rfl rfl)
theorem dX4_buyBond_53 : decode cX4_buyBond 53 = .ok (.if_icmp .eq 13, 3) := dk_159 0 13 (dk_at dksX4_buyBond_2 6 rfl rfl)
theorem dX4_buyBond_56 : decode cX4_buyBond 56 = .ok (.aload_n 0, 1) := dk_42 (dk_at dksX4_buyBond_2 9 rfl rfl)
theorem dX4_buyBond_57 : decode cX4_buyBond 57 = .ok (.getfield 117, 3) := dk_180 0 117 (dk_at dksX4_buyBond_2 10 rfl rfl)
theorem dX4_buyBond_60 : decode cX4_buyBond 60 = .ok (.iload_n 2, 1) := dk_28 (dk_at dksX4_buyBond_2 13 rfl rfl)
theorem dX4_buyBond_61 : decode cX4_buyBond 61 = .ok (.i2l, 1) := dk_133 (dk_at dksX4_buyBond_2 14 rfl rfl)
theorem dX4_buyBond_62 : decode cX4_buyBond 62 = .ok (.lcmp, 1) := dk_148 (dk_at dksX4_buyBond_2 15 rfl rfl)
theorem dX4_buyBond_63 : decode cX4_buyBond 63 = .ok (.ifCond .ge 9, 3) := dk_156 0 9 (dk_at dksX4_buyBond_2 16 rfl rfl)
theorem dX4_buyBond_66 : decode cX4_buyBond 66 = .ok (.aload_n 0, 1) := dk_42 (dk_at dksX4_buyBond_2 19 rfl rfl)
theorem dX4_buyBond_67 : decode cX4_buyBond 67 = .ok (.iconst 2, 1) := dk_5 (dk_at dksX4_buyBond_2 20 rfl rfl)
theorem dX4_buyBond_68 : decode cX4_buyBond 68 = .ok (.invokevirtual 342, 3) := dk_182 1 86 (dk_at dksX4_buyBond_2 21 rfl rfl)
theorem dX4_buyBond_71 : decode cX4_buyBond 71 = .ok (.ireturn, 1) := dk_172 (dk_at dksX4_buyBond_3 0 rfl rfl)
theorem dX4_buyBond_72 : decode cX4_buyBond 72 = .ok (.aload_n 0, 1) := dk_42 (dk_at dksX4_buyBond_3 1 rfl rfl)
theorem dX4_buyBond_73 : decode cX4_buyBond 73 = .ok (.dup, 1) := dk_89 (dk_at dksX4_buyBond_3 2 rfl rfl)
theorem dX4_buyBond_74 : decode cX4_buyBond 74 = .ok (.getfield 149, 3) := dk_180 0 149 (dk_at dksX4_buyBond_3 3 rfl rfl)
theorem dX4_buyBond_77 : decode cX4_buyBond 77 = .ok (.dup_x1, 1) := dk_90 (dk_at dksX4_buyBond_3 6 rfl rfl)
theorem dX4_buyBond_78 : decode cX4_buyBond 78 = .ok (.iconst 1, 1) := dk_4 (dk_at dksX4_buyBond_3 7 rfl rfl)
theorem dX4_buyBond_79 : decode cX4_buyBond 79 = .ok (.iadd, 1) := dk_96 (dk_at dksX4_buyBond_3 8 rfl rfl)
theorem dX4_buyBond_80 : decode cX4_buyBond 80 = .ok (.putfield 149, 3) := dk_181 0 149 (dk_at dksX4_buyBond_3 9 rfl rfl)
theorem dX4_buyBond_83 : decode cX4_buyBond 83 = .ok (.istore 4, 2) := dk_54 4 (dk_at dksX4_buyBond_3 12 rfl rfl)
theorem dX4_buyBond_85 : decode cX4_buyBond 85 = .ok (.iload 4, 2) := dk_21 4 (dk_at dksX4_buyBond_3 14 rfl rfl)
theorem dX4_buyBond_87 : decode cX4_buyBond 87 = .ok (.ifCond .le 70, 3) := dk_158 0 70 (dk_at dksX4_buyBond_3 16 rfl rfl)
theorem dX4_buyBond_90 : decode cX4_buyBond 90 = .ok (.aload_n 0, 1) := dk_42 (dk_at dksX4_buyBond_3 19 rfl rfl)
theorem dX4_buyBond_91 : decode cX4_buyBond 91 = .ok (.getfield 88, 3) := dk_180 0 88 (dk_at dksX4_buyBond_3 20 rfl rfl)
theorem dX4_buyBond_94 : decode cX4_buyBond 94 = .ok (.iload 4, 2) := dk_21 4 (dk_at dksX4_buyBond_4 0 rfl rfl)
theorem dX4_buyBond_96 : decode cX4_buyBond 96 = .ok (.iconst 1, 1) := dk_4 (dk_at dksX4_buyBond_4 2 rfl rfl)
theorem dX4_buyBond_97 : decode cX4_buyBond 97 = .ok (.isub, 1) := dk_100 (dk_at dksX4_buyBond_4 3 rfl rfl)
theorem dX4_buyBond_98 : decode cX4_buyBond 98 = .ok (.iaload, 1) := dk_46 (dk_at dksX4_buyBond_4 4 rfl rfl)
theorem dX4_buyBond_99 : decode cX4_buyBond 99 = .ok (.iload_n 1, 1) := dk_27 (dk_at dksX4_buyBond_4 5 rfl rfl)
theorem dX4_buyBond_100 : decode cX4_buyBond 100 = .ok (.if_icmp .le 57, 3) := dk_164 0 57 (dk_at dksX4_buyBond_4 6 rfl rfl)
theorem dX4_buyBond_103 : decode cX4_buyBond 103 = .ok (.aload_n 0, 1) := dk_42 (dk_at dksX4_buyBond_4 9 rfl rfl)
theorem dX4_buyBond_104 : decode cX4_buyBond 104 = .ok (.getfield 88, 3) := dk_180 0 88 (dk_at dksX4_buyBond_4 10 rfl rfl)
theorem dX4_buyBond_107 : decode cX4_buyBond 107 = .ok (.iload 4, 2) := dk_21 4 (dk_at dksX4_buyBond_4 13 rfl rfl)
theorem dX4_buyBond_109 : decode cX4_buyBond 109 = .ok (.aload_n 0, 1) := dk_42 (dk_at dksX4_buyBond_4 15 rfl rfl)
theorem dX4_buyBond_110 : decode cX4_buyBond 110 = .ok (.getfield 88, 3) := dk_180 0 88 (dk_at dksX4_buyBond_4 16 rfl rfl)
theorem dX4_buyBond_113 : decode cX4_buyBond 113 = .ok (.iload 4, 2) := dk_21 4 (dk_at dksX4_buyBond_4 19 rfl rfl)
theorem dX4_buyBond_115 : decode cX4_buyBond 115 = .ok (.iconst 1, 1) := dk_4 (dk_at dksX4_buyBond_4 21 rfl rfl)
theorem dX4_buyBond_116 : decode cX4_buyBond 116 = .ok (.isub, 1) := dk_100 (dk_at dksX4_buyBond_4 22 rfl rfl)
theorem dX4_buyBond_117 : decode cX4_buyBond 117 = .ok (.iaload, 1) := dk_46 (dk_at dksX4_buyBond_4 23 rfl rfl)
theorem dX4_buyBond_118 : decode cX4_buyBond 118 = .ok (.iastore, 1) := dk_79 (dk_at dksX4_buyBond_5 0 rfl rfl)
theorem dX4_buyBond_119 : decode cX4_buyBond 119 = .ok (.aload_n 0, 1) := dk_42 (dk_at dksX4_buyBond_5 1 rfl rfl)
theorem dX4_buyBond_120 : decode cX4_buyBond 120 = .ok (.getfield 91, 3) := dk_180 0 91 (dk_at dksX4_buyBond_5 2 rfl rfl)
theorem dX4_buyBond_123 : decode cX4_buyBond 123 = .ok (.iload 4, 2) := dk_21 4 (dk_at dksX4_buyBond_5 5 rfl rfl)
theorem dX4_buyBond_125 : decode cX4_buyBond 125 = .ok (.aload_n 0, 1) := dk_42 (dk_at dksX4_buyBond_5 7 rfl rfl)
theorem dX4_buyBond_126 : decode cX4_buyBond 126 = .ok (.getfield 91, 3) := dk_180 0 91 (dk_at dksX4_buyBond_5 8 rfl rfl)
theorem dX4_buyBond_129 : decode cX4_buyBond 129 = .ok (.iload 4, 2) := dk_21 4 (dk_at dksX4_buyBond_5 11 rfl rfl)
theorem dX4_buyBond_131 : decode cX4_buyBond 131 = .ok (.iconst 1, 1) := dk_4 (dk_at dksX4_buyBond_5 13 rfl rfl)
theorem dX4_buyBond_132 : decode cX4_buyBond 132 = .ok (.isub, 1) := dk_100 (dk_at dksX4_buyBond_5 14 rfl rfl)
theorem dX4_buyBond_133 : decode cX4_buyBond 133 = .ok (.iaload, 1) := dk_46 (dk_at dksX4_buyBond_5 15 rfl rfl)
theorem dX4_buyBond_134 : decode cX4_buyBond 134 = .ok (.iastore, 1) := dk_79 (dk_at dksX4_buyBond_5 16 rfl rfl)
theorem dX4_buyBond_135 : decode cX4_buyBond 135 = .ok (.aload_n 0, 1) := dk_42 (dk_at dksX4_buyBond_5 17 rfl rfl)
theorem dX4_buyBond_136 : decode cX4_buyBond 136 = .ok (.getfield 94, 3) := dk_180 0 94 (dk_at dksX4_buyBond_5 18 rfl rfl)
theorem dX4_buyBond_139 : decode cX4_buyBond 139 = .ok (.iload 4, 2) := dk_21 4 (dk_at dksX4_buyBond_5 21 rfl rfl)
theorem dX4_buyBond_141 : decode cX4_buyBond 141 = .ok (.aload_n 0, 1) := dk_42 (dk_at dksX4_buyBond_5 23 rfl rfl)
theorem dX4_buyBond_142 : decode cX4_buyBond 142 = .ok (.getfield 94, 3) := dk_180 0 94 (dk_at dksX4_buyBond_6 0 rfl rfl)
theorem dX4_buyBond_145 : decode cX4_buyBond 145 = .ok (.iload 4, 2) := dk_21 4 (dk_at dksX4_buyBond_6 3 rfl rfl)
theorem dX4_buyBond_147 : decode cX4_buyBond 147 = .ok (.iconst 1, 1) := dk_4 (dk_at dksX4_buyBond_6 5 rfl rfl)
theorem dX4_buyBond_148 : decode cX4_buyBond 148 = .ok (.isub, 1) := dk_100 (dk_at dksX4_buyBond_6 6 rfl rfl)
theorem dX4_buyBond_149 : decode cX4_buyBond 149 = .ok (.iaload, 1) := dk_46 (dk_at dksX4_buyBond_6 7 rfl rfl)
theorem dX4_buyBond_150 : decode cX4_buyBond 150 = .ok (.iastore, 1) := dk_79 (dk_at dksX4_buyBond_6 8 rfl rfl)
theorem dX4_buyBond_151 : decode cX4_buyBond 151 = .ok (.iinc 4 (-1), 3) := dk_132 4 255 (dk_at dksX4_buyBond_6 9 rfl rfl)
theorem dX4_buyBond_154 : decode cX4_buyBond 154 = .ok (.goto (-69), 3) := dk_167 255 187 (dk_at dksX4_buyBond_6 12 rfl rfl)
theorem dX4_buyBond_157 : decode cX4_buyBond 157 = .ok (.aload_n 0, 1) := dk_42 (dk_at dksX4_buyBond_6 15 rfl rfl)
theorem dX4_buyBond_158 : decode cX4_buyBond 158 = .ok (.getfield 88, 3) := dk_180 0 88 (dk_at dksX4_buyBond_6 16 rfl rfl)
theorem dX4_buyBond_161 : decode cX4_buyBond 161 = .ok (.iload 4, 2) := dk_21 4 (dk_at dksX4_buyBond_6 19 rfl rfl)
theorem dX4_buyBond_163 : decode cX4_buyBond 163 = .ok (.iload_n 1, 1) := dk_27 (dk_at dksX4_buyBond_6 21 rfl rfl)
theorem dX4_buyBond_164 : decode cX4_buyBond 164 = .ok (.iastore, 1) := dk_79 (dk_at dksX4_buyBond_6 22 rfl rfl)
theorem dX4_buyBond_165 : decode cX4_buyBond 165 = .ok (.aload_n 0, 1) := dk_42 (dk_at dksX4_buyBond_6 23 rfl rfl)
theorem dX4_buyBond_166 : decode cX4_buyBond 166 = .ok (.getfield 91, 3) := dk_180 0 91 (dk_at dksX4_buyBond_7 0 rfl rfl)
theorem dX4_buyBond_169 : decode cX4_buyBond 169 = .ok (.iload 4, 2) := dk_21 4 (dk_at dksX4_buyBond_7 3 rfl rfl)
theorem dX4_buyBond_171 : decode cX4_buyBond 171 = .ok (.iload_n 2, 1) := dk_28 (dk_at dksX4_buyBond_7 5 rfl rfl)
theorem dX4_buyBond_172 : decode cX4_buyBond 172 = .ok (.iastore, 1) := dk_79 (dk_at dksX4_buyBond_7 6 rfl rfl)
theorem dX4_buyBond_173 : decode cX4_buyBond 173 = .ok (.aload_n 0, 1) := dk_42 (dk_at dksX4_buyBond_7 7 rfl rfl)
theorem dX4_buyBond_174 : decode cX4_buyBond 174 = .ok (.getfield 94, 3) := dk_180 0 94 (dk_at dksX4_buyBond_7 8 rfl rfl)
theorem dX4_buyBond_177 : decode cX4_buyBond 177 = .ok (.iload 4, 2) := dk_21 4 (dk_at dksX4_buyBond_7 11 rfl rfl)
theorem dX4_buyBond_179 : decode cX4_buyBond 179 = .ok (.iload_n 3, 1) := dk_29 (dk_at dksX4_buyBond_7 13 rfl rfl)
theorem dX4_buyBond_180 : decode cX4_buyBond 180 = .ok (.iastore, 1) := dk_79 (dk_at dksX4_buyBond_7 14 rfl rfl)
theorem dX4_buyBond_181 : decode cX4_buyBond 181 = .ok (.aload_n 0, 1) := dk_42 (dk_at dksX4_buyBond_7 15 rfl rfl)
theorem dX4_buyBond_182 : decode cX4_buyBond 182 = .ok (.dup, 1) := dk_89 (dk_at dksX4_buyBond_7 16 rfl rfl)
theorem dX4_buyBond_183 : decode cX4_buyBond 183 = .ok (.getfield 117, 3) := dk_180 0 117 (dk_at dksX4_buyBond_7 17 rfl rfl)
theorem dX4_buyBond_186 : decode cX4_buyBond 186 = .ok (.iload_n 2, 1) := dk_28 (dk_at dksX4_buyBond_7 20 rfl rfl)
theorem dX4_buyBond_187 : decode cX4_buyBond 187 = .ok (.i2l, 1) := dk_133 (dk_at dksX4_buyBond_7 21 rfl rfl)
theorem dX4_buyBond_188 : decode cX4_buyBond 188 = .ok (.lsub, 1) := dk_101 (dk_at dksX4_buyBond_7 22 rfl rfl)
theorem dX4_buyBond_189 : decode cX4_buyBond 189 = .ok (.putfield 117, 3) := dk_181 0 117 (dk_at dksX4_buyBond_8 0 rfl rfl)
theorem dX4_buyBond_192 : decode cX4_buyBond 192 = .ok (.aload_n 0, 1) := dk_42 (dk_at dksX4_buyBond_8 3 rfl rfl)
theorem dX4_buyBond_193 : decode cX4_buyBond 193 = .ok (.getfield 149, 3) := dk_180 0 149 (dk_at dksX4_buyBond_8 4 rfl rfl)
theorem dX4_buyBond_196 : decode cX4_buyBond 196 = .ok (.ireturn, 1) := dk_172 (dk_at dksX4_buyBond_8 7 rfl rfl)
abbrev cX4_bondAt : ByteArray := prog_12_method_75_code
def yX4_bondAt : MethodName := ⟨RX4, "bondAt", "(II)I"⟩
def dkwX4_bondAt_3 : List UInt8 := [167, 0, 9, 42, 180, 0, 94, 27, 46, 172]
abbrev dktX4_bondAt_3 : List UInt8 := dkwX4_bondAt_3 ++ []
def dkwX4_bondAt_2 : List UInt8 := [154, 0, 12, 42, 180, 0, 88, 27, 46, 167, 0, 23, 28, 4, 160, 0, 12, 42, 180, 0, 91, 27, 46]
abbrev dktX4_bondAt_2 : List UInt8 := dkwX4_bondAt_2 ++ dktX4_bondAt_3
def dkwX4_bondAt_1 : List UInt8 := [182, 1, 86, 172, 28, 133, 9, 20, 0, 172, 184, 0, 168, 154, 0, 9, 42, 5, 182, 1, 86, 172, 28]
abbrev dktX4_bondAt_1 : List UInt8 := dkwX4_bondAt_1 ++ dktX4_bondAt_2
def dkwX4_bondAt_0 : List UInt8 := [42, 3, 181, 0, 1, 27, 133, 9, 42, 180, 0, 149, 4, 100, 133, 184, 0, 168, 154, 0, 9, 42, 4]
abbrev dktX4_bondAt_0 : List UInt8 := dkwX4_bondAt_0 ++ dktX4_bondAt_1
theorem dksX4_bondAt_0 : cX4_bondAt.data.toList.drop 0 = dktX4_bondAt_0 := by decide +kernel
theorem dksX4_bondAt_1 : cX4_bondAt.data.toList.drop 23 = dktX4_bondAt_1 := dk_seg dksX4_bondAt_0 23 rfl rfl
theorem dksX4_bondAt_2 : cX4_bondAt.data.toList.drop 46 = dktX4_bondAt_2 := dk_seg dksX4_bondAt_1 23 rfl rfl
theorem dksX4_bondAt_3 : cX4_bondAt.data.toList.drop 69 = dktX4_bondAt_3 := dk_seg dksX4_bondAt_2 23 rfl rfl
theorem dX4_bondAt_0 : decode cX4_bondAt 0 = .ok (.aload_n 0, 1) := dk_42 (dk_at dksX4_bondAt_0 0 rfl rfl)
theorem dX4_bondAt_1 : decode cX4_bondAt 1 = .ok (.iconst 0, 1) := dk_3 (dk_at dksX4_bondAt_0 1 rfl rfl)
theorem dX4_bondAt_2 : decode cX4_bondAt 2 = .ok (.putfield 1, 3) := dk_181 0 1 (dk_at dksX4_bondAt_0 2 rfl rfl)
theorem dX4_bondAt_5 : decode cX4_bondAt 5 = .ok (.iload_n 1, 1) := dk_27 (dk_at dksX4_bondAt_0 5 rfl rfl)
theorem dX4_bondAt_6 : decode cX4_bondAt 6 = .ok (.i2l, 1) := dk_133 (dk_at dksX4_bondAt_0 6 rfl rfl)
theorem dX4_bondAt_7 : decode cX4_bondAt 7 = .ok (.lconst 0, 1) := dk_9 (dk_at dksX4_bondAt_0 7 rfl rfl)
theorem dX4_bondAt_8 : decode cX4_bondAt 8 = .ok (.aload_n 0, 1) := dk_42 (dk_at dksX4_bondAt_0 8 rfl rfl)
theorem dX4_bondAt_9 : decode cX4_bondAt 9 = .ok (.getfield 149, 3) := dk_180 0 149 (dk_at dksX4_bondAt_0 9 rfl rfl)
theorem dX4_bondAt_12 : decode cX4_bondAt 12 = .ok (.iconst 1, 1) := dk_4 (dk_at dksX4_bondAt_0 12 rfl rfl)
theorem dX4_bondAt_13 : decode cX4_bondAt 13 = .ok (.isub, 1) := dk_100 (dk_at dksX4_bondAt_0 13 rfl rfl)
theorem dX4_bondAt_14 : decode cX4_bondAt 14 = .ok (.i2l, 1) := dk_133 (dk_at dksX4_bondAt_0 14 rfl rfl)
theorem dX4_bondAt_15 : decode cX4_bondAt 15 = .ok (.invokestatic 168, 3) := dk_184 0 168 (dk_at dksX4_bondAt_0 15 rfl rfl)
theorem dX4_bondAt_18 : decode cX4_bondAt 18 = .ok (.ifCond .ne 9, 3) := dk_154 0 9 (dk_at dksX4_bondAt_0 18 rfl rfl)
theorem dX4_bondAt_21 : decode cX4_bondAt 21 = .ok (.aload_n 0, 1) := dk_42 (dk_at dksX4_bondAt_0 21 rfl rfl)
theorem dX4_bondAt_22 : decode cX4_bondAt 22 = .ok (.iconst 1, 1) := dk_4 (dk_at dksX4_bondAt_0 22 rfl rfl)
theorem dX4_bondAt_23 : decode cX4_bondAt 23 = .ok (.invokevirtual 342, 3) := dk_182 1 86 (dk_at dksX4_bondAt_1 0 rfl rfl)
theorem dX4_bondAt_26 : decode cX4_bondAt 26 = .ok (.ireturn, 1) := dk_172 (dk_at dksX4_bondAt_1 3 rfl rfl)
theorem dX4_bondAt_27 : decode cX4_bondAt 27 = .ok (.iload_n 2, 1) := dk_28 (dk_at dksX4_bondAt_1 4 rfl rfl)
theorem dX4_bondAt_28 : decode cX4_bondAt 28 = .ok (.i2l, 1) := dk_133 (dk_at dksX4_bondAt_1 5 rfl rfl)
theorem dX4_bondAt_29 : decode cX4_bondAt 29 = .ok (.lconst 0, 1) := dk_9 (dk_at dksX4_bondAt_1 6 rfl rfl)
theorem dX4_bondAt_30 : decode cX4_bondAt 30 = .ok (.ldc2_w 172, 3) := dk_20 0 172 (dk_at dksX4_bondAt_1 7 rfl rfl)
theorem dX4_bondAt_33 : decode cX4_bondAt 33 = .ok (.invokestatic 168, 3) := dk_184 0 168 (dk_at dksX4_bondAt_1 10 rfl rfl)
theorem dX4_bondAt_36 : decode cX4_bondAt 36 = .ok (.ifCond .ne 9, 3) := dk_154 0 9 (dk_at dksX4_bondAt_1 13 rfl rfl)
theorem dX4_bondAt_39 : decode cX4_bondAt 39 = .ok (.aload_n 0, 1) := dk_42 (dk_at dksX4_bondAt_1 16 rfl rfl)
theorem dX4_bondAt_40 : decode cX4_bondAt 40 = .ok (.iconst 2, 1) := dk_5 (dk_at dksX4_bondAt_1 17 rfl rfl)
theorem dX4_bondAt_41 : decode cX4_bondAt 41 = .ok (.invokevirtual 342, 3) := dk_182 1 86 (dk_at dksX4_bondAt_1 18 rfl rfl)
theorem dX4_bondAt_44 : decode cX4_bondAt 44 = .ok (.ireturn, 1) := dk_172 (dk_at dksX4_bondAt_1 21 rfl rfl)
theorem dX4_bondAt_45 : decode cX4_bondAt 45 = .ok (.iload_n 2, 1) := dk_28 (dk_at dksX4_bondAt_1 22 rfl rfl)
theorem dX4_bondAt_46 : decode cX4_bondAt 46 = .ok (.ifCond .ne 12, 3) := dk_154 0 12 (dk_at dksX4_bondAt_2 0 rfl rfl)
theorem dX4_bondAt_49 : decode cX4_bondAt 49 = .ok (.aload_n 0, 1) := dk_42 (dk_at dksX4_bondAt_2 3 rfl rfl)
theorem dX4_bondAt_50 : decode cX4_bondAt 50 = .ok (.getfield 88, 3) := dk_180 0 88 (dk_at dksX4_bondAt_2 4 rfl rfl)
theorem dX4_bondAt_53 : decode cX4_bondAt 53 = .ok (.iload_n 1, 1) := dk_27 (dk_at dksX4_bondAt_2 7 rfl rfl)
theorem dX4_bondAt_54 : decode cX4_bondAt 54 = .ok (.iaload, 1) := dk_46 (dk_at dksX4_bondAt_2 8 rfl rfl)
theorem dX4_bondAt_55 : decode cX4_bondAt 55 = .ok (.goto 23, 3) := dk_167 0 23 (dk_at dksX4_bondAt_2 9 rfl rfl)
theorem dX4_bondAt_58 : decode cX4_bondAt 58 = .ok (.iload_n 2, 1) := dk_28 (dk_at dksX4_bondAt_2 12 rfl rfl)
theorem dX4_bondAt_59 : decode cX4_bondAt 59 = .ok (.iconst 1, 1) := dk_4 (dk_at dksX4_bondAt_2 13 rfl rfl)
theorem dX4_bondAt_60 : decode cX4_bondAt 60 = .ok (.if_icmp .ne 12, 3) := dk_160 0 12 (dk_at dksX4_bondAt_2 14 rfl rfl)
theorem dX4_bondAt_63 : decode cX4_bondAt 63 = .ok (.aload_n 0, 1) := dk_42 (dk_at dksX4_bondAt_2 17 rfl rfl)
theorem dX4_bondAt_64 : decode cX4_bondAt 64 = .ok (.getfield 91, 3) := dk_180 0 91 (dk_at dksX4_bondAt_2 18 rfl rfl)
theorem dX4_bondAt_67 : decode cX4_bondAt 67 = .ok (.iload_n 1, 1) := dk_27 (dk_at dksX4_bondAt_2 21 rfl rfl)
theorem dX4_bondAt_68 : decode cX4_bondAt 68 = .ok (.iaload, 1) := dk_46 (dk_at dksX4_bondAt_2 22 rfl rfl)
theorem dX4_bondAt_69 : decode cX4_bondAt 69 = .ok (.goto 9, 3) := dk_167 0 9 (dk_at dksX4_bondAt_3 0 rfl rfl)
theorem dX4_bondAt_72 : decode cX4_bondAt 72 = .ok (.aload_n 0, 1) := dk_42 (dk_at dksX4_bondAt_3 3 rfl rfl)
theorem dX4_bondAt_73 : decode cX4_bondAt 73 = .ok (.getfield 94, 3) := dk_180 0 94 (dk_at dksX4_bondAt_3 4 rfl rfl)
theorem dX4_bondAt_76 : decode cX4_bondAt 76 = .ok (.iload_n 1, 1) := dk_27 (dk_at dksX4_bondAt_3 7 rfl rfl)
theorem dX4_bondAt_77 : decode cX4_bondAt 77 = .ok (.iaload, 1) := dk_46 (dk_at dksX4_bondAt_3 8 rfl rfl)
theorem dX4_bondAt_78 : decode cX4_bondAt 78 = .ok (.ireturn, 1) := dk_172 (dk_at dksX4_bondAt_3 9 rfl rfl)
abbrev cX4_defaults : ByteArray := prog_12_method_76_code
def yX4_defaults : MethodName := ⟨RX4, "defaults", "(II)I"⟩
def dkwX4_defaults_3 : List UInt8 := [79, 42, 180, 0, 24, 16, 8, 92, 47, 29, 133, 101, 80, 29, 172]
abbrev dktX4_defaults_3 : List UInt8 := dkwX4_defaults_3 ++ []
def dkwX4_defaults_2 : List UInt8 := [180, 0, 91, 27, 46, 133, 28, 133, 105, 20, 0, 194, 109, 136, 62, 42, 180, 0, 91, 27, 92, 46, 29, 100]
abbrev dktX4_defaults_2 : List UInt8 := dkwX4_defaults_2 ++ dktX4_defaults_3
def dkwX4_defaults_1 : List UInt8 := [182, 1, 86, 172, 28, 133, 10, 20, 0, 194, 184, 0, 168, 154, 0, 9, 42, 5, 182, 1, 86, 172, 42]
abbrev dktX4_defaults_1 : List UInt8 := dkwX4_defaults_1 ++ dktX4_defaults_2
def dkwX4_defaults_0 : List UInt8 := [42, 3, 181, 0, 1, 27, 133, 9, 42, 180, 0, 149, 4, 100, 133, 184, 0, 168, 154, 0, 9, 42, 4]
abbrev dktX4_defaults_0 : List UInt8 := dkwX4_defaults_0 ++ dktX4_defaults_1
theorem dksX4_defaults_0 : cX4_defaults.data.toList.drop 0 = dktX4_defaults_0 := by decide +kernel
theorem dksX4_defaults_1 : cX4_defaults.data.toList.drop 23 = dktX4_defaults_1 := dk_seg dksX4_defaults_0 23 rfl rfl
theorem dksX4_defaults_2 : cX4_defaults.data.toList.drop 46 = dktX4_defaults_2 := dk_seg dksX4_defaults_1 23 rfl rfl
theorem dksX4_defaults_3 : cX4_defaults.data.toList.drop 70 = dktX4_defaults_3 := dk_seg dksX4_defaults_2 24 rfl rfl
theorem dX4_defaults_0 : decode cX4_defaults 0 = .ok (.aload_n 0, 1) := dk_42 (dk_at dksX4_defaults_0 0 rfl rfl)
theorem dX4_defaults_1 : decode cX4_defaults 1 = .ok (.iconst 0, 1) := dk_3 (dk_at dksX4_defaults_0 1 rfl rfl)
theorem dX4_defaults_2 : decode cX4_defaults 2 = .ok (.putfield 1, 3) := dk_181 0 1 (dk_at dksX4_defaults_0 2 rfl rfl)
theorem dX4_defaults_5 : decode cX4_defaults 5 = .ok (.iload_n 1, 1) := dk_27 (dk_at dksX4_defaults_0 5 rfl rfl)
theorem dX4_defaults_6 : decode cX4_defaults 6 = .ok (.i2l, 1) := dk_133 (dk_at dksX4_defaults_0 6 rfl rfl)
theorem dX4_defaults_7 : decode cX4_defaults 7 = .ok (.lconst 0, 1) := dk_9 (dk_at dksX4_defaults_0 7 rfl rfl)
theorem dX4_defaults_8 : decode cX4_defaults 8 = .ok (.aload_n 0, 1) := dk_42 (dk_at dksX4_defaults_0 8 rfl rfl)
theorem dX4_defaults_9 : decode cX4_defaults 9 = .ok (.getfield 149, 3) := dk_180 0 149 (dk_at dksX4_defaults_0 9 rfl rfl)
theorem dX4_defaults_12 : decode cX4_defaults 12 = .ok (.iconst 1, 1) := dk_4 (dk_at dksX4_defaults_0 12 rfl rfl)
theorem dX4_defaults_13 : decode cX4_defaults 13 = .ok (.isub, 1) := dk_100 (dk_at dksX4_defaults_0 13 rfl rfl)
theorem dX4_defaults_14 : decode cX4_defaults 14 = .ok (.i2l, 1) := dk_133 (dk_at dksX4_defaults_0 14 rfl rfl)
theorem dX4_defaults_15 : decode cX4_defaults 15 = .ok (.invokestatic 168, 3) := dk_184 0 168 (dk_at dksX4_defaults_0 15 rfl rfl)
theorem dX4_defaults_18 : decode cX4_defaults 18 = .ok (.ifCond .ne 9, 3) := dk_154 0 9 (dk_at dksX4_defaults_0 18 rfl rfl)
theorem dX4_defaults_21 : decode cX4_defaults 21 = .ok (.aload_n 0, 1) := dk_42 (dk_at dksX4_defaults_0 21 rfl rfl)
theorem dX4_defaults_22 : decode cX4_defaults 22 = .ok (.iconst 1, 1) := dk_4 (dk_at dksX4_defaults_0 22 rfl rfl)
theorem dX4_defaults_23 : decode cX4_defaults 23 = .ok (.invokevirtual 342, 3) := dk_182 1 86 (dk_at dksX4_defaults_1 0 rfl rfl)
theorem dX4_defaults_26 : decode cX4_defaults 26 = .ok (.ireturn, 1) := dk_172 (dk_at dksX4_defaults_1 3 rfl rfl)
theorem dX4_defaults_27 : decode cX4_defaults 27 = .ok (.iload_n 2, 1) := dk_28 (dk_at dksX4_defaults_1 4 rfl rfl)
theorem dX4_defaults_28 : decode cX4_defaults 28 = .ok (.i2l, 1) := dk_133 (dk_at dksX4_defaults_1 5 rfl rfl)
theorem dX4_defaults_29 : decode cX4_defaults 29 = .ok (.lconst 1, 1) := dk_10 (dk_at dksX4_defaults_1 6 rfl rfl)
theorem dX4_defaults_30 : decode cX4_defaults 30 = .ok (.ldc2_w 194, 3) := dk_20 0 194 (dk_at dksX4_defaults_1 7 rfl rfl)
theorem dX4_defaults_33 : decode cX4_defaults 33 = .ok (.invokestatic 168, 3) := dk_184 0 168 (dk_at dksX4_defaults_1 10 rfl rfl)
theorem dX4_defaults_36 : decode cX4_defaults 36 = .ok (.ifCond .ne 9, 3) := dk_154 0 9 (dk_at dksX4_defaults_1 13 rfl rfl)
theorem dX4_defaults_39 : decode cX4_defaults 39 = .ok (.aload_n 0, 1) := dk_42 (dk_at dksX4_defaults_1 16 rfl rfl)
theorem dX4_defaults_40 : decode cX4_defaults 40 = .ok (.iconst 2, 1) := dk_5 (dk_at dksX4_defaults_1 17 rfl rfl)
theorem dX4_defaults_41 : decode cX4_defaults 41 = .ok (.invokevirtual 342, 3) := dk_182 1 86 (dk_at dksX4_defaults_1 18 rfl rfl)
theorem dX4_defaults_44 : decode cX4_defaults 44 = .ok (.ireturn, 1) := dk_172 (dk_at dksX4_defaults_1 21 rfl rfl)
theorem dX4_defaults_45 : decode cX4_defaults 45 = .ok (.aload_n 0, 1) := dk_42 (dk_at dksX4_defaults_1 22 rfl rfl)
theorem dX4_defaults_46 : decode cX4_defaults 46 = .ok (.getfield 91, 3) := dk_180 0 91 (dk_at dksX4_defaults_2 0 rfl rfl)
theorem dX4_defaults_49 : decode cX4_defaults 49 = .ok (.iload_n 1, 1) := dk_27 (dk_at dksX4_defaults_2 3 rfl rfl)
theorem dX4_defaults_50 : decode cX4_defaults 50 = .ok (.iaload, 1) := dk_46 (dk_at dksX4_defaults_2 4 rfl rfl)
theorem dX4_defaults_51 : decode cX4_defaults 51 = .ok (.i2l, 1) := dk_133 (dk_at dksX4_defaults_2 5 rfl rfl)
theorem dX4_defaults_52 : decode cX4_defaults 52 = .ok (.iload_n 2, 1) := dk_28 (dk_at dksX4_defaults_2 6 rfl rfl)
theorem dX4_defaults_53 : decode cX4_defaults 53 = .ok (.i2l, 1) := dk_133 (dk_at dksX4_defaults_2 7 rfl rfl)
theorem dX4_defaults_54 : decode cX4_defaults 54 = .ok (.lmul, 1) := dk_105 (dk_at dksX4_defaults_2 8 rfl rfl)
theorem dX4_defaults_55 : decode cX4_defaults 55 = .ok (.ldc2_w 194, 3) := dk_20 0 194 (dk_at dksX4_defaults_2 9 rfl rfl)
theorem dX4_defaults_58 : decode cX4_defaults 58 = .ok (.ldiv, 1) := dk_109 (dk_at dksX4_defaults_2 12 rfl rfl)
theorem dX4_defaults_59 : decode cX4_defaults 59 = .ok (.l2i, 1) := dk_136 (dk_at dksX4_defaults_2 13 rfl rfl)
theorem dX4_defaults_60 : decode cX4_defaults 60 = .ok (.istore_n 3, 1) := dk_62 (dk_at dksX4_defaults_2 14 rfl rfl)
theorem dX4_defaults_61 : decode cX4_defaults 61 = .ok (.aload_n 0, 1) := dk_42 (dk_at dksX4_defaults_2 15 rfl rfl)
theorem dX4_defaults_62 : decode cX4_defaults 62 = .ok (.getfield 91, 3) := dk_180 0 91 (dk_at dksX4_defaults_2 16 rfl rfl)
theorem dX4_defaults_65 : decode cX4_defaults 65 = .ok (.iload_n 1, 1) := dk_27 (dk_at dksX4_defaults_2 19 rfl rfl)
theorem dX4_defaults_66 : decode cX4_defaults 66 = .ok (.dup2, 1) := dk_92 (dk_at dksX4_defaults_2 20 rfl rfl)
theorem dX4_defaults_67 : decode cX4_defaults 67 = .ok (.iaload, 1) := dk_46 (dk_at dksX4_defaults_2 21 rfl rfl)
theorem dX4_defaults_68 : decode cX4_defaults 68 = .ok (.iload_n 3, 1) := dk_29 (dk_at dksX4_defaults_2 22 rfl rfl)
theorem dX4_defaults_69 : decode cX4_defaults 69 = .ok (.isub, 1) := dk_100 (dk_at dksX4_defaults_2 23 rfl rfl)
theorem dX4_defaults_70 : decode cX4_defaults 70 = .ok (.iastore, 1) := dk_79 (dk_at dksX4_defaults_3 0 rfl rfl)
theorem dX4_defaults_71 : decode cX4_defaults 71 = .ok (.aload_n 0, 1) := dk_42 (dk_at dksX4_defaults_3 1 rfl rfl)
theorem dX4_defaults_72 : decode cX4_defaults 72 = .ok (.getfield 24, 3) := dk_180 0 24 (dk_at dksX4_defaults_3 2 rfl rfl)
theorem dX4_defaults_75 : decode cX4_defaults 75 = .ok (.bipush 8, 2) := dk_16 8 (dk_at dksX4_defaults_3 5 rfl rfl)
theorem dX4_defaults_77 : decode cX4_defaults 77 = .ok (.dup2, 1) := dk_92 (dk_at dksX4_defaults_3 7 rfl rfl)
theorem dX4_defaults_78 : decode cX4_defaults 78 = .ok (.laload, 1) := dk_47 (dk_at dksX4_defaults_3 8 rfl rfl)
theorem dX4_defaults_79 : decode cX4_defaults 79 = .ok (.iload_n 3, 1) := dk_29 (dk_at dksX4_defaults_3 9 rfl rfl)
theorem dX4_defaults_80 : decode cX4_defaults 80 = .ok (.i2l, 1) := dk_133 (dk_at dksX4_defaults_3 10 rfl rfl)
theorem dX4_defaults_81 : decode cX4_defaults 81 = .ok (.lsub, 1) := dk_101 (dk_at dksX4_defaults_3 11 rfl rfl)
theorem dX4_defaults_82 : decode cX4_defaults 82 = .ok (.lastore, 1) := dk_80 (dk_at dksX4_defaults_3 12 rfl rfl)
theorem dX4_defaults_83 : decode cX4_defaults 83 = .ok (.iload_n 3, 1) := dk_29 (dk_at dksX4_defaults_3 13 rfl rfl)
theorem dX4_defaults_84 : decode cX4_defaults 84 = .ok (.ireturn, 1) := dk_172 (dk_at dksX4_defaults_3 14 rfl rfl)
abbrev cX4_setReinsurance : ByteArray := prog_12_method_77_code
def yX4_setReinsurance : MethodName := ⟨RX4, "setReinsurance", "(II)I"⟩
def dkwX4_setReinsurance_2 : List UInt8 := [181, 0, 143, 29, 172]
abbrev dktX4_setReinsurance_2 : List UInt8 := dkwX4_setReinsurance_2 ++ []
def dkwX4_setReinsurance_1 : List UInt8 := [184, 0, 168, 154, 0, 9, 42, 4, 182, 1, 86, 172, 42, 180, 0, 140, 62, 42, 27, 181, 0, 140, 42, 28]
abbrev dktX4_setReinsurance_1 : List UInt8 := dkwX4_setReinsurance_1 ++ dktX4_setReinsurance_2
def dkwX4_setReinsurance_0 : List UInt8 := [42, 3, 181, 0, 1, 27, 133, 9, 20, 0, 180, 184, 0, 168, 153, 0, 15, 28, 133, 9, 20, 0, 194]
abbrev dktX4_setReinsurance_0 : List UInt8 := dkwX4_setReinsurance_0 ++ dktX4_setReinsurance_1
theorem dksX4_setReinsurance_0 : cX4_setReinsurance.data.toList.drop 0 = dktX4_setReinsurance_0 := by decide +kernel
theorem dksX4_setReinsurance_1 : cX4_setReinsurance.data.toList.drop 23 = dktX4_setReinsurance_1 := dk_seg dksX4_setReinsurance_0 23 rfl rfl
theorem dksX4_setReinsurance_2 : cX4_setReinsurance.data.toList.drop 47 = dktX4_setReinsurance_2 := dk_seg dksX4_setReinsurance_1 24 rfl rfl
theorem dX4_setReinsurance_0 : decode cX4_setReinsurance 0 = .ok (.aload_n 0, 1) := dk_42 (dk_at dksX4_setReinsurance_0 0 rfl rfl)
theorem dX4_setReinsurance_1 : decode cX4_setReinsurance 1 = .ok (.iconst 0, 1) := dk_3 (dk_at dksX4_setReinsurance_0 1 rfl rfl)
theorem dX4_setReinsurance_2 : decode cX4_setReinsurance 2 = .ok (.putfield 1, 3) := dk_181 0 1 (dk_at dksX4_setReinsurance_0 2 rfl rfl)
theorem dX4_setReinsurance_5 : decode cX4_setReinsurance 5 = .ok (.iload_n 1, 1) := dk_27 (dk_at dksX4_setReinsurance_0 5 rfl rfl)
theorem dX4_setReinsurance_6 : decode cX4_setReinsurance 6 = .ok (.i2l, 1) := dk_133 (dk_at dksX4_setReinsurance_0 6 rfl rfl)
theorem dX4_setReinsurance_7 : decode cX4_setReinsurance 7 = .ok (.lconst 0, 1) := dk_9 (dk_at dksX4_setReinsurance_0 7 rfl rfl)
theorem dX4_setReinsurance_8 : decode cX4_setReinsurance 8 = .ok (.ldc2_w 180, 3) := dk_20 0 180 (dk_at dksX4_setReinsurance_0 8 rfl rfl)
theorem dX4_setReinsurance_11 : decode cX4_setReinsurance 11 = .ok (.invokestatic 168, 3) := dk_184 0 168 (dk_at dksX4_setReinsurance_0 11 rfl rfl)
theorem dX4_setReinsurance_14 : decode cX4_setReinsurance 14 = .ok (.ifCond .eq 15, 3) := dk_153 0 15 (dk_at dksX4_setReinsurance_0 14 rfl rfl)
theorem dX4_setReinsurance_17 : decode cX4_setReinsurance 17 = .ok (.iload_n 2, 1) := dk_28 (dk_at dksX4_setReinsurance_0 17 rfl rfl)
theorem dX4_setReinsurance_18 : decode cX4_setReinsurance 18 = .ok (.i2l, 1) := dk_133 (dk_at dksX4_setReinsurance_0 18 rfl rfl)
theorem dX4_setReinsurance_19 : decode cX4_setReinsurance 19 = .ok (.lconst 0, 1) := dk_9 (dk_at dksX4_setReinsurance_0 19 rfl rfl)
theorem dX4_setReinsurance_20 : decode cX4_setReinsurance 20 = .ok (.ldc2_w 194, 3) := dk_20 0 194 (dk_at dksX4_setReinsurance_0 20 rfl rfl)
theorem dX4_setReinsurance_23 : decode cX4_setReinsurance 23 = .ok (.invokestatic 168, 3) := dk_184 0 168 (dk_at dksX4_setReinsurance_1 0 rfl rfl)
theorem dX4_setReinsurance_26 : decode cX4_setReinsurance 26 = .ok (.ifCond .ne 9, 3) := dk_154 0 9 (dk_at dksX4_setReinsurance_1 3 rfl rfl)
theorem dX4_setReinsurance_29 : decode cX4_setReinsurance 29 = .ok (.aload_n 0, 1) := dk_42 (dk_at dksX4_setReinsurance_1 6 rfl rfl)
theorem dX4_setReinsurance_30 : decode cX4_setReinsurance 30 = .ok (.iconst 1, 1) := dk_4 (dk_at dksX4_setReinsurance_1 7 rfl rfl)
theorem dX4_setReinsurance_31 : decode cX4_setReinsurance 31 = .ok (.invokevirtual 342, 3) := dk_182 1 86 (dk_at dksX4_setReinsurance_1 8 rfl rfl)
theorem dX4_setReinsurance_34 : decode cX4_setReinsurance 34 = .ok (.ireturn, 1) := dk_172 (dk_at dksX4_setReinsurance_1 11 rfl rfl)
theorem dX4_setReinsurance_35 : decode cX4_setReinsurance 35 = .ok (.aload_n 0, 1) := dk_42 (dk_at dksX4_setReinsurance_1 12 rfl rfl)
theorem dX4_setReinsurance_36 : decode cX4_setReinsurance 36 = .ok (.getfield 140, 3) := dk_180 0 140 (dk_at dksX4_setReinsurance_1 13 rfl rfl)
theorem dX4_setReinsurance_39 : decode cX4_setReinsurance 39 = .ok (.istore_n 3, 1) := dk_62 (dk_at dksX4_setReinsurance_1 16 rfl rfl)
theorem dX4_setReinsurance_40 : decode cX4_setReinsurance 40 = .ok (.aload_n 0, 1) := dk_42 (dk_at dksX4_setReinsurance_1 17 rfl rfl)
theorem dX4_setReinsurance_41 : decode cX4_setReinsurance 41 = .ok (.iload_n 1, 1) := dk_27 (dk_at dksX4_setReinsurance_1 18 rfl rfl)
theorem dX4_setReinsurance_42 : decode cX4_setReinsurance 42 = .ok (.putfield 140, 3) := dk_181 0 140 (dk_at dksX4_setReinsurance_1 19 rfl rfl)
theorem dX4_setReinsurance_45 : decode cX4_setReinsurance 45 = .ok (.aload_n 0, 1) := dk_42 (dk_at dksX4_setReinsurance_1 22 rfl rfl)
theorem dX4_setReinsurance_46 : decode cX4_setReinsurance 46 = .ok (.iload_n 2, 1) := dk_28 (dk_at dksX4_setReinsurance_1 23 rfl rfl)
theorem dX4_setReinsurance_47 : decode cX4_setReinsurance 47 = .ok (.putfield 143, 3) := dk_181 0 143 (dk_at dksX4_setReinsurance_2 0 rfl rfl)
theorem dX4_setReinsurance_50 : decode cX4_setReinsurance 50 = .ok (.iload_n 3, 1) := dk_29 (dk_at dksX4_setReinsurance_2 3 rfl rfl)
theorem dX4_setReinsurance_51 : decode cX4_setReinsurance 51 = .ok (.ireturn, 1) := dk_172 (dk_at dksX4_setReinsurance_2 4 rfl rfl)
abbrev cX4_closeYear : ByteArray := prog_12_method_78_code
def yX4_closeYear : MethodName := ⟨RX4, "closeYear", "(II)J"⟩
def dkwX4_closeYear_2 : List UInt8 := [5, 182, 1, 86, 133, 173, 42, 27, 28, 182, 1, 140, 173]
abbrev dktX4_closeYear_2 : List UInt8 := dkwX4_closeYear_2 ++ []
def dkwX4_closeYear_1 : List UInt8 := [184, 0, 168, 154, 0, 10, 42, 4, 182, 1, 86, 133, 173, 42, 180, 0, 114, 17, 8, 102, 160, 0, 10, 42]
abbrev dktX4_closeYear_1 : List UInt8 := dkwX4_closeYear_1 ++ dktX4_closeYear_2
def dkwX4_closeYear_0 : List UInt8 := [42, 3, 181, 0, 1, 27, 133, 9, 20, 0, 196, 184, 0, 168, 153, 0, 15, 28, 133, 9, 20, 0, 194]
abbrev dktX4_closeYear_0 : List UInt8 := dkwX4_closeYear_0 ++ dktX4_closeYear_1
theorem dksX4_closeYear_0 : cX4_closeYear.data.toList.drop 0 = dktX4_closeYear_0 := by decide +kernel
theorem dksX4_closeYear_1 : cX4_closeYear.data.toList.drop 23 = dktX4_closeYear_1 := dk_seg dksX4_closeYear_0 23 rfl rfl
theorem dksX4_closeYear_2 : cX4_closeYear.data.toList.drop 47 = dktX4_closeYear_2 := dk_seg dksX4_closeYear_1 24 rfl rfl
theorem dX4_closeYear_0 : decode cX4_closeYear 0 = .ok (.aload_n 0, 1) := dk_42 (dk_at dksX4_closeYear_0 0 rfl rfl)
theorem dX4_closeYear_1 : decode cX4_closeYear 1 = .ok (.iconst 0, 1) := dk_3 (dk_at dksX4_closeYear_0 1 rfl rfl)
theorem dX4_closeYear_2 : decode cX4_closeYear 2 = .ok (.putfield 1, 3) := dk_181 0 1 (dk_at dksX4_closeYear_0 2 rfl rfl)
theorem dX4_closeYear_5 : decode cX4_closeYear 5 = .ok (.iload_n 1, 1) := dk_27 (dk_at dksX4_closeYear_0 5 rfl rfl)
theorem dX4_closeYear_6 : decode cX4_closeYear 6 = .ok (.i2l, 1) := dk_133 (dk_at dksX4_closeYear_0 6 rfl rfl)
theorem dX4_closeYear_7 : decode cX4_closeYear 7 = .ok (.lconst 0, 1) := dk_9 (dk_at dksX4_closeYear_0 7 rfl rfl)
theorem dX4_closeYear_8 : decode cX4_closeYear 8 = .ok (.ldc2_w 196, 3) := dk_20 0 196 (dk_at dksX4_closeYear_0 8 rfl rfl)
theorem dX4_closeYear_11 : decode cX4_closeYear 11 = .ok (.invokestatic 168, 3) := dk_184 0 168 (dk_at dksX4_closeYear_0 11 rfl rfl)
theorem dX4_closeYear_14 : decode cX4_closeYear 14 = .ok (.ifCond .eq 15, 3) := dk_153 0 15 (dk_at dksX4_closeYear_0 14 rfl rfl)
theorem dX4_closeYear_17 : decode cX4_closeYear 17 = .ok (.iload_n 2, 1) := dk_28 (dk_at dksX4_closeYear_0 17 rfl rfl)
theorem dX4_closeYear_18 : decode cX4_closeYear 18 = .ok (.i2l, 1) := dk_133 (dk_at dksX4_closeYear_0 18 rfl rfl)
theorem dX4_closeYear_19 : decode cX4_closeYear 19 = .ok (.lconst 0, 1) := dk_9 (dk_at dksX4_closeYear_0 19 rfl rfl)
theorem dX4_closeYear_20 : decode cX4_closeYear 20 = .ok (.ldc2_w 194, 3) := dk_20 0 194 (dk_at dksX4_closeYear_0 20 rfl rfl)
theorem dX4_closeYear_23 : decode cX4_closeYear 23 = .ok (.invokestatic 168, 3) := dk_184 0 168 (dk_at dksX4_closeYear_1 0 rfl rfl)
theorem dX4_closeYear_26 : decode cX4_closeYear 26 = .ok (.ifCond .ne 10, 3) := dk_154 0 10 (dk_at dksX4_closeYear_1 3 rfl rfl)
theorem dX4_closeYear_29 : decode cX4_closeYear 29 = .ok (.aload_n 0, 1) := dk_42 (dk_at dksX4_closeYear_1 6 rfl rfl)
theorem dX4_closeYear_30 : decode cX4_closeYear 30 = .ok (.iconst 1, 1) := dk_4 (dk_at dksX4_closeYear_1 7 rfl rfl)
theorem dX4_closeYear_31 : decode cX4_closeYear 31 = .ok (.invokevirtual 342, 3) := dk_182 1 86 (dk_at dksX4_closeYear_1 8 rfl rfl)
theorem dX4_closeYear_34 : decode cX4_closeYear 34 = .ok (.i2l, 1) := dk_133 (dk_at dksX4_closeYear_1 11 rfl rfl)
theorem dX4_closeYear_35 : decode cX4_closeYear 35 = .ok (.lreturn, 1) := dk_173 (dk_at dksX4_closeYear_1 12 rfl rfl)
theorem dX4_closeYear_36 : decode cX4_closeYear 36 = .ok (.aload_n 0, 1) := dk_42 (dk_at dksX4_closeYear_1 13 rfl rfl)
theorem dX4_closeYear_37 : decode cX4_closeYear 37 = .ok (.getfield 114, 3) := dk_180 0 114 (dk_at dksX4_closeYear_1 14 rfl rfl)
theorem dX4_closeYear_40 : decode cX4_closeYear 40 = .ok (.sipush 2150, 3) := dk_17 8 102 (dk_at dksX4_closeYear_1 17 rfl rfl)
theorem dX4_closeYear_43 : decode cX4_closeYear 43 = .ok (.if_icmp .ne 10, 3) := dk_160 0 10 (dk_at dksX4_closeYear_1 20 rfl rfl)
theorem dX4_closeYear_46 : decode cX4_closeYear 46 = .ok (.aload_n 0, 1) := dk_42 (dk_at dksX4_closeYear_1 23 rfl rfl)
theorem dX4_closeYear_47 : decode cX4_closeYear 47 = .ok (.iconst 2, 1) := dk_5 (dk_at dksX4_closeYear_2 0 rfl rfl)
theorem dX4_closeYear_48 : decode cX4_closeYear 48 = .ok (.invokevirtual 342, 3) := dk_182 1 86 (dk_at dksX4_closeYear_2 1 rfl rfl)
theorem dX4_closeYear_51 : decode cX4_closeYear 51 = .ok (.i2l, 1) := dk_133 (dk_at dksX4_closeYear_2 4 rfl rfl)
theorem dX4_closeYear_52 : decode cX4_closeYear 52 = .ok (.lreturn, 1) := dk_173 (dk_at dksX4_closeYear_2 5 rfl rfl)
theorem dX4_closeYear_53 : decode cX4_closeYear 53 = .ok (.aload_n 0, 1) := dk_42 (dk_at dksX4_closeYear_2 6 rfl rfl)
theorem dX4_closeYear_54 : decode cX4_closeYear 54 = .ok (.iload_n 1, 1) := dk_27 (dk_at dksX4_closeYear_2 7 rfl rfl)
theorem dX4_closeYear_55 : decode cX4_closeYear 55 = .ok (.iload_n 2, 1) := dk_28 (dk_at dksX4_closeYear_2 8 rfl rfl)
theorem dX4_closeYear_56 : decode cX4_closeYear 56 = .ok (.invokevirtual 396, 3) := dk_182 1 140 (dk_at dksX4_closeYear_2 9 rfl rfl)
theorem dX4_closeYear_59 : decode cX4_closeYear 59 = .ok (.lreturn, 1) := dk_173 (dk_at dksX4_closeYear_2 12 rfl rfl)
abbrev cX4_closes : ByteArray := prog_12_method_33_code
def yX4_closes : MethodName := ⟨RX4, "closes", "(II)J"⟩
def dkwX4_closes_7 : List UInt8 := [132, 4, 1, 167, 255, 208, 42, 3, 181, 0, 152, 42, 180, 0, 165, 173]
abbrev dktX4_closes_7 : List UInt8 := dkwX4_closes_7 ++ []
def dkwX4_closes_6 : List UInt8 := [180, 0, 165, 42, 180, 0, 24, 21, 4, 47, 97, 181, 0, 165, 42, 180, 0, 24, 21, 4, 9, 80]
abbrev dktX4_closes_6 : List UInt8 := dkwX4_closes_6 ++ dktX4_closes_7
def dkwX4_closes_5 : List UInt8 := [21, 4, 16, 9, 162, 0, 47, 42, 180, 0, 28, 21, 4, 42, 180, 0, 24, 21, 4, 47, 80, 42, 89]
abbrev dktX4_closes_5 : List UInt8 := dkwX4_closes_5 ++ dktX4_closes_6
def dkwX4_closes_4 : List UInt8 := [132, 4, 1, 167, 255, 231, 42, 89, 180, 0, 114, 4, 96, 181, 0, 114, 42, 9, 181, 0, 165, 3, 54, 4]
abbrev dktX4_closes_4 : List UInt8 := dkwX4_closes_4 ++ dktX4_closes_5
def dkwX4_closes_3 : List UInt8 := [21, 4, 42, 180, 0, 146, 162, 0, 22, 45, 21, 4, 51, 153, 0, 9, 42, 21, 4, 182, 1, 58]
abbrev dktX4_closes_3 : List UInt8 := dkwX4_closes_3 ++ dktX4_closes_4
def dkwX4_closes_2 : List UInt8 := [167, 255, 219, 42, 180, 0, 24, 4, 92, 47, 42, 27, 182, 1, 52, 97, 80, 42, 182, 1, 55, 3, 54, 4]
abbrev dktX4_closes_2 : List UInt8 := dkwX4_closes_2 ++ dktX4_closes_3
def dkwX4_closes_1 : List UInt8 := [182, 0, 234, 84, 45, 21, 4, 51, 153, 0, 11, 42, 21, 4, 27, 28, 182, 1, 49, 132, 4, 1]
abbrev dktX4_closes_1 : List UInt8 := dkwX4_closes_1 ++ dktX4_closes_2
def dkwX4_closes_0 : List UInt8 := [42, 180, 0, 103, 78, 3, 54, 4, 21, 4, 42, 180, 0, 146, 162, 0, 34, 45, 21, 4, 42, 21, 4]
abbrev dktX4_closes_0 : List UInt8 := dkwX4_closes_0 ++ dktX4_closes_1
theorem dksX4_closes_0 : cX4_closes.data.toList.drop 0 = dktX4_closes_0 := by decide +kernel
theorem dksX4_closes_1 : cX4_closes.data.toList.drop 23 = dktX4_closes_1 := dk_seg dksX4_closes_0 23 rfl rfl
theorem dksX4_closes_2 : cX4_closes.data.toList.drop 45 = dktX4_closes_2 := dk_seg dksX4_closes_1 22 rfl rfl
theorem dksX4_closes_3 : cX4_closes.data.toList.drop 69 = dktX4_closes_3 := dk_seg dksX4_closes_2 24 rfl rfl
theorem dksX4_closes_4 : cX4_closes.data.toList.drop 91 = dktX4_closes_4 := dk_seg dksX4_closes_3 22 rfl rfl
theorem dksX4_closes_5 : cX4_closes.data.toList.drop 115 = dktX4_closes_5 := dk_seg dksX4_closes_4 24 rfl rfl
theorem dksX4_closes_6 : cX4_closes.data.toList.drop 138 = dktX4_closes_6 := dk_seg dksX4_closes_5 23 rfl rfl
theorem dksX4_closes_7 : cX4_closes.data.toList.drop 160 = dktX4_closes_7 := dk_seg dksX4_closes_6 22 rfl rfl
theorem dX4_closes_0 : decode cX4_closes 0 = .ok (.aload_n 0, 1) := dk_42 (dk_at dksX4_closes_0 0 rfl rfl)
theorem dX4_closes_1 : decode cX4_closes 1 = .ok (.getfield 103, 3) := dk_180 0 103 (dk_at dksX4_closes_0 1 rfl rfl)
theorem dX4_closes_4 : decode cX4_closes 4 = .ok (.astore_n 3, 1) := dk_78 (dk_at dksX4_closes_0 4 rfl rfl)
theorem dX4_closes_5 : decode cX4_closes 5 = .ok (.iconst 0, 1) := dk_3 (dk_at dksX4_closes_0 5 rfl rfl)
theorem dX4_closes_6 : decode cX4_closes 6 = .ok (.istore 4, 2) := dk_54 4 (dk_at dksX4_closes_0 6 rfl rfl)
theorem dX4_closes_8 : decode cX4_closes 8 = .ok (.iload 4, 2) := dk_21 4 (dk_at dksX4_closes_0 8 rfl rfl)
theorem dX4_closes_10 : decode cX4_closes 10 = .ok (.aload_n 0, 1) := dk_42 (dk_at dksX4_closes_0 10 rfl rfl)
theorem dX4_closes_11 : decode cX4_closes 11 = .ok (.getfield 146, 3) := dk_180 0 146 (dk_at dksX4_closes_0 11 rfl rfl)
theorem dX4_closes_14 : decode cX4_closes 14 = .ok (.if_icmp .ge 34, 3) := dk_162 0 34 (dk_at dksX4_closes_0 14 rfl rfl)
theorem dX4_closes_17 : decode cX4_closes 17 = .ok (.aload_n 3, 1) := dk_45 (dk_at dksX4_closes_0 17 rfl rfl)
theorem dX4_closes_18 : decode cX4_closes 18 = .ok (.iload 4, 2) := dk_21 4 (dk_at dksX4_closes_0 18 rfl rfl)
theorem dX4_closes_20 : decode cX4_closes 20 = .ok (.aload_n 0, 1) := dk_42 (dk_at dksX4_closes_0 20 rfl rfl)
theorem dX4_closes_21 : decode cX4_closes 21 = .ok (.iload 4, 2) := dk_21 4 (dk_at dksX4_closes_0 21 rfl rfl)
theorem dX4_closes_23 : decode cX4_closes 23 = .ok (.invokevirtual 234, 3) := dk_182 0 234 (dk_at dksX4_closes_1 0 rfl rfl)
theorem dX4_closes_26 : decode cX4_closes 26 = .ok (.bastore, 1) := dk_84 (dk_at dksX4_closes_1 3 rfl rfl)
theorem dX4_closes_27 : decode cX4_closes 27 = .ok (.aload_n 3, 1) := dk_45 (dk_at dksX4_closes_1 4 rfl rfl)
theorem dX4_closes_28 : decode cX4_closes 28 = .ok (.iload 4, 2) := dk_21 4 (dk_at dksX4_closes_1 5 rfl rfl)
theorem dX4_closes_30 : decode cX4_closes 30 = .ok (.baload, 1) := dk_51 (dk_at dksX4_closes_1 7 rfl rfl)
theorem dX4_closes_31 : decode cX4_closes 31 = .ok (.ifCond .eq 11, 3) := dk_153 0 11 (dk_at dksX4_closes_1 8 rfl rfl)
theorem dX4_closes_34 : decode cX4_closes 34 = .ok (.aload_n 0, 1) := dk_42 (dk_at dksX4_closes_1 11 rfl rfl)
theorem dX4_closes_35 : decode cX4_closes 35 = .ok (.iload 4, 2) := dk_21 4 (dk_at dksX4_closes_1 12 rfl rfl)
theorem dX4_closes_37 : decode cX4_closes 37 = .ok (.iload_n 1, 1) := dk_27 (dk_at dksX4_closes_1 14 rfl rfl)
theorem dX4_closes_38 : decode cX4_closes 38 = .ok (.iload_n 2, 1) := dk_28 (dk_at dksX4_closes_1 15 rfl rfl)
theorem dX4_closes_39 : decode cX4_closes 39 = .ok (.invokevirtual 305, 3) := dk_182 1 49 (dk_at dksX4_closes_1 16 rfl rfl)
theorem dX4_closes_42 : decode cX4_closes 42 = .ok (.iinc 4 1, 3) := dk_132 4 1 (dk_at dksX4_closes_1 19 rfl rfl)
theorem dX4_closes_45 : decode cX4_closes 45 = .ok (.goto (-37), 3) := dk_167 255 219 (dk_at dksX4_closes_2 0 rfl rfl)
theorem dX4_closes_48 : decode cX4_closes 48 = .ok (.aload_n 0, 1) := dk_42 (dk_at dksX4_closes_2 3 rfl rfl)
theorem dX4_closes_49 : decode cX4_closes 49 = .ok (.getfield 24, 3) := dk_180 0 24 (dk_at dksX4_closes_2 4 rfl rfl)
theorem dX4_closes_52 : decode cX4_closes 52 = .ok (.iconst 1, 1) := dk_4 (dk_at dksX4_closes_2 7 rfl rfl)
theorem dX4_closes_53 : decode cX4_closes 53 = .ok (.dup2, 1) := dk_92 (dk_at dksX4_closes_2 8 rfl rfl)
theorem dX4_closes_54 : decode cX4_closes 54 = .ok (.laload, 1) := dk_47 (dk_at dksX4_closes_2 9 rfl rfl)
theorem dX4_closes_55 : decode cX4_closes 55 = .ok (.aload_n 0, 1) := dk_42 (dk_at dksX4_closes_2 10 rfl rfl)
theorem dX4_closes_56 : decode cX4_closes 56 = .ok (.iload_n 1, 1) := dk_27 (dk_at dksX4_closes_2 11 rfl rfl)
theorem dX4_closes_57 : decode cX4_closes 57 = .ok (.invokevirtual 308, 3) := dk_182 1 52 (dk_at dksX4_closes_2 12 rfl rfl)
theorem dX4_closes_60 : decode cX4_closes 60 = .ok (.ladd, 1) := dk_97 (dk_at dksX4_closes_2 15 rfl rfl)
theorem dX4_closes_61 : decode cX4_closes 61 = .ok (.lastore, 1) := dk_80 (dk_at dksX4_closes_2 16 rfl rfl)
theorem dX4_closes_62 : decode cX4_closes 62 = .ok (.aload_n 0, 1) := dk_42 (dk_at dksX4_closes_2 17 rfl rfl)
theorem dX4_closes_63 : decode cX4_closes 63 = .ok (.invokevirtual 311, 3) := dk_182 1 55 (dk_at dksX4_closes_2 18 rfl rfl)
theorem dX4_closes_66 : decode cX4_closes 66 = .ok (.iconst 0, 1) := dk_3 (dk_at dksX4_closes_2 21 rfl rfl)
theorem dX4_closes_67 : decode cX4_closes 67 = .ok (.istore 4, 2) := dk_54 4 (dk_at dksX4_closes_2 22 rfl rfl)
theorem dX4_closes_69 : decode cX4_closes 69 = .ok (.iload 4, 2) := dk_21 4 (dk_at dksX4_closes_3 0 rfl rfl)
theorem dX4_closes_71 : decode cX4_closes 71 = .ok (.aload_n 0, 1) := dk_42 (dk_at dksX4_closes_3 2 rfl rfl)
theorem dX4_closes_72 : decode cX4_closes 72 = .ok (.getfield 146, 3) := dk_180 0 146 (dk_at dksX4_closes_3 3 rfl rfl)
theorem dX4_closes_75 : decode cX4_closes 75 = .ok (.if_icmp .ge 22, 3) := dk_162 0 22 (dk_at dksX4_closes_3 6 rfl rfl)
theorem dX4_closes_78 : decode cX4_closes 78 = .ok (.aload_n 3, 1) := dk_45 (dk_at dksX4_closes_3 9 rfl rfl)
theorem dX4_closes_79 : decode cX4_closes 79 = .ok (.iload 4, 2) := dk_21 4 (dk_at dksX4_closes_3 10 rfl rfl)
theorem dX4_closes_81 : decode cX4_closes 81 = .ok (.baload, 1) := dk_51 (dk_at dksX4_closes_3 12 rfl rfl)
theorem dX4_closes_82 : decode cX4_closes 82 = .ok (.ifCond .eq 9, 3) := dk_153 0 9 (dk_at dksX4_closes_3 13 rfl rfl)
theorem dX4_closes_85 : decode cX4_closes 85 = .ok (.aload_n 0, 1) := dk_42 (dk_at dksX4_closes_3 16 rfl rfl)
theorem dX4_closes_86 : decode cX4_closes 86 = .ok (.iload 4, 2) := dk_21 4 (dk_at dksX4_closes_3 17 rfl rfl)
theorem dX4_closes_88 : decode cX4_closes 88 = .ok (.invokevirtual 314, 3) := dk_182 1 58 (dk_at dksX4_closes_3 19 rfl rfl)
theorem dX4_closes_91 : decode cX4_closes 91 = .ok (.iinc 4 1, 3) := dk_132 4 1 (dk_at dksX4_closes_4 0 rfl rfl)
theorem dX4_closes_94 : decode cX4_closes 94 = .ok (.goto (-25), 3) := dk_167 255 231 (dk_at dksX4_closes_4 3 rfl rfl)
theorem dX4_closes_97 : decode cX4_closes 97 = .ok (.aload_n 0, 1) := dk_42 (dk_at dksX4_closes_4 6 rfl rfl)
theorem dX4_closes_98 : decode cX4_closes 98 = .ok (.dup, 1) := dk_89 (dk_at dksX4_closes_4 7 rfl rfl)
theorem dX4_closes_99 : decode cX4_closes 99 = .ok (.getfield 114, 3) := dk_180 0 114 (dk_at dksX4_closes_4 8 rfl rfl)
theorem dX4_closes_102 : decode cX4_closes 102 = .ok (.iconst 1, 1) := dk_4 (dk_at dksX4_closes_4 11 rfl rfl)
theorem dX4_closes_103 : decode cX4_closes 103 = .ok (.iadd, 1) := dk_96 (dk_at dksX4_closes_4 12 rfl rfl)
theorem dX4_closes_104 : decode cX4_closes 104 = .ok (.putfield 114, 3) := dk_181 0 114 (dk_at dksX4_closes_4 13 rfl rfl)
theorem dX4_closes_107 : decode cX4_closes 107 = .ok (.aload_n 0, 1) := dk_42 (dk_at dksX4_closes_4 16 rfl rfl)
theorem dX4_closes_108 : decode cX4_closes 108 = .ok (.lconst 0, 1) := dk_9 (dk_at dksX4_closes_4 17 rfl rfl)
theorem dX4_closes_109 : decode cX4_closes 109 = .ok (.putfield 165, 3) := dk_181 0 165 (dk_at dksX4_closes_4 18 rfl rfl)
theorem dX4_closes_112 : decode cX4_closes 112 = .ok (.iconst 0, 1) := dk_3 (dk_at dksX4_closes_4 21 rfl rfl)
theorem dX4_closes_113 : decode cX4_closes 113 = .ok (.istore 4, 2) := dk_54 4 (dk_at dksX4_closes_4 22 rfl rfl)
theorem dX4_closes_115 : decode cX4_closes 115 = .ok (.iload 4, 2) := dk_21 4 (dk_at dksX4_closes_5 0 rfl rfl)
theorem dX4_closes_117 : decode cX4_closes 117 = .ok (.bipush 9, 2) := dk_16 9 (dk_at dksX4_closes_5 2 rfl rfl)
theorem dX4_closes_119 : decode cX4_closes 119 = .ok (.if_icmp .ge 47, 3) := dk_162 0 47 (dk_at dksX4_closes_5 4 rfl rfl)
theorem dX4_closes_122 : decode cX4_closes 122 = .ok (.aload_n 0, 1) := dk_42 (dk_at dksX4_closes_5 7 rfl rfl)
theorem dX4_closes_123 : decode cX4_closes 123 = .ok (.getfield 28, 3) := dk_180 0 28 (dk_at dksX4_closes_5 8 rfl rfl)
theorem dX4_closes_126 : decode cX4_closes 126 = .ok (.iload 4, 2) := dk_21 4 (dk_at dksX4_closes_5 11 rfl rfl)
theorem dX4_closes_128 : decode cX4_closes 128 = .ok (.aload_n 0, 1) := dk_42 (dk_at dksX4_closes_5 13 rfl rfl)
theorem dX4_closes_129 : decode cX4_closes 129 = .ok (.getfield 24, 3) := dk_180 0 24 (dk_at dksX4_closes_5 14 rfl rfl)
theorem dX4_closes_132 : decode cX4_closes 132 = .ok (.iload 4, 2) := dk_21 4 (dk_at dksX4_closes_5 17 rfl rfl)
theorem dX4_closes_134 : decode cX4_closes 134 = .ok (.laload, 1) := dk_47 (dk_at dksX4_closes_5 19 rfl rfl)
theorem dX4_closes_135 : decode cX4_closes 135 = .ok (.lastore, 1) := dk_80 (dk_at dksX4_closes_5 20 rfl rfl)
theorem dX4_closes_136 : decode cX4_closes 136 = .ok (.aload_n 0, 1) := dk_42 (dk_at dksX4_closes_5 21 rfl rfl)
theorem dX4_closes_137 : decode cX4_closes 137 = .ok (.dup, 1) := dk_89 (dk_at dksX4_closes_5 22 rfl rfl)
theorem dX4_closes_138 : decode cX4_closes 138 = .ok (.getfield 165, 3) := dk_180 0 165 (dk_at dksX4_closes_6 0 rfl rfl)
theorem dX4_closes_141 : decode cX4_closes 141 = .ok (.aload_n 0, 1) := dk_42 (dk_at dksX4_closes_6 3 rfl rfl)
theorem dX4_closes_142 : decode cX4_closes 142 = .ok (.getfield 24, 3) := dk_180 0 24 (dk_at dksX4_closes_6 4 rfl rfl)
theorem dX4_closes_145 : decode cX4_closes 145 = .ok (.iload 4, 2) := dk_21 4 (dk_at dksX4_closes_6 7 rfl rfl)
theorem dX4_closes_147 : decode cX4_closes 147 = .ok (.laload, 1) := dk_47 (dk_at dksX4_closes_6 9 rfl rfl)
theorem dX4_closes_148 : decode cX4_closes 148 = .ok (.ladd, 1) := dk_97 (dk_at dksX4_closes_6 10 rfl rfl)
theorem dX4_closes_149 : decode cX4_closes 149 = .ok (.putfield 165, 3) := dk_181 0 165 (dk_at dksX4_closes_6 11 rfl rfl)
theorem dX4_closes_152 : decode cX4_closes 152 = .ok (.aload_n 0, 1) := dk_42 (dk_at dksX4_closes_6 14 rfl rfl)
theorem dX4_closes_153 : decode cX4_closes 153 = .ok (.getfield 24, 3) := dk_180 0 24 (dk_at dksX4_closes_6 15 rfl rfl)
theorem dX4_closes_156 : decode cX4_closes 156 = .ok (.iload 4, 2) := dk_21 4 (dk_at dksX4_closes_6 18 rfl rfl)
theorem dX4_closes_158 : decode cX4_closes 158 = .ok (.lconst 0, 1) := dk_9 (dk_at dksX4_closes_6 20 rfl rfl)
theorem dX4_closes_159 : decode cX4_closes 159 = .ok (.lastore, 1) := dk_80 (dk_at dksX4_closes_6 21 rfl rfl)
theorem dX4_closes_160 : decode cX4_closes 160 = .ok (.iinc 4 1, 3) := dk_132 4 1 (dk_at dksX4_closes_7 0 rfl rfl)
theorem dX4_closes_163 : decode cX4_closes 163 = .ok (.goto (-48), 3) := dk_167 255 208 (dk_at dksX4_closes_7 3 rfl rfl)
theorem dX4_closes_166 : decode cX4_closes 166 = .ok (.aload_n 0, 1) := dk_42 (dk_at dksX4_closes_7 6 rfl rfl)
theorem dX4_closes_167 : decode cX4_closes 167 = .ok (.iconst 0, 1) := dk_3 (dk_at dksX4_closes_7 7 rfl rfl)
theorem dX4_closes_168 : decode cX4_closes 168 = .ok (.putfield 152, 3) := dk_181 0 152 (dk_at dksX4_closes_7 8 rfl rfl)
theorem dX4_closes_171 : decode cX4_closes 171 = .ok (.aload_n 0, 1) := dk_42 (dk_at dksX4_closes_7 11 rfl rfl)
theorem dX4_closes_172 : decode cX4_closes 172 = .ok (.getfield 165, 3) := dk_180 0 165 (dk_at dksX4_closes_7 12 rfl rfl)
theorem dX4_closes_175 : decode cX4_closes 175 = .ok (.lreturn, 1) := dk_173 (dk_at dksX4_closes_7 15 rfl rfl)
abbrev cX4_begins : ByteArray := prog_12_method_28_code
def yX4_begins : MethodName := ⟨RX4, "begins", "(III)V"⟩
def dkwX4_begins_12 : List UInt8 := [180, 0, 73, 27, 47, 22, 4, 29, 133, 101, 22, 6, 101, 28, 182, 1, 31, 80, 177]
abbrev dktX4_begins_12 : List UInt8 := dkwX4_begins_12 ++ []
def dkwX4_begins_11 : List UInt8 := [180, 0, 162, 22, 8, 97, 181, 0, 162, 42, 27, 182, 1, 7, 153, 0, 28, 42, 180, 0, 73, 27, 42, 42]
abbrev dktX4_begins_11 : List UInt8 := dkwX4_begins_11 ++ dktX4_begins_12
def dkwX4_begins_10 : List UInt8 := [180, 0, 117, 22, 10, 101, 181, 0, 117, 42, 180, 0, 24, 16, 7, 92, 47, 22, 10, 101, 80, 42, 89]
abbrev dktX4_begins_10 : List UInt8 := dkwX4_begins_10 ++ dktX4_begins_11
def dkwX4_begins_9 : List UInt8 := [182, 1, 26, 22, 8, 105, 20, 0, 176, 109, 20, 1, 29, 105, 20, 0, 250, 109, 55, 10, 42, 89]
abbrev dktX4_begins_9 : List UInt8 := dkwX4_begins_9 ++ dktX4_begins_10
def dkwX4_begins_8 : List UInt8 := [180, 0, 31, 27, 46, 6, 159, 0, 71, 42, 27, 42, 180, 0, 114, 3, 182, 1, 23, 55, 8, 42, 27]
abbrev dktX4_begins_8 : List UInt8 := dkwX4_begins_8 ++ dktX4_begins_9
def dkwX4_begins_7 : List UInt8 := [180, 0, 100, 27, 47, 101, 29, 133, 101, 97, 80, 42, 180, 0, 24, 6, 92, 47, 22, 6, 101, 80, 42]
abbrev dktX4_begins_7 : List UInt8 := dkwX4_begins_7 ++ dktX4_begins_8
def dkwX4_begins_6 : List UInt8 := [181, 0, 117, 42, 180, 0, 82, 27, 92, 47, 22, 4, 97, 80, 42, 180, 0, 24, 5, 92, 47, 22, 4, 42]
abbrev dktX4_begins_6 : List UInt8 := dkwX4_begins_6 ++ dktX4_begins_7
def dkwX4_begins_5 : List UInt8 := [27, 47, 20, 0, 172, 109, 55, 6, 42, 89, 180, 0, 117, 22, 4, 29, 133, 101, 22, 6, 101, 97]
abbrev dktX4_begins_5 : List UInt8 := dkwX4_begins_5 ++ dktX4_begins_6
def dkwX4_begins_4 : List UInt8 := [160, 0, 20, 42, 180, 0, 79, 27, 47, 20, 0, 186, 105, 20, 0, 196, 109, 167, 0, 13, 42, 180, 0, 79]
abbrev dktX4_begins_4 : List UInt8 := dkwX4_begins_4 ++ dktX4_begins_5
def dkwX4_begins_3 : List UInt8 := [180, 0, 114, 42, 180, 0, 43, 27, 46, 164, 0, 7, 9, 167, 0, 40, 42, 180, 0, 31, 27, 46, 6]
abbrev dktX4_begins_3 : List UInt8 := dkwX4_begins_3 ++ dktX4_begins_4
def dkwX4_begins_2 : List UInt8 := [180, 0, 114, 182, 1, 19, 153, 0, 12, 42, 180, 0, 79, 27, 47, 167, 0, 4, 9, 55, 4, 42]
abbrev dktX4_begins_2 : List UInt8 := dkwX4_begins_2 ++ dktX4_begins_3
def dkwX4_begins_1 : List UInt8 := [180, 0, 114, 182, 1, 19, 153, 0, 12, 42, 27, 3, 182, 1, 13, 167, 0, 4, 9, 80, 42, 27, 42]
abbrev dktX4_begins_1 : List UInt8 := dkwX4_begins_1 ++ dktX4_begins_2
def dkwX4_begins_0 : List UInt8 := [42, 180, 0, 97, 27, 42, 27, 42, 180, 0, 114, 3, 182, 0, 244, 80, 42, 180, 0, 100, 27, 42, 27, 42]
abbrev dktX4_begins_0 : List UInt8 := dkwX4_begins_0 ++ dktX4_begins_1
theorem dksX4_begins_0 : cX4_begins.data.toList.drop 0 = dktX4_begins_0 := by decide +kernel
theorem dksX4_begins_1 : cX4_begins.data.toList.drop 24 = dktX4_begins_1 := dk_seg dksX4_begins_0 24 rfl rfl
theorem dksX4_begins_2 : cX4_begins.data.toList.drop 47 = dktX4_begins_2 := dk_seg dksX4_begins_1 23 rfl rfl
theorem dksX4_begins_3 : cX4_begins.data.toList.drop 69 = dktX4_begins_3 := dk_seg dksX4_begins_2 22 rfl rfl
theorem dksX4_begins_4 : cX4_begins.data.toList.drop 92 = dktX4_begins_4 := dk_seg dksX4_begins_3 23 rfl rfl
theorem dksX4_begins_5 : cX4_begins.data.toList.drop 116 = dktX4_begins_5 := dk_seg dksX4_begins_4 24 rfl rfl
theorem dksX4_begins_6 : cX4_begins.data.toList.drop 138 = dktX4_begins_6 := dk_seg dksX4_begins_5 22 rfl rfl
theorem dksX4_begins_7 : cX4_begins.data.toList.drop 162 = dktX4_begins_7 := dk_seg dksX4_begins_6 24 rfl rfl
theorem dksX4_begins_8 : cX4_begins.data.toList.drop 185 = dktX4_begins_8 := dk_seg dksX4_begins_7 23 rfl rfl
theorem dksX4_begins_9 : cX4_begins.data.toList.drop 208 = dktX4_begins_9 := dk_seg dksX4_begins_8 23 rfl rfl
theorem dksX4_begins_10 : cX4_begins.data.toList.drop 230 = dktX4_begins_10 := dk_seg dksX4_begins_9 22 rfl rfl
theorem dksX4_begins_11 : cX4_begins.data.toList.drop 253 = dktX4_begins_11 := dk_seg dksX4_begins_10 23 rfl rfl
theorem dksX4_begins_12 : cX4_begins.data.toList.drop 277 = dktX4_begins_12 := dk_seg dksX4_begins_11 24 rfl rfl
theorem dX4_begins_0 : decode cX4_begins 0 = .ok (.aload_n 0, 1) := dk_42 (dk_at dksX4_begins_0 0 rfl rfl)
theorem dX4_begins_1 : decode cX4_begins 1 = .ok (.getfield 97, 3) := dk_180 0 97 (dk_at dksX4_begins_0 1 rfl rfl)
theorem dX4_begins_4 : decode cX4_begins 4 = .ok (.iload_n 1, 1) := dk_27 (dk_at dksX4_begins_0 4 rfl rfl)
theorem dX4_begins_5 : decode cX4_begins 5 = .ok (.aload_n 0, 1) := dk_42 (dk_at dksX4_begins_0 5 rfl rfl)
theorem dX4_begins_6 : decode cX4_begins 6 = .ok (.iload_n 1, 1) := dk_27 (dk_at dksX4_begins_0 6 rfl rfl)
theorem dX4_begins_7 : decode cX4_begins 7 = .ok (.aload_n 0, 1) := dk_42 (dk_at dksX4_begins_0 7 rfl rfl)
theorem dX4_begins_8 : decode cX4_begins 8 = .ok (.getfield 114, 3) := dk_180 0 114 (dk_at dksX4_begins_0 8 rfl rfl)
theorem dX4_begins_11 : decode cX4_begins 11 = .ok (.iconst 0, 1) := dk_3 (dk_at dksX4_begins_0 11 rfl rfl)
theorem dX4_begins_12 : decode cX4_begins 12 = .ok (.invokevirtual 244, 3) := dk_182 0 244 (dk_at dksX4_begins_0 12 rfl rfl)
theorem dX4_begins_15 : decode cX4_begins 15 = .ok (.lastore, 1) := dk_80 (dk_at dksX4_begins_0 15 rfl rfl)
theorem dX4_begins_16 : decode cX4_begins 16 = .ok (.aload_n 0, 1) := dk_42 (dk_at dksX4_begins_0 16 rfl rfl)
theorem dX4_begins_17 : decode cX4_begins 17 = .ok (.getfield 100, 3) := dk_180 0 100 (dk_at dksX4_begins_0 17 rfl rfl)
theorem dX4_begins_20 : decode cX4_begins 20 = .ok (.iload_n 1, 1) := dk_27 (dk_at dksX4_begins_0 20 rfl rfl)
theorem dX4_begins_21 : decode cX4_begins 21 = .ok (.aload_n 0, 1) := dk_42 (dk_at dksX4_begins_0 21 rfl rfl)
theorem dX4_begins_22 : decode cX4_begins 22 = .ok (.iload_n 1, 1) := dk_27 (dk_at dksX4_begins_0 22 rfl rfl)
theorem dX4_begins_23 : decode cX4_begins 23 = .ok (.aload_n 0, 1) := dk_42 (dk_at dksX4_begins_0 23 rfl rfl)
theorem dX4_begins_24 : decode cX4_begins 24 = .ok (.getfield 114, 3) := dk_180 0 114 (dk_at dksX4_begins_1 0 rfl rfl)
theorem dX4_begins_27 : decode cX4_begins 27 = .ok (.invokevirtual 275, 3) := dk_182 1 19 (dk_at dksX4_begins_1 3 rfl rfl)
theorem dX4_begins_30 : decode cX4_begins 30 = .ok (.ifCond .eq 12, 3) := dk_153 0 12 (dk_at dksX4_begins_1 6 rfl rfl)
theorem dX4_begins_33 : decode cX4_begins 33 = .ok (.aload_n 0, 1) := dk_42 (dk_at dksX4_begins_1 9 rfl rfl)
theorem dX4_begins_34 : decode cX4_begins 34 = .ok (.iload_n 1, 1) := dk_27 (dk_at dksX4_begins_1 10 rfl rfl)
theorem dX4_begins_35 : decode cX4_begins 35 = .ok (.iconst 0, 1) := dk_3 (dk_at dksX4_begins_1 11 rfl rfl)
theorem dX4_begins_36 : decode cX4_begins 36 = .ok (.invokevirtual 269, 3) := dk_182 1 13 (dk_at dksX4_begins_1 12 rfl rfl)
theorem dX4_begins_39 : decode cX4_begins 39 = .ok (.goto 4, 3) := dk_167 0 4 (dk_at dksX4_begins_1 15 rfl rfl)
theorem dX4_begins_42 : decode cX4_begins 42 = .ok (.lconst 0, 1) := dk_9 (dk_at dksX4_begins_1 18 rfl rfl)
theorem dX4_begins_43 : decode cX4_begins 43 = .ok (.lastore, 1) := dk_80 (dk_at dksX4_begins_1 19 rfl rfl)
theorem dX4_begins_44 : decode cX4_begins 44 = .ok (.aload_n 0, 1) := dk_42 (dk_at dksX4_begins_1 20 rfl rfl)
theorem dX4_begins_45 : decode cX4_begins 45 = .ok (.iload_n 1, 1) := dk_27 (dk_at dksX4_begins_1 21 rfl rfl)
theorem dX4_begins_46 : decode cX4_begins 46 = .ok (.aload_n 0, 1) := dk_42 (dk_at dksX4_begins_1 22 rfl rfl)
theorem dX4_begins_47 : decode cX4_begins 47 = .ok (.getfield 114, 3) := dk_180 0 114 (dk_at dksX4_begins_2 0 rfl rfl)
theorem dX4_begins_50 : decode cX4_begins 50 = .ok (.invokevirtual 275, 3) := dk_182 1 19 (dk_at dksX4_begins_2 3 rfl rfl)
theorem dX4_begins_53 : decode cX4_begins 53 = .ok (.ifCond .eq 12, 3) := dk_153 0 12 (dk_at dksX4_begins_2 6 rfl rfl)
theorem dX4_begins_56 : decode cX4_begins 56 = .ok (.aload_n 0, 1) := dk_42 (dk_at dksX4_begins_2 9 rfl rfl)
theorem dX4_begins_57 : decode cX4_begins 57 = .ok (.getfield 79, 3) := dk_180 0 79 (dk_at dksX4_begins_2 10 rfl rfl)
theorem dX4_begins_60 : decode cX4_begins 60 = .ok (.iload_n 1, 1) := dk_27 (dk_at dksX4_begins_2 13 rfl rfl)
theorem dX4_begins_61 : decode cX4_begins 61 = .ok (.laload, 1) := dk_47 (dk_at dksX4_begins_2 14 rfl rfl)
theorem dX4_begins_62 : decode cX4_begins 62 = .ok (.goto 4, 3) := dk_167 0 4 (dk_at dksX4_begins_2 15 rfl rfl)
theorem dX4_begins_65 : decode cX4_begins 65 = .ok (.lconst 0, 1) := dk_9 (dk_at dksX4_begins_2 18 rfl rfl)
theorem dX4_begins_66 : decode cX4_begins 66 = .ok (.lstore 4, 2) := dk_55 4 (dk_at dksX4_begins_2 19 rfl rfl)
theorem dX4_begins_68 : decode cX4_begins 68 = .ok (.aload_n 0, 1) := dk_42 (dk_at dksX4_begins_2 21 rfl rfl)
theorem dX4_begins_69 : decode cX4_begins 69 = .ok (.getfield 114, 3) := dk_180 0 114 (dk_at dksX4_begins_3 0 rfl rfl)
theorem dX4_begins_72 : decode cX4_begins 72 = .ok (.aload_n 0, 1) := dk_42 (dk_at dksX4_begins_3 3 rfl rfl)
theorem dX4_begins_73 : decode cX4_begins 73 = .ok (.getfield 43, 3) := dk_180 0 43 (dk_at dksX4_begins_3 4 rfl rfl)
theorem dX4_begins_76 : decode cX4_begins 76 = .ok (.iload_n 1, 1) := dk_27 (dk_at dksX4_begins_3 7 rfl rfl)
theorem dX4_begins_77 : decode cX4_begins 77 = .ok (.iaload, 1) := dk_46 (dk_at dksX4_begins_3 8 rfl rfl)
theorem dX4_begins_78 : decode cX4_begins 78 = .ok (.if_icmp .le 7, 3) := dk_164 0 7 (dk_at dksX4_begins_3 9 rfl rfl)
theorem dX4_begins_81 : decode cX4_begins 81 = .ok (.lconst 0, 1) := dk_9 (dk_at dksX4_begins_3 12 rfl rfl)
theorem dX4_begins_82 : decode cX4_begins 82 = .ok (.goto 40, 3) := dk_167 0 40 (dk_at dksX4_begins_3 13 rfl rfl)
theorem dX4_begins_85 : decode cX4_begins 85 = .ok (.aload_n 0, 1) := dk_42 (dk_at dksX4_begins_3 16 rfl rfl)
theorem dX4_begins_86 : decode cX4_begins 86 = .ok (.getfield 31, 3) := dk_180 0 31 (dk_at dksX4_begins_3 17 rfl rfl)
theorem dX4_begins_89 : decode cX4_begins 89 = .ok (.iload_n 1, 1) := dk_27 (dk_at dksX4_begins_3 20 rfl rfl)
theorem dX4_begins_90 : decode cX4_begins 90 = .ok (.iaload, 1) := dk_46 (dk_at dksX4_begins_3 21 rfl rfl)
theorem dX4_begins_91 : decode cX4_begins 91 = .ok (.iconst 3, 1) := dk_6 (dk_at dksX4_begins_3 22 rfl rfl)
theorem dX4_begins_92 : decode cX4_begins 92 = .ok (.if_icmp .ne 20, 3) := dk_160 0 20 (dk_at dksX4_begins_4 0 rfl rfl)
theorem dX4_begins_95 : decode cX4_begins 95 = .ok (.aload_n 0, 1) := dk_42 (dk_at dksX4_begins_4 3 rfl rfl)
theorem dX4_begins_96 : decode cX4_begins 96 = .ok (.getfield 79, 3) := dk_180 0 79 (dk_at dksX4_begins_4 4 rfl rfl)
theorem dX4_begins_99 : decode cX4_begins 99 = .ok (.iload_n 1, 1) := dk_27 (dk_at dksX4_begins_4 7 rfl rfl)
theorem dX4_begins_100 : decode cX4_begins 100 = .ok (.laload, 1) := dk_47 (dk_at dksX4_begins_4 8 rfl rfl)
theorem dX4_begins_101 : decode cX4_begins 101 = .ok (.ldc2_w 186, 3) := dk_20 0 186 (dk_at dksX4_begins_4 9 rfl rfl)
theorem dX4_begins_104 : decode cX4_begins 104 = .ok (.lmul, 1) := dk_105 (dk_at dksX4_begins_4 12 rfl rfl)
theorem dX4_begins_105 : decode cX4_begins 105 = .ok (.ldc2_w 196, 3) := dk_20 0 196 (dk_at dksX4_begins_4 13 rfl rfl)
theorem dX4_begins_108 : decode cX4_begins 108 = .ok (.ldiv, 1) := dk_109 (dk_at dksX4_begins_4 16 rfl rfl)
theorem dX4_begins_109 : decode cX4_begins 109 = .ok (.goto 13, 3) := dk_167 0 13 (dk_at dksX4_begins_4 17 rfl rfl)
theorem dX4_begins_112 : decode cX4_begins 112 = .ok (.aload_n 0, 1) := dk_42 (dk_at dksX4_begins_4 20 rfl rfl)
theorem dX4_begins_113 : decode cX4_begins 113 = .ok (.getfield 79, 3) := dk_180 0 79 (dk_at dksX4_begins_4 21 rfl rfl)
theorem dX4_begins_116 : decode cX4_begins 116 = .ok (.iload_n 1, 1) := dk_27 (dk_at dksX4_begins_5 0 rfl rfl)
theorem dX4_begins_117 : decode cX4_begins 117 = .ok (.laload, 1) := dk_47 (dk_at dksX4_begins_5 1 rfl rfl)
theorem dX4_begins_118 : decode cX4_begins 118 = .ok (.ldc2_w 172, 3) := dk_20 0 172 (dk_at dksX4_begins_5 2 rfl rfl)
theorem dX4_begins_121 : decode cX4_begins 121 = .ok (.ldiv, 1) := dk_109 (dk_at dksX4_begins_5 5 rfl rfl)
theorem dX4_begins_122 : decode cX4_begins 122 = .ok (.lstore 6, 2) := dk_55 6 (dk_at dksX4_begins_5 6 rfl rfl)
theorem dX4_begins_124 : decode cX4_begins 124 = .ok (.aload_n 0, 1) := dk_42 (dk_at dksX4_begins_5 8 rfl rfl)
theorem dX4_begins_125 : decode cX4_begins 125 = .ok (.dup, 1) := dk_89 (dk_at dksX4_begins_5 9 rfl rfl)
theorem dX4_begins_126 : decode cX4_begins 126 = .ok (.getfield 117, 3) := dk_180 0 117 (dk_at dksX4_begins_5 10 rfl rfl)
theorem dX4_begins_129 : decode cX4_begins 129 = .ok (.lload 4, 2) := dk_22 4 (dk_at dksX4_begins_5 13 rfl rfl)
theorem dX4_begins_131 : decode cX4_begins 131 = .ok (.iload_n 3, 1) := dk_29 (dk_at dksX4_begins_5 15 rfl rfl)
theorem dX4_begins_132 : decode cX4_begins 132 = .ok (.i2l, 1) := dk_133 (dk_at dksX4_begins_5 16 rfl rfl)
theorem dX4_begins_133 : decode cX4_begins 133 = .ok (.lsub, 1) := dk_101 (dk_at dksX4_begins_5 17 rfl rfl)
theorem dX4_begins_134 : decode cX4_begins 134 = .ok (.lload 6, 2) := dk_22 6 (dk_at dksX4_begins_5 18 rfl rfl)
theorem dX4_begins_136 : decode cX4_begins 136 = .ok (.lsub, 1) := dk_101 (dk_at dksX4_begins_5 20 rfl rfl)
theorem dX4_begins_137 : decode cX4_begins 137 = .ok (.ladd, 1) := dk_97 (dk_at dksX4_begins_5 21 rfl rfl)
theorem dX4_begins_138 : decode cX4_begins 138 = .ok (.putfield 117, 3) := dk_181 0 117 (dk_at dksX4_begins_6 0 rfl rfl)
theorem dX4_begins_141 : decode cX4_begins 141 = .ok (.aload_n 0, 1) := dk_42 (dk_at dksX4_begins_6 3 rfl rfl)
theorem dX4_begins_142 : decode cX4_begins 142 = .ok (.getfield 82, 3) := dk_180 0 82 (dk_at dksX4_begins_6 4 rfl rfl)
theorem dX4_begins_145 : decode cX4_begins 145 = .ok (.iload_n 1, 1) := dk_27 (dk_at dksX4_begins_6 7 rfl rfl)
theorem dX4_begins_146 : decode cX4_begins 146 = .ok (.dup2, 1) := dk_92 (dk_at dksX4_begins_6 8 rfl rfl)
theorem dX4_begins_147 : decode cX4_begins 147 = .ok (.laload, 1) := dk_47 (dk_at dksX4_begins_6 9 rfl rfl)
theorem dX4_begins_148 : decode cX4_begins 148 = .ok (.lload 4, 2) := dk_22 4 (dk_at dksX4_begins_6 10 rfl rfl)
theorem dX4_begins_150 : decode cX4_begins 150 = .ok (.ladd, 1) := dk_97 (dk_at dksX4_begins_6 12 rfl rfl)
theorem dX4_begins_151 : decode cX4_begins 151 = .ok (.lastore, 1) := dk_80 (dk_at dksX4_begins_6 13 rfl rfl)
theorem dX4_begins_152 : decode cX4_begins 152 = .ok (.aload_n 0, 1) := dk_42 (dk_at dksX4_begins_6 14 rfl rfl)
theorem dX4_begins_153 : decode cX4_begins 153 = .ok (.getfield 24, 3) := dk_180 0 24 (dk_at dksX4_begins_6 15 rfl rfl)
theorem dX4_begins_156 : decode cX4_begins 156 = .ok (.iconst 2, 1) := dk_5 (dk_at dksX4_begins_6 18 rfl rfl)
theorem dX4_begins_157 : decode cX4_begins 157 = .ok (.dup2, 1) := dk_92 (dk_at dksX4_begins_6 19 rfl rfl)
theorem dX4_begins_158 : decode cX4_begins 158 = .ok (.laload, 1) := dk_47 (dk_at dksX4_begins_6 20 rfl rfl)
theorem dX4_begins_159 : decode cX4_begins 159 = .ok (.lload 4, 2) := dk_22 4 (dk_at dksX4_begins_6 21 rfl rfl)
theorem dX4_begins_161 : decode cX4_begins 161 = .ok (.aload_n 0, 1) := dk_42 (dk_at dksX4_begins_6 23 rfl rfl)
theorem dX4_begins_162 : decode cX4_begins 162 = .ok (.getfield 100, 3) := dk_180 0 100 (dk_at dksX4_begins_7 0 rfl rfl)
theorem dX4_begins_165 : decode cX4_begins 165 = .ok (.iload_n 1, 1) := dk_27 (dk_at dksX4_begins_7 3 rfl rfl)
theorem dX4_begins_166 : decode cX4_begins 166 = .ok (.laload, 1) := dk_47 (dk_at dksX4_begins_7 4 rfl rfl)
theorem dX4_begins_167 : decode cX4_begins 167 = .ok (.lsub, 1) := dk_101 (dk_at dksX4_begins_7 5 rfl rfl)
theorem dX4_begins_168 : decode cX4_begins 168 = .ok (.iload_n 3, 1) := dk_29 (dk_at dksX4_begins_7 6 rfl rfl)
theorem dX4_begins_169 : decode cX4_begins 169 = .ok (.i2l, 1) := dk_133 (dk_at dksX4_begins_7 7 rfl rfl)
theorem dX4_begins_170 : decode cX4_begins 170 = .ok (.lsub, 1) := dk_101 (dk_at dksX4_begins_7 8 rfl rfl)
theorem dX4_begins_171 : decode cX4_begins 171 = .ok (.ladd, 1) := dk_97 (dk_at dksX4_begins_7 9 rfl rfl)
theorem dX4_begins_172 : decode cX4_begins 172 = .ok (.lastore, 1) := dk_80 (dk_at dksX4_begins_7 10 rfl rfl)
theorem dX4_begins_173 : decode cX4_begins 173 = .ok (.aload_n 0, 1) := dk_42 (dk_at dksX4_begins_7 11 rfl rfl)
theorem dX4_begins_174 : decode cX4_begins 174 = .ok (.getfield 24, 3) := dk_180 0 24 (dk_at dksX4_begins_7 12 rfl rfl)
theorem dX4_begins_177 : decode cX4_begins 177 = .ok (.iconst 3, 1) := dk_6 (dk_at dksX4_begins_7 15 rfl rfl)
theorem dX4_begins_178 : decode cX4_begins 178 = .ok (.dup2, 1) := dk_92 (dk_at dksX4_begins_7 16 rfl rfl)
theorem dX4_begins_179 : decode cX4_begins 179 = .ok (.laload, 1) := dk_47 (dk_at dksX4_begins_7 17 rfl rfl)
theorem dX4_begins_180 : decode cX4_begins 180 = .ok (.lload 6, 2) := dk_22 6 (dk_at dksX4_begins_7 18 rfl rfl)
theorem dX4_begins_182 : decode cX4_begins 182 = .ok (.lsub, 1) := dk_101 (dk_at dksX4_begins_7 20 rfl rfl)
theorem dX4_begins_183 : decode cX4_begins 183 = .ok (.lastore, 1) := dk_80 (dk_at dksX4_begins_7 21 rfl rfl)
theorem dX4_begins_184 : decode cX4_begins 184 = .ok (.aload_n 0, 1) := dk_42 (dk_at dksX4_begins_7 22 rfl rfl)
theorem dX4_begins_185 : decode cX4_begins 185 = .ok (.getfield 31, 3) := dk_180 0 31 (dk_at dksX4_begins_8 0 rfl rfl)
theorem dX4_begins_188 : decode cX4_begins 188 = .ok (.iload_n 1, 1) := dk_27 (dk_at dksX4_begins_8 3 rfl rfl)
theorem dX4_begins_189 : decode cX4_begins 189 = .ok (.iaload, 1) := dk_46 (dk_at dksX4_begins_8 4 rfl rfl)
theorem dX4_begins_190 : decode cX4_begins 190 = .ok (.iconst 3, 1) := dk_6 (dk_at dksX4_begins_8 5 rfl rfl)
theorem dX4_begins_191 : decode cX4_begins 191 = .ok (.if_icmp .eq 71, 3) := dk_159 0 71 (dk_at dksX4_begins_8 6 rfl rfl)
theorem dX4_begins_194 : decode cX4_begins 194 = .ok (.aload_n 0, 1) := dk_42 (dk_at dksX4_begins_8 9 rfl rfl)
theorem dX4_begins_195 : decode cX4_begins 195 = .ok (.iload_n 1, 1) := dk_27 (dk_at dksX4_begins_8 10 rfl rfl)
theorem dX4_begins_196 : decode cX4_begins 196 = .ok (.aload_n 0, 1) := dk_42 (dk_at dksX4_begins_8 11 rfl rfl)
theorem dX4_begins_197 : decode cX4_begins 197 = .ok (.getfield 114, 3) := dk_180 0 114 (dk_at dksX4_begins_8 12 rfl rfl)
theorem dX4_begins_200 : decode cX4_begins 200 = .ok (.iconst 0, 1) := dk_3 (dk_at dksX4_begins_8 15 rfl rfl)
theorem dX4_begins_201 : decode cX4_begins 201 = .ok (.invokevirtual 279, 3) := dk_182 1 23 (dk_at dksX4_begins_8 16 rfl rfl)
theorem dX4_begins_204 : decode cX4_begins 204 = .ok (.lstore 8, 2) := dk_55 8 (dk_at dksX4_begins_8 19 rfl rfl)
theorem dX4_begins_206 : decode cX4_begins 206 = .ok (.aload_n 0, 1) := dk_42 (dk_at dksX4_begins_8 21 rfl rfl)
theorem dX4_begins_207 : decode cX4_begins 207 = .ok (.iload_n 1, 1) := dk_27 (dk_at dksX4_begins_8 22 rfl rfl)
theorem dX4_begins_208 : decode cX4_begins 208 = .ok (.invokevirtual 282, 3) := dk_182 1 26 (dk_at dksX4_begins_9 0 rfl rfl)
theorem dX4_begins_211 : decode cX4_begins 211 = .ok (.lload 8, 2) := dk_22 8 (dk_at dksX4_begins_9 3 rfl rfl)
theorem dX4_begins_213 : decode cX4_begins 213 = .ok (.lmul, 1) := dk_105 (dk_at dksX4_begins_9 5 rfl rfl)
theorem dX4_begins_214 : decode cX4_begins 214 = .ok (.ldc2_w 176, 3) := dk_20 0 176 (dk_at dksX4_begins_9 6 rfl rfl)
theorem dX4_begins_217 : decode cX4_begins 217 = .ok (.ldiv, 1) := dk_109 (dk_at dksX4_begins_9 9 rfl rfl)
theorem dX4_begins_218 : decode cX4_begins 218 = .ok (.ldc2_w 285, 3) := dk_20 1 29 (dk_at dksX4_begins_9 10 rfl rfl)
theorem dX4_begins_221 : decode cX4_begins 221 = .ok (.lmul, 1) := dk_105 (dk_at dksX4_begins_9 13 rfl rfl)
theorem dX4_begins_222 : decode cX4_begins 222 = .ok (.ldc2_w 250, 3) := dk_20 0 250 (dk_at dksX4_begins_9 14 rfl rfl)
theorem dX4_begins_225 : decode cX4_begins 225 = .ok (.ldiv, 1) := dk_109 (dk_at dksX4_begins_9 17 rfl rfl)
theorem dX4_begins_226 : decode cX4_begins 226 = .ok (.lstore 10, 2) := dk_55 10 (dk_at dksX4_begins_9 18 rfl rfl)
theorem dX4_begins_228 : decode cX4_begins 228 = .ok (.aload_n 0, 1) := dk_42 (dk_at dksX4_begins_9 20 rfl rfl)
theorem dX4_begins_229 : decode cX4_begins 229 = .ok (.dup, 1) := dk_89 (dk_at dksX4_begins_9 21 rfl rfl)
theorem dX4_begins_230 : decode cX4_begins 230 = .ok (.getfield 117, 3) := dk_180 0 117 (dk_at dksX4_begins_10 0 rfl rfl)
theorem dX4_begins_233 : decode cX4_begins 233 = .ok (.lload 10, 2) := dk_22 10 (dk_at dksX4_begins_10 3 rfl rfl)
theorem dX4_begins_235 : decode cX4_begins 235 = .ok (.lsub, 1) := dk_101 (dk_at dksX4_begins_10 5 rfl rfl)
theorem dX4_begins_236 : decode cX4_begins 236 = .ok (.putfield 117, 3) := dk_181 0 117 (dk_at dksX4_begins_10 6 rfl rfl)
theorem dX4_begins_239 : decode cX4_begins 239 = .ok (.aload_n 0, 1) := dk_42 (dk_at dksX4_begins_10 9 rfl rfl)
theorem dX4_begins_240 : decode cX4_begins 240 = .ok (.getfield 24, 3) := dk_180 0 24 (dk_at dksX4_begins_10 10 rfl rfl)
theorem dX4_begins_243 : decode cX4_begins 243 = .ok (.bipush 7, 2) := dk_16 7 (dk_at dksX4_begins_10 13 rfl rfl)
theorem dX4_begins_245 : decode cX4_begins 245 = .ok (.dup2, 1) := dk_92 (dk_at dksX4_begins_10 15 rfl rfl)
theorem dX4_begins_246 : decode cX4_begins 246 = .ok (.laload, 1) := dk_47 (dk_at dksX4_begins_10 16 rfl rfl)
theorem dX4_begins_247 : decode cX4_begins 247 = .ok (.lload 10, 2) := dk_22 10 (dk_at dksX4_begins_10 17 rfl rfl)
theorem dX4_begins_249 : decode cX4_begins 249 = .ok (.lsub, 1) := dk_101 (dk_at dksX4_begins_10 19 rfl rfl)
theorem dX4_begins_250 : decode cX4_begins 250 = .ok (.lastore, 1) := dk_80 (dk_at dksX4_begins_10 20 rfl rfl)
theorem dX4_begins_251 : decode cX4_begins 251 = .ok (.aload_n 0, 1) := dk_42 (dk_at dksX4_begins_10 21 rfl rfl)
theorem dX4_begins_252 : decode cX4_begins 252 = .ok (.dup, 1) := dk_89 (dk_at dksX4_begins_10 22 rfl rfl)
theorem dX4_begins_253 : decode cX4_begins 253 = .ok (.getfield 162, 3) := dk_180 0 162 (dk_at dksX4_begins_11 0 rfl rfl)
theorem dX4_begins_256 : decode cX4_begins 256 = .ok (.lload 8, 2) := dk_22 8 (dk_at dksX4_begins_11 3 rfl rfl)
theorem dX4_begins_258 : decode cX4_begins 258 = .ok (.ladd, 1) := dk_97 (dk_at dksX4_begins_11 5 rfl rfl)
theorem dX4_begins_259 : decode cX4_begins 259 = .ok (.putfield 162, 3) := dk_181 0 162 (dk_at dksX4_begins_11 6 rfl rfl)
theorem dX4_begins_262 : decode cX4_begins 262 = .ok (.aload_n 0, 1) := dk_42 (dk_at dksX4_begins_11 9 rfl rfl)
theorem dX4_begins_263 : decode cX4_begins 263 = .ok (.iload_n 1, 1) := dk_27 (dk_at dksX4_begins_11 10 rfl rfl)
theorem dX4_begins_264 : decode cX4_begins 264 = .ok (.invokevirtual 263, 3) := dk_182 1 7 (dk_at dksX4_begins_11 11 rfl rfl)
theorem dX4_begins_267 : decode cX4_begins 267 = .ok (.ifCond .eq 28, 3) := dk_153 0 28 (dk_at dksX4_begins_11 14 rfl rfl)
theorem dX4_begins_270 : decode cX4_begins 270 = .ok (.aload_n 0, 1) := dk_42 (dk_at dksX4_begins_11 17 rfl rfl)
theorem dX4_begins_271 : decode cX4_begins 271 = .ok (.getfield 73, 3) := dk_180 0 73 (dk_at dksX4_begins_11 18 rfl rfl)
theorem dX4_begins_274 : decode cX4_begins 274 = .ok (.iload_n 1, 1) := dk_27 (dk_at dksX4_begins_11 21 rfl rfl)
theorem dX4_begins_275 : decode cX4_begins 275 = .ok (.aload_n 0, 1) := dk_42 (dk_at dksX4_begins_11 22 rfl rfl)
theorem dX4_begins_276 : decode cX4_begins 276 = .ok (.aload_n 0, 1) := dk_42 (dk_at dksX4_begins_11 23 rfl rfl)
theorem dX4_begins_277 : decode cX4_begins 277 = .ok (.getfield 73, 3) := dk_180 0 73 (dk_at dksX4_begins_12 0 rfl rfl)
theorem dX4_begins_280 : decode cX4_begins 280 = .ok (.iload_n 1, 1) := dk_27 (dk_at dksX4_begins_12 3 rfl rfl)
theorem dX4_begins_281 : decode cX4_begins 281 = .ok (.laload, 1) := dk_47 (dk_at dksX4_begins_12 4 rfl rfl)
theorem dX4_begins_282 : decode cX4_begins 282 = .ok (.lload 4, 2) := dk_22 4 (dk_at dksX4_begins_12 5 rfl rfl)
theorem dX4_begins_284 : decode cX4_begins 284 = .ok (.iload_n 3, 1) := dk_29 (dk_at dksX4_begins_12 7 rfl rfl)
theorem dX4_begins_285 : decode cX4_begins 285 = .ok (.i2l, 1) := dk_133 (dk_at dksX4_begins_12 8 rfl rfl)
theorem dX4_begins_286 : decode cX4_begins 286 = .ok (.lsub, 1) := dk_101 (dk_at dksX4_begins_12 9 rfl rfl)
theorem dX4_begins_287 : decode cX4_begins 287 = .ok (.lload 6, 2) := dk_22 6 (dk_at dksX4_begins_12 10 rfl rfl)
theorem dX4_begins_289 : decode cX4_begins 289 = .ok (.lsub, 1) := dk_101 (dk_at dksX4_begins_12 12 rfl rfl)
theorem dX4_begins_290 : decode cX4_begins 290 = .ok (.iload_n 2, 1) := dk_28 (dk_at dksX4_begins_12 13 rfl rfl)
theorem dX4_begins_291 : decode cX4_begins 291 = .ok (.invokevirtual 287, 3) := dk_182 1 31 (dk_at dksX4_begins_12 14 rfl rfl)
theorem dX4_begins_294 : decode cX4_begins 294 = .ok (.lastore, 1) := dk_80 (dk_at dksX4_begins_12 17 rfl rfl)
theorem dX4_begins_295 : decode cX4_begins 295 = .ok (.return_, 1) := dk_177 (dk_at dksX4_begins_12 18 rfl rfl)
abbrev cX4_pays : ByteArray := prog_12_method_26_code
def yX4_pays : MethodName := ⟨RX4, "pays", "(II)Z"⟩
def dkwX4_pays_1 : List UInt8 := [27, 46, 160, 0, 7, 4, 167, 0, 4, 3, 172]
abbrev dktX4_pays_1 : List UInt8 := dkwX4_pays_1 ++ []
def dkwX4_pays_0 : List UInt8 := [42, 180, 0, 64, 27, 51, 154, 0, 27, 42, 180, 0, 31, 27, 46, 6, 160, 0, 13, 28, 42, 180, 0, 43]
abbrev dktX4_pays_0 : List UInt8 := dkwX4_pays_0 ++ dktX4_pays_1
theorem dksX4_pays_0 : cX4_pays.data.toList.drop 0 = dktX4_pays_0 := by decide +kernel
theorem dksX4_pays_1 : cX4_pays.data.toList.drop 24 = dktX4_pays_1 := dk_seg dksX4_pays_0 24 rfl rfl
theorem dX4_pays_0 : decode cX4_pays 0 = .ok (.aload_n 0, 1) := dk_42 (dk_at dksX4_pays_0 0 rfl rfl)
theorem dX4_pays_1 : decode cX4_pays 1 = .ok (.getfield 64, 3) := dk_180 0 64 (dk_at dksX4_pays_0 1 rfl rfl)
theorem dX4_pays_4 : decode cX4_pays 4 = .ok (.iload_n 1, 1) := dk_27 (dk_at dksX4_pays_0 4 rfl rfl)
theorem dX4_pays_5 : decode cX4_pays 5 = .ok (.baload, 1) := dk_51 (dk_at dksX4_pays_0 5 rfl rfl)
theorem dX4_pays_6 : decode cX4_pays 6 = .ok (.ifCond .ne 27, 3) := dk_154 0 27 (dk_at dksX4_pays_0 6 rfl rfl)
theorem dX4_pays_9 : decode cX4_pays 9 = .ok (.aload_n 0, 1) := dk_42 (dk_at dksX4_pays_0 9 rfl rfl)
theorem dX4_pays_10 : decode cX4_pays 10 = .ok (.getfield 31, 3) := dk_180 0 31 (dk_at dksX4_pays_0 10 rfl rfl)
theorem dX4_pays_13 : decode cX4_pays 13 = .ok (.iload_n 1, 1) := dk_27 (dk_at dksX4_pays_0 13 rfl rfl)
theorem dX4_pays_14 : decode cX4_pays 14 = .ok (.iaload, 1) := dk_46 (dk_at dksX4_pays_0 14 rfl rfl)
theorem dX4_pays_15 : decode cX4_pays 15 = .ok (.iconst 3, 1) := dk_6 (dk_at dksX4_pays_0 15 rfl rfl)
theorem dX4_pays_16 : decode cX4_pays 16 = .ok (.if_icmp .ne 13, 3) := dk_160 0 13 (dk_at dksX4_pays_0 16 rfl rfl)
theorem dX4_pays_19 : decode cX4_pays 19 = .ok (.iload_n 2, 1) := dk_28 (dk_at dksX4_pays_0 19 rfl rfl)
theorem dX4_pays_20 : decode cX4_pays 20 = .ok (.aload_n 0, 1) := dk_42 (dk_at dksX4_pays_0 20 rfl rfl)
theorem dX4_pays_21 : decode cX4_pays 21 = .ok (.getfield 43, 3) := dk_180 0 43 (dk_at dksX4_pays_0 21 rfl rfl)
theorem dX4_pays_24 : decode cX4_pays 24 = .ok (.iload_n 1, 1) := dk_27 (dk_at dksX4_pays_1 0 rfl rfl)
theorem dX4_pays_25 : decode cX4_pays 25 = .ok (.iaload, 1) := dk_46 (dk_at dksX4_pays_1 1 rfl rfl)
theorem dX4_pays_26 : decode cX4_pays 26 = .ok (.if_icmp .ne 7, 3) := dk_160 0 7 (dk_at dksX4_pays_1 2 rfl rfl)
theorem dX4_pays_29 : decode cX4_pays 29 = .ok (.iconst 1, 1) := dk_4 (dk_at dksX4_pays_1 5 rfl rfl)
theorem dX4_pays_30 : decode cX4_pays 30 = .ok (.goto 4, 3) := dk_167 0 4 (dk_at dksX4_pays_1 6 rfl rfl)
theorem dX4_pays_33 : decode cX4_pays 33 = .ok (.iconst 0, 1) := dk_3 (dk_at dksX4_pays_1 9 rfl rfl)
theorem dX4_pays_34 : decode cX4_pays 34 = .ok (.ireturn, 1) := dk_172 (dk_at dksX4_pays_1 10 rfl rfl)
abbrev cX4_ceded : ByteArray := prog_12_method_23_code
def yX4_ceded : MethodName := ⟨RX4, "ceded", "(I)J"⟩
def dkwX4_ceded_1 : List UInt8 := [180, 0, 140, 133, 184, 0, 198, 42, 180, 0, 143, 133, 105, 20, 0, 194, 109, 97, 173]
abbrev dktX4_ceded_1 : List UInt8 := dkwX4_ceded_1 ++ []
def dkwX4_ceded_0 : List UInt8 := [9, 42, 180, 0, 67, 27, 47, 42, 180, 0, 140, 133, 101, 184, 0, 241, 42, 180, 0, 67, 27, 47, 42]
abbrev dktX4_ceded_0 : List UInt8 := dkwX4_ceded_0 ++ dktX4_ceded_1
theorem dksX4_ceded_0 : cX4_ceded.data.toList.drop 0 = dktX4_ceded_0 := by decide +kernel
theorem dksX4_ceded_1 : cX4_ceded.data.toList.drop 23 = dktX4_ceded_1 := dk_seg dksX4_ceded_0 23 rfl rfl
theorem dX4_ceded_0 : decode cX4_ceded 0 = .ok (.lconst 0, 1) := dk_9 (dk_at dksX4_ceded_0 0 rfl rfl)
theorem dX4_ceded_1 : decode cX4_ceded 1 = .ok (.aload_n 0, 1) := dk_42 (dk_at dksX4_ceded_0 1 rfl rfl)
theorem dX4_ceded_2 : decode cX4_ceded 2 = .ok (.getfield 67, 3) := dk_180 0 67 (dk_at dksX4_ceded_0 2 rfl rfl)
theorem dX4_ceded_5 : decode cX4_ceded 5 = .ok (.iload_n 1, 1) := dk_27 (dk_at dksX4_ceded_0 5 rfl rfl)
theorem dX4_ceded_6 : decode cX4_ceded 6 = .ok (.laload, 1) := dk_47 (dk_at dksX4_ceded_0 6 rfl rfl)
theorem dX4_ceded_7 : decode cX4_ceded 7 = .ok (.aload_n 0, 1) := dk_42 (dk_at dksX4_ceded_0 7 rfl rfl)
theorem dX4_ceded_8 : decode cX4_ceded 8 = .ok (.getfield 140, 3) := dk_180 0 140 (dk_at dksX4_ceded_0 8 rfl rfl)
theorem dX4_ceded_11 : decode cX4_ceded 11 = .ok (.i2l, 1) := dk_133 (dk_at dksX4_ceded_0 11 rfl rfl)
theorem dX4_ceded_12 : decode cX4_ceded 12 = .ok (.lsub, 1) := dk_101 (dk_at dksX4_ceded_0 12 rfl rfl)
theorem dX4_ceded_13 : decode cX4_ceded 13 = .ok (.invokestatic 241, 3) := dk_184 0 241 (dk_at dksX4_ceded_0 13 rfl rfl)
theorem dX4_ceded_16 : decode cX4_ceded 16 = .ok (.aload_n 0, 1) := dk_42 (dk_at dksX4_ceded_0 16 rfl rfl)
theorem dX4_ceded_17 : decode cX4_ceded 17 = .ok (.getfield 67, 3) := dk_180 0 67 (dk_at dksX4_ceded_0 17 rfl rfl)
theorem dX4_ceded_20 : decode cX4_ceded 20 = .ok (.iload_n 1, 1) := dk_27 (dk_at dksX4_ceded_0 20 rfl rfl)
theorem dX4_ceded_21 : decode cX4_ceded 21 = .ok (.laload, 1) := dk_47 (dk_at dksX4_ceded_0 21 rfl rfl)
theorem dX4_ceded_22 : decode cX4_ceded 22 = .ok (.aload_n 0, 1) := dk_42 (dk_at dksX4_ceded_0 22 rfl rfl)
theorem dX4_ceded_23 : decode cX4_ceded 23 = .ok (.getfield 140, 3) := dk_180 0 140 (dk_at dksX4_ceded_1 0 rfl rfl)
theorem dX4_ceded_26 : decode cX4_ceded 26 = .ok (.i2l, 1) := dk_133 (dk_at dksX4_ceded_1 3 rfl rfl)
theorem dX4_ceded_27 : decode cX4_ceded 27 = .ok (.invokestatic 198, 3) := dk_184 0 198 (dk_at dksX4_ceded_1 4 rfl rfl)
theorem dX4_ceded_30 : decode cX4_ceded 30 = .ok (.aload_n 0, 1) := dk_42 (dk_at dksX4_ceded_1 7 rfl rfl)
theorem dX4_ceded_31 : decode cX4_ceded 31 = .ok (.getfield 143, 3) := dk_180 0 143 (dk_at dksX4_ceded_1 8 rfl rfl)
theorem dX4_ceded_34 : decode cX4_ceded 34 = .ok (.i2l, 1) := dk_133 (dk_at dksX4_ceded_1 11 rfl rfl)
theorem dX4_ceded_35 : decode cX4_ceded 35 = .ok (.lmul, 1) := dk_105 (dk_at dksX4_ceded_1 12 rfl rfl)
theorem dX4_ceded_36 : decode cX4_ceded 36 = .ok (.ldc2_w 194, 3) := dk_20 0 194 (dk_at dksX4_ceded_1 13 rfl rfl)
theorem dX4_ceded_39 : decode cX4_ceded 39 = .ok (.ldiv, 1) := dk_109 (dk_at dksX4_ceded_1 16 rfl rfl)
theorem dX4_ceded_40 : decode cX4_ceded 40 = .ok (.ladd, 1) := dk_97 (dk_at dksX4_ceded_1 17 rfl rfl)
theorem dX4_ceded_41 : decode cX4_ceded 41 = .ok (.lreturn, 1) := dk_173 (dk_at dksX4_ceded_1 18 rfl rfl)
abbrev cX4_growth : ByteArray := prog_12_method_27_code
def yX4_growth : MethodName := ⟨RX4, "growth", "(JJI)J"⟩
def dkwX4_growth_1 : List UInt8 := [184, 0, 241, 173]
abbrev dktX4_growth_1 : List UInt8 := dkwX4_growth_1 ++ []
def dkwX4_growth_0 : List UInt8 := [9, 20, 1, 17, 31, 33, 97, 17, 3, 232, 21, 5, 96, 133, 105, 20, 0, 194, 184, 0, 238, 184, 0, 198]
abbrev dktX4_growth_0 : List UInt8 := dkwX4_growth_0 ++ dktX4_growth_1
theorem dksX4_growth_0 : cX4_growth.data.toList.drop 0 = dktX4_growth_0 := by decide +kernel
theorem dksX4_growth_1 : cX4_growth.data.toList.drop 24 = dktX4_growth_1 := dk_seg dksX4_growth_0 24 rfl rfl
theorem dX4_growth_0 : decode cX4_growth 0 = .ok (.lconst 0, 1) := dk_9 (dk_at dksX4_growth_0 0 rfl rfl)
theorem dX4_growth_1 : decode cX4_growth 1 = .ok (.ldc2_w 273, 3) := dk_20 1 17 (dk_at dksX4_growth_0 1 rfl rfl)
theorem dX4_growth_4 : decode cX4_growth 4 = .ok (.lload_n 1, 1) := dk_31 (dk_at dksX4_growth_0 4 rfl rfl)
theorem dX4_growth_5 : decode cX4_growth 5 = .ok (.lload_n 3, 1) := dk_33 (dk_at dksX4_growth_0 5 rfl rfl)
theorem dX4_growth_6 : decode cX4_growth 6 = .ok (.ladd, 1) := dk_97 (dk_at dksX4_growth_0 6 rfl rfl)
theorem dX4_growth_7 : decode cX4_growth 7 = .ok (.sipush 1000, 3) := dk_17 3 232 (dk_at dksX4_growth_0 7 rfl rfl)
theorem dX4_growth_10 : decode cX4_growth 10 = .ok (.iload 5, 2) := dk_21 5 (dk_at dksX4_growth_0 10 rfl rfl)
theorem dX4_growth_12 : decode cX4_growth 12 = .ok (.iadd, 1) := dk_96 (dk_at dksX4_growth_0 12 rfl rfl)
theorem dX4_growth_13 : decode cX4_growth 13 = .ok (.i2l, 1) := dk_133 (dk_at dksX4_growth_0 13 rfl rfl)
theorem dX4_growth_14 : decode cX4_growth 14 = .ok (.lmul, 1) := dk_105 (dk_at dksX4_growth_0 14 rfl rfl)
theorem dX4_growth_15 : decode cX4_growth 15 = .ok (.ldc2_w 194, 3) := dk_20 0 194 (dk_at dksX4_growth_0 15 rfl rfl)
theorem dX4_growth_18 : decode cX4_growth 18 = .ok (.invokestatic 238, 3) := dk_184 0 238 (dk_at dksX4_growth_0 18 rfl rfl)
theorem dX4_growth_21 : decode cX4_growth 21 = .ok (.invokestatic 198, 3) := dk_184 0 198 (dk_at dksX4_growth_0 21 rfl rfl)
theorem dX4_growth_24 : decode cX4_growth 24 = .ok (.invokestatic 241, 3) := dk_184 0 241 (dk_at dksX4_growth_1 0 rfl rfl)
theorem dX4_growth_27 : decode cX4_growth 27 = .ok (.lreturn, 1) := dk_173 (dk_at dksX4_growth_1 3 rfl rfl)
abbrev cX4_earns : ByteArray := prog_12_method_29_code
def yX4_earns : MethodName := ⟨RX4, "earns", "(I)J"⟩
def dkwX4_earns_6 : List UInt8 := [97, 80, 32, 22, 5, 97, 65, 132, 4, 1, 167, 255, 197, 32, 173]
abbrev dktX4_earns_6 : List UInt8 := dkwX4_earns_6 ++ []
def dkwX4_earns_5 : List UInt8 := [20, 1, 37, 105, 20, 0, 194, 109, 167, 0, 4, 9, 55, 5, 42, 180, 0, 76, 21, 4, 92, 47, 22, 5]
abbrev dktX4_earns_5 : List UInt8 := dkwX4_earns_5 ++ dktX4_earns_6
def dkwX4_earns_4 : List UInt8 := [180, 0, 146, 162, 0, 56, 42, 21, 4, 182, 0, 234, 153, 0, 21, 42, 180, 0, 76, 21, 4, 47]
abbrev dktX4_earns_4 : List UInt8 := dkwX4_earns_4 ++ dktX4_earns_5
def dkwX4_earns_3 : List UInt8 := [132, 4, 1, 167, 255, 220, 42, 89, 180, 0, 117, 32, 97, 181, 0, 117, 3, 54, 4, 21, 4, 42]
abbrev dktX4_earns_3 : List UInt8 := dkwX4_earns_3 ++ dktX4_earns_4
def dkwX4_earns_2 : List UInt8 := [32, 42, 180, 0, 91, 21, 4, 46, 133, 42, 180, 0, 94, 21, 4, 46, 133, 105, 20, 0, 194, 109, 97, 65]
abbrev dktX4_earns_2 : List UInt8 := dkwX4_earns_2 ++ dktX4_earns_3
def dkwX4_earns_1 : List UInt8 := [27, 133, 105, 20, 0, 194, 109, 167, 0, 4, 9, 65, 3, 54, 4, 21, 4, 42, 180, 0, 149, 162, 0, 33]
abbrev dktX4_earns_1 : List UInt8 := dkwX4_earns_1 ++ dktX4_earns_2
def dkwX4_earns_0 : List UInt8 := [42, 180, 0, 117, 9, 148, 158, 0, 28, 42, 180, 0, 117, 20, 1, 35, 148, 157, 0, 17, 42, 180, 0, 117]
abbrev dktX4_earns_0 : List UInt8 := dkwX4_earns_0 ++ dktX4_earns_1
theorem dksX4_earns_0 : cX4_earns.data.toList.drop 0 = dktX4_earns_0 := by decide +kernel
theorem dksX4_earns_1 : cX4_earns.data.toList.drop 24 = dktX4_earns_1 := dk_seg dksX4_earns_0 24 rfl rfl
theorem dksX4_earns_2 : cX4_earns.data.toList.drop 48 = dktX4_earns_2 := dk_seg dksX4_earns_1 24 rfl rfl
theorem dksX4_earns_3 : cX4_earns.data.toList.drop 72 = dktX4_earns_3 := dk_seg dksX4_earns_2 24 rfl rfl
theorem dksX4_earns_4 : cX4_earns.data.toList.drop 94 = dktX4_earns_4 := dk_seg dksX4_earns_3 22 rfl rfl
theorem dksX4_earns_5 : cX4_earns.data.toList.drop 116 = dktX4_earns_5 := dk_seg dksX4_earns_4 22 rfl rfl
theorem dksX4_earns_6 : cX4_earns.data.toList.drop 140 = dktX4_earns_6 := dk_seg dksX4_earns_5 24 rfl rfl
theorem dX4_earns_0 : decode cX4_earns 0 = .ok (.aload_n 0, 1) := dk_42 (dk_at dksX4_earns_0 0 rfl rfl)
theorem dX4_earns_1 : decode cX4_earns 1 = .ok (.getfield 117, 3) := dk_180 0 117 (dk_at dksX4_earns_0 1 rfl rfl)
theorem dX4_earns_4 : decode cX4_earns 4 = .ok (.lconst 0, 1) := dk_9 (dk_at dksX4_earns_0 4 rfl rfl)
theorem dX4_earns_5 : decode cX4_earns 5 = .ok (.lcmp, 1) := dk_148 (dk_at dksX4_earns_0 5 rfl rfl)
theorem dX4_earns_6 : decode cX4_earns 6 = .ok (.ifCond .le 28, 3) := dk_158 0 28 (dk_at dksX4_earns_0 6 rfl rfl)
theorem dX4_earns_9 : decode cX4_earns 9 = .ok (.aload_n 0, 1) := dk_42 (dk_at dksX4_earns_0 9 rfl rfl)
theorem dX4_earns_10 : decode cX4_earns 10 = .ok (.getfield 117, 3) := dk_180 0 117 (dk_at dksX4_earns_0 10 rfl rfl)
theorem dX4_earns_13 : decode cX4_earns 13 = .ok (.ldc2_w 291, 3) := dk_20 1 35 (dk_at dksX4_earns_0 13 rfl rfl)
theorem dX4_earns_16 : decode cX4_earns 16 = .ok (.lcmp, 1) := dk_148 (dk_at dksX4_earns_0 16 rfl rfl)
theorem dX4_earns_17 : decode cX4_earns 17 = .ok (.ifCond .gt 17, 3) := dk_157 0 17 (dk_at dksX4_earns_0 17 rfl rfl)
theorem dX4_earns_20 : decode cX4_earns 20 = .ok (.aload_n 0, 1) := dk_42 (dk_at dksX4_earns_0 20 rfl rfl)
theorem dX4_earns_21 : decode cX4_earns 21 = .ok (.getfield 117, 3) := dk_180 0 117 (dk_at dksX4_earns_0 21 rfl rfl)
theorem dX4_earns_24 : decode cX4_earns 24 = .ok (.iload_n 1, 1) := dk_27 (dk_at dksX4_earns_1 0 rfl rfl)
theorem dX4_earns_25 : decode cX4_earns 25 = .ok (.i2l, 1) := dk_133 (dk_at dksX4_earns_1 1 rfl rfl)
theorem dX4_earns_26 : decode cX4_earns 26 = .ok (.lmul, 1) := dk_105 (dk_at dksX4_earns_1 2 rfl rfl)
theorem dX4_earns_27 : decode cX4_earns 27 = .ok (.ldc2_w 194, 3) := dk_20 0 194 (dk_at dksX4_earns_1 3 rfl rfl)
theorem dX4_earns_30 : decode cX4_earns 30 = .ok (.ldiv, 1) := dk_109 (dk_at dksX4_earns_1 6 rfl rfl)
theorem dX4_earns_31 : decode cX4_earns 31 = .ok (.goto 4, 3) := dk_167 0 4 (dk_at dksX4_earns_1 7 rfl rfl)
theorem dX4_earns_34 : decode cX4_earns 34 = .ok (.lconst 0, 1) := dk_9 (dk_at dksX4_earns_1 10 rfl rfl)
theorem dX4_earns_35 : decode cX4_earns 35 = .ok (.lstore_n 2, 1) := dk_65 (dk_at dksX4_earns_1 11 rfl rfl)
theorem dX4_earns_36 : decode cX4_earns 36 = .ok (.iconst 0, 1) := dk_3 (dk_at dksX4_earns_1 12 rfl rfl)
theorem dX4_earns_37 : decode cX4_earns 37 = .ok (.istore 4, 2) := dk_54 4 (dk_at dksX4_earns_1 13 rfl rfl)
theorem dX4_earns_39 : decode cX4_earns 39 = .ok (.iload 4, 2) := dk_21 4 (dk_at dksX4_earns_1 15 rfl rfl)
theorem dX4_earns_41 : decode cX4_earns 41 = .ok (.aload_n 0, 1) := dk_42 (dk_at dksX4_earns_1 17 rfl rfl)
theorem dX4_earns_42 : decode cX4_earns 42 = .ok (.getfield 149, 3) := dk_180 0 149 (dk_at dksX4_earns_1 18 rfl rfl)
theorem dX4_earns_45 : decode cX4_earns 45 = .ok (.if_icmp .ge 33, 3) := dk_162 0 33 (dk_at dksX4_earns_1 21 rfl rfl)
theorem dX4_earns_48 : decode cX4_earns 48 = .ok (.lload_n 2, 1) := dk_32 (dk_at dksX4_earns_2 0 rfl rfl)
theorem dX4_earns_49 : decode cX4_earns 49 = .ok (.aload_n 0, 1) := dk_42 (dk_at dksX4_earns_2 1 rfl rfl)
theorem dX4_earns_50 : decode cX4_earns 50 = .ok (.getfield 91, 3) := dk_180 0 91 (dk_at dksX4_earns_2 2 rfl rfl)
theorem dX4_earns_53 : decode cX4_earns 53 = .ok (.iload 4, 2) := dk_21 4 (dk_at dksX4_earns_2 5 rfl rfl)
theorem dX4_earns_55 : decode cX4_earns 55 = .ok (.iaload, 1) := dk_46 (dk_at dksX4_earns_2 7 rfl rfl)
theorem dX4_earns_56 : decode cX4_earns 56 = .ok (.i2l, 1) := dk_133 (dk_at dksX4_earns_2 8 rfl rfl)
theorem dX4_earns_57 : decode cX4_earns 57 = .ok (.aload_n 0, 1) := dk_42 (dk_at dksX4_earns_2 9 rfl rfl)
theorem dX4_earns_58 : decode cX4_earns 58 = .ok (.getfield 94, 3) := dk_180 0 94 (dk_at dksX4_earns_2 10 rfl rfl)
theorem dX4_earns_61 : decode cX4_earns 61 = .ok (.iload 4, 2) := dk_21 4 (dk_at dksX4_earns_2 13 rfl rfl)
theorem dX4_earns_63 : decode cX4_earns 63 = .ok (.iaload, 1) := dk_46 (dk_at dksX4_earns_2 15 rfl rfl)
theorem dX4_earns_64 : decode cX4_earns 64 = .ok (.i2l, 1) := dk_133 (dk_at dksX4_earns_2 16 rfl rfl)
theorem dX4_earns_65 : decode cX4_earns 65 = .ok (.lmul, 1) := dk_105 (dk_at dksX4_earns_2 17 rfl rfl)
theorem dX4_earns_66 : decode cX4_earns 66 = .ok (.ldc2_w 194, 3) := dk_20 0 194 (dk_at dksX4_earns_2 18 rfl rfl)
theorem dX4_earns_69 : decode cX4_earns 69 = .ok (.ldiv, 1) := dk_109 (dk_at dksX4_earns_2 21 rfl rfl)
theorem dX4_earns_70 : decode cX4_earns 70 = .ok (.ladd, 1) := dk_97 (dk_at dksX4_earns_2 22 rfl rfl)
theorem dX4_earns_71 : decode cX4_earns 71 = .ok (.lstore_n 2, 1) := dk_65 (dk_at dksX4_earns_2 23 rfl rfl)
theorem dX4_earns_72 : decode cX4_earns 72 = .ok (.iinc 4 1, 3) := dk_132 4 1 (dk_at dksX4_earns_3 0 rfl rfl)
theorem dX4_earns_75 : decode cX4_earns 75 = .ok (.goto (-36), 3) := dk_167 255 220 (dk_at dksX4_earns_3 3 rfl rfl)
theorem dX4_earns_78 : decode cX4_earns 78 = .ok (.aload_n 0, 1) := dk_42 (dk_at dksX4_earns_3 6 rfl rfl)
theorem dX4_earns_79 : decode cX4_earns 79 = .ok (.dup, 1) := dk_89 (dk_at dksX4_earns_3 7 rfl rfl)
theorem dX4_earns_80 : decode cX4_earns 80 = .ok (.getfield 117, 3) := dk_180 0 117 (dk_at dksX4_earns_3 8 rfl rfl)
theorem dX4_earns_83 : decode cX4_earns 83 = .ok (.lload_n 2, 1) := dk_32 (dk_at dksX4_earns_3 11 rfl rfl)
theorem dX4_earns_84 : decode cX4_earns 84 = .ok (.ladd, 1) := dk_97 (dk_at dksX4_earns_3 12 rfl rfl)
theorem dX4_earns_85 : decode cX4_earns 85 = .ok (.putfield 117, 3) := dk_181 0 117 (dk_at dksX4_earns_3 13 rfl rfl)
theorem dX4_earns_88 : decode cX4_earns 88 = .ok (.iconst 0, 1) := dk_3 (dk_at dksX4_earns_3 16 rfl rfl)
theorem dX4_earns_89 : decode cX4_earns 89 = .ok (.istore 4, 2) := dk_54 4 (dk_at dksX4_earns_3 17 rfl rfl)
theorem dX4_earns_91 : decode cX4_earns 91 = .ok (.iload 4, 2) := dk_21 4 (dk_at dksX4_earns_3 19 rfl rfl)
theorem dX4_earns_93 : decode cX4_earns 93 = .ok (.aload_n 0, 1) := dk_42 (dk_at dksX4_earns_3 21 rfl rfl)
theorem dX4_earns_94 : decode cX4_earns 94 = .ok (.getfield 146, 3) := dk_180 0 146 (dk_at dksX4_earns_4 0 rfl rfl)
theorem dX4_earns_97 : decode cX4_earns 97 = .ok (.if_icmp .ge 56, 3) := dk_162 0 56 (dk_at dksX4_earns_4 3 rfl rfl)
theorem dX4_earns_100 : decode cX4_earns 100 = .ok (.aload_n 0, 1) := dk_42 (dk_at dksX4_earns_4 6 rfl rfl)
theorem dX4_earns_101 : decode cX4_earns 101 = .ok (.iload 4, 2) := dk_21 4 (dk_at dksX4_earns_4 7 rfl rfl)
theorem dX4_earns_103 : decode cX4_earns 103 = .ok (.invokevirtual 234, 3) := dk_182 0 234 (dk_at dksX4_earns_4 9 rfl rfl)
theorem dX4_earns_106 : decode cX4_earns 106 = .ok (.ifCond .eq 21, 3) := dk_153 0 21 (dk_at dksX4_earns_4 12 rfl rfl)
theorem dX4_earns_109 : decode cX4_earns 109 = .ok (.aload_n 0, 1) := dk_42 (dk_at dksX4_earns_4 15 rfl rfl)
theorem dX4_earns_110 : decode cX4_earns 110 = .ok (.getfield 76, 3) := dk_180 0 76 (dk_at dksX4_earns_4 16 rfl rfl)
theorem dX4_earns_113 : decode cX4_earns 113 = .ok (.iload 4, 2) := dk_21 4 (dk_at dksX4_earns_4 19 rfl rfl)
theorem dX4_earns_115 : decode cX4_earns 115 = .ok (.laload, 1) := dk_47 (dk_at dksX4_earns_4 21 rfl rfl)
theorem dX4_earns_116 : decode cX4_earns 116 = .ok (.ldc2_w 293, 3) := dk_20 1 37 (dk_at dksX4_earns_5 0 rfl rfl)
theorem dX4_earns_119 : decode cX4_earns 119 = .ok (.lmul, 1) := dk_105 (dk_at dksX4_earns_5 3 rfl rfl)
theorem dX4_earns_120 : decode cX4_earns 120 = .ok (.ldc2_w 194, 3) := dk_20 0 194 (dk_at dksX4_earns_5 4 rfl rfl)
theorem dX4_earns_123 : decode cX4_earns 123 = .ok (.ldiv, 1) := dk_109 (dk_at dksX4_earns_5 7 rfl rfl)
theorem dX4_earns_124 : decode cX4_earns 124 = .ok (.goto 4, 3) := dk_167 0 4 (dk_at dksX4_earns_5 8 rfl rfl)
theorem dX4_earns_127 : decode cX4_earns 127 = .ok (.lconst 0, 1) := dk_9 (dk_at dksX4_earns_5 11 rfl rfl)
theorem dX4_earns_128 : decode cX4_earns 128 = .ok (.lstore 5, 2) := dk_55 5 (dk_at dksX4_earns_5 12 rfl rfl)
theorem dX4_earns_130 : decode cX4_earns 130 = .ok (.aload_n 0, 1) := dk_42 (dk_at dksX4_earns_5 14 rfl rfl)
theorem dX4_earns_131 : decode cX4_earns 131 = .ok (.getfield 76, 3) := dk_180 0 76 (dk_at dksX4_earns_5 15 rfl rfl)
theorem dX4_earns_134 : decode cX4_earns 134 = .ok (.iload 4, 2) := dk_21 4 (dk_at dksX4_earns_5 18 rfl rfl)
theorem dX4_earns_136 : decode cX4_earns 136 = .ok (.dup2, 1) := dk_92 (dk_at dksX4_earns_5 20 rfl rfl)
theorem dX4_earns_137 : decode cX4_earns 137 = .ok (.laload, 1) := dk_47 (dk_at dksX4_earns_5 21 rfl rfl)
theorem dX4_earns_138 : decode cX4_earns 138 = .ok (.lload 5, 2) := dk_22 5 (dk_at dksX4_earns_5 22 rfl rfl)
theorem dX4_earns_140 : decode cX4_earns 140 = .ok (.ladd, 1) := dk_97 (dk_at dksX4_earns_6 0 rfl rfl)
theorem dX4_earns_141 : decode cX4_earns 141 = .ok (.lastore, 1) := dk_80 (dk_at dksX4_earns_6 1 rfl rfl)
theorem dX4_earns_142 : decode cX4_earns 142 = .ok (.lload_n 2, 1) := dk_32 (dk_at dksX4_earns_6 2 rfl rfl)
theorem dX4_earns_143 : decode cX4_earns 143 = .ok (.lload 5, 2) := dk_22 5 (dk_at dksX4_earns_6 3 rfl rfl)
theorem dX4_earns_145 : decode cX4_earns 145 = .ok (.ladd, 1) := dk_97 (dk_at dksX4_earns_6 5 rfl rfl)
theorem dX4_earns_146 : decode cX4_earns 146 = .ok (.lstore_n 2, 1) := dk_65 (dk_at dksX4_earns_6 6 rfl rfl)
theorem dX4_earns_147 : decode cX4_earns 147 = .ok (.iinc 4 1, 3) := dk_132 4 1 (dk_at dksX4_earns_6 7 rfl rfl)
theorem dX4_earns_150 : decode cX4_earns 150 = .ok (.goto (-59), 3) := dk_167 255 197 (dk_at dksX4_earns_6 10 rfl rfl)
theorem dX4_earns_153 : decode cX4_earns 153 = .ok (.lload_n 2, 1) := dk_32 (dk_at dksX4_earns_6 13 rfl rfl)
theorem dX4_earns_154 : decode cX4_earns 154 = .ok (.lreturn, 1) := dk_173 (dk_at dksX4_earns_6 14 rfl rfl)
abbrev cX4_ages : ByteArray := prog_12_method_30_code
def yX4_ages : MethodName := ⟨RX4, "ages", "()V"⟩
def dkwX4_ages_3 : List UInt8 := [27, 42, 180, 0, 94, 28, 46, 79, 132, 1, 1, 132, 2, 1, 167, 255, 175, 42, 27, 181, 0, 149, 177]
abbrev dktX4_ages_3 : List UInt8 := dkwX4_ages_3 ++ []
def dkwX4_ages_2 : List UInt8 := [180, 0, 88, 28, 46, 4, 100, 79, 42, 180, 0, 91, 27, 42, 180, 0, 91, 28, 46, 79, 42, 180, 0, 94]
abbrev dktX4_ages_2 : List UInt8 := dkwX4_ages_2 ++ dktX4_ages_3
def dkwX4_ages_1 : List UInt8 := [180, 0, 117, 42, 180, 0, 91, 28, 46, 133, 97, 181, 0, 117, 167, 0, 44, 42, 180, 0, 88, 27, 42]
abbrev dktX4_ages_1 : List UInt8 := dkwX4_ages_1 ++ dktX4_ages_2
def dkwX4_ages_0 : List UInt8 := [3, 60, 3, 61, 28, 42, 180, 0, 149, 162, 0, 79, 42, 180, 0, 88, 28, 46, 4, 160, 0, 22, 42, 89]
abbrev dktX4_ages_0 : List UInt8 := dkwX4_ages_0 ++ dktX4_ages_1
theorem dksX4_ages_0 : cX4_ages.data.toList.drop 0 = dktX4_ages_0 := by decide +kernel
theorem dksX4_ages_1 : cX4_ages.data.toList.drop 24 = dktX4_ages_1 := dk_seg dksX4_ages_0 24 rfl rfl
theorem dksX4_ages_2 : cX4_ages.data.toList.drop 47 = dktX4_ages_2 := dk_seg dksX4_ages_1 23 rfl rfl
theorem dksX4_ages_3 : cX4_ages.data.toList.drop 71 = dktX4_ages_3 := dk_seg dksX4_ages_2 24 rfl rfl
theorem dX4_ages_0 : decode cX4_ages 0 = .ok (.iconst 0, 1) := dk_3 (dk_at dksX4_ages_0 0 rfl rfl)
theorem dX4_ages_1 : decode cX4_ages 1 = .ok (.istore_n 1, 1) := dk_60 (dk_at dksX4_ages_0 1 rfl rfl)
theorem dX4_ages_2 : decode cX4_ages 2 = .ok (.iconst 0, 1) := dk_3 (dk_at dksX4_ages_0 2 rfl rfl)
theorem dX4_ages_3 : decode cX4_ages 3 = .ok (.istore_n 2, 1) := dk_61 (dk_at dksX4_ages_0 3 rfl rfl)
theorem dX4_ages_4 : decode cX4_ages 4 = .ok (.iload_n 2, 1) := dk_28 (dk_at dksX4_ages_0 4 rfl rfl)
theorem dX4_ages_5 : decode cX4_ages 5 = .ok (.aload_n 0, 1) := dk_42 (dk_at dksX4_ages_0 5 rfl rfl)
theorem dX4_ages_6 : decode cX4_ages 6 = .ok (.getfield 149, 3) := dk_180 0 149 (dk_at dksX4_ages_0 6 rfl rfl)
theorem dX4_ages_9 : decode cX4_ages 9 = .ok (.if_icmp .ge 79, 3) := dk_162 0 79 (dk_at dksX4_ages_0 9 rfl rfl)
theorem dX4_ages_12 : decode cX4_ages 12 = .ok (.aload_n 0, 1) := dk_42 (dk_at dksX4_ages_0 12 rfl rfl)
theorem dX4_ages_13 : decode cX4_ages 13 = .ok (.getfield 88, 3) := dk_180 0 88 (dk_at dksX4_ages_0 13 rfl rfl)
theorem dX4_ages_16 : decode cX4_ages 16 = .ok (.iload_n 2, 1) := dk_28 (dk_at dksX4_ages_0 16 rfl rfl)
theorem dX4_ages_17 : decode cX4_ages 17 = .ok (.iaload, 1) := dk_46 (dk_at dksX4_ages_0 17 rfl rfl)
theorem dX4_ages_18 : decode cX4_ages 18 = .ok (.iconst 1, 1) := dk_4 (dk_at dksX4_ages_0 18 rfl rfl)
theorem dX4_ages_19 : decode cX4_ages 19 = .ok (.if_icmp .ne 22, 3) := dk_160 0 22 (dk_at dksX4_ages_0 19 rfl rfl)
theorem dX4_ages_22 : decode cX4_ages 22 = .ok (.aload_n 0, 1) := dk_42 (dk_at dksX4_ages_0 22 rfl rfl)
theorem dX4_ages_23 : decode cX4_ages 23 = .ok (.dup, 1) := dk_89 (dk_at dksX4_ages_0 23 rfl rfl)
theorem dX4_ages_24 : decode cX4_ages 24 = .ok (.getfield 117, 3) := dk_180 0 117 (dk_at dksX4_ages_1 0 rfl rfl)
theorem dX4_ages_27 : decode cX4_ages 27 = .ok (.aload_n 0, 1) := dk_42 (dk_at dksX4_ages_1 3 rfl rfl)
theorem dX4_ages_28 : decode cX4_ages 28 = .ok (.getfield 91, 3) := dk_180 0 91 (dk_at dksX4_ages_1 4 rfl rfl)
theorem dX4_ages_31 : decode cX4_ages 31 = .ok (.iload_n 2, 1) := dk_28 (dk_at dksX4_ages_1 7 rfl rfl)
theorem dX4_ages_32 : decode cX4_ages 32 = .ok (.iaload, 1) := dk_46 (dk_at dksX4_ages_1 8 rfl rfl)
theorem dX4_ages_33 : decode cX4_ages 33 = .ok (.i2l, 1) := dk_133 (dk_at dksX4_ages_1 9 rfl rfl)
theorem dX4_ages_34 : decode cX4_ages 34 = .ok (.ladd, 1) := dk_97 (dk_at dksX4_ages_1 10 rfl rfl)
theorem dX4_ages_35 : decode cX4_ages 35 = .ok (.putfield 117, 3) := dk_181 0 117 (dk_at dksX4_ages_1 11 rfl rfl)
theorem dX4_ages_38 : decode cX4_ages 38 = .ok (.goto 44, 3) := dk_167 0 44 (dk_at dksX4_ages_1 14 rfl rfl)
theorem dX4_ages_41 : decode cX4_ages 41 = .ok (.aload_n 0, 1) := dk_42 (dk_at dksX4_ages_1 17 rfl rfl)
theorem dX4_ages_42 : decode cX4_ages 42 = .ok (.getfield 88, 3) := dk_180 0 88 (dk_at dksX4_ages_1 18 rfl rfl)
theorem dX4_ages_45 : decode cX4_ages 45 = .ok (.iload_n 1, 1) := dk_27 (dk_at dksX4_ages_1 21 rfl rfl)
theorem dX4_ages_46 : decode cX4_ages 46 = .ok (.aload_n 0, 1) := dk_42 (dk_at dksX4_ages_1 22 rfl rfl)
theorem dX4_ages_47 : decode cX4_ages 47 = .ok (.getfield 88, 3) := dk_180 0 88 (dk_at dksX4_ages_2 0 rfl rfl)
theorem dX4_ages_50 : decode cX4_ages 50 = .ok (.iload_n 2, 1) := dk_28 (dk_at dksX4_ages_2 3 rfl rfl)
theorem dX4_ages_51 : decode cX4_ages 51 = .ok (.iaload, 1) := dk_46 (dk_at dksX4_ages_2 4 rfl rfl)
theorem dX4_ages_52 : decode cX4_ages 52 = .ok (.iconst 1, 1) := dk_4 (dk_at dksX4_ages_2 5 rfl rfl)
theorem dX4_ages_53 : decode cX4_ages 53 = .ok (.isub, 1) := dk_100 (dk_at dksX4_ages_2 6 rfl rfl)
theorem dX4_ages_54 : decode cX4_ages 54 = .ok (.iastore, 1) := dk_79 (dk_at dksX4_ages_2 7 rfl rfl)
theorem dX4_ages_55 : decode cX4_ages 55 = .ok (.aload_n 0, 1) := dk_42 (dk_at dksX4_ages_2 8 rfl rfl)
theorem dX4_ages_56 : decode cX4_ages 56 = .ok (.getfield 91, 3) := dk_180 0 91 (dk_at dksX4_ages_2 9 rfl rfl)
theorem dX4_ages_59 : decode cX4_ages 59 = .ok (.iload_n 1, 1) := dk_27 (dk_at dksX4_ages_2 12 rfl rfl)
theorem dX4_ages_60 : decode cX4_ages 60 = .ok (.aload_n 0, 1) := dk_42 (dk_at dksX4_ages_2 13 rfl rfl)
theorem dX4_ages_61 : decode cX4_ages 61 = .ok (.getfield 91, 3) := dk_180 0 91 (dk_at dksX4_ages_2 14 rfl rfl)
theorem dX4_ages_64 : decode cX4_ages 64 = .ok (.iload_n 2, 1) := dk_28 (dk_at dksX4_ages_2 17 rfl rfl)
theorem dX4_ages_65 : decode cX4_ages 65 = .ok (.iaload, 1) := dk_46 (dk_at dksX4_ages_2 18 rfl rfl)
theorem dX4_ages_66 : decode cX4_ages 66 = .ok (.iastore, 1) := dk_79 (dk_at dksX4_ages_2 19 rfl rfl)
theorem dX4_ages_67 : decode cX4_ages 67 = .ok (.aload_n 0, 1) := dk_42 (dk_at dksX4_ages_2 20 rfl rfl)
theorem dX4_ages_68 : decode cX4_ages 68 = .ok (.getfield 94, 3) := dk_180 0 94 (dk_at dksX4_ages_2 21 rfl rfl)
theorem dX4_ages_71 : decode cX4_ages 71 = .ok (.iload_n 1, 1) := dk_27 (dk_at dksX4_ages_3 0 rfl rfl)
theorem dX4_ages_72 : decode cX4_ages 72 = .ok (.aload_n 0, 1) := dk_42 (dk_at dksX4_ages_3 1 rfl rfl)
theorem dX4_ages_73 : decode cX4_ages 73 = .ok (.getfield 94, 3) := dk_180 0 94 (dk_at dksX4_ages_3 2 rfl rfl)
theorem dX4_ages_76 : decode cX4_ages 76 = .ok (.iload_n 2, 1) := dk_28 (dk_at dksX4_ages_3 5 rfl rfl)
theorem dX4_ages_77 : decode cX4_ages 77 = .ok (.iaload, 1) := dk_46 (dk_at dksX4_ages_3 6 rfl rfl)
theorem dX4_ages_78 : decode cX4_ages 78 = .ok (.iastore, 1) := dk_79 (dk_at dksX4_ages_3 7 rfl rfl)
theorem dX4_ages_79 : decode cX4_ages 79 = .ok (.iinc 1 1, 3) := dk_132 1 1 (dk_at dksX4_ages_3 8 rfl rfl)
theorem dX4_ages_82 : decode cX4_ages 82 = .ok (.iinc 2 1, 3) := dk_132 2 1 (dk_at dksX4_ages_3 11 rfl rfl)
theorem dX4_ages_85 : decode cX4_ages 85 = .ok (.goto (-81), 3) := dk_167 255 175 (dk_at dksX4_ages_3 14 rfl rfl)
theorem dX4_ages_88 : decode cX4_ages 88 = .ok (.aload_n 0, 1) := dk_42 (dk_at dksX4_ages_3 17 rfl rfl)
theorem dX4_ages_89 : decode cX4_ages 89 = .ok (.iload_n 1, 1) := dk_27 (dk_at dksX4_ages_3 18 rfl rfl)
theorem dX4_ages_90 : decode cX4_ages 90 = .ok (.putfield 149, 3) := dk_181 0 149 (dk_at dksX4_ages_3 19 rfl rfl)
theorem dX4_ages_93 : decode cX4_ages 93 = .ok (.return_, 1) := dk_177 (dk_at dksX4_ages_3 22 rfl rfl)
abbrev cX4_finishes : ByteArray := prog_12_method_32_code
def yX4_finishes : MethodName := ⟨RX4, "finishes", "(I)V"⟩
def dkwX4_finishes_17 : List UInt8 := [4, 96, 3, 182, 0, 244, 101, 22, 8, 101, 97, 80, 177]
abbrev dktX4_finishes_17 : List UInt8 := dkwX4_finishes_17 ++ []
def dkwX4_finishes_16 : List UInt8 := [180, 0, 117, 22, 8, 101, 181, 0, 117, 42, 180, 0, 24, 3, 92, 47, 22, 6, 42, 27, 42, 180, 0, 114]
abbrev dktX4_finishes_16 : List UInt8 := dkwX4_finishes_16 ++ dktX4_finishes_17
def dkwX4_finishes_15 : List UInt8 := [42, 180, 0, 67, 27, 47, 167, 0, 4, 9, 55, 8, 42, 180, 0, 55, 27, 92, 46, 4, 96, 79, 42, 89]
abbrev dktX4_finishes_15 : List UInt8 := dkwX4_finishes_15 ++ dktX4_finishes_16
def dkwX4_finishes_14 : List UInt8 := [4, 96, 79, 42, 180, 0, 49, 27, 16, 7, 79, 167, 0, 73, 42, 180, 0, 31, 27, 46, 6, 160, 0, 12]
abbrev dktX4_finishes_14 : List UInt8 := dkwX4_finishes_14 ++ dktX4_finishes_15
def dkwX4_finishes_13 : List UInt8 := [180, 0, 76, 27, 47, 101, 97, 80, 42, 180, 0, 76, 27, 9, 80, 42, 180, 0, 58, 27, 42, 180, 0, 114]
abbrev dktX4_finishes_13 : List UInt8 := dkwX4_finishes_13 ++ dktX4_finishes_14
def dkwX4_finishes_12 : List UInt8 := [27, 42, 180, 0, 114, 4, 96, 182, 1, 46, 148, 158, 0, 51, 42, 180, 0, 24, 7, 92, 47, 22, 6, 42]
abbrev dktX4_finishes_12 : List UInt8 := dkwX4_finishes_12 ++ dktX4_finishes_13
def dkwX4_finishes_11 : List UInt8 := [22, 6, 42, 27, 22, 8, 16, 6, 182, 1, 42, 101, 97, 80, 167, 0, 142, 42, 180, 0, 76, 27, 47, 42]
abbrev dktX4_finishes_11 : List UInt8 := dkwX4_finishes_11 ++ dktX4_finishes_12
def dkwX4_finishes_10 : List UInt8 := [182, 1, 10, 97, 55, 8, 42, 180, 0, 55, 27, 92, 46, 4, 96, 79, 42, 180, 0, 24, 3, 92, 47]
abbrev dktX4_finishes_10 : List UInt8 := dkwX4_finishes_10 ++ dktX4_finishes_11
def dkwX4_finishes_9 : List UInt8 := [46, 5, 160, 0, 7, 9, 167, 0, 22, 42, 180, 0, 67, 27, 47, 42, 180, 0, 70, 27, 47, 97, 42, 27]
abbrev dktX4_finishes_9 : List UInt8 := dkwX4_finishes_9 ++ dktX4_finishes_10
def dkwX4_finishes_8 : List UInt8 := [42, 180, 0, 31, 27, 46, 6, 160, 0, 12, 42, 180, 0, 67, 27, 47, 167, 0, 36, 42, 180, 0, 31, 27]
abbrev dktX4_finishes_8 : List UInt8 := dkwX4_finishes_8 ++ dktX4_finishes_9
def dkwX4_finishes_7 : List UInt8 := [182, 1, 42, 101, 97, 80, 167, 0, 245, 42, 180, 0, 114, 4, 96, 42, 180, 0, 46, 27, 46, 160, 0, 91]
abbrev dktX4_finishes_7 : List UInt8 := dkwX4_finishes_7 ++ dktX4_finishes_8
def dkwX4_finishes_6 : List UInt8 := [160, 0, 33, 42, 180, 0, 24, 7, 92, 47, 22, 6, 42, 27, 42, 27, 42, 180, 0, 114, 182, 1, 46, 8]
abbrev dktX4_finishes_6 : List UInt8 := dkwX4_finishes_6 ++ dktX4_finishes_7
def dkwX4_finishes_5 : List UInt8 := [42, 27, 42, 27, 182, 1, 39, 7, 182, 1, 42, 101, 97, 80, 167, 1, 29, 42, 180, 0, 49, 27, 46, 6]
abbrev dktX4_finishes_5 : List UInt8 := dkwX4_finishes_5 ++ dktX4_finishes_6
def dkwX4_finishes_4 : List UInt8 := [182, 1, 26, 97, 80, 42, 89, 180, 0, 159, 10, 97, 181, 0, 159, 42, 180, 0, 24, 3, 92, 47, 22, 6]
abbrev dktX4_finishes_4 : List UInt8 := dkwX4_finishes_4 ++ dktX4_finishes_5
def dkwX4_finishes_3 : List UInt8 := [180, 0, 117, 42, 27, 182, 1, 26, 97, 181, 0, 117, 42, 180, 0, 24, 16, 7, 92, 47, 42, 27]
abbrev dktX4_finishes_3 : List UInt8 := dkwX4_finishes_3 ++ dktX4_finishes_4
def dkwX4_finishes_2 : List UInt8 := [80, 42, 180, 0, 49, 27, 46, 5, 160, 0, 78, 42, 180, 0, 31, 27, 46, 6, 159, 0, 42, 42, 89]
abbrev dktX4_finishes_2 : List UInt8 := dkwX4_finishes_2 ++ dktX4_finishes_3
def dkwX4_finishes_1 : List UInt8 := [20, 0, 194, 184, 0, 238, 55, 4, 32, 22, 4, 97, 55, 6, 42, 180, 0, 24, 4, 92, 47, 22, 4, 101]
abbrev dktX4_finishes_1 : List UInt8 := dkwX4_finishes_1 ++ dktX4_finishes_2
def dkwX4_finishes_0 : List UInt8 := [42, 180, 0, 97, 27, 47, 42, 180, 0, 100, 27, 47, 97, 65, 32, 42, 180, 0, 13, 3, 46, 133, 105]
abbrev dktX4_finishes_0 : List UInt8 := dkwX4_finishes_0 ++ dktX4_finishes_1
theorem dksX4_finishes_0 : cX4_finishes.data.toList.drop 0 = dktX4_finishes_0 := by decide +kernel
theorem dksX4_finishes_1 : cX4_finishes.data.toList.drop 23 = dktX4_finishes_1 := dk_seg dksX4_finishes_0 23 rfl rfl
theorem dksX4_finishes_2 : cX4_finishes.data.toList.drop 47 = dktX4_finishes_2 := dk_seg dksX4_finishes_1 24 rfl rfl
theorem dksX4_finishes_3 : cX4_finishes.data.toList.drop 70 = dktX4_finishes_3 := dk_seg dksX4_finishes_2 23 rfl rfl
theorem dksX4_finishes_4 : cX4_finishes.data.toList.drop 92 = dktX4_finishes_4 := dk_seg dksX4_finishes_3 22 rfl rfl
theorem dksX4_finishes_5 : cX4_finishes.data.toList.drop 116 = dktX4_finishes_5 := dk_seg dksX4_finishes_4 24 rfl rfl
theorem dksX4_finishes_6 : cX4_finishes.data.toList.drop 140 = dktX4_finishes_6 := dk_seg dksX4_finishes_5 24 rfl rfl
theorem dksX4_finishes_7 : cX4_finishes.data.toList.drop 164 = dktX4_finishes_7 := dk_seg dksX4_finishes_6 24 rfl rfl
theorem dksX4_finishes_8 : cX4_finishes.data.toList.drop 188 = dktX4_finishes_8 := dk_seg dksX4_finishes_7 24 rfl rfl
theorem dksX4_finishes_9 : cX4_finishes.data.toList.drop 212 = dktX4_finishes_9 := dk_seg dksX4_finishes_8 24 rfl rfl
theorem dksX4_finishes_10 : cX4_finishes.data.toList.drop 236 = dktX4_finishes_10 := dk_seg dksX4_finishes_9 24 rfl rfl
theorem dksX4_finishes_11 : cX4_finishes.data.toList.drop 259 = dktX4_finishes_11 := dk_seg dksX4_finishes_10 23 rfl rfl
theorem dksX4_finishes_12 : cX4_finishes.data.toList.drop 283 = dktX4_finishes_12 := dk_seg dksX4_finishes_11 24 rfl rfl
theorem dksX4_finishes_13 : cX4_finishes.data.toList.drop 307 = dktX4_finishes_13 := dk_seg dksX4_finishes_12 24 rfl rfl
theorem dksX4_finishes_14 : cX4_finishes.data.toList.drop 331 = dktX4_finishes_14 := dk_seg dksX4_finishes_13 24 rfl rfl
theorem dksX4_finishes_15 : cX4_finishes.data.toList.drop 355 = dktX4_finishes_15 := dk_seg dksX4_finishes_14 24 rfl rfl
theorem dksX4_finishes_16 : cX4_finishes.data.toList.drop 379 = dktX4_finishes_16 := dk_seg dksX4_finishes_15 24 rfl rfl
theorem dksX4_finishes_17 : cX4_finishes.data.toList.drop 403 = dktX4_finishes_17 := dk_seg dksX4_finishes_16 24 rfl rfl
theorem dX4_finishes_0 : decode cX4_finishes 0 = .ok (.aload_n 0, 1) := dk_42 (dk_at dksX4_finishes_0 0 rfl rfl)
theorem dX4_finishes_1 : decode cX4_finishes 1 = .ok (.getfield 97, 3) := dk_180 0 97 (dk_at dksX4_finishes_0 1 rfl rfl)
theorem dX4_finishes_4 : decode cX4_finishes 4 = .ok (.iload_n 1, 1) := dk_27 (dk_at dksX4_finishes_0 4 rfl rfl)
theorem dX4_finishes_5 : decode cX4_finishes 5 = .ok (.laload, 1) := dk_47 (dk_at dksX4_finishes_0 5 rfl rfl)
theorem dX4_finishes_6 : decode cX4_finishes 6 = .ok (.aload_n 0, 1) := dk_42 (dk_at dksX4_finishes_0 6 rfl rfl)
theorem dX4_finishes_7 : decode cX4_finishes 7 = .ok (.getfield 100, 3) := dk_180 0 100 (dk_at dksX4_finishes_0 7 rfl rfl)
theorem dX4_finishes_10 : decode cX4_finishes 10 = .ok (.iload_n 1, 1) := dk_27 (dk_at dksX4_finishes_0 10 rfl rfl)
theorem dX4_finishes_11 : decode cX4_finishes 11 = .ok (.laload, 1) := dk_47 (dk_at dksX4_finishes_0 11 rfl rfl)
theorem dX4_finishes_12 : decode cX4_finishes 12 = .ok (.ladd, 1) := dk_97 (dk_at dksX4_finishes_0 12 rfl rfl)
theorem dX4_finishes_13 : decode cX4_finishes 13 = .ok (.lstore_n 2, 1) := dk_65 (dk_at dksX4_finishes_0 13 rfl rfl)
theorem dX4_finishes_14 : decode cX4_finishes 14 = .ok (.lload_n 2, 1) := dk_32 (dk_at dksX4_finishes_0 14 rfl rfl)
theorem dX4_finishes_15 : decode cX4_finishes 15 = .ok (.aload_n 0, 1) := dk_42 (dk_at dksX4_finishes_0 15 rfl rfl)
theorem dX4_finishes_16 : decode cX4_finishes 16 = .ok (.getfield 13, 3) := dk_180 0 13 (dk_at dksX4_finishes_0 16 rfl rfl)
theorem dX4_finishes_19 : decode cX4_finishes 19 = .ok (.iconst 0, 1) := dk_3 (dk_at dksX4_finishes_0 19 rfl rfl)
theorem dX4_finishes_20 : decode cX4_finishes 20 = .ok (.iaload, 1) := dk_46 (dk_at dksX4_finishes_0 20 rfl rfl)
theorem dX4_finishes_21 : decode cX4_finishes 21 = .ok (.i2l, 1) := dk_133 (dk_at dksX4_finishes_0 21 rfl rfl)
theorem dX4_finishes_22 : decode cX4_finishes 22 = .ok (.lmul, 1) := dk_105 (dk_at dksX4_finishes_0 22 rfl rfl)
theorem dX4_finishes_23 : decode cX4_finishes 23 = .ok (.ldc2_w 194, 3) := dk_20 0 194 (dk_at dksX4_finishes_1 0 rfl rfl)
theorem dX4_finishes_26 : decode cX4_finishes 26 = .ok (.invokestatic 238, 3) := dk_184 0 238 (dk_at dksX4_finishes_1 3 rfl rfl)
theorem dX4_finishes_29 : decode cX4_finishes 29 = .ok (.lstore 4, 2) := dk_55 4 (dk_at dksX4_finishes_1 6 rfl rfl)
theorem dX4_finishes_31 : decode cX4_finishes 31 = .ok (.lload_n 2, 1) := dk_32 (dk_at dksX4_finishes_1 8 rfl rfl)
theorem dX4_finishes_32 : decode cX4_finishes 32 = .ok (.lload 4, 2) := dk_22 4 (dk_at dksX4_finishes_1 9 rfl rfl)
theorem dX4_finishes_34 : decode cX4_finishes 34 = .ok (.ladd, 1) := dk_97 (dk_at dksX4_finishes_1 11 rfl rfl)
theorem dX4_finishes_35 : decode cX4_finishes 35 = .ok (.lstore 6, 2) := dk_55 6 (dk_at dksX4_finishes_1 12 rfl rfl)
theorem dX4_finishes_37 : decode cX4_finishes 37 = .ok (.aload_n 0, 1) := dk_42 (dk_at dksX4_finishes_1 14 rfl rfl)
theorem dX4_finishes_38 : decode cX4_finishes 38 = .ok (.getfield 24, 3) := dk_180 0 24 (dk_at dksX4_finishes_1 15 rfl rfl)
theorem dX4_finishes_41 : decode cX4_finishes 41 = .ok (.iconst 1, 1) := dk_4 (dk_at dksX4_finishes_1 18 rfl rfl)
theorem dX4_finishes_42 : decode cX4_finishes 42 = .ok (.dup2, 1) := dk_92 (dk_at dksX4_finishes_1 19 rfl rfl)
theorem dX4_finishes_43 : decode cX4_finishes 43 = .ok (.laload, 1) := dk_47 (dk_at dksX4_finishes_1 20 rfl rfl)
theorem dX4_finishes_44 : decode cX4_finishes 44 = .ok (.lload 4, 2) := dk_22 4 (dk_at dksX4_finishes_1 21 rfl rfl)
theorem dX4_finishes_46 : decode cX4_finishes 46 = .ok (.lsub, 1) := dk_101 (dk_at dksX4_finishes_1 23 rfl rfl)
theorem dX4_finishes_47 : decode cX4_finishes 47 = .ok (.lastore, 1) := dk_80 (dk_at dksX4_finishes_2 0 rfl rfl)
theorem dX4_finishes_48 : decode cX4_finishes 48 = .ok (.aload_n 0, 1) := dk_42 (dk_at dksX4_finishes_2 1 rfl rfl)
theorem dX4_finishes_49 : decode cX4_finishes 49 = .ok (.getfield 49, 3) := dk_180 0 49 (dk_at dksX4_finishes_2 2 rfl rfl)
theorem dX4_finishes_52 : decode cX4_finishes 52 = .ok (.iload_n 1, 1) := dk_27 (dk_at dksX4_finishes_2 5 rfl rfl)
theorem dX4_finishes_53 : decode cX4_finishes 53 = .ok (.iaload, 1) := dk_46 (dk_at dksX4_finishes_2 6 rfl rfl)
theorem dX4_finishes_54 : decode cX4_finishes 54 = .ok (.iconst 2, 1) := dk_5 (dk_at dksX4_finishes_2 7 rfl rfl)
theorem dX4_finishes_55 : decode cX4_finishes 55 = .ok (.if_icmp .ne 78, 3) := dk_160 0 78 (dk_at dksX4_finishes_2 8 rfl rfl)
theorem dX4_finishes_58 : decode cX4_finishes 58 = .ok (.aload_n 0, 1) := dk_42 (dk_at dksX4_finishes_2 11 rfl rfl)
theorem dX4_finishes_59 : decode cX4_finishes 59 = .ok (.getfield 31, 3) := dk_180 0 31 (dk_at dksX4_finishes_2 12 rfl rfl)
theorem dX4_finishes_62 : decode cX4_finishes 62 = .ok (.iload_n 1, 1) := dk_27 (dk_at dksX4_finishes_2 15 rfl rfl)
theorem dX4_finishes_63 : decode cX4_finishes 63 = .ok (.iaload, 1) := dk_46 (dk_at dksX4_finishes_2 16 rfl rfl)
theorem dX4_finishes_64 : decode cX4_finishes 64 = .ok (.iconst 3, 1) := dk_6 (dk_at dksX4_finishes_2 17 rfl rfl)
theorem dX4_finishes_65 : decode cX4_finishes 65 = .ok (.if_icmp .eq 42, 3) := dk_159 0 42 (dk_at dksX4_finishes_2 18 rfl rfl)
theorem dX4_finishes_68 : decode cX4_finishes 68 = .ok (.aload_n 0, 1) := dk_42 (dk_at dksX4_finishes_2 21 rfl rfl)
theorem dX4_finishes_69 : decode cX4_finishes 69 = .ok (.dup, 1) := dk_89 (dk_at dksX4_finishes_2 22 rfl rfl)
theorem dX4_finishes_70 : decode cX4_finishes 70 = .ok (.getfield 117, 3) := dk_180 0 117 (dk_at dksX4_finishes_3 0 rfl rfl)
theorem dX4_finishes_73 : decode cX4_finishes 73 = .ok (.aload_n 0, 1) := dk_42 (dk_at dksX4_finishes_3 3 rfl rfl)
theorem dX4_finishes_74 : decode cX4_finishes 74 = .ok (.iload_n 1, 1) := dk_27 (dk_at dksX4_finishes_3 4 rfl rfl)
theorem dX4_finishes_75 : decode cX4_finishes 75 = .ok (.invokevirtual 282, 3) := dk_182 1 26 (dk_at dksX4_finishes_3 5 rfl rfl)
theorem dX4_finishes_78 : decode cX4_finishes 78 = .ok (.ladd, 1) := dk_97 (dk_at dksX4_finishes_3 8 rfl rfl)
theorem dX4_finishes_79 : decode cX4_finishes 79 = .ok (.putfield 117, 3) := dk_181 0 117 (dk_at dksX4_finishes_3 9 rfl rfl)
theorem dX4_finishes_82 : decode cX4_finishes 82 = .ok (.aload_n 0, 1) := dk_42 (dk_at dksX4_finishes_3 12 rfl rfl)
theorem dX4_finishes_83 : decode cX4_finishes 83 = .ok (.getfield 24, 3) := dk_180 0 24 (dk_at dksX4_finishes_3 13 rfl rfl)
theorem dX4_finishes_86 : decode cX4_finishes 86 = .ok (.bipush 7, 2) := dk_16 7 (dk_at dksX4_finishes_3 16 rfl rfl)
theorem dX4_finishes_88 : decode cX4_finishes 88 = .ok (.dup2, 1) := dk_92 (dk_at dksX4_finishes_3 18 rfl rfl)
theorem dX4_finishes_89 : decode cX4_finishes 89 = .ok (.laload, 1) := dk_47 (dk_at dksX4_finishes_3 19 rfl rfl)
theorem dX4_finishes_90 : decode cX4_finishes 90 = .ok (.aload_n 0, 1) := dk_42 (dk_at dksX4_finishes_3 20 rfl rfl)
theorem dX4_finishes_91 : decode cX4_finishes 91 = .ok (.iload_n 1, 1) := dk_27 (dk_at dksX4_finishes_3 21 rfl rfl)
theorem dX4_finishes_92 : decode cX4_finishes 92 = .ok (.invokevirtual 282, 3) := dk_182 1 26 (dk_at dksX4_finishes_4 0 rfl rfl)
theorem dX4_finishes_95 : decode cX4_finishes 95 = .ok (.ladd, 1) := dk_97 (dk_at dksX4_finishes_4 3 rfl rfl)
theorem dX4_finishes_96 : decode cX4_finishes 96 = .ok (.lastore, 1) := dk_80 (dk_at dksX4_finishes_4 4 rfl rfl)
theorem dX4_finishes_97 : decode cX4_finishes 97 = .ok (.aload_n 0, 1) := dk_42 (dk_at dksX4_finishes_4 5 rfl rfl)
theorem dX4_finishes_98 : decode cX4_finishes 98 = .ok (.dup, 1) := dk_89 (dk_at dksX4_finishes_4 6 rfl rfl)
theorem dX4_finishes_99 : decode cX4_finishes 99 = .ok (.getfield 159, 3) := dk_180 0 159 (dk_at dksX4_finishes_4 7 rfl rfl)
theorem dX4_finishes_102 : decode cX4_finishes 102 = .ok (.lconst 1, 1) := dk_10 (dk_at dksX4_finishes_4 10 rfl rfl)
theorem dX4_finishes_103 : decode cX4_finishes 103 = .ok (.ladd, 1) := dk_97 (dk_at dksX4_finishes_4 11 rfl rfl)
theorem dX4_finishes_104 : decode cX4_finishes 104 = .ok (.putfield 159, 3) := dk_181 0 159 (dk_at dksX4_finishes_4 12 rfl rfl)
theorem dX4_finishes_107 : decode cX4_finishes 107 = .ok (.aload_n 0, 1) := dk_42 (dk_at dksX4_finishes_4 15 rfl rfl)
theorem dX4_finishes_108 : decode cX4_finishes 108 = .ok (.getfield 24, 3) := dk_180 0 24 (dk_at dksX4_finishes_4 16 rfl rfl)
theorem dX4_finishes_111 : decode cX4_finishes 111 = .ok (.iconst 0, 1) := dk_3 (dk_at dksX4_finishes_4 19 rfl rfl)
theorem dX4_finishes_112 : decode cX4_finishes 112 = .ok (.dup2, 1) := dk_92 (dk_at dksX4_finishes_4 20 rfl rfl)
theorem dX4_finishes_113 : decode cX4_finishes 113 = .ok (.laload, 1) := dk_47 (dk_at dksX4_finishes_4 21 rfl rfl)
theorem dX4_finishes_114 : decode cX4_finishes 114 = .ok (.lload 6, 2) := dk_22 6 (dk_at dksX4_finishes_4 22 rfl rfl)
theorem dX4_finishes_116 : decode cX4_finishes 116 = .ok (.aload_n 0, 1) := dk_42 (dk_at dksX4_finishes_5 0 rfl rfl)
theorem dX4_finishes_117 : decode cX4_finishes 117 = .ok (.iload_n 1, 1) := dk_27 (dk_at dksX4_finishes_5 1 rfl rfl)
theorem dX4_finishes_118 : decode cX4_finishes 118 = .ok (.aload_n 0, 1) := dk_42 (dk_at dksX4_finishes_5 2 rfl rfl)
theorem dX4_finishes_119 : decode cX4_finishes 119 = .ok (.iload_n 1, 1) := dk_27 (dk_at dksX4_finishes_5 3 rfl rfl)
theorem dX4_finishes_120 : decode cX4_finishes 120 = .ok (.invokevirtual 295, 3) := dk_182 1 39 (dk_at dksX4_finishes_5 4 rfl rfl)
theorem dX4_finishes_123 : decode cX4_finishes 123 = .ok (.iconst 4, 1) := dk_7 (dk_at dksX4_finishes_5 7 rfl rfl)
theorem dX4_finishes_124 : decode cX4_finishes 124 = .ok (.invokevirtual 298, 3) := dk_182 1 42 (dk_at dksX4_finishes_5 8 rfl rfl)
theorem dX4_finishes_127 : decode cX4_finishes 127 = .ok (.lsub, 1) := dk_101 (dk_at dksX4_finishes_5 11 rfl rfl)
theorem dX4_finishes_128 : decode cX4_finishes 128 = .ok (.ladd, 1) := dk_97 (dk_at dksX4_finishes_5 12 rfl rfl)
theorem dX4_finishes_129 : decode cX4_finishes 129 = .ok (.lastore, 1) := dk_80 (dk_at dksX4_finishes_5 13 rfl rfl)
theorem dX4_finishes_130 : decode cX4_finishes 130 = .ok (.goto 285, 3) := dk_167 1 29 (dk_at dksX4_finishes_5 14 rfl rfl)
theorem dX4_finishes_133 : decode cX4_finishes 133 = .ok (.aload_n 0, 1) := dk_42 (dk_at dksX4_finishes_5 17 rfl rfl)
theorem dX4_finishes_134 : decode cX4_finishes 134 = .ok (.getfield 49, 3) := dk_180 0 49 (dk_at dksX4_finishes_5 18 rfl rfl)
theorem dX4_finishes_137 : decode cX4_finishes 137 = .ok (.iload_n 1, 1) := dk_27 (dk_at dksX4_finishes_5 21 rfl rfl)
theorem dX4_finishes_138 : decode cX4_finishes 138 = .ok (.iaload, 1) := dk_46 (dk_at dksX4_finishes_5 22 rfl rfl)
theorem dX4_finishes_139 : decode cX4_finishes 139 = .ok (.iconst 3, 1) := dk_6 (dk_at dksX4_finishes_5 23 rfl rfl)
theorem dX4_finishes_140 : decode cX4_finishes 140 = .ok (.if_icmp .ne 33, 3) := dk_160 0 33 (dk_at dksX4_finishes_6 0 rfl rfl)
theorem dX4_finishes_143 : decode cX4_finishes 143 = .ok (.aload_n 0, 1) := dk_42 (dk_at dksX4_finishes_6 3 rfl rfl)
theorem dX4_finishes_144 : decode cX4_finishes 144 = .ok (.getfield 24, 3) := dk_180 0 24 (dk_at dksX4_finishes_6 4 rfl rfl)
theorem dX4_finishes_147 : decode cX4_finishes 147 = .ok (.iconst 4, 1) := dk_7 (dk_at dksX4_finishes_6 7 rfl rfl)
theorem dX4_finishes_148 : decode cX4_finishes 148 = .ok (.dup2, 1) := dk_92 (dk_at dksX4_finishes_6 8 rfl rfl)
theorem dX4_finishes_149 : decode cX4_finishes 149 = .ok (.laload, 1) := dk_47 (dk_at dksX4_finishes_6 9 rfl rfl)
theorem dX4_finishes_150 : decode cX4_finishes 150 = .ok (.lload 6, 2) := dk_22 6 (dk_at dksX4_finishes_6 10 rfl rfl)
theorem dX4_finishes_152 : decode cX4_finishes 152 = .ok (.aload_n 0, 1) := dk_42 (dk_at dksX4_finishes_6 12 rfl rfl)
theorem dX4_finishes_153 : decode cX4_finishes 153 = .ok (.iload_n 1, 1) := dk_27 (dk_at dksX4_finishes_6 13 rfl rfl)
theorem dX4_finishes_154 : decode cX4_finishes 154 = .ok (.aload_n 0, 1) := dk_42 (dk_at dksX4_finishes_6 14 rfl rfl)
theorem dX4_finishes_155 : decode cX4_finishes 155 = .ok (.iload_n 1, 1) := dk_27 (dk_at dksX4_finishes_6 15 rfl rfl)
theorem dX4_finishes_156 : decode cX4_finishes 156 = .ok (.aload_n 0, 1) := dk_42 (dk_at dksX4_finishes_6 16 rfl rfl)
theorem dX4_finishes_157 : decode cX4_finishes 157 = .ok (.getfield 114, 3) := dk_180 0 114 (dk_at dksX4_finishes_6 17 rfl rfl)
theorem dX4_finishes_160 : decode cX4_finishes 160 = .ok (.invokevirtual 302, 3) := dk_182 1 46 (dk_at dksX4_finishes_6 20 rfl rfl)
theorem dX4_finishes_163 : decode cX4_finishes 163 = .ok (.iconst 5, 1) := dk_8 (dk_at dksX4_finishes_6 23 rfl rfl)
theorem dX4_finishes_164 : decode cX4_finishes 164 = .ok (.invokevirtual 298, 3) := dk_182 1 42 (dk_at dksX4_finishes_7 0 rfl rfl)
theorem dX4_finishes_167 : decode cX4_finishes 167 = .ok (.lsub, 1) := dk_101 (dk_at dksX4_finishes_7 3 rfl rfl)
theorem dX4_finishes_168 : decode cX4_finishes 168 = .ok (.ladd, 1) := dk_97 (dk_at dksX4_finishes_7 4 rfl rfl)
theorem dX4_finishes_169 : decode cX4_finishes 169 = .ok (.lastore, 1) := dk_80 (dk_at dksX4_finishes_7 5 rfl rfl)
theorem dX4_finishes_170 : decode cX4_finishes 170 = .ok (.goto 245, 3) := dk_167 0 245 (dk_at dksX4_finishes_7 6 rfl rfl)
theorem dX4_finishes_173 : decode cX4_finishes 173 = .ok (.aload_n 0, 1) := dk_42 (dk_at dksX4_finishes_7 9 rfl rfl)
theorem dX4_finishes_174 : decode cX4_finishes 174 = .ok (.getfield 114, 3) := dk_180 0 114 (dk_at dksX4_finishes_7 10 rfl rfl)
theorem dX4_finishes_177 : decode cX4_finishes 177 = .ok (.iconst 1, 1) := dk_4 (dk_at dksX4_finishes_7 13 rfl rfl)
theorem dX4_finishes_178 : decode cX4_finishes 178 = .ok (.iadd, 1) := dk_96 (dk_at dksX4_finishes_7 14 rfl rfl)
theorem dX4_finishes_179 : decode cX4_finishes 179 = .ok (.aload_n 0, 1) := dk_42 (dk_at dksX4_finishes_7 15 rfl rfl)
theorem dX4_finishes_180 : decode cX4_finishes 180 = .ok (.getfield 46, 3) := dk_180 0 46 (dk_at dksX4_finishes_7 16 rfl rfl)
theorem dX4_finishes_183 : decode cX4_finishes 183 = .ok (.iload_n 1, 1) := dk_27 (dk_at dksX4_finishes_7 19 rfl rfl)
theorem dX4_finishes_184 : decode cX4_finishes 184 = .ok (.iaload, 1) := dk_46 (dk_at dksX4_finishes_7 20 rfl rfl)
theorem dX4_finishes_185 : decode cX4_finishes 185 = .ok (.if_icmp .ne 91, 3) := dk_160 0 91 (dk_at dksX4_finishes_7 21 rfl rfl)
theorem dX4_finishes_188 : decode cX4_finishes 188 = .ok (.aload_n 0, 1) := dk_42 (dk_at dksX4_finishes_8 0 rfl rfl)
theorem dX4_finishes_189 : decode cX4_finishes 189 = .ok (.getfield 31, 3) := dk_180 0 31 (dk_at dksX4_finishes_8 1 rfl rfl)
theorem dX4_finishes_192 : decode cX4_finishes 192 = .ok (.iload_n 1, 1) := dk_27 (dk_at dksX4_finishes_8 4 rfl rfl)
theorem dX4_finishes_193 : decode cX4_finishes 193 = .ok (.iaload, 1) := dk_46 (dk_at dksX4_finishes_8 5 rfl rfl)
theorem dX4_finishes_194 : decode cX4_finishes 194 = .ok (.iconst 3, 1) := dk_6 (dk_at dksX4_finishes_8 6 rfl rfl)
theorem dX4_finishes_195 : decode cX4_finishes 195 = .ok (.if_icmp .ne 12, 3) := dk_160 0 12 (dk_at dksX4_finishes_8 7 rfl rfl)
theorem dX4_finishes_198 : decode cX4_finishes 198 = .ok (.aload_n 0, 1) := dk_42 (dk_at dksX4_finishes_8 10 rfl rfl)
theorem dX4_finishes_199 : decode cX4_finishes 199 = .ok (.getfield 67, 3) := dk_180 0 67 (dk_at dksX4_finishes_8 11 rfl rfl)
theorem dX4_finishes_202 : decode cX4_finishes 202 = .ok (.iload_n 1, 1) := dk_27 (dk_at dksX4_finishes_8 14 rfl rfl)
theorem dX4_finishes_203 : decode cX4_finishes 203 = .ok (.laload, 1) := dk_47 (dk_at dksX4_finishes_8 15 rfl rfl)
theorem dX4_finishes_204 : decode cX4_finishes 204 = .ok (.goto 36, 3) := dk_167 0 36 (dk_at dksX4_finishes_8 16 rfl rfl)
theorem dX4_finishes_207 : decode cX4_finishes 207 = .ok (.aload_n 0, 1) := dk_42 (dk_at dksX4_finishes_8 19 rfl rfl)
theorem dX4_finishes_208 : decode cX4_finishes 208 = .ok (.getfield 31, 3) := dk_180 0 31 (dk_at dksX4_finishes_8 20 rfl rfl)
theorem dX4_finishes_211 : decode cX4_finishes 211 = .ok (.iload_n 1, 1) := dk_27 (dk_at dksX4_finishes_8 23 rfl rfl)
theorem dX4_finishes_212 : decode cX4_finishes 212 = .ok (.iaload, 1) := dk_46 (dk_at dksX4_finishes_9 0 rfl rfl)
theorem dX4_finishes_213 : decode cX4_finishes 213 = .ok (.iconst 2, 1) := dk_5 (dk_at dksX4_finishes_9 1 rfl rfl)
theorem dX4_finishes_214 : decode cX4_finishes 214 = .ok (.if_icmp .ne 7, 3) := dk_160 0 7 (dk_at dksX4_finishes_9 2 rfl rfl)
theorem dX4_finishes_217 : decode cX4_finishes 217 = .ok (.lconst 0, 1) := dk_9 (dk_at dksX4_finishes_9 5 rfl rfl)
theorem dX4_finishes_218 : decode cX4_finishes 218 = .ok (.goto 22, 3) := dk_167 0 22 (dk_at dksX4_finishes_9 6 rfl rfl)
theorem dX4_finishes_221 : decode cX4_finishes 221 = .ok (.aload_n 0, 1) := dk_42 (dk_at dksX4_finishes_9 9 rfl rfl)
theorem dX4_finishes_222 : decode cX4_finishes 222 = .ok (.getfield 67, 3) := dk_180 0 67 (dk_at dksX4_finishes_9 10 rfl rfl)
theorem dX4_finishes_225 : decode cX4_finishes 225 = .ok (.iload_n 1, 1) := dk_27 (dk_at dksX4_finishes_9 13 rfl rfl)
theorem dX4_finishes_226 : decode cX4_finishes 226 = .ok (.laload, 1) := dk_47 (dk_at dksX4_finishes_9 14 rfl rfl)
theorem dX4_finishes_227 : decode cX4_finishes 227 = .ok (.aload_n 0, 1) := dk_42 (dk_at dksX4_finishes_9 15 rfl rfl)
theorem dX4_finishes_228 : decode cX4_finishes 228 = .ok (.getfield 70, 3) := dk_180 0 70 (dk_at dksX4_finishes_9 16 rfl rfl)
theorem dX4_finishes_231 : decode cX4_finishes 231 = .ok (.iload_n 1, 1) := dk_27 (dk_at dksX4_finishes_9 19 rfl rfl)
theorem dX4_finishes_232 : decode cX4_finishes 232 = .ok (.laload, 1) := dk_47 (dk_at dksX4_finishes_9 20 rfl rfl)
theorem dX4_finishes_233 : decode cX4_finishes 233 = .ok (.ladd, 1) := dk_97 (dk_at dksX4_finishes_9 21 rfl rfl)
theorem dX4_finishes_234 : decode cX4_finishes 234 = .ok (.aload_n 0, 1) := dk_42 (dk_at dksX4_finishes_9 22 rfl rfl)
theorem dX4_finishes_235 : decode cX4_finishes 235 = .ok (.iload_n 1, 1) := dk_27 (dk_at dksX4_finishes_9 23 rfl rfl)
theorem dX4_finishes_236 : decode cX4_finishes 236 = .ok (.invokevirtual 266, 3) := dk_182 1 10 (dk_at dksX4_finishes_10 0 rfl rfl)
theorem dX4_finishes_239 : decode cX4_finishes 239 = .ok (.ladd, 1) := dk_97 (dk_at dksX4_finishes_10 3 rfl rfl)
theorem dX4_finishes_240 : decode cX4_finishes 240 = .ok (.lstore 8, 2) := dk_55 8 (dk_at dksX4_finishes_10 4 rfl rfl)
theorem dX4_finishes_242 : decode cX4_finishes 242 = .ok (.aload_n 0, 1) := dk_42 (dk_at dksX4_finishes_10 6 rfl rfl)
theorem dX4_finishes_243 : decode cX4_finishes 243 = .ok (.getfield 55, 3) := dk_180 0 55 (dk_at dksX4_finishes_10 7 rfl rfl)
theorem dX4_finishes_246 : decode cX4_finishes 246 = .ok (.iload_n 1, 1) := dk_27 (dk_at dksX4_finishes_10 10 rfl rfl)
theorem dX4_finishes_247 : decode cX4_finishes 247 = .ok (.dup2, 1) := dk_92 (dk_at dksX4_finishes_10 11 rfl rfl)
theorem dX4_finishes_248 : decode cX4_finishes 248 = .ok (.iaload, 1) := dk_46 (dk_at dksX4_finishes_10 12 rfl rfl)
theorem dX4_finishes_249 : decode cX4_finishes 249 = .ok (.iconst 1, 1) := dk_4 (dk_at dksX4_finishes_10 13 rfl rfl)
theorem dX4_finishes_250 : decode cX4_finishes 250 = .ok (.iadd, 1) := dk_96 (dk_at dksX4_finishes_10 14 rfl rfl)
theorem dX4_finishes_251 : decode cX4_finishes 251 = .ok (.iastore, 1) := dk_79 (dk_at dksX4_finishes_10 15 rfl rfl)
theorem dX4_finishes_252 : decode cX4_finishes 252 = .ok (.aload_n 0, 1) := dk_42 (dk_at dksX4_finishes_10 16 rfl rfl)
theorem dX4_finishes_253 : decode cX4_finishes 253 = .ok (.getfield 24, 3) := dk_180 0 24 (dk_at dksX4_finishes_10 17 rfl rfl)
theorem dX4_finishes_256 : decode cX4_finishes 256 = .ok (.iconst 0, 1) := dk_3 (dk_at dksX4_finishes_10 20 rfl rfl)
theorem dX4_finishes_257 : decode cX4_finishes 257 = .ok (.dup2, 1) := dk_92 (dk_at dksX4_finishes_10 21 rfl rfl)
theorem dX4_finishes_258 : decode cX4_finishes 258 = .ok (.laload, 1) := dk_47 (dk_at dksX4_finishes_10 22 rfl rfl)
theorem dX4_finishes_259 : decode cX4_finishes 259 = .ok (.lload 6, 2) := dk_22 6 (dk_at dksX4_finishes_11 0 rfl rfl)
theorem dX4_finishes_261 : decode cX4_finishes 261 = .ok (.aload_n 0, 1) := dk_42 (dk_at dksX4_finishes_11 2 rfl rfl)
theorem dX4_finishes_262 : decode cX4_finishes 262 = .ok (.iload_n 1, 1) := dk_27 (dk_at dksX4_finishes_11 3 rfl rfl)
theorem dX4_finishes_263 : decode cX4_finishes 263 = .ok (.lload 8, 2) := dk_22 8 (dk_at dksX4_finishes_11 4 rfl rfl)
theorem dX4_finishes_265 : decode cX4_finishes 265 = .ok (.bipush 6, 2) := dk_16 6 (dk_at dksX4_finishes_11 6 rfl rfl)
theorem dX4_finishes_267 : decode cX4_finishes 267 = .ok (.invokevirtual 298, 3) := dk_182 1 42 (dk_at dksX4_finishes_11 8 rfl rfl)
theorem dX4_finishes_270 : decode cX4_finishes 270 = .ok (.lsub, 1) := dk_101 (dk_at dksX4_finishes_11 11 rfl rfl)
theorem dX4_finishes_271 : decode cX4_finishes 271 = .ok (.ladd, 1) := dk_97 (dk_at dksX4_finishes_11 12 rfl rfl)
theorem dX4_finishes_272 : decode cX4_finishes 272 = .ok (.lastore, 1) := dk_80 (dk_at dksX4_finishes_11 13 rfl rfl)
theorem dX4_finishes_273 : decode cX4_finishes 273 = .ok (.goto 142, 3) := dk_167 0 142 (dk_at dksX4_finishes_11 14 rfl rfl)
theorem dX4_finishes_276 : decode cX4_finishes 276 = .ok (.aload_n 0, 1) := dk_42 (dk_at dksX4_finishes_11 17 rfl rfl)
theorem dX4_finishes_277 : decode cX4_finishes 277 = .ok (.getfield 76, 3) := dk_180 0 76 (dk_at dksX4_finishes_11 18 rfl rfl)
theorem dX4_finishes_280 : decode cX4_finishes 280 = .ok (.iload_n 1, 1) := dk_27 (dk_at dksX4_finishes_11 21 rfl rfl)
theorem dX4_finishes_281 : decode cX4_finishes 281 = .ok (.laload, 1) := dk_47 (dk_at dksX4_finishes_11 22 rfl rfl)
theorem dX4_finishes_282 : decode cX4_finishes 282 = .ok (.aload_n 0, 1) := dk_42 (dk_at dksX4_finishes_11 23 rfl rfl)
theorem dX4_finishes_283 : decode cX4_finishes 283 = .ok (.iload_n 1, 1) := dk_27 (dk_at dksX4_finishes_12 0 rfl rfl)
theorem dX4_finishes_284 : decode cX4_finishes 284 = .ok (.aload_n 0, 1) := dk_42 (dk_at dksX4_finishes_12 1 rfl rfl)
theorem dX4_finishes_285 : decode cX4_finishes 285 = .ok (.getfield 114, 3) := dk_180 0 114 (dk_at dksX4_finishes_12 2 rfl rfl)
theorem dX4_finishes_288 : decode cX4_finishes 288 = .ok (.iconst 1, 1) := dk_4 (dk_at dksX4_finishes_12 5 rfl rfl)
theorem dX4_finishes_289 : decode cX4_finishes 289 = .ok (.iadd, 1) := dk_96 (dk_at dksX4_finishes_12 6 rfl rfl)
theorem dX4_finishes_290 : decode cX4_finishes 290 = .ok (.invokevirtual 302, 3) := dk_182 1 46 (dk_at dksX4_finishes_12 7 rfl rfl)
theorem dX4_finishes_293 : decode cX4_finishes 293 = .ok (.lcmp, 1) := dk_148 (dk_at dksX4_finishes_12 10 rfl rfl)
theorem dX4_finishes_294 : decode cX4_finishes 294 = .ok (.ifCond .le 51, 3) := dk_158 0 51 (dk_at dksX4_finishes_12 11 rfl rfl)
theorem dX4_finishes_297 : decode cX4_finishes 297 = .ok (.aload_n 0, 1) := dk_42 (dk_at dksX4_finishes_12 14 rfl rfl)
theorem dX4_finishes_298 : decode cX4_finishes 298 = .ok (.getfield 24, 3) := dk_180 0 24 (dk_at dksX4_finishes_12 15 rfl rfl)
theorem dX4_finishes_301 : decode cX4_finishes 301 = .ok (.iconst 4, 1) := dk_7 (dk_at dksX4_finishes_12 18 rfl rfl)
theorem dX4_finishes_302 : decode cX4_finishes 302 = .ok (.dup2, 1) := dk_92 (dk_at dksX4_finishes_12 19 rfl rfl)
theorem dX4_finishes_303 : decode cX4_finishes 303 = .ok (.laload, 1) := dk_47 (dk_at dksX4_finishes_12 20 rfl rfl)
theorem dX4_finishes_304 : decode cX4_finishes 304 = .ok (.lload 6, 2) := dk_22 6 (dk_at dksX4_finishes_12 21 rfl rfl)
theorem dX4_finishes_306 : decode cX4_finishes 306 = .ok (.aload_n 0, 1) := dk_42 (dk_at dksX4_finishes_12 23 rfl rfl)
theorem dX4_finishes_307 : decode cX4_finishes 307 = .ok (.getfield 76, 3) := dk_180 0 76 (dk_at dksX4_finishes_13 0 rfl rfl)
theorem dX4_finishes_310 : decode cX4_finishes 310 = .ok (.iload_n 1, 1) := dk_27 (dk_at dksX4_finishes_13 3 rfl rfl)
theorem dX4_finishes_311 : decode cX4_finishes 311 = .ok (.laload, 1) := dk_47 (dk_at dksX4_finishes_13 4 rfl rfl)
theorem dX4_finishes_312 : decode cX4_finishes 312 = .ok (.lsub, 1) := dk_101 (dk_at dksX4_finishes_13 5 rfl rfl)
theorem dX4_finishes_313 : decode cX4_finishes 313 = .ok (.ladd, 1) := dk_97 (dk_at dksX4_finishes_13 6 rfl rfl)
theorem dX4_finishes_314 : decode cX4_finishes 314 = .ok (.lastore, 1) := dk_80 (dk_at dksX4_finishes_13 7 rfl rfl)
theorem dX4_finishes_315 : decode cX4_finishes 315 = .ok (.aload_n 0, 1) := dk_42 (dk_at dksX4_finishes_13 8 rfl rfl)
theorem dX4_finishes_316 : decode cX4_finishes 316 = .ok (.getfield 76, 3) := dk_180 0 76 (dk_at dksX4_finishes_13 9 rfl rfl)
theorem dX4_finishes_319 : decode cX4_finishes 319 = .ok (.iload_n 1, 1) := dk_27 (dk_at dksX4_finishes_13 12 rfl rfl)
theorem dX4_finishes_320 : decode cX4_finishes 320 = .ok (.lconst 0, 1) := dk_9 (dk_at dksX4_finishes_13 13 rfl rfl)
theorem dX4_finishes_321 : decode cX4_finishes 321 = .ok (.lastore, 1) := dk_80 (dk_at dksX4_finishes_13 14 rfl rfl)
theorem dX4_finishes_322 : decode cX4_finishes 322 = .ok (.aload_n 0, 1) := dk_42 (dk_at dksX4_finishes_13 15 rfl rfl)
theorem dX4_finishes_323 : decode cX4_finishes 323 = .ok (.getfield 58, 3) := dk_180 0 58 (dk_at dksX4_finishes_13 16 rfl rfl)
theorem dX4_finishes_326 : decode cX4_finishes 326 = .ok (.iload_n 1, 1) := dk_27 (dk_at dksX4_finishes_13 19 rfl rfl)
theorem dX4_finishes_327 : decode cX4_finishes 327 = .ok (.aload_n 0, 1) := dk_42 (dk_at dksX4_finishes_13 20 rfl rfl)
theorem dX4_finishes_328 : decode cX4_finishes 328 = .ok (.getfield 114, 3) := dk_180 0 114 (dk_at dksX4_finishes_13 21 rfl rfl)
theorem dX4_finishes_331 : decode cX4_finishes 331 = .ok (.iconst 1, 1) := dk_4 (dk_at dksX4_finishes_14 0 rfl rfl)
theorem dX4_finishes_332 : decode cX4_finishes 332 = .ok (.iadd, 1) := dk_96 (dk_at dksX4_finishes_14 1 rfl rfl)
theorem dX4_finishes_333 : decode cX4_finishes 333 = .ok (.iastore, 1) := dk_79 (dk_at dksX4_finishes_14 2 rfl rfl)
theorem dX4_finishes_334 : decode cX4_finishes 334 = .ok (.aload_n 0, 1) := dk_42 (dk_at dksX4_finishes_14 3 rfl rfl)
theorem dX4_finishes_335 : decode cX4_finishes 335 = .ok (.getfield 49, 3) := dk_180 0 49 (dk_at dksX4_finishes_14 4 rfl rfl)
theorem dX4_finishes_338 : decode cX4_finishes 338 = .ok (.iload_n 1, 1) := dk_27 (dk_at dksX4_finishes_14 7 rfl rfl)
theorem dX4_finishes_339 : decode cX4_finishes 339 = .ok (.bipush 7, 2) := dk_16 7 (dk_at dksX4_finishes_14 8 rfl rfl)
theorem dX4_finishes_341 : decode cX4_finishes 341 = .ok (.iastore, 1) := dk_79 (dk_at dksX4_finishes_14 10 rfl rfl)
theorem dX4_finishes_342 : decode cX4_finishes 342 = .ok (.goto 73, 3) := dk_167 0 73 (dk_at dksX4_finishes_14 11 rfl rfl)
theorem dX4_finishes_345 : decode cX4_finishes 345 = .ok (.aload_n 0, 1) := dk_42 (dk_at dksX4_finishes_14 14 rfl rfl)
theorem dX4_finishes_346 : decode cX4_finishes 346 = .ok (.getfield 31, 3) := dk_180 0 31 (dk_at dksX4_finishes_14 15 rfl rfl)
theorem dX4_finishes_349 : decode cX4_finishes 349 = .ok (.iload_n 1, 1) := dk_27 (dk_at dksX4_finishes_14 18 rfl rfl)
theorem dX4_finishes_350 : decode cX4_finishes 350 = .ok (.iaload, 1) := dk_46 (dk_at dksX4_finishes_14 19 rfl rfl)
theorem dX4_finishes_351 : decode cX4_finishes 351 = .ok (.iconst 3, 1) := dk_6 (dk_at dksX4_finishes_14 20 rfl rfl)
theorem dX4_finishes_352 : decode cX4_finishes 352 = .ok (.if_icmp .ne 12, 3) := dk_160 0 12 (dk_at dksX4_finishes_14 21 rfl rfl)
theorem dX4_finishes_355 : decode cX4_finishes 355 = .ok (.aload_n 0, 1) := dk_42 (dk_at dksX4_finishes_15 0 rfl rfl)
theorem dX4_finishes_356 : decode cX4_finishes 356 = .ok (.getfield 67, 3) := dk_180 0 67 (dk_at dksX4_finishes_15 1 rfl rfl)
theorem dX4_finishes_359 : decode cX4_finishes 359 = .ok (.iload_n 1, 1) := dk_27 (dk_at dksX4_finishes_15 4 rfl rfl)
theorem dX4_finishes_360 : decode cX4_finishes 360 = .ok (.laload, 1) := dk_47 (dk_at dksX4_finishes_15 5 rfl rfl)
theorem dX4_finishes_361 : decode cX4_finishes 361 = .ok (.goto 4, 3) := dk_167 0 4 (dk_at dksX4_finishes_15 6 rfl rfl)
theorem dX4_finishes_364 : decode cX4_finishes 364 = .ok (.lconst 0, 1) := dk_9 (dk_at dksX4_finishes_15 9 rfl rfl)
theorem dX4_finishes_365 : decode cX4_finishes 365 = .ok (.lstore 8, 2) := dk_55 8 (dk_at dksX4_finishes_15 10 rfl rfl)
theorem dX4_finishes_367 : decode cX4_finishes 367 = .ok (.aload_n 0, 1) := dk_42 (dk_at dksX4_finishes_15 12 rfl rfl)
theorem dX4_finishes_368 : decode cX4_finishes 368 = .ok (.getfield 55, 3) := dk_180 0 55 (dk_at dksX4_finishes_15 13 rfl rfl)
theorem dX4_finishes_371 : decode cX4_finishes 371 = .ok (.iload_n 1, 1) := dk_27 (dk_at dksX4_finishes_15 16 rfl rfl)
theorem dX4_finishes_372 : decode cX4_finishes 372 = .ok (.dup2, 1) := dk_92 (dk_at dksX4_finishes_15 17 rfl rfl)
theorem dX4_finishes_373 : decode cX4_finishes 373 = .ok (.iaload, 1) := dk_46 (dk_at dksX4_finishes_15 18 rfl rfl)
theorem dX4_finishes_374 : decode cX4_finishes 374 = .ok (.iconst 1, 1) := dk_4 (dk_at dksX4_finishes_15 19 rfl rfl)
theorem dX4_finishes_375 : decode cX4_finishes 375 = .ok (.iadd, 1) := dk_96 (dk_at dksX4_finishes_15 20 rfl rfl)
theorem dX4_finishes_376 : decode cX4_finishes 376 = .ok (.iastore, 1) := dk_79 (dk_at dksX4_finishes_15 21 rfl rfl)
theorem dX4_finishes_377 : decode cX4_finishes 377 = .ok (.aload_n 0, 1) := dk_42 (dk_at dksX4_finishes_15 22 rfl rfl)
theorem dX4_finishes_378 : decode cX4_finishes 378 = .ok (.dup, 1) := dk_89 (dk_at dksX4_finishes_15 23 rfl rfl)
theorem dX4_finishes_379 : decode cX4_finishes 379 = .ok (.getfield 117, 3) := dk_180 0 117 (dk_at dksX4_finishes_16 0 rfl rfl)
theorem dX4_finishes_382 : decode cX4_finishes 382 = .ok (.lload 8, 2) := dk_22 8 (dk_at dksX4_finishes_16 3 rfl rfl)
theorem dX4_finishes_384 : decode cX4_finishes 384 = .ok (.lsub, 1) := dk_101 (dk_at dksX4_finishes_16 5 rfl rfl)
theorem dX4_finishes_385 : decode cX4_finishes 385 = .ok (.putfield 117, 3) := dk_181 0 117 (dk_at dksX4_finishes_16 6 rfl rfl)
theorem dX4_finishes_388 : decode cX4_finishes 388 = .ok (.aload_n 0, 1) := dk_42 (dk_at dksX4_finishes_16 9 rfl rfl)
theorem dX4_finishes_389 : decode cX4_finishes 389 = .ok (.getfield 24, 3) := dk_180 0 24 (dk_at dksX4_finishes_16 10 rfl rfl)
theorem dX4_finishes_392 : decode cX4_finishes 392 = .ok (.iconst 0, 1) := dk_3 (dk_at dksX4_finishes_16 13 rfl rfl)
theorem dX4_finishes_393 : decode cX4_finishes 393 = .ok (.dup2, 1) := dk_92 (dk_at dksX4_finishes_16 14 rfl rfl)
theorem dX4_finishes_394 : decode cX4_finishes 394 = .ok (.laload, 1) := dk_47 (dk_at dksX4_finishes_16 15 rfl rfl)
theorem dX4_finishes_395 : decode cX4_finishes 395 = .ok (.lload 6, 2) := dk_22 6 (dk_at dksX4_finishes_16 16 rfl rfl)
theorem dX4_finishes_397 : decode cX4_finishes 397 = .ok (.aload_n 0, 1) := dk_42 (dk_at dksX4_finishes_16 18 rfl rfl)
theorem dX4_finishes_398 : decode cX4_finishes 398 = .ok (.iload_n 1, 1) := dk_27 (dk_at dksX4_finishes_16 19 rfl rfl)
theorem dX4_finishes_399 : decode cX4_finishes 399 = .ok (.aload_n 0, 1) := dk_42 (dk_at dksX4_finishes_16 20 rfl rfl)
theorem dX4_finishes_400 : decode cX4_finishes 400 = .ok (.getfield 114, 3) := dk_180 0 114 (dk_at dksX4_finishes_16 21 rfl rfl)
theorem dX4_finishes_403 : decode cX4_finishes 403 = .ok (.iconst 1, 1) := dk_4 (dk_at dksX4_finishes_17 0 rfl rfl)
theorem dX4_finishes_404 : decode cX4_finishes 404 = .ok (.iadd, 1) := dk_96 (dk_at dksX4_finishes_17 1 rfl rfl)
theorem dX4_finishes_405 : decode cX4_finishes 405 = .ok (.iconst 0, 1) := dk_3 (dk_at dksX4_finishes_17 2 rfl rfl)
theorem dX4_finishes_406 : decode cX4_finishes 406 = .ok (.invokevirtual 244, 3) := dk_182 0 244 (dk_at dksX4_finishes_17 3 rfl rfl)
theorem dX4_finishes_409 : decode cX4_finishes 409 = .ok (.lsub, 1) := dk_101 (dk_at dksX4_finishes_17 6 rfl rfl)
theorem dX4_finishes_410 : decode cX4_finishes 410 = .ok (.lload 8, 2) := dk_22 8 (dk_at dksX4_finishes_17 7 rfl rfl)
theorem dX4_finishes_412 : decode cX4_finishes 412 = .ok (.lsub, 1) := dk_101 (dk_at dksX4_finishes_17 9 rfl rfl)
theorem dX4_finishes_413 : decode cX4_finishes 413 = .ok (.ladd, 1) := dk_97 (dk_at dksX4_finishes_17 10 rfl rfl)
theorem dX4_finishes_414 : decode cX4_finishes 414 = .ok (.lastore, 1) := dk_80 (dk_at dksX4_finishes_17 11 rfl rfl)
theorem dX4_finishes_415 : decode cX4_finishes 415 = .ok (.return_, 1) := dk_177 (dk_at dksX4_finishes_17 12 rfl rfl)
abbrev cX4_ends : ByteArray := prog_12_method_31_code
def yX4_ends : MethodName := ⟨RX4, "ends", "(IJI)J"⟩
def dkwX4_ends_3 : List UInt8 := [22, 5, 173]
abbrev dktX4_ends_3 : List UInt8 := dkwX4_ends_3 ++ []
def dkwX4_ends_2 : List UInt8 := [180, 0, 31, 27, 46, 6, 160, 0, 7, 9, 167, 0, 4, 32, 97, 80, 42, 180, 0, 49, 27, 21, 4, 79]
abbrev dktX4_ends_2 : List UInt8 := dkwX4_ends_2 ++ dktX4_ends_3
def dkwX4_ends_1 : List UInt8 := [47, 101, 184, 0, 241, 101, 181, 0, 117, 42, 180, 0, 76, 27, 9, 80, 42, 180, 0, 85, 27, 92, 47, 42]
abbrev dktX4_ends_1 : List UInt8 := dkwX4_ends_1 ++ dktX4_ends_2
def dkwX4_ends_0 : List UInt8 := [32, 42, 180, 0, 76, 27, 47, 184, 0, 241, 55, 5, 42, 89, 180, 0, 117, 9, 32, 42, 180, 0, 76, 27]
abbrev dktX4_ends_0 : List UInt8 := dkwX4_ends_0 ++ dktX4_ends_1
theorem dksX4_ends_0 : cX4_ends.data.toList.drop 0 = dktX4_ends_0 := by decide +kernel
theorem dksX4_ends_1 : cX4_ends.data.toList.drop 24 = dktX4_ends_1 := dk_seg dksX4_ends_0 24 rfl rfl
theorem dksX4_ends_2 : cX4_ends.data.toList.drop 48 = dktX4_ends_2 := dk_seg dksX4_ends_1 24 rfl rfl
theorem dksX4_ends_3 : cX4_ends.data.toList.drop 72 = dktX4_ends_3 := dk_seg dksX4_ends_2 24 rfl rfl
theorem dX4_ends_0 : decode cX4_ends 0 = .ok (.lload_n 2, 1) := dk_32 (dk_at dksX4_ends_0 0 rfl rfl)
theorem dX4_ends_1 : decode cX4_ends 1 = .ok (.aload_n 0, 1) := dk_42 (dk_at dksX4_ends_0 1 rfl rfl)
theorem dX4_ends_2 : decode cX4_ends 2 = .ok (.getfield 76, 3) := dk_180 0 76 (dk_at dksX4_ends_0 2 rfl rfl)
theorem dX4_ends_5 : decode cX4_ends 5 = .ok (.iload_n 1, 1) := dk_27 (dk_at dksX4_ends_0 5 rfl rfl)
theorem dX4_ends_6 : decode cX4_ends 6 = .ok (.laload, 1) := dk_47 (dk_at dksX4_ends_0 6 rfl rfl)
theorem dX4_ends_7 : decode cX4_ends 7 = .ok (.invokestatic 241, 3) := dk_184 0 241 (dk_at dksX4_ends_0 7 rfl rfl)
theorem dX4_ends_10 : decode cX4_ends 10 = .ok (.lstore 5, 2) := dk_55 5 (dk_at dksX4_ends_0 10 rfl rfl)
theorem dX4_ends_12 : decode cX4_ends 12 = .ok (.aload_n 0, 1) := dk_42 (dk_at dksX4_ends_0 12 rfl rfl)
theorem dX4_ends_13 : decode cX4_ends 13 = .ok (.dup, 1) := dk_89 (dk_at dksX4_ends_0 13 rfl rfl)
theorem dX4_ends_14 : decode cX4_ends 14 = .ok (.getfield 117, 3) := dk_180 0 117 (dk_at dksX4_ends_0 14 rfl rfl)
theorem dX4_ends_17 : decode cX4_ends 17 = .ok (.lconst 0, 1) := dk_9 (dk_at dksX4_ends_0 17 rfl rfl)
theorem dX4_ends_18 : decode cX4_ends 18 = .ok (.lload_n 2, 1) := dk_32 (dk_at dksX4_ends_0 18 rfl rfl)
theorem dX4_ends_19 : decode cX4_ends 19 = .ok (.aload_n 0, 1) := dk_42 (dk_at dksX4_ends_0 19 rfl rfl)
theorem dX4_ends_20 : decode cX4_ends 20 = .ok (.getfield 76, 3) := dk_180 0 76 (dk_at dksX4_ends_0 20 rfl rfl)
theorem dX4_ends_23 : decode cX4_ends 23 = .ok (.iload_n 1, 1) := dk_27 (dk_at dksX4_ends_0 23 rfl rfl)
theorem dX4_ends_24 : decode cX4_ends 24 = .ok (.laload, 1) := dk_47 (dk_at dksX4_ends_1 0 rfl rfl)
theorem dX4_ends_25 : decode cX4_ends 25 = .ok (.lsub, 1) := dk_101 (dk_at dksX4_ends_1 1 rfl rfl)
theorem dX4_ends_26 : decode cX4_ends 26 = .ok (.invokestatic 241, 3) := dk_184 0 241 (dk_at dksX4_ends_1 2 rfl rfl)
theorem dX4_ends_29 : decode cX4_ends 29 = .ok (.lsub, 1) := dk_101 (dk_at dksX4_ends_1 5 rfl rfl)
theorem dX4_ends_30 : decode cX4_ends 30 = .ok (.putfield 117, 3) := dk_181 0 117 (dk_at dksX4_ends_1 6 rfl rfl)
theorem dX4_ends_33 : decode cX4_ends 33 = .ok (.aload_n 0, 1) := dk_42 (dk_at dksX4_ends_1 9 rfl rfl)
theorem dX4_ends_34 : decode cX4_ends 34 = .ok (.getfield 76, 3) := dk_180 0 76 (dk_at dksX4_ends_1 10 rfl rfl)
theorem dX4_ends_37 : decode cX4_ends 37 = .ok (.iload_n 1, 1) := dk_27 (dk_at dksX4_ends_1 13 rfl rfl)
theorem dX4_ends_38 : decode cX4_ends 38 = .ok (.lconst 0, 1) := dk_9 (dk_at dksX4_ends_1 14 rfl rfl)
theorem dX4_ends_39 : decode cX4_ends 39 = .ok (.lastore, 1) := dk_80 (dk_at dksX4_ends_1 15 rfl rfl)
theorem dX4_ends_40 : decode cX4_ends 40 = .ok (.aload_n 0, 1) := dk_42 (dk_at dksX4_ends_1 16 rfl rfl)
theorem dX4_ends_41 : decode cX4_ends 41 = .ok (.getfield 85, 3) := dk_180 0 85 (dk_at dksX4_ends_1 17 rfl rfl)
theorem dX4_ends_44 : decode cX4_ends 44 = .ok (.iload_n 1, 1) := dk_27 (dk_at dksX4_ends_1 20 rfl rfl)
theorem dX4_ends_45 : decode cX4_ends 45 = .ok (.dup2, 1) := dk_92 (dk_at dksX4_ends_1 21 rfl rfl)
theorem dX4_ends_46 : decode cX4_ends 46 = .ok (.laload, 1) := dk_47 (dk_at dksX4_ends_1 22 rfl rfl)
theorem dX4_ends_47 : decode cX4_ends 47 = .ok (.aload_n 0, 1) := dk_42 (dk_at dksX4_ends_1 23 rfl rfl)
theorem dX4_ends_48 : decode cX4_ends 48 = .ok (.getfield 31, 3) := dk_180 0 31 (dk_at dksX4_ends_2 0 rfl rfl)
theorem dX4_ends_51 : decode cX4_ends 51 = .ok (.iload_n 1, 1) := dk_27 (dk_at dksX4_ends_2 3 rfl rfl)
theorem dX4_ends_52 : decode cX4_ends 52 = .ok (.iaload, 1) := dk_46 (dk_at dksX4_ends_2 4 rfl rfl)
theorem dX4_ends_53 : decode cX4_ends 53 = .ok (.iconst 3, 1) := dk_6 (dk_at dksX4_ends_2 5 rfl rfl)
theorem dX4_ends_54 : decode cX4_ends 54 = .ok (.if_icmp .ne 7, 3) := dk_160 0 7 (dk_at dksX4_ends_2 6 rfl rfl)
theorem dX4_ends_57 : decode cX4_ends 57 = .ok (.lconst 0, 1) := dk_9 (dk_at dksX4_ends_2 9 rfl rfl)
theorem dX4_ends_58 : decode cX4_ends 58 = .ok (.goto 4, 3) := dk_167 0 4 (dk_at dksX4_ends_2 10 rfl rfl)
theorem dX4_ends_61 : decode cX4_ends 61 = .ok (.lload_n 2, 1) := dk_32 (dk_at dksX4_ends_2 13 rfl rfl)
theorem dX4_ends_62 : decode cX4_ends 62 = .ok (.ladd, 1) := dk_97 (dk_at dksX4_ends_2 14 rfl rfl)
theorem dX4_ends_63 : decode cX4_ends 63 = .ok (.lastore, 1) := dk_80 (dk_at dksX4_ends_2 15 rfl rfl)
theorem dX4_ends_64 : decode cX4_ends 64 = .ok (.aload_n 0, 1) := dk_42 (dk_at dksX4_ends_2 16 rfl rfl)
theorem dX4_ends_65 : decode cX4_ends 65 = .ok (.getfield 49, 3) := dk_180 0 49 (dk_at dksX4_ends_2 17 rfl rfl)
theorem dX4_ends_68 : decode cX4_ends 68 = .ok (.iload_n 1, 1) := dk_27 (dk_at dksX4_ends_2 20 rfl rfl)
theorem dX4_ends_69 : decode cX4_ends 69 = .ok (.iload 4, 2) := dk_21 4 (dk_at dksX4_ends_2 21 rfl rfl)
theorem dX4_ends_71 : decode cX4_ends 71 = .ok (.iastore, 1) := dk_79 (dk_at dksX4_ends_2 23 rfl rfl)
theorem dX4_ends_72 : decode cX4_ends 72 = .ok (.lload 5, 2) := dk_22 5 (dk_at dksX4_ends_3 0 rfl rfl)
theorem dX4_ends_74 : decode cX4_ends 74 = .ok (.lreturn, 1) := dk_173 (dk_at dksX4_ends_3 2 rfl rfl)
abbrev cX4_surplus : ByteArray := prog_12_method_79_code
def yX4_surplus : MethodName := ⟨RX4, "surplus", "(I)J"⟩
def dkwX4_surplus_1 : List UInt8 := [42, 180, 0, 28, 27, 47, 173]
abbrev dktX4_surplus_1 : List UInt8 := dkwX4_surplus_1 ++ []
def dkwX4_surplus_0 : List UInt8 := [42, 3, 181, 0, 1, 27, 133, 9, 20, 1, 143, 184, 0, 168, 154, 0, 10, 42, 4, 182, 1, 86, 133, 173]
abbrev dktX4_surplus_0 : List UInt8 := dkwX4_surplus_0 ++ dktX4_surplus_1
theorem dksX4_surplus_0 : cX4_surplus.data.toList.drop 0 = dktX4_surplus_0 := by decide +kernel
theorem dksX4_surplus_1 : cX4_surplus.data.toList.drop 24 = dktX4_surplus_1 := dk_seg dksX4_surplus_0 24 rfl rfl
theorem dX4_surplus_0 : decode cX4_surplus 0 = .ok (.aload_n 0, 1) := dk_42 (dk_at dksX4_surplus_0 0 rfl rfl)
theorem dX4_surplus_1 : decode cX4_surplus 1 = .ok (.iconst 0, 1) := dk_3 (dk_at dksX4_surplus_0 1 rfl rfl)
theorem dX4_surplus_2 : decode cX4_surplus 2 = .ok (.putfield 1, 3) := dk_181 0 1 (dk_at dksX4_surplus_0 2 rfl rfl)
theorem dX4_surplus_5 : decode cX4_surplus 5 = .ok (.iload_n 1, 1) := dk_27 (dk_at dksX4_surplus_0 5 rfl rfl)
theorem dX4_surplus_6 : decode cX4_surplus 6 = .ok (.i2l, 1) := dk_133 (dk_at dksX4_surplus_0 6 rfl rfl)
theorem dX4_surplus_7 : decode cX4_surplus 7 = .ok (.lconst 0, 1) := dk_9 (dk_at dksX4_surplus_0 7 rfl rfl)
theorem dX4_surplus_8 : decode cX4_surplus 8 = .ok (.ldc2_w 399, 3) := dk_20 1 143 (dk_at dksX4_surplus_0 8 rfl rfl)
theorem dX4_surplus_11 : decode cX4_surplus 11 = .ok (.invokestatic 168, 3) := dk_184 0 168 (dk_at dksX4_surplus_0 11 rfl rfl)
theorem dX4_surplus_14 : decode cX4_surplus 14 = .ok (.ifCond .ne 10, 3) := dk_154 0 10 (dk_at dksX4_surplus_0 14 rfl rfl)
theorem dX4_surplus_17 : decode cX4_surplus 17 = .ok (.aload_n 0, 1) := dk_42 (dk_at dksX4_surplus_0 17 rfl rfl)
theorem dX4_surplus_18 : decode cX4_surplus 18 = .ok (.iconst 1, 1) := dk_4 (dk_at dksX4_surplus_0 18 rfl rfl)
theorem dX4_surplus_19 : decode cX4_surplus 19 = .ok (.invokevirtual 342, 3) := dk_182 1 86 (dk_at dksX4_surplus_0 19 rfl rfl)
theorem dX4_surplus_22 : decode cX4_surplus 22 = .ok (.i2l, 1) := dk_133 (dk_at dksX4_surplus_0 22 rfl rfl)
theorem dX4_surplus_23 : decode cX4_surplus 23 = .ok (.lreturn, 1) := dk_173 (dk_at dksX4_surplus_0 23 rfl rfl)
theorem dX4_surplus_24 : decode cX4_surplus 24 = .ok (.aload_n 0, 1) := dk_42 (dk_at dksX4_surplus_1 0 rfl rfl)
theorem dX4_surplus_25 : decode cX4_surplus 25 = .ok (.getfield 28, 3) := dk_180 0 28 (dk_at dksX4_surplus_1 1 rfl rfl)
theorem dX4_surplus_28 : decode cX4_surplus 28 = .ok (.iload_n 1, 1) := dk_27 (dk_at dksX4_surplus_1 4 rfl rfl)
theorem dX4_surplus_29 : decode cX4_surplus 29 = .ok (.laload, 1) := dk_47 (dk_at dksX4_surplus_1 5 rfl rfl)
theorem dX4_surplus_30 : decode cX4_surplus 30 = .ok (.lreturn, 1) := dk_173 (dk_at dksX4_surplus_1 6 rfl rfl)
abbrev cX4_experience : ByteArray := prog_12_method_80_code
def yX4_experience : MethodName := ⟨RX4, "experience", "(I)J"⟩
def dkwX4_experience_3 : List UInt8 := [182, 1, 145, 173]
abbrev dktX4_experience_3 : List UInt8 := dkwX4_experience_3 ++ []
def dkwX4_experience_2 : List UInt8 := [5, 160, 0, 10, 42, 182, 1, 76, 167, 0, 19, 27, 6, 160, 0, 10, 42, 182, 1, 79, 167, 0, 7, 42]
abbrev dktX4_experience_2 : List UInt8 := dkwX4_experience_2 ++ dktX4_experience_3
def dkwX4_experience_1 : List UInt8 := [27, 154, 0, 10, 42, 180, 0, 159, 167, 0, 43, 27, 4, 160, 0, 10, 42, 180, 0, 162, 167, 0, 31, 27]
abbrev dktX4_experience_1 : List UInt8 := dkwX4_experience_1 ++ dktX4_experience_2
def dkwX4_experience_0 : List UInt8 := [42, 3, 181, 0, 1, 27, 133, 9, 20, 0, 182, 184, 0, 168, 154, 0, 10, 42, 4, 182, 1, 86, 133, 173]
abbrev dktX4_experience_0 : List UInt8 := dkwX4_experience_0 ++ dktX4_experience_1
theorem dksX4_experience_0 : cX4_experience.data.toList.drop 0 = dktX4_experience_0 := by decide +kernel
theorem dksX4_experience_1 : cX4_experience.data.toList.drop 24 = dktX4_experience_1 := dk_seg dksX4_experience_0 24 rfl rfl
theorem dksX4_experience_2 : cX4_experience.data.toList.drop 48 = dktX4_experience_2 := dk_seg dksX4_experience_1 24 rfl rfl
theorem dksX4_experience_3 : cX4_experience.data.toList.drop 72 = dktX4_experience_3 := dk_seg dksX4_experience_2 24 rfl rfl
theorem dX4_experience_0 : decode cX4_experience 0 = .ok (.aload_n 0, 1) := dk_42 (dk_at dksX4_experience_0 0 rfl rfl)
theorem dX4_experience_1 : decode cX4_experience 1 = .ok (.iconst 0, 1) := dk_3 (dk_at dksX4_experience_0 1 rfl rfl)
theorem dX4_experience_2 : decode cX4_experience 2 = .ok (.putfield 1, 3) := dk_181 0 1 (dk_at dksX4_experience_0 2 rfl rfl)
theorem dX4_experience_5 : decode cX4_experience 5 = .ok (.iload_n 1, 1) := dk_27 (dk_at dksX4_experience_0 5 rfl rfl)
theorem dX4_experience_6 : decode cX4_experience 6 = .ok (.i2l, 1) := dk_133 (dk_at dksX4_experience_0 6 rfl rfl)
theorem dX4_experience_7 : decode cX4_experience 7 = .ok (.lconst 0, 1) := dk_9 (dk_at dksX4_experience_0 7 rfl rfl)
theorem dX4_experience_8 : decode cX4_experience 8 = .ok (.ldc2_w 182, 3) := dk_20 0 182 (dk_at dksX4_experience_0 8 rfl rfl)
theorem dX4_experience_11 : decode cX4_experience 11 = .ok (.invokestatic 168, 3) := dk_184 0 168 (dk_at dksX4_experience_0 11 rfl rfl)
theorem dX4_experience_14 : decode cX4_experience 14 = .ok (.ifCond .ne 10, 3) := dk_154 0 10 (dk_at dksX4_experience_0 14 rfl rfl)
theorem dX4_experience_17 : decode cX4_experience 17 = .ok (.aload_n 0, 1) := dk_42 (dk_at dksX4_experience_0 17 rfl rfl)
theorem dX4_experience_18 : decode cX4_experience 18 = .ok (.iconst 1, 1) := dk_4 (dk_at dksX4_experience_0 18 rfl rfl)
theorem dX4_experience_19 : decode cX4_experience 19 = .ok (.invokevirtual 342, 3) := dk_182 1 86 (dk_at dksX4_experience_0 19 rfl rfl)
theorem dX4_experience_22 : decode cX4_experience 22 = .ok (.i2l, 1) := dk_133 (dk_at dksX4_experience_0 22 rfl rfl)
theorem dX4_experience_23 : decode cX4_experience 23 = .ok (.lreturn, 1) := dk_173 (dk_at dksX4_experience_0 23 rfl rfl)
theorem dX4_experience_24 : decode cX4_experience 24 = .ok (.iload_n 1, 1) := dk_27 (dk_at dksX4_experience_1 0 rfl rfl)
theorem dX4_experience_25 : decode cX4_experience 25 = .ok (.ifCond .ne 10, 3) := dk_154 0 10 (dk_at dksX4_experience_1 1 rfl rfl)
theorem dX4_experience_28 : decode cX4_experience 28 = .ok (.aload_n 0, 1) := dk_42 (dk_at dksX4_experience_1 4 rfl rfl)
theorem dX4_experience_29 : decode cX4_experience 29 = .ok (.getfield 159, 3) := dk_180 0 159 (dk_at dksX4_experience_1 5 rfl rfl)
theorem dX4_experience_32 : decode cX4_experience 32 = .ok (.goto 43, 3) := dk_167 0 43 (dk_at dksX4_experience_1 8 rfl rfl)
theorem dX4_experience_35 : decode cX4_experience 35 = .ok (.iload_n 1, 1) := dk_27 (dk_at dksX4_experience_1 11 rfl rfl)
theorem dX4_experience_36 : decode cX4_experience 36 = .ok (.iconst 1, 1) := dk_4 (dk_at dksX4_experience_1 12 rfl rfl)
theorem dX4_experience_37 : decode cX4_experience 37 = .ok (.if_icmp .ne 10, 3) := dk_160 0 10 (dk_at dksX4_experience_1 13 rfl rfl)
theorem dX4_experience_40 : decode cX4_experience 40 = .ok (.aload_n 0, 1) := dk_42 (dk_at dksX4_experience_1 16 rfl rfl)
theorem dX4_experience_41 : decode cX4_experience 41 = .ok (.getfield 162, 3) := dk_180 0 162 (dk_at dksX4_experience_1 17 rfl rfl)
theorem dX4_experience_44 : decode cX4_experience 44 = .ok (.goto 31, 3) := dk_167 0 31 (dk_at dksX4_experience_1 20 rfl rfl)
theorem dX4_experience_47 : decode cX4_experience 47 = .ok (.iload_n 1, 1) := dk_27 (dk_at dksX4_experience_1 23 rfl rfl)
theorem dX4_experience_48 : decode cX4_experience 48 = .ok (.iconst 2, 1) := dk_5 (dk_at dksX4_experience_2 0 rfl rfl)
theorem dX4_experience_49 : decode cX4_experience 49 = .ok (.if_icmp .ne 10, 3) := dk_160 0 10 (dk_at dksX4_experience_2 1 rfl rfl)
theorem dX4_experience_52 : decode cX4_experience 52 = .ok (.aload_n 0, 1) := dk_42 (dk_at dksX4_experience_2 4 rfl rfl)
theorem dX4_experience_53 : decode cX4_experience 53 = .ok (.invokevirtual 332, 3) := dk_182 1 76 (dk_at dksX4_experience_2 5 rfl rfl)
theorem dX4_experience_56 : decode cX4_experience 56 = .ok (.goto 19, 3) := dk_167 0 19 (dk_at dksX4_experience_2 8 rfl rfl)
theorem dX4_experience_59 : decode cX4_experience 59 = .ok (.iload_n 1, 1) := dk_27 (dk_at dksX4_experience_2 11 rfl rfl)
theorem dX4_experience_60 : decode cX4_experience 60 = .ok (.iconst 3, 1) := dk_6 (dk_at dksX4_experience_2 12 rfl rfl)
theorem dX4_experience_61 : decode cX4_experience 61 = .ok (.if_icmp .ne 10, 3) := dk_160 0 10 (dk_at dksX4_experience_2 13 rfl rfl)
theorem dX4_experience_64 : decode cX4_experience 64 = .ok (.aload_n 0, 1) := dk_42 (dk_at dksX4_experience_2 16 rfl rfl)
theorem dX4_experience_65 : decode cX4_experience 65 = .ok (.invokevirtual 335, 3) := dk_182 1 79 (dk_at dksX4_experience_2 17 rfl rfl)
theorem dX4_experience_68 : decode cX4_experience 68 = .ok (.goto 7, 3) := dk_167 0 7 (dk_at dksX4_experience_2 20 rfl rfl)
theorem dX4_experience_71 : decode cX4_experience 71 = .ok (.aload_n 0, 1) := dk_42 (dk_at dksX4_experience_2 23 rfl rfl)
theorem dX4_experience_72 : decode cX4_experience 72 = .ok (.invokevirtual 401, 3) := dk_182 1 145 (dk_at dksX4_experience_3 0 rfl rfl)
theorem dX4_experience_75 : decode cX4_experience 75 = .ok (.lreturn, 1) := dk_173 (dk_at dksX4_experience_3 3 rfl rfl)
abbrev cX4_credibility : ByteArray := prog_12_method_40_code
def yX4_credibility : MethodName := ⟨RX4, "credibility", "()J"⟩
def dkwX4_credibility_0 : List UInt8 := [20, 0, 194, 42, 180, 0, 159, 105, 42, 180, 0, 159, 20, 1, 74, 97, 109, 173]
abbrev dktX4_credibility_0 : List UInt8 := dkwX4_credibility_0 ++ []
theorem dksX4_credibility_0 : cX4_credibility.data.toList.drop 0 = dktX4_credibility_0 := by decide +kernel
theorem dX4_credibility_0 : decode cX4_credibility 0 = .ok (.ldc2_w 194, 3) := dk_20 0 194 (dk_at dksX4_credibility_0 0 rfl rfl)
theorem dX4_credibility_3 : decode cX4_credibility 3 = .ok (.aload_n 0, 1) := dk_42 (dk_at dksX4_credibility_0 3 rfl rfl)
theorem dX4_credibility_4 : decode cX4_credibility 4 = .ok (.getfield 159, 3) := dk_180 0 159 (dk_at dksX4_credibility_0 4 rfl rfl)
theorem dX4_credibility_7 : decode cX4_credibility 7 = .ok (.lmul, 1) := dk_105 (dk_at dksX4_credibility_0 7 rfl rfl)
theorem dX4_credibility_8 : decode cX4_credibility 8 = .ok (.aload_n 0, 1) := dk_42 (dk_at dksX4_credibility_0 8 rfl rfl)
theorem dX4_credibility_9 : decode cX4_credibility 9 = .ok (.getfield 159, 3) := dk_180 0 159 (dk_at dksX4_credibility_0 9 rfl rfl)
theorem dX4_credibility_12 : decode cX4_credibility 12 = .ok (.ldc2_w 330, 3) := dk_20 1 74 (dk_at dksX4_credibility_0 12 rfl rfl)
theorem dX4_credibility_15 : decode cX4_credibility 15 = .ok (.ladd, 1) := dk_97 (dk_at dksX4_credibility_0 15 rfl rfl)
theorem dX4_credibility_16 : decode cX4_credibility 16 = .ok (.ldiv, 1) := dk_109 (dk_at dksX4_credibility_0 16 rfl rfl)
theorem dX4_credibility_17 : decode cX4_credibility 17 = .ok (.lreturn, 1) := dk_173 (dk_at dksX4_credibility_0 17 rfl rfl)
abbrev cX4_ratio : ByteArray := prog_12_method_41_code
def yX4_ratio : MethodName := ⟨RX4, "ratio", "()J"⟩
def dkwX4_ratio_1 : List UInt8 := [20, 0, 176, 105, 42, 180, 0, 162, 109, 173]
abbrev dktX4_ratio_1 : List UInt8 := dkwX4_ratio_1 ++ []
def dkwX4_ratio_0 : List UInt8 := [42, 180, 0, 162, 9, 148, 154, 0, 9, 20, 0, 194, 167, 0, 20, 20, 0, 194, 42, 180, 0, 159, 105]
abbrev dktX4_ratio_0 : List UInt8 := dkwX4_ratio_0 ++ dktX4_ratio_1
theorem dksX4_ratio_0 : cX4_ratio.data.toList.drop 0 = dktX4_ratio_0 := by decide +kernel
theorem dksX4_ratio_1 : cX4_ratio.data.toList.drop 23 = dktX4_ratio_1 := dk_seg dksX4_ratio_0 23 rfl rfl
theorem dX4_ratio_0 : decode cX4_ratio 0 = .ok (.aload_n 0, 1) := dk_42 (dk_at dksX4_ratio_0 0 rfl rfl)
theorem dX4_ratio_1 : decode cX4_ratio 1 = .ok (.getfield 162, 3) := dk_180 0 162 (dk_at dksX4_ratio_0 1 rfl rfl)
theorem dX4_ratio_4 : decode cX4_ratio 4 = .ok (.lconst 0, 1) := dk_9 (dk_at dksX4_ratio_0 4 rfl rfl)
theorem dX4_ratio_5 : decode cX4_ratio 5 = .ok (.lcmp, 1) := dk_148 (dk_at dksX4_ratio_0 5 rfl rfl)
theorem dX4_ratio_6 : decode cX4_ratio 6 = .ok (.ifCond .ne 9, 3) := dk_154 0 9 (dk_at dksX4_ratio_0 6 rfl rfl)
theorem dX4_ratio_9 : decode cX4_ratio 9 = .ok (.ldc2_w 194, 3) := dk_20 0 194 (dk_at dksX4_ratio_0 9 rfl rfl)
theorem dX4_ratio_12 : decode cX4_ratio 12 = .ok (.goto 20, 3) := dk_167 0 20 (dk_at dksX4_ratio_0 12 rfl rfl)
theorem dX4_ratio_15 : decode cX4_ratio 15 = .ok (.ldc2_w 194, 3) := dk_20 0 194 (dk_at dksX4_ratio_0 15 rfl rfl)
theorem dX4_ratio_18 : decode cX4_ratio 18 = .ok (.aload_n 0, 1) := dk_42 (dk_at dksX4_ratio_0 18 rfl rfl)
theorem dX4_ratio_19 : decode cX4_ratio 19 = .ok (.getfield 159, 3) := dk_180 0 159 (dk_at dksX4_ratio_0 19 rfl rfl)
theorem dX4_ratio_22 : decode cX4_ratio 22 = .ok (.lmul, 1) := dk_105 (dk_at dksX4_ratio_0 22 rfl rfl)
theorem dX4_ratio_23 : decode cX4_ratio 23 = .ok (.ldc2_w 176, 3) := dk_20 0 176 (dk_at dksX4_ratio_1 0 rfl rfl)
theorem dX4_ratio_26 : decode cX4_ratio 26 = .ok (.lmul, 1) := dk_105 (dk_at dksX4_ratio_1 3 rfl rfl)
theorem dX4_ratio_27 : decode cX4_ratio 27 = .ok (.aload_n 0, 1) := dk_42 (dk_at dksX4_ratio_1 4 rfl rfl)
theorem dX4_ratio_28 : decode cX4_ratio 28 = .ok (.getfield 162, 3) := dk_180 0 162 (dk_at dksX4_ratio_1 5 rfl rfl)
theorem dX4_ratio_31 : decode cX4_ratio 31 = .ok (.ldiv, 1) := dk_109 (dk_at dksX4_ratio_1 8 rfl rfl)
theorem dX4_ratio_32 : decode cX4_ratio 32 = .ok (.lreturn, 1) := dk_173 (dk_at dksX4_ratio_1 9 rfl rfl)
abbrev cX4_blend : ByteArray := prog_12_method_42_code
def yX4_blend : MethodName := ⟨RX4, "blend", "()J"⟩
def dkwX4_blend_1 : List UInt8 := [20, 0, 194, 109, 173]
abbrev dktX4_blend_1 : List UInt8 := dkwX4_blend_1 ++ []
def dkwX4_blend_0 : List UInt8 := [42, 182, 1, 76, 42, 182, 1, 79, 105, 20, 0, 194, 42, 182, 1, 76, 101, 20, 0, 194, 105, 97]
abbrev dktX4_blend_0 : List UInt8 := dkwX4_blend_0 ++ dktX4_blend_1
theorem dksX4_blend_0 : cX4_blend.data.toList.drop 0 = dktX4_blend_0 := by decide +kernel
theorem dksX4_blend_1 : cX4_blend.data.toList.drop 22 = dktX4_blend_1 := dk_seg dksX4_blend_0 22 rfl rfl
theorem dX4_blend_0 : decode cX4_blend 0 = .ok (.aload_n 0, 1) := dk_42 (dk_at dksX4_blend_0 0 rfl rfl)
theorem dX4_blend_1 : decode cX4_blend 1 = .ok (.invokevirtual 332, 3) := dk_182 1 76 (dk_at dksX4_blend_0 1 rfl rfl)
theorem dX4_blend_4 : decode cX4_blend 4 = .ok (.aload_n 0, 1) := dk_42 (dk_at dksX4_blend_0 4 rfl rfl)
theorem dX4_blend_5 : decode cX4_blend 5 = .ok (.invokevirtual 335, 3) := dk_182 1 79 (dk_at dksX4_blend_0 5 rfl rfl)
theorem dX4_blend_8 : decode cX4_blend 8 = .ok (.lmul, 1) := dk_105 (dk_at dksX4_blend_0 8 rfl rfl)
theorem dX4_blend_9 : decode cX4_blend 9 = .ok (.ldc2_w 194, 3) := dk_20 0 194 (dk_at dksX4_blend_0 9 rfl rfl)
theorem dX4_blend_12 : decode cX4_blend 12 = .ok (.aload_n 0, 1) := dk_42 (dk_at dksX4_blend_0 12 rfl rfl)
theorem dX4_blend_13 : decode cX4_blend 13 = .ok (.invokevirtual 332, 3) := dk_182 1 76 (dk_at dksX4_blend_0 13 rfl rfl)
theorem dX4_blend_16 : decode cX4_blend 16 = .ok (.lsub, 1) := dk_101 (dk_at dksX4_blend_0 16 rfl rfl)
theorem dX4_blend_17 : decode cX4_blend 17 = .ok (.ldc2_w 194, 3) := dk_20 0 194 (dk_at dksX4_blend_0 17 rfl rfl)
theorem dX4_blend_20 : decode cX4_blend 20 = .ok (.lmul, 1) := dk_105 (dk_at dksX4_blend_0 20 rfl rfl)
theorem dX4_blend_21 : decode cX4_blend 21 = .ok (.ladd, 1) := dk_97 (dk_at dksX4_blend_0 21 rfl rfl)
theorem dX4_blend_22 : decode cX4_blend 22 = .ok (.ldc2_w 194, 3) := dk_20 0 194 (dk_at dksX4_blend_1 0 rfl rfl)
theorem dX4_blend_25 : decode cX4_blend 25 = .ok (.ldiv, 1) := dk_109 (dk_at dksX4_blend_1 3 rfl rfl)
theorem dX4_blend_26 : decode cX4_blend 26 = .ok (.lreturn, 1) := dk_173 (dk_at dksX4_blend_1 4 rfl rfl)
abbrev cX4_adopt : ByteArray := prog_12_method_81_code
def yX4_adopt : MethodName := ⟨RX4, "adopt", "()I"⟩
def dkwX4_adopt_3 : List UInt8 := [101, 80, 42, 180, 0, 17, 3, 46, 172]
abbrev dktX4_adopt_3 : List UInt8 := dkwX4_adopt_3 ++ []
def dkwX4_adopt_2 : List UInt8 := [9, 181, 0, 159, 42, 9, 181, 0, 162, 42, 180, 0, 24, 16, 6, 92, 47, 42, 3, 182, 1, 3, 31, 101]
abbrev dktX4_adopt_2 : List UInt8 := dkwX4_adopt_2 ++ dktX4_adopt_3
def dkwX4_adopt_1 : List UInt8 := [180, 0, 17, 3, 46, 133, 42, 182, 1, 145, 105, 20, 0, 194, 109, 184, 0, 198, 184, 0, 241, 136, 79, 42]
abbrev dktX4_adopt_1 : List UInt8 := dkwX4_adopt_1 ++ dktX4_adopt_2
def dkwX4_adopt_0 : List UInt8 := [42, 3, 181, 0, 1, 42, 3, 182, 1, 3, 64, 42, 180, 0, 17, 3, 20, 1, 74, 20, 1, 95, 42]
abbrev dktX4_adopt_0 : List UInt8 := dkwX4_adopt_0 ++ dktX4_adopt_1
theorem dksX4_adopt_0 : cX4_adopt.data.toList.drop 0 = dktX4_adopt_0 := by decide +kernel
theorem dksX4_adopt_1 : cX4_adopt.data.toList.drop 23 = dktX4_adopt_1 := dk_seg dksX4_adopt_0 23 rfl rfl
theorem dksX4_adopt_2 : cX4_adopt.data.toList.drop 47 = dktX4_adopt_2 := dk_seg dksX4_adopt_1 24 rfl rfl
theorem dksX4_adopt_3 : cX4_adopt.data.toList.drop 71 = dktX4_adopt_3 := dk_seg dksX4_adopt_2 24 rfl rfl
theorem dX4_adopt_0 : decode cX4_adopt 0 = .ok (.aload_n 0, 1) := dk_42 (dk_at dksX4_adopt_0 0 rfl rfl)
theorem dX4_adopt_1 : decode cX4_adopt 1 = .ok (.iconst 0, 1) := dk_3 (dk_at dksX4_adopt_0 1 rfl rfl)
theorem dX4_adopt_2 : decode cX4_adopt 2 = .ok (.putfield 1, 3) := dk_181 0 1 (dk_at dksX4_adopt_0 2 rfl rfl)
theorem dX4_adopt_5 : decode cX4_adopt 5 = .ok (.aload_n 0, 1) := dk_42 (dk_at dksX4_adopt_0 5 rfl rfl)
theorem dX4_adopt_6 : decode cX4_adopt 6 = .ok (.iconst 0, 1) := dk_3 (dk_at dksX4_adopt_0 6 rfl rfl)
theorem dX4_adopt_7 : decode cX4_adopt 7 = .ok (.invokevirtual 259, 3) := dk_182 1 3 (dk_at dksX4_adopt_0 7 rfl rfl)
theorem dX4_adopt_10 : decode cX4_adopt 10 = .ok (.lstore_n 1, 1) := dk_64 (dk_at dksX4_adopt_0 10 rfl rfl)
theorem dX4_adopt_11 : decode cX4_adopt 11 = .ok (.aload_n 0, 1) := dk_42 (dk_at dksX4_adopt_0 11 rfl rfl)
theorem dX4_adopt_12 : decode cX4_adopt 12 = .ok (.getfield 17, 3) := dk_180 0 17 (dk_at dksX4_adopt_0 12 rfl rfl)
theorem dX4_adopt_15 : decode cX4_adopt 15 = .ok (.iconst 0, 1) := dk_3 (dk_at dksX4_adopt_0 15 rfl rfl)
theorem dX4_adopt_16 : decode cX4_adopt 16 = .ok (.ldc2_w 330, 3) := dk_20 1 74 (dk_at dksX4_adopt_0 16 rfl rfl)
theorem dX4_adopt_19 : decode cX4_adopt 19 = .ok (.ldc2_w 351, 3) := dk_20 1 95 (dk_at dksX4_adopt_0 19 rfl rfl)
theorem dX4_adopt_22 : decode cX4_adopt 22 = .ok (.aload_n 0, 1) := dk_42 (dk_at dksX4_adopt_0 22 rfl rfl)
theorem dX4_adopt_23 : decode cX4_adopt 23 = .ok (.getfield 17, 3) := dk_180 0 17 (dk_at dksX4_adopt_1 0 rfl rfl)
theorem dX4_adopt_26 : decode cX4_adopt 26 = .ok (.iconst 0, 1) := dk_3 (dk_at dksX4_adopt_1 3 rfl rfl)
theorem dX4_adopt_27 : decode cX4_adopt 27 = .ok (.iaload, 1) := dk_46 (dk_at dksX4_adopt_1 4 rfl rfl)
theorem dX4_adopt_28 : decode cX4_adopt 28 = .ok (.i2l, 1) := dk_133 (dk_at dksX4_adopt_1 5 rfl rfl)
theorem dX4_adopt_29 : decode cX4_adopt 29 = .ok (.aload_n 0, 1) := dk_42 (dk_at dksX4_adopt_1 6 rfl rfl)
theorem dX4_adopt_30 : decode cX4_adopt 30 = .ok (.invokevirtual 401, 3) := dk_182 1 145 (dk_at dksX4_adopt_1 7 rfl rfl)
theorem dX4_adopt_33 : decode cX4_adopt 33 = .ok (.lmul, 1) := dk_105 (dk_at dksX4_adopt_1 10 rfl rfl)
theorem dX4_adopt_34 : decode cX4_adopt 34 = .ok (.ldc2_w 194, 3) := dk_20 0 194 (dk_at dksX4_adopt_1 11 rfl rfl)
theorem dX4_adopt_37 : decode cX4_adopt 37 = .ok (.ldiv, 1) := dk_109 (dk_at dksX4_adopt_1 14 rfl rfl)
theorem dX4_adopt_38 : decode cX4_adopt 38 = .ok (.invokestatic 198, 3) := dk_184 0 198 (dk_at dksX4_adopt_1 15 rfl rfl)
theorem dX4_adopt_41 : decode cX4_adopt 41 = .ok (.invokestatic 241, 3) := dk_184 0 241 (dk_at dksX4_adopt_1 18 rfl rfl)
theorem dX4_adopt_44 : decode cX4_adopt 44 = .ok (.l2i, 1) := dk_136 (dk_at dksX4_adopt_1 21 rfl rfl)
theorem dX4_adopt_45 : decode cX4_adopt 45 = .ok (.iastore, 1) := dk_79 (dk_at dksX4_adopt_1 22 rfl rfl)
theorem dX4_adopt_46 : decode cX4_adopt 46 = .ok (.aload_n 0, 1) := dk_42 (dk_at dksX4_adopt_1 23 rfl rfl)
theorem dX4_adopt_47 : decode cX4_adopt 47 = .ok (.lconst 0, 1) := dk_9 (dk_at dksX4_adopt_2 0 rfl rfl)
theorem dX4_adopt_48 : decode cX4_adopt 48 = .ok (.putfield 159, 3) := dk_181 0 159 (dk_at dksX4_adopt_2 1 rfl rfl)
theorem dX4_adopt_51 : decode cX4_adopt 51 = .ok (.aload_n 0, 1) := dk_42 (dk_at dksX4_adopt_2 4 rfl rfl)
theorem dX4_adopt_52 : decode cX4_adopt 52 = .ok (.lconst 0, 1) := dk_9 (dk_at dksX4_adopt_2 5 rfl rfl)
theorem dX4_adopt_53 : decode cX4_adopt 53 = .ok (.putfield 162, 3) := dk_181 0 162 (dk_at dksX4_adopt_2 6 rfl rfl)
theorem dX4_adopt_56 : decode cX4_adopt 56 = .ok (.aload_n 0, 1) := dk_42 (dk_at dksX4_adopt_2 9 rfl rfl)
theorem dX4_adopt_57 : decode cX4_adopt 57 = .ok (.getfield 24, 3) := dk_180 0 24 (dk_at dksX4_adopt_2 10 rfl rfl)
theorem dX4_adopt_60 : decode cX4_adopt 60 = .ok (.bipush 6, 2) := dk_16 6 (dk_at dksX4_adopt_2 13 rfl rfl)
theorem dX4_adopt_62 : decode cX4_adopt 62 = .ok (.dup2, 1) := dk_92 (dk_at dksX4_adopt_2 15 rfl rfl)
theorem dX4_adopt_63 : decode cX4_adopt 63 = .ok (.laload, 1) := dk_47 (dk_at dksX4_adopt_2 16 rfl rfl)
theorem dX4_adopt_64 : decode cX4_adopt 64 = .ok (.aload_n 0, 1) := dk_42 (dk_at dksX4_adopt_2 17 rfl rfl)
theorem dX4_adopt_65 : decode cX4_adopt 65 = .ok (.iconst 0, 1) := dk_3 (dk_at dksX4_adopt_2 18 rfl rfl)
theorem dX4_adopt_66 : decode cX4_adopt 66 = .ok (.invokevirtual 259, 3) := dk_182 1 3 (dk_at dksX4_adopt_2 19 rfl rfl)
theorem dX4_adopt_69 : decode cX4_adopt 69 = .ok (.lload_n 1, 1) := dk_31 (dk_at dksX4_adopt_2 22 rfl rfl)
theorem dX4_adopt_70 : decode cX4_adopt 70 = .ok (.lsub, 1) := dk_101 (dk_at dksX4_adopt_2 23 rfl rfl)
theorem dX4_adopt_71 : decode cX4_adopt 71 = .ok (.lsub, 1) := dk_101 (dk_at dksX4_adopt_3 0 rfl rfl)
theorem dX4_adopt_72 : decode cX4_adopt 72 = .ok (.lastore, 1) := dk_80 (dk_at dksX4_adopt_3 1 rfl rfl)
theorem dX4_adopt_73 : decode cX4_adopt 73 = .ok (.aload_n 0, 1) := dk_42 (dk_at dksX4_adopt_3 2 rfl rfl)
theorem dX4_adopt_74 : decode cX4_adopt 74 = .ok (.getfield 17, 3) := dk_180 0 17 (dk_at dksX4_adopt_3 3 rfl rfl)
theorem dX4_adopt_77 : decode cX4_adopt 77 = .ok (.iconst 0, 1) := dk_3 (dk_at dksX4_adopt_3 6 rfl rfl)
theorem dX4_adopt_78 : decode cX4_adopt 78 = .ok (.iaload, 1) := dk_46 (dk_at dksX4_adopt_3 7 rfl rfl)
theorem dX4_adopt_79 : decode cX4_adopt 79 = .ok (.ireturn, 1) := dk_172 (dk_at dksX4_adopt_3 8 rfl rfl)
abbrev cX4_expectedPayments : ByteArray := prog_12_method_82_code
def yX4_expectedPayments : MethodName := ⟨RX4, "expectedPayments", "(I)J"⟩
def dkwX4_expectedPayments_1 : List UInt8 := [42, 27, 182, 1, 150, 173]
abbrev dktX4_expectedPayments_1 : List UInt8 := dkwX4_expectedPayments_1 ++ []
def dkwX4_expectedPayments_0 : List UInt8 := [42, 3, 181, 0, 1, 27, 133, 9, 20, 1, 148, 184, 0, 168, 154, 0, 10, 42, 4, 182, 1, 86, 133, 173]
abbrev dktX4_expectedPayments_0 : List UInt8 := dkwX4_expectedPayments_0 ++ dktX4_expectedPayments_1
theorem dksX4_expectedPayments_0 : cX4_expectedPayments.data.toList.drop 0 = dktX4_expectedPayments_0 := by decide +kernel
theorem dksX4_expectedPayments_1 : cX4_expectedPayments.data.toList.drop 24 = dktX4_expectedPayments_1 := dk_seg dksX4_expectedPayments_0 24 rfl rfl
theorem dX4_expectedPayments_0 : decode cX4_expectedPayments 0 = .ok (.aload_n 0, 1) := dk_42 (dk_at dksX4_expectedPayments_0 0 rfl rfl)
theorem dX4_expectedPayments_1 : decode cX4_expectedPayments 1 = .ok (.iconst 0, 1) := dk_3 (dk_at dksX4_expectedPayments_0 1 rfl rfl)
theorem dX4_expectedPayments_2 : decode cX4_expectedPayments 2 = .ok (.putfield 1, 3) := dk_181 0 1 (dk_at dksX4_expectedPayments_0 2 rfl rfl)
theorem dX4_expectedPayments_5 : decode cX4_expectedPayments 5 = .ok (.iload_n 1, 1) := dk_27 (dk_at dksX4_expectedPayments_0 5 rfl rfl)
theorem dX4_expectedPayments_6 : decode cX4_expectedPayments 6 = .ok (.i2l, 1) := dk_133 (dk_at dksX4_expectedPayments_0 6 rfl rfl)
theorem dX4_expectedPayments_7 : decode cX4_expectedPayments 7 = .ok (.lconst 0, 1) := dk_9 (dk_at dksX4_expectedPayments_0 7 rfl rfl)
theorem dX4_expectedPayments_8 : decode cX4_expectedPayments 8 = .ok (.ldc2_w 404, 3) := dk_20 1 148 (dk_at dksX4_expectedPayments_0 8 rfl rfl)
theorem dX4_expectedPayments_11 : decode cX4_expectedPayments 11 = .ok (.invokestatic 168, 3) := dk_184 0 168 (dk_at dksX4_expectedPayments_0 11 rfl rfl)
theorem dX4_expectedPayments_14 : decode cX4_expectedPayments 14 = .ok (.ifCond .ne 10, 3) := dk_154 0 10 (dk_at dksX4_expectedPayments_0 14 rfl rfl)
theorem dX4_expectedPayments_17 : decode cX4_expectedPayments 17 = .ok (.aload_n 0, 1) := dk_42 (dk_at dksX4_expectedPayments_0 17 rfl rfl)
theorem dX4_expectedPayments_18 : decode cX4_expectedPayments 18 = .ok (.iconst 1, 1) := dk_4 (dk_at dksX4_expectedPayments_0 18 rfl rfl)
theorem dX4_expectedPayments_19 : decode cX4_expectedPayments 19 = .ok (.invokevirtual 342, 3) := dk_182 1 86 (dk_at dksX4_expectedPayments_0 19 rfl rfl)
theorem dX4_expectedPayments_22 : decode cX4_expectedPayments 22 = .ok (.i2l, 1) := dk_133 (dk_at dksX4_expectedPayments_0 22 rfl rfl)
theorem dX4_expectedPayments_23 : decode cX4_expectedPayments 23 = .ok (.lreturn, 1) := dk_173 (dk_at dksX4_expectedPayments_0 23 rfl rfl)
theorem dX4_expectedPayments_24 : decode cX4_expectedPayments 24 = .ok (.aload_n 0, 1) := dk_42 (dk_at dksX4_expectedPayments_1 0 rfl rfl)
theorem dX4_expectedPayments_25 : decode cX4_expectedPayments 25 = .ok (.iload_n 1, 1) := dk_27 (dk_at dksX4_expectedPayments_1 1 rfl rfl)
theorem dX4_expectedPayments_26 : decode cX4_expectedPayments 26 = .ok (.invokevirtual 406, 3) := dk_182 1 150 (dk_at dksX4_expectedPayments_1 2 rfl rfl)
theorem dX4_expectedPayments_29 : decode cX4_expectedPayments 29 = .ok (.lreturn, 1) := dk_173 (dk_at dksX4_expectedPayments_1 5 rfl rfl)
abbrev cX4_expectsAll : ByteArray := prog_12_method_38_code
def yX4_expectsAll : MethodName := ⟨RX4, "expectsAll", "(I)J"⟩
def dkwX4_expectsAll_1 : List UInt8 := [42, 21, 4, 27, 182, 1, 71, 167, 0, 4, 9, 97, 65, 132, 4, 1, 167, 255, 221, 32, 173]
abbrev dktX4_expectsAll_1 : List UInt8 := dkwX4_expectsAll_1 ++ []
def dkwX4_expectsAll_0 : List UInt8 := [9, 65, 3, 54, 4, 21, 4, 42, 180, 0, 146, 162, 0, 32, 32, 42, 21, 4, 182, 0, 234, 153, 0, 13]
abbrev dktX4_expectsAll_0 : List UInt8 := dkwX4_expectsAll_0 ++ dktX4_expectsAll_1
theorem dksX4_expectsAll_0 : cX4_expectsAll.data.toList.drop 0 = dktX4_expectsAll_0 := by decide +kernel
theorem dksX4_expectsAll_1 : cX4_expectsAll.data.toList.drop 24 = dktX4_expectsAll_1 := dk_seg dksX4_expectsAll_0 24 rfl rfl
theorem dX4_expectsAll_0 : decode cX4_expectsAll 0 = .ok (.lconst 0, 1) := dk_9 (dk_at dksX4_expectsAll_0 0 rfl rfl)
theorem dX4_expectsAll_1 : decode cX4_expectsAll 1 = .ok (.lstore_n 2, 1) := dk_65 (dk_at dksX4_expectsAll_0 1 rfl rfl)
theorem dX4_expectsAll_2 : decode cX4_expectsAll 2 = .ok (.iconst 0, 1) := dk_3 (dk_at dksX4_expectsAll_0 2 rfl rfl)
theorem dX4_expectsAll_3 : decode cX4_expectsAll 3 = .ok (.istore 4, 2) := dk_54 4 (dk_at dksX4_expectsAll_0 3 rfl rfl)
theorem dX4_expectsAll_5 : decode cX4_expectsAll 5 = .ok (.iload 4, 2) := dk_21 4 (dk_at dksX4_expectsAll_0 5 rfl rfl)
theorem dX4_expectsAll_7 : decode cX4_expectsAll 7 = .ok (.aload_n 0, 1) := dk_42 (dk_at dksX4_expectsAll_0 7 rfl rfl)
theorem dX4_expectsAll_8 : decode cX4_expectsAll 8 = .ok (.getfield 146, 3) := dk_180 0 146 (dk_at dksX4_expectsAll_0 8 rfl rfl)
theorem dX4_expectsAll_11 : decode cX4_expectsAll 11 = .ok (.if_icmp .ge 32, 3) := dk_162 0 32 (dk_at dksX4_expectsAll_0 11 rfl rfl)
theorem dX4_expectsAll_14 : decode cX4_expectsAll 14 = .ok (.lload_n 2, 1) := dk_32 (dk_at dksX4_expectsAll_0 14 rfl rfl)
theorem dX4_expectsAll_15 : decode cX4_expectsAll 15 = .ok (.aload_n 0, 1) := dk_42 (dk_at dksX4_expectsAll_0 15 rfl rfl)
theorem dX4_expectsAll_16 : decode cX4_expectsAll 16 = .ok (.iload 4, 2) := dk_21 4 (dk_at dksX4_expectsAll_0 16 rfl rfl)
theorem dX4_expectsAll_18 : decode cX4_expectsAll 18 = .ok (.invokevirtual 234, 3) := dk_182 0 234 (dk_at dksX4_expectsAll_0 18 rfl rfl)
theorem dX4_expectsAll_21 : decode cX4_expectsAll 21 = .ok (.ifCond .eq 13, 3) := dk_153 0 13 (dk_at dksX4_expectsAll_0 21 rfl rfl)
theorem dX4_expectsAll_24 : decode cX4_expectsAll 24 = .ok (.aload_n 0, 1) := dk_42 (dk_at dksX4_expectsAll_1 0 rfl rfl)
theorem dX4_expectsAll_25 : decode cX4_expectsAll 25 = .ok (.iload 4, 2) := dk_21 4 (dk_at dksX4_expectsAll_1 1 rfl rfl)
theorem dX4_expectsAll_27 : decode cX4_expectsAll 27 = .ok (.iload_n 1, 1) := dk_27 (dk_at dksX4_expectsAll_1 3 rfl rfl)
theorem dX4_expectsAll_28 : decode cX4_expectsAll 28 = .ok (.invokevirtual 327, 3) := dk_182 1 71 (dk_at dksX4_expectsAll_1 4 rfl rfl)
theorem dX4_expectsAll_31 : decode cX4_expectsAll 31 = .ok (.goto 4, 3) := dk_167 0 4 (dk_at dksX4_expectsAll_1 7 rfl rfl)
theorem dX4_expectsAll_34 : decode cX4_expectsAll 34 = .ok (.lconst 0, 1) := dk_9 (dk_at dksX4_expectsAll_1 10 rfl rfl)
theorem dX4_expectsAll_35 : decode cX4_expectsAll 35 = .ok (.ladd, 1) := dk_97 (dk_at dksX4_expectsAll_1 11 rfl rfl)
theorem dX4_expectsAll_36 : decode cX4_expectsAll 36 = .ok (.lstore_n 2, 1) := dk_65 (dk_at dksX4_expectsAll_1 12 rfl rfl)
theorem dX4_expectsAll_37 : decode cX4_expectsAll 37 = .ok (.iinc 4 1, 3) := dk_132 4 1 (dk_at dksX4_expectsAll_1 13 rfl rfl)
theorem dX4_expectsAll_40 : decode cX4_expectsAll 40 = .ok (.goto (-35), 3) := dk_167 255 221 (dk_at dksX4_expectsAll_1 16 rfl rfl)
theorem dX4_expectsAll_43 : decode cX4_expectsAll 43 = .ok (.lload_n 2, 1) := dk_32 (dk_at dksX4_expectsAll_1 19 rfl rfl)
theorem dX4_expectsAll_44 : decode cX4_expectsAll 44 = .ok (.lreturn, 1) := dk_173 (dk_at dksX4_expectsAll_1 20 rfl rfl)
abbrev cX4_expects : ByteArray := prog_12_method_37_code
def yX4_expects : MethodName := ⟨RX4, "expects", "(II)J"⟩
def dkwX4_expects_9 : List UInt8 := [167, 255, 66, 9, 173]
abbrev dktX4_expects_9 : List UInt8 := dkwX4_expects_9 ++ []
def dkwX4_expects_8 : List UInt8 := [20, 0, 180, 109, 97, 55, 9, 21, 7, 28, 160, 0, 9, 22, 9, 22, 13, 101, 173, 132, 7, 1]
abbrev dktX4_expects_8 : List UInt8 := dkwX4_expects_8 ++ dktX4_expects_9
def dkwX4_expects_7 : List UInt8 := [180, 0, 46, 27, 46, 160, 0, 26, 42, 180, 0, 31, 27, 46, 5, 159, 0, 16, 22, 9, 22, 5, 33, 105]
abbrev dktX4_expects_7 : List UInt8 := dkwX4_expects_7 ++ dktX4_expects_8
def dkwX4_expects_6 : List UInt8 := [42, 180, 0, 67, 27, 47, 33, 105, 20, 0, 180, 109, 97, 55, 9, 167, 0, 39, 21, 8, 4, 96, 42]
abbrev dktX4_expects_6 : List UInt8 := dkwX4_expects_6 ++ dktX4_expects_7
def dkwX4_expects_5 : List UInt8 := [20, 0, 176, 22, 11, 101, 105, 20, 0, 176, 109, 66, 42, 180, 0, 31, 27, 46, 6, 160, 0, 23, 22, 9]
abbrev dktX4_expects_5 : List UInt8 := dkwX4_expects_5 ++ dktX4_expects_6
def dkwX4_expects_4 : List UInt8 := [159, 0, 23, 22, 9, 22, 5, 33, 105, 20, 0, 180, 109, 22, 11, 105, 20, 0, 176, 109, 97, 55, 9, 33]
abbrev dktX4_expects_4 : List UInt8 := dkwX4_expects_4 ++ dktX4_expects_5
def dkwX4_expects_3 : List UInt8 := [180, 0, 79, 27, 47, 33, 105, 20, 0, 180, 109, 167, 0, 4, 9, 55, 13, 42, 180, 0, 31, 27, 46, 6]
abbrev dktX4_expects_3 : List UInt8 := dkwX4_expects_3 ++ dktX4_expects_4
def dkwX4_expects_2 : List UInt8 := [9, 55, 9, 42, 27, 21, 8, 3, 182, 1, 23, 55, 11, 42, 27, 21, 8, 182, 1, 19, 153, 0, 18, 42]
abbrev dktX4_expects_2 : List UInt8 := dkwX4_expects_2 ++ dktX4_expects_3
def dkwX4_expects_1 : List UInt8 := [180, 0, 114, 21, 7, 96, 42, 180, 0, 46, 27, 46, 162, 0, 180, 42, 180, 0, 114, 21, 7, 96, 54, 8]
abbrev dktX4_expects_1 : List UInt8 := dkwX4_expects_1 ++ dktX4_expects_2
def dkwX4_expects_0 : List UInt8 := [20, 0, 180, 66, 42, 180, 0, 67, 27, 47, 42, 180, 0, 70, 27, 47, 97, 55, 5, 3, 54, 7, 42]
abbrev dktX4_expects_0 : List UInt8 := dkwX4_expects_0 ++ dktX4_expects_1
theorem dksX4_expects_0 : cX4_expects.data.toList.drop 0 = dktX4_expects_0 := by decide +kernel
theorem dksX4_expects_1 : cX4_expects.data.toList.drop 23 = dktX4_expects_1 := dk_seg dksX4_expects_0 23 rfl rfl
theorem dksX4_expects_2 : cX4_expects.data.toList.drop 47 = dktX4_expects_2 := dk_seg dksX4_expects_1 24 rfl rfl
theorem dksX4_expects_3 : cX4_expects.data.toList.drop 71 = dktX4_expects_3 := dk_seg dksX4_expects_2 24 rfl rfl
theorem dksX4_expects_4 : cX4_expects.data.toList.drop 95 = dktX4_expects_4 := dk_seg dksX4_expects_3 24 rfl rfl
theorem dksX4_expects_5 : cX4_expects.data.toList.drop 119 = dktX4_expects_5 := dk_seg dksX4_expects_4 24 rfl rfl
theorem dksX4_expects_6 : cX4_expects.data.toList.drop 143 = dktX4_expects_6 := dk_seg dksX4_expects_5 24 rfl rfl
theorem dksX4_expects_7 : cX4_expects.data.toList.drop 166 = dktX4_expects_7 := dk_seg dksX4_expects_6 23 rfl rfl
theorem dksX4_expects_8 : cX4_expects.data.toList.drop 190 = dktX4_expects_8 := dk_seg dksX4_expects_7 24 rfl rfl
theorem dksX4_expects_9 : cX4_expects.data.toList.drop 212 = dktX4_expects_9 := dk_seg dksX4_expects_8 22 rfl rfl
theorem dX4_expects_0 : decode cX4_expects 0 = .ok (.ldc2_w 180, 3) := dk_20 0 180 (dk_at dksX4_expects_0 0 rfl rfl)
theorem dX4_expects_3 : decode cX4_expects 3 = .ok (.lstore_n 3, 1) := dk_66 (dk_at dksX4_expects_0 3 rfl rfl)
theorem dX4_expects_4 : decode cX4_expects 4 = .ok (.aload_n 0, 1) := dk_42 (dk_at dksX4_expects_0 4 rfl rfl)
theorem dX4_expects_5 : decode cX4_expects 5 = .ok (.getfield 67, 3) := dk_180 0 67 (dk_at dksX4_expects_0 5 rfl rfl)
theorem dX4_expects_8 : decode cX4_expects 8 = .ok (.iload_n 1, 1) := dk_27 (dk_at dksX4_expects_0 8 rfl rfl)
theorem dX4_expects_9 : decode cX4_expects 9 = .ok (.laload, 1) := dk_47 (dk_at dksX4_expects_0 9 rfl rfl)
theorem dX4_expects_10 : decode cX4_expects 10 = .ok (.aload_n 0, 1) := dk_42 (dk_at dksX4_expects_0 10 rfl rfl)
theorem dX4_expects_11 : decode cX4_expects 11 = .ok (.getfield 70, 3) := dk_180 0 70 (dk_at dksX4_expects_0 11 rfl rfl)
theorem dX4_expects_14 : decode cX4_expects 14 = .ok (.iload_n 1, 1) := dk_27 (dk_at dksX4_expects_0 14 rfl rfl)
theorem dX4_expects_15 : decode cX4_expects 15 = .ok (.laload, 1) := dk_47 (dk_at dksX4_expects_0 15 rfl rfl)
theorem dX4_expects_16 : decode cX4_expects 16 = .ok (.ladd, 1) := dk_97 (dk_at dksX4_expects_0 16 rfl rfl)
theorem dX4_expects_17 : decode cX4_expects 17 = .ok (.lstore 5, 2) := dk_55 5 (dk_at dksX4_expects_0 17 rfl rfl)
theorem dX4_expects_19 : decode cX4_expects 19 = .ok (.iconst 0, 1) := dk_3 (dk_at dksX4_expects_0 19 rfl rfl)
theorem dX4_expects_20 : decode cX4_expects 20 = .ok (.istore 7, 2) := dk_54 7 (dk_at dksX4_expects_0 20 rfl rfl)
theorem dX4_expects_22 : decode cX4_expects 22 = .ok (.aload_n 0, 1) := dk_42 (dk_at dksX4_expects_0 22 rfl rfl)
theorem dX4_expects_23 : decode cX4_expects 23 = .ok (.getfield 114, 3) := dk_180 0 114 (dk_at dksX4_expects_1 0 rfl rfl)
theorem dX4_expects_26 : decode cX4_expects 26 = .ok (.iload 7, 2) := dk_21 7 (dk_at dksX4_expects_1 3 rfl rfl)
theorem dX4_expects_28 : decode cX4_expects 28 = .ok (.iadd, 1) := dk_96 (dk_at dksX4_expects_1 5 rfl rfl)
theorem dX4_expects_29 : decode cX4_expects 29 = .ok (.aload_n 0, 1) := dk_42 (dk_at dksX4_expects_1 6 rfl rfl)
theorem dX4_expects_30 : decode cX4_expects 30 = .ok (.getfield 46, 3) := dk_180 0 46 (dk_at dksX4_expects_1 7 rfl rfl)
theorem dX4_expects_33 : decode cX4_expects 33 = .ok (.iload_n 1, 1) := dk_27 (dk_at dksX4_expects_1 10 rfl rfl)
theorem dX4_expects_34 : decode cX4_expects 34 = .ok (.iaload, 1) := dk_46 (dk_at dksX4_expects_1 11 rfl rfl)
theorem dX4_expects_35 : decode cX4_expects 35 = .ok (.if_icmp .ge 180, 3) := dk_162 0 180 (dk_at dksX4_expects_1 12 rfl rfl)
theorem dX4_expects_38 : decode cX4_expects 38 = .ok (.aload_n 0, 1) := dk_42 (dk_at dksX4_expects_1 15 rfl rfl)
theorem dX4_expects_39 : decode cX4_expects 39 = .ok (.getfield 114, 3) := dk_180 0 114 (dk_at dksX4_expects_1 16 rfl rfl)
theorem dX4_expects_42 : decode cX4_expects 42 = .ok (.iload 7, 2) := dk_21 7 (dk_at dksX4_expects_1 19 rfl rfl)
theorem dX4_expects_44 : decode cX4_expects 44 = .ok (.iadd, 1) := dk_96 (dk_at dksX4_expects_1 21 rfl rfl)
theorem dX4_expects_45 : decode cX4_expects 45 = .ok (.istore 8, 2) := dk_54 8 (dk_at dksX4_expects_1 22 rfl rfl)
theorem dX4_expects_47 : decode cX4_expects 47 = .ok (.lconst 0, 1) := dk_9 (dk_at dksX4_expects_2 0 rfl rfl)
theorem dX4_expects_48 : decode cX4_expects 48 = .ok (.lstore 9, 2) := dk_55 9 (dk_at dksX4_expects_2 1 rfl rfl)
theorem dX4_expects_50 : decode cX4_expects 50 = .ok (.aload_n 0, 1) := dk_42 (dk_at dksX4_expects_2 3 rfl rfl)
theorem dX4_expects_51 : decode cX4_expects 51 = .ok (.iload_n 1, 1) := dk_27 (dk_at dksX4_expects_2 4 rfl rfl)
theorem dX4_expects_52 : decode cX4_expects 52 = .ok (.iload 8, 2) := dk_21 8 (dk_at dksX4_expects_2 5 rfl rfl)
theorem dX4_expects_54 : decode cX4_expects 54 = .ok (.iconst 0, 1) := dk_3 (dk_at dksX4_expects_2 7 rfl rfl)
theorem dX4_expects_55 : decode cX4_expects 55 = .ok (.invokevirtual 279, 3) := dk_182 1 23 (dk_at dksX4_expects_2 8 rfl rfl)
theorem dX4_expects_58 : decode cX4_expects 58 = .ok (.lstore 11, 2) := dk_55 11 (dk_at dksX4_expects_2 11 rfl rfl)
theorem dX4_expects_60 : decode cX4_expects 60 = .ok (.aload_n 0, 1) := dk_42 (dk_at dksX4_expects_2 13 rfl rfl)
theorem dX4_expects_61 : decode cX4_expects 61 = .ok (.iload_n 1, 1) := dk_27 (dk_at dksX4_expects_2 14 rfl rfl)
theorem dX4_expects_62 : decode cX4_expects 62 = .ok (.iload 8, 2) := dk_21 8 (dk_at dksX4_expects_2 15 rfl rfl)
theorem dX4_expects_64 : decode cX4_expects 64 = .ok (.invokevirtual 275, 3) := dk_182 1 19 (dk_at dksX4_expects_2 17 rfl rfl)
theorem dX4_expects_67 : decode cX4_expects 67 = .ok (.ifCond .eq 18, 3) := dk_153 0 18 (dk_at dksX4_expects_2 20 rfl rfl)
theorem dX4_expects_70 : decode cX4_expects 70 = .ok (.aload_n 0, 1) := dk_42 (dk_at dksX4_expects_2 23 rfl rfl)
theorem dX4_expects_71 : decode cX4_expects 71 = .ok (.getfield 79, 3) := dk_180 0 79 (dk_at dksX4_expects_3 0 rfl rfl)
theorem dX4_expects_74 : decode cX4_expects 74 = .ok (.iload_n 1, 1) := dk_27 (dk_at dksX4_expects_3 3 rfl rfl)
theorem dX4_expects_75 : decode cX4_expects 75 = .ok (.laload, 1) := dk_47 (dk_at dksX4_expects_3 4 rfl rfl)
theorem dX4_expects_76 : decode cX4_expects 76 = .ok (.lload_n 3, 1) := dk_33 (dk_at dksX4_expects_3 5 rfl rfl)
theorem dX4_expects_77 : decode cX4_expects 77 = .ok (.lmul, 1) := dk_105 (dk_at dksX4_expects_3 6 rfl rfl)
theorem dX4_expects_78 : decode cX4_expects 78 = .ok (.ldc2_w 180, 3) := dk_20 0 180 (dk_at dksX4_expects_3 7 rfl rfl)
theorem dX4_expects_81 : decode cX4_expects 81 = .ok (.ldiv, 1) := dk_109 (dk_at dksX4_expects_3 10 rfl rfl)
theorem dX4_expects_82 : decode cX4_expects 82 = .ok (.goto 4, 3) := dk_167 0 4 (dk_at dksX4_expects_3 11 rfl rfl)
theorem dX4_expects_85 : decode cX4_expects 85 = .ok (.lconst 0, 1) := dk_9 (dk_at dksX4_expects_3 14 rfl rfl)
theorem dX4_expects_86 : decode cX4_expects 86 = .ok (.lstore 13, 2) := dk_55 13 (dk_at dksX4_expects_3 15 rfl rfl)
theorem dX4_expects_88 : decode cX4_expects 88 = .ok (.aload_n 0, 1) := dk_42 (dk_at dksX4_expects_3 17 rfl rfl)
theorem dX4_expects_89 : decode cX4_expects 89 = .ok (.getfield 31, 3) := dk_180 0 31 (dk_at dksX4_expects_3 18 rfl rfl)
theorem dX4_expects_92 : decode cX4_expects 92 = .ok (.iload_n 1, 1) := dk_27 (dk_at dksX4_expects_3 21 rfl rfl)
theorem dX4_expects_93 : decode cX4_expects 93 = .ok (.iaload, 1) := dk_46 (dk_at dksX4_expects_3 22 rfl rfl)
theorem dX4_expects_94 : decode cX4_expects 94 = .ok (.iconst 3, 1) := dk_6 (dk_at dksX4_expects_3 23 rfl rfl)
theorem dX4_expects_95 : decode cX4_expects 95 = .ok (.if_icmp .eq 23, 3) := dk_159 0 23 (dk_at dksX4_expects_4 0 rfl rfl)
theorem dX4_expects_98 : decode cX4_expects 98 = .ok (.lload 9, 2) := dk_22 9 (dk_at dksX4_expects_4 3 rfl rfl)
theorem dX4_expects_100 : decode cX4_expects 100 = .ok (.lload 5, 2) := dk_22 5 (dk_at dksX4_expects_4 5 rfl rfl)
theorem dX4_expects_102 : decode cX4_expects 102 = .ok (.lload_n 3, 1) := dk_33 (dk_at dksX4_expects_4 7 rfl rfl)
theorem dX4_expects_103 : decode cX4_expects 103 = .ok (.lmul, 1) := dk_105 (dk_at dksX4_expects_4 8 rfl rfl)
theorem dX4_expects_104 : decode cX4_expects 104 = .ok (.ldc2_w 180, 3) := dk_20 0 180 (dk_at dksX4_expects_4 9 rfl rfl)
theorem dX4_expects_107 : decode cX4_expects 107 = .ok (.ldiv, 1) := dk_109 (dk_at dksX4_expects_4 12 rfl rfl)
theorem dX4_expects_108 : decode cX4_expects 108 = .ok (.lload 11, 2) := dk_22 11 (dk_at dksX4_expects_4 13 rfl rfl)
theorem dX4_expects_110 : decode cX4_expects 110 = .ok (.lmul, 1) := dk_105 (dk_at dksX4_expects_4 15 rfl rfl)
theorem dX4_expects_111 : decode cX4_expects 111 = .ok (.ldc2_w 176, 3) := dk_20 0 176 (dk_at dksX4_expects_4 16 rfl rfl)
theorem dX4_expects_114 : decode cX4_expects 114 = .ok (.ldiv, 1) := dk_109 (dk_at dksX4_expects_4 19 rfl rfl)
theorem dX4_expects_115 : decode cX4_expects 115 = .ok (.ladd, 1) := dk_97 (dk_at dksX4_expects_4 20 rfl rfl)
theorem dX4_expects_116 : decode cX4_expects 116 = .ok (.lstore 9, 2) := dk_55 9 (dk_at dksX4_expects_4 21 rfl rfl)
theorem dX4_expects_118 : decode cX4_expects 118 = .ok (.lload_n 3, 1) := dk_33 (dk_at dksX4_expects_4 23 rfl rfl)
theorem dX4_expects_119 : decode cX4_expects 119 = .ok (.ldc2_w 176, 3) := dk_20 0 176 (dk_at dksX4_expects_5 0 rfl rfl)
theorem dX4_expects_122 : decode cX4_expects 122 = .ok (.lload 11, 2) := dk_22 11 (dk_at dksX4_expects_5 3 rfl rfl)
theorem dX4_expects_124 : decode cX4_expects 124 = .ok (.lsub, 1) := dk_101 (dk_at dksX4_expects_5 5 rfl rfl)
theorem dX4_expects_125 : decode cX4_expects 125 = .ok (.lmul, 1) := dk_105 (dk_at dksX4_expects_5 6 rfl rfl)
theorem dX4_expects_126 : decode cX4_expects 126 = .ok (.ldc2_w 176, 3) := dk_20 0 176 (dk_at dksX4_expects_5 7 rfl rfl)
theorem dX4_expects_129 : decode cX4_expects 129 = .ok (.ldiv, 1) := dk_109 (dk_at dksX4_expects_5 10 rfl rfl)
theorem dX4_expects_130 : decode cX4_expects 130 = .ok (.lstore_n 3, 1) := dk_66 (dk_at dksX4_expects_5 11 rfl rfl)
theorem dX4_expects_131 : decode cX4_expects 131 = .ok (.aload_n 0, 1) := dk_42 (dk_at dksX4_expects_5 12 rfl rfl)
theorem dX4_expects_132 : decode cX4_expects 132 = .ok (.getfield 31, 3) := dk_180 0 31 (dk_at dksX4_expects_5 13 rfl rfl)
theorem dX4_expects_135 : decode cX4_expects 135 = .ok (.iload_n 1, 1) := dk_27 (dk_at dksX4_expects_5 16 rfl rfl)
theorem dX4_expects_136 : decode cX4_expects 136 = .ok (.iaload, 1) := dk_46 (dk_at dksX4_expects_5 17 rfl rfl)
theorem dX4_expects_137 : decode cX4_expects 137 = .ok (.iconst 3, 1) := dk_6 (dk_at dksX4_expects_5 18 rfl rfl)
theorem dX4_expects_138 : decode cX4_expects 138 = .ok (.if_icmp .ne 23, 3) := dk_160 0 23 (dk_at dksX4_expects_5 19 rfl rfl)
theorem dX4_expects_141 : decode cX4_expects 141 = .ok (.lload 9, 2) := dk_22 9 (dk_at dksX4_expects_5 22 rfl rfl)
theorem dX4_expects_143 : decode cX4_expects 143 = .ok (.aload_n 0, 1) := dk_42 (dk_at dksX4_expects_6 0 rfl rfl)
theorem dX4_expects_144 : decode cX4_expects 144 = .ok (.getfield 67, 3) := dk_180 0 67 (dk_at dksX4_expects_6 1 rfl rfl)
theorem dX4_expects_147 : decode cX4_expects 147 = .ok (.iload_n 1, 1) := dk_27 (dk_at dksX4_expects_6 4 rfl rfl)
theorem dX4_expects_148 : decode cX4_expects 148 = .ok (.laload, 1) := dk_47 (dk_at dksX4_expects_6 5 rfl rfl)
theorem dX4_expects_149 : decode cX4_expects 149 = .ok (.lload_n 3, 1) := dk_33 (dk_at dksX4_expects_6 6 rfl rfl)
theorem dX4_expects_150 : decode cX4_expects 150 = .ok (.lmul, 1) := dk_105 (dk_at dksX4_expects_6 7 rfl rfl)
theorem dX4_expects_151 : decode cX4_expects 151 = .ok (.ldc2_w 180, 3) := dk_20 0 180 (dk_at dksX4_expects_6 8 rfl rfl)
theorem dX4_expects_154 : decode cX4_expects 154 = .ok (.ldiv, 1) := dk_109 (dk_at dksX4_expects_6 11 rfl rfl)
theorem dX4_expects_155 : decode cX4_expects 155 = .ok (.ladd, 1) := dk_97 (dk_at dksX4_expects_6 12 rfl rfl)
theorem dX4_expects_156 : decode cX4_expects 156 = .ok (.lstore 9, 2) := dk_55 9 (dk_at dksX4_expects_6 13 rfl rfl)
theorem dX4_expects_158 : decode cX4_expects 158 = .ok (.goto 39, 3) := dk_167 0 39 (dk_at dksX4_expects_6 15 rfl rfl)
theorem dX4_expects_161 : decode cX4_expects 161 = .ok (.iload 8, 2) := dk_21 8 (dk_at dksX4_expects_6 18 rfl rfl)
theorem dX4_expects_163 : decode cX4_expects 163 = .ok (.iconst 1, 1) := dk_4 (dk_at dksX4_expects_6 20 rfl rfl)
theorem dX4_expects_164 : decode cX4_expects 164 = .ok (.iadd, 1) := dk_96 (dk_at dksX4_expects_6 21 rfl rfl)
theorem dX4_expects_165 : decode cX4_expects 165 = .ok (.aload_n 0, 1) := dk_42 (dk_at dksX4_expects_6 22 rfl rfl)
theorem dX4_expects_166 : decode cX4_expects 166 = .ok (.getfield 46, 3) := dk_180 0 46 (dk_at dksX4_expects_7 0 rfl rfl)
theorem dX4_expects_169 : decode cX4_expects 169 = .ok (.iload_n 1, 1) := dk_27 (dk_at dksX4_expects_7 3 rfl rfl)
theorem dX4_expects_170 : decode cX4_expects 170 = .ok (.iaload, 1) := dk_46 (dk_at dksX4_expects_7 4 rfl rfl)
theorem dX4_expects_171 : decode cX4_expects 171 = .ok (.if_icmp .ne 26, 3) := dk_160 0 26 (dk_at dksX4_expects_7 5 rfl rfl)
theorem dX4_expects_174 : decode cX4_expects 174 = .ok (.aload_n 0, 1) := dk_42 (dk_at dksX4_expects_7 8 rfl rfl)
theorem dX4_expects_175 : decode cX4_expects 175 = .ok (.getfield 31, 3) := dk_180 0 31 (dk_at dksX4_expects_7 9 rfl rfl)
theorem dX4_expects_178 : decode cX4_expects 178 = .ok (.iload_n 1, 1) := dk_27 (dk_at dksX4_expects_7 12 rfl rfl)
theorem dX4_expects_179 : decode cX4_expects 179 = .ok (.iaload, 1) := dk_46 (dk_at dksX4_expects_7 13 rfl rfl)
theorem dX4_expects_180 : decode cX4_expects 180 = .ok (.iconst 2, 1) := dk_5 (dk_at dksX4_expects_7 14 rfl rfl)
theorem dX4_expects_181 : decode cX4_expects 181 = .ok (.if_icmp .eq 16, 3) := dk_159 0 16 (dk_at dksX4_expects_7 15 rfl rfl)
theorem dX4_expects_184 : decode cX4_expects 184 = .ok (.lload 9, 2) := dk_22 9 (dk_at dksX4_expects_7 18 rfl rfl)
theorem dX4_expects_186 : decode cX4_expects 186 = .ok (.lload 5, 2) := dk_22 5 (dk_at dksX4_expects_7 20 rfl rfl)
theorem dX4_expects_188 : decode cX4_expects 188 = .ok (.lload_n 3, 1) := dk_33 (dk_at dksX4_expects_7 22 rfl rfl)
theorem dX4_expects_189 : decode cX4_expects 189 = .ok (.lmul, 1) := dk_105 (dk_at dksX4_expects_7 23 rfl rfl)
theorem dX4_expects_190 : decode cX4_expects 190 = .ok (.ldc2_w 180, 3) := dk_20 0 180 (dk_at dksX4_expects_8 0 rfl rfl)
theorem dX4_expects_193 : decode cX4_expects 193 = .ok (.ldiv, 1) := dk_109 (dk_at dksX4_expects_8 3 rfl rfl)
theorem dX4_expects_194 : decode cX4_expects 194 = .ok (.ladd, 1) := dk_97 (dk_at dksX4_expects_8 4 rfl rfl)
theorem dX4_expects_195 : decode cX4_expects 195 = .ok (.lstore 9, 2) := dk_55 9 (dk_at dksX4_expects_8 5 rfl rfl)
theorem dX4_expects_197 : decode cX4_expects 197 = .ok (.iload 7, 2) := dk_21 7 (dk_at dksX4_expects_8 7 rfl rfl)
theorem dX4_expects_199 : decode cX4_expects 199 = .ok (.iload_n 2, 1) := dk_28 (dk_at dksX4_expects_8 9 rfl rfl)
theorem dX4_expects_200 : decode cX4_expects 200 = .ok (.if_icmp .ne 9, 3) := dk_160 0 9 (dk_at dksX4_expects_8 10 rfl rfl)
theorem dX4_expects_203 : decode cX4_expects 203 = .ok (.lload 9, 2) := dk_22 9 (dk_at dksX4_expects_8 13 rfl rfl)
theorem dX4_expects_205 : decode cX4_expects 205 = .ok (.lload 13, 2) := dk_22 13 (dk_at dksX4_expects_8 15 rfl rfl)
theorem dX4_expects_207 : decode cX4_expects 207 = .ok (.lsub, 1) := dk_101 (dk_at dksX4_expects_8 17 rfl rfl)
theorem dX4_expects_208 : decode cX4_expects 208 = .ok (.lreturn, 1) := dk_173 (dk_at dksX4_expects_8 18 rfl rfl)
theorem dX4_expects_209 : decode cX4_expects 209 = .ok (.iinc 7 1, 3) := dk_132 7 1 (dk_at dksX4_expects_8 19 rfl rfl)
theorem dX4_expects_212 : decode cX4_expects 212 = .ok (.goto (-190), 3) := dk_167 255 66 (dk_at dksX4_expects_9 0 rfl rfl)
theorem dX4_expects_215 : decode cX4_expects 215 = .ok (.lconst 0, 1) := dk_9 (dk_at dksX4_expects_9 3 rfl rfl)
theorem dX4_expects_216 : decode cX4_expects 216 = .ok (.lreturn, 1) := dk_173 (dk_at dksX4_expects_9 4 rfl rfl)
abbrev cX4_bondPayments : ByteArray := prog_12_method_83_code
def yX4_bondPayments : MethodName := ⟨RX4, "bondPayments", "(I)J"⟩
def dkwX4_bondPayments_1 : List UInt8 := [42, 27, 182, 1, 153, 173]
abbrev dktX4_bondPayments_1 : List UInt8 := dkwX4_bondPayments_1 ++ []
def dkwX4_bondPayments_0 : List UInt8 := [42, 3, 181, 0, 1, 27, 133, 9, 20, 1, 148, 184, 0, 168, 154, 0, 10, 42, 4, 182, 1, 86, 133, 173]
abbrev dktX4_bondPayments_0 : List UInt8 := dkwX4_bondPayments_0 ++ dktX4_bondPayments_1
theorem dksX4_bondPayments_0 : cX4_bondPayments.data.toList.drop 0 = dktX4_bondPayments_0 := by decide +kernel
theorem dksX4_bondPayments_1 : cX4_bondPayments.data.toList.drop 24 = dktX4_bondPayments_1 := dk_seg dksX4_bondPayments_0 24 rfl rfl
theorem dX4_bondPayments_0 : decode cX4_bondPayments 0 = .ok (.aload_n 0, 1) := dk_42 (dk_at dksX4_bondPayments_0 0 rfl rfl)
theorem dX4_bondPayments_1 : decode cX4_bondPayments 1 = .ok (.iconst 0, 1) := dk_3 (dk_at dksX4_bondPayments_0 1 rfl rfl)
theorem dX4_bondPayments_2 : decode cX4_bondPayments 2 = .ok (.putfield 1, 3) := dk_181 0 1 (dk_at dksX4_bondPayments_0 2 rfl rfl)
theorem dX4_bondPayments_5 : decode cX4_bondPayments 5 = .ok (.iload_n 1, 1) := dk_27 (dk_at dksX4_bondPayments_0 5 rfl rfl)
theorem dX4_bondPayments_6 : decode cX4_bondPayments 6 = .ok (.i2l, 1) := dk_133 (dk_at dksX4_bondPayments_0 6 rfl rfl)
theorem dX4_bondPayments_7 : decode cX4_bondPayments 7 = .ok (.lconst 0, 1) := dk_9 (dk_at dksX4_bondPayments_0 7 rfl rfl)
theorem dX4_bondPayments_8 : decode cX4_bondPayments 8 = .ok (.ldc2_w 404, 3) := dk_20 1 148 (dk_at dksX4_bondPayments_0 8 rfl rfl)
theorem dX4_bondPayments_11 : decode cX4_bondPayments 11 = .ok (.invokestatic 168, 3) := dk_184 0 168 (dk_at dksX4_bondPayments_0 11 rfl rfl)
theorem dX4_bondPayments_14 : decode cX4_bondPayments 14 = .ok (.ifCond .ne 10, 3) := dk_154 0 10 (dk_at dksX4_bondPayments_0 14 rfl rfl)
theorem dX4_bondPayments_17 : decode cX4_bondPayments 17 = .ok (.aload_n 0, 1) := dk_42 (dk_at dksX4_bondPayments_0 17 rfl rfl)
theorem dX4_bondPayments_18 : decode cX4_bondPayments 18 = .ok (.iconst 1, 1) := dk_4 (dk_at dksX4_bondPayments_0 18 rfl rfl)
theorem dX4_bondPayments_19 : decode cX4_bondPayments 19 = .ok (.invokevirtual 342, 3) := dk_182 1 86 (dk_at dksX4_bondPayments_0 19 rfl rfl)
theorem dX4_bondPayments_22 : decode cX4_bondPayments 22 = .ok (.i2l, 1) := dk_133 (dk_at dksX4_bondPayments_0 22 rfl rfl)
theorem dX4_bondPayments_23 : decode cX4_bondPayments 23 = .ok (.lreturn, 1) := dk_173 (dk_at dksX4_bondPayments_0 23 rfl rfl)
theorem dX4_bondPayments_24 : decode cX4_bondPayments 24 = .ok (.aload_n 0, 1) := dk_42 (dk_at dksX4_bondPayments_1 0 rfl rfl)
theorem dX4_bondPayments_25 : decode cX4_bondPayments 25 = .ok (.iload_n 1, 1) := dk_27 (dk_at dksX4_bondPayments_1 1 rfl rfl)
theorem dX4_bondPayments_26 : decode cX4_bondPayments 26 = .ok (.invokevirtual 409, 3) := dk_182 1 153 (dk_at dksX4_bondPayments_1 2 rfl rfl)
theorem dX4_bondPayments_29 : decode cX4_bondPayments 29 = .ok (.lreturn, 1) := dk_173 (dk_at dksX4_bondPayments_1 5 rfl rfl)
abbrev cX4_bondsPay : ByteArray := prog_12_method_39_code
def yX4_bondsPay : MethodName := ⟨RX4, "bondsPay", "(I)J"⟩
def dkwX4_bondsPay_3 : List UInt8 := [21, 4, 46, 133, 167, 0, 4, 9, 97, 65, 132, 4, 1, 167, 255, 177, 32, 173]
abbrev dktX4_bondsPay_3 : List UInt8 := dkwX4_bondsPay_3 ++ []
def dkwX4_bondsPay_2 : List UInt8 := [167, 0, 4, 9, 97, 65, 32, 42, 180, 0, 88, 21, 4, 46, 27, 4, 96, 160, 0, 14, 42, 180, 0, 91]
abbrev dktX4_bondsPay_2 : List UInt8 := dkwX4_bondsPay_2 ++ dktX4_bondsPay_3
def dkwX4_bondsPay_1 : List UInt8 := [164, 0, 27, 42, 180, 0, 91, 21, 4, 46, 133, 42, 180, 0, 94, 21, 4, 46, 133, 105, 20, 0, 194, 109]
abbrev dktX4_bondsPay_1 : List UInt8 := dkwX4_bondsPay_1 ++ dktX4_bondsPay_2
def dkwX4_bondsPay_0 : List UInt8 := [9, 65, 3, 54, 4, 21, 4, 42, 180, 0, 149, 162, 0, 76, 32, 42, 180, 0, 88, 21, 4, 46, 27]
abbrev dktX4_bondsPay_0 : List UInt8 := dkwX4_bondsPay_0 ++ dktX4_bondsPay_1
theorem dksX4_bondsPay_0 : cX4_bondsPay.data.toList.drop 0 = dktX4_bondsPay_0 := by decide +kernel
theorem dksX4_bondsPay_1 : cX4_bondsPay.data.toList.drop 23 = dktX4_bondsPay_1 := dk_seg dksX4_bondsPay_0 23 rfl rfl
theorem dksX4_bondsPay_2 : cX4_bondsPay.data.toList.drop 47 = dktX4_bondsPay_2 := dk_seg dksX4_bondsPay_1 24 rfl rfl
theorem dksX4_bondsPay_3 : cX4_bondsPay.data.toList.drop 71 = dktX4_bondsPay_3 := dk_seg dksX4_bondsPay_2 24 rfl rfl
theorem dX4_bondsPay_0 : decode cX4_bondsPay 0 = .ok (.lconst 0, 1) := dk_9 (dk_at dksX4_bondsPay_0 0 rfl rfl)
theorem dX4_bondsPay_1 : decode cX4_bondsPay 1 = .ok (.lstore_n 2, 1) := dk_65 (dk_at dksX4_bondsPay_0 1 rfl rfl)
theorem dX4_bondsPay_2 : decode cX4_bondsPay 2 = .ok (.iconst 0, 1) := dk_3 (dk_at dksX4_bondsPay_0 2 rfl rfl)
theorem dX4_bondsPay_3 : decode cX4_bondsPay 3 = .ok (.istore 4, 2) := dk_54 4 (dk_at dksX4_bondsPay_0 3 rfl rfl)
theorem dX4_bondsPay_5 : decode cX4_bondsPay 5 = .ok (.iload 4, 2) := dk_21 4 (dk_at dksX4_bondsPay_0 5 rfl rfl)
theorem dX4_bondsPay_7 : decode cX4_bondsPay 7 = .ok (.aload_n 0, 1) := dk_42 (dk_at dksX4_bondsPay_0 7 rfl rfl)
theorem dX4_bondsPay_8 : decode cX4_bondsPay 8 = .ok (.getfield 149, 3) := dk_180 0 149 (dk_at dksX4_bondsPay_0 8 rfl rfl)
theorem dX4_bondsPay_11 : decode cX4_bondsPay 11 = .ok (.if_icmp .ge 76, 3) := dk_162 0 76 (dk_at dksX4_bondsPay_0 11 rfl rfl)
theorem dX4_bondsPay_14 : decode cX4_bondsPay 14 = .ok (.lload_n 2, 1) := dk_32 (dk_at dksX4_bondsPay_0 14 rfl rfl)
theorem dX4_bondsPay_15 : decode cX4_bondsPay 15 = .ok (.aload_n 0, 1) := dk_42 (dk_at dksX4_bondsPay_0 15 rfl rfl)
theorem dX4_bondsPay_16 : decode cX4_bondsPay 16 = .ok (.getfield 88, 3) := dk_180 0 88 (dk_at dksX4_bondsPay_0 16 rfl rfl)
theorem dX4_bondsPay_19 : decode cX4_bondsPay 19 = .ok (.iload 4, 2) := dk_21 4 (dk_at dksX4_bondsPay_0 19 rfl rfl)
theorem dX4_bondsPay_21 : decode cX4_bondsPay 21 = .ok (.iaload, 1) := dk_46 (dk_at dksX4_bondsPay_0 21 rfl rfl)
theorem dX4_bondsPay_22 : decode cX4_bondsPay 22 = .ok (.iload_n 1, 1) := dk_27 (dk_at dksX4_bondsPay_0 22 rfl rfl)
theorem dX4_bondsPay_23 : decode cX4_bondsPay 23 = .ok (.if_icmp .le 27, 3) := dk_164 0 27 (dk_at dksX4_bondsPay_1 0 rfl rfl)
theorem dX4_bondsPay_26 : decode cX4_bondsPay 26 = .ok (.aload_n 0, 1) := dk_42 (dk_at dksX4_bondsPay_1 3 rfl rfl)
theorem dX4_bondsPay_27 : decode cX4_bondsPay 27 = .ok (.getfield 91, 3) := dk_180 0 91 (dk_at dksX4_bondsPay_1 4 rfl rfl)
theorem dX4_bondsPay_30 : decode cX4_bondsPay 30 = .ok (.iload 4, 2) := dk_21 4 (dk_at dksX4_bondsPay_1 7 rfl rfl)
theorem dX4_bondsPay_32 : decode cX4_bondsPay 32 = .ok (.iaload, 1) := dk_46 (dk_at dksX4_bondsPay_1 9 rfl rfl)
theorem dX4_bondsPay_33 : decode cX4_bondsPay 33 = .ok (.i2l, 1) := dk_133 (dk_at dksX4_bondsPay_1 10 rfl rfl)
theorem dX4_bondsPay_34 : decode cX4_bondsPay 34 = .ok (.aload_n 0, 1) := dk_42 (dk_at dksX4_bondsPay_1 11 rfl rfl)
theorem dX4_bondsPay_35 : decode cX4_bondsPay 35 = .ok (.getfield 94, 3) := dk_180 0 94 (dk_at dksX4_bondsPay_1 12 rfl rfl)
theorem dX4_bondsPay_38 : decode cX4_bondsPay 38 = .ok (.iload 4, 2) := dk_21 4 (dk_at dksX4_bondsPay_1 15 rfl rfl)
theorem dX4_bondsPay_40 : decode cX4_bondsPay 40 = .ok (.iaload, 1) := dk_46 (dk_at dksX4_bondsPay_1 17 rfl rfl)
theorem dX4_bondsPay_41 : decode cX4_bondsPay 41 = .ok (.i2l, 1) := dk_133 (dk_at dksX4_bondsPay_1 18 rfl rfl)
theorem dX4_bondsPay_42 : decode cX4_bondsPay 42 = .ok (.lmul, 1) := dk_105 (dk_at dksX4_bondsPay_1 19 rfl rfl)
theorem dX4_bondsPay_43 : decode cX4_bondsPay 43 = .ok (.ldc2_w 194, 3) := dk_20 0 194 (dk_at dksX4_bondsPay_1 20 rfl rfl)
theorem dX4_bondsPay_46 : decode cX4_bondsPay 46 = .ok (.ldiv, 1) := dk_109 (dk_at dksX4_bondsPay_1 23 rfl rfl)
theorem dX4_bondsPay_47 : decode cX4_bondsPay 47 = .ok (.goto 4, 3) := dk_167 0 4 (dk_at dksX4_bondsPay_2 0 rfl rfl)
theorem dX4_bondsPay_50 : decode cX4_bondsPay 50 = .ok (.lconst 0, 1) := dk_9 (dk_at dksX4_bondsPay_2 3 rfl rfl)
theorem dX4_bondsPay_51 : decode cX4_bondsPay 51 = .ok (.ladd, 1) := dk_97 (dk_at dksX4_bondsPay_2 4 rfl rfl)
theorem dX4_bondsPay_52 : decode cX4_bondsPay 52 = .ok (.lstore_n 2, 1) := dk_65 (dk_at dksX4_bondsPay_2 5 rfl rfl)
theorem dX4_bondsPay_53 : decode cX4_bondsPay 53 = .ok (.lload_n 2, 1) := dk_32 (dk_at dksX4_bondsPay_2 6 rfl rfl)
theorem dX4_bondsPay_54 : decode cX4_bondsPay 54 = .ok (.aload_n 0, 1) := dk_42 (dk_at dksX4_bondsPay_2 7 rfl rfl)
theorem dX4_bondsPay_55 : decode cX4_bondsPay 55 = .ok (.getfield 88, 3) := dk_180 0 88 (dk_at dksX4_bondsPay_2 8 rfl rfl)
theorem dX4_bondsPay_58 : decode cX4_bondsPay 58 = .ok (.iload 4, 2) := dk_21 4 (dk_at dksX4_bondsPay_2 11 rfl rfl)
theorem dX4_bondsPay_60 : decode cX4_bondsPay 60 = .ok (.iaload, 1) := dk_46 (dk_at dksX4_bondsPay_2 13 rfl rfl)
theorem dX4_bondsPay_61 : decode cX4_bondsPay 61 = .ok (.iload_n 1, 1) := dk_27 (dk_at dksX4_bondsPay_2 14 rfl rfl)
theorem dX4_bondsPay_62 : decode cX4_bondsPay 62 = .ok (.iconst 1, 1) := dk_4 (dk_at dksX4_bondsPay_2 15 rfl rfl)
theorem dX4_bondsPay_63 : decode cX4_bondsPay 63 = .ok (.iadd, 1) := dk_96 (dk_at dksX4_bondsPay_2 16 rfl rfl)
theorem dX4_bondsPay_64 : decode cX4_bondsPay 64 = .ok (.if_icmp .ne 14, 3) := dk_160 0 14 (dk_at dksX4_bondsPay_2 17 rfl rfl)
theorem dX4_bondsPay_67 : decode cX4_bondsPay 67 = .ok (.aload_n 0, 1) := dk_42 (dk_at dksX4_bondsPay_2 20 rfl rfl)
theorem dX4_bondsPay_68 : decode cX4_bondsPay 68 = .ok (.getfield 91, 3) := dk_180 0 91 (dk_at dksX4_bondsPay_2 21 rfl rfl)
theorem dX4_bondsPay_71 : decode cX4_bondsPay 71 = .ok (.iload 4, 2) := dk_21 4 (dk_at dksX4_bondsPay_3 0 rfl rfl)
theorem dX4_bondsPay_73 : decode cX4_bondsPay 73 = .ok (.iaload, 1) := dk_46 (dk_at dksX4_bondsPay_3 2 rfl rfl)
theorem dX4_bondsPay_74 : decode cX4_bondsPay 74 = .ok (.i2l, 1) := dk_133 (dk_at dksX4_bondsPay_3 3 rfl rfl)
theorem dX4_bondsPay_75 : decode cX4_bondsPay 75 = .ok (.goto 4, 3) := dk_167 0 4 (dk_at dksX4_bondsPay_3 4 rfl rfl)
theorem dX4_bondsPay_78 : decode cX4_bondsPay 78 = .ok (.lconst 0, 1) := dk_9 (dk_at dksX4_bondsPay_3 7 rfl rfl)
theorem dX4_bondsPay_79 : decode cX4_bondsPay 79 = .ok (.ladd, 1) := dk_97 (dk_at dksX4_bondsPay_3 8 rfl rfl)
theorem dX4_bondsPay_80 : decode cX4_bondsPay 80 = .ok (.lstore_n 2, 1) := dk_65 (dk_at dksX4_bondsPay_3 9 rfl rfl)
theorem dX4_bondsPay_81 : decode cX4_bondsPay 81 = .ok (.iinc 4 1, 3) := dk_132 4 1 (dk_at dksX4_bondsPay_3 10 rfl rfl)
theorem dX4_bondsPay_84 : decode cX4_bondsPay 84 = .ok (.goto (-79), 3) := dk_167 255 177 (dk_at dksX4_bondsPay_3 13 rfl rfl)
theorem dX4_bondsPay_87 : decode cX4_bondsPay 87 = .ok (.lload_n 2, 1) := dk_32 (dk_at dksX4_bondsPay_3 16 rfl rfl)
theorem dX4_bondsPay_88 : decode cX4_bondsPay 88 = .ok (.lreturn, 1) := dk_173 (dk_at dksX4_bondsPay_3 17 rfl rfl)
abbrev cX4_firstShort : ByteArray := prog_12_method_84_code
def yX4_firstShort : MethodName := ⟨RX4, "firstShort", "()I"⟩
def dkwX4_firstShort_1 : List UInt8 := [158, 0, 5, 27, 172, 132, 1, 1, 167, 255, 231, 2, 172]
abbrev dktX4_firstShort_1 : List UInt8 := dkwX4_firstShort_1 ++ []
def dkwX4_firstShort_0 : List UInt8 := [42, 3, 181, 0, 1, 3, 60, 27, 16, 40, 163, 0, 25, 42, 27, 182, 1, 150, 42, 27, 182, 1, 153, 148]
abbrev dktX4_firstShort_0 : List UInt8 := dkwX4_firstShort_0 ++ dktX4_firstShort_1
theorem dksX4_firstShort_0 : cX4_firstShort.data.toList.drop 0 = dktX4_firstShort_0 := by decide +kernel
theorem dksX4_firstShort_1 : cX4_firstShort.data.toList.drop 24 = dktX4_firstShort_1 := dk_seg dksX4_firstShort_0 24 rfl rfl
theorem dX4_firstShort_0 : decode cX4_firstShort 0 = .ok (.aload_n 0, 1) := dk_42 (dk_at dksX4_firstShort_0 0 rfl rfl)
theorem dX4_firstShort_1 : decode cX4_firstShort 1 = .ok (.iconst 0, 1) := dk_3 (dk_at dksX4_firstShort_0 1 rfl rfl)
theorem dX4_firstShort_2 : decode cX4_firstShort 2 = .ok (.putfield 1, 3) := dk_181 0 1 (dk_at dksX4_firstShort_0 2 rfl rfl)
theorem dX4_firstShort_5 : decode cX4_firstShort 5 = .ok (.iconst 0, 1) := dk_3 (dk_at dksX4_firstShort_0 5 rfl rfl)
theorem dX4_firstShort_6 : decode cX4_firstShort 6 = .ok (.istore_n 1, 1) := dk_60 (dk_at dksX4_firstShort_0 6 rfl rfl)
theorem dX4_firstShort_7 : decode cX4_firstShort 7 = .ok (.iload_n 1, 1) := dk_27 (dk_at dksX4_firstShort_0 7 rfl rfl)
theorem dX4_firstShort_8 : decode cX4_firstShort 8 = .ok (.bipush 40, 2) := dk_16 40 (dk_at dksX4_firstShort_0 8 rfl rfl)
theorem dX4_firstShort_10 : decode cX4_firstShort 10 = .ok (.if_icmp .gt 25, 3) := dk_163 0 25 (dk_at dksX4_firstShort_0 10 rfl rfl)
theorem dX4_firstShort_13 : decode cX4_firstShort 13 = .ok (.aload_n 0, 1) := dk_42 (dk_at dksX4_firstShort_0 13 rfl rfl)
theorem dX4_firstShort_14 : decode cX4_firstShort 14 = .ok (.iload_n 1, 1) := dk_27 (dk_at dksX4_firstShort_0 14 rfl rfl)
theorem dX4_firstShort_15 : decode cX4_firstShort 15 = .ok (.invokevirtual 406, 3) := dk_182 1 150 (dk_at dksX4_firstShort_0 15 rfl rfl)
theorem dX4_firstShort_18 : decode cX4_firstShort 18 = .ok (.aload_n 0, 1) := dk_42 (dk_at dksX4_firstShort_0 18 rfl rfl)
theorem dX4_firstShort_19 : decode cX4_firstShort 19 = .ok (.iload_n 1, 1) := dk_27 (dk_at dksX4_firstShort_0 19 rfl rfl)
theorem dX4_firstShort_20 : decode cX4_firstShort 20 = .ok (.invokevirtual 409, 3) := dk_182 1 153 (dk_at dksX4_firstShort_0 20 rfl rfl)
theorem dX4_firstShort_23 : decode cX4_firstShort 23 = .ok (.lcmp, 1) := dk_148 (dk_at dksX4_firstShort_0 23 rfl rfl)
theorem dX4_firstShort_24 : decode cX4_firstShort 24 = .ok (.ifCond .le 5, 3) := dk_158 0 5 (dk_at dksX4_firstShort_1 0 rfl rfl)
theorem dX4_firstShort_27 : decode cX4_firstShort 27 = .ok (.iload_n 1, 1) := dk_27 (dk_at dksX4_firstShort_1 3 rfl rfl)
theorem dX4_firstShort_28 : decode cX4_firstShort 28 = .ok (.ireturn, 1) := dk_172 (dk_at dksX4_firstShort_1 4 rfl rfl)
theorem dX4_firstShort_29 : decode cX4_firstShort 29 = .ok (.iinc 1 1, 3) := dk_132 1 1 (dk_at dksX4_firstShort_1 5 rfl rfl)
theorem dX4_firstShort_32 : decode cX4_firstShort 32 = .ok (.goto (-25), 3) := dk_167 255 231 (dk_at dksX4_firstShort_1 8 rfl rfl)
theorem dX4_firstShort_35 : decode cX4_firstShort 35 = .ok (.iconst (-1), 1) := dk_2 (dk_at dksX4_firstShort_1 11 rfl rfl)
theorem dX4_firstShort_36 : decode cX4_firstShort 36 = .ok (.ireturn, 1) := dk_172 (dk_at dksX4_firstShort_1 12 rfl rfl)
abbrev cX4_close : ByteArray := prog_12_method_86_code
def yX4_close : MethodName := ⟨RX4, "close", "()I"⟩
def dkwX4_close_1 : List UInt8 := [182, 1, 156, 172]
abbrev dktX4_close_1 : List UInt8 := dkwX4_close_1 ++ []
def dkwX4_close_0 : List UInt8 := [42, 3, 181, 0, 1, 42, 180, 0, 156, 153, 0, 9, 42, 4, 182, 1, 86, 172, 42, 4, 181, 0, 156, 42]
abbrev dktX4_close_0 : List UInt8 := dkwX4_close_0 ++ dktX4_close_1
theorem dksX4_close_0 : cX4_close.data.toList.drop 0 = dktX4_close_0 := by decide +kernel
theorem dksX4_close_1 : cX4_close.data.toList.drop 24 = dktX4_close_1 := dk_seg dksX4_close_0 24 rfl rfl
theorem dX4_close_0 : decode cX4_close 0 = .ok (.aload_n 0, 1) := dk_42 (dk_at dksX4_close_0 0 rfl rfl)
theorem dX4_close_1 : decode cX4_close 1 = .ok (.iconst 0, 1) := dk_3 (dk_at dksX4_close_0 1 rfl rfl)
theorem dX4_close_2 : decode cX4_close 2 = .ok (.putfield 1, 3) := dk_181 0 1 (dk_at dksX4_close_0 2 rfl rfl)
theorem dX4_close_5 : decode cX4_close 5 = .ok (.aload_n 0, 1) := dk_42 (dk_at dksX4_close_0 5 rfl rfl)
theorem dX4_close_6 : decode cX4_close 6 = .ok (.getfield 156, 3) := dk_180 0 156 (dk_at dksX4_close_0 6 rfl rfl)
theorem dX4_close_9 : decode cX4_close 9 = .ok (.ifCond .eq 9, 3) := dk_153 0 9 (dk_at dksX4_close_0 9 rfl rfl)
theorem dX4_close_12 : decode cX4_close 12 = .ok (.aload_n 0, 1) := dk_42 (dk_at dksX4_close_0 12 rfl rfl)
theorem dX4_close_13 : decode cX4_close 13 = .ok (.iconst 1, 1) := dk_4 (dk_at dksX4_close_0 13 rfl rfl)
theorem dX4_close_14 : decode cX4_close 14 = .ok (.invokevirtual 342, 3) := dk_182 1 86 (dk_at dksX4_close_0 14 rfl rfl)
theorem dX4_close_17 : decode cX4_close 17 = .ok (.ireturn, 1) := dk_172 (dk_at dksX4_close_0 17 rfl rfl)
theorem dX4_close_18 : decode cX4_close 18 = .ok (.aload_n 0, 1) := dk_42 (dk_at dksX4_close_0 18 rfl rfl)
theorem dX4_close_19 : decode cX4_close 19 = .ok (.iconst 1, 1) := dk_4 (dk_at dksX4_close_0 19 rfl rfl)
theorem dX4_close_20 : decode cX4_close 20 = .ok (.putfield 156, 3) := dk_181 0 156 (dk_at dksX4_close_0 20 rfl rfl)
theorem dX4_close_23 : decode cX4_close 23 = .ok (.aload_n 0, 1) := dk_42 (dk_at dksX4_close_0 23 rfl rfl)
theorem dX4_close_24 : decode cX4_close 24 = .ok (.invokevirtual 412, 3) := dk_182 1 156 (dk_at dksX4_close_1 0 rfl rfl)
theorem dX4_close_27 : decode cX4_close 27 = .ok (.ireturn, 1) := dk_172 (dk_at dksX4_close_1 3 rfl rfl)
abbrev cX4_livingMany : ByteArray := prog_12_method_85_code
def yX4_livingMany : MethodName := ⟨RX4, "livingMany", "()I"⟩
def dkwX4_livingMany_1 : List UInt8 := [167, 0, 4, 3, 96, 60, 132, 2, 1, 167, 255, 229, 27, 172]
abbrev dktX4_livingMany_1 : List UInt8 := dkwX4_livingMany_1 ++ []
def dkwX4_livingMany_0 : List UInt8 := [3, 60, 3, 61, 28, 42, 180, 0, 146, 162, 0, 25, 27, 42, 28, 182, 0, 234, 153, 0, 7, 4]
abbrev dktX4_livingMany_0 : List UInt8 := dkwX4_livingMany_0 ++ dktX4_livingMany_1
theorem dksX4_livingMany_0 : cX4_livingMany.data.toList.drop 0 = dktX4_livingMany_0 := by decide +kernel
theorem dksX4_livingMany_1 : cX4_livingMany.data.toList.drop 22 = dktX4_livingMany_1 := dk_seg dksX4_livingMany_0 22 rfl rfl
theorem dX4_livingMany_0 : decode cX4_livingMany 0 = .ok (.iconst 0, 1) := dk_3 (dk_at dksX4_livingMany_0 0 rfl rfl)
theorem dX4_livingMany_1 : decode cX4_livingMany 1 = .ok (.istore_n 1, 1) := dk_60 (dk_at dksX4_livingMany_0 1 rfl rfl)
theorem dX4_livingMany_2 : decode cX4_livingMany 2 = .ok (.iconst 0, 1) := dk_3 (dk_at dksX4_livingMany_0 2 rfl rfl)
theorem dX4_livingMany_3 : decode cX4_livingMany 3 = .ok (.istore_n 2, 1) := dk_61 (dk_at dksX4_livingMany_0 3 rfl rfl)
theorem dX4_livingMany_4 : decode cX4_livingMany 4 = .ok (.iload_n 2, 1) := dk_28 (dk_at dksX4_livingMany_0 4 rfl rfl)
theorem dX4_livingMany_5 : decode cX4_livingMany 5 = .ok (.aload_n 0, 1) := dk_42 (dk_at dksX4_livingMany_0 5 rfl rfl)
theorem dX4_livingMany_6 : decode cX4_livingMany 6 = .ok (.getfield 146, 3) := dk_180 0 146 (dk_at dksX4_livingMany_0 6 rfl rfl)
theorem dX4_livingMany_9 : decode cX4_livingMany 9 = .ok (.if_icmp .ge 25, 3) := dk_162 0 25 (dk_at dksX4_livingMany_0 9 rfl rfl)
theorem dX4_livingMany_12 : decode cX4_livingMany 12 = .ok (.iload_n 1, 1) := dk_27 (dk_at dksX4_livingMany_0 12 rfl rfl)
theorem dX4_livingMany_13 : decode cX4_livingMany 13 = .ok (.aload_n 0, 1) := dk_42 (dk_at dksX4_livingMany_0 13 rfl rfl)
theorem dX4_livingMany_14 : decode cX4_livingMany 14 = .ok (.iload_n 2, 1) := dk_28 (dk_at dksX4_livingMany_0 14 rfl rfl)
theorem dX4_livingMany_15 : decode cX4_livingMany 15 = .ok (.invokevirtual 234, 3) := dk_182 0 234 (dk_at dksX4_livingMany_0 15 rfl rfl)
theorem dX4_livingMany_18 : decode cX4_livingMany 18 = .ok (.ifCond .eq 7, 3) := dk_153 0 7 (dk_at dksX4_livingMany_0 18 rfl rfl)
theorem dX4_livingMany_21 : decode cX4_livingMany 21 = .ok (.iconst 1, 1) := dk_4 (dk_at dksX4_livingMany_0 21 rfl rfl)
theorem dX4_livingMany_22 : decode cX4_livingMany 22 = .ok (.goto 4, 3) := dk_167 0 4 (dk_at dksX4_livingMany_1 0 rfl rfl)
theorem dX4_livingMany_25 : decode cX4_livingMany 25 = .ok (.iconst 0, 1) := dk_3 (dk_at dksX4_livingMany_1 3 rfl rfl)
theorem dX4_livingMany_26 : decode cX4_livingMany 26 = .ok (.iadd, 1) := dk_96 (dk_at dksX4_livingMany_1 4 rfl rfl)
theorem dX4_livingMany_27 : decode cX4_livingMany 27 = .ok (.istore_n 1, 1) := dk_60 (dk_at dksX4_livingMany_1 5 rfl rfl)
theorem dX4_livingMany_28 : decode cX4_livingMany 28 = .ok (.iinc 2 1, 3) := dk_132 2 1 (dk_at dksX4_livingMany_1 6 rfl rfl)
theorem dX4_livingMany_31 : decode cX4_livingMany 31 = .ok (.goto (-27), 3) := dk_167 255 229 (dk_at dksX4_livingMany_1 9 rfl rfl)
theorem dX4_livingMany_34 : decode cX4_livingMany 34 = .ok (.iload_n 1, 1) := dk_27 (dk_at dksX4_livingMany_1 12 rfl rfl)
theorem dX4_livingMany_35 : decode cX4_livingMany 35 = .ok (.ireturn, 1) := dk_172 (dk_at dksX4_livingMany_1 13 rfl rfl)
abbrev cX4_distribute : ByteArray := prog_12_method_87_code
def yX4_distribute : MethodName := ⟨RX4, "distribute", "(I)J"⟩
def dkwX4_distribute_8 : List UInt8 := [167, 255, 179, 22, 4, 173]
abbrev dktX4_distribute_8 : List UInt8 := dkwX4_distribute_8 ++ []
def dkwX4_distribute_7 : List UInt8 := [55, 7, 42, 180, 0, 73, 21, 6, 92, 47, 22, 7, 97, 80, 22, 4, 22, 7, 97, 55, 4, 132, 6, 1]
abbrev dktX4_distribute_7 : List UInt8 := dkwX4_distribute_7 ++ dktX4_distribute_8
def dkwX4_distribute_6 : List UInt8 := [42, 180, 0, 73, 21, 6, 47, 101, 27, 133, 42, 180, 0, 73, 21, 6, 47, 105, 32, 109, 184, 0, 198]
abbrev dktX4_distribute_6 : List UInt8 := dkwX4_distribute_6 ++ dktX4_distribute_7
def dkwX4_distribute_5 : List UInt8 := [162, 0, 74, 42, 21, 6, 182, 0, 234, 153, 0, 59, 42, 21, 6, 182, 1, 7, 153, 0, 50, 20, 1, 17]
abbrev dktX4_distribute_5 : List UInt8 := dkwX4_distribute_5 ++ dktX4_distribute_6
def dkwX4_distribute_4 : List UInt8 := [32, 9, 148, 154, 0, 10, 42, 5, 182, 1, 86, 133, 173, 3, 54, 6, 21, 6, 42, 180, 0, 146]
abbrev dktX4_distribute_4 : List UInt8 := dkwX4_distribute_4 ++ dktX4_distribute_5
def dkwX4_distribute_3 : List UInt8 := [65, 132, 6, 1, 167, 255, 212, 42, 180, 0, 156, 153, 0, 19, 27, 133, 42, 182, 1, 105, 148, 157, 0, 9]
abbrev dktX4_distribute_3 : List UInt8 := dkwX4_distribute_3 ++ dktX4_distribute_4
def dkwX4_distribute_2 : List UInt8 := [153, 0, 22, 42, 21, 6, 182, 1, 7, 153, 0, 13, 42, 180, 0, 73, 21, 6, 47, 167, 0, 4, 9, 97]
abbrev dktX4_distribute_2 : List UInt8 := dkwX4_distribute_2 ++ dktX4_distribute_3
def dkwX4_distribute_1 : List UInt8 := [9, 65, 9, 55, 4, 3, 54, 6, 21, 6, 42, 180, 0, 146, 162, 0, 41, 32, 42, 21, 6, 182, 0, 234]
abbrev dktX4_distribute_1 : List UInt8 := dkwX4_distribute_1 ++ dktX4_distribute_2
def dkwX4_distribute_0 : List UInt8 := [42, 3, 181, 0, 1, 27, 133, 10, 20, 1, 17, 184, 0, 168, 154, 0, 10, 42, 4, 182, 1, 86, 133, 173]
abbrev dktX4_distribute_0 : List UInt8 := dkwX4_distribute_0 ++ dktX4_distribute_1
theorem dksX4_distribute_0 : cX4_distribute.data.toList.drop 0 = dktX4_distribute_0 := by decide +kernel
theorem dksX4_distribute_1 : cX4_distribute.data.toList.drop 24 = dktX4_distribute_1 := dk_seg dksX4_distribute_0 24 rfl rfl
theorem dksX4_distribute_2 : cX4_distribute.data.toList.drop 48 = dktX4_distribute_2 := dk_seg dksX4_distribute_1 24 rfl rfl
theorem dksX4_distribute_3 : cX4_distribute.data.toList.drop 72 = dktX4_distribute_3 := dk_seg dksX4_distribute_2 24 rfl rfl
theorem dksX4_distribute_4 : cX4_distribute.data.toList.drop 96 = dktX4_distribute_4 := dk_seg dksX4_distribute_3 24 rfl rfl
theorem dksX4_distribute_5 : cX4_distribute.data.toList.drop 118 = dktX4_distribute_5 := dk_seg dksX4_distribute_4 22 rfl rfl
theorem dksX4_distribute_6 : cX4_distribute.data.toList.drop 142 = dktX4_distribute_6 := dk_seg dksX4_distribute_5 24 rfl rfl
theorem dksX4_distribute_7 : cX4_distribute.data.toList.drop 165 = dktX4_distribute_7 := dk_seg dksX4_distribute_6 23 rfl rfl
theorem dksX4_distribute_8 : cX4_distribute.data.toList.drop 189 = dktX4_distribute_8 := dk_seg dksX4_distribute_7 24 rfl rfl
theorem dX4_distribute_0 : decode cX4_distribute 0 = .ok (.aload_n 0, 1) := dk_42 (dk_at dksX4_distribute_0 0 rfl rfl)
theorem dX4_distribute_1 : decode cX4_distribute 1 = .ok (.iconst 0, 1) := dk_3 (dk_at dksX4_distribute_0 1 rfl rfl)
theorem dX4_distribute_2 : decode cX4_distribute 2 = .ok (.putfield 1, 3) := dk_181 0 1 (dk_at dksX4_distribute_0 2 rfl rfl)
theorem dX4_distribute_5 : decode cX4_distribute 5 = .ok (.iload_n 1, 1) := dk_27 (dk_at dksX4_distribute_0 5 rfl rfl)
theorem dX4_distribute_6 : decode cX4_distribute 6 = .ok (.i2l, 1) := dk_133 (dk_at dksX4_distribute_0 6 rfl rfl)
theorem dX4_distribute_7 : decode cX4_distribute 7 = .ok (.lconst 1, 1) := dk_10 (dk_at dksX4_distribute_0 7 rfl rfl)
theorem dX4_distribute_8 : decode cX4_distribute 8 = .ok (.ldc2_w 273, 3) := dk_20 1 17 (dk_at dksX4_distribute_0 8 rfl rfl)
theorem dX4_distribute_11 : decode cX4_distribute 11 = .ok (.invokestatic 168, 3) := dk_184 0 168 (dk_at dksX4_distribute_0 11 rfl rfl)
theorem dX4_distribute_14 : decode cX4_distribute 14 = .ok (.ifCond .ne 10, 3) := dk_154 0 10 (dk_at dksX4_distribute_0 14 rfl rfl)
theorem dX4_distribute_17 : decode cX4_distribute 17 = .ok (.aload_n 0, 1) := dk_42 (dk_at dksX4_distribute_0 17 rfl rfl)
theorem dX4_distribute_18 : decode cX4_distribute 18 = .ok (.iconst 1, 1) := dk_4 (dk_at dksX4_distribute_0 18 rfl rfl)
theorem dX4_distribute_19 : decode cX4_distribute 19 = .ok (.invokevirtual 342, 3) := dk_182 1 86 (dk_at dksX4_distribute_0 19 rfl rfl)
theorem dX4_distribute_22 : decode cX4_distribute 22 = .ok (.i2l, 1) := dk_133 (dk_at dksX4_distribute_0 22 rfl rfl)
theorem dX4_distribute_23 : decode cX4_distribute 23 = .ok (.lreturn, 1) := dk_173 (dk_at dksX4_distribute_0 23 rfl rfl)
theorem dX4_distribute_24 : decode cX4_distribute 24 = .ok (.lconst 0, 1) := dk_9 (dk_at dksX4_distribute_1 0 rfl rfl)
theorem dX4_distribute_25 : decode cX4_distribute 25 = .ok (.lstore_n 2, 1) := dk_65 (dk_at dksX4_distribute_1 1 rfl rfl)
theorem dX4_distribute_26 : decode cX4_distribute 26 = .ok (.lconst 0, 1) := dk_9 (dk_at dksX4_distribute_1 2 rfl rfl)
theorem dX4_distribute_27 : decode cX4_distribute 27 = .ok (.lstore 4, 2) := dk_55 4 (dk_at dksX4_distribute_1 3 rfl rfl)
theorem dX4_distribute_29 : decode cX4_distribute 29 = .ok (.iconst 0, 1) := dk_3 (dk_at dksX4_distribute_1 5 rfl rfl)
theorem dX4_distribute_30 : decode cX4_distribute 30 = .ok (.istore 6, 2) := dk_54 6 (dk_at dksX4_distribute_1 6 rfl rfl)
theorem dX4_distribute_32 : decode cX4_distribute 32 = .ok (.iload 6, 2) := dk_21 6 (dk_at dksX4_distribute_1 8 rfl rfl)
theorem dX4_distribute_34 : decode cX4_distribute 34 = .ok (.aload_n 0, 1) := dk_42 (dk_at dksX4_distribute_1 10 rfl rfl)
theorem dX4_distribute_35 : decode cX4_distribute 35 = .ok (.getfield 146, 3) := dk_180 0 146 (dk_at dksX4_distribute_1 11 rfl rfl)
theorem dX4_distribute_38 : decode cX4_distribute 38 = .ok (.if_icmp .ge 41, 3) := dk_162 0 41 (dk_at dksX4_distribute_1 14 rfl rfl)
theorem dX4_distribute_41 : decode cX4_distribute 41 = .ok (.lload_n 2, 1) := dk_32 (dk_at dksX4_distribute_1 17 rfl rfl)
theorem dX4_distribute_42 : decode cX4_distribute 42 = .ok (.aload_n 0, 1) := dk_42 (dk_at dksX4_distribute_1 18 rfl rfl)
theorem dX4_distribute_43 : decode cX4_distribute 43 = .ok (.iload 6, 2) := dk_21 6 (dk_at dksX4_distribute_1 19 rfl rfl)
theorem dX4_distribute_45 : decode cX4_distribute 45 = .ok (.invokevirtual 234, 3) := dk_182 0 234 (dk_at dksX4_distribute_1 21 rfl rfl)
theorem dX4_distribute_48 : decode cX4_distribute 48 = .ok (.ifCond .eq 22, 3) := dk_153 0 22 (dk_at dksX4_distribute_2 0 rfl rfl)
theorem dX4_distribute_51 : decode cX4_distribute 51 = .ok (.aload_n 0, 1) := dk_42 (dk_at dksX4_distribute_2 3 rfl rfl)
theorem dX4_distribute_52 : decode cX4_distribute 52 = .ok (.iload 6, 2) := dk_21 6 (dk_at dksX4_distribute_2 4 rfl rfl)
theorem dX4_distribute_54 : decode cX4_distribute 54 = .ok (.invokevirtual 263, 3) := dk_182 1 7 (dk_at dksX4_distribute_2 6 rfl rfl)
theorem dX4_distribute_57 : decode cX4_distribute 57 = .ok (.ifCond .eq 13, 3) := dk_153 0 13 (dk_at dksX4_distribute_2 9 rfl rfl)
theorem dX4_distribute_60 : decode cX4_distribute 60 = .ok (.aload_n 0, 1) := dk_42 (dk_at dksX4_distribute_2 12 rfl rfl)
theorem dX4_distribute_61 : decode cX4_distribute 61 = .ok (.getfield 73, 3) := dk_180 0 73 (dk_at dksX4_distribute_2 13 rfl rfl)
theorem dX4_distribute_64 : decode cX4_distribute 64 = .ok (.iload 6, 2) := dk_21 6 (dk_at dksX4_distribute_2 16 rfl rfl)
theorem dX4_distribute_66 : decode cX4_distribute 66 = .ok (.laload, 1) := dk_47 (dk_at dksX4_distribute_2 18 rfl rfl)
theorem dX4_distribute_67 : decode cX4_distribute 67 = .ok (.goto 4, 3) := dk_167 0 4 (dk_at dksX4_distribute_2 19 rfl rfl)
theorem dX4_distribute_70 : decode cX4_distribute 70 = .ok (.lconst 0, 1) := dk_9 (dk_at dksX4_distribute_2 22 rfl rfl)
theorem dX4_distribute_71 : decode cX4_distribute 71 = .ok (.ladd, 1) := dk_97 (dk_at dksX4_distribute_2 23 rfl rfl)
theorem dX4_distribute_72 : decode cX4_distribute 72 = .ok (.lstore_n 2, 1) := dk_65 (dk_at dksX4_distribute_3 0 rfl rfl)
theorem dX4_distribute_73 : decode cX4_distribute 73 = .ok (.iinc 6 1, 3) := dk_132 6 1 (dk_at dksX4_distribute_3 1 rfl rfl)
theorem dX4_distribute_76 : decode cX4_distribute 76 = .ok (.goto (-44), 3) := dk_167 255 212 (dk_at dksX4_distribute_3 4 rfl rfl)
theorem dX4_distribute_79 : decode cX4_distribute 79 = .ok (.aload_n 0, 1) := dk_42 (dk_at dksX4_distribute_3 7 rfl rfl)
theorem dX4_distribute_80 : decode cX4_distribute 80 = .ok (.getfield 156, 3) := dk_180 0 156 (dk_at dksX4_distribute_3 8 rfl rfl)
theorem dX4_distribute_83 : decode cX4_distribute 83 = .ok (.ifCond .eq 19, 3) := dk_153 0 19 (dk_at dksX4_distribute_3 11 rfl rfl)
theorem dX4_distribute_86 : decode cX4_distribute 86 = .ok (.iload_n 1, 1) := dk_27 (dk_at dksX4_distribute_3 14 rfl rfl)
theorem dX4_distribute_87 : decode cX4_distribute 87 = .ok (.i2l, 1) := dk_133 (dk_at dksX4_distribute_3 15 rfl rfl)
theorem dX4_distribute_88 : decode cX4_distribute 88 = .ok (.aload_n 0, 1) := dk_42 (dk_at dksX4_distribute_3 16 rfl rfl)
theorem dX4_distribute_89 : decode cX4_distribute 89 = .ok (.invokevirtual 361, 3) := dk_182 1 105 (dk_at dksX4_distribute_3 17 rfl rfl)
theorem dX4_distribute_92 : decode cX4_distribute 92 = .ok (.lcmp, 1) := dk_148 (dk_at dksX4_distribute_3 20 rfl rfl)
theorem dX4_distribute_93 : decode cX4_distribute 93 = .ok (.ifCond .gt 9, 3) := dk_157 0 9 (dk_at dksX4_distribute_3 21 rfl rfl)
theorem dX4_distribute_96 : decode cX4_distribute 96 = .ok (.lload_n 2, 1) := dk_32 (dk_at dksX4_distribute_4 0 rfl rfl)
theorem dX4_distribute_97 : decode cX4_distribute 97 = .ok (.lconst 0, 1) := dk_9 (dk_at dksX4_distribute_4 1 rfl rfl)
theorem dX4_distribute_98 : decode cX4_distribute 98 = .ok (.lcmp, 1) := dk_148 (dk_at dksX4_distribute_4 2 rfl rfl)
theorem dX4_distribute_99 : decode cX4_distribute 99 = .ok (.ifCond .ne 10, 3) := dk_154 0 10 (dk_at dksX4_distribute_4 3 rfl rfl)
theorem dX4_distribute_102 : decode cX4_distribute 102 = .ok (.aload_n 0, 1) := dk_42 (dk_at dksX4_distribute_4 6 rfl rfl)
theorem dX4_distribute_103 : decode cX4_distribute 103 = .ok (.iconst 2, 1) := dk_5 (dk_at dksX4_distribute_4 7 rfl rfl)
theorem dX4_distribute_104 : decode cX4_distribute 104 = .ok (.invokevirtual 342, 3) := dk_182 1 86 (dk_at dksX4_distribute_4 8 rfl rfl)
theorem dX4_distribute_107 : decode cX4_distribute 107 = .ok (.i2l, 1) := dk_133 (dk_at dksX4_distribute_4 11 rfl rfl)
theorem dX4_distribute_108 : decode cX4_distribute 108 = .ok (.lreturn, 1) := dk_173 (dk_at dksX4_distribute_4 12 rfl rfl)
theorem dX4_distribute_109 : decode cX4_distribute 109 = .ok (.iconst 0, 1) := dk_3 (dk_at dksX4_distribute_4 13 rfl rfl)
theorem dX4_distribute_110 : decode cX4_distribute 110 = .ok (.istore 6, 2) := dk_54 6 (dk_at dksX4_distribute_4 14 rfl rfl)
theorem dX4_distribute_112 : decode cX4_distribute 112 = .ok (.iload 6, 2) := dk_21 6 (dk_at dksX4_distribute_4 16 rfl rfl)
theorem dX4_distribute_114 : decode cX4_distribute 114 = .ok (.aload_n 0, 1) := dk_42 (dk_at dksX4_distribute_4 18 rfl rfl)
theorem dX4_distribute_115 : decode cX4_distribute 115 = .ok (.getfield 146, 3) := dk_180 0 146 (dk_at dksX4_distribute_4 19 rfl rfl)
theorem dX4_distribute_118 : decode cX4_distribute 118 = .ok (.if_icmp .ge 74, 3) := dk_162 0 74 (dk_at dksX4_distribute_5 0 rfl rfl)
theorem dX4_distribute_121 : decode cX4_distribute 121 = .ok (.aload_n 0, 1) := dk_42 (dk_at dksX4_distribute_5 3 rfl rfl)
theorem dX4_distribute_122 : decode cX4_distribute 122 = .ok (.iload 6, 2) := dk_21 6 (dk_at dksX4_distribute_5 4 rfl rfl)
theorem dX4_distribute_124 : decode cX4_distribute 124 = .ok (.invokevirtual 234, 3) := dk_182 0 234 (dk_at dksX4_distribute_5 6 rfl rfl)
theorem dX4_distribute_127 : decode cX4_distribute 127 = .ok (.ifCond .eq 59, 3) := dk_153 0 59 (dk_at dksX4_distribute_5 9 rfl rfl)
theorem dX4_distribute_130 : decode cX4_distribute 130 = .ok (.aload_n 0, 1) := dk_42 (dk_at dksX4_distribute_5 12 rfl rfl)
theorem dX4_distribute_131 : decode cX4_distribute 131 = .ok (.iload 6, 2) := dk_21 6 (dk_at dksX4_distribute_5 13 rfl rfl)
theorem dX4_distribute_133 : decode cX4_distribute 133 = .ok (.invokevirtual 263, 3) := dk_182 1 7 (dk_at dksX4_distribute_5 15 rfl rfl)
theorem dX4_distribute_136 : decode cX4_distribute 136 = .ok (.ifCond .eq 50, 3) := dk_153 0 50 (dk_at dksX4_distribute_5 18 rfl rfl)
theorem dX4_distribute_139 : decode cX4_distribute 139 = .ok (.ldc2_w 273, 3) := dk_20 1 17 (dk_at dksX4_distribute_5 21 rfl rfl)
theorem dX4_distribute_142 : decode cX4_distribute 142 = .ok (.aload_n 0, 1) := dk_42 (dk_at dksX4_distribute_6 0 rfl rfl)
theorem dX4_distribute_143 : decode cX4_distribute 143 = .ok (.getfield 73, 3) := dk_180 0 73 (dk_at dksX4_distribute_6 1 rfl rfl)
theorem dX4_distribute_146 : decode cX4_distribute 146 = .ok (.iload 6, 2) := dk_21 6 (dk_at dksX4_distribute_6 4 rfl rfl)
theorem dX4_distribute_148 : decode cX4_distribute 148 = .ok (.laload, 1) := dk_47 (dk_at dksX4_distribute_6 6 rfl rfl)
theorem dX4_distribute_149 : decode cX4_distribute 149 = .ok (.lsub, 1) := dk_101 (dk_at dksX4_distribute_6 7 rfl rfl)
theorem dX4_distribute_150 : decode cX4_distribute 150 = .ok (.iload_n 1, 1) := dk_27 (dk_at dksX4_distribute_6 8 rfl rfl)
theorem dX4_distribute_151 : decode cX4_distribute 151 = .ok (.i2l, 1) := dk_133 (dk_at dksX4_distribute_6 9 rfl rfl)
theorem dX4_distribute_152 : decode cX4_distribute 152 = .ok (.aload_n 0, 1) := dk_42 (dk_at dksX4_distribute_6 10 rfl rfl)
theorem dX4_distribute_153 : decode cX4_distribute 153 = .ok (.getfield 73, 3) := dk_180 0 73 (dk_at dksX4_distribute_6 11 rfl rfl)
theorem dX4_distribute_156 : decode cX4_distribute 156 = .ok (.iload 6, 2) := dk_21 6 (dk_at dksX4_distribute_6 14 rfl rfl)
theorem dX4_distribute_158 : decode cX4_distribute 158 = .ok (.laload, 1) := dk_47 (dk_at dksX4_distribute_6 16 rfl rfl)
theorem dX4_distribute_159 : decode cX4_distribute 159 = .ok (.lmul, 1) := dk_105 (dk_at dksX4_distribute_6 17 rfl rfl)
theorem dX4_distribute_160 : decode cX4_distribute 160 = .ok (.lload_n 2, 1) := dk_32 (dk_at dksX4_distribute_6 18 rfl rfl)
theorem dX4_distribute_161 : decode cX4_distribute 161 = .ok (.ldiv, 1) := dk_109 (dk_at dksX4_distribute_6 19 rfl rfl)
theorem dX4_distribute_162 : decode cX4_distribute 162 = .ok (.invokestatic 198, 3) := dk_184 0 198 (dk_at dksX4_distribute_6 20 rfl rfl)
theorem dX4_distribute_165 : decode cX4_distribute 165 = .ok (.lstore 7, 2) := dk_55 7 (dk_at dksX4_distribute_7 0 rfl rfl)
theorem dX4_distribute_167 : decode cX4_distribute 167 = .ok (.aload_n 0, 1) := dk_42 (dk_at dksX4_distribute_7 2 rfl rfl)
theorem dX4_distribute_168 : decode cX4_distribute 168 = .ok (.getfield 73, 3) := dk_180 0 73 (dk_at dksX4_distribute_7 3 rfl rfl)
theorem dX4_distribute_171 : decode cX4_distribute 171 = .ok (.iload 6, 2) := dk_21 6 (dk_at dksX4_distribute_7 6 rfl rfl)
theorem dX4_distribute_173 : decode cX4_distribute 173 = .ok (.dup2, 1) := dk_92 (dk_at dksX4_distribute_7 8 rfl rfl)
theorem dX4_distribute_174 : decode cX4_distribute 174 = .ok (.laload, 1) := dk_47 (dk_at dksX4_distribute_7 9 rfl rfl)
theorem dX4_distribute_175 : decode cX4_distribute 175 = .ok (.lload 7, 2) := dk_22 7 (dk_at dksX4_distribute_7 10 rfl rfl)
theorem dX4_distribute_177 : decode cX4_distribute 177 = .ok (.ladd, 1) := dk_97 (dk_at dksX4_distribute_7 12 rfl rfl)
theorem dX4_distribute_178 : decode cX4_distribute 178 = .ok (.lastore, 1) := dk_80 (dk_at dksX4_distribute_7 13 rfl rfl)
theorem dX4_distribute_179 : decode cX4_distribute 179 = .ok (.lload 4, 2) := dk_22 4 (dk_at dksX4_distribute_7 14 rfl rfl)
theorem dX4_distribute_181 : decode cX4_distribute 181 = .ok (.lload 7, 2) := dk_22 7 (dk_at dksX4_distribute_7 16 rfl rfl)
theorem dX4_distribute_183 : decode cX4_distribute 183 = .ok (.ladd, 1) := dk_97 (dk_at dksX4_distribute_7 18 rfl rfl)
theorem dX4_distribute_184 : decode cX4_distribute 184 = .ok (.lstore 4, 2) := dk_55 4 (dk_at dksX4_distribute_7 19 rfl rfl)
theorem dX4_distribute_186 : decode cX4_distribute 186 = .ok (.iinc 6 1, 3) := dk_132 6 1 (dk_at dksX4_distribute_7 21 rfl rfl)
theorem dX4_distribute_189 : decode cX4_distribute 189 = .ok (.goto (-77), 3) := dk_167 255 179 (dk_at dksX4_distribute_8 0 rfl rfl)
theorem dX4_distribute_192 : decode cX4_distribute 192 = .ok (.lload 4, 2) := dk_22 4 (dk_at dksX4_distribute_8 3 rfl rfl)
theorem dX4_distribute_194 : decode cX4_distribute 194 = .ok (.lreturn, 1) := dk_173 (dk_at dksX4_distribute_8 5 rfl rfl)
abbrev cX4_generation : ByteArray := prog_12_method_88_code
def yX4_generation : MethodName := ⟨RX4, "generation", "(II)J"⟩
def dkwX4_generation_5 : List UInt8 := [132, 5, 1, 167, 255, 186, 33, 173]
abbrev dktX4_generation_5 : List UInt8 := dkwX4_generation_5 ++ []
def dkwX4_generation_4 : List UInt8 := [160, 0, 13, 42, 180, 0, 82, 21, 5, 47, 167, 0, 10, 42, 180, 0, 85, 21, 5, 47, 97, 66]
abbrev dktX4_generation_4 : List UInt8 := dkwX4_generation_4 ++ dktX4_generation_5
def dkwX4_generation_3 : List UInt8 := [16, 9, 96, 133, 184, 0, 168, 154, 0, 7, 9, 167, 0, 33, 28, 154, 0, 7, 10, 167, 0, 25, 28, 4]
abbrev dktX4_generation_3 : List UInt8 := dkwX4_generation_3 ++ dktX4_generation_4
def dkwX4_generation_2 : List UInt8 := [3, 54, 5, 21, 5, 42, 180, 0, 146, 162, 0, 67, 33, 42, 180, 0, 43, 21, 5, 46, 133, 27, 133, 27]
abbrev dktX4_generation_2 : List UInt8 := dkwX4_generation_2 ++ dktX4_generation_3
def dkwX4_generation_1 : List UInt8 := [154, 0, 15, 28, 133, 9, 20, 0, 172, 184, 0, 168, 154, 0, 10, 42, 4, 182, 1, 86, 133, 173, 9, 66]
abbrev dktX4_generation_1 : List UInt8 := dkwX4_generation_1 ++ dktX4_generation_2
def dkwX4_generation_0 : List UInt8 := [42, 3, 181, 0, 1, 27, 133, 20, 1, 82, 20, 1, 101, 184, 0, 168, 153, 0, 22, 27, 16, 10, 112]
abbrev dktX4_generation_0 : List UInt8 := dkwX4_generation_0 ++ dktX4_generation_1
theorem dksX4_generation_0 : cX4_generation.data.toList.drop 0 = dktX4_generation_0 := by decide +kernel
theorem dksX4_generation_1 : cX4_generation.data.toList.drop 23 = dktX4_generation_1 := dk_seg dksX4_generation_0 23 rfl rfl
theorem dksX4_generation_2 : cX4_generation.data.toList.drop 47 = dktX4_generation_2 := dk_seg dksX4_generation_1 24 rfl rfl
theorem dksX4_generation_3 : cX4_generation.data.toList.drop 71 = dktX4_generation_3 := dk_seg dksX4_generation_2 24 rfl rfl
theorem dksX4_generation_4 : cX4_generation.data.toList.drop 95 = dktX4_generation_4 := dk_seg dksX4_generation_3 24 rfl rfl
theorem dksX4_generation_5 : cX4_generation.data.toList.drop 117 = dktX4_generation_5 := dk_seg dksX4_generation_4 22 rfl rfl
theorem dX4_generation_0 : decode cX4_generation 0 = .ok (.aload_n 0, 1) := dk_42 (dk_at dksX4_generation_0 0 rfl rfl)
theorem dX4_generation_1 : decode cX4_generation 1 = .ok (.iconst 0, 1) := dk_3 (dk_at dksX4_generation_0 1 rfl rfl)
theorem dX4_generation_2 : decode cX4_generation 2 = .ok (.putfield 1, 3) := dk_181 0 1 (dk_at dksX4_generation_0 2 rfl rfl)
theorem dX4_generation_5 : decode cX4_generation 5 = .ok (.iload_n 1, 1) := dk_27 (dk_at dksX4_generation_0 5 rfl rfl)
theorem dX4_generation_6 : decode cX4_generation 6 = .ok (.i2l, 1) := dk_133 (dk_at dksX4_generation_0 6 rfl rfl)
theorem dX4_generation_7 : decode cX4_generation 7 = .ok (.ldc2_w 338, 3) := dk_20 1 82 (dk_at dksX4_generation_0 7 rfl rfl)
theorem dX4_generation_10 : decode cX4_generation 10 = .ok (.ldc2_w 357, 3) := dk_20 1 101 (dk_at dksX4_generation_0 10 rfl rfl)
theorem dX4_generation_13 : decode cX4_generation 13 = .ok (.invokestatic 168, 3) := dk_184 0 168 (dk_at dksX4_generation_0 13 rfl rfl)
theorem dX4_generation_16 : decode cX4_generation 16 = .ok (.ifCond .eq 22, 3) := dk_153 0 22 (dk_at dksX4_generation_0 16 rfl rfl)
theorem dX4_generation_19 : decode cX4_generation 19 = .ok (.iload_n 1, 1) := dk_27 (dk_at dksX4_generation_0 19 rfl rfl)
theorem dX4_generation_20 : decode cX4_generation 20 = .ok (.bipush 10, 2) := dk_16 10 (dk_at dksX4_generation_0 20 rfl rfl)
theorem dX4_generation_22 : decode cX4_generation 22 = .ok (.irem, 1) := dk_112 (dk_at dksX4_generation_0 22 rfl rfl)
theorem dX4_generation_23 : decode cX4_generation 23 = .ok (.ifCond .ne 15, 3) := dk_154 0 15 (dk_at dksX4_generation_1 0 rfl rfl)
theorem dX4_generation_26 : decode cX4_generation 26 = .ok (.iload_n 2, 1) := dk_28 (dk_at dksX4_generation_1 3 rfl rfl)
theorem dX4_generation_27 : decode cX4_generation 27 = .ok (.i2l, 1) := dk_133 (dk_at dksX4_generation_1 4 rfl rfl)
theorem dX4_generation_28 : decode cX4_generation 28 = .ok (.lconst 0, 1) := dk_9 (dk_at dksX4_generation_1 5 rfl rfl)
theorem dX4_generation_29 : decode cX4_generation 29 = .ok (.ldc2_w 172, 3) := dk_20 0 172 (dk_at dksX4_generation_1 6 rfl rfl)
theorem dX4_generation_32 : decode cX4_generation 32 = .ok (.invokestatic 168, 3) := dk_184 0 168 (dk_at dksX4_generation_1 9 rfl rfl)
theorem dX4_generation_35 : decode cX4_generation 35 = .ok (.ifCond .ne 10, 3) := dk_154 0 10 (dk_at dksX4_generation_1 12 rfl rfl)
theorem dX4_generation_38 : decode cX4_generation 38 = .ok (.aload_n 0, 1) := dk_42 (dk_at dksX4_generation_1 15 rfl rfl)
theorem dX4_generation_39 : decode cX4_generation 39 = .ok (.iconst 1, 1) := dk_4 (dk_at dksX4_generation_1 16 rfl rfl)
theorem dX4_generation_40 : decode cX4_generation 40 = .ok (.invokevirtual 342, 3) := dk_182 1 86 (dk_at dksX4_generation_1 17 rfl rfl)
theorem dX4_generation_43 : decode cX4_generation 43 = .ok (.i2l, 1) := dk_133 (dk_at dksX4_generation_1 20 rfl rfl)
theorem dX4_generation_44 : decode cX4_generation 44 = .ok (.lreturn, 1) := dk_173 (dk_at dksX4_generation_1 21 rfl rfl)
theorem dX4_generation_45 : decode cX4_generation 45 = .ok (.lconst 0, 1) := dk_9 (dk_at dksX4_generation_1 22 rfl rfl)
theorem dX4_generation_46 : decode cX4_generation 46 = .ok (.lstore_n 3, 1) := dk_66 (dk_at dksX4_generation_1 23 rfl rfl)
theorem dX4_generation_47 : decode cX4_generation 47 = .ok (.iconst 0, 1) := dk_3 (dk_at dksX4_generation_2 0 rfl rfl)
theorem dX4_generation_48 : decode cX4_generation 48 = .ok (.istore 5, 2) := dk_54 5 (dk_at dksX4_generation_2 1 rfl rfl)
theorem dX4_generation_50 : decode cX4_generation 50 = .ok (.iload 5, 2) := dk_21 5 (dk_at dksX4_generation_2 3 rfl rfl)
theorem dX4_generation_52 : decode cX4_generation 52 = .ok (.aload_n 0, 1) := dk_42 (dk_at dksX4_generation_2 5 rfl rfl)
theorem dX4_generation_53 : decode cX4_generation 53 = .ok (.getfield 146, 3) := dk_180 0 146 (dk_at dksX4_generation_2 6 rfl rfl)
theorem dX4_generation_56 : decode cX4_generation 56 = .ok (.if_icmp .ge 67, 3) := dk_162 0 67 (dk_at dksX4_generation_2 9 rfl rfl)
theorem dX4_generation_59 : decode cX4_generation 59 = .ok (.lload_n 3, 1) := dk_33 (dk_at dksX4_generation_2 12 rfl rfl)
theorem dX4_generation_60 : decode cX4_generation 60 = .ok (.aload_n 0, 1) := dk_42 (dk_at dksX4_generation_2 13 rfl rfl)
theorem dX4_generation_61 : decode cX4_generation 61 = .ok (.getfield 43, 3) := dk_180 0 43 (dk_at dksX4_generation_2 14 rfl rfl)
theorem dX4_generation_64 : decode cX4_generation 64 = .ok (.iload 5, 2) := dk_21 5 (dk_at dksX4_generation_2 17 rfl rfl)
theorem dX4_generation_66 : decode cX4_generation 66 = .ok (.iaload, 1) := dk_46 (dk_at dksX4_generation_2 19 rfl rfl)
theorem dX4_generation_67 : decode cX4_generation 67 = .ok (.i2l, 1) := dk_133 (dk_at dksX4_generation_2 20 rfl rfl)
theorem dX4_generation_68 : decode cX4_generation 68 = .ok (.iload_n 1, 1) := dk_27 (dk_at dksX4_generation_2 21 rfl rfl)
theorem dX4_generation_69 : decode cX4_generation 69 = .ok (.i2l, 1) := dk_133 (dk_at dksX4_generation_2 22 rfl rfl)
theorem dX4_generation_70 : decode cX4_generation 70 = .ok (.iload_n 1, 1) := dk_27 (dk_at dksX4_generation_2 23 rfl rfl)
theorem dX4_generation_71 : decode cX4_generation 71 = .ok (.bipush 9, 2) := dk_16 9 (dk_at dksX4_generation_3 0 rfl rfl)
theorem dX4_generation_73 : decode cX4_generation 73 = .ok (.iadd, 1) := dk_96 (dk_at dksX4_generation_3 2 rfl rfl)
theorem dX4_generation_74 : decode cX4_generation 74 = .ok (.i2l, 1) := dk_133 (dk_at dksX4_generation_3 3 rfl rfl)
theorem dX4_generation_75 : decode cX4_generation 75 = .ok (.invokestatic 168, 3) := dk_184 0 168 (dk_at dksX4_generation_3 4 rfl rfl)
theorem dX4_generation_78 : decode cX4_generation 78 = .ok (.ifCond .ne 7, 3) := dk_154 0 7 (dk_at dksX4_generation_3 7 rfl rfl)
theorem dX4_generation_81 : decode cX4_generation 81 = .ok (.lconst 0, 1) := dk_9 (dk_at dksX4_generation_3 10 rfl rfl)
theorem dX4_generation_82 : decode cX4_generation 82 = .ok (.goto 33, 3) := dk_167 0 33 (dk_at dksX4_generation_3 11 rfl rfl)
theorem dX4_generation_85 : decode cX4_generation 85 = .ok (.iload_n 2, 1) := dk_28 (dk_at dksX4_generation_3 14 rfl rfl)
theorem dX4_generation_86 : decode cX4_generation 86 = .ok (.ifCond .ne 7, 3) := dk_154 0 7 (dk_at dksX4_generation_3 15 rfl rfl)
theorem dX4_generation_89 : decode cX4_generation 89 = .ok (.lconst 1, 1) := dk_10 (dk_at dksX4_generation_3 18 rfl rfl)
theorem dX4_generation_90 : decode cX4_generation 90 = .ok (.goto 25, 3) := dk_167 0 25 (dk_at dksX4_generation_3 19 rfl rfl)
theorem dX4_generation_93 : decode cX4_generation 93 = .ok (.iload_n 2, 1) := dk_28 (dk_at dksX4_generation_3 22 rfl rfl)
theorem dX4_generation_94 : decode cX4_generation 94 = .ok (.iconst 1, 1) := dk_4 (dk_at dksX4_generation_3 23 rfl rfl)
theorem dX4_generation_95 : decode cX4_generation 95 = .ok (.if_icmp .ne 13, 3) := dk_160 0 13 (dk_at dksX4_generation_4 0 rfl rfl)
theorem dX4_generation_98 : decode cX4_generation 98 = .ok (.aload_n 0, 1) := dk_42 (dk_at dksX4_generation_4 3 rfl rfl)
theorem dX4_generation_99 : decode cX4_generation 99 = .ok (.getfield 82, 3) := dk_180 0 82 (dk_at dksX4_generation_4 4 rfl rfl)
theorem dX4_generation_102 : decode cX4_generation 102 = .ok (.iload 5, 2) := dk_21 5 (dk_at dksX4_generation_4 7 rfl rfl)
theorem dX4_generation_104 : decode cX4_generation 104 = .ok (.laload, 1) := dk_47 (dk_at dksX4_generation_4 9 rfl rfl)
theorem dX4_generation_105 : decode cX4_generation 105 = .ok (.goto 10, 3) := dk_167 0 10 (dk_at dksX4_generation_4 10 rfl rfl)
theorem dX4_generation_108 : decode cX4_generation 108 = .ok (.aload_n 0, 1) := dk_42 (dk_at dksX4_generation_4 13 rfl rfl)
theorem dX4_generation_109 : decode cX4_generation 109 = .ok (.getfield 85, 3) := dk_180 0 85 (dk_at dksX4_generation_4 14 rfl rfl)
theorem dX4_generation_112 : decode cX4_generation 112 = .ok (.iload 5, 2) := dk_21 5 (dk_at dksX4_generation_4 17 rfl rfl)
theorem dX4_generation_114 : decode cX4_generation 114 = .ok (.laload, 1) := dk_47 (dk_at dksX4_generation_4 19 rfl rfl)
theorem dX4_generation_115 : decode cX4_generation 115 = .ok (.ladd, 1) := dk_97 (dk_at dksX4_generation_4 20 rfl rfl)
theorem dX4_generation_116 : decode cX4_generation 116 = .ok (.lstore_n 3, 1) := dk_66 (dk_at dksX4_generation_4 21 rfl rfl)
theorem dX4_generation_117 : decode cX4_generation 117 = .ok (.iinc 5 1, 3) := dk_132 5 1 (dk_at dksX4_generation_5 0 rfl rfl)
theorem dX4_generation_120 : decode cX4_generation 120 = .ok (.goto (-70), 3) := dk_167 255 186 (dk_at dksX4_generation_5 3 rfl rfl)
theorem dX4_generation_123 : decode cX4_generation 123 = .ok (.lload_n 3, 1) := dk_33 (dk_at dksX4_generation_5 6 rfl rfl)
theorem dX4_generation_124 : decode cX4_generation 124 = .ok (.lreturn, 1) := dk_173 (dk_at dksX4_generation_5 7 rfl rfl)
abbrev cX4_errors : ByteArray := prog_12_method_89_code
def yX4_errors : MethodName := ⟨RX4, "errors", "()I"⟩
def dkwX4_errors_0 : List UInt8 := [42, 3, 181, 0, 1, 3, 172]
abbrev dktX4_errors_0 : List UInt8 := dkwX4_errors_0 ++ []
theorem dksX4_errors_0 : cX4_errors.data.toList.drop 0 = dktX4_errors_0 := by decide +kernel
theorem dX4_errors_0 : decode cX4_errors 0 = .ok (.aload_n 0, 1) := dk_42 (dk_at dksX4_errors_0 0 rfl rfl)
theorem dX4_errors_1 : decode cX4_errors 1 = .ok (.iconst 0, 1) := dk_3 (dk_at dksX4_errors_0 1 rfl rfl)
theorem dX4_errors_2 : decode cX4_errors 2 = .ok (.putfield 1, 3) := dk_181 0 1 (dk_at dksX4_errors_0 2 rfl rfl)
theorem dX4_errors_5 : decode cX4_errors 5 = .ok (.iconst 0, 1) := dk_3 (dk_at dksX4_errors_0 5 rfl rfl)
theorem dX4_errors_6 : decode cX4_errors 6 = .ok (.ireturn, 1) := dk_172 (dk_at dksX4_errors_0 6 rfl rfl)
abbrev cX4_cover : ByteArray := prog_12_method_90_code
def yX4_cover : MethodName := ⟨RX4, "cover", "()D"⟩
def dkwX4_cover_1 : List UInt8 := [182, 1, 0, 138, 31, 138, 111, 175]
abbrev dktX4_cover_1 : List UInt8 := dkwX4_cover_1 ++ []
def dkwX4_cover_0 : List UInt8 := [42, 3, 181, 0, 1, 42, 3, 182, 1, 3, 64, 31, 9, 148, 154, 0, 7, 14, 167, 0, 11, 42]
abbrev dktX4_cover_0 : List UInt8 := dkwX4_cover_0 ++ dktX4_cover_1
theorem dksX4_cover_0 : cX4_cover.data.toList.drop 0 = dktX4_cover_0 := by decide +kernel
theorem dksX4_cover_1 : cX4_cover.data.toList.drop 22 = dktX4_cover_1 := dk_seg dksX4_cover_0 22 rfl rfl
theorem dX4_cover_0 : decode cX4_cover 0 = .ok (.aload_n 0, 1) := dk_42 (dk_at dksX4_cover_0 0 rfl rfl)
theorem dX4_cover_1 : decode cX4_cover 1 = .ok (.iconst 0, 1) := dk_3 (dk_at dksX4_cover_0 1 rfl rfl)
theorem dX4_cover_2 : decode cX4_cover 2 = .ok (.putfield 1, 3) := dk_181 0 1 (dk_at dksX4_cover_0 2 rfl rfl)
theorem dX4_cover_5 : decode cX4_cover 5 = .ok (.aload_n 0, 1) := dk_42 (dk_at dksX4_cover_0 5 rfl rfl)
theorem dX4_cover_6 : decode cX4_cover 6 = .ok (.iconst 0, 1) := dk_3 (dk_at dksX4_cover_0 6 rfl rfl)
theorem dX4_cover_7 : decode cX4_cover 7 = .ok (.invokevirtual 259, 3) := dk_182 1 3 (dk_at dksX4_cover_0 7 rfl rfl)
theorem dX4_cover_10 : decode cX4_cover 10 = .ok (.lstore_n 1, 1) := dk_64 (dk_at dksX4_cover_0 10 rfl rfl)
theorem dX4_cover_11 : decode cX4_cover 11 = .ok (.lload_n 1, 1) := dk_31 (dk_at dksX4_cover_0 11 rfl rfl)
theorem dX4_cover_12 : decode cX4_cover 12 = .ok (.lconst 0, 1) := dk_9 (dk_at dksX4_cover_0 12 rfl rfl)
theorem dX4_cover_13 : decode cX4_cover 13 = .ok (.lcmp, 1) := dk_148 (dk_at dksX4_cover_0 13 rfl rfl)
theorem dX4_cover_14 : decode cX4_cover 14 = .ok (.ifCond .ne 7, 3) := dk_154 0 7 (dk_at dksX4_cover_0 14 rfl rfl)
theorem dX4_cover_17 : decode cX4_cover 17 = .ok (.dconst 0, 1) := dk_14 (dk_at dksX4_cover_0 17 rfl rfl)
theorem dX4_cover_18 : decode cX4_cover 18 = .ok (.goto 11, 3) := dk_167 0 11 (dk_at dksX4_cover_0 18 rfl rfl)
theorem dX4_cover_21 : decode cX4_cover 21 = .ok (.aload_n 0, 1) := dk_42 (dk_at dksX4_cover_0 21 rfl rfl)
theorem dX4_cover_22 : decode cX4_cover 22 = .ok (.invokevirtual 256, 3) := dk_182 1 0 (dk_at dksX4_cover_1 0 rfl rfl)
theorem dX4_cover_25 : decode cX4_cover 25 = .ok (.l2d, 1) := dk_138 (dk_at dksX4_cover_1 3 rfl rfl)
theorem dX4_cover_26 : decode cX4_cover 26 = .ok (.lload_n 1, 1) := dk_31 (dk_at dksX4_cover_1 4 rfl rfl)
theorem dX4_cover_27 : decode cX4_cover 27 = .ok (.l2d, 1) := dk_138 (dk_at dksX4_cover_1 5 rfl rfl)
theorem dX4_cover_28 : decode cX4_cover 28 = .ok (.ddiv, 1) := dk_111 (dk_at dksX4_cover_1 6 rfl rfl)
theorem dX4_cover_29 : decode cX4_cover 29 = .ok (.dreturn, 1) := dk_175 (dk_at dksX4_cover_1 7 rfl rfl)
abbrev cX4_meanAge : ByteArray := prog_12_method_91_code
def yX4_meanAge : MethodName := ⟨RX4, "meanAge", "()F"⟩
def dkwX4_meanAge_2 : List UInt8 := [132, 3, 1, 167, 255, 219, 28, 154, 0, 7, 11, 167, 0, 8, 27, 134, 28, 134, 110, 174]
abbrev dktX4_meanAge_2 : List UInt8 := dkwX4_meanAge_2 ++ []
def dkwX4_meanAge_1 : List UInt8 := [29, 182, 0, 234, 153, 0, 17, 42, 180, 0, 114, 42, 180, 0, 34, 29, 46, 100, 167, 0, 4, 3, 96, 60]
abbrev dktX4_meanAge_1 : List UInt8 := dkwX4_meanAge_1 ++ dktX4_meanAge_2
def dkwX4_meanAge_0 : List UInt8 := [42, 3, 181, 0, 1, 3, 60, 42, 182, 1, 156, 61, 3, 62, 29, 42, 180, 0, 146, 162, 0, 35, 27, 42]
abbrev dktX4_meanAge_0 : List UInt8 := dkwX4_meanAge_0 ++ dktX4_meanAge_1
theorem dksX4_meanAge_0 : cX4_meanAge.data.toList.drop 0 = dktX4_meanAge_0 := by decide +kernel
theorem dksX4_meanAge_1 : cX4_meanAge.data.toList.drop 24 = dktX4_meanAge_1 := dk_seg dksX4_meanAge_0 24 rfl rfl
theorem dksX4_meanAge_2 : cX4_meanAge.data.toList.drop 48 = dktX4_meanAge_2 := dk_seg dksX4_meanAge_1 24 rfl rfl
theorem dX4_meanAge_0 : decode cX4_meanAge 0 = .ok (.aload_n 0, 1) := dk_42 (dk_at dksX4_meanAge_0 0 rfl rfl)
theorem dX4_meanAge_1 : decode cX4_meanAge 1 = .ok (.iconst 0, 1) := dk_3 (dk_at dksX4_meanAge_0 1 rfl rfl)
theorem dX4_meanAge_2 : decode cX4_meanAge 2 = .ok (.putfield 1, 3) := dk_181 0 1 (dk_at dksX4_meanAge_0 2 rfl rfl)
theorem dX4_meanAge_5 : decode cX4_meanAge 5 = .ok (.iconst 0, 1) := dk_3 (dk_at dksX4_meanAge_0 5 rfl rfl)
theorem dX4_meanAge_6 : decode cX4_meanAge 6 = .ok (.istore_n 1, 1) := dk_60 (dk_at dksX4_meanAge_0 6 rfl rfl)
theorem dX4_meanAge_7 : decode cX4_meanAge 7 = .ok (.aload_n 0, 1) := dk_42 (dk_at dksX4_meanAge_0 7 rfl rfl)
theorem dX4_meanAge_8 : decode cX4_meanAge 8 = .ok (.invokevirtual 412, 3) := dk_182 1 156 (dk_at dksX4_meanAge_0 8 rfl rfl)
theorem dX4_meanAge_11 : decode cX4_meanAge 11 = .ok (.istore_n 2, 1) := dk_61 (dk_at dksX4_meanAge_0 11 rfl rfl)
theorem dX4_meanAge_12 : decode cX4_meanAge 12 = .ok (.iconst 0, 1) := dk_3 (dk_at dksX4_meanAge_0 12 rfl rfl)
theorem dX4_meanAge_13 : decode cX4_meanAge 13 = .ok (.istore_n 3, 1) := dk_62 (dk_at dksX4_meanAge_0 13 rfl rfl)
theorem dX4_meanAge_14 : decode cX4_meanAge 14 = .ok (.iload_n 3, 1) := dk_29 (dk_at dksX4_meanAge_0 14 rfl rfl)
theorem dX4_meanAge_15 : decode cX4_meanAge 15 = .ok (.aload_n 0, 1) := dk_42 (dk_at dksX4_meanAge_0 15 rfl rfl)
theorem dX4_meanAge_16 : decode cX4_meanAge 16 = .ok (.getfield 146, 3) := dk_180 0 146 (dk_at dksX4_meanAge_0 16 rfl rfl)
theorem dX4_meanAge_19 : decode cX4_meanAge 19 = .ok (.if_icmp .ge 35, 3) := dk_162 0 35 (dk_at dksX4_meanAge_0 19 rfl rfl)
theorem dX4_meanAge_22 : decode cX4_meanAge 22 = .ok (.iload_n 1, 1) := dk_27 (dk_at dksX4_meanAge_0 22 rfl rfl)
theorem dX4_meanAge_23 : decode cX4_meanAge 23 = .ok (.aload_n 0, 1) := dk_42 (dk_at dksX4_meanAge_0 23 rfl rfl)
theorem dX4_meanAge_24 : decode cX4_meanAge 24 = .ok (.iload_n 3, 1) := dk_29 (dk_at dksX4_meanAge_1 0 rfl rfl)
theorem dX4_meanAge_25 : decode cX4_meanAge 25 = .ok (.invokevirtual 234, 3) := dk_182 0 234 (dk_at dksX4_meanAge_1 1 rfl rfl)
theorem dX4_meanAge_28 : decode cX4_meanAge 28 = .ok (.ifCond .eq 17, 3) := dk_153 0 17 (dk_at dksX4_meanAge_1 4 rfl rfl)
theorem dX4_meanAge_31 : decode cX4_meanAge 31 = .ok (.aload_n 0, 1) := dk_42 (dk_at dksX4_meanAge_1 7 rfl rfl)
theorem dX4_meanAge_32 : decode cX4_meanAge 32 = .ok (.getfield 114, 3) := dk_180 0 114 (dk_at dksX4_meanAge_1 8 rfl rfl)
theorem dX4_meanAge_35 : decode cX4_meanAge 35 = .ok (.aload_n 0, 1) := dk_42 (dk_at dksX4_meanAge_1 11 rfl rfl)
theorem dX4_meanAge_36 : decode cX4_meanAge 36 = .ok (.getfield 34, 3) := dk_180 0 34 (dk_at dksX4_meanAge_1 12 rfl rfl)
theorem dX4_meanAge_39 : decode cX4_meanAge 39 = .ok (.iload_n 3, 1) := dk_29 (dk_at dksX4_meanAge_1 15 rfl rfl)
theorem dX4_meanAge_40 : decode cX4_meanAge 40 = .ok (.iaload, 1) := dk_46 (dk_at dksX4_meanAge_1 16 rfl rfl)
theorem dX4_meanAge_41 : decode cX4_meanAge 41 = .ok (.isub, 1) := dk_100 (dk_at dksX4_meanAge_1 17 rfl rfl)
theorem dX4_meanAge_42 : decode cX4_meanAge 42 = .ok (.goto 4, 3) := dk_167 0 4 (dk_at dksX4_meanAge_1 18 rfl rfl)
theorem dX4_meanAge_45 : decode cX4_meanAge 45 = .ok (.iconst 0, 1) := dk_3 (dk_at dksX4_meanAge_1 21 rfl rfl)
theorem dX4_meanAge_46 : decode cX4_meanAge 46 = .ok (.iadd, 1) := dk_96 (dk_at dksX4_meanAge_1 22 rfl rfl)
theorem dX4_meanAge_47 : decode cX4_meanAge 47 = .ok (.istore_n 1, 1) := dk_60 (dk_at dksX4_meanAge_1 23 rfl rfl)
theorem dX4_meanAge_48 : decode cX4_meanAge 48 = .ok (.iinc 3 1, 3) := dk_132 3 1 (dk_at dksX4_meanAge_2 0 rfl rfl)
theorem dX4_meanAge_51 : decode cX4_meanAge 51 = .ok (.goto (-37), 3) := dk_167 255 219 (dk_at dksX4_meanAge_2 3 rfl rfl)
theorem dX4_meanAge_54 : decode cX4_meanAge 54 = .ok (.iload_n 2, 1) := dk_28 (dk_at dksX4_meanAge_2 6 rfl rfl)
theorem dX4_meanAge_55 : decode cX4_meanAge 55 = .ok (.ifCond .ne 7, 3) := dk_154 0 7 (dk_at dksX4_meanAge_2 7 rfl rfl)
theorem dX4_meanAge_58 : decode cX4_meanAge 58 = .ok (.fconst 0, 1) := dk_11 (dk_at dksX4_meanAge_2 10 rfl rfl)
theorem dX4_meanAge_59 : decode cX4_meanAge 59 = .ok (.goto 8, 3) := dk_167 0 8 (dk_at dksX4_meanAge_2 11 rfl rfl)
theorem dX4_meanAge_62 : decode cX4_meanAge 62 = .ok (.iload_n 1, 1) := dk_27 (dk_at dksX4_meanAge_2 14 rfl rfl)
theorem dX4_meanAge_63 : decode cX4_meanAge 63 = .ok (.i2f, 1) := dk_134 (dk_at dksX4_meanAge_2 15 rfl rfl)
theorem dX4_meanAge_64 : decode cX4_meanAge 64 = .ok (.iload_n 2, 1) := dk_28 (dk_at dksX4_meanAge_2 16 rfl rfl)
theorem dX4_meanAge_65 : decode cX4_meanAge 65 = .ok (.i2f, 1) := dk_134 (dk_at dksX4_meanAge_2 17 rfl rfl)
theorem dX4_meanAge_66 : decode cX4_meanAge 66 = .ok (.fdiv, 1) := dk_110 (dk_at dksX4_meanAge_2 18 rfl rfl)
theorem dX4_meanAge_67 : decode cX4_meanAge 67 = .ok (.freturn, 1) := dk_174 (dk_at dksX4_meanAge_2 19 rfl rfl)
theorem q91 : (Jvm.Cond.initialized "LifeofficeModel") ∈ lw_all := lw_g (lw_at lw_m1 11 rfl) rfl
theorem q1350 : (Jvm.Cond.selects "LifeofficeModel" ({ cls := "java/lang/Object", name := "getClass", desc := "()Ljava/lang/Class;" } : Jvm.MethodName) ({ cls := "java/lang/Object", name := "getClass", desc := "()Ljava/lang/Class;" } : Jvm.MethodName)) ∈ lw_all := lw_g (lw_at lw_m6 70 rfl) rfl
theorem q1764 : (Jvm.Cond.selects "LifeofficeModel" ({ cls := "java/lang/Object", name := "equals", desc := "(Ljava/lang/Object;)Z" } : Jvm.MethodName) ({ cls := "java/lang/Object", name := "equals", desc := "(Ljava/lang/Object;)Z" } : Jvm.MethodName)) ∈ lw_all := lw_g (lw_at lw_m8 4 rfl) rfl
theorem q1946 : (Jvm.Cond.instanceMethod ({ cls := "LifeofficeModel", name := "thrown", desc := "()I" } : Jvm.MethodName)) ∈ lw_all := lw_g (lw_at lw_m8 186 rfl) rfl
theorem q1947 : (Jvm.Cond.selects "LifeofficeModel" ({ cls := "LifeofficeModel", name := "thrown", desc := "()I" } : Jvm.MethodName) ({ cls := "LifeofficeModel", name := "thrown", desc := "()I" } : Jvm.MethodName)) ∈ lw_all := lw_g (lw_at lw_m8 187 rfl) rfl
theorem q1948 : (Jvm.Cond.code ({ cls := "LifeofficeModel", name := "thrown", desc := "()I" } : Jvm.MethodName) prog_12_method_1_code (1 : Nat) (Option.some Jvm.ClassFile.FieldType.int)) ∈ lw_all := lw_g (lw_at lw_m8 188 rfl) rfl
theorem q1950 : (Jvm.Cond.instantiable "LifeofficeModel" (55 : Nat)) ∈ lw_all := lw_g (lw_at lw_m8 190 rfl) rfl
theorem q1952 : (Jvm.Cond.instanceMethod ({ cls := "LifeofficeModel", name := "<init>", desc := "()V" } : Jvm.MethodName)) ∈ lw_all := lw_g (lw_at lw_m8 192 rfl) rfl
theorem q1953 : (Jvm.Cond.code ({ cls := "LifeofficeModel", name := "<init>", desc := "()V" } : Jvm.MethodName) prog_12_method_4_code (1 : Nat) (Option.none : Option Jvm.ClassFile.FieldType)) ∈ lw_all := lw_g (lw_at lw_m8 193 rfl) rfl
theorem q1954 : (Jvm.Cond.methodLink "LifeofficeModel" (7 : Nat) ({ cls := "java/lang/Object", name := "<init>", desc := "()V" } : Jvm.MethodName)) ∈ lw_all := lw_g (lw_at lw_m8 194 rfl) rfl
theorem q1955 : (Jvm.Cond.constant "LifeofficeModel" (109 : Nat) (1000000 : Int32)) ∈ lw_all := lw_g (lw_at lw_m8 195 rfl) rfl
theorem q1956 : (Jvm.Cond.methodLink "LifeofficeModel" (110 : Nat) ({ cls := "LifeofficeModel", name := "founds", desc := "(II)V" } : Jvm.MethodName)) ∈ lw_all := lw_g (lw_at lw_m8 196 rfl) rfl
theorem q1957 : (Jvm.Cond.privateMethod ({ cls := "LifeofficeModel", name := "founds", desc := "(II)V" } : Jvm.MethodName)) ∈ lw_tbl := lw_at lw_m8 197 rfl
theorem q1958 : (Jvm.Cond.instanceMethod ({ cls := "LifeofficeModel", name := "founds", desc := "(II)V" } : Jvm.MethodName)) ∈ lw_all := lw_g (lw_at lw_m8 198 rfl) rfl
theorem q1959 : (Jvm.Cond.code ({ cls := "LifeofficeModel", name := "founds", desc := "(II)V" } : Jvm.MethodName) prog_12_method_5_code (4 : Nat) (Option.none : Option Jvm.ClassFile.FieldType)) ∈ lw_all := lw_g (lw_at lw_m8 199 rfl) rfl
theorem q1960 : (Jvm.Cond.constant "LifeofficeModel" (139 : Nat) (100000 : Int32)) ∈ lw_all := lw_g (lw_at lw_m8 200 rfl) rfl
theorem q1961 : (Jvm.Cond.fieldLink "LifeofficeModel" (1 : Nat) "LifeofficeModel" "thrown" "I") ∈ lw_all := lw_g (lw_at lw_m8 201 rfl) rfl
theorem q1962 : (Jvm.Cond.fieldLink "LifeofficeModel" (114 : Nat) "LifeofficeModel" "year" "I") ∈ lw_all := lw_g (lw_at lw_m8 202 rfl) rfl
theorem q1963 : (Jvm.Cond.fieldLink "LifeofficeModel" (121 : Nat) "LifeofficeModel" "improvement" "I") ∈ lw_all := lw_g (lw_at lw_m8 203 rfl) rfl
theorem q1964 : (Jvm.Cond.fieldLink "LifeofficeModel" (124 : Nat) "LifeofficeModel" "loading" "I") ∈ lw_all := lw_g (lw_at lw_m8 204 rfl) rfl
theorem q1965 : (Jvm.Cond.fieldLink "LifeofficeModel" (127 : Nat) "LifeofficeModel" "flat" "I") ∈ lw_all := lw_g (lw_at lw_m8 205 rfl) rfl
theorem q1966 : (Jvm.Cond.fieldLink "LifeofficeModel" (130 : Nat) "LifeofficeModel" "smoothing" "I") ∈ lw_all := lw_g (lw_at lw_m8 206 rfl) rfl
theorem q1967 : (Jvm.Cond.fieldLink "LifeofficeModel" (133 : Nat) "LifeofficeModel" "lastBonus" "I") ∈ lw_all := lw_g (lw_at lw_m8 207 rfl) rfl
theorem q1968 : (Jvm.Cond.fieldLink "LifeofficeModel" (136 : Nat) "LifeofficeModel" "finalRate" "I") ∈ lw_all := lw_g (lw_at lw_m8 208 rfl) rfl
theorem q1969 : (Jvm.Cond.fieldLink "LifeofficeModel" (140 : Nat) "LifeofficeModel" "retention" "I") ∈ lw_all := lw_g (lw_at lw_m8 209 rfl) rfl
theorem q1970 : (Jvm.Cond.fieldLink "LifeofficeModel" (143 : Nat) "LifeofficeModel" "quota" "I") ∈ lw_all := lw_g (lw_at lw_m8 210 rfl) rfl
theorem q1971 : (Jvm.Cond.fieldLink "LifeofficeModel" (146 : Nat) "LifeofficeModel" "policies" "I") ∈ lw_all := lw_g (lw_at lw_m8 211 rfl) rfl
theorem q1972 : (Jvm.Cond.fieldLink "LifeofficeModel" (149 : Nat) "LifeofficeModel" "bonds" "I") ∈ lw_all := lw_g (lw_at lw_m8 212 rfl) rfl
theorem q1973 : (Jvm.Cond.fieldLink "LifeofficeModel" (152 : Nat) "LifeofficeModel" "wasDeclared" "Z") ∈ lw_all := lw_g (lw_at lw_m8 213 rfl) rfl
theorem q1974 : (Jvm.Cond.fieldLink "LifeofficeModel" (156 : Nat) "LifeofficeModel" "isClosed" "Z") ∈ lw_all := lw_g (lw_at lw_m8 214 rfl) rfl
theorem q1975 : (Jvm.Cond.fieldLink "LifeofficeModel" (117 : Nat) "LifeofficeModel" "cash" "J") ∈ lw_all := lw_g (lw_at lw_m8 215 rfl) rfl
theorem q1976 : (Jvm.Cond.fieldLink "LifeofficeModel" (159 : Nat) "LifeofficeModel" "deaths" "J") ∈ lw_all := lw_g (lw_at lw_m8 216 rfl) rfl
theorem q1977 : (Jvm.Cond.fieldLink "LifeofficeModel" (162 : Nat) "LifeofficeModel" "expected" "J") ∈ lw_all := lw_g (lw_at lw_m8 217 rfl) rfl
theorem q1978 : (Jvm.Cond.fieldLink "LifeofficeModel" (165 : Nat) "LifeofficeModel" "latest" "J") ∈ lw_all := lw_g (lw_at lw_m8 218 rfl) rfl
theorem q1979 : (Jvm.Cond.fieldLink "LifeofficeModel" (13 : Nat) "LifeofficeModel" "interest" "[I") ∈ lw_all := lw_g (lw_at lw_m8 219 rfl) rfl
theorem q1980 : (Jvm.Cond.fieldLink "LifeofficeModel" (17 : Nat) "LifeofficeModel" "percent" "[I") ∈ lw_all := lw_g (lw_at lw_m8 220 rfl) rfl
theorem q1981 : (Jvm.Cond.fieldLink "LifeofficeModel" (20 : Nat) "LifeofficeModel" "isZeroised" "[Z") ∈ lw_all := lw_g (lw_at lw_m8 221 rfl) rfl
theorem q1982 : (Jvm.Cond.fieldLink "LifeofficeModel" (24 : Nat) "LifeofficeModel" "now" "[J") ∈ lw_all := lw_g (lw_at lw_m8 222 rfl) rfl
theorem q1983 : (Jvm.Cond.fieldLink "LifeofficeModel" (28 : Nat) "LifeofficeModel" "closed" "[J") ∈ lw_all := lw_g (lw_at lw_m8 223 rfl) rfl
theorem q1984 : (Jvm.Cond.fieldLink "LifeofficeModel" (31 : Nat) "LifeofficeModel" "kind" "[I") ∈ lw_all := lw_g (lw_at lw_m8 224 rfl) rfl
theorem q1985 : (Jvm.Cond.fieldLink "LifeofficeModel" (34 : Nat) "LifeofficeModel" "birth" "[I") ∈ lw_all := lw_g (lw_at lw_m8 225 rfl) rfl
theorem q1986 : (Jvm.Cond.fieldLink "LifeofficeModel" (37 : Nat) "LifeofficeModel" "flags" "[I") ∈ lw_all := lw_g (lw_at lw_m8 226 rfl) rfl
theorem q1987 : (Jvm.Cond.fieldLink "LifeofficeModel" (40 : Nat) "LifeofficeModel" "points" "[I") ∈ lw_all := lw_g (lw_at lw_m8 227 rfl) rfl
theorem q1988 : (Jvm.Cond.fieldLink "LifeofficeModel" (43 : Nat) "LifeofficeModel" "start" "[I") ∈ lw_all := lw_g (lw_at lw_m8 228 rfl) rfl
theorem q1989 : (Jvm.Cond.fieldLink "LifeofficeModel" (46 : Nat) "LifeofficeModel" "end" "[I") ∈ lw_all := lw_g (lw_at lw_m8 229 rfl) rfl
theorem q1990 : (Jvm.Cond.fieldLink "LifeofficeModel" (49 : Nat) "LifeofficeModel" "state" "[I") ∈ lw_all := lw_g (lw_at lw_m8 230 rfl) rfl
theorem q1991 : (Jvm.Cond.fieldLink "LifeofficeModel" (52 : Nat) "LifeofficeModel" "truePoints" "[I") ∈ lw_all := lw_g (lw_at lw_m8 231 rfl) rfl
theorem q1992 : (Jvm.Cond.fieldLink "LifeofficeModel" (55 : Nat) "LifeofficeModel" "payments" "[I") ∈ lw_all := lw_g (lw_at lw_m8 232 rfl) rfl
theorem q1993 : (Jvm.Cond.fieldLink "LifeofficeModel" (58 : Nat) "LifeofficeModel" "lapsed" "[I") ∈ lw_all := lw_g (lw_at lw_m8 233 rfl) rfl
theorem q1994 : (Jvm.Cond.fieldLink "LifeofficeModel" (61 : Nat) "LifeofficeModel" "guarantee" "[I") ∈ lw_all := lw_g (lw_at lw_m8 234 rfl) rfl
theorem q1995 : (Jvm.Cond.fieldLink "LifeofficeModel" (64 : Nat) "LifeofficeModel" "isPaid" "[Z") ∈ lw_all := lw_g (lw_at lw_m8 235 rfl) rfl
theorem q1996 : (Jvm.Cond.fieldLink "LifeofficeModel" (67 : Nat) "LifeofficeModel" "sum" "[J") ∈ lw_all := lw_g (lw_at lw_m8 236 rfl) rfl
theorem q1997 : (Jvm.Cond.fieldLink "LifeofficeModel" (70 : Nat) "LifeofficeModel" "bonus" "[J") ∈ lw_all := lw_g (lw_at lw_m8 237 rfl) rfl
theorem q1998 : (Jvm.Cond.fieldLink "LifeofficeModel" (73 : Nat) "LifeofficeModel" "share" "[J") ∈ lw_all := lw_g (lw_at lw_m8 238 rfl) rfl
theorem q1999 : (Jvm.Cond.fieldLink "LifeofficeModel" (76 : Nat) "LifeofficeModel" "loan" "[J") ∈ lw_all := lw_g (lw_at lw_m8 239 rfl) rfl
theorem q2000 : (Jvm.Cond.fieldLink "LifeofficeModel" (79 : Nat) "LifeofficeModel" "premium" "[J") ∈ lw_all := lw_g (lw_at lw_m9 0 rfl) rfl
theorem q2001 : (Jvm.Cond.fieldLink "LifeofficeModel" (82 : Nat) "LifeofficeModel" "premiums" "[J") ∈ lw_all := lw_g (lw_at lw_m9 1 rfl) rfl
theorem q2002 : (Jvm.Cond.fieldLink "LifeofficeModel" (85 : Nat) "LifeofficeModel" "got" "[J") ∈ lw_all := lw_g (lw_at lw_m9 2 rfl) rfl
theorem q2003 : (Jvm.Cond.fieldLink "LifeofficeModel" (88 : Nat) "LifeofficeModel" "left" "[I") ∈ lw_all := lw_g (lw_at lw_m9 3 rfl) rfl
theorem q2004 : (Jvm.Cond.fieldLink "LifeofficeModel" (91 : Nat) "LifeofficeModel" "nominal" "[I") ∈ lw_all := lw_g (lw_at lw_m9 4 rfl) rfl
theorem q2005 : (Jvm.Cond.fieldLink "LifeofficeModel" (94 : Nat) "LifeofficeModel" "rate" "[I") ∈ lw_all := lw_g (lw_at lw_m9 5 rfl) rfl
theorem q2006 : (Jvm.Cond.fieldLink "LifeofficeModel" (205 : Nat) "LifeofficeModel" "valueD" "J") ∈ lw_all := lw_g (lw_at lw_m9 6 rfl) rfl
theorem q2007 : (Jvm.Cond.fieldLink "LifeofficeModel" (208 : Nat) "LifeofficeModel" "valueP" "J") ∈ lw_all := lw_g (lw_at lw_m9 7 rfl) rfl
theorem q2008 : (Jvm.Cond.fieldLink "LifeofficeModel" (211 : Nat) "LifeofficeModel" "valueN" "J") ∈ lw_all := lw_g (lw_at lw_m9 8 rfl) rfl
theorem q2009 : (Jvm.Cond.fieldLink "LifeofficeModel" (214 : Nat) "LifeofficeModel" "startD" "J") ∈ lw_all := lw_g (lw_at lw_m9 9 rfl) rfl
theorem q2010 : (Jvm.Cond.fieldLink "LifeofficeModel" (217 : Nat) "LifeofficeModel" "startP" "J") ∈ lw_all := lw_g (lw_at lw_m9 10 rfl) rfl
theorem q2011 : (Jvm.Cond.fieldLink "LifeofficeModel" (220 : Nat) "LifeofficeModel" "startN" "J") ∈ lw_all := lw_g (lw_at lw_m9 11 rfl) rfl
theorem q2012 : (Jvm.Cond.fieldLink "LifeofficeModel" (97 : Nat) "LifeofficeModel" "was" "[J") ∈ lw_all := lw_g (lw_at lw_m9 12 rfl) rfl
theorem q2013 : (Jvm.Cond.fieldLink "LifeofficeModel" (100 : Nat) "LifeofficeModel" "nets" "[J") ∈ lw_all := lw_g (lw_at lw_m9 13 rfl) rfl
theorem q2014 : (Jvm.Cond.fieldLink "LifeofficeModel" (103 : Nat) "LifeofficeModel" "living" "[Z") ∈ lw_all := lw_g (lw_at lw_m9 14 rfl) rfl
theorem q2015 : (Jvm.Cond.fieldLink "LifeofficeModel" (106 : Nat) "LifeofficeModel" "values" "[J") ∈ lw_all := lw_g (lw_at lw_m9 15 rfl) rfl
theorem q2016 : (Jvm.Cond.lays "LifeofficeModel" "LifeofficeModel" "thrown" "I") ∈ lw_all := lw_g (lw_at lw_m9 16 rfl) rfl
theorem q2017 : (Jvm.Cond.soleField "LifeofficeModel" "thrown") ∈ lw_all := lw_g (lw_at lw_m9 17 rfl) rfl
theorem q2018 : (Jvm.Cond.lays "LifeofficeModel" "LifeofficeModel" "year" "I") ∈ lw_all := lw_g (lw_at lw_m9 18 rfl) rfl
theorem q2019 : (Jvm.Cond.soleField "LifeofficeModel" "year") ∈ lw_all := lw_g (lw_at lw_m9 19 rfl) rfl
theorem q2020 : (Jvm.Cond.lays "LifeofficeModel" "LifeofficeModel" "improvement" "I") ∈ lw_all := lw_g (lw_at lw_m9 20 rfl) rfl
theorem q2021 : (Jvm.Cond.soleField "LifeofficeModel" "improvement") ∈ lw_all := lw_g (lw_at lw_m9 21 rfl) rfl
theorem q2022 : (Jvm.Cond.lays "LifeofficeModel" "LifeofficeModel" "loading" "I") ∈ lw_all := lw_g (lw_at lw_m9 22 rfl) rfl
theorem q2023 : (Jvm.Cond.soleField "LifeofficeModel" "loading") ∈ lw_all := lw_g (lw_at lw_m9 23 rfl) rfl
theorem q2024 : (Jvm.Cond.lays "LifeofficeModel" "LifeofficeModel" "flat" "I") ∈ lw_all := lw_g (lw_at lw_m9 24 rfl) rfl
theorem q2025 : (Jvm.Cond.soleField "LifeofficeModel" "flat") ∈ lw_all := lw_g (lw_at lw_m9 25 rfl) rfl
theorem q2026 : (Jvm.Cond.lays "LifeofficeModel" "LifeofficeModel" "smoothing" "I") ∈ lw_all := lw_g (lw_at lw_m9 26 rfl) rfl
theorem q2027 : (Jvm.Cond.soleField "LifeofficeModel" "smoothing") ∈ lw_all := lw_g (lw_at lw_m9 27 rfl) rfl
theorem q2028 : (Jvm.Cond.lays "LifeofficeModel" "LifeofficeModel" "lastBonus" "I") ∈ lw_all := lw_g (lw_at lw_m9 28 rfl) rfl
theorem q2029 : (Jvm.Cond.soleField "LifeofficeModel" "lastBonus") ∈ lw_all := lw_g (lw_at lw_m9 29 rfl) rfl
theorem q2030 : (Jvm.Cond.lays "LifeofficeModel" "LifeofficeModel" "finalRate" "I") ∈ lw_all := lw_g (lw_at lw_m9 30 rfl) rfl
theorem q2031 : (Jvm.Cond.soleField "LifeofficeModel" "finalRate") ∈ lw_all := lw_g (lw_at lw_m9 31 rfl) rfl
theorem q2032 : (Jvm.Cond.lays "LifeofficeModel" "LifeofficeModel" "retention" "I") ∈ lw_all := lw_g (lw_at lw_m9 32 rfl) rfl
theorem q2033 : (Jvm.Cond.soleField "LifeofficeModel" "retention") ∈ lw_all := lw_g (lw_at lw_m9 33 rfl) rfl
theorem q2034 : (Jvm.Cond.lays "LifeofficeModel" "LifeofficeModel" "quota" "I") ∈ lw_all := lw_g (lw_at lw_m9 34 rfl) rfl
theorem q2035 : (Jvm.Cond.soleField "LifeofficeModel" "quota") ∈ lw_all := lw_g (lw_at lw_m9 35 rfl) rfl
theorem q2036 : (Jvm.Cond.lays "LifeofficeModel" "LifeofficeModel" "policies" "I") ∈ lw_all := lw_g (lw_at lw_m9 36 rfl) rfl
theorem q2037 : (Jvm.Cond.soleField "LifeofficeModel" "policies") ∈ lw_all := lw_g (lw_at lw_m9 37 rfl) rfl
theorem q2038 : (Jvm.Cond.lays "LifeofficeModel" "LifeofficeModel" "bonds" "I") ∈ lw_all := lw_g (lw_at lw_m9 38 rfl) rfl
theorem q2039 : (Jvm.Cond.soleField "LifeofficeModel" "bonds") ∈ lw_all := lw_g (lw_at lw_m9 39 rfl) rfl
theorem q2040 : (Jvm.Cond.lays "LifeofficeModel" "LifeofficeModel" "wasDeclared" "Z") ∈ lw_all := lw_g (lw_at lw_m9 40 rfl) rfl
theorem q2041 : (Jvm.Cond.soleField "LifeofficeModel" "wasDeclared") ∈ lw_all := lw_g (lw_at lw_m9 41 rfl) rfl
theorem q2042 : (Jvm.Cond.lays "LifeofficeModel" "LifeofficeModel" "isClosed" "Z") ∈ lw_all := lw_g (lw_at lw_m9 42 rfl) rfl
theorem q2043 : (Jvm.Cond.soleField "LifeofficeModel" "isClosed") ∈ lw_all := lw_g (lw_at lw_m9 43 rfl) rfl
theorem q2044 : (Jvm.Cond.lays "LifeofficeModel" "LifeofficeModel" "cash" "J") ∈ lw_all := lw_g (lw_at lw_m9 44 rfl) rfl
theorem q2045 : (Jvm.Cond.soleField "LifeofficeModel" "cash") ∈ lw_all := lw_g (lw_at lw_m9 45 rfl) rfl
theorem q2046 : (Jvm.Cond.lays "LifeofficeModel" "LifeofficeModel" "deaths" "J") ∈ lw_all := lw_g (lw_at lw_m9 46 rfl) rfl
theorem q2047 : (Jvm.Cond.soleField "LifeofficeModel" "deaths") ∈ lw_all := lw_g (lw_at lw_m9 47 rfl) rfl
theorem q2048 : (Jvm.Cond.lays "LifeofficeModel" "LifeofficeModel" "expected" "J") ∈ lw_all := lw_g (lw_at lw_m9 48 rfl) rfl
theorem q2049 : (Jvm.Cond.soleField "LifeofficeModel" "expected") ∈ lw_all := lw_g (lw_at lw_m9 49 rfl) rfl
theorem q2050 : (Jvm.Cond.lays "LifeofficeModel" "LifeofficeModel" "latest" "J") ∈ lw_all := lw_g (lw_at lw_m9 50 rfl) rfl
theorem q2051 : (Jvm.Cond.soleField "LifeofficeModel" "latest") ∈ lw_all := lw_g (lw_at lw_m9 51 rfl) rfl
theorem q2052 : (Jvm.Cond.laysFinal "LifeofficeModel" "LifeofficeModel" "interest" "[I") ∈ lw_all := lw_g (lw_at lw_m9 52 rfl) rfl
theorem q2053 : (Jvm.Cond.soleField "LifeofficeModel" "interest") ∈ lw_all := lw_g (lw_at lw_m9 53 rfl) rfl
theorem q2054 : (Jvm.Cond.laysFinal "LifeofficeModel" "LifeofficeModel" "percent" "[I") ∈ lw_all := lw_g (lw_at lw_m9 54 rfl) rfl
theorem q2055 : (Jvm.Cond.soleField "LifeofficeModel" "percent") ∈ lw_all := lw_g (lw_at lw_m9 55 rfl) rfl
theorem q2056 : (Jvm.Cond.laysFinal "LifeofficeModel" "LifeofficeModel" "isZeroised" "[Z") ∈ lw_all := lw_g (lw_at lw_m9 56 rfl) rfl
theorem q2057 : (Jvm.Cond.soleField "LifeofficeModel" "isZeroised") ∈ lw_all := lw_g (lw_at lw_m9 57 rfl) rfl
theorem q2058 : (Jvm.Cond.laysFinal "LifeofficeModel" "LifeofficeModel" "now" "[J") ∈ lw_all := lw_g (lw_at lw_m9 58 rfl) rfl
theorem q2059 : (Jvm.Cond.soleField "LifeofficeModel" "now") ∈ lw_all := lw_g (lw_at lw_m9 59 rfl) rfl
theorem q2060 : (Jvm.Cond.laysFinal "LifeofficeModel" "LifeofficeModel" "closed" "[J") ∈ lw_all := lw_g (lw_at lw_m9 60 rfl) rfl
theorem q2061 : (Jvm.Cond.soleField "LifeofficeModel" "closed") ∈ lw_all := lw_g (lw_at lw_m9 61 rfl) rfl
theorem q2062 : (Jvm.Cond.laysFinal "LifeofficeModel" "LifeofficeModel" "kind" "[I") ∈ lw_all := lw_g (lw_at lw_m9 62 rfl) rfl
theorem q2063 : (Jvm.Cond.soleField "LifeofficeModel" "kind") ∈ lw_all := lw_g (lw_at lw_m9 63 rfl) rfl
theorem q2064 : (Jvm.Cond.laysFinal "LifeofficeModel" "LifeofficeModel" "birth" "[I") ∈ lw_all := lw_g (lw_at lw_m9 64 rfl) rfl
theorem q2065 : (Jvm.Cond.soleField "LifeofficeModel" "birth") ∈ lw_all := lw_g (lw_at lw_m9 65 rfl) rfl
theorem q2066 : (Jvm.Cond.laysFinal "LifeofficeModel" "LifeofficeModel" "flags" "[I") ∈ lw_all := lw_g (lw_at lw_m9 66 rfl) rfl
theorem q2067 : (Jvm.Cond.soleField "LifeofficeModel" "flags") ∈ lw_all := lw_g (lw_at lw_m9 67 rfl) rfl
theorem q2068 : (Jvm.Cond.laysFinal "LifeofficeModel" "LifeofficeModel" "points" "[I") ∈ lw_all := lw_g (lw_at lw_m9 68 rfl) rfl
theorem q2069 : (Jvm.Cond.soleField "LifeofficeModel" "points") ∈ lw_all := lw_g (lw_at lw_m9 69 rfl) rfl
theorem q2070 : (Jvm.Cond.laysFinal "LifeofficeModel" "LifeofficeModel" "start" "[I") ∈ lw_all := lw_g (lw_at lw_m9 70 rfl) rfl
theorem q2071 : (Jvm.Cond.soleField "LifeofficeModel" "start") ∈ lw_all := lw_g (lw_at lw_m9 71 rfl) rfl
theorem q2072 : (Jvm.Cond.laysFinal "LifeofficeModel" "LifeofficeModel" "end" "[I") ∈ lw_all := lw_g (lw_at lw_m9 72 rfl) rfl
theorem q2073 : (Jvm.Cond.soleField "LifeofficeModel" "end") ∈ lw_all := lw_g (lw_at lw_m9 73 rfl) rfl
theorem q2074 : (Jvm.Cond.laysFinal "LifeofficeModel" "LifeofficeModel" "state" "[I") ∈ lw_all := lw_g (lw_at lw_m9 74 rfl) rfl
theorem q2075 : (Jvm.Cond.soleField "LifeofficeModel" "state") ∈ lw_all := lw_g (lw_at lw_m9 75 rfl) rfl
theorem q2076 : (Jvm.Cond.laysFinal "LifeofficeModel" "LifeofficeModel" "truePoints" "[I") ∈ lw_all := lw_g (lw_at lw_m9 76 rfl) rfl
theorem q2077 : (Jvm.Cond.soleField "LifeofficeModel" "truePoints") ∈ lw_all := lw_g (lw_at lw_m9 77 rfl) rfl
theorem q2078 : (Jvm.Cond.laysFinal "LifeofficeModel" "LifeofficeModel" "payments" "[I") ∈ lw_all := lw_g (lw_at lw_m9 78 rfl) rfl
theorem q2079 : (Jvm.Cond.soleField "LifeofficeModel" "payments") ∈ lw_all := lw_g (lw_at lw_m9 79 rfl) rfl
theorem q2080 : (Jvm.Cond.laysFinal "LifeofficeModel" "LifeofficeModel" "lapsed" "[I") ∈ lw_all := lw_g (lw_at lw_m9 80 rfl) rfl
theorem q2081 : (Jvm.Cond.soleField "LifeofficeModel" "lapsed") ∈ lw_all := lw_g (lw_at lw_m9 81 rfl) rfl
theorem q2082 : (Jvm.Cond.laysFinal "LifeofficeModel" "LifeofficeModel" "guarantee" "[I") ∈ lw_all := lw_g (lw_at lw_m9 82 rfl) rfl
theorem q2083 : (Jvm.Cond.soleField "LifeofficeModel" "guarantee") ∈ lw_all := lw_g (lw_at lw_m9 83 rfl) rfl
theorem q2084 : (Jvm.Cond.laysFinal "LifeofficeModel" "LifeofficeModel" "isPaid" "[Z") ∈ lw_all := lw_g (lw_at lw_m9 84 rfl) rfl
theorem q2085 : (Jvm.Cond.soleField "LifeofficeModel" "isPaid") ∈ lw_all := lw_g (lw_at lw_m9 85 rfl) rfl
theorem q2086 : (Jvm.Cond.laysFinal "LifeofficeModel" "LifeofficeModel" "sum" "[J") ∈ lw_all := lw_g (lw_at lw_m9 86 rfl) rfl
theorem q2087 : (Jvm.Cond.soleField "LifeofficeModel" "sum") ∈ lw_all := lw_g (lw_at lw_m9 87 rfl) rfl
theorem q2088 : (Jvm.Cond.laysFinal "LifeofficeModel" "LifeofficeModel" "bonus" "[J") ∈ lw_all := lw_g (lw_at lw_m9 88 rfl) rfl
theorem q2089 : (Jvm.Cond.soleField "LifeofficeModel" "bonus") ∈ lw_all := lw_g (lw_at lw_m9 89 rfl) rfl
theorem q2090 : (Jvm.Cond.laysFinal "LifeofficeModel" "LifeofficeModel" "share" "[J") ∈ lw_all := lw_g (lw_at lw_m9 90 rfl) rfl
theorem q2091 : (Jvm.Cond.soleField "LifeofficeModel" "share") ∈ lw_all := lw_g (lw_at lw_m9 91 rfl) rfl
theorem q2092 : (Jvm.Cond.laysFinal "LifeofficeModel" "LifeofficeModel" "loan" "[J") ∈ lw_all := lw_g (lw_at lw_m9 92 rfl) rfl
theorem q2093 : (Jvm.Cond.soleField "LifeofficeModel" "loan") ∈ lw_all := lw_g (lw_at lw_m9 93 rfl) rfl
theorem q2094 : (Jvm.Cond.laysFinal "LifeofficeModel" "LifeofficeModel" "premium" "[J") ∈ lw_all := lw_g (lw_at lw_m9 94 rfl) rfl
theorem q2095 : (Jvm.Cond.soleField "LifeofficeModel" "premium") ∈ lw_all := lw_g (lw_at lw_m9 95 rfl) rfl
theorem q2096 : (Jvm.Cond.laysFinal "LifeofficeModel" "LifeofficeModel" "premiums" "[J") ∈ lw_all := lw_g (lw_at lw_m9 96 rfl) rfl
theorem q2097 : (Jvm.Cond.soleField "LifeofficeModel" "premiums") ∈ lw_all := lw_g (lw_at lw_m9 97 rfl) rfl
theorem q2098 : (Jvm.Cond.laysFinal "LifeofficeModel" "LifeofficeModel" "got" "[J") ∈ lw_all := lw_g (lw_at lw_m9 98 rfl) rfl
theorem q2099 : (Jvm.Cond.soleField "LifeofficeModel" "got") ∈ lw_all := lw_g (lw_at lw_m9 99 rfl) rfl
theorem q2100 : (Jvm.Cond.laysFinal "LifeofficeModel" "LifeofficeModel" "left" "[I") ∈ lw_all := lw_g (lw_at lw_m9 100 rfl) rfl
theorem q2101 : (Jvm.Cond.soleField "LifeofficeModel" "left") ∈ lw_all := lw_g (lw_at lw_m9 101 rfl) rfl
theorem q2102 : (Jvm.Cond.laysFinal "LifeofficeModel" "LifeofficeModel" "nominal" "[I") ∈ lw_all := lw_g (lw_at lw_m9 102 rfl) rfl
theorem q2103 : (Jvm.Cond.soleField "LifeofficeModel" "nominal") ∈ lw_all := lw_g (lw_at lw_m9 103 rfl) rfl
theorem q2104 : (Jvm.Cond.laysFinal "LifeofficeModel" "LifeofficeModel" "rate" "[I") ∈ lw_all := lw_g (lw_at lw_m9 104 rfl) rfl
theorem q2105 : (Jvm.Cond.soleField "LifeofficeModel" "rate") ∈ lw_all := lw_g (lw_at lw_m9 105 rfl) rfl
theorem q2106 : (Jvm.Cond.lays "LifeofficeModel" "LifeofficeModel" "valueD" "J") ∈ lw_all := lw_g (lw_at lw_m9 106 rfl) rfl
theorem q2107 : (Jvm.Cond.soleField "LifeofficeModel" "valueD") ∈ lw_all := lw_g (lw_at lw_m9 107 rfl) rfl
theorem q2108 : (Jvm.Cond.lays "LifeofficeModel" "LifeofficeModel" "valueP" "J") ∈ lw_all := lw_g (lw_at lw_m9 108 rfl) rfl
theorem q2109 : (Jvm.Cond.soleField "LifeofficeModel" "valueP") ∈ lw_all := lw_g (lw_at lw_m9 109 rfl) rfl
theorem q2110 : (Jvm.Cond.lays "LifeofficeModel" "LifeofficeModel" "valueN" "J") ∈ lw_all := lw_g (lw_at lw_m9 110 rfl) rfl
theorem q2111 : (Jvm.Cond.soleField "LifeofficeModel" "valueN") ∈ lw_all := lw_g (lw_at lw_m9 111 rfl) rfl
theorem q2112 : (Jvm.Cond.lays "LifeofficeModel" "LifeofficeModel" "startD" "J") ∈ lw_all := lw_g (lw_at lw_m9 112 rfl) rfl
theorem q2113 : (Jvm.Cond.soleField "LifeofficeModel" "startD") ∈ lw_all := lw_g (lw_at lw_m9 113 rfl) rfl
theorem q2114 : (Jvm.Cond.lays "LifeofficeModel" "LifeofficeModel" "startP" "J") ∈ lw_all := lw_g (lw_at lw_m9 114 rfl) rfl
theorem q2115 : (Jvm.Cond.soleField "LifeofficeModel" "startP") ∈ lw_all := lw_g (lw_at lw_m9 115 rfl) rfl
theorem q2116 : (Jvm.Cond.lays "LifeofficeModel" "LifeofficeModel" "startN" "J") ∈ lw_all := lw_g (lw_at lw_m9 116 rfl) rfl
theorem q2117 : (Jvm.Cond.soleField "LifeofficeModel" "startN") ∈ lw_all := lw_g (lw_at lw_m9 117 rfl) rfl
theorem q2118 : (Jvm.Cond.laysFinal "LifeofficeModel" "LifeofficeModel" "was" "[J") ∈ lw_all := lw_g (lw_at lw_m9 118 rfl) rfl
theorem q2119 : (Jvm.Cond.soleField "LifeofficeModel" "was") ∈ lw_all := lw_g (lw_at lw_m9 119 rfl) rfl
theorem q2120 : (Jvm.Cond.laysFinal "LifeofficeModel" "LifeofficeModel" "nets" "[J") ∈ lw_all := lw_g (lw_at lw_m9 120 rfl) rfl
theorem q2121 : (Jvm.Cond.soleField "LifeofficeModel" "nets") ∈ lw_all := lw_g (lw_at lw_m9 121 rfl) rfl
theorem q2122 : (Jvm.Cond.laysFinal "LifeofficeModel" "LifeofficeModel" "living" "[Z") ∈ lw_all := lw_g (lw_at lw_m9 122 rfl) rfl
theorem q2123 : (Jvm.Cond.soleField "LifeofficeModel" "living") ∈ lw_all := lw_g (lw_at lw_m9 123 rfl) rfl
theorem q2124 : (Jvm.Cond.laysFinal "LifeofficeModel" "LifeofficeModel" "values" "[J") ∈ lw_all := lw_g (lw_at lw_m9 124 rfl) rfl
theorem q2125 : (Jvm.Cond.soleField "LifeofficeModel" "values") ∈ lw_all := lw_g (lw_at lw_m9 125 rfl) rfl
theorem q2126 : (Jvm.Cond.superclass "LifeofficeModel" "java/lang/Object") ∈ lw_all := lw_g (lw_at lw_m9 126 rfl) rfl
theorem q2130 : (Jvm.Cond.instanceMethod ({ cls := "LifeofficeModel", name := "found", desc := "(II)I" } : Jvm.MethodName)) ∈ lw_all := lw_g (lw_at lw_m9 130 rfl) rfl
theorem q2131 : (Jvm.Cond.selects "LifeofficeModel" ({ cls := "LifeofficeModel", name := "found", desc := "(II)I" } : Jvm.MethodName) ({ cls := "LifeofficeModel", name := "found", desc := "(II)I" } : Jvm.MethodName)) ∈ lw_all := lw_g (lw_at lw_m9 131 rfl) rfl
theorem q2132 : (Jvm.Cond.code ({ cls := "LifeofficeModel", name := "found", desc := "(II)I" } : Jvm.MethodName) prog_12_method_43_code (4 : Nat) (Option.some Jvm.ClassFile.FieldType.int)) ∈ lw_all := lw_g (lw_at lw_m9 132 rfl) rfl
theorem q2133 : (Jvm.Cond.constantLong "LifeofficeModel" (338 : Nat) (1900 : Int64)) ∈ lw_all := lw_g (lw_at lw_m9 133 rfl) rfl
theorem q2134 : (Jvm.Cond.constantLong "LifeofficeModel" (340 : Nat) (2050 : Int64)) ∈ lw_all := lw_g (lw_at lw_m9 134 rfl) rfl
theorem q2135 : (Jvm.Cond.methodLink "LifeofficeModel" (168 : Nat) ({ cls := "LifeofficeModel", name := "isIn", desc := "(JJJ)Z" } : Jvm.MethodName)) ∈ lw_all := lw_g (lw_at lw_m9 135 rfl) rfl
theorem q2136 : (Jvm.Cond.static ({ cls := "LifeofficeModel", name := "isIn", desc := "(JJJ)Z" } : Jvm.MethodName)) ∈ lw_all := lw_g (lw_at lw_m9 136 rfl) rfl
theorem q2137 : (Jvm.Cond.code ({ cls := "LifeofficeModel", name := "isIn", desc := "(JJJ)Z" } : Jvm.MethodName) prog_12_method_3_code (6 : Nat) (Option.some Jvm.ClassFile.FieldType.boolean)) ∈ lw_all := lw_g (lw_at lw_m9 137 rfl) rfl
theorem q2138 : (Jvm.Cond.constantLong "LifeofficeModel" (273 : Nat) (1000000000 : Int64)) ∈ lw_all := lw_g (lw_at lw_m9 138 rfl) rfl
theorem q2139 : (Jvm.Cond.methodLink "LifeofficeModel" (342 : Nat) ({ cls := "LifeofficeModel", name := "fails", desc := "(I)I" } : Jvm.MethodName)) ∈ lw_all := lw_g (lw_at lw_m9 139 rfl) rfl
theorem q2140 : (Jvm.Cond.privateMethod ({ cls := "LifeofficeModel", name := "fails", desc := "(I)I" } : Jvm.MethodName)) ∈ lw_tbl := lw_at lw_m9 140 rfl
theorem q2141 : (Jvm.Cond.instanceMethod ({ cls := "LifeofficeModel", name := "fails", desc := "(I)I" } : Jvm.MethodName)) ∈ lw_all := lw_g (lw_at lw_m9 141 rfl) rfl
theorem q2142 : (Jvm.Cond.code ({ cls := "LifeofficeModel", name := "fails", desc := "(I)I" } : Jvm.MethodName) prog_12_method_2_code (2 : Nat) (Option.some Jvm.ClassFile.FieldType.int)) ∈ lw_all := lw_g (lw_at lw_m9 142 rfl) rfl
theorem q2144 : (Jvm.Cond.instanceMethod ({ cls := "LifeofficeModel", name := "year", desc := "()I" } : Jvm.MethodName)) ∈ lw_all := lw_g (lw_at lw_m9 144 rfl) rfl
theorem q2145 : (Jvm.Cond.selects "LifeofficeModel" ({ cls := "LifeofficeModel", name := "year", desc := "()I" } : Jvm.MethodName) ({ cls := "LifeofficeModel", name := "year", desc := "()I" } : Jvm.MethodName)) ∈ lw_all := lw_g (lw_at lw_m9 145 rfl) rfl
theorem q2146 : (Jvm.Cond.code ({ cls := "LifeofficeModel", name := "year", desc := "()I" } : Jvm.MethodName) prog_12_method_44_code (1 : Nat) (Option.some Jvm.ClassFile.FieldType.int)) ∈ lw_all := lw_g (lw_at lw_m9 146 rfl) rfl
theorem q2148 : (Jvm.Cond.instanceMethod ({ cls := "LifeofficeModel", name := "setLaw", desc := "(IIIZ)J" } : Jvm.MethodName)) ∈ lw_all := lw_g (lw_at lw_m9 148 rfl) rfl
theorem q2149 : (Jvm.Cond.selects "LifeofficeModel" ({ cls := "LifeofficeModel", name := "setLaw", desc := "(IIIZ)J" } : Jvm.MethodName) ({ cls := "LifeofficeModel", name := "setLaw", desc := "(IIIZ)J" } : Jvm.MethodName)) ∈ lw_all := lw_g (lw_at lw_m9 149 rfl) rfl
theorem q2150 : (Jvm.Cond.code ({ cls := "LifeofficeModel", name := "setLaw", desc := "(IIIZ)J" } : Jvm.MethodName) prog_12_method_45_code (7 : Nat) (Option.some Jvm.ClassFile.FieldType.long)) ∈ lw_all := lw_g (lw_at lw_m9 150 rfl) rfl
theorem q2151 : (Jvm.Cond.methodLink "LifeofficeModel" (346 : Nat) ({ cls := "LifeofficeModel", name := "isLaw", desc := "(I)Z" } : Jvm.MethodName)) ∈ lw_all := lw_g (lw_at lw_m9 151 rfl) rfl
theorem q2152 : (Jvm.Cond.static ({ cls := "LifeofficeModel", name := "isLaw", desc := "(I)Z" } : Jvm.MethodName)) ∈ lw_all := lw_g (lw_at lw_m9 152 rfl) rfl
theorem q2153 : (Jvm.Cond.code ({ cls := "LifeofficeModel", name := "isLaw", desc := "(I)Z" } : Jvm.MethodName) prog_12_method_7_code (1 : Nat) (Option.some Jvm.ClassFile.FieldType.boolean)) ∈ lw_all := lw_g (lw_at lw_m9 153 rfl) rfl
theorem q2154 : (Jvm.Cond.constantLong "LifeofficeModel" (172 : Nat) (2 : Int64)) ∈ lw_all := lw_g (lw_at lw_m9 154 rfl) rfl
theorem q2155 : (Jvm.Cond.constantLong "LifeofficeModel" (349 : Nat) (150 : Int64)) ∈ lw_all := lw_g (lw_at lw_m9 155 rfl) rfl
theorem q2156 : (Jvm.Cond.constantLong "LifeofficeModel" (330 : Nat) (50 : Int64)) ∈ lw_all := lw_g (lw_at lw_m9 156 rfl) rfl
theorem q2157 : (Jvm.Cond.constantLong "LifeofficeModel" (351 : Nat) (200 : Int64)) ∈ lw_all := lw_g (lw_at lw_m9 157 rfl) rfl
theorem q2158 : (Jvm.Cond.methodLink "LifeofficeModel" (259 : Nat) ({ cls := "LifeofficeModel", name := "allReserves", desc := "(I)J" } : Jvm.MethodName)) ∈ lw_all := lw_g (lw_at lw_m9 158 rfl) rfl
theorem q2159 : (Jvm.Cond.privateMethod ({ cls := "LifeofficeModel", name := "allReserves", desc := "(I)J" } : Jvm.MethodName)) ∈ lw_tbl := lw_at lw_m9 159 rfl
theorem q2160 : (Jvm.Cond.instanceMethod ({ cls := "LifeofficeModel", name := "allReserves", desc := "(I)J" } : Jvm.MethodName)) ∈ lw_all := lw_g (lw_at lw_m9 160 rfl) rfl
theorem q2161 : (Jvm.Cond.code ({ cls := "LifeofficeModel", name := "allReserves", desc := "(I)J" } : Jvm.MethodName) prog_12_method_18_code (5 : Nat) (Option.some Jvm.ClassFile.FieldType.long)) ∈ lw_all := lw_g (lw_at lw_m9 161 rfl) rfl
theorem q2162 : (Jvm.Cond.methodLink "LifeofficeModel" (244 : Nat) ({ cls := "LifeofficeModel", name := "reserveAt", desc := "(III)J" } : Jvm.MethodName)) ∈ lw_all := lw_g (lw_at lw_m9 162 rfl) rfl
theorem q2163 : (Jvm.Cond.privateMethod ({ cls := "LifeofficeModel", name := "reserveAt", desc := "(III)J" } : Jvm.MethodName)) ∈ lw_tbl := lw_at lw_m9 163 rfl
theorem q2164 : (Jvm.Cond.instanceMethod ({ cls := "LifeofficeModel", name := "reserveAt", desc := "(III)J" } : Jvm.MethodName)) ∈ lw_all := lw_g (lw_at lw_m9 164 rfl) rfl
theorem q2165 : (Jvm.Cond.code ({ cls := "LifeofficeModel", name := "reserveAt", desc := "(III)J" } : Jvm.MethodName) prog_12_method_17_code (6 : Nat) (Option.some Jvm.ClassFile.FieldType.long)) ∈ lw_all := lw_g (lw_at lw_m9 165 rfl) rfl
theorem q2166 : (Jvm.Cond.methodLink "LifeofficeModel" (234 : Nat) ({ cls := "LifeofficeModel", name := "isLiving", desc := "(I)Z" } : Jvm.MethodName)) ∈ lw_all := lw_g (lw_at lw_m9 166 rfl) rfl
theorem q2167 : (Jvm.Cond.privateMethod ({ cls := "LifeofficeModel", name := "isLiving", desc := "(I)Z" } : Jvm.MethodName)) ∈ lw_tbl := lw_at lw_m9 167 rfl
theorem q2168 : (Jvm.Cond.instanceMethod ({ cls := "LifeofficeModel", name := "isLiving", desc := "(I)Z" } : Jvm.MethodName)) ∈ lw_all := lw_g (lw_at lw_m9 168 rfl) rfl
theorem q2169 : (Jvm.Cond.code ({ cls := "LifeofficeModel", name := "isLiving", desc := "(I)Z" } : Jvm.MethodName) prog_12_method_8_code (2 : Nat) (Option.some Jvm.ClassFile.FieldType.boolean)) ∈ lw_all := lw_g (lw_at lw_m9 169 rfl) rfl
theorem q2170 : (Jvm.Cond.methodLink "LifeofficeModel" (227 : Nat) ({ cls := "LifeofficeModel", name := "runs", desc := "(III)V" } : Jvm.MethodName)) ∈ lw_all := lw_g (lw_at lw_m9 170 rfl) rfl
theorem q2171 : (Jvm.Cond.privateMethod ({ cls := "LifeofficeModel", name := "runs", desc := "(III)V" } : Jvm.MethodName)) ∈ lw_tbl := lw_at lw_m9 171 rfl
theorem q2172 : (Jvm.Cond.instanceMethod ({ cls := "LifeofficeModel", name := "runs", desc := "(III)V" } : Jvm.MethodName)) ∈ lw_all := lw_g (lw_at lw_m9 172 rfl) rfl
theorem q2173 : (Jvm.Cond.code ({ cls := "LifeofficeModel", name := "runs", desc := "(III)V" } : Jvm.MethodName) prog_12_method_15_code (4 : Nat) (Option.none : Option Jvm.ClassFile.FieldType)) ∈ lw_all := lw_g (lw_at lw_m9 173 rfl) rfl
theorem q2174 : (Jvm.Cond.methodLink "LifeofficeModel" (223 : Nat) ({ cls := "LifeofficeModel", name := "runs", desc := "(IIIIIIII)V" } : Jvm.MethodName)) ∈ lw_all := lw_g (lw_at lw_m9 174 rfl) rfl
theorem q2175 : (Jvm.Cond.privateMethod ({ cls := "LifeofficeModel", name := "runs", desc := "(IIIIIIII)V" } : Jvm.MethodName)) ∈ lw_tbl := lw_at lw_m9 175 rfl
theorem q2176 : (Jvm.Cond.instanceMethod ({ cls := "LifeofficeModel", name := "runs", desc := "(IIIIIIII)V" } : Jvm.MethodName)) ∈ lw_all := lw_g (lw_at lw_m9 176 rfl) rfl
theorem q2177 : (Jvm.Cond.code ({ cls := "LifeofficeModel", name := "runs", desc := "(IIIIIIII)V" } : Jvm.MethodName) prog_12_method_13_code (22 : Nat) (Option.none : Option Jvm.ClassFile.FieldType)) ∈ lw_all := lw_g (lw_at lw_m9 177 rfl) rfl
theorem q2178 : (Jvm.Cond.constantLong "LifeofficeModel" (180 : Nat) (1000000 : Int64)) ∈ lw_all := lw_g (lw_at lw_m9 178 rfl) rfl
theorem q2179 : (Jvm.Cond.methodLink "LifeofficeModel" (201 : Nat) ({ cls := "LifeofficeModel", name := "mortalityOf", desc := "(IIIIII)J" } : Jvm.MethodName)) ∈ lw_all := lw_g (lw_at lw_m9 179 rfl) rfl
theorem q2180 : (Jvm.Cond.privateMethod ({ cls := "LifeofficeModel", name := "mortalityOf", desc := "(IIIIII)J" } : Jvm.MethodName)) ∈ lw_tbl := lw_at lw_m9 180 rfl
theorem q2181 : (Jvm.Cond.instanceMethod ({ cls := "LifeofficeModel", name := "mortalityOf", desc := "(IIIIII)J" } : Jvm.MethodName)) ∈ lw_all := lw_g (lw_at lw_m9 181 rfl) rfl
theorem q2182 : (Jvm.Cond.code ({ cls := "LifeofficeModel", name := "mortalityOf", desc := "(IIIIII)J" } : Jvm.MethodName) prog_12_method_11_code (11 : Nat) (Option.some Jvm.ClassFile.FieldType.long)) ∈ lw_all := lw_g (lw_at lw_m9 182 rfl) rfl
theorem q2183 : (Jvm.Cond.constantLong "LifeofficeModel" (174 : Nat) (110 : Int64)) ∈ lw_all := lw_g (lw_at lw_m9 183 rfl) rfl
theorem q2184 : (Jvm.Cond.constantLong "LifeofficeModel" (176 : Nat) (100000 : Int64)) ∈ lw_all := lw_g (lw_at lw_m9 184 rfl) rfl
theorem q2185 : (Jvm.Cond.constantLong "LifeofficeModel" (178 : Nat) (20 : Int64)) ∈ lw_all := lw_g (lw_at lw_m9 185 rfl) rfl
theorem q2186 : (Jvm.Cond.constantLong "LifeofficeModel" (182 : Nat) (4 : Int64)) ∈ lw_all := lw_g (lw_at lw_m9 186 rfl) rfl
theorem q2187 : (Jvm.Cond.constantLong "LifeofficeModel" (184 : Nat) (5 : Int64)) ∈ lw_all := lw_g (lw_at lw_m9 187 rfl) rfl
theorem q2188 : (Jvm.Cond.constantLong "LifeofficeModel" (186 : Nat) (3 : Int64)) ∈ lw_all := lw_g (lw_at lw_m9 188 rfl) rfl
theorem q2189 : (Jvm.Cond.methodLink "LifeofficeModel" (188 : Nat) ({ cls := "java/lang/Math", name := "min", desc := "(II)I" } : Jvm.MethodName)) ∈ lw_all := lw_g (lw_at lw_m9 189 rfl) rfl
theorem q2190 : (Jvm.Cond.constantLong "LifeofficeModel" (194 : Nat) (1000 : Int64)) ∈ lw_all := lw_g (lw_at lw_m9 190 rfl) rfl
theorem q2191 : (Jvm.Cond.constantLong "LifeofficeModel" (196 : Nat) (100 : Int64)) ∈ lw_all := lw_g (lw_at lw_m9 191 rfl) rfl
theorem q2192 : (Jvm.Cond.methodLink "LifeofficeModel" (198 : Nat) ({ cls := "java/lang/Math", name := "min", desc := "(JJ)J" } : Jvm.MethodName)) ∈ lw_all := lw_g (lw_at lw_m9 192 rfl) rfl
theorem q2193 : (Jvm.Cond.methodLink "LifeofficeModel" (238 : Nat) ({ cls := "java/lang/Math", name := "floorDiv", desc := "(JJ)J" } : Jvm.MethodName)) ∈ lw_all := lw_g (lw_at lw_m9 193 rfl) rfl
theorem q2194 : (Jvm.Cond.methodLink "LifeofficeModel" (230 : Nat) ({ cls := "LifeofficeModel", name := "netOf", desc := "(IJ)J" } : Jvm.MethodName)) ∈ lw_all := lw_g (lw_at lw_m9 194 rfl) rfl
theorem q2195 : (Jvm.Cond.privateMethod ({ cls := "LifeofficeModel", name := "netOf", desc := "(IJ)J" } : Jvm.MethodName)) ∈ lw_tbl := lw_at lw_m9 195 rfl
theorem q2196 : (Jvm.Cond.instanceMethod ({ cls := "LifeofficeModel", name := "netOf", desc := "(IJ)J" } : Jvm.MethodName)) ∈ lw_all := lw_g (lw_at lw_m9 196 rfl) rfl
theorem q2197 : (Jvm.Cond.code ({ cls := "LifeofficeModel", name := "netOf", desc := "(IJ)J" } : Jvm.MethodName) prog_12_method_14_code (4 : Nat) (Option.some Jvm.ClassFile.FieldType.long)) ∈ lw_all := lw_g (lw_at lw_m9 197 rfl) rfl
theorem q2198 : (Jvm.Cond.methodLink "LifeofficeModel" (241 : Nat) ({ cls := "java/lang/Math", name := "max", desc := "(JJ)J" } : Jvm.MethodName)) ∈ lw_all := lw_g (lw_at lw_m9 198 rfl) rfl
theorem q2200 : (Jvm.Cond.instanceMethod ({ cls := "LifeofficeModel", name := "setImprovement", desc := "(I)I" } : Jvm.MethodName)) ∈ lw_all := lw_g (lw_at lw_m9 200 rfl) rfl
theorem q2201 : (Jvm.Cond.selects "LifeofficeModel" ({ cls := "LifeofficeModel", name := "setImprovement", desc := "(I)I" } : Jvm.MethodName) ({ cls := "LifeofficeModel", name := "setImprovement", desc := "(I)I" } : Jvm.MethodName)) ∈ lw_all := lw_g (lw_at lw_m9 201 rfl) rfl
theorem q2202 : (Jvm.Cond.code ({ cls := "LifeofficeModel", name := "setImprovement", desc := "(I)I" } : Jvm.MethodName) prog_12_method_46_code (5 : Nat) (Option.some Jvm.ClassFile.FieldType.int)) ∈ lw_all := lw_g (lw_at lw_m9 202 rfl) rfl
theorem q2204 : (Jvm.Cond.instanceMethod ({ cls := "LifeofficeModel", name := "setLoading", desc := "(II)I" } : Jvm.MethodName)) ∈ lw_all := lw_g (lw_at lw_m9 204 rfl) rfl
theorem q2205 : (Jvm.Cond.selects "LifeofficeModel" ({ cls := "LifeofficeModel", name := "setLoading", desc := "(II)I" } : Jvm.MethodName) ({ cls := "LifeofficeModel", name := "setLoading", desc := "(II)I" } : Jvm.MethodName)) ∈ lw_all := lw_g (lw_at lw_m9 205 rfl) rfl
theorem q2206 : (Jvm.Cond.code ({ cls := "LifeofficeModel", name := "setLoading", desc := "(II)I" } : Jvm.MethodName) prog_12_method_47_code (4 : Nat) (Option.some Jvm.ClassFile.FieldType.int)) ∈ lw_all := lw_g (lw_at lw_m9 206 rfl) rfl
theorem q2207 : (Jvm.Cond.constantLong "LifeofficeModel" (353 : Nat) (500 : Int64)) ∈ lw_all := lw_g (lw_at lw_m9 207 rfl) rfl
theorem q2209 : (Jvm.Cond.instanceMethod ({ cls := "LifeofficeModel", name := "mortality", desc := "(IIIII)I" } : Jvm.MethodName)) ∈ lw_all := lw_g (lw_at lw_m9 209 rfl) rfl
theorem q2210 : (Jvm.Cond.selects "LifeofficeModel" ({ cls := "LifeofficeModel", name := "mortality", desc := "(IIIII)I" } : Jvm.MethodName) ({ cls := "LifeofficeModel", name := "mortality", desc := "(IIIII)I" } : Jvm.MethodName)) ∈ lw_all := lw_g (lw_at lw_m9 210 rfl) rfl
theorem q2211 : (Jvm.Cond.code ({ cls := "LifeofficeModel", name := "mortality", desc := "(IIIII)I" } : Jvm.MethodName) prog_12_method_48_code (6 : Nat) (Option.some Jvm.ClassFile.FieldType.int)) ∈ lw_all := lw_g (lw_at lw_m9 211 rfl) rfl
theorem q2212 : (Jvm.Cond.constantLong "LifeofficeModel" (355 : Nat) (1800 : Int64)) ∈ lw_all := lw_g (lw_at lw_m9 212 rfl) rfl
theorem q2213 : (Jvm.Cond.constantLong "LifeofficeModel" (357 : Nat) (2150 : Int64)) ∈ lw_all := lw_g (lw_at lw_m9 213 rfl) rfl
theorem q2214 : (Jvm.Cond.constantLong "LifeofficeModel" (359 : Nat) (2260 : Int64)) ∈ lw_all := lw_g (lw_at lw_m9 214 rfl) rfl
theorem q2216 : (Jvm.Cond.instanceMethod ({ cls := "LifeofficeModel", name := "money", desc := "(I)J" } : Jvm.MethodName)) ∈ lw_all := lw_g (lw_at lw_m9 216 rfl) rfl
theorem q2217 : (Jvm.Cond.selects "LifeofficeModel" ({ cls := "LifeofficeModel", name := "money", desc := "(I)J" } : Jvm.MethodName) ({ cls := "LifeofficeModel", name := "money", desc := "(I)J" } : Jvm.MethodName)) ∈ lw_all := lw_g (lw_at lw_m9 217 rfl) rfl
theorem q2218 : (Jvm.Cond.code ({ cls := "LifeofficeModel", name := "money", desc := "(I)J" } : Jvm.MethodName) prog_12_method_49_code (2 : Nat) (Option.some Jvm.ClassFile.FieldType.long)) ∈ lw_all := lw_g (lw_at lw_m9 218 rfl) rfl
theorem q2219 : (Jvm.Cond.methodLink "LifeofficeModel" (256 : Nat) ({ cls := "LifeofficeModel", name := "fund", desc := "()J" } : Jvm.MethodName)) ∈ lw_all := lw_g (lw_at lw_m9 219 rfl) rfl
theorem q2220 : (Jvm.Cond.privateMethod ({ cls := "LifeofficeModel", name := "fund", desc := "()J" } : Jvm.MethodName)) ∈ lw_tbl := lw_at lw_m9 220 rfl
theorem q2221 : (Jvm.Cond.instanceMethod ({ cls := "LifeofficeModel", name := "fund", desc := "()J" } : Jvm.MethodName)) ∈ lw_all := lw_g (lw_at lw_m9 221 rfl) rfl
theorem q2222 : (Jvm.Cond.code ({ cls := "LifeofficeModel", name := "fund", desc := "()J" } : Jvm.MethodName) prog_12_method_21_code (4 : Nat) (Option.some Jvm.ClassFile.FieldType.long)) ∈ lw_all := lw_g (lw_at lw_m9 222 rfl) rfl
theorem q2223 : (Jvm.Cond.methodLink "LifeofficeModel" (252 : Nat) ({ cls := "LifeofficeModel", name := "loans", desc := "()J" } : Jvm.MethodName)) ∈ lw_all := lw_g (lw_at lw_m9 223 rfl) rfl
theorem q2224 : (Jvm.Cond.privateMethod ({ cls := "LifeofficeModel", name := "loans", desc := "()J" } : Jvm.MethodName)) ∈ lw_tbl := lw_at lw_m9 224 rfl
theorem q2225 : (Jvm.Cond.instanceMethod ({ cls := "LifeofficeModel", name := "loans", desc := "()J" } : Jvm.MethodName)) ∈ lw_all := lw_g (lw_at lw_m9 225 rfl) rfl
theorem q2226 : (Jvm.Cond.code ({ cls := "LifeofficeModel", name := "loans", desc := "()J" } : Jvm.MethodName) prog_12_method_20_code (4 : Nat) (Option.some Jvm.ClassFile.FieldType.long)) ∈ lw_all := lw_g (lw_at lw_m9 226 rfl) rfl
theorem q2227 : (Jvm.Cond.methodLink "LifeofficeModel" (361 : Nat) ({ cls := "LifeofficeModel", name := "estate", desc := "()J" } : Jvm.MethodName)) ∈ lw_all := lw_g (lw_at lw_m9 227 rfl) rfl
theorem q2228 : (Jvm.Cond.privateMethod ({ cls := "LifeofficeModel", name := "estate", desc := "()J" } : Jvm.MethodName)) ∈ lw_tbl := lw_at lw_m9 228 rfl
theorem q2229 : (Jvm.Cond.instanceMethod ({ cls := "LifeofficeModel", name := "estate", desc := "()J" } : Jvm.MethodName)) ∈ lw_all := lw_g (lw_at lw_m9 229 rfl) rfl
theorem q2230 : (Jvm.Cond.code ({ cls := "LifeofficeModel", name := "estate", desc := "()J" } : Jvm.MethodName) prog_12_method_22_code (1 : Nat) (Option.some Jvm.ClassFile.FieldType.long)) ∈ lw_all := lw_g (lw_at lw_m9 230 rfl) rfl
theorem q2232 : (Jvm.Cond.instanceMethod ({ cls := "LifeofficeModel", name := "quote", desc := "(IIIIII)J" } : Jvm.MethodName)) ∈ lw_all := lw_g (lw_at lw_m9 232 rfl) rfl
theorem q2233 : (Jvm.Cond.selects "LifeofficeModel" ({ cls := "LifeofficeModel", name := "quote", desc := "(IIIIII)J" } : Jvm.MethodName) ({ cls := "LifeofficeModel", name := "quote", desc := "(IIIIII)J" } : Jvm.MethodName)) ∈ lw_all := lw_g (lw_at lw_m9 233 rfl) rfl
theorem q2234 : (Jvm.Cond.code ({ cls := "LifeofficeModel", name := "quote", desc := "(IIIIII)J" } : Jvm.MethodName) prog_12_method_53_code (7 : Nat) (Option.some Jvm.ClassFile.FieldType.long)) ∈ lw_all := lw_g (lw_at lw_m9 234 rfl) rfl
theorem q2235 : (Jvm.Cond.methodLink "LifeofficeModel" (373 : Nat) ({ cls := "LifeofficeModel", name := "isOffer", desc := "(IIIIII)Z" } : Jvm.MethodName)) ∈ lw_all := lw_g (lw_at lw_m9 235 rfl) rfl
theorem q2236 : (Jvm.Cond.privateMethod ({ cls := "LifeofficeModel", name := "isOffer", desc := "(IIIIII)Z" } : Jvm.MethodName)) ∈ lw_tbl := lw_at lw_m9 236 rfl
theorem q2237 : (Jvm.Cond.instanceMethod ({ cls := "LifeofficeModel", name := "isOffer", desc := "(IIIIII)Z" } : Jvm.MethodName)) ∈ lw_all := lw_g (lw_at lw_m9 237 rfl) rfl
theorem q2238 : (Jvm.Cond.code ({ cls := "LifeofficeModel", name := "isOffer", desc := "(IIIIII)Z" } : Jvm.MethodName) prog_12_method_50_code (8 : Nat) (Option.some Jvm.ClassFile.FieldType.boolean)) ∈ lw_all := lw_g (lw_at lw_m9 238 rfl) rfl
theorem q2239 : (Jvm.Cond.constantLong "LifeofficeModel" (293 : Nat) (60 : Int64)) ∈ lw_all := lw_g (lw_at lw_m9 239 rfl) rfl
theorem q2240 : (Jvm.Cond.constantLong "LifeofficeModel" (364 : Nat) (80 : Int64)) ∈ lw_all := lw_g (lw_at lw_m10 0 rfl) rfl
theorem q2241 : (Jvm.Cond.constantLong "LifeofficeModel" (366 : Nat) (7 : Int64)) ∈ lw_all := lw_g (lw_at lw_m10 1 rfl) rfl
theorem q2242 : (Jvm.Cond.constantLong "LifeofficeModel" (368 : Nat) (300 : Int64)) ∈ lw_all := lw_g (lw_at lw_m10 2 rfl) rfl
theorem q2243 : (Jvm.Cond.methodLink "LifeofficeModel" (377 : Nat) ({ cls := "LifeofficeModel", name := "premiumOf", desc := "(IIIIII)J" } : Jvm.MethodName)) ∈ lw_all := lw_g (lw_at lw_m10 3 rfl) rfl
theorem q2244 : (Jvm.Cond.privateMethod ({ cls := "LifeofficeModel", name := "premiumOf", desc := "(IIIIII)J" } : Jvm.MethodName)) ∈ lw_tbl := lw_at lw_m10 4 rfl
theorem q2245 : (Jvm.Cond.instanceMethod ({ cls := "LifeofficeModel", name := "premiumOf", desc := "(IIIIII)J" } : Jvm.MethodName)) ∈ lw_all := lw_g (lw_at lw_m10 5 rfl) rfl
theorem q2246 : (Jvm.Cond.code ({ cls := "LifeofficeModel", name := "premiumOf", desc := "(IIIIII)J" } : Jvm.MethodName) prog_12_method_52_code (7 : Nat) (Option.some Jvm.ClassFile.FieldType.long)) ∈ lw_all := lw_g (lw_at lw_m10 6 rfl) rfl
theorem q2247 : (Jvm.Cond.methodLink "LifeofficeModel" (370 : Nat) ({ cls := "LifeofficeModel", name := "endOf", desc := "(III)I" } : Jvm.MethodName)) ∈ lw_all := lw_g (lw_at lw_m10 7 rfl) rfl
theorem q2248 : (Jvm.Cond.privateMethod ({ cls := "LifeofficeModel", name := "endOf", desc := "(III)I" } : Jvm.MethodName)) ∈ lw_tbl := lw_at lw_m10 8 rfl
theorem q2249 : (Jvm.Cond.instanceMethod ({ cls := "LifeofficeModel", name := "endOf", desc := "(III)I" } : Jvm.MethodName)) ∈ lw_all := lw_g (lw_at lw_m10 9 rfl) rfl
theorem q2250 : (Jvm.Cond.code ({ cls := "LifeofficeModel", name := "endOf", desc := "(III)I" } : Jvm.MethodName) prog_12_method_51_code (4 : Nat) (Option.some Jvm.ClassFile.FieldType.int)) ∈ lw_all := lw_g (lw_at lw_m10 10 rfl) rfl
theorem q2252 : (Jvm.Cond.instanceMethod ({ cls := "LifeofficeModel", name := "issue", desc := "(IIIIII)I" } : Jvm.MethodName)) ∈ lw_all := lw_g (lw_at lw_m10 12 rfl) rfl
theorem q2253 : (Jvm.Cond.selects "LifeofficeModel" ({ cls := "LifeofficeModel", name := "issue", desc := "(IIIIII)I" } : Jvm.MethodName) ({ cls := "LifeofficeModel", name := "issue", desc := "(IIIIII)I" } : Jvm.MethodName)) ∈ lw_all := lw_g (lw_at lw_m10 13 rfl) rfl
theorem q2254 : (Jvm.Cond.code ({ cls := "LifeofficeModel", name := "issue", desc := "(IIIIII)I" } : Jvm.MethodName) prog_12_method_54_code (8 : Nat) (Option.some Jvm.ClassFile.FieldType.int)) ∈ lw_all := lw_g (lw_at lw_m10 14 rfl) rfl
theorem q2256 : (Jvm.Cond.instanceMethod ({ cls := "LifeofficeModel", name := "policies", desc := "()I" } : Jvm.MethodName)) ∈ lw_all := lw_g (lw_at lw_m10 16 rfl) rfl
theorem q2257 : (Jvm.Cond.selects "LifeofficeModel" ({ cls := "LifeofficeModel", name := "policies", desc := "()I" } : Jvm.MethodName) ({ cls := "LifeofficeModel", name := "policies", desc := "()I" } : Jvm.MethodName)) ∈ lw_all := lw_g (lw_at lw_m10 17 rfl) rfl
theorem q2258 : (Jvm.Cond.code ({ cls := "LifeofficeModel", name := "policies", desc := "()I" } : Jvm.MethodName) prog_12_method_55_code (1 : Nat) (Option.some Jvm.ClassFile.FieldType.int)) ∈ lw_all := lw_g (lw_at lw_m10 18 rfl) rfl
theorem q2260 : (Jvm.Cond.instanceMethod ({ cls := "LifeofficeModel", name := "stateOf", desc := "(I)I" } : Jvm.MethodName)) ∈ lw_all := lw_g (lw_at lw_m10 20 rfl) rfl
theorem q2261 : (Jvm.Cond.selects "LifeofficeModel" ({ cls := "LifeofficeModel", name := "stateOf", desc := "(I)I" } : Jvm.MethodName) ({ cls := "LifeofficeModel", name := "stateOf", desc := "(I)I" } : Jvm.MethodName)) ∈ lw_all := lw_g (lw_at lw_m10 21 rfl) rfl
theorem q2262 : (Jvm.Cond.code ({ cls := "LifeofficeModel", name := "stateOf", desc := "(I)I" } : Jvm.MethodName) prog_12_method_56_code (2 : Nat) (Option.some Jvm.ClassFile.FieldType.int)) ∈ lw_all := lw_g (lw_at lw_m10 22 rfl) rfl
theorem q2263 : (Jvm.Cond.methodLink "LifeofficeModel" (380 : Nat) ({ cls := "LifeofficeModel", name := "isPolicy", desc := "(I)Z" } : Jvm.MethodName)) ∈ lw_all := lw_g (lw_at lw_m10 23 rfl) rfl
theorem q2264 : (Jvm.Cond.privateMethod ({ cls := "LifeofficeModel", name := "isPolicy", desc := "(I)Z" } : Jvm.MethodName)) ∈ lw_tbl := lw_at lw_m10 24 rfl
theorem q2265 : (Jvm.Cond.instanceMethod ({ cls := "LifeofficeModel", name := "isPolicy", desc := "(I)Z" } : Jvm.MethodName)) ∈ lw_all := lw_g (lw_at lw_m10 25 rfl) rfl
theorem q2266 : (Jvm.Cond.code ({ cls := "LifeofficeModel", name := "isPolicy", desc := "(I)Z" } : Jvm.MethodName) prog_12_method_6_code (2 : Nat) (Option.some Jvm.ClassFile.FieldType.boolean)) ∈ lw_all := lw_g (lw_at lw_m10 26 rfl) rfl
theorem q2268 : (Jvm.Cond.instanceMethod ({ cls := "LifeofficeModel", name := "policyAt", desc := "(II)J" } : Jvm.MethodName)) ∈ lw_all := lw_g (lw_at lw_m10 28 rfl) rfl
theorem q2269 : (Jvm.Cond.selects "LifeofficeModel" ({ cls := "LifeofficeModel", name := "policyAt", desc := "(II)J" } : Jvm.MethodName) ({ cls := "LifeofficeModel", name := "policyAt", desc := "(II)J" } : Jvm.MethodName)) ∈ lw_all := lw_g (lw_at lw_m10 29 rfl) rfl
theorem q2270 : (Jvm.Cond.code ({ cls := "LifeofficeModel", name := "policyAt", desc := "(II)J" } : Jvm.MethodName) prog_12_method_57_code (3 : Nat) (Option.some Jvm.ClassFile.FieldType.long)) ∈ lw_all := lw_g (lw_at lw_m10 30 rfl) rfl
theorem q2271 : (Jvm.Cond.methodLink "LifeofficeModel" (302 : Nat) ({ cls := "LifeofficeModel", name := "surrenderAt", desc := "(II)J" } : Jvm.MethodName)) ∈ lw_all := lw_g (lw_at lw_m10 31 rfl) rfl
theorem q2272 : (Jvm.Cond.privateMethod ({ cls := "LifeofficeModel", name := "surrenderAt", desc := "(II)J" } : Jvm.MethodName)) ∈ lw_tbl := lw_at lw_m10 32 rfl
theorem q2273 : (Jvm.Cond.instanceMethod ({ cls := "LifeofficeModel", name := "surrenderAt", desc := "(II)J" } : Jvm.MethodName)) ∈ lw_all := lw_g (lw_at lw_m10 33 rfl) rfl
theorem q2274 : (Jvm.Cond.code ({ cls := "LifeofficeModel", name := "surrenderAt", desc := "(II)J" } : Jvm.MethodName) prog_12_method_19_code (3 : Nat) (Option.some Jvm.ClassFile.FieldType.long)) ∈ lw_all := lw_g (lw_at lw_m10 34 rfl) rfl
theorem q2275 : (Jvm.Cond.constantLong "LifeofficeModel" (248 : Nat) (9 : Int64)) ∈ lw_all := lw_g (lw_at lw_m10 35 rfl) rfl
theorem q2276 : (Jvm.Cond.constantLong "LifeofficeModel" (250 : Nat) (10 : Int64)) ∈ lw_all := lw_g (lw_at lw_m10 36 rfl) rfl
theorem q2278 : (Jvm.Cond.instanceMethod ({ cls := "LifeofficeModel", name := "reserve", desc := "(II)J" } : Jvm.MethodName)) ∈ lw_all := lw_g (lw_at lw_m10 38 rfl) rfl
theorem q2279 : (Jvm.Cond.selects "LifeofficeModel" ({ cls := "LifeofficeModel", name := "reserve", desc := "(II)J" } : Jvm.MethodName) ({ cls := "LifeofficeModel", name := "reserve", desc := "(II)J" } : Jvm.MethodName)) ∈ lw_all := lw_g (lw_at lw_m10 39 rfl) rfl
theorem q2280 : (Jvm.Cond.code ({ cls := "LifeofficeModel", name := "reserve", desc := "(II)J" } : Jvm.MethodName) prog_12_method_58_code (3 : Nat) (Option.some Jvm.ClassFile.FieldType.long)) ∈ lw_all := lw_g (lw_at lw_m10 40 rfl) rfl
theorem q2282 : (Jvm.Cond.instanceMethod ({ cls := "LifeofficeModel", name := "reserves", desc := "(I)J" } : Jvm.MethodName)) ∈ lw_all := lw_g (lw_at lw_m10 42 rfl) rfl
theorem q2283 : (Jvm.Cond.selects "LifeofficeModel" ({ cls := "LifeofficeModel", name := "reserves", desc := "(I)J" } : Jvm.MethodName) ({ cls := "LifeofficeModel", name := "reserves", desc := "(I)J" } : Jvm.MethodName)) ∈ lw_all := lw_g (lw_at lw_m10 43 rfl) rfl
theorem q2284 : (Jvm.Cond.code ({ cls := "LifeofficeModel", name := "reserves", desc := "(I)J" } : Jvm.MethodName) prog_12_method_59_code (2 : Nat) (Option.some Jvm.ClassFile.FieldType.long)) ∈ lw_all := lw_g (lw_at lw_m10 44 rfl) rfl
theorem q2286 : (Jvm.Cond.instanceMethod ({ cls := "LifeofficeModel", name := "makePaidUp", desc := "(I)I" } : Jvm.MethodName)) ∈ lw_all := lw_g (lw_at lw_m10 46 rfl) rfl
theorem q2287 : (Jvm.Cond.selects "LifeofficeModel" ({ cls := "LifeofficeModel", name := "makePaidUp", desc := "(I)I" } : Jvm.MethodName) ({ cls := "LifeofficeModel", name := "makePaidUp", desc := "(I)I" } : Jvm.MethodName)) ∈ lw_all := lw_g (lw_at lw_m10 47 rfl) rfl
theorem q2288 : (Jvm.Cond.code ({ cls := "LifeofficeModel", name := "makePaidUp", desc := "(I)I" } : Jvm.MethodName) prog_12_method_60_code (4 : Nat) (Option.some Jvm.ClassFile.FieldType.int)) ∈ lw_all := lw_g (lw_at lw_m10 48 rfl) rfl
theorem q2290 : (Jvm.Cond.instanceMethod ({ cls := "LifeofficeModel", name := "lend", desc := "(II)J" } : Jvm.MethodName)) ∈ lw_all := lw_g (lw_at lw_m10 50 rfl) rfl
theorem q2291 : (Jvm.Cond.selects "LifeofficeModel" ({ cls := "LifeofficeModel", name := "lend", desc := "(II)J" } : Jvm.MethodName) ({ cls := "LifeofficeModel", name := "lend", desc := "(II)J" } : Jvm.MethodName)) ∈ lw_all := lw_g (lw_at lw_m10 51 rfl) rfl
theorem q2292 : (Jvm.Cond.code ({ cls := "LifeofficeModel", name := "lend", desc := "(II)J" } : Jvm.MethodName) prog_12_method_61_code (3 : Nat) (Option.some Jvm.ClassFile.FieldType.long)) ∈ lw_all := lw_g (lw_at lw_m10 52 rfl) rfl
theorem q2293 : (Jvm.Cond.methodLink "LifeofficeModel" (383 : Nat) ({ cls := "LifeofficeModel", name := "isQuiet", desc := "(I)Z" } : Jvm.MethodName)) ∈ lw_all := lw_g (lw_at lw_m10 53 rfl) rfl
theorem q2294 : (Jvm.Cond.privateMethod ({ cls := "LifeofficeModel", name := "isQuiet", desc := "(I)Z" } : Jvm.MethodName)) ∈ lw_tbl := lw_at lw_m10 54 rfl
theorem q2295 : (Jvm.Cond.instanceMethod ({ cls := "LifeofficeModel", name := "isQuiet", desc := "(I)Z" } : Jvm.MethodName)) ∈ lw_all := lw_g (lw_at lw_m10 55 rfl) rfl
theorem q2296 : (Jvm.Cond.code ({ cls := "LifeofficeModel", name := "isQuiet", desc := "(I)Z" } : Jvm.MethodName) prog_12_method_9_code (2 : Nat) (Option.some Jvm.ClassFile.FieldType.boolean)) ∈ lw_all := lw_g (lw_at lw_m10 56 rfl) rfl
theorem q2298 : (Jvm.Cond.instanceMethod ({ cls := "LifeofficeModel", name := "repay", desc := "(II)J" } : Jvm.MethodName)) ∈ lw_all := lw_g (lw_at lw_m10 58 rfl) rfl
theorem q2299 : (Jvm.Cond.selects "LifeofficeModel" ({ cls := "LifeofficeModel", name := "repay", desc := "(II)J" } : Jvm.MethodName) ({ cls := "LifeofficeModel", name := "repay", desc := "(II)J" } : Jvm.MethodName)) ∈ lw_all := lw_g (lw_at lw_m10 59 rfl) rfl
theorem q2300 : (Jvm.Cond.code ({ cls := "LifeofficeModel", name := "repay", desc := "(II)J" } : Jvm.MethodName) prog_12_method_62_code (3 : Nat) (Option.some Jvm.ClassFile.FieldType.long)) ∈ lw_all := lw_g (lw_at lw_m10 60 rfl) rfl
theorem q2302 : (Jvm.Cond.instanceMethod ({ cls := "LifeofficeModel", name := "tellDeath", desc := "(II)J" } : Jvm.MethodName)) ∈ lw_all := lw_g (lw_at lw_m10 62 rfl) rfl
theorem q2303 : (Jvm.Cond.selects "LifeofficeModel" ({ cls := "LifeofficeModel", name := "tellDeath", desc := "(II)J" } : Jvm.MethodName) ({ cls := "LifeofficeModel", name := "tellDeath", desc := "(II)J" } : Jvm.MethodName)) ∈ lw_all := lw_g (lw_at lw_m10 63 rfl) rfl
theorem q2304 : (Jvm.Cond.code ({ cls := "LifeofficeModel", name := "tellDeath", desc := "(II)J" } : Jvm.MethodName) prog_12_method_63_code (3 : Nat) (Option.some Jvm.ClassFile.FieldType.long)) ∈ lw_all := lw_g (lw_at lw_m10 64 rfl) rfl
theorem q2305 : (Jvm.Cond.methodLink "LifeofficeModel" (295 : Nat) ({ cls := "LifeofficeModel", name := "claim", desc := "(I)J" } : Jvm.MethodName)) ∈ lw_all := lw_g (lw_at lw_m10 65 rfl) rfl
theorem q2306 : (Jvm.Cond.privateMethod ({ cls := "LifeofficeModel", name := "claim", desc := "(I)J" } : Jvm.MethodName)) ∈ lw_tbl := lw_at lw_m10 66 rfl
theorem q2307 : (Jvm.Cond.instanceMethod ({ cls := "LifeofficeModel", name := "claim", desc := "(I)J" } : Jvm.MethodName)) ∈ lw_all := lw_g (lw_at lw_m10 67 rfl) rfl
theorem q2308 : (Jvm.Cond.code ({ cls := "LifeofficeModel", name := "claim", desc := "(I)J" } : Jvm.MethodName) prog_12_method_25_code (8 : Nat) (Option.some Jvm.ClassFile.FieldType.long)) ∈ lw_all := lw_g (lw_at lw_m10 68 rfl) rfl
theorem q2309 : (Jvm.Cond.methodLink "LifeofficeModel" (266 : Nat) ({ cls := "LifeofficeModel", name := "finalBonus", desc := "(I)J" } : Jvm.MethodName)) ∈ lw_all := lw_g (lw_at lw_m10 69 rfl) rfl
theorem q2310 : (Jvm.Cond.privateMethod ({ cls := "LifeofficeModel", name := "finalBonus", desc := "(I)J" } : Jvm.MethodName)) ∈ lw_tbl := lw_at lw_m10 70 rfl
theorem q2311 : (Jvm.Cond.instanceMethod ({ cls := "LifeofficeModel", name := "finalBonus", desc := "(I)J" } : Jvm.MethodName)) ∈ lw_all := lw_g (lw_at lw_m10 71 rfl) rfl
theorem q2312 : (Jvm.Cond.code ({ cls := "LifeofficeModel", name := "finalBonus", desc := "(I)J" } : Jvm.MethodName) prog_12_method_24_code (2 : Nat) (Option.some Jvm.ClassFile.FieldType.long)) ∈ lw_all := lw_g (lw_at lw_m10 72 rfl) rfl
theorem q2313 : (Jvm.Cond.methodLink "LifeofficeModel" (263 : Nat) ({ cls := "LifeofficeModel", name := "hasProfits", desc := "(I)Z" } : Jvm.MethodName)) ∈ lw_all := lw_g (lw_at lw_m10 73 rfl) rfl
theorem q2314 : (Jvm.Cond.privateMethod ({ cls := "LifeofficeModel", name := "hasProfits", desc := "(I)Z" } : Jvm.MethodName)) ∈ lw_tbl := lw_at lw_m10 74 rfl
theorem q2315 : (Jvm.Cond.instanceMethod ({ cls := "LifeofficeModel", name := "hasProfits", desc := "(I)Z" } : Jvm.MethodName)) ∈ lw_all := lw_g (lw_at lw_m10 75 rfl) rfl
theorem q2316 : (Jvm.Cond.code ({ cls := "LifeofficeModel", name := "hasProfits", desc := "(I)Z" } : Jvm.MethodName) prog_12_method_10_code (2 : Nat) (Option.some Jvm.ClassFile.FieldType.boolean)) ∈ lw_all := lw_g (lw_at lw_m10 76 rfl) rfl
theorem q2317 : (Jvm.Cond.methodLink "LifeofficeModel" (269 : Nat) ({ cls := "LifeofficeModel", name := "net", desc := "(II)J" } : Jvm.MethodName)) ∈ lw_all := lw_g (lw_at lw_m10 77 rfl) rfl
theorem q2318 : (Jvm.Cond.privateMethod ({ cls := "LifeofficeModel", name := "net", desc := "(II)J" } : Jvm.MethodName)) ∈ lw_tbl := lw_at lw_m10 78 rfl
theorem q2319 : (Jvm.Cond.instanceMethod ({ cls := "LifeofficeModel", name := "net", desc := "(II)J" } : Jvm.MethodName)) ∈ lw_all := lw_g (lw_at lw_m10 79 rfl) rfl
theorem q2320 : (Jvm.Cond.code ({ cls := "LifeofficeModel", name := "net", desc := "(II)J" } : Jvm.MethodName) prog_12_method_16_code (3 : Nat) (Option.some Jvm.ClassFile.FieldType.long)) ∈ lw_all := lw_g (lw_at lw_m10 80 rfl) rfl
theorem q2322 : (Jvm.Cond.instanceMethod ({ cls := "LifeofficeModel", name := "tellLate", desc := "(II)J" } : Jvm.MethodName)) ∈ lw_all := lw_g (lw_at lw_m10 82 rfl) rfl
theorem q2323 : (Jvm.Cond.selects "LifeofficeModel" ({ cls := "LifeofficeModel", name := "tellLate", desc := "(II)J" } : Jvm.MethodName) ({ cls := "LifeofficeModel", name := "tellLate", desc := "(II)J" } : Jvm.MethodName)) ∈ lw_all := lw_g (lw_at lw_m10 83 rfl) rfl
theorem q2324 : (Jvm.Cond.code ({ cls := "LifeofficeModel", name := "tellLate", desc := "(II)J" } : Jvm.MethodName) prog_12_method_64_code (5 : Nat) (Option.some Jvm.ClassFile.FieldType.long)) ∈ lw_all := lw_g (lw_at lw_m10 84 rfl) rfl
theorem q2326 : (Jvm.Cond.instanceMethod ({ cls := "LifeofficeModel", name := "tellSurrender", desc := "(I)J" } : Jvm.MethodName)) ∈ lw_all := lw_g (lw_at lw_m10 86 rfl) rfl
theorem q2327 : (Jvm.Cond.selects "LifeofficeModel" ({ cls := "LifeofficeModel", name := "tellSurrender", desc := "(I)J" } : Jvm.MethodName) ({ cls := "LifeofficeModel", name := "tellSurrender", desc := "(I)J" } : Jvm.MethodName)) ∈ lw_all := lw_g (lw_at lw_m10 87 rfl) rfl
theorem q2328 : (Jvm.Cond.code ({ cls := "LifeofficeModel", name := "tellSurrender", desc := "(I)J" } : Jvm.MethodName) prog_12_method_65_code (2 : Nat) (Option.some Jvm.ClassFile.FieldType.long)) ∈ lw_all := lw_g (lw_at lw_m10 88 rfl) rfl
theorem q2330 : (Jvm.Cond.instanceMethod ({ cls := "LifeofficeModel", name := "lapse", desc := "(I)J" } : Jvm.MethodName)) ∈ lw_all := lw_g (lw_at lw_m10 90 rfl) rfl
theorem q2331 : (Jvm.Cond.selects "LifeofficeModel" ({ cls := "LifeofficeModel", name := "lapse", desc := "(I)J" } : Jvm.MethodName) ({ cls := "LifeofficeModel", name := "lapse", desc := "(I)J" } : Jvm.MethodName)) ∈ lw_all := lw_g (lw_at lw_m10 91 rfl) rfl
theorem q2332 : (Jvm.Cond.code ({ cls := "LifeofficeModel", name := "lapse", desc := "(I)J" } : Jvm.MethodName) prog_12_method_66_code (4 : Nat) (Option.some Jvm.ClassFile.FieldType.long)) ∈ lw_all := lw_g (lw_at lw_m10 92 rfl) rfl
theorem q2334 : (Jvm.Cond.instanceMethod ({ cls := "LifeofficeModel", name := "reinstate", desc := "(I)J" } : Jvm.MethodName)) ∈ lw_all := lw_g (lw_at lw_m10 94 rfl) rfl
theorem q2335 : (Jvm.Cond.selects "LifeofficeModel" ({ cls := "LifeofficeModel", name := "reinstate", desc := "(I)J" } : Jvm.MethodName) ({ cls := "LifeofficeModel", name := "reinstate", desc := "(I)J" } : Jvm.MethodName)) ∈ lw_all := lw_g (lw_at lw_m10 95 rfl) rfl
theorem q2336 : (Jvm.Cond.code ({ cls := "LifeofficeModel", name := "reinstate", desc := "(I)J" } : Jvm.MethodName) prog_12_method_67_code (4 : Nat) (Option.some Jvm.ClassFile.FieldType.long)) ∈ lw_all := lw_g (lw_at lw_m10 96 rfl) rfl
theorem q2337 : (Jvm.Cond.constantLong "LifeofficeModel" (386 : Nat) (1050 : Int64)) ∈ lw_all := lw_g (lw_at lw_m10 97 rfl) rfl
theorem q2339 : (Jvm.Cond.instanceMethod ({ cls := "LifeofficeModel", name := "setGuarantee", desc := "(II)I" } : Jvm.MethodName)) ∈ lw_all := lw_g (lw_at lw_m10 99 rfl) rfl
theorem q2340 : (Jvm.Cond.selects "LifeofficeModel" ({ cls := "LifeofficeModel", name := "setGuarantee", desc := "(II)I" } : Jvm.MethodName) ({ cls := "LifeofficeModel", name := "setGuarantee", desc := "(II)I" } : Jvm.MethodName)) ∈ lw_all := lw_g (lw_at lw_m10 100 rfl) rfl
theorem q2341 : (Jvm.Cond.code ({ cls := "LifeofficeModel", name := "setGuarantee", desc := "(II)I" } : Jvm.MethodName) prog_12_method_68_code (4 : Nat) (Option.some Jvm.ClassFile.FieldType.int)) ∈ lw_all := lw_g (lw_at lw_m10 101 rfl) rfl
theorem q2343 : (Jvm.Cond.instanceMethod ({ cls := "LifeofficeModel", name := "optionValue", desc := "(II)J" } : Jvm.MethodName)) ∈ lw_all := lw_g (lw_at lw_m10 103 rfl) rfl
theorem q2344 : (Jvm.Cond.selects "LifeofficeModel" ({ cls := "LifeofficeModel", name := "optionValue", desc := "(II)J" } : Jvm.MethodName) ({ cls := "LifeofficeModel", name := "optionValue", desc := "(II)J" } : Jvm.MethodName)) ∈ lw_all := lw_g (lw_at lw_m10 104 rfl) rfl
theorem q2345 : (Jvm.Cond.code ({ cls := "LifeofficeModel", name := "optionValue", desc := "(II)J" } : Jvm.MethodName) prog_12_method_69_code (3 : Nat) (Option.some Jvm.ClassFile.FieldType.long)) ∈ lw_all := lw_g (lw_at lw_m10 105 rfl) rfl
theorem q2346 : (Jvm.Cond.methodLink "LifeofficeModel" (388 : Nat) ({ cls := "LifeofficeModel", name := "option", desc := "(II)J" } : Jvm.MethodName)) ∈ lw_all := lw_g (lw_at lw_m10 106 rfl) rfl
theorem q2347 : (Jvm.Cond.privateMethod ({ cls := "LifeofficeModel", name := "option", desc := "(II)J" } : Jvm.MethodName)) ∈ lw_tbl := lw_at lw_m10 107 rfl
theorem q2348 : (Jvm.Cond.instanceMethod ({ cls := "LifeofficeModel", name := "option", desc := "(II)J" } : Jvm.MethodName)) ∈ lw_all := lw_g (lw_at lw_m10 108 rfl) rfl
theorem q2349 : (Jvm.Cond.code ({ cls := "LifeofficeModel", name := "option", desc := "(II)J" } : Jvm.MethodName) prog_12_method_36_code (10 : Nat) (Option.some Jvm.ClassFile.FieldType.long)) ∈ lw_all := lw_g (lw_at lw_m10 109 rfl) rfl
theorem q2350 : (Jvm.Cond.methodLink "LifeofficeModel" (320 : Nat) ({ cls := "LifeofficeModel", name := "rateOn", desc := "(III)I" } : Jvm.MethodName)) ∈ lw_all := lw_g (lw_at lw_m10 110 rfl) rfl
theorem q2351 : (Jvm.Cond.privateMethod ({ cls := "LifeofficeModel", name := "rateOn", desc := "(III)I" } : Jvm.MethodName)) ∈ lw_tbl := lw_at lw_m10 111 rfl
theorem q2352 : (Jvm.Cond.instanceMethod ({ cls := "LifeofficeModel", name := "rateOn", desc := "(III)I" } : Jvm.MethodName)) ∈ lw_all := lw_g (lw_at lw_m10 112 rfl) rfl
theorem q2353 : (Jvm.Cond.code ({ cls := "LifeofficeModel", name := "rateOn", desc := "(III)I" } : Jvm.MethodName) prog_12_method_35_code (4 : Nat) (Option.some Jvm.ClassFile.FieldType.int)) ∈ lw_all := lw_g (lw_at lw_m10 113 rfl) rfl
theorem q2354 : (Jvm.Cond.methodLink "LifeofficeModel" (318 : Nat) ({ cls := "java/lang/Math", name := "max", desc := "(II)I" } : Jvm.MethodName)) ∈ lw_all := lw_g (lw_at lw_m10 114 rfl) rfl
theorem q2355 : (Jvm.Cond.methodLink "LifeofficeModel" (324 : Nat) ({ cls := "LifeofficeModel", name := "annuityOf", desc := "(III)J" } : Jvm.MethodName)) ∈ lw_all := lw_g (lw_at lw_m10 115 rfl) rfl
theorem q2356 : (Jvm.Cond.privateMethod ({ cls := "LifeofficeModel", name := "annuityOf", desc := "(III)J" } : Jvm.MethodName)) ∈ lw_tbl := lw_at lw_m10 116 rfl
theorem q2357 : (Jvm.Cond.instanceMethod ({ cls := "LifeofficeModel", name := "annuityOf", desc := "(III)J" } : Jvm.MethodName)) ∈ lw_all := lw_g (lw_at lw_m10 117 rfl) rfl
theorem q2358 : (Jvm.Cond.code ({ cls := "LifeofficeModel", name := "annuityOf", desc := "(III)J" } : Jvm.MethodName) prog_12_method_34_code (9 : Nat) (Option.some Jvm.ClassFile.FieldType.long)) ∈ lw_all := lw_g (lw_at lw_m10 118 rfl) rfl
theorem q2359 : (Jvm.Cond.methodLink "LifeofficeModel" (279 : Nat) ({ cls := "LifeofficeModel", name := "q", desc := "(III)J" } : Jvm.MethodName)) ∈ lw_all := lw_g (lw_at lw_m10 119 rfl) rfl
theorem q2360 : (Jvm.Cond.privateMethod ({ cls := "LifeofficeModel", name := "q", desc := "(III)J" } : Jvm.MethodName)) ∈ lw_tbl := lw_at lw_m10 120 rfl
theorem q2361 : (Jvm.Cond.instanceMethod ({ cls := "LifeofficeModel", name := "q", desc := "(III)J" } : Jvm.MethodName)) ∈ lw_all := lw_g (lw_at lw_m10 121 rfl) rfl
theorem q2362 : (Jvm.Cond.code ({ cls := "LifeofficeModel", name := "q", desc := "(III)J" } : Jvm.MethodName) prog_12_method_12_code (4 : Nat) (Option.some Jvm.ClassFile.FieldType.long)) ∈ lw_all := lw_g (lw_at lw_m10 122 rfl) rfl
theorem q2364 : (Jvm.Cond.instanceMethod ({ cls := "LifeofficeModel", name := "byReserve", desc := "(I)I" } : Jvm.MethodName)) ∈ lw_all := lw_g (lw_at lw_m10 124 rfl) rfl
theorem q2365 : (Jvm.Cond.selects "LifeofficeModel" ({ cls := "LifeofficeModel", name := "byReserve", desc := "(I)I" } : Jvm.MethodName) ({ cls := "LifeofficeModel", name := "byReserve", desc := "(I)I" } : Jvm.MethodName)) ∈ lw_all := lw_g (lw_at lw_m10 125 rfl) rfl
theorem q2366 : (Jvm.Cond.code ({ cls := "LifeofficeModel", name := "byReserve", desc := "(I)I" } : Jvm.MethodName) prog_12_method_70_code (9 : Nat) (Option.some Jvm.ClassFile.FieldType.int)) ∈ lw_all := lw_g (lw_at lw_m10 126 rfl) rfl
theorem q2368 : (Jvm.Cond.instanceMethod ({ cls := "LifeofficeModel", name := "declare", desc := "(I)J" } : Jvm.MethodName)) ∈ lw_all := lw_g (lw_at lw_m10 128 rfl) rfl
theorem q2369 : (Jvm.Cond.selects "LifeofficeModel" ({ cls := "LifeofficeModel", name := "declare", desc := "(I)J" } : Jvm.MethodName) ({ cls := "LifeofficeModel", name := "declare", desc := "(I)J" } : Jvm.MethodName)) ∈ lw_all := lw_g (lw_at lw_m10 129 rfl) rfl
theorem q2370 : (Jvm.Cond.code ({ cls := "LifeofficeModel", name := "declare", desc := "(I)J" } : Jvm.MethodName) prog_12_method_71_code (8 : Nat) (Option.some Jvm.ClassFile.FieldType.long)) ∈ lw_all := lw_g (lw_at lw_m10 130 rfl) rfl
theorem q2371 : (Jvm.Cond.methodLink "LifeofficeModel" (391 : Nat) ({ cls := "java/lang/Math", name := "abs", desc := "(I)I" } : Jvm.MethodName)) ∈ lw_all := lw_g (lw_at lw_m10 131 rfl) rfl
theorem q2372 : (Jvm.Cond.constantLong "LifeofficeModel" (394 : Nat) (100000000 : Int64)) ∈ lw_all := lw_g (lw_at lw_m10 132 rfl) rfl
theorem q2374 : (Jvm.Cond.instanceMethod ({ cls := "LifeofficeModel", name := "setSmoothing", desc := "(I)I" } : Jvm.MethodName)) ∈ lw_all := lw_g (lw_at lw_m10 134 rfl) rfl
theorem q2375 : (Jvm.Cond.selects "LifeofficeModel" ({ cls := "LifeofficeModel", name := "setSmoothing", desc := "(I)I" } : Jvm.MethodName) ({ cls := "LifeofficeModel", name := "setSmoothing", desc := "(I)I" } : Jvm.MethodName)) ∈ lw_all := lw_g (lw_at lw_m10 135 rfl) rfl
theorem q2376 : (Jvm.Cond.code ({ cls := "LifeofficeModel", name := "setSmoothing", desc := "(I)I" } : Jvm.MethodName) prog_12_method_72_code (3 : Nat) (Option.some Jvm.ClassFile.FieldType.int)) ∈ lw_all := lw_g (lw_at lw_m10 136 rfl) rfl
theorem q2378 : (Jvm.Cond.instanceMethod ({ cls := "LifeofficeModel", name := "setFinal", desc := "(I)I" } : Jvm.MethodName)) ∈ lw_all := lw_g (lw_at lw_m10 138 rfl) rfl
theorem q2379 : (Jvm.Cond.selects "LifeofficeModel" ({ cls := "LifeofficeModel", name := "setFinal", desc := "(I)I" } : Jvm.MethodName) ({ cls := "LifeofficeModel", name := "setFinal", desc := "(I)I" } : Jvm.MethodName)) ∈ lw_all := lw_g (lw_at lw_m10 139 rfl) rfl
theorem q2380 : (Jvm.Cond.code ({ cls := "LifeofficeModel", name := "setFinal", desc := "(I)I" } : Jvm.MethodName) prog_12_method_73_code (3 : Nat) (Option.some Jvm.ClassFile.FieldType.int)) ∈ lw_all := lw_g (lw_at lw_m10 140 rfl) rfl
theorem q2382 : (Jvm.Cond.instanceMethod ({ cls := "LifeofficeModel", name := "buyBond", desc := "(III)I" } : Jvm.MethodName)) ∈ lw_all := lw_g (lw_at lw_m10 142 rfl) rfl
theorem q2383 : (Jvm.Cond.selects "LifeofficeModel" ({ cls := "LifeofficeModel", name := "buyBond", desc := "(III)I" } : Jvm.MethodName) ({ cls := "LifeofficeModel", name := "buyBond", desc := "(III)I" } : Jvm.MethodName)) ∈ lw_all := lw_g (lw_at lw_m10 143 rfl) rfl
theorem q2384 : (Jvm.Cond.code ({ cls := "LifeofficeModel", name := "buyBond", desc := "(III)I" } : Jvm.MethodName) prog_12_method_74_code (5 : Nat) (Option.some Jvm.ClassFile.FieldType.int)) ∈ lw_all := lw_g (lw_at lw_m10 144 rfl) rfl
theorem q2386 : (Jvm.Cond.instanceMethod ({ cls := "LifeofficeModel", name := "bondAt", desc := "(II)I" } : Jvm.MethodName)) ∈ lw_all := lw_g (lw_at lw_m10 146 rfl) rfl
theorem q2387 : (Jvm.Cond.selects "LifeofficeModel" ({ cls := "LifeofficeModel", name := "bondAt", desc := "(II)I" } : Jvm.MethodName) ({ cls := "LifeofficeModel", name := "bondAt", desc := "(II)I" } : Jvm.MethodName)) ∈ lw_all := lw_g (lw_at lw_m10 147 rfl) rfl
theorem q2388 : (Jvm.Cond.code ({ cls := "LifeofficeModel", name := "bondAt", desc := "(II)I" } : Jvm.MethodName) prog_12_method_75_code (3 : Nat) (Option.some Jvm.ClassFile.FieldType.int)) ∈ lw_all := lw_g (lw_at lw_m10 148 rfl) rfl
theorem q2390 : (Jvm.Cond.instanceMethod ({ cls := "LifeofficeModel", name := "defaults", desc := "(II)I" } : Jvm.MethodName)) ∈ lw_all := lw_g (lw_at lw_m10 150 rfl) rfl
theorem q2391 : (Jvm.Cond.selects "LifeofficeModel" ({ cls := "LifeofficeModel", name := "defaults", desc := "(II)I" } : Jvm.MethodName) ({ cls := "LifeofficeModel", name := "defaults", desc := "(II)I" } : Jvm.MethodName)) ∈ lw_all := lw_g (lw_at lw_m10 151 rfl) rfl
theorem q2392 : (Jvm.Cond.code ({ cls := "LifeofficeModel", name := "defaults", desc := "(II)I" } : Jvm.MethodName) prog_12_method_76_code (4 : Nat) (Option.some Jvm.ClassFile.FieldType.int)) ∈ lw_all := lw_g (lw_at lw_m10 152 rfl) rfl
theorem q2394 : (Jvm.Cond.instanceMethod ({ cls := "LifeofficeModel", name := "setReinsurance", desc := "(II)I" } : Jvm.MethodName)) ∈ lw_all := lw_g (lw_at lw_m10 154 rfl) rfl
theorem q2395 : (Jvm.Cond.selects "LifeofficeModel" ({ cls := "LifeofficeModel", name := "setReinsurance", desc := "(II)I" } : Jvm.MethodName) ({ cls := "LifeofficeModel", name := "setReinsurance", desc := "(II)I" } : Jvm.MethodName)) ∈ lw_all := lw_g (lw_at lw_m10 155 rfl) rfl
theorem q2396 : (Jvm.Cond.code ({ cls := "LifeofficeModel", name := "setReinsurance", desc := "(II)I" } : Jvm.MethodName) prog_12_method_77_code (4 : Nat) (Option.some Jvm.ClassFile.FieldType.int)) ∈ lw_all := lw_g (lw_at lw_m10 156 rfl) rfl
theorem q2398 : (Jvm.Cond.instanceMethod ({ cls := "LifeofficeModel", name := "closeYear", desc := "(II)J" } : Jvm.MethodName)) ∈ lw_all := lw_g (lw_at lw_m10 158 rfl) rfl
theorem q2399 : (Jvm.Cond.selects "LifeofficeModel" ({ cls := "LifeofficeModel", name := "closeYear", desc := "(II)J" } : Jvm.MethodName) ({ cls := "LifeofficeModel", name := "closeYear", desc := "(II)J" } : Jvm.MethodName)) ∈ lw_all := lw_g (lw_at lw_m10 159 rfl) rfl
theorem q2400 : (Jvm.Cond.code ({ cls := "LifeofficeModel", name := "closeYear", desc := "(II)J" } : Jvm.MethodName) prog_12_method_78_code (3 : Nat) (Option.some Jvm.ClassFile.FieldType.long)) ∈ lw_all := lw_g (lw_at lw_m10 160 rfl) rfl
theorem q2401 : (Jvm.Cond.methodLink "LifeofficeModel" (396 : Nat) ({ cls := "LifeofficeModel", name := "closes", desc := "(II)J" } : Jvm.MethodName)) ∈ lw_all := lw_g (lw_at lw_m10 161 rfl) rfl
theorem q2402 : (Jvm.Cond.privateMethod ({ cls := "LifeofficeModel", name := "closes", desc := "(II)J" } : Jvm.MethodName)) ∈ lw_tbl := lw_at lw_m10 162 rfl
theorem q2403 : (Jvm.Cond.instanceMethod ({ cls := "LifeofficeModel", name := "closes", desc := "(II)J" } : Jvm.MethodName)) ∈ lw_all := lw_g (lw_at lw_m10 163 rfl) rfl
theorem q2404 : (Jvm.Cond.code ({ cls := "LifeofficeModel", name := "closes", desc := "(II)J" } : Jvm.MethodName) prog_12_method_33_code (5 : Nat) (Option.some Jvm.ClassFile.FieldType.long)) ∈ lw_all := lw_g (lw_at lw_m10 164 rfl) rfl
theorem q2405 : (Jvm.Cond.methodLink "LifeofficeModel" (305 : Nat) ({ cls := "LifeofficeModel", name := "begins", desc := "(III)V" } : Jvm.MethodName)) ∈ lw_all := lw_g (lw_at lw_m10 165 rfl) rfl
theorem q2406 : (Jvm.Cond.privateMethod ({ cls := "LifeofficeModel", name := "begins", desc := "(III)V" } : Jvm.MethodName)) ∈ lw_tbl := lw_at lw_m10 166 rfl
theorem q2407 : (Jvm.Cond.instanceMethod ({ cls := "LifeofficeModel", name := "begins", desc := "(III)V" } : Jvm.MethodName)) ∈ lw_all := lw_g (lw_at lw_m10 167 rfl) rfl
theorem q2408 : (Jvm.Cond.code ({ cls := "LifeofficeModel", name := "begins", desc := "(III)V" } : Jvm.MethodName) prog_12_method_28_code (12 : Nat) (Option.none : Option Jvm.ClassFile.FieldType)) ∈ lw_all := lw_g (lw_at lw_m10 168 rfl) rfl
theorem q2409 : (Jvm.Cond.methodLink "LifeofficeModel" (275 : Nat) ({ cls := "LifeofficeModel", name := "pays", desc := "(II)Z" } : Jvm.MethodName)) ∈ lw_all := lw_g (lw_at lw_m10 169 rfl) rfl
theorem q2410 : (Jvm.Cond.privateMethod ({ cls := "LifeofficeModel", name := "pays", desc := "(II)Z" } : Jvm.MethodName)) ∈ lw_tbl := lw_at lw_m10 170 rfl
theorem q2411 : (Jvm.Cond.instanceMethod ({ cls := "LifeofficeModel", name := "pays", desc := "(II)Z" } : Jvm.MethodName)) ∈ lw_all := lw_g (lw_at lw_m10 171 rfl) rfl
theorem q2412 : (Jvm.Cond.code ({ cls := "LifeofficeModel", name := "pays", desc := "(II)Z" } : Jvm.MethodName) prog_12_method_26_code (3 : Nat) (Option.some Jvm.ClassFile.FieldType.boolean)) ∈ lw_all := lw_g (lw_at lw_m10 172 rfl) rfl
theorem q2413 : (Jvm.Cond.methodLink "LifeofficeModel" (282 : Nat) ({ cls := "LifeofficeModel", name := "ceded", desc := "(I)J" } : Jvm.MethodName)) ∈ lw_all := lw_g (lw_at lw_m10 173 rfl) rfl
theorem q2414 : (Jvm.Cond.privateMethod ({ cls := "LifeofficeModel", name := "ceded", desc := "(I)J" } : Jvm.MethodName)) ∈ lw_tbl := lw_at lw_m10 174 rfl
theorem q2415 : (Jvm.Cond.instanceMethod ({ cls := "LifeofficeModel", name := "ceded", desc := "(I)J" } : Jvm.MethodName)) ∈ lw_all := lw_g (lw_at lw_m10 175 rfl) rfl
theorem q2416 : (Jvm.Cond.code ({ cls := "LifeofficeModel", name := "ceded", desc := "(I)J" } : Jvm.MethodName) prog_12_method_23_code (2 : Nat) (Option.some Jvm.ClassFile.FieldType.long)) ∈ lw_all := lw_g (lw_at lw_m10 176 rfl) rfl
theorem q2417 : (Jvm.Cond.constantLong "LifeofficeModel" (285 : Nat) (11 : Int64)) ∈ lw_all := lw_g (lw_at lw_m10 177 rfl) rfl
theorem q2418 : (Jvm.Cond.methodLink "LifeofficeModel" (287 : Nat) ({ cls := "LifeofficeModel", name := "growth", desc := "(JJI)J" } : Jvm.MethodName)) ∈ lw_all := lw_g (lw_at lw_m10 178 rfl) rfl
theorem q2419 : (Jvm.Cond.privateMethod ({ cls := "LifeofficeModel", name := "growth", desc := "(JJI)J" } : Jvm.MethodName)) ∈ lw_tbl := lw_at lw_m10 179 rfl
theorem q2420 : (Jvm.Cond.instanceMethod ({ cls := "LifeofficeModel", name := "growth", desc := "(JJI)J" } : Jvm.MethodName)) ∈ lw_all := lw_g (lw_at lw_m10 180 rfl) rfl
theorem q2421 : (Jvm.Cond.code ({ cls := "LifeofficeModel", name := "growth", desc := "(JJI)J" } : Jvm.MethodName) prog_12_method_27_code (6 : Nat) (Option.some Jvm.ClassFile.FieldType.long)) ∈ lw_all := lw_g (lw_at lw_m10 181 rfl) rfl
theorem q2422 : (Jvm.Cond.methodLink "LifeofficeModel" (308 : Nat) ({ cls := "LifeofficeModel", name := "earns", desc := "(I)J" } : Jvm.MethodName)) ∈ lw_all := lw_g (lw_at lw_m10 182 rfl) rfl
theorem q2423 : (Jvm.Cond.privateMethod ({ cls := "LifeofficeModel", name := "earns", desc := "(I)J" } : Jvm.MethodName)) ∈ lw_tbl := lw_at lw_m10 183 rfl
theorem q2424 : (Jvm.Cond.instanceMethod ({ cls := "LifeofficeModel", name := "earns", desc := "(I)J" } : Jvm.MethodName)) ∈ lw_all := lw_g (lw_at lw_m10 184 rfl) rfl
theorem q2425 : (Jvm.Cond.code ({ cls := "LifeofficeModel", name := "earns", desc := "(I)J" } : Jvm.MethodName) prog_12_method_29_code (7 : Nat) (Option.some Jvm.ClassFile.FieldType.long)) ∈ lw_all := lw_g (lw_at lw_m10 185 rfl) rfl
theorem q2426 : (Jvm.Cond.constantLong "LifeofficeModel" (291 : Nat) (1000000000000 : Int64)) ∈ lw_all := lw_g (lw_at lw_m10 186 rfl) rfl
theorem q2427 : (Jvm.Cond.methodLink "LifeofficeModel" (311 : Nat) ({ cls := "LifeofficeModel", name := "ages", desc := "()V" } : Jvm.MethodName)) ∈ lw_all := lw_g (lw_at lw_m10 187 rfl) rfl
theorem q2428 : (Jvm.Cond.privateMethod ({ cls := "LifeofficeModel", name := "ages", desc := "()V" } : Jvm.MethodName)) ∈ lw_tbl := lw_at lw_m10 188 rfl
theorem q2429 : (Jvm.Cond.instanceMethod ({ cls := "LifeofficeModel", name := "ages", desc := "()V" } : Jvm.MethodName)) ∈ lw_all := lw_g (lw_at lw_m10 189 rfl) rfl
theorem q2430 : (Jvm.Cond.code ({ cls := "LifeofficeModel", name := "ages", desc := "()V" } : Jvm.MethodName) prog_12_method_30_code (3 : Nat) (Option.none : Option Jvm.ClassFile.FieldType)) ∈ lw_all := lw_g (lw_at lw_m10 190 rfl) rfl
theorem q2431 : (Jvm.Cond.methodLink "LifeofficeModel" (314 : Nat) ({ cls := "LifeofficeModel", name := "finishes", desc := "(I)V" } : Jvm.MethodName)) ∈ lw_all := lw_g (lw_at lw_m10 191 rfl) rfl
theorem q2432 : (Jvm.Cond.privateMethod ({ cls := "LifeofficeModel", name := "finishes", desc := "(I)V" } : Jvm.MethodName)) ∈ lw_tbl := lw_at lw_m10 192 rfl
theorem q2433 : (Jvm.Cond.instanceMethod ({ cls := "LifeofficeModel", name := "finishes", desc := "(I)V" } : Jvm.MethodName)) ∈ lw_all := lw_g (lw_at lw_m10 193 rfl) rfl
theorem q2434 : (Jvm.Cond.code ({ cls := "LifeofficeModel", name := "finishes", desc := "(I)V" } : Jvm.MethodName) prog_12_method_32_code (10 : Nat) (Option.none : Option Jvm.ClassFile.FieldType)) ∈ lw_all := lw_g (lw_at lw_m10 194 rfl) rfl
theorem q2435 : (Jvm.Cond.methodLink "LifeofficeModel" (298 : Nat) ({ cls := "LifeofficeModel", name := "ends", desc := "(IJI)J" } : Jvm.MethodName)) ∈ lw_all := lw_g (lw_at lw_m10 195 rfl) rfl
theorem q2436 : (Jvm.Cond.privateMethod ({ cls := "LifeofficeModel", name := "ends", desc := "(IJI)J" } : Jvm.MethodName)) ∈ lw_tbl := lw_at lw_m10 196 rfl
theorem q2437 : (Jvm.Cond.instanceMethod ({ cls := "LifeofficeModel", name := "ends", desc := "(IJI)J" } : Jvm.MethodName)) ∈ lw_all := lw_g (lw_at lw_m10 197 rfl) rfl
theorem q2438 : (Jvm.Cond.code ({ cls := "LifeofficeModel", name := "ends", desc := "(IJI)J" } : Jvm.MethodName) prog_12_method_31_code (7 : Nat) (Option.some Jvm.ClassFile.FieldType.long)) ∈ lw_all := lw_g (lw_at lw_m10 198 rfl) rfl
theorem q2440 : (Jvm.Cond.instanceMethod ({ cls := "LifeofficeModel", name := "surplus", desc := "(I)J" } : Jvm.MethodName)) ∈ lw_all := lw_g (lw_at lw_m10 200 rfl) rfl
theorem q2441 : (Jvm.Cond.selects "LifeofficeModel" ({ cls := "LifeofficeModel", name := "surplus", desc := "(I)J" } : Jvm.MethodName) ({ cls := "LifeofficeModel", name := "surplus", desc := "(I)J" } : Jvm.MethodName)) ∈ lw_all := lw_g (lw_at lw_m10 201 rfl) rfl
theorem q2442 : (Jvm.Cond.code ({ cls := "LifeofficeModel", name := "surplus", desc := "(I)J" } : Jvm.MethodName) prog_12_method_79_code (2 : Nat) (Option.some Jvm.ClassFile.FieldType.long)) ∈ lw_all := lw_g (lw_at lw_m10 202 rfl) rfl
theorem q2443 : (Jvm.Cond.constantLong "LifeofficeModel" (399 : Nat) (8 : Int64)) ∈ lw_all := lw_g (lw_at lw_m10 203 rfl) rfl
theorem q2445 : (Jvm.Cond.instanceMethod ({ cls := "LifeofficeModel", name := "experience", desc := "(I)J" } : Jvm.MethodName)) ∈ lw_all := lw_g (lw_at lw_m10 205 rfl) rfl
theorem q2446 : (Jvm.Cond.selects "LifeofficeModel" ({ cls := "LifeofficeModel", name := "experience", desc := "(I)J" } : Jvm.MethodName) ({ cls := "LifeofficeModel", name := "experience", desc := "(I)J" } : Jvm.MethodName)) ∈ lw_all := lw_g (lw_at lw_m10 206 rfl) rfl
theorem q2447 : (Jvm.Cond.code ({ cls := "LifeofficeModel", name := "experience", desc := "(I)J" } : Jvm.MethodName) prog_12_method_80_code (2 : Nat) (Option.some Jvm.ClassFile.FieldType.long)) ∈ lw_all := lw_g (lw_at lw_m10 207 rfl) rfl
theorem q2448 : (Jvm.Cond.methodLink "LifeofficeModel" (332 : Nat) ({ cls := "LifeofficeModel", name := "credibility", desc := "()J" } : Jvm.MethodName)) ∈ lw_all := lw_g (lw_at lw_m10 208 rfl) rfl
theorem q2449 : (Jvm.Cond.privateMethod ({ cls := "LifeofficeModel", name := "credibility", desc := "()J" } : Jvm.MethodName)) ∈ lw_tbl := lw_at lw_m10 209 rfl
theorem q2450 : (Jvm.Cond.instanceMethod ({ cls := "LifeofficeModel", name := "credibility", desc := "()J" } : Jvm.MethodName)) ∈ lw_all := lw_g (lw_at lw_m10 210 rfl) rfl
theorem q2451 : (Jvm.Cond.code ({ cls := "LifeofficeModel", name := "credibility", desc := "()J" } : Jvm.MethodName) prog_12_method_40_code (1 : Nat) (Option.some Jvm.ClassFile.FieldType.long)) ∈ lw_all := lw_g (lw_at lw_m10 211 rfl) rfl
theorem q2452 : (Jvm.Cond.methodLink "LifeofficeModel" (335 : Nat) ({ cls := "LifeofficeModel", name := "ratio", desc := "()J" } : Jvm.MethodName)) ∈ lw_all := lw_g (lw_at lw_m10 212 rfl) rfl
theorem q2453 : (Jvm.Cond.privateMethod ({ cls := "LifeofficeModel", name := "ratio", desc := "()J" } : Jvm.MethodName)) ∈ lw_tbl := lw_at lw_m10 213 rfl
theorem q2454 : (Jvm.Cond.instanceMethod ({ cls := "LifeofficeModel", name := "ratio", desc := "()J" } : Jvm.MethodName)) ∈ lw_all := lw_g (lw_at lw_m10 214 rfl) rfl
theorem q2455 : (Jvm.Cond.code ({ cls := "LifeofficeModel", name := "ratio", desc := "()J" } : Jvm.MethodName) prog_12_method_41_code (1 : Nat) (Option.some Jvm.ClassFile.FieldType.long)) ∈ lw_all := lw_g (lw_at lw_m10 215 rfl) rfl
theorem q2456 : (Jvm.Cond.methodLink "LifeofficeModel" (401 : Nat) ({ cls := "LifeofficeModel", name := "blend", desc := "()J" } : Jvm.MethodName)) ∈ lw_all := lw_g (lw_at lw_m10 216 rfl) rfl
theorem q2457 : (Jvm.Cond.privateMethod ({ cls := "LifeofficeModel", name := "blend", desc := "()J" } : Jvm.MethodName)) ∈ lw_tbl := lw_at lw_m10 217 rfl
theorem q2458 : (Jvm.Cond.instanceMethod ({ cls := "LifeofficeModel", name := "blend", desc := "()J" } : Jvm.MethodName)) ∈ lw_all := lw_g (lw_at lw_m10 218 rfl) rfl
theorem q2459 : (Jvm.Cond.code ({ cls := "LifeofficeModel", name := "blend", desc := "()J" } : Jvm.MethodName) prog_12_method_42_code (1 : Nat) (Option.some Jvm.ClassFile.FieldType.long)) ∈ lw_all := lw_g (lw_at lw_m10 219 rfl) rfl
theorem q2461 : (Jvm.Cond.instanceMethod ({ cls := "LifeofficeModel", name := "adopt", desc := "()I" } : Jvm.MethodName)) ∈ lw_all := lw_g (lw_at lw_m10 221 rfl) rfl
theorem q2462 : (Jvm.Cond.selects "LifeofficeModel" ({ cls := "LifeofficeModel", name := "adopt", desc := "()I" } : Jvm.MethodName) ({ cls := "LifeofficeModel", name := "adopt", desc := "()I" } : Jvm.MethodName)) ∈ lw_all := lw_g (lw_at lw_m10 222 rfl) rfl
theorem q2463 : (Jvm.Cond.code ({ cls := "LifeofficeModel", name := "adopt", desc := "()I" } : Jvm.MethodName) prog_12_method_81_code (3 : Nat) (Option.some Jvm.ClassFile.FieldType.int)) ∈ lw_all := lw_g (lw_at lw_m10 223 rfl) rfl
theorem q2465 : (Jvm.Cond.instanceMethod ({ cls := "LifeofficeModel", name := "expectedPayments", desc := "(I)J" } : Jvm.MethodName)) ∈ lw_all := lw_g (lw_at lw_m10 225 rfl) rfl
theorem q2466 : (Jvm.Cond.selects "LifeofficeModel" ({ cls := "LifeofficeModel", name := "expectedPayments", desc := "(I)J" } : Jvm.MethodName) ({ cls := "LifeofficeModel", name := "expectedPayments", desc := "(I)J" } : Jvm.MethodName)) ∈ lw_all := lw_g (lw_at lw_m10 226 rfl) rfl
theorem q2467 : (Jvm.Cond.code ({ cls := "LifeofficeModel", name := "expectedPayments", desc := "(I)J" } : Jvm.MethodName) prog_12_method_82_code (2 : Nat) (Option.some Jvm.ClassFile.FieldType.long)) ∈ lw_all := lw_g (lw_at lw_m10 227 rfl) rfl
theorem q2468 : (Jvm.Cond.constantLong "LifeofficeModel" (404 : Nat) (40 : Int64)) ∈ lw_all := lw_g (lw_at lw_m10 228 rfl) rfl
theorem q2469 : (Jvm.Cond.methodLink "LifeofficeModel" (406 : Nat) ({ cls := "LifeofficeModel", name := "expectsAll", desc := "(I)J" } : Jvm.MethodName)) ∈ lw_all := lw_g (lw_at lw_m10 229 rfl) rfl
theorem q2470 : (Jvm.Cond.privateMethod ({ cls := "LifeofficeModel", name := "expectsAll", desc := "(I)J" } : Jvm.MethodName)) ∈ lw_tbl := lw_at lw_m10 230 rfl
theorem q2471 : (Jvm.Cond.instanceMethod ({ cls := "LifeofficeModel", name := "expectsAll", desc := "(I)J" } : Jvm.MethodName)) ∈ lw_all := lw_g (lw_at lw_m10 231 rfl) rfl
theorem q2472 : (Jvm.Cond.code ({ cls := "LifeofficeModel", name := "expectsAll", desc := "(I)J" } : Jvm.MethodName) prog_12_method_38_code (5 : Nat) (Option.some Jvm.ClassFile.FieldType.long)) ∈ lw_all := lw_g (lw_at lw_m10 232 rfl) rfl
theorem q2473 : (Jvm.Cond.methodLink "LifeofficeModel" (327 : Nat) ({ cls := "LifeofficeModel", name := "expects", desc := "(II)J" } : Jvm.MethodName)) ∈ lw_all := lw_g (lw_at lw_m10 233 rfl) rfl
theorem q2474 : (Jvm.Cond.privateMethod ({ cls := "LifeofficeModel", name := "expects", desc := "(II)J" } : Jvm.MethodName)) ∈ lw_tbl := lw_at lw_m10 234 rfl
theorem q2475 : (Jvm.Cond.instanceMethod ({ cls := "LifeofficeModel", name := "expects", desc := "(II)J" } : Jvm.MethodName)) ∈ lw_all := lw_g (lw_at lw_m10 235 rfl) rfl
theorem q2476 : (Jvm.Cond.code ({ cls := "LifeofficeModel", name := "expects", desc := "(II)J" } : Jvm.MethodName) prog_12_method_37_code (15 : Nat) (Option.some Jvm.ClassFile.FieldType.long)) ∈ lw_all := lw_g (lw_at lw_m10 236 rfl) rfl
theorem q2478 : (Jvm.Cond.instanceMethod ({ cls := "LifeofficeModel", name := "bondPayments", desc := "(I)J" } : Jvm.MethodName)) ∈ lw_all := lw_g (lw_at lw_m10 238 rfl) rfl
theorem q2479 : (Jvm.Cond.selects "LifeofficeModel" ({ cls := "LifeofficeModel", name := "bondPayments", desc := "(I)J" } : Jvm.MethodName) ({ cls := "LifeofficeModel", name := "bondPayments", desc := "(I)J" } : Jvm.MethodName)) ∈ lw_all := lw_g (lw_at lw_m10 239 rfl) rfl
theorem q2480 : (Jvm.Cond.code ({ cls := "LifeofficeModel", name := "bondPayments", desc := "(I)J" } : Jvm.MethodName) prog_12_method_83_code (2 : Nat) (Option.some Jvm.ClassFile.FieldType.long)) ∈ lw_all := lw_g (lw_at lw_m11 0 rfl) rfl
theorem q2481 : (Jvm.Cond.methodLink "LifeofficeModel" (409 : Nat) ({ cls := "LifeofficeModel", name := "bondsPay", desc := "(I)J" } : Jvm.MethodName)) ∈ lw_all := lw_g (lw_at lw_m11 1 rfl) rfl
theorem q2482 : (Jvm.Cond.privateMethod ({ cls := "LifeofficeModel", name := "bondsPay", desc := "(I)J" } : Jvm.MethodName)) ∈ lw_tbl := lw_at lw_m11 2 rfl
theorem q2483 : (Jvm.Cond.instanceMethod ({ cls := "LifeofficeModel", name := "bondsPay", desc := "(I)J" } : Jvm.MethodName)) ∈ lw_all := lw_g (lw_at lw_m11 3 rfl) rfl
theorem q2484 : (Jvm.Cond.code ({ cls := "LifeofficeModel", name := "bondsPay", desc := "(I)J" } : Jvm.MethodName) prog_12_method_39_code (5 : Nat) (Option.some Jvm.ClassFile.FieldType.long)) ∈ lw_all := lw_g (lw_at lw_m11 4 rfl) rfl
theorem q2486 : (Jvm.Cond.instanceMethod ({ cls := "LifeofficeModel", name := "firstShort", desc := "()I" } : Jvm.MethodName)) ∈ lw_all := lw_g (lw_at lw_m11 6 rfl) rfl
theorem q2487 : (Jvm.Cond.selects "LifeofficeModel" ({ cls := "LifeofficeModel", name := "firstShort", desc := "()I" } : Jvm.MethodName) ({ cls := "LifeofficeModel", name := "firstShort", desc := "()I" } : Jvm.MethodName)) ∈ lw_all := lw_g (lw_at lw_m11 7 rfl) rfl
theorem q2488 : (Jvm.Cond.code ({ cls := "LifeofficeModel", name := "firstShort", desc := "()I" } : Jvm.MethodName) prog_12_method_84_code (2 : Nat) (Option.some Jvm.ClassFile.FieldType.int)) ∈ lw_all := lw_g (lw_at lw_m11 8 rfl) rfl
theorem q2490 : (Jvm.Cond.instanceMethod ({ cls := "LifeofficeModel", name := "close", desc := "()I" } : Jvm.MethodName)) ∈ lw_all := lw_g (lw_at lw_m11 10 rfl) rfl
theorem q2491 : (Jvm.Cond.selects "LifeofficeModel" ({ cls := "LifeofficeModel", name := "close", desc := "()I" } : Jvm.MethodName) ({ cls := "LifeofficeModel", name := "close", desc := "()I" } : Jvm.MethodName)) ∈ lw_all := lw_g (lw_at lw_m11 11 rfl) rfl
theorem q2492 : (Jvm.Cond.code ({ cls := "LifeofficeModel", name := "close", desc := "()I" } : Jvm.MethodName) prog_12_method_86_code (1 : Nat) (Option.some Jvm.ClassFile.FieldType.int)) ∈ lw_all := lw_g (lw_at lw_m11 12 rfl) rfl
theorem q2493 : (Jvm.Cond.methodLink "LifeofficeModel" (412 : Nat) ({ cls := "LifeofficeModel", name := "livingMany", desc := "()I" } : Jvm.MethodName)) ∈ lw_all := lw_g (lw_at lw_m11 13 rfl) rfl
theorem q2494 : (Jvm.Cond.privateMethod ({ cls := "LifeofficeModel", name := "livingMany", desc := "()I" } : Jvm.MethodName)) ∈ lw_tbl := lw_at lw_m11 14 rfl
theorem q2495 : (Jvm.Cond.instanceMethod ({ cls := "LifeofficeModel", name := "livingMany", desc := "()I" } : Jvm.MethodName)) ∈ lw_all := lw_g (lw_at lw_m11 15 rfl) rfl
theorem q2496 : (Jvm.Cond.code ({ cls := "LifeofficeModel", name := "livingMany", desc := "()I" } : Jvm.MethodName) prog_12_method_85_code (3 : Nat) (Option.some Jvm.ClassFile.FieldType.int)) ∈ lw_all := lw_g (lw_at lw_m11 16 rfl) rfl
theorem q2498 : (Jvm.Cond.instanceMethod ({ cls := "LifeofficeModel", name := "distribute", desc := "(I)J" } : Jvm.MethodName)) ∈ lw_all := lw_g (lw_at lw_m11 18 rfl) rfl
theorem q2499 : (Jvm.Cond.selects "LifeofficeModel" ({ cls := "LifeofficeModel", name := "distribute", desc := "(I)J" } : Jvm.MethodName) ({ cls := "LifeofficeModel", name := "distribute", desc := "(I)J" } : Jvm.MethodName)) ∈ lw_all := lw_g (lw_at lw_m11 19 rfl) rfl
theorem q2500 : (Jvm.Cond.code ({ cls := "LifeofficeModel", name := "distribute", desc := "(I)J" } : Jvm.MethodName) prog_12_method_87_code (9 : Nat) (Option.some Jvm.ClassFile.FieldType.long)) ∈ lw_all := lw_g (lw_at lw_m11 20 rfl) rfl
theorem q2502 : (Jvm.Cond.instanceMethod ({ cls := "LifeofficeModel", name := "generation", desc := "(II)J" } : Jvm.MethodName)) ∈ lw_all := lw_g (lw_at lw_m11 22 rfl) rfl
theorem q2503 : (Jvm.Cond.selects "LifeofficeModel" ({ cls := "LifeofficeModel", name := "generation", desc := "(II)J" } : Jvm.MethodName) ({ cls := "LifeofficeModel", name := "generation", desc := "(II)J" } : Jvm.MethodName)) ∈ lw_all := lw_g (lw_at lw_m11 23 rfl) rfl
theorem q2504 : (Jvm.Cond.code ({ cls := "LifeofficeModel", name := "generation", desc := "(II)J" } : Jvm.MethodName) prog_12_method_88_code (6 : Nat) (Option.some Jvm.ClassFile.FieldType.long)) ∈ lw_all := lw_g (lw_at lw_m11 24 rfl) rfl
theorem q2506 : (Jvm.Cond.instanceMethod ({ cls := "LifeofficeModel", name := "errors", desc := "()I" } : Jvm.MethodName)) ∈ lw_all := lw_g (lw_at lw_m11 26 rfl) rfl
theorem q2507 : (Jvm.Cond.selects "LifeofficeModel" ({ cls := "LifeofficeModel", name := "errors", desc := "()I" } : Jvm.MethodName) ({ cls := "LifeofficeModel", name := "errors", desc := "()I" } : Jvm.MethodName)) ∈ lw_all := lw_g (lw_at lw_m11 27 rfl) rfl
theorem q2508 : (Jvm.Cond.code ({ cls := "LifeofficeModel", name := "errors", desc := "()I" } : Jvm.MethodName) prog_12_method_89_code (1 : Nat) (Option.some Jvm.ClassFile.FieldType.int)) ∈ lw_all := lw_g (lw_at lw_m11 28 rfl) rfl
theorem q2510 : (Jvm.Cond.instanceMethod ({ cls := "LifeofficeModel", name := "cover", desc := "()D" } : Jvm.MethodName)) ∈ lw_all := lw_g (lw_at lw_m11 30 rfl) rfl
theorem q2511 : (Jvm.Cond.selects "LifeofficeModel" ({ cls := "LifeofficeModel", name := "cover", desc := "()D" } : Jvm.MethodName) ({ cls := "LifeofficeModel", name := "cover", desc := "()D" } : Jvm.MethodName)) ∈ lw_all := lw_g (lw_at lw_m11 31 rfl) rfl
theorem q2512 : (Jvm.Cond.code ({ cls := "LifeofficeModel", name := "cover", desc := "()D" } : Jvm.MethodName) prog_12_method_90_code (3 : Nat) (Option.some Jvm.ClassFile.FieldType.double)) ∈ lw_all := lw_g (lw_at lw_m11 32 rfl) rfl
theorem q2514 : (Jvm.Cond.instanceMethod ({ cls := "LifeofficeModel", name := "meanAge", desc := "()F" } : Jvm.MethodName)) ∈ lw_all := lw_g (lw_at lw_m11 34 rfl) rfl
theorem q2515 : (Jvm.Cond.selects "LifeofficeModel" ({ cls := "LifeofficeModel", name := "meanAge", desc := "()F" } : Jvm.MethodName) ({ cls := "LifeofficeModel", name := "meanAge", desc := "()F" } : Jvm.MethodName)) ∈ lw_all := lw_g (lw_at lw_m11 35 rfl) rfl
theorem q2516 : (Jvm.Cond.code ({ cls := "LifeofficeModel", name := "meanAge", desc := "()F" } : Jvm.MethodName) prog_12_method_91_code (4 : Nat) (Option.some Jvm.ClassFile.FieldType.float)) ∈ lw_all := lw_g (lw_at lw_m11 36 rfl) rfl
theorem q2532 : (Jvm.Cond.castable "LifeofficeModel" "java/lang/Object") ∈ lw_tbl := lw_at lw_m11 52 rfl
theorem in_X4 : ∀ w ∈ wsX40, w ∈ lw_all := lw_in wsX40 [2016, 2018, 2020, 2022, 2024, 2026, 2028, 2030, 2032, 2034, 2036, 2038, 2040, 2042, 2044, 2046, 2048, 2050, 2052, 2054, 2056, 2058, 2060, 2062, 2064, 2066, 2068, 2070, 2072, 2074, 2076, 2078, 2080, 2082, 2084, 2086, 2088, 2090, 2092, 2094, 2096, 2098, 2100, 2102, 2104, 2106, 2108, 2110, 2112, 2114, 2116, 2118, 2120, 2122, 2124] (by decide +kernel) (by decide +kernel)
