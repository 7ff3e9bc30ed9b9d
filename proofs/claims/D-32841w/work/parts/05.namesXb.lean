/-! Lifeoffice -/
set_option maxRecDepth 100000
def RX1 : String := "Lifeoffice"
def TX1 : u_T := fun k => match k with
  | 0 => ("Lifeoffice", "laws", "[LLifeoffice$Law;", true)
  | 1 => ("Lifeoffice", "policies", "Ljava/util/ArrayList;", true)
  | 2 => ("Lifeoffice", "bonds", "Ljava/util/TreeSet;", true)
  | 3 => ("Lifeoffice", "generations", "Ljava/util/TreeMap;", true)
  | 4 => ("Lifeoffice", "sources", "LLifeoffice$Ledger;", true)
  | 5 => ("Lifeoffice", "latest", "LLifeoffice$Ledger;", true)
  | 6 => ("Lifeoffice", "year", "I", false)
  | 7 => ("Lifeoffice", "improvement", "I", false)
  | 8 => ("Lifeoffice", "loading", "I", false)
  | 9 => ("Lifeoffice", "flat", "I", false)
  | 10 => ("Lifeoffice", "retention", "I", false)
  | 11 => ("Lifeoffice", "quota", "I", false)
  | 12 => ("Lifeoffice", "smoothing", "I", false)
  | 13 => ("Lifeoffice", "lastBonus", "I", false)
  | 14 => ("Lifeoffice", "finalRate", "I", false)
  | 15 => ("Lifeoffice", "bought", "I", false)
  | 16 => ("Lifeoffice", "cash", "J", false)
  | 17 => ("Lifeoffice", "founded", "J", false)
  | 18 => ("Lifeoffice", "sourcesSoFar", "J", false)
  | 19 => ("Lifeoffice", "deaths", "J", false)
  | 20 => ("Lifeoffice", "expected", "J", false)
  | 21 => ("Lifeoffice", "isClosed", "Z", false)
  | _ => ("Lifeoffice", "isDeclared", "Z", false)
def tyX1 : Nat → FieldType := fun k => match k with
  | 0 => .array (.object "Lifeoffice$Law")
  | 1 => .object "java/util/ArrayList"
  | 2 => .object "java/util/TreeSet"
  | 3 => .object "java/util/TreeMap"
  | 4 => .object "Lifeoffice$Ledger"
  | 5 => .object "Lifeoffice$Ledger"
  | 6 => .int
  | 7 => .int
  | 8 => .int
  | 9 => .int
  | 10 => .int
  | 11 => .int
  | 12 => .int
  | 13 => .int
  | 14 => .int
  | 15 => .int
  | 16 => .long
  | 17 => .long
  | 18 => .long
  | 19 => .long
  | 20 => .long
  | 21 => .boolean
  | _ => .boolean
abbrev wsX10 : List Cond := u_ws RX1 TX1 23
set_option maxRecDepth 100000 in
theorem nmX1 : ∀ a, a < 23 → ∀ b, b < 23 → a ≠ b → (TX1 a).2.1 ≠ (TX1 b).2.1 := by decide +kernel
set_option maxRecDepth 100000 in
theorem tyX1_ok : ∀ k, k < 23 → parseFieldDescriptor (TX1 k).2.2.1 = some (tyX1 k) := by decide +kernel
abbrev cX1_init : ByteArray := prog_1_method_3_code
def yX1_init : MethodName := ⟨RX1, "<init>", "()V"⟩
def dkwX1_init_4 : List UInt8 := [183, 0, 50, 181, 0, 55, 42, 17, 7, 158, 18, 58, 182, 0, 59, 177]
abbrev dktX1_init_4 : List UInt8 := dkwX1_init_4 ++ []
def dkwX1_init_3 : List UInt8 := [183, 0, 43, 181, 0, 44, 42, 187, 0, 48, 89, 183, 0, 50, 181, 0, 51, 42, 187, 0, 48, 89]
abbrev dktX1_init_3 : List UInt8 := dkwX1_init_3 ++ dktX1_init_4
def dkwX1_init_2 : List UInt8 := [183, 0, 29, 181, 0, 30, 42, 187, 0, 34, 89, 183, 0, 36, 181, 0, 37, 42, 187, 0, 41, 89]
abbrev dktX1_init_2 : List UInt8 := dkwX1_init_2 ++ dktX1_init_3
def dkwX1_init_1 : List UInt8 := [89, 183, 0, 22, 83, 89, 5, 187, 0, 20, 89, 183, 0, 22, 83, 181, 0, 23, 42, 187, 0, 27, 89]
abbrev dktX1_init_1 : List UInt8 := dkwX1_init_1 ++ dktX1_init_2
def dkwX1_init_0 : List UInt8 := [42, 183, 0, 14, 42, 6, 189, 0, 20, 89, 3, 187, 0, 20, 89, 183, 0, 22, 83, 89, 4, 187, 0, 20]
abbrev dktX1_init_0 : List UInt8 := dkwX1_init_0 ++ dktX1_init_1
theorem dksX1_init_0 : cX1_init.data.toList.drop 0 = dktX1_init_0 := by decide +kernel
theorem dksX1_init_1 : cX1_init.data.toList.drop 24 = dktX1_init_1 := dk_seg dksX1_init_0 24 rfl rfl
theorem dksX1_init_2 : cX1_init.data.toList.drop 47 = dktX1_init_2 := dk_seg dksX1_init_1 23 rfl rfl
theorem dksX1_init_3 : cX1_init.data.toList.drop 69 = dktX1_init_3 := dk_seg dksX1_init_2 22 rfl rfl
theorem dksX1_init_4 : cX1_init.data.toList.drop 91 = dktX1_init_4 := dk_seg dksX1_init_3 22 rfl rfl
theorem dX1_init_0 : decode cX1_init 0 = .ok (.aload_n 0, 1) := dk_42 (dk_at dksX1_init_0 0 rfl rfl)
theorem dX1_init_1 : decode cX1_init 1 = .ok (.invokespecial 14, 3) := dk_183 0 14 (dk_at dksX1_init_0 1 rfl rfl)
theorem dX1_init_4 : decode cX1_init 4 = .ok (.aload_n 0, 1) := dk_42 (dk_at dksX1_init_0 4 rfl rfl)
theorem dX1_init_5 : decode cX1_init 5 = .ok (.iconst 3, 1) := dk_6 (dk_at dksX1_init_0 5 rfl rfl)
theorem dX1_init_6 : decode cX1_init 6 = .ok (.anewarray 20, 3) := dk_189 0 20 (dk_at dksX1_init_0 6 rfl rfl)
theorem dX1_init_9 : decode cX1_init 9 = .ok (.dup, 1) := dk_89 (dk_at dksX1_init_0 9 rfl rfl)
theorem dX1_init_10 : decode cX1_init 10 = .ok (.iconst 0, 1) := dk_3 (dk_at dksX1_init_0 10 rfl rfl)
theorem dX1_init_11 : decode cX1_init 11 = .ok (.new 20, 3) := dk_187 0 20 (dk_at dksX1_init_0 11 rfl rfl)
theorem dX1_init_14 : decode cX1_init 14 = .ok (.dup, 1) := dk_89 (dk_at dksX1_init_0 14 rfl rfl)
theorem dX1_init_15 : decode cX1_init 15 = .ok (.invokespecial 22, 3) := dk_183 0 22 (dk_at dksX1_init_0 15 rfl rfl)
theorem dX1_init_18 : decode cX1_init 18 = .ok (.aastore, 1) := dk_83 (dk_at dksX1_init_0 18 rfl rfl)
theorem dX1_init_19 : decode cX1_init 19 = .ok (.dup, 1) := dk_89 (dk_at dksX1_init_0 19 rfl rfl)
theorem dX1_init_20 : decode cX1_init 20 = .ok (.iconst 1, 1) := dk_4 (dk_at dksX1_init_0 20 rfl rfl)
theorem dX1_init_21 : decode cX1_init 21 = .ok (.new 20, 3) := dk_187 0 20 (dk_at dksX1_init_0 21 rfl rfl)
theorem dX1_init_24 : decode cX1_init 24 = .ok (.dup, 1) := dk_89 (dk_at dksX1_init_1 0 rfl rfl)
theorem dX1_init_25 : decode cX1_init 25 = .ok (.invokespecial 22, 3) := dk_183 0 22 (dk_at dksX1_init_1 1 rfl rfl)
theorem dX1_init_28 : decode cX1_init 28 = .ok (.aastore, 1) := dk_83 (dk_at dksX1_init_1 4 rfl rfl)
theorem dX1_init_29 : decode cX1_init 29 = .ok (.dup, 1) := dk_89 (dk_at dksX1_init_1 5 rfl rfl)
theorem dX1_init_30 : decode cX1_init 30 = .ok (.iconst 2, 1) := dk_5 (dk_at dksX1_init_1 6 rfl rfl)
theorem dX1_init_31 : decode cX1_init 31 = .ok (.new 20, 3) := dk_187 0 20 (dk_at dksX1_init_1 7 rfl rfl)
theorem dX1_init_34 : decode cX1_init 34 = .ok (.dup, 1) := dk_89 (dk_at dksX1_init_1 10 rfl rfl)
theorem dX1_init_35 : decode cX1_init 35 = .ok (.invokespecial 22, 3) := dk_183 0 22 (dk_at dksX1_init_1 11 rfl rfl)
theorem dX1_init_38 : decode cX1_init 38 = .ok (.aastore, 1) := dk_83 (dk_at dksX1_init_1 14 rfl rfl)
theorem dX1_init_39 : decode cX1_init 39 = .ok (.putfield 23, 3) := dk_181 0 23 (dk_at dksX1_init_1 15 rfl rfl)
theorem dX1_init_42 : decode cX1_init 42 = .ok (.aload_n 0, 1) := dk_42 (dk_at dksX1_init_1 18 rfl rfl)
theorem dX1_init_43 : decode cX1_init 43 = .ok (.new 27, 3) := dk_187 0 27 (dk_at dksX1_init_1 19 rfl rfl)
theorem dX1_init_46 : decode cX1_init 46 = .ok (.dup, 1) := dk_89 (dk_at dksX1_init_1 22 rfl rfl)
theorem dX1_init_47 : decode cX1_init 47 = .ok (.invokespecial 29, 3) := dk_183 0 29 (dk_at dksX1_init_2 0 rfl rfl)
theorem dX1_init_50 : decode cX1_init 50 = .ok (.putfield 30, 3) := dk_181 0 30 (dk_at dksX1_init_2 3 rfl rfl)
theorem dX1_init_53 : decode cX1_init 53 = .ok (.aload_n 0, 1) := dk_42 (dk_at dksX1_init_2 6 rfl rfl)
theorem dX1_init_54 : decode cX1_init 54 = .ok (.new 34, 3) := dk_187 0 34 (dk_at dksX1_init_2 7 rfl rfl)
theorem dX1_init_57 : decode cX1_init 57 = .ok (.dup, 1) := dk_89 (dk_at dksX1_init_2 10 rfl rfl)
theorem dX1_init_58 : decode cX1_init 58 = .ok (.invokespecial 36, 3) := dk_183 0 36 (dk_at dksX1_init_2 11 rfl rfl)
theorem dX1_init_61 : decode cX1_init 61 = .ok (.putfield 37, 3) := dk_181 0 37 (dk_at dksX1_init_2 14 rfl rfl)
theorem dX1_init_64 : decode cX1_init 64 = .ok (.aload_n 0, 1) := dk_42 (dk_at dksX1_init_2 17 rfl rfl)
theorem dX1_init_65 : decode cX1_init 65 = .ok (.new 41, 3) := dk_187 0 41 (dk_at dksX1_init_2 18 rfl rfl)
theorem dX1_init_68 : decode cX1_init 68 = .ok (.dup, 1) := dk_89 (dk_at dksX1_init_2 21 rfl rfl)
theorem dX1_init_69 : decode cX1_init 69 = .ok (.invokespecial 43, 3) := dk_183 0 43 (dk_at dksX1_init_3 0 rfl rfl)
theorem dX1_init_72 : decode cX1_init 72 = .ok (.putfield 44, 3) := dk_181 0 44 (dk_at dksX1_init_3 3 rfl rfl)
theorem dX1_init_75 : decode cX1_init 75 = .ok (.aload_n 0, 1) := dk_42 (dk_at dksX1_init_3 6 rfl rfl)
theorem dX1_init_76 : decode cX1_init 76 = .ok (.new 48, 3) := dk_187 0 48 (dk_at dksX1_init_3 7 rfl rfl)
theorem dX1_init_79 : decode cX1_init 79 = .ok (.dup, 1) := dk_89 (dk_at dksX1_init_3 10 rfl rfl)
theorem dX1_init_80 : decode cX1_init 80 = .ok (.invokespecial 50, 3) := dk_183 0 50 (dk_at dksX1_init_3 11 rfl rfl)
theorem dX1_init_83 : decode cX1_init 83 = .ok (.putfield 51, 3) := dk_181 0 51 (dk_at dksX1_init_3 14 rfl rfl)
theorem dX1_init_86 : decode cX1_init 86 = .ok (.aload_n 0, 1) := dk_42 (dk_at dksX1_init_3 17 rfl rfl)
theorem dX1_init_87 : decode cX1_init 87 = .ok (.new 48, 3) := dk_187 0 48 (dk_at dksX1_init_3 18 rfl rfl)
theorem dX1_init_90 : decode cX1_init 90 = .ok (.dup, 1) := dk_89 (dk_at dksX1_init_3 21 rfl rfl)
theorem dX1_init_91 : decode cX1_init 91 = .ok (.invokespecial 50, 3) := dk_183 0 50 (dk_at dksX1_init_4 0 rfl rfl)
theorem dX1_init_94 : decode cX1_init 94 = .ok (.putfield 55, 3) := dk_181 0 55 (dk_at dksX1_init_4 3 rfl rfl)
theorem dX1_init_97 : decode cX1_init 97 = .ok (.aload_n 0, 1) := dk_42 (dk_at dksX1_init_4 6 rfl rfl)
theorem dX1_init_98 : decode cX1_init 98 = .ok (.sipush 1950, 3) := dk_17 7 158 (dk_at dksX1_init_4 7 rfl rfl)
theorem dX1_init_101 : decode cX1_init 101 = .ok (.ldc 58, 2) := dk_18 58 (dk_at dksX1_init_4 10 rfl rfl)
theorem dX1_init_103 : decode cX1_init 103 = .ok (.invokevirtual 59, 3) := dk_182 0 59 (dk_at dksX1_init_4 12 rfl rfl)
theorem dX1_init_106 : decode cX1_init 106 = .ok (.return_, 1) := dk_177 (dk_at dksX1_init_4 15 rfl rfl)
abbrev cX1_start : ByteArray := prog_1_method_4_code
def yX1_start : MethodName := ⟨RX1, "start", "(II)V"⟩
def dkwX1_start_7 : List UInt8 := [3, 181, 0, 125, 177]
abbrev dktX1_start_7 : List UInt8 := dkwX1_start_7 ++ []
def dkwX1_start_6 : List UInt8 := [181, 0, 109, 42, 9, 181, 0, 112, 42, 9, 181, 0, 115, 42, 9, 181, 0, 118, 42, 3, 181, 0, 121, 42]
abbrev dktX1_start_6 : List UInt8 := dkwX1_start_6 ++ dktX1_start_7
def dkwX1_start_5 : List UInt8 := [3, 181, 0, 97, 42, 16, 10, 181, 0, 100, 42, 3, 181, 0, 103, 42, 3, 181, 0, 106, 42, 3]
abbrev dktX1_start_5 : List UInt8 := dkwX1_start_5 ++ dktX1_start_6
def dkwX1_start_4 : List UInt8 := [42, 8, 181, 0, 84, 42, 16, 100, 181, 0, 87, 42, 16, 10, 181, 0, 90, 42, 18, 93, 181, 0, 94, 42]
abbrev dktX1_start_4 : List UInt8 := dkwX1_start_4 ++ dktX1_start_5
def dkwX1_start_3 : List UInt8 := [182, 0, 81, 42, 180, 0, 44, 182, 0, 82, 42, 180, 0, 51, 182, 0, 83, 42, 180, 0, 55, 182, 0, 83]
abbrev dktX1_start_3 : List UInt8 := dkwX1_start_3 ++ dktX1_start_4
def dkwX1_start_2 : List UInt8 := [180, 0, 23, 5, 50, 16, 10, 16, 120, 4, 182, 0, 74, 42, 180, 0, 30, 182, 0, 78, 42, 180, 0, 37]
abbrev dktX1_start_2 : List UInt8 := dkwX1_start_2 ++ dktX1_start_3
def dkwX1_start_1 : List UInt8 := [16, 30, 16, 100, 3, 182, 0, 74, 42, 180, 0, 23, 4, 50, 16, 20, 16, 110, 4, 182, 0, 74, 42]
abbrev dktX1_start_1 : List UInt8 := dkwX1_start_1 ++ dktX1_start_2
def dkwX1_start_0 : List UInt8 := [42, 27, 181, 0, 63, 42, 28, 133, 181, 0, 67, 42, 28, 133, 181, 0, 71, 42, 180, 0, 23, 3, 50]
abbrev dktX1_start_0 : List UInt8 := dkwX1_start_0 ++ dktX1_start_1
theorem dksX1_start_0 : cX1_start.data.toList.drop 0 = dktX1_start_0 := by decide +kernel
theorem dksX1_start_1 : cX1_start.data.toList.drop 23 = dktX1_start_1 := dk_seg dksX1_start_0 23 rfl rfl
theorem dksX1_start_2 : cX1_start.data.toList.drop 46 = dktX1_start_2 := dk_seg dksX1_start_1 23 rfl rfl
theorem dksX1_start_3 : cX1_start.data.toList.drop 70 = dktX1_start_3 := dk_seg dksX1_start_2 24 rfl rfl
theorem dksX1_start_4 : cX1_start.data.toList.drop 94 = dktX1_start_4 := dk_seg dksX1_start_3 24 rfl rfl
theorem dksX1_start_5 : cX1_start.data.toList.drop 118 = dktX1_start_5 := dk_seg dksX1_start_4 24 rfl rfl
theorem dksX1_start_6 : cX1_start.data.toList.drop 140 = dktX1_start_6 := dk_seg dksX1_start_5 22 rfl rfl
theorem dksX1_start_7 : cX1_start.data.toList.drop 164 = dktX1_start_7 := dk_seg dksX1_start_6 24 rfl rfl
theorem dX1_start_0 : decode cX1_start 0 = .ok (.aload_n 0, 1) := dk_42 (dk_at dksX1_start_0 0 rfl rfl)
theorem dX1_start_1 : decode cX1_start 1 = .ok (.iload_n 1, 1) := dk_27 (dk_at dksX1_start_0 1 rfl rfl)
theorem dX1_start_2 : decode cX1_start 2 = .ok (.putfield 63, 3) := dk_181 0 63 (dk_at dksX1_start_0 2 rfl rfl)
theorem dX1_start_5 : decode cX1_start 5 = .ok (.aload_n 0, 1) := dk_42 (dk_at dksX1_start_0 5 rfl rfl)
theorem dX1_start_6 : decode cX1_start 6 = .ok (.iload_n 2, 1) := dk_28 (dk_at dksX1_start_0 6 rfl rfl)
theorem dX1_start_7 : decode cX1_start 7 = .ok (.i2l, 1) := dk_133 (dk_at dksX1_start_0 7 rfl rfl)
theorem dX1_start_8 : decode cX1_start 8 = .ok (.putfield 67, 3) := dk_181 0 67 (dk_at dksX1_start_0 8 rfl rfl)
theorem dX1_start_11 : decode cX1_start 11 = .ok (.aload_n 0, 1) := dk_42 (dk_at dksX1_start_0 11 rfl rfl)
theorem dX1_start_12 : decode cX1_start 12 = .ok (.iload_n 2, 1) := dk_28 (dk_at dksX1_start_0 12 rfl rfl)
theorem dX1_start_13 : decode cX1_start 13 = .ok (.i2l, 1) := dk_133 (dk_at dksX1_start_0 13 rfl rfl)
theorem dX1_start_14 : decode cX1_start 14 = .ok (.putfield 71, 3) := dk_181 0 71 (dk_at dksX1_start_0 14 rfl rfl)
theorem dX1_start_17 : decode cX1_start 17 = .ok (.aload_n 0, 1) := dk_42 (dk_at dksX1_start_0 17 rfl rfl)
theorem dX1_start_18 : decode cX1_start 18 = .ok (.getfield 23, 3) := dk_180 0 23 (dk_at dksX1_start_0 18 rfl rfl)
theorem dX1_start_21 : decode cX1_start 21 = .ok (.iconst 0, 1) := dk_3 (dk_at dksX1_start_0 21 rfl rfl)
theorem dX1_start_22 : decode cX1_start 22 = .ok (.aaload, 1) := dk_50 (dk_at dksX1_start_0 22 rfl rfl)
theorem dX1_start_23 : decode cX1_start 23 = .ok (.bipush 30, 2) := dk_16 30 (dk_at dksX1_start_1 0 rfl rfl)
theorem dX1_start_25 : decode cX1_start 25 = .ok (.bipush 100, 2) := dk_16 100 (dk_at dksX1_start_1 2 rfl rfl)
theorem dX1_start_27 : decode cX1_start 27 = .ok (.iconst 0, 1) := dk_3 (dk_at dksX1_start_1 4 rfl rfl)
theorem dX1_start_28 : decode cX1_start 28 = .ok (.invokevirtual 74, 3) := dk_182 0 74 (dk_at dksX1_start_1 5 rfl rfl)
theorem dX1_start_31 : decode cX1_start 31 = .ok (.aload_n 0, 1) := dk_42 (dk_at dksX1_start_1 8 rfl rfl)
theorem dX1_start_32 : decode cX1_start 32 = .ok (.getfield 23, 3) := dk_180 0 23 (dk_at dksX1_start_1 9 rfl rfl)
theorem dX1_start_35 : decode cX1_start 35 = .ok (.iconst 1, 1) := dk_4 (dk_at dksX1_start_1 12 rfl rfl)
theorem dX1_start_36 : decode cX1_start 36 = .ok (.aaload, 1) := dk_50 (dk_at dksX1_start_1 13 rfl rfl)
theorem dX1_start_37 : decode cX1_start 37 = .ok (.bipush 20, 2) := dk_16 20 (dk_at dksX1_start_1 14 rfl rfl)
theorem dX1_start_39 : decode cX1_start 39 = .ok (.bipush 110, 2) := dk_16 110 (dk_at dksX1_start_1 16 rfl rfl)
theorem dX1_start_41 : decode cX1_start 41 = .ok (.iconst 1, 1) := dk_4 (dk_at dksX1_start_1 18 rfl rfl)
theorem dX1_start_42 : decode cX1_start 42 = .ok (.invokevirtual 74, 3) := dk_182 0 74 (dk_at dksX1_start_1 19 rfl rfl)
theorem dX1_start_45 : decode cX1_start 45 = .ok (.aload_n 0, 1) := dk_42 (dk_at dksX1_start_1 22 rfl rfl)
theorem dX1_start_46 : decode cX1_start 46 = .ok (.getfield 23, 3) := dk_180 0 23 (dk_at dksX1_start_2 0 rfl rfl)
theorem dX1_start_49 : decode cX1_start 49 = .ok (.iconst 2, 1) := dk_5 (dk_at dksX1_start_2 3 rfl rfl)
theorem dX1_start_50 : decode cX1_start 50 = .ok (.aaload, 1) := dk_50 (dk_at dksX1_start_2 4 rfl rfl)
theorem dX1_start_51 : decode cX1_start 51 = .ok (.bipush 10, 2) := dk_16 10 (dk_at dksX1_start_2 5 rfl rfl)
theorem dX1_start_53 : decode cX1_start 53 = .ok (.bipush 120, 2) := dk_16 120 (dk_at dksX1_start_2 7 rfl rfl)
theorem dX1_start_55 : decode cX1_start 55 = .ok (.iconst 1, 1) := dk_4 (dk_at dksX1_start_2 9 rfl rfl)
theorem dX1_start_56 : decode cX1_start 56 = .ok (.invokevirtual 74, 3) := dk_182 0 74 (dk_at dksX1_start_2 10 rfl rfl)
theorem dX1_start_59 : decode cX1_start 59 = .ok (.aload_n 0, 1) := dk_42 (dk_at dksX1_start_2 13 rfl rfl)
theorem dX1_start_60 : decode cX1_start 60 = .ok (.getfield 30, 3) := dk_180 0 30 (dk_at dksX1_start_2 14 rfl rfl)
theorem dX1_start_63 : decode cX1_start 63 = .ok (.invokevirtual 78, 3) := dk_182 0 78 (dk_at dksX1_start_2 17 rfl rfl)
theorem dX1_start_66 : decode cX1_start 66 = .ok (.aload_n 0, 1) := dk_42 (dk_at dksX1_start_2 20 rfl rfl)
theorem dX1_start_67 : decode cX1_start 67 = .ok (.getfield 37, 3) := dk_180 0 37 (dk_at dksX1_start_2 21 rfl rfl)
theorem dX1_start_70 : decode cX1_start 70 = .ok (.invokevirtual 81, 3) := dk_182 0 81 (dk_at dksX1_start_3 0 rfl rfl)
theorem dX1_start_73 : decode cX1_start 73 = .ok (.aload_n 0, 1) := dk_42 (dk_at dksX1_start_3 3 rfl rfl)
theorem dX1_start_74 : decode cX1_start 74 = .ok (.getfield 44, 3) := dk_180 0 44 (dk_at dksX1_start_3 4 rfl rfl)
theorem dX1_start_77 : decode cX1_start 77 = .ok (.invokevirtual 82, 3) := dk_182 0 82 (dk_at dksX1_start_3 7 rfl rfl)
theorem dX1_start_80 : decode cX1_start 80 = .ok (.aload_n 0, 1) := dk_42 (dk_at dksX1_start_3 10 rfl rfl)
theorem dX1_start_81 : decode cX1_start 81 = .ok (.getfield 51, 3) := dk_180 0 51 (dk_at dksX1_start_3 11 rfl rfl)
theorem dX1_start_84 : decode cX1_start 84 = .ok (.invokevirtual 83, 3) := dk_182 0 83 (dk_at dksX1_start_3 14 rfl rfl)
theorem dX1_start_87 : decode cX1_start 87 = .ok (.aload_n 0, 1) := dk_42 (dk_at dksX1_start_3 17 rfl rfl)
theorem dX1_start_88 : decode cX1_start 88 = .ok (.getfield 55, 3) := dk_180 0 55 (dk_at dksX1_start_3 18 rfl rfl)
theorem dX1_start_91 : decode cX1_start 91 = .ok (.invokevirtual 83, 3) := dk_182 0 83 (dk_at dksX1_start_3 21 rfl rfl)
theorem dX1_start_94 : decode cX1_start 94 = .ok (.aload_n 0, 1) := dk_42 (dk_at dksX1_start_4 0 rfl rfl)
theorem dX1_start_95 : decode cX1_start 95 = .ok (.iconst 5, 1) := dk_8 (dk_at dksX1_start_4 1 rfl rfl)
theorem dX1_start_96 : decode cX1_start 96 = .ok (.putfield 84, 3) := dk_181 0 84 (dk_at dksX1_start_4 2 rfl rfl)
theorem dX1_start_99 : decode cX1_start 99 = .ok (.aload_n 0, 1) := dk_42 (dk_at dksX1_start_4 5 rfl rfl)
theorem dX1_start_100 : decode cX1_start 100 = .ok (.bipush 100, 2) := dk_16 100 (dk_at dksX1_start_4 6 rfl rfl)
theorem dX1_start_102 : decode cX1_start 102 = .ok (.putfield 87, 3) := dk_181 0 87 (dk_at dksX1_start_4 8 rfl rfl)
theorem dX1_start_105 : decode cX1_start 105 = .ok (.aload_n 0, 1) := dk_42 (dk_at dksX1_start_4 11 rfl rfl)
theorem dX1_start_106 : decode cX1_start 106 = .ok (.bipush 10, 2) := dk_16 10 (dk_at dksX1_start_4 12 rfl rfl)
theorem dX1_start_108 : decode cX1_start 108 = .ok (.putfield 90, 3) := dk_181 0 90 (dk_at dksX1_start_4 14 rfl rfl)
theorem dX1_start_111 : decode cX1_start 111 = .ok (.aload_n 0, 1) := dk_42 (dk_at dksX1_start_4 17 rfl rfl)
theorem dX1_start_112 : decode cX1_start 112 = .ok (.ldc 93, 2) := dk_18 93 (dk_at dksX1_start_4 18 rfl rfl)
theorem dX1_start_114 : decode cX1_start 114 = .ok (.putfield 94, 3) := dk_181 0 94 (dk_at dksX1_start_4 20 rfl rfl)
theorem dX1_start_117 : decode cX1_start 117 = .ok (.aload_n 0, 1) := dk_42 (dk_at dksX1_start_4 23 rfl rfl)
theorem dX1_start_118 : decode cX1_start 118 = .ok (.iconst 0, 1) := dk_3 (dk_at dksX1_start_5 0 rfl rfl)
theorem dX1_start_119 : decode cX1_start 119 = .ok (.putfield 97, 3) := dk_181 0 97 (dk_at dksX1_start_5 1 rfl rfl)
theorem dX1_start_122 : decode cX1_start 122 = .ok (.aload_n 0, 1) := dk_42 (dk_at dksX1_start_5 4 rfl rfl)
theorem dX1_start_123 : decode cX1_start 123 = .ok (.bipush 10, 2) := dk_16 10 (dk_at dksX1_start_5 5 rfl rfl)
theorem dX1_start_125 : decode cX1_start 125 = .ok (.putfield 100, 3) := dk_181 0 100 (dk_at dksX1_start_5 7 rfl rfl)
theorem dX1_start_128 : decode cX1_start 128 = .ok (.aload_n 0, 1) := dk_42 (dk_at dksX1_start_5 10 rfl rfl)
theorem dX1_start_129 : decode cX1_start 129 = .ok (.iconst 0, 1) := dk_3 (dk_at dksX1_start_5 11 rfl rfl)
theorem dX1_start_130 : decode cX1_start 130 = .ok (.putfield 103, 3) := dk_181 0 103 (dk_at dksX1_start_5 12 rfl rfl)
theorem dX1_start_133 : decode cX1_start 133 = .ok (.aload_n 0, 1) := dk_42 (dk_at dksX1_start_5 15 rfl rfl)
theorem dX1_start_134 : decode cX1_start 134 = .ok (.iconst 0, 1) := dk_3 (dk_at dksX1_start_5 16 rfl rfl)
theorem dX1_start_135 : decode cX1_start 135 = .ok (.putfield 106, 3) := dk_181 0 106 (dk_at dksX1_start_5 17 rfl rfl)
theorem dX1_start_138 : decode cX1_start 138 = .ok (.aload_n 0, 1) := dk_42 (dk_at dksX1_start_5 20 rfl rfl)
theorem dX1_start_139 : decode cX1_start 139 = .ok (.iconst 0, 1) := dk_3 (dk_at dksX1_start_5 21 rfl rfl)
theorem dX1_start_140 : decode cX1_start 140 = .ok (.putfield 109, 3) := dk_181 0 109 (dk_at dksX1_start_6 0 rfl rfl)
theorem dX1_start_143 : decode cX1_start 143 = .ok (.aload_n 0, 1) := dk_42 (dk_at dksX1_start_6 3 rfl rfl)
theorem dX1_start_144 : decode cX1_start 144 = .ok (.lconst 0, 1) := dk_9 (dk_at dksX1_start_6 4 rfl rfl)
theorem dX1_start_145 : decode cX1_start 145 = .ok (.putfield 112, 3) := dk_181 0 112 (dk_at dksX1_start_6 5 rfl rfl)
theorem dX1_start_148 : decode cX1_start 148 = .ok (.aload_n 0, 1) := dk_42 (dk_at dksX1_start_6 8 rfl rfl)
theorem dX1_start_149 : decode cX1_start 149 = .ok (.lconst 0, 1) := dk_9 (dk_at dksX1_start_6 9 rfl rfl)
theorem dX1_start_150 : decode cX1_start 150 = .ok (.putfield 115, 3) := dk_181 0 115 (dk_at dksX1_start_6 10 rfl rfl)
theorem dX1_start_153 : decode cX1_start 153 = .ok (.aload_n 0, 1) := dk_42 (dk_at dksX1_start_6 13 rfl rfl)
theorem dX1_start_154 : decode cX1_start 154 = .ok (.lconst 0, 1) := dk_9 (dk_at dksX1_start_6 14 rfl rfl)
theorem dX1_start_155 : decode cX1_start 155 = .ok (.putfield 118, 3) := dk_181 0 118 (dk_at dksX1_start_6 15 rfl rfl)
theorem dX1_start_158 : decode cX1_start 158 = .ok (.aload_n 0, 1) := dk_42 (dk_at dksX1_start_6 18 rfl rfl)
theorem dX1_start_159 : decode cX1_start 159 = .ok (.iconst 0, 1) := dk_3 (dk_at dksX1_start_6 19 rfl rfl)
theorem dX1_start_160 : decode cX1_start 160 = .ok (.putfield 121, 3) := dk_181 0 121 (dk_at dksX1_start_6 20 rfl rfl)
theorem dX1_start_163 : decode cX1_start 163 = .ok (.aload_n 0, 1) := dk_42 (dk_at dksX1_start_6 23 rfl rfl)
theorem dX1_start_164 : decode cX1_start 164 = .ok (.iconst 0, 1) := dk_3 (dk_at dksX1_start_7 0 rfl rfl)
theorem dX1_start_165 : decode cX1_start 165 = .ok (.putfield 125, 3) := dk_181 0 125 (dk_at dksX1_start_7 1 rfl rfl)
theorem dX1_start_168 : decode cX1_start 168 = .ok (.return_, 1) := dk_177 (dk_at dksX1_start_7 4 rfl rfl)
abbrev cX1_year : ByteArray := prog_1_method_16_code
def yX1_year : MethodName := ⟨RX1, "year", "()I"⟩
theorem dX1_year_0 : decode cX1_year 0 = .ok (.aload_n 0, 1) := by decide +kernel
theorem dX1_year_1 : decode cX1_year 1 = .ok (.getfield 63, 3) := by decide +kernel
theorem dX1_year_4 : decode cX1_year 4 = .ok (.ireturn, 1) := by decide +kernel
abbrev cX1_policies : ByteArray := prog_1_method_26_code
def yX1_policies : MethodName := ⟨RX1, "policies", "()I"⟩
def dkwX1_policies_0 : List UInt8 := [42, 180, 0, 30, 182, 0, 137, 172]
abbrev dktX1_policies_0 : List UInt8 := dkwX1_policies_0 ++ []
theorem dksX1_policies_0 : cX1_policies.data.toList.drop 0 = dktX1_policies_0 := by decide +kernel
theorem dX1_policies_0 : decode cX1_policies 0 = .ok (.aload_n 0, 1) := dk_42 (dk_at dksX1_policies_0 0 rfl rfl)
theorem dX1_policies_1 : decode cX1_policies 1 = .ok (.getfield 30, 3) := dk_180 0 30 (dk_at dksX1_policies_0 1 rfl rfl)
theorem dX1_policies_4 : decode cX1_policies 4 = .ok (.invokevirtual 137, 3) := dk_182 0 137 (dk_at dksX1_policies_0 4 rfl rfl)
theorem dX1_policies_7 : decode cX1_policies 7 = .ok (.ireturn, 1) := dk_172 (dk_at dksX1_policies_0 7 rfl rfl)
abbrev cX1_adopt : ByteArray := prog_1_method_64_code
def yX1_adopt : MethodName := ⟨RX1, "adopt", "()I"⟩
def dkwX1_adopt_3 : List UInt8 := [180, 0, 23, 3, 50, 180, 0, 237, 172]
abbrev dktX1_adopt_3 : List UInt8 := dkwX1_adopt_3 ++ []
def dkwX1_adopt_2 : List UInt8 := [184, 1, 84, 136, 181, 0, 237, 42, 9, 181, 0, 115, 42, 9, 181, 0, 118, 42, 31, 182, 0, 217, 42]
abbrev dktX1_adopt_2 : List UInt8 := dkwX1_adopt_2 ++ dktX1_adopt_3
def dkwX1_adopt_1 : List UInt8 := [180, 0, 23, 3, 50, 180, 0, 237, 133, 42, 182, 2, 24, 105, 20, 0, 7, 184, 0, 9, 184, 1, 232]
abbrev dktX1_adopt_1 : List UInt8 := dkwX1_adopt_1 ++ dktX1_adopt_2
def dkwX1_adopt_0 : List UInt8 := [42, 42, 180, 0, 23, 3, 50, 182, 0, 183, 64, 42, 180, 0, 23, 3, 50, 20, 0, 213, 20, 0, 215, 42]
abbrev dktX1_adopt_0 : List UInt8 := dkwX1_adopt_0 ++ dktX1_adopt_1
theorem dksX1_adopt_0 : cX1_adopt.data.toList.drop 0 = dktX1_adopt_0 := by decide +kernel
theorem dksX1_adopt_1 : cX1_adopt.data.toList.drop 24 = dktX1_adopt_1 := dk_seg dksX1_adopt_0 24 rfl rfl
theorem dksX1_adopt_2 : cX1_adopt.data.toList.drop 47 = dktX1_adopt_2 := dk_seg dksX1_adopt_1 23 rfl rfl
theorem dksX1_adopt_3 : cX1_adopt.data.toList.drop 70 = dktX1_adopt_3 := dk_seg dksX1_adopt_2 23 rfl rfl
theorem dX1_adopt_0 : decode cX1_adopt 0 = .ok (.aload_n 0, 1) := dk_42 (dk_at dksX1_adopt_0 0 rfl rfl)
theorem dX1_adopt_1 : decode cX1_adopt 1 = .ok (.aload_n 0, 1) := dk_42 (dk_at dksX1_adopt_0 1 rfl rfl)
theorem dX1_adopt_2 : decode cX1_adopt 2 = .ok (.getfield 23, 3) := dk_180 0 23 (dk_at dksX1_adopt_0 2 rfl rfl)
theorem dX1_adopt_5 : decode cX1_adopt 5 = .ok (.iconst 0, 1) := dk_3 (dk_at dksX1_adopt_0 5 rfl rfl)
theorem dX1_adopt_6 : decode cX1_adopt 6 = .ok (.aaload, 1) := dk_50 (dk_at dksX1_adopt_0 6 rfl rfl)
theorem dX1_adopt_7 : decode cX1_adopt 7 = .ok (.invokevirtual 183, 3) := dk_182 0 183 (dk_at dksX1_adopt_0 7 rfl rfl)
theorem dX1_adopt_10 : decode cX1_adopt 10 = .ok (.lstore_n 1, 1) := dk_64 (dk_at dksX1_adopt_0 10 rfl rfl)
theorem dX1_adopt_11 : decode cX1_adopt 11 = .ok (.aload_n 0, 1) := dk_42 (dk_at dksX1_adopt_0 11 rfl rfl)
theorem dX1_adopt_12 : decode cX1_adopt 12 = .ok (.getfield 23, 3) := dk_180 0 23 (dk_at dksX1_adopt_0 12 rfl rfl)
theorem dX1_adopt_15 : decode cX1_adopt 15 = .ok (.iconst 0, 1) := dk_3 (dk_at dksX1_adopt_0 15 rfl rfl)
theorem dX1_adopt_16 : decode cX1_adopt 16 = .ok (.aaload, 1) := dk_50 (dk_at dksX1_adopt_0 16 rfl rfl)
theorem dX1_adopt_17 : decode cX1_adopt 17 = .ok (.ldc2_w 213, 3) := dk_20 0 213 (dk_at dksX1_adopt_0 17 rfl rfl)
theorem dX1_adopt_20 : decode cX1_adopt 20 = .ok (.ldc2_w 215, 3) := dk_20 0 215 (dk_at dksX1_adopt_0 20 rfl rfl)
theorem dX1_adopt_23 : decode cX1_adopt 23 = .ok (.aload_n 0, 1) := dk_42 (dk_at dksX1_adopt_0 23 rfl rfl)
theorem dX1_adopt_24 : decode cX1_adopt 24 = .ok (.getfield 23, 3) := dk_180 0 23 (dk_at dksX1_adopt_1 0 rfl rfl)
theorem dX1_adopt_27 : decode cX1_adopt 27 = .ok (.iconst 0, 1) := dk_3 (dk_at dksX1_adopt_1 3 rfl rfl)
theorem dX1_adopt_28 : decode cX1_adopt 28 = .ok (.aaload, 1) := dk_50 (dk_at dksX1_adopt_1 4 rfl rfl)
theorem dX1_adopt_29 : decode cX1_adopt 29 = .ok (.getfield 237, 3) := dk_180 0 237 (dk_at dksX1_adopt_1 5 rfl rfl)
theorem dX1_adopt_32 : decode cX1_adopt 32 = .ok (.i2l, 1) := dk_133 (dk_at dksX1_adopt_1 8 rfl rfl)
theorem dX1_adopt_33 : decode cX1_adopt 33 = .ok (.aload_n 0, 1) := dk_42 (dk_at dksX1_adopt_1 9 rfl rfl)
theorem dX1_adopt_34 : decode cX1_adopt 34 = .ok (.invokevirtual 536, 3) := dk_182 2 24 (dk_at dksX1_adopt_1 10 rfl rfl)
theorem dX1_adopt_37 : decode cX1_adopt 37 = .ok (.lmul, 1) := dk_105 (dk_at dksX1_adopt_1 13 rfl rfl)
theorem dX1_adopt_38 : decode cX1_adopt 38 = .ok (.ldc2_w 7, 3) := dk_20 0 7 (dk_at dksX1_adopt_1 14 rfl rfl)
theorem dX1_adopt_41 : decode cX1_adopt 41 = .ok (.invokestatic 9, 3) := dk_184 0 9 (dk_at dksX1_adopt_1 17 rfl rfl)
theorem dX1_adopt_44 : decode cX1_adopt 44 = .ok (.invokestatic 488, 3) := dk_184 1 232 (dk_at dksX1_adopt_1 20 rfl rfl)
theorem dX1_adopt_47 : decode cX1_adopt 47 = .ok (.invokestatic 340, 3) := dk_184 1 84 (dk_at dksX1_adopt_2 0 rfl rfl)
theorem dX1_adopt_50 : decode cX1_adopt 50 = .ok (.l2i, 1) := dk_136 (dk_at dksX1_adopt_2 3 rfl rfl)
theorem dX1_adopt_51 : decode cX1_adopt 51 = .ok (.putfield 237, 3) := dk_181 0 237 (dk_at dksX1_adopt_2 4 rfl rfl)
theorem dX1_adopt_54 : decode cX1_adopt 54 = .ok (.aload_n 0, 1) := dk_42 (dk_at dksX1_adopt_2 7 rfl rfl)
theorem dX1_adopt_55 : decode cX1_adopt 55 = .ok (.lconst 0, 1) := dk_9 (dk_at dksX1_adopt_2 8 rfl rfl)
theorem dX1_adopt_56 : decode cX1_adopt 56 = .ok (.putfield 115, 3) := dk_181 0 115 (dk_at dksX1_adopt_2 9 rfl rfl)
theorem dX1_adopt_59 : decode cX1_adopt 59 = .ok (.aload_n 0, 1) := dk_42 (dk_at dksX1_adopt_2 12 rfl rfl)
theorem dX1_adopt_60 : decode cX1_adopt 60 = .ok (.lconst 0, 1) := dk_9 (dk_at dksX1_adopt_2 13 rfl rfl)
theorem dX1_adopt_61 : decode cX1_adopt 61 = .ok (.putfield 118, 3) := dk_181 0 118 (dk_at dksX1_adopt_2 14 rfl rfl)
theorem dX1_adopt_64 : decode cX1_adopt 64 = .ok (.aload_n 0, 1) := dk_42 (dk_at dksX1_adopt_2 17 rfl rfl)
theorem dX1_adopt_65 : decode cX1_adopt 65 = .ok (.lload_n 1, 1) := dk_31 (dk_at dksX1_adopt_2 18 rfl rfl)
theorem dX1_adopt_66 : decode cX1_adopt 66 = .ok (.invokevirtual 217, 3) := dk_182 0 217 (dk_at dksX1_adopt_2 19 rfl rfl)
theorem dX1_adopt_69 : decode cX1_adopt 69 = .ok (.aload_n 0, 1) := dk_42 (dk_at dksX1_adopt_2 22 rfl rfl)
theorem dX1_adopt_70 : decode cX1_adopt 70 = .ok (.getfield 23, 3) := dk_180 0 23 (dk_at dksX1_adopt_3 0 rfl rfl)
theorem dX1_adopt_73 : decode cX1_adopt 73 = .ok (.iconst 0, 1) := dk_3 (dk_at dksX1_adopt_3 3 rfl rfl)
theorem dX1_adopt_74 : decode cX1_adopt 74 = .ok (.aaload, 1) := dk_50 (dk_at dksX1_adopt_3 4 rfl rfl)
theorem dX1_adopt_75 : decode cX1_adopt 75 = .ok (.getfield 237, 3) := dk_180 0 237 (dk_at dksX1_adopt_3 5 rfl rfl)
theorem dX1_adopt_78 : decode cX1_adopt 78 = .ok (.ireturn, 1) := dk_172 (dk_at dksX1_adopt_3 8 rfl rfl)
abbrev cX1_total : ByteArray := prog_1_method_10_code
def yX1_total : MethodName := ⟨RX1, "total", "(LLifeoffice$Law;)J"⟩
def dkwX1_total_1 : List UInt8 := [182, 0, 144, 192, 0, 148, 43, 42, 180, 0, 63, 182, 0, 150, 97, 65, 132, 4, 1, 167, 255, 218, 32, 173]
abbrev dktX1_total_1 : List UInt8 := dkwX1_total_1 ++ []
def dkwX1_total_0 : List UInt8 := [9, 65, 3, 54, 4, 21, 4, 42, 180, 0, 30, 182, 0, 137, 162, 0, 32, 32, 42, 180, 0, 30, 21, 4]
abbrev dktX1_total_0 : List UInt8 := dkwX1_total_0 ++ dktX1_total_1
theorem dksX1_total_0 : cX1_total.data.toList.drop 0 = dktX1_total_0 := by decide +kernel
theorem dksX1_total_1 : cX1_total.data.toList.drop 24 = dktX1_total_1 := dk_seg dksX1_total_0 24 rfl rfl
theorem dX1_total_0 : decode cX1_total 0 = .ok (.lconst 0, 1) := dk_9 (dk_at dksX1_total_0 0 rfl rfl)
theorem dX1_total_1 : decode cX1_total 1 = .ok (.lstore_n 2, 1) := dk_65 (dk_at dksX1_total_0 1 rfl rfl)
theorem dX1_total_2 : decode cX1_total 2 = .ok (.iconst 0, 1) := dk_3 (dk_at dksX1_total_0 2 rfl rfl)
theorem dX1_total_3 : decode cX1_total 3 = .ok (.istore 4, 2) := dk_54 4 (dk_at dksX1_total_0 3 rfl rfl)
theorem dX1_total_5 : decode cX1_total 5 = .ok (.iload 4, 2) := dk_21 4 (dk_at dksX1_total_0 5 rfl rfl)
theorem dX1_total_7 : decode cX1_total 7 = .ok (.aload_n 0, 1) := dk_42 (dk_at dksX1_total_0 7 rfl rfl)
theorem dX1_total_8 : decode cX1_total 8 = .ok (.getfield 30, 3) := dk_180 0 30 (dk_at dksX1_total_0 8 rfl rfl)
theorem dX1_total_11 : decode cX1_total 11 = .ok (.invokevirtual 137, 3) := dk_182 0 137 (dk_at dksX1_total_0 11 rfl rfl)
theorem dX1_total_14 : decode cX1_total 14 = .ok (.if_icmp .ge 32, 3) := dk_162 0 32 (dk_at dksX1_total_0 14 rfl rfl)
theorem dX1_total_17 : decode cX1_total 17 = .ok (.lload_n 2, 1) := dk_32 (dk_at dksX1_total_0 17 rfl rfl)
theorem dX1_total_18 : decode cX1_total 18 = .ok (.aload_n 0, 1) := dk_42 (dk_at dksX1_total_0 18 rfl rfl)
theorem dX1_total_19 : decode cX1_total 19 = .ok (.getfield 30, 3) := dk_180 0 30 (dk_at dksX1_total_0 19 rfl rfl)
theorem dX1_total_22 : decode cX1_total 22 = .ok (.iload 4, 2) := dk_21 4 (dk_at dksX1_total_0 22 rfl rfl)
theorem dX1_total_24 : decode cX1_total 24 = .ok (.invokevirtual 144, 3) := dk_182 0 144 (dk_at dksX1_total_1 0 rfl rfl)
theorem dX1_total_27 : decode cX1_total 27 = .ok (.checkcast 148, 3) := dk_192 0 148 (dk_at dksX1_total_1 3 rfl rfl)
theorem dX1_total_30 : decode cX1_total 30 = .ok (.aload_n 1, 1) := dk_43 (dk_at dksX1_total_1 6 rfl rfl)
theorem dX1_total_31 : decode cX1_total 31 = .ok (.aload_n 0, 1) := dk_42 (dk_at dksX1_total_1 7 rfl rfl)
theorem dX1_total_32 : decode cX1_total 32 = .ok (.getfield 63, 3) := dk_180 0 63 (dk_at dksX1_total_1 8 rfl rfl)
theorem dX1_total_35 : decode cX1_total 35 = .ok (.invokevirtual 150, 3) := dk_182 0 150 (dk_at dksX1_total_1 11 rfl rfl)
theorem dX1_total_38 : decode cX1_total 38 = .ok (.ladd, 1) := dk_97 (dk_at dksX1_total_1 14 rfl rfl)
theorem dX1_total_39 : decode cX1_total 39 = .ok (.lstore_n 2, 1) := dk_65 (dk_at dksX1_total_1 15 rfl rfl)
theorem dX1_total_40 : decode cX1_total 40 = .ok (.iinc 4 1, 3) := dk_132 4 1 (dk_at dksX1_total_1 16 rfl rfl)
theorem dX1_total_43 : decode cX1_total 43 = .ok (.goto (-38), 3) := dk_167 255 218 (dk_at dksX1_total_1 19 rfl rfl)
theorem dX1_total_46 : decode cX1_total 46 = .ok (.lload_n 2, 1) := dk_32 (dk_at dksX1_total_1 22 rfl rfl)
theorem dX1_total_47 : decode cX1_total 47 = .ok (.lreturn, 1) := dk_173 (dk_at dksX1_total_1 23 rfl rfl)
abbrev cX1_down : ByteArray := prog_1_method_1_code
def yX1_down : MethodName := ⟨RX1, "down", "(JJ)J"⟩
def dkwX1_down_0 : List UInt8 := [30, 32, 184, 0, 1, 173]
abbrev dktX1_down_0 : List UInt8 := dkwX1_down_0 ++ []
theorem dksX1_down_0 : cX1_down.data.toList.drop 0 = dktX1_down_0 := by decide +kernel
theorem dX1_down_0 : decode cX1_down 0 = .ok (.lload_n 0, 1) := dk_30 (dk_at dksX1_down_0 0 rfl rfl)
theorem dX1_down_1 : decode cX1_down 1 = .ok (.lload_n 2, 1) := dk_32 (dk_at dksX1_down_0 1 rfl rfl)
theorem dX1_down_2 : decode cX1_down 2 = .ok (.invokestatic 1, 3) := dk_184 0 1 (dk_at dksX1_down_0 2 rfl rfl)
theorem dX1_down_5 : decode cX1_down 5 = .ok (.lreturn, 1) := dk_173 (dk_at dksX1_down_0 5 rfl rfl)
abbrev cX1_discounted : ByteArray := prog_1_method_2_code
def yX1_discounted : MethodName := ⟨RX1, "discounted", "(JI)J"⟩
def dkwX1_discounted_0 : List UInt8 := [30, 20, 0, 7, 105, 17, 3, 232, 28, 96, 133, 184, 0, 9, 173]
abbrev dktX1_discounted_0 : List UInt8 := dkwX1_discounted_0 ++ []
theorem dksX1_discounted_0 : cX1_discounted.data.toList.drop 0 = dktX1_discounted_0 := by decide +kernel
theorem dX1_discounted_0 : decode cX1_discounted 0 = .ok (.lload_n 0, 1) := dk_30 (dk_at dksX1_discounted_0 0 rfl rfl)
theorem dX1_discounted_1 : decode cX1_discounted 1 = .ok (.ldc2_w 7, 3) := dk_20 0 7 (dk_at dksX1_discounted_0 1 rfl rfl)
theorem dX1_discounted_4 : decode cX1_discounted 4 = .ok (.lmul, 1) := dk_105 (dk_at dksX1_discounted_0 4 rfl rfl)
theorem dX1_discounted_5 : decode cX1_discounted 5 = .ok (.sipush 1000, 3) := dk_17 3 232 (dk_at dksX1_discounted_0 5 rfl rfl)
theorem dX1_discounted_8 : decode cX1_discounted 8 = .ok (.iload_n 2, 1) := dk_28 (dk_at dksX1_discounted_0 8 rfl rfl)
theorem dX1_discounted_9 : decode cX1_discounted 9 = .ok (.iadd, 1) := dk_96 (dk_at dksX1_discounted_0 9 rfl rfl)
theorem dX1_discounted_10 : decode cX1_discounted 10 = .ok (.i2l, 1) := dk_133 (dk_at dksX1_discounted_0 10 rfl rfl)
theorem dX1_discounted_11 : decode cX1_discounted 11 = .ok (.invokestatic 9, 3) := dk_184 0 9 (dk_at dksX1_discounted_0 11 rfl rfl)
theorem dX1_discounted_14 : decode cX1_discounted 14 = .ok (.lreturn, 1) := dk_173 (dk_at dksX1_discounted_0 14 rfl rfl)
abbrev cX1_blend : ByteArray := prog_1_method_62_code
def yX1_blend : MethodName := ⟨RX1, "blend", "()J"⟩
def dkwX1_blend_1 : List UInt8 := [20, 0, 7, 184, 0, 9, 173]
abbrev dktX1_blend_1 : List UInt8 := dkwX1_blend_1 ++ []
def dkwX1_blend_0 : List UInt8 := [42, 182, 2, 18, 42, 182, 2, 21, 105, 20, 0, 7, 42, 182, 2, 18, 101, 20, 0, 7, 105, 97]
abbrev dktX1_blend_0 : List UInt8 := dkwX1_blend_0 ++ dktX1_blend_1
theorem dksX1_blend_0 : cX1_blend.data.toList.drop 0 = dktX1_blend_0 := by decide +kernel
theorem dksX1_blend_1 : cX1_blend.data.toList.drop 22 = dktX1_blend_1 := dk_seg dksX1_blend_0 22 rfl rfl
theorem dX1_blend_0 : decode cX1_blend 0 = .ok (.aload_n 0, 1) := dk_42 (dk_at dksX1_blend_0 0 rfl rfl)
theorem dX1_blend_1 : decode cX1_blend 1 = .ok (.invokevirtual 530, 3) := dk_182 2 18 (dk_at dksX1_blend_0 1 rfl rfl)
theorem dX1_blend_4 : decode cX1_blend 4 = .ok (.aload_n 0, 1) := dk_42 (dk_at dksX1_blend_0 4 rfl rfl)
theorem dX1_blend_5 : decode cX1_blend 5 = .ok (.invokevirtual 533, 3) := dk_182 2 21 (dk_at dksX1_blend_0 5 rfl rfl)
theorem dX1_blend_8 : decode cX1_blend 8 = .ok (.lmul, 1) := dk_105 (dk_at dksX1_blend_0 8 rfl rfl)
theorem dX1_blend_9 : decode cX1_blend 9 = .ok (.ldc2_w 7, 3) := dk_20 0 7 (dk_at dksX1_blend_0 9 rfl rfl)
theorem dX1_blend_12 : decode cX1_blend 12 = .ok (.aload_n 0, 1) := dk_42 (dk_at dksX1_blend_0 12 rfl rfl)
theorem dX1_blend_13 : decode cX1_blend 13 = .ok (.invokevirtual 530, 3) := dk_182 2 18 (dk_at dksX1_blend_0 13 rfl rfl)
theorem dX1_blend_16 : decode cX1_blend 16 = .ok (.lsub, 1) := dk_101 (dk_at dksX1_blend_0 16 rfl rfl)
theorem dX1_blend_17 : decode cX1_blend 17 = .ok (.ldc2_w 7, 3) := dk_20 0 7 (dk_at dksX1_blend_0 17 rfl rfl)
theorem dX1_blend_20 : decode cX1_blend 20 = .ok (.lmul, 1) := dk_105 (dk_at dksX1_blend_0 20 rfl rfl)
theorem dX1_blend_21 : decode cX1_blend 21 = .ok (.ladd, 1) := dk_97 (dk_at dksX1_blend_0 21 rfl rfl)
theorem dX1_blend_22 : decode cX1_blend 22 = .ok (.ldc2_w 7, 3) := dk_20 0 7 (dk_at dksX1_blend_1 0 rfl rfl)
theorem dX1_blend_25 : decode cX1_blend 25 = .ok (.invokestatic 9, 3) := dk_184 0 9 (dk_at dksX1_blend_1 3 rfl rfl)
theorem dX1_blend_28 : decode cX1_blend 28 = .ok (.lreturn, 1) := dk_173 (dk_at dksX1_blend_1 6 rfl rfl)
abbrev cX1_credibility : ByteArray := prog_1_method_60_code
def yX1_credibility : MethodName := ⟨RX1, "credibility", "()J"⟩
def dkwX1_credibility_0 : List UInt8 := [20, 0, 7, 42, 180, 0, 115, 105, 42, 180, 0, 115, 20, 0, 213, 97, 184, 0, 9, 173]
abbrev dktX1_credibility_0 : List UInt8 := dkwX1_credibility_0 ++ []
theorem dksX1_credibility_0 : cX1_credibility.data.toList.drop 0 = dktX1_credibility_0 := by decide +kernel
theorem dX1_credibility_0 : decode cX1_credibility 0 = .ok (.ldc2_w 7, 3) := dk_20 0 7 (dk_at dksX1_credibility_0 0 rfl rfl)
theorem dX1_credibility_3 : decode cX1_credibility 3 = .ok (.aload_n 0, 1) := dk_42 (dk_at dksX1_credibility_0 3 rfl rfl)
theorem dX1_credibility_4 : decode cX1_credibility 4 = .ok (.getfield 115, 3) := dk_180 0 115 (dk_at dksX1_credibility_0 4 rfl rfl)
theorem dX1_credibility_7 : decode cX1_credibility 7 = .ok (.lmul, 1) := dk_105 (dk_at dksX1_credibility_0 7 rfl rfl)
theorem dX1_credibility_8 : decode cX1_credibility 8 = .ok (.aload_n 0, 1) := dk_42 (dk_at dksX1_credibility_0 8 rfl rfl)
theorem dX1_credibility_9 : decode cX1_credibility 9 = .ok (.getfield 115, 3) := dk_180 0 115 (dk_at dksX1_credibility_0 9 rfl rfl)
theorem dX1_credibility_12 : decode cX1_credibility 12 = .ok (.ldc2_w 213, 3) := dk_20 0 213 (dk_at dksX1_credibility_0 12 rfl rfl)
theorem dX1_credibility_15 : decode cX1_credibility 15 = .ok (.ladd, 1) := dk_97 (dk_at dksX1_credibility_0 15 rfl rfl)
theorem dX1_credibility_16 : decode cX1_credibility 16 = .ok (.invokestatic 9, 3) := dk_184 0 9 (dk_at dksX1_credibility_0 16 rfl rfl)
theorem dX1_credibility_19 : decode cX1_credibility 19 = .ok (.lreturn, 1) := dk_173 (dk_at dksX1_credibility_0 19 rfl rfl)
abbrev cX1_ratio : ByteArray := prog_1_method_61_code
def yX1_ratio : MethodName := ⟨RX1, "ratio", "()J"⟩
def dkwX1_ratio_1 : List UInt8 := [20, 1, 168, 105, 42, 180, 0, 118, 184, 0, 9, 173]
abbrev dktX1_ratio_1 : List UInt8 := dkwX1_ratio_1 ++ []
def dkwX1_ratio_0 : List UInt8 := [42, 180, 0, 118, 9, 148, 154, 0, 9, 20, 0, 7, 167, 0, 22, 20, 0, 7, 42, 180, 0, 115, 105]
abbrev dktX1_ratio_0 : List UInt8 := dkwX1_ratio_0 ++ dktX1_ratio_1
theorem dksX1_ratio_0 : cX1_ratio.data.toList.drop 0 = dktX1_ratio_0 := by decide +kernel
theorem dksX1_ratio_1 : cX1_ratio.data.toList.drop 23 = dktX1_ratio_1 := dk_seg dksX1_ratio_0 23 rfl rfl
theorem dX1_ratio_0 : decode cX1_ratio 0 = .ok (.aload_n 0, 1) := dk_42 (dk_at dksX1_ratio_0 0 rfl rfl)
theorem dX1_ratio_1 : decode cX1_ratio 1 = .ok (.getfield 118, 3) := dk_180 0 118 (dk_at dksX1_ratio_0 1 rfl rfl)
theorem dX1_ratio_4 : decode cX1_ratio 4 = .ok (.lconst 0, 1) := dk_9 (dk_at dksX1_ratio_0 4 rfl rfl)
theorem dX1_ratio_5 : decode cX1_ratio 5 = .ok (.lcmp, 1) := dk_148 (dk_at dksX1_ratio_0 5 rfl rfl)
theorem dX1_ratio_6 : decode cX1_ratio 6 = .ok (.ifCond .ne 9, 3) := dk_154 0 9 (dk_at dksX1_ratio_0 6 rfl rfl)
theorem dX1_ratio_9 : decode cX1_ratio 9 = .ok (.ldc2_w 7, 3) := dk_20 0 7 (dk_at dksX1_ratio_0 9 rfl rfl)
theorem dX1_ratio_12 : decode cX1_ratio 12 = .ok (.goto 22, 3) := dk_167 0 22 (dk_at dksX1_ratio_0 12 rfl rfl)
theorem dX1_ratio_15 : decode cX1_ratio 15 = .ok (.ldc2_w 7, 3) := dk_20 0 7 (dk_at dksX1_ratio_0 15 rfl rfl)
theorem dX1_ratio_18 : decode cX1_ratio 18 = .ok (.aload_n 0, 1) := dk_42 (dk_at dksX1_ratio_0 18 rfl rfl)
theorem dX1_ratio_19 : decode cX1_ratio 19 = .ok (.getfield 115, 3) := dk_180 0 115 (dk_at dksX1_ratio_0 19 rfl rfl)
theorem dX1_ratio_22 : decode cX1_ratio 22 = .ok (.lmul, 1) := dk_105 (dk_at dksX1_ratio_0 22 rfl rfl)
theorem dX1_ratio_23 : decode cX1_ratio 23 = .ok (.ldc2_w 424, 3) := dk_20 1 168 (dk_at dksX1_ratio_1 0 rfl rfl)
theorem dX1_ratio_26 : decode cX1_ratio 26 = .ok (.lmul, 1) := dk_105 (dk_at dksX1_ratio_1 3 rfl rfl)
theorem dX1_ratio_27 : decode cX1_ratio 27 = .ok (.aload_n 0, 1) := dk_42 (dk_at dksX1_ratio_1 4 rfl rfl)
theorem dX1_ratio_28 : decode cX1_ratio 28 = .ok (.getfield 118, 3) := dk_180 0 118 (dk_at dksX1_ratio_1 5 rfl rfl)
theorem dX1_ratio_31 : decode cX1_ratio 31 = .ok (.invokestatic 9, 3) := dk_184 0 9 (dk_at dksX1_ratio_1 8 rfl rfl)
theorem dX1_ratio_34 : decode cX1_ratio 34 = .ok (.lreturn, 1) := dk_173 (dk_at dksX1_ratio_1 11 rfl rfl)
abbrev cX1_rebase : ByteArray := prog_1_method_14_code
def yX1_rebase : MethodName := ⟨RX1, "rebase", "(J)V"⟩
def dkwX1_rebase_1 : List UInt8 := [177]
abbrev dktX1_rebase_1 : List UInt8 := dkwX1_rebase_1 ++ []
def dkwX1_rebase_0 : List UInt8 := [42, 180, 0, 51, 16, 6, 184, 0, 187, 31, 42, 42, 180, 0, 23, 3, 50, 182, 0, 183, 101, 182, 0, 193]
abbrev dktX1_rebase_0 : List UInt8 := dkwX1_rebase_0 ++ dktX1_rebase_1
theorem dksX1_rebase_0 : cX1_rebase.data.toList.drop 0 = dktX1_rebase_0 := by decide +kernel
theorem dksX1_rebase_1 : cX1_rebase.data.toList.drop 24 = dktX1_rebase_1 := dk_seg dksX1_rebase_0 24 rfl rfl
theorem dX1_rebase_0 : decode cX1_rebase 0 = .ok (.aload_n 0, 1) := dk_42 (dk_at dksX1_rebase_0 0 rfl rfl)
theorem dX1_rebase_1 : decode cX1_rebase 1 = .ok (.getfield 51, 3) := dk_180 0 51 (dk_at dksX1_rebase_0 1 rfl rfl)
theorem dX1_rebase_4 : decode cX1_rebase 4 = .ok (.bipush 6, 2) := dk_16 6 (dk_at dksX1_rebase_0 4 rfl rfl)
theorem dX1_rebase_6 : decode cX1_rebase 6 = .ok (.invokestatic 187, 3) := dk_184 0 187 (dk_at dksX1_rebase_0 6 rfl rfl)
theorem dX1_rebase_9 : decode cX1_rebase 9 = .ok (.lload_n 1, 1) := dk_31 (dk_at dksX1_rebase_0 9 rfl rfl)
theorem dX1_rebase_10 : decode cX1_rebase 10 = .ok (.aload_n 0, 1) := dk_42 (dk_at dksX1_rebase_0 10 rfl rfl)
theorem dX1_rebase_11 : decode cX1_rebase 11 = .ok (.aload_n 0, 1) := dk_42 (dk_at dksX1_rebase_0 11 rfl rfl)
theorem dX1_rebase_12 : decode cX1_rebase 12 = .ok (.getfield 23, 3) := dk_180 0 23 (dk_at dksX1_rebase_0 12 rfl rfl)
theorem dX1_rebase_15 : decode cX1_rebase 15 = .ok (.iconst 0, 1) := dk_3 (dk_at dksX1_rebase_0 15 rfl rfl)
theorem dX1_rebase_16 : decode cX1_rebase 16 = .ok (.aaload, 1) := dk_50 (dk_at dksX1_rebase_0 16 rfl rfl)
theorem dX1_rebase_17 : decode cX1_rebase 17 = .ok (.invokevirtual 183, 3) := dk_182 0 183 (dk_at dksX1_rebase_0 17 rfl rfl)
theorem dX1_rebase_20 : decode cX1_rebase 20 = .ok (.lsub, 1) := dk_101 (dk_at dksX1_rebase_0 20 rfl rfl)
theorem dX1_rebase_21 : decode cX1_rebase 21 = .ok (.invokevirtual 193, 3) := dk_182 0 193 (dk_at dksX1_rebase_0 21 rfl rfl)
theorem dX1_rebase_24 : decode cX1_rebase 24 = .ok (.return_, 1) := dk_177 (dk_at dksX1_rebase_1 0 rfl rfl)
abbrev cX1_firstShort : ByteArray := prog_1_method_70_code
def yX1_firstShort : MethodName := ⟨RX1, "firstShort", "()I"⟩
def dkwX1_firstShort_1 : List UInt8 := [132, 1, 1, 167, 255, 231, 2, 172]
abbrev dktX1_firstShort_1 : List UInt8 := dkwX1_firstShort_1 ++ []
def dkwX1_firstShort_0 : List UInt8 := [3, 60, 27, 16, 40, 163, 0, 25, 42, 27, 182, 2, 32, 42, 27, 182, 2, 35, 148, 158, 0, 5, 27, 172]
abbrev dktX1_firstShort_0 : List UInt8 := dkwX1_firstShort_0 ++ dktX1_firstShort_1
theorem dksX1_firstShort_0 : cX1_firstShort.data.toList.drop 0 = dktX1_firstShort_0 := by decide +kernel
theorem dksX1_firstShort_1 : cX1_firstShort.data.toList.drop 24 = dktX1_firstShort_1 := dk_seg dksX1_firstShort_0 24 rfl rfl
theorem dX1_firstShort_0 : decode cX1_firstShort 0 = .ok (.iconst 0, 1) := dk_3 (dk_at dksX1_firstShort_0 0 rfl rfl)
theorem dX1_firstShort_1 : decode cX1_firstShort 1 = .ok (.istore_n 1, 1) := dk_60 (dk_at dksX1_firstShort_0 1 rfl rfl)
theorem dX1_firstShort_2 : decode cX1_firstShort 2 = .ok (.iload_n 1, 1) := dk_27 (dk_at dksX1_firstShort_0 2 rfl rfl)
theorem dX1_firstShort_3 : decode cX1_firstShort 3 = .ok (.bipush 40, 2) := dk_16 40 (dk_at dksX1_firstShort_0 3 rfl rfl)
theorem dX1_firstShort_5 : decode cX1_firstShort 5 = .ok (.if_icmp .gt 25, 3) := dk_163 0 25 (dk_at dksX1_firstShort_0 5 rfl rfl)
theorem dX1_firstShort_8 : decode cX1_firstShort 8 = .ok (.aload_n 0, 1) := dk_42 (dk_at dksX1_firstShort_0 8 rfl rfl)
theorem dX1_firstShort_9 : decode cX1_firstShort 9 = .ok (.iload_n 1, 1) := dk_27 (dk_at dksX1_firstShort_0 9 rfl rfl)
theorem dX1_firstShort_10 : decode cX1_firstShort 10 = .ok (.invokevirtual 544, 3) := dk_182 2 32 (dk_at dksX1_firstShort_0 10 rfl rfl)
theorem dX1_firstShort_13 : decode cX1_firstShort 13 = .ok (.aload_n 0, 1) := dk_42 (dk_at dksX1_firstShort_0 13 rfl rfl)
theorem dX1_firstShort_14 : decode cX1_firstShort 14 = .ok (.iload_n 1, 1) := dk_27 (dk_at dksX1_firstShort_0 14 rfl rfl)
theorem dX1_firstShort_15 : decode cX1_firstShort 15 = .ok (.invokevirtual 547, 3) := dk_182 2 35 (dk_at dksX1_firstShort_0 15 rfl rfl)
theorem dX1_firstShort_18 : decode cX1_firstShort 18 = .ok (.lcmp, 1) := dk_148 (dk_at dksX1_firstShort_0 18 rfl rfl)
theorem dX1_firstShort_19 : decode cX1_firstShort 19 = .ok (.ifCond .le 5, 3) := dk_158 0 5 (dk_at dksX1_firstShort_0 19 rfl rfl)
theorem dX1_firstShort_22 : decode cX1_firstShort 22 = .ok (.iload_n 1, 1) := dk_27 (dk_at dksX1_firstShort_0 22 rfl rfl)
theorem dX1_firstShort_23 : decode cX1_firstShort 23 = .ok (.ireturn, 1) := dk_172 (dk_at dksX1_firstShort_0 23 rfl rfl)
theorem dX1_firstShort_24 : decode cX1_firstShort 24 = .ok (.iinc 1 1, 3) := dk_132 1 1 (dk_at dksX1_firstShort_1 0 rfl rfl)
theorem dX1_firstShort_27 : decode cX1_firstShort 27 = .ok (.goto (-25), 3) := dk_167 255 231 (dk_at dksX1_firstShort_1 3 rfl rfl)
theorem dX1_firstShort_30 : decode cX1_firstShort 30 = .ok (.iconst (-1), 1) := dk_2 (dk_at dksX1_firstShort_1 6 rfl rfl)
theorem dX1_firstShort_31 : decode cX1_firstShort 31 = .ok (.ireturn, 1) := dk_172 (dk_at dksX1_firstShort_1 7 rfl rfl)
abbrev cX1_expectedAhead : ByteArray := prog_1_method_66_code
def yX1_expectedAhead : MethodName := ⟨RX1, "expectedAhead", "(I)J"⟩
def dkwX1_expectedAhead_2 : List UInt8 := [192, 0, 148, 42, 180, 0, 63, 27, 96, 182, 2, 27, 97, 65, 132, 4, 1, 167, 255, 198, 32, 173]
abbrev dktX1_expectedAhead_2 : List UInt8 := dkwX1_expectedAhead_2 ++ []
def dkwX1_expectedAhead_1 : List UInt8 := [182, 0, 144, 192, 0, 148, 182, 1, 154, 153, 0, 28, 32, 42, 42, 180, 0, 30, 21, 4, 182, 0, 144]
abbrev dktX1_expectedAhead_1 : List UInt8 := dkwX1_expectedAhead_1 ++ dktX1_expectedAhead_2
def dkwX1_expectedAhead_0 : List UInt8 := [9, 65, 3, 54, 4, 21, 4, 42, 180, 0, 30, 182, 0, 137, 162, 0, 52, 42, 180, 0, 30, 21, 4]
abbrev dktX1_expectedAhead_0 : List UInt8 := dkwX1_expectedAhead_0 ++ dktX1_expectedAhead_1
theorem dksX1_expectedAhead_0 : cX1_expectedAhead.data.toList.drop 0 = dktX1_expectedAhead_0 := by decide +kernel
theorem dksX1_expectedAhead_1 : cX1_expectedAhead.data.toList.drop 23 = dktX1_expectedAhead_1 := dk_seg dksX1_expectedAhead_0 23 rfl rfl
theorem dksX1_expectedAhead_2 : cX1_expectedAhead.data.toList.drop 46 = dktX1_expectedAhead_2 := dk_seg dksX1_expectedAhead_1 23 rfl rfl
theorem dX1_expectedAhead_0 : decode cX1_expectedAhead 0 = .ok (.lconst 0, 1) := dk_9 (dk_at dksX1_expectedAhead_0 0 rfl rfl)
theorem dX1_expectedAhead_1 : decode cX1_expectedAhead 1 = .ok (.lstore_n 2, 1) := dk_65 (dk_at dksX1_expectedAhead_0 1 rfl rfl)
theorem dX1_expectedAhead_2 : decode cX1_expectedAhead 2 = .ok (.iconst 0, 1) := dk_3 (dk_at dksX1_expectedAhead_0 2 rfl rfl)
theorem dX1_expectedAhead_3 : decode cX1_expectedAhead 3 = .ok (.istore 4, 2) := dk_54 4 (dk_at dksX1_expectedAhead_0 3 rfl rfl)
theorem dX1_expectedAhead_5 : decode cX1_expectedAhead 5 = .ok (.iload 4, 2) := dk_21 4 (dk_at dksX1_expectedAhead_0 5 rfl rfl)
theorem dX1_expectedAhead_7 : decode cX1_expectedAhead 7 = .ok (.aload_n 0, 1) := dk_42 (dk_at dksX1_expectedAhead_0 7 rfl rfl)
theorem dX1_expectedAhead_8 : decode cX1_expectedAhead 8 = .ok (.getfield 30, 3) := dk_180 0 30 (dk_at dksX1_expectedAhead_0 8 rfl rfl)
theorem dX1_expectedAhead_11 : decode cX1_expectedAhead 11 = .ok (.invokevirtual 137, 3) := dk_182 0 137 (dk_at dksX1_expectedAhead_0 11 rfl rfl)
theorem dX1_expectedAhead_14 : decode cX1_expectedAhead 14 = .ok (.if_icmp .ge 52, 3) := dk_162 0 52 (dk_at dksX1_expectedAhead_0 14 rfl rfl)
theorem dX1_expectedAhead_17 : decode cX1_expectedAhead 17 = .ok (.aload_n 0, 1) := dk_42 (dk_at dksX1_expectedAhead_0 17 rfl rfl)
theorem dX1_expectedAhead_18 : decode cX1_expectedAhead 18 = .ok (.getfield 30, 3) := dk_180 0 30 (dk_at dksX1_expectedAhead_0 18 rfl rfl)
theorem dX1_expectedAhead_21 : decode cX1_expectedAhead 21 = .ok (.iload 4, 2) := dk_21 4 (dk_at dksX1_expectedAhead_0 21 rfl rfl)
theorem dX1_expectedAhead_23 : decode cX1_expectedAhead 23 = .ok (.invokevirtual 144, 3) := dk_182 0 144 (dk_at dksX1_expectedAhead_1 0 rfl rfl)
theorem dX1_expectedAhead_26 : decode cX1_expectedAhead 26 = .ok (.checkcast 148, 3) := dk_192 0 148 (dk_at dksX1_expectedAhead_1 3 rfl rfl)
theorem dX1_expectedAhead_29 : decode cX1_expectedAhead 29 = .ok (.invokevirtual 410, 3) := dk_182 1 154 (dk_at dksX1_expectedAhead_1 6 rfl rfl)
theorem dX1_expectedAhead_32 : decode cX1_expectedAhead 32 = .ok (.ifCond .eq 28, 3) := dk_153 0 28 (dk_at dksX1_expectedAhead_1 9 rfl rfl)
theorem dX1_expectedAhead_35 : decode cX1_expectedAhead 35 = .ok (.lload_n 2, 1) := dk_32 (dk_at dksX1_expectedAhead_1 12 rfl rfl)
theorem dX1_expectedAhead_36 : decode cX1_expectedAhead 36 = .ok (.aload_n 0, 1) := dk_42 (dk_at dksX1_expectedAhead_1 13 rfl rfl)
theorem dX1_expectedAhead_37 : decode cX1_expectedAhead 37 = .ok (.aload_n 0, 1) := dk_42 (dk_at dksX1_expectedAhead_1 14 rfl rfl)
theorem dX1_expectedAhead_38 : decode cX1_expectedAhead 38 = .ok (.getfield 30, 3) := dk_180 0 30 (dk_at dksX1_expectedAhead_1 15 rfl rfl)
theorem dX1_expectedAhead_41 : decode cX1_expectedAhead 41 = .ok (.iload 4, 2) := dk_21 4 (dk_at dksX1_expectedAhead_1 18 rfl rfl)
theorem dX1_expectedAhead_43 : decode cX1_expectedAhead 43 = .ok (.invokevirtual 144, 3) := dk_182 0 144 (dk_at dksX1_expectedAhead_1 20 rfl rfl)
theorem dX1_expectedAhead_46 : decode cX1_expectedAhead 46 = .ok (.checkcast 148, 3) := dk_192 0 148 (dk_at dksX1_expectedAhead_2 0 rfl rfl)
theorem dX1_expectedAhead_49 : decode cX1_expectedAhead 49 = .ok (.aload_n 0, 1) := dk_42 (dk_at dksX1_expectedAhead_2 3 rfl rfl)
theorem dX1_expectedAhead_50 : decode cX1_expectedAhead 50 = .ok (.getfield 63, 3) := dk_180 0 63 (dk_at dksX1_expectedAhead_2 4 rfl rfl)
theorem dX1_expectedAhead_53 : decode cX1_expectedAhead 53 = .ok (.iload_n 1, 1) := dk_27 (dk_at dksX1_expectedAhead_2 7 rfl rfl)
theorem dX1_expectedAhead_54 : decode cX1_expectedAhead 54 = .ok (.iadd, 1) := dk_96 (dk_at dksX1_expectedAhead_2 8 rfl rfl)
theorem dX1_expectedAhead_55 : decode cX1_expectedAhead 55 = .ok (.invokevirtual 539, 3) := dk_182 2 27 (dk_at dksX1_expectedAhead_2 9 rfl rfl)
theorem dX1_expectedAhead_58 : decode cX1_expectedAhead 58 = .ok (.ladd, 1) := dk_97 (dk_at dksX1_expectedAhead_2 12 rfl rfl)
theorem dX1_expectedAhead_59 : decode cX1_expectedAhead 59 = .ok (.lstore_n 2, 1) := dk_65 (dk_at dksX1_expectedAhead_2 13 rfl rfl)
theorem dX1_expectedAhead_60 : decode cX1_expectedAhead 60 = .ok (.iinc 4 1, 3) := dk_132 4 1 (dk_at dksX1_expectedAhead_2 14 rfl rfl)
theorem dX1_expectedAhead_63 : decode cX1_expectedAhead 63 = .ok (.goto (-58), 3) := dk_167 255 198 (dk_at dksX1_expectedAhead_2 17 rfl rfl)
theorem dX1_expectedAhead_66 : decode cX1_expectedAhead 66 = .ok (.lload_n 2, 1) := dk_32 (dk_at dksX1_expectedAhead_2 20 rfl rfl)
theorem dX1_expectedAhead_67 : decode cX1_expectedAhead 67 = .ok (.lreturn, 1) := dk_173 (dk_at dksX1_expectedAhead_2 21 rfl rfl)
abbrev cX1_expectedOf : ByteArray := prog_1_method_65_code
def yX1_expectedOf : MethodName := ⟨RX1, "expectedOf", "(LLifeoffice$Policy;I)J"⟩
def dkwX1_expectedOf_8 : List UInt8 := [167, 255, 80, 9, 173]
abbrev dktX1_expectedOf_8 : List UInt8 := dkwX1_expectedOf_8 ++ []
def dkwX1_expectedOf_7 : List UInt8 := [20, 0, 254, 184, 0, 9, 97, 55, 10, 21, 5, 28, 160, 0, 9, 22, 10, 22, 6, 101, 173, 132, 5, 1]
abbrev dktX1_expectedOf_7 : List UInt8 := dkwX1_expectedOf_7 ++ dktX1_expectedOf_8
def dkwX1_expectedOf_6 : List UInt8 := [43, 180, 1, 66, 160, 0, 27, 43, 182, 1, 69, 153, 0, 20, 22, 10, 43, 182, 1, 157, 33, 105]
abbrev dktX1_expectedOf_6 : List UInt8 := dkwX1_expectedOf_6 ++ dktX1_expectedOf_7
def dkwX1_expectedOf_5 : List UInt8 := [153, 0, 20, 22, 10, 43, 180, 1, 53, 33, 105, 20, 0, 254, 184, 0, 9, 97, 55, 10, 21, 5, 4, 96]
abbrev dktX1_expectedOf_5 : List UInt8 := dkwX1_expectedOf_5 ++ dktX1_expectedOf_6
def dkwX1_expectedOf_4 : List UInt8 := [184, 0, 9, 55, 10, 33, 20, 1, 168, 22, 8, 101, 105, 20, 1, 168, 184, 0, 9, 66, 43, 182, 1, 108]
abbrev dktX1_expectedOf_4 : List UInt8 := dkwX1_expectedOf_4 ++ dktX1_expectedOf_5
def dkwX1_expectedOf_3 : List UInt8 := [182, 1, 108, 154, 0, 26, 43, 182, 1, 157, 33, 105, 20, 0, 254, 184, 0, 9, 22, 8, 105, 20, 1, 168]
abbrev dktX1_expectedOf_3 : List UInt8 := dkwX1_expectedOf_3 ++ dktX1_expectedOf_4
def dkwX1_expectedOf_2 : List UInt8 := [43, 42, 180, 0, 23, 3, 50, 21, 5, 43, 180, 1, 72, 182, 1, 170, 55, 8, 9, 55, 10, 43]
abbrev dktX1_expectedOf_2 : List UInt8 := dkwX1_expectedOf_2 ++ dktX1_expectedOf_3
def dkwX1_expectedOf_1 : List UInt8 := [182, 1, 217, 153, 0, 18, 43, 180, 1, 15, 33, 105, 20, 0, 254, 184, 0, 9, 167, 0, 4, 9, 55, 6]
abbrev dktX1_expectedOf_1 : List UInt8 := dkwX1_expectedOf_1 ++ dktX1_expectedOf_2
def dkwX1_expectedOf_0 : List UInt8 := [20, 0, 254, 66, 42, 180, 0, 63, 54, 5, 21, 5, 43, 180, 1, 66, 162, 0, 173, 43, 21, 5]
abbrev dktX1_expectedOf_0 : List UInt8 := dkwX1_expectedOf_0 ++ dktX1_expectedOf_1
theorem dksX1_expectedOf_0 : cX1_expectedOf.data.toList.drop 0 = dktX1_expectedOf_0 := by decide +kernel
theorem dksX1_expectedOf_1 : cX1_expectedOf.data.toList.drop 22 = dktX1_expectedOf_1 := dk_seg dksX1_expectedOf_0 22 rfl rfl
theorem dksX1_expectedOf_2 : cX1_expectedOf.data.toList.drop 46 = dktX1_expectedOf_2 := dk_seg dksX1_expectedOf_1 24 rfl rfl
theorem dksX1_expectedOf_3 : cX1_expectedOf.data.toList.drop 68 = dktX1_expectedOf_3 := dk_seg dksX1_expectedOf_2 22 rfl rfl
theorem dksX1_expectedOf_4 : cX1_expectedOf.data.toList.drop 92 = dktX1_expectedOf_4 := dk_seg dksX1_expectedOf_3 24 rfl rfl
theorem dksX1_expectedOf_5 : cX1_expectedOf.data.toList.drop 116 = dktX1_expectedOf_5 := dk_seg dksX1_expectedOf_4 24 rfl rfl
theorem dksX1_expectedOf_6 : cX1_expectedOf.data.toList.drop 140 = dktX1_expectedOf_6 := dk_seg dksX1_expectedOf_5 24 rfl rfl
theorem dksX1_expectedOf_7 : cX1_expectedOf.data.toList.drop 162 = dktX1_expectedOf_7 := dk_seg dksX1_expectedOf_6 22 rfl rfl
theorem dksX1_expectedOf_8 : cX1_expectedOf.data.toList.drop 186 = dktX1_expectedOf_8 := dk_seg dksX1_expectedOf_7 24 rfl rfl
theorem dX1_expectedOf_0 : decode cX1_expectedOf 0 = .ok (.ldc2_w 254, 3) := dk_20 0 254 (dk_at dksX1_expectedOf_0 0 rfl rfl)
theorem dX1_expectedOf_3 : decode cX1_expectedOf 3 = .ok (.lstore_n 3, 1) := dk_66 (dk_at dksX1_expectedOf_0 3 rfl rfl)
theorem dX1_expectedOf_4 : decode cX1_expectedOf 4 = .ok (.aload_n 0, 1) := dk_42 (dk_at dksX1_expectedOf_0 4 rfl rfl)
theorem dX1_expectedOf_5 : decode cX1_expectedOf 5 = .ok (.getfield 63, 3) := dk_180 0 63 (dk_at dksX1_expectedOf_0 5 rfl rfl)
theorem dX1_expectedOf_8 : decode cX1_expectedOf 8 = .ok (.istore 5, 2) := dk_54 5 (dk_at dksX1_expectedOf_0 8 rfl rfl)
theorem dX1_expectedOf_10 : decode cX1_expectedOf 10 = .ok (.iload 5, 2) := dk_21 5 (dk_at dksX1_expectedOf_0 10 rfl rfl)
theorem dX1_expectedOf_12 : decode cX1_expectedOf 12 = .ok (.aload_n 1, 1) := dk_43 (dk_at dksX1_expectedOf_0 12 rfl rfl)
theorem dX1_expectedOf_13 : decode cX1_expectedOf 13 = .ok (.getfield 322, 3) := dk_180 1 66 (dk_at dksX1_expectedOf_0 13 rfl rfl)
theorem dX1_expectedOf_16 : decode cX1_expectedOf 16 = .ok (.if_icmp .ge 173, 3) := dk_162 0 173 (dk_at dksX1_expectedOf_0 16 rfl rfl)
theorem dX1_expectedOf_19 : decode cX1_expectedOf 19 = .ok (.aload_n 1, 1) := dk_43 (dk_at dksX1_expectedOf_0 19 rfl rfl)
theorem dX1_expectedOf_20 : decode cX1_expectedOf 20 = .ok (.iload 5, 2) := dk_21 5 (dk_at dksX1_expectedOf_0 20 rfl rfl)
theorem dX1_expectedOf_22 : decode cX1_expectedOf 22 = .ok (.invokevirtual 473, 3) := dk_182 1 217 (dk_at dksX1_expectedOf_1 0 rfl rfl)
theorem dX1_expectedOf_25 : decode cX1_expectedOf 25 = .ok (.ifCond .eq 18, 3) := dk_153 0 18 (dk_at dksX1_expectedOf_1 3 rfl rfl)
theorem dX1_expectedOf_28 : decode cX1_expectedOf 28 = .ok (.aload_n 1, 1) := dk_43 (dk_at dksX1_expectedOf_1 6 rfl rfl)
theorem dX1_expectedOf_29 : decode cX1_expectedOf 29 = .ok (.getfield 271, 3) := dk_180 1 15 (dk_at dksX1_expectedOf_1 7 rfl rfl)
theorem dX1_expectedOf_32 : decode cX1_expectedOf 32 = .ok (.lload_n 3, 1) := dk_33 (dk_at dksX1_expectedOf_1 10 rfl rfl)
theorem dX1_expectedOf_33 : decode cX1_expectedOf 33 = .ok (.lmul, 1) := dk_105 (dk_at dksX1_expectedOf_1 11 rfl rfl)
theorem dX1_expectedOf_34 : decode cX1_expectedOf 34 = .ok (.ldc2_w 254, 3) := dk_20 0 254 (dk_at dksX1_expectedOf_1 12 rfl rfl)
theorem dX1_expectedOf_37 : decode cX1_expectedOf 37 = .ok (.invokestatic 9, 3) := dk_184 0 9 (dk_at dksX1_expectedOf_1 15 rfl rfl)
theorem dX1_expectedOf_40 : decode cX1_expectedOf 40 = .ok (.goto 4, 3) := dk_167 0 4 (dk_at dksX1_expectedOf_1 18 rfl rfl)
theorem dX1_expectedOf_43 : decode cX1_expectedOf 43 = .ok (.lconst 0, 1) := dk_9 (dk_at dksX1_expectedOf_1 21 rfl rfl)
theorem dX1_expectedOf_44 : decode cX1_expectedOf 44 = .ok (.lstore 6, 2) := dk_55 6 (dk_at dksX1_expectedOf_1 22 rfl rfl)
theorem dX1_expectedOf_46 : decode cX1_expectedOf 46 = .ok (.aload_n 1, 1) := dk_43 (dk_at dksX1_expectedOf_2 0 rfl rfl)
theorem dX1_expectedOf_47 : decode cX1_expectedOf 47 = .ok (.aload_n 0, 1) := dk_42 (dk_at dksX1_expectedOf_2 1 rfl rfl)
theorem dX1_expectedOf_48 : decode cX1_expectedOf 48 = .ok (.getfield 23, 3) := dk_180 0 23 (dk_at dksX1_expectedOf_2 2 rfl rfl)
theorem dX1_expectedOf_51 : decode cX1_expectedOf 51 = .ok (.iconst 0, 1) := dk_3 (dk_at dksX1_expectedOf_2 5 rfl rfl)
theorem dX1_expectedOf_52 : decode cX1_expectedOf 52 = .ok (.aaload, 1) := dk_50 (dk_at dksX1_expectedOf_2 6 rfl rfl)
theorem dX1_expectedOf_53 : decode cX1_expectedOf 53 = .ok (.iload 5, 2) := dk_21 5 (dk_at dksX1_expectedOf_2 7 rfl rfl)
theorem dX1_expectedOf_55 : decode cX1_expectedOf 55 = .ok (.aload_n 1, 1) := dk_43 (dk_at dksX1_expectedOf_2 9 rfl rfl)
theorem dX1_expectedOf_56 : decode cX1_expectedOf 56 = .ok (.getfield 328, 3) := dk_180 1 72 (dk_at dksX1_expectedOf_2 10 rfl rfl)
theorem dX1_expectedOf_59 : decode cX1_expectedOf 59 = .ok (.invokevirtual 426, 3) := dk_182 1 170 (dk_at dksX1_expectedOf_2 13 rfl rfl)
theorem dX1_expectedOf_62 : decode cX1_expectedOf 62 = .ok (.lstore 8, 2) := dk_55 8 (dk_at dksX1_expectedOf_2 16 rfl rfl)
theorem dX1_expectedOf_64 : decode cX1_expectedOf 64 = .ok (.lconst 0, 1) := dk_9 (dk_at dksX1_expectedOf_2 18 rfl rfl)
theorem dX1_expectedOf_65 : decode cX1_expectedOf 65 = .ok (.lstore 10, 2) := dk_55 10 (dk_at dksX1_expectedOf_2 19 rfl rfl)
theorem dX1_expectedOf_67 : decode cX1_expectedOf 67 = .ok (.aload_n 1, 1) := dk_43 (dk_at dksX1_expectedOf_2 21 rfl rfl)
theorem dX1_expectedOf_68 : decode cX1_expectedOf 68 = .ok (.invokevirtual 364, 3) := dk_182 1 108 (dk_at dksX1_expectedOf_3 0 rfl rfl)
theorem dX1_expectedOf_71 : decode cX1_expectedOf 71 = .ok (.ifCond .ne 26, 3) := dk_154 0 26 (dk_at dksX1_expectedOf_3 3 rfl rfl)
theorem dX1_expectedOf_74 : decode cX1_expectedOf 74 = .ok (.aload_n 1, 1) := dk_43 (dk_at dksX1_expectedOf_3 6 rfl rfl)
theorem dX1_expectedOf_75 : decode cX1_expectedOf 75 = .ok (.invokevirtual 413, 3) := dk_182 1 157 (dk_at dksX1_expectedOf_3 7 rfl rfl)
theorem dX1_expectedOf_78 : decode cX1_expectedOf 78 = .ok (.lload_n 3, 1) := dk_33 (dk_at dksX1_expectedOf_3 10 rfl rfl)
theorem dX1_expectedOf_79 : decode cX1_expectedOf 79 = .ok (.lmul, 1) := dk_105 (dk_at dksX1_expectedOf_3 11 rfl rfl)
theorem dX1_expectedOf_80 : decode cX1_expectedOf 80 = .ok (.ldc2_w 254, 3) := dk_20 0 254 (dk_at dksX1_expectedOf_3 12 rfl rfl)
theorem dX1_expectedOf_83 : decode cX1_expectedOf 83 = .ok (.invokestatic 9, 3) := dk_184 0 9 (dk_at dksX1_expectedOf_3 15 rfl rfl)
theorem dX1_expectedOf_86 : decode cX1_expectedOf 86 = .ok (.lload 8, 2) := dk_22 8 (dk_at dksX1_expectedOf_3 18 rfl rfl)
theorem dX1_expectedOf_88 : decode cX1_expectedOf 88 = .ok (.lmul, 1) := dk_105 (dk_at dksX1_expectedOf_3 20 rfl rfl)
theorem dX1_expectedOf_89 : decode cX1_expectedOf 89 = .ok (.ldc2_w 424, 3) := dk_20 1 168 (dk_at dksX1_expectedOf_3 21 rfl rfl)
theorem dX1_expectedOf_92 : decode cX1_expectedOf 92 = .ok (.invokestatic 9, 3) := dk_184 0 9 (dk_at dksX1_expectedOf_4 0 rfl rfl)
theorem dX1_expectedOf_95 : decode cX1_expectedOf 95 = .ok (.lstore 10, 2) := dk_55 10 (dk_at dksX1_expectedOf_4 3 rfl rfl)
theorem dX1_expectedOf_97 : decode cX1_expectedOf 97 = .ok (.lload_n 3, 1) := dk_33 (dk_at dksX1_expectedOf_4 5 rfl rfl)
theorem dX1_expectedOf_98 : decode cX1_expectedOf 98 = .ok (.ldc2_w 424, 3) := dk_20 1 168 (dk_at dksX1_expectedOf_4 6 rfl rfl)
theorem dX1_expectedOf_101 : decode cX1_expectedOf 101 = .ok (.lload 8, 2) := dk_22 8 (dk_at dksX1_expectedOf_4 9 rfl rfl)
theorem dX1_expectedOf_103 : decode cX1_expectedOf 103 = .ok (.lsub, 1) := dk_101 (dk_at dksX1_expectedOf_4 11 rfl rfl)
theorem dX1_expectedOf_104 : decode cX1_expectedOf 104 = .ok (.lmul, 1) := dk_105 (dk_at dksX1_expectedOf_4 12 rfl rfl)
theorem dX1_expectedOf_105 : decode cX1_expectedOf 105 = .ok (.ldc2_w 424, 3) := dk_20 1 168 (dk_at dksX1_expectedOf_4 13 rfl rfl)
theorem dX1_expectedOf_108 : decode cX1_expectedOf 108 = .ok (.invokestatic 9, 3) := dk_184 0 9 (dk_at dksX1_expectedOf_4 16 rfl rfl)
theorem dX1_expectedOf_111 : decode cX1_expectedOf 111 = .ok (.lstore_n 3, 1) := dk_66 (dk_at dksX1_expectedOf_4 19 rfl rfl)
theorem dX1_expectedOf_112 : decode cX1_expectedOf 112 = .ok (.aload_n 1, 1) := dk_43 (dk_at dksX1_expectedOf_4 20 rfl rfl)
theorem dX1_expectedOf_113 : decode cX1_expectedOf 113 = .ok (.invokevirtual 364, 3) := dk_182 1 108 (dk_at dksX1_expectedOf_4 21 rfl rfl)
theorem dX1_expectedOf_116 : decode cX1_expectedOf 116 = .ok (.ifCond .eq 20, 3) := dk_153 0 20 (dk_at dksX1_expectedOf_5 0 rfl rfl)
theorem dX1_expectedOf_119 : decode cX1_expectedOf 119 = .ok (.lload 10, 2) := dk_22 10 (dk_at dksX1_expectedOf_5 3 rfl rfl)
theorem dX1_expectedOf_121 : decode cX1_expectedOf 121 = .ok (.aload_n 1, 1) := dk_43 (dk_at dksX1_expectedOf_5 5 rfl rfl)
theorem dX1_expectedOf_122 : decode cX1_expectedOf 122 = .ok (.getfield 309, 3) := dk_180 1 53 (dk_at dksX1_expectedOf_5 6 rfl rfl)
theorem dX1_expectedOf_125 : decode cX1_expectedOf 125 = .ok (.lload_n 3, 1) := dk_33 (dk_at dksX1_expectedOf_5 9 rfl rfl)
theorem dX1_expectedOf_126 : decode cX1_expectedOf 126 = .ok (.lmul, 1) := dk_105 (dk_at dksX1_expectedOf_5 10 rfl rfl)
theorem dX1_expectedOf_127 : decode cX1_expectedOf 127 = .ok (.ldc2_w 254, 3) := dk_20 0 254 (dk_at dksX1_expectedOf_5 11 rfl rfl)
theorem dX1_expectedOf_130 : decode cX1_expectedOf 130 = .ok (.invokestatic 9, 3) := dk_184 0 9 (dk_at dksX1_expectedOf_5 14 rfl rfl)
theorem dX1_expectedOf_133 : decode cX1_expectedOf 133 = .ok (.ladd, 1) := dk_97 (dk_at dksX1_expectedOf_5 17 rfl rfl)
theorem dX1_expectedOf_134 : decode cX1_expectedOf 134 = .ok (.lstore 10, 2) := dk_55 10 (dk_at dksX1_expectedOf_5 18 rfl rfl)
theorem dX1_expectedOf_136 : decode cX1_expectedOf 136 = .ok (.iload 5, 2) := dk_21 5 (dk_at dksX1_expectedOf_5 20 rfl rfl)
theorem dX1_expectedOf_138 : decode cX1_expectedOf 138 = .ok (.iconst 1, 1) := dk_4 (dk_at dksX1_expectedOf_5 22 rfl rfl)
theorem dX1_expectedOf_139 : decode cX1_expectedOf 139 = .ok (.iadd, 1) := dk_96 (dk_at dksX1_expectedOf_5 23 rfl rfl)
theorem dX1_expectedOf_140 : decode cX1_expectedOf 140 = .ok (.aload_n 1, 1) := dk_43 (dk_at dksX1_expectedOf_6 0 rfl rfl)
theorem dX1_expectedOf_141 : decode cX1_expectedOf 141 = .ok (.getfield 322, 3) := dk_180 1 66 (dk_at dksX1_expectedOf_6 1 rfl rfl)
theorem dX1_expectedOf_144 : decode cX1_expectedOf 144 = .ok (.if_icmp .ne 27, 3) := dk_160 0 27 (dk_at dksX1_expectedOf_6 4 rfl rfl)
theorem dX1_expectedOf_147 : decode cX1_expectedOf 147 = .ok (.aload_n 1, 1) := dk_43 (dk_at dksX1_expectedOf_6 7 rfl rfl)
theorem dX1_expectedOf_148 : decode cX1_expectedOf 148 = .ok (.invokevirtual 325, 3) := dk_182 1 69 (dk_at dksX1_expectedOf_6 8 rfl rfl)
theorem dX1_expectedOf_151 : decode cX1_expectedOf 151 = .ok (.ifCond .eq 20, 3) := dk_153 0 20 (dk_at dksX1_expectedOf_6 11 rfl rfl)
theorem dX1_expectedOf_154 : decode cX1_expectedOf 154 = .ok (.lload 10, 2) := dk_22 10 (dk_at dksX1_expectedOf_6 14 rfl rfl)
theorem dX1_expectedOf_156 : decode cX1_expectedOf 156 = .ok (.aload_n 1, 1) := dk_43 (dk_at dksX1_expectedOf_6 16 rfl rfl)
theorem dX1_expectedOf_157 : decode cX1_expectedOf 157 = .ok (.invokevirtual 413, 3) := dk_182 1 157 (dk_at dksX1_expectedOf_6 17 rfl rfl)
theorem dX1_expectedOf_160 : decode cX1_expectedOf 160 = .ok (.lload_n 3, 1) := dk_33 (dk_at dksX1_expectedOf_6 20 rfl rfl)
theorem dX1_expectedOf_161 : decode cX1_expectedOf 161 = .ok (.lmul, 1) := dk_105 (dk_at dksX1_expectedOf_6 21 rfl rfl)
theorem dX1_expectedOf_162 : decode cX1_expectedOf 162 = .ok (.ldc2_w 254, 3) := dk_20 0 254 (dk_at dksX1_expectedOf_7 0 rfl rfl)
theorem dX1_expectedOf_165 : decode cX1_expectedOf 165 = .ok (.invokestatic 9, 3) := dk_184 0 9 (dk_at dksX1_expectedOf_7 3 rfl rfl)
theorem dX1_expectedOf_168 : decode cX1_expectedOf 168 = .ok (.ladd, 1) := dk_97 (dk_at dksX1_expectedOf_7 6 rfl rfl)
theorem dX1_expectedOf_169 : decode cX1_expectedOf 169 = .ok (.lstore 10, 2) := dk_55 10 (dk_at dksX1_expectedOf_7 7 rfl rfl)
theorem dX1_expectedOf_171 : decode cX1_expectedOf 171 = .ok (.iload 5, 2) := dk_21 5 (dk_at dksX1_expectedOf_7 9 rfl rfl)
theorem dX1_expectedOf_173 : decode cX1_expectedOf 173 = .ok (.iload_n 2, 1) := dk_28 (dk_at dksX1_expectedOf_7 11 rfl rfl)
theorem dX1_expectedOf_174 : decode cX1_expectedOf 174 = .ok (.if_icmp .ne 9, 3) := dk_160 0 9 (dk_at dksX1_expectedOf_7 12 rfl rfl)
theorem dX1_expectedOf_177 : decode cX1_expectedOf 177 = .ok (.lload 10, 2) := dk_22 10 (dk_at dksX1_expectedOf_7 15 rfl rfl)
theorem dX1_expectedOf_179 : decode cX1_expectedOf 179 = .ok (.lload 6, 2) := dk_22 6 (dk_at dksX1_expectedOf_7 17 rfl rfl)
theorem dX1_expectedOf_181 : decode cX1_expectedOf 181 = .ok (.lsub, 1) := dk_101 (dk_at dksX1_expectedOf_7 19 rfl rfl)
theorem dX1_expectedOf_182 : decode cX1_expectedOf 182 = .ok (.lreturn, 1) := dk_173 (dk_at dksX1_expectedOf_7 20 rfl rfl)
theorem dX1_expectedOf_183 : decode cX1_expectedOf 183 = .ok (.iinc 5 1, 3) := dk_132 5 1 (dk_at dksX1_expectedOf_7 21 rfl rfl)
theorem dX1_expectedOf_186 : decode cX1_expectedOf 186 = .ok (.goto (-176), 3) := dk_167 255 80 (dk_at dksX1_expectedOf_8 0 rfl rfl)
theorem dX1_expectedOf_189 : decode cX1_expectedOf 189 = .ok (.lconst 0, 1) := dk_9 (dk_at dksX1_expectedOf_8 3 rfl rfl)
theorem dX1_expectedOf_190 : decode cX1_expectedOf 190 = .ok (.lreturn, 1) := dk_173 (dk_at dksX1_expectedOf_8 4 rfl rfl)
abbrev cX1_bondsAhead : ByteArray := prog_1_method_68_code
def yX1_bondsAhead : MethodName := ⟨RX1, "bondsAhead", "(I)J"⟩
def dkwX1_bondsAhead_3 : List UInt8 := [97, 65, 167, 255, 196, 32, 173]
abbrev dktX1_bondsAhead_3 : List UInt8 := dkwX1_bondsAhead_3 ++ []
def dkwX1_bondsAhead_2 : List UInt8 := [182, 1, 236, 25, 5, 180, 1, 211, 27, 4, 96, 160, 0, 11, 25, 5, 180, 0, 177, 167, 0, 4, 9, 97]
abbrev dktX1_bondsAhead_2 : List UInt8 := dkwX1_bondsAhead_2 ++ dktX1_bondsAhead_3
def dkwX1_bondsAhead_1 : List UInt8 := [185, 0, 171, 1, 0, 192, 0, 175, 58, 5, 25, 5, 180, 1, 211, 27, 164, 0, 32, 32, 25, 5]
abbrev dktX1_bondsAhead_1 : List UInt8 := dkwX1_bondsAhead_1 ++ dktX1_bondsAhead_2
def dkwX1_bondsAhead_0 : List UInt8 := [9, 65, 42, 180, 0, 37, 182, 0, 161, 58, 4, 25, 4, 185, 0, 165, 1, 0, 153, 0, 56, 25, 4]
abbrev dktX1_bondsAhead_0 : List UInt8 := dkwX1_bondsAhead_0 ++ dktX1_bondsAhead_1
theorem dksX1_bondsAhead_0 : cX1_bondsAhead.data.toList.drop 0 = dktX1_bondsAhead_0 := by decide +kernel
theorem dksX1_bondsAhead_1 : cX1_bondsAhead.data.toList.drop 23 = dktX1_bondsAhead_1 := dk_seg dksX1_bondsAhead_0 23 rfl rfl
theorem dksX1_bondsAhead_2 : cX1_bondsAhead.data.toList.drop 45 = dktX1_bondsAhead_2 := dk_seg dksX1_bondsAhead_1 22 rfl rfl
theorem dksX1_bondsAhead_3 : cX1_bondsAhead.data.toList.drop 69 = dktX1_bondsAhead_3 := dk_seg dksX1_bondsAhead_2 24 rfl rfl
theorem dX1_bondsAhead_0 : decode cX1_bondsAhead 0 = .ok (.lconst 0, 1) := dk_9 (dk_at dksX1_bondsAhead_0 0 rfl rfl)
theorem dX1_bondsAhead_1 : decode cX1_bondsAhead 1 = .ok (.lstore_n 2, 1) := dk_65 (dk_at dksX1_bondsAhead_0 1 rfl rfl)
theorem dX1_bondsAhead_2 : decode cX1_bondsAhead 2 = .ok (.aload_n 0, 1) := dk_42 (dk_at dksX1_bondsAhead_0 2 rfl rfl)
theorem dX1_bondsAhead_3 : decode cX1_bondsAhead 3 = .ok (.getfield 37, 3) := dk_180 0 37 (dk_at dksX1_bondsAhead_0 3 rfl rfl)
theorem dX1_bondsAhead_6 : decode cX1_bondsAhead 6 = .ok (.invokevirtual 161, 3) := dk_182 0 161 (dk_at dksX1_bondsAhead_0 6 rfl rfl)
theorem dX1_bondsAhead_9 : decode cX1_bondsAhead 9 = .ok (.astore 4, 2) := dk_58 4 (dk_at dksX1_bondsAhead_0 9 rfl rfl)
theorem dX1_bondsAhead_11 : decode cX1_bondsAhead 11 = .ok (.aload 4, 2) := dk_25 4 (dk_at dksX1_bondsAhead_0 11 rfl rfl)
theorem dX1_bondsAhead_13 : decode cX1_bondsAhead 13 = .ok (.invokeinterface 165 1, 5) := by decide +kernel
theorem dX1_bondsAhead_18 : decode cX1_bondsAhead 18 = .ok (.ifCond .eq 56, 3) := dk_153 0 56 (dk_at dksX1_bondsAhead_0 18 rfl rfl)
theorem dX1_bondsAhead_21 : decode cX1_bondsAhead 21 = .ok (.aload 4, 2) := dk_25 4 (dk_at dksX1_bondsAhead_0 21 rfl rfl)
theorem dX1_bondsAhead_23 : decode cX1_bondsAhead 23 = .ok (.invokeinterface 171 1, 5) := by decide +kernel
theorem dX1_bondsAhead_28 : decode cX1_bondsAhead 28 = .ok (.checkcast 175, 3) := dk_192 0 175 (dk_at dksX1_bondsAhead_1 5 rfl rfl)
theorem dX1_bondsAhead_31 : decode cX1_bondsAhead 31 = .ok (.astore 5, 2) := dk_58 5 (dk_at dksX1_bondsAhead_1 8 rfl rfl)
theorem dX1_bondsAhead_33 : decode cX1_bondsAhead 33 = .ok (.aload 5, 2) := dk_25 5 (dk_at dksX1_bondsAhead_1 10 rfl rfl)
theorem dX1_bondsAhead_35 : decode cX1_bondsAhead 35 = .ok (.getfield 467, 3) := dk_180 1 211 (dk_at dksX1_bondsAhead_1 12 rfl rfl)
theorem dX1_bondsAhead_38 : decode cX1_bondsAhead 38 = .ok (.iload_n 1, 1) := dk_27 (dk_at dksX1_bondsAhead_1 15 rfl rfl)
theorem dX1_bondsAhead_39 : decode cX1_bondsAhead 39 = .ok (.if_icmp .le 32, 3) := dk_164 0 32 (dk_at dksX1_bondsAhead_1 16 rfl rfl)
theorem dX1_bondsAhead_42 : decode cX1_bondsAhead 42 = .ok (.lload_n 2, 1) := dk_32 (dk_at dksX1_bondsAhead_1 19 rfl rfl)
theorem dX1_bondsAhead_43 : decode cX1_bondsAhead 43 = .ok (.aload 5, 2) := dk_25 5 (dk_at dksX1_bondsAhead_1 20 rfl rfl)
theorem dX1_bondsAhead_45 : decode cX1_bondsAhead 45 = .ok (.invokevirtual 492, 3) := dk_182 1 236 (dk_at dksX1_bondsAhead_2 0 rfl rfl)
theorem dX1_bondsAhead_48 : decode cX1_bondsAhead 48 = .ok (.aload 5, 2) := dk_25 5 (dk_at dksX1_bondsAhead_2 3 rfl rfl)
theorem dX1_bondsAhead_50 : decode cX1_bondsAhead 50 = .ok (.getfield 467, 3) := dk_180 1 211 (dk_at dksX1_bondsAhead_2 5 rfl rfl)
theorem dX1_bondsAhead_53 : decode cX1_bondsAhead 53 = .ok (.iload_n 1, 1) := dk_27 (dk_at dksX1_bondsAhead_2 8 rfl rfl)
theorem dX1_bondsAhead_54 : decode cX1_bondsAhead 54 = .ok (.iconst 1, 1) := dk_4 (dk_at dksX1_bondsAhead_2 9 rfl rfl)
theorem dX1_bondsAhead_55 : decode cX1_bondsAhead 55 = .ok (.iadd, 1) := dk_96 (dk_at dksX1_bondsAhead_2 10 rfl rfl)
theorem dX1_bondsAhead_56 : decode cX1_bondsAhead 56 = .ok (.if_icmp .ne 11, 3) := dk_160 0 11 (dk_at dksX1_bondsAhead_2 11 rfl rfl)
theorem dX1_bondsAhead_59 : decode cX1_bondsAhead 59 = .ok (.aload 5, 2) := dk_25 5 (dk_at dksX1_bondsAhead_2 14 rfl rfl)
theorem dX1_bondsAhead_61 : decode cX1_bondsAhead 61 = .ok (.getfield 177, 3) := dk_180 0 177 (dk_at dksX1_bondsAhead_2 16 rfl rfl)
theorem dX1_bondsAhead_64 : decode cX1_bondsAhead 64 = .ok (.goto 4, 3) := dk_167 0 4 (dk_at dksX1_bondsAhead_2 19 rfl rfl)
theorem dX1_bondsAhead_67 : decode cX1_bondsAhead 67 = .ok (.lconst 0, 1) := dk_9 (dk_at dksX1_bondsAhead_2 22 rfl rfl)
theorem dX1_bondsAhead_68 : decode cX1_bondsAhead 68 = .ok (.ladd, 1) := dk_97 (dk_at dksX1_bondsAhead_2 23 rfl rfl)
theorem dX1_bondsAhead_69 : decode cX1_bondsAhead 69 = .ok (.ladd, 1) := dk_97 (dk_at dksX1_bondsAhead_3 0 rfl rfl)
theorem dX1_bondsAhead_70 : decode cX1_bondsAhead 70 = .ok (.lstore_n 2, 1) := dk_65 (dk_at dksX1_bondsAhead_3 1 rfl rfl)
theorem dX1_bondsAhead_71 : decode cX1_bondsAhead 71 = .ok (.goto (-60), 3) := dk_167 255 196 (dk_at dksX1_bondsAhead_3 2 rfl rfl)
theorem dX1_bondsAhead_74 : decode cX1_bondsAhead 74 = .ok (.lload_n 2, 1) := dk_32 (dk_at dksX1_bondsAhead_3 5 rfl rfl)
theorem dX1_bondsAhead_75 : decode cX1_bondsAhead 75 = .ok (.lreturn, 1) := dk_173 (dk_at dksX1_bondsAhead_3 6 rfl rfl)
abbrev cX1_errors : ByteArray := prog_1_method_76_code
def yX1_errors : MethodName := ⟨RX1, "errors", "()I"⟩
def dkwX1_errors_4 : List UInt8 := [167, 255, 197, 27, 172]
abbrev dktX1_errors_4 : List UInt8 := dkwX1_errors_4 ++ []
def dkwX1_errors_3 : List UInt8 := [42, 180, 0, 23, 3, 50, 42, 180, 0, 63, 182, 0, 150, 148, 153, 0, 6, 132, 1, 1, 132, 2, 1]
abbrev dktX1_errors_3 : List UInt8 := dkwX1_errors_3 ++ dktX1_errors_4
def dkwX1_errors_2 : List UInt8 := [180, 0, 30, 28, 182, 0, 144, 192, 0, 148, 78, 45, 182, 1, 154, 153, 0, 29, 42, 45, 182, 2, 51, 45]
abbrev dktX1_errors_2 : List UInt8 := dkwX1_errors_2 ++ dktX1_errors_3
def dkwX1_errors_1 : List UInt8 := [154, 0, 7, 3, 167, 0, 4, 4, 60, 3, 61, 28, 42, 180, 0, 30, 182, 0, 137, 162, 0, 54, 42]
abbrev dktX1_errors_1 : List UInt8 := dkwX1_errors_1 ++ dktX1_errors_2
def dkwX1_errors_0 : List UInt8 := [42, 182, 0, 246, 42, 180, 0, 71, 101, 42, 180, 0, 112, 42, 180, 0, 51, 182, 0, 249, 97, 148]
abbrev dktX1_errors_0 : List UInt8 := dkwX1_errors_0 ++ dktX1_errors_1
theorem dksX1_errors_0 : cX1_errors.data.toList.drop 0 = dktX1_errors_0 := by decide +kernel
theorem dksX1_errors_1 : cX1_errors.data.toList.drop 22 = dktX1_errors_1 := dk_seg dksX1_errors_0 22 rfl rfl
theorem dksX1_errors_2 : cX1_errors.data.toList.drop 45 = dktX1_errors_2 := dk_seg dksX1_errors_1 23 rfl rfl
theorem dksX1_errors_3 : cX1_errors.data.toList.drop 69 = dktX1_errors_3 := dk_seg dksX1_errors_2 24 rfl rfl
theorem dksX1_errors_4 : cX1_errors.data.toList.drop 92 = dktX1_errors_4 := dk_seg dksX1_errors_3 23 rfl rfl
theorem dX1_errors_0 : decode cX1_errors 0 = .ok (.aload_n 0, 1) := dk_42 (dk_at dksX1_errors_0 0 rfl rfl)
theorem dX1_errors_1 : decode cX1_errors 1 = .ok (.invokevirtual 246, 3) := dk_182 0 246 (dk_at dksX1_errors_0 1 rfl rfl)
theorem dX1_errors_4 : decode cX1_errors 4 = .ok (.aload_n 0, 1) := dk_42 (dk_at dksX1_errors_0 4 rfl rfl)
theorem dX1_errors_5 : decode cX1_errors 5 = .ok (.getfield 71, 3) := dk_180 0 71 (dk_at dksX1_errors_0 5 rfl rfl)
theorem dX1_errors_8 : decode cX1_errors 8 = .ok (.lsub, 1) := dk_101 (dk_at dksX1_errors_0 8 rfl rfl)
theorem dX1_errors_9 : decode cX1_errors 9 = .ok (.aload_n 0, 1) := dk_42 (dk_at dksX1_errors_0 9 rfl rfl)
theorem dX1_errors_10 : decode cX1_errors 10 = .ok (.getfield 112, 3) := dk_180 0 112 (dk_at dksX1_errors_0 10 rfl rfl)
theorem dX1_errors_13 : decode cX1_errors 13 = .ok (.aload_n 0, 1) := dk_42 (dk_at dksX1_errors_0 13 rfl rfl)
theorem dX1_errors_14 : decode cX1_errors 14 = .ok (.getfield 51, 3) := dk_180 0 51 (dk_at dksX1_errors_0 14 rfl rfl)
theorem dX1_errors_17 : decode cX1_errors 17 = .ok (.invokevirtual 249, 3) := dk_182 0 249 (dk_at dksX1_errors_0 17 rfl rfl)
theorem dX1_errors_20 : decode cX1_errors 20 = .ok (.ladd, 1) := dk_97 (dk_at dksX1_errors_0 20 rfl rfl)
theorem dX1_errors_21 : decode cX1_errors 21 = .ok (.lcmp, 1) := dk_148 (dk_at dksX1_errors_0 21 rfl rfl)
theorem dX1_errors_22 : decode cX1_errors 22 = .ok (.ifCond .ne 7, 3) := dk_154 0 7 (dk_at dksX1_errors_1 0 rfl rfl)
theorem dX1_errors_25 : decode cX1_errors 25 = .ok (.iconst 0, 1) := dk_3 (dk_at dksX1_errors_1 3 rfl rfl)
theorem dX1_errors_26 : decode cX1_errors 26 = .ok (.goto 4, 3) := dk_167 0 4 (dk_at dksX1_errors_1 4 rfl rfl)
theorem dX1_errors_29 : decode cX1_errors 29 = .ok (.iconst 1, 1) := dk_4 (dk_at dksX1_errors_1 7 rfl rfl)
theorem dX1_errors_30 : decode cX1_errors 30 = .ok (.istore_n 1, 1) := dk_60 (dk_at dksX1_errors_1 8 rfl rfl)
theorem dX1_errors_31 : decode cX1_errors 31 = .ok (.iconst 0, 1) := dk_3 (dk_at dksX1_errors_1 9 rfl rfl)
theorem dX1_errors_32 : decode cX1_errors 32 = .ok (.istore_n 2, 1) := dk_61 (dk_at dksX1_errors_1 10 rfl rfl)
theorem dX1_errors_33 : decode cX1_errors 33 = .ok (.iload_n 2, 1) := dk_28 (dk_at dksX1_errors_1 11 rfl rfl)
theorem dX1_errors_34 : decode cX1_errors 34 = .ok (.aload_n 0, 1) := dk_42 (dk_at dksX1_errors_1 12 rfl rfl)
theorem dX1_errors_35 : decode cX1_errors 35 = .ok (.getfield 30, 3) := dk_180 0 30 (dk_at dksX1_errors_1 13 rfl rfl)
theorem dX1_errors_38 : decode cX1_errors 38 = .ok (.invokevirtual 137, 3) := dk_182 0 137 (dk_at dksX1_errors_1 16 rfl rfl)
theorem dX1_errors_41 : decode cX1_errors 41 = .ok (.if_icmp .ge 54, 3) := dk_162 0 54 (dk_at dksX1_errors_1 19 rfl rfl)
theorem dX1_errors_44 : decode cX1_errors 44 = .ok (.aload_n 0, 1) := dk_42 (dk_at dksX1_errors_1 22 rfl rfl)
theorem dX1_errors_45 : decode cX1_errors 45 = .ok (.getfield 30, 3) := dk_180 0 30 (dk_at dksX1_errors_2 0 rfl rfl)
theorem dX1_errors_48 : decode cX1_errors 48 = .ok (.iload_n 2, 1) := dk_28 (dk_at dksX1_errors_2 3 rfl rfl)
theorem dX1_errors_49 : decode cX1_errors 49 = .ok (.invokevirtual 144, 3) := dk_182 0 144 (dk_at dksX1_errors_2 4 rfl rfl)
theorem dX1_errors_52 : decode cX1_errors 52 = .ok (.checkcast 148, 3) := dk_192 0 148 (dk_at dksX1_errors_2 7 rfl rfl)
theorem dX1_errors_55 : decode cX1_errors 55 = .ok (.astore_n 3, 1) := dk_78 (dk_at dksX1_errors_2 10 rfl rfl)
theorem dX1_errors_56 : decode cX1_errors 56 = .ok (.aload_n 3, 1) := dk_45 (dk_at dksX1_errors_2 11 rfl rfl)
theorem dX1_errors_57 : decode cX1_errors 57 = .ok (.invokevirtual 410, 3) := dk_182 1 154 (dk_at dksX1_errors_2 12 rfl rfl)
theorem dX1_errors_60 : decode cX1_errors 60 = .ok (.ifCond .eq 29, 3) := dk_153 0 29 (dk_at dksX1_errors_2 15 rfl rfl)
theorem dX1_errors_63 : decode cX1_errors 63 = .ok (.aload_n 0, 1) := dk_42 (dk_at dksX1_errors_2 18 rfl rfl)
theorem dX1_errors_64 : decode cX1_errors 64 = .ok (.aload_n 3, 1) := dk_45 (dk_at dksX1_errors_2 19 rfl rfl)
theorem dX1_errors_65 : decode cX1_errors 65 = .ok (.invokevirtual 563, 3) := dk_182 2 51 (dk_at dksX1_errors_2 20 rfl rfl)
theorem dX1_errors_68 : decode cX1_errors 68 = .ok (.aload_n 3, 1) := dk_45 (dk_at dksX1_errors_2 23 rfl rfl)
theorem dX1_errors_69 : decode cX1_errors 69 = .ok (.aload_n 0, 1) := dk_42 (dk_at dksX1_errors_3 0 rfl rfl)
theorem dX1_errors_70 : decode cX1_errors 70 = .ok (.getfield 23, 3) := dk_180 0 23 (dk_at dksX1_errors_3 1 rfl rfl)
theorem dX1_errors_73 : decode cX1_errors 73 = .ok (.iconst 0, 1) := dk_3 (dk_at dksX1_errors_3 4 rfl rfl)
theorem dX1_errors_74 : decode cX1_errors 74 = .ok (.aaload, 1) := dk_50 (dk_at dksX1_errors_3 5 rfl rfl)
theorem dX1_errors_75 : decode cX1_errors 75 = .ok (.aload_n 0, 1) := dk_42 (dk_at dksX1_errors_3 6 rfl rfl)
theorem dX1_errors_76 : decode cX1_errors 76 = .ok (.getfield 63, 3) := dk_180 0 63 (dk_at dksX1_errors_3 7 rfl rfl)
theorem dX1_errors_79 : decode cX1_errors 79 = .ok (.invokevirtual 150, 3) := dk_182 0 150 (dk_at dksX1_errors_3 10 rfl rfl)
theorem dX1_errors_82 : decode cX1_errors 82 = .ok (.lcmp, 1) := dk_148 (dk_at dksX1_errors_3 13 rfl rfl)
theorem dX1_errors_83 : decode cX1_errors 83 = .ok (.ifCond .eq 6, 3) := dk_153 0 6 (dk_at dksX1_errors_3 14 rfl rfl)
theorem dX1_errors_86 : decode cX1_errors 86 = .ok (.iinc 1 1, 3) := dk_132 1 1 (dk_at dksX1_errors_3 17 rfl rfl)
theorem dX1_errors_89 : decode cX1_errors 89 = .ok (.iinc 2 1, 3) := dk_132 2 1 (dk_at dksX1_errors_3 20 rfl rfl)
theorem dX1_errors_92 : decode cX1_errors 92 = .ok (.goto (-59), 3) := dk_167 255 197 (dk_at dksX1_errors_4 0 rfl rfl)
theorem dX1_errors_95 : decode cX1_errors 95 = .ok (.iload_n 1, 1) := dk_27 (dk_at dksX1_errors_4 3 rfl rfl)
theorem dX1_errors_96 : decode cX1_errors 96 = .ok (.ireturn, 1) := dk_172 (dk_at dksX1_errors_4 4 rfl rfl)
abbrev cX1_estate : ByteArray := prog_1_method_13_code
def yX1_estate : MethodName := ⟨RX1, "estate", "()J"⟩
def dkwX1_estate_0 : List UInt8 := [42, 182, 0, 180, 42, 42, 180, 0, 23, 3, 50, 182, 0, 183, 101, 173]
abbrev dktX1_estate_0 : List UInt8 := dkwX1_estate_0 ++ []
theorem dksX1_estate_0 : cX1_estate.data.toList.drop 0 = dktX1_estate_0 := by decide +kernel
theorem dX1_estate_0 : decode cX1_estate 0 = .ok (.aload_n 0, 1) := dk_42 (dk_at dksX1_estate_0 0 rfl rfl)
theorem dX1_estate_1 : decode cX1_estate 1 = .ok (.invokevirtual 180, 3) := dk_182 0 180 (dk_at dksX1_estate_0 1 rfl rfl)
theorem dX1_estate_4 : decode cX1_estate 4 = .ok (.aload_n 0, 1) := dk_42 (dk_at dksX1_estate_0 4 rfl rfl)
theorem dX1_estate_5 : decode cX1_estate 5 = .ok (.aload_n 0, 1) := dk_42 (dk_at dksX1_estate_0 5 rfl rfl)
theorem dX1_estate_6 : decode cX1_estate 6 = .ok (.getfield 23, 3) := dk_180 0 23 (dk_at dksX1_estate_0 6 rfl rfl)
theorem dX1_estate_9 : decode cX1_estate 9 = .ok (.iconst 0, 1) := dk_3 (dk_at dksX1_estate_0 9 rfl rfl)
theorem dX1_estate_10 : decode cX1_estate 10 = .ok (.aaload, 1) := dk_50 (dk_at dksX1_estate_0 10 rfl rfl)
theorem dX1_estate_11 : decode cX1_estate 11 = .ok (.invokevirtual 183, 3) := dk_182 0 183 (dk_at dksX1_estate_0 11 rfl rfl)
theorem dX1_estate_14 : decode cX1_estate 14 = .ok (.lsub, 1) := dk_101 (dk_at dksX1_estate_0 14 rfl rfl)
theorem dX1_estate_15 : decode cX1_estate 15 = .ok (.lreturn, 1) := dk_173 (dk_at dksX1_estate_0 15 rfl rfl)
abbrev cX1_fund : ByteArray := prog_1_method_12_code
def yX1_fund : MethodName := ⟨RX1, "fund", "()J"⟩
def dkwX1_fund_2 : List UInt8 := [167, 255, 228, 31, 173]
abbrev dktX1_fund_2 : List UInt8 := dkwX1_fund_2 ++ []
def dkwX1_fund_1 : List UInt8 := [153, 0, 25, 45, 185, 0, 171, 1, 0, 192, 0, 175, 58, 4, 31, 25, 4, 180, 0, 177, 97, 64]
abbrev dktX1_fund_1 : List UInt8 := dkwX1_fund_1 ++ dktX1_fund_2
def dkwX1_fund_0 : List UInt8 := [42, 180, 0, 67, 42, 182, 0, 157, 97, 64, 42, 180, 0, 37, 182, 0, 161, 78, 45, 185, 0, 165, 1, 0]
abbrev dktX1_fund_0 : List UInt8 := dkwX1_fund_0 ++ dktX1_fund_1
theorem dksX1_fund_0 : cX1_fund.data.toList.drop 0 = dktX1_fund_0 := by decide +kernel
theorem dksX1_fund_1 : cX1_fund.data.toList.drop 24 = dktX1_fund_1 := dk_seg dksX1_fund_0 24 rfl rfl
theorem dksX1_fund_2 : cX1_fund.data.toList.drop 46 = dktX1_fund_2 := dk_seg dksX1_fund_1 22 rfl rfl
theorem dX1_fund_0 : decode cX1_fund 0 = .ok (.aload_n 0, 1) := dk_42 (dk_at dksX1_fund_0 0 rfl rfl)
theorem dX1_fund_1 : decode cX1_fund 1 = .ok (.getfield 67, 3) := dk_180 0 67 (dk_at dksX1_fund_0 1 rfl rfl)
theorem dX1_fund_4 : decode cX1_fund 4 = .ok (.aload_n 0, 1) := dk_42 (dk_at dksX1_fund_0 4 rfl rfl)
theorem dX1_fund_5 : decode cX1_fund 5 = .ok (.invokevirtual 157, 3) := dk_182 0 157 (dk_at dksX1_fund_0 5 rfl rfl)
theorem dX1_fund_8 : decode cX1_fund 8 = .ok (.ladd, 1) := dk_97 (dk_at dksX1_fund_0 8 rfl rfl)
theorem dX1_fund_9 : decode cX1_fund 9 = .ok (.lstore_n 1, 1) := dk_64 (dk_at dksX1_fund_0 9 rfl rfl)
theorem dX1_fund_10 : decode cX1_fund 10 = .ok (.aload_n 0, 1) := dk_42 (dk_at dksX1_fund_0 10 rfl rfl)
theorem dX1_fund_11 : decode cX1_fund 11 = .ok (.getfield 37, 3) := dk_180 0 37 (dk_at dksX1_fund_0 11 rfl rfl)
theorem dX1_fund_14 : decode cX1_fund 14 = .ok (.invokevirtual 161, 3) := dk_182 0 161 (dk_at dksX1_fund_0 14 rfl rfl)
theorem dX1_fund_17 : decode cX1_fund 17 = .ok (.astore_n 3, 1) := dk_78 (dk_at dksX1_fund_0 17 rfl rfl)
theorem dX1_fund_18 : decode cX1_fund 18 = .ok (.aload_n 3, 1) := dk_45 (dk_at dksX1_fund_0 18 rfl rfl)
theorem dX1_fund_19 : decode cX1_fund 19 = .ok (.invokeinterface 165 1, 5) := by decide +kernel
theorem dX1_fund_24 : decode cX1_fund 24 = .ok (.ifCond .eq 25, 3) := dk_153 0 25 (dk_at dksX1_fund_1 0 rfl rfl)
theorem dX1_fund_27 : decode cX1_fund 27 = .ok (.aload_n 3, 1) := dk_45 (dk_at dksX1_fund_1 3 rfl rfl)
theorem dX1_fund_28 : decode cX1_fund 28 = .ok (.invokeinterface 171 1, 5) := by decide +kernel
theorem dX1_fund_33 : decode cX1_fund 33 = .ok (.checkcast 175, 3) := dk_192 0 175 (dk_at dksX1_fund_1 9 rfl rfl)
theorem dX1_fund_36 : decode cX1_fund 36 = .ok (.astore 4, 2) := dk_58 4 (dk_at dksX1_fund_1 12 rfl rfl)
theorem dX1_fund_38 : decode cX1_fund 38 = .ok (.lload_n 1, 1) := dk_31 (dk_at dksX1_fund_1 14 rfl rfl)
theorem dX1_fund_39 : decode cX1_fund 39 = .ok (.aload 4, 2) := dk_25 4 (dk_at dksX1_fund_1 15 rfl rfl)
theorem dX1_fund_41 : decode cX1_fund 41 = .ok (.getfield 177, 3) := dk_180 0 177 (dk_at dksX1_fund_1 17 rfl rfl)
theorem dX1_fund_44 : decode cX1_fund 44 = .ok (.ladd, 1) := dk_97 (dk_at dksX1_fund_1 20 rfl rfl)
theorem dX1_fund_45 : decode cX1_fund 45 = .ok (.lstore_n 1, 1) := dk_64 (dk_at dksX1_fund_1 21 rfl rfl)
theorem dX1_fund_46 : decode cX1_fund 46 = .ok (.goto (-28), 3) := dk_167 255 228 (dk_at dksX1_fund_2 0 rfl rfl)
theorem dX1_fund_49 : decode cX1_fund 49 = .ok (.lload_n 1, 1) := dk_31 (dk_at dksX1_fund_2 3 rfl rfl)
theorem dX1_fund_50 : decode cX1_fund 50 = .ok (.lreturn, 1) := dk_173 (dk_at dksX1_fund_2 4 rfl rfl)
abbrev cX1_loans : ByteArray := prog_1_method_11_code
def yX1_loans : MethodName := ⟨RX1, "loans", "()J"⟩
def dkwX1_loans_1 : List UInt8 := [192, 0, 148, 180, 0, 154, 97, 64, 132, 3, 1, 167, 255, 225, 31, 173]
abbrev dktX1_loans_1 : List UInt8 := dkwX1_loans_1 ++ []
def dkwX1_loans_0 : List UInt8 := [9, 64, 3, 62, 29, 42, 180, 0, 30, 182, 0, 137, 162, 0, 26, 31, 42, 180, 0, 30, 29, 182, 0, 144]
abbrev dktX1_loans_0 : List UInt8 := dkwX1_loans_0 ++ dktX1_loans_1
theorem dksX1_loans_0 : cX1_loans.data.toList.drop 0 = dktX1_loans_0 := by decide +kernel
theorem dksX1_loans_1 : cX1_loans.data.toList.drop 24 = dktX1_loans_1 := dk_seg dksX1_loans_0 24 rfl rfl
theorem dX1_loans_0 : decode cX1_loans 0 = .ok (.lconst 0, 1) := dk_9 (dk_at dksX1_loans_0 0 rfl rfl)
theorem dX1_loans_1 : decode cX1_loans 1 = .ok (.lstore_n 1, 1) := dk_64 (dk_at dksX1_loans_0 1 rfl rfl)
theorem dX1_loans_2 : decode cX1_loans 2 = .ok (.iconst 0, 1) := dk_3 (dk_at dksX1_loans_0 2 rfl rfl)
theorem dX1_loans_3 : decode cX1_loans 3 = .ok (.istore_n 3, 1) := dk_62 (dk_at dksX1_loans_0 3 rfl rfl)
theorem dX1_loans_4 : decode cX1_loans 4 = .ok (.iload_n 3, 1) := dk_29 (dk_at dksX1_loans_0 4 rfl rfl)
theorem dX1_loans_5 : decode cX1_loans 5 = .ok (.aload_n 0, 1) := dk_42 (dk_at dksX1_loans_0 5 rfl rfl)
theorem dX1_loans_6 : decode cX1_loans 6 = .ok (.getfield 30, 3) := dk_180 0 30 (dk_at dksX1_loans_0 6 rfl rfl)
theorem dX1_loans_9 : decode cX1_loans 9 = .ok (.invokevirtual 137, 3) := dk_182 0 137 (dk_at dksX1_loans_0 9 rfl rfl)
theorem dX1_loans_12 : decode cX1_loans 12 = .ok (.if_icmp .ge 26, 3) := dk_162 0 26 (dk_at dksX1_loans_0 12 rfl rfl)
theorem dX1_loans_15 : decode cX1_loans 15 = .ok (.lload_n 1, 1) := dk_31 (dk_at dksX1_loans_0 15 rfl rfl)
theorem dX1_loans_16 : decode cX1_loans 16 = .ok (.aload_n 0, 1) := dk_42 (dk_at dksX1_loans_0 16 rfl rfl)
theorem dX1_loans_17 : decode cX1_loans 17 = .ok (.getfield 30, 3) := dk_180 0 30 (dk_at dksX1_loans_0 17 rfl rfl)
theorem dX1_loans_20 : decode cX1_loans 20 = .ok (.iload_n 3, 1) := dk_29 (dk_at dksX1_loans_0 20 rfl rfl)
theorem dX1_loans_21 : decode cX1_loans 21 = .ok (.invokevirtual 144, 3) := dk_182 0 144 (dk_at dksX1_loans_0 21 rfl rfl)
theorem dX1_loans_24 : decode cX1_loans 24 = .ok (.checkcast 148, 3) := dk_192 0 148 (dk_at dksX1_loans_1 0 rfl rfl)
theorem dX1_loans_27 : decode cX1_loans 27 = .ok (.getfield 154, 3) := dk_180 0 154 (dk_at dksX1_loans_1 3 rfl rfl)
theorem dX1_loans_30 : decode cX1_loans 30 = .ok (.ladd, 1) := dk_97 (dk_at dksX1_loans_1 6 rfl rfl)
theorem dX1_loans_31 : decode cX1_loans 31 = .ok (.lstore_n 1, 1) := dk_64 (dk_at dksX1_loans_1 7 rfl rfl)
theorem dX1_loans_32 : decode cX1_loans 32 = .ok (.iinc 3 1, 3) := dk_132 3 1 (dk_at dksX1_loans_1 8 rfl rfl)
theorem dX1_loans_35 : decode cX1_loans 35 = .ok (.goto (-31), 3) := dk_167 255 225 (dk_at dksX1_loans_1 11 rfl rfl)
theorem dX1_loans_38 : decode cX1_loans 38 = .ok (.lload_n 1, 1) := dk_31 (dk_at dksX1_loans_1 14 rfl rfl)
theorem dX1_loans_39 : decode cX1_loans 39 = .ok (.lreturn, 1) := dk_173 (dk_at dksX1_loans_1 15 rfl rfl)
abbrev cX1_runOnce : ByteArray := prog_1_method_75_code
def yX1_runOnce : MethodName := ⟨RX1, "runOnce", "(LLifeoffice$Policy;)J"⟩
def dkwX1_runOnce_9 : List UInt8 := [180, 2, 50, 105, 20, 0, 254, 184, 0, 9, 101, 173]
abbrev dktX1_runOnce_9 : List UInt8 := dkwX1_runOnce_9 ++ []
def dkwX1_runOnce_8 : List UInt8 := [22, 5, 167, 0, 32, 22, 5, 43, 42, 180, 0, 23, 3, 50, 43, 180, 1, 72, 182, 1, 221, 25, 4]
abbrev dktX1_runOnce_8 : List UInt8 := dkwX1_runOnce_8 ++ dktX1_runOnce_9
def dkwX1_runOnce_7 : List UInt8 := [182, 1, 157, 25, 4, 180, 1, 79, 105, 20, 0, 254, 184, 0, 9, 55, 5, 43, 182, 1, 114, 153, 0, 8]
abbrev dktX1_runOnce_7 : List UInt8 := dkwX1_runOnce_7 ++ dktX1_runOnce_8
def dkwX1_runOnce_6 : List UInt8 := [182, 1, 108, 153, 0, 20, 43, 180, 1, 53, 25, 4, 180, 1, 142, 105, 20, 0, 254, 184, 0, 9, 173, 43]
abbrev dktX1_runOnce_6 : List UInt8 := dkwX1_runOnce_6 ++ dktX1_runOnce_7
def dkwX1_runOnce_5 : List UInt8 := [44, 132, 3, 255, 29, 47, 42, 180, 0, 23, 3, 50, 180, 1, 145, 182, 1, 138, 167, 255, 232, 43]
abbrev dktX1_runOnce_5 : List UInt8 := dkwX1_runOnce_5 ++ dktX1_runOnce_6
def dkwX1_runOnce_4 : List UInt8 := [182, 1, 69, 153, 0, 9, 20, 0, 254, 167, 0, 4, 9, 183, 1, 129, 58, 4, 29, 158, 0, 26, 25, 4]
abbrev dktX1_runOnce_4 : List UInt8 := dkwX1_runOnce_4 ++ dktX1_runOnce_5
def dkwX1_runOnce_3 : List UInt8 := [42, 180, 0, 23, 3, 50, 21, 5, 43, 180, 1, 72, 182, 1, 170, 80, 167, 255, 209, 187, 1, 80, 89, 43]
abbrev dktX1_runOnce_3 : List UInt8 := dkwX1_runOnce_3 ++ dktX1_runOnce_4
def dkwX1_runOnce_2 : List UInt8 := [153, 0, 43, 25, 4, 185, 0, 171, 1, 0, 192, 0, 188, 182, 2, 47, 54, 5, 44, 29, 132, 3, 1, 43]
abbrev dktX1_runOnce_2 : List UInt8 := dkwX1_runOnce_2 ++ dktX1_runOnce_3
def dkwX1_runOnce_1 : List UInt8 := [77, 3, 62, 43, 42, 180, 0, 63, 182, 2, 41, 182, 2, 44, 58, 4, 25, 4, 185, 0, 165, 1, 0]
abbrev dktX1_runOnce_1 : List UInt8 := dkwX1_runOnce_1 ++ dktX1_runOnce_2
def dkwX1_runOnce_0 : List UInt8 := [43, 180, 1, 18, 42, 180, 0, 63, 160, 0, 5, 9, 173, 43, 180, 1, 66, 42, 180, 0, 63, 100, 188, 11]
abbrev dktX1_runOnce_0 : List UInt8 := dkwX1_runOnce_0 ++ dktX1_runOnce_1
theorem dksX1_runOnce_0 : cX1_runOnce.data.toList.drop 0 = dktX1_runOnce_0 := by decide +kernel
theorem dksX1_runOnce_1 : cX1_runOnce.data.toList.drop 24 = dktX1_runOnce_1 := dk_seg dksX1_runOnce_0 24 rfl rfl
theorem dksX1_runOnce_2 : cX1_runOnce.data.toList.drop 47 = dktX1_runOnce_2 := dk_seg dksX1_runOnce_1 23 rfl rfl
theorem dksX1_runOnce_3 : cX1_runOnce.data.toList.drop 71 = dktX1_runOnce_3 := dk_seg dksX1_runOnce_2 24 rfl rfl
theorem dksX1_runOnce_4 : cX1_runOnce.data.toList.drop 95 = dktX1_runOnce_4 := dk_seg dksX1_runOnce_3 24 rfl rfl
theorem dksX1_runOnce_5 : cX1_runOnce.data.toList.drop 119 = dktX1_runOnce_5 := dk_seg dksX1_runOnce_4 24 rfl rfl
theorem dksX1_runOnce_6 : cX1_runOnce.data.toList.drop 141 = dktX1_runOnce_6 := dk_seg dksX1_runOnce_5 22 rfl rfl
theorem dksX1_runOnce_7 : cX1_runOnce.data.toList.drop 165 = dktX1_runOnce_7 := dk_seg dksX1_runOnce_6 24 rfl rfl
theorem dksX1_runOnce_8 : cX1_runOnce.data.toList.drop 189 = dktX1_runOnce_8 := dk_seg dksX1_runOnce_7 24 rfl rfl
theorem dksX1_runOnce_9 : cX1_runOnce.data.toList.drop 212 = dktX1_runOnce_9 := dk_seg dksX1_runOnce_8 23 rfl rfl
theorem dX1_runOnce_0 : decode cX1_runOnce 0 = .ok (.aload_n 1, 1) := dk_43 (dk_at dksX1_runOnce_0 0 rfl rfl)
theorem dX1_runOnce_1 : decode cX1_runOnce 1 = .ok (.getfield 274, 3) := dk_180 1 18 (dk_at dksX1_runOnce_0 1 rfl rfl)
theorem dX1_runOnce_4 : decode cX1_runOnce 4 = .ok (.aload_n 0, 1) := dk_42 (dk_at dksX1_runOnce_0 4 rfl rfl)
theorem dX1_runOnce_5 : decode cX1_runOnce 5 = .ok (.getfield 63, 3) := dk_180 0 63 (dk_at dksX1_runOnce_0 5 rfl rfl)
theorem dX1_runOnce_8 : decode cX1_runOnce 8 = .ok (.if_icmp .ne 5, 3) := dk_160 0 5 (dk_at dksX1_runOnce_0 8 rfl rfl)
theorem dX1_runOnce_11 : decode cX1_runOnce 11 = .ok (.lconst 0, 1) := dk_9 (dk_at dksX1_runOnce_0 11 rfl rfl)
theorem dX1_runOnce_12 : decode cX1_runOnce 12 = .ok (.lreturn, 1) := dk_173 (dk_at dksX1_runOnce_0 12 rfl rfl)
theorem dX1_runOnce_13 : decode cX1_runOnce 13 = .ok (.aload_n 1, 1) := dk_43 (dk_at dksX1_runOnce_0 13 rfl rfl)
theorem dX1_runOnce_14 : decode cX1_runOnce 14 = .ok (.getfield 322, 3) := dk_180 1 66 (dk_at dksX1_runOnce_0 14 rfl rfl)
theorem dX1_runOnce_17 : decode cX1_runOnce 17 = .ok (.aload_n 0, 1) := dk_42 (dk_at dksX1_runOnce_0 17 rfl rfl)
theorem dX1_runOnce_18 : decode cX1_runOnce 18 = .ok (.getfield 63, 3) := dk_180 0 63 (dk_at dksX1_runOnce_0 18 rfl rfl)
theorem dX1_runOnce_21 : decode cX1_runOnce 21 = .ok (.isub, 1) := dk_100 (dk_at dksX1_runOnce_0 21 rfl rfl)
theorem dX1_runOnce_22 : decode cX1_runOnce 22 = .ok (.newarray .long, 2) := dk_188_11 (dk_at dksX1_runOnce_0 22 rfl rfl)
theorem dX1_runOnce_24 : decode cX1_runOnce 24 = .ok (.astore_n 2, 1) := dk_77 (dk_at dksX1_runOnce_1 0 rfl rfl)
theorem dX1_runOnce_25 : decode cX1_runOnce 25 = .ok (.iconst 0, 1) := dk_3 (dk_at dksX1_runOnce_1 1 rfl rfl)
theorem dX1_runOnce_26 : decode cX1_runOnce 26 = .ok (.istore_n 3, 1) := dk_62 (dk_at dksX1_runOnce_1 2 rfl rfl)
theorem dX1_runOnce_27 : decode cX1_runOnce 27 = .ok (.aload_n 1, 1) := dk_43 (dk_at dksX1_runOnce_1 3 rfl rfl)
theorem dX1_runOnce_28 : decode cX1_runOnce 28 = .ok (.aload_n 0, 1) := dk_42 (dk_at dksX1_runOnce_1 4 rfl rfl)
theorem dX1_runOnce_29 : decode cX1_runOnce 29 = .ok (.getfield 63, 3) := dk_180 0 63 (dk_at dksX1_runOnce_1 5 rfl rfl)
theorem dX1_runOnce_32 : decode cX1_runOnce 32 = .ok (.invokevirtual 553, 3) := dk_182 2 41 (dk_at dksX1_runOnce_1 8 rfl rfl)
theorem dX1_runOnce_35 : decode cX1_runOnce 35 = .ok (.invokevirtual 556, 3) := dk_182 2 44 (dk_at dksX1_runOnce_1 11 rfl rfl)
theorem dX1_runOnce_38 : decode cX1_runOnce 38 = .ok (.astore 4, 2) := dk_58 4 (dk_at dksX1_runOnce_1 14 rfl rfl)
theorem dX1_runOnce_40 : decode cX1_runOnce 40 = .ok (.aload 4, 2) := dk_25 4 (dk_at dksX1_runOnce_1 16 rfl rfl)
theorem dX1_runOnce_42 : decode cX1_runOnce 42 = .ok (.invokeinterface 165 1, 5) := by decide +kernel
theorem dX1_runOnce_47 : decode cX1_runOnce 47 = .ok (.ifCond .eq 43, 3) := dk_153 0 43 (dk_at dksX1_runOnce_2 0 rfl rfl)
theorem dX1_runOnce_50 : decode cX1_runOnce 50 = .ok (.aload 4, 2) := dk_25 4 (dk_at dksX1_runOnce_2 3 rfl rfl)
theorem dX1_runOnce_52 : decode cX1_runOnce 52 = .ok (.invokeinterface 171 1, 5) := by decide +kernel
theorem dX1_runOnce_57 : decode cX1_runOnce 57 = .ok (.checkcast 188, 3) := dk_192 0 188 (dk_at dksX1_runOnce_2 10 rfl rfl)
theorem dX1_runOnce_60 : decode cX1_runOnce 60 = .ok (.invokevirtual 559, 3) := dk_182 2 47 (dk_at dksX1_runOnce_2 13 rfl rfl)
theorem dX1_runOnce_63 : decode cX1_runOnce 63 = .ok (.istore 5, 2) := dk_54 5 (dk_at dksX1_runOnce_2 16 rfl rfl)
theorem dX1_runOnce_65 : decode cX1_runOnce 65 = .ok (.aload_n 2, 1) := dk_44 (dk_at dksX1_runOnce_2 18 rfl rfl)
theorem dX1_runOnce_66 : decode cX1_runOnce 66 = .ok (.iload_n 3, 1) := dk_29 (dk_at dksX1_runOnce_2 19 rfl rfl)
theorem dX1_runOnce_67 : decode cX1_runOnce 67 = .ok (.iinc 3 1, 3) := dk_132 3 1 (dk_at dksX1_runOnce_2 20 rfl rfl)
theorem dX1_runOnce_70 : decode cX1_runOnce 70 = .ok (.aload_n 1, 1) := dk_43 (dk_at dksX1_runOnce_2 23 rfl rfl)
theorem dX1_runOnce_71 : decode cX1_runOnce 71 = .ok (.aload_n 0, 1) := dk_42 (dk_at dksX1_runOnce_3 0 rfl rfl)
theorem dX1_runOnce_72 : decode cX1_runOnce 72 = .ok (.getfield 23, 3) := dk_180 0 23 (dk_at dksX1_runOnce_3 1 rfl rfl)
theorem dX1_runOnce_75 : decode cX1_runOnce 75 = .ok (.iconst 0, 1) := dk_3 (dk_at dksX1_runOnce_3 4 rfl rfl)
theorem dX1_runOnce_76 : decode cX1_runOnce 76 = .ok (.aaload, 1) := dk_50 (dk_at dksX1_runOnce_3 5 rfl rfl)
theorem dX1_runOnce_77 : decode cX1_runOnce 77 = .ok (.iload 5, 2) := dk_21 5 (dk_at dksX1_runOnce_3 6 rfl rfl)
theorem dX1_runOnce_79 : decode cX1_runOnce 79 = .ok (.aload_n 1, 1) := dk_43 (dk_at dksX1_runOnce_3 8 rfl rfl)
theorem dX1_runOnce_80 : decode cX1_runOnce 80 = .ok (.getfield 328, 3) := dk_180 1 72 (dk_at dksX1_runOnce_3 9 rfl rfl)
theorem dX1_runOnce_83 : decode cX1_runOnce 83 = .ok (.invokevirtual 426, 3) := dk_182 1 170 (dk_at dksX1_runOnce_3 12 rfl rfl)
theorem dX1_runOnce_86 : decode cX1_runOnce 86 = .ok (.lastore, 1) := dk_80 (dk_at dksX1_runOnce_3 15 rfl rfl)
theorem dX1_runOnce_87 : decode cX1_runOnce 87 = .ok (.goto (-47), 3) := dk_167 255 209 (dk_at dksX1_runOnce_3 16 rfl rfl)
theorem dX1_runOnce_90 : decode cX1_runOnce 90 = .ok (.new 336, 3) := dk_187 1 80 (dk_at dksX1_runOnce_3 19 rfl rfl)
theorem dX1_runOnce_93 : decode cX1_runOnce 93 = .ok (.dup, 1) := dk_89 (dk_at dksX1_runOnce_3 22 rfl rfl)
theorem dX1_runOnce_94 : decode cX1_runOnce 94 = .ok (.aload_n 1, 1) := dk_43 (dk_at dksX1_runOnce_3 23 rfl rfl)
theorem dX1_runOnce_95 : decode cX1_runOnce 95 = .ok (.invokevirtual 325, 3) := dk_182 1 69 (dk_at dksX1_runOnce_4 0 rfl rfl)
theorem dX1_runOnce_98 : decode cX1_runOnce 98 = .ok (.ifCond .eq 9, 3) := dk_153 0 9 (dk_at dksX1_runOnce_4 3 rfl rfl)
theorem dX1_runOnce_101 : decode cX1_runOnce 101 = .ok (.ldc2_w 254, 3) := dk_20 0 254 (dk_at dksX1_runOnce_4 6 rfl rfl)
theorem dX1_runOnce_104 : decode cX1_runOnce 104 = .ok (.goto 4, 3) := dk_167 0 4 (dk_at dksX1_runOnce_4 9 rfl rfl)
theorem dX1_runOnce_107 : decode cX1_runOnce 107 = .ok (.lconst 0, 1) := dk_9 (dk_at dksX1_runOnce_4 12 rfl rfl)
theorem dX1_runOnce_108 : decode cX1_runOnce 108 = .ok (.invokespecial 385, 3) := dk_183 1 129 (dk_at dksX1_runOnce_4 13 rfl rfl)
theorem dX1_runOnce_111 : decode cX1_runOnce 111 = .ok (.astore 4, 2) := dk_58 4 (dk_at dksX1_runOnce_4 16 rfl rfl)
theorem dX1_runOnce_113 : decode cX1_runOnce 113 = .ok (.iload_n 3, 1) := dk_29 (dk_at dksX1_runOnce_4 18 rfl rfl)
theorem dX1_runOnce_114 : decode cX1_runOnce 114 = .ok (.ifCond .le 26, 3) := dk_158 0 26 (dk_at dksX1_runOnce_4 19 rfl rfl)
theorem dX1_runOnce_117 : decode cX1_runOnce 117 = .ok (.aload 4, 2) := dk_25 4 (dk_at dksX1_runOnce_4 22 rfl rfl)
theorem dX1_runOnce_119 : decode cX1_runOnce 119 = .ok (.aload_n 2, 1) := dk_44 (dk_at dksX1_runOnce_5 0 rfl rfl)
theorem dX1_runOnce_120 : decode cX1_runOnce 120 = .ok (.iinc 3 (-1), 3) := dk_132 3 255 (dk_at dksX1_runOnce_5 1 rfl rfl)
theorem dX1_runOnce_123 : decode cX1_runOnce 123 = .ok (.iload_n 3, 1) := dk_29 (dk_at dksX1_runOnce_5 4 rfl rfl)
theorem dX1_runOnce_124 : decode cX1_runOnce 124 = .ok (.laload, 1) := dk_47 (dk_at dksX1_runOnce_5 5 rfl rfl)
theorem dX1_runOnce_125 : decode cX1_runOnce 125 = .ok (.aload_n 0, 1) := dk_42 (dk_at dksX1_runOnce_5 6 rfl rfl)
theorem dX1_runOnce_126 : decode cX1_runOnce 126 = .ok (.getfield 23, 3) := dk_180 0 23 (dk_at dksX1_runOnce_5 7 rfl rfl)
theorem dX1_runOnce_129 : decode cX1_runOnce 129 = .ok (.iconst 0, 1) := dk_3 (dk_at dksX1_runOnce_5 10 rfl rfl)
theorem dX1_runOnce_130 : decode cX1_runOnce 130 = .ok (.aaload, 1) := dk_50 (dk_at dksX1_runOnce_5 11 rfl rfl)
theorem dX1_runOnce_131 : decode cX1_runOnce 131 = .ok (.getfield 401, 3) := dk_180 1 145 (dk_at dksX1_runOnce_5 12 rfl rfl)
theorem dX1_runOnce_134 : decode cX1_runOnce 134 = .ok (.invokevirtual 394, 3) := dk_182 1 138 (dk_at dksX1_runOnce_5 15 rfl rfl)
theorem dX1_runOnce_137 : decode cX1_runOnce 137 = .ok (.goto (-24), 3) := dk_167 255 232 (dk_at dksX1_runOnce_5 18 rfl rfl)
theorem dX1_runOnce_140 : decode cX1_runOnce 140 = .ok (.aload_n 1, 1) := dk_43 (dk_at dksX1_runOnce_5 21 rfl rfl)
theorem dX1_runOnce_141 : decode cX1_runOnce 141 = .ok (.invokevirtual 364, 3) := dk_182 1 108 (dk_at dksX1_runOnce_6 0 rfl rfl)
theorem dX1_runOnce_144 : decode cX1_runOnce 144 = .ok (.ifCond .eq 20, 3) := dk_153 0 20 (dk_at dksX1_runOnce_6 3 rfl rfl)
theorem dX1_runOnce_147 : decode cX1_runOnce 147 = .ok (.aload_n 1, 1) := dk_43 (dk_at dksX1_runOnce_6 6 rfl rfl)
theorem dX1_runOnce_148 : decode cX1_runOnce 148 = .ok (.getfield 309, 3) := dk_180 1 53 (dk_at dksX1_runOnce_6 7 rfl rfl)
theorem dX1_runOnce_151 : decode cX1_runOnce 151 = .ok (.aload 4, 2) := dk_25 4 (dk_at dksX1_runOnce_6 10 rfl rfl)
theorem dX1_runOnce_153 : decode cX1_runOnce 153 = .ok (.getfield 398, 3) := dk_180 1 142 (dk_at dksX1_runOnce_6 12 rfl rfl)
theorem dX1_runOnce_156 : decode cX1_runOnce 156 = .ok (.lmul, 1) := dk_105 (dk_at dksX1_runOnce_6 15 rfl rfl)
theorem dX1_runOnce_157 : decode cX1_runOnce 157 = .ok (.ldc2_w 254, 3) := dk_20 0 254 (dk_at dksX1_runOnce_6 16 rfl rfl)
theorem dX1_runOnce_160 : decode cX1_runOnce 160 = .ok (.invokestatic 9, 3) := dk_184 0 9 (dk_at dksX1_runOnce_6 19 rfl rfl)
theorem dX1_runOnce_163 : decode cX1_runOnce 163 = .ok (.lreturn, 1) := dk_173 (dk_at dksX1_runOnce_6 22 rfl rfl)
theorem dX1_runOnce_164 : decode cX1_runOnce 164 = .ok (.aload_n 1, 1) := dk_43 (dk_at dksX1_runOnce_6 23 rfl rfl)
theorem dX1_runOnce_165 : decode cX1_runOnce 165 = .ok (.invokevirtual 413, 3) := dk_182 1 157 (dk_at dksX1_runOnce_7 0 rfl rfl)
theorem dX1_runOnce_168 : decode cX1_runOnce 168 = .ok (.aload 4, 2) := dk_25 4 (dk_at dksX1_runOnce_7 3 rfl rfl)
theorem dX1_runOnce_170 : decode cX1_runOnce 170 = .ok (.getfield 335, 3) := dk_180 1 79 (dk_at dksX1_runOnce_7 5 rfl rfl)
theorem dX1_runOnce_173 : decode cX1_runOnce 173 = .ok (.lmul, 1) := dk_105 (dk_at dksX1_runOnce_7 8 rfl rfl)
theorem dX1_runOnce_174 : decode cX1_runOnce 174 = .ok (.ldc2_w 254, 3) := dk_20 0 254 (dk_at dksX1_runOnce_7 9 rfl rfl)
theorem dX1_runOnce_177 : decode cX1_runOnce 177 = .ok (.invokestatic 9, 3) := dk_184 0 9 (dk_at dksX1_runOnce_7 12 rfl rfl)
theorem dX1_runOnce_180 : decode cX1_runOnce 180 = .ok (.lstore 5, 2) := dk_55 5 (dk_at dksX1_runOnce_7 15 rfl rfl)
theorem dX1_runOnce_182 : decode cX1_runOnce 182 = .ok (.aload_n 1, 1) := dk_43 (dk_at dksX1_runOnce_7 17 rfl rfl)
theorem dX1_runOnce_183 : decode cX1_runOnce 183 = .ok (.invokevirtual 370, 3) := dk_182 1 114 (dk_at dksX1_runOnce_7 18 rfl rfl)
theorem dX1_runOnce_186 : decode cX1_runOnce 186 = .ok (.ifCond .eq 8, 3) := dk_153 0 8 (dk_at dksX1_runOnce_7 21 rfl rfl)
theorem dX1_runOnce_189 : decode cX1_runOnce 189 = .ok (.lload 5, 2) := dk_22 5 (dk_at dksX1_runOnce_8 0 rfl rfl)
theorem dX1_runOnce_191 : decode cX1_runOnce 191 = .ok (.goto 32, 3) := dk_167 0 32 (dk_at dksX1_runOnce_8 2 rfl rfl)
theorem dX1_runOnce_194 : decode cX1_runOnce 194 = .ok (.lload 5, 2) := dk_22 5 (dk_at dksX1_runOnce_8 5 rfl rfl)
theorem dX1_runOnce_196 : decode cX1_runOnce 196 = .ok (.aload_n 1, 1) := dk_43 (dk_at dksX1_runOnce_8 7 rfl rfl)
theorem dX1_runOnce_197 : decode cX1_runOnce 197 = .ok (.aload_n 0, 1) := dk_42 (dk_at dksX1_runOnce_8 8 rfl rfl)
theorem dX1_runOnce_198 : decode cX1_runOnce 198 = .ok (.getfield 23, 3) := dk_180 0 23 (dk_at dksX1_runOnce_8 9 rfl rfl)
theorem dX1_runOnce_201 : decode cX1_runOnce 201 = .ok (.iconst 0, 1) := dk_3 (dk_at dksX1_runOnce_8 12 rfl rfl)
theorem dX1_runOnce_202 : decode cX1_runOnce 202 = .ok (.aaload, 1) := dk_50 (dk_at dksX1_runOnce_8 13 rfl rfl)
theorem dX1_runOnce_203 : decode cX1_runOnce 203 = .ok (.aload_n 1, 1) := dk_43 (dk_at dksX1_runOnce_8 14 rfl rfl)
theorem dX1_runOnce_204 : decode cX1_runOnce 204 = .ok (.getfield 328, 3) := dk_180 1 72 (dk_at dksX1_runOnce_8 15 rfl rfl)
theorem dX1_runOnce_207 : decode cX1_runOnce 207 = .ok (.invokevirtual 477, 3) := dk_182 1 221 (dk_at dksX1_runOnce_8 18 rfl rfl)
theorem dX1_runOnce_210 : decode cX1_runOnce 210 = .ok (.aload 4, 2) := dk_25 4 (dk_at dksX1_runOnce_8 21 rfl rfl)
theorem dX1_runOnce_212 : decode cX1_runOnce 212 = .ok (.getfield 562, 3) := dk_180 2 50 (dk_at dksX1_runOnce_9 0 rfl rfl)
theorem dX1_runOnce_215 : decode cX1_runOnce 215 = .ok (.lmul, 1) := dk_105 (dk_at dksX1_runOnce_9 3 rfl rfl)
theorem dX1_runOnce_216 : decode cX1_runOnce 216 = .ok (.ldc2_w 254, 3) := dk_20 0 254 (dk_at dksX1_runOnce_9 4 rfl rfl)
theorem dX1_runOnce_219 : decode cX1_runOnce 219 = .ok (.invokestatic 9, 3) := dk_184 0 9 (dk_at dksX1_runOnce_9 7 rfl rfl)
theorem dX1_runOnce_222 : decode cX1_runOnce 222 = .ok (.lsub, 1) := dk_101 (dk_at dksX1_runOnce_9 10 rfl rfl)
theorem dX1_runOnce_223 : decode cX1_runOnce 223 = .ok (.lreturn, 1) := dk_173 (dk_at dksX1_runOnce_9 11 rfl rfl)
abbrev cX1_cover : ByteArray := prog_1_method_77_code
def yX1_cover : MethodName := ⟨RX1, "cover", "()D"⟩
def dkwX1_cover_1 : List UInt8 := [182, 0, 180, 138, 31, 138, 111, 175]
abbrev dktX1_cover_1 : List UInt8 := dkwX1_cover_1 ++ []
def dkwX1_cover_0 : List UInt8 := [42, 42, 180, 0, 23, 3, 50, 182, 0, 183, 64, 31, 9, 148, 154, 0, 7, 14, 167, 0, 11, 42]
abbrev dktX1_cover_0 : List UInt8 := dkwX1_cover_0 ++ dktX1_cover_1
theorem dksX1_cover_0 : cX1_cover.data.toList.drop 0 = dktX1_cover_0 := by decide +kernel
theorem dksX1_cover_1 : cX1_cover.data.toList.drop 22 = dktX1_cover_1 := dk_seg dksX1_cover_0 22 rfl rfl
theorem dX1_cover_0 : decode cX1_cover 0 = .ok (.aload_n 0, 1) := dk_42 (dk_at dksX1_cover_0 0 rfl rfl)
theorem dX1_cover_1 : decode cX1_cover 1 = .ok (.aload_n 0, 1) := dk_42 (dk_at dksX1_cover_0 1 rfl rfl)
theorem dX1_cover_2 : decode cX1_cover 2 = .ok (.getfield 23, 3) := dk_180 0 23 (dk_at dksX1_cover_0 2 rfl rfl)
theorem dX1_cover_5 : decode cX1_cover 5 = .ok (.iconst 0, 1) := dk_3 (dk_at dksX1_cover_0 5 rfl rfl)
theorem dX1_cover_6 : decode cX1_cover 6 = .ok (.aaload, 1) := dk_50 (dk_at dksX1_cover_0 6 rfl rfl)
theorem dX1_cover_7 : decode cX1_cover 7 = .ok (.invokevirtual 183, 3) := dk_182 0 183 (dk_at dksX1_cover_0 7 rfl rfl)
theorem dX1_cover_10 : decode cX1_cover 10 = .ok (.lstore_n 1, 1) := dk_64 (dk_at dksX1_cover_0 10 rfl rfl)
theorem dX1_cover_11 : decode cX1_cover 11 = .ok (.lload_n 1, 1) := dk_31 (dk_at dksX1_cover_0 11 rfl rfl)
theorem dX1_cover_12 : decode cX1_cover 12 = .ok (.lconst 0, 1) := dk_9 (dk_at dksX1_cover_0 12 rfl rfl)
theorem dX1_cover_13 : decode cX1_cover 13 = .ok (.lcmp, 1) := dk_148 (dk_at dksX1_cover_0 13 rfl rfl)
theorem dX1_cover_14 : decode cX1_cover 14 = .ok (.ifCond .ne 7, 3) := dk_154 0 7 (dk_at dksX1_cover_0 14 rfl rfl)
theorem dX1_cover_17 : decode cX1_cover 17 = .ok (.dconst 0, 1) := dk_14 (dk_at dksX1_cover_0 17 rfl rfl)
theorem dX1_cover_18 : decode cX1_cover 18 = .ok (.goto 11, 3) := dk_167 0 11 (dk_at dksX1_cover_0 18 rfl rfl)
theorem dX1_cover_21 : decode cX1_cover 21 = .ok (.aload_n 0, 1) := dk_42 (dk_at dksX1_cover_0 21 rfl rfl)
theorem dX1_cover_22 : decode cX1_cover 22 = .ok (.invokevirtual 180, 3) := dk_182 0 180 (dk_at dksX1_cover_1 0 rfl rfl)
theorem dX1_cover_25 : decode cX1_cover 25 = .ok (.l2d, 1) := dk_138 (dk_at dksX1_cover_1 3 rfl rfl)
theorem dX1_cover_26 : decode cX1_cover 26 = .ok (.lload_n 1, 1) := dk_31 (dk_at dksX1_cover_1 4 rfl rfl)
theorem dX1_cover_27 : decode cX1_cover 27 = .ok (.l2d, 1) := dk_138 (dk_at dksX1_cover_1 5 rfl rfl)
theorem dX1_cover_28 : decode cX1_cover 28 = .ok (.ddiv, 1) := dk_111 (dk_at dksX1_cover_1 6 rfl rfl)
theorem dX1_cover_29 : decode cX1_cover 29 = .ok (.dreturn, 1) := dk_175 (dk_at dksX1_cover_1 7 rfl rfl)
abbrev cX1_meanAge : ByteArray := prog_1_method_78_code
def yX1_meanAge : MethodName := ⟨RX1, "meanAge", "()F"⟩
def dkwX1_meanAge_3 : List UInt8 := [154, 0, 7, 11, 167, 0, 8, 27, 134, 28, 134, 110, 174]
abbrev dktX1_meanAge_3 : List UInt8 := dkwX1_meanAge_3 ++ []
def dkwX1_meanAge_2 : List UInt8 := [180, 1, 131, 42, 180, 0, 63, 182, 2, 55, 96, 60, 132, 2, 1, 132, 3, 1, 167, 255, 200, 28]
abbrev dktX1_meanAge_2 : List UInt8 := dkwX1_meanAge_2 ++ dktX1_meanAge_3
def dkwX1_meanAge_1 : List UInt8 := [182, 0, 144, 192, 0, 148, 58, 4, 25, 4, 182, 1, 154, 154, 0, 6, 167, 0, 21, 27, 25, 4]
abbrev dktX1_meanAge_1 : List UInt8 := dkwX1_meanAge_1 ++ dktX1_meanAge_2
def dkwX1_meanAge_0 : List UInt8 := [3, 60, 3, 61, 3, 62, 29, 42, 180, 0, 30, 182, 0, 137, 162, 0, 51, 42, 180, 0, 30, 29]
abbrev dktX1_meanAge_0 : List UInt8 := dkwX1_meanAge_0 ++ dktX1_meanAge_1
theorem dksX1_meanAge_0 : cX1_meanAge.data.toList.drop 0 = dktX1_meanAge_0 := by decide +kernel
theorem dksX1_meanAge_1 : cX1_meanAge.data.toList.drop 22 = dktX1_meanAge_1 := dk_seg dksX1_meanAge_0 22 rfl rfl
theorem dksX1_meanAge_2 : cX1_meanAge.data.toList.drop 44 = dktX1_meanAge_2 := dk_seg dksX1_meanAge_1 22 rfl rfl
theorem dksX1_meanAge_3 : cX1_meanAge.data.toList.drop 66 = dktX1_meanAge_3 := dk_seg dksX1_meanAge_2 22 rfl rfl
theorem dX1_meanAge_0 : decode cX1_meanAge 0 = .ok (.iconst 0, 1) := dk_3 (dk_at dksX1_meanAge_0 0 rfl rfl)
theorem dX1_meanAge_1 : decode cX1_meanAge 1 = .ok (.istore_n 1, 1) := dk_60 (dk_at dksX1_meanAge_0 1 rfl rfl)
theorem dX1_meanAge_2 : decode cX1_meanAge 2 = .ok (.iconst 0, 1) := dk_3 (dk_at dksX1_meanAge_0 2 rfl rfl)
theorem dX1_meanAge_3 : decode cX1_meanAge 3 = .ok (.istore_n 2, 1) := dk_61 (dk_at dksX1_meanAge_0 3 rfl rfl)
theorem dX1_meanAge_4 : decode cX1_meanAge 4 = .ok (.iconst 0, 1) := dk_3 (dk_at dksX1_meanAge_0 4 rfl rfl)
theorem dX1_meanAge_5 : decode cX1_meanAge 5 = .ok (.istore_n 3, 1) := dk_62 (dk_at dksX1_meanAge_0 5 rfl rfl)
theorem dX1_meanAge_6 : decode cX1_meanAge 6 = .ok (.iload_n 3, 1) := dk_29 (dk_at dksX1_meanAge_0 6 rfl rfl)
theorem dX1_meanAge_7 : decode cX1_meanAge 7 = .ok (.aload_n 0, 1) := dk_42 (dk_at dksX1_meanAge_0 7 rfl rfl)
theorem dX1_meanAge_8 : decode cX1_meanAge 8 = .ok (.getfield 30, 3) := dk_180 0 30 (dk_at dksX1_meanAge_0 8 rfl rfl)
theorem dX1_meanAge_11 : decode cX1_meanAge 11 = .ok (.invokevirtual 137, 3) := dk_182 0 137 (dk_at dksX1_meanAge_0 11 rfl rfl)
theorem dX1_meanAge_14 : decode cX1_meanAge 14 = .ok (.if_icmp .ge 51, 3) := dk_162 0 51 (dk_at dksX1_meanAge_0 14 rfl rfl)
theorem dX1_meanAge_17 : decode cX1_meanAge 17 = .ok (.aload_n 0, 1) := dk_42 (dk_at dksX1_meanAge_0 17 rfl rfl)
theorem dX1_meanAge_18 : decode cX1_meanAge 18 = .ok (.getfield 30, 3) := dk_180 0 30 (dk_at dksX1_meanAge_0 18 rfl rfl)
theorem dX1_meanAge_21 : decode cX1_meanAge 21 = .ok (.iload_n 3, 1) := dk_29 (dk_at dksX1_meanAge_0 21 rfl rfl)
theorem dX1_meanAge_22 : decode cX1_meanAge 22 = .ok (.invokevirtual 144, 3) := dk_182 0 144 (dk_at dksX1_meanAge_1 0 rfl rfl)
theorem dX1_meanAge_25 : decode cX1_meanAge 25 = .ok (.checkcast 148, 3) := dk_192 0 148 (dk_at dksX1_meanAge_1 3 rfl rfl)
theorem dX1_meanAge_28 : decode cX1_meanAge 28 = .ok (.astore 4, 2) := dk_58 4 (dk_at dksX1_meanAge_1 6 rfl rfl)
theorem dX1_meanAge_30 : decode cX1_meanAge 30 = .ok (.aload 4, 2) := dk_25 4 (dk_at dksX1_meanAge_1 8 rfl rfl)
theorem dX1_meanAge_32 : decode cX1_meanAge 32 = .ok (.invokevirtual 410, 3) := dk_182 1 154 (dk_at dksX1_meanAge_1 10 rfl rfl)
theorem dX1_meanAge_35 : decode cX1_meanAge 35 = .ok (.ifCond .ne 6, 3) := dk_154 0 6 (dk_at dksX1_meanAge_1 13 rfl rfl)
theorem dX1_meanAge_38 : decode cX1_meanAge 38 = .ok (.goto 21, 3) := dk_167 0 21 (dk_at dksX1_meanAge_1 16 rfl rfl)
theorem dX1_meanAge_41 : decode cX1_meanAge 41 = .ok (.iload_n 1, 1) := dk_27 (dk_at dksX1_meanAge_1 19 rfl rfl)
theorem dX1_meanAge_42 : decode cX1_meanAge 42 = .ok (.aload 4, 2) := dk_25 4 (dk_at dksX1_meanAge_1 20 rfl rfl)
theorem dX1_meanAge_44 : decode cX1_meanAge 44 = .ok (.getfield 387, 3) := dk_180 1 131 (dk_at dksX1_meanAge_2 0 rfl rfl)
theorem dX1_meanAge_47 : decode cX1_meanAge 47 = .ok (.aload_n 0, 1) := dk_42 (dk_at dksX1_meanAge_2 3 rfl rfl)
theorem dX1_meanAge_48 : decode cX1_meanAge 48 = .ok (.getfield 63, 3) := dk_180 0 63 (dk_at dksX1_meanAge_2 4 rfl rfl)
theorem dX1_meanAge_51 : decode cX1_meanAge 51 = .ok (.invokevirtual 567, 3) := dk_182 2 55 (dk_at dksX1_meanAge_2 7 rfl rfl)
theorem dX1_meanAge_54 : decode cX1_meanAge 54 = .ok (.iadd, 1) := dk_96 (dk_at dksX1_meanAge_2 10 rfl rfl)
theorem dX1_meanAge_55 : decode cX1_meanAge 55 = .ok (.istore_n 1, 1) := dk_60 (dk_at dksX1_meanAge_2 11 rfl rfl)
theorem dX1_meanAge_56 : decode cX1_meanAge 56 = .ok (.iinc 2 1, 3) := dk_132 2 1 (dk_at dksX1_meanAge_2 12 rfl rfl)
theorem dX1_meanAge_59 : decode cX1_meanAge 59 = .ok (.iinc 3 1, 3) := dk_132 3 1 (dk_at dksX1_meanAge_2 15 rfl rfl)
theorem dX1_meanAge_62 : decode cX1_meanAge 62 = .ok (.goto (-56), 3) := dk_167 255 200 (dk_at dksX1_meanAge_2 18 rfl rfl)
theorem dX1_meanAge_65 : decode cX1_meanAge 65 = .ok (.iload_n 2, 1) := dk_28 (dk_at dksX1_meanAge_2 21 rfl rfl)
theorem dX1_meanAge_66 : decode cX1_meanAge 66 = .ok (.ifCond .ne 7, 3) := dk_154 0 7 (dk_at dksX1_meanAge_3 0 rfl rfl)
theorem dX1_meanAge_69 : decode cX1_meanAge 69 = .ok (.fconst 0, 1) := dk_11 (dk_at dksX1_meanAge_3 3 rfl rfl)
theorem dX1_meanAge_70 : decode cX1_meanAge 70 = .ok (.goto 8, 3) := dk_167 0 8 (dk_at dksX1_meanAge_3 4 rfl rfl)
theorem dX1_meanAge_73 : decode cX1_meanAge 73 = .ok (.iload_n 1, 1) := dk_27 (dk_at dksX1_meanAge_3 7 rfl rfl)
theorem dX1_meanAge_74 : decode cX1_meanAge 74 = .ok (.i2f, 1) := dk_134 (dk_at dksX1_meanAge_3 8 rfl rfl)
theorem dX1_meanAge_75 : decode cX1_meanAge 75 = .ok (.iload_n 2, 1) := dk_28 (dk_at dksX1_meanAge_3 9 rfl rfl)
theorem dX1_meanAge_76 : decode cX1_meanAge 76 = .ok (.i2f, 1) := dk_134 (dk_at dksX1_meanAge_3 10 rfl rfl)
theorem dX1_meanAge_77 : decode cX1_meanAge 77 = .ok (.fdiv, 1) := dk_110 (dk_at dksX1_meanAge_3 11 rfl rfl)
theorem dX1_meanAge_78 : decode cX1_meanAge 78 = .ok (.freturn, 1) := dk_174 (dk_at dksX1_meanAge_3 12 rfl rfl)
abbrev cX1_found : ByteArray := prog_1_method_15_code
def yX1_found : MethodName := ⟨RX1, "found", "(II)I"⟩
def dkwX1_found_1 : List UInt8 := [182, 0, 137, 62, 42, 27, 28, 182, 0, 59, 29, 172]
abbrev dktX1_found_1 : List UInt8 := dkwX1_found_1 ++ []
def dkwX1_found_0 : List UInt8 := [27, 133, 20, 0, 197, 20, 0, 199, 184, 0, 201, 28, 133, 9, 20, 0, 205, 184, 0, 201, 42, 180, 0, 30]
abbrev dktX1_found_0 : List UInt8 := dkwX1_found_0 ++ dktX1_found_1
theorem dksX1_found_0 : cX1_found.data.toList.drop 0 = dktX1_found_0 := by decide +kernel
theorem dksX1_found_1 : cX1_found.data.toList.drop 24 = dktX1_found_1 := dk_seg dksX1_found_0 24 rfl rfl
theorem dX1_found_0 : decode cX1_found 0 = .ok (.iload_n 1, 1) := dk_27 (dk_at dksX1_found_0 0 rfl rfl)
theorem dX1_found_1 : decode cX1_found 1 = .ok (.i2l, 1) := dk_133 (dk_at dksX1_found_0 1 rfl rfl)
theorem dX1_found_2 : decode cX1_found 2 = .ok (.ldc2_w 197, 3) := dk_20 0 197 (dk_at dksX1_found_0 2 rfl rfl)
theorem dX1_found_5 : decode cX1_found 5 = .ok (.ldc2_w 199, 3) := dk_20 0 199 (dk_at dksX1_found_0 5 rfl rfl)
theorem dX1_found_8 : decode cX1_found 8 = .ok (.invokestatic 201, 3) := dk_184 0 201 (dk_at dksX1_found_0 8 rfl rfl)
theorem dX1_found_11 : decode cX1_found 11 = .ok (.iload_n 2, 1) := dk_28 (dk_at dksX1_found_0 11 rfl rfl)
theorem dX1_found_12 : decode cX1_found 12 = .ok (.i2l, 1) := dk_133 (dk_at dksX1_found_0 12 rfl rfl)
theorem dX1_found_13 : decode cX1_found 13 = .ok (.lconst 0, 1) := dk_9 (dk_at dksX1_found_0 13 rfl rfl)
theorem dX1_found_14 : decode cX1_found 14 = .ok (.ldc2_w 205, 3) := dk_20 0 205 (dk_at dksX1_found_0 14 rfl rfl)
theorem dX1_found_17 : decode cX1_found 17 = .ok (.invokestatic 201, 3) := dk_184 0 201 (dk_at dksX1_found_0 17 rfl rfl)
theorem dX1_found_20 : decode cX1_found 20 = .ok (.aload_n 0, 1) := dk_42 (dk_at dksX1_found_0 20 rfl rfl)
theorem dX1_found_21 : decode cX1_found 21 = .ok (.getfield 30, 3) := dk_180 0 30 (dk_at dksX1_found_0 21 rfl rfl)
theorem dX1_found_24 : decode cX1_found 24 = .ok (.invokevirtual 137, 3) := dk_182 0 137 (dk_at dksX1_found_1 0 rfl rfl)
theorem dX1_found_27 : decode cX1_found 27 = .ok (.istore_n 3, 1) := dk_62 (dk_at dksX1_found_1 3 rfl rfl)
theorem dX1_found_28 : decode cX1_found 28 = .ok (.aload_n 0, 1) := dk_42 (dk_at dksX1_found_1 4 rfl rfl)
theorem dX1_found_29 : decode cX1_found 29 = .ok (.iload_n 1, 1) := dk_27 (dk_at dksX1_found_1 5 rfl rfl)
theorem dX1_found_30 : decode cX1_found 30 = .ok (.iload_n 2, 1) := dk_28 (dk_at dksX1_found_1 6 rfl rfl)
theorem dX1_found_31 : decode cX1_found 31 = .ok (.invokevirtual 59, 3) := dk_182 0 59 (dk_at dksX1_found_1 7 rfl rfl)
theorem dX1_found_34 : decode cX1_found 34 = .ok (.iload_n 3, 1) := dk_29 (dk_at dksX1_found_1 10 rfl rfl)
theorem dX1_found_35 : decode cX1_found 35 = .ok (.ireturn, 1) := dk_172 (dk_at dksX1_found_1 11 rfl rfl)
abbrev cX1_checkRange : ByteArray := prog_1_method_6_code
def yX1_checkRange : MethodName := ⟨RX1, "checkRange", "(JJJ)V"⟩
def dkwX1_checkRange_0 : List UInt8 := [30, 32, 148, 155, 0, 10, 30, 22, 4, 148, 158, 0, 11, 187, 0, 131, 89, 183, 0, 133, 191, 177]
abbrev dktX1_checkRange_0 : List UInt8 := dkwX1_checkRange_0 ++ []
theorem dksX1_checkRange_0 : cX1_checkRange.data.toList.drop 0 = dktX1_checkRange_0 := by decide +kernel
theorem dX1_checkRange_0 : decode cX1_checkRange 0 = .ok (.lload_n 0, 1) := dk_30 (dk_at dksX1_checkRange_0 0 rfl rfl)
theorem dX1_checkRange_1 : decode cX1_checkRange 1 = .ok (.lload_n 2, 1) := dk_32 (dk_at dksX1_checkRange_0 1 rfl rfl)
theorem dX1_checkRange_2 : decode cX1_checkRange 2 = .ok (.lcmp, 1) := dk_148 (dk_at dksX1_checkRange_0 2 rfl rfl)
theorem dX1_checkRange_3 : decode cX1_checkRange 3 = .ok (.ifCond .lt 10, 3) := dk_155 0 10 (dk_at dksX1_checkRange_0 3 rfl rfl)
theorem dX1_checkRange_6 : decode cX1_checkRange 6 = .ok (.lload_n 0, 1) := dk_30 (dk_at dksX1_checkRange_0 6 rfl rfl)
theorem dX1_checkRange_7 : decode cX1_checkRange 7 = .ok (.lload 4, 2) := dk_22 4 (dk_at dksX1_checkRange_0 7 rfl rfl)
theorem dX1_checkRange_9 : decode cX1_checkRange 9 = .ok (.lcmp, 1) := dk_148 (dk_at dksX1_checkRange_0 9 rfl rfl)
theorem dX1_checkRange_10 : decode cX1_checkRange 10 = .ok (.ifCond .le 11, 3) := dk_158 0 11 (dk_at dksX1_checkRange_0 10 rfl rfl)
theorem dX1_checkRange_13 : decode cX1_checkRange 13 = .ok (.new 131, 3) := dk_187 0 131 (dk_at dksX1_checkRange_0 13 rfl rfl)
theorem dX1_checkRange_16 : decode cX1_checkRange 16 = .ok (.dup, 1) := dk_89 (dk_at dksX1_checkRange_0 16 rfl rfl)
theorem dX1_checkRange_17 : decode cX1_checkRange 17 = .ok (.invokespecial 133, 3) := dk_183 0 133 (dk_at dksX1_checkRange_0 17 rfl rfl)
theorem dX1_checkRange_20 : decode cX1_checkRange 20 = .ok (.athrow, 1) := dk_191 (dk_at dksX1_checkRange_0 20 rfl rfl)
theorem dX1_checkRange_21 : decode cX1_checkRange 21 = .ok (.return_, 1) := dk_177 (dk_at dksX1_checkRange_0 21 rfl rfl)
abbrev cX1_setLaw : ByteArray := prog_1_method_17_code
def yX1_setLaw : MethodName := ⟨RX1, "setLaw", "(IIIZ)J"⟩
def dkwX1_setLaw_3 : List UInt8 := [22, 6, 182, 0, 217, 42, 25, 5, 182, 0, 183, 173]
abbrev dktX1_setLaw_3 : List UInt8 := dkwX1_setLaw_3 ++ []
def dkwX1_setLaw_2 : List UInt8 := [180, 0, 23, 3, 50, 182, 0, 183, 55, 6, 25, 5, 28, 29, 21, 4, 182, 0, 74, 27, 154, 0, 9, 42]
abbrev dktX1_setLaw_2 : List UInt8 := dkwX1_setLaw_2 ++ dktX1_setLaw_3
def dkwX1_setLaw_1 : List UInt8 := [184, 0, 201, 27, 154, 0, 16, 21, 4, 153, 0, 11, 187, 0, 131, 89, 183, 0, 133, 191, 42, 42]
abbrev dktX1_setLaw_1 : List UInt8 := dkwX1_setLaw_1 ++ dktX1_setLaw_2
def dkwX1_setLaw_0 : List UInt8 := [42, 27, 182, 0, 207, 58, 5, 28, 133, 9, 20, 0, 211, 184, 0, 201, 29, 133, 20, 0, 213, 20, 0, 215]
abbrev dktX1_setLaw_0 : List UInt8 := dkwX1_setLaw_0 ++ dktX1_setLaw_1
theorem dksX1_setLaw_0 : cX1_setLaw.data.toList.drop 0 = dktX1_setLaw_0 := by decide +kernel
theorem dksX1_setLaw_1 : cX1_setLaw.data.toList.drop 24 = dktX1_setLaw_1 := dk_seg dksX1_setLaw_0 24 rfl rfl
theorem dksX1_setLaw_2 : cX1_setLaw.data.toList.drop 46 = dktX1_setLaw_2 := dk_seg dksX1_setLaw_1 22 rfl rfl
theorem dksX1_setLaw_3 : cX1_setLaw.data.toList.drop 70 = dktX1_setLaw_3 := dk_seg dksX1_setLaw_2 24 rfl rfl
theorem dX1_setLaw_0 : decode cX1_setLaw 0 = .ok (.aload_n 0, 1) := dk_42 (dk_at dksX1_setLaw_0 0 rfl rfl)
theorem dX1_setLaw_1 : decode cX1_setLaw 1 = .ok (.iload_n 1, 1) := dk_27 (dk_at dksX1_setLaw_0 1 rfl rfl)
theorem dX1_setLaw_2 : decode cX1_setLaw 2 = .ok (.invokevirtual 207, 3) := dk_182 0 207 (dk_at dksX1_setLaw_0 2 rfl rfl)
theorem dX1_setLaw_5 : decode cX1_setLaw 5 = .ok (.astore 5, 2) := dk_58 5 (dk_at dksX1_setLaw_0 5 rfl rfl)
theorem dX1_setLaw_7 : decode cX1_setLaw 7 = .ok (.iload_n 2, 1) := dk_28 (dk_at dksX1_setLaw_0 7 rfl rfl)
theorem dX1_setLaw_8 : decode cX1_setLaw 8 = .ok (.i2l, 1) := dk_133 (dk_at dksX1_setLaw_0 8 rfl rfl)
theorem dX1_setLaw_9 : decode cX1_setLaw 9 = .ok (.lconst 0, 1) := dk_9 (dk_at dksX1_setLaw_0 9 rfl rfl)
theorem dX1_setLaw_10 : decode cX1_setLaw 10 = .ok (.ldc2_w 211, 3) := dk_20 0 211 (dk_at dksX1_setLaw_0 10 rfl rfl)
theorem dX1_setLaw_13 : decode cX1_setLaw 13 = .ok (.invokestatic 201, 3) := dk_184 0 201 (dk_at dksX1_setLaw_0 13 rfl rfl)
theorem dX1_setLaw_16 : decode cX1_setLaw 16 = .ok (.iload_n 3, 1) := dk_29 (dk_at dksX1_setLaw_0 16 rfl rfl)
theorem dX1_setLaw_17 : decode cX1_setLaw 17 = .ok (.i2l, 1) := dk_133 (dk_at dksX1_setLaw_0 17 rfl rfl)
theorem dX1_setLaw_18 : decode cX1_setLaw 18 = .ok (.ldc2_w 213, 3) := dk_20 0 213 (dk_at dksX1_setLaw_0 18 rfl rfl)
theorem dX1_setLaw_21 : decode cX1_setLaw 21 = .ok (.ldc2_w 215, 3) := dk_20 0 215 (dk_at dksX1_setLaw_0 21 rfl rfl)
theorem dX1_setLaw_24 : decode cX1_setLaw 24 = .ok (.invokestatic 201, 3) := dk_184 0 201 (dk_at dksX1_setLaw_1 0 rfl rfl)
theorem dX1_setLaw_27 : decode cX1_setLaw 27 = .ok (.iload_n 1, 1) := dk_27 (dk_at dksX1_setLaw_1 3 rfl rfl)
theorem dX1_setLaw_28 : decode cX1_setLaw 28 = .ok (.ifCond .ne 16, 3) := dk_154 0 16 (dk_at dksX1_setLaw_1 4 rfl rfl)
theorem dX1_setLaw_31 : decode cX1_setLaw 31 = .ok (.iload 4, 2) := dk_21 4 (dk_at dksX1_setLaw_1 7 rfl rfl)
theorem dX1_setLaw_33 : decode cX1_setLaw 33 = .ok (.ifCond .eq 11, 3) := dk_153 0 11 (dk_at dksX1_setLaw_1 9 rfl rfl)
theorem dX1_setLaw_36 : decode cX1_setLaw 36 = .ok (.new 131, 3) := dk_187 0 131 (dk_at dksX1_setLaw_1 12 rfl rfl)
theorem dX1_setLaw_39 : decode cX1_setLaw 39 = .ok (.dup, 1) := dk_89 (dk_at dksX1_setLaw_1 15 rfl rfl)
theorem dX1_setLaw_40 : decode cX1_setLaw 40 = .ok (.invokespecial 133, 3) := dk_183 0 133 (dk_at dksX1_setLaw_1 16 rfl rfl)
theorem dX1_setLaw_43 : decode cX1_setLaw 43 = .ok (.athrow, 1) := dk_191 (dk_at dksX1_setLaw_1 19 rfl rfl)
theorem dX1_setLaw_44 : decode cX1_setLaw 44 = .ok (.aload_n 0, 1) := dk_42 (dk_at dksX1_setLaw_1 20 rfl rfl)
theorem dX1_setLaw_45 : decode cX1_setLaw 45 = .ok (.aload_n 0, 1) := dk_42 (dk_at dksX1_setLaw_1 21 rfl rfl)
theorem dX1_setLaw_46 : decode cX1_setLaw 46 = .ok (.getfield 23, 3) := dk_180 0 23 (dk_at dksX1_setLaw_2 0 rfl rfl)
theorem dX1_setLaw_49 : decode cX1_setLaw 49 = .ok (.iconst 0, 1) := dk_3 (dk_at dksX1_setLaw_2 3 rfl rfl)
theorem dX1_setLaw_50 : decode cX1_setLaw 50 = .ok (.aaload, 1) := dk_50 (dk_at dksX1_setLaw_2 4 rfl rfl)
theorem dX1_setLaw_51 : decode cX1_setLaw 51 = .ok (.invokevirtual 183, 3) := dk_182 0 183 (dk_at dksX1_setLaw_2 5 rfl rfl)
theorem dX1_setLaw_54 : decode cX1_setLaw 54 = .ok (.lstore 6, 2) := dk_55 6 (dk_at dksX1_setLaw_2 8 rfl rfl)
theorem dX1_setLaw_56 : decode cX1_setLaw 56 = .ok (.aload 5, 2) := dk_25 5 (dk_at dksX1_setLaw_2 10 rfl rfl)
theorem dX1_setLaw_58 : decode cX1_setLaw 58 = .ok (.iload_n 2, 1) := dk_28 (dk_at dksX1_setLaw_2 12 rfl rfl)
theorem dX1_setLaw_59 : decode cX1_setLaw 59 = .ok (.iload_n 3, 1) := dk_29 (dk_at dksX1_setLaw_2 13 rfl rfl)
theorem dX1_setLaw_60 : decode cX1_setLaw 60 = .ok (.iload 4, 2) := dk_21 4 (dk_at dksX1_setLaw_2 14 rfl rfl)
theorem dX1_setLaw_62 : decode cX1_setLaw 62 = .ok (.invokevirtual 74, 3) := dk_182 0 74 (dk_at dksX1_setLaw_2 16 rfl rfl)
theorem dX1_setLaw_65 : decode cX1_setLaw 65 = .ok (.iload_n 1, 1) := dk_27 (dk_at dksX1_setLaw_2 19 rfl rfl)
theorem dX1_setLaw_66 : decode cX1_setLaw 66 = .ok (.ifCond .ne 9, 3) := dk_154 0 9 (dk_at dksX1_setLaw_2 20 rfl rfl)
theorem dX1_setLaw_69 : decode cX1_setLaw 69 = .ok (.aload_n 0, 1) := dk_42 (dk_at dksX1_setLaw_2 23 rfl rfl)
theorem dX1_setLaw_70 : decode cX1_setLaw 70 = .ok (.lload 6, 2) := dk_22 6 (dk_at dksX1_setLaw_3 0 rfl rfl)
theorem dX1_setLaw_72 : decode cX1_setLaw 72 = .ok (.invokevirtual 217, 3) := dk_182 0 217 (dk_at dksX1_setLaw_3 2 rfl rfl)
theorem dX1_setLaw_75 : decode cX1_setLaw 75 = .ok (.aload_n 0, 1) := dk_42 (dk_at dksX1_setLaw_3 5 rfl rfl)
theorem dX1_setLaw_76 : decode cX1_setLaw 76 = .ok (.aload 5, 2) := dk_25 5 (dk_at dksX1_setLaw_3 6 rfl rfl)
theorem dX1_setLaw_78 : decode cX1_setLaw 78 = .ok (.invokevirtual 183, 3) := dk_182 0 183 (dk_at dksX1_setLaw_3 8 rfl rfl)
theorem dX1_setLaw_81 : decode cX1_setLaw 81 = .ok (.lreturn, 1) := dk_173 (dk_at dksX1_setLaw_3 11 rfl rfl)
abbrev cX1_law : ByteArray := prog_1_method_9_code
def yX1_law : MethodName := ⟨RX1, "law", "(I)LLifeoffice$Law;"⟩
def dkwX1_law_0 : List UInt8 := [27, 42, 180, 0, 23, 190, 184, 0, 141, 42, 180, 0, 23, 27, 50, 176]
abbrev dktX1_law_0 : List UInt8 := dkwX1_law_0 ++ []
theorem dksX1_law_0 : cX1_law.data.toList.drop 0 = dktX1_law_0 := by decide +kernel
theorem dX1_law_0 : decode cX1_law 0 = .ok (.iload_n 1, 1) := dk_27 (dk_at dksX1_law_0 0 rfl rfl)
theorem dX1_law_1 : decode cX1_law 1 = .ok (.aload_n 0, 1) := dk_42 (dk_at dksX1_law_0 1 rfl rfl)
theorem dX1_law_2 : decode cX1_law 2 = .ok (.getfield 23, 3) := dk_180 0 23 (dk_at dksX1_law_0 2 rfl rfl)
theorem dX1_law_5 : decode cX1_law 5 = .ok (.arraylength, 1) := dk_190 (dk_at dksX1_law_0 5 rfl rfl)
theorem dX1_law_6 : decode cX1_law 6 = .ok (.invokestatic 141, 3) := dk_184 0 141 (dk_at dksX1_law_0 6 rfl rfl)
theorem dX1_law_9 : decode cX1_law 9 = .ok (.aload_n 0, 1) := dk_42 (dk_at dksX1_law_0 9 rfl rfl)
theorem dX1_law_10 : decode cX1_law 10 = .ok (.getfield 23, 3) := dk_180 0 23 (dk_at dksX1_law_0 10 rfl rfl)
theorem dX1_law_13 : decode cX1_law 13 = .ok (.iload_n 1, 1) := dk_27 (dk_at dksX1_law_0 13 rfl rfl)
theorem dX1_law_14 : decode cX1_law 14 = .ok (.aaload, 1) := dk_50 (dk_at dksX1_law_0 14 rfl rfl)
theorem dX1_law_15 : decode cX1_law 15 = .ok (.areturn, 1) := dk_176 (dk_at dksX1_law_0 15 rfl rfl)
abbrev cX1_checkIndex : ByteArray := prog_1_method_5_code
def yX1_checkIndex : MethodName := ⟨RX1, "checkIndex", "(II)V"⟩
def dkwX1_checkIndex_0 : List UInt8 := [26, 155, 0, 8, 26, 27, 161, 0, 11, 187, 0, 128, 89, 183, 0, 130, 191, 177]
abbrev dktX1_checkIndex_0 : List UInt8 := dkwX1_checkIndex_0 ++ []
theorem dksX1_checkIndex_0 : cX1_checkIndex.data.toList.drop 0 = dktX1_checkIndex_0 := by decide +kernel
theorem dX1_checkIndex_0 : decode cX1_checkIndex 0 = .ok (.iload_n 0, 1) := dk_26 (dk_at dksX1_checkIndex_0 0 rfl rfl)
theorem dX1_checkIndex_1 : decode cX1_checkIndex 1 = .ok (.ifCond .lt 8, 3) := dk_155 0 8 (dk_at dksX1_checkIndex_0 1 rfl rfl)
theorem dX1_checkIndex_4 : decode cX1_checkIndex 4 = .ok (.iload_n 0, 1) := dk_26 (dk_at dksX1_checkIndex_0 4 rfl rfl)
theorem dX1_checkIndex_5 : decode cX1_checkIndex 5 = .ok (.iload_n 1, 1) := dk_27 (dk_at dksX1_checkIndex_0 5 rfl rfl)
theorem dX1_checkIndex_6 : decode cX1_checkIndex 6 = .ok (.if_icmp .lt 11, 3) := dk_161 0 11 (dk_at dksX1_checkIndex_0 6 rfl rfl)
theorem dX1_checkIndex_9 : decode cX1_checkIndex 9 = .ok (.new 128, 3) := dk_187 0 128 (dk_at dksX1_checkIndex_0 9 rfl rfl)
theorem dX1_checkIndex_12 : decode cX1_checkIndex 12 = .ok (.dup, 1) := dk_89 (dk_at dksX1_checkIndex_0 12 rfl rfl)
theorem dX1_checkIndex_13 : decode cX1_checkIndex 13 = .ok (.invokespecial 130, 3) := dk_183 0 130 (dk_at dksX1_checkIndex_0 13 rfl rfl)
theorem dX1_checkIndex_16 : decode cX1_checkIndex 16 = .ok (.athrow, 1) := dk_191 (dk_at dksX1_checkIndex_0 16 rfl rfl)
theorem dX1_checkIndex_17 : decode cX1_checkIndex 17 = .ok (.return_, 1) := dk_177 (dk_at dksX1_checkIndex_0 17 rfl rfl)
abbrev cX1_setImprovement : ByteArray := prog_1_method_18_code
def yX1_setImprovement : MethodName := ⟨RX1, "setImprovement", "(I)I"⟩
def dkwX1_setImprovement_1 : List UInt8 := [54, 4, 42, 27, 181, 0, 84, 42, 32, 182, 0, 217, 21, 4, 172]
abbrev dktX1_setImprovement_1 : List UInt8 := dkwX1_setImprovement_1 ++ []
def dkwX1_setImprovement_0 : List UInt8 := [27, 133, 9, 20, 0, 221, 184, 0, 201, 42, 42, 180, 0, 23, 3, 50, 182, 0, 183, 65, 42, 180, 0, 84]
abbrev dktX1_setImprovement_0 : List UInt8 := dkwX1_setImprovement_0 ++ dktX1_setImprovement_1
theorem dksX1_setImprovement_0 : cX1_setImprovement.data.toList.drop 0 = dktX1_setImprovement_0 := by decide +kernel
theorem dksX1_setImprovement_1 : cX1_setImprovement.data.toList.drop 24 = dktX1_setImprovement_1 := dk_seg dksX1_setImprovement_0 24 rfl rfl
theorem dX1_setImprovement_0 : decode cX1_setImprovement 0 = .ok (.iload_n 1, 1) := dk_27 (dk_at dksX1_setImprovement_0 0 rfl rfl)
theorem dX1_setImprovement_1 : decode cX1_setImprovement 1 = .ok (.i2l, 1) := dk_133 (dk_at dksX1_setImprovement_0 1 rfl rfl)
theorem dX1_setImprovement_2 : decode cX1_setImprovement 2 = .ok (.lconst 0, 1) := dk_9 (dk_at dksX1_setImprovement_0 2 rfl rfl)
theorem dX1_setImprovement_3 : decode cX1_setImprovement 3 = .ok (.ldc2_w 221, 3) := dk_20 0 221 (dk_at dksX1_setImprovement_0 3 rfl rfl)
theorem dX1_setImprovement_6 : decode cX1_setImprovement 6 = .ok (.invokestatic 201, 3) := dk_184 0 201 (dk_at dksX1_setImprovement_0 6 rfl rfl)
theorem dX1_setImprovement_9 : decode cX1_setImprovement 9 = .ok (.aload_n 0, 1) := dk_42 (dk_at dksX1_setImprovement_0 9 rfl rfl)
theorem dX1_setImprovement_10 : decode cX1_setImprovement 10 = .ok (.aload_n 0, 1) := dk_42 (dk_at dksX1_setImprovement_0 10 rfl rfl)
theorem dX1_setImprovement_11 : decode cX1_setImprovement 11 = .ok (.getfield 23, 3) := dk_180 0 23 (dk_at dksX1_setImprovement_0 11 rfl rfl)
theorem dX1_setImprovement_14 : decode cX1_setImprovement 14 = .ok (.iconst 0, 1) := dk_3 (dk_at dksX1_setImprovement_0 14 rfl rfl)
theorem dX1_setImprovement_15 : decode cX1_setImprovement 15 = .ok (.aaload, 1) := dk_50 (dk_at dksX1_setImprovement_0 15 rfl rfl)
theorem dX1_setImprovement_16 : decode cX1_setImprovement 16 = .ok (.invokevirtual 183, 3) := dk_182 0 183 (dk_at dksX1_setImprovement_0 16 rfl rfl)
theorem dX1_setImprovement_19 : decode cX1_setImprovement 19 = .ok (.lstore_n 2, 1) := dk_65 (dk_at dksX1_setImprovement_0 19 rfl rfl)
theorem dX1_setImprovement_20 : decode cX1_setImprovement 20 = .ok (.aload_n 0, 1) := dk_42 (dk_at dksX1_setImprovement_0 20 rfl rfl)
theorem dX1_setImprovement_21 : decode cX1_setImprovement 21 = .ok (.getfield 84, 3) := dk_180 0 84 (dk_at dksX1_setImprovement_0 21 rfl rfl)
theorem dX1_setImprovement_24 : decode cX1_setImprovement 24 = .ok (.istore 4, 2) := dk_54 4 (dk_at dksX1_setImprovement_1 0 rfl rfl)
theorem dX1_setImprovement_26 : decode cX1_setImprovement 26 = .ok (.aload_n 0, 1) := dk_42 (dk_at dksX1_setImprovement_1 2 rfl rfl)
theorem dX1_setImprovement_27 : decode cX1_setImprovement 27 = .ok (.iload_n 1, 1) := dk_27 (dk_at dksX1_setImprovement_1 3 rfl rfl)
theorem dX1_setImprovement_28 : decode cX1_setImprovement 28 = .ok (.putfield 84, 3) := dk_181 0 84 (dk_at dksX1_setImprovement_1 4 rfl rfl)
theorem dX1_setImprovement_31 : decode cX1_setImprovement 31 = .ok (.aload_n 0, 1) := dk_42 (dk_at dksX1_setImprovement_1 7 rfl rfl)
theorem dX1_setImprovement_32 : decode cX1_setImprovement 32 = .ok (.lload_n 2, 1) := dk_32 (dk_at dksX1_setImprovement_1 8 rfl rfl)
theorem dX1_setImprovement_33 : decode cX1_setImprovement 33 = .ok (.invokevirtual 217, 3) := dk_182 0 217 (dk_at dksX1_setImprovement_1 9 rfl rfl)
theorem dX1_setImprovement_36 : decode cX1_setImprovement 36 = .ok (.iload 4, 2) := dk_21 4 (dk_at dksX1_setImprovement_1 12 rfl rfl)
theorem dX1_setImprovement_38 : decode cX1_setImprovement 38 = .ok (.ireturn, 1) := dk_172 (dk_at dksX1_setImprovement_1 14 rfl rfl)
abbrev cX1_setLoading : ByteArray := prog_1_method_19_code
def yX1_setLoading : MethodName := ⟨RX1, "setLoading", "(II)I"⟩
def dkwX1_setLoading_1 : List UInt8 := [27, 181, 0, 87, 42, 28, 181, 0, 90, 29, 172]
abbrev dktX1_setLoading_1 : List UInt8 := dkwX1_setLoading_1 ++ []
def dkwX1_setLoading_0 : List UInt8 := [27, 133, 9, 20, 0, 223, 184, 0, 201, 28, 133, 9, 20, 0, 7, 184, 0, 201, 42, 180, 0, 87, 62, 42]
abbrev dktX1_setLoading_0 : List UInt8 := dkwX1_setLoading_0 ++ dktX1_setLoading_1
theorem dksX1_setLoading_0 : cX1_setLoading.data.toList.drop 0 = dktX1_setLoading_0 := by decide +kernel
theorem dksX1_setLoading_1 : cX1_setLoading.data.toList.drop 24 = dktX1_setLoading_1 := dk_seg dksX1_setLoading_0 24 rfl rfl
theorem dX1_setLoading_0 : decode cX1_setLoading 0 = .ok (.iload_n 1, 1) := dk_27 (dk_at dksX1_setLoading_0 0 rfl rfl)
theorem dX1_setLoading_1 : decode cX1_setLoading 1 = .ok (.i2l, 1) := dk_133 (dk_at dksX1_setLoading_0 1 rfl rfl)
theorem dX1_setLoading_2 : decode cX1_setLoading 2 = .ok (.lconst 0, 1) := dk_9 (dk_at dksX1_setLoading_0 2 rfl rfl)
theorem dX1_setLoading_3 : decode cX1_setLoading 3 = .ok (.ldc2_w 223, 3) := dk_20 0 223 (dk_at dksX1_setLoading_0 3 rfl rfl)
theorem dX1_setLoading_6 : decode cX1_setLoading 6 = .ok (.invokestatic 201, 3) := dk_184 0 201 (dk_at dksX1_setLoading_0 6 rfl rfl)
theorem dX1_setLoading_9 : decode cX1_setLoading 9 = .ok (.iload_n 2, 1) := dk_28 (dk_at dksX1_setLoading_0 9 rfl rfl)
theorem dX1_setLoading_10 : decode cX1_setLoading 10 = .ok (.i2l, 1) := dk_133 (dk_at dksX1_setLoading_0 10 rfl rfl)
theorem dX1_setLoading_11 : decode cX1_setLoading 11 = .ok (.lconst 0, 1) := dk_9 (dk_at dksX1_setLoading_0 11 rfl rfl)
theorem dX1_setLoading_12 : decode cX1_setLoading 12 = .ok (.ldc2_w 7, 3) := dk_20 0 7 (dk_at dksX1_setLoading_0 12 rfl rfl)
theorem dX1_setLoading_15 : decode cX1_setLoading 15 = .ok (.invokestatic 201, 3) := dk_184 0 201 (dk_at dksX1_setLoading_0 15 rfl rfl)
theorem dX1_setLoading_18 : decode cX1_setLoading 18 = .ok (.aload_n 0, 1) := dk_42 (dk_at dksX1_setLoading_0 18 rfl rfl)
theorem dX1_setLoading_19 : decode cX1_setLoading 19 = .ok (.getfield 87, 3) := dk_180 0 87 (dk_at dksX1_setLoading_0 19 rfl rfl)
theorem dX1_setLoading_22 : decode cX1_setLoading 22 = .ok (.istore_n 3, 1) := dk_62 (dk_at dksX1_setLoading_0 22 rfl rfl)
theorem dX1_setLoading_23 : decode cX1_setLoading 23 = .ok (.aload_n 0, 1) := dk_42 (dk_at dksX1_setLoading_0 23 rfl rfl)
theorem dX1_setLoading_24 : decode cX1_setLoading 24 = .ok (.iload_n 1, 1) := dk_27 (dk_at dksX1_setLoading_1 0 rfl rfl)
theorem dX1_setLoading_25 : decode cX1_setLoading 25 = .ok (.putfield 87, 3) := dk_181 0 87 (dk_at dksX1_setLoading_1 1 rfl rfl)
theorem dX1_setLoading_28 : decode cX1_setLoading 28 = .ok (.aload_n 0, 1) := dk_42 (dk_at dksX1_setLoading_1 4 rfl rfl)
theorem dX1_setLoading_29 : decode cX1_setLoading 29 = .ok (.iload_n 2, 1) := dk_28 (dk_at dksX1_setLoading_1 5 rfl rfl)
theorem dX1_setLoading_30 : decode cX1_setLoading 30 = .ok (.putfield 90, 3) := dk_181 0 90 (dk_at dksX1_setLoading_1 6 rfl rfl)
theorem dX1_setLoading_33 : decode cX1_setLoading 33 = .ok (.iload_n 3, 1) := dk_29 (dk_at dksX1_setLoading_1 9 rfl rfl)
theorem dX1_setLoading_34 : decode cX1_setLoading 34 = .ok (.ireturn, 1) := dk_172 (dk_at dksX1_setLoading_1 10 rfl rfl)
abbrev cX1_mortality : ByteArray := prog_1_method_20_code
def yX1_mortality : MethodName := ⟨RX1, "mortality", "(IIIII)I"⟩
def dkwX1_mortality_3 : List UInt8 := [182, 0, 240, 136, 172]
abbrev dktX1_mortality_3 : List UInt8 := dkwX1_mortality_3 ++ []
def dkwX1_mortality_2 : List UInt8 := [187, 0, 233, 89, 29, 28, 183, 0, 235, 21, 4, 21, 5, 3, 25, 6, 180, 0, 237, 42, 180, 0, 84]
abbrev dktX1_mortality_2 : List UInt8 := dkwX1_mortality_2 ++ dktX1_mortality_3
def dkwX1_mortality_1 : List UInt8 := [184, 0, 201, 21, 4, 133, 29, 133, 20, 0, 231, 184, 0, 201, 21, 5, 133, 9, 20, 0, 215, 184, 0, 201]
abbrev dktX1_mortality_1 : List UInt8 := dkwX1_mortality_1 ++ dktX1_mortality_2
def dkwX1_mortality_0 : List UInt8 := [42, 27, 182, 0, 207, 58, 6, 28, 133, 9, 20, 0, 225, 184, 0, 201, 29, 133, 20, 0, 227, 20, 0, 229]
abbrev dktX1_mortality_0 : List UInt8 := dkwX1_mortality_0 ++ dktX1_mortality_1
theorem dksX1_mortality_0 : cX1_mortality.data.toList.drop 0 = dktX1_mortality_0 := by decide +kernel
theorem dksX1_mortality_1 : cX1_mortality.data.toList.drop 24 = dktX1_mortality_1 := dk_seg dksX1_mortality_0 24 rfl rfl
theorem dksX1_mortality_2 : cX1_mortality.data.toList.drop 48 = dktX1_mortality_2 := dk_seg dksX1_mortality_1 24 rfl rfl
theorem dksX1_mortality_3 : cX1_mortality.data.toList.drop 71 = dktX1_mortality_3 := dk_seg dksX1_mortality_2 23 rfl rfl
theorem dX1_mortality_0 : decode cX1_mortality 0 = .ok (.aload_n 0, 1) := dk_42 (dk_at dksX1_mortality_0 0 rfl rfl)
theorem dX1_mortality_1 : decode cX1_mortality 1 = .ok (.iload_n 1, 1) := dk_27 (dk_at dksX1_mortality_0 1 rfl rfl)
theorem dX1_mortality_2 : decode cX1_mortality 2 = .ok (.invokevirtual 207, 3) := dk_182 0 207 (dk_at dksX1_mortality_0 2 rfl rfl)
theorem dX1_mortality_5 : decode cX1_mortality 5 = .ok (.astore 6, 2) := dk_58 6 (dk_at dksX1_mortality_0 5 rfl rfl)
theorem dX1_mortality_7 : decode cX1_mortality 7 = .ok (.iload_n 2, 1) := dk_28 (dk_at dksX1_mortality_0 7 rfl rfl)
theorem dX1_mortality_8 : decode cX1_mortality 8 = .ok (.i2l, 1) := dk_133 (dk_at dksX1_mortality_0 8 rfl rfl)
theorem dX1_mortality_9 : decode cX1_mortality 9 = .ok (.lconst 0, 1) := dk_9 (dk_at dksX1_mortality_0 9 rfl rfl)
theorem dX1_mortality_10 : decode cX1_mortality 10 = .ok (.ldc2_w 225, 3) := dk_20 0 225 (dk_at dksX1_mortality_0 10 rfl rfl)
theorem dX1_mortality_13 : decode cX1_mortality 13 = .ok (.invokestatic 201, 3) := dk_184 0 201 (dk_at dksX1_mortality_0 13 rfl rfl)
theorem dX1_mortality_16 : decode cX1_mortality 16 = .ok (.iload_n 3, 1) := dk_29 (dk_at dksX1_mortality_0 16 rfl rfl)
theorem dX1_mortality_17 : decode cX1_mortality 17 = .ok (.i2l, 1) := dk_133 (dk_at dksX1_mortality_0 17 rfl rfl)
theorem dX1_mortality_18 : decode cX1_mortality 18 = .ok (.ldc2_w 227, 3) := dk_20 0 227 (dk_at dksX1_mortality_0 18 rfl rfl)
theorem dX1_mortality_21 : decode cX1_mortality 21 = .ok (.ldc2_w 229, 3) := dk_20 0 229 (dk_at dksX1_mortality_0 21 rfl rfl)
theorem dX1_mortality_24 : decode cX1_mortality 24 = .ok (.invokestatic 201, 3) := dk_184 0 201 (dk_at dksX1_mortality_1 0 rfl rfl)
theorem dX1_mortality_27 : decode cX1_mortality 27 = .ok (.iload 4, 2) := dk_21 4 (dk_at dksX1_mortality_1 3 rfl rfl)
theorem dX1_mortality_29 : decode cX1_mortality 29 = .ok (.i2l, 1) := dk_133 (dk_at dksX1_mortality_1 5 rfl rfl)
theorem dX1_mortality_30 : decode cX1_mortality 30 = .ok (.iload_n 3, 1) := dk_29 (dk_at dksX1_mortality_1 6 rfl rfl)
theorem dX1_mortality_31 : decode cX1_mortality 31 = .ok (.i2l, 1) := dk_133 (dk_at dksX1_mortality_1 7 rfl rfl)
theorem dX1_mortality_32 : decode cX1_mortality 32 = .ok (.ldc2_w 231, 3) := dk_20 0 231 (dk_at dksX1_mortality_1 8 rfl rfl)
theorem dX1_mortality_35 : decode cX1_mortality 35 = .ok (.invokestatic 201, 3) := dk_184 0 201 (dk_at dksX1_mortality_1 11 rfl rfl)
theorem dX1_mortality_38 : decode cX1_mortality 38 = .ok (.iload 5, 2) := dk_21 5 (dk_at dksX1_mortality_1 14 rfl rfl)
theorem dX1_mortality_40 : decode cX1_mortality 40 = .ok (.i2l, 1) := dk_133 (dk_at dksX1_mortality_1 16 rfl rfl)
theorem dX1_mortality_41 : decode cX1_mortality 41 = .ok (.lconst 0, 1) := dk_9 (dk_at dksX1_mortality_1 17 rfl rfl)
theorem dX1_mortality_42 : decode cX1_mortality 42 = .ok (.ldc2_w 215, 3) := dk_20 0 215 (dk_at dksX1_mortality_1 18 rfl rfl)
theorem dX1_mortality_45 : decode cX1_mortality 45 = .ok (.invokestatic 201, 3) := dk_184 0 201 (dk_at dksX1_mortality_1 21 rfl rfl)
theorem dX1_mortality_48 : decode cX1_mortality 48 = .ok (.new 233, 3) := dk_187 0 233 (dk_at dksX1_mortality_2 0 rfl rfl)
theorem dX1_mortality_51 : decode cX1_mortality 51 = .ok (.dup, 1) := dk_89 (dk_at dksX1_mortality_2 3 rfl rfl)
theorem dX1_mortality_52 : decode cX1_mortality 52 = .ok (.iload_n 3, 1) := dk_29 (dk_at dksX1_mortality_2 4 rfl rfl)
theorem dX1_mortality_53 : decode cX1_mortality 53 = .ok (.iload_n 2, 1) := dk_28 (dk_at dksX1_mortality_2 5 rfl rfl)
theorem dX1_mortality_54 : decode cX1_mortality 54 = .ok (.invokespecial 235, 3) := dk_183 0 235 (dk_at dksX1_mortality_2 6 rfl rfl)
theorem dX1_mortality_57 : decode cX1_mortality 57 = .ok (.iload 4, 2) := dk_21 4 (dk_at dksX1_mortality_2 9 rfl rfl)
theorem dX1_mortality_59 : decode cX1_mortality 59 = .ok (.iload 5, 2) := dk_21 5 (dk_at dksX1_mortality_2 11 rfl rfl)
theorem dX1_mortality_61 : decode cX1_mortality 61 = .ok (.iconst 0, 1) := dk_3 (dk_at dksX1_mortality_2 13 rfl rfl)
theorem dX1_mortality_62 : decode cX1_mortality 62 = .ok (.aload 6, 2) := dk_25 6 (dk_at dksX1_mortality_2 14 rfl rfl)
theorem dX1_mortality_64 : decode cX1_mortality 64 = .ok (.getfield 237, 3) := dk_180 0 237 (dk_at dksX1_mortality_2 16 rfl rfl)
theorem dX1_mortality_67 : decode cX1_mortality 67 = .ok (.aload_n 0, 1) := dk_42 (dk_at dksX1_mortality_2 19 rfl rfl)
theorem dX1_mortality_68 : decode cX1_mortality 68 = .ok (.getfield 84, 3) := dk_180 0 84 (dk_at dksX1_mortality_2 20 rfl rfl)
theorem dX1_mortality_71 : decode cX1_mortality 71 = .ok (.invokevirtual 240, 3) := dk_182 0 240 (dk_at dksX1_mortality_3 0 rfl rfl)
theorem dX1_mortality_74 : decode cX1_mortality 74 = .ok (.l2i, 1) := dk_136 (dk_at dksX1_mortality_3 3 rfl rfl)
theorem dX1_mortality_75 : decode cX1_mortality 75 = .ok (.ireturn, 1) := dk_172 (dk_at dksX1_mortality_3 4 rfl rfl)
abbrev cX1_money : ByteArray := prog_1_method_21_code
def yX1_money : MethodName := ⟨RX1, "money", "(I)J"⟩
def dkwX1_money_3 : List UInt8 := [182, 0, 157, 167, 0, 10, 42, 180, 0, 55, 182, 0, 249, 173]
abbrev dktX1_money_3 : List UInt8 := dkwX1_money_3 ++ []
def dkwX1_money_2 : List UInt8 := [42, 182, 0, 180, 167, 0, 31, 42, 180, 0, 67, 167, 0, 24, 42, 182, 0, 246, 167, 0, 17, 42]
abbrev dktX1_money_2 : List UInt8 := dkwX1_money_2 ++ dktX1_money_3
def dkwX1_money_1 : List UInt8 := [170, 0, 0, 0, 0, 58, 0, 0, 0, 0, 0, 0, 0, 3, 0, 0, 0, 30, 0, 0, 0, 37, 0, 0, 0, 44, 0, 0, 0, 51]
abbrev dktX1_money_1 : List UInt8 := dkwX1_money_1 ++ dktX1_money_2
def dkwX1_money_0 : List UInt8 := [27, 133, 9, 20, 0, 244, 184, 0, 201, 27]
abbrev dktX1_money_0 : List UInt8 := dkwX1_money_0 ++ dktX1_money_1
theorem dksX1_money_0 : cX1_money.data.toList.drop 0 = dktX1_money_0 := by decide +kernel
theorem dksX1_money_1 : cX1_money.data.toList.drop 10 = dktX1_money_1 := dk_seg dksX1_money_0 10 rfl rfl
theorem dksX1_money_2 : cX1_money.data.toList.drop 40 = dktX1_money_2 := dk_seg dksX1_money_1 30 rfl rfl
theorem dksX1_money_3 : cX1_money.data.toList.drop 62 = dktX1_money_3 := dk_seg dksX1_money_2 22 rfl rfl
theorem dX1_money_0 : decode cX1_money 0 = .ok (.iload_n 1, 1) := dk_27 (dk_at dksX1_money_0 0 rfl rfl)
theorem dX1_money_1 : decode cX1_money 1 = .ok (.i2l, 1) := dk_133 (dk_at dksX1_money_0 1 rfl rfl)
theorem dX1_money_2 : decode cX1_money 2 = .ok (.lconst 0, 1) := dk_9 (dk_at dksX1_money_0 2 rfl rfl)
theorem dX1_money_3 : decode cX1_money 3 = .ok (.ldc2_w 244, 3) := dk_20 0 244 (dk_at dksX1_money_0 3 rfl rfl)
theorem dX1_money_6 : decode cX1_money 6 = .ok (.invokestatic 201, 3) := dk_184 0 201 (dk_at dksX1_money_0 6 rfl rfl)
theorem dX1_money_9 : decode cX1_money 9 = .ok (.iload_n 1, 1) := dk_27 (dk_at dksX1_money_0 9 rfl rfl)
theorem dX1_money_10 : decode cX1_money 10 = .ok (.tableswitch 58 0 3 #[30, 37, 44, 51], 30) := by decide +kernel
theorem dX1_money_40 : decode cX1_money 40 = .ok (.aload_n 0, 1) := dk_42 (dk_at dksX1_money_2 0 rfl rfl)
theorem dX1_money_41 : decode cX1_money 41 = .ok (.invokevirtual 180, 3) := dk_182 0 180 (dk_at dksX1_money_2 1 rfl rfl)
theorem dX1_money_44 : decode cX1_money 44 = .ok (.goto 31, 3) := dk_167 0 31 (dk_at dksX1_money_2 4 rfl rfl)
theorem dX1_money_47 : decode cX1_money 47 = .ok (.aload_n 0, 1) := dk_42 (dk_at dksX1_money_2 7 rfl rfl)
theorem dX1_money_48 : decode cX1_money 48 = .ok (.getfield 67, 3) := dk_180 0 67 (dk_at dksX1_money_2 8 rfl rfl)
theorem dX1_money_51 : decode cX1_money 51 = .ok (.goto 24, 3) := dk_167 0 24 (dk_at dksX1_money_2 11 rfl rfl)
theorem dX1_money_54 : decode cX1_money 54 = .ok (.aload_n 0, 1) := dk_42 (dk_at dksX1_money_2 14 rfl rfl)
theorem dX1_money_55 : decode cX1_money 55 = .ok (.invokevirtual 246, 3) := dk_182 0 246 (dk_at dksX1_money_2 15 rfl rfl)
theorem dX1_money_58 : decode cX1_money 58 = .ok (.goto 17, 3) := dk_167 0 17 (dk_at dksX1_money_2 18 rfl rfl)
theorem dX1_money_61 : decode cX1_money 61 = .ok (.aload_n 0, 1) := dk_42 (dk_at dksX1_money_2 21 rfl rfl)
theorem dX1_money_62 : decode cX1_money 62 = .ok (.invokevirtual 157, 3) := dk_182 0 157 (dk_at dksX1_money_3 0 rfl rfl)
theorem dX1_money_65 : decode cX1_money 65 = .ok (.goto 10, 3) := dk_167 0 10 (dk_at dksX1_money_3 3 rfl rfl)
theorem dX1_money_68 : decode cX1_money 68 = .ok (.aload_n 0, 1) := dk_42 (dk_at dksX1_money_3 6 rfl rfl)
theorem dX1_money_69 : decode cX1_money 69 = .ok (.getfield 55, 3) := dk_180 0 55 (dk_at dksX1_money_3 7 rfl rfl)
theorem dX1_money_72 : decode cX1_money 72 = .ok (.invokevirtual 249, 3) := dk_182 0 249 (dk_at dksX1_money_3 10 rfl rfl)
theorem dX1_money_75 : decode cX1_money 75 = .ok (.lreturn, 1) := dk_173 (dk_at dksX1_money_3 13 rfl rfl)
abbrev cX1_quote : ByteArray := prog_1_method_23_code
def yX1_quote : MethodName := ⟨RX1, "quote", "(IIIIII)J"⟩
def dkwX1_quote_1 : List UInt8 := [21, 5, 21, 6, 183, 1, 12, 180, 1, 15, 173]
abbrev dktX1_quote_1 : List UInt8 := dkwX1_quote_1 ++ []
def dkwX1_quote_0 : List UInt8 := [42, 27, 28, 29, 21, 4, 21, 5, 21, 6, 182, 1, 8, 187, 0, 148, 89, 42, 2, 27, 28, 29, 21, 4]
abbrev dktX1_quote_0 : List UInt8 := dkwX1_quote_0 ++ dktX1_quote_1
theorem dksX1_quote_0 : cX1_quote.data.toList.drop 0 = dktX1_quote_0 := by decide +kernel
theorem dksX1_quote_1 : cX1_quote.data.toList.drop 24 = dktX1_quote_1 := dk_seg dksX1_quote_0 24 rfl rfl
theorem dX1_quote_0 : decode cX1_quote 0 = .ok (.aload_n 0, 1) := dk_42 (dk_at dksX1_quote_0 0 rfl rfl)
theorem dX1_quote_1 : decode cX1_quote 1 = .ok (.iload_n 1, 1) := dk_27 (dk_at dksX1_quote_0 1 rfl rfl)
theorem dX1_quote_2 : decode cX1_quote 2 = .ok (.iload_n 2, 1) := dk_28 (dk_at dksX1_quote_0 2 rfl rfl)
theorem dX1_quote_3 : decode cX1_quote 3 = .ok (.iload_n 3, 1) := dk_29 (dk_at dksX1_quote_0 3 rfl rfl)
theorem dX1_quote_4 : decode cX1_quote 4 = .ok (.iload 4, 2) := dk_21 4 (dk_at dksX1_quote_0 4 rfl rfl)
theorem dX1_quote_6 : decode cX1_quote 6 = .ok (.iload 5, 2) := dk_21 5 (dk_at dksX1_quote_0 6 rfl rfl)
theorem dX1_quote_8 : decode cX1_quote 8 = .ok (.iload 6, 2) := dk_21 6 (dk_at dksX1_quote_0 8 rfl rfl)
theorem dX1_quote_10 : decode cX1_quote 10 = .ok (.invokevirtual 264, 3) := dk_182 1 8 (dk_at dksX1_quote_0 10 rfl rfl)
theorem dX1_quote_13 : decode cX1_quote 13 = .ok (.new 148, 3) := dk_187 0 148 (dk_at dksX1_quote_0 13 rfl rfl)
theorem dX1_quote_16 : decode cX1_quote 16 = .ok (.dup, 1) := dk_89 (dk_at dksX1_quote_0 16 rfl rfl)
theorem dX1_quote_17 : decode cX1_quote 17 = .ok (.aload_n 0, 1) := dk_42 (dk_at dksX1_quote_0 17 rfl rfl)
theorem dX1_quote_18 : decode cX1_quote 18 = .ok (.iconst (-1), 1) := dk_2 (dk_at dksX1_quote_0 18 rfl rfl)
theorem dX1_quote_19 : decode cX1_quote 19 = .ok (.iload_n 1, 1) := dk_27 (dk_at dksX1_quote_0 19 rfl rfl)
theorem dX1_quote_20 : decode cX1_quote 20 = .ok (.iload_n 2, 1) := dk_28 (dk_at dksX1_quote_0 20 rfl rfl)
theorem dX1_quote_21 : decode cX1_quote 21 = .ok (.iload_n 3, 1) := dk_29 (dk_at dksX1_quote_0 21 rfl rfl)
theorem dX1_quote_22 : decode cX1_quote 22 = .ok (.iload 4, 2) := dk_21 4 (dk_at dksX1_quote_0 22 rfl rfl)
theorem dX1_quote_24 : decode cX1_quote 24 = .ok (.iload 5, 2) := dk_21 5 (dk_at dksX1_quote_1 0 rfl rfl)
theorem dX1_quote_26 : decode cX1_quote 26 = .ok (.iload 6, 2) := dk_21 6 (dk_at dksX1_quote_1 2 rfl rfl)
theorem dX1_quote_28 : decode cX1_quote 28 = .ok (.invokespecial 268, 3) := dk_183 1 12 (dk_at dksX1_quote_1 4 rfl rfl)
theorem dX1_quote_31 : decode cX1_quote 31 = .ok (.getfield 271, 3) := dk_180 1 15 (dk_at dksX1_quote_1 7 rfl rfl)
theorem dX1_quote_34 : decode cX1_quote 34 = .ok (.lreturn, 1) := dk_173 (dk_at dksX1_quote_1 10 rfl rfl)
abbrev cX1_checkPolicy : ByteArray := prog_1_method_22_code
def yX1_checkPolicy : MethodName := ⟨RX1, "checkPolicy", "(IIIIII)V"⟩
def dkwX1_checkPolicy_4 : List UInt8 := [167, 0, 6, 20, 0, 225, 184, 0, 201, 21, 6, 133, 9, 20, 1, 6, 184, 0, 201, 177]
abbrev dktX1_checkPolicy_4 : List UInt8 := dkwX1_checkPolicy_4 ++ []
def dkwX1_checkPolicy_3 : List UInt8 := [29, 100, 133, 184, 0, 201, 21, 5, 133, 9, 27, 153, 0, 8, 27, 4, 160, 0, 9, 20, 1, 4]
abbrev dktX1_checkPolicy_3 : List UInt8 := dkwX1_checkPolicy_3 ++ dktX1_checkPolicy_4
def dkwX1_checkPolicy_2 : List UInt8 := [184, 0, 201, 27, 4, 159, 0, 8, 27, 5, 160, 0, 20, 42, 180, 0, 63, 21, 4, 100, 133, 9, 16, 110]
abbrev dktX1_checkPolicy_2 : List UInt8 := dkwX1_checkPolicy_2 ++ dktX1_checkPolicy_3
def dkwX1_checkPolicy_1 : List UInt8 := [20, 1, 0, 184, 0, 201, 21, 4, 133, 42, 180, 0, 63, 133, 20, 1, 2, 101, 42, 180, 0, 63, 133]
abbrev dktX1_checkPolicy_1 : List UInt8 := dkwX1_checkPolicy_1 ++ dktX1_checkPolicy_2
def dkwX1_checkPolicy_0 : List UInt8 := [27, 133, 9, 20, 0, 225, 184, 0, 201, 28, 133, 20, 0, 252, 20, 0, 254, 184, 0, 201, 29, 133, 10]
abbrev dktX1_checkPolicy_0 : List UInt8 := dkwX1_checkPolicy_0 ++ dktX1_checkPolicy_1
theorem dksX1_checkPolicy_0 : cX1_checkPolicy.data.toList.drop 0 = dktX1_checkPolicy_0 := by decide +kernel
theorem dksX1_checkPolicy_1 : cX1_checkPolicy.data.toList.drop 23 = dktX1_checkPolicy_1 := dk_seg dksX1_checkPolicy_0 23 rfl rfl
theorem dksX1_checkPolicy_2 : cX1_checkPolicy.data.toList.drop 46 = dktX1_checkPolicy_2 := dk_seg dksX1_checkPolicy_1 23 rfl rfl
theorem dksX1_checkPolicy_3 : cX1_checkPolicy.data.toList.drop 70 = dktX1_checkPolicy_3 := dk_seg dksX1_checkPolicy_2 24 rfl rfl
theorem dksX1_checkPolicy_4 : cX1_checkPolicy.data.toList.drop 92 = dktX1_checkPolicy_4 := dk_seg dksX1_checkPolicy_3 22 rfl rfl
theorem dX1_checkPolicy_0 : decode cX1_checkPolicy 0 = .ok (.iload_n 1, 1) := dk_27 (dk_at dksX1_checkPolicy_0 0 rfl rfl)
theorem dX1_checkPolicy_1 : decode cX1_checkPolicy 1 = .ok (.i2l, 1) := dk_133 (dk_at dksX1_checkPolicy_0 1 rfl rfl)
theorem dX1_checkPolicy_2 : decode cX1_checkPolicy 2 = .ok (.lconst 0, 1) := dk_9 (dk_at dksX1_checkPolicy_0 2 rfl rfl)
theorem dX1_checkPolicy_3 : decode cX1_checkPolicy 3 = .ok (.ldc2_w 225, 3) := dk_20 0 225 (dk_at dksX1_checkPolicy_0 3 rfl rfl)
theorem dX1_checkPolicy_6 : decode cX1_checkPolicy 6 = .ok (.invokestatic 201, 3) := dk_184 0 201 (dk_at dksX1_checkPolicy_0 6 rfl rfl)
theorem dX1_checkPolicy_9 : decode cX1_checkPolicy 9 = .ok (.iload_n 2, 1) := dk_28 (dk_at dksX1_checkPolicy_0 9 rfl rfl)
theorem dX1_checkPolicy_10 : decode cX1_checkPolicy 10 = .ok (.i2l, 1) := dk_133 (dk_at dksX1_checkPolicy_0 10 rfl rfl)
theorem dX1_checkPolicy_11 : decode cX1_checkPolicy 11 = .ok (.ldc2_w 252, 3) := dk_20 0 252 (dk_at dksX1_checkPolicy_0 11 rfl rfl)
theorem dX1_checkPolicy_14 : decode cX1_checkPolicy 14 = .ok (.ldc2_w 254, 3) := dk_20 0 254 (dk_at dksX1_checkPolicy_0 14 rfl rfl)
theorem dX1_checkPolicy_17 : decode cX1_checkPolicy 17 = .ok (.invokestatic 201, 3) := dk_184 0 201 (dk_at dksX1_checkPolicy_0 17 rfl rfl)
theorem dX1_checkPolicy_20 : decode cX1_checkPolicy 20 = .ok (.iload_n 3, 1) := dk_29 (dk_at dksX1_checkPolicy_0 20 rfl rfl)
theorem dX1_checkPolicy_21 : decode cX1_checkPolicy 21 = .ok (.i2l, 1) := dk_133 (dk_at dksX1_checkPolicy_0 21 rfl rfl)
theorem dX1_checkPolicy_22 : decode cX1_checkPolicy 22 = .ok (.lconst 1, 1) := dk_10 (dk_at dksX1_checkPolicy_0 22 rfl rfl)
theorem dX1_checkPolicy_23 : decode cX1_checkPolicy 23 = .ok (.ldc2_w 256, 3) := dk_20 1 0 (dk_at dksX1_checkPolicy_1 0 rfl rfl)
theorem dX1_checkPolicy_26 : decode cX1_checkPolicy 26 = .ok (.invokestatic 201, 3) := dk_184 0 201 (dk_at dksX1_checkPolicy_1 3 rfl rfl)
theorem dX1_checkPolicy_29 : decode cX1_checkPolicy 29 = .ok (.iload 4, 2) := dk_21 4 (dk_at dksX1_checkPolicy_1 6 rfl rfl)
theorem dX1_checkPolicy_31 : decode cX1_checkPolicy 31 = .ok (.i2l, 1) := dk_133 (dk_at dksX1_checkPolicy_1 8 rfl rfl)
theorem dX1_checkPolicy_32 : decode cX1_checkPolicy 32 = .ok (.aload_n 0, 1) := dk_42 (dk_at dksX1_checkPolicy_1 9 rfl rfl)
theorem dX1_checkPolicy_33 : decode cX1_checkPolicy 33 = .ok (.getfield 63, 3) := dk_180 0 63 (dk_at dksX1_checkPolicy_1 10 rfl rfl)
theorem dX1_checkPolicy_36 : decode cX1_checkPolicy 36 = .ok (.i2l, 1) := dk_133 (dk_at dksX1_checkPolicy_1 13 rfl rfl)
theorem dX1_checkPolicy_37 : decode cX1_checkPolicy 37 = .ok (.ldc2_w 258, 3) := dk_20 1 2 (dk_at dksX1_checkPolicy_1 14 rfl rfl)
theorem dX1_checkPolicy_40 : decode cX1_checkPolicy 40 = .ok (.lsub, 1) := dk_101 (dk_at dksX1_checkPolicy_1 17 rfl rfl)
theorem dX1_checkPolicy_41 : decode cX1_checkPolicy 41 = .ok (.aload_n 0, 1) := dk_42 (dk_at dksX1_checkPolicy_1 18 rfl rfl)
theorem dX1_checkPolicy_42 : decode cX1_checkPolicy 42 = .ok (.getfield 63, 3) := dk_180 0 63 (dk_at dksX1_checkPolicy_1 19 rfl rfl)
theorem dX1_checkPolicy_45 : decode cX1_checkPolicy 45 = .ok (.i2l, 1) := dk_133 (dk_at dksX1_checkPolicy_1 22 rfl rfl)
theorem dX1_checkPolicy_46 : decode cX1_checkPolicy 46 = .ok (.invokestatic 201, 3) := dk_184 0 201 (dk_at dksX1_checkPolicy_2 0 rfl rfl)
theorem dX1_checkPolicy_49 : decode cX1_checkPolicy 49 = .ok (.iload_n 1, 1) := dk_27 (dk_at dksX1_checkPolicy_2 3 rfl rfl)
theorem dX1_checkPolicy_50 : decode cX1_checkPolicy 50 = .ok (.iconst 1, 1) := dk_4 (dk_at dksX1_checkPolicy_2 4 rfl rfl)
theorem dX1_checkPolicy_51 : decode cX1_checkPolicy 51 = .ok (.if_icmp .eq 8, 3) := dk_159 0 8 (dk_at dksX1_checkPolicy_2 5 rfl rfl)
theorem dX1_checkPolicy_54 : decode cX1_checkPolicy 54 = .ok (.iload_n 1, 1) := dk_27 (dk_at dksX1_checkPolicy_2 8 rfl rfl)
theorem dX1_checkPolicy_55 : decode cX1_checkPolicy 55 = .ok (.iconst 2, 1) := dk_5 (dk_at dksX1_checkPolicy_2 9 rfl rfl)
theorem dX1_checkPolicy_56 : decode cX1_checkPolicy 56 = .ok (.if_icmp .ne 20, 3) := dk_160 0 20 (dk_at dksX1_checkPolicy_2 10 rfl rfl)
theorem dX1_checkPolicy_59 : decode cX1_checkPolicy 59 = .ok (.aload_n 0, 1) := dk_42 (dk_at dksX1_checkPolicy_2 13 rfl rfl)
theorem dX1_checkPolicy_60 : decode cX1_checkPolicy 60 = .ok (.getfield 63, 3) := dk_180 0 63 (dk_at dksX1_checkPolicy_2 14 rfl rfl)
theorem dX1_checkPolicy_63 : decode cX1_checkPolicy 63 = .ok (.iload 4, 2) := dk_21 4 (dk_at dksX1_checkPolicy_2 17 rfl rfl)
theorem dX1_checkPolicy_65 : decode cX1_checkPolicy 65 = .ok (.isub, 1) := dk_100 (dk_at dksX1_checkPolicy_2 19 rfl rfl)
theorem dX1_checkPolicy_66 : decode cX1_checkPolicy 66 = .ok (.i2l, 1) := dk_133 (dk_at dksX1_checkPolicy_2 20 rfl rfl)
theorem dX1_checkPolicy_67 : decode cX1_checkPolicy 67 = .ok (.lconst 0, 1) := dk_9 (dk_at dksX1_checkPolicy_2 21 rfl rfl)
theorem dX1_checkPolicy_68 : decode cX1_checkPolicy 68 = .ok (.bipush 110, 2) := dk_16 110 (dk_at dksX1_checkPolicy_2 22 rfl rfl)
theorem dX1_checkPolicy_70 : decode cX1_checkPolicy 70 = .ok (.iload_n 3, 1) := dk_29 (dk_at dksX1_checkPolicy_3 0 rfl rfl)
theorem dX1_checkPolicy_71 : decode cX1_checkPolicy 71 = .ok (.isub, 1) := dk_100 (dk_at dksX1_checkPolicy_3 1 rfl rfl)
theorem dX1_checkPolicy_72 : decode cX1_checkPolicy 72 = .ok (.i2l, 1) := dk_133 (dk_at dksX1_checkPolicy_3 2 rfl rfl)
theorem dX1_checkPolicy_73 : decode cX1_checkPolicy 73 = .ok (.invokestatic 201, 3) := dk_184 0 201 (dk_at dksX1_checkPolicy_3 3 rfl rfl)
theorem dX1_checkPolicy_76 : decode cX1_checkPolicy 76 = .ok (.iload 5, 2) := dk_21 5 (dk_at dksX1_checkPolicy_3 6 rfl rfl)
theorem dX1_checkPolicy_78 : decode cX1_checkPolicy 78 = .ok (.i2l, 1) := dk_133 (dk_at dksX1_checkPolicy_3 8 rfl rfl)
theorem dX1_checkPolicy_79 : decode cX1_checkPolicy 79 = .ok (.lconst 0, 1) := dk_9 (dk_at dksX1_checkPolicy_3 9 rfl rfl)
theorem dX1_checkPolicy_80 : decode cX1_checkPolicy 80 = .ok (.iload_n 1, 1) := dk_27 (dk_at dksX1_checkPolicy_3 10 rfl rfl)
theorem dX1_checkPolicy_81 : decode cX1_checkPolicy 81 = .ok (.ifCond .eq 8, 3) := dk_153 0 8 (dk_at dksX1_checkPolicy_3 11 rfl rfl)
theorem dX1_checkPolicy_84 : decode cX1_checkPolicy 84 = .ok (.iload_n 1, 1) := dk_27 (dk_at dksX1_checkPolicy_3 14 rfl rfl)
theorem dX1_checkPolicy_85 : decode cX1_checkPolicy 85 = .ok (.iconst 1, 1) := dk_4 (dk_at dksX1_checkPolicy_3 15 rfl rfl)
theorem dX1_checkPolicy_86 : decode cX1_checkPolicy 86 = .ok (.if_icmp .ne 9, 3) := dk_160 0 9 (dk_at dksX1_checkPolicy_3 16 rfl rfl)
theorem dX1_checkPolicy_89 : decode cX1_checkPolicy 89 = .ok (.ldc2_w 260, 3) := dk_20 1 4 (dk_at dksX1_checkPolicy_3 19 rfl rfl)
theorem dX1_checkPolicy_92 : decode cX1_checkPolicy 92 = .ok (.goto 6, 3) := dk_167 0 6 (dk_at dksX1_checkPolicy_4 0 rfl rfl)
theorem dX1_checkPolicy_95 : decode cX1_checkPolicy 95 = .ok (.ldc2_w 225, 3) := dk_20 0 225 (dk_at dksX1_checkPolicy_4 3 rfl rfl)
theorem dX1_checkPolicy_98 : decode cX1_checkPolicy 98 = .ok (.invokestatic 201, 3) := dk_184 0 201 (dk_at dksX1_checkPolicy_4 6 rfl rfl)
theorem dX1_checkPolicy_101 : decode cX1_checkPolicy 101 = .ok (.iload 6, 2) := dk_21 6 (dk_at dksX1_checkPolicy_4 9 rfl rfl)
theorem dX1_checkPolicy_103 : decode cX1_checkPolicy 103 = .ok (.i2l, 1) := dk_133 (dk_at dksX1_checkPolicy_4 11 rfl rfl)
theorem dX1_checkPolicy_104 : decode cX1_checkPolicy 104 = .ok (.lconst 0, 1) := dk_9 (dk_at dksX1_checkPolicy_4 12 rfl rfl)
theorem dX1_checkPolicy_105 : decode cX1_checkPolicy 105 = .ok (.ldc2_w 262, 3) := dk_20 1 6 (dk_at dksX1_checkPolicy_4 13 rfl rfl)
theorem dX1_checkPolicy_108 : decode cX1_checkPolicy 108 = .ok (.invokestatic 201, 3) := dk_184 0 201 (dk_at dksX1_checkPolicy_4 16 rfl rfl)
theorem dX1_checkPolicy_111 : decode cX1_checkPolicy 111 = .ok (.return_, 1) := dk_177 (dk_at dksX1_checkPolicy_4 19 rfl rfl)
abbrev cX1_issue : ByteArray := prog_1_method_25_code
def yX1_issue : MethodName := ⟨RX1, "issue", "(IIIIII)I"⟩
def dkwX1_issue_5 : List UInt8 := [172]
abbrev dktX1_issue_5 : List UInt8 := dkwX1_issue_5 ++ []
def dkwX1_issue_4 : List UInt8 := [182, 1, 34, 87, 42, 25, 7, 182, 1, 37, 89, 180, 1, 41, 4, 96, 181, 1, 41, 25, 7, 180, 1, 43]
abbrev dktX1_issue_4 : List UInt8 := dkwX1_issue_4 ++ dktX1_issue_5
def dkwX1_issue_3 : List UInt8 := [182, 0, 137, 27, 28, 29, 21, 4, 21, 5, 21, 6, 183, 1, 12, 58, 7, 42, 180, 0, 30, 25, 7]
abbrev dktX1_issue_3 : List UInt8 := dkwX1_issue_3 ++ dktX1_issue_4
def dkwX1_issue_2 : List UInt8 := [17, 8, 102, 162, 0, 7, 4, 167, 0, 4, 3, 184, 1, 30, 187, 0, 148, 89, 42, 42, 180, 0, 30]
abbrev dktX1_issue_2 : List UInt8 := dkwX1_issue_2 ++ dktX1_issue_3
def dkwX1_issue_1 : List UInt8 := [162, 0, 32, 42, 180, 0, 121, 154, 0, 25, 21, 6, 17, 0, 150, 163, 0, 17, 42, 180, 0, 63]
abbrev dktX1_issue_1 : List UInt8 := dkwX1_issue_1 ++ dktX1_issue_2
def dkwX1_issue_0 : List UInt8 := [42, 27, 28, 29, 21, 4, 21, 5, 21, 6, 182, 1, 8, 42, 180, 0, 30, 182, 0, 137, 16, 24]
abbrev dktX1_issue_0 : List UInt8 := dkwX1_issue_0 ++ dktX1_issue_1
theorem dksX1_issue_0 : cX1_issue.data.toList.drop 0 = dktX1_issue_0 := by decide +kernel
theorem dksX1_issue_1 : cX1_issue.data.toList.drop 22 = dktX1_issue_1 := dk_seg dksX1_issue_0 22 rfl rfl
theorem dksX1_issue_2 : cX1_issue.data.toList.drop 44 = dktX1_issue_2 := dk_seg dksX1_issue_1 22 rfl rfl
theorem dksX1_issue_3 : cX1_issue.data.toList.drop 67 = dktX1_issue_3 := dk_seg dksX1_issue_2 23 rfl rfl
theorem dksX1_issue_4 : cX1_issue.data.toList.drop 90 = dktX1_issue_4 := dk_seg dksX1_issue_3 23 rfl rfl
theorem dksX1_issue_5 : cX1_issue.data.toList.drop 114 = dktX1_issue_5 := dk_seg dksX1_issue_4 24 rfl rfl
theorem dX1_issue_0 : decode cX1_issue 0 = .ok (.aload_n 0, 1) := dk_42 (dk_at dksX1_issue_0 0 rfl rfl)
theorem dX1_issue_1 : decode cX1_issue 1 = .ok (.iload_n 1, 1) := dk_27 (dk_at dksX1_issue_0 1 rfl rfl)
theorem dX1_issue_2 : decode cX1_issue 2 = .ok (.iload_n 2, 1) := dk_28 (dk_at dksX1_issue_0 2 rfl rfl)
theorem dX1_issue_3 : decode cX1_issue 3 = .ok (.iload_n 3, 1) := dk_29 (dk_at dksX1_issue_0 3 rfl rfl)
theorem dX1_issue_4 : decode cX1_issue 4 = .ok (.iload 4, 2) := dk_21 4 (dk_at dksX1_issue_0 4 rfl rfl)
theorem dX1_issue_6 : decode cX1_issue 6 = .ok (.iload 5, 2) := dk_21 5 (dk_at dksX1_issue_0 6 rfl rfl)
theorem dX1_issue_8 : decode cX1_issue 8 = .ok (.iload 6, 2) := dk_21 6 (dk_at dksX1_issue_0 8 rfl rfl)
theorem dX1_issue_10 : decode cX1_issue 10 = .ok (.invokevirtual 264, 3) := dk_182 1 8 (dk_at dksX1_issue_0 10 rfl rfl)
theorem dX1_issue_13 : decode cX1_issue 13 = .ok (.aload_n 0, 1) := dk_42 (dk_at dksX1_issue_0 13 rfl rfl)
theorem dX1_issue_14 : decode cX1_issue 14 = .ok (.getfield 30, 3) := dk_180 0 30 (dk_at dksX1_issue_0 14 rfl rfl)
theorem dX1_issue_17 : decode cX1_issue 17 = .ok (.invokevirtual 137, 3) := dk_182 0 137 (dk_at dksX1_issue_0 17 rfl rfl)
theorem dX1_issue_20 : decode cX1_issue 20 = .ok (.bipush 24, 2) := dk_16 24 (dk_at dksX1_issue_0 20 rfl rfl)
theorem dX1_issue_22 : decode cX1_issue 22 = .ok (.if_icmp .ge 32, 3) := dk_162 0 32 (dk_at dksX1_issue_1 0 rfl rfl)
theorem dX1_issue_25 : decode cX1_issue 25 = .ok (.aload_n 0, 1) := dk_42 (dk_at dksX1_issue_1 3 rfl rfl)
theorem dX1_issue_26 : decode cX1_issue 26 = .ok (.getfield 121, 3) := dk_180 0 121 (dk_at dksX1_issue_1 4 rfl rfl)
theorem dX1_issue_29 : decode cX1_issue 29 = .ok (.ifCond .ne 25, 3) := dk_154 0 25 (dk_at dksX1_issue_1 7 rfl rfl)
theorem dX1_issue_32 : decode cX1_issue 32 = .ok (.iload 6, 2) := dk_21 6 (dk_at dksX1_issue_1 10 rfl rfl)
theorem dX1_issue_34 : decode cX1_issue 34 = .ok (.sipush 150, 3) := dk_17 0 150 (dk_at dksX1_issue_1 12 rfl rfl)
theorem dX1_issue_37 : decode cX1_issue 37 = .ok (.if_icmp .gt 17, 3) := dk_163 0 17 (dk_at dksX1_issue_1 15 rfl rfl)
theorem dX1_issue_40 : decode cX1_issue 40 = .ok (.aload_n 0, 1) := dk_42 (dk_at dksX1_issue_1 18 rfl rfl)
theorem dX1_issue_41 : decode cX1_issue 41 = .ok (.getfield 63, 3) := dk_180 0 63 (dk_at dksX1_issue_1 19 rfl rfl)
theorem dX1_issue_44 : decode cX1_issue 44 = .ok (.sipush 2150, 3) := dk_17 8 102 (dk_at dksX1_issue_2 0 rfl rfl)
theorem dX1_issue_47 : decode cX1_issue 47 = .ok (.if_icmp .ge 7, 3) := dk_162 0 7 (dk_at dksX1_issue_2 3 rfl rfl)
theorem dX1_issue_50 : decode cX1_issue 50 = .ok (.iconst 1, 1) := dk_4 (dk_at dksX1_issue_2 6 rfl rfl)
theorem dX1_issue_51 : decode cX1_issue 51 = .ok (.goto 4, 3) := dk_167 0 4 (dk_at dksX1_issue_2 7 rfl rfl)
theorem dX1_issue_54 : decode cX1_issue 54 = .ok (.iconst 0, 1) := dk_3 (dk_at dksX1_issue_2 10 rfl rfl)
theorem dX1_issue_55 : decode cX1_issue 55 = .ok (.invokestatic 286, 3) := dk_184 1 30 (dk_at dksX1_issue_2 11 rfl rfl)
theorem dX1_issue_58 : decode cX1_issue 58 = .ok (.new 148, 3) := dk_187 0 148 (dk_at dksX1_issue_2 14 rfl rfl)
theorem dX1_issue_61 : decode cX1_issue 61 = .ok (.dup, 1) := dk_89 (dk_at dksX1_issue_2 17 rfl rfl)
theorem dX1_issue_62 : decode cX1_issue 62 = .ok (.aload_n 0, 1) := dk_42 (dk_at dksX1_issue_2 18 rfl rfl)
theorem dX1_issue_63 : decode cX1_issue 63 = .ok (.aload_n 0, 1) := dk_42 (dk_at dksX1_issue_2 19 rfl rfl)
theorem dX1_issue_64 : decode cX1_issue 64 = .ok (.getfield 30, 3) := dk_180 0 30 (dk_at dksX1_issue_2 20 rfl rfl)
theorem dX1_issue_67 : decode cX1_issue 67 = .ok (.invokevirtual 137, 3) := dk_182 0 137 (dk_at dksX1_issue_3 0 rfl rfl)
theorem dX1_issue_70 : decode cX1_issue 70 = .ok (.iload_n 1, 1) := dk_27 (dk_at dksX1_issue_3 3 rfl rfl)
theorem dX1_issue_71 : decode cX1_issue 71 = .ok (.iload_n 2, 1) := dk_28 (dk_at dksX1_issue_3 4 rfl rfl)
theorem dX1_issue_72 : decode cX1_issue 72 = .ok (.iload_n 3, 1) := dk_29 (dk_at dksX1_issue_3 5 rfl rfl)
theorem dX1_issue_73 : decode cX1_issue 73 = .ok (.iload 4, 2) := dk_21 4 (dk_at dksX1_issue_3 6 rfl rfl)
theorem dX1_issue_75 : decode cX1_issue 75 = .ok (.iload 5, 2) := dk_21 5 (dk_at dksX1_issue_3 8 rfl rfl)
theorem dX1_issue_77 : decode cX1_issue 77 = .ok (.iload 6, 2) := dk_21 6 (dk_at dksX1_issue_3 10 rfl rfl)
theorem dX1_issue_79 : decode cX1_issue 79 = .ok (.invokespecial 268, 3) := dk_183 1 12 (dk_at dksX1_issue_3 12 rfl rfl)
theorem dX1_issue_82 : decode cX1_issue 82 = .ok (.astore 7, 2) := dk_58 7 (dk_at dksX1_issue_3 15 rfl rfl)
theorem dX1_issue_84 : decode cX1_issue 84 = .ok (.aload_n 0, 1) := dk_42 (dk_at dksX1_issue_3 17 rfl rfl)
theorem dX1_issue_85 : decode cX1_issue 85 = .ok (.getfield 30, 3) := dk_180 0 30 (dk_at dksX1_issue_3 18 rfl rfl)
theorem dX1_issue_88 : decode cX1_issue 88 = .ok (.aload 7, 2) := dk_25 7 (dk_at dksX1_issue_3 21 rfl rfl)
theorem dX1_issue_90 : decode cX1_issue 90 = .ok (.invokevirtual 290, 3) := dk_182 1 34 (dk_at dksX1_issue_4 0 rfl rfl)
theorem dX1_issue_93 : decode cX1_issue 93 = .ok (.pop, 1) := dk_87 (dk_at dksX1_issue_4 3 rfl rfl)
theorem dX1_issue_94 : decode cX1_issue 94 = .ok (.aload_n 0, 1) := dk_42 (dk_at dksX1_issue_4 4 rfl rfl)
theorem dX1_issue_95 : decode cX1_issue 95 = .ok (.aload 7, 2) := dk_25 7 (dk_at dksX1_issue_4 5 rfl rfl)
theorem dX1_issue_97 : decode cX1_issue 97 = .ok (.invokevirtual 293, 3) := dk_182 1 37 (dk_at dksX1_issue_4 7 rfl rfl)
theorem dX1_issue_100 : decode cX1_issue 100 = .ok (.dup, 1) := dk_89 (dk_at dksX1_issue_4 10 rfl rfl)
theorem dX1_issue_101 : decode cX1_issue 101 = .ok (.getfield 297, 3) := dk_180 1 41 (dk_at dksX1_issue_4 11 rfl rfl)
theorem dX1_issue_104 : decode cX1_issue 104 = .ok (.iconst 1, 1) := dk_4 (dk_at dksX1_issue_4 14 rfl rfl)
theorem dX1_issue_105 : decode cX1_issue 105 = .ok (.iadd, 1) := dk_96 (dk_at dksX1_issue_4 15 rfl rfl)
theorem dX1_issue_106 : decode cX1_issue 106 = .ok (.putfield 297, 3) := dk_181 1 41 (dk_at dksX1_issue_4 16 rfl rfl)
theorem dX1_issue_109 : decode cX1_issue 109 = .ok (.aload 7, 2) := dk_25 7 (dk_at dksX1_issue_4 19 rfl rfl)
theorem dX1_issue_111 : decode cX1_issue 111 = .ok (.getfield 299, 3) := dk_180 1 43 (dk_at dksX1_issue_4 21 rfl rfl)
theorem dX1_issue_114 : decode cX1_issue 114 = .ok (.ireturn, 1) := dk_172 (dk_at dksX1_issue_5 0 rfl rfl)
abbrev cX1_checkState : ByteArray := prog_1_method_7_code
def yX1_checkState : MethodName := ⟨RX1, "checkState", "(Z)V"⟩
def dkwX1_checkState_0 : List UInt8 := [26, 154, 0, 11, 187, 0, 134, 89, 183, 0, 136, 191, 177]
abbrev dktX1_checkState_0 : List UInt8 := dkwX1_checkState_0 ++ []
theorem dksX1_checkState_0 : cX1_checkState.data.toList.drop 0 = dktX1_checkState_0 := by decide +kernel
theorem dX1_checkState_0 : decode cX1_checkState 0 = .ok (.iload_n 0, 1) := dk_26 (dk_at dksX1_checkState_0 0 rfl rfl)
theorem dX1_checkState_1 : decode cX1_checkState 1 = .ok (.ifCond .ne 11, 3) := dk_154 0 11 (dk_at dksX1_checkState_0 1 rfl rfl)
theorem dX1_checkState_4 : decode cX1_checkState 4 = .ok (.new 134, 3) := dk_187 0 134 (dk_at dksX1_checkState_0 4 rfl rfl)
theorem dX1_checkState_7 : decode cX1_checkState 7 = .ok (.dup, 1) := dk_89 (dk_at dksX1_checkState_0 7 rfl rfl)
theorem dX1_checkState_8 : decode cX1_checkState 8 = .ok (.invokespecial 136, 3) := dk_183 0 136 (dk_at dksX1_checkState_0 8 rfl rfl)
theorem dX1_checkState_11 : decode cX1_checkState 11 = .ok (.athrow, 1) := dk_191 (dk_at dksX1_checkState_0 11 rfl rfl)
theorem dX1_checkState_12 : decode cX1_checkState 12 = .ok (.return_, 1) := dk_177 (dk_at dksX1_checkState_0 12 rfl rfl)
abbrev cX1_generationOf : ByteArray := prog_1_method_24_code
def yX1_generationOf : MethodName := ⟨RX1, "generationOf", "(LLifeoffice$Policy;)LLifeoffice$Generation;"⟩
def dkwX1_generationOf_2 : List UInt8 := [184, 0, 187, 45, 182, 1, 26, 87, 45, 176]
abbrev dktX1_generationOf_2 : List UInt8 := dkwX1_generationOf_2 ++ []
def dkwX1_generationOf_1 : List UInt8 := [192, 1, 23, 78, 45, 198, 0, 5, 45, 176, 187, 1, 23, 89, 183, 1, 25, 78, 42, 180, 0, 44, 28]
abbrev dktX1_generationOf_1 : List UInt8 := dkwX1_generationOf_1 ++ dktX1_generationOf_2
def dkwX1_generationOf_0 : List UInt8 := [43, 180, 1, 18, 16, 10, 108, 16, 10, 104, 61, 42, 180, 0, 44, 28, 184, 0, 187, 182, 1, 20]
abbrev dktX1_generationOf_0 : List UInt8 := dkwX1_generationOf_0 ++ dktX1_generationOf_1
theorem dksX1_generationOf_0 : cX1_generationOf.data.toList.drop 0 = dktX1_generationOf_0 := by decide +kernel
theorem dksX1_generationOf_1 : cX1_generationOf.data.toList.drop 22 = dktX1_generationOf_1 := dk_seg dksX1_generationOf_0 22 rfl rfl
theorem dksX1_generationOf_2 : cX1_generationOf.data.toList.drop 45 = dktX1_generationOf_2 := dk_seg dksX1_generationOf_1 23 rfl rfl
theorem dX1_generationOf_0 : decode cX1_generationOf 0 = .ok (.aload_n 1, 1) := dk_43 (dk_at dksX1_generationOf_0 0 rfl rfl)
theorem dX1_generationOf_1 : decode cX1_generationOf 1 = .ok (.getfield 274, 3) := dk_180 1 18 (dk_at dksX1_generationOf_0 1 rfl rfl)
theorem dX1_generationOf_4 : decode cX1_generationOf 4 = .ok (.bipush 10, 2) := dk_16 10 (dk_at dksX1_generationOf_0 4 rfl rfl)
theorem dX1_generationOf_6 : decode cX1_generationOf 6 = .ok (.idiv, 1) := dk_108 (dk_at dksX1_generationOf_0 6 rfl rfl)
theorem dX1_generationOf_7 : decode cX1_generationOf 7 = .ok (.bipush 10, 2) := dk_16 10 (dk_at dksX1_generationOf_0 7 rfl rfl)
theorem dX1_generationOf_9 : decode cX1_generationOf 9 = .ok (.imul, 1) := dk_104 (dk_at dksX1_generationOf_0 9 rfl rfl)
theorem dX1_generationOf_10 : decode cX1_generationOf 10 = .ok (.istore_n 2, 1) := dk_61 (dk_at dksX1_generationOf_0 10 rfl rfl)
theorem dX1_generationOf_11 : decode cX1_generationOf 11 = .ok (.aload_n 0, 1) := dk_42 (dk_at dksX1_generationOf_0 11 rfl rfl)
theorem dX1_generationOf_12 : decode cX1_generationOf 12 = .ok (.getfield 44, 3) := dk_180 0 44 (dk_at dksX1_generationOf_0 12 rfl rfl)
theorem dX1_generationOf_15 : decode cX1_generationOf 15 = .ok (.iload_n 2, 1) := dk_28 (dk_at dksX1_generationOf_0 15 rfl rfl)
theorem dX1_generationOf_16 : decode cX1_generationOf 16 = .ok (.invokestatic 187, 3) := dk_184 0 187 (dk_at dksX1_generationOf_0 16 rfl rfl)
theorem dX1_generationOf_19 : decode cX1_generationOf 19 = .ok (.invokevirtual 276, 3) := dk_182 1 20 (dk_at dksX1_generationOf_0 19 rfl rfl)
theorem dX1_generationOf_22 : decode cX1_generationOf 22 = .ok (.checkcast 279, 3) := dk_192 1 23 (dk_at dksX1_generationOf_1 0 rfl rfl)
theorem dX1_generationOf_25 : decode cX1_generationOf 25 = .ok (.astore_n 3, 1) := dk_78 (dk_at dksX1_generationOf_1 3 rfl rfl)
theorem dX1_generationOf_26 : decode cX1_generationOf 26 = .ok (.aload_n 3, 1) := dk_45 (dk_at dksX1_generationOf_1 4 rfl rfl)
theorem dX1_generationOf_27 : decode cX1_generationOf 27 = .ok (.ifnull 5, 3) := dk_198 0 5 (dk_at dksX1_generationOf_1 5 rfl rfl)
theorem dX1_generationOf_30 : decode cX1_generationOf 30 = .ok (.aload_n 3, 1) := dk_45 (dk_at dksX1_generationOf_1 8 rfl rfl)
theorem dX1_generationOf_31 : decode cX1_generationOf 31 = .ok (.areturn, 1) := dk_176 (dk_at dksX1_generationOf_1 9 rfl rfl)
theorem dX1_generationOf_32 : decode cX1_generationOf 32 = .ok (.new 279, 3) := dk_187 1 23 (dk_at dksX1_generationOf_1 10 rfl rfl)
theorem dX1_generationOf_35 : decode cX1_generationOf 35 = .ok (.dup, 1) := dk_89 (dk_at dksX1_generationOf_1 13 rfl rfl)
theorem dX1_generationOf_36 : decode cX1_generationOf 36 = .ok (.invokespecial 281, 3) := dk_183 1 25 (dk_at dksX1_generationOf_1 14 rfl rfl)
theorem dX1_generationOf_39 : decode cX1_generationOf 39 = .ok (.astore_n 3, 1) := dk_78 (dk_at dksX1_generationOf_1 17 rfl rfl)
theorem dX1_generationOf_40 : decode cX1_generationOf 40 = .ok (.aload_n 0, 1) := dk_42 (dk_at dksX1_generationOf_1 18 rfl rfl)
theorem dX1_generationOf_41 : decode cX1_generationOf 41 = .ok (.getfield 44, 3) := dk_180 0 44 (dk_at dksX1_generationOf_1 19 rfl rfl)
theorem dX1_generationOf_44 : decode cX1_generationOf 44 = .ok (.iload_n 2, 1) := dk_28 (dk_at dksX1_generationOf_1 22 rfl rfl)
theorem dX1_generationOf_45 : decode cX1_generationOf 45 = .ok (.invokestatic 187, 3) := dk_184 0 187 (dk_at dksX1_generationOf_2 0 rfl rfl)
theorem dX1_generationOf_48 : decode cX1_generationOf 48 = .ok (.aload_n 3, 1) := dk_45 (dk_at dksX1_generationOf_2 3 rfl rfl)
theorem dX1_generationOf_49 : decode cX1_generationOf 49 = .ok (.invokevirtual 282, 3) := dk_182 1 26 (dk_at dksX1_generationOf_2 4 rfl rfl)
theorem dX1_generationOf_52 : decode cX1_generationOf 52 = .ok (.pop, 1) := dk_87 (dk_at dksX1_generationOf_2 7 rfl rfl)
theorem dX1_generationOf_53 : decode cX1_generationOf 53 = .ok (.aload_n 3, 1) := dk_45 (dk_at dksX1_generationOf_2 8 rfl rfl)
theorem dX1_generationOf_54 : decode cX1_generationOf 54 = .ok (.areturn, 1) := dk_176 (dk_at dksX1_generationOf_2 9 rfl rfl)
abbrev cX1_stateOf : ByteArray := prog_1_method_27_code
def yX1_stateOf : MethodName := ⟨RX1, "stateOf", "(I)I"⟩
def dkwX1_stateOf_0 : List UInt8 := [42, 27, 182, 1, 46, 180, 1, 50, 172]
abbrev dktX1_stateOf_0 : List UInt8 := dkwX1_stateOf_0 ++ []
theorem dksX1_stateOf_0 : cX1_stateOf.data.toList.drop 0 = dktX1_stateOf_0 := by decide +kernel
theorem dX1_stateOf_0 : decode cX1_stateOf 0 = .ok (.aload_n 0, 1) := dk_42 (dk_at dksX1_stateOf_0 0 rfl rfl)
theorem dX1_stateOf_1 : decode cX1_stateOf 1 = .ok (.iload_n 1, 1) := dk_27 (dk_at dksX1_stateOf_0 1 rfl rfl)
theorem dX1_stateOf_2 : decode cX1_stateOf 2 = .ok (.invokevirtual 302, 3) := dk_182 1 46 (dk_at dksX1_stateOf_0 2 rfl rfl)
theorem dX1_stateOf_5 : decode cX1_stateOf 5 = .ok (.getfield 306, 3) := dk_180 1 50 (dk_at dksX1_stateOf_0 5 rfl rfl)
theorem dX1_stateOf_8 : decode cX1_stateOf 8 = .ok (.ireturn, 1) := dk_172 (dk_at dksX1_stateOf_0 8 rfl rfl)
abbrev cX1_policy : ByteArray := prog_1_method_8_code
def yX1_policy : MethodName := ⟨RX1, "policy", "(I)LLifeoffice$Policy;"⟩
def dkwX1_policy_0 : List UInt8 := [27, 42, 180, 0, 30, 182, 0, 137, 184, 0, 141, 42, 180, 0, 30, 27, 182, 0, 144, 192, 0, 148, 176]
abbrev dktX1_policy_0 : List UInt8 := dkwX1_policy_0 ++ []
theorem dksX1_policy_0 : cX1_policy.data.toList.drop 0 = dktX1_policy_0 := by decide +kernel
theorem dX1_policy_0 : decode cX1_policy 0 = .ok (.iload_n 1, 1) := dk_27 (dk_at dksX1_policy_0 0 rfl rfl)
theorem dX1_policy_1 : decode cX1_policy 1 = .ok (.aload_n 0, 1) := dk_42 (dk_at dksX1_policy_0 1 rfl rfl)
theorem dX1_policy_2 : decode cX1_policy 2 = .ok (.getfield 30, 3) := dk_180 0 30 (dk_at dksX1_policy_0 2 rfl rfl)
theorem dX1_policy_5 : decode cX1_policy 5 = .ok (.invokevirtual 137, 3) := dk_182 0 137 (dk_at dksX1_policy_0 5 rfl rfl)
theorem dX1_policy_8 : decode cX1_policy 8 = .ok (.invokestatic 141, 3) := dk_184 0 141 (dk_at dksX1_policy_0 8 rfl rfl)
theorem dX1_policy_11 : decode cX1_policy 11 = .ok (.aload_n 0, 1) := dk_42 (dk_at dksX1_policy_0 11 rfl rfl)
theorem dX1_policy_12 : decode cX1_policy 12 = .ok (.getfield 30, 3) := dk_180 0 30 (dk_at dksX1_policy_0 12 rfl rfl)
theorem dX1_policy_15 : decode cX1_policy 15 = .ok (.iload_n 1, 1) := dk_27 (dk_at dksX1_policy_0 15 rfl rfl)
theorem dX1_policy_16 : decode cX1_policy 16 = .ok (.invokevirtual 144, 3) := dk_182 0 144 (dk_at dksX1_policy_0 16 rfl rfl)
theorem dX1_policy_19 : decode cX1_policy 19 = .ok (.checkcast 148, 3) := dk_192 0 148 (dk_at dksX1_policy_0 19 rfl rfl)
theorem dX1_policy_22 : decode cX1_policy 22 = .ok (.areturn, 1) := dk_176 (dk_at dksX1_policy_0 22 rfl rfl)
abbrev cX1_policyAt : ByteArray := prog_1_method_28_code
def yX1_policyAt : MethodName := ⟨RX1, "policyAt", "(II)J"⟩
def dkwX1_policyAt_4 : List UInt8 := [45, 180, 1, 18, 133, 167, 0, 8, 45, 180, 1, 66, 133, 173]
abbrev dktX1_policyAt_4 : List UInt8 := dkwX1_policyAt_4 ++ []
def dkwX1_policyAt_3 : List UInt8 := [180, 1, 59, 167, 0, 34, 45, 180, 0, 154, 167, 0, 27, 45, 42, 180, 0, 63, 182, 1, 62, 167, 0, 16]
abbrev dktX1_policyAt_3 : List UInt8 := dkwX1_policyAt_3 ++ dktX1_policyAt_4
def dkwX1_policyAt_2 : List UInt8 := [45, 180, 1, 15, 167, 0, 55, 45, 180, 1, 53, 167, 0, 48, 45, 180, 1, 56, 167, 0, 41, 45]
abbrev dktX1_policyAt_2 : List UInt8 := dkwX1_policyAt_2 ++ dktX1_policyAt_3
def dkwX1_policyAt_1 : List UInt8 := [170, 0, 0, 0, 0, 0, 0, 98, 0, 0, 0, 0, 0, 0, 0, 6, 0, 0, 0, 44, 0, 0, 0, 51, 0, 0, 0, 58, 0, 0, 0, 65, 0, 0, 0, 72, 0, 0, 0, 79, 0, 0, 0, 90]
abbrev dktX1_policyAt_1 : List UInt8 := dkwX1_policyAt_1 ++ dktX1_policyAt_2
def dkwX1_policyAt_0 : List UInt8 := [42, 27, 182, 1, 46, 78, 28, 133, 9, 20, 1, 4, 184, 0, 201, 28]
abbrev dktX1_policyAt_0 : List UInt8 := dkwX1_policyAt_0 ++ dktX1_policyAt_1
theorem dksX1_policyAt_0 : cX1_policyAt.data.toList.drop 0 = dktX1_policyAt_0 := by decide +kernel
theorem dksX1_policyAt_1 : cX1_policyAt.data.toList.drop 16 = dktX1_policyAt_1 := dk_seg dksX1_policyAt_0 16 rfl rfl
theorem dksX1_policyAt_2 : cX1_policyAt.data.toList.drop 60 = dktX1_policyAt_2 := dk_seg dksX1_policyAt_1 44 rfl rfl
theorem dksX1_policyAt_3 : cX1_policyAt.data.toList.drop 82 = dktX1_policyAt_3 := dk_seg dksX1_policyAt_2 22 rfl rfl
theorem dksX1_policyAt_4 : cX1_policyAt.data.toList.drop 106 = dktX1_policyAt_4 := dk_seg dksX1_policyAt_3 24 rfl rfl
theorem dX1_policyAt_0 : decode cX1_policyAt 0 = .ok (.aload_n 0, 1) := dk_42 (dk_at dksX1_policyAt_0 0 rfl rfl)
theorem dX1_policyAt_1 : decode cX1_policyAt 1 = .ok (.iload_n 1, 1) := dk_27 (dk_at dksX1_policyAt_0 1 rfl rfl)
theorem dX1_policyAt_2 : decode cX1_policyAt 2 = .ok (.invokevirtual 302, 3) := dk_182 1 46 (dk_at dksX1_policyAt_0 2 rfl rfl)
theorem dX1_policyAt_5 : decode cX1_policyAt 5 = .ok (.astore_n 3, 1) := dk_78 (dk_at dksX1_policyAt_0 5 rfl rfl)
theorem dX1_policyAt_6 : decode cX1_policyAt 6 = .ok (.iload_n 2, 1) := dk_28 (dk_at dksX1_policyAt_0 6 rfl rfl)
theorem dX1_policyAt_7 : decode cX1_policyAt 7 = .ok (.i2l, 1) := dk_133 (dk_at dksX1_policyAt_0 7 rfl rfl)
theorem dX1_policyAt_8 : decode cX1_policyAt 8 = .ok (.lconst 0, 1) := dk_9 (dk_at dksX1_policyAt_0 8 rfl rfl)
theorem dX1_policyAt_9 : decode cX1_policyAt 9 = .ok (.ldc2_w 260, 3) := dk_20 1 4 (dk_at dksX1_policyAt_0 9 rfl rfl)
theorem dX1_policyAt_12 : decode cX1_policyAt 12 = .ok (.invokestatic 201, 3) := dk_184 0 201 (dk_at dksX1_policyAt_0 12 rfl rfl)
theorem dX1_policyAt_15 : decode cX1_policyAt 15 = .ok (.iload_n 2, 1) := dk_28 (dk_at dksX1_policyAt_0 15 rfl rfl)
theorem dX1_policyAt_16 : decode cX1_policyAt 16 = .ok (.tableswitch 98 0 6 #[44, 51, 58, 65, 72, 79, 90], 44) := by decide +kernel
theorem dX1_policyAt_60 : decode cX1_policyAt 60 = .ok (.aload_n 3, 1) := dk_45 (dk_at dksX1_policyAt_2 0 rfl rfl)
theorem dX1_policyAt_61 : decode cX1_policyAt 61 = .ok (.getfield 271, 3) := dk_180 1 15 (dk_at dksX1_policyAt_2 1 rfl rfl)
theorem dX1_policyAt_64 : decode cX1_policyAt 64 = .ok (.goto 55, 3) := dk_167 0 55 (dk_at dksX1_policyAt_2 4 rfl rfl)
theorem dX1_policyAt_67 : decode cX1_policyAt 67 = .ok (.aload_n 3, 1) := dk_45 (dk_at dksX1_policyAt_2 7 rfl rfl)
theorem dX1_policyAt_68 : decode cX1_policyAt 68 = .ok (.getfield 309, 3) := dk_180 1 53 (dk_at dksX1_policyAt_2 8 rfl rfl)
theorem dX1_policyAt_71 : decode cX1_policyAt 71 = .ok (.goto 48, 3) := dk_167 0 48 (dk_at dksX1_policyAt_2 11 rfl rfl)
theorem dX1_policyAt_74 : decode cX1_policyAt 74 = .ok (.aload_n 3, 1) := dk_45 (dk_at dksX1_policyAt_2 14 rfl rfl)
theorem dX1_policyAt_75 : decode cX1_policyAt 75 = .ok (.getfield 312, 3) := dk_180 1 56 (dk_at dksX1_policyAt_2 15 rfl rfl)
theorem dX1_policyAt_78 : decode cX1_policyAt 78 = .ok (.goto 41, 3) := dk_167 0 41 (dk_at dksX1_policyAt_2 18 rfl rfl)
theorem dX1_policyAt_81 : decode cX1_policyAt 81 = .ok (.aload_n 3, 1) := dk_45 (dk_at dksX1_policyAt_2 21 rfl rfl)
theorem dX1_policyAt_82 : decode cX1_policyAt 82 = .ok (.getfield 315, 3) := dk_180 1 59 (dk_at dksX1_policyAt_3 0 rfl rfl)
theorem dX1_policyAt_85 : decode cX1_policyAt 85 = .ok (.goto 34, 3) := dk_167 0 34 (dk_at dksX1_policyAt_3 3 rfl rfl)
theorem dX1_policyAt_88 : decode cX1_policyAt 88 = .ok (.aload_n 3, 1) := dk_45 (dk_at dksX1_policyAt_3 6 rfl rfl)
theorem dX1_policyAt_89 : decode cX1_policyAt 89 = .ok (.getfield 154, 3) := dk_180 0 154 (dk_at dksX1_policyAt_3 7 rfl rfl)
theorem dX1_policyAt_92 : decode cX1_policyAt 92 = .ok (.goto 27, 3) := dk_167 0 27 (dk_at dksX1_policyAt_3 10 rfl rfl)
theorem dX1_policyAt_95 : decode cX1_policyAt 95 = .ok (.aload_n 3, 1) := dk_45 (dk_at dksX1_policyAt_3 13 rfl rfl)
theorem dX1_policyAt_96 : decode cX1_policyAt 96 = .ok (.aload_n 0, 1) := dk_42 (dk_at dksX1_policyAt_3 14 rfl rfl)
theorem dX1_policyAt_97 : decode cX1_policyAt 97 = .ok (.getfield 63, 3) := dk_180 0 63 (dk_at dksX1_policyAt_3 15 rfl rfl)
theorem dX1_policyAt_100 : decode cX1_policyAt 100 = .ok (.invokevirtual 318, 3) := dk_182 1 62 (dk_at dksX1_policyAt_3 18 rfl rfl)
theorem dX1_policyAt_103 : decode cX1_policyAt 103 = .ok (.goto 16, 3) := dk_167 0 16 (dk_at dksX1_policyAt_3 21 rfl rfl)
theorem dX1_policyAt_106 : decode cX1_policyAt 106 = .ok (.aload_n 3, 1) := dk_45 (dk_at dksX1_policyAt_4 0 rfl rfl)
theorem dX1_policyAt_107 : decode cX1_policyAt 107 = .ok (.getfield 274, 3) := dk_180 1 18 (dk_at dksX1_policyAt_4 1 rfl rfl)
theorem dX1_policyAt_110 : decode cX1_policyAt 110 = .ok (.i2l, 1) := dk_133 (dk_at dksX1_policyAt_4 4 rfl rfl)
theorem dX1_policyAt_111 : decode cX1_policyAt 111 = .ok (.goto 8, 3) := dk_167 0 8 (dk_at dksX1_policyAt_4 5 rfl rfl)
theorem dX1_policyAt_114 : decode cX1_policyAt 114 = .ok (.aload_n 3, 1) := dk_45 (dk_at dksX1_policyAt_4 8 rfl rfl)
theorem dX1_policyAt_115 : decode cX1_policyAt 115 = .ok (.getfield 322, 3) := dk_180 1 66 (dk_at dksX1_policyAt_4 9 rfl rfl)
theorem dX1_policyAt_118 : decode cX1_policyAt 118 = .ok (.i2l, 1) := dk_133 (dk_at dksX1_policyAt_4 12 rfl rfl)
theorem dX1_policyAt_119 : decode cX1_policyAt 119 = .ok (.lreturn, 1) := dk_173 (dk_at dksX1_policyAt_4 13 rfl rfl)
abbrev cX1_reserve : ByteArray := prog_1_method_29_code
def yX1_reserve : MethodName := ⟨RX1, "reserve", "(II)J"⟩
def dkwX1_reserve_0 : List UInt8 := [42, 27, 182, 1, 46, 78, 45, 42, 28, 182, 0, 207, 42, 180, 0, 63, 182, 0, 150, 173]
abbrev dktX1_reserve_0 : List UInt8 := dkwX1_reserve_0 ++ []
theorem dksX1_reserve_0 : cX1_reserve.data.toList.drop 0 = dktX1_reserve_0 := by decide +kernel
theorem dX1_reserve_0 : decode cX1_reserve 0 = .ok (.aload_n 0, 1) := dk_42 (dk_at dksX1_reserve_0 0 rfl rfl)
theorem dX1_reserve_1 : decode cX1_reserve 1 = .ok (.iload_n 1, 1) := dk_27 (dk_at dksX1_reserve_0 1 rfl rfl)
theorem dX1_reserve_2 : decode cX1_reserve 2 = .ok (.invokevirtual 302, 3) := dk_182 1 46 (dk_at dksX1_reserve_0 2 rfl rfl)
theorem dX1_reserve_5 : decode cX1_reserve 5 = .ok (.astore_n 3, 1) := dk_78 (dk_at dksX1_reserve_0 5 rfl rfl)
theorem dX1_reserve_6 : decode cX1_reserve 6 = .ok (.aload_n 3, 1) := dk_45 (dk_at dksX1_reserve_0 6 rfl rfl)
theorem dX1_reserve_7 : decode cX1_reserve 7 = .ok (.aload_n 0, 1) := dk_42 (dk_at dksX1_reserve_0 7 rfl rfl)
theorem dX1_reserve_8 : decode cX1_reserve 8 = .ok (.iload_n 2, 1) := dk_28 (dk_at dksX1_reserve_0 8 rfl rfl)
theorem dX1_reserve_9 : decode cX1_reserve 9 = .ok (.invokevirtual 207, 3) := dk_182 0 207 (dk_at dksX1_reserve_0 9 rfl rfl)
theorem dX1_reserve_12 : decode cX1_reserve 12 = .ok (.aload_n 0, 1) := dk_42 (dk_at dksX1_reserve_0 12 rfl rfl)
theorem dX1_reserve_13 : decode cX1_reserve 13 = .ok (.getfield 63, 3) := dk_180 0 63 (dk_at dksX1_reserve_0 13 rfl rfl)
theorem dX1_reserve_16 : decode cX1_reserve 16 = .ok (.invokevirtual 150, 3) := dk_182 0 150 (dk_at dksX1_reserve_0 16 rfl rfl)
theorem dX1_reserve_19 : decode cX1_reserve 19 = .ok (.lreturn, 1) := dk_173 (dk_at dksX1_reserve_0 19 rfl rfl)
abbrev cX1_reserves : ByteArray := prog_1_method_30_code
def yX1_reserves : MethodName := ⟨RX1, "reserves", "(I)J"⟩
def dkwX1_reserves_0 : List UInt8 := [42, 42, 27, 182, 0, 207, 182, 0, 183, 173]
abbrev dktX1_reserves_0 : List UInt8 := dkwX1_reserves_0 ++ []
theorem dksX1_reserves_0 : cX1_reserves.data.toList.drop 0 = dktX1_reserves_0 := by decide +kernel
theorem dX1_reserves_0 : decode cX1_reserves 0 = .ok (.aload_n 0, 1) := dk_42 (dk_at dksX1_reserves_0 0 rfl rfl)
theorem dX1_reserves_1 : decode cX1_reserves 1 = .ok (.aload_n 0, 1) := dk_42 (dk_at dksX1_reserves_0 1 rfl rfl)
theorem dX1_reserves_2 : decode cX1_reserves 2 = .ok (.iload_n 1, 1) := dk_27 (dk_at dksX1_reserves_0 2 rfl rfl)
theorem dX1_reserves_3 : decode cX1_reserves 3 = .ok (.invokevirtual 207, 3) := dk_182 0 207 (dk_at dksX1_reserves_0 3 rfl rfl)
theorem dX1_reserves_6 : decode cX1_reserves 6 = .ok (.invokevirtual 183, 3) := dk_182 0 183 (dk_at dksX1_reserves_0 6 rfl rfl)
theorem dX1_reserves_9 : decode cX1_reserves 9 = .ok (.lreturn, 1) := dk_173 (dk_at dksX1_reserves_0 9 rfl rfl)
abbrev cX1_makePaidUp : ByteArray := prog_1_method_31_code
def yX1_makePaidUp : MethodName := ⟨RX1, "makePaidUp", "(I)I"⟩
def dkwX1_makePaidUp_6 : List UInt8 := [182, 0, 150, 101, 182, 0, 193, 44, 180, 1, 53, 136, 172]
abbrev dktX1_makePaidUp_6 : List UInt8 := dkwX1_makePaidUp_6 ++ []
def dkwX1_makePaidUp_5 : List UInt8 := [181, 1, 50, 42, 180, 0, 51, 7, 184, 0, 187, 33, 44, 42, 180, 0, 23, 3, 50, 42, 180, 0, 63]
abbrev dktX1_makePaidUp_5 : List UInt8 := dkwX1_makePaidUp_5 ++ dktX1_makePaidUp_6
def dkwX1_makePaidUp_4 : List UInt8 := [180, 1, 79, 184, 0, 9, 44, 180, 1, 56, 101, 184, 1, 84, 181, 1, 53, 44, 4, 181, 1, 87, 44, 4]
abbrev dktX1_makePaidUp_4 : List UInt8 := dkwX1_makePaidUp_4 ++ dktX1_makePaidUp_5
def dkwX1_makePaidUp_3 : List UInt8 := [20, 0, 254, 105, 44, 42, 180, 0, 23, 3, 50, 42, 180, 0, 63, 44, 180, 1, 72, 182, 1, 75]
abbrev dktX1_makePaidUp_3 : List UInt8 := dkwX1_makePaidUp_3 ++ dktX1_makePaidUp_4
def dkwX1_makePaidUp_2 : List UInt8 := [180, 0, 63, 182, 0, 150, 66, 33, 9, 148, 158, 0, 7, 4, 167, 0, 4, 3, 184, 1, 30, 44, 9, 33]
abbrev dktX1_makePaidUp_2 : List UInt8 := dkwX1_makePaidUp_2 ++ dktX1_makePaidUp_3
def dkwX1_makePaidUp_1 : List UInt8 := [42, 180, 0, 63, 162, 0, 7, 4, 167, 0, 4, 3, 184, 1, 30, 44, 42, 180, 0, 23, 3, 50, 42]
abbrev dktX1_makePaidUp_1 : List UInt8 := dkwX1_makePaidUp_1 ++ dktX1_makePaidUp_2
def dkwX1_makePaidUp_0 : List UInt8 := [42, 27, 182, 1, 46, 77, 44, 180, 1, 50, 154, 0, 25, 44, 182, 1, 69, 153, 0, 18, 44, 180, 1, 18]
abbrev dktX1_makePaidUp_0 : List UInt8 := dkwX1_makePaidUp_0 ++ dktX1_makePaidUp_1
theorem dksX1_makePaidUp_0 : cX1_makePaidUp.data.toList.drop 0 = dktX1_makePaidUp_0 := by decide +kernel
theorem dksX1_makePaidUp_1 : cX1_makePaidUp.data.toList.drop 24 = dktX1_makePaidUp_1 := dk_seg dksX1_makePaidUp_0 24 rfl rfl
theorem dksX1_makePaidUp_2 : cX1_makePaidUp.data.toList.drop 47 = dktX1_makePaidUp_2 := dk_seg dksX1_makePaidUp_1 23 rfl rfl
theorem dksX1_makePaidUp_3 : cX1_makePaidUp.data.toList.drop 71 = dktX1_makePaidUp_3 := dk_seg dksX1_makePaidUp_2 24 rfl rfl
theorem dksX1_makePaidUp_4 : cX1_makePaidUp.data.toList.drop 93 = dktX1_makePaidUp_4 := dk_seg dksX1_makePaidUp_3 22 rfl rfl
theorem dksX1_makePaidUp_5 : cX1_makePaidUp.data.toList.drop 117 = dktX1_makePaidUp_5 := dk_seg dksX1_makePaidUp_4 24 rfl rfl
theorem dksX1_makePaidUp_6 : cX1_makePaidUp.data.toList.drop 140 = dktX1_makePaidUp_6 := dk_seg dksX1_makePaidUp_5 23 rfl rfl
theorem dX1_makePaidUp_0 : decode cX1_makePaidUp 0 = .ok (.aload_n 0, 1) := dk_42 (dk_at dksX1_makePaidUp_0 0 rfl rfl)
theorem dX1_makePaidUp_1 : decode cX1_makePaidUp 1 = .ok (.iload_n 1, 1) := dk_27 (dk_at dksX1_makePaidUp_0 1 rfl rfl)
theorem dX1_makePaidUp_2 : decode cX1_makePaidUp 2 = .ok (.invokevirtual 302, 3) := dk_182 1 46 (dk_at dksX1_makePaidUp_0 2 rfl rfl)
theorem dX1_makePaidUp_5 : decode cX1_makePaidUp 5 = .ok (.astore_n 2, 1) := dk_77 (dk_at dksX1_makePaidUp_0 5 rfl rfl)
theorem dX1_makePaidUp_6 : decode cX1_makePaidUp 6 = .ok (.aload_n 2, 1) := dk_44 (dk_at dksX1_makePaidUp_0 6 rfl rfl)
theorem dX1_makePaidUp_7 : decode cX1_makePaidUp 7 = .ok (.getfield 306, 3) := dk_180 1 50 (dk_at dksX1_makePaidUp_0 7 rfl rfl)
theorem dX1_makePaidUp_10 : decode cX1_makePaidUp 10 = .ok (.ifCond .ne 25, 3) := dk_154 0 25 (dk_at dksX1_makePaidUp_0 10 rfl rfl)
theorem dX1_makePaidUp_13 : decode cX1_makePaidUp 13 = .ok (.aload_n 2, 1) := dk_44 (dk_at dksX1_makePaidUp_0 13 rfl rfl)
theorem dX1_makePaidUp_14 : decode cX1_makePaidUp 14 = .ok (.invokevirtual 325, 3) := dk_182 1 69 (dk_at dksX1_makePaidUp_0 14 rfl rfl)
theorem dX1_makePaidUp_17 : decode cX1_makePaidUp 17 = .ok (.ifCond .eq 18, 3) := dk_153 0 18 (dk_at dksX1_makePaidUp_0 17 rfl rfl)
theorem dX1_makePaidUp_20 : decode cX1_makePaidUp 20 = .ok (.aload_n 2, 1) := dk_44 (dk_at dksX1_makePaidUp_0 20 rfl rfl)
theorem dX1_makePaidUp_21 : decode cX1_makePaidUp 21 = .ok (.getfield 274, 3) := dk_180 1 18 (dk_at dksX1_makePaidUp_0 21 rfl rfl)
theorem dX1_makePaidUp_24 : decode cX1_makePaidUp 24 = .ok (.aload_n 0, 1) := dk_42 (dk_at dksX1_makePaidUp_1 0 rfl rfl)
theorem dX1_makePaidUp_25 : decode cX1_makePaidUp 25 = .ok (.getfield 63, 3) := dk_180 0 63 (dk_at dksX1_makePaidUp_1 1 rfl rfl)
theorem dX1_makePaidUp_28 : decode cX1_makePaidUp 28 = .ok (.if_icmp .ge 7, 3) := dk_162 0 7 (dk_at dksX1_makePaidUp_1 4 rfl rfl)
theorem dX1_makePaidUp_31 : decode cX1_makePaidUp 31 = .ok (.iconst 1, 1) := dk_4 (dk_at dksX1_makePaidUp_1 7 rfl rfl)
theorem dX1_makePaidUp_32 : decode cX1_makePaidUp 32 = .ok (.goto 4, 3) := dk_167 0 4 (dk_at dksX1_makePaidUp_1 8 rfl rfl)
theorem dX1_makePaidUp_35 : decode cX1_makePaidUp 35 = .ok (.iconst 0, 1) := dk_3 (dk_at dksX1_makePaidUp_1 11 rfl rfl)
theorem dX1_makePaidUp_36 : decode cX1_makePaidUp 36 = .ok (.invokestatic 286, 3) := dk_184 1 30 (dk_at dksX1_makePaidUp_1 12 rfl rfl)
theorem dX1_makePaidUp_39 : decode cX1_makePaidUp 39 = .ok (.aload_n 2, 1) := dk_44 (dk_at dksX1_makePaidUp_1 15 rfl rfl)
theorem dX1_makePaidUp_40 : decode cX1_makePaidUp 40 = .ok (.aload_n 0, 1) := dk_42 (dk_at dksX1_makePaidUp_1 16 rfl rfl)
theorem dX1_makePaidUp_41 : decode cX1_makePaidUp 41 = .ok (.getfield 23, 3) := dk_180 0 23 (dk_at dksX1_makePaidUp_1 17 rfl rfl)
theorem dX1_makePaidUp_44 : decode cX1_makePaidUp 44 = .ok (.iconst 0, 1) := dk_3 (dk_at dksX1_makePaidUp_1 20 rfl rfl)
theorem dX1_makePaidUp_45 : decode cX1_makePaidUp 45 = .ok (.aaload, 1) := dk_50 (dk_at dksX1_makePaidUp_1 21 rfl rfl)
theorem dX1_makePaidUp_46 : decode cX1_makePaidUp 46 = .ok (.aload_n 0, 1) := dk_42 (dk_at dksX1_makePaidUp_1 22 rfl rfl)
theorem dX1_makePaidUp_47 : decode cX1_makePaidUp 47 = .ok (.getfield 63, 3) := dk_180 0 63 (dk_at dksX1_makePaidUp_2 0 rfl rfl)
theorem dX1_makePaidUp_50 : decode cX1_makePaidUp 50 = .ok (.invokevirtual 150, 3) := dk_182 0 150 (dk_at dksX1_makePaidUp_2 3 rfl rfl)
theorem dX1_makePaidUp_53 : decode cX1_makePaidUp 53 = .ok (.lstore_n 3, 1) := dk_66 (dk_at dksX1_makePaidUp_2 6 rfl rfl)
theorem dX1_makePaidUp_54 : decode cX1_makePaidUp 54 = .ok (.lload_n 3, 1) := dk_33 (dk_at dksX1_makePaidUp_2 7 rfl rfl)
theorem dX1_makePaidUp_55 : decode cX1_makePaidUp 55 = .ok (.lconst 0, 1) := dk_9 (dk_at dksX1_makePaidUp_2 8 rfl rfl)
theorem dX1_makePaidUp_56 : decode cX1_makePaidUp 56 = .ok (.lcmp, 1) := dk_148 (dk_at dksX1_makePaidUp_2 9 rfl rfl)
theorem dX1_makePaidUp_57 : decode cX1_makePaidUp 57 = .ok (.ifCond .le 7, 3) := dk_158 0 7 (dk_at dksX1_makePaidUp_2 10 rfl rfl)
theorem dX1_makePaidUp_60 : decode cX1_makePaidUp 60 = .ok (.iconst 1, 1) := dk_4 (dk_at dksX1_makePaidUp_2 13 rfl rfl)
theorem dX1_makePaidUp_61 : decode cX1_makePaidUp 61 = .ok (.goto 4, 3) := dk_167 0 4 (dk_at dksX1_makePaidUp_2 14 rfl rfl)
theorem dX1_makePaidUp_64 : decode cX1_makePaidUp 64 = .ok (.iconst 0, 1) := dk_3 (dk_at dksX1_makePaidUp_2 17 rfl rfl)
theorem dX1_makePaidUp_65 : decode cX1_makePaidUp 65 = .ok (.invokestatic 286, 3) := dk_184 1 30 (dk_at dksX1_makePaidUp_2 18 rfl rfl)
theorem dX1_makePaidUp_68 : decode cX1_makePaidUp 68 = .ok (.aload_n 2, 1) := dk_44 (dk_at dksX1_makePaidUp_2 21 rfl rfl)
theorem dX1_makePaidUp_69 : decode cX1_makePaidUp 69 = .ok (.lconst 0, 1) := dk_9 (dk_at dksX1_makePaidUp_2 22 rfl rfl)
theorem dX1_makePaidUp_70 : decode cX1_makePaidUp 70 = .ok (.lload_n 3, 1) := dk_33 (dk_at dksX1_makePaidUp_2 23 rfl rfl)
theorem dX1_makePaidUp_71 : decode cX1_makePaidUp 71 = .ok (.ldc2_w 254, 3) := dk_20 0 254 (dk_at dksX1_makePaidUp_3 0 rfl rfl)
theorem dX1_makePaidUp_74 : decode cX1_makePaidUp 74 = .ok (.lmul, 1) := dk_105 (dk_at dksX1_makePaidUp_3 3 rfl rfl)
theorem dX1_makePaidUp_75 : decode cX1_makePaidUp 75 = .ok (.aload_n 2, 1) := dk_44 (dk_at dksX1_makePaidUp_3 4 rfl rfl)
theorem dX1_makePaidUp_76 : decode cX1_makePaidUp 76 = .ok (.aload_n 0, 1) := dk_42 (dk_at dksX1_makePaidUp_3 5 rfl rfl)
theorem dX1_makePaidUp_77 : decode cX1_makePaidUp 77 = .ok (.getfield 23, 3) := dk_180 0 23 (dk_at dksX1_makePaidUp_3 6 rfl rfl)
theorem dX1_makePaidUp_80 : decode cX1_makePaidUp 80 = .ok (.iconst 0, 1) := dk_3 (dk_at dksX1_makePaidUp_3 9 rfl rfl)
theorem dX1_makePaidUp_81 : decode cX1_makePaidUp 81 = .ok (.aaload, 1) := dk_50 (dk_at dksX1_makePaidUp_3 10 rfl rfl)
theorem dX1_makePaidUp_82 : decode cX1_makePaidUp 82 = .ok (.aload_n 0, 1) := dk_42 (dk_at dksX1_makePaidUp_3 11 rfl rfl)
theorem dX1_makePaidUp_83 : decode cX1_makePaidUp 83 = .ok (.getfield 63, 3) := dk_180 0 63 (dk_at dksX1_makePaidUp_3 12 rfl rfl)
theorem dX1_makePaidUp_86 : decode cX1_makePaidUp 86 = .ok (.aload_n 2, 1) := dk_44 (dk_at dksX1_makePaidUp_3 15 rfl rfl)
theorem dX1_makePaidUp_87 : decode cX1_makePaidUp 87 = .ok (.getfield 328, 3) := dk_180 1 72 (dk_at dksX1_makePaidUp_3 16 rfl rfl)
theorem dX1_makePaidUp_90 : decode cX1_makePaidUp 90 = .ok (.invokevirtual 331, 3) := dk_182 1 75 (dk_at dksX1_makePaidUp_3 19 rfl rfl)
theorem dX1_makePaidUp_93 : decode cX1_makePaidUp 93 = .ok (.getfield 335, 3) := dk_180 1 79 (dk_at dksX1_makePaidUp_4 0 rfl rfl)
theorem dX1_makePaidUp_96 : decode cX1_makePaidUp 96 = .ok (.invokestatic 9, 3) := dk_184 0 9 (dk_at dksX1_makePaidUp_4 3 rfl rfl)
theorem dX1_makePaidUp_99 : decode cX1_makePaidUp 99 = .ok (.aload_n 2, 1) := dk_44 (dk_at dksX1_makePaidUp_4 6 rfl rfl)
theorem dX1_makePaidUp_100 : decode cX1_makePaidUp 100 = .ok (.getfield 312, 3) := dk_180 1 56 (dk_at dksX1_makePaidUp_4 7 rfl rfl)
theorem dX1_makePaidUp_103 : decode cX1_makePaidUp 103 = .ok (.lsub, 1) := dk_101 (dk_at dksX1_makePaidUp_4 10 rfl rfl)
theorem dX1_makePaidUp_104 : decode cX1_makePaidUp 104 = .ok (.invokestatic 340, 3) := dk_184 1 84 (dk_at dksX1_makePaidUp_4 11 rfl rfl)
theorem dX1_makePaidUp_107 : decode cX1_makePaidUp 107 = .ok (.putfield 309, 3) := dk_181 1 53 (dk_at dksX1_makePaidUp_4 14 rfl rfl)
theorem dX1_makePaidUp_110 : decode cX1_makePaidUp 110 = .ok (.aload_n 2, 1) := dk_44 (dk_at dksX1_makePaidUp_4 17 rfl rfl)
theorem dX1_makePaidUp_111 : decode cX1_makePaidUp 111 = .ok (.iconst 1, 1) := dk_4 (dk_at dksX1_makePaidUp_4 18 rfl rfl)
theorem dX1_makePaidUp_112 : decode cX1_makePaidUp 112 = .ok (.putfield 343, 3) := dk_181 1 87 (dk_at dksX1_makePaidUp_4 19 rfl rfl)
theorem dX1_makePaidUp_115 : decode cX1_makePaidUp 115 = .ok (.aload_n 2, 1) := dk_44 (dk_at dksX1_makePaidUp_4 22 rfl rfl)
theorem dX1_makePaidUp_116 : decode cX1_makePaidUp 116 = .ok (.iconst 1, 1) := dk_4 (dk_at dksX1_makePaidUp_4 23 rfl rfl)
theorem dX1_makePaidUp_117 : decode cX1_makePaidUp 117 = .ok (.putfield 306, 3) := dk_181 1 50 (dk_at dksX1_makePaidUp_5 0 rfl rfl)
theorem dX1_makePaidUp_120 : decode cX1_makePaidUp 120 = .ok (.aload_n 0, 1) := dk_42 (dk_at dksX1_makePaidUp_5 3 rfl rfl)
theorem dX1_makePaidUp_121 : decode cX1_makePaidUp 121 = .ok (.getfield 51, 3) := dk_180 0 51 (dk_at dksX1_makePaidUp_5 4 rfl rfl)
theorem dX1_makePaidUp_124 : decode cX1_makePaidUp 124 = .ok (.iconst 4, 1) := dk_7 (dk_at dksX1_makePaidUp_5 7 rfl rfl)
theorem dX1_makePaidUp_125 : decode cX1_makePaidUp 125 = .ok (.invokestatic 187, 3) := dk_184 0 187 (dk_at dksX1_makePaidUp_5 8 rfl rfl)
theorem dX1_makePaidUp_128 : decode cX1_makePaidUp 128 = .ok (.lload_n 3, 1) := dk_33 (dk_at dksX1_makePaidUp_5 11 rfl rfl)
theorem dX1_makePaidUp_129 : decode cX1_makePaidUp 129 = .ok (.aload_n 2, 1) := dk_44 (dk_at dksX1_makePaidUp_5 12 rfl rfl)
theorem dX1_makePaidUp_130 : decode cX1_makePaidUp 130 = .ok (.aload_n 0, 1) := dk_42 (dk_at dksX1_makePaidUp_5 13 rfl rfl)
theorem dX1_makePaidUp_131 : decode cX1_makePaidUp 131 = .ok (.getfield 23, 3) := dk_180 0 23 (dk_at dksX1_makePaidUp_5 14 rfl rfl)
theorem dX1_makePaidUp_134 : decode cX1_makePaidUp 134 = .ok (.iconst 0, 1) := dk_3 (dk_at dksX1_makePaidUp_5 17 rfl rfl)
theorem dX1_makePaidUp_135 : decode cX1_makePaidUp 135 = .ok (.aaload, 1) := dk_50 (dk_at dksX1_makePaidUp_5 18 rfl rfl)
theorem dX1_makePaidUp_136 : decode cX1_makePaidUp 136 = .ok (.aload_n 0, 1) := dk_42 (dk_at dksX1_makePaidUp_5 19 rfl rfl)
theorem dX1_makePaidUp_137 : decode cX1_makePaidUp 137 = .ok (.getfield 63, 3) := dk_180 0 63 (dk_at dksX1_makePaidUp_5 20 rfl rfl)
theorem dX1_makePaidUp_140 : decode cX1_makePaidUp 140 = .ok (.invokevirtual 150, 3) := dk_182 0 150 (dk_at dksX1_makePaidUp_6 0 rfl rfl)
theorem dX1_makePaidUp_143 : decode cX1_makePaidUp 143 = .ok (.lsub, 1) := dk_101 (dk_at dksX1_makePaidUp_6 3 rfl rfl)
theorem dX1_makePaidUp_144 : decode cX1_makePaidUp 144 = .ok (.invokevirtual 193, 3) := dk_182 0 193 (dk_at dksX1_makePaidUp_6 4 rfl rfl)
theorem dX1_makePaidUp_147 : decode cX1_makePaidUp 147 = .ok (.aload_n 2, 1) := dk_44 (dk_at dksX1_makePaidUp_6 7 rfl rfl)
theorem dX1_makePaidUp_148 : decode cX1_makePaidUp 148 = .ok (.getfield 309, 3) := dk_180 1 53 (dk_at dksX1_makePaidUp_6 8 rfl rfl)
theorem dX1_makePaidUp_151 : decode cX1_makePaidUp 151 = .ok (.l2i, 1) := dk_136 (dk_at dksX1_makePaidUp_6 11 rfl rfl)
theorem dX1_makePaidUp_152 : decode cX1_makePaidUp 152 = .ok (.ireturn, 1) := dk_172 (dk_at dksX1_makePaidUp_6 12 rfl rfl)
abbrev cX1_lend : ByteArray := prog_1_method_32_code
def yX1_lend : MethodName := ⟨RX1, "lend", "(II)J"⟩
def dkwX1_lend_3 : List UInt8 := [89, 180, 0, 154, 28, 133, 97, 181, 0, 154, 45, 180, 0, 154, 173]
abbrev dktX1_lend_3 : List UInt8 := dkwX1_lend_3 ++ []
def dkwX1_lend_2 : List UInt8 := [148, 157, 0, 7, 4, 167, 0, 4, 3, 184, 1, 30, 42, 89, 180, 0, 67, 28, 133, 101, 181, 0, 67, 45]
abbrev dktX1_lend_2 : List UInt8 := dkwX1_lend_2 ++ dktX1_lend_3
def dkwX1_lend_1 : List UInt8 := [180, 0, 154, 28, 133, 97, 45, 42, 180, 0, 63, 182, 1, 62, 20, 1, 95, 105, 20, 1, 97, 184, 0, 9]
abbrev dktX1_lend_1 : List UInt8 := dkwX1_lend_1 ++ dktX1_lend_2
def dkwX1_lend_0 : List UInt8 := [42, 27, 182, 1, 46, 78, 28, 133, 10, 20, 1, 90, 184, 0, 201, 45, 182, 1, 92, 153, 0, 36, 45]
abbrev dktX1_lend_0 : List UInt8 := dkwX1_lend_0 ++ dktX1_lend_1
theorem dksX1_lend_0 : cX1_lend.data.toList.drop 0 = dktX1_lend_0 := by decide +kernel
theorem dksX1_lend_1 : cX1_lend.data.toList.drop 23 = dktX1_lend_1 := dk_seg dksX1_lend_0 23 rfl rfl
theorem dksX1_lend_2 : cX1_lend.data.toList.drop 47 = dktX1_lend_2 := dk_seg dksX1_lend_1 24 rfl rfl
theorem dksX1_lend_3 : cX1_lend.data.toList.drop 71 = dktX1_lend_3 := dk_seg dksX1_lend_2 24 rfl rfl
theorem dX1_lend_0 : decode cX1_lend 0 = .ok (.aload_n 0, 1) := dk_42 (dk_at dksX1_lend_0 0 rfl rfl)
theorem dX1_lend_1 : decode cX1_lend 1 = .ok (.iload_n 1, 1) := dk_27 (dk_at dksX1_lend_0 1 rfl rfl)
theorem dX1_lend_2 : decode cX1_lend 2 = .ok (.invokevirtual 302, 3) := dk_182 1 46 (dk_at dksX1_lend_0 2 rfl rfl)
theorem dX1_lend_5 : decode cX1_lend 5 = .ok (.astore_n 3, 1) := dk_78 (dk_at dksX1_lend_0 5 rfl rfl)
theorem dX1_lend_6 : decode cX1_lend 6 = .ok (.iload_n 2, 1) := dk_28 (dk_at dksX1_lend_0 6 rfl rfl)
theorem dX1_lend_7 : decode cX1_lend 7 = .ok (.i2l, 1) := dk_133 (dk_at dksX1_lend_0 7 rfl rfl)
theorem dX1_lend_8 : decode cX1_lend 8 = .ok (.lconst 1, 1) := dk_10 (dk_at dksX1_lend_0 8 rfl rfl)
theorem dX1_lend_9 : decode cX1_lend 9 = .ok (.ldc2_w 346, 3) := dk_20 1 90 (dk_at dksX1_lend_0 9 rfl rfl)
theorem dX1_lend_12 : decode cX1_lend 12 = .ok (.invokestatic 201, 3) := dk_184 0 201 (dk_at dksX1_lend_0 12 rfl rfl)
theorem dX1_lend_15 : decode cX1_lend 15 = .ok (.aload_n 3, 1) := dk_45 (dk_at dksX1_lend_0 15 rfl rfl)
theorem dX1_lend_16 : decode cX1_lend 16 = .ok (.invokevirtual 348, 3) := dk_182 1 92 (dk_at dksX1_lend_0 16 rfl rfl)
theorem dX1_lend_19 : decode cX1_lend 19 = .ok (.ifCond .eq 36, 3) := dk_153 0 36 (dk_at dksX1_lend_0 19 rfl rfl)
theorem dX1_lend_22 : decode cX1_lend 22 = .ok (.aload_n 3, 1) := dk_45 (dk_at dksX1_lend_0 22 rfl rfl)
theorem dX1_lend_23 : decode cX1_lend 23 = .ok (.getfield 154, 3) := dk_180 0 154 (dk_at dksX1_lend_1 0 rfl rfl)
theorem dX1_lend_26 : decode cX1_lend 26 = .ok (.iload_n 2, 1) := dk_28 (dk_at dksX1_lend_1 3 rfl rfl)
theorem dX1_lend_27 : decode cX1_lend 27 = .ok (.i2l, 1) := dk_133 (dk_at dksX1_lend_1 4 rfl rfl)
theorem dX1_lend_28 : decode cX1_lend 28 = .ok (.ladd, 1) := dk_97 (dk_at dksX1_lend_1 5 rfl rfl)
theorem dX1_lend_29 : decode cX1_lend 29 = .ok (.aload_n 3, 1) := dk_45 (dk_at dksX1_lend_1 6 rfl rfl)
theorem dX1_lend_30 : decode cX1_lend 30 = .ok (.aload_n 0, 1) := dk_42 (dk_at dksX1_lend_1 7 rfl rfl)
theorem dX1_lend_31 : decode cX1_lend 31 = .ok (.getfield 63, 3) := dk_180 0 63 (dk_at dksX1_lend_1 8 rfl rfl)
theorem dX1_lend_34 : decode cX1_lend 34 = .ok (.invokevirtual 318, 3) := dk_182 1 62 (dk_at dksX1_lend_1 11 rfl rfl)
theorem dX1_lend_37 : decode cX1_lend 37 = .ok (.ldc2_w 351, 3) := dk_20 1 95 (dk_at dksX1_lend_1 14 rfl rfl)
theorem dX1_lend_40 : decode cX1_lend 40 = .ok (.lmul, 1) := dk_105 (dk_at dksX1_lend_1 17 rfl rfl)
theorem dX1_lend_41 : decode cX1_lend 41 = .ok (.ldc2_w 353, 3) := dk_20 1 97 (dk_at dksX1_lend_1 18 rfl rfl)
theorem dX1_lend_44 : decode cX1_lend 44 = .ok (.invokestatic 9, 3) := dk_184 0 9 (dk_at dksX1_lend_1 21 rfl rfl)
theorem dX1_lend_47 : decode cX1_lend 47 = .ok (.lcmp, 1) := dk_148 (dk_at dksX1_lend_2 0 rfl rfl)
theorem dX1_lend_48 : decode cX1_lend 48 = .ok (.ifCond .gt 7, 3) := dk_157 0 7 (dk_at dksX1_lend_2 1 rfl rfl)
theorem dX1_lend_51 : decode cX1_lend 51 = .ok (.iconst 1, 1) := dk_4 (dk_at dksX1_lend_2 4 rfl rfl)
theorem dX1_lend_52 : decode cX1_lend 52 = .ok (.goto 4, 3) := dk_167 0 4 (dk_at dksX1_lend_2 5 rfl rfl)
theorem dX1_lend_55 : decode cX1_lend 55 = .ok (.iconst 0, 1) := dk_3 (dk_at dksX1_lend_2 8 rfl rfl)
theorem dX1_lend_56 : decode cX1_lend 56 = .ok (.invokestatic 286, 3) := dk_184 1 30 (dk_at dksX1_lend_2 9 rfl rfl)
theorem dX1_lend_59 : decode cX1_lend 59 = .ok (.aload_n 0, 1) := dk_42 (dk_at dksX1_lend_2 12 rfl rfl)
theorem dX1_lend_60 : decode cX1_lend 60 = .ok (.dup, 1) := dk_89 (dk_at dksX1_lend_2 13 rfl rfl)
theorem dX1_lend_61 : decode cX1_lend 61 = .ok (.getfield 67, 3) := dk_180 0 67 (dk_at dksX1_lend_2 14 rfl rfl)
theorem dX1_lend_64 : decode cX1_lend 64 = .ok (.iload_n 2, 1) := dk_28 (dk_at dksX1_lend_2 17 rfl rfl)
theorem dX1_lend_65 : decode cX1_lend 65 = .ok (.i2l, 1) := dk_133 (dk_at dksX1_lend_2 18 rfl rfl)
theorem dX1_lend_66 : decode cX1_lend 66 = .ok (.lsub, 1) := dk_101 (dk_at dksX1_lend_2 19 rfl rfl)
theorem dX1_lend_67 : decode cX1_lend 67 = .ok (.putfield 67, 3) := dk_181 0 67 (dk_at dksX1_lend_2 20 rfl rfl)
theorem dX1_lend_70 : decode cX1_lend 70 = .ok (.aload_n 3, 1) := dk_45 (dk_at dksX1_lend_2 23 rfl rfl)
theorem dX1_lend_71 : decode cX1_lend 71 = .ok (.dup, 1) := dk_89 (dk_at dksX1_lend_3 0 rfl rfl)
theorem dX1_lend_72 : decode cX1_lend 72 = .ok (.getfield 154, 3) := dk_180 0 154 (dk_at dksX1_lend_3 1 rfl rfl)
theorem dX1_lend_75 : decode cX1_lend 75 = .ok (.iload_n 2, 1) := dk_28 (dk_at dksX1_lend_3 4 rfl rfl)
theorem dX1_lend_76 : decode cX1_lend 76 = .ok (.i2l, 1) := dk_133 (dk_at dksX1_lend_3 5 rfl rfl)
theorem dX1_lend_77 : decode cX1_lend 77 = .ok (.ladd, 1) := dk_97 (dk_at dksX1_lend_3 6 rfl rfl)
theorem dX1_lend_78 : decode cX1_lend 78 = .ok (.putfield 154, 3) := dk_181 0 154 (dk_at dksX1_lend_3 7 rfl rfl)
theorem dX1_lend_81 : decode cX1_lend 81 = .ok (.aload_n 3, 1) := dk_45 (dk_at dksX1_lend_3 10 rfl rfl)
theorem dX1_lend_82 : decode cX1_lend 82 = .ok (.getfield 154, 3) := dk_180 0 154 (dk_at dksX1_lend_3 11 rfl rfl)
theorem dX1_lend_85 : decode cX1_lend 85 = .ok (.lreturn, 1) := dk_173 (dk_at dksX1_lend_3 14 rfl rfl)
abbrev cX1_repay : ByteArray := prog_1_method_33_code
def yX1_repay : MethodName := ⟨RX1, "repay", "(II)J"⟩
def dkwX1_repay_2 : List UInt8 := [180, 0, 154, 173]
abbrev dktX1_repay_2 : List UInt8 := dkwX1_repay_2 ++ []
def dkwX1_repay_1 : List UInt8 := [89, 180, 0, 67, 28, 133, 97, 181, 0, 67, 45, 89, 180, 0, 154, 28, 133, 101, 181, 0, 154, 45]
abbrev dktX1_repay_1 : List UInt8 := dkwX1_repay_1 ++ dktX1_repay_2
def dkwX1_repay_0 : List UInt8 := [42, 27, 182, 1, 46, 78, 28, 133, 10, 45, 180, 0, 154, 184, 0, 201, 45, 182, 1, 92, 184, 1, 30, 42]
abbrev dktX1_repay_0 : List UInt8 := dkwX1_repay_0 ++ dktX1_repay_1
theorem dksX1_repay_0 : cX1_repay.data.toList.drop 0 = dktX1_repay_0 := by decide +kernel
theorem dksX1_repay_1 : cX1_repay.data.toList.drop 24 = dktX1_repay_1 := dk_seg dksX1_repay_0 24 rfl rfl
theorem dksX1_repay_2 : cX1_repay.data.toList.drop 46 = dktX1_repay_2 := dk_seg dksX1_repay_1 22 rfl rfl
theorem dX1_repay_0 : decode cX1_repay 0 = .ok (.aload_n 0, 1) := dk_42 (dk_at dksX1_repay_0 0 rfl rfl)
theorem dX1_repay_1 : decode cX1_repay 1 = .ok (.iload_n 1, 1) := dk_27 (dk_at dksX1_repay_0 1 rfl rfl)
theorem dX1_repay_2 : decode cX1_repay 2 = .ok (.invokevirtual 302, 3) := dk_182 1 46 (dk_at dksX1_repay_0 2 rfl rfl)
theorem dX1_repay_5 : decode cX1_repay 5 = .ok (.astore_n 3, 1) := dk_78 (dk_at dksX1_repay_0 5 rfl rfl)
theorem dX1_repay_6 : decode cX1_repay 6 = .ok (.iload_n 2, 1) := dk_28 (dk_at dksX1_repay_0 6 rfl rfl)
theorem dX1_repay_7 : decode cX1_repay 7 = .ok (.i2l, 1) := dk_133 (dk_at dksX1_repay_0 7 rfl rfl)
theorem dX1_repay_8 : decode cX1_repay 8 = .ok (.lconst 1, 1) := dk_10 (dk_at dksX1_repay_0 8 rfl rfl)
theorem dX1_repay_9 : decode cX1_repay 9 = .ok (.aload_n 3, 1) := dk_45 (dk_at dksX1_repay_0 9 rfl rfl)
theorem dX1_repay_10 : decode cX1_repay 10 = .ok (.getfield 154, 3) := dk_180 0 154 (dk_at dksX1_repay_0 10 rfl rfl)
theorem dX1_repay_13 : decode cX1_repay 13 = .ok (.invokestatic 201, 3) := dk_184 0 201 (dk_at dksX1_repay_0 13 rfl rfl)
theorem dX1_repay_16 : decode cX1_repay 16 = .ok (.aload_n 3, 1) := dk_45 (dk_at dksX1_repay_0 16 rfl rfl)
theorem dX1_repay_17 : decode cX1_repay 17 = .ok (.invokevirtual 348, 3) := dk_182 1 92 (dk_at dksX1_repay_0 17 rfl rfl)
theorem dX1_repay_20 : decode cX1_repay 20 = .ok (.invokestatic 286, 3) := dk_184 1 30 (dk_at dksX1_repay_0 20 rfl rfl)
theorem dX1_repay_23 : decode cX1_repay 23 = .ok (.aload_n 0, 1) := dk_42 (dk_at dksX1_repay_0 23 rfl rfl)
theorem dX1_repay_24 : decode cX1_repay 24 = .ok (.dup, 1) := dk_89 (dk_at dksX1_repay_1 0 rfl rfl)
theorem dX1_repay_25 : decode cX1_repay 25 = .ok (.getfield 67, 3) := dk_180 0 67 (dk_at dksX1_repay_1 1 rfl rfl)
theorem dX1_repay_28 : decode cX1_repay 28 = .ok (.iload_n 2, 1) := dk_28 (dk_at dksX1_repay_1 4 rfl rfl)
theorem dX1_repay_29 : decode cX1_repay 29 = .ok (.i2l, 1) := dk_133 (dk_at dksX1_repay_1 5 rfl rfl)
theorem dX1_repay_30 : decode cX1_repay 30 = .ok (.ladd, 1) := dk_97 (dk_at dksX1_repay_1 6 rfl rfl)
theorem dX1_repay_31 : decode cX1_repay 31 = .ok (.putfield 67, 3) := dk_181 0 67 (dk_at dksX1_repay_1 7 rfl rfl)
theorem dX1_repay_34 : decode cX1_repay 34 = .ok (.aload_n 3, 1) := dk_45 (dk_at dksX1_repay_1 10 rfl rfl)
theorem dX1_repay_35 : decode cX1_repay 35 = .ok (.dup, 1) := dk_89 (dk_at dksX1_repay_1 11 rfl rfl)
theorem dX1_repay_36 : decode cX1_repay 36 = .ok (.getfield 154, 3) := dk_180 0 154 (dk_at dksX1_repay_1 12 rfl rfl)
theorem dX1_repay_39 : decode cX1_repay 39 = .ok (.iload_n 2, 1) := dk_28 (dk_at dksX1_repay_1 15 rfl rfl)
theorem dX1_repay_40 : decode cX1_repay 40 = .ok (.i2l, 1) := dk_133 (dk_at dksX1_repay_1 16 rfl rfl)
theorem dX1_repay_41 : decode cX1_repay 41 = .ok (.lsub, 1) := dk_101 (dk_at dksX1_repay_1 17 rfl rfl)
theorem dX1_repay_42 : decode cX1_repay 42 = .ok (.putfield 154, 3) := dk_181 0 154 (dk_at dksX1_repay_1 18 rfl rfl)
theorem dX1_repay_45 : decode cX1_repay 45 = .ok (.aload_n 3, 1) := dk_45 (dk_at dksX1_repay_1 21 rfl rfl)
theorem dX1_repay_46 : decode cX1_repay 46 = .ok (.getfield 154, 3) := dk_180 0 154 (dk_at dksX1_repay_2 0 rfl rfl)
theorem dX1_repay_49 : decode cX1_repay 49 = .ok (.lreturn, 1) := dk_173 (dk_at dksX1_repay_2 3 rfl rfl)
abbrev cX1_tellDeath : ByteArray := prog_1_method_34_code
def yX1_tellDeath : MethodName := ⟨RX1, "tellDeath", "(II)J"⟩
def dkwX1_tellDeath_1 : List UInt8 := [181, 1, 50, 45, 28, 181, 1, 99, 45, 182, 1, 102, 173]
abbrev dktX1_tellDeath_1 : List UInt8 := dkwX1_tellDeath_1 ++ []
def dkwX1_tellDeath_0 : List UInt8 := [42, 27, 182, 1, 46, 78, 28, 133, 9, 20, 1, 6, 184, 0, 201, 45, 182, 1, 92, 184, 1, 30, 45, 5]
abbrev dktX1_tellDeath_0 : List UInt8 := dkwX1_tellDeath_0 ++ dktX1_tellDeath_1
theorem dksX1_tellDeath_0 : cX1_tellDeath.data.toList.drop 0 = dktX1_tellDeath_0 := by decide +kernel
theorem dksX1_tellDeath_1 : cX1_tellDeath.data.toList.drop 24 = dktX1_tellDeath_1 := dk_seg dksX1_tellDeath_0 24 rfl rfl
theorem dX1_tellDeath_0 : decode cX1_tellDeath 0 = .ok (.aload_n 0, 1) := dk_42 (dk_at dksX1_tellDeath_0 0 rfl rfl)
theorem dX1_tellDeath_1 : decode cX1_tellDeath 1 = .ok (.iload_n 1, 1) := dk_27 (dk_at dksX1_tellDeath_0 1 rfl rfl)
theorem dX1_tellDeath_2 : decode cX1_tellDeath 2 = .ok (.invokevirtual 302, 3) := dk_182 1 46 (dk_at dksX1_tellDeath_0 2 rfl rfl)
theorem dX1_tellDeath_5 : decode cX1_tellDeath 5 = .ok (.astore_n 3, 1) := dk_78 (dk_at dksX1_tellDeath_0 5 rfl rfl)
theorem dX1_tellDeath_6 : decode cX1_tellDeath 6 = .ok (.iload_n 2, 1) := dk_28 (dk_at dksX1_tellDeath_0 6 rfl rfl)
theorem dX1_tellDeath_7 : decode cX1_tellDeath 7 = .ok (.i2l, 1) := dk_133 (dk_at dksX1_tellDeath_0 7 rfl rfl)
theorem dX1_tellDeath_8 : decode cX1_tellDeath 8 = .ok (.lconst 0, 1) := dk_9 (dk_at dksX1_tellDeath_0 8 rfl rfl)
theorem dX1_tellDeath_9 : decode cX1_tellDeath 9 = .ok (.ldc2_w 262, 3) := dk_20 1 6 (dk_at dksX1_tellDeath_0 9 rfl rfl)
theorem dX1_tellDeath_12 : decode cX1_tellDeath 12 = .ok (.invokestatic 201, 3) := dk_184 0 201 (dk_at dksX1_tellDeath_0 12 rfl rfl)
theorem dX1_tellDeath_15 : decode cX1_tellDeath 15 = .ok (.aload_n 3, 1) := dk_45 (dk_at dksX1_tellDeath_0 15 rfl rfl)
theorem dX1_tellDeath_16 : decode cX1_tellDeath 16 = .ok (.invokevirtual 348, 3) := dk_182 1 92 (dk_at dksX1_tellDeath_0 16 rfl rfl)
theorem dX1_tellDeath_19 : decode cX1_tellDeath 19 = .ok (.invokestatic 286, 3) := dk_184 1 30 (dk_at dksX1_tellDeath_0 19 rfl rfl)
theorem dX1_tellDeath_22 : decode cX1_tellDeath 22 = .ok (.aload_n 3, 1) := dk_45 (dk_at dksX1_tellDeath_0 22 rfl rfl)
theorem dX1_tellDeath_23 : decode cX1_tellDeath 23 = .ok (.iconst 2, 1) := dk_5 (dk_at dksX1_tellDeath_0 23 rfl rfl)
theorem dX1_tellDeath_24 : decode cX1_tellDeath 24 = .ok (.putfield 306, 3) := dk_181 1 50 (dk_at dksX1_tellDeath_1 0 rfl rfl)
theorem dX1_tellDeath_27 : decode cX1_tellDeath 27 = .ok (.aload_n 3, 1) := dk_45 (dk_at dksX1_tellDeath_1 3 rfl rfl)
theorem dX1_tellDeath_28 : decode cX1_tellDeath 28 = .ok (.iload_n 2, 1) := dk_28 (dk_at dksX1_tellDeath_1 4 rfl rfl)
theorem dX1_tellDeath_29 : decode cX1_tellDeath 29 = .ok (.putfield 355, 3) := dk_181 1 99 (dk_at dksX1_tellDeath_1 5 rfl rfl)
theorem dX1_tellDeath_32 : decode cX1_tellDeath 32 = .ok (.aload_n 3, 1) := dk_45 (dk_at dksX1_tellDeath_1 8 rfl rfl)
theorem dX1_tellDeath_33 : decode cX1_tellDeath 33 = .ok (.invokevirtual 358, 3) := dk_182 1 102 (dk_at dksX1_tellDeath_1 9 rfl rfl)
theorem dX1_tellDeath_36 : decode cX1_tellDeath 36 = .ok (.lreturn, 1) := dk_173 (dk_at dksX1_tellDeath_1 12 rfl rfl)
abbrev cX1_tellLate : ByteArray := prog_1_method_35_code
def yX1_tellLate : MethodName := ⟨RX1, "tellLate", "(II)J"⟩
def dkwX1_tellLate_3 : List UInt8 := [97, 182, 0, 193, 45, 7, 181, 1, 50, 42, 89, 180, 0, 67, 22, 4, 97, 181, 0, 67, 22, 4, 173]
abbrev dktX1_tellLate_3 : List UInt8 := dkwX1_tellLate_3 ++ []
def dkwX1_tellLate_2 : List UInt8 := [42, 180, 0, 51, 3, 184, 0, 187, 45, 42, 180, 0, 23, 3, 50, 42, 180, 0, 63, 182, 0, 150, 22, 4]
abbrev dktX1_tellLate_2 : List UInt8 := dkwX1_tellLate_2 ++ dktX1_tellLate_3
def dkwX1_tellLate_1 : List UInt8 := [45, 180, 1, 50, 154, 0, 7, 4, 167, 0, 4, 3, 184, 1, 30, 45, 180, 1, 53, 28, 133, 105, 55, 4]
abbrev dktX1_tellLate_1 : List UInt8 := dkwX1_tellLate_1 ++ dktX1_tellLate_2
def dkwX1_tellLate_0 : List UInt8 := [42, 27, 182, 1, 46, 78, 28, 133, 10, 45, 180, 1, 105, 133, 184, 0, 201, 45, 182, 1, 108, 153, 0, 14]
abbrev dktX1_tellLate_0 : List UInt8 := dkwX1_tellLate_0 ++ dktX1_tellLate_1
theorem dksX1_tellLate_0 : cX1_tellLate.data.toList.drop 0 = dktX1_tellLate_0 := by decide +kernel
theorem dksX1_tellLate_1 : cX1_tellLate.data.toList.drop 24 = dktX1_tellLate_1 := dk_seg dksX1_tellLate_0 24 rfl rfl
theorem dksX1_tellLate_2 : cX1_tellLate.data.toList.drop 48 = dktX1_tellLate_2 := dk_seg dksX1_tellLate_1 24 rfl rfl
theorem dksX1_tellLate_3 : cX1_tellLate.data.toList.drop 72 = dktX1_tellLate_3 := dk_seg dksX1_tellLate_2 24 rfl rfl
theorem dX1_tellLate_0 : decode cX1_tellLate 0 = .ok (.aload_n 0, 1) := dk_42 (dk_at dksX1_tellLate_0 0 rfl rfl)
theorem dX1_tellLate_1 : decode cX1_tellLate 1 = .ok (.iload_n 1, 1) := dk_27 (dk_at dksX1_tellLate_0 1 rfl rfl)
theorem dX1_tellLate_2 : decode cX1_tellLate 2 = .ok (.invokevirtual 302, 3) := dk_182 1 46 (dk_at dksX1_tellLate_0 2 rfl rfl)
theorem dX1_tellLate_5 : decode cX1_tellLate 5 = .ok (.astore_n 3, 1) := dk_78 (dk_at dksX1_tellLate_0 5 rfl rfl)
theorem dX1_tellLate_6 : decode cX1_tellLate 6 = .ok (.iload_n 2, 1) := dk_28 (dk_at dksX1_tellLate_0 6 rfl rfl)
theorem dX1_tellLate_7 : decode cX1_tellLate 7 = .ok (.i2l, 1) := dk_133 (dk_at dksX1_tellLate_0 7 rfl rfl)
theorem dX1_tellLate_8 : decode cX1_tellLate 8 = .ok (.lconst 1, 1) := dk_10 (dk_at dksX1_tellLate_0 8 rfl rfl)
theorem dX1_tellLate_9 : decode cX1_tellLate 9 = .ok (.aload_n 3, 1) := dk_45 (dk_at dksX1_tellLate_0 9 rfl rfl)
theorem dX1_tellLate_10 : decode cX1_tellLate 10 = .ok (.getfield 361, 3) := dk_180 1 105 (dk_at dksX1_tellLate_0 10 rfl rfl)
theorem dX1_tellLate_13 : decode cX1_tellLate 13 = .ok (.i2l, 1) := dk_133 (dk_at dksX1_tellLate_0 13 rfl rfl)
theorem dX1_tellLate_14 : decode cX1_tellLate 14 = .ok (.invokestatic 201, 3) := dk_184 0 201 (dk_at dksX1_tellLate_0 14 rfl rfl)
theorem dX1_tellLate_17 : decode cX1_tellLate 17 = .ok (.aload_n 3, 1) := dk_45 (dk_at dksX1_tellLate_0 17 rfl rfl)
theorem dX1_tellLate_18 : decode cX1_tellLate 18 = .ok (.invokevirtual 364, 3) := dk_182 1 108 (dk_at dksX1_tellLate_0 18 rfl rfl)
theorem dX1_tellLate_21 : decode cX1_tellLate 21 = .ok (.ifCond .eq 14, 3) := dk_153 0 14 (dk_at dksX1_tellLate_0 21 rfl rfl)
theorem dX1_tellLate_24 : decode cX1_tellLate 24 = .ok (.aload_n 3, 1) := dk_45 (dk_at dksX1_tellLate_1 0 rfl rfl)
theorem dX1_tellLate_25 : decode cX1_tellLate 25 = .ok (.getfield 306, 3) := dk_180 1 50 (dk_at dksX1_tellLate_1 1 rfl rfl)
theorem dX1_tellLate_28 : decode cX1_tellLate 28 = .ok (.ifCond .ne 7, 3) := dk_154 0 7 (dk_at dksX1_tellLate_1 4 rfl rfl)
theorem dX1_tellLate_31 : decode cX1_tellLate 31 = .ok (.iconst 1, 1) := dk_4 (dk_at dksX1_tellLate_1 7 rfl rfl)
theorem dX1_tellLate_32 : decode cX1_tellLate 32 = .ok (.goto 4, 3) := dk_167 0 4 (dk_at dksX1_tellLate_1 8 rfl rfl)
theorem dX1_tellLate_35 : decode cX1_tellLate 35 = .ok (.iconst 0, 1) := dk_3 (dk_at dksX1_tellLate_1 11 rfl rfl)
theorem dX1_tellLate_36 : decode cX1_tellLate 36 = .ok (.invokestatic 286, 3) := dk_184 1 30 (dk_at dksX1_tellLate_1 12 rfl rfl)
theorem dX1_tellLate_39 : decode cX1_tellLate 39 = .ok (.aload_n 3, 1) := dk_45 (dk_at dksX1_tellLate_1 15 rfl rfl)
theorem dX1_tellLate_40 : decode cX1_tellLate 40 = .ok (.getfield 309, 3) := dk_180 1 53 (dk_at dksX1_tellLate_1 16 rfl rfl)
theorem dX1_tellLate_43 : decode cX1_tellLate 43 = .ok (.iload_n 2, 1) := dk_28 (dk_at dksX1_tellLate_1 19 rfl rfl)
theorem dX1_tellLate_44 : decode cX1_tellLate 44 = .ok (.i2l, 1) := dk_133 (dk_at dksX1_tellLate_1 20 rfl rfl)
theorem dX1_tellLate_45 : decode cX1_tellLate 45 = .ok (.lmul, 1) := dk_105 (dk_at dksX1_tellLate_1 21 rfl rfl)
theorem dX1_tellLate_46 : decode cX1_tellLate 46 = .ok (.lstore 4, 2) := dk_55 4 (dk_at dksX1_tellLate_1 22 rfl rfl)
theorem dX1_tellLate_48 : decode cX1_tellLate 48 = .ok (.aload_n 0, 1) := dk_42 (dk_at dksX1_tellLate_2 0 rfl rfl)
theorem dX1_tellLate_49 : decode cX1_tellLate 49 = .ok (.getfield 51, 3) := dk_180 0 51 (dk_at dksX1_tellLate_2 1 rfl rfl)
theorem dX1_tellLate_52 : decode cX1_tellLate 52 = .ok (.iconst 0, 1) := dk_3 (dk_at dksX1_tellLate_2 4 rfl rfl)
theorem dX1_tellLate_53 : decode cX1_tellLate 53 = .ok (.invokestatic 187, 3) := dk_184 0 187 (dk_at dksX1_tellLate_2 5 rfl rfl)
theorem dX1_tellLate_56 : decode cX1_tellLate 56 = .ok (.aload_n 3, 1) := dk_45 (dk_at dksX1_tellLate_2 8 rfl rfl)
theorem dX1_tellLate_57 : decode cX1_tellLate 57 = .ok (.aload_n 0, 1) := dk_42 (dk_at dksX1_tellLate_2 9 rfl rfl)
theorem dX1_tellLate_58 : decode cX1_tellLate 58 = .ok (.getfield 23, 3) := dk_180 0 23 (dk_at dksX1_tellLate_2 10 rfl rfl)
theorem dX1_tellLate_61 : decode cX1_tellLate 61 = .ok (.iconst 0, 1) := dk_3 (dk_at dksX1_tellLate_2 13 rfl rfl)
theorem dX1_tellLate_62 : decode cX1_tellLate 62 = .ok (.aaload, 1) := dk_50 (dk_at dksX1_tellLate_2 14 rfl rfl)
theorem dX1_tellLate_63 : decode cX1_tellLate 63 = .ok (.aload_n 0, 1) := dk_42 (dk_at dksX1_tellLate_2 15 rfl rfl)
theorem dX1_tellLate_64 : decode cX1_tellLate 64 = .ok (.getfield 63, 3) := dk_180 0 63 (dk_at dksX1_tellLate_2 16 rfl rfl)
theorem dX1_tellLate_67 : decode cX1_tellLate 67 = .ok (.invokevirtual 150, 3) := dk_182 0 150 (dk_at dksX1_tellLate_2 19 rfl rfl)
theorem dX1_tellLate_70 : decode cX1_tellLate 70 = .ok (.lload 4, 2) := dk_22 4 (dk_at dksX1_tellLate_2 22 rfl rfl)
theorem dX1_tellLate_72 : decode cX1_tellLate 72 = .ok (.ladd, 1) := dk_97 (dk_at dksX1_tellLate_3 0 rfl rfl)
theorem dX1_tellLate_73 : decode cX1_tellLate 73 = .ok (.invokevirtual 193, 3) := dk_182 0 193 (dk_at dksX1_tellLate_3 1 rfl rfl)
theorem dX1_tellLate_76 : decode cX1_tellLate 76 = .ok (.aload_n 3, 1) := dk_45 (dk_at dksX1_tellLate_3 4 rfl rfl)
theorem dX1_tellLate_77 : decode cX1_tellLate 77 = .ok (.iconst 4, 1) := dk_7 (dk_at dksX1_tellLate_3 5 rfl rfl)
theorem dX1_tellLate_78 : decode cX1_tellLate 78 = .ok (.putfield 306, 3) := dk_181 1 50 (dk_at dksX1_tellLate_3 6 rfl rfl)
theorem dX1_tellLate_81 : decode cX1_tellLate 81 = .ok (.aload_n 0, 1) := dk_42 (dk_at dksX1_tellLate_3 9 rfl rfl)
theorem dX1_tellLate_82 : decode cX1_tellLate 82 = .ok (.dup, 1) := dk_89 (dk_at dksX1_tellLate_3 10 rfl rfl)
theorem dX1_tellLate_83 : decode cX1_tellLate 83 = .ok (.getfield 67, 3) := dk_180 0 67 (dk_at dksX1_tellLate_3 11 rfl rfl)
theorem dX1_tellLate_86 : decode cX1_tellLate 86 = .ok (.lload 4, 2) := dk_22 4 (dk_at dksX1_tellLate_3 14 rfl rfl)
theorem dX1_tellLate_88 : decode cX1_tellLate 88 = .ok (.ladd, 1) := dk_97 (dk_at dksX1_tellLate_3 16 rfl rfl)
theorem dX1_tellLate_89 : decode cX1_tellLate 89 = .ok (.putfield 67, 3) := dk_181 0 67 (dk_at dksX1_tellLate_3 17 rfl rfl)
theorem dX1_tellLate_92 : decode cX1_tellLate 92 = .ok (.lload 4, 2) := dk_22 4 (dk_at dksX1_tellLate_3 20 rfl rfl)
theorem dX1_tellLate_94 : decode cX1_tellLate 94 = .ok (.lreturn, 1) := dk_173 (dk_at dksX1_tellLate_3 22 rfl rfl)
abbrev cX1_tellSurrender : ByteArray := prog_1_method_36_code
def yX1_tellSurrender : MethodName := ⟨RX1, "tellSurrender", "(I)J"⟩
def dkwX1_tellSurrender_1 : List UInt8 := [3, 184, 1, 30, 44, 6, 181, 1, 50, 44, 42, 180, 0, 63, 182, 1, 62, 173]
abbrev dktX1_tellSurrender_1 : List UInt8 := dkwX1_tellSurrender_1 ++ []
def dkwX1_tellSurrender_0 : List UInt8 := [42, 27, 182, 1, 46, 77, 44, 182, 1, 92, 153, 0, 14, 44, 182, 1, 69, 153, 0, 7, 4, 167, 0, 4]
abbrev dktX1_tellSurrender_0 : List UInt8 := dkwX1_tellSurrender_0 ++ dktX1_tellSurrender_1
theorem dksX1_tellSurrender_0 : cX1_tellSurrender.data.toList.drop 0 = dktX1_tellSurrender_0 := by decide +kernel
theorem dksX1_tellSurrender_1 : cX1_tellSurrender.data.toList.drop 24 = dktX1_tellSurrender_1 := dk_seg dksX1_tellSurrender_0 24 rfl rfl
theorem dX1_tellSurrender_0 : decode cX1_tellSurrender 0 = .ok (.aload_n 0, 1) := dk_42 (dk_at dksX1_tellSurrender_0 0 rfl rfl)
theorem dX1_tellSurrender_1 : decode cX1_tellSurrender 1 = .ok (.iload_n 1, 1) := dk_27 (dk_at dksX1_tellSurrender_0 1 rfl rfl)
theorem dX1_tellSurrender_2 : decode cX1_tellSurrender 2 = .ok (.invokevirtual 302, 3) := dk_182 1 46 (dk_at dksX1_tellSurrender_0 2 rfl rfl)
theorem dX1_tellSurrender_5 : decode cX1_tellSurrender 5 = .ok (.astore_n 2, 1) := dk_77 (dk_at dksX1_tellSurrender_0 5 rfl rfl)
theorem dX1_tellSurrender_6 : decode cX1_tellSurrender 6 = .ok (.aload_n 2, 1) := dk_44 (dk_at dksX1_tellSurrender_0 6 rfl rfl)
theorem dX1_tellSurrender_7 : decode cX1_tellSurrender 7 = .ok (.invokevirtual 348, 3) := dk_182 1 92 (dk_at dksX1_tellSurrender_0 7 rfl rfl)
theorem dX1_tellSurrender_10 : decode cX1_tellSurrender 10 = .ok (.ifCond .eq 14, 3) := dk_153 0 14 (dk_at dksX1_tellSurrender_0 10 rfl rfl)
theorem dX1_tellSurrender_13 : decode cX1_tellSurrender 13 = .ok (.aload_n 2, 1) := dk_44 (dk_at dksX1_tellSurrender_0 13 rfl rfl)
theorem dX1_tellSurrender_14 : decode cX1_tellSurrender 14 = .ok (.invokevirtual 325, 3) := dk_182 1 69 (dk_at dksX1_tellSurrender_0 14 rfl rfl)
theorem dX1_tellSurrender_17 : decode cX1_tellSurrender 17 = .ok (.ifCond .eq 7, 3) := dk_153 0 7 (dk_at dksX1_tellSurrender_0 17 rfl rfl)
theorem dX1_tellSurrender_20 : decode cX1_tellSurrender 20 = .ok (.iconst 1, 1) := dk_4 (dk_at dksX1_tellSurrender_0 20 rfl rfl)
theorem dX1_tellSurrender_21 : decode cX1_tellSurrender 21 = .ok (.goto 4, 3) := dk_167 0 4 (dk_at dksX1_tellSurrender_0 21 rfl rfl)
theorem dX1_tellSurrender_24 : decode cX1_tellSurrender 24 = .ok (.iconst 0, 1) := dk_3 (dk_at dksX1_tellSurrender_1 0 rfl rfl)
theorem dX1_tellSurrender_25 : decode cX1_tellSurrender 25 = .ok (.invokestatic 286, 3) := dk_184 1 30 (dk_at dksX1_tellSurrender_1 1 rfl rfl)
theorem dX1_tellSurrender_28 : decode cX1_tellSurrender 28 = .ok (.aload_n 2, 1) := dk_44 (dk_at dksX1_tellSurrender_1 4 rfl rfl)
theorem dX1_tellSurrender_29 : decode cX1_tellSurrender 29 = .ok (.iconst 3, 1) := dk_6 (dk_at dksX1_tellSurrender_1 5 rfl rfl)
theorem dX1_tellSurrender_30 : decode cX1_tellSurrender 30 = .ok (.putfield 306, 3) := dk_181 1 50 (dk_at dksX1_tellSurrender_1 6 rfl rfl)
theorem dX1_tellSurrender_33 : decode cX1_tellSurrender 33 = .ok (.aload_n 2, 1) := dk_44 (dk_at dksX1_tellSurrender_1 9 rfl rfl)
theorem dX1_tellSurrender_34 : decode cX1_tellSurrender 34 = .ok (.aload_n 0, 1) := dk_42 (dk_at dksX1_tellSurrender_1 10 rfl rfl)
theorem dX1_tellSurrender_35 : decode cX1_tellSurrender 35 = .ok (.getfield 63, 3) := dk_180 0 63 (dk_at dksX1_tellSurrender_1 11 rfl rfl)
theorem dX1_tellSurrender_38 : decode cX1_tellSurrender 38 = .ok (.invokevirtual 318, 3) := dk_182 1 62 (dk_at dksX1_tellSurrender_1 14 rfl rfl)
theorem dX1_tellSurrender_41 : decode cX1_tellSurrender 41 = .ok (.lreturn, 1) := dk_173 (dk_at dksX1_tellSurrender_1 17 rfl rfl)
abbrev cX1_lapse : ByteArray := prog_1_method_37_code
def yX1_lapse : MethodName := ⟨RX1, "lapse", "(I)J"⟩
def dkwX1_lapse_3 : List UInt8 := [181, 1, 111, 44, 9, 181, 0, 154, 33, 173]
abbrev dktX1_lapse_3 : List UInt8 := dkwX1_lapse_3 ++ []
def dkwX1_lapse_2 : List UInt8 := [184, 0, 187, 33, 44, 180, 0, 154, 101, 182, 0, 193, 44, 16, 7, 181, 1, 50, 44, 42, 180, 0, 63]
abbrev dktX1_lapse_2 : List UInt8 := dkwX1_lapse_2 ++ dktX1_lapse_3
def dkwX1_lapse_1 : List UInt8 := [3, 184, 1, 30, 44, 42, 180, 0, 23, 3, 50, 42, 180, 0, 63, 182, 0, 150, 66, 42, 180, 0, 51, 7]
abbrev dktX1_lapse_1 : List UInt8 := dkwX1_lapse_1 ++ dktX1_lapse_2
def dkwX1_lapse_0 : List UInt8 := [42, 27, 182, 1, 46, 77, 44, 180, 1, 50, 154, 0, 14, 44, 182, 1, 108, 154, 0, 7, 4, 167, 0, 4]
abbrev dktX1_lapse_0 : List UInt8 := dkwX1_lapse_0 ++ dktX1_lapse_1
theorem dksX1_lapse_0 : cX1_lapse.data.toList.drop 0 = dktX1_lapse_0 := by decide +kernel
theorem dksX1_lapse_1 : cX1_lapse.data.toList.drop 24 = dktX1_lapse_1 := dk_seg dksX1_lapse_0 24 rfl rfl
theorem dksX1_lapse_2 : cX1_lapse.data.toList.drop 48 = dktX1_lapse_2 := dk_seg dksX1_lapse_1 24 rfl rfl
theorem dksX1_lapse_3 : cX1_lapse.data.toList.drop 71 = dktX1_lapse_3 := dk_seg dksX1_lapse_2 23 rfl rfl
theorem dX1_lapse_0 : decode cX1_lapse 0 = .ok (.aload_n 0, 1) := dk_42 (dk_at dksX1_lapse_0 0 rfl rfl)
theorem dX1_lapse_1 : decode cX1_lapse 1 = .ok (.iload_n 1, 1) := dk_27 (dk_at dksX1_lapse_0 1 rfl rfl)
theorem dX1_lapse_2 : decode cX1_lapse 2 = .ok (.invokevirtual 302, 3) := dk_182 1 46 (dk_at dksX1_lapse_0 2 rfl rfl)
theorem dX1_lapse_5 : decode cX1_lapse 5 = .ok (.astore_n 2, 1) := dk_77 (dk_at dksX1_lapse_0 5 rfl rfl)
theorem dX1_lapse_6 : decode cX1_lapse 6 = .ok (.aload_n 2, 1) := dk_44 (dk_at dksX1_lapse_0 6 rfl rfl)
theorem dX1_lapse_7 : decode cX1_lapse 7 = .ok (.getfield 306, 3) := dk_180 1 50 (dk_at dksX1_lapse_0 7 rfl rfl)
theorem dX1_lapse_10 : decode cX1_lapse 10 = .ok (.ifCond .ne 14, 3) := dk_154 0 14 (dk_at dksX1_lapse_0 10 rfl rfl)
theorem dX1_lapse_13 : decode cX1_lapse 13 = .ok (.aload_n 2, 1) := dk_44 (dk_at dksX1_lapse_0 13 rfl rfl)
theorem dX1_lapse_14 : decode cX1_lapse 14 = .ok (.invokevirtual 364, 3) := dk_182 1 108 (dk_at dksX1_lapse_0 14 rfl rfl)
theorem dX1_lapse_17 : decode cX1_lapse 17 = .ok (.ifCond .ne 7, 3) := dk_154 0 7 (dk_at dksX1_lapse_0 17 rfl rfl)
theorem dX1_lapse_20 : decode cX1_lapse 20 = .ok (.iconst 1, 1) := dk_4 (dk_at dksX1_lapse_0 20 rfl rfl)
theorem dX1_lapse_21 : decode cX1_lapse 21 = .ok (.goto 4, 3) := dk_167 0 4 (dk_at dksX1_lapse_0 21 rfl rfl)
theorem dX1_lapse_24 : decode cX1_lapse 24 = .ok (.iconst 0, 1) := dk_3 (dk_at dksX1_lapse_1 0 rfl rfl)
theorem dX1_lapse_25 : decode cX1_lapse 25 = .ok (.invokestatic 286, 3) := dk_184 1 30 (dk_at dksX1_lapse_1 1 rfl rfl)
theorem dX1_lapse_28 : decode cX1_lapse 28 = .ok (.aload_n 2, 1) := dk_44 (dk_at dksX1_lapse_1 4 rfl rfl)
theorem dX1_lapse_29 : decode cX1_lapse 29 = .ok (.aload_n 0, 1) := dk_42 (dk_at dksX1_lapse_1 5 rfl rfl)
theorem dX1_lapse_30 : decode cX1_lapse 30 = .ok (.getfield 23, 3) := dk_180 0 23 (dk_at dksX1_lapse_1 6 rfl rfl)
theorem dX1_lapse_33 : decode cX1_lapse 33 = .ok (.iconst 0, 1) := dk_3 (dk_at dksX1_lapse_1 9 rfl rfl)
theorem dX1_lapse_34 : decode cX1_lapse 34 = .ok (.aaload, 1) := dk_50 (dk_at dksX1_lapse_1 10 rfl rfl)
theorem dX1_lapse_35 : decode cX1_lapse 35 = .ok (.aload_n 0, 1) := dk_42 (dk_at dksX1_lapse_1 11 rfl rfl)
theorem dX1_lapse_36 : decode cX1_lapse 36 = .ok (.getfield 63, 3) := dk_180 0 63 (dk_at dksX1_lapse_1 12 rfl rfl)
theorem dX1_lapse_39 : decode cX1_lapse 39 = .ok (.invokevirtual 150, 3) := dk_182 0 150 (dk_at dksX1_lapse_1 15 rfl rfl)
theorem dX1_lapse_42 : decode cX1_lapse 42 = .ok (.lstore_n 3, 1) := dk_66 (dk_at dksX1_lapse_1 18 rfl rfl)
theorem dX1_lapse_43 : decode cX1_lapse 43 = .ok (.aload_n 0, 1) := dk_42 (dk_at dksX1_lapse_1 19 rfl rfl)
theorem dX1_lapse_44 : decode cX1_lapse 44 = .ok (.getfield 51, 3) := dk_180 0 51 (dk_at dksX1_lapse_1 20 rfl rfl)
theorem dX1_lapse_47 : decode cX1_lapse 47 = .ok (.iconst 4, 1) := dk_7 (dk_at dksX1_lapse_1 23 rfl rfl)
theorem dX1_lapse_48 : decode cX1_lapse 48 = .ok (.invokestatic 187, 3) := dk_184 0 187 (dk_at dksX1_lapse_2 0 rfl rfl)
theorem dX1_lapse_51 : decode cX1_lapse 51 = .ok (.lload_n 3, 1) := dk_33 (dk_at dksX1_lapse_2 3 rfl rfl)
theorem dX1_lapse_52 : decode cX1_lapse 52 = .ok (.aload_n 2, 1) := dk_44 (dk_at dksX1_lapse_2 4 rfl rfl)
theorem dX1_lapse_53 : decode cX1_lapse 53 = .ok (.getfield 154, 3) := dk_180 0 154 (dk_at dksX1_lapse_2 5 rfl rfl)
theorem dX1_lapse_56 : decode cX1_lapse 56 = .ok (.lsub, 1) := dk_101 (dk_at dksX1_lapse_2 8 rfl rfl)
theorem dX1_lapse_57 : decode cX1_lapse 57 = .ok (.invokevirtual 193, 3) := dk_182 0 193 (dk_at dksX1_lapse_2 9 rfl rfl)
theorem dX1_lapse_60 : decode cX1_lapse 60 = .ok (.aload_n 2, 1) := dk_44 (dk_at dksX1_lapse_2 12 rfl rfl)
theorem dX1_lapse_61 : decode cX1_lapse 61 = .ok (.bipush 7, 2) := dk_16 7 (dk_at dksX1_lapse_2 13 rfl rfl)
theorem dX1_lapse_63 : decode cX1_lapse 63 = .ok (.putfield 306, 3) := dk_181 1 50 (dk_at dksX1_lapse_2 15 rfl rfl)
theorem dX1_lapse_66 : decode cX1_lapse 66 = .ok (.aload_n 2, 1) := dk_44 (dk_at dksX1_lapse_2 18 rfl rfl)
theorem dX1_lapse_67 : decode cX1_lapse 67 = .ok (.aload_n 0, 1) := dk_42 (dk_at dksX1_lapse_2 19 rfl rfl)
theorem dX1_lapse_68 : decode cX1_lapse 68 = .ok (.getfield 63, 3) := dk_180 0 63 (dk_at dksX1_lapse_2 20 rfl rfl)
theorem dX1_lapse_71 : decode cX1_lapse 71 = .ok (.putfield 367, 3) := dk_181 1 111 (dk_at dksX1_lapse_3 0 rfl rfl)
theorem dX1_lapse_74 : decode cX1_lapse 74 = .ok (.aload_n 2, 1) := dk_44 (dk_at dksX1_lapse_3 3 rfl rfl)
theorem dX1_lapse_75 : decode cX1_lapse 75 = .ok (.lconst 0, 1) := dk_9 (dk_at dksX1_lapse_3 4 rfl rfl)
theorem dX1_lapse_76 : decode cX1_lapse 76 = .ok (.putfield 154, 3) := dk_181 0 154 (dk_at dksX1_lapse_3 5 rfl rfl)
theorem dX1_lapse_79 : decode cX1_lapse 79 = .ok (.lload_n 3, 1) := dk_33 (dk_at dksX1_lapse_3 8 rfl rfl)
theorem dX1_lapse_80 : decode cX1_lapse 80 = .ok (.lreturn, 1) := dk_173 (dk_at dksX1_lapse_3 9 rfl rfl)
abbrev cX1_reinstate : ByteArray := prog_1_method_38_code
def yX1_reinstate : MethodName := ⟨RX1, "reinstate", "(I)J"⟩
def dkwX1_reinstate_5 : List UInt8 := [42, 180, 0, 23, 3, 50, 42, 180, 0, 63, 182, 0, 150, 101, 182, 0, 193, 33, 173]
abbrev dktX1_reinstate_5 : List UInt8 := dkwX1_reinstate_5 ++ []
def dkwX1_reinstate_4 : List UInt8 := [3, 181, 1, 50, 42, 89, 180, 0, 67, 33, 97, 181, 0, 67, 42, 180, 0, 51, 7, 184, 0, 187, 33, 44]
abbrev dktX1_reinstate_4 : List UInt8 := dkwX1_reinstate_4 ++ dktX1_reinstate_5
def dkwX1_reinstate_3 : List UInt8 := [42, 180, 0, 63, 44, 180, 1, 111, 100, 133, 105, 66, 44, 44, 182, 1, 114, 153, 0, 7, 4, 167, 0, 4]
abbrev dktX1_reinstate_3 : List UInt8 := dkwX1_reinstate_3 ++ dktX1_reinstate_4
def dkwX1_reinstate_2 : List UInt8 := [182, 1, 114, 153, 0, 7, 9, 167, 0, 28, 44, 180, 1, 15, 20, 1, 117, 105, 20, 0, 7, 184, 0, 9]
abbrev dktX1_reinstate_2 : List UInt8 := dkwX1_reinstate_2 ++ dktX1_reinstate_3
def dkwX1_reinstate_1 : List UInt8 := [5, 163, 0, 18, 44, 180, 1, 66, 42, 180, 0, 63, 164, 0, 7, 4, 167, 0, 4, 3, 184, 1, 30, 44]
abbrev dktX1_reinstate_1 : List UInt8 := dkwX1_reinstate_1 ++ dktX1_reinstate_2
def dkwX1_reinstate_0 : List UInt8 := [42, 27, 182, 1, 46, 77, 44, 180, 1, 50, 16, 7, 160, 0, 31, 42, 180, 0, 63, 44, 180, 1, 111, 100]
abbrev dktX1_reinstate_0 : List UInt8 := dkwX1_reinstate_0 ++ dktX1_reinstate_1
theorem dksX1_reinstate_0 : cX1_reinstate.data.toList.drop 0 = dktX1_reinstate_0 := by decide +kernel
theorem dksX1_reinstate_1 : cX1_reinstate.data.toList.drop 24 = dktX1_reinstate_1 := dk_seg dksX1_reinstate_0 24 rfl rfl
theorem dksX1_reinstate_2 : cX1_reinstate.data.toList.drop 48 = dktX1_reinstate_2 := dk_seg dksX1_reinstate_1 24 rfl rfl
theorem dksX1_reinstate_3 : cX1_reinstate.data.toList.drop 72 = dktX1_reinstate_3 := dk_seg dksX1_reinstate_2 24 rfl rfl
theorem dksX1_reinstate_4 : cX1_reinstate.data.toList.drop 96 = dktX1_reinstate_4 := dk_seg dksX1_reinstate_3 24 rfl rfl
theorem dksX1_reinstate_5 : cX1_reinstate.data.toList.drop 120 = dktX1_reinstate_5 := dk_seg dksX1_reinstate_4 24 rfl rfl
theorem dX1_reinstate_0 : decode cX1_reinstate 0 = .ok (.aload_n 0, 1) := dk_42 (dk_at dksX1_reinstate_0 0 rfl rfl)
theorem dX1_reinstate_1 : decode cX1_reinstate 1 = .ok (.iload_n 1, 1) := dk_27 (dk_at dksX1_reinstate_0 1 rfl rfl)
theorem dX1_reinstate_2 : decode cX1_reinstate 2 = .ok (.invokevirtual 302, 3) := dk_182 1 46 (dk_at dksX1_reinstate_0 2 rfl rfl)
theorem dX1_reinstate_5 : decode cX1_reinstate 5 = .ok (.astore_n 2, 1) := dk_77 (dk_at dksX1_reinstate_0 5 rfl rfl)
theorem dX1_reinstate_6 : decode cX1_reinstate 6 = .ok (.aload_n 2, 1) := dk_44 (dk_at dksX1_reinstate_0 6 rfl rfl)
theorem dX1_reinstate_7 : decode cX1_reinstate 7 = .ok (.getfield 306, 3) := dk_180 1 50 (dk_at dksX1_reinstate_0 7 rfl rfl)
theorem dX1_reinstate_10 : decode cX1_reinstate 10 = .ok (.bipush 7, 2) := dk_16 7 (dk_at dksX1_reinstate_0 10 rfl rfl)
theorem dX1_reinstate_12 : decode cX1_reinstate 12 = .ok (.if_icmp .ne 31, 3) := dk_160 0 31 (dk_at dksX1_reinstate_0 12 rfl rfl)
theorem dX1_reinstate_15 : decode cX1_reinstate 15 = .ok (.aload_n 0, 1) := dk_42 (dk_at dksX1_reinstate_0 15 rfl rfl)
theorem dX1_reinstate_16 : decode cX1_reinstate 16 = .ok (.getfield 63, 3) := dk_180 0 63 (dk_at dksX1_reinstate_0 16 rfl rfl)
theorem dX1_reinstate_19 : decode cX1_reinstate 19 = .ok (.aload_n 2, 1) := dk_44 (dk_at dksX1_reinstate_0 19 rfl rfl)
theorem dX1_reinstate_20 : decode cX1_reinstate 20 = .ok (.getfield 367, 3) := dk_180 1 111 (dk_at dksX1_reinstate_0 20 rfl rfl)
theorem dX1_reinstate_23 : decode cX1_reinstate 23 = .ok (.isub, 1) := dk_100 (dk_at dksX1_reinstate_0 23 rfl rfl)
theorem dX1_reinstate_24 : decode cX1_reinstate 24 = .ok (.iconst 2, 1) := dk_5 (dk_at dksX1_reinstate_1 0 rfl rfl)
theorem dX1_reinstate_25 : decode cX1_reinstate 25 = .ok (.if_icmp .gt 18, 3) := dk_163 0 18 (dk_at dksX1_reinstate_1 1 rfl rfl)
theorem dX1_reinstate_28 : decode cX1_reinstate 28 = .ok (.aload_n 2, 1) := dk_44 (dk_at dksX1_reinstate_1 4 rfl rfl)
theorem dX1_reinstate_29 : decode cX1_reinstate 29 = .ok (.getfield 322, 3) := dk_180 1 66 (dk_at dksX1_reinstate_1 5 rfl rfl)
theorem dX1_reinstate_32 : decode cX1_reinstate 32 = .ok (.aload_n 0, 1) := dk_42 (dk_at dksX1_reinstate_1 8 rfl rfl)
theorem dX1_reinstate_33 : decode cX1_reinstate 33 = .ok (.getfield 63, 3) := dk_180 0 63 (dk_at dksX1_reinstate_1 9 rfl rfl)
theorem dX1_reinstate_36 : decode cX1_reinstate 36 = .ok (.if_icmp .le 7, 3) := dk_164 0 7 (dk_at dksX1_reinstate_1 12 rfl rfl)
theorem dX1_reinstate_39 : decode cX1_reinstate 39 = .ok (.iconst 1, 1) := dk_4 (dk_at dksX1_reinstate_1 15 rfl rfl)
theorem dX1_reinstate_40 : decode cX1_reinstate 40 = .ok (.goto 4, 3) := dk_167 0 4 (dk_at dksX1_reinstate_1 16 rfl rfl)
theorem dX1_reinstate_43 : decode cX1_reinstate 43 = .ok (.iconst 0, 1) := dk_3 (dk_at dksX1_reinstate_1 19 rfl rfl)
theorem dX1_reinstate_44 : decode cX1_reinstate 44 = .ok (.invokestatic 286, 3) := dk_184 1 30 (dk_at dksX1_reinstate_1 20 rfl rfl)
theorem dX1_reinstate_47 : decode cX1_reinstate 47 = .ok (.aload_n 2, 1) := dk_44 (dk_at dksX1_reinstate_1 23 rfl rfl)
theorem dX1_reinstate_48 : decode cX1_reinstate 48 = .ok (.invokevirtual 370, 3) := dk_182 1 114 (dk_at dksX1_reinstate_2 0 rfl rfl)
theorem dX1_reinstate_51 : decode cX1_reinstate 51 = .ok (.ifCond .eq 7, 3) := dk_153 0 7 (dk_at dksX1_reinstate_2 3 rfl rfl)
theorem dX1_reinstate_54 : decode cX1_reinstate 54 = .ok (.lconst 0, 1) := dk_9 (dk_at dksX1_reinstate_2 6 rfl rfl)
theorem dX1_reinstate_55 : decode cX1_reinstate 55 = .ok (.goto 28, 3) := dk_167 0 28 (dk_at dksX1_reinstate_2 7 rfl rfl)
theorem dX1_reinstate_58 : decode cX1_reinstate 58 = .ok (.aload_n 2, 1) := dk_44 (dk_at dksX1_reinstate_2 10 rfl rfl)
theorem dX1_reinstate_59 : decode cX1_reinstate 59 = .ok (.getfield 271, 3) := dk_180 1 15 (dk_at dksX1_reinstate_2 11 rfl rfl)
theorem dX1_reinstate_62 : decode cX1_reinstate 62 = .ok (.ldc2_w 373, 3) := dk_20 1 117 (dk_at dksX1_reinstate_2 14 rfl rfl)
theorem dX1_reinstate_65 : decode cX1_reinstate 65 = .ok (.lmul, 1) := dk_105 (dk_at dksX1_reinstate_2 17 rfl rfl)
theorem dX1_reinstate_66 : decode cX1_reinstate 66 = .ok (.ldc2_w 7, 3) := dk_20 0 7 (dk_at dksX1_reinstate_2 18 rfl rfl)
theorem dX1_reinstate_69 : decode cX1_reinstate 69 = .ok (.invokestatic 9, 3) := dk_184 0 9 (dk_at dksX1_reinstate_2 21 rfl rfl)
theorem dX1_reinstate_72 : decode cX1_reinstate 72 = .ok (.aload_n 0, 1) := dk_42 (dk_at dksX1_reinstate_3 0 rfl rfl)
theorem dX1_reinstate_73 : decode cX1_reinstate 73 = .ok (.getfield 63, 3) := dk_180 0 63 (dk_at dksX1_reinstate_3 1 rfl rfl)
theorem dX1_reinstate_76 : decode cX1_reinstate 76 = .ok (.aload_n 2, 1) := dk_44 (dk_at dksX1_reinstate_3 4 rfl rfl)
theorem dX1_reinstate_77 : decode cX1_reinstate 77 = .ok (.getfield 367, 3) := dk_180 1 111 (dk_at dksX1_reinstate_3 5 rfl rfl)
theorem dX1_reinstate_80 : decode cX1_reinstate 80 = .ok (.isub, 1) := dk_100 (dk_at dksX1_reinstate_3 8 rfl rfl)
theorem dX1_reinstate_81 : decode cX1_reinstate 81 = .ok (.i2l, 1) := dk_133 (dk_at dksX1_reinstate_3 9 rfl rfl)
theorem dX1_reinstate_82 : decode cX1_reinstate 82 = .ok (.lmul, 1) := dk_105 (dk_at dksX1_reinstate_3 10 rfl rfl)
theorem dX1_reinstate_83 : decode cX1_reinstate 83 = .ok (.lstore_n 3, 1) := dk_66 (dk_at dksX1_reinstate_3 11 rfl rfl)
theorem dX1_reinstate_84 : decode cX1_reinstate 84 = .ok (.aload_n 2, 1) := dk_44 (dk_at dksX1_reinstate_3 12 rfl rfl)
theorem dX1_reinstate_85 : decode cX1_reinstate 85 = .ok (.aload_n 2, 1) := dk_44 (dk_at dksX1_reinstate_3 13 rfl rfl)
theorem dX1_reinstate_86 : decode cX1_reinstate 86 = .ok (.invokevirtual 370, 3) := dk_182 1 114 (dk_at dksX1_reinstate_3 14 rfl rfl)
theorem dX1_reinstate_89 : decode cX1_reinstate 89 = .ok (.ifCond .eq 7, 3) := dk_153 0 7 (dk_at dksX1_reinstate_3 17 rfl rfl)
theorem dX1_reinstate_92 : decode cX1_reinstate 92 = .ok (.iconst 1, 1) := dk_4 (dk_at dksX1_reinstate_3 20 rfl rfl)
theorem dX1_reinstate_93 : decode cX1_reinstate 93 = .ok (.goto 4, 3) := dk_167 0 4 (dk_at dksX1_reinstate_3 21 rfl rfl)
theorem dX1_reinstate_96 : decode cX1_reinstate 96 = .ok (.iconst 0, 1) := dk_3 (dk_at dksX1_reinstate_4 0 rfl rfl)
theorem dX1_reinstate_97 : decode cX1_reinstate 97 = .ok (.putfield 306, 3) := dk_181 1 50 (dk_at dksX1_reinstate_4 1 rfl rfl)
theorem dX1_reinstate_100 : decode cX1_reinstate 100 = .ok (.aload_n 0, 1) := dk_42 (dk_at dksX1_reinstate_4 4 rfl rfl)
theorem dX1_reinstate_101 : decode cX1_reinstate 101 = .ok (.dup, 1) := dk_89 (dk_at dksX1_reinstate_4 5 rfl rfl)
theorem dX1_reinstate_102 : decode cX1_reinstate 102 = .ok (.getfield 67, 3) := dk_180 0 67 (dk_at dksX1_reinstate_4 6 rfl rfl)
theorem dX1_reinstate_105 : decode cX1_reinstate 105 = .ok (.lload_n 3, 1) := dk_33 (dk_at dksX1_reinstate_4 9 rfl rfl)
theorem dX1_reinstate_106 : decode cX1_reinstate 106 = .ok (.ladd, 1) := dk_97 (dk_at dksX1_reinstate_4 10 rfl rfl)
theorem dX1_reinstate_107 : decode cX1_reinstate 107 = .ok (.putfield 67, 3) := dk_181 0 67 (dk_at dksX1_reinstate_4 11 rfl rfl)
theorem dX1_reinstate_110 : decode cX1_reinstate 110 = .ok (.aload_n 0, 1) := dk_42 (dk_at dksX1_reinstate_4 14 rfl rfl)
theorem dX1_reinstate_111 : decode cX1_reinstate 111 = .ok (.getfield 51, 3) := dk_180 0 51 (dk_at dksX1_reinstate_4 15 rfl rfl)
theorem dX1_reinstate_114 : decode cX1_reinstate 114 = .ok (.iconst 4, 1) := dk_7 (dk_at dksX1_reinstate_4 18 rfl rfl)
theorem dX1_reinstate_115 : decode cX1_reinstate 115 = .ok (.invokestatic 187, 3) := dk_184 0 187 (dk_at dksX1_reinstate_4 19 rfl rfl)
theorem dX1_reinstate_118 : decode cX1_reinstate 118 = .ok (.lload_n 3, 1) := dk_33 (dk_at dksX1_reinstate_4 22 rfl rfl)
theorem dX1_reinstate_119 : decode cX1_reinstate 119 = .ok (.aload_n 2, 1) := dk_44 (dk_at dksX1_reinstate_4 23 rfl rfl)
theorem dX1_reinstate_120 : decode cX1_reinstate 120 = .ok (.aload_n 0, 1) := dk_42 (dk_at dksX1_reinstate_5 0 rfl rfl)
theorem dX1_reinstate_121 : decode cX1_reinstate 121 = .ok (.getfield 23, 3) := dk_180 0 23 (dk_at dksX1_reinstate_5 1 rfl rfl)
theorem dX1_reinstate_124 : decode cX1_reinstate 124 = .ok (.iconst 0, 1) := dk_3 (dk_at dksX1_reinstate_5 4 rfl rfl)
theorem dX1_reinstate_125 : decode cX1_reinstate 125 = .ok (.aaload, 1) := dk_50 (dk_at dksX1_reinstate_5 5 rfl rfl)
theorem dX1_reinstate_126 : decode cX1_reinstate 126 = .ok (.aload_n 0, 1) := dk_42 (dk_at dksX1_reinstate_5 6 rfl rfl)
theorem dX1_reinstate_127 : decode cX1_reinstate 127 = .ok (.getfield 63, 3) := dk_180 0 63 (dk_at dksX1_reinstate_5 7 rfl rfl)
theorem dX1_reinstate_130 : decode cX1_reinstate 130 = .ok (.invokevirtual 150, 3) := dk_182 0 150 (dk_at dksX1_reinstate_5 10 rfl rfl)
theorem dX1_reinstate_133 : decode cX1_reinstate 133 = .ok (.lsub, 1) := dk_101 (dk_at dksX1_reinstate_5 13 rfl rfl)
theorem dX1_reinstate_134 : decode cX1_reinstate 134 = .ok (.invokevirtual 193, 3) := dk_182 0 193 (dk_at dksX1_reinstate_5 14 rfl rfl)
theorem dX1_reinstate_137 : decode cX1_reinstate 137 = .ok (.lload_n 3, 1) := dk_33 (dk_at dksX1_reinstate_5 17 rfl rfl)
theorem dX1_reinstate_138 : decode cX1_reinstate 138 = .ok (.lreturn, 1) := dk_173 (dk_at dksX1_reinstate_5 18 rfl rfl)
abbrev cX1_setGuarantee : ByteArray := prog_1_method_40_code
def yX1_setGuarantee : MethodName := ⟨RX1, "setGuarantee", "(II)I"⟩
def dkwX1_setGuarantee_2 : List UInt8 := [181, 1, 126, 21, 4, 172]
abbrev dktX1_setGuarantee_2 : List UInt8 := dkwX1_setGuarantee_2 ++ []
def dkwX1_setGuarantee_1 : List UInt8 := [182, 1, 92, 153, 0, 7, 4, 167, 0, 4, 3, 184, 1, 30, 45, 180, 1, 126, 54, 4, 45, 28]
abbrev dktX1_setGuarantee_1 : List UInt8 := dkwX1_setGuarantee_1 ++ dktX1_setGuarantee_2
def dkwX1_setGuarantee_0 : List UInt8 := [42, 27, 182, 1, 46, 78, 28, 133, 9, 20, 1, 6, 184, 0, 201, 45, 184, 1, 122, 153, 0, 14, 45]
abbrev dktX1_setGuarantee_0 : List UInt8 := dkwX1_setGuarantee_0 ++ dktX1_setGuarantee_1
theorem dksX1_setGuarantee_0 : cX1_setGuarantee.data.toList.drop 0 = dktX1_setGuarantee_0 := by decide +kernel
theorem dksX1_setGuarantee_1 : cX1_setGuarantee.data.toList.drop 23 = dktX1_setGuarantee_1 := dk_seg dksX1_setGuarantee_0 23 rfl rfl
theorem dksX1_setGuarantee_2 : cX1_setGuarantee.data.toList.drop 45 = dktX1_setGuarantee_2 := dk_seg dksX1_setGuarantee_1 22 rfl rfl
theorem dX1_setGuarantee_0 : decode cX1_setGuarantee 0 = .ok (.aload_n 0, 1) := dk_42 (dk_at dksX1_setGuarantee_0 0 rfl rfl)
theorem dX1_setGuarantee_1 : decode cX1_setGuarantee 1 = .ok (.iload_n 1, 1) := dk_27 (dk_at dksX1_setGuarantee_0 1 rfl rfl)
theorem dX1_setGuarantee_2 : decode cX1_setGuarantee 2 = .ok (.invokevirtual 302, 3) := dk_182 1 46 (dk_at dksX1_setGuarantee_0 2 rfl rfl)
theorem dX1_setGuarantee_5 : decode cX1_setGuarantee 5 = .ok (.astore_n 3, 1) := dk_78 (dk_at dksX1_setGuarantee_0 5 rfl rfl)
theorem dX1_setGuarantee_6 : decode cX1_setGuarantee 6 = .ok (.iload_n 2, 1) := dk_28 (dk_at dksX1_setGuarantee_0 6 rfl rfl)
theorem dX1_setGuarantee_7 : decode cX1_setGuarantee 7 = .ok (.i2l, 1) := dk_133 (dk_at dksX1_setGuarantee_0 7 rfl rfl)
theorem dX1_setGuarantee_8 : decode cX1_setGuarantee 8 = .ok (.lconst 0, 1) := dk_9 (dk_at dksX1_setGuarantee_0 8 rfl rfl)
theorem dX1_setGuarantee_9 : decode cX1_setGuarantee 9 = .ok (.ldc2_w 262, 3) := dk_20 1 6 (dk_at dksX1_setGuarantee_0 9 rfl rfl)
theorem dX1_setGuarantee_12 : decode cX1_setGuarantee 12 = .ok (.invokestatic 201, 3) := dk_184 0 201 (dk_at dksX1_setGuarantee_0 12 rfl rfl)
theorem dX1_setGuarantee_15 : decode cX1_setGuarantee 15 = .ok (.aload_n 3, 1) := dk_45 (dk_at dksX1_setGuarantee_0 15 rfl rfl)
theorem dX1_setGuarantee_16 : decode cX1_setGuarantee 16 = .ok (.invokestatic 378, 3) := dk_184 1 122 (dk_at dksX1_setGuarantee_0 16 rfl rfl)
theorem dX1_setGuarantee_19 : decode cX1_setGuarantee 19 = .ok (.ifCond .eq 14, 3) := dk_153 0 14 (dk_at dksX1_setGuarantee_0 19 rfl rfl)
theorem dX1_setGuarantee_22 : decode cX1_setGuarantee 22 = .ok (.aload_n 3, 1) := dk_45 (dk_at dksX1_setGuarantee_0 22 rfl rfl)
theorem dX1_setGuarantee_23 : decode cX1_setGuarantee 23 = .ok (.invokevirtual 348, 3) := dk_182 1 92 (dk_at dksX1_setGuarantee_1 0 rfl rfl)
theorem dX1_setGuarantee_26 : decode cX1_setGuarantee 26 = .ok (.ifCond .eq 7, 3) := dk_153 0 7 (dk_at dksX1_setGuarantee_1 3 rfl rfl)
theorem dX1_setGuarantee_29 : decode cX1_setGuarantee 29 = .ok (.iconst 1, 1) := dk_4 (dk_at dksX1_setGuarantee_1 6 rfl rfl)
theorem dX1_setGuarantee_30 : decode cX1_setGuarantee 30 = .ok (.goto 4, 3) := dk_167 0 4 (dk_at dksX1_setGuarantee_1 7 rfl rfl)
theorem dX1_setGuarantee_33 : decode cX1_setGuarantee 33 = .ok (.iconst 0, 1) := dk_3 (dk_at dksX1_setGuarantee_1 10 rfl rfl)
theorem dX1_setGuarantee_34 : decode cX1_setGuarantee 34 = .ok (.invokestatic 286, 3) := dk_184 1 30 (dk_at dksX1_setGuarantee_1 11 rfl rfl)
theorem dX1_setGuarantee_37 : decode cX1_setGuarantee 37 = .ok (.aload_n 3, 1) := dk_45 (dk_at dksX1_setGuarantee_1 14 rfl rfl)
theorem dX1_setGuarantee_38 : decode cX1_setGuarantee 38 = .ok (.getfield 382, 3) := dk_180 1 126 (dk_at dksX1_setGuarantee_1 15 rfl rfl)
theorem dX1_setGuarantee_41 : decode cX1_setGuarantee 41 = .ok (.istore 4, 2) := dk_54 4 (dk_at dksX1_setGuarantee_1 18 rfl rfl)
theorem dX1_setGuarantee_43 : decode cX1_setGuarantee 43 = .ok (.aload_n 3, 1) := dk_45 (dk_at dksX1_setGuarantee_1 20 rfl rfl)
theorem dX1_setGuarantee_44 : decode cX1_setGuarantee 44 = .ok (.iload_n 2, 1) := dk_28 (dk_at dksX1_setGuarantee_1 21 rfl rfl)
theorem dX1_setGuarantee_45 : decode cX1_setGuarantee 45 = .ok (.putfield 382, 3) := dk_181 1 126 (dk_at dksX1_setGuarantee_2 0 rfl rfl)
theorem dX1_setGuarantee_48 : decode cX1_setGuarantee 48 = .ok (.iload 4, 2) := dk_21 4 (dk_at dksX1_setGuarantee_2 3 rfl rfl)
theorem dX1_setGuarantee_50 : decode cX1_setGuarantee 50 = .ok (.ireturn, 1) := dk_172 (dk_at dksX1_setGuarantee_2 5 rfl rfl)
abbrev cX1_isEndowment : ByteArray := prog_1_method_39_code
def yX1_isEndowment : MethodName := ⟨RX1, "isEndowment", "(LLifeoffice$Policy;)Z"⟩
def dkwX1_isEndowment_0 : List UInt8 := [42, 180, 1, 119, 4, 160, 0, 7, 4, 167, 0, 4, 3, 172]
abbrev dktX1_isEndowment_0 : List UInt8 := dkwX1_isEndowment_0 ++ []
theorem dksX1_isEndowment_0 : cX1_isEndowment.data.toList.drop 0 = dktX1_isEndowment_0 := by decide +kernel
theorem dX1_isEndowment_0 : decode cX1_isEndowment 0 = .ok (.aload_n 0, 1) := dk_42 (dk_at dksX1_isEndowment_0 0 rfl rfl)
theorem dX1_isEndowment_1 : decode cX1_isEndowment 1 = .ok (.getfield 375, 3) := dk_180 1 119 (dk_at dksX1_isEndowment_0 1 rfl rfl)
theorem dX1_isEndowment_4 : decode cX1_isEndowment 4 = .ok (.iconst 1, 1) := dk_4 (dk_at dksX1_isEndowment_0 4 rfl rfl)
theorem dX1_isEndowment_5 : decode cX1_isEndowment 5 = .ok (.if_icmp .ne 7, 3) := dk_160 0 7 (dk_at dksX1_isEndowment_0 5 rfl rfl)
theorem dX1_isEndowment_8 : decode cX1_isEndowment 8 = .ok (.iconst 1, 1) := dk_4 (dk_at dksX1_isEndowment_0 8 rfl rfl)
theorem dX1_isEndowment_9 : decode cX1_isEndowment 9 = .ok (.goto 4, 3) := dk_167 0 4 (dk_at dksX1_isEndowment_0 9 rfl rfl)
theorem dX1_isEndowment_12 : decode cX1_isEndowment 12 = .ok (.iconst 0, 1) := dk_3 (dk_at dksX1_isEndowment_0 12 rfl rfl)
theorem dX1_isEndowment_13 : decode cX1_isEndowment 13 = .ok (.ireturn, 1) := dk_172 (dk_at dksX1_isEndowment_0 13 rfl rfl)
abbrev cX1_optionValue : ByteArray := prog_1_method_43_code
def yX1_optionValue : MethodName := ⟨RX1, "optionValue", "(II)J"⟩
def dkwX1_optionValue_10 : List UInt8 := [132, 6, 255, 167, 255, 160, 25, 5, 3, 47, 173]
abbrev dktX1_optionValue_10 : List UInt8 := dkwX1_optionValue_10 ++ []
def dkwX1_optionValue_9 : List UInt8 := [28, 182, 1, 160, 184, 1, 175, 22, 7, 105, 20, 1, 168, 184, 0, 9, 80, 132, 9, 1, 167, 255, 201]
abbrev dktX1_optionValue_9 : List UInt8 := dkwX1_optionValue_9 ++ dktX1_optionValue_10
def dkwX1_optionValue_8 : List UInt8 := [25, 5, 21, 9, 47, 25, 5, 21, 9, 4, 96, 47, 97, 20, 1, 173, 184, 0, 9, 42, 21, 6, 21, 9]
abbrev dktX1_optionValue_8 : List UInt8 := dkwX1_optionValue_8 ++ dktX1_optionValue_9
def dkwX1_optionValue_7 : List UInt8 := [180, 1, 72, 182, 1, 170, 101, 55, 7, 3, 54, 9, 21, 9, 21, 6, 163, 0, 54, 25, 5, 21, 9]
abbrev dktX1_optionValue_7 : List UInt8 := dkwX1_optionValue_7 ++ dktX1_optionValue_8
def dkwX1_optionValue_6 : List UInt8 := [21, 6, 155, 0, 97, 20, 1, 168, 45, 42, 180, 0, 23, 3, 50, 42, 180, 0, 63, 21, 6, 96, 45]
abbrev dktX1_optionValue_6 : List UInt8 := dkwX1_optionValue_6 ++ dktX1_optionValue_7
def dkwX1_optionValue_5 : List UInt8 := [9, 22, 7, 45, 182, 1, 157, 101, 184, 1, 84, 80, 132, 6, 1, 167, 255, 191, 21, 4, 4, 100, 54, 6]
abbrev dktX1_optionValue_5 : List UInt8 := dkwX1_optionValue_5 ++ dktX1_optionValue_6
def dkwX1_optionValue_4 : List UInt8 := [21, 4, 21, 6, 28, 182, 1, 160, 182, 1, 164, 105, 20, 0, 254, 184, 0, 9, 55, 7, 25, 5, 21, 6]
abbrev dktX1_optionValue_4 : List UInt8 := dkwX1_optionValue_4 ++ dktX1_optionValue_5
def dkwX1_optionValue_3 : List UInt8 := [21, 4, 163, 0, 64, 45, 182, 1, 157, 45, 180, 1, 126, 133, 105, 20, 0, 7, 184, 0, 9, 42, 45, 42]
abbrev dktX1_optionValue_3 : List UInt8 := dkwX1_optionValue_3 ++ dktX1_optionValue_4
def dkwX1_optionValue_2 : List UInt8 := [180, 1, 66, 42, 180, 0, 63, 100, 54, 4, 21, 4, 4, 96, 188, 11, 58, 5, 3, 54, 6, 21, 6]
abbrev dktX1_optionValue_2 : List UInt8 := dkwX1_optionValue_2 ++ dktX1_optionValue_3
def dkwX1_optionValue_1 : List UInt8 := [182, 1, 154, 153, 0, 7, 4, 167, 0, 4, 3, 184, 1, 30, 45, 180, 1, 126, 154, 0, 5, 9, 173, 45]
abbrev dktX1_optionValue_1 : List UInt8 := dkwX1_optionValue_1 ++ dktX1_optionValue_2
def dkwX1_optionValue_0 : List UInt8 := [42, 27, 182, 1, 46, 78, 28, 133, 9, 20, 0, 221, 184, 0, 201, 45, 184, 1, 122, 153, 0, 14, 45]
abbrev dktX1_optionValue_0 : List UInt8 := dkwX1_optionValue_0 ++ dktX1_optionValue_1
theorem dksX1_optionValue_0 : cX1_optionValue.data.toList.drop 0 = dktX1_optionValue_0 := by decide +kernel
theorem dksX1_optionValue_1 : cX1_optionValue.data.toList.drop 23 = dktX1_optionValue_1 := dk_seg dksX1_optionValue_0 23 rfl rfl
theorem dksX1_optionValue_2 : cX1_optionValue.data.toList.drop 47 = dktX1_optionValue_2 := dk_seg dksX1_optionValue_1 24 rfl rfl
theorem dksX1_optionValue_3 : cX1_optionValue.data.toList.drop 70 = dktX1_optionValue_3 := dk_seg dksX1_optionValue_2 23 rfl rfl
theorem dksX1_optionValue_4 : cX1_optionValue.data.toList.drop 94 = dktX1_optionValue_4 := dk_seg dksX1_optionValue_3 24 rfl rfl
theorem dksX1_optionValue_5 : cX1_optionValue.data.toList.drop 118 = dktX1_optionValue_5 := dk_seg dksX1_optionValue_4 24 rfl rfl
theorem dksX1_optionValue_6 : cX1_optionValue.data.toList.drop 142 = dktX1_optionValue_6 := dk_seg dksX1_optionValue_5 24 rfl rfl
theorem dksX1_optionValue_7 : cX1_optionValue.data.toList.drop 165 = dktX1_optionValue_7 := dk_seg dksX1_optionValue_6 23 rfl rfl
theorem dksX1_optionValue_8 : cX1_optionValue.data.toList.drop 188 = dktX1_optionValue_8 := dk_seg dksX1_optionValue_7 23 rfl rfl
theorem dksX1_optionValue_9 : cX1_optionValue.data.toList.drop 212 = dktX1_optionValue_9 := dk_seg dksX1_optionValue_8 24 rfl rfl
theorem dksX1_optionValue_10 : cX1_optionValue.data.toList.drop 235 = dktX1_optionValue_10 := dk_seg dksX1_optionValue_9 23 rfl rfl
theorem dX1_optionValue_0 : decode cX1_optionValue 0 = .ok (.aload_n 0, 1) := dk_42 (dk_at dksX1_optionValue_0 0 rfl rfl)
theorem dX1_optionValue_1 : decode cX1_optionValue 1 = .ok (.iload_n 1, 1) := dk_27 (dk_at dksX1_optionValue_0 1 rfl rfl)
theorem dX1_optionValue_2 : decode cX1_optionValue 2 = .ok (.invokevirtual 302, 3) := dk_182 1 46 (dk_at dksX1_optionValue_0 2 rfl rfl)
theorem dX1_optionValue_5 : decode cX1_optionValue 5 = .ok (.astore_n 3, 1) := dk_78 (dk_at dksX1_optionValue_0 5 rfl rfl)
theorem dX1_optionValue_6 : decode cX1_optionValue 6 = .ok (.iload_n 2, 1) := dk_28 (dk_at dksX1_optionValue_0 6 rfl rfl)
theorem dX1_optionValue_7 : decode cX1_optionValue 7 = .ok (.i2l, 1) := dk_133 (dk_at dksX1_optionValue_0 7 rfl rfl)
theorem dX1_optionValue_8 : decode cX1_optionValue 8 = .ok (.lconst 0, 1) := dk_9 (dk_at dksX1_optionValue_0 8 rfl rfl)
theorem dX1_optionValue_9 : decode cX1_optionValue 9 = .ok (.ldc2_w 221, 3) := dk_20 0 221 (dk_at dksX1_optionValue_0 9 rfl rfl)
theorem dX1_optionValue_12 : decode cX1_optionValue 12 = .ok (.invokestatic 201, 3) := dk_184 0 201 (dk_at dksX1_optionValue_0 12 rfl rfl)
theorem dX1_optionValue_15 : decode cX1_optionValue 15 = .ok (.aload_n 3, 1) := dk_45 (dk_at dksX1_optionValue_0 15 rfl rfl)
theorem dX1_optionValue_16 : decode cX1_optionValue 16 = .ok (.invokestatic 378, 3) := dk_184 1 122 (dk_at dksX1_optionValue_0 16 rfl rfl)
theorem dX1_optionValue_19 : decode cX1_optionValue 19 = .ok (.ifCond .eq 14, 3) := dk_153 0 14 (dk_at dksX1_optionValue_0 19 rfl rfl)
theorem dX1_optionValue_22 : decode cX1_optionValue 22 = .ok (.aload_n 3, 1) := dk_45 (dk_at dksX1_optionValue_0 22 rfl rfl)
theorem dX1_optionValue_23 : decode cX1_optionValue 23 = .ok (.invokevirtual 410, 3) := dk_182 1 154 (dk_at dksX1_optionValue_1 0 rfl rfl)
theorem dX1_optionValue_26 : decode cX1_optionValue 26 = .ok (.ifCond .eq 7, 3) := dk_153 0 7 (dk_at dksX1_optionValue_1 3 rfl rfl)
theorem dX1_optionValue_29 : decode cX1_optionValue 29 = .ok (.iconst 1, 1) := dk_4 (dk_at dksX1_optionValue_1 6 rfl rfl)
theorem dX1_optionValue_30 : decode cX1_optionValue 30 = .ok (.goto 4, 3) := dk_167 0 4 (dk_at dksX1_optionValue_1 7 rfl rfl)
theorem dX1_optionValue_33 : decode cX1_optionValue 33 = .ok (.iconst 0, 1) := dk_3 (dk_at dksX1_optionValue_1 10 rfl rfl)
theorem dX1_optionValue_34 : decode cX1_optionValue 34 = .ok (.invokestatic 286, 3) := dk_184 1 30 (dk_at dksX1_optionValue_1 11 rfl rfl)
theorem dX1_optionValue_37 : decode cX1_optionValue 37 = .ok (.aload_n 3, 1) := dk_45 (dk_at dksX1_optionValue_1 14 rfl rfl)
theorem dX1_optionValue_38 : decode cX1_optionValue 38 = .ok (.getfield 382, 3) := dk_180 1 126 (dk_at dksX1_optionValue_1 15 rfl rfl)
theorem dX1_optionValue_41 : decode cX1_optionValue 41 = .ok (.ifCond .ne 5, 3) := dk_154 0 5 (dk_at dksX1_optionValue_1 18 rfl rfl)
theorem dX1_optionValue_44 : decode cX1_optionValue 44 = .ok (.lconst 0, 1) := dk_9 (dk_at dksX1_optionValue_1 21 rfl rfl)
theorem dX1_optionValue_45 : decode cX1_optionValue 45 = .ok (.lreturn, 1) := dk_173 (dk_at dksX1_optionValue_1 22 rfl rfl)
theorem dX1_optionValue_46 : decode cX1_optionValue 46 = .ok (.aload_n 3, 1) := dk_45 (dk_at dksX1_optionValue_1 23 rfl rfl)
theorem dX1_optionValue_47 : decode cX1_optionValue 47 = .ok (.getfield 322, 3) := dk_180 1 66 (dk_at dksX1_optionValue_2 0 rfl rfl)
theorem dX1_optionValue_50 : decode cX1_optionValue 50 = .ok (.aload_n 0, 1) := dk_42 (dk_at dksX1_optionValue_2 3 rfl rfl)
theorem dX1_optionValue_51 : decode cX1_optionValue 51 = .ok (.getfield 63, 3) := dk_180 0 63 (dk_at dksX1_optionValue_2 4 rfl rfl)
theorem dX1_optionValue_54 : decode cX1_optionValue 54 = .ok (.isub, 1) := dk_100 (dk_at dksX1_optionValue_2 7 rfl rfl)
theorem dX1_optionValue_55 : decode cX1_optionValue 55 = .ok (.istore 4, 2) := dk_54 4 (dk_at dksX1_optionValue_2 8 rfl rfl)
theorem dX1_optionValue_57 : decode cX1_optionValue 57 = .ok (.iload 4, 2) := dk_21 4 (dk_at dksX1_optionValue_2 10 rfl rfl)
theorem dX1_optionValue_59 : decode cX1_optionValue 59 = .ok (.iconst 1, 1) := dk_4 (dk_at dksX1_optionValue_2 12 rfl rfl)
theorem dX1_optionValue_60 : decode cX1_optionValue 60 = .ok (.iadd, 1) := dk_96 (dk_at dksX1_optionValue_2 13 rfl rfl)
theorem dX1_optionValue_61 : decode cX1_optionValue 61 = .ok (.newarray .long, 2) := dk_188_11 (dk_at dksX1_optionValue_2 14 rfl rfl)
theorem dX1_optionValue_63 : decode cX1_optionValue 63 = .ok (.astore 5, 2) := dk_58 5 (dk_at dksX1_optionValue_2 16 rfl rfl)
theorem dX1_optionValue_65 : decode cX1_optionValue 65 = .ok (.iconst 0, 1) := dk_3 (dk_at dksX1_optionValue_2 18 rfl rfl)
theorem dX1_optionValue_66 : decode cX1_optionValue 66 = .ok (.istore 6, 2) := dk_54 6 (dk_at dksX1_optionValue_2 19 rfl rfl)
theorem dX1_optionValue_68 : decode cX1_optionValue 68 = .ok (.iload 6, 2) := dk_21 6 (dk_at dksX1_optionValue_2 21 rfl rfl)
theorem dX1_optionValue_70 : decode cX1_optionValue 70 = .ok (.iload 4, 2) := dk_21 4 (dk_at dksX1_optionValue_3 0 rfl rfl)
theorem dX1_optionValue_72 : decode cX1_optionValue 72 = .ok (.if_icmp .gt 64, 3) := dk_163 0 64 (dk_at dksX1_optionValue_3 2 rfl rfl)
theorem dX1_optionValue_75 : decode cX1_optionValue 75 = .ok (.aload_n 3, 1) := dk_45 (dk_at dksX1_optionValue_3 5 rfl rfl)
theorem dX1_optionValue_76 : decode cX1_optionValue 76 = .ok (.invokevirtual 413, 3) := dk_182 1 157 (dk_at dksX1_optionValue_3 6 rfl rfl)
theorem dX1_optionValue_79 : decode cX1_optionValue 79 = .ok (.aload_n 3, 1) := dk_45 (dk_at dksX1_optionValue_3 9 rfl rfl)
theorem dX1_optionValue_80 : decode cX1_optionValue 80 = .ok (.getfield 382, 3) := dk_180 1 126 (dk_at dksX1_optionValue_3 10 rfl rfl)
theorem dX1_optionValue_83 : decode cX1_optionValue 83 = .ok (.i2l, 1) := dk_133 (dk_at dksX1_optionValue_3 13 rfl rfl)
theorem dX1_optionValue_84 : decode cX1_optionValue 84 = .ok (.lmul, 1) := dk_105 (dk_at dksX1_optionValue_3 14 rfl rfl)
theorem dX1_optionValue_85 : decode cX1_optionValue 85 = .ok (.ldc2_w 7, 3) := dk_20 0 7 (dk_at dksX1_optionValue_3 15 rfl rfl)
theorem dX1_optionValue_88 : decode cX1_optionValue 88 = .ok (.invokestatic 9, 3) := dk_184 0 9 (dk_at dksX1_optionValue_3 18 rfl rfl)
theorem dX1_optionValue_91 : decode cX1_optionValue 91 = .ok (.aload_n 0, 1) := dk_42 (dk_at dksX1_optionValue_3 21 rfl rfl)
theorem dX1_optionValue_92 : decode cX1_optionValue 92 = .ok (.aload_n 3, 1) := dk_45 (dk_at dksX1_optionValue_3 22 rfl rfl)
theorem dX1_optionValue_93 : decode cX1_optionValue 93 = .ok (.aload_n 0, 1) := dk_42 (dk_at dksX1_optionValue_3 23 rfl rfl)
theorem dX1_optionValue_94 : decode cX1_optionValue 94 = .ok (.iload 4, 2) := dk_21 4 (dk_at dksX1_optionValue_4 0 rfl rfl)
theorem dX1_optionValue_96 : decode cX1_optionValue 96 = .ok (.iload 6, 2) := dk_21 6 (dk_at dksX1_optionValue_4 2 rfl rfl)
theorem dX1_optionValue_98 : decode cX1_optionValue 98 = .ok (.iload_n 2, 1) := dk_28 (dk_at dksX1_optionValue_4 4 rfl rfl)
theorem dX1_optionValue_99 : decode cX1_optionValue 99 = .ok (.invokevirtual 416, 3) := dk_182 1 160 (dk_at dksX1_optionValue_4 5 rfl rfl)
theorem dX1_optionValue_102 : decode cX1_optionValue 102 = .ok (.invokevirtual 420, 3) := dk_182 1 164 (dk_at dksX1_optionValue_4 8 rfl rfl)
theorem dX1_optionValue_105 : decode cX1_optionValue 105 = .ok (.lmul, 1) := dk_105 (dk_at dksX1_optionValue_4 11 rfl rfl)
theorem dX1_optionValue_106 : decode cX1_optionValue 106 = .ok (.ldc2_w 254, 3) := dk_20 0 254 (dk_at dksX1_optionValue_4 12 rfl rfl)
theorem dX1_optionValue_109 : decode cX1_optionValue 109 = .ok (.invokestatic 9, 3) := dk_184 0 9 (dk_at dksX1_optionValue_4 15 rfl rfl)
theorem dX1_optionValue_112 : decode cX1_optionValue 112 = .ok (.lstore 7, 2) := dk_55 7 (dk_at dksX1_optionValue_4 18 rfl rfl)
theorem dX1_optionValue_114 : decode cX1_optionValue 114 = .ok (.aload 5, 2) := dk_25 5 (dk_at dksX1_optionValue_4 20 rfl rfl)
theorem dX1_optionValue_116 : decode cX1_optionValue 116 = .ok (.iload 6, 2) := dk_21 6 (dk_at dksX1_optionValue_4 22 rfl rfl)
theorem dX1_optionValue_118 : decode cX1_optionValue 118 = .ok (.lconst 0, 1) := dk_9 (dk_at dksX1_optionValue_5 0 rfl rfl)
theorem dX1_optionValue_119 : decode cX1_optionValue 119 = .ok (.lload 7, 2) := dk_22 7 (dk_at dksX1_optionValue_5 1 rfl rfl)
theorem dX1_optionValue_121 : decode cX1_optionValue 121 = .ok (.aload_n 3, 1) := dk_45 (dk_at dksX1_optionValue_5 3 rfl rfl)
theorem dX1_optionValue_122 : decode cX1_optionValue 122 = .ok (.invokevirtual 413, 3) := dk_182 1 157 (dk_at dksX1_optionValue_5 4 rfl rfl)
theorem dX1_optionValue_125 : decode cX1_optionValue 125 = .ok (.lsub, 1) := dk_101 (dk_at dksX1_optionValue_5 7 rfl rfl)
theorem dX1_optionValue_126 : decode cX1_optionValue 126 = .ok (.invokestatic 340, 3) := dk_184 1 84 (dk_at dksX1_optionValue_5 8 rfl rfl)
theorem dX1_optionValue_129 : decode cX1_optionValue 129 = .ok (.lastore, 1) := dk_80 (dk_at dksX1_optionValue_5 11 rfl rfl)
theorem dX1_optionValue_130 : decode cX1_optionValue 130 = .ok (.iinc 6 1, 3) := dk_132 6 1 (dk_at dksX1_optionValue_5 12 rfl rfl)
theorem dX1_optionValue_133 : decode cX1_optionValue 133 = .ok (.goto (-65), 3) := dk_167 255 191 (dk_at dksX1_optionValue_5 15 rfl rfl)
theorem dX1_optionValue_136 : decode cX1_optionValue 136 = .ok (.iload 4, 2) := dk_21 4 (dk_at dksX1_optionValue_5 18 rfl rfl)
theorem dX1_optionValue_138 : decode cX1_optionValue 138 = .ok (.iconst 1, 1) := dk_4 (dk_at dksX1_optionValue_5 20 rfl rfl)
theorem dX1_optionValue_139 : decode cX1_optionValue 139 = .ok (.isub, 1) := dk_100 (dk_at dksX1_optionValue_5 21 rfl rfl)
theorem dX1_optionValue_140 : decode cX1_optionValue 140 = .ok (.istore 6, 2) := dk_54 6 (dk_at dksX1_optionValue_5 22 rfl rfl)
theorem dX1_optionValue_142 : decode cX1_optionValue 142 = .ok (.iload 6, 2) := dk_21 6 (dk_at dksX1_optionValue_6 0 rfl rfl)
theorem dX1_optionValue_144 : decode cX1_optionValue 144 = .ok (.ifCond .lt 97, 3) := dk_155 0 97 (dk_at dksX1_optionValue_6 2 rfl rfl)
theorem dX1_optionValue_147 : decode cX1_optionValue 147 = .ok (.ldc2_w 424, 3) := dk_20 1 168 (dk_at dksX1_optionValue_6 5 rfl rfl)
theorem dX1_optionValue_150 : decode cX1_optionValue 150 = .ok (.aload_n 3, 1) := dk_45 (dk_at dksX1_optionValue_6 8 rfl rfl)
theorem dX1_optionValue_151 : decode cX1_optionValue 151 = .ok (.aload_n 0, 1) := dk_42 (dk_at dksX1_optionValue_6 9 rfl rfl)
theorem dX1_optionValue_152 : decode cX1_optionValue 152 = .ok (.getfield 23, 3) := dk_180 0 23 (dk_at dksX1_optionValue_6 10 rfl rfl)
theorem dX1_optionValue_155 : decode cX1_optionValue 155 = .ok (.iconst 0, 1) := dk_3 (dk_at dksX1_optionValue_6 13 rfl rfl)
theorem dX1_optionValue_156 : decode cX1_optionValue 156 = .ok (.aaload, 1) := dk_50 (dk_at dksX1_optionValue_6 14 rfl rfl)
theorem dX1_optionValue_157 : decode cX1_optionValue 157 = .ok (.aload_n 0, 1) := dk_42 (dk_at dksX1_optionValue_6 15 rfl rfl)
theorem dX1_optionValue_158 : decode cX1_optionValue 158 = .ok (.getfield 63, 3) := dk_180 0 63 (dk_at dksX1_optionValue_6 16 rfl rfl)
theorem dX1_optionValue_161 : decode cX1_optionValue 161 = .ok (.iload 6, 2) := dk_21 6 (dk_at dksX1_optionValue_6 19 rfl rfl)
theorem dX1_optionValue_163 : decode cX1_optionValue 163 = .ok (.iadd, 1) := dk_96 (dk_at dksX1_optionValue_6 21 rfl rfl)
theorem dX1_optionValue_164 : decode cX1_optionValue 164 = .ok (.aload_n 3, 1) := dk_45 (dk_at dksX1_optionValue_6 22 rfl rfl)
theorem dX1_optionValue_165 : decode cX1_optionValue 165 = .ok (.getfield 328, 3) := dk_180 1 72 (dk_at dksX1_optionValue_7 0 rfl rfl)
theorem dX1_optionValue_168 : decode cX1_optionValue 168 = .ok (.invokevirtual 426, 3) := dk_182 1 170 (dk_at dksX1_optionValue_7 3 rfl rfl)
theorem dX1_optionValue_171 : decode cX1_optionValue 171 = .ok (.lsub, 1) := dk_101 (dk_at dksX1_optionValue_7 6 rfl rfl)
theorem dX1_optionValue_172 : decode cX1_optionValue 172 = .ok (.lstore 7, 2) := dk_55 7 (dk_at dksX1_optionValue_7 7 rfl rfl)
theorem dX1_optionValue_174 : decode cX1_optionValue 174 = .ok (.iconst 0, 1) := dk_3 (dk_at dksX1_optionValue_7 9 rfl rfl)
theorem dX1_optionValue_175 : decode cX1_optionValue 175 = .ok (.istore 9, 2) := dk_54 9 (dk_at dksX1_optionValue_7 10 rfl rfl)
theorem dX1_optionValue_177 : decode cX1_optionValue 177 = .ok (.iload 9, 2) := dk_21 9 (dk_at dksX1_optionValue_7 12 rfl rfl)
theorem dX1_optionValue_179 : decode cX1_optionValue 179 = .ok (.iload 6, 2) := dk_21 6 (dk_at dksX1_optionValue_7 14 rfl rfl)
theorem dX1_optionValue_181 : decode cX1_optionValue 181 = .ok (.if_icmp .gt 54, 3) := dk_163 0 54 (dk_at dksX1_optionValue_7 16 rfl rfl)
theorem dX1_optionValue_184 : decode cX1_optionValue 184 = .ok (.aload 5, 2) := dk_25 5 (dk_at dksX1_optionValue_7 19 rfl rfl)
theorem dX1_optionValue_186 : decode cX1_optionValue 186 = .ok (.iload 9, 2) := dk_21 9 (dk_at dksX1_optionValue_7 21 rfl rfl)
theorem dX1_optionValue_188 : decode cX1_optionValue 188 = .ok (.aload 5, 2) := dk_25 5 (dk_at dksX1_optionValue_8 0 rfl rfl)
theorem dX1_optionValue_190 : decode cX1_optionValue 190 = .ok (.iload 9, 2) := dk_21 9 (dk_at dksX1_optionValue_8 2 rfl rfl)
theorem dX1_optionValue_192 : decode cX1_optionValue 192 = .ok (.laload, 1) := dk_47 (dk_at dksX1_optionValue_8 4 rfl rfl)
theorem dX1_optionValue_193 : decode cX1_optionValue 193 = .ok (.aload 5, 2) := dk_25 5 (dk_at dksX1_optionValue_8 5 rfl rfl)
theorem dX1_optionValue_195 : decode cX1_optionValue 195 = .ok (.iload 9, 2) := dk_21 9 (dk_at dksX1_optionValue_8 7 rfl rfl)
theorem dX1_optionValue_197 : decode cX1_optionValue 197 = .ok (.iconst 1, 1) := dk_4 (dk_at dksX1_optionValue_8 9 rfl rfl)
theorem dX1_optionValue_198 : decode cX1_optionValue 198 = .ok (.iadd, 1) := dk_96 (dk_at dksX1_optionValue_8 10 rfl rfl)
theorem dX1_optionValue_199 : decode cX1_optionValue 199 = .ok (.laload, 1) := dk_47 (dk_at dksX1_optionValue_8 11 rfl rfl)
theorem dX1_optionValue_200 : decode cX1_optionValue 200 = .ok (.ladd, 1) := dk_97 (dk_at dksX1_optionValue_8 12 rfl rfl)
theorem dX1_optionValue_201 : decode cX1_optionValue 201 = .ok (.ldc2_w 429, 3) := dk_20 1 173 (dk_at dksX1_optionValue_8 13 rfl rfl)
theorem dX1_optionValue_204 : decode cX1_optionValue 204 = .ok (.invokestatic 9, 3) := dk_184 0 9 (dk_at dksX1_optionValue_8 16 rfl rfl)
theorem dX1_optionValue_207 : decode cX1_optionValue 207 = .ok (.aload_n 0, 1) := dk_42 (dk_at dksX1_optionValue_8 19 rfl rfl)
theorem dX1_optionValue_208 : decode cX1_optionValue 208 = .ok (.iload 6, 2) := dk_21 6 (dk_at dksX1_optionValue_8 20 rfl rfl)
theorem dX1_optionValue_210 : decode cX1_optionValue 210 = .ok (.iload 9, 2) := dk_21 9 (dk_at dksX1_optionValue_8 22 rfl rfl)
theorem dX1_optionValue_212 : decode cX1_optionValue 212 = .ok (.iload_n 2, 1) := dk_28 (dk_at dksX1_optionValue_9 0 rfl rfl)
theorem dX1_optionValue_213 : decode cX1_optionValue 213 = .ok (.invokevirtual 416, 3) := dk_182 1 160 (dk_at dksX1_optionValue_9 1 rfl rfl)
theorem dX1_optionValue_216 : decode cX1_optionValue 216 = .ok (.invokestatic 431, 3) := dk_184 1 175 (dk_at dksX1_optionValue_9 4 rfl rfl)
theorem dX1_optionValue_219 : decode cX1_optionValue 219 = .ok (.lload 7, 2) := dk_22 7 (dk_at dksX1_optionValue_9 7 rfl rfl)
theorem dX1_optionValue_221 : decode cX1_optionValue 221 = .ok (.lmul, 1) := dk_105 (dk_at dksX1_optionValue_9 9 rfl rfl)
theorem dX1_optionValue_222 : decode cX1_optionValue 222 = .ok (.ldc2_w 424, 3) := dk_20 1 168 (dk_at dksX1_optionValue_9 10 rfl rfl)
theorem dX1_optionValue_225 : decode cX1_optionValue 225 = .ok (.invokestatic 9, 3) := dk_184 0 9 (dk_at dksX1_optionValue_9 13 rfl rfl)
theorem dX1_optionValue_228 : decode cX1_optionValue 228 = .ok (.lastore, 1) := dk_80 (dk_at dksX1_optionValue_9 16 rfl rfl)
theorem dX1_optionValue_229 : decode cX1_optionValue 229 = .ok (.iinc 9 1, 3) := dk_132 9 1 (dk_at dksX1_optionValue_9 17 rfl rfl)
theorem dX1_optionValue_232 : decode cX1_optionValue 232 = .ok (.goto (-55), 3) := dk_167 255 201 (dk_at dksX1_optionValue_9 20 rfl rfl)
theorem dX1_optionValue_235 : decode cX1_optionValue 235 = .ok (.iinc 6 (-1), 3) := dk_132 6 255 (dk_at dksX1_optionValue_10 0 rfl rfl)
theorem dX1_optionValue_238 : decode cX1_optionValue 238 = .ok (.goto (-96), 3) := dk_167 255 160 (dk_at dksX1_optionValue_10 3 rfl rfl)
theorem dX1_optionValue_241 : decode cX1_optionValue 241 = .ok (.aload 5, 2) := dk_25 5 (dk_at dksX1_optionValue_10 6 rfl rfl)
theorem dX1_optionValue_243 : decode cX1_optionValue 243 = .ok (.iconst 0, 1) := dk_3 (dk_at dksX1_optionValue_10 8 rfl rfl)
theorem dX1_optionValue_244 : decode cX1_optionValue 244 = .ok (.laload, 1) := dk_47 (dk_at dksX1_optionValue_10 9 rfl rfl)
theorem dX1_optionValue_245 : decode cX1_optionValue 245 = .ok (.lreturn, 1) := dk_173 (dk_at dksX1_optionValue_10 10 rfl rfl)
abbrev cX1_rateAt : ByteArray := prog_1_method_42_code
def yX1_rateAt : MethodName := ⟨RX1, "rateAt", "(III)I"⟩
def dkwX1_rateAt_1 : List UInt8 := [184, 1, 152, 172]
abbrev dktX1_rateAt_1 : List UInt8 := dkwX1_rateAt_1 ++ []
def dkwX1_rateAt_0 : List UInt8 := [3, 17, 0, 150, 42, 180, 0, 23, 3, 50, 180, 1, 145, 29, 5, 28, 104, 27, 100, 104, 96, 184, 1, 148]
abbrev dktX1_rateAt_0 : List UInt8 := dkwX1_rateAt_0 ++ dktX1_rateAt_1
theorem dksX1_rateAt_0 : cX1_rateAt.data.toList.drop 0 = dktX1_rateAt_0 := by decide +kernel
theorem dksX1_rateAt_1 : cX1_rateAt.data.toList.drop 24 = dktX1_rateAt_1 := dk_seg dksX1_rateAt_0 24 rfl rfl
theorem dX1_rateAt_0 : decode cX1_rateAt 0 = .ok (.iconst 0, 1) := dk_3 (dk_at dksX1_rateAt_0 0 rfl rfl)
theorem dX1_rateAt_1 : decode cX1_rateAt 1 = .ok (.sipush 150, 3) := dk_17 0 150 (dk_at dksX1_rateAt_0 1 rfl rfl)
theorem dX1_rateAt_4 : decode cX1_rateAt 4 = .ok (.aload_n 0, 1) := dk_42 (dk_at dksX1_rateAt_0 4 rfl rfl)
theorem dX1_rateAt_5 : decode cX1_rateAt 5 = .ok (.getfield 23, 3) := dk_180 0 23 (dk_at dksX1_rateAt_0 5 rfl rfl)
theorem dX1_rateAt_8 : decode cX1_rateAt 8 = .ok (.iconst 0, 1) := dk_3 (dk_at dksX1_rateAt_0 8 rfl rfl)
theorem dX1_rateAt_9 : decode cX1_rateAt 9 = .ok (.aaload, 1) := dk_50 (dk_at dksX1_rateAt_0 9 rfl rfl)
theorem dX1_rateAt_10 : decode cX1_rateAt 10 = .ok (.getfield 401, 3) := dk_180 1 145 (dk_at dksX1_rateAt_0 10 rfl rfl)
theorem dX1_rateAt_13 : decode cX1_rateAt 13 = .ok (.iload_n 3, 1) := dk_29 (dk_at dksX1_rateAt_0 13 rfl rfl)
theorem dX1_rateAt_14 : decode cX1_rateAt 14 = .ok (.iconst 2, 1) := dk_5 (dk_at dksX1_rateAt_0 14 rfl rfl)
theorem dX1_rateAt_15 : decode cX1_rateAt 15 = .ok (.iload_n 2, 1) := dk_28 (dk_at dksX1_rateAt_0 15 rfl rfl)
theorem dX1_rateAt_16 : decode cX1_rateAt 16 = .ok (.imul, 1) := dk_104 (dk_at dksX1_rateAt_0 16 rfl rfl)
theorem dX1_rateAt_17 : decode cX1_rateAt 17 = .ok (.iload_n 1, 1) := dk_27 (dk_at dksX1_rateAt_0 17 rfl rfl)
theorem dX1_rateAt_18 : decode cX1_rateAt 18 = .ok (.isub, 1) := dk_100 (dk_at dksX1_rateAt_0 18 rfl rfl)
theorem dX1_rateAt_19 : decode cX1_rateAt 19 = .ok (.imul, 1) := dk_104 (dk_at dksX1_rateAt_0 19 rfl rfl)
theorem dX1_rateAt_20 : decode cX1_rateAt 20 = .ok (.iadd, 1) := dk_96 (dk_at dksX1_rateAt_0 20 rfl rfl)
theorem dX1_rateAt_21 : decode cX1_rateAt 21 = .ok (.invokestatic 404, 3) := dk_184 1 148 (dk_at dksX1_rateAt_0 21 rfl rfl)
theorem dX1_rateAt_24 : decode cX1_rateAt 24 = .ok (.invokestatic 408, 3) := dk_184 1 152 (dk_at dksX1_rateAt_1 0 rfl rfl)
theorem dX1_rateAt_27 : decode cX1_rateAt 27 = .ok (.ireturn, 1) := dk_172 (dk_at dksX1_rateAt_1 3 rfl rfl)
abbrev cX1_annuityAtEnd : ByteArray := prog_1_method_41_code
def yX1_annuityAtEnd : MethodName := ⟨RX1, "annuityAtEnd", "(LLifeoffice$Policy;I)J"⟩
def dkwX1_annuityAtEnd_3 : List UInt8 := [167, 255, 212, 45, 180, 1, 142, 173]
abbrev dktX1_annuityAtEnd_3 : List UInt8 := dkwX1_annuityAtEnd_3 ++ []
def dkwX1_annuityAtEnd_2 : List UInt8 := [180, 0, 23, 3, 50, 180, 0, 237, 42, 180, 0, 84, 182, 0, 240, 28, 182, 1, 138, 132, 4, 255]
abbrev dktX1_annuityAtEnd_2 : List UInt8 := dkwX1_annuityAtEnd_2 ++ dktX1_annuityAtEnd_3
def dkwX1_annuityAtEnd_1 : List UInt8 := [21, 4, 43, 180, 1, 66, 161, 0, 41, 45, 43, 180, 1, 131, 21, 4, 5, 43, 180, 1, 72, 42]
abbrev dktX1_annuityAtEnd_1 : List UInt8 := dkwX1_annuityAtEnd_1 ++ dktX1_annuityAtEnd_2
def dkwX1_annuityAtEnd_0 : List UInt8 := [187, 1, 80, 89, 9, 183, 1, 129, 78, 43, 180, 1, 131, 180, 1, 135, 16, 110, 96, 4, 100, 54, 4]
abbrev dktX1_annuityAtEnd_0 : List UInt8 := dkwX1_annuityAtEnd_0 ++ dktX1_annuityAtEnd_1
theorem dksX1_annuityAtEnd_0 : cX1_annuityAtEnd.data.toList.drop 0 = dktX1_annuityAtEnd_0 := by decide +kernel
theorem dksX1_annuityAtEnd_1 : cX1_annuityAtEnd.data.toList.drop 23 = dktX1_annuityAtEnd_1 := dk_seg dksX1_annuityAtEnd_0 23 rfl rfl
theorem dksX1_annuityAtEnd_2 : cX1_annuityAtEnd.data.toList.drop 45 = dktX1_annuityAtEnd_2 := dk_seg dksX1_annuityAtEnd_1 22 rfl rfl
theorem dksX1_annuityAtEnd_3 : cX1_annuityAtEnd.data.toList.drop 67 = dktX1_annuityAtEnd_3 := dk_seg dksX1_annuityAtEnd_2 22 rfl rfl
theorem dX1_annuityAtEnd_0 : decode cX1_annuityAtEnd 0 = .ok (.new 336, 3) := dk_187 1 80 (dk_at dksX1_annuityAtEnd_0 0 rfl rfl)
theorem dX1_annuityAtEnd_3 : decode cX1_annuityAtEnd 3 = .ok (.dup, 1) := dk_89 (dk_at dksX1_annuityAtEnd_0 3 rfl rfl)
theorem dX1_annuityAtEnd_4 : decode cX1_annuityAtEnd 4 = .ok (.lconst 0, 1) := dk_9 (dk_at dksX1_annuityAtEnd_0 4 rfl rfl)
theorem dX1_annuityAtEnd_5 : decode cX1_annuityAtEnd 5 = .ok (.invokespecial 385, 3) := dk_183 1 129 (dk_at dksX1_annuityAtEnd_0 5 rfl rfl)
theorem dX1_annuityAtEnd_8 : decode cX1_annuityAtEnd 8 = .ok (.astore_n 3, 1) := dk_78 (dk_at dksX1_annuityAtEnd_0 8 rfl rfl)
theorem dX1_annuityAtEnd_9 : decode cX1_annuityAtEnd 9 = .ok (.aload_n 1, 1) := dk_43 (dk_at dksX1_annuityAtEnd_0 9 rfl rfl)
theorem dX1_annuityAtEnd_10 : decode cX1_annuityAtEnd 10 = .ok (.getfield 387, 3) := dk_180 1 131 (dk_at dksX1_annuityAtEnd_0 10 rfl rfl)
theorem dX1_annuityAtEnd_13 : decode cX1_annuityAtEnd 13 = .ok (.getfield 391, 3) := dk_180 1 135 (dk_at dksX1_annuityAtEnd_0 13 rfl rfl)
theorem dX1_annuityAtEnd_16 : decode cX1_annuityAtEnd 16 = .ok (.bipush 110, 2) := dk_16 110 (dk_at dksX1_annuityAtEnd_0 16 rfl rfl)
theorem dX1_annuityAtEnd_18 : decode cX1_annuityAtEnd 18 = .ok (.iadd, 1) := dk_96 (dk_at dksX1_annuityAtEnd_0 18 rfl rfl)
theorem dX1_annuityAtEnd_19 : decode cX1_annuityAtEnd 19 = .ok (.iconst 1, 1) := dk_4 (dk_at dksX1_annuityAtEnd_0 19 rfl rfl)
theorem dX1_annuityAtEnd_20 : decode cX1_annuityAtEnd 20 = .ok (.isub, 1) := dk_100 (dk_at dksX1_annuityAtEnd_0 20 rfl rfl)
theorem dX1_annuityAtEnd_21 : decode cX1_annuityAtEnd 21 = .ok (.istore 4, 2) := dk_54 4 (dk_at dksX1_annuityAtEnd_0 21 rfl rfl)
theorem dX1_annuityAtEnd_23 : decode cX1_annuityAtEnd 23 = .ok (.iload 4, 2) := dk_21 4 (dk_at dksX1_annuityAtEnd_1 0 rfl rfl)
theorem dX1_annuityAtEnd_25 : decode cX1_annuityAtEnd 25 = .ok (.aload_n 1, 1) := dk_43 (dk_at dksX1_annuityAtEnd_1 2 rfl rfl)
theorem dX1_annuityAtEnd_26 : decode cX1_annuityAtEnd 26 = .ok (.getfield 322, 3) := dk_180 1 66 (dk_at dksX1_annuityAtEnd_1 3 rfl rfl)
theorem dX1_annuityAtEnd_29 : decode cX1_annuityAtEnd 29 = .ok (.if_icmp .lt 41, 3) := dk_161 0 41 (dk_at dksX1_annuityAtEnd_1 6 rfl rfl)
theorem dX1_annuityAtEnd_32 : decode cX1_annuityAtEnd 32 = .ok (.aload_n 3, 1) := dk_45 (dk_at dksX1_annuityAtEnd_1 9 rfl rfl)
theorem dX1_annuityAtEnd_33 : decode cX1_annuityAtEnd 33 = .ok (.aload_n 1, 1) := dk_43 (dk_at dksX1_annuityAtEnd_1 10 rfl rfl)
theorem dX1_annuityAtEnd_34 : decode cX1_annuityAtEnd 34 = .ok (.getfield 387, 3) := dk_180 1 131 (dk_at dksX1_annuityAtEnd_1 11 rfl rfl)
theorem dX1_annuityAtEnd_37 : decode cX1_annuityAtEnd 37 = .ok (.iload 4, 2) := dk_21 4 (dk_at dksX1_annuityAtEnd_1 14 rfl rfl)
theorem dX1_annuityAtEnd_39 : decode cX1_annuityAtEnd 39 = .ok (.iconst 2, 1) := dk_5 (dk_at dksX1_annuityAtEnd_1 16 rfl rfl)
theorem dX1_annuityAtEnd_40 : decode cX1_annuityAtEnd 40 = .ok (.aload_n 1, 1) := dk_43 (dk_at dksX1_annuityAtEnd_1 17 rfl rfl)
theorem dX1_annuityAtEnd_41 : decode cX1_annuityAtEnd 41 = .ok (.getfield 328, 3) := dk_180 1 72 (dk_at dksX1_annuityAtEnd_1 18 rfl rfl)
theorem dX1_annuityAtEnd_44 : decode cX1_annuityAtEnd 44 = .ok (.aload_n 0, 1) := dk_42 (dk_at dksX1_annuityAtEnd_1 21 rfl rfl)
theorem dX1_annuityAtEnd_45 : decode cX1_annuityAtEnd 45 = .ok (.getfield 23, 3) := dk_180 0 23 (dk_at dksX1_annuityAtEnd_2 0 rfl rfl)
theorem dX1_annuityAtEnd_48 : decode cX1_annuityAtEnd 48 = .ok (.iconst 0, 1) := dk_3 (dk_at dksX1_annuityAtEnd_2 3 rfl rfl)
theorem dX1_annuityAtEnd_49 : decode cX1_annuityAtEnd 49 = .ok (.aaload, 1) := dk_50 (dk_at dksX1_annuityAtEnd_2 4 rfl rfl)
theorem dX1_annuityAtEnd_50 : decode cX1_annuityAtEnd 50 = .ok (.getfield 237, 3) := dk_180 0 237 (dk_at dksX1_annuityAtEnd_2 5 rfl rfl)
theorem dX1_annuityAtEnd_53 : decode cX1_annuityAtEnd 53 = .ok (.aload_n 0, 1) := dk_42 (dk_at dksX1_annuityAtEnd_2 8 rfl rfl)
theorem dX1_annuityAtEnd_54 : decode cX1_annuityAtEnd 54 = .ok (.getfield 84, 3) := dk_180 0 84 (dk_at dksX1_annuityAtEnd_2 9 rfl rfl)
theorem dX1_annuityAtEnd_57 : decode cX1_annuityAtEnd 57 = .ok (.invokevirtual 240, 3) := dk_182 0 240 (dk_at dksX1_annuityAtEnd_2 12 rfl rfl)
theorem dX1_annuityAtEnd_60 : decode cX1_annuityAtEnd 60 = .ok (.iload_n 2, 1) := dk_28 (dk_at dksX1_annuityAtEnd_2 15 rfl rfl)
theorem dX1_annuityAtEnd_61 : decode cX1_annuityAtEnd 61 = .ok (.invokevirtual 394, 3) := dk_182 1 138 (dk_at dksX1_annuityAtEnd_2 16 rfl rfl)
theorem dX1_annuityAtEnd_64 : decode cX1_annuityAtEnd 64 = .ok (.iinc 4 (-1), 3) := dk_132 4 255 (dk_at dksX1_annuityAtEnd_2 19 rfl rfl)
theorem dX1_annuityAtEnd_67 : decode cX1_annuityAtEnd 67 = .ok (.goto (-44), 3) := dk_167 255 212 (dk_at dksX1_annuityAtEnd_3 0 rfl rfl)
theorem dX1_annuityAtEnd_70 : decode cX1_annuityAtEnd 70 = .ok (.aload_n 3, 1) := dk_45 (dk_at dksX1_annuityAtEnd_3 3 rfl rfl)
theorem dX1_annuityAtEnd_71 : decode cX1_annuityAtEnd 71 = .ok (.getfield 398, 3) := dk_180 1 142 (dk_at dksX1_annuityAtEnd_3 4 rfl rfl)
theorem dX1_annuityAtEnd_74 : decode cX1_annuityAtEnd 74 = .ok (.lreturn, 1) := dk_173 (dk_at dksX1_annuityAtEnd_3 7 rfl rfl)
abbrev cX1_byReserve : ByteArray := prog_1_method_44_code
def yX1_byReserve : MethodName := ⟨RX1, "byReserve", "(I)I"⟩
def dkwX1_byReserve_5 : List UInt8 := [89, 183, 1, 190, 191]
abbrev dktX1_byReserve_5 : List UInt8 := dkwX1_byReserve_5 ++ []
def dkwX1_byReserve_4 : List UInt8 := [192, 0, 148, 58, 5, 29, 132, 3, 255, 154, 0, 9, 25, 5, 180, 1, 43, 172, 167, 255, 221, 187, 1, 188]
abbrev dktX1_byReserve_4 : List UInt8 := dkwX1_byReserve_4 ++ dktX1_byReserve_5
def dkwX1_byReserve_3 : List UInt8 := [182, 0, 161, 58, 4, 25, 4, 185, 0, 165, 1, 0, 153, 0, 31, 25, 4, 185, 0, 171, 1, 0]
abbrev dktX1_byReserve_3 : List UInt8 := dkwX1_byReserve_3 ++ dktX1_byReserve_4
def dkwX1_byReserve_2 : List UInt8 := [42, 180, 0, 30, 29, 182, 0, 144, 192, 0, 148, 182, 1, 187, 87, 132, 3, 1, 167, 255, 209, 27, 62, 44]
abbrev dktX1_byReserve_2 : List UInt8 := dkwX1_byReserve_2 ++ dktX1_byReserve_3
def dkwX1_byReserve_1 : List UInt8 := [182, 0, 137, 162, 0, 42, 42, 180, 0, 30, 29, 182, 0, 144, 192, 0, 148, 182, 1, 154, 153, 0, 19, 44]
abbrev dktX1_byReserve_1 : List UInt8 := dkwX1_byReserve_1 ++ dktX1_byReserve_2
def dkwX1_byReserve_0 : List UInt8 := [187, 0, 34, 89, 187, 1, 179, 89, 42, 183, 1, 181, 183, 1, 184, 77, 3, 62, 29, 42, 180, 0, 30]
abbrev dktX1_byReserve_0 : List UInt8 := dkwX1_byReserve_0 ++ dktX1_byReserve_1
theorem dksX1_byReserve_0 : cX1_byReserve.data.toList.drop 0 = dktX1_byReserve_0 := by decide +kernel
theorem dksX1_byReserve_1 : cX1_byReserve.data.toList.drop 23 = dktX1_byReserve_1 := dk_seg dksX1_byReserve_0 23 rfl rfl
theorem dksX1_byReserve_2 : cX1_byReserve.data.toList.drop 47 = dktX1_byReserve_2 := dk_seg dksX1_byReserve_1 24 rfl rfl
theorem dksX1_byReserve_3 : cX1_byReserve.data.toList.drop 71 = dktX1_byReserve_3 := dk_seg dksX1_byReserve_2 24 rfl rfl
theorem dksX1_byReserve_4 : cX1_byReserve.data.toList.drop 93 = dktX1_byReserve_4 := dk_seg dksX1_byReserve_3 22 rfl rfl
theorem dksX1_byReserve_5 : cX1_byReserve.data.toList.drop 117 = dktX1_byReserve_5 := dk_seg dksX1_byReserve_4 24 rfl rfl
theorem dX1_byReserve_0 : decode cX1_byReserve 0 = .ok (.new 34, 3) := dk_187 0 34 (dk_at dksX1_byReserve_0 0 rfl rfl)
theorem dX1_byReserve_3 : decode cX1_byReserve 3 = .ok (.dup, 1) := dk_89 (dk_at dksX1_byReserve_0 3 rfl rfl)
theorem dX1_byReserve_4 : decode cX1_byReserve 4 = .ok (.new 435, 3) := dk_187 1 179 (dk_at dksX1_byReserve_0 4 rfl rfl)
theorem dX1_byReserve_7 : decode cX1_byReserve 7 = .ok (.dup, 1) := dk_89 (dk_at dksX1_byReserve_0 7 rfl rfl)
theorem dX1_byReserve_8 : decode cX1_byReserve 8 = .ok (.aload_n 0, 1) := dk_42 (dk_at dksX1_byReserve_0 8 rfl rfl)
theorem dX1_byReserve_9 : decode cX1_byReserve 9 = .ok (.invokespecial 437, 3) := dk_183 1 181 (dk_at dksX1_byReserve_0 9 rfl rfl)
theorem dX1_byReserve_12 : decode cX1_byReserve 12 = .ok (.invokespecial 440, 3) := dk_183 1 184 (dk_at dksX1_byReserve_0 12 rfl rfl)
theorem dX1_byReserve_15 : decode cX1_byReserve 15 = .ok (.astore_n 2, 1) := dk_77 (dk_at dksX1_byReserve_0 15 rfl rfl)
theorem dX1_byReserve_16 : decode cX1_byReserve 16 = .ok (.iconst 0, 1) := dk_3 (dk_at dksX1_byReserve_0 16 rfl rfl)
theorem dX1_byReserve_17 : decode cX1_byReserve 17 = .ok (.istore_n 3, 1) := dk_62 (dk_at dksX1_byReserve_0 17 rfl rfl)
theorem dX1_byReserve_18 : decode cX1_byReserve 18 = .ok (.iload_n 3, 1) := dk_29 (dk_at dksX1_byReserve_0 18 rfl rfl)
theorem dX1_byReserve_19 : decode cX1_byReserve 19 = .ok (.aload_n 0, 1) := dk_42 (dk_at dksX1_byReserve_0 19 rfl rfl)
theorem dX1_byReserve_20 : decode cX1_byReserve 20 = .ok (.getfield 30, 3) := dk_180 0 30 (dk_at dksX1_byReserve_0 20 rfl rfl)
theorem dX1_byReserve_23 : decode cX1_byReserve 23 = .ok (.invokevirtual 137, 3) := dk_182 0 137 (dk_at dksX1_byReserve_1 0 rfl rfl)
theorem dX1_byReserve_26 : decode cX1_byReserve 26 = .ok (.if_icmp .ge 42, 3) := dk_162 0 42 (dk_at dksX1_byReserve_1 3 rfl rfl)
theorem dX1_byReserve_29 : decode cX1_byReserve 29 = .ok (.aload_n 0, 1) := dk_42 (dk_at dksX1_byReserve_1 6 rfl rfl)
theorem dX1_byReserve_30 : decode cX1_byReserve 30 = .ok (.getfield 30, 3) := dk_180 0 30 (dk_at dksX1_byReserve_1 7 rfl rfl)
theorem dX1_byReserve_33 : decode cX1_byReserve 33 = .ok (.iload_n 3, 1) := dk_29 (dk_at dksX1_byReserve_1 10 rfl rfl)
theorem dX1_byReserve_34 : decode cX1_byReserve 34 = .ok (.invokevirtual 144, 3) := dk_182 0 144 (dk_at dksX1_byReserve_1 11 rfl rfl)
theorem dX1_byReserve_37 : decode cX1_byReserve 37 = .ok (.checkcast 148, 3) := dk_192 0 148 (dk_at dksX1_byReserve_1 14 rfl rfl)
theorem dX1_byReserve_40 : decode cX1_byReserve 40 = .ok (.invokevirtual 410, 3) := dk_182 1 154 (dk_at dksX1_byReserve_1 17 rfl rfl)
theorem dX1_byReserve_43 : decode cX1_byReserve 43 = .ok (.ifCond .eq 19, 3) := dk_153 0 19 (dk_at dksX1_byReserve_1 20 rfl rfl)
theorem dX1_byReserve_46 : decode cX1_byReserve 46 = .ok (.aload_n 2, 1) := dk_44 (dk_at dksX1_byReserve_1 23 rfl rfl)
theorem dX1_byReserve_47 : decode cX1_byReserve 47 = .ok (.aload_n 0, 1) := dk_42 (dk_at dksX1_byReserve_2 0 rfl rfl)
theorem dX1_byReserve_48 : decode cX1_byReserve 48 = .ok (.getfield 30, 3) := dk_180 0 30 (dk_at dksX1_byReserve_2 1 rfl rfl)
theorem dX1_byReserve_51 : decode cX1_byReserve 51 = .ok (.iload_n 3, 1) := dk_29 (dk_at dksX1_byReserve_2 4 rfl rfl)
theorem dX1_byReserve_52 : decode cX1_byReserve 52 = .ok (.invokevirtual 144, 3) := dk_182 0 144 (dk_at dksX1_byReserve_2 5 rfl rfl)
theorem dX1_byReserve_55 : decode cX1_byReserve 55 = .ok (.checkcast 148, 3) := dk_192 0 148 (dk_at dksX1_byReserve_2 8 rfl rfl)
theorem dX1_byReserve_58 : decode cX1_byReserve 58 = .ok (.invokevirtual 443, 3) := dk_182 1 187 (dk_at dksX1_byReserve_2 11 rfl rfl)
theorem dX1_byReserve_61 : decode cX1_byReserve 61 = .ok (.pop, 1) := dk_87 (dk_at dksX1_byReserve_2 14 rfl rfl)
theorem dX1_byReserve_62 : decode cX1_byReserve 62 = .ok (.iinc 3 1, 3) := dk_132 3 1 (dk_at dksX1_byReserve_2 15 rfl rfl)
theorem dX1_byReserve_65 : decode cX1_byReserve 65 = .ok (.goto (-47), 3) := dk_167 255 209 (dk_at dksX1_byReserve_2 18 rfl rfl)
theorem dX1_byReserve_68 : decode cX1_byReserve 68 = .ok (.iload_n 1, 1) := dk_27 (dk_at dksX1_byReserve_2 21 rfl rfl)
theorem dX1_byReserve_69 : decode cX1_byReserve 69 = .ok (.istore_n 3, 1) := dk_62 (dk_at dksX1_byReserve_2 22 rfl rfl)
theorem dX1_byReserve_70 : decode cX1_byReserve 70 = .ok (.aload_n 2, 1) := dk_44 (dk_at dksX1_byReserve_2 23 rfl rfl)
theorem dX1_byReserve_71 : decode cX1_byReserve 71 = .ok (.invokevirtual 161, 3) := dk_182 0 161 (dk_at dksX1_byReserve_3 0 rfl rfl)
theorem dX1_byReserve_74 : decode cX1_byReserve 74 = .ok (.astore 4, 2) := dk_58 4 (dk_at dksX1_byReserve_3 3 rfl rfl)
theorem dX1_byReserve_76 : decode cX1_byReserve 76 = .ok (.aload 4, 2) := dk_25 4 (dk_at dksX1_byReserve_3 5 rfl rfl)
theorem dX1_byReserve_78 : decode cX1_byReserve 78 = .ok (.invokeinterface 165 1, 5) := by decide +kernel
theorem dX1_byReserve_83 : decode cX1_byReserve 83 = .ok (.ifCond .eq 31, 3) := dk_153 0 31 (dk_at dksX1_byReserve_3 12 rfl rfl)
theorem dX1_byReserve_86 : decode cX1_byReserve 86 = .ok (.aload 4, 2) := dk_25 4 (dk_at dksX1_byReserve_3 15 rfl rfl)
theorem dX1_byReserve_88 : decode cX1_byReserve 88 = .ok (.invokeinterface 171 1, 5) := by decide +kernel
theorem dX1_byReserve_93 : decode cX1_byReserve 93 = .ok (.checkcast 148, 3) := dk_192 0 148 (dk_at dksX1_byReserve_4 0 rfl rfl)
theorem dX1_byReserve_96 : decode cX1_byReserve 96 = .ok (.astore 5, 2) := dk_58 5 (dk_at dksX1_byReserve_4 3 rfl rfl)
theorem dX1_byReserve_98 : decode cX1_byReserve 98 = .ok (.iload_n 3, 1) := dk_29 (dk_at dksX1_byReserve_4 5 rfl rfl)
theorem dX1_byReserve_99 : decode cX1_byReserve 99 = .ok (.iinc 3 (-1), 3) := dk_132 3 255 (dk_at dksX1_byReserve_4 6 rfl rfl)
theorem dX1_byReserve_102 : decode cX1_byReserve 102 = .ok (.ifCond .ne 9, 3) := dk_154 0 9 (dk_at dksX1_byReserve_4 9 rfl rfl)
theorem dX1_byReserve_105 : decode cX1_byReserve 105 = .ok (.aload 5, 2) := dk_25 5 (dk_at dksX1_byReserve_4 12 rfl rfl)
theorem dX1_byReserve_107 : decode cX1_byReserve 107 = .ok (.getfield 299, 3) := dk_180 1 43 (dk_at dksX1_byReserve_4 14 rfl rfl)
theorem dX1_byReserve_110 : decode cX1_byReserve 110 = .ok (.ireturn, 1) := dk_172 (dk_at dksX1_byReserve_4 17 rfl rfl)
theorem dX1_byReserve_111 : decode cX1_byReserve 111 = .ok (.goto (-35), 3) := dk_167 255 221 (dk_at dksX1_byReserve_4 18 rfl rfl)
theorem dX1_byReserve_114 : decode cX1_byReserve 114 = .ok (.new 444, 3) := dk_187 1 188 (dk_at dksX1_byReserve_4 21 rfl rfl)
theorem dX1_byReserve_117 : decode cX1_byReserve 117 = .ok (.dup, 1) := dk_89 (dk_at dksX1_byReserve_5 0 rfl rfl)
theorem dX1_byReserve_118 : decode cX1_byReserve 118 = .ok (.invokespecial 446, 3) := dk_183 1 190 (dk_at dksX1_byReserve_5 1 rfl rfl)
theorem dX1_byReserve_121 : decode cX1_byReserve 121 = .ok (.athrow, 1) := dk_191 (dk_at dksX1_byReserve_5 4 rfl rfl)
abbrev cX1_declare : ByteArray := prog_1_method_46_code
def yX1_declare : MethodName := ⟨RX1, "declare", "(I)J"⟩
def dkwX1_declare_12 : List UInt8 := [184, 0, 187, 22, 7, 117, 182, 0, 193, 42, 27, 181, 0, 103, 42, 4, 181, 0, 125, 22, 7, 173]
abbrev dktX1_declare_12 : List UInt8 := dkwX1_declare_12 ++ []
def dkwX1_declare_11 : List UInt8 := [101, 181, 1, 56, 132, 9, 1, 167, 255, 220, 187, 0, 134, 89, 183, 0, 136, 191, 42, 180, 0, 51, 8]
abbrev dktX1_declare_11 : List UInt8 := dkwX1_declare_11 ++ dktX1_declare_12
def dkwX1_declare_10 : List UInt8 := [162, 0, 34, 42, 180, 0, 30, 21, 9, 182, 0, 144, 192, 0, 148, 89, 180, 1, 56, 25, 6, 21, 9, 47]
abbrev dktX1_declare_10 : List UInt8 := dkwX1_declare_10 ++ dktX1_declare_11
def dkwX1_declare_9 : List UInt8 := [55, 7, 22, 4, 32, 101, 22, 7, 101, 9, 148, 156, 0, 53, 3, 54, 9, 21, 9, 25, 6, 190]
abbrev dktX1_declare_9 : List UInt8 := dkwX1_declare_9 ++ dktX1_declare_10
def dkwX1_declare_8 : List UInt8 := [47, 97, 181, 1, 56, 132, 7, 1, 167, 255, 198, 42, 42, 180, 0, 23, 3, 50, 182, 0, 183, 32, 101]
abbrev dktX1_declare_8 : List UInt8 := dkwX1_declare_8 ++ dktX1_declare_9
def dkwX1_declare_7 : List UInt8 := [182, 1, 198, 80, 42, 180, 0, 30, 21, 7, 182, 0, 144, 192, 0, 148, 89, 180, 1, 56, 25, 6, 21, 7]
abbrev dktX1_declare_7 : List UInt8 := dkwX1_declare_7 ++ dktX1_declare_8
def dkwX1_declare_6 : List UInt8 := [190, 162, 0, 56, 25, 6, 21, 7, 42, 42, 180, 0, 30, 21, 7, 182, 0, 144, 192, 0, 148, 27]
abbrev dktX1_declare_6 : List UInt8 := dkwX1_declare_6 ++ dktX1_declare_7
def dkwX1_declare_5 : List UInt8 := [42, 182, 0, 180, 55, 4, 42, 180, 0, 30, 182, 0, 137, 188, 11, 58, 6, 3, 54, 7, 21, 7, 25, 6]
abbrev dktX1_declare_5 : List UInt8 := dkwX1_declare_5 ++ dktX1_declare_6
def dkwX1_declare_4 : List UInt8 := [167, 0, 4, 3, 184, 1, 30, 132, 2, 1, 167, 255, 196, 42, 42, 180, 0, 23, 3, 50, 182, 0, 183, 65]
abbrev dktX1_declare_4 : List UInt8 := dkwX1_declare_4 ++ dktX1_declare_5
def dkwX1_declare_3 : List UInt8 := [42, 180, 0, 30, 28, 182, 0, 144, 192, 0, 148, 27, 182, 1, 198, 97, 20, 1, 201, 148, 157, 0, 7, 4]
abbrev dktX1_declare_3 : List UInt8 := dkwX1_declare_3 ++ dktX1_declare_4
def dkwX1_declare_2 : List UInt8 := [180, 0, 30, 182, 0, 137, 162, 0, 55, 42, 180, 0, 30, 28, 182, 0, 144, 192, 0, 148, 182, 1, 157, 42]
abbrev dktX1_declare_2 : List UInt8 := dkwX1_declare_2 ++ dktX1_declare_3
def dkwX1_declare_1 : List UInt8 := [184, 1, 194, 42, 180, 0, 100, 163, 0, 7, 4, 167, 0, 4, 3, 184, 1, 30, 3, 61, 28, 42]
abbrev dktX1_declare_1 : List UInt8 := dkwX1_declare_1 ++ dktX1_declare_2
def dkwX1_declare_0 : List UInt8 := [27, 133, 9, 20, 0, 252, 184, 0, 201, 42, 180, 0, 125, 154, 0, 23, 27, 42, 180, 0, 103, 100]
abbrev dktX1_declare_0 : List UInt8 := dkwX1_declare_0 ++ dktX1_declare_1
theorem dksX1_declare_0 : cX1_declare.data.toList.drop 0 = dktX1_declare_0 := by decide +kernel
theorem dksX1_declare_1 : cX1_declare.data.toList.drop 22 = dktX1_declare_1 := dk_seg dksX1_declare_0 22 rfl rfl
theorem dksX1_declare_2 : cX1_declare.data.toList.drop 44 = dktX1_declare_2 := dk_seg dksX1_declare_1 22 rfl rfl
theorem dksX1_declare_3 : cX1_declare.data.toList.drop 68 = dktX1_declare_3 := dk_seg dksX1_declare_2 24 rfl rfl
theorem dksX1_declare_4 : cX1_declare.data.toList.drop 92 = dktX1_declare_4 := dk_seg dksX1_declare_3 24 rfl rfl
theorem dksX1_declare_5 : cX1_declare.data.toList.drop 116 = dktX1_declare_5 := dk_seg dksX1_declare_4 24 rfl rfl
theorem dksX1_declare_6 : cX1_declare.data.toList.drop 140 = dktX1_declare_6 := dk_seg dksX1_declare_5 24 rfl rfl
theorem dksX1_declare_7 : cX1_declare.data.toList.drop 162 = dktX1_declare_7 := dk_seg dksX1_declare_6 22 rfl rfl
theorem dksX1_declare_8 : cX1_declare.data.toList.drop 186 = dktX1_declare_8 := dk_seg dksX1_declare_7 24 rfl rfl
theorem dksX1_declare_9 : cX1_declare.data.toList.drop 209 = dktX1_declare_9 := dk_seg dksX1_declare_8 23 rfl rfl
theorem dksX1_declare_10 : cX1_declare.data.toList.drop 231 = dktX1_declare_10 := dk_seg dksX1_declare_9 22 rfl rfl
theorem dksX1_declare_11 : cX1_declare.data.toList.drop 255 = dktX1_declare_11 := dk_seg dksX1_declare_10 24 rfl rfl
theorem dksX1_declare_12 : cX1_declare.data.toList.drop 278 = dktX1_declare_12 := dk_seg dksX1_declare_11 23 rfl rfl
theorem dX1_declare_0 : decode cX1_declare 0 = .ok (.iload_n 1, 1) := dk_27 (dk_at dksX1_declare_0 0 rfl rfl)
theorem dX1_declare_1 : decode cX1_declare 1 = .ok (.i2l, 1) := dk_133 (dk_at dksX1_declare_0 1 rfl rfl)
theorem dX1_declare_2 : decode cX1_declare 2 = .ok (.lconst 0, 1) := dk_9 (dk_at dksX1_declare_0 2 rfl rfl)
theorem dX1_declare_3 : decode cX1_declare 3 = .ok (.ldc2_w 252, 3) := dk_20 0 252 (dk_at dksX1_declare_0 3 rfl rfl)
theorem dX1_declare_6 : decode cX1_declare 6 = .ok (.invokestatic 201, 3) := dk_184 0 201 (dk_at dksX1_declare_0 6 rfl rfl)
theorem dX1_declare_9 : decode cX1_declare 9 = .ok (.aload_n 0, 1) := dk_42 (dk_at dksX1_declare_0 9 rfl rfl)
theorem dX1_declare_10 : decode cX1_declare 10 = .ok (.getfield 125, 3) := dk_180 0 125 (dk_at dksX1_declare_0 10 rfl rfl)
theorem dX1_declare_13 : decode cX1_declare 13 = .ok (.ifCond .ne 23, 3) := dk_154 0 23 (dk_at dksX1_declare_0 13 rfl rfl)
theorem dX1_declare_16 : decode cX1_declare 16 = .ok (.iload_n 1, 1) := dk_27 (dk_at dksX1_declare_0 16 rfl rfl)
theorem dX1_declare_17 : decode cX1_declare 17 = .ok (.aload_n 0, 1) := dk_42 (dk_at dksX1_declare_0 17 rfl rfl)
theorem dX1_declare_18 : decode cX1_declare 18 = .ok (.getfield 103, 3) := dk_180 0 103 (dk_at dksX1_declare_0 18 rfl rfl)
theorem dX1_declare_21 : decode cX1_declare 21 = .ok (.isub, 1) := dk_100 (dk_at dksX1_declare_0 21 rfl rfl)
theorem dX1_declare_22 : decode cX1_declare 22 = .ok (.invokestatic 450, 3) := dk_184 1 194 (dk_at dksX1_declare_1 0 rfl rfl)
theorem dX1_declare_25 : decode cX1_declare 25 = .ok (.aload_n 0, 1) := dk_42 (dk_at dksX1_declare_1 3 rfl rfl)
theorem dX1_declare_26 : decode cX1_declare 26 = .ok (.getfield 100, 3) := dk_180 0 100 (dk_at dksX1_declare_1 4 rfl rfl)
theorem dX1_declare_29 : decode cX1_declare 29 = .ok (.if_icmp .gt 7, 3) := dk_163 0 7 (dk_at dksX1_declare_1 7 rfl rfl)
theorem dX1_declare_32 : decode cX1_declare 32 = .ok (.iconst 1, 1) := dk_4 (dk_at dksX1_declare_1 10 rfl rfl)
theorem dX1_declare_33 : decode cX1_declare 33 = .ok (.goto 4, 3) := dk_167 0 4 (dk_at dksX1_declare_1 11 rfl rfl)
theorem dX1_declare_36 : decode cX1_declare 36 = .ok (.iconst 0, 1) := dk_3 (dk_at dksX1_declare_1 14 rfl rfl)
theorem dX1_declare_37 : decode cX1_declare 37 = .ok (.invokestatic 286, 3) := dk_184 1 30 (dk_at dksX1_declare_1 15 rfl rfl)
theorem dX1_declare_40 : decode cX1_declare 40 = .ok (.iconst 0, 1) := dk_3 (dk_at dksX1_declare_1 18 rfl rfl)
theorem dX1_declare_41 : decode cX1_declare 41 = .ok (.istore_n 2, 1) := dk_61 (dk_at dksX1_declare_1 19 rfl rfl)
theorem dX1_declare_42 : decode cX1_declare 42 = .ok (.iload_n 2, 1) := dk_28 (dk_at dksX1_declare_1 20 rfl rfl)
theorem dX1_declare_43 : decode cX1_declare 43 = .ok (.aload_n 0, 1) := dk_42 (dk_at dksX1_declare_1 21 rfl rfl)
theorem dX1_declare_44 : decode cX1_declare 44 = .ok (.getfield 30, 3) := dk_180 0 30 (dk_at dksX1_declare_2 0 rfl rfl)
theorem dX1_declare_47 : decode cX1_declare 47 = .ok (.invokevirtual 137, 3) := dk_182 0 137 (dk_at dksX1_declare_2 3 rfl rfl)
theorem dX1_declare_50 : decode cX1_declare 50 = .ok (.if_icmp .ge 55, 3) := dk_162 0 55 (dk_at dksX1_declare_2 6 rfl rfl)
theorem dX1_declare_53 : decode cX1_declare 53 = .ok (.aload_n 0, 1) := dk_42 (dk_at dksX1_declare_2 9 rfl rfl)
theorem dX1_declare_54 : decode cX1_declare 54 = .ok (.getfield 30, 3) := dk_180 0 30 (dk_at dksX1_declare_2 10 rfl rfl)
theorem dX1_declare_57 : decode cX1_declare 57 = .ok (.iload_n 2, 1) := dk_28 (dk_at dksX1_declare_2 13 rfl rfl)
theorem dX1_declare_58 : decode cX1_declare 58 = .ok (.invokevirtual 144, 3) := dk_182 0 144 (dk_at dksX1_declare_2 14 rfl rfl)
theorem dX1_declare_61 : decode cX1_declare 61 = .ok (.checkcast 148, 3) := dk_192 0 148 (dk_at dksX1_declare_2 17 rfl rfl)
theorem dX1_declare_64 : decode cX1_declare 64 = .ok (.invokevirtual 413, 3) := dk_182 1 157 (dk_at dksX1_declare_2 20 rfl rfl)
theorem dX1_declare_67 : decode cX1_declare 67 = .ok (.aload_n 0, 1) := dk_42 (dk_at dksX1_declare_2 23 rfl rfl)
theorem dX1_declare_68 : decode cX1_declare 68 = .ok (.aload_n 0, 1) := dk_42 (dk_at dksX1_declare_3 0 rfl rfl)
theorem dX1_declare_69 : decode cX1_declare 69 = .ok (.getfield 30, 3) := dk_180 0 30 (dk_at dksX1_declare_3 1 rfl rfl)
theorem dX1_declare_72 : decode cX1_declare 72 = .ok (.iload_n 2, 1) := dk_28 (dk_at dksX1_declare_3 4 rfl rfl)
theorem dX1_declare_73 : decode cX1_declare 73 = .ok (.invokevirtual 144, 3) := dk_182 0 144 (dk_at dksX1_declare_3 5 rfl rfl)
theorem dX1_declare_76 : decode cX1_declare 76 = .ok (.checkcast 148, 3) := dk_192 0 148 (dk_at dksX1_declare_3 8 rfl rfl)
theorem dX1_declare_79 : decode cX1_declare 79 = .ok (.iload_n 1, 1) := dk_27 (dk_at dksX1_declare_3 11 rfl rfl)
theorem dX1_declare_80 : decode cX1_declare 80 = .ok (.invokevirtual 454, 3) := dk_182 1 198 (dk_at dksX1_declare_3 12 rfl rfl)
theorem dX1_declare_83 : decode cX1_declare 83 = .ok (.ladd, 1) := dk_97 (dk_at dksX1_declare_3 15 rfl rfl)
theorem dX1_declare_84 : decode cX1_declare 84 = .ok (.ldc2_w 457, 3) := dk_20 1 201 (dk_at dksX1_declare_3 16 rfl rfl)
theorem dX1_declare_87 : decode cX1_declare 87 = .ok (.lcmp, 1) := dk_148 (dk_at dksX1_declare_3 19 rfl rfl)
theorem dX1_declare_88 : decode cX1_declare 88 = .ok (.ifCond .gt 7, 3) := dk_157 0 7 (dk_at dksX1_declare_3 20 rfl rfl)
theorem dX1_declare_91 : decode cX1_declare 91 = .ok (.iconst 1, 1) := dk_4 (dk_at dksX1_declare_3 23 rfl rfl)
theorem dX1_declare_92 : decode cX1_declare 92 = .ok (.goto 4, 3) := dk_167 0 4 (dk_at dksX1_declare_4 0 rfl rfl)
theorem dX1_declare_95 : decode cX1_declare 95 = .ok (.iconst 0, 1) := dk_3 (dk_at dksX1_declare_4 3 rfl rfl)
theorem dX1_declare_96 : decode cX1_declare 96 = .ok (.invokestatic 286, 3) := dk_184 1 30 (dk_at dksX1_declare_4 4 rfl rfl)
theorem dX1_declare_99 : decode cX1_declare 99 = .ok (.iinc 2 1, 3) := dk_132 2 1 (dk_at dksX1_declare_4 7 rfl rfl)
theorem dX1_declare_102 : decode cX1_declare 102 = .ok (.goto (-60), 3) := dk_167 255 196 (dk_at dksX1_declare_4 10 rfl rfl)
theorem dX1_declare_105 : decode cX1_declare 105 = .ok (.aload_n 0, 1) := dk_42 (dk_at dksX1_declare_4 13 rfl rfl)
theorem dX1_declare_106 : decode cX1_declare 106 = .ok (.aload_n 0, 1) := dk_42 (dk_at dksX1_declare_4 14 rfl rfl)
theorem dX1_declare_107 : decode cX1_declare 107 = .ok (.getfield 23, 3) := dk_180 0 23 (dk_at dksX1_declare_4 15 rfl rfl)
theorem dX1_declare_110 : decode cX1_declare 110 = .ok (.iconst 0, 1) := dk_3 (dk_at dksX1_declare_4 18 rfl rfl)
theorem dX1_declare_111 : decode cX1_declare 111 = .ok (.aaload, 1) := dk_50 (dk_at dksX1_declare_4 19 rfl rfl)
theorem dX1_declare_112 : decode cX1_declare 112 = .ok (.invokevirtual 183, 3) := dk_182 0 183 (dk_at dksX1_declare_4 20 rfl rfl)
theorem dX1_declare_115 : decode cX1_declare 115 = .ok (.lstore_n 2, 1) := dk_65 (dk_at dksX1_declare_4 23 rfl rfl)
theorem dX1_declare_116 : decode cX1_declare 116 = .ok (.aload_n 0, 1) := dk_42 (dk_at dksX1_declare_5 0 rfl rfl)
theorem dX1_declare_117 : decode cX1_declare 117 = .ok (.invokevirtual 180, 3) := dk_182 0 180 (dk_at dksX1_declare_5 1 rfl rfl)
theorem dX1_declare_120 : decode cX1_declare 120 = .ok (.lstore 4, 2) := dk_55 4 (dk_at dksX1_declare_5 4 rfl rfl)
theorem dX1_declare_122 : decode cX1_declare 122 = .ok (.aload_n 0, 1) := dk_42 (dk_at dksX1_declare_5 6 rfl rfl)
theorem dX1_declare_123 : decode cX1_declare 123 = .ok (.getfield 30, 3) := dk_180 0 30 (dk_at dksX1_declare_5 7 rfl rfl)
theorem dX1_declare_126 : decode cX1_declare 126 = .ok (.invokevirtual 137, 3) := dk_182 0 137 (dk_at dksX1_declare_5 10 rfl rfl)
theorem dX1_declare_129 : decode cX1_declare 129 = .ok (.newarray .long, 2) := dk_188_11 (dk_at dksX1_declare_5 13 rfl rfl)
theorem dX1_declare_131 : decode cX1_declare 131 = .ok (.astore 6, 2) := dk_58 6 (dk_at dksX1_declare_5 15 rfl rfl)
theorem dX1_declare_133 : decode cX1_declare 133 = .ok (.iconst 0, 1) := dk_3 (dk_at dksX1_declare_5 17 rfl rfl)
theorem dX1_declare_134 : decode cX1_declare 134 = .ok (.istore 7, 2) := dk_54 7 (dk_at dksX1_declare_5 18 rfl rfl)
theorem dX1_declare_136 : decode cX1_declare 136 = .ok (.iload 7, 2) := dk_21 7 (dk_at dksX1_declare_5 20 rfl rfl)
theorem dX1_declare_138 : decode cX1_declare 138 = .ok (.aload 6, 2) := dk_25 6 (dk_at dksX1_declare_5 22 rfl rfl)
theorem dX1_declare_140 : decode cX1_declare 140 = .ok (.arraylength, 1) := dk_190 (dk_at dksX1_declare_6 0 rfl rfl)
theorem dX1_declare_141 : decode cX1_declare 141 = .ok (.if_icmp .ge 56, 3) := dk_162 0 56 (dk_at dksX1_declare_6 1 rfl rfl)
theorem dX1_declare_144 : decode cX1_declare 144 = .ok (.aload 6, 2) := dk_25 6 (dk_at dksX1_declare_6 4 rfl rfl)
theorem dX1_declare_146 : decode cX1_declare 146 = .ok (.iload 7, 2) := dk_21 7 (dk_at dksX1_declare_6 6 rfl rfl)
theorem dX1_declare_148 : decode cX1_declare 148 = .ok (.aload_n 0, 1) := dk_42 (dk_at dksX1_declare_6 8 rfl rfl)
theorem dX1_declare_149 : decode cX1_declare 149 = .ok (.aload_n 0, 1) := dk_42 (dk_at dksX1_declare_6 9 rfl rfl)
theorem dX1_declare_150 : decode cX1_declare 150 = .ok (.getfield 30, 3) := dk_180 0 30 (dk_at dksX1_declare_6 10 rfl rfl)
theorem dX1_declare_153 : decode cX1_declare 153 = .ok (.iload 7, 2) := dk_21 7 (dk_at dksX1_declare_6 13 rfl rfl)
theorem dX1_declare_155 : decode cX1_declare 155 = .ok (.invokevirtual 144, 3) := dk_182 0 144 (dk_at dksX1_declare_6 15 rfl rfl)
theorem dX1_declare_158 : decode cX1_declare 158 = .ok (.checkcast 148, 3) := dk_192 0 148 (dk_at dksX1_declare_6 18 rfl rfl)
theorem dX1_declare_161 : decode cX1_declare 161 = .ok (.iload_n 1, 1) := dk_27 (dk_at dksX1_declare_6 21 rfl rfl)
theorem dX1_declare_162 : decode cX1_declare 162 = .ok (.invokevirtual 454, 3) := dk_182 1 198 (dk_at dksX1_declare_7 0 rfl rfl)
theorem dX1_declare_165 : decode cX1_declare 165 = .ok (.lastore, 1) := dk_80 (dk_at dksX1_declare_7 3 rfl rfl)
theorem dX1_declare_166 : decode cX1_declare 166 = .ok (.aload_n 0, 1) := dk_42 (dk_at dksX1_declare_7 4 rfl rfl)
theorem dX1_declare_167 : decode cX1_declare 167 = .ok (.getfield 30, 3) := dk_180 0 30 (dk_at dksX1_declare_7 5 rfl rfl)
theorem dX1_declare_170 : decode cX1_declare 170 = .ok (.iload 7, 2) := dk_21 7 (dk_at dksX1_declare_7 8 rfl rfl)
theorem dX1_declare_172 : decode cX1_declare 172 = .ok (.invokevirtual 144, 3) := dk_182 0 144 (dk_at dksX1_declare_7 10 rfl rfl)
theorem dX1_declare_175 : decode cX1_declare 175 = .ok (.checkcast 148, 3) := dk_192 0 148 (dk_at dksX1_declare_7 13 rfl rfl)
theorem dX1_declare_178 : decode cX1_declare 178 = .ok (.dup, 1) := dk_89 (dk_at dksX1_declare_7 16 rfl rfl)
theorem dX1_declare_179 : decode cX1_declare 179 = .ok (.getfield 312, 3) := dk_180 1 56 (dk_at dksX1_declare_7 17 rfl rfl)
theorem dX1_declare_182 : decode cX1_declare 182 = .ok (.aload 6, 2) := dk_25 6 (dk_at dksX1_declare_7 20 rfl rfl)
theorem dX1_declare_184 : decode cX1_declare 184 = .ok (.iload 7, 2) := dk_21 7 (dk_at dksX1_declare_7 22 rfl rfl)
theorem dX1_declare_186 : decode cX1_declare 186 = .ok (.laload, 1) := dk_47 (dk_at dksX1_declare_8 0 rfl rfl)
theorem dX1_declare_187 : decode cX1_declare 187 = .ok (.ladd, 1) := dk_97 (dk_at dksX1_declare_8 1 rfl rfl)
theorem dX1_declare_188 : decode cX1_declare 188 = .ok (.putfield 312, 3) := dk_181 1 56 (dk_at dksX1_declare_8 2 rfl rfl)
theorem dX1_declare_191 : decode cX1_declare 191 = .ok (.iinc 7 1, 3) := dk_132 7 1 (dk_at dksX1_declare_8 5 rfl rfl)
theorem dX1_declare_194 : decode cX1_declare 194 = .ok (.goto (-58), 3) := dk_167 255 198 (dk_at dksX1_declare_8 8 rfl rfl)
theorem dX1_declare_197 : decode cX1_declare 197 = .ok (.aload_n 0, 1) := dk_42 (dk_at dksX1_declare_8 11 rfl rfl)
theorem dX1_declare_198 : decode cX1_declare 198 = .ok (.aload_n 0, 1) := dk_42 (dk_at dksX1_declare_8 12 rfl rfl)
theorem dX1_declare_199 : decode cX1_declare 199 = .ok (.getfield 23, 3) := dk_180 0 23 (dk_at dksX1_declare_8 13 rfl rfl)
theorem dX1_declare_202 : decode cX1_declare 202 = .ok (.iconst 0, 1) := dk_3 (dk_at dksX1_declare_8 16 rfl rfl)
theorem dX1_declare_203 : decode cX1_declare 203 = .ok (.aaload, 1) := dk_50 (dk_at dksX1_declare_8 17 rfl rfl)
theorem dX1_declare_204 : decode cX1_declare 204 = .ok (.invokevirtual 183, 3) := dk_182 0 183 (dk_at dksX1_declare_8 18 rfl rfl)
theorem dX1_declare_207 : decode cX1_declare 207 = .ok (.lload_n 2, 1) := dk_32 (dk_at dksX1_declare_8 21 rfl rfl)
theorem dX1_declare_208 : decode cX1_declare 208 = .ok (.lsub, 1) := dk_101 (dk_at dksX1_declare_8 22 rfl rfl)
theorem dX1_declare_209 : decode cX1_declare 209 = .ok (.lstore 7, 2) := dk_55 7 (dk_at dksX1_declare_9 0 rfl rfl)
theorem dX1_declare_211 : decode cX1_declare 211 = .ok (.lload 4, 2) := dk_22 4 (dk_at dksX1_declare_9 2 rfl rfl)
theorem dX1_declare_213 : decode cX1_declare 213 = .ok (.lload_n 2, 1) := dk_32 (dk_at dksX1_declare_9 4 rfl rfl)
theorem dX1_declare_214 : decode cX1_declare 214 = .ok (.lsub, 1) := dk_101 (dk_at dksX1_declare_9 5 rfl rfl)
theorem dX1_declare_215 : decode cX1_declare 215 = .ok (.lload 7, 2) := dk_22 7 (dk_at dksX1_declare_9 6 rfl rfl)
theorem dX1_declare_217 : decode cX1_declare 217 = .ok (.lsub, 1) := dk_101 (dk_at dksX1_declare_9 8 rfl rfl)
theorem dX1_declare_218 : decode cX1_declare 218 = .ok (.lconst 0, 1) := dk_9 (dk_at dksX1_declare_9 9 rfl rfl)
theorem dX1_declare_219 : decode cX1_declare 219 = .ok (.lcmp, 1) := dk_148 (dk_at dksX1_declare_9 10 rfl rfl)
theorem dX1_declare_220 : decode cX1_declare 220 = .ok (.ifCond .ge 53, 3) := dk_156 0 53 (dk_at dksX1_declare_9 11 rfl rfl)
theorem dX1_declare_223 : decode cX1_declare 223 = .ok (.iconst 0, 1) := dk_3 (dk_at dksX1_declare_9 14 rfl rfl)
theorem dX1_declare_224 : decode cX1_declare 224 = .ok (.istore 9, 2) := dk_54 9 (dk_at dksX1_declare_9 15 rfl rfl)
theorem dX1_declare_226 : decode cX1_declare 226 = .ok (.iload 9, 2) := dk_21 9 (dk_at dksX1_declare_9 17 rfl rfl)
theorem dX1_declare_228 : decode cX1_declare 228 = .ok (.aload 6, 2) := dk_25 6 (dk_at dksX1_declare_9 19 rfl rfl)
theorem dX1_declare_230 : decode cX1_declare 230 = .ok (.arraylength, 1) := dk_190 (dk_at dksX1_declare_9 21 rfl rfl)
theorem dX1_declare_231 : decode cX1_declare 231 = .ok (.if_icmp .ge 34, 3) := dk_162 0 34 (dk_at dksX1_declare_10 0 rfl rfl)
theorem dX1_declare_234 : decode cX1_declare 234 = .ok (.aload_n 0, 1) := dk_42 (dk_at dksX1_declare_10 3 rfl rfl)
theorem dX1_declare_235 : decode cX1_declare 235 = .ok (.getfield 30, 3) := dk_180 0 30 (dk_at dksX1_declare_10 4 rfl rfl)
theorem dX1_declare_238 : decode cX1_declare 238 = .ok (.iload 9, 2) := dk_21 9 (dk_at dksX1_declare_10 7 rfl rfl)
theorem dX1_declare_240 : decode cX1_declare 240 = .ok (.invokevirtual 144, 3) := dk_182 0 144 (dk_at dksX1_declare_10 9 rfl rfl)
theorem dX1_declare_243 : decode cX1_declare 243 = .ok (.checkcast 148, 3) := dk_192 0 148 (dk_at dksX1_declare_10 12 rfl rfl)
theorem dX1_declare_246 : decode cX1_declare 246 = .ok (.dup, 1) := dk_89 (dk_at dksX1_declare_10 15 rfl rfl)
theorem dX1_declare_247 : decode cX1_declare 247 = .ok (.getfield 312, 3) := dk_180 1 56 (dk_at dksX1_declare_10 16 rfl rfl)
theorem dX1_declare_250 : decode cX1_declare 250 = .ok (.aload 6, 2) := dk_25 6 (dk_at dksX1_declare_10 19 rfl rfl)
theorem dX1_declare_252 : decode cX1_declare 252 = .ok (.iload 9, 2) := dk_21 9 (dk_at dksX1_declare_10 21 rfl rfl)
theorem dX1_declare_254 : decode cX1_declare 254 = .ok (.laload, 1) := dk_47 (dk_at dksX1_declare_10 23 rfl rfl)
theorem dX1_declare_255 : decode cX1_declare 255 = .ok (.lsub, 1) := dk_101 (dk_at dksX1_declare_11 0 rfl rfl)
theorem dX1_declare_256 : decode cX1_declare 256 = .ok (.putfield 312, 3) := dk_181 1 56 (dk_at dksX1_declare_11 1 rfl rfl)
theorem dX1_declare_259 : decode cX1_declare 259 = .ok (.iinc 9 1, 3) := dk_132 9 1 (dk_at dksX1_declare_11 4 rfl rfl)
theorem dX1_declare_262 : decode cX1_declare 262 = .ok (.goto (-36), 3) := dk_167 255 220 (dk_at dksX1_declare_11 7 rfl rfl)
theorem dX1_declare_265 : decode cX1_declare 265 = .ok (.new 134, 3) := dk_187 0 134 (dk_at dksX1_declare_11 10 rfl rfl)
theorem dX1_declare_268 : decode cX1_declare 268 = .ok (.dup, 1) := dk_89 (dk_at dksX1_declare_11 13 rfl rfl)
theorem dX1_declare_269 : decode cX1_declare 269 = .ok (.invokespecial 136, 3) := dk_183 0 136 (dk_at dksX1_declare_11 14 rfl rfl)
theorem dX1_declare_272 : decode cX1_declare 272 = .ok (.athrow, 1) := dk_191 (dk_at dksX1_declare_11 17 rfl rfl)
theorem dX1_declare_273 : decode cX1_declare 273 = .ok (.aload_n 0, 1) := dk_42 (dk_at dksX1_declare_11 18 rfl rfl)
theorem dX1_declare_274 : decode cX1_declare 274 = .ok (.getfield 51, 3) := dk_180 0 51 (dk_at dksX1_declare_11 19 rfl rfl)
theorem dX1_declare_277 : decode cX1_declare 277 = .ok (.iconst 5, 1) := dk_8 (dk_at dksX1_declare_11 22 rfl rfl)
theorem dX1_declare_278 : decode cX1_declare 278 = .ok (.invokestatic 187, 3) := dk_184 0 187 (dk_at dksX1_declare_12 0 rfl rfl)
theorem dX1_declare_281 : decode cX1_declare 281 = .ok (.lload 7, 2) := dk_22 7 (dk_at dksX1_declare_12 3 rfl rfl)
theorem dX1_declare_283 : decode cX1_declare 283 = .ok (.lneg, 1) := dk_117 (dk_at dksX1_declare_12 5 rfl rfl)
theorem dX1_declare_284 : decode cX1_declare 284 = .ok (.invokevirtual 193, 3) := dk_182 0 193 (dk_at dksX1_declare_12 6 rfl rfl)
theorem dX1_declare_287 : decode cX1_declare 287 = .ok (.aload_n 0, 1) := dk_42 (dk_at dksX1_declare_12 9 rfl rfl)
theorem dX1_declare_288 : decode cX1_declare 288 = .ok (.iload_n 1, 1) := dk_27 (dk_at dksX1_declare_12 10 rfl rfl)
theorem dX1_declare_289 : decode cX1_declare 289 = .ok (.putfield 103, 3) := dk_181 0 103 (dk_at dksX1_declare_12 11 rfl rfl)
theorem dX1_declare_292 : decode cX1_declare 292 = .ok (.aload_n 0, 1) := dk_42 (dk_at dksX1_declare_12 14 rfl rfl)
theorem dX1_declare_293 : decode cX1_declare 293 = .ok (.iconst 1, 1) := dk_4 (dk_at dksX1_declare_12 15 rfl rfl)
theorem dX1_declare_294 : decode cX1_declare 294 = .ok (.putfield 125, 3) := dk_181 0 125 (dk_at dksX1_declare_12 16 rfl rfl)
theorem dX1_declare_297 : decode cX1_declare 297 = .ok (.lload 7, 2) := dk_22 7 (dk_at dksX1_declare_12 19 rfl rfl)
theorem dX1_declare_299 : decode cX1_declare 299 = .ok (.lreturn, 1) := dk_173 (dk_at dksX1_declare_12 21 rfl rfl)
abbrev cX1_moreBonus : ByteArray := prog_1_method_45_code
def yX1_moreBonus : MethodName := ⟨RX1, "moreBonus", "(LLifeoffice$Policy;I)J"⟩
def dkwX1_moreBonus_1 : List UInt8 := [184, 0, 9, 167, 0, 4, 9, 173]
abbrev dktX1_moreBonus_1 : List UInt8 := dkwX1_moreBonus_1 ++ []
def dkwX1_moreBonus_0 : List UInt8 := [43, 180, 1, 191, 153, 0, 26, 43, 182, 1, 92, 153, 0, 19, 43, 182, 1, 157, 28, 133, 105, 20, 0, 7]
abbrev dktX1_moreBonus_0 : List UInt8 := dkwX1_moreBonus_0 ++ dktX1_moreBonus_1
theorem dksX1_moreBonus_0 : cX1_moreBonus.data.toList.drop 0 = dktX1_moreBonus_0 := by decide +kernel
theorem dksX1_moreBonus_1 : cX1_moreBonus.data.toList.drop 24 = dktX1_moreBonus_1 := dk_seg dksX1_moreBonus_0 24 rfl rfl
theorem dX1_moreBonus_0 : decode cX1_moreBonus 0 = .ok (.aload_n 1, 1) := dk_43 (dk_at dksX1_moreBonus_0 0 rfl rfl)
theorem dX1_moreBonus_1 : decode cX1_moreBonus 1 = .ok (.getfield 447, 3) := dk_180 1 191 (dk_at dksX1_moreBonus_0 1 rfl rfl)
theorem dX1_moreBonus_4 : decode cX1_moreBonus 4 = .ok (.ifCond .eq 26, 3) := dk_153 0 26 (dk_at dksX1_moreBonus_0 4 rfl rfl)
theorem dX1_moreBonus_7 : decode cX1_moreBonus 7 = .ok (.aload_n 1, 1) := dk_43 (dk_at dksX1_moreBonus_0 7 rfl rfl)
theorem dX1_moreBonus_8 : decode cX1_moreBonus 8 = .ok (.invokevirtual 348, 3) := dk_182 1 92 (dk_at dksX1_moreBonus_0 8 rfl rfl)
theorem dX1_moreBonus_11 : decode cX1_moreBonus 11 = .ok (.ifCond .eq 19, 3) := dk_153 0 19 (dk_at dksX1_moreBonus_0 11 rfl rfl)
theorem dX1_moreBonus_14 : decode cX1_moreBonus 14 = .ok (.aload_n 1, 1) := dk_43 (dk_at dksX1_moreBonus_0 14 rfl rfl)
theorem dX1_moreBonus_15 : decode cX1_moreBonus 15 = .ok (.invokevirtual 413, 3) := dk_182 1 157 (dk_at dksX1_moreBonus_0 15 rfl rfl)
theorem dX1_moreBonus_18 : decode cX1_moreBonus 18 = .ok (.iload_n 2, 1) := dk_28 (dk_at dksX1_moreBonus_0 18 rfl rfl)
theorem dX1_moreBonus_19 : decode cX1_moreBonus 19 = .ok (.i2l, 1) := dk_133 (dk_at dksX1_moreBonus_0 19 rfl rfl)
theorem dX1_moreBonus_20 : decode cX1_moreBonus 20 = .ok (.lmul, 1) := dk_105 (dk_at dksX1_moreBonus_0 20 rfl rfl)
theorem dX1_moreBonus_21 : decode cX1_moreBonus 21 = .ok (.ldc2_w 7, 3) := dk_20 0 7 (dk_at dksX1_moreBonus_0 21 rfl rfl)
theorem dX1_moreBonus_24 : decode cX1_moreBonus 24 = .ok (.invokestatic 9, 3) := dk_184 0 9 (dk_at dksX1_moreBonus_1 0 rfl rfl)
theorem dX1_moreBonus_27 : decode cX1_moreBonus 27 = .ok (.goto 4, 3) := dk_167 0 4 (dk_at dksX1_moreBonus_1 3 rfl rfl)
theorem dX1_moreBonus_30 : decode cX1_moreBonus 30 = .ok (.lconst 0, 1) := dk_9 (dk_at dksX1_moreBonus_1 6 rfl rfl)
theorem dX1_moreBonus_31 : decode cX1_moreBonus 31 = .ok (.lreturn, 1) := dk_173 (dk_at dksX1_moreBonus_1 7 rfl rfl)
abbrev cX1_setSmoothing : ByteArray := prog_1_method_47_code
def yX1_setSmoothing : MethodName := ⟨RX1, "setSmoothing", "(I)I"⟩
def dkwX1_setSmoothing_0 : List UInt8 := [27, 133, 9, 20, 0, 252, 184, 0, 201, 42, 180, 0, 100, 61, 42, 27, 181, 0, 100, 28, 172]
abbrev dktX1_setSmoothing_0 : List UInt8 := dkwX1_setSmoothing_0 ++ []
theorem dksX1_setSmoothing_0 : cX1_setSmoothing.data.toList.drop 0 = dktX1_setSmoothing_0 := by decide +kernel
theorem dX1_setSmoothing_0 : decode cX1_setSmoothing 0 = .ok (.iload_n 1, 1) := dk_27 (dk_at dksX1_setSmoothing_0 0 rfl rfl)
theorem dX1_setSmoothing_1 : decode cX1_setSmoothing 1 = .ok (.i2l, 1) := dk_133 (dk_at dksX1_setSmoothing_0 1 rfl rfl)
theorem dX1_setSmoothing_2 : decode cX1_setSmoothing 2 = .ok (.lconst 0, 1) := dk_9 (dk_at dksX1_setSmoothing_0 2 rfl rfl)
theorem dX1_setSmoothing_3 : decode cX1_setSmoothing 3 = .ok (.ldc2_w 252, 3) := dk_20 0 252 (dk_at dksX1_setSmoothing_0 3 rfl rfl)
theorem dX1_setSmoothing_6 : decode cX1_setSmoothing 6 = .ok (.invokestatic 201, 3) := dk_184 0 201 (dk_at dksX1_setSmoothing_0 6 rfl rfl)
theorem dX1_setSmoothing_9 : decode cX1_setSmoothing 9 = .ok (.aload_n 0, 1) := dk_42 (dk_at dksX1_setSmoothing_0 9 rfl rfl)
theorem dX1_setSmoothing_10 : decode cX1_setSmoothing 10 = .ok (.getfield 100, 3) := dk_180 0 100 (dk_at dksX1_setSmoothing_0 10 rfl rfl)
theorem dX1_setSmoothing_13 : decode cX1_setSmoothing 13 = .ok (.istore_n 2, 1) := dk_61 (dk_at dksX1_setSmoothing_0 13 rfl rfl)
theorem dX1_setSmoothing_14 : decode cX1_setSmoothing 14 = .ok (.aload_n 0, 1) := dk_42 (dk_at dksX1_setSmoothing_0 14 rfl rfl)
theorem dX1_setSmoothing_15 : decode cX1_setSmoothing 15 = .ok (.iload_n 1, 1) := dk_27 (dk_at dksX1_setSmoothing_0 15 rfl rfl)
theorem dX1_setSmoothing_16 : decode cX1_setSmoothing 16 = .ok (.putfield 100, 3) := dk_181 0 100 (dk_at dksX1_setSmoothing_0 16 rfl rfl)
theorem dX1_setSmoothing_19 : decode cX1_setSmoothing 19 = .ok (.iload_n 2, 1) := dk_28 (dk_at dksX1_setSmoothing_0 19 rfl rfl)
theorem dX1_setSmoothing_20 : decode cX1_setSmoothing 20 = .ok (.ireturn, 1) := dk_172 (dk_at dksX1_setSmoothing_0 20 rfl rfl)
abbrev cX1_setFinal : ByteArray := prog_1_method_48_code
def yX1_setFinal : MethodName := ⟨RX1, "setFinal", "(I)I"⟩
def dkwX1_setFinal_1 : List UInt8 := [104, 163, 0, 7, 4, 167, 0, 4, 3, 184, 1, 30, 42, 180, 0, 106, 61, 42, 27, 181, 0, 106, 28, 172]
abbrev dktX1_setFinal_1 : List UInt8 := dkwX1_setFinal_1 ++ []
def dkwX1_setFinal_0 : List UInt8 := [27, 133, 9, 20, 0, 7, 184, 0, 201, 27, 42, 180, 0, 106, 100, 184, 1, 194, 16, 20, 42, 180, 0, 100]
abbrev dktX1_setFinal_0 : List UInt8 := dkwX1_setFinal_0 ++ dktX1_setFinal_1
theorem dksX1_setFinal_0 : cX1_setFinal.data.toList.drop 0 = dktX1_setFinal_0 := by decide +kernel
theorem dksX1_setFinal_1 : cX1_setFinal.data.toList.drop 24 = dktX1_setFinal_1 := dk_seg dksX1_setFinal_0 24 rfl rfl
theorem dX1_setFinal_0 : decode cX1_setFinal 0 = .ok (.iload_n 1, 1) := dk_27 (dk_at dksX1_setFinal_0 0 rfl rfl)
theorem dX1_setFinal_1 : decode cX1_setFinal 1 = .ok (.i2l, 1) := dk_133 (dk_at dksX1_setFinal_0 1 rfl rfl)
theorem dX1_setFinal_2 : decode cX1_setFinal 2 = .ok (.lconst 0, 1) := dk_9 (dk_at dksX1_setFinal_0 2 rfl rfl)
theorem dX1_setFinal_3 : decode cX1_setFinal 3 = .ok (.ldc2_w 7, 3) := dk_20 0 7 (dk_at dksX1_setFinal_0 3 rfl rfl)
theorem dX1_setFinal_6 : decode cX1_setFinal 6 = .ok (.invokestatic 201, 3) := dk_184 0 201 (dk_at dksX1_setFinal_0 6 rfl rfl)
theorem dX1_setFinal_9 : decode cX1_setFinal 9 = .ok (.iload_n 1, 1) := dk_27 (dk_at dksX1_setFinal_0 9 rfl rfl)
theorem dX1_setFinal_10 : decode cX1_setFinal 10 = .ok (.aload_n 0, 1) := dk_42 (dk_at dksX1_setFinal_0 10 rfl rfl)
theorem dX1_setFinal_11 : decode cX1_setFinal 11 = .ok (.getfield 106, 3) := dk_180 0 106 (dk_at dksX1_setFinal_0 11 rfl rfl)
theorem dX1_setFinal_14 : decode cX1_setFinal 14 = .ok (.isub, 1) := dk_100 (dk_at dksX1_setFinal_0 14 rfl rfl)
theorem dX1_setFinal_15 : decode cX1_setFinal 15 = .ok (.invokestatic 450, 3) := dk_184 1 194 (dk_at dksX1_setFinal_0 15 rfl rfl)
theorem dX1_setFinal_18 : decode cX1_setFinal 18 = .ok (.bipush 20, 2) := dk_16 20 (dk_at dksX1_setFinal_0 18 rfl rfl)
theorem dX1_setFinal_20 : decode cX1_setFinal 20 = .ok (.aload_n 0, 1) := dk_42 (dk_at dksX1_setFinal_0 20 rfl rfl)
theorem dX1_setFinal_21 : decode cX1_setFinal 21 = .ok (.getfield 100, 3) := dk_180 0 100 (dk_at dksX1_setFinal_0 21 rfl rfl)
theorem dX1_setFinal_24 : decode cX1_setFinal 24 = .ok (.imul, 1) := dk_104 (dk_at dksX1_setFinal_1 0 rfl rfl)
theorem dX1_setFinal_25 : decode cX1_setFinal 25 = .ok (.if_icmp .gt 7, 3) := dk_163 0 7 (dk_at dksX1_setFinal_1 1 rfl rfl)
theorem dX1_setFinal_28 : decode cX1_setFinal 28 = .ok (.iconst 1, 1) := dk_4 (dk_at dksX1_setFinal_1 4 rfl rfl)
theorem dX1_setFinal_29 : decode cX1_setFinal 29 = .ok (.goto 4, 3) := dk_167 0 4 (dk_at dksX1_setFinal_1 5 rfl rfl)
theorem dX1_setFinal_32 : decode cX1_setFinal 32 = .ok (.iconst 0, 1) := dk_3 (dk_at dksX1_setFinal_1 8 rfl rfl)
theorem dX1_setFinal_33 : decode cX1_setFinal 33 = .ok (.invokestatic 286, 3) := dk_184 1 30 (dk_at dksX1_setFinal_1 9 rfl rfl)
theorem dX1_setFinal_36 : decode cX1_setFinal 36 = .ok (.aload_n 0, 1) := dk_42 (dk_at dksX1_setFinal_1 12 rfl rfl)
theorem dX1_setFinal_37 : decode cX1_setFinal 37 = .ok (.getfield 106, 3) := dk_180 0 106 (dk_at dksX1_setFinal_1 13 rfl rfl)
theorem dX1_setFinal_40 : decode cX1_setFinal 40 = .ok (.istore_n 2, 1) := dk_61 (dk_at dksX1_setFinal_1 16 rfl rfl)
theorem dX1_setFinal_41 : decode cX1_setFinal 41 = .ok (.aload_n 0, 1) := dk_42 (dk_at dksX1_setFinal_1 17 rfl rfl)
theorem dX1_setFinal_42 : decode cX1_setFinal 42 = .ok (.iload_n 1, 1) := dk_27 (dk_at dksX1_setFinal_1 18 rfl rfl)
theorem dX1_setFinal_43 : decode cX1_setFinal 43 = .ok (.putfield 106, 3) := dk_181 0 106 (dk_at dksX1_setFinal_1 19 rfl rfl)
theorem dX1_setFinal_46 : decode cX1_setFinal 46 = .ok (.iload_n 2, 1) := dk_28 (dk_at dksX1_setFinal_1 22 rfl rfl)
theorem dX1_setFinal_47 : decode cX1_setFinal 47 = .ok (.ireturn, 1) := dk_172 (dk_at dksX1_setFinal_1 23 rfl rfl)
abbrev cX1_buyBond : ByteArray := prog_1_method_49_code
def yX1_buyBond : MethodName := ⟨RX1, "buyBond", "(III)I"⟩
def dkwX1_buyBond_4 : List UInt8 := [183, 1, 204, 182, 1, 187, 87, 42, 180, 0, 37, 182, 1, 203, 172]
abbrev dktX1_buyBond_4 : List UInt8 := dkwX1_buyBond_4 ++ []
def dkwX1_buyBond_3 : List UInt8 := [180, 0, 37, 187, 0, 175, 89, 42, 89, 180, 0, 109, 90, 4, 96, 181, 0, 109, 27, 28, 133, 29]
abbrev dktX1_buyBond_3 : List UInt8 := dkwX1_buyBond_3 ++ dktX1_buyBond_4
def dkwX1_buyBond_2 : List UInt8 := [155, 0, 7, 4, 167, 0, 4, 3, 184, 1, 30, 42, 89, 180, 0, 67, 28, 133, 101, 181, 0, 67, 42]
abbrev dktX1_buyBond_2 : List UInt8 := dkwX1_buyBond_2 ++ dktX1_buyBond_3
def dkwX1_buyBond_1 : List UInt8 := [184, 0, 201, 42, 180, 0, 37, 182, 1, 203, 16, 16, 162, 0, 17, 42, 180, 0, 67, 28, 133, 148]
abbrev dktX1_buyBond_1 : List UInt8 := dkwX1_buyBond_1 ++ dktX1_buyBond_2
def dkwX1_buyBond_0 : List UInt8 := [27, 133, 10, 20, 0, 213, 184, 0, 201, 28, 133, 10, 20, 1, 201, 184, 0, 201, 29, 133, 9, 20, 0, 211]
abbrev dktX1_buyBond_0 : List UInt8 := dkwX1_buyBond_0 ++ dktX1_buyBond_1
theorem dksX1_buyBond_0 : cX1_buyBond.data.toList.drop 0 = dktX1_buyBond_0 := by decide +kernel
theorem dksX1_buyBond_1 : cX1_buyBond.data.toList.drop 24 = dktX1_buyBond_1 := dk_seg dksX1_buyBond_0 24 rfl rfl
theorem dksX1_buyBond_2 : cX1_buyBond.data.toList.drop 46 = dktX1_buyBond_2 := dk_seg dksX1_buyBond_1 22 rfl rfl
theorem dksX1_buyBond_3 : cX1_buyBond.data.toList.drop 69 = dktX1_buyBond_3 := dk_seg dksX1_buyBond_2 23 rfl rfl
theorem dksX1_buyBond_4 : cX1_buyBond.data.toList.drop 91 = dktX1_buyBond_4 := dk_seg dksX1_buyBond_3 22 rfl rfl
theorem dX1_buyBond_0 : decode cX1_buyBond 0 = .ok (.iload_n 1, 1) := dk_27 (dk_at dksX1_buyBond_0 0 rfl rfl)
theorem dX1_buyBond_1 : decode cX1_buyBond 1 = .ok (.i2l, 1) := dk_133 (dk_at dksX1_buyBond_0 1 rfl rfl)
theorem dX1_buyBond_2 : decode cX1_buyBond 2 = .ok (.lconst 1, 1) := dk_10 (dk_at dksX1_buyBond_0 2 rfl rfl)
theorem dX1_buyBond_3 : decode cX1_buyBond 3 = .ok (.ldc2_w 213, 3) := dk_20 0 213 (dk_at dksX1_buyBond_0 3 rfl rfl)
theorem dX1_buyBond_6 : decode cX1_buyBond 6 = .ok (.invokestatic 201, 3) := dk_184 0 201 (dk_at dksX1_buyBond_0 6 rfl rfl)
theorem dX1_buyBond_9 : decode cX1_buyBond 9 = .ok (.iload_n 2, 1) := dk_28 (dk_at dksX1_buyBond_0 9 rfl rfl)
theorem dX1_buyBond_10 : decode cX1_buyBond 10 = .ok (.i2l, 1) := dk_133 (dk_at dksX1_buyBond_0 10 rfl rfl)
theorem dX1_buyBond_11 : decode cX1_buyBond 11 = .ok (.lconst 1, 1) := dk_10 (dk_at dksX1_buyBond_0 11 rfl rfl)
theorem dX1_buyBond_12 : decode cX1_buyBond 12 = .ok (.ldc2_w 457, 3) := dk_20 1 201 (dk_at dksX1_buyBond_0 12 rfl rfl)
theorem dX1_buyBond_15 : decode cX1_buyBond 15 = .ok (.invokestatic 201, 3) := dk_184 0 201 (dk_at dksX1_buyBond_0 15 rfl rfl)
theorem dX1_buyBond_18 : decode cX1_buyBond 18 = .ok (.iload_n 3, 1) := dk_29 (dk_at dksX1_buyBond_0 18 rfl rfl)
theorem dX1_buyBond_19 : decode cX1_buyBond 19 = .ok (.i2l, 1) := dk_133 (dk_at dksX1_buyBond_0 19 rfl rfl)
theorem dX1_buyBond_20 : decode cX1_buyBond 20 = .ok (.lconst 0, 1) := dk_9 (dk_at dksX1_buyBond_0 20 rfl rfl)
theorem dX1_buyBond_21 : decode cX1_buyBond 21 = .ok (.ldc2_w 211, 3) := dk_20 0 211 (dk_at dksX1_buyBond_0 21 rfl rfl)
theorem dX1_buyBond_24 : decode cX1_buyBond 24 = .ok (.invokestatic 201, 3) := dk_184 0 201 (dk_at dksX1_buyBond_1 0 rfl rfl)
theorem dX1_buyBond_27 : decode cX1_buyBond 27 = .ok (.aload_n 0, 1) := dk_42 (dk_at dksX1_buyBond_1 3 rfl rfl)
theorem dX1_buyBond_28 : decode cX1_buyBond 28 = .ok (.getfield 37, 3) := dk_180 0 37 (dk_at dksX1_buyBond_1 4 rfl rfl)
theorem dX1_buyBond_31 : decode cX1_buyBond 31 = .ok (.invokevirtual 459, 3) := dk_182 1 203 (dk_at dksX1_buyBond_1 7 rfl rfl)
theorem dX1_buyBond_34 : decode cX1_buyBond 34 = .ok (.bipush 16, 2) := dk_16 16 (dk_at dksX1_buyBond_1 10 rfl rfl)
theorem dX1_buyBond_36 : decode cX1_buyBond 36 = .ok (.if_icmp .ge 17, 3) := dk_162 0 17 (dk_at dksX1_buyBond_1 12 rfl rfl)
theorem dX1_buyBond_39 : decode cX1_buyBond 39 = .ok (.aload_n 0, 1) := dk_42 (dk_at dksX1_buyBond_1 15 rfl rfl)
theorem dX1_buyBond_40 : decode cX1_buyBond 40 = .ok (.getfield 67, 3) := dk_180 0 67 (dk_at dksX1_buyBond_1 16 rfl rfl)
theorem dX1_buyBond_43 : decode cX1_buyBond 43 = .ok (.iload_n 2, 1) := dk_28 (dk_at dksX1_buyBond_1 19 rfl rfl)
theorem dX1_buyBond_44 : decode cX1_buyBond 44 = .ok (.i2l, 1) := dk_133 (dk_at dksX1_buyBond_1 20 rfl rfl)
theorem dX1_buyBond_45 : decode cX1_buyBond 45 = .ok (.lcmp, 1) := dk_148 (dk_at dksX1_buyBond_1 21 rfl rfl)
theorem dX1_buyBond_46 : decode cX1_buyBond 46 = .ok (.ifCond .lt 7, 3) := dk_155 0 7 (dk_at dksX1_buyBond_2 0 rfl rfl)
theorem dX1_buyBond_49 : decode cX1_buyBond 49 = .ok (.iconst 1, 1) := dk_4 (dk_at dksX1_buyBond_2 3 rfl rfl)
theorem dX1_buyBond_50 : decode cX1_buyBond 50 = .ok (.goto 4, 3) := dk_167 0 4 (dk_at dksX1_buyBond_2 4 rfl rfl)
theorem dX1_buyBond_53 : decode cX1_buyBond 53 = .ok (.iconst 0, 1) := dk_3 (dk_at dksX1_buyBond_2 7 rfl rfl)
theorem dX1_buyBond_54 : decode cX1_buyBond 54 = .ok (.invokestatic 286, 3) := dk_184 1 30 (dk_at dksX1_buyBond_2 8 rfl rfl)
theorem dX1_buyBond_57 : decode cX1_buyBond 57 = .ok (.aload_n 0, 1) := dk_42 (dk_at dksX1_buyBond_2 11 rfl rfl)
theorem dX1_buyBond_58 : decode cX1_buyBond 58 = .ok (.dup, 1) := dk_89 (dk_at dksX1_buyBond_2 12 rfl rfl)
theorem dX1_buyBond_59 : decode cX1_buyBond 59 = .ok (.getfield 67, 3) := dk_180 0 67 (dk_at dksX1_buyBond_2 13 rfl rfl)
theorem dX1_buyBond_62 : decode cX1_buyBond 62 = .ok (.iload_n 2, 1) := dk_28 (dk_at dksX1_buyBond_2 16 rfl rfl)
theorem dX1_buyBond_63 : decode cX1_buyBond 63 = .ok (.i2l, 1) := dk_133 (dk_at dksX1_buyBond_2 17 rfl rfl)
theorem dX1_buyBond_64 : decode cX1_buyBond 64 = .ok (.lsub, 1) := dk_101 (dk_at dksX1_buyBond_2 18 rfl rfl)
theorem dX1_buyBond_65 : decode cX1_buyBond 65 = .ok (.putfield 67, 3) := dk_181 0 67 (dk_at dksX1_buyBond_2 19 rfl rfl)
theorem dX1_buyBond_68 : decode cX1_buyBond 68 = .ok (.aload_n 0, 1) := dk_42 (dk_at dksX1_buyBond_2 22 rfl rfl)
theorem dX1_buyBond_69 : decode cX1_buyBond 69 = .ok (.getfield 37, 3) := dk_180 0 37 (dk_at dksX1_buyBond_3 0 rfl rfl)
theorem dX1_buyBond_72 : decode cX1_buyBond 72 = .ok (.new 175, 3) := dk_187 0 175 (dk_at dksX1_buyBond_3 3 rfl rfl)
theorem dX1_buyBond_75 : decode cX1_buyBond 75 = .ok (.dup, 1) := dk_89 (dk_at dksX1_buyBond_3 6 rfl rfl)
theorem dX1_buyBond_76 : decode cX1_buyBond 76 = .ok (.aload_n 0, 1) := dk_42 (dk_at dksX1_buyBond_3 7 rfl rfl)
theorem dX1_buyBond_77 : decode cX1_buyBond 77 = .ok (.dup, 1) := dk_89 (dk_at dksX1_buyBond_3 8 rfl rfl)
theorem dX1_buyBond_78 : decode cX1_buyBond 78 = .ok (.getfield 109, 3) := dk_180 0 109 (dk_at dksX1_buyBond_3 9 rfl rfl)
theorem dX1_buyBond_81 : decode cX1_buyBond 81 = .ok (.dup_x1, 1) := dk_90 (dk_at dksX1_buyBond_3 12 rfl rfl)
theorem dX1_buyBond_82 : decode cX1_buyBond 82 = .ok (.iconst 1, 1) := dk_4 (dk_at dksX1_buyBond_3 13 rfl rfl)
theorem dX1_buyBond_83 : decode cX1_buyBond 83 = .ok (.iadd, 1) := dk_96 (dk_at dksX1_buyBond_3 14 rfl rfl)
theorem dX1_buyBond_84 : decode cX1_buyBond 84 = .ok (.putfield 109, 3) := dk_181 0 109 (dk_at dksX1_buyBond_3 15 rfl rfl)
theorem dX1_buyBond_87 : decode cX1_buyBond 87 = .ok (.iload_n 1, 1) := dk_27 (dk_at dksX1_buyBond_3 18 rfl rfl)
theorem dX1_buyBond_88 : decode cX1_buyBond 88 = .ok (.iload_n 2, 1) := dk_28 (dk_at dksX1_buyBond_3 19 rfl rfl)
theorem dX1_buyBond_89 : decode cX1_buyBond 89 = .ok (.i2l, 1) := dk_133 (dk_at dksX1_buyBond_3 20 rfl rfl)
theorem dX1_buyBond_90 : decode cX1_buyBond 90 = .ok (.iload_n 3, 1) := dk_29 (dk_at dksX1_buyBond_3 21 rfl rfl)
theorem dX1_buyBond_91 : decode cX1_buyBond 91 = .ok (.invokespecial 460, 3) := dk_183 1 204 (dk_at dksX1_buyBond_4 0 rfl rfl)
theorem dX1_buyBond_94 : decode cX1_buyBond 94 = .ok (.invokevirtual 443, 3) := dk_182 1 187 (dk_at dksX1_buyBond_4 3 rfl rfl)
theorem dX1_buyBond_97 : decode cX1_buyBond 97 = .ok (.pop, 1) := dk_87 (dk_at dksX1_buyBond_4 6 rfl rfl)
theorem dX1_buyBond_98 : decode cX1_buyBond 98 = .ok (.aload_n 0, 1) := dk_42 (dk_at dksX1_buyBond_4 7 rfl rfl)
theorem dX1_buyBond_99 : decode cX1_buyBond 99 = .ok (.getfield 37, 3) := dk_180 0 37 (dk_at dksX1_buyBond_4 8 rfl rfl)
theorem dX1_buyBond_102 : decode cX1_buyBond 102 = .ok (.invokevirtual 459, 3) := dk_182 1 203 (dk_at dksX1_buyBond_4 11 rfl rfl)
theorem dX1_buyBond_105 : decode cX1_buyBond 105 = .ok (.ireturn, 1) := dk_172 (dk_at dksX1_buyBond_4 14 rfl rfl)
abbrev cX1_bondAt : ByteArray := prog_1_method_51_code
def yX1_bondAt : MethodName := ⟨RX1, "bondAt", "(II)I"⟩
def dkwX1_bondAt_1 : List UInt8 := [167, 0, 20, 28, 4, 160, 0, 11, 45, 180, 0, 177, 136, 167, 0, 7, 45, 180, 1, 214, 172]
abbrev dktX1_bondAt_1 : List UInt8 := dkwX1_bondAt_1 ++ []
def dkwX1_bondAt_0 : List UInt8 := [42, 27, 182, 1, 207, 78, 28, 133, 9, 20, 1, 173, 184, 0, 201, 28, 154, 0, 10, 45, 180, 1, 211]
abbrev dktX1_bondAt_0 : List UInt8 := dkwX1_bondAt_0 ++ dktX1_bondAt_1
theorem dksX1_bondAt_0 : cX1_bondAt.data.toList.drop 0 = dktX1_bondAt_0 := by decide +kernel
theorem dksX1_bondAt_1 : cX1_bondAt.data.toList.drop 23 = dktX1_bondAt_1 := dk_seg dksX1_bondAt_0 23 rfl rfl
theorem dX1_bondAt_0 : decode cX1_bondAt 0 = .ok (.aload_n 0, 1) := dk_42 (dk_at dksX1_bondAt_0 0 rfl rfl)
theorem dX1_bondAt_1 : decode cX1_bondAt 1 = .ok (.iload_n 1, 1) := dk_27 (dk_at dksX1_bondAt_0 1 rfl rfl)
theorem dX1_bondAt_2 : decode cX1_bondAt 2 = .ok (.invokevirtual 463, 3) := dk_182 1 207 (dk_at dksX1_bondAt_0 2 rfl rfl)
theorem dX1_bondAt_5 : decode cX1_bondAt 5 = .ok (.astore_n 3, 1) := dk_78 (dk_at dksX1_bondAt_0 5 rfl rfl)
theorem dX1_bondAt_6 : decode cX1_bondAt 6 = .ok (.iload_n 2, 1) := dk_28 (dk_at dksX1_bondAt_0 6 rfl rfl)
theorem dX1_bondAt_7 : decode cX1_bondAt 7 = .ok (.i2l, 1) := dk_133 (dk_at dksX1_bondAt_0 7 rfl rfl)
theorem dX1_bondAt_8 : decode cX1_bondAt 8 = .ok (.lconst 0, 1) := dk_9 (dk_at dksX1_bondAt_0 8 rfl rfl)
theorem dX1_bondAt_9 : decode cX1_bondAt 9 = .ok (.ldc2_w 429, 3) := dk_20 1 173 (dk_at dksX1_bondAt_0 9 rfl rfl)
theorem dX1_bondAt_12 : decode cX1_bondAt 12 = .ok (.invokestatic 201, 3) := dk_184 0 201 (dk_at dksX1_bondAt_0 12 rfl rfl)
theorem dX1_bondAt_15 : decode cX1_bondAt 15 = .ok (.iload_n 2, 1) := dk_28 (dk_at dksX1_bondAt_0 15 rfl rfl)
theorem dX1_bondAt_16 : decode cX1_bondAt 16 = .ok (.ifCond .ne 10, 3) := dk_154 0 10 (dk_at dksX1_bondAt_0 16 rfl rfl)
theorem dX1_bondAt_19 : decode cX1_bondAt 19 = .ok (.aload_n 3, 1) := dk_45 (dk_at dksX1_bondAt_0 19 rfl rfl)
theorem dX1_bondAt_20 : decode cX1_bondAt 20 = .ok (.getfield 467, 3) := dk_180 1 211 (dk_at dksX1_bondAt_0 20 rfl rfl)
theorem dX1_bondAt_23 : decode cX1_bondAt 23 = .ok (.goto 20, 3) := dk_167 0 20 (dk_at dksX1_bondAt_1 0 rfl rfl)
theorem dX1_bondAt_26 : decode cX1_bondAt 26 = .ok (.iload_n 2, 1) := dk_28 (dk_at dksX1_bondAt_1 3 rfl rfl)
theorem dX1_bondAt_27 : decode cX1_bondAt 27 = .ok (.iconst 1, 1) := dk_4 (dk_at dksX1_bondAt_1 4 rfl rfl)
theorem dX1_bondAt_28 : decode cX1_bondAt 28 = .ok (.if_icmp .ne 11, 3) := dk_160 0 11 (dk_at dksX1_bondAt_1 5 rfl rfl)
theorem dX1_bondAt_31 : decode cX1_bondAt 31 = .ok (.aload_n 3, 1) := dk_45 (dk_at dksX1_bondAt_1 8 rfl rfl)
theorem dX1_bondAt_32 : decode cX1_bondAt 32 = .ok (.getfield 177, 3) := dk_180 0 177 (dk_at dksX1_bondAt_1 9 rfl rfl)
theorem dX1_bondAt_35 : decode cX1_bondAt 35 = .ok (.l2i, 1) := dk_136 (dk_at dksX1_bondAt_1 12 rfl rfl)
theorem dX1_bondAt_36 : decode cX1_bondAt 36 = .ok (.goto 7, 3) := dk_167 0 7 (dk_at dksX1_bondAt_1 13 rfl rfl)
theorem dX1_bondAt_39 : decode cX1_bondAt 39 = .ok (.aload_n 3, 1) := dk_45 (dk_at dksX1_bondAt_1 16 rfl rfl)
theorem dX1_bondAt_40 : decode cX1_bondAt 40 = .ok (.getfield 470, 3) := dk_180 1 214 (dk_at dksX1_bondAt_1 17 rfl rfl)
theorem dX1_bondAt_43 : decode cX1_bondAt 43 = .ok (.ireturn, 1) := dk_172 (dk_at dksX1_bondAt_1 20 rfl rfl)
abbrev cX1_bond : ByteArray := prog_1_method_50_code
def yX1_bond : MethodName := ⟨RX1, "bond", "(I)LLifeoffice$Bond;"⟩
def dkwX1_bond_2 : List UInt8 := [185, 0, 171, 1, 0, 192, 0, 175, 176]
abbrev dktX1_bond_2 : List UInt8 := dkwX1_bond_2 ++ []
def dkwX1_bond_1 : List UInt8 := [162, 0, 20, 44, 185, 0, 171, 1, 0, 192, 0, 175, 58, 4, 132, 3, 1, 167, 255, 237, 44]
abbrev dktX1_bond_1 : List UInt8 := dkwX1_bond_1 ++ dktX1_bond_2
def dkwX1_bond_0 : List UInt8 := [27, 42, 180, 0, 37, 182, 1, 203, 184, 0, 141, 42, 180, 0, 37, 182, 0, 161, 77, 3, 62, 29, 27]
abbrev dktX1_bond_0 : List UInt8 := dkwX1_bond_0 ++ dktX1_bond_1
theorem dksX1_bond_0 : cX1_bond.data.toList.drop 0 = dktX1_bond_0 := by decide +kernel
theorem dksX1_bond_1 : cX1_bond.data.toList.drop 23 = dktX1_bond_1 := dk_seg dksX1_bond_0 23 rfl rfl
theorem dksX1_bond_2 : cX1_bond.data.toList.drop 44 = dktX1_bond_2 := dk_seg dksX1_bond_1 21 rfl rfl
theorem dX1_bond_0 : decode cX1_bond 0 = .ok (.iload_n 1, 1) := dk_27 (dk_at dksX1_bond_0 0 rfl rfl)
theorem dX1_bond_1 : decode cX1_bond 1 = .ok (.aload_n 0, 1) := dk_42 (dk_at dksX1_bond_0 1 rfl rfl)
theorem dX1_bond_2 : decode cX1_bond 2 = .ok (.getfield 37, 3) := dk_180 0 37 (dk_at dksX1_bond_0 2 rfl rfl)
theorem dX1_bond_5 : decode cX1_bond 5 = .ok (.invokevirtual 459, 3) := dk_182 1 203 (dk_at dksX1_bond_0 5 rfl rfl)
theorem dX1_bond_8 : decode cX1_bond 8 = .ok (.invokestatic 141, 3) := dk_184 0 141 (dk_at dksX1_bond_0 8 rfl rfl)
theorem dX1_bond_11 : decode cX1_bond 11 = .ok (.aload_n 0, 1) := dk_42 (dk_at dksX1_bond_0 11 rfl rfl)
theorem dX1_bond_12 : decode cX1_bond 12 = .ok (.getfield 37, 3) := dk_180 0 37 (dk_at dksX1_bond_0 12 rfl rfl)
theorem dX1_bond_15 : decode cX1_bond 15 = .ok (.invokevirtual 161, 3) := dk_182 0 161 (dk_at dksX1_bond_0 15 rfl rfl)
theorem dX1_bond_18 : decode cX1_bond 18 = .ok (.astore_n 2, 1) := dk_77 (dk_at dksX1_bond_0 18 rfl rfl)
theorem dX1_bond_19 : decode cX1_bond 19 = .ok (.iconst 0, 1) := dk_3 (dk_at dksX1_bond_0 19 rfl rfl)
theorem dX1_bond_20 : decode cX1_bond 20 = .ok (.istore_n 3, 1) := dk_62 (dk_at dksX1_bond_0 20 rfl rfl)
theorem dX1_bond_21 : decode cX1_bond 21 = .ok (.iload_n 3, 1) := dk_29 (dk_at dksX1_bond_0 21 rfl rfl)
theorem dX1_bond_22 : decode cX1_bond 22 = .ok (.iload_n 1, 1) := dk_27 (dk_at dksX1_bond_0 22 rfl rfl)
theorem dX1_bond_23 : decode cX1_bond 23 = .ok (.if_icmp .ge 20, 3) := dk_162 0 20 (dk_at dksX1_bond_1 0 rfl rfl)
theorem dX1_bond_26 : decode cX1_bond 26 = .ok (.aload_n 2, 1) := dk_44 (dk_at dksX1_bond_1 3 rfl rfl)
theorem dX1_bond_27 : decode cX1_bond 27 = .ok (.invokeinterface 171 1, 5) := by decide +kernel
theorem dX1_bond_32 : decode cX1_bond 32 = .ok (.checkcast 175, 3) := dk_192 0 175 (dk_at dksX1_bond_1 9 rfl rfl)
theorem dX1_bond_35 : decode cX1_bond 35 = .ok (.astore 4, 2) := dk_58 4 (dk_at dksX1_bond_1 12 rfl rfl)
theorem dX1_bond_37 : decode cX1_bond 37 = .ok (.iinc 3 1, 3) := dk_132 3 1 (dk_at dksX1_bond_1 14 rfl rfl)
theorem dX1_bond_40 : decode cX1_bond 40 = .ok (.goto (-19), 3) := dk_167 255 237 (dk_at dksX1_bond_1 17 rfl rfl)
theorem dX1_bond_43 : decode cX1_bond 43 = .ok (.aload_n 2, 1) := dk_44 (dk_at dksX1_bond_1 20 rfl rfl)
theorem dX1_bond_44 : decode cX1_bond 44 = .ok (.invokeinterface 171 1, 5) := by decide +kernel
theorem dX1_bond_49 : decode cX1_bond 49 = .ok (.checkcast 175, 3) := dk_192 0 175 (dk_at dksX1_bond_2 5 rfl rfl)
theorem dX1_bond_52 : decode cX1_bond 52 = .ok (.areturn, 1) := dk_176 (dk_at dksX1_bond_2 8 rfl rfl)
abbrev cX1_defaults : ByteArray := prog_1_method_52_code
def yX1_defaults : MethodName := ⟨RX1, "defaults", "(II)I"⟩
def dkwX1_defaults_2 : List UInt8 := [16, 8, 184, 0, 187, 22, 4, 117, 182, 0, 193, 22, 4, 136, 172]
abbrev dktX1_defaults_2 : List UInt8 := dkwX1_defaults_2 ++ []
def dkwX1_defaults_1 : List UInt8 := [20, 0, 7, 184, 0, 9, 55, 4, 45, 89, 180, 0, 177, 22, 4, 101, 181, 0, 177, 42, 180, 0, 51]
abbrev dktX1_defaults_1 : List UInt8 := dkwX1_defaults_1 ++ dktX1_defaults_2
def dkwX1_defaults_0 : List UInt8 := [42, 27, 182, 1, 207, 78, 28, 133, 10, 20, 0, 7, 184, 0, 201, 45, 180, 0, 177, 28, 133, 105]
abbrev dktX1_defaults_0 : List UInt8 := dkwX1_defaults_0 ++ dktX1_defaults_1
theorem dksX1_defaults_0 : cX1_defaults.data.toList.drop 0 = dktX1_defaults_0 := by decide +kernel
theorem dksX1_defaults_1 : cX1_defaults.data.toList.drop 22 = dktX1_defaults_1 := dk_seg dksX1_defaults_0 22 rfl rfl
theorem dksX1_defaults_2 : cX1_defaults.data.toList.drop 45 = dktX1_defaults_2 := dk_seg dksX1_defaults_1 23 rfl rfl
theorem dX1_defaults_0 : decode cX1_defaults 0 = .ok (.aload_n 0, 1) := dk_42 (dk_at dksX1_defaults_0 0 rfl rfl)
theorem dX1_defaults_1 : decode cX1_defaults 1 = .ok (.iload_n 1, 1) := dk_27 (dk_at dksX1_defaults_0 1 rfl rfl)
theorem dX1_defaults_2 : decode cX1_defaults 2 = .ok (.invokevirtual 463, 3) := dk_182 1 207 (dk_at dksX1_defaults_0 2 rfl rfl)
theorem dX1_defaults_5 : decode cX1_defaults 5 = .ok (.astore_n 3, 1) := dk_78 (dk_at dksX1_defaults_0 5 rfl rfl)
theorem dX1_defaults_6 : decode cX1_defaults 6 = .ok (.iload_n 2, 1) := dk_28 (dk_at dksX1_defaults_0 6 rfl rfl)
theorem dX1_defaults_7 : decode cX1_defaults 7 = .ok (.i2l, 1) := dk_133 (dk_at dksX1_defaults_0 7 rfl rfl)
theorem dX1_defaults_8 : decode cX1_defaults 8 = .ok (.lconst 1, 1) := dk_10 (dk_at dksX1_defaults_0 8 rfl rfl)
theorem dX1_defaults_9 : decode cX1_defaults 9 = .ok (.ldc2_w 7, 3) := dk_20 0 7 (dk_at dksX1_defaults_0 9 rfl rfl)
theorem dX1_defaults_12 : decode cX1_defaults 12 = .ok (.invokestatic 201, 3) := dk_184 0 201 (dk_at dksX1_defaults_0 12 rfl rfl)
theorem dX1_defaults_15 : decode cX1_defaults 15 = .ok (.aload_n 3, 1) := dk_45 (dk_at dksX1_defaults_0 15 rfl rfl)
theorem dX1_defaults_16 : decode cX1_defaults 16 = .ok (.getfield 177, 3) := dk_180 0 177 (dk_at dksX1_defaults_0 16 rfl rfl)
theorem dX1_defaults_19 : decode cX1_defaults 19 = .ok (.iload_n 2, 1) := dk_28 (dk_at dksX1_defaults_0 19 rfl rfl)
theorem dX1_defaults_20 : decode cX1_defaults 20 = .ok (.i2l, 1) := dk_133 (dk_at dksX1_defaults_0 20 rfl rfl)
theorem dX1_defaults_21 : decode cX1_defaults 21 = .ok (.lmul, 1) := dk_105 (dk_at dksX1_defaults_0 21 rfl rfl)
theorem dX1_defaults_22 : decode cX1_defaults 22 = .ok (.ldc2_w 7, 3) := dk_20 0 7 (dk_at dksX1_defaults_1 0 rfl rfl)
theorem dX1_defaults_25 : decode cX1_defaults 25 = .ok (.invokestatic 9, 3) := dk_184 0 9 (dk_at dksX1_defaults_1 3 rfl rfl)
theorem dX1_defaults_28 : decode cX1_defaults 28 = .ok (.lstore 4, 2) := dk_55 4 (dk_at dksX1_defaults_1 6 rfl rfl)
theorem dX1_defaults_30 : decode cX1_defaults 30 = .ok (.aload_n 3, 1) := dk_45 (dk_at dksX1_defaults_1 8 rfl rfl)
theorem dX1_defaults_31 : decode cX1_defaults 31 = .ok (.dup, 1) := dk_89 (dk_at dksX1_defaults_1 9 rfl rfl)
theorem dX1_defaults_32 : decode cX1_defaults 32 = .ok (.getfield 177, 3) := dk_180 0 177 (dk_at dksX1_defaults_1 10 rfl rfl)
theorem dX1_defaults_35 : decode cX1_defaults 35 = .ok (.lload 4, 2) := dk_22 4 (dk_at dksX1_defaults_1 13 rfl rfl)
theorem dX1_defaults_37 : decode cX1_defaults 37 = .ok (.lsub, 1) := dk_101 (dk_at dksX1_defaults_1 15 rfl rfl)
theorem dX1_defaults_38 : decode cX1_defaults 38 = .ok (.putfield 177, 3) := dk_181 0 177 (dk_at dksX1_defaults_1 16 rfl rfl)
theorem dX1_defaults_41 : decode cX1_defaults 41 = .ok (.aload_n 0, 1) := dk_42 (dk_at dksX1_defaults_1 19 rfl rfl)
theorem dX1_defaults_42 : decode cX1_defaults 42 = .ok (.getfield 51, 3) := dk_180 0 51 (dk_at dksX1_defaults_1 20 rfl rfl)
theorem dX1_defaults_45 : decode cX1_defaults 45 = .ok (.bipush 8, 2) := dk_16 8 (dk_at dksX1_defaults_2 0 rfl rfl)
theorem dX1_defaults_47 : decode cX1_defaults 47 = .ok (.invokestatic 187, 3) := dk_184 0 187 (dk_at dksX1_defaults_2 2 rfl rfl)
theorem dX1_defaults_50 : decode cX1_defaults 50 = .ok (.lload 4, 2) := dk_22 4 (dk_at dksX1_defaults_2 5 rfl rfl)
theorem dX1_defaults_52 : decode cX1_defaults 52 = .ok (.lneg, 1) := dk_117 (dk_at dksX1_defaults_2 7 rfl rfl)
theorem dX1_defaults_53 : decode cX1_defaults 53 = .ok (.invokevirtual 193, 3) := dk_182 0 193 (dk_at dksX1_defaults_2 8 rfl rfl)
theorem dX1_defaults_56 : decode cX1_defaults 56 = .ok (.lload 4, 2) := dk_22 4 (dk_at dksX1_defaults_2 11 rfl rfl)
theorem dX1_defaults_58 : decode cX1_defaults 58 = .ok (.l2i, 1) := dk_136 (dk_at dksX1_defaults_2 13 rfl rfl)
theorem dX1_defaults_59 : decode cX1_defaults 59 = .ok (.ireturn, 1) := dk_172 (dk_at dksX1_defaults_2 14 rfl rfl)
abbrev cX1_setReinsurance : ByteArray := prog_1_method_53_code
def yX1_setReinsurance : MethodName := ⟨RX1, "setReinsurance", "(II)I"⟩
def dkwX1_setReinsurance_1 : List UInt8 := [27, 181, 0, 94, 42, 28, 181, 0, 97, 29, 172]
abbrev dktX1_setReinsurance_1 : List UInt8 := dkwX1_setReinsurance_1 ++ []
def dkwX1_setReinsurance_0 : List UInt8 := [27, 133, 9, 20, 0, 254, 184, 0, 201, 28, 133, 9, 20, 0, 7, 184, 0, 201, 42, 180, 0, 94, 62, 42]
abbrev dktX1_setReinsurance_0 : List UInt8 := dkwX1_setReinsurance_0 ++ dktX1_setReinsurance_1
theorem dksX1_setReinsurance_0 : cX1_setReinsurance.data.toList.drop 0 = dktX1_setReinsurance_0 := by decide +kernel
theorem dksX1_setReinsurance_1 : cX1_setReinsurance.data.toList.drop 24 = dktX1_setReinsurance_1 := dk_seg dksX1_setReinsurance_0 24 rfl rfl
theorem dX1_setReinsurance_0 : decode cX1_setReinsurance 0 = .ok (.iload_n 1, 1) := dk_27 (dk_at dksX1_setReinsurance_0 0 rfl rfl)
theorem dX1_setReinsurance_1 : decode cX1_setReinsurance 1 = .ok (.i2l, 1) := dk_133 (dk_at dksX1_setReinsurance_0 1 rfl rfl)
theorem dX1_setReinsurance_2 : decode cX1_setReinsurance 2 = .ok (.lconst 0, 1) := dk_9 (dk_at dksX1_setReinsurance_0 2 rfl rfl)
theorem dX1_setReinsurance_3 : decode cX1_setReinsurance 3 = .ok (.ldc2_w 254, 3) := dk_20 0 254 (dk_at dksX1_setReinsurance_0 3 rfl rfl)
theorem dX1_setReinsurance_6 : decode cX1_setReinsurance 6 = .ok (.invokestatic 201, 3) := dk_184 0 201 (dk_at dksX1_setReinsurance_0 6 rfl rfl)
theorem dX1_setReinsurance_9 : decode cX1_setReinsurance 9 = .ok (.iload_n 2, 1) := dk_28 (dk_at dksX1_setReinsurance_0 9 rfl rfl)
theorem dX1_setReinsurance_10 : decode cX1_setReinsurance 10 = .ok (.i2l, 1) := dk_133 (dk_at dksX1_setReinsurance_0 10 rfl rfl)
theorem dX1_setReinsurance_11 : decode cX1_setReinsurance 11 = .ok (.lconst 0, 1) := dk_9 (dk_at dksX1_setReinsurance_0 11 rfl rfl)
theorem dX1_setReinsurance_12 : decode cX1_setReinsurance 12 = .ok (.ldc2_w 7, 3) := dk_20 0 7 (dk_at dksX1_setReinsurance_0 12 rfl rfl)
theorem dX1_setReinsurance_15 : decode cX1_setReinsurance 15 = .ok (.invokestatic 201, 3) := dk_184 0 201 (dk_at dksX1_setReinsurance_0 15 rfl rfl)
theorem dX1_setReinsurance_18 : decode cX1_setReinsurance 18 = .ok (.aload_n 0, 1) := dk_42 (dk_at dksX1_setReinsurance_0 18 rfl rfl)
theorem dX1_setReinsurance_19 : decode cX1_setReinsurance 19 = .ok (.getfield 94, 3) := dk_180 0 94 (dk_at dksX1_setReinsurance_0 19 rfl rfl)
theorem dX1_setReinsurance_22 : decode cX1_setReinsurance 22 = .ok (.istore_n 3, 1) := dk_62 (dk_at dksX1_setReinsurance_0 22 rfl rfl)
theorem dX1_setReinsurance_23 : decode cX1_setReinsurance 23 = .ok (.aload_n 0, 1) := dk_42 (dk_at dksX1_setReinsurance_0 23 rfl rfl)
theorem dX1_setReinsurance_24 : decode cX1_setReinsurance 24 = .ok (.iload_n 1, 1) := dk_27 (dk_at dksX1_setReinsurance_1 0 rfl rfl)
theorem dX1_setReinsurance_25 : decode cX1_setReinsurance 25 = .ok (.putfield 94, 3) := dk_181 0 94 (dk_at dksX1_setReinsurance_1 1 rfl rfl)
theorem dX1_setReinsurance_28 : decode cX1_setReinsurance 28 = .ok (.aload_n 0, 1) := dk_42 (dk_at dksX1_setReinsurance_1 4 rfl rfl)
theorem dX1_setReinsurance_29 : decode cX1_setReinsurance 29 = .ok (.iload_n 2, 1) := dk_28 (dk_at dksX1_setReinsurance_1 5 rfl rfl)
theorem dX1_setReinsurance_30 : decode cX1_setReinsurance 30 = .ok (.putfield 97, 3) := dk_181 0 97 (dk_at dksX1_setReinsurance_1 6 rfl rfl)
theorem dX1_setReinsurance_33 : decode cX1_setReinsurance 33 = .ok (.iload_n 3, 1) := dk_29 (dk_at dksX1_setReinsurance_1 9 rfl rfl)
theorem dX1_setReinsurance_34 : decode cX1_setReinsurance 34 = .ok (.ireturn, 1) := dk_172 (dk_at dksX1_setReinsurance_1 10 rfl rfl)
abbrev cX1_closeYear : ByteArray := prog_1_method_58_code
def yX1_closeYear : MethodName := ⟨RX1, "closeYear", "(II)J"⟩
def dkwX1_closeYear_9 : List UInt8 := [181, 0, 112, 42, 180, 0, 51, 182, 0, 83, 42, 180, 0, 55, 182, 0, 249, 173]
abbrev dktX1_closeYear_9 : List UInt8 := dkwX1_closeYear_9 ++ []
def dkwX1_closeYear_8 : List UInt8 := [180, 0, 55, 42, 180, 0, 51, 182, 2, 8, 42, 89, 180, 0, 112, 42, 180, 0, 51, 182, 0, 249, 97]
abbrev dktX1_closeYear_8 : List UInt8 := dkwX1_closeYear_8 ++ dktX1_closeYear_9
def dkwX1_closeYear_7 : List UInt8 := [132, 4, 1, 167, 255, 208, 42, 89, 180, 0, 63, 4, 96, 181, 0, 63, 42, 3, 181, 0, 125, 42]
abbrev dktX1_closeYear_7 : List UInt8 := dkwX1_closeYear_7 ++ dktX1_closeYear_8
def dkwX1_closeYear_6 : List UInt8 := [153, 0, 23, 42, 42, 180, 0, 30, 21, 4, 182, 0, 144, 192, 0, 148, 45, 21, 4, 47, 182, 2, 4]
abbrev dktX1_closeYear_6 : List UInt8 := dkwX1_closeYear_6 ++ dktX1_closeYear_7
def dkwX1_closeYear_5 : List UInt8 := [54, 4, 21, 4, 45, 190, 162, 0, 47, 42, 180, 0, 30, 21, 4, 182, 0, 144, 192, 0, 148, 182, 1, 154]
abbrev dktX1_closeYear_5 : List UInt8 := dkwX1_closeYear_5 ++ dktX1_closeYear_6
def dkwX1_closeYear_4 : List UInt8 := [153, 0, 11, 42, 25, 5, 27, 28, 182, 1, 252, 132, 4, 1, 167, 255, 197, 42, 27, 182, 2, 0, 3]
abbrev dktX1_closeYear_4 : List UInt8 := dkwX1_closeYear_4 ++ dktX1_closeYear_5
def dkwX1_closeYear_3 : List UInt8 := [45, 21, 4, 25, 5, 42, 180, 0, 23, 3, 50, 42, 180, 0, 63, 182, 0, 150, 80, 25, 5, 182, 1, 154]
abbrev dktX1_closeYear_3 : List UInt8 := dkwX1_closeYear_3 ++ dktX1_closeYear_4
def dkwX1_closeYear_2 : List UInt8 := [3, 54, 4, 21, 4, 45, 190, 162, 0, 58, 42, 180, 0, 30, 21, 4, 182, 0, 144, 192, 0, 148, 58, 5]
abbrev dktX1_closeYear_2 : List UInt8 := dkwX1_closeYear_2 ++ dktX1_closeYear_3
def dkwX1_closeYear_1 : List UInt8 := [17, 8, 102, 162, 0, 7, 4, 167, 0, 4, 3, 184, 1, 30, 42, 180, 0, 30, 182, 0, 137, 188, 11, 78]
abbrev dktX1_closeYear_1 : List UInt8 := dkwX1_closeYear_1 ++ dktX1_closeYear_2
def dkwX1_closeYear_0 : List UInt8 := [27, 133, 9, 20, 0, 252, 184, 0, 201, 28, 133, 9, 20, 0, 7, 184, 0, 201, 42, 180, 0, 63]
abbrev dktX1_closeYear_0 : List UInt8 := dkwX1_closeYear_0 ++ dktX1_closeYear_1
theorem dksX1_closeYear_0 : cX1_closeYear.data.toList.drop 0 = dktX1_closeYear_0 := by decide +kernel
theorem dksX1_closeYear_1 : cX1_closeYear.data.toList.drop 22 = dktX1_closeYear_1 := dk_seg dksX1_closeYear_0 22 rfl rfl
theorem dksX1_closeYear_2 : cX1_closeYear.data.toList.drop 46 = dktX1_closeYear_2 := dk_seg dksX1_closeYear_1 24 rfl rfl
theorem dksX1_closeYear_3 : cX1_closeYear.data.toList.drop 70 = dktX1_closeYear_3 := dk_seg dksX1_closeYear_2 24 rfl rfl
theorem dksX1_closeYear_4 : cX1_closeYear.data.toList.drop 94 = dktX1_closeYear_4 := dk_seg dksX1_closeYear_3 24 rfl rfl
theorem dksX1_closeYear_5 : cX1_closeYear.data.toList.drop 117 = dktX1_closeYear_5 := dk_seg dksX1_closeYear_4 23 rfl rfl
theorem dksX1_closeYear_6 : cX1_closeYear.data.toList.drop 141 = dktX1_closeYear_6 := dk_seg dksX1_closeYear_5 24 rfl rfl
theorem dksX1_closeYear_7 : cX1_closeYear.data.toList.drop 164 = dktX1_closeYear_7 := dk_seg dksX1_closeYear_6 23 rfl rfl
theorem dksX1_closeYear_8 : cX1_closeYear.data.toList.drop 186 = dktX1_closeYear_8 := dk_seg dksX1_closeYear_7 22 rfl rfl
theorem dksX1_closeYear_9 : cX1_closeYear.data.toList.drop 209 = dktX1_closeYear_9 := dk_seg dksX1_closeYear_8 23 rfl rfl
theorem dX1_closeYear_0 : decode cX1_closeYear 0 = .ok (.iload_n 1, 1) := dk_27 (dk_at dksX1_closeYear_0 0 rfl rfl)
theorem dX1_closeYear_1 : decode cX1_closeYear 1 = .ok (.i2l, 1) := dk_133 (dk_at dksX1_closeYear_0 1 rfl rfl)
theorem dX1_closeYear_2 : decode cX1_closeYear 2 = .ok (.lconst 0, 1) := dk_9 (dk_at dksX1_closeYear_0 2 rfl rfl)
theorem dX1_closeYear_3 : decode cX1_closeYear 3 = .ok (.ldc2_w 252, 3) := dk_20 0 252 (dk_at dksX1_closeYear_0 3 rfl rfl)
theorem dX1_closeYear_6 : decode cX1_closeYear 6 = .ok (.invokestatic 201, 3) := dk_184 0 201 (dk_at dksX1_closeYear_0 6 rfl rfl)
theorem dX1_closeYear_9 : decode cX1_closeYear 9 = .ok (.iload_n 2, 1) := dk_28 (dk_at dksX1_closeYear_0 9 rfl rfl)
theorem dX1_closeYear_10 : decode cX1_closeYear 10 = .ok (.i2l, 1) := dk_133 (dk_at dksX1_closeYear_0 10 rfl rfl)
theorem dX1_closeYear_11 : decode cX1_closeYear 11 = .ok (.lconst 0, 1) := dk_9 (dk_at dksX1_closeYear_0 11 rfl rfl)
theorem dX1_closeYear_12 : decode cX1_closeYear 12 = .ok (.ldc2_w 7, 3) := dk_20 0 7 (dk_at dksX1_closeYear_0 12 rfl rfl)
theorem dX1_closeYear_15 : decode cX1_closeYear 15 = .ok (.invokestatic 201, 3) := dk_184 0 201 (dk_at dksX1_closeYear_0 15 rfl rfl)
theorem dX1_closeYear_18 : decode cX1_closeYear 18 = .ok (.aload_n 0, 1) := dk_42 (dk_at dksX1_closeYear_0 18 rfl rfl)
theorem dX1_closeYear_19 : decode cX1_closeYear 19 = .ok (.getfield 63, 3) := dk_180 0 63 (dk_at dksX1_closeYear_0 19 rfl rfl)
theorem dX1_closeYear_22 : decode cX1_closeYear 22 = .ok (.sipush 2150, 3) := dk_17 8 102 (dk_at dksX1_closeYear_1 0 rfl rfl)
theorem dX1_closeYear_25 : decode cX1_closeYear 25 = .ok (.if_icmp .ge 7, 3) := dk_162 0 7 (dk_at dksX1_closeYear_1 3 rfl rfl)
theorem dX1_closeYear_28 : decode cX1_closeYear 28 = .ok (.iconst 1, 1) := dk_4 (dk_at dksX1_closeYear_1 6 rfl rfl)
theorem dX1_closeYear_29 : decode cX1_closeYear 29 = .ok (.goto 4, 3) := dk_167 0 4 (dk_at dksX1_closeYear_1 7 rfl rfl)
theorem dX1_closeYear_32 : decode cX1_closeYear 32 = .ok (.iconst 0, 1) := dk_3 (dk_at dksX1_closeYear_1 10 rfl rfl)
theorem dX1_closeYear_33 : decode cX1_closeYear 33 = .ok (.invokestatic 286, 3) := dk_184 1 30 (dk_at dksX1_closeYear_1 11 rfl rfl)
theorem dX1_closeYear_36 : decode cX1_closeYear 36 = .ok (.aload_n 0, 1) := dk_42 (dk_at dksX1_closeYear_1 14 rfl rfl)
theorem dX1_closeYear_37 : decode cX1_closeYear 37 = .ok (.getfield 30, 3) := dk_180 0 30 (dk_at dksX1_closeYear_1 15 rfl rfl)
theorem dX1_closeYear_40 : decode cX1_closeYear 40 = .ok (.invokevirtual 137, 3) := dk_182 0 137 (dk_at dksX1_closeYear_1 18 rfl rfl)
theorem dX1_closeYear_43 : decode cX1_closeYear 43 = .ok (.newarray .long, 2) := dk_188_11 (dk_at dksX1_closeYear_1 21 rfl rfl)
theorem dX1_closeYear_45 : decode cX1_closeYear 45 = .ok (.astore_n 3, 1) := dk_78 (dk_at dksX1_closeYear_1 23 rfl rfl)
theorem dX1_closeYear_46 : decode cX1_closeYear 46 = .ok (.iconst 0, 1) := dk_3 (dk_at dksX1_closeYear_2 0 rfl rfl)
theorem dX1_closeYear_47 : decode cX1_closeYear 47 = .ok (.istore 4, 2) := dk_54 4 (dk_at dksX1_closeYear_2 1 rfl rfl)
theorem dX1_closeYear_49 : decode cX1_closeYear 49 = .ok (.iload 4, 2) := dk_21 4 (dk_at dksX1_closeYear_2 3 rfl rfl)
theorem dX1_closeYear_51 : decode cX1_closeYear 51 = .ok (.aload_n 3, 1) := dk_45 (dk_at dksX1_closeYear_2 5 rfl rfl)
theorem dX1_closeYear_52 : decode cX1_closeYear 52 = .ok (.arraylength, 1) := dk_190 (dk_at dksX1_closeYear_2 6 rfl rfl)
theorem dX1_closeYear_53 : decode cX1_closeYear 53 = .ok (.if_icmp .ge 58, 3) := dk_162 0 58 (dk_at dksX1_closeYear_2 7 rfl rfl)
theorem dX1_closeYear_56 : decode cX1_closeYear 56 = .ok (.aload_n 0, 1) := dk_42 (dk_at dksX1_closeYear_2 10 rfl rfl)
theorem dX1_closeYear_57 : decode cX1_closeYear 57 = .ok (.getfield 30, 3) := dk_180 0 30 (dk_at dksX1_closeYear_2 11 rfl rfl)
theorem dX1_closeYear_60 : decode cX1_closeYear 60 = .ok (.iload 4, 2) := dk_21 4 (dk_at dksX1_closeYear_2 14 rfl rfl)
theorem dX1_closeYear_62 : decode cX1_closeYear 62 = .ok (.invokevirtual 144, 3) := dk_182 0 144 (dk_at dksX1_closeYear_2 16 rfl rfl)
theorem dX1_closeYear_65 : decode cX1_closeYear 65 = .ok (.checkcast 148, 3) := dk_192 0 148 (dk_at dksX1_closeYear_2 19 rfl rfl)
theorem dX1_closeYear_68 : decode cX1_closeYear 68 = .ok (.astore 5, 2) := dk_58 5 (dk_at dksX1_closeYear_2 22 rfl rfl)
theorem dX1_closeYear_70 : decode cX1_closeYear 70 = .ok (.aload_n 3, 1) := dk_45 (dk_at dksX1_closeYear_3 0 rfl rfl)
theorem dX1_closeYear_71 : decode cX1_closeYear 71 = .ok (.iload 4, 2) := dk_21 4 (dk_at dksX1_closeYear_3 1 rfl rfl)
theorem dX1_closeYear_73 : decode cX1_closeYear 73 = .ok (.aload 5, 2) := dk_25 5 (dk_at dksX1_closeYear_3 3 rfl rfl)
theorem dX1_closeYear_75 : decode cX1_closeYear 75 = .ok (.aload_n 0, 1) := dk_42 (dk_at dksX1_closeYear_3 5 rfl rfl)
theorem dX1_closeYear_76 : decode cX1_closeYear 76 = .ok (.getfield 23, 3) := dk_180 0 23 (dk_at dksX1_closeYear_3 6 rfl rfl)
theorem dX1_closeYear_79 : decode cX1_closeYear 79 = .ok (.iconst 0, 1) := dk_3 (dk_at dksX1_closeYear_3 9 rfl rfl)
theorem dX1_closeYear_80 : decode cX1_closeYear 80 = .ok (.aaload, 1) := dk_50 (dk_at dksX1_closeYear_3 10 rfl rfl)
theorem dX1_closeYear_81 : decode cX1_closeYear 81 = .ok (.aload_n 0, 1) := dk_42 (dk_at dksX1_closeYear_3 11 rfl rfl)
theorem dX1_closeYear_82 : decode cX1_closeYear 82 = .ok (.getfield 63, 3) := dk_180 0 63 (dk_at dksX1_closeYear_3 12 rfl rfl)
theorem dX1_closeYear_85 : decode cX1_closeYear 85 = .ok (.invokevirtual 150, 3) := dk_182 0 150 (dk_at dksX1_closeYear_3 15 rfl rfl)
theorem dX1_closeYear_88 : decode cX1_closeYear 88 = .ok (.lastore, 1) := dk_80 (dk_at dksX1_closeYear_3 18 rfl rfl)
theorem dX1_closeYear_89 : decode cX1_closeYear 89 = .ok (.aload 5, 2) := dk_25 5 (dk_at dksX1_closeYear_3 19 rfl rfl)
theorem dX1_closeYear_91 : decode cX1_closeYear 91 = .ok (.invokevirtual 410, 3) := dk_182 1 154 (dk_at dksX1_closeYear_3 21 rfl rfl)
theorem dX1_closeYear_94 : decode cX1_closeYear 94 = .ok (.ifCond .eq 11, 3) := dk_153 0 11 (dk_at dksX1_closeYear_4 0 rfl rfl)
theorem dX1_closeYear_97 : decode cX1_closeYear 97 = .ok (.aload_n 0, 1) := dk_42 (dk_at dksX1_closeYear_4 3 rfl rfl)
theorem dX1_closeYear_98 : decode cX1_closeYear 98 = .ok (.aload 5, 2) := dk_25 5 (dk_at dksX1_closeYear_4 4 rfl rfl)
theorem dX1_closeYear_100 : decode cX1_closeYear 100 = .ok (.iload_n 1, 1) := dk_27 (dk_at dksX1_closeYear_4 6 rfl rfl)
theorem dX1_closeYear_101 : decode cX1_closeYear 101 = .ok (.iload_n 2, 1) := dk_28 (dk_at dksX1_closeYear_4 7 rfl rfl)
theorem dX1_closeYear_102 : decode cX1_closeYear 102 = .ok (.invokevirtual 508, 3) := dk_182 1 252 (dk_at dksX1_closeYear_4 8 rfl rfl)
theorem dX1_closeYear_105 : decode cX1_closeYear 105 = .ok (.iinc 4 1, 3) := dk_132 4 1 (dk_at dksX1_closeYear_4 11 rfl rfl)
theorem dX1_closeYear_108 : decode cX1_closeYear 108 = .ok (.goto (-59), 3) := dk_167 255 197 (dk_at dksX1_closeYear_4 14 rfl rfl)
theorem dX1_closeYear_111 : decode cX1_closeYear 111 = .ok (.aload_n 0, 1) := dk_42 (dk_at dksX1_closeYear_4 17 rfl rfl)
theorem dX1_closeYear_112 : decode cX1_closeYear 112 = .ok (.iload_n 1, 1) := dk_27 (dk_at dksX1_closeYear_4 18 rfl rfl)
theorem dX1_closeYear_113 : decode cX1_closeYear 113 = .ok (.invokevirtual 512, 3) := dk_182 2 0 (dk_at dksX1_closeYear_4 19 rfl rfl)
theorem dX1_closeYear_116 : decode cX1_closeYear 116 = .ok (.iconst 0, 1) := dk_3 (dk_at dksX1_closeYear_4 22 rfl rfl)
theorem dX1_closeYear_117 : decode cX1_closeYear 117 = .ok (.istore 4, 2) := dk_54 4 (dk_at dksX1_closeYear_5 0 rfl rfl)
theorem dX1_closeYear_119 : decode cX1_closeYear 119 = .ok (.iload 4, 2) := dk_21 4 (dk_at dksX1_closeYear_5 2 rfl rfl)
theorem dX1_closeYear_121 : decode cX1_closeYear 121 = .ok (.aload_n 3, 1) := dk_45 (dk_at dksX1_closeYear_5 4 rfl rfl)
theorem dX1_closeYear_122 : decode cX1_closeYear 122 = .ok (.arraylength, 1) := dk_190 (dk_at dksX1_closeYear_5 5 rfl rfl)
theorem dX1_closeYear_123 : decode cX1_closeYear 123 = .ok (.if_icmp .ge 47, 3) := dk_162 0 47 (dk_at dksX1_closeYear_5 6 rfl rfl)
theorem dX1_closeYear_126 : decode cX1_closeYear 126 = .ok (.aload_n 0, 1) := dk_42 (dk_at dksX1_closeYear_5 9 rfl rfl)
theorem dX1_closeYear_127 : decode cX1_closeYear 127 = .ok (.getfield 30, 3) := dk_180 0 30 (dk_at dksX1_closeYear_5 10 rfl rfl)
theorem dX1_closeYear_130 : decode cX1_closeYear 130 = .ok (.iload 4, 2) := dk_21 4 (dk_at dksX1_closeYear_5 13 rfl rfl)
theorem dX1_closeYear_132 : decode cX1_closeYear 132 = .ok (.invokevirtual 144, 3) := dk_182 0 144 (dk_at dksX1_closeYear_5 15 rfl rfl)
theorem dX1_closeYear_135 : decode cX1_closeYear 135 = .ok (.checkcast 148, 3) := dk_192 0 148 (dk_at dksX1_closeYear_5 18 rfl rfl)
theorem dX1_closeYear_138 : decode cX1_closeYear 138 = .ok (.invokevirtual 410, 3) := dk_182 1 154 (dk_at dksX1_closeYear_5 21 rfl rfl)
theorem dX1_closeYear_141 : decode cX1_closeYear 141 = .ok (.ifCond .eq 23, 3) := dk_153 0 23 (dk_at dksX1_closeYear_6 0 rfl rfl)
theorem dX1_closeYear_144 : decode cX1_closeYear 144 = .ok (.aload_n 0, 1) := dk_42 (dk_at dksX1_closeYear_6 3 rfl rfl)
theorem dX1_closeYear_145 : decode cX1_closeYear 145 = .ok (.aload_n 0, 1) := dk_42 (dk_at dksX1_closeYear_6 4 rfl rfl)
theorem dX1_closeYear_146 : decode cX1_closeYear 146 = .ok (.getfield 30, 3) := dk_180 0 30 (dk_at dksX1_closeYear_6 5 rfl rfl)
theorem dX1_closeYear_149 : decode cX1_closeYear 149 = .ok (.iload 4, 2) := dk_21 4 (dk_at dksX1_closeYear_6 8 rfl rfl)
theorem dX1_closeYear_151 : decode cX1_closeYear 151 = .ok (.invokevirtual 144, 3) := dk_182 0 144 (dk_at dksX1_closeYear_6 10 rfl rfl)
theorem dX1_closeYear_154 : decode cX1_closeYear 154 = .ok (.checkcast 148, 3) := dk_192 0 148 (dk_at dksX1_closeYear_6 13 rfl rfl)
theorem dX1_closeYear_157 : decode cX1_closeYear 157 = .ok (.aload_n 3, 1) := dk_45 (dk_at dksX1_closeYear_6 16 rfl rfl)
theorem dX1_closeYear_158 : decode cX1_closeYear 158 = .ok (.iload 4, 2) := dk_21 4 (dk_at dksX1_closeYear_6 17 rfl rfl)
theorem dX1_closeYear_160 : decode cX1_closeYear 160 = .ok (.laload, 1) := dk_47 (dk_at dksX1_closeYear_6 19 rfl rfl)
theorem dX1_closeYear_161 : decode cX1_closeYear 161 = .ok (.invokevirtual 516, 3) := dk_182 2 4 (dk_at dksX1_closeYear_6 20 rfl rfl)
theorem dX1_closeYear_164 : decode cX1_closeYear 164 = .ok (.iinc 4 1, 3) := dk_132 4 1 (dk_at dksX1_closeYear_7 0 rfl rfl)
theorem dX1_closeYear_167 : decode cX1_closeYear 167 = .ok (.goto (-48), 3) := dk_167 255 208 (dk_at dksX1_closeYear_7 3 rfl rfl)
theorem dX1_closeYear_170 : decode cX1_closeYear 170 = .ok (.aload_n 0, 1) := dk_42 (dk_at dksX1_closeYear_7 6 rfl rfl)
theorem dX1_closeYear_171 : decode cX1_closeYear 171 = .ok (.dup, 1) := dk_89 (dk_at dksX1_closeYear_7 7 rfl rfl)
theorem dX1_closeYear_172 : decode cX1_closeYear 172 = .ok (.getfield 63, 3) := dk_180 0 63 (dk_at dksX1_closeYear_7 8 rfl rfl)
theorem dX1_closeYear_175 : decode cX1_closeYear 175 = .ok (.iconst 1, 1) := dk_4 (dk_at dksX1_closeYear_7 11 rfl rfl)
theorem dX1_closeYear_176 : decode cX1_closeYear 176 = .ok (.iadd, 1) := dk_96 (dk_at dksX1_closeYear_7 12 rfl rfl)
theorem dX1_closeYear_177 : decode cX1_closeYear 177 = .ok (.putfield 63, 3) := dk_181 0 63 (dk_at dksX1_closeYear_7 13 rfl rfl)
theorem dX1_closeYear_180 : decode cX1_closeYear 180 = .ok (.aload_n 0, 1) := dk_42 (dk_at dksX1_closeYear_7 16 rfl rfl)
theorem dX1_closeYear_181 : decode cX1_closeYear 181 = .ok (.iconst 0, 1) := dk_3 (dk_at dksX1_closeYear_7 17 rfl rfl)
theorem dX1_closeYear_182 : decode cX1_closeYear 182 = .ok (.putfield 125, 3) := dk_181 0 125 (dk_at dksX1_closeYear_7 18 rfl rfl)
theorem dX1_closeYear_185 : decode cX1_closeYear 185 = .ok (.aload_n 0, 1) := dk_42 (dk_at dksX1_closeYear_7 21 rfl rfl)
theorem dX1_closeYear_186 : decode cX1_closeYear 186 = .ok (.getfield 55, 3) := dk_180 0 55 (dk_at dksX1_closeYear_8 0 rfl rfl)
theorem dX1_closeYear_189 : decode cX1_closeYear 189 = .ok (.aload_n 0, 1) := dk_42 (dk_at dksX1_closeYear_8 3 rfl rfl)
theorem dX1_closeYear_190 : decode cX1_closeYear 190 = .ok (.getfield 51, 3) := dk_180 0 51 (dk_at dksX1_closeYear_8 4 rfl rfl)
theorem dX1_closeYear_193 : decode cX1_closeYear 193 = .ok (.invokevirtual 520, 3) := dk_182 2 8 (dk_at dksX1_closeYear_8 7 rfl rfl)
theorem dX1_closeYear_196 : decode cX1_closeYear 196 = .ok (.aload_n 0, 1) := dk_42 (dk_at dksX1_closeYear_8 10 rfl rfl)
theorem dX1_closeYear_197 : decode cX1_closeYear 197 = .ok (.dup, 1) := dk_89 (dk_at dksX1_closeYear_8 11 rfl rfl)
theorem dX1_closeYear_198 : decode cX1_closeYear 198 = .ok (.getfield 112, 3) := dk_180 0 112 (dk_at dksX1_closeYear_8 12 rfl rfl)
theorem dX1_closeYear_201 : decode cX1_closeYear 201 = .ok (.aload_n 0, 1) := dk_42 (dk_at dksX1_closeYear_8 15 rfl rfl)
theorem dX1_closeYear_202 : decode cX1_closeYear 202 = .ok (.getfield 51, 3) := dk_180 0 51 (dk_at dksX1_closeYear_8 16 rfl rfl)
theorem dX1_closeYear_205 : decode cX1_closeYear 205 = .ok (.invokevirtual 249, 3) := dk_182 0 249 (dk_at dksX1_closeYear_8 19 rfl rfl)
theorem dX1_closeYear_208 : decode cX1_closeYear 208 = .ok (.ladd, 1) := dk_97 (dk_at dksX1_closeYear_8 22 rfl rfl)
theorem dX1_closeYear_209 : decode cX1_closeYear 209 = .ok (.putfield 112, 3) := dk_181 0 112 (dk_at dksX1_closeYear_9 0 rfl rfl)
theorem dX1_closeYear_212 : decode cX1_closeYear 212 = .ok (.aload_n 0, 1) := dk_42 (dk_at dksX1_closeYear_9 3 rfl rfl)
theorem dX1_closeYear_213 : decode cX1_closeYear 213 = .ok (.getfield 51, 3) := dk_180 0 51 (dk_at dksX1_closeYear_9 4 rfl rfl)
theorem dX1_closeYear_216 : decode cX1_closeYear 216 = .ok (.invokevirtual 83, 3) := dk_182 0 83 (dk_at dksX1_closeYear_9 7 rfl rfl)
theorem dX1_closeYear_219 : decode cX1_closeYear 219 = .ok (.aload_n 0, 1) := dk_42 (dk_at dksX1_closeYear_9 10 rfl rfl)
theorem dX1_closeYear_220 : decode cX1_closeYear 220 = .ok (.getfield 55, 3) := dk_180 0 55 (dk_at dksX1_closeYear_9 11 rfl rfl)
theorem dX1_closeYear_223 : decode cX1_closeYear 223 = .ok (.invokevirtual 249, 3) := dk_182 0 249 (dk_at dksX1_closeYear_9 14 rfl rfl)
theorem dX1_closeYear_226 : decode cX1_closeYear 226 = .ok (.lreturn, 1) := dk_173 (dk_at dksX1_closeYear_9 17 rfl rfl)
abbrev cX1_collect : ByteArray := prog_1_method_54_code
def yX1_collect : MethodName := ⟨RX1, "collect", "(LLifeoffice$Policy;II)V"⟩
def dkwX1_collect_12 : List UInt8 := [17, 3, 232, 28, 96, 133, 105, 20, 0, 7, 184, 0, 9, 184, 1, 232, 184, 1, 84, 181, 1, 59, 177]
abbrev dktX1_collect_12 : List UInt8 := dkwX1_collect_12 ++ []
def dkwX1_collect_11 : List UInt8 := [180, 1, 191, 153, 0, 43, 43, 9, 20, 0, 205, 43, 180, 1, 59, 22, 4, 97, 29, 133, 101, 22, 8, 101]
abbrev dktX1_collect_11 : List UInt8 := dkwX1_collect_11 ++ dktX1_collect_12
def dkwX1_collect_10 : List UInt8 := [22, 10, 97, 181, 0, 118, 42, 43, 182, 1, 37, 89, 180, 1, 229, 22, 4, 97, 181, 1, 229, 43]
abbrev dktX1_collect_10 : List UInt8 := dkwX1_collect_10 ++ dktX1_collect_11
def dkwX1_collect_9 : List UInt8 := [182, 0, 193, 42, 180, 0, 51, 16, 7, 184, 0, 187, 22, 12, 117, 182, 0, 193, 42, 89, 180, 0, 118]
abbrev dktX1_collect_9 : List UInt8 := dkwX1_collect_9 ++ dktX1_collect_10
def dkwX1_collect_8 : List UInt8 := [22, 4, 22, 6, 101, 29, 133, 101, 182, 0, 193, 42, 180, 0, 51, 6, 184, 0, 187, 22, 8, 117]
abbrev dktX1_collect_8 : List UInt8 := dkwX1_collect_8 ++ dktX1_collect_9
def dkwX1_collect_7 : List UInt8 := [22, 4, 29, 133, 101, 22, 8, 101, 22, 12, 101, 97, 181, 0, 67, 42, 180, 0, 51, 5, 184, 0, 187]
abbrev dktX1_collect_7 : List UInt8 := dkwX1_collect_7 ++ dktX1_collect_8
def dkwX1_collect_6 : List UInt8 := [105, 20, 1, 168, 184, 0, 9, 20, 1, 227, 105, 20, 1, 97, 184, 0, 9, 55, 12, 42, 89, 180, 0, 67]
abbrev dktX1_collect_6 : List UInt8 := dkwX1_collect_6 ++ dktX1_collect_7
def dkwX1_collect_5 : List UInt8 := [180, 0, 23, 3, 50, 42, 180, 0, 63, 43, 180, 1, 72, 182, 1, 170, 55, 10, 43, 182, 1, 224, 22, 10]
abbrev dktX1_collect_5 : List UInt8 := dkwX1_collect_5 ++ dktX1_collect_6
def dkwX1_collect_4 : List UInt8 := [180, 1, 15, 20, 1, 173, 184, 0, 9, 55, 8, 43, 182, 1, 108, 153, 0, 7, 9, 167, 0, 21, 43, 42]
abbrev dktX1_collect_4 : List UInt8 := dkwX1_collect_4 ++ dktX1_collect_5
def dkwX1_collect_3 : List UInt8 := [182, 1, 108, 153, 0, 20, 43, 180, 1, 15, 20, 0, 225, 105, 20, 0, 252, 184, 0, 9, 167, 0, 13, 43]
abbrev dktX1_collect_3 : List UInt8 := dkwX1_collect_3 ++ dktX1_collect_4
def dkwX1_collect_2 : List UInt8 := [167, 0, 4, 9, 55, 6, 42, 180, 0, 63, 43, 180, 1, 18, 159, 0, 7, 9, 167, 0, 37, 43]
abbrev dktX1_collect_2 : List UInt8 := dkwX1_collect_2 ++ dktX1_collect_3
def dkwX1_collect_1 : List UInt8 := [180, 0, 63, 182, 1, 217, 153, 0, 20, 43, 42, 180, 0, 23, 3, 50, 43, 180, 1, 72, 182, 1, 221]
abbrev dktX1_collect_1 : List UInt8 := dkwX1_collect_1 ++ dktX1_collect_2
def dkwX1_collect_0 : List UInt8 := [43, 42, 180, 0, 63, 182, 1, 217, 153, 0, 10, 43, 180, 1, 15, 167, 0, 4, 9, 55, 4, 43, 42]
abbrev dktX1_collect_0 : List UInt8 := dkwX1_collect_0 ++ dktX1_collect_1
theorem dksX1_collect_0 : cX1_collect.data.toList.drop 0 = dktX1_collect_0 := by decide +kernel
theorem dksX1_collect_1 : cX1_collect.data.toList.drop 23 = dktX1_collect_1 := dk_seg dksX1_collect_0 23 rfl rfl
theorem dksX1_collect_2 : cX1_collect.data.toList.drop 46 = dktX1_collect_2 := dk_seg dksX1_collect_1 23 rfl rfl
theorem dksX1_collect_3 : cX1_collect.data.toList.drop 68 = dktX1_collect_3 := dk_seg dksX1_collect_2 22 rfl rfl
theorem dksX1_collect_4 : cX1_collect.data.toList.drop 92 = dktX1_collect_4 := dk_seg dksX1_collect_3 24 rfl rfl
theorem dksX1_collect_5 : cX1_collect.data.toList.drop 116 = dktX1_collect_5 := dk_seg dksX1_collect_4 24 rfl rfl
theorem dksX1_collect_6 : cX1_collect.data.toList.drop 140 = dktX1_collect_6 := dk_seg dksX1_collect_5 24 rfl rfl
theorem dksX1_collect_7 : cX1_collect.data.toList.drop 164 = dktX1_collect_7 := dk_seg dksX1_collect_6 24 rfl rfl
theorem dksX1_collect_8 : cX1_collect.data.toList.drop 187 = dktX1_collect_8 := dk_seg dksX1_collect_7 23 rfl rfl
theorem dksX1_collect_9 : cX1_collect.data.toList.drop 209 = dktX1_collect_9 := dk_seg dksX1_collect_8 22 rfl rfl
theorem dksX1_collect_10 : cX1_collect.data.toList.drop 232 = dktX1_collect_10 := dk_seg dksX1_collect_9 23 rfl rfl
theorem dksX1_collect_11 : cX1_collect.data.toList.drop 254 = dktX1_collect_11 := dk_seg dksX1_collect_10 22 rfl rfl
theorem dksX1_collect_12 : cX1_collect.data.toList.drop 278 = dktX1_collect_12 := dk_seg dksX1_collect_11 24 rfl rfl
theorem dX1_collect_0 : decode cX1_collect 0 = .ok (.aload_n 1, 1) := dk_43 (dk_at dksX1_collect_0 0 rfl rfl)
theorem dX1_collect_1 : decode cX1_collect 1 = .ok (.aload_n 0, 1) := dk_42 (dk_at dksX1_collect_0 1 rfl rfl)
theorem dX1_collect_2 : decode cX1_collect 2 = .ok (.getfield 63, 3) := dk_180 0 63 (dk_at dksX1_collect_0 2 rfl rfl)
theorem dX1_collect_5 : decode cX1_collect 5 = .ok (.invokevirtual 473, 3) := dk_182 1 217 (dk_at dksX1_collect_0 5 rfl rfl)
theorem dX1_collect_8 : decode cX1_collect 8 = .ok (.ifCond .eq 10, 3) := dk_153 0 10 (dk_at dksX1_collect_0 8 rfl rfl)
theorem dX1_collect_11 : decode cX1_collect 11 = .ok (.aload_n 1, 1) := dk_43 (dk_at dksX1_collect_0 11 rfl rfl)
theorem dX1_collect_12 : decode cX1_collect 12 = .ok (.getfield 271, 3) := dk_180 1 15 (dk_at dksX1_collect_0 12 rfl rfl)
theorem dX1_collect_15 : decode cX1_collect 15 = .ok (.goto 4, 3) := dk_167 0 4 (dk_at dksX1_collect_0 15 rfl rfl)
theorem dX1_collect_18 : decode cX1_collect 18 = .ok (.lconst 0, 1) := dk_9 (dk_at dksX1_collect_0 18 rfl rfl)
theorem dX1_collect_19 : decode cX1_collect 19 = .ok (.lstore 4, 2) := dk_55 4 (dk_at dksX1_collect_0 19 rfl rfl)
theorem dX1_collect_21 : decode cX1_collect 21 = .ok (.aload_n 1, 1) := dk_43 (dk_at dksX1_collect_0 21 rfl rfl)
theorem dX1_collect_22 : decode cX1_collect 22 = .ok (.aload_n 0, 1) := dk_42 (dk_at dksX1_collect_0 22 rfl rfl)
theorem dX1_collect_23 : decode cX1_collect 23 = .ok (.getfield 63, 3) := dk_180 0 63 (dk_at dksX1_collect_1 0 rfl rfl)
theorem dX1_collect_26 : decode cX1_collect 26 = .ok (.invokevirtual 473, 3) := dk_182 1 217 (dk_at dksX1_collect_1 3 rfl rfl)
theorem dX1_collect_29 : decode cX1_collect 29 = .ok (.ifCond .eq 20, 3) := dk_153 0 20 (dk_at dksX1_collect_1 6 rfl rfl)
theorem dX1_collect_32 : decode cX1_collect 32 = .ok (.aload_n 1, 1) := dk_43 (dk_at dksX1_collect_1 9 rfl rfl)
theorem dX1_collect_33 : decode cX1_collect 33 = .ok (.aload_n 0, 1) := dk_42 (dk_at dksX1_collect_1 10 rfl rfl)
theorem dX1_collect_34 : decode cX1_collect 34 = .ok (.getfield 23, 3) := dk_180 0 23 (dk_at dksX1_collect_1 11 rfl rfl)
theorem dX1_collect_37 : decode cX1_collect 37 = .ok (.iconst 0, 1) := dk_3 (dk_at dksX1_collect_1 14 rfl rfl)
theorem dX1_collect_38 : decode cX1_collect 38 = .ok (.aaload, 1) := dk_50 (dk_at dksX1_collect_1 15 rfl rfl)
theorem dX1_collect_39 : decode cX1_collect 39 = .ok (.aload_n 1, 1) := dk_43 (dk_at dksX1_collect_1 16 rfl rfl)
theorem dX1_collect_40 : decode cX1_collect 40 = .ok (.getfield 328, 3) := dk_180 1 72 (dk_at dksX1_collect_1 17 rfl rfl)
theorem dX1_collect_43 : decode cX1_collect 43 = .ok (.invokevirtual 477, 3) := dk_182 1 221 (dk_at dksX1_collect_1 20 rfl rfl)
theorem dX1_collect_46 : decode cX1_collect 46 = .ok (.goto 4, 3) := dk_167 0 4 (dk_at dksX1_collect_2 0 rfl rfl)
theorem dX1_collect_49 : decode cX1_collect 49 = .ok (.lconst 0, 1) := dk_9 (dk_at dksX1_collect_2 3 rfl rfl)
theorem dX1_collect_50 : decode cX1_collect 50 = .ok (.lstore 6, 2) := dk_55 6 (dk_at dksX1_collect_2 4 rfl rfl)
theorem dX1_collect_52 : decode cX1_collect 52 = .ok (.aload_n 0, 1) := dk_42 (dk_at dksX1_collect_2 6 rfl rfl)
theorem dX1_collect_53 : decode cX1_collect 53 = .ok (.getfield 63, 3) := dk_180 0 63 (dk_at dksX1_collect_2 7 rfl rfl)
theorem dX1_collect_56 : decode cX1_collect 56 = .ok (.aload_n 1, 1) := dk_43 (dk_at dksX1_collect_2 10 rfl rfl)
theorem dX1_collect_57 : decode cX1_collect 57 = .ok (.getfield 274, 3) := dk_180 1 18 (dk_at dksX1_collect_2 11 rfl rfl)
theorem dX1_collect_60 : decode cX1_collect 60 = .ok (.if_icmp .eq 7, 3) := dk_159 0 7 (dk_at dksX1_collect_2 14 rfl rfl)
theorem dX1_collect_63 : decode cX1_collect 63 = .ok (.lconst 0, 1) := dk_9 (dk_at dksX1_collect_2 17 rfl rfl)
theorem dX1_collect_64 : decode cX1_collect 64 = .ok (.goto 37, 3) := dk_167 0 37 (dk_at dksX1_collect_2 18 rfl rfl)
theorem dX1_collect_67 : decode cX1_collect 67 = .ok (.aload_n 1, 1) := dk_43 (dk_at dksX1_collect_2 21 rfl rfl)
theorem dX1_collect_68 : decode cX1_collect 68 = .ok (.invokevirtual 364, 3) := dk_182 1 108 (dk_at dksX1_collect_3 0 rfl rfl)
theorem dX1_collect_71 : decode cX1_collect 71 = .ok (.ifCond .eq 20, 3) := dk_153 0 20 (dk_at dksX1_collect_3 3 rfl rfl)
theorem dX1_collect_74 : decode cX1_collect 74 = .ok (.aload_n 1, 1) := dk_43 (dk_at dksX1_collect_3 6 rfl rfl)
theorem dX1_collect_75 : decode cX1_collect 75 = .ok (.getfield 271, 3) := dk_180 1 15 (dk_at dksX1_collect_3 7 rfl rfl)
theorem dX1_collect_78 : decode cX1_collect 78 = .ok (.ldc2_w 225, 3) := dk_20 0 225 (dk_at dksX1_collect_3 10 rfl rfl)
theorem dX1_collect_81 : decode cX1_collect 81 = .ok (.lmul, 1) := dk_105 (dk_at dksX1_collect_3 13 rfl rfl)
theorem dX1_collect_82 : decode cX1_collect 82 = .ok (.ldc2_w 252, 3) := dk_20 0 252 (dk_at dksX1_collect_3 14 rfl rfl)
theorem dX1_collect_85 : decode cX1_collect 85 = .ok (.invokestatic 9, 3) := dk_184 0 9 (dk_at dksX1_collect_3 17 rfl rfl)
theorem dX1_collect_88 : decode cX1_collect 88 = .ok (.goto 13, 3) := dk_167 0 13 (dk_at dksX1_collect_3 20 rfl rfl)
theorem dX1_collect_91 : decode cX1_collect 91 = .ok (.aload_n 1, 1) := dk_43 (dk_at dksX1_collect_3 23 rfl rfl)
theorem dX1_collect_92 : decode cX1_collect 92 = .ok (.getfield 271, 3) := dk_180 1 15 (dk_at dksX1_collect_4 0 rfl rfl)
theorem dX1_collect_95 : decode cX1_collect 95 = .ok (.ldc2_w 429, 3) := dk_20 1 173 (dk_at dksX1_collect_4 3 rfl rfl)
theorem dX1_collect_98 : decode cX1_collect 98 = .ok (.invokestatic 9, 3) := dk_184 0 9 (dk_at dksX1_collect_4 6 rfl rfl)
theorem dX1_collect_101 : decode cX1_collect 101 = .ok (.lstore 8, 2) := dk_55 8 (dk_at dksX1_collect_4 9 rfl rfl)
theorem dX1_collect_103 : decode cX1_collect 103 = .ok (.aload_n 1, 1) := dk_43 (dk_at dksX1_collect_4 11 rfl rfl)
theorem dX1_collect_104 : decode cX1_collect 104 = .ok (.invokevirtual 364, 3) := dk_182 1 108 (dk_at dksX1_collect_4 12 rfl rfl)
theorem dX1_collect_107 : decode cX1_collect 107 = .ok (.ifCond .eq 7, 3) := dk_153 0 7 (dk_at dksX1_collect_4 15 rfl rfl)
theorem dX1_collect_110 : decode cX1_collect 110 = .ok (.lconst 0, 1) := dk_9 (dk_at dksX1_collect_4 18 rfl rfl)
theorem dX1_collect_111 : decode cX1_collect 111 = .ok (.goto 21, 3) := dk_167 0 21 (dk_at dksX1_collect_4 19 rfl rfl)
theorem dX1_collect_114 : decode cX1_collect 114 = .ok (.aload_n 1, 1) := dk_43 (dk_at dksX1_collect_4 22 rfl rfl)
theorem dX1_collect_115 : decode cX1_collect 115 = .ok (.aload_n 0, 1) := dk_42 (dk_at dksX1_collect_4 23 rfl rfl)
theorem dX1_collect_116 : decode cX1_collect 116 = .ok (.getfield 23, 3) := dk_180 0 23 (dk_at dksX1_collect_5 0 rfl rfl)
theorem dX1_collect_119 : decode cX1_collect 119 = .ok (.iconst 0, 1) := dk_3 (dk_at dksX1_collect_5 3 rfl rfl)
theorem dX1_collect_120 : decode cX1_collect 120 = .ok (.aaload, 1) := dk_50 (dk_at dksX1_collect_5 4 rfl rfl)
theorem dX1_collect_121 : decode cX1_collect 121 = .ok (.aload_n 0, 1) := dk_42 (dk_at dksX1_collect_5 5 rfl rfl)
theorem dX1_collect_122 : decode cX1_collect 122 = .ok (.getfield 63, 3) := dk_180 0 63 (dk_at dksX1_collect_5 6 rfl rfl)
theorem dX1_collect_125 : decode cX1_collect 125 = .ok (.aload_n 1, 1) := dk_43 (dk_at dksX1_collect_5 9 rfl rfl)
theorem dX1_collect_126 : decode cX1_collect 126 = .ok (.getfield 328, 3) := dk_180 1 72 (dk_at dksX1_collect_5 10 rfl rfl)
theorem dX1_collect_129 : decode cX1_collect 129 = .ok (.invokevirtual 426, 3) := dk_182 1 170 (dk_at dksX1_collect_5 13 rfl rfl)
theorem dX1_collect_132 : decode cX1_collect 132 = .ok (.lstore 10, 2) := dk_55 10 (dk_at dksX1_collect_5 16 rfl rfl)
theorem dX1_collect_134 : decode cX1_collect 134 = .ok (.aload_n 1, 1) := dk_43 (dk_at dksX1_collect_5 18 rfl rfl)
theorem dX1_collect_135 : decode cX1_collect 135 = .ok (.invokevirtual 480, 3) := dk_182 1 224 (dk_at dksX1_collect_5 19 rfl rfl)
theorem dX1_collect_138 : decode cX1_collect 138 = .ok (.lload 10, 2) := dk_22 10 (dk_at dksX1_collect_5 22 rfl rfl)
theorem dX1_collect_140 : decode cX1_collect 140 = .ok (.lmul, 1) := dk_105 (dk_at dksX1_collect_6 0 rfl rfl)
theorem dX1_collect_141 : decode cX1_collect 141 = .ok (.ldc2_w 424, 3) := dk_20 1 168 (dk_at dksX1_collect_6 1 rfl rfl)
theorem dX1_collect_144 : decode cX1_collect 144 = .ok (.invokestatic 9, 3) := dk_184 0 9 (dk_at dksX1_collect_6 4 rfl rfl)
theorem dX1_collect_147 : decode cX1_collect 147 = .ok (.ldc2_w 483, 3) := dk_20 1 227 (dk_at dksX1_collect_6 7 rfl rfl)
theorem dX1_collect_150 : decode cX1_collect 150 = .ok (.lmul, 1) := dk_105 (dk_at dksX1_collect_6 10 rfl rfl)
theorem dX1_collect_151 : decode cX1_collect 151 = .ok (.ldc2_w 353, 3) := dk_20 1 97 (dk_at dksX1_collect_6 11 rfl rfl)
theorem dX1_collect_154 : decode cX1_collect 154 = .ok (.invokestatic 9, 3) := dk_184 0 9 (dk_at dksX1_collect_6 14 rfl rfl)
theorem dX1_collect_157 : decode cX1_collect 157 = .ok (.lstore 12, 2) := dk_55 12 (dk_at dksX1_collect_6 17 rfl rfl)
theorem dX1_collect_159 : decode cX1_collect 159 = .ok (.aload_n 0, 1) := dk_42 (dk_at dksX1_collect_6 19 rfl rfl)
theorem dX1_collect_160 : decode cX1_collect 160 = .ok (.dup, 1) := dk_89 (dk_at dksX1_collect_6 20 rfl rfl)
theorem dX1_collect_161 : decode cX1_collect 161 = .ok (.getfield 67, 3) := dk_180 0 67 (dk_at dksX1_collect_6 21 rfl rfl)
theorem dX1_collect_164 : decode cX1_collect 164 = .ok (.lload 4, 2) := dk_22 4 (dk_at dksX1_collect_7 0 rfl rfl)
theorem dX1_collect_166 : decode cX1_collect 166 = .ok (.iload_n 3, 1) := dk_29 (dk_at dksX1_collect_7 2 rfl rfl)
theorem dX1_collect_167 : decode cX1_collect 167 = .ok (.i2l, 1) := dk_133 (dk_at dksX1_collect_7 3 rfl rfl)
theorem dX1_collect_168 : decode cX1_collect 168 = .ok (.lsub, 1) := dk_101 (dk_at dksX1_collect_7 4 rfl rfl)
theorem dX1_collect_169 : decode cX1_collect 169 = .ok (.lload 8, 2) := dk_22 8 (dk_at dksX1_collect_7 5 rfl rfl)
theorem dX1_collect_171 : decode cX1_collect 171 = .ok (.lsub, 1) := dk_101 (dk_at dksX1_collect_7 7 rfl rfl)
theorem dX1_collect_172 : decode cX1_collect 172 = .ok (.lload 12, 2) := dk_22 12 (dk_at dksX1_collect_7 8 rfl rfl)
theorem dX1_collect_174 : decode cX1_collect 174 = .ok (.lsub, 1) := dk_101 (dk_at dksX1_collect_7 10 rfl rfl)
theorem dX1_collect_175 : decode cX1_collect 175 = .ok (.ladd, 1) := dk_97 (dk_at dksX1_collect_7 11 rfl rfl)
theorem dX1_collect_176 : decode cX1_collect 176 = .ok (.putfield 67, 3) := dk_181 0 67 (dk_at dksX1_collect_7 12 rfl rfl)
theorem dX1_collect_179 : decode cX1_collect 179 = .ok (.aload_n 0, 1) := dk_42 (dk_at dksX1_collect_7 15 rfl rfl)
theorem dX1_collect_180 : decode cX1_collect 180 = .ok (.getfield 51, 3) := dk_180 0 51 (dk_at dksX1_collect_7 16 rfl rfl)
theorem dX1_collect_183 : decode cX1_collect 183 = .ok (.iconst 2, 1) := dk_5 (dk_at dksX1_collect_7 19 rfl rfl)
theorem dX1_collect_184 : decode cX1_collect 184 = .ok (.invokestatic 187, 3) := dk_184 0 187 (dk_at dksX1_collect_7 20 rfl rfl)
theorem dX1_collect_187 : decode cX1_collect 187 = .ok (.lload 4, 2) := dk_22 4 (dk_at dksX1_collect_8 0 rfl rfl)
theorem dX1_collect_189 : decode cX1_collect 189 = .ok (.lload 6, 2) := dk_22 6 (dk_at dksX1_collect_8 2 rfl rfl)
theorem dX1_collect_191 : decode cX1_collect 191 = .ok (.lsub, 1) := dk_101 (dk_at dksX1_collect_8 4 rfl rfl)
theorem dX1_collect_192 : decode cX1_collect 192 = .ok (.iload_n 3, 1) := dk_29 (dk_at dksX1_collect_8 5 rfl rfl)
theorem dX1_collect_193 : decode cX1_collect 193 = .ok (.i2l, 1) := dk_133 (dk_at dksX1_collect_8 6 rfl rfl)
theorem dX1_collect_194 : decode cX1_collect 194 = .ok (.lsub, 1) := dk_101 (dk_at dksX1_collect_8 7 rfl rfl)
theorem dX1_collect_195 : decode cX1_collect 195 = .ok (.invokevirtual 193, 3) := dk_182 0 193 (dk_at dksX1_collect_8 8 rfl rfl)
theorem dX1_collect_198 : decode cX1_collect 198 = .ok (.aload_n 0, 1) := dk_42 (dk_at dksX1_collect_8 11 rfl rfl)
theorem dX1_collect_199 : decode cX1_collect 199 = .ok (.getfield 51, 3) := dk_180 0 51 (dk_at dksX1_collect_8 12 rfl rfl)
theorem dX1_collect_202 : decode cX1_collect 202 = .ok (.iconst 3, 1) := dk_6 (dk_at dksX1_collect_8 15 rfl rfl)
theorem dX1_collect_203 : decode cX1_collect 203 = .ok (.invokestatic 187, 3) := dk_184 0 187 (dk_at dksX1_collect_8 16 rfl rfl)
theorem dX1_collect_206 : decode cX1_collect 206 = .ok (.lload 8, 2) := dk_22 8 (dk_at dksX1_collect_8 19 rfl rfl)
theorem dX1_collect_208 : decode cX1_collect 208 = .ok (.lneg, 1) := dk_117 (dk_at dksX1_collect_8 21 rfl rfl)
theorem dX1_collect_209 : decode cX1_collect 209 = .ok (.invokevirtual 193, 3) := dk_182 0 193 (dk_at dksX1_collect_9 0 rfl rfl)
theorem dX1_collect_212 : decode cX1_collect 212 = .ok (.aload_n 0, 1) := dk_42 (dk_at dksX1_collect_9 3 rfl rfl)
theorem dX1_collect_213 : decode cX1_collect 213 = .ok (.getfield 51, 3) := dk_180 0 51 (dk_at dksX1_collect_9 4 rfl rfl)
theorem dX1_collect_216 : decode cX1_collect 216 = .ok (.bipush 7, 2) := dk_16 7 (dk_at dksX1_collect_9 7 rfl rfl)
theorem dX1_collect_218 : decode cX1_collect 218 = .ok (.invokestatic 187, 3) := dk_184 0 187 (dk_at dksX1_collect_9 9 rfl rfl)
theorem dX1_collect_221 : decode cX1_collect 221 = .ok (.lload 12, 2) := dk_22 12 (dk_at dksX1_collect_9 12 rfl rfl)
theorem dX1_collect_223 : decode cX1_collect 223 = .ok (.lneg, 1) := dk_117 (dk_at dksX1_collect_9 14 rfl rfl)
theorem dX1_collect_224 : decode cX1_collect 224 = .ok (.invokevirtual 193, 3) := dk_182 0 193 (dk_at dksX1_collect_9 15 rfl rfl)
theorem dX1_collect_227 : decode cX1_collect 227 = .ok (.aload_n 0, 1) := dk_42 (dk_at dksX1_collect_9 18 rfl rfl)
theorem dX1_collect_228 : decode cX1_collect 228 = .ok (.dup, 1) := dk_89 (dk_at dksX1_collect_9 19 rfl rfl)
theorem dX1_collect_229 : decode cX1_collect 229 = .ok (.getfield 118, 3) := dk_180 0 118 (dk_at dksX1_collect_9 20 rfl rfl)
theorem dX1_collect_232 : decode cX1_collect 232 = .ok (.lload 10, 2) := dk_22 10 (dk_at dksX1_collect_10 0 rfl rfl)
theorem dX1_collect_234 : decode cX1_collect 234 = .ok (.ladd, 1) := dk_97 (dk_at dksX1_collect_10 2 rfl rfl)
theorem dX1_collect_235 : decode cX1_collect 235 = .ok (.putfield 118, 3) := dk_181 0 118 (dk_at dksX1_collect_10 3 rfl rfl)
theorem dX1_collect_238 : decode cX1_collect 238 = .ok (.aload_n 0, 1) := dk_42 (dk_at dksX1_collect_10 6 rfl rfl)
theorem dX1_collect_239 : decode cX1_collect 239 = .ok (.aload_n 1, 1) := dk_43 (dk_at dksX1_collect_10 7 rfl rfl)
theorem dX1_collect_240 : decode cX1_collect 240 = .ok (.invokevirtual 293, 3) := dk_182 1 37 (dk_at dksX1_collect_10 8 rfl rfl)
theorem dX1_collect_243 : decode cX1_collect 243 = .ok (.dup, 1) := dk_89 (dk_at dksX1_collect_10 11 rfl rfl)
theorem dX1_collect_244 : decode cX1_collect 244 = .ok (.getfield 485, 3) := dk_180 1 229 (dk_at dksX1_collect_10 12 rfl rfl)
theorem dX1_collect_247 : decode cX1_collect 247 = .ok (.lload 4, 2) := dk_22 4 (dk_at dksX1_collect_10 15 rfl rfl)
theorem dX1_collect_249 : decode cX1_collect 249 = .ok (.ladd, 1) := dk_97 (dk_at dksX1_collect_10 17 rfl rfl)
theorem dX1_collect_250 : decode cX1_collect 250 = .ok (.putfield 485, 3) := dk_181 1 229 (dk_at dksX1_collect_10 18 rfl rfl)
theorem dX1_collect_253 : decode cX1_collect 253 = .ok (.aload_n 1, 1) := dk_43 (dk_at dksX1_collect_10 21 rfl rfl)
theorem dX1_collect_254 : decode cX1_collect 254 = .ok (.getfield 447, 3) := dk_180 1 191 (dk_at dksX1_collect_11 0 rfl rfl)
theorem dX1_collect_257 : decode cX1_collect 257 = .ok (.ifCond .eq 43, 3) := dk_153 0 43 (dk_at dksX1_collect_11 3 rfl rfl)
theorem dX1_collect_260 : decode cX1_collect 260 = .ok (.aload_n 1, 1) := dk_43 (dk_at dksX1_collect_11 6 rfl rfl)
theorem dX1_collect_261 : decode cX1_collect 261 = .ok (.lconst 0, 1) := dk_9 (dk_at dksX1_collect_11 7 rfl rfl)
theorem dX1_collect_262 : decode cX1_collect 262 = .ok (.ldc2_w 205, 3) := dk_20 0 205 (dk_at dksX1_collect_11 8 rfl rfl)
theorem dX1_collect_265 : decode cX1_collect 265 = .ok (.aload_n 1, 1) := dk_43 (dk_at dksX1_collect_11 11 rfl rfl)
theorem dX1_collect_266 : decode cX1_collect 266 = .ok (.getfield 315, 3) := dk_180 1 59 (dk_at dksX1_collect_11 12 rfl rfl)
theorem dX1_collect_269 : decode cX1_collect 269 = .ok (.lload 4, 2) := dk_22 4 (dk_at dksX1_collect_11 15 rfl rfl)
theorem dX1_collect_271 : decode cX1_collect 271 = .ok (.ladd, 1) := dk_97 (dk_at dksX1_collect_11 17 rfl rfl)
theorem dX1_collect_272 : decode cX1_collect 272 = .ok (.iload_n 3, 1) := dk_29 (dk_at dksX1_collect_11 18 rfl rfl)
theorem dX1_collect_273 : decode cX1_collect 273 = .ok (.i2l, 1) := dk_133 (dk_at dksX1_collect_11 19 rfl rfl)
theorem dX1_collect_274 : decode cX1_collect 274 = .ok (.lsub, 1) := dk_101 (dk_at dksX1_collect_11 20 rfl rfl)
theorem dX1_collect_275 : decode cX1_collect 275 = .ok (.lload 8, 2) := dk_22 8 (dk_at dksX1_collect_11 21 rfl rfl)
theorem dX1_collect_277 : decode cX1_collect 277 = .ok (.lsub, 1) := dk_101 (dk_at dksX1_collect_11 23 rfl rfl)
theorem dX1_collect_278 : decode cX1_collect 278 = .ok (.sipush 1000, 3) := dk_17 3 232 (dk_at dksX1_collect_12 0 rfl rfl)
theorem dX1_collect_281 : decode cX1_collect 281 = .ok (.iload_n 2, 1) := dk_28 (dk_at dksX1_collect_12 3 rfl rfl)
theorem dX1_collect_282 : decode cX1_collect 282 = .ok (.iadd, 1) := dk_96 (dk_at dksX1_collect_12 4 rfl rfl)
theorem dX1_collect_283 : decode cX1_collect 283 = .ok (.i2l, 1) := dk_133 (dk_at dksX1_collect_12 5 rfl rfl)
theorem dX1_collect_284 : decode cX1_collect 284 = .ok (.lmul, 1) := dk_105 (dk_at dksX1_collect_12 6 rfl rfl)
theorem dX1_collect_285 : decode cX1_collect 285 = .ok (.ldc2_w 7, 3) := dk_20 0 7 (dk_at dksX1_collect_12 7 rfl rfl)
theorem dX1_collect_288 : decode cX1_collect 288 = .ok (.invokestatic 9, 3) := dk_184 0 9 (dk_at dksX1_collect_12 10 rfl rfl)
theorem dX1_collect_291 : decode cX1_collect 291 = .ok (.invokestatic 488, 3) := dk_184 1 232 (dk_at dksX1_collect_12 13 rfl rfl)
theorem dX1_collect_294 : decode cX1_collect 294 = .ok (.invokestatic 340, 3) := dk_184 1 84 (dk_at dksX1_collect_12 16 rfl rfl)
theorem dX1_collect_297 : decode cX1_collect 297 = .ok (.putfield 315, 3) := dk_181 1 59 (dk_at dksX1_collect_12 19 rfl rfl)
theorem dX1_collect_300 : decode cX1_collect 300 = .ok (.return_, 1) := dk_177 (dk_at dksX1_collect_12 22 rfl rfl)
abbrev cX1_earn : ByteArray := prog_1_method_55_code
def yX1_earn : MethodName := ⟨RX1, "earn", "(I)V"⟩
def dkwX1_earn_13 : List UInt8 := [181, 1, 211, 167, 255, 223, 42, 180, 0, 37, 25, 4, 182, 1, 238, 87, 177]
abbrev dktX1_earn_13 : List UInt8 := dkwX1_earn_13 ++ []
def dkwX1_earn_12 : List UInt8 := [153, 0, 29, 25, 5, 185, 0, 171, 1, 0, 192, 0, 175, 58, 6, 25, 6, 89, 180, 1, 211, 4, 100]
abbrev dktX1_earn_12 : List UInt8 := dkwX1_earn_12 ++ dktX1_earn_13
def dkwX1_earn_11 : List UInt8 := [167, 255, 200, 42, 180, 0, 37, 182, 0, 81, 25, 4, 182, 0, 161, 58, 5, 25, 5, 185, 0, 165, 1, 0]
abbrev dktX1_earn_11 : List UInt8 := dkwX1_earn_11 ++ dktX1_earn_12
def dkwX1_earn_10 : List UInt8 := [180, 0, 67, 25, 6, 180, 0, 177, 97, 181, 0, 67, 167, 0, 11, 25, 4, 25, 6, 182, 1, 187, 87]
abbrev dktX1_earn_10 : List UInt8 := dkwX1_earn_10 ++ dktX1_earn_11
def dkwX1_earn_9 : List UInt8 := [25, 5, 185, 0, 171, 1, 0, 192, 0, 175, 58, 6, 25, 6, 180, 1, 211, 4, 160, 0, 20, 42, 89]
abbrev dktX1_earn_9 : List UInt8 := dkwX1_earn_9 ++ dktX1_earn_10
def dkwX1_earn_8 : List UInt8 := [183, 0, 36, 58, 4, 42, 180, 0, 37, 182, 0, 161, 58, 5, 25, 5, 185, 0, 165, 1, 0, 153, 0, 52]
abbrev dktX1_earn_8 : List UInt8 := dkwX1_earn_8 ++ dktX1_earn_9
def dkwX1_earn_7 : List UInt8 := [65, 132, 4, 1, 167, 255, 182, 42, 180, 0, 51, 4, 184, 0, 187, 32, 182, 0, 193, 187, 0, 34, 89]
abbrev dktX1_earn_7 : List UInt8 := dkwX1_earn_7 ++ dktX1_earn_8
def dkwX1_earn_6 : List UInt8 := [20, 0, 7, 184, 0, 9, 55, 6, 25, 5, 89, 180, 0, 154, 22, 6, 97, 181, 0, 154, 32, 22, 6, 97]
abbrev dktX1_earn_6 : List UInt8 := dkwX1_earn_6 ++ dktX1_earn_7
def dkwX1_earn_5 : List UInt8 := [58, 5, 25, 5, 182, 1, 154, 154, 0, 6, 167, 0, 37, 25, 5, 180, 0, 154, 20, 1, 0, 105]
abbrev dktX1_earn_5 : List UInt8 := dkwX1_earn_5 ++ dktX1_earn_6
def dkwX1_earn_4 : List UInt8 := [21, 4, 42, 180, 0, 30, 182, 0, 137, 162, 0, 68, 42, 180, 0, 30, 21, 4, 182, 0, 144, 192, 0, 148]
abbrev dktX1_earn_4 : List UInt8 := dkwX1_earn_4 ++ dktX1_earn_5
def dkwX1_earn_3 : List UInt8 := [25, 5, 182, 1, 236, 97, 65, 167, 255, 226, 42, 89, 180, 0, 67, 32, 97, 181, 0, 67, 3, 54, 4]
abbrev dktX1_earn_3 : List UInt8 := dkwX1_earn_3 ++ dktX1_earn_4
def dkwX1_earn_2 : List UInt8 := [25, 4, 185, 0, 165, 1, 0, 153, 0, 26, 25, 4, 185, 0, 171, 1, 0, 192, 0, 175, 58, 5, 32]
abbrev dktX1_earn_2 : List UInt8 := dkwX1_earn_2 ++ dktX1_earn_3
def dkwX1_earn_1 : List UInt8 := [27, 133, 105, 20, 0, 7, 184, 0, 9, 167, 0, 4, 9, 65, 42, 180, 0, 37, 182, 0, 161, 58, 4]
abbrev dktX1_earn_1 : List UInt8 := dkwX1_earn_1 ++ dktX1_earn_2
def dkwX1_earn_0 : List UInt8 := [42, 180, 0, 67, 9, 148, 158, 0, 30, 42, 180, 0, 67, 20, 1, 234, 148, 157, 0, 19, 42, 180, 0, 67]
abbrev dktX1_earn_0 : List UInt8 := dkwX1_earn_0 ++ dktX1_earn_1
theorem dksX1_earn_0 : cX1_earn.data.toList.drop 0 = dktX1_earn_0 := by decide +kernel
theorem dksX1_earn_1 : cX1_earn.data.toList.drop 24 = dktX1_earn_1 := dk_seg dksX1_earn_0 24 rfl rfl
theorem dksX1_earn_2 : cX1_earn.data.toList.drop 47 = dktX1_earn_2 := dk_seg dksX1_earn_1 23 rfl rfl
theorem dksX1_earn_3 : cX1_earn.data.toList.drop 70 = dktX1_earn_3 := dk_seg dksX1_earn_2 23 rfl rfl
theorem dksX1_earn_4 : cX1_earn.data.toList.drop 93 = dktX1_earn_4 := dk_seg dksX1_earn_3 23 rfl rfl
theorem dksX1_earn_5 : cX1_earn.data.toList.drop 117 = dktX1_earn_5 := dk_seg dksX1_earn_4 24 rfl rfl
theorem dksX1_earn_6 : cX1_earn.data.toList.drop 139 = dktX1_earn_6 := dk_seg dksX1_earn_5 22 rfl rfl
theorem dksX1_earn_7 : cX1_earn.data.toList.drop 163 = dktX1_earn_7 := dk_seg dksX1_earn_6 24 rfl rfl
theorem dksX1_earn_8 : cX1_earn.data.toList.drop 186 = dktX1_earn_8 := dk_seg dksX1_earn_7 23 rfl rfl
theorem dksX1_earn_9 : cX1_earn.data.toList.drop 210 = dktX1_earn_9 := dk_seg dksX1_earn_8 24 rfl rfl
theorem dksX1_earn_10 : cX1_earn.data.toList.drop 233 = dktX1_earn_10 := dk_seg dksX1_earn_9 23 rfl rfl
theorem dksX1_earn_11 : cX1_earn.data.toList.drop 256 = dktX1_earn_11 := dk_seg dksX1_earn_10 23 rfl rfl
theorem dksX1_earn_12 : cX1_earn.data.toList.drop 280 = dktX1_earn_12 := dk_seg dksX1_earn_11 24 rfl rfl
theorem dksX1_earn_13 : cX1_earn.data.toList.drop 303 = dktX1_earn_13 := dk_seg dksX1_earn_12 23 rfl rfl
theorem dX1_earn_0 : decode cX1_earn 0 = .ok (.aload_n 0, 1) := dk_42 (dk_at dksX1_earn_0 0 rfl rfl)
theorem dX1_earn_1 : decode cX1_earn 1 = .ok (.getfield 67, 3) := dk_180 0 67 (dk_at dksX1_earn_0 1 rfl rfl)
theorem dX1_earn_4 : decode cX1_earn 4 = .ok (.lconst 0, 1) := dk_9 (dk_at dksX1_earn_0 4 rfl rfl)
theorem dX1_earn_5 : decode cX1_earn 5 = .ok (.lcmp, 1) := dk_148 (dk_at dksX1_earn_0 5 rfl rfl)
theorem dX1_earn_6 : decode cX1_earn 6 = .ok (.ifCond .le 30, 3) := dk_158 0 30 (dk_at dksX1_earn_0 6 rfl rfl)
theorem dX1_earn_9 : decode cX1_earn 9 = .ok (.aload_n 0, 1) := dk_42 (dk_at dksX1_earn_0 9 rfl rfl)
theorem dX1_earn_10 : decode cX1_earn 10 = .ok (.getfield 67, 3) := dk_180 0 67 (dk_at dksX1_earn_0 10 rfl rfl)
theorem dX1_earn_13 : decode cX1_earn 13 = .ok (.ldc2_w 490, 3) := dk_20 1 234 (dk_at dksX1_earn_0 13 rfl rfl)
theorem dX1_earn_16 : decode cX1_earn 16 = .ok (.lcmp, 1) := dk_148 (dk_at dksX1_earn_0 16 rfl rfl)
theorem dX1_earn_17 : decode cX1_earn 17 = .ok (.ifCond .gt 19, 3) := dk_157 0 19 (dk_at dksX1_earn_0 17 rfl rfl)
theorem dX1_earn_20 : decode cX1_earn 20 = .ok (.aload_n 0, 1) := dk_42 (dk_at dksX1_earn_0 20 rfl rfl)
theorem dX1_earn_21 : decode cX1_earn 21 = .ok (.getfield 67, 3) := dk_180 0 67 (dk_at dksX1_earn_0 21 rfl rfl)
theorem dX1_earn_24 : decode cX1_earn 24 = .ok (.iload_n 1, 1) := dk_27 (dk_at dksX1_earn_1 0 rfl rfl)
theorem dX1_earn_25 : decode cX1_earn 25 = .ok (.i2l, 1) := dk_133 (dk_at dksX1_earn_1 1 rfl rfl)
theorem dX1_earn_26 : decode cX1_earn 26 = .ok (.lmul, 1) := dk_105 (dk_at dksX1_earn_1 2 rfl rfl)
theorem dX1_earn_27 : decode cX1_earn 27 = .ok (.ldc2_w 7, 3) := dk_20 0 7 (dk_at dksX1_earn_1 3 rfl rfl)
theorem dX1_earn_30 : decode cX1_earn 30 = .ok (.invokestatic 9, 3) := dk_184 0 9 (dk_at dksX1_earn_1 6 rfl rfl)
theorem dX1_earn_33 : decode cX1_earn 33 = .ok (.goto 4, 3) := dk_167 0 4 (dk_at dksX1_earn_1 9 rfl rfl)
theorem dX1_earn_36 : decode cX1_earn 36 = .ok (.lconst 0, 1) := dk_9 (dk_at dksX1_earn_1 12 rfl rfl)
theorem dX1_earn_37 : decode cX1_earn 37 = .ok (.lstore_n 2, 1) := dk_65 (dk_at dksX1_earn_1 13 rfl rfl)
theorem dX1_earn_38 : decode cX1_earn 38 = .ok (.aload_n 0, 1) := dk_42 (dk_at dksX1_earn_1 14 rfl rfl)
theorem dX1_earn_39 : decode cX1_earn 39 = .ok (.getfield 37, 3) := dk_180 0 37 (dk_at dksX1_earn_1 15 rfl rfl)
theorem dX1_earn_42 : decode cX1_earn 42 = .ok (.invokevirtual 161, 3) := dk_182 0 161 (dk_at dksX1_earn_1 18 rfl rfl)
theorem dX1_earn_45 : decode cX1_earn 45 = .ok (.astore 4, 2) := dk_58 4 (dk_at dksX1_earn_1 21 rfl rfl)
theorem dX1_earn_47 : decode cX1_earn 47 = .ok (.aload 4, 2) := dk_25 4 (dk_at dksX1_earn_2 0 rfl rfl)
theorem dX1_earn_49 : decode cX1_earn 49 = .ok (.invokeinterface 165 1, 5) := by decide +kernel
theorem dX1_earn_54 : decode cX1_earn 54 = .ok (.ifCond .eq 26, 3) := dk_153 0 26 (dk_at dksX1_earn_2 7 rfl rfl)
theorem dX1_earn_57 : decode cX1_earn 57 = .ok (.aload 4, 2) := dk_25 4 (dk_at dksX1_earn_2 10 rfl rfl)
theorem dX1_earn_59 : decode cX1_earn 59 = .ok (.invokeinterface 171 1, 5) := by decide +kernel
theorem dX1_earn_64 : decode cX1_earn 64 = .ok (.checkcast 175, 3) := dk_192 0 175 (dk_at dksX1_earn_2 17 rfl rfl)
theorem dX1_earn_67 : decode cX1_earn 67 = .ok (.astore 5, 2) := dk_58 5 (dk_at dksX1_earn_2 20 rfl rfl)
theorem dX1_earn_69 : decode cX1_earn 69 = .ok (.lload_n 2, 1) := dk_32 (dk_at dksX1_earn_2 22 rfl rfl)
theorem dX1_earn_70 : decode cX1_earn 70 = .ok (.aload 5, 2) := dk_25 5 (dk_at dksX1_earn_3 0 rfl rfl)
theorem dX1_earn_72 : decode cX1_earn 72 = .ok (.invokevirtual 492, 3) := dk_182 1 236 (dk_at dksX1_earn_3 2 rfl rfl)
theorem dX1_earn_75 : decode cX1_earn 75 = .ok (.ladd, 1) := dk_97 (dk_at dksX1_earn_3 5 rfl rfl)
theorem dX1_earn_76 : decode cX1_earn 76 = .ok (.lstore_n 2, 1) := dk_65 (dk_at dksX1_earn_3 6 rfl rfl)
theorem dX1_earn_77 : decode cX1_earn 77 = .ok (.goto (-30), 3) := dk_167 255 226 (dk_at dksX1_earn_3 7 rfl rfl)
theorem dX1_earn_80 : decode cX1_earn 80 = .ok (.aload_n 0, 1) := dk_42 (dk_at dksX1_earn_3 10 rfl rfl)
theorem dX1_earn_81 : decode cX1_earn 81 = .ok (.dup, 1) := dk_89 (dk_at dksX1_earn_3 11 rfl rfl)
theorem dX1_earn_82 : decode cX1_earn 82 = .ok (.getfield 67, 3) := dk_180 0 67 (dk_at dksX1_earn_3 12 rfl rfl)
theorem dX1_earn_85 : decode cX1_earn 85 = .ok (.lload_n 2, 1) := dk_32 (dk_at dksX1_earn_3 15 rfl rfl)
theorem dX1_earn_86 : decode cX1_earn 86 = .ok (.ladd, 1) := dk_97 (dk_at dksX1_earn_3 16 rfl rfl)
theorem dX1_earn_87 : decode cX1_earn 87 = .ok (.putfield 67, 3) := dk_181 0 67 (dk_at dksX1_earn_3 17 rfl rfl)
theorem dX1_earn_90 : decode cX1_earn 90 = .ok (.iconst 0, 1) := dk_3 (dk_at dksX1_earn_3 20 rfl rfl)
theorem dX1_earn_91 : decode cX1_earn 91 = .ok (.istore 4, 2) := dk_54 4 (dk_at dksX1_earn_3 21 rfl rfl)
theorem dX1_earn_93 : decode cX1_earn 93 = .ok (.iload 4, 2) := dk_21 4 (dk_at dksX1_earn_4 0 rfl rfl)
theorem dX1_earn_95 : decode cX1_earn 95 = .ok (.aload_n 0, 1) := dk_42 (dk_at dksX1_earn_4 2 rfl rfl)
theorem dX1_earn_96 : decode cX1_earn 96 = .ok (.getfield 30, 3) := dk_180 0 30 (dk_at dksX1_earn_4 3 rfl rfl)
theorem dX1_earn_99 : decode cX1_earn 99 = .ok (.invokevirtual 137, 3) := dk_182 0 137 (dk_at dksX1_earn_4 6 rfl rfl)
theorem dX1_earn_102 : decode cX1_earn 102 = .ok (.if_icmp .ge 68, 3) := dk_162 0 68 (dk_at dksX1_earn_4 9 rfl rfl)
theorem dX1_earn_105 : decode cX1_earn 105 = .ok (.aload_n 0, 1) := dk_42 (dk_at dksX1_earn_4 12 rfl rfl)
theorem dX1_earn_106 : decode cX1_earn 106 = .ok (.getfield 30, 3) := dk_180 0 30 (dk_at dksX1_earn_4 13 rfl rfl)
theorem dX1_earn_109 : decode cX1_earn 109 = .ok (.iload 4, 2) := dk_21 4 (dk_at dksX1_earn_4 16 rfl rfl)
theorem dX1_earn_111 : decode cX1_earn 111 = .ok (.invokevirtual 144, 3) := dk_182 0 144 (dk_at dksX1_earn_4 18 rfl rfl)
theorem dX1_earn_114 : decode cX1_earn 114 = .ok (.checkcast 148, 3) := dk_192 0 148 (dk_at dksX1_earn_4 21 rfl rfl)
theorem dX1_earn_117 : decode cX1_earn 117 = .ok (.astore 5, 2) := dk_58 5 (dk_at dksX1_earn_5 0 rfl rfl)
theorem dX1_earn_119 : decode cX1_earn 119 = .ok (.aload 5, 2) := dk_25 5 (dk_at dksX1_earn_5 2 rfl rfl)
theorem dX1_earn_121 : decode cX1_earn 121 = .ok (.invokevirtual 410, 3) := dk_182 1 154 (dk_at dksX1_earn_5 4 rfl rfl)
theorem dX1_earn_124 : decode cX1_earn 124 = .ok (.ifCond .ne 6, 3) := dk_154 0 6 (dk_at dksX1_earn_5 7 rfl rfl)
theorem dX1_earn_127 : decode cX1_earn 127 = .ok (.goto 37, 3) := dk_167 0 37 (dk_at dksX1_earn_5 10 rfl rfl)
theorem dX1_earn_130 : decode cX1_earn 130 = .ok (.aload 5, 2) := dk_25 5 (dk_at dksX1_earn_5 13 rfl rfl)
theorem dX1_earn_132 : decode cX1_earn 132 = .ok (.getfield 154, 3) := dk_180 0 154 (dk_at dksX1_earn_5 15 rfl rfl)
theorem dX1_earn_135 : decode cX1_earn 135 = .ok (.ldc2_w 256, 3) := dk_20 1 0 (dk_at dksX1_earn_5 18 rfl rfl)
theorem dX1_earn_138 : decode cX1_earn 138 = .ok (.lmul, 1) := dk_105 (dk_at dksX1_earn_5 21 rfl rfl)
theorem dX1_earn_139 : decode cX1_earn 139 = .ok (.ldc2_w 7, 3) := dk_20 0 7 (dk_at dksX1_earn_6 0 rfl rfl)
theorem dX1_earn_142 : decode cX1_earn 142 = .ok (.invokestatic 9, 3) := dk_184 0 9 (dk_at dksX1_earn_6 3 rfl rfl)
theorem dX1_earn_145 : decode cX1_earn 145 = .ok (.lstore 6, 2) := dk_55 6 (dk_at dksX1_earn_6 6 rfl rfl)
theorem dX1_earn_147 : decode cX1_earn 147 = .ok (.aload 5, 2) := dk_25 5 (dk_at dksX1_earn_6 8 rfl rfl)
theorem dX1_earn_149 : decode cX1_earn 149 = .ok (.dup, 1) := dk_89 (dk_at dksX1_earn_6 10 rfl rfl)
theorem dX1_earn_150 : decode cX1_earn 150 = .ok (.getfield 154, 3) := dk_180 0 154 (dk_at dksX1_earn_6 11 rfl rfl)
theorem dX1_earn_153 : decode cX1_earn 153 = .ok (.lload 6, 2) := dk_22 6 (dk_at dksX1_earn_6 14 rfl rfl)
theorem dX1_earn_155 : decode cX1_earn 155 = .ok (.ladd, 1) := dk_97 (dk_at dksX1_earn_6 16 rfl rfl)
theorem dX1_earn_156 : decode cX1_earn 156 = .ok (.putfield 154, 3) := dk_181 0 154 (dk_at dksX1_earn_6 17 rfl rfl)
theorem dX1_earn_159 : decode cX1_earn 159 = .ok (.lload_n 2, 1) := dk_32 (dk_at dksX1_earn_6 20 rfl rfl)
theorem dX1_earn_160 : decode cX1_earn 160 = .ok (.lload 6, 2) := dk_22 6 (dk_at dksX1_earn_6 21 rfl rfl)
theorem dX1_earn_162 : decode cX1_earn 162 = .ok (.ladd, 1) := dk_97 (dk_at dksX1_earn_6 23 rfl rfl)
theorem dX1_earn_163 : decode cX1_earn 163 = .ok (.lstore_n 2, 1) := dk_65 (dk_at dksX1_earn_7 0 rfl rfl)
theorem dX1_earn_164 : decode cX1_earn 164 = .ok (.iinc 4 1, 3) := dk_132 4 1 (dk_at dksX1_earn_7 1 rfl rfl)
theorem dX1_earn_167 : decode cX1_earn 167 = .ok (.goto (-74), 3) := dk_167 255 182 (dk_at dksX1_earn_7 4 rfl rfl)
theorem dX1_earn_170 : decode cX1_earn 170 = .ok (.aload_n 0, 1) := dk_42 (dk_at dksX1_earn_7 7 rfl rfl)
theorem dX1_earn_171 : decode cX1_earn 171 = .ok (.getfield 51, 3) := dk_180 0 51 (dk_at dksX1_earn_7 8 rfl rfl)
theorem dX1_earn_174 : decode cX1_earn 174 = .ok (.iconst 1, 1) := dk_4 (dk_at dksX1_earn_7 11 rfl rfl)
theorem dX1_earn_175 : decode cX1_earn 175 = .ok (.invokestatic 187, 3) := dk_184 0 187 (dk_at dksX1_earn_7 12 rfl rfl)
theorem dX1_earn_178 : decode cX1_earn 178 = .ok (.lload_n 2, 1) := dk_32 (dk_at dksX1_earn_7 15 rfl rfl)
theorem dX1_earn_179 : decode cX1_earn 179 = .ok (.invokevirtual 193, 3) := dk_182 0 193 (dk_at dksX1_earn_7 16 rfl rfl)
theorem dX1_earn_182 : decode cX1_earn 182 = .ok (.new 34, 3) := dk_187 0 34 (dk_at dksX1_earn_7 19 rfl rfl)
theorem dX1_earn_185 : decode cX1_earn 185 = .ok (.dup, 1) := dk_89 (dk_at dksX1_earn_7 22 rfl rfl)
theorem dX1_earn_186 : decode cX1_earn 186 = .ok (.invokespecial 36, 3) := dk_183 0 36 (dk_at dksX1_earn_8 0 rfl rfl)
theorem dX1_earn_189 : decode cX1_earn 189 = .ok (.astore 4, 2) := dk_58 4 (dk_at dksX1_earn_8 3 rfl rfl)
theorem dX1_earn_191 : decode cX1_earn 191 = .ok (.aload_n 0, 1) := dk_42 (dk_at dksX1_earn_8 5 rfl rfl)
theorem dX1_earn_192 : decode cX1_earn 192 = .ok (.getfield 37, 3) := dk_180 0 37 (dk_at dksX1_earn_8 6 rfl rfl)
theorem dX1_earn_195 : decode cX1_earn 195 = .ok (.invokevirtual 161, 3) := dk_182 0 161 (dk_at dksX1_earn_8 9 rfl rfl)
theorem dX1_earn_198 : decode cX1_earn 198 = .ok (.astore 5, 2) := dk_58 5 (dk_at dksX1_earn_8 12 rfl rfl)
theorem dX1_earn_200 : decode cX1_earn 200 = .ok (.aload 5, 2) := dk_25 5 (dk_at dksX1_earn_8 14 rfl rfl)
theorem dX1_earn_202 : decode cX1_earn 202 = .ok (.invokeinterface 165 1, 5) := by decide +kernel
theorem dX1_earn_207 : decode cX1_earn 207 = .ok (.ifCond .eq 52, 3) := dk_153 0 52 (dk_at dksX1_earn_8 21 rfl rfl)
theorem dX1_earn_210 : decode cX1_earn 210 = .ok (.aload 5, 2) := dk_25 5 (dk_at dksX1_earn_9 0 rfl rfl)
theorem dX1_earn_212 : decode cX1_earn 212 = .ok (.invokeinterface 171 1, 5) := by decide +kernel
theorem dX1_earn_217 : decode cX1_earn 217 = .ok (.checkcast 175, 3) := dk_192 0 175 (dk_at dksX1_earn_9 7 rfl rfl)
theorem dX1_earn_220 : decode cX1_earn 220 = .ok (.astore 6, 2) := dk_58 6 (dk_at dksX1_earn_9 10 rfl rfl)
theorem dX1_earn_222 : decode cX1_earn 222 = .ok (.aload 6, 2) := dk_25 6 (dk_at dksX1_earn_9 12 rfl rfl)
theorem dX1_earn_224 : decode cX1_earn 224 = .ok (.getfield 467, 3) := dk_180 1 211 (dk_at dksX1_earn_9 14 rfl rfl)
theorem dX1_earn_227 : decode cX1_earn 227 = .ok (.iconst 1, 1) := dk_4 (dk_at dksX1_earn_9 17 rfl rfl)
theorem dX1_earn_228 : decode cX1_earn 228 = .ok (.if_icmp .ne 20, 3) := dk_160 0 20 (dk_at dksX1_earn_9 18 rfl rfl)
theorem dX1_earn_231 : decode cX1_earn 231 = .ok (.aload_n 0, 1) := dk_42 (dk_at dksX1_earn_9 21 rfl rfl)
theorem dX1_earn_232 : decode cX1_earn 232 = .ok (.dup, 1) := dk_89 (dk_at dksX1_earn_9 22 rfl rfl)
theorem dX1_earn_233 : decode cX1_earn 233 = .ok (.getfield 67, 3) := dk_180 0 67 (dk_at dksX1_earn_10 0 rfl rfl)
theorem dX1_earn_236 : decode cX1_earn 236 = .ok (.aload 6, 2) := dk_25 6 (dk_at dksX1_earn_10 3 rfl rfl)
theorem dX1_earn_238 : decode cX1_earn 238 = .ok (.getfield 177, 3) := dk_180 0 177 (dk_at dksX1_earn_10 5 rfl rfl)
theorem dX1_earn_241 : decode cX1_earn 241 = .ok (.ladd, 1) := dk_97 (dk_at dksX1_earn_10 8 rfl rfl)
theorem dX1_earn_242 : decode cX1_earn 242 = .ok (.putfield 67, 3) := dk_181 0 67 (dk_at dksX1_earn_10 9 rfl rfl)
theorem dX1_earn_245 : decode cX1_earn 245 = .ok (.goto 11, 3) := dk_167 0 11 (dk_at dksX1_earn_10 12 rfl rfl)
theorem dX1_earn_248 : decode cX1_earn 248 = .ok (.aload 4, 2) := dk_25 4 (dk_at dksX1_earn_10 15 rfl rfl)
theorem dX1_earn_250 : decode cX1_earn 250 = .ok (.aload 6, 2) := dk_25 6 (dk_at dksX1_earn_10 17 rfl rfl)
theorem dX1_earn_252 : decode cX1_earn 252 = .ok (.invokevirtual 443, 3) := dk_182 1 187 (dk_at dksX1_earn_10 19 rfl rfl)
theorem dX1_earn_255 : decode cX1_earn 255 = .ok (.pop, 1) := dk_87 (dk_at dksX1_earn_10 22 rfl rfl)
theorem dX1_earn_256 : decode cX1_earn 256 = .ok (.goto (-56), 3) := dk_167 255 200 (dk_at dksX1_earn_11 0 rfl rfl)
theorem dX1_earn_259 : decode cX1_earn 259 = .ok (.aload_n 0, 1) := dk_42 (dk_at dksX1_earn_11 3 rfl rfl)
theorem dX1_earn_260 : decode cX1_earn 260 = .ok (.getfield 37, 3) := dk_180 0 37 (dk_at dksX1_earn_11 4 rfl rfl)
theorem dX1_earn_263 : decode cX1_earn 263 = .ok (.invokevirtual 81, 3) := dk_182 0 81 (dk_at dksX1_earn_11 7 rfl rfl)
theorem dX1_earn_266 : decode cX1_earn 266 = .ok (.aload 4, 2) := dk_25 4 (dk_at dksX1_earn_11 10 rfl rfl)
theorem dX1_earn_268 : decode cX1_earn 268 = .ok (.invokevirtual 161, 3) := dk_182 0 161 (dk_at dksX1_earn_11 12 rfl rfl)
theorem dX1_earn_271 : decode cX1_earn 271 = .ok (.astore 5, 2) := dk_58 5 (dk_at dksX1_earn_11 15 rfl rfl)
theorem dX1_earn_273 : decode cX1_earn 273 = .ok (.aload 5, 2) := dk_25 5 (dk_at dksX1_earn_11 17 rfl rfl)
theorem dX1_earn_275 : decode cX1_earn 275 = .ok (.invokeinterface 165 1, 5) := by decide +kernel
theorem dX1_earn_280 : decode cX1_earn 280 = .ok (.ifCond .eq 29, 3) := dk_153 0 29 (dk_at dksX1_earn_12 0 rfl rfl)
theorem dX1_earn_283 : decode cX1_earn 283 = .ok (.aload 5, 2) := dk_25 5 (dk_at dksX1_earn_12 3 rfl rfl)
theorem dX1_earn_285 : decode cX1_earn 285 = .ok (.invokeinterface 171 1, 5) := by decide +kernel
theorem dX1_earn_290 : decode cX1_earn 290 = .ok (.checkcast 175, 3) := dk_192 0 175 (dk_at dksX1_earn_12 10 rfl rfl)
theorem dX1_earn_293 : decode cX1_earn 293 = .ok (.astore 6, 2) := dk_58 6 (dk_at dksX1_earn_12 13 rfl rfl)
theorem dX1_earn_295 : decode cX1_earn 295 = .ok (.aload 6, 2) := dk_25 6 (dk_at dksX1_earn_12 15 rfl rfl)
theorem dX1_earn_297 : decode cX1_earn 297 = .ok (.dup, 1) := dk_89 (dk_at dksX1_earn_12 17 rfl rfl)
theorem dX1_earn_298 : decode cX1_earn 298 = .ok (.getfield 467, 3) := dk_180 1 211 (dk_at dksX1_earn_12 18 rfl rfl)
theorem dX1_earn_301 : decode cX1_earn 301 = .ok (.iconst 1, 1) := dk_4 (dk_at dksX1_earn_12 21 rfl rfl)
theorem dX1_earn_302 : decode cX1_earn 302 = .ok (.isub, 1) := dk_100 (dk_at dksX1_earn_12 22 rfl rfl)
theorem dX1_earn_303 : decode cX1_earn 303 = .ok (.putfield 467, 3) := dk_181 1 211 (dk_at dksX1_earn_13 0 rfl rfl)
theorem dX1_earn_306 : decode cX1_earn 306 = .ok (.goto (-33), 3) := dk_167 255 223 (dk_at dksX1_earn_13 3 rfl rfl)
theorem dX1_earn_309 : decode cX1_earn 309 = .ok (.aload_n 0, 1) := dk_42 (dk_at dksX1_earn_13 6 rfl rfl)
theorem dX1_earn_310 : decode cX1_earn 310 = .ok (.getfield 37, 3) := dk_180 0 37 (dk_at dksX1_earn_13 7 rfl rfl)
theorem dX1_earn_313 : decode cX1_earn 313 = .ok (.aload 4, 2) := dk_25 4 (dk_at dksX1_earn_13 10 rfl rfl)
theorem dX1_earn_315 : decode cX1_earn 315 = .ok (.invokevirtual 494, 3) := dk_182 1 238 (dk_at dksX1_earn_13 12 rfl rfl)
theorem dX1_earn_318 : decode cX1_earn 318 = .ok (.pop, 1) := dk_87 (dk_at dksX1_earn_13 15 rfl rfl)
theorem dX1_earn_319 : decode cX1_earn 319 = .ok (.return_, 1) := dk_177 (dk_at dksX1_earn_13 16 rfl rfl)
abbrev cX1_settle : ByteArray := prog_1_method_57_code
def yX1_settle : MethodName := ⟨RX1, "settle", "(LLifeoffice$Policy;J)V"⟩
def dkwX1_settle_14 : List UInt8 := [22, 4, 97, 22, 6, 97, 22, 8, 101, 182, 0, 193, 177]
abbrev dktX1_settle_14 : List UInt8 := dkwX1_settle_14 ++ []
def dkwX1_settle_13 : List UInt8 := [180, 0, 51, 4, 184, 0, 187, 22, 6, 117, 182, 0, 193, 42, 180, 0, 51, 21, 10, 184, 0, 187, 32]
abbrev dktX1_settle_13 : List UInt8 := dkwX1_settle_13 ++ dktX1_settle_14
def dkwX1_settle_12 : List UInt8 := [182, 0, 150, 43, 182, 1, 108, 153, 0, 10, 43, 180, 1, 53, 167, 0, 4, 9, 97, 55, 8, 42]
abbrev dktX1_settle_12 : List UInt8 := dkwX1_settle_12 ++ dktX1_settle_13
def dkwX1_settle_11 : List UInt8 := [180, 0, 67, 43, 180, 1, 53, 101, 181, 0, 67, 43, 42, 180, 0, 23, 3, 50, 42, 180, 0, 63, 4, 96]
abbrev dktX1_settle_11 : List UInt8 := dkwX1_settle_11 ++ dktX1_settle_12
def dkwX1_settle_10 : List UInt8 := [42, 180, 0, 63, 4, 96, 181, 1, 111, 7, 54, 10, 167, 0, 57, 43, 182, 1, 108, 153, 0, 16, 42, 89]
abbrev dktX1_settle_10 : List UInt8 := dkwX1_settle_10 ++ dktX1_settle_11
def dkwX1_settle_9 : List UInt8 := [42, 180, 0, 63, 4, 96, 182, 1, 62, 148, 158, 0, 29, 42, 43, 16, 7, 9, 182, 1, 245, 55, 8, 43]
abbrev dktX1_settle_9 : List UInt8 := dkwX1_settle_9 ++ dktX1_settle_10
def dkwX1_settle_8 : List UInt8 := [160, 0, 19, 42, 43, 16, 6, 43, 182, 1, 249, 182, 1, 245, 55, 8, 167, 0, 101, 43, 180, 0, 154, 43]
abbrev dktX1_settle_8 : List UInt8 := dkwX1_settle_8 ++ dktX1_settle_9
def dkwX1_settle_7 : List UInt8 := [153, 0, 13, 43, 89, 180, 1, 105, 4, 96, 181, 1, 105, 42, 180, 0, 63, 4, 96, 43, 180, 1, 66]
abbrev dktX1_settle_7 : List UInt8 := dkwX1_settle_7 ++ dktX1_settle_8
def dkwX1_settle_6 : List UInt8 := [43, 42, 180, 0, 63, 182, 1, 62, 182, 1, 245, 55, 8, 7, 54, 10, 167, 0, 147, 43, 182, 1, 108]
abbrev dktX1_settle_6 : List UInt8 := dkwX1_settle_6 ++ dktX1_settle_7
def dkwX1_settle_5 : List UInt8 := [184, 0, 187, 43, 182, 1, 224, 182, 0, 193, 167, 0, 177, 43, 180, 1, 50, 6, 160, 0, 25, 42, 43, 8]
abbrev dktX1_settle_5 : List UInt8 := dkwX1_settle_5 ++ dktX1_settle_6
def dkwX1_settle_4 : List UInt8 := [181, 0, 115, 42, 89, 180, 0, 67, 43, 182, 1, 224, 97, 181, 0, 67, 42, 180, 0, 51, 16, 7]
abbrev dktX1_settle_4 : List UInt8 := dkwX1_settle_4 ++ dktX1_settle_5
def dkwX1_settle_3 : List UInt8 := [182, 1, 102, 182, 1, 245, 55, 8, 43, 182, 1, 108, 154, 0, 13, 42, 89, 180, 0, 115, 10, 97]
abbrev dktX1_settle_3 : List UInt8 := dkwX1_settle_3 ++ dktX1_settle_4
def dkwX1_settle_2 : List UInt8 := [20, 0, 7, 184, 0, 9, 55, 6, 3, 54, 10, 43, 180, 1, 50, 5, 160, 0, 64, 42, 43, 7, 43]
abbrev dktX1_settle_2 : List UInt8 := dkwX1_settle_2 ++ dktX1_settle_3
def dkwX1_settle_1 : List UInt8 := [182, 1, 221, 167, 0, 4, 9, 55, 4, 32, 22, 4, 97, 42, 180, 0, 23, 3, 50, 180, 1, 145, 133, 105]
abbrev dktX1_settle_1 : List UInt8 := dkwX1_settle_1 ++ dktX1_settle_2
def dkwX1_settle_0 : List UInt8 := [43, 42, 180, 0, 63, 182, 1, 217, 153, 0, 20, 43, 42, 180, 0, 23, 3, 50, 43, 180, 1, 72]
abbrev dktX1_settle_0 : List UInt8 := dkwX1_settle_0 ++ dktX1_settle_1
theorem dksX1_settle_0 : cX1_settle.data.toList.drop 0 = dktX1_settle_0 := by decide +kernel
theorem dksX1_settle_1 : cX1_settle.data.toList.drop 22 = dktX1_settle_1 := dk_seg dksX1_settle_0 22 rfl rfl
theorem dksX1_settle_2 : cX1_settle.data.toList.drop 46 = dktX1_settle_2 := dk_seg dksX1_settle_1 24 rfl rfl
theorem dksX1_settle_3 : cX1_settle.data.toList.drop 69 = dktX1_settle_3 := dk_seg dksX1_settle_2 23 rfl rfl
theorem dksX1_settle_4 : cX1_settle.data.toList.drop 91 = dktX1_settle_4 := dk_seg dksX1_settle_3 22 rfl rfl
theorem dksX1_settle_5 : cX1_settle.data.toList.drop 113 = dktX1_settle_5 := dk_seg dksX1_settle_4 22 rfl rfl
theorem dksX1_settle_6 : cX1_settle.data.toList.drop 137 = dktX1_settle_6 := dk_seg dksX1_settle_5 24 rfl rfl
theorem dksX1_settle_7 : cX1_settle.data.toList.drop 160 = dktX1_settle_7 := dk_seg dksX1_settle_6 23 rfl rfl
theorem dksX1_settle_8 : cX1_settle.data.toList.drop 183 = dktX1_settle_8 := dk_seg dksX1_settle_7 23 rfl rfl
theorem dksX1_settle_9 : cX1_settle.data.toList.drop 207 = dktX1_settle_9 := dk_seg dksX1_settle_8 24 rfl rfl
theorem dksX1_settle_10 : cX1_settle.data.toList.drop 231 = dktX1_settle_10 := dk_seg dksX1_settle_9 24 rfl rfl
theorem dksX1_settle_11 : cX1_settle.data.toList.drop 255 = dktX1_settle_11 := dk_seg dksX1_settle_10 24 rfl rfl
theorem dksX1_settle_12 : cX1_settle.data.toList.drop 279 = dktX1_settle_12 := dk_seg dksX1_settle_11 24 rfl rfl
theorem dksX1_settle_13 : cX1_settle.data.toList.drop 301 = dktX1_settle_13 := dk_seg dksX1_settle_12 22 rfl rfl
theorem dksX1_settle_14 : cX1_settle.data.toList.drop 324 = dktX1_settle_14 := dk_seg dksX1_settle_13 23 rfl rfl
theorem dX1_settle_0 : decode cX1_settle 0 = .ok (.aload_n 1, 1) := dk_43 (dk_at dksX1_settle_0 0 rfl rfl)
theorem dX1_settle_1 : decode cX1_settle 1 = .ok (.aload_n 0, 1) := dk_42 (dk_at dksX1_settle_0 1 rfl rfl)
theorem dX1_settle_2 : decode cX1_settle 2 = .ok (.getfield 63, 3) := dk_180 0 63 (dk_at dksX1_settle_0 2 rfl rfl)
theorem dX1_settle_5 : decode cX1_settle 5 = .ok (.invokevirtual 473, 3) := dk_182 1 217 (dk_at dksX1_settle_0 5 rfl rfl)
theorem dX1_settle_8 : decode cX1_settle 8 = .ok (.ifCond .eq 20, 3) := dk_153 0 20 (dk_at dksX1_settle_0 8 rfl rfl)
theorem dX1_settle_11 : decode cX1_settle 11 = .ok (.aload_n 1, 1) := dk_43 (dk_at dksX1_settle_0 11 rfl rfl)
theorem dX1_settle_12 : decode cX1_settle 12 = .ok (.aload_n 0, 1) := dk_42 (dk_at dksX1_settle_0 12 rfl rfl)
theorem dX1_settle_13 : decode cX1_settle 13 = .ok (.getfield 23, 3) := dk_180 0 23 (dk_at dksX1_settle_0 13 rfl rfl)
theorem dX1_settle_16 : decode cX1_settle 16 = .ok (.iconst 0, 1) := dk_3 (dk_at dksX1_settle_0 16 rfl rfl)
theorem dX1_settle_17 : decode cX1_settle 17 = .ok (.aaload, 1) := dk_50 (dk_at dksX1_settle_0 17 rfl rfl)
theorem dX1_settle_18 : decode cX1_settle 18 = .ok (.aload_n 1, 1) := dk_43 (dk_at dksX1_settle_0 18 rfl rfl)
theorem dX1_settle_19 : decode cX1_settle 19 = .ok (.getfield 328, 3) := dk_180 1 72 (dk_at dksX1_settle_0 19 rfl rfl)
theorem dX1_settle_22 : decode cX1_settle 22 = .ok (.invokevirtual 477, 3) := dk_182 1 221 (dk_at dksX1_settle_1 0 rfl rfl)
theorem dX1_settle_25 : decode cX1_settle 25 = .ok (.goto 4, 3) := dk_167 0 4 (dk_at dksX1_settle_1 3 rfl rfl)
theorem dX1_settle_28 : decode cX1_settle 28 = .ok (.lconst 0, 1) := dk_9 (dk_at dksX1_settle_1 6 rfl rfl)
theorem dX1_settle_29 : decode cX1_settle 29 = .ok (.lstore 4, 2) := dk_55 4 (dk_at dksX1_settle_1 7 rfl rfl)
theorem dX1_settle_31 : decode cX1_settle 31 = .ok (.lload_n 2, 1) := dk_32 (dk_at dksX1_settle_1 9 rfl rfl)
theorem dX1_settle_32 : decode cX1_settle 32 = .ok (.lload 4, 2) := dk_22 4 (dk_at dksX1_settle_1 10 rfl rfl)
theorem dX1_settle_34 : decode cX1_settle 34 = .ok (.ladd, 1) := dk_97 (dk_at dksX1_settle_1 12 rfl rfl)
theorem dX1_settle_35 : decode cX1_settle 35 = .ok (.aload_n 0, 1) := dk_42 (dk_at dksX1_settle_1 13 rfl rfl)
theorem dX1_settle_36 : decode cX1_settle 36 = .ok (.getfield 23, 3) := dk_180 0 23 (dk_at dksX1_settle_1 14 rfl rfl)
theorem dX1_settle_39 : decode cX1_settle 39 = .ok (.iconst 0, 1) := dk_3 (dk_at dksX1_settle_1 17 rfl rfl)
theorem dX1_settle_40 : decode cX1_settle 40 = .ok (.aaload, 1) := dk_50 (dk_at dksX1_settle_1 18 rfl rfl)
theorem dX1_settle_41 : decode cX1_settle 41 = .ok (.getfield 401, 3) := dk_180 1 145 (dk_at dksX1_settle_1 19 rfl rfl)
theorem dX1_settle_44 : decode cX1_settle 44 = .ok (.i2l, 1) := dk_133 (dk_at dksX1_settle_1 22 rfl rfl)
theorem dX1_settle_45 : decode cX1_settle 45 = .ok (.lmul, 1) := dk_105 (dk_at dksX1_settle_1 23 rfl rfl)
theorem dX1_settle_46 : decode cX1_settle 46 = .ok (.ldc2_w 7, 3) := dk_20 0 7 (dk_at dksX1_settle_2 0 rfl rfl)
theorem dX1_settle_49 : decode cX1_settle 49 = .ok (.invokestatic 9, 3) := dk_184 0 9 (dk_at dksX1_settle_2 3 rfl rfl)
theorem dX1_settle_52 : decode cX1_settle 52 = .ok (.lstore 6, 2) := dk_55 6 (dk_at dksX1_settle_2 6 rfl rfl)
theorem dX1_settle_54 : decode cX1_settle 54 = .ok (.iconst 0, 1) := dk_3 (dk_at dksX1_settle_2 8 rfl rfl)
theorem dX1_settle_55 : decode cX1_settle 55 = .ok (.istore 10, 2) := dk_54 10 (dk_at dksX1_settle_2 9 rfl rfl)
theorem dX1_settle_57 : decode cX1_settle 57 = .ok (.aload_n 1, 1) := dk_43 (dk_at dksX1_settle_2 11 rfl rfl)
theorem dX1_settle_58 : decode cX1_settle 58 = .ok (.getfield 306, 3) := dk_180 1 50 (dk_at dksX1_settle_2 12 rfl rfl)
theorem dX1_settle_61 : decode cX1_settle 61 = .ok (.iconst 2, 1) := dk_5 (dk_at dksX1_settle_2 15 rfl rfl)
theorem dX1_settle_62 : decode cX1_settle 62 = .ok (.if_icmp .ne 64, 3) := dk_160 0 64 (dk_at dksX1_settle_2 16 rfl rfl)
theorem dX1_settle_65 : decode cX1_settle 65 = .ok (.aload_n 0, 1) := dk_42 (dk_at dksX1_settle_2 19 rfl rfl)
theorem dX1_settle_66 : decode cX1_settle 66 = .ok (.aload_n 1, 1) := dk_43 (dk_at dksX1_settle_2 20 rfl rfl)
theorem dX1_settle_67 : decode cX1_settle 67 = .ok (.iconst 4, 1) := dk_7 (dk_at dksX1_settle_2 21 rfl rfl)
theorem dX1_settle_68 : decode cX1_settle 68 = .ok (.aload_n 1, 1) := dk_43 (dk_at dksX1_settle_2 22 rfl rfl)
theorem dX1_settle_69 : decode cX1_settle 69 = .ok (.invokevirtual 358, 3) := dk_182 1 102 (dk_at dksX1_settle_3 0 rfl rfl)
theorem dX1_settle_72 : decode cX1_settle 72 = .ok (.invokevirtual 501, 3) := dk_182 1 245 (dk_at dksX1_settle_3 3 rfl rfl)
theorem dX1_settle_75 : decode cX1_settle 75 = .ok (.lstore 8, 2) := dk_55 8 (dk_at dksX1_settle_3 6 rfl rfl)
theorem dX1_settle_77 : decode cX1_settle 77 = .ok (.aload_n 1, 1) := dk_43 (dk_at dksX1_settle_3 8 rfl rfl)
theorem dX1_settle_78 : decode cX1_settle 78 = .ok (.invokevirtual 364, 3) := dk_182 1 108 (dk_at dksX1_settle_3 9 rfl rfl)
theorem dX1_settle_81 : decode cX1_settle 81 = .ok (.ifCond .ne 13, 3) := dk_154 0 13 (dk_at dksX1_settle_3 12 rfl rfl)
theorem dX1_settle_84 : decode cX1_settle 84 = .ok (.aload_n 0, 1) := dk_42 (dk_at dksX1_settle_3 15 rfl rfl)
theorem dX1_settle_85 : decode cX1_settle 85 = .ok (.dup, 1) := dk_89 (dk_at dksX1_settle_3 16 rfl rfl)
theorem dX1_settle_86 : decode cX1_settle 86 = .ok (.getfield 115, 3) := dk_180 0 115 (dk_at dksX1_settle_3 17 rfl rfl)
theorem dX1_settle_89 : decode cX1_settle 89 = .ok (.lconst 1, 1) := dk_10 (dk_at dksX1_settle_3 20 rfl rfl)
theorem dX1_settle_90 : decode cX1_settle 90 = .ok (.ladd, 1) := dk_97 (dk_at dksX1_settle_3 21 rfl rfl)
theorem dX1_settle_91 : decode cX1_settle 91 = .ok (.putfield 115, 3) := dk_181 0 115 (dk_at dksX1_settle_4 0 rfl rfl)
theorem dX1_settle_94 : decode cX1_settle 94 = .ok (.aload_n 0, 1) := dk_42 (dk_at dksX1_settle_4 3 rfl rfl)
theorem dX1_settle_95 : decode cX1_settle 95 = .ok (.dup, 1) := dk_89 (dk_at dksX1_settle_4 4 rfl rfl)
theorem dX1_settle_96 : decode cX1_settle 96 = .ok (.getfield 67, 3) := dk_180 0 67 (dk_at dksX1_settle_4 5 rfl rfl)
theorem dX1_settle_99 : decode cX1_settle 99 = .ok (.aload_n 1, 1) := dk_43 (dk_at dksX1_settle_4 8 rfl rfl)
theorem dX1_settle_100 : decode cX1_settle 100 = .ok (.invokevirtual 480, 3) := dk_182 1 224 (dk_at dksX1_settle_4 9 rfl rfl)
theorem dX1_settle_103 : decode cX1_settle 103 = .ok (.ladd, 1) := dk_97 (dk_at dksX1_settle_4 12 rfl rfl)
theorem dX1_settle_104 : decode cX1_settle 104 = .ok (.putfield 67, 3) := dk_181 0 67 (dk_at dksX1_settle_4 13 rfl rfl)
theorem dX1_settle_107 : decode cX1_settle 107 = .ok (.aload_n 0, 1) := dk_42 (dk_at dksX1_settle_4 16 rfl rfl)
theorem dX1_settle_108 : decode cX1_settle 108 = .ok (.getfield 51, 3) := dk_180 0 51 (dk_at dksX1_settle_4 17 rfl rfl)
theorem dX1_settle_111 : decode cX1_settle 111 = .ok (.bipush 7, 2) := dk_16 7 (dk_at dksX1_settle_4 20 rfl rfl)
theorem dX1_settle_113 : decode cX1_settle 113 = .ok (.invokestatic 187, 3) := dk_184 0 187 (dk_at dksX1_settle_5 0 rfl rfl)
theorem dX1_settle_116 : decode cX1_settle 116 = .ok (.aload_n 1, 1) := dk_43 (dk_at dksX1_settle_5 3 rfl rfl)
theorem dX1_settle_117 : decode cX1_settle 117 = .ok (.invokevirtual 480, 3) := dk_182 1 224 (dk_at dksX1_settle_5 4 rfl rfl)
theorem dX1_settle_120 : decode cX1_settle 120 = .ok (.invokevirtual 193, 3) := dk_182 0 193 (dk_at dksX1_settle_5 7 rfl rfl)
theorem dX1_settle_123 : decode cX1_settle 123 = .ok (.goto 177, 3) := dk_167 0 177 (dk_at dksX1_settle_5 10 rfl rfl)
theorem dX1_settle_126 : decode cX1_settle 126 = .ok (.aload_n 1, 1) := dk_43 (dk_at dksX1_settle_5 13 rfl rfl)
theorem dX1_settle_127 : decode cX1_settle 127 = .ok (.getfield 306, 3) := dk_180 1 50 (dk_at dksX1_settle_5 14 rfl rfl)
theorem dX1_settle_130 : decode cX1_settle 130 = .ok (.iconst 3, 1) := dk_6 (dk_at dksX1_settle_5 17 rfl rfl)
theorem dX1_settle_131 : decode cX1_settle 131 = .ok (.if_icmp .ne 25, 3) := dk_160 0 25 (dk_at dksX1_settle_5 18 rfl rfl)
theorem dX1_settle_134 : decode cX1_settle 134 = .ok (.aload_n 0, 1) := dk_42 (dk_at dksX1_settle_5 21 rfl rfl)
theorem dX1_settle_135 : decode cX1_settle 135 = .ok (.aload_n 1, 1) := dk_43 (dk_at dksX1_settle_5 22 rfl rfl)
theorem dX1_settle_136 : decode cX1_settle 136 = .ok (.iconst 5, 1) := dk_8 (dk_at dksX1_settle_5 23 rfl rfl)
theorem dX1_settle_137 : decode cX1_settle 137 = .ok (.aload_n 1, 1) := dk_43 (dk_at dksX1_settle_6 0 rfl rfl)
theorem dX1_settle_138 : decode cX1_settle 138 = .ok (.aload_n 0, 1) := dk_42 (dk_at dksX1_settle_6 1 rfl rfl)
theorem dX1_settle_139 : decode cX1_settle 139 = .ok (.getfield 63, 3) := dk_180 0 63 (dk_at dksX1_settle_6 2 rfl rfl)
theorem dX1_settle_142 : decode cX1_settle 142 = .ok (.invokevirtual 318, 3) := dk_182 1 62 (dk_at dksX1_settle_6 5 rfl rfl)
theorem dX1_settle_145 : decode cX1_settle 145 = .ok (.invokevirtual 501, 3) := dk_182 1 245 (dk_at dksX1_settle_6 8 rfl rfl)
theorem dX1_settle_148 : decode cX1_settle 148 = .ok (.lstore 8, 2) := dk_55 8 (dk_at dksX1_settle_6 11 rfl rfl)
theorem dX1_settle_150 : decode cX1_settle 150 = .ok (.iconst 4, 1) := dk_7 (dk_at dksX1_settle_6 13 rfl rfl)
theorem dX1_settle_151 : decode cX1_settle 151 = .ok (.istore 10, 2) := dk_54 10 (dk_at dksX1_settle_6 14 rfl rfl)
theorem dX1_settle_153 : decode cX1_settle 153 = .ok (.goto 147, 3) := dk_167 0 147 (dk_at dksX1_settle_6 16 rfl rfl)
theorem dX1_settle_156 : decode cX1_settle 156 = .ok (.aload_n 1, 1) := dk_43 (dk_at dksX1_settle_6 19 rfl rfl)
theorem dX1_settle_157 : decode cX1_settle 157 = .ok (.invokevirtual 364, 3) := dk_182 1 108 (dk_at dksX1_settle_6 20 rfl rfl)
theorem dX1_settle_160 : decode cX1_settle 160 = .ok (.ifCond .eq 13, 3) := dk_153 0 13 (dk_at dksX1_settle_7 0 rfl rfl)
theorem dX1_settle_163 : decode cX1_settle 163 = .ok (.aload_n 1, 1) := dk_43 (dk_at dksX1_settle_7 3 rfl rfl)
theorem dX1_settle_164 : decode cX1_settle 164 = .ok (.dup, 1) := dk_89 (dk_at dksX1_settle_7 4 rfl rfl)
theorem dX1_settle_165 : decode cX1_settle 165 = .ok (.getfield 361, 3) := dk_180 1 105 (dk_at dksX1_settle_7 5 rfl rfl)
theorem dX1_settle_168 : decode cX1_settle 168 = .ok (.iconst 1, 1) := dk_4 (dk_at dksX1_settle_7 8 rfl rfl)
theorem dX1_settle_169 : decode cX1_settle 169 = .ok (.iadd, 1) := dk_96 (dk_at dksX1_settle_7 9 rfl rfl)
theorem dX1_settle_170 : decode cX1_settle 170 = .ok (.putfield 361, 3) := dk_181 1 105 (dk_at dksX1_settle_7 10 rfl rfl)
theorem dX1_settle_173 : decode cX1_settle 173 = .ok (.aload_n 0, 1) := dk_42 (dk_at dksX1_settle_7 13 rfl rfl)
theorem dX1_settle_174 : decode cX1_settle 174 = .ok (.getfield 63, 3) := dk_180 0 63 (dk_at dksX1_settle_7 14 rfl rfl)
theorem dX1_settle_177 : decode cX1_settle 177 = .ok (.iconst 1, 1) := dk_4 (dk_at dksX1_settle_7 17 rfl rfl)
theorem dX1_settle_178 : decode cX1_settle 178 = .ok (.iadd, 1) := dk_96 (dk_at dksX1_settle_7 18 rfl rfl)
theorem dX1_settle_179 : decode cX1_settle 179 = .ok (.aload_n 1, 1) := dk_43 (dk_at dksX1_settle_7 19 rfl rfl)
theorem dX1_settle_180 : decode cX1_settle 180 = .ok (.getfield 322, 3) := dk_180 1 66 (dk_at dksX1_settle_7 20 rfl rfl)
theorem dX1_settle_183 : decode cX1_settle 183 = .ok (.if_icmp .ne 19, 3) := dk_160 0 19 (dk_at dksX1_settle_8 0 rfl rfl)
theorem dX1_settle_186 : decode cX1_settle 186 = .ok (.aload_n 0, 1) := dk_42 (dk_at dksX1_settle_8 3 rfl rfl)
theorem dX1_settle_187 : decode cX1_settle 187 = .ok (.aload_n 1, 1) := dk_43 (dk_at dksX1_settle_8 4 rfl rfl)
theorem dX1_settle_188 : decode cX1_settle 188 = .ok (.bipush 6, 2) := dk_16 6 (dk_at dksX1_settle_8 5 rfl rfl)
theorem dX1_settle_190 : decode cX1_settle 190 = .ok (.aload_n 1, 1) := dk_43 (dk_at dksX1_settle_8 7 rfl rfl)
theorem dX1_settle_191 : decode cX1_settle 191 = .ok (.invokevirtual 505, 3) := dk_182 1 249 (dk_at dksX1_settle_8 8 rfl rfl)
theorem dX1_settle_194 : decode cX1_settle 194 = .ok (.invokevirtual 501, 3) := dk_182 1 245 (dk_at dksX1_settle_8 11 rfl rfl)
theorem dX1_settle_197 : decode cX1_settle 197 = .ok (.lstore 8, 2) := dk_55 8 (dk_at dksX1_settle_8 14 rfl rfl)
theorem dX1_settle_199 : decode cX1_settle 199 = .ok (.goto 101, 3) := dk_167 0 101 (dk_at dksX1_settle_8 16 rfl rfl)
theorem dX1_settle_202 : decode cX1_settle 202 = .ok (.aload_n 1, 1) := dk_43 (dk_at dksX1_settle_8 19 rfl rfl)
theorem dX1_settle_203 : decode cX1_settle 203 = .ok (.getfield 154, 3) := dk_180 0 154 (dk_at dksX1_settle_8 20 rfl rfl)
theorem dX1_settle_206 : decode cX1_settle 206 = .ok (.aload_n 1, 1) := dk_43 (dk_at dksX1_settle_8 23 rfl rfl)
theorem dX1_settle_207 : decode cX1_settle 207 = .ok (.aload_n 0, 1) := dk_42 (dk_at dksX1_settle_9 0 rfl rfl)
theorem dX1_settle_208 : decode cX1_settle 208 = .ok (.getfield 63, 3) := dk_180 0 63 (dk_at dksX1_settle_9 1 rfl rfl)
theorem dX1_settle_211 : decode cX1_settle 211 = .ok (.iconst 1, 1) := dk_4 (dk_at dksX1_settle_9 4 rfl rfl)
theorem dX1_settle_212 : decode cX1_settle 212 = .ok (.iadd, 1) := dk_96 (dk_at dksX1_settle_9 5 rfl rfl)
theorem dX1_settle_213 : decode cX1_settle 213 = .ok (.invokevirtual 318, 3) := dk_182 1 62 (dk_at dksX1_settle_9 6 rfl rfl)
theorem dX1_settle_216 : decode cX1_settle 216 = .ok (.lcmp, 1) := dk_148 (dk_at dksX1_settle_9 9 rfl rfl)
theorem dX1_settle_217 : decode cX1_settle 217 = .ok (.ifCond .le 29, 3) := dk_158 0 29 (dk_at dksX1_settle_9 10 rfl rfl)
theorem dX1_settle_220 : decode cX1_settle 220 = .ok (.aload_n 0, 1) := dk_42 (dk_at dksX1_settle_9 13 rfl rfl)
theorem dX1_settle_221 : decode cX1_settle 221 = .ok (.aload_n 1, 1) := dk_43 (dk_at dksX1_settle_9 14 rfl rfl)
theorem dX1_settle_222 : decode cX1_settle 222 = .ok (.bipush 7, 2) := dk_16 7 (dk_at dksX1_settle_9 15 rfl rfl)
theorem dX1_settle_224 : decode cX1_settle 224 = .ok (.lconst 0, 1) := dk_9 (dk_at dksX1_settle_9 17 rfl rfl)
theorem dX1_settle_225 : decode cX1_settle 225 = .ok (.invokevirtual 501, 3) := dk_182 1 245 (dk_at dksX1_settle_9 18 rfl rfl)
theorem dX1_settle_228 : decode cX1_settle 228 = .ok (.lstore 8, 2) := dk_55 8 (dk_at dksX1_settle_9 21 rfl rfl)
theorem dX1_settle_230 : decode cX1_settle 230 = .ok (.aload_n 1, 1) := dk_43 (dk_at dksX1_settle_9 23 rfl rfl)
theorem dX1_settle_231 : decode cX1_settle 231 = .ok (.aload_n 0, 1) := dk_42 (dk_at dksX1_settle_10 0 rfl rfl)
theorem dX1_settle_232 : decode cX1_settle 232 = .ok (.getfield 63, 3) := dk_180 0 63 (dk_at dksX1_settle_10 1 rfl rfl)
theorem dX1_settle_235 : decode cX1_settle 235 = .ok (.iconst 1, 1) := dk_4 (dk_at dksX1_settle_10 4 rfl rfl)
theorem dX1_settle_236 : decode cX1_settle 236 = .ok (.iadd, 1) := dk_96 (dk_at dksX1_settle_10 5 rfl rfl)
theorem dX1_settle_237 : decode cX1_settle 237 = .ok (.putfield 367, 3) := dk_181 1 111 (dk_at dksX1_settle_10 6 rfl rfl)
theorem dX1_settle_240 : decode cX1_settle 240 = .ok (.iconst 4, 1) := dk_7 (dk_at dksX1_settle_10 9 rfl rfl)
theorem dX1_settle_241 : decode cX1_settle 241 = .ok (.istore 10, 2) := dk_54 10 (dk_at dksX1_settle_10 10 rfl rfl)
theorem dX1_settle_243 : decode cX1_settle 243 = .ok (.goto 57, 3) := dk_167 0 57 (dk_at dksX1_settle_10 12 rfl rfl)
theorem dX1_settle_246 : decode cX1_settle 246 = .ok (.aload_n 1, 1) := dk_43 (dk_at dksX1_settle_10 15 rfl rfl)
theorem dX1_settle_247 : decode cX1_settle 247 = .ok (.invokevirtual 364, 3) := dk_182 1 108 (dk_at dksX1_settle_10 16 rfl rfl)
theorem dX1_settle_250 : decode cX1_settle 250 = .ok (.ifCond .eq 16, 3) := dk_153 0 16 (dk_at dksX1_settle_10 19 rfl rfl)
theorem dX1_settle_253 : decode cX1_settle 253 = .ok (.aload_n 0, 1) := dk_42 (dk_at dksX1_settle_10 22 rfl rfl)
theorem dX1_settle_254 : decode cX1_settle 254 = .ok (.dup, 1) := dk_89 (dk_at dksX1_settle_10 23 rfl rfl)
theorem dX1_settle_255 : decode cX1_settle 255 = .ok (.getfield 67, 3) := dk_180 0 67 (dk_at dksX1_settle_11 0 rfl rfl)
theorem dX1_settle_258 : decode cX1_settle 258 = .ok (.aload_n 1, 1) := dk_43 (dk_at dksX1_settle_11 3 rfl rfl)
theorem dX1_settle_259 : decode cX1_settle 259 = .ok (.getfield 309, 3) := dk_180 1 53 (dk_at dksX1_settle_11 4 rfl rfl)
theorem dX1_settle_262 : decode cX1_settle 262 = .ok (.lsub, 1) := dk_101 (dk_at dksX1_settle_11 7 rfl rfl)
theorem dX1_settle_263 : decode cX1_settle 263 = .ok (.putfield 67, 3) := dk_181 0 67 (dk_at dksX1_settle_11 8 rfl rfl)
theorem dX1_settle_266 : decode cX1_settle 266 = .ok (.aload_n 1, 1) := dk_43 (dk_at dksX1_settle_11 11 rfl rfl)
theorem dX1_settle_267 : decode cX1_settle 267 = .ok (.aload_n 0, 1) := dk_42 (dk_at dksX1_settle_11 12 rfl rfl)
theorem dX1_settle_268 : decode cX1_settle 268 = .ok (.getfield 23, 3) := dk_180 0 23 (dk_at dksX1_settle_11 13 rfl rfl)
theorem dX1_settle_271 : decode cX1_settle 271 = .ok (.iconst 0, 1) := dk_3 (dk_at dksX1_settle_11 16 rfl rfl)
theorem dX1_settle_272 : decode cX1_settle 272 = .ok (.aaload, 1) := dk_50 (dk_at dksX1_settle_11 17 rfl rfl)
theorem dX1_settle_273 : decode cX1_settle 273 = .ok (.aload_n 0, 1) := dk_42 (dk_at dksX1_settle_11 18 rfl rfl)
theorem dX1_settle_274 : decode cX1_settle 274 = .ok (.getfield 63, 3) := dk_180 0 63 (dk_at dksX1_settle_11 19 rfl rfl)
theorem dX1_settle_277 : decode cX1_settle 277 = .ok (.iconst 1, 1) := dk_4 (dk_at dksX1_settle_11 22 rfl rfl)
theorem dX1_settle_278 : decode cX1_settle 278 = .ok (.iadd, 1) := dk_96 (dk_at dksX1_settle_11 23 rfl rfl)
theorem dX1_settle_279 : decode cX1_settle 279 = .ok (.invokevirtual 150, 3) := dk_182 0 150 (dk_at dksX1_settle_12 0 rfl rfl)
theorem dX1_settle_282 : decode cX1_settle 282 = .ok (.aload_n 1, 1) := dk_43 (dk_at dksX1_settle_12 3 rfl rfl)
theorem dX1_settle_283 : decode cX1_settle 283 = .ok (.invokevirtual 364, 3) := dk_182 1 108 (dk_at dksX1_settle_12 4 rfl rfl)
theorem dX1_settle_286 : decode cX1_settle 286 = .ok (.ifCond .eq 10, 3) := dk_153 0 10 (dk_at dksX1_settle_12 7 rfl rfl)
theorem dX1_settle_289 : decode cX1_settle 289 = .ok (.aload_n 1, 1) := dk_43 (dk_at dksX1_settle_12 10 rfl rfl)
theorem dX1_settle_290 : decode cX1_settle 290 = .ok (.getfield 309, 3) := dk_180 1 53 (dk_at dksX1_settle_12 11 rfl rfl)
theorem dX1_settle_293 : decode cX1_settle 293 = .ok (.goto 4, 3) := dk_167 0 4 (dk_at dksX1_settle_12 14 rfl rfl)
theorem dX1_settle_296 : decode cX1_settle 296 = .ok (.lconst 0, 1) := dk_9 (dk_at dksX1_settle_12 17 rfl rfl)
theorem dX1_settle_297 : decode cX1_settle 297 = .ok (.ladd, 1) := dk_97 (dk_at dksX1_settle_12 18 rfl rfl)
theorem dX1_settle_298 : decode cX1_settle 298 = .ok (.lstore 8, 2) := dk_55 8 (dk_at dksX1_settle_12 19 rfl rfl)
theorem dX1_settle_300 : decode cX1_settle 300 = .ok (.aload_n 0, 1) := dk_42 (dk_at dksX1_settle_12 21 rfl rfl)
theorem dX1_settle_301 : decode cX1_settle 301 = .ok (.getfield 51, 3) := dk_180 0 51 (dk_at dksX1_settle_13 0 rfl rfl)
theorem dX1_settle_304 : decode cX1_settle 304 = .ok (.iconst 1, 1) := dk_4 (dk_at dksX1_settle_13 3 rfl rfl)
theorem dX1_settle_305 : decode cX1_settle 305 = .ok (.invokestatic 187, 3) := dk_184 0 187 (dk_at dksX1_settle_13 4 rfl rfl)
theorem dX1_settle_308 : decode cX1_settle 308 = .ok (.lload 6, 2) := dk_22 6 (dk_at dksX1_settle_13 7 rfl rfl)
theorem dX1_settle_310 : decode cX1_settle 310 = .ok (.lneg, 1) := dk_117 (dk_at dksX1_settle_13 9 rfl rfl)
theorem dX1_settle_311 : decode cX1_settle 311 = .ok (.invokevirtual 193, 3) := dk_182 0 193 (dk_at dksX1_settle_13 10 rfl rfl)
theorem dX1_settle_314 : decode cX1_settle 314 = .ok (.aload_n 0, 1) := dk_42 (dk_at dksX1_settle_13 13 rfl rfl)
theorem dX1_settle_315 : decode cX1_settle 315 = .ok (.getfield 51, 3) := dk_180 0 51 (dk_at dksX1_settle_13 14 rfl rfl)
theorem dX1_settle_318 : decode cX1_settle 318 = .ok (.iload 10, 2) := dk_21 10 (dk_at dksX1_settle_13 17 rfl rfl)
theorem dX1_settle_320 : decode cX1_settle 320 = .ok (.invokestatic 187, 3) := dk_184 0 187 (dk_at dksX1_settle_13 19 rfl rfl)
theorem dX1_settle_323 : decode cX1_settle 323 = .ok (.lload_n 2, 1) := dk_32 (dk_at dksX1_settle_13 22 rfl rfl)
theorem dX1_settle_324 : decode cX1_settle 324 = .ok (.lload 4, 2) := dk_22 4 (dk_at dksX1_settle_14 0 rfl rfl)
theorem dX1_settle_326 : decode cX1_settle 326 = .ok (.ladd, 1) := dk_97 (dk_at dksX1_settle_14 2 rfl rfl)
theorem dX1_settle_327 : decode cX1_settle 327 = .ok (.lload 6, 2) := dk_22 6 (dk_at dksX1_settle_14 3 rfl rfl)
theorem dX1_settle_329 : decode cX1_settle 329 = .ok (.ladd, 1) := dk_97 (dk_at dksX1_settle_14 5 rfl rfl)
theorem dX1_settle_330 : decode cX1_settle 330 = .ok (.lload 8, 2) := dk_22 8 (dk_at dksX1_settle_14 6 rfl rfl)
theorem dX1_settle_332 : decode cX1_settle 332 = .ok (.lsub, 1) := dk_101 (dk_at dksX1_settle_14 8 rfl rfl)
theorem dX1_settle_333 : decode cX1_settle 333 = .ok (.invokevirtual 193, 3) := dk_182 0 193 (dk_at dksX1_settle_14 9 rfl rfl)
theorem dX1_settle_336 : decode cX1_settle 336 = .ok (.return_, 1) := dk_177 (dk_at dksX1_settle_14 12 rfl rfl)
abbrev cX1_pay : ByteArray := prog_1_method_56_code
def yX1_pay : MethodName := ⟨RX1, "pay", "(LLifeoffice$Policy;IJ)J"⟩
def dkwX1_pay_2 : List UInt8 := [97, 181, 1, 242, 43, 9, 181, 0, 154, 43, 28, 181, 1, 50, 22, 5, 173]
abbrev dktX1_pay_2 : List UInt8 := dkwX1_pay_2 ++ []
def dkwX1_pay_1 : List UInt8 := [184, 1, 84, 101, 181, 0, 67, 43, 182, 1, 108, 154, 0, 17, 42, 43, 182, 1, 37, 89, 180, 1, 242, 33]
abbrev dktX1_pay_1 : List UInt8 := dkwX1_pay_1 ++ dktX1_pay_2
def dkwX1_pay_0 : List UInt8 := [33, 43, 180, 0, 154, 184, 1, 84, 55, 5, 42, 89, 180, 0, 67, 9, 33, 43, 180, 0, 154, 101]
abbrev dktX1_pay_0 : List UInt8 := dkwX1_pay_0 ++ dktX1_pay_1
theorem dksX1_pay_0 : cX1_pay.data.toList.drop 0 = dktX1_pay_0 := by decide +kernel
theorem dksX1_pay_1 : cX1_pay.data.toList.drop 22 = dktX1_pay_1 := dk_seg dksX1_pay_0 22 rfl rfl
theorem dksX1_pay_2 : cX1_pay.data.toList.drop 46 = dktX1_pay_2 := dk_seg dksX1_pay_1 24 rfl rfl
theorem dX1_pay_0 : decode cX1_pay 0 = .ok (.lload_n 3, 1) := dk_33 (dk_at dksX1_pay_0 0 rfl rfl)
theorem dX1_pay_1 : decode cX1_pay 1 = .ok (.aload_n 1, 1) := dk_43 (dk_at dksX1_pay_0 1 rfl rfl)
theorem dX1_pay_2 : decode cX1_pay 2 = .ok (.getfield 154, 3) := dk_180 0 154 (dk_at dksX1_pay_0 2 rfl rfl)
theorem dX1_pay_5 : decode cX1_pay 5 = .ok (.invokestatic 340, 3) := dk_184 1 84 (dk_at dksX1_pay_0 5 rfl rfl)
theorem dX1_pay_8 : decode cX1_pay 8 = .ok (.lstore 5, 2) := dk_55 5 (dk_at dksX1_pay_0 8 rfl rfl)
theorem dX1_pay_10 : decode cX1_pay 10 = .ok (.aload_n 0, 1) := dk_42 (dk_at dksX1_pay_0 10 rfl rfl)
theorem dX1_pay_11 : decode cX1_pay 11 = .ok (.dup, 1) := dk_89 (dk_at dksX1_pay_0 11 rfl rfl)
theorem dX1_pay_12 : decode cX1_pay 12 = .ok (.getfield 67, 3) := dk_180 0 67 (dk_at dksX1_pay_0 12 rfl rfl)
theorem dX1_pay_15 : decode cX1_pay 15 = .ok (.lconst 0, 1) := dk_9 (dk_at dksX1_pay_0 15 rfl rfl)
theorem dX1_pay_16 : decode cX1_pay 16 = .ok (.lload_n 3, 1) := dk_33 (dk_at dksX1_pay_0 16 rfl rfl)
theorem dX1_pay_17 : decode cX1_pay 17 = .ok (.aload_n 1, 1) := dk_43 (dk_at dksX1_pay_0 17 rfl rfl)
theorem dX1_pay_18 : decode cX1_pay 18 = .ok (.getfield 154, 3) := dk_180 0 154 (dk_at dksX1_pay_0 18 rfl rfl)
theorem dX1_pay_21 : decode cX1_pay 21 = .ok (.lsub, 1) := dk_101 (dk_at dksX1_pay_0 21 rfl rfl)
theorem dX1_pay_22 : decode cX1_pay 22 = .ok (.invokestatic 340, 3) := dk_184 1 84 (dk_at dksX1_pay_1 0 rfl rfl)
theorem dX1_pay_25 : decode cX1_pay 25 = .ok (.lsub, 1) := dk_101 (dk_at dksX1_pay_1 3 rfl rfl)
theorem dX1_pay_26 : decode cX1_pay 26 = .ok (.putfield 67, 3) := dk_181 0 67 (dk_at dksX1_pay_1 4 rfl rfl)
theorem dX1_pay_29 : decode cX1_pay 29 = .ok (.aload_n 1, 1) := dk_43 (dk_at dksX1_pay_1 7 rfl rfl)
theorem dX1_pay_30 : decode cX1_pay 30 = .ok (.invokevirtual 364, 3) := dk_182 1 108 (dk_at dksX1_pay_1 8 rfl rfl)
theorem dX1_pay_33 : decode cX1_pay 33 = .ok (.ifCond .ne 17, 3) := dk_154 0 17 (dk_at dksX1_pay_1 11 rfl rfl)
theorem dX1_pay_36 : decode cX1_pay 36 = .ok (.aload_n 0, 1) := dk_42 (dk_at dksX1_pay_1 14 rfl rfl)
theorem dX1_pay_37 : decode cX1_pay 37 = .ok (.aload_n 1, 1) := dk_43 (dk_at dksX1_pay_1 15 rfl rfl)
theorem dX1_pay_38 : decode cX1_pay 38 = .ok (.invokevirtual 293, 3) := dk_182 1 37 (dk_at dksX1_pay_1 16 rfl rfl)
theorem dX1_pay_41 : decode cX1_pay 41 = .ok (.dup, 1) := dk_89 (dk_at dksX1_pay_1 19 rfl rfl)
theorem dX1_pay_42 : decode cX1_pay 42 = .ok (.getfield 498, 3) := dk_180 1 242 (dk_at dksX1_pay_1 20 rfl rfl)
theorem dX1_pay_45 : decode cX1_pay 45 = .ok (.lload_n 3, 1) := dk_33 (dk_at dksX1_pay_1 23 rfl rfl)
theorem dX1_pay_46 : decode cX1_pay 46 = .ok (.ladd, 1) := dk_97 (dk_at dksX1_pay_2 0 rfl rfl)
theorem dX1_pay_47 : decode cX1_pay 47 = .ok (.putfield 498, 3) := dk_181 1 242 (dk_at dksX1_pay_2 1 rfl rfl)
theorem dX1_pay_50 : decode cX1_pay 50 = .ok (.aload_n 1, 1) := dk_43 (dk_at dksX1_pay_2 4 rfl rfl)
theorem dX1_pay_51 : decode cX1_pay 51 = .ok (.lconst 0, 1) := dk_9 (dk_at dksX1_pay_2 5 rfl rfl)
theorem dX1_pay_52 : decode cX1_pay 52 = .ok (.putfield 154, 3) := dk_181 0 154 (dk_at dksX1_pay_2 6 rfl rfl)
theorem dX1_pay_55 : decode cX1_pay 55 = .ok (.aload_n 1, 1) := dk_43 (dk_at dksX1_pay_2 9 rfl rfl)
theorem dX1_pay_56 : decode cX1_pay 56 = .ok (.iload_n 2, 1) := dk_28 (dk_at dksX1_pay_2 10 rfl rfl)
theorem dX1_pay_57 : decode cX1_pay 57 = .ok (.putfield 306, 3) := dk_181 1 50 (dk_at dksX1_pay_2 11 rfl rfl)
theorem dX1_pay_60 : decode cX1_pay 60 = .ok (.lload 5, 2) := dk_22 5 (dk_at dksX1_pay_2 14 rfl rfl)
theorem dX1_pay_62 : decode cX1_pay 62 = .ok (.lreturn, 1) := dk_173 (dk_at dksX1_pay_2 16 rfl rfl)
abbrev cX1_surplus : ByteArray := prog_1_method_59_code
def yX1_surplus : MethodName := ⟨RX1, "surplus", "(I)J"⟩
def dkwX1_surplus_0 : List UInt8 := [27, 133, 9, 20, 2, 12, 184, 0, 201, 42, 180, 0, 55, 27, 184, 0, 187, 182, 2, 14, 173]
abbrev dktX1_surplus_0 : List UInt8 := dkwX1_surplus_0 ++ []
theorem dksX1_surplus_0 : cX1_surplus.data.toList.drop 0 = dktX1_surplus_0 := by decide +kernel
theorem dX1_surplus_0 : decode cX1_surplus 0 = .ok (.iload_n 1, 1) := dk_27 (dk_at dksX1_surplus_0 0 rfl rfl)
theorem dX1_surplus_1 : decode cX1_surplus 1 = .ok (.i2l, 1) := dk_133 (dk_at dksX1_surplus_0 1 rfl rfl)
theorem dX1_surplus_2 : decode cX1_surplus 2 = .ok (.lconst 0, 1) := dk_9 (dk_at dksX1_surplus_0 2 rfl rfl)
theorem dX1_surplus_3 : decode cX1_surplus 3 = .ok (.ldc2_w 524, 3) := dk_20 2 12 (dk_at dksX1_surplus_0 3 rfl rfl)
theorem dX1_surplus_6 : decode cX1_surplus 6 = .ok (.invokestatic 201, 3) := dk_184 0 201 (dk_at dksX1_surplus_0 6 rfl rfl)
theorem dX1_surplus_9 : decode cX1_surplus 9 = .ok (.aload_n 0, 1) := dk_42 (dk_at dksX1_surplus_0 9 rfl rfl)
theorem dX1_surplus_10 : decode cX1_surplus 10 = .ok (.getfield 55, 3) := dk_180 0 55 (dk_at dksX1_surplus_0 10 rfl rfl)
theorem dX1_surplus_13 : decode cX1_surplus 13 = .ok (.iload_n 1, 1) := dk_27 (dk_at dksX1_surplus_0 13 rfl rfl)
theorem dX1_surplus_14 : decode cX1_surplus 14 = .ok (.invokestatic 187, 3) := dk_184 0 187 (dk_at dksX1_surplus_0 14 rfl rfl)
theorem dX1_surplus_17 : decode cX1_surplus 17 = .ok (.invokevirtual 526, 3) := dk_182 2 14 (dk_at dksX1_surplus_0 17 rfl rfl)
theorem dX1_surplus_20 : decode cX1_surplus 20 = .ok (.lreturn, 1) := dk_173 (dk_at dksX1_surplus_0 20 rfl rfl)
abbrev cX1_experience : ByteArray := prog_1_method_63_code
def yX1_experience : MethodName := ⟨RX1, "experience", "(I)J"⟩
def dkwX1_experience_3 : List UInt8 := [182, 2, 21, 167, 0, 7, 42, 182, 2, 24, 173]
abbrev dktX1_experience_3 : List UInt8 := dkwX1_experience_3 ++ []
def dkwX1_experience_2 : List UInt8 := [42, 180, 0, 115, 167, 0, 28, 42, 180, 0, 118, 167, 0, 21, 42, 182, 2, 18, 167, 0, 14, 42]
abbrev dktX1_experience_2 : List UInt8 := dkwX1_experience_2 ++ dktX1_experience_3
def dkwX1_experience_1 : List UInt8 := [170, 0, 0, 0, 0, 58, 0, 0, 0, 0, 0, 0, 0, 3, 0, 0, 0, 30, 0, 0, 0, 37, 0, 0, 0, 44, 0, 0, 0, 51]
abbrev dktX1_experience_1 : List UInt8 := dkwX1_experience_1 ++ dktX1_experience_2
def dkwX1_experience_0 : List UInt8 := [27, 133, 9, 20, 0, 244, 184, 0, 201, 27]
abbrev dktX1_experience_0 : List UInt8 := dkwX1_experience_0 ++ dktX1_experience_1
theorem dksX1_experience_0 : cX1_experience.data.toList.drop 0 = dktX1_experience_0 := by decide +kernel
theorem dksX1_experience_1 : cX1_experience.data.toList.drop 10 = dktX1_experience_1 := dk_seg dksX1_experience_0 10 rfl rfl
theorem dksX1_experience_2 : cX1_experience.data.toList.drop 40 = dktX1_experience_2 := dk_seg dksX1_experience_1 30 rfl rfl
theorem dksX1_experience_3 : cX1_experience.data.toList.drop 62 = dktX1_experience_3 := dk_seg dksX1_experience_2 22 rfl rfl
theorem dX1_experience_0 : decode cX1_experience 0 = .ok (.iload_n 1, 1) := dk_27 (dk_at dksX1_experience_0 0 rfl rfl)
theorem dX1_experience_1 : decode cX1_experience 1 = .ok (.i2l, 1) := dk_133 (dk_at dksX1_experience_0 1 rfl rfl)
theorem dX1_experience_2 : decode cX1_experience 2 = .ok (.lconst 0, 1) := dk_9 (dk_at dksX1_experience_0 2 rfl rfl)
theorem dX1_experience_3 : decode cX1_experience 3 = .ok (.ldc2_w 244, 3) := dk_20 0 244 (dk_at dksX1_experience_0 3 rfl rfl)
theorem dX1_experience_6 : decode cX1_experience 6 = .ok (.invokestatic 201, 3) := dk_184 0 201 (dk_at dksX1_experience_0 6 rfl rfl)
theorem dX1_experience_9 : decode cX1_experience 9 = .ok (.iload_n 1, 1) := dk_27 (dk_at dksX1_experience_0 9 rfl rfl)
theorem dX1_experience_10 : decode cX1_experience 10 = .ok (.tableswitch 58 0 3 #[30, 37, 44, 51], 30) := by decide +kernel
theorem dX1_experience_40 : decode cX1_experience 40 = .ok (.aload_n 0, 1) := dk_42 (dk_at dksX1_experience_2 0 rfl rfl)
theorem dX1_experience_41 : decode cX1_experience 41 = .ok (.getfield 115, 3) := dk_180 0 115 (dk_at dksX1_experience_2 1 rfl rfl)
theorem dX1_experience_44 : decode cX1_experience 44 = .ok (.goto 28, 3) := dk_167 0 28 (dk_at dksX1_experience_2 4 rfl rfl)
theorem dX1_experience_47 : decode cX1_experience 47 = .ok (.aload_n 0, 1) := dk_42 (dk_at dksX1_experience_2 7 rfl rfl)
theorem dX1_experience_48 : decode cX1_experience 48 = .ok (.getfield 118, 3) := dk_180 0 118 (dk_at dksX1_experience_2 8 rfl rfl)
theorem dX1_experience_51 : decode cX1_experience 51 = .ok (.goto 21, 3) := dk_167 0 21 (dk_at dksX1_experience_2 11 rfl rfl)
theorem dX1_experience_54 : decode cX1_experience 54 = .ok (.aload_n 0, 1) := dk_42 (dk_at dksX1_experience_2 14 rfl rfl)
theorem dX1_experience_55 : decode cX1_experience 55 = .ok (.invokevirtual 530, 3) := dk_182 2 18 (dk_at dksX1_experience_2 15 rfl rfl)
theorem dX1_experience_58 : decode cX1_experience 58 = .ok (.goto 14, 3) := dk_167 0 14 (dk_at dksX1_experience_2 18 rfl rfl)
theorem dX1_experience_61 : decode cX1_experience 61 = .ok (.aload_n 0, 1) := dk_42 (dk_at dksX1_experience_2 21 rfl rfl)
theorem dX1_experience_62 : decode cX1_experience 62 = .ok (.invokevirtual 533, 3) := dk_182 2 21 (dk_at dksX1_experience_3 0 rfl rfl)
theorem dX1_experience_65 : decode cX1_experience 65 = .ok (.goto 7, 3) := dk_167 0 7 (dk_at dksX1_experience_3 3 rfl rfl)
theorem dX1_experience_68 : decode cX1_experience 68 = .ok (.aload_n 0, 1) := dk_42 (dk_at dksX1_experience_3 6 rfl rfl)
theorem dX1_experience_69 : decode cX1_experience 69 = .ok (.invokevirtual 536, 3) := dk_182 2 24 (dk_at dksX1_experience_3 7 rfl rfl)
theorem dX1_experience_72 : decode cX1_experience 72 = .ok (.lreturn, 1) := dk_173 (dk_at dksX1_experience_3 10 rfl rfl)
abbrev cX1_expectedPayments : ByteArray := prog_1_method_67_code
def yX1_expectedPayments : MethodName := ⟨RX1, "expectedPayments", "(I)J"⟩
def dkwX1_expectedPayments_0 : List UInt8 := [27, 133, 9, 20, 2, 30, 184, 0, 201, 42, 27, 182, 2, 32, 173]
abbrev dktX1_expectedPayments_0 : List UInt8 := dkwX1_expectedPayments_0 ++ []
theorem dksX1_expectedPayments_0 : cX1_expectedPayments.data.toList.drop 0 = dktX1_expectedPayments_0 := by decide +kernel
theorem dX1_expectedPayments_0 : decode cX1_expectedPayments 0 = .ok (.iload_n 1, 1) := dk_27 (dk_at dksX1_expectedPayments_0 0 rfl rfl)
theorem dX1_expectedPayments_1 : decode cX1_expectedPayments 1 = .ok (.i2l, 1) := dk_133 (dk_at dksX1_expectedPayments_0 1 rfl rfl)
theorem dX1_expectedPayments_2 : decode cX1_expectedPayments 2 = .ok (.lconst 0, 1) := dk_9 (dk_at dksX1_expectedPayments_0 2 rfl rfl)
theorem dX1_expectedPayments_3 : decode cX1_expectedPayments 3 = .ok (.ldc2_w 542, 3) := dk_20 2 30 (dk_at dksX1_expectedPayments_0 3 rfl rfl)
theorem dX1_expectedPayments_6 : decode cX1_expectedPayments 6 = .ok (.invokestatic 201, 3) := dk_184 0 201 (dk_at dksX1_expectedPayments_0 6 rfl rfl)
theorem dX1_expectedPayments_9 : decode cX1_expectedPayments 9 = .ok (.aload_n 0, 1) := dk_42 (dk_at dksX1_expectedPayments_0 9 rfl rfl)
theorem dX1_expectedPayments_10 : decode cX1_expectedPayments 10 = .ok (.iload_n 1, 1) := dk_27 (dk_at dksX1_expectedPayments_0 10 rfl rfl)
theorem dX1_expectedPayments_11 : decode cX1_expectedPayments 11 = .ok (.invokevirtual 544, 3) := dk_182 2 32 (dk_at dksX1_expectedPayments_0 11 rfl rfl)
theorem dX1_expectedPayments_14 : decode cX1_expectedPayments 14 = .ok (.lreturn, 1) := dk_173 (dk_at dksX1_expectedPayments_0 14 rfl rfl)
abbrev cX1_bondPayments : ByteArray := prog_1_method_69_code
def yX1_bondPayments : MethodName := ⟨RX1, "bondPayments", "(I)J"⟩
def dkwX1_bondPayments_0 : List UInt8 := [27, 133, 9, 20, 2, 30, 184, 0, 201, 42, 27, 182, 2, 35, 173]
abbrev dktX1_bondPayments_0 : List UInt8 := dkwX1_bondPayments_0 ++ []
theorem dksX1_bondPayments_0 : cX1_bondPayments.data.toList.drop 0 = dktX1_bondPayments_0 := by decide +kernel
theorem dX1_bondPayments_0 : decode cX1_bondPayments 0 = .ok (.iload_n 1, 1) := dk_27 (dk_at dksX1_bondPayments_0 0 rfl rfl)
theorem dX1_bondPayments_1 : decode cX1_bondPayments 1 = .ok (.i2l, 1) := dk_133 (dk_at dksX1_bondPayments_0 1 rfl rfl)
theorem dX1_bondPayments_2 : decode cX1_bondPayments 2 = .ok (.lconst 0, 1) := dk_9 (dk_at dksX1_bondPayments_0 2 rfl rfl)
theorem dX1_bondPayments_3 : decode cX1_bondPayments 3 = .ok (.ldc2_w 542, 3) := dk_20 2 30 (dk_at dksX1_bondPayments_0 3 rfl rfl)
theorem dX1_bondPayments_6 : decode cX1_bondPayments 6 = .ok (.invokestatic 201, 3) := dk_184 0 201 (dk_at dksX1_bondPayments_0 6 rfl rfl)
theorem dX1_bondPayments_9 : decode cX1_bondPayments 9 = .ok (.aload_n 0, 1) := dk_42 (dk_at dksX1_bondPayments_0 9 rfl rfl)
theorem dX1_bondPayments_10 : decode cX1_bondPayments 10 = .ok (.iload_n 1, 1) := dk_27 (dk_at dksX1_bondPayments_0 10 rfl rfl)
theorem dX1_bondPayments_11 : decode cX1_bondPayments 11 = .ok (.invokevirtual 547, 3) := dk_182 2 35 (dk_at dksX1_bondPayments_0 11 rfl rfl)
theorem dX1_bondPayments_14 : decode cX1_bondPayments 14 = .ok (.lreturn, 1) := dk_173 (dk_at dksX1_bondPayments_0 14 rfl rfl)
abbrev cX1_close : ByteArray := prog_1_method_71_code
def yX1_close : MethodName := ⟨RX1, "close", "()I"⟩
def dkwX1_close_2 : List UInt8 := [182, 1, 154, 153, 0, 6, 132, 1, 1, 132, 2, 1, 167, 255, 222, 27, 172]
abbrev dktX1_close_2 : List UInt8 := dkwX1_close_2 ++ []
def dkwX1_close_1 : List UInt8 := [28, 42, 180, 0, 30, 182, 0, 137, 162, 0, 29, 42, 180, 0, 30, 28, 182, 0, 144, 192, 0, 148]
abbrev dktX1_close_1 : List UInt8 := dkwX1_close_1 ++ dktX1_close_2
def dkwX1_close_0 : List UInt8 := [42, 180, 0, 121, 154, 0, 7, 4, 167, 0, 4, 3, 184, 1, 30, 42, 4, 181, 0, 121, 3, 60, 3, 61]
abbrev dktX1_close_0 : List UInt8 := dkwX1_close_0 ++ dktX1_close_1
theorem dksX1_close_0 : cX1_close.data.toList.drop 0 = dktX1_close_0 := by decide +kernel
theorem dksX1_close_1 : cX1_close.data.toList.drop 24 = dktX1_close_1 := dk_seg dksX1_close_0 24 rfl rfl
theorem dksX1_close_2 : cX1_close.data.toList.drop 46 = dktX1_close_2 := dk_seg dksX1_close_1 22 rfl rfl
theorem dX1_close_0 : decode cX1_close 0 = .ok (.aload_n 0, 1) := dk_42 (dk_at dksX1_close_0 0 rfl rfl)
theorem dX1_close_1 : decode cX1_close 1 = .ok (.getfield 121, 3) := dk_180 0 121 (dk_at dksX1_close_0 1 rfl rfl)
theorem dX1_close_4 : decode cX1_close 4 = .ok (.ifCond .ne 7, 3) := dk_154 0 7 (dk_at dksX1_close_0 4 rfl rfl)
theorem dX1_close_7 : decode cX1_close 7 = .ok (.iconst 1, 1) := dk_4 (dk_at dksX1_close_0 7 rfl rfl)
theorem dX1_close_8 : decode cX1_close 8 = .ok (.goto 4, 3) := dk_167 0 4 (dk_at dksX1_close_0 8 rfl rfl)
theorem dX1_close_11 : decode cX1_close 11 = .ok (.iconst 0, 1) := dk_3 (dk_at dksX1_close_0 11 rfl rfl)
theorem dX1_close_12 : decode cX1_close 12 = .ok (.invokestatic 286, 3) := dk_184 1 30 (dk_at dksX1_close_0 12 rfl rfl)
theorem dX1_close_15 : decode cX1_close 15 = .ok (.aload_n 0, 1) := dk_42 (dk_at dksX1_close_0 15 rfl rfl)
theorem dX1_close_16 : decode cX1_close 16 = .ok (.iconst 1, 1) := dk_4 (dk_at dksX1_close_0 16 rfl rfl)
theorem dX1_close_17 : decode cX1_close 17 = .ok (.putfield 121, 3) := dk_181 0 121 (dk_at dksX1_close_0 17 rfl rfl)
theorem dX1_close_20 : decode cX1_close 20 = .ok (.iconst 0, 1) := dk_3 (dk_at dksX1_close_0 20 rfl rfl)
theorem dX1_close_21 : decode cX1_close 21 = .ok (.istore_n 1, 1) := dk_60 (dk_at dksX1_close_0 21 rfl rfl)
theorem dX1_close_22 : decode cX1_close 22 = .ok (.iconst 0, 1) := dk_3 (dk_at dksX1_close_0 22 rfl rfl)
theorem dX1_close_23 : decode cX1_close 23 = .ok (.istore_n 2, 1) := dk_61 (dk_at dksX1_close_0 23 rfl rfl)
theorem dX1_close_24 : decode cX1_close 24 = .ok (.iload_n 2, 1) := dk_28 (dk_at dksX1_close_1 0 rfl rfl)
theorem dX1_close_25 : decode cX1_close 25 = .ok (.aload_n 0, 1) := dk_42 (dk_at dksX1_close_1 1 rfl rfl)
theorem dX1_close_26 : decode cX1_close 26 = .ok (.getfield 30, 3) := dk_180 0 30 (dk_at dksX1_close_1 2 rfl rfl)
theorem dX1_close_29 : decode cX1_close 29 = .ok (.invokevirtual 137, 3) := dk_182 0 137 (dk_at dksX1_close_1 5 rfl rfl)
theorem dX1_close_32 : decode cX1_close 32 = .ok (.if_icmp .ge 29, 3) := dk_162 0 29 (dk_at dksX1_close_1 8 rfl rfl)
theorem dX1_close_35 : decode cX1_close 35 = .ok (.aload_n 0, 1) := dk_42 (dk_at dksX1_close_1 11 rfl rfl)
theorem dX1_close_36 : decode cX1_close 36 = .ok (.getfield 30, 3) := dk_180 0 30 (dk_at dksX1_close_1 12 rfl rfl)
theorem dX1_close_39 : decode cX1_close 39 = .ok (.iload_n 2, 1) := dk_28 (dk_at dksX1_close_1 15 rfl rfl)
theorem dX1_close_40 : decode cX1_close 40 = .ok (.invokevirtual 144, 3) := dk_182 0 144 (dk_at dksX1_close_1 16 rfl rfl)
theorem dX1_close_43 : decode cX1_close 43 = .ok (.checkcast 148, 3) := dk_192 0 148 (dk_at dksX1_close_1 19 rfl rfl)
theorem dX1_close_46 : decode cX1_close 46 = .ok (.invokevirtual 410, 3) := dk_182 1 154 (dk_at dksX1_close_2 0 rfl rfl)
theorem dX1_close_49 : decode cX1_close 49 = .ok (.ifCond .eq 6, 3) := dk_153 0 6 (dk_at dksX1_close_2 3 rfl rfl)
theorem dX1_close_52 : decode cX1_close 52 = .ok (.iinc 1 1, 3) := dk_132 1 1 (dk_at dksX1_close_2 6 rfl rfl)
theorem dX1_close_55 : decode cX1_close 55 = .ok (.iinc 2 1, 3) := dk_132 2 1 (dk_at dksX1_close_2 9 rfl rfl)
theorem dX1_close_58 : decode cX1_close 58 = .ok (.goto (-34), 3) := dk_167 255 222 (dk_at dksX1_close_2 12 rfl rfl)
theorem dX1_close_61 : decode cX1_close 61 = .ok (.iload_n 1, 1) := dk_27 (dk_at dksX1_close_2 15 rfl rfl)
theorem dX1_close_62 : decode cX1_close 62 = .ok (.ireturn, 1) := dk_172 (dk_at dksX1_close_2 16 rfl rfl)
abbrev cX1_distribute : ByteArray := prog_1_method_73_code
def yX1_distribute : MethodName := ⟨RX1, "distribute", "(I)J"⟩
def dkwX1_distribute_8 : List UInt8 := [97, 55, 4, 132, 6, 1, 167, 255, 170, 22, 4, 173]
abbrev dktX1_distribute_8 : List UInt8 := dkwX1_distribute_8 ++ []
def dkwX1_distribute_7 : List UInt8 := [184, 0, 9, 184, 1, 232, 55, 8, 25, 7, 89, 180, 1, 59, 22, 8, 97, 181, 1, 59, 22, 4, 22, 8]
abbrev dktX1_distribute_7 : List UInt8 := dkwX1_distribute_7 ++ dktX1_distribute_8
def dkwX1_distribute_6 : List UInt8 := [154, 0, 6, 167, 0, 48, 20, 0, 205, 25, 7, 180, 1, 59, 101, 27, 133, 25, 7, 180, 1, 59, 105, 32]
abbrev dktX1_distribute_6 : List UInt8 := dkwX1_distribute_6 ++ dktX1_distribute_7
def dkwX1_distribute_5 : List UInt8 := [162, 0, 80, 42, 180, 0, 30, 21, 6, 182, 0, 144, 192, 0, 148, 58, 7, 42, 25, 7, 182, 2, 38]
abbrev dktX1_distribute_5 : List UInt8 := dkwX1_distribute_5 ++ dktX1_distribute_6
def dkwX1_distribute_4 : List UInt8 := [167, 0, 4, 3, 184, 1, 30, 9, 55, 4, 3, 54, 6, 21, 6, 42, 180, 0, 30, 182, 0, 137]
abbrev dktX1_distribute_4 : List UInt8 := dkwX1_distribute_4 ++ dktX1_distribute_5
def dkwX1_distribute_3 : List UInt8 := [180, 0, 121, 153, 0, 23, 27, 133, 42, 182, 0, 246, 148, 157, 0, 13, 32, 9, 148, 158, 0, 7, 4]
abbrev dktX1_distribute_3 : List UInt8 := dkwX1_distribute_3 ++ dktX1_distribute_4
def dkwX1_distribute_2 : List UInt8 := [180, 0, 30, 21, 4, 182, 0, 144, 192, 0, 148, 180, 1, 59, 97, 65, 132, 4, 1, 167, 255, 204, 42]
abbrev dktX1_distribute_2 : List UInt8 := dkwX1_distribute_2 ++ dktX1_distribute_3
def dkwX1_distribute_1 : List UInt8 := [162, 0, 46, 42, 42, 180, 0, 30, 21, 4, 182, 0, 144, 192, 0, 148, 182, 2, 38, 153, 0, 21, 32, 42]
abbrev dktX1_distribute_1 : List UInt8 := dkwX1_distribute_1 ++ dktX1_distribute_2
def dkwX1_distribute_0 : List UInt8 := [27, 133, 10, 20, 0, 205, 184, 0, 201, 9, 65, 3, 54, 4, 21, 4, 42, 180, 0, 30, 182, 0, 137]
abbrev dktX1_distribute_0 : List UInt8 := dkwX1_distribute_0 ++ dktX1_distribute_1
theorem dksX1_distribute_0 : cX1_distribute.data.toList.drop 0 = dktX1_distribute_0 := by decide +kernel
theorem dksX1_distribute_1 : cX1_distribute.data.toList.drop 23 = dktX1_distribute_1 := dk_seg dksX1_distribute_0 23 rfl rfl
theorem dksX1_distribute_2 : cX1_distribute.data.toList.drop 47 = dktX1_distribute_2 := dk_seg dksX1_distribute_1 24 rfl rfl
theorem dksX1_distribute_3 : cX1_distribute.data.toList.drop 70 = dktX1_distribute_3 := dk_seg dksX1_distribute_2 23 rfl rfl
theorem dksX1_distribute_4 : cX1_distribute.data.toList.drop 93 = dktX1_distribute_4 := dk_seg dksX1_distribute_3 23 rfl rfl
theorem dksX1_distribute_5 : cX1_distribute.data.toList.drop 115 = dktX1_distribute_5 := dk_seg dksX1_distribute_4 22 rfl rfl
theorem dksX1_distribute_6 : cX1_distribute.data.toList.drop 138 = dktX1_distribute_6 := dk_seg dksX1_distribute_5 23 rfl rfl
theorem dksX1_distribute_7 : cX1_distribute.data.toList.drop 162 = dktX1_distribute_7 := dk_seg dksX1_distribute_6 24 rfl rfl
theorem dksX1_distribute_8 : cX1_distribute.data.toList.drop 186 = dktX1_distribute_8 := dk_seg dksX1_distribute_7 24 rfl rfl
theorem dX1_distribute_0 : decode cX1_distribute 0 = .ok (.iload_n 1, 1) := dk_27 (dk_at dksX1_distribute_0 0 rfl rfl)
theorem dX1_distribute_1 : decode cX1_distribute 1 = .ok (.i2l, 1) := dk_133 (dk_at dksX1_distribute_0 1 rfl rfl)
theorem dX1_distribute_2 : decode cX1_distribute 2 = .ok (.lconst 1, 1) := dk_10 (dk_at dksX1_distribute_0 2 rfl rfl)
theorem dX1_distribute_3 : decode cX1_distribute 3 = .ok (.ldc2_w 205, 3) := dk_20 0 205 (dk_at dksX1_distribute_0 3 rfl rfl)
theorem dX1_distribute_6 : decode cX1_distribute 6 = .ok (.invokestatic 201, 3) := dk_184 0 201 (dk_at dksX1_distribute_0 6 rfl rfl)
theorem dX1_distribute_9 : decode cX1_distribute 9 = .ok (.lconst 0, 1) := dk_9 (dk_at dksX1_distribute_0 9 rfl rfl)
theorem dX1_distribute_10 : decode cX1_distribute 10 = .ok (.lstore_n 2, 1) := dk_65 (dk_at dksX1_distribute_0 10 rfl rfl)
theorem dX1_distribute_11 : decode cX1_distribute 11 = .ok (.iconst 0, 1) := dk_3 (dk_at dksX1_distribute_0 11 rfl rfl)
theorem dX1_distribute_12 : decode cX1_distribute 12 = .ok (.istore 4, 2) := dk_54 4 (dk_at dksX1_distribute_0 12 rfl rfl)
theorem dX1_distribute_14 : decode cX1_distribute 14 = .ok (.iload 4, 2) := dk_21 4 (dk_at dksX1_distribute_0 14 rfl rfl)
theorem dX1_distribute_16 : decode cX1_distribute 16 = .ok (.aload_n 0, 1) := dk_42 (dk_at dksX1_distribute_0 16 rfl rfl)
theorem dX1_distribute_17 : decode cX1_distribute 17 = .ok (.getfield 30, 3) := dk_180 0 30 (dk_at dksX1_distribute_0 17 rfl rfl)
theorem dX1_distribute_20 : decode cX1_distribute 20 = .ok (.invokevirtual 137, 3) := dk_182 0 137 (dk_at dksX1_distribute_0 20 rfl rfl)
theorem dX1_distribute_23 : decode cX1_distribute 23 = .ok (.if_icmp .ge 46, 3) := dk_162 0 46 (dk_at dksX1_distribute_1 0 rfl rfl)
theorem dX1_distribute_26 : decode cX1_distribute 26 = .ok (.aload_n 0, 1) := dk_42 (dk_at dksX1_distribute_1 3 rfl rfl)
theorem dX1_distribute_27 : decode cX1_distribute 27 = .ok (.aload_n 0, 1) := dk_42 (dk_at dksX1_distribute_1 4 rfl rfl)
theorem dX1_distribute_28 : decode cX1_distribute 28 = .ok (.getfield 30, 3) := dk_180 0 30 (dk_at dksX1_distribute_1 5 rfl rfl)
theorem dX1_distribute_31 : decode cX1_distribute 31 = .ok (.iload 4, 2) := dk_21 4 (dk_at dksX1_distribute_1 8 rfl rfl)
theorem dX1_distribute_33 : decode cX1_distribute 33 = .ok (.invokevirtual 144, 3) := dk_182 0 144 (dk_at dksX1_distribute_1 10 rfl rfl)
theorem dX1_distribute_36 : decode cX1_distribute 36 = .ok (.checkcast 148, 3) := dk_192 0 148 (dk_at dksX1_distribute_1 13 rfl rfl)
theorem dX1_distribute_39 : decode cX1_distribute 39 = .ok (.invokevirtual 550, 3) := dk_182 2 38 (dk_at dksX1_distribute_1 16 rfl rfl)
theorem dX1_distribute_42 : decode cX1_distribute 42 = .ok (.ifCond .eq 21, 3) := dk_153 0 21 (dk_at dksX1_distribute_1 19 rfl rfl)
theorem dX1_distribute_45 : decode cX1_distribute 45 = .ok (.lload_n 2, 1) := dk_32 (dk_at dksX1_distribute_1 22 rfl rfl)
theorem dX1_distribute_46 : decode cX1_distribute 46 = .ok (.aload_n 0, 1) := dk_42 (dk_at dksX1_distribute_1 23 rfl rfl)
theorem dX1_distribute_47 : decode cX1_distribute 47 = .ok (.getfield 30, 3) := dk_180 0 30 (dk_at dksX1_distribute_2 0 rfl rfl)
theorem dX1_distribute_50 : decode cX1_distribute 50 = .ok (.iload 4, 2) := dk_21 4 (dk_at dksX1_distribute_2 3 rfl rfl)
theorem dX1_distribute_52 : decode cX1_distribute 52 = .ok (.invokevirtual 144, 3) := dk_182 0 144 (dk_at dksX1_distribute_2 5 rfl rfl)
theorem dX1_distribute_55 : decode cX1_distribute 55 = .ok (.checkcast 148, 3) := dk_192 0 148 (dk_at dksX1_distribute_2 8 rfl rfl)
theorem dX1_distribute_58 : decode cX1_distribute 58 = .ok (.getfield 315, 3) := dk_180 1 59 (dk_at dksX1_distribute_2 11 rfl rfl)
theorem dX1_distribute_61 : decode cX1_distribute 61 = .ok (.ladd, 1) := dk_97 (dk_at dksX1_distribute_2 14 rfl rfl)
theorem dX1_distribute_62 : decode cX1_distribute 62 = .ok (.lstore_n 2, 1) := dk_65 (dk_at dksX1_distribute_2 15 rfl rfl)
theorem dX1_distribute_63 : decode cX1_distribute 63 = .ok (.iinc 4 1, 3) := dk_132 4 1 (dk_at dksX1_distribute_2 16 rfl rfl)
theorem dX1_distribute_66 : decode cX1_distribute 66 = .ok (.goto (-52), 3) := dk_167 255 204 (dk_at dksX1_distribute_2 19 rfl rfl)
theorem dX1_distribute_69 : decode cX1_distribute 69 = .ok (.aload_n 0, 1) := dk_42 (dk_at dksX1_distribute_2 22 rfl rfl)
theorem dX1_distribute_70 : decode cX1_distribute 70 = .ok (.getfield 121, 3) := dk_180 0 121 (dk_at dksX1_distribute_3 0 rfl rfl)
theorem dX1_distribute_73 : decode cX1_distribute 73 = .ok (.ifCond .eq 23, 3) := dk_153 0 23 (dk_at dksX1_distribute_3 3 rfl rfl)
theorem dX1_distribute_76 : decode cX1_distribute 76 = .ok (.iload_n 1, 1) := dk_27 (dk_at dksX1_distribute_3 6 rfl rfl)
theorem dX1_distribute_77 : decode cX1_distribute 77 = .ok (.i2l, 1) := dk_133 (dk_at dksX1_distribute_3 7 rfl rfl)
theorem dX1_distribute_78 : decode cX1_distribute 78 = .ok (.aload_n 0, 1) := dk_42 (dk_at dksX1_distribute_3 8 rfl rfl)
theorem dX1_distribute_79 : decode cX1_distribute 79 = .ok (.invokevirtual 246, 3) := dk_182 0 246 (dk_at dksX1_distribute_3 9 rfl rfl)
theorem dX1_distribute_82 : decode cX1_distribute 82 = .ok (.lcmp, 1) := dk_148 (dk_at dksX1_distribute_3 12 rfl rfl)
theorem dX1_distribute_83 : decode cX1_distribute 83 = .ok (.ifCond .gt 13, 3) := dk_157 0 13 (dk_at dksX1_distribute_3 13 rfl rfl)
theorem dX1_distribute_86 : decode cX1_distribute 86 = .ok (.lload_n 2, 1) := dk_32 (dk_at dksX1_distribute_3 16 rfl rfl)
theorem dX1_distribute_87 : decode cX1_distribute 87 = .ok (.lconst 0, 1) := dk_9 (dk_at dksX1_distribute_3 17 rfl rfl)
theorem dX1_distribute_88 : decode cX1_distribute 88 = .ok (.lcmp, 1) := dk_148 (dk_at dksX1_distribute_3 18 rfl rfl)
theorem dX1_distribute_89 : decode cX1_distribute 89 = .ok (.ifCond .le 7, 3) := dk_158 0 7 (dk_at dksX1_distribute_3 19 rfl rfl)
theorem dX1_distribute_92 : decode cX1_distribute 92 = .ok (.iconst 1, 1) := dk_4 (dk_at dksX1_distribute_3 22 rfl rfl)
theorem dX1_distribute_93 : decode cX1_distribute 93 = .ok (.goto 4, 3) := dk_167 0 4 (dk_at dksX1_distribute_4 0 rfl rfl)
theorem dX1_distribute_96 : decode cX1_distribute 96 = .ok (.iconst 0, 1) := dk_3 (dk_at dksX1_distribute_4 3 rfl rfl)
theorem dX1_distribute_97 : decode cX1_distribute 97 = .ok (.invokestatic 286, 3) := dk_184 1 30 (dk_at dksX1_distribute_4 4 rfl rfl)
theorem dX1_distribute_100 : decode cX1_distribute 100 = .ok (.lconst 0, 1) := dk_9 (dk_at dksX1_distribute_4 7 rfl rfl)
theorem dX1_distribute_101 : decode cX1_distribute 101 = .ok (.lstore 4, 2) := dk_55 4 (dk_at dksX1_distribute_4 8 rfl rfl)
theorem dX1_distribute_103 : decode cX1_distribute 103 = .ok (.iconst 0, 1) := dk_3 (dk_at dksX1_distribute_4 10 rfl rfl)
theorem dX1_distribute_104 : decode cX1_distribute 104 = .ok (.istore 6, 2) := dk_54 6 (dk_at dksX1_distribute_4 11 rfl rfl)
theorem dX1_distribute_106 : decode cX1_distribute 106 = .ok (.iload 6, 2) := dk_21 6 (dk_at dksX1_distribute_4 13 rfl rfl)
theorem dX1_distribute_108 : decode cX1_distribute 108 = .ok (.aload_n 0, 1) := dk_42 (dk_at dksX1_distribute_4 15 rfl rfl)
theorem dX1_distribute_109 : decode cX1_distribute 109 = .ok (.getfield 30, 3) := dk_180 0 30 (dk_at dksX1_distribute_4 16 rfl rfl)
theorem dX1_distribute_112 : decode cX1_distribute 112 = .ok (.invokevirtual 137, 3) := dk_182 0 137 (dk_at dksX1_distribute_4 19 rfl rfl)
theorem dX1_distribute_115 : decode cX1_distribute 115 = .ok (.if_icmp .ge 80, 3) := dk_162 0 80 (dk_at dksX1_distribute_5 0 rfl rfl)
theorem dX1_distribute_118 : decode cX1_distribute 118 = .ok (.aload_n 0, 1) := dk_42 (dk_at dksX1_distribute_5 3 rfl rfl)
theorem dX1_distribute_119 : decode cX1_distribute 119 = .ok (.getfield 30, 3) := dk_180 0 30 (dk_at dksX1_distribute_5 4 rfl rfl)
theorem dX1_distribute_122 : decode cX1_distribute 122 = .ok (.iload 6, 2) := dk_21 6 (dk_at dksX1_distribute_5 7 rfl rfl)
theorem dX1_distribute_124 : decode cX1_distribute 124 = .ok (.invokevirtual 144, 3) := dk_182 0 144 (dk_at dksX1_distribute_5 9 rfl rfl)
theorem dX1_distribute_127 : decode cX1_distribute 127 = .ok (.checkcast 148, 3) := dk_192 0 148 (dk_at dksX1_distribute_5 12 rfl rfl)
theorem dX1_distribute_130 : decode cX1_distribute 130 = .ok (.astore 7, 2) := dk_58 7 (dk_at dksX1_distribute_5 15 rfl rfl)
theorem dX1_distribute_132 : decode cX1_distribute 132 = .ok (.aload_n 0, 1) := dk_42 (dk_at dksX1_distribute_5 17 rfl rfl)
theorem dX1_distribute_133 : decode cX1_distribute 133 = .ok (.aload 7, 2) := dk_25 7 (dk_at dksX1_distribute_5 18 rfl rfl)
theorem dX1_distribute_135 : decode cX1_distribute 135 = .ok (.invokevirtual 550, 3) := dk_182 2 38 (dk_at dksX1_distribute_5 20 rfl rfl)
theorem dX1_distribute_138 : decode cX1_distribute 138 = .ok (.ifCond .ne 6, 3) := dk_154 0 6 (dk_at dksX1_distribute_6 0 rfl rfl)
theorem dX1_distribute_141 : decode cX1_distribute 141 = .ok (.goto 48, 3) := dk_167 0 48 (dk_at dksX1_distribute_6 3 rfl rfl)
theorem dX1_distribute_144 : decode cX1_distribute 144 = .ok (.ldc2_w 205, 3) := dk_20 0 205 (dk_at dksX1_distribute_6 6 rfl rfl)
theorem dX1_distribute_147 : decode cX1_distribute 147 = .ok (.aload 7, 2) := dk_25 7 (dk_at dksX1_distribute_6 9 rfl rfl)
theorem dX1_distribute_149 : decode cX1_distribute 149 = .ok (.getfield 315, 3) := dk_180 1 59 (dk_at dksX1_distribute_6 11 rfl rfl)
theorem dX1_distribute_152 : decode cX1_distribute 152 = .ok (.lsub, 1) := dk_101 (dk_at dksX1_distribute_6 14 rfl rfl)
theorem dX1_distribute_153 : decode cX1_distribute 153 = .ok (.iload_n 1, 1) := dk_27 (dk_at dksX1_distribute_6 15 rfl rfl)
theorem dX1_distribute_154 : decode cX1_distribute 154 = .ok (.i2l, 1) := dk_133 (dk_at dksX1_distribute_6 16 rfl rfl)
theorem dX1_distribute_155 : decode cX1_distribute 155 = .ok (.aload 7, 2) := dk_25 7 (dk_at dksX1_distribute_6 17 rfl rfl)
theorem dX1_distribute_157 : decode cX1_distribute 157 = .ok (.getfield 315, 3) := dk_180 1 59 (dk_at dksX1_distribute_6 19 rfl rfl)
theorem dX1_distribute_160 : decode cX1_distribute 160 = .ok (.lmul, 1) := dk_105 (dk_at dksX1_distribute_6 22 rfl rfl)
theorem dX1_distribute_161 : decode cX1_distribute 161 = .ok (.lload_n 2, 1) := dk_32 (dk_at dksX1_distribute_6 23 rfl rfl)
theorem dX1_distribute_162 : decode cX1_distribute 162 = .ok (.invokestatic 9, 3) := dk_184 0 9 (dk_at dksX1_distribute_7 0 rfl rfl)
theorem dX1_distribute_165 : decode cX1_distribute 165 = .ok (.invokestatic 488, 3) := dk_184 1 232 (dk_at dksX1_distribute_7 3 rfl rfl)
theorem dX1_distribute_168 : decode cX1_distribute 168 = .ok (.lstore 8, 2) := dk_55 8 (dk_at dksX1_distribute_7 6 rfl rfl)
theorem dX1_distribute_170 : decode cX1_distribute 170 = .ok (.aload 7, 2) := dk_25 7 (dk_at dksX1_distribute_7 8 rfl rfl)
theorem dX1_distribute_172 : decode cX1_distribute 172 = .ok (.dup, 1) := dk_89 (dk_at dksX1_distribute_7 10 rfl rfl)
theorem dX1_distribute_173 : decode cX1_distribute 173 = .ok (.getfield 315, 3) := dk_180 1 59 (dk_at dksX1_distribute_7 11 rfl rfl)
theorem dX1_distribute_176 : decode cX1_distribute 176 = .ok (.lload 8, 2) := dk_22 8 (dk_at dksX1_distribute_7 14 rfl rfl)
theorem dX1_distribute_178 : decode cX1_distribute 178 = .ok (.ladd, 1) := dk_97 (dk_at dksX1_distribute_7 16 rfl rfl)
theorem dX1_distribute_179 : decode cX1_distribute 179 = .ok (.putfield 315, 3) := dk_181 1 59 (dk_at dksX1_distribute_7 17 rfl rfl)
theorem dX1_distribute_182 : decode cX1_distribute 182 = .ok (.lload 4, 2) := dk_22 4 (dk_at dksX1_distribute_7 20 rfl rfl)
theorem dX1_distribute_184 : decode cX1_distribute 184 = .ok (.lload 8, 2) := dk_22 8 (dk_at dksX1_distribute_7 22 rfl rfl)
theorem dX1_distribute_186 : decode cX1_distribute 186 = .ok (.ladd, 1) := dk_97 (dk_at dksX1_distribute_8 0 rfl rfl)
theorem dX1_distribute_187 : decode cX1_distribute 187 = .ok (.lstore 4, 2) := dk_55 4 (dk_at dksX1_distribute_8 1 rfl rfl)
theorem dX1_distribute_189 : decode cX1_distribute 189 = .ok (.iinc 6 1, 3) := dk_132 6 1 (dk_at dksX1_distribute_8 3 rfl rfl)
theorem dX1_distribute_192 : decode cX1_distribute 192 = .ok (.goto (-86), 3) := dk_167 255 170 (dk_at dksX1_distribute_8 6 rfl rfl)
theorem dX1_distribute_195 : decode cX1_distribute 195 = .ok (.lload 4, 2) := dk_22 4 (dk_at dksX1_distribute_8 9 rfl rfl)
theorem dX1_distribute_197 : decode cX1_distribute 197 = .ok (.lreturn, 1) := dk_173 (dk_at dksX1_distribute_8 11 rfl rfl)
abbrev cX1_shares : ByteArray := prog_1_method_72_code
def yX1_shares : MethodName := ⟨RX1, "shares", "(LLifeoffice$Policy;)Z"⟩
def dkwX1_shares_0 : List UInt8 := [43, 180, 1, 191, 153, 0, 14, 43, 182, 1, 154, 153, 0, 7, 4, 167, 0, 4, 3, 172]
abbrev dktX1_shares_0 : List UInt8 := dkwX1_shares_0 ++ []
theorem dksX1_shares_0 : cX1_shares.data.toList.drop 0 = dktX1_shares_0 := by decide +kernel
theorem dX1_shares_0 : decode cX1_shares 0 = .ok (.aload_n 1, 1) := dk_43 (dk_at dksX1_shares_0 0 rfl rfl)
theorem dX1_shares_1 : decode cX1_shares 1 = .ok (.getfield 447, 3) := dk_180 1 191 (dk_at dksX1_shares_0 1 rfl rfl)
theorem dX1_shares_4 : decode cX1_shares 4 = .ok (.ifCond .eq 14, 3) := dk_153 0 14 (dk_at dksX1_shares_0 4 rfl rfl)
theorem dX1_shares_7 : decode cX1_shares 7 = .ok (.aload_n 1, 1) := dk_43 (dk_at dksX1_shares_0 7 rfl rfl)
theorem dX1_shares_8 : decode cX1_shares 8 = .ok (.invokevirtual 410, 3) := dk_182 1 154 (dk_at dksX1_shares_0 8 rfl rfl)
theorem dX1_shares_11 : decode cX1_shares 11 = .ok (.ifCond .eq 7, 3) := dk_153 0 7 (dk_at dksX1_shares_0 11 rfl rfl)
theorem dX1_shares_14 : decode cX1_shares 14 = .ok (.iconst 1, 1) := dk_4 (dk_at dksX1_shares_0 14 rfl rfl)
theorem dX1_shares_15 : decode cX1_shares 15 = .ok (.goto 4, 3) := dk_167 0 4 (dk_at dksX1_shares_0 15 rfl rfl)
theorem dX1_shares_18 : decode cX1_shares 18 = .ok (.iconst 0, 1) := dk_3 (dk_at dksX1_shares_0 18 rfl rfl)
theorem dX1_shares_19 : decode cX1_shares 19 = .ok (.ireturn, 1) := dk_172 (dk_at dksX1_shares_0 19 rfl rfl)
abbrev cX1_generation : ByteArray := prog_1_method_74_code
def yX1_generation : MethodName := ⟨RX1, "generation", "(II)J"⟩
def dkwX1_generation_3 : List UInt8 := [28, 4, 160, 0, 10, 45, 180, 1, 229, 167, 0, 7, 45, 180, 1, 242, 173]
abbrev dktX1_generation_3 : List UInt8 := dkwX1_generation_3 ++ []
def dkwX1_generation_2 : List UInt8 := [192, 1, 23, 78, 45, 199, 0, 7, 9, 167, 0, 31, 28, 154, 0, 11, 45, 180, 1, 41, 133, 167, 0, 19]
abbrev dktX1_generation_2 : List UInt8 := dkwX1_generation_2 ++ dktX1_generation_3
def dkwX1_generation_1 : List UInt8 := [153, 0, 11, 187, 0, 131, 89, 183, 0, 133, 191, 42, 180, 0, 44, 27, 184, 0, 187, 182, 1, 20]
abbrev dktX1_generation_1 : List UInt8 := dkwX1_generation_1 ++ dktX1_generation_2
def dkwX1_generation_0 : List UInt8 := [27, 133, 20, 0, 197, 20, 0, 229, 184, 0, 201, 28, 133, 9, 20, 1, 173, 184, 0, 201, 27, 16, 10, 112]
abbrev dktX1_generation_0 : List UInt8 := dkwX1_generation_0 ++ dktX1_generation_1
theorem dksX1_generation_0 : cX1_generation.data.toList.drop 0 = dktX1_generation_0 := by decide +kernel
theorem dksX1_generation_1 : cX1_generation.data.toList.drop 24 = dktX1_generation_1 := dk_seg dksX1_generation_0 24 rfl rfl
theorem dksX1_generation_2 : cX1_generation.data.toList.drop 46 = dktX1_generation_2 := dk_seg dksX1_generation_1 22 rfl rfl
theorem dksX1_generation_3 : cX1_generation.data.toList.drop 70 = dktX1_generation_3 := dk_seg dksX1_generation_2 24 rfl rfl
theorem dX1_generation_0 : decode cX1_generation 0 = .ok (.iload_n 1, 1) := dk_27 (dk_at dksX1_generation_0 0 rfl rfl)
theorem dX1_generation_1 : decode cX1_generation 1 = .ok (.i2l, 1) := dk_133 (dk_at dksX1_generation_0 1 rfl rfl)
theorem dX1_generation_2 : decode cX1_generation 2 = .ok (.ldc2_w 197, 3) := dk_20 0 197 (dk_at dksX1_generation_0 2 rfl rfl)
theorem dX1_generation_5 : decode cX1_generation 5 = .ok (.ldc2_w 229, 3) := dk_20 0 229 (dk_at dksX1_generation_0 5 rfl rfl)
theorem dX1_generation_8 : decode cX1_generation 8 = .ok (.invokestatic 201, 3) := dk_184 0 201 (dk_at dksX1_generation_0 8 rfl rfl)
theorem dX1_generation_11 : decode cX1_generation 11 = .ok (.iload_n 2, 1) := dk_28 (dk_at dksX1_generation_0 11 rfl rfl)
theorem dX1_generation_12 : decode cX1_generation 12 = .ok (.i2l, 1) := dk_133 (dk_at dksX1_generation_0 12 rfl rfl)
theorem dX1_generation_13 : decode cX1_generation 13 = .ok (.lconst 0, 1) := dk_9 (dk_at dksX1_generation_0 13 rfl rfl)
theorem dX1_generation_14 : decode cX1_generation 14 = .ok (.ldc2_w 429, 3) := dk_20 1 173 (dk_at dksX1_generation_0 14 rfl rfl)
theorem dX1_generation_17 : decode cX1_generation 17 = .ok (.invokestatic 201, 3) := dk_184 0 201 (dk_at dksX1_generation_0 17 rfl rfl)
theorem dX1_generation_20 : decode cX1_generation 20 = .ok (.iload_n 1, 1) := dk_27 (dk_at dksX1_generation_0 20 rfl rfl)
theorem dX1_generation_21 : decode cX1_generation 21 = .ok (.bipush 10, 2) := dk_16 10 (dk_at dksX1_generation_0 21 rfl rfl)
theorem dX1_generation_23 : decode cX1_generation 23 = .ok (.irem, 1) := dk_112 (dk_at dksX1_generation_0 23 rfl rfl)
theorem dX1_generation_24 : decode cX1_generation 24 = .ok (.ifCond .eq 11, 3) := dk_153 0 11 (dk_at dksX1_generation_1 0 rfl rfl)
theorem dX1_generation_27 : decode cX1_generation 27 = .ok (.new 131, 3) := dk_187 0 131 (dk_at dksX1_generation_1 3 rfl rfl)
theorem dX1_generation_30 : decode cX1_generation 30 = .ok (.dup, 1) := dk_89 (dk_at dksX1_generation_1 6 rfl rfl)
theorem dX1_generation_31 : decode cX1_generation 31 = .ok (.invokespecial 133, 3) := dk_183 0 133 (dk_at dksX1_generation_1 7 rfl rfl)
theorem dX1_generation_34 : decode cX1_generation 34 = .ok (.athrow, 1) := dk_191 (dk_at dksX1_generation_1 10 rfl rfl)
theorem dX1_generation_35 : decode cX1_generation 35 = .ok (.aload_n 0, 1) := dk_42 (dk_at dksX1_generation_1 11 rfl rfl)
theorem dX1_generation_36 : decode cX1_generation 36 = .ok (.getfield 44, 3) := dk_180 0 44 (dk_at dksX1_generation_1 12 rfl rfl)
theorem dX1_generation_39 : decode cX1_generation 39 = .ok (.iload_n 1, 1) := dk_27 (dk_at dksX1_generation_1 15 rfl rfl)
theorem dX1_generation_40 : decode cX1_generation 40 = .ok (.invokestatic 187, 3) := dk_184 0 187 (dk_at dksX1_generation_1 16 rfl rfl)
theorem dX1_generation_43 : decode cX1_generation 43 = .ok (.invokevirtual 276, 3) := dk_182 1 20 (dk_at dksX1_generation_1 19 rfl rfl)
theorem dX1_generation_46 : decode cX1_generation 46 = .ok (.checkcast 279, 3) := dk_192 1 23 (dk_at dksX1_generation_2 0 rfl rfl)
theorem dX1_generation_49 : decode cX1_generation 49 = .ok (.astore_n 3, 1) := dk_78 (dk_at dksX1_generation_2 3 rfl rfl)
theorem dX1_generation_50 : decode cX1_generation 50 = .ok (.aload_n 3, 1) := dk_45 (dk_at dksX1_generation_2 4 rfl rfl)
theorem dX1_generation_51 : decode cX1_generation 51 = .ok (.ifnonnull 7, 3) := dk_199 0 7 (dk_at dksX1_generation_2 5 rfl rfl)
theorem dX1_generation_54 : decode cX1_generation 54 = .ok (.lconst 0, 1) := dk_9 (dk_at dksX1_generation_2 8 rfl rfl)
theorem dX1_generation_55 : decode cX1_generation 55 = .ok (.goto 31, 3) := dk_167 0 31 (dk_at dksX1_generation_2 9 rfl rfl)
theorem dX1_generation_58 : decode cX1_generation 58 = .ok (.iload_n 2, 1) := dk_28 (dk_at dksX1_generation_2 12 rfl rfl)
theorem dX1_generation_59 : decode cX1_generation 59 = .ok (.ifCond .ne 11, 3) := dk_154 0 11 (dk_at dksX1_generation_2 13 rfl rfl)
theorem dX1_generation_62 : decode cX1_generation 62 = .ok (.aload_n 3, 1) := dk_45 (dk_at dksX1_generation_2 16 rfl rfl)
theorem dX1_generation_63 : decode cX1_generation 63 = .ok (.getfield 297, 3) := dk_180 1 41 (dk_at dksX1_generation_2 17 rfl rfl)
theorem dX1_generation_66 : decode cX1_generation 66 = .ok (.i2l, 1) := dk_133 (dk_at dksX1_generation_2 20 rfl rfl)
theorem dX1_generation_67 : decode cX1_generation 67 = .ok (.goto 19, 3) := dk_167 0 19 (dk_at dksX1_generation_2 21 rfl rfl)
theorem dX1_generation_70 : decode cX1_generation 70 = .ok (.iload_n 2, 1) := dk_28 (dk_at dksX1_generation_3 0 rfl rfl)
theorem dX1_generation_71 : decode cX1_generation 71 = .ok (.iconst 1, 1) := dk_4 (dk_at dksX1_generation_3 1 rfl rfl)
theorem dX1_generation_72 : decode cX1_generation 72 = .ok (.if_icmp .ne 10, 3) := dk_160 0 10 (dk_at dksX1_generation_3 2 rfl rfl)
theorem dX1_generation_75 : decode cX1_generation 75 = .ok (.aload_n 3, 1) := dk_45 (dk_at dksX1_generation_3 5 rfl rfl)
theorem dX1_generation_76 : decode cX1_generation 76 = .ok (.getfield 485, 3) := dk_180 1 229 (dk_at dksX1_generation_3 6 rfl rfl)
theorem dX1_generation_79 : decode cX1_generation 79 = .ok (.goto 7, 3) := dk_167 0 7 (dk_at dksX1_generation_3 9 rfl rfl)
theorem dX1_generation_82 : decode cX1_generation 82 = .ok (.aload_n 3, 1) := dk_45 (dk_at dksX1_generation_3 12 rfl rfl)
theorem dX1_generation_83 : decode cX1_generation 83 = .ok (.getfield 498, 3) := dk_180 1 242 (dk_at dksX1_generation_3 13 rfl rfl)
theorem dX1_generation_86 : decode cX1_generation 86 = .ok (.lreturn, 1) := dk_173 (dk_at dksX1_generation_3 16 rfl rfl)
theorem q81 : (Jvm.Cond.initialized "Lifeoffice") ∈ lw_all := lw_g (lw_at lw_m1 1 rfl) rfl
theorem q125 : (Jvm.Cond.instantiable "Lifeoffice" (23 : Nat)) ∈ lw_all := lw_g (lw_at lw_m1 45 rfl) rfl
theorem q127 : (Jvm.Cond.instanceMethod ({ cls := "Lifeoffice", name := "<init>", desc := "()V" } : Jvm.MethodName)) ∈ lw_all := lw_g (lw_at lw_m1 47 rfl) rfl
theorem q128 : (Jvm.Cond.code ({ cls := "Lifeoffice", name := "<init>", desc := "()V" } : Jvm.MethodName) prog_1_method_3_code (1 : Nat) (Option.none : Option Jvm.ClassFile.FieldType)) ∈ lw_all := lw_g (lw_at lw_m1 48 rfl) rfl
theorem q129 : (Jvm.Cond.methodLink "Lifeoffice" (14 : Nat) ({ cls := "java/lang/Object", name := "<init>", desc := "()V" } : Jvm.MethodName)) ∈ lw_all := lw_g (lw_at lw_m1 49 rfl) rfl
theorem q132 : (Jvm.Cond.classLink "Lifeoffice" (20 : Nat) "Lifeoffice$Law") ∈ lw_all := lw_g (lw_at lw_m1 52 rfl) rfl
theorem q135 : (Jvm.Cond.methodLinkNest "Lifeoffice" (22 : Nat) ({ cls := "Lifeoffice$Law", name := "<init>", desc := "()V" } : Jvm.MethodName) "Lifeoffice") ∈ lw_tbl := lw_at lw_m1 55 rfl
theorem q141 : (Jvm.Cond.fieldLink "Lifeoffice" (401 : Nat) "Lifeoffice$Law" "interest" "I") ∈ lw_all := lw_g (lw_at lw_m1 61 rfl) rfl
theorem q144 : (Jvm.Cond.fieldLink "Lifeoffice" (237 : Nat) "Lifeoffice$Law" "percent" "I") ∈ lw_all := lw_g (lw_at lw_m1 64 rfl) rfl
theorem q154 : (Jvm.Cond.classLink "Lifeoffice" (27 : Nat) "java/util/ArrayList") ∈ lw_all := lw_g (lw_at lw_m1 74 rfl) rfl
theorem q156 : (Jvm.Cond.methodLink "Lifeoffice" (29 : Nat) ({ cls := "java/util/ArrayList", name := "<init>", desc := "()V" } : Jvm.MethodName)) ∈ lw_all := lw_g (lw_at lw_m1 76 rfl) rfl
theorem q183 : (Jvm.Cond.classLink "Lifeoffice" (34 : Nat) "java/util/TreeSet") ∈ lw_all := lw_g (lw_at lw_m1 103 rfl) rfl
theorem q185 : (Jvm.Cond.methodLink "Lifeoffice" (36 : Nat) ({ cls := "java/util/TreeSet", name := "<init>", desc := "()V" } : Jvm.MethodName)) ∈ lw_all := lw_g (lw_at lw_m1 105 rfl) rfl
theorem q233 : (Jvm.Cond.classLink "Lifeoffice" (41 : Nat) "java/util/TreeMap") ∈ lw_all := lw_g (lw_at lw_m1 153 rfl) rfl
theorem q234 : (Jvm.Cond.methodLink "Lifeoffice" (43 : Nat) ({ cls := "java/util/TreeMap", name := "<init>", desc := "()V" } : Jvm.MethodName)) ∈ lw_all := lw_g (lw_at lw_m1 154 rfl) rfl
theorem q235 : (Jvm.Cond.classLink "Lifeoffice" (48 : Nat) "Lifeoffice$Ledger") ∈ lw_all := lw_g (lw_at lw_m1 155 rfl) rfl
theorem q237 : (Jvm.Cond.methodLinkNest "Lifeoffice" (50 : Nat) ({ cls := "Lifeoffice$Ledger", name := "<init>", desc := "()V" } : Jvm.MethodName) "Lifeoffice") ∈ lw_tbl := lw_at lw_m1 157 rfl
theorem q247 : (Jvm.Cond.constant "Lifeoffice" (58 : Nat) (1000000 : Int32)) ∈ lw_all := lw_g (lw_at lw_m1 167 rfl) rfl
theorem q248 : (Jvm.Cond.methodLink "Lifeoffice" (59 : Nat) ({ cls := "Lifeoffice", name := "start", desc := "(II)V" } : Jvm.MethodName)) ∈ lw_all := lw_g (lw_at lw_m1 168 rfl) rfl
theorem q249 : (Jvm.Cond.privateMethod ({ cls := "Lifeoffice", name := "start", desc := "(II)V" } : Jvm.MethodName)) ∈ lw_tbl := lw_at lw_m1 169 rfl
theorem q250 : (Jvm.Cond.instanceMethod ({ cls := "Lifeoffice", name := "start", desc := "(II)V" } : Jvm.MethodName)) ∈ lw_all := lw_g (lw_at lw_m1 170 rfl) rfl
theorem q251 : (Jvm.Cond.code ({ cls := "Lifeoffice", name := "start", desc := "(II)V" } : Jvm.MethodName) prog_1_method_4_code (3 : Nat) (Option.none : Option Jvm.ClassFile.FieldType)) ∈ lw_all := lw_g (lw_at lw_m1 171 rfl) rfl
theorem q252 : (Jvm.Cond.methodLink "Lifeoffice" (74 : Nat) ({ cls := "Lifeoffice$Law", name := "set", desc := "(IIZ)V" } : Jvm.MethodName)) ∈ lw_all := lw_g (lw_at lw_m1 172 rfl) rfl
theorem q256 : (Jvm.Cond.methodLink "Lifeoffice" (78 : Nat) ({ cls := "java/util/ArrayList", name := "clear", desc := "()V" } : Jvm.MethodName)) ∈ lw_all := lw_g (lw_at lw_m1 176 rfl) rfl
theorem q260 : (Jvm.Cond.methodLink "Lifeoffice" (81 : Nat) ({ cls := "java/util/TreeSet", name := "clear", desc := "()V" } : Jvm.MethodName)) ∈ lw_all := lw_g (lw_at lw_m1 180 rfl) rfl
theorem q273 : (Jvm.Cond.methodLink "Lifeoffice" (82 : Nat) ({ cls := "java/util/TreeMap", name := "clear", desc := "()V" } : Jvm.MethodName)) ∈ lw_all := lw_g (lw_at lw_m1 193 rfl) rfl
theorem q274 : (Jvm.Cond.methodLink "Lifeoffice" (83 : Nat) ({ cls := "Lifeoffice$Ledger", name := "clear", desc := "()V" } : Jvm.MethodName)) ∈ lw_all := lw_g (lw_at lw_m1 194 rfl) rfl
theorem q279 : (Jvm.Cond.constant "Lifeoffice" (93 : Nat) (100000 : Int32)) ∈ lw_all := lw_g (lw_at lw_m1 199 rfl) rfl
theorem q282 : (Jvm.Cond.fieldLink "Lifeoffice" (23 : Nat) "Lifeoffice" "laws" "[LLifeoffice$Law;") ∈ lw_all := lw_g (lw_at lw_m1 202 rfl) rfl
theorem q283 : (Jvm.Cond.fieldLink "Lifeoffice" (30 : Nat) "Lifeoffice" "policies" "Ljava/util/ArrayList;") ∈ lw_all := lw_g (lw_at lw_m1 203 rfl) rfl
theorem q284 : (Jvm.Cond.fieldLink "Lifeoffice" (37 : Nat) "Lifeoffice" "bonds" "Ljava/util/TreeSet;") ∈ lw_all := lw_g (lw_at lw_m1 204 rfl) rfl
theorem q285 : (Jvm.Cond.fieldLink "Lifeoffice" (44 : Nat) "Lifeoffice" "generations" "Ljava/util/TreeMap;") ∈ lw_all := lw_g (lw_at lw_m1 205 rfl) rfl
theorem q286 : (Jvm.Cond.fieldLink "Lifeoffice" (51 : Nat) "Lifeoffice" "sources" "LLifeoffice$Ledger;") ∈ lw_all := lw_g (lw_at lw_m1 206 rfl) rfl
theorem q287 : (Jvm.Cond.fieldLink "Lifeoffice" (55 : Nat) "Lifeoffice" "latest" "LLifeoffice$Ledger;") ∈ lw_all := lw_g (lw_at lw_m1 207 rfl) rfl
theorem q290 : (Jvm.Cond.fieldLink "Lifeoffice" (63 : Nat) "Lifeoffice" "year" "I") ∈ lw_all := lw_g (lw_at lw_m1 210 rfl) rfl
theorem q291 : (Jvm.Cond.fieldLink "Lifeoffice" (84 : Nat) "Lifeoffice" "improvement" "I") ∈ lw_all := lw_g (lw_at lw_m1 211 rfl) rfl
theorem q294 : (Jvm.Cond.fieldLink "Lifeoffice" (87 : Nat) "Lifeoffice" "loading" "I") ∈ lw_all := lw_g (lw_at lw_m1 214 rfl) rfl
theorem q296 : (Jvm.Cond.fieldLink "Lifeoffice" (90 : Nat) "Lifeoffice" "flat" "I") ∈ lw_all := lw_g (lw_at lw_m1 216 rfl) rfl
theorem q297 : (Jvm.Cond.fieldLink "Lifeoffice" (94 : Nat) "Lifeoffice" "retention" "I") ∈ lw_all := lw_g (lw_at lw_m1 217 rfl) rfl
theorem q299 : (Jvm.Cond.fieldLink "Lifeoffice" (97 : Nat) "Lifeoffice" "quota" "I") ∈ lw_all := lw_g (lw_at lw_m1 219 rfl) rfl
theorem q301 : (Jvm.Cond.fieldLink "Lifeoffice" (100 : Nat) "Lifeoffice" "smoothing" "I") ∈ lw_all := lw_g (lw_at lw_m1 221 rfl) rfl
theorem q302 : (Jvm.Cond.fieldLink "Lifeoffice" (103 : Nat) "Lifeoffice" "lastBonus" "I") ∈ lw_all := lw_g (lw_at lw_m1 222 rfl) rfl
theorem q303 : (Jvm.Cond.fieldLink "Lifeoffice" (106 : Nat) "Lifeoffice" "finalRate" "I") ∈ lw_all := lw_g (lw_at lw_m1 223 rfl) rfl
theorem q305 : (Jvm.Cond.fieldLink "Lifeoffice" (109 : Nat) "Lifeoffice" "bought" "I") ∈ lw_all := lw_g (lw_at lw_m1 225 rfl) rfl
theorem q306 : (Jvm.Cond.fieldLink "Lifeoffice" (67 : Nat) "Lifeoffice" "cash" "J") ∈ lw_all := lw_g (lw_at lw_m1 226 rfl) rfl
theorem q307 : (Jvm.Cond.fieldLink "Lifeoffice" (71 : Nat) "Lifeoffice" "founded" "J") ∈ lw_all := lw_g (lw_at lw_m1 227 rfl) rfl
theorem q308 : (Jvm.Cond.fieldLink "Lifeoffice" (112 : Nat) "Lifeoffice" "sourcesSoFar" "J") ∈ lw_all := lw_g (lw_at lw_m1 228 rfl) rfl
theorem q309 : (Jvm.Cond.fieldLink "Lifeoffice" (115 : Nat) "Lifeoffice" "deaths" "J") ∈ lw_all := lw_g (lw_at lw_m1 229 rfl) rfl
theorem q310 : (Jvm.Cond.fieldLink "Lifeoffice" (118 : Nat) "Lifeoffice" "expected" "J") ∈ lw_all := lw_g (lw_at lw_m1 230 rfl) rfl
theorem q311 : (Jvm.Cond.fieldLink "Lifeoffice" (121 : Nat) "Lifeoffice" "isClosed" "Z") ∈ lw_all := lw_g (lw_at lw_m1 231 rfl) rfl
theorem q312 : (Jvm.Cond.fieldLink "Lifeoffice" (125 : Nat) "Lifeoffice" "isDeclared" "Z") ∈ lw_all := lw_g (lw_at lw_m1 232 rfl) rfl
theorem q313 : (Jvm.Cond.laysFinal "Lifeoffice" "Lifeoffice" "laws" "[LLifeoffice$Law;") ∈ lw_all := lw_g (lw_at lw_m1 233 rfl) rfl
theorem q314 : (Jvm.Cond.soleField "Lifeoffice" "laws") ∈ lw_all := lw_g (lw_at lw_m1 234 rfl) rfl
theorem q315 : (Jvm.Cond.laysFinal "Lifeoffice" "Lifeoffice" "policies" "Ljava/util/ArrayList;") ∈ lw_all := lw_g (lw_at lw_m1 235 rfl) rfl
theorem q316 : (Jvm.Cond.soleField "Lifeoffice" "policies") ∈ lw_all := lw_g (lw_at lw_m1 236 rfl) rfl
theorem q317 : (Jvm.Cond.laysFinal "Lifeoffice" "Lifeoffice" "bonds" "Ljava/util/TreeSet;") ∈ lw_all := lw_g (lw_at lw_m1 237 rfl) rfl
theorem q318 : (Jvm.Cond.soleField "Lifeoffice" "bonds") ∈ lw_all := lw_g (lw_at lw_m1 238 rfl) rfl
theorem q319 : (Jvm.Cond.laysFinal "Lifeoffice" "Lifeoffice" "generations" "Ljava/util/TreeMap;") ∈ lw_all := lw_g (lw_at lw_m1 239 rfl) rfl
theorem q320 : (Jvm.Cond.soleField "Lifeoffice" "generations") ∈ lw_all := lw_g (lw_at lw_m2 0 rfl) rfl
theorem q321 : (Jvm.Cond.laysFinal "Lifeoffice" "Lifeoffice" "sources" "LLifeoffice$Ledger;") ∈ lw_all := lw_g (lw_at lw_m2 1 rfl) rfl
theorem q322 : (Jvm.Cond.soleField "Lifeoffice" "sources") ∈ lw_all := lw_g (lw_at lw_m2 2 rfl) rfl
theorem q323 : (Jvm.Cond.laysFinal "Lifeoffice" "Lifeoffice" "latest" "LLifeoffice$Ledger;") ∈ lw_all := lw_g (lw_at lw_m2 3 rfl) rfl
theorem q324 : (Jvm.Cond.soleField "Lifeoffice" "latest") ∈ lw_all := lw_g (lw_at lw_m2 4 rfl) rfl
theorem q325 : (Jvm.Cond.lays "Lifeoffice" "Lifeoffice" "year" "I") ∈ lw_all := lw_g (lw_at lw_m2 5 rfl) rfl
theorem q326 : (Jvm.Cond.soleField "Lifeoffice" "year") ∈ lw_all := lw_g (lw_at lw_m2 6 rfl) rfl
theorem q327 : (Jvm.Cond.lays "Lifeoffice" "Lifeoffice" "improvement" "I") ∈ lw_all := lw_g (lw_at lw_m2 7 rfl) rfl
theorem q328 : (Jvm.Cond.soleField "Lifeoffice" "improvement") ∈ lw_all := lw_g (lw_at lw_m2 8 rfl) rfl
theorem q329 : (Jvm.Cond.lays "Lifeoffice" "Lifeoffice" "loading" "I") ∈ lw_all := lw_g (lw_at lw_m2 9 rfl) rfl
theorem q330 : (Jvm.Cond.soleField "Lifeoffice" "loading") ∈ lw_all := lw_g (lw_at lw_m2 10 rfl) rfl
theorem q331 : (Jvm.Cond.lays "Lifeoffice" "Lifeoffice" "flat" "I") ∈ lw_all := lw_g (lw_at lw_m2 11 rfl) rfl
theorem q332 : (Jvm.Cond.soleField "Lifeoffice" "flat") ∈ lw_all := lw_g (lw_at lw_m2 12 rfl) rfl
theorem q333 : (Jvm.Cond.lays "Lifeoffice" "Lifeoffice" "retention" "I") ∈ lw_all := lw_g (lw_at lw_m2 13 rfl) rfl
theorem q334 : (Jvm.Cond.soleField "Lifeoffice" "retention") ∈ lw_all := lw_g (lw_at lw_m2 14 rfl) rfl
theorem q335 : (Jvm.Cond.lays "Lifeoffice" "Lifeoffice" "quota" "I") ∈ lw_all := lw_g (lw_at lw_m2 15 rfl) rfl
theorem q336 : (Jvm.Cond.soleField "Lifeoffice" "quota") ∈ lw_all := lw_g (lw_at lw_m2 16 rfl) rfl
theorem q337 : (Jvm.Cond.lays "Lifeoffice" "Lifeoffice" "smoothing" "I") ∈ lw_all := lw_g (lw_at lw_m2 17 rfl) rfl
theorem q338 : (Jvm.Cond.soleField "Lifeoffice" "smoothing") ∈ lw_all := lw_g (lw_at lw_m2 18 rfl) rfl
theorem q339 : (Jvm.Cond.lays "Lifeoffice" "Lifeoffice" "lastBonus" "I") ∈ lw_all := lw_g (lw_at lw_m2 19 rfl) rfl
theorem q340 : (Jvm.Cond.soleField "Lifeoffice" "lastBonus") ∈ lw_all := lw_g (lw_at lw_m2 20 rfl) rfl
theorem q341 : (Jvm.Cond.lays "Lifeoffice" "Lifeoffice" "finalRate" "I") ∈ lw_all := lw_g (lw_at lw_m2 21 rfl) rfl
theorem q342 : (Jvm.Cond.soleField "Lifeoffice" "finalRate") ∈ lw_all := lw_g (lw_at lw_m2 22 rfl) rfl
theorem q343 : (Jvm.Cond.lays "Lifeoffice" "Lifeoffice" "bought" "I") ∈ lw_all := lw_g (lw_at lw_m2 23 rfl) rfl
theorem q344 : (Jvm.Cond.soleField "Lifeoffice" "bought") ∈ lw_all := lw_g (lw_at lw_m2 24 rfl) rfl
theorem q345 : (Jvm.Cond.lays "Lifeoffice" "Lifeoffice" "cash" "J") ∈ lw_all := lw_g (lw_at lw_m2 25 rfl) rfl
theorem q346 : (Jvm.Cond.soleField "Lifeoffice" "cash") ∈ lw_all := lw_g (lw_at lw_m2 26 rfl) rfl
theorem q347 : (Jvm.Cond.lays "Lifeoffice" "Lifeoffice" "founded" "J") ∈ lw_all := lw_g (lw_at lw_m2 27 rfl) rfl
theorem q348 : (Jvm.Cond.soleField "Lifeoffice" "founded") ∈ lw_all := lw_g (lw_at lw_m2 28 rfl) rfl
theorem q349 : (Jvm.Cond.lays "Lifeoffice" "Lifeoffice" "sourcesSoFar" "J") ∈ lw_all := lw_g (lw_at lw_m2 29 rfl) rfl
theorem q350 : (Jvm.Cond.soleField "Lifeoffice" "sourcesSoFar") ∈ lw_all := lw_g (lw_at lw_m2 30 rfl) rfl
theorem q351 : (Jvm.Cond.lays "Lifeoffice" "Lifeoffice" "deaths" "J") ∈ lw_all := lw_g (lw_at lw_m2 31 rfl) rfl
theorem q352 : (Jvm.Cond.soleField "Lifeoffice" "deaths") ∈ lw_all := lw_g (lw_at lw_m2 32 rfl) rfl
theorem q353 : (Jvm.Cond.lays "Lifeoffice" "Lifeoffice" "expected" "J") ∈ lw_all := lw_g (lw_at lw_m2 33 rfl) rfl
theorem q354 : (Jvm.Cond.soleField "Lifeoffice" "expected") ∈ lw_all := lw_g (lw_at lw_m2 34 rfl) rfl
theorem q355 : (Jvm.Cond.lays "Lifeoffice" "Lifeoffice" "isClosed" "Z") ∈ lw_all := lw_g (lw_at lw_m2 35 rfl) rfl
theorem q356 : (Jvm.Cond.soleField "Lifeoffice" "isClosed") ∈ lw_all := lw_g (lw_at lw_m2 36 rfl) rfl
theorem q357 : (Jvm.Cond.lays "Lifeoffice" "Lifeoffice" "isDeclared" "Z") ∈ lw_all := lw_g (lw_at lw_m2 37 rfl) rfl
theorem q358 : (Jvm.Cond.soleField "Lifeoffice" "isDeclared") ∈ lw_all := lw_g (lw_at lw_m2 38 rfl) rfl
theorem q359 : (Jvm.Cond.superclass "Lifeoffice" "java/lang/Object") ∈ lw_all := lw_g (lw_at lw_m2 39 rfl) rfl
theorem q361 : (Jvm.Cond.instanceMethod ({ cls := "Lifeoffice", name := "year", desc := "()I" } : Jvm.MethodName)) ∈ lw_all := lw_g (lw_at lw_m2 41 rfl) rfl
theorem q362 : (Jvm.Cond.selects "Lifeoffice" ({ cls := "Lifeoffice", name := "year", desc := "()I" } : Jvm.MethodName) ({ cls := "Lifeoffice", name := "year", desc := "()I" } : Jvm.MethodName)) ∈ lw_all := lw_g (lw_at lw_m2 42 rfl) rfl
theorem q363 : (Jvm.Cond.code ({ cls := "Lifeoffice", name := "year", desc := "()I" } : Jvm.MethodName) prog_1_method_16_code (1 : Nat) (Option.some Jvm.ClassFile.FieldType.int)) ∈ lw_all := lw_g (lw_at lw_m2 43 rfl) rfl
theorem q365 : (Jvm.Cond.instanceMethod ({ cls := "Lifeoffice", name := "policies", desc := "()I" } : Jvm.MethodName)) ∈ lw_all := lw_g (lw_at lw_m2 45 rfl) rfl
theorem q366 : (Jvm.Cond.selects "Lifeoffice" ({ cls := "Lifeoffice", name := "policies", desc := "()I" } : Jvm.MethodName) ({ cls := "Lifeoffice", name := "policies", desc := "()I" } : Jvm.MethodName)) ∈ lw_all := lw_g (lw_at lw_m2 46 rfl) rfl
theorem q367 : (Jvm.Cond.code ({ cls := "Lifeoffice", name := "policies", desc := "()I" } : Jvm.MethodName) prog_1_method_26_code (1 : Nat) (Option.some Jvm.ClassFile.FieldType.int)) ∈ lw_all := lw_g (lw_at lw_m2 47 rfl) rfl
theorem q368 : (Jvm.Cond.methodLink "Lifeoffice" (137 : Nat) ({ cls := "java/util/ArrayList", name := "size", desc := "()I" } : Jvm.MethodName)) ∈ lw_all := lw_g (lw_at lw_m2 48 rfl) rfl
theorem q373 : (Jvm.Cond.instanceMethod ({ cls := "Lifeoffice", name := "adopt", desc := "()I" } : Jvm.MethodName)) ∈ lw_all := lw_g (lw_at lw_m2 53 rfl) rfl
theorem q374 : (Jvm.Cond.selects "Lifeoffice" ({ cls := "Lifeoffice", name := "adopt", desc := "()I" } : Jvm.MethodName) ({ cls := "Lifeoffice", name := "adopt", desc := "()I" } : Jvm.MethodName)) ∈ lw_all := lw_g (lw_at lw_m2 54 rfl) rfl
theorem q375 : (Jvm.Cond.code ({ cls := "Lifeoffice", name := "adopt", desc := "()I" } : Jvm.MethodName) prog_1_method_64_code (3 : Nat) (Option.some Jvm.ClassFile.FieldType.int)) ∈ lw_all := lw_g (lw_at lw_m2 55 rfl) rfl
theorem q376 : (Jvm.Cond.methodLink "Lifeoffice" (183 : Nat) ({ cls := "Lifeoffice", name := "total", desc := "(LLifeoffice$Law;)J" } : Jvm.MethodName)) ∈ lw_all := lw_g (lw_at lw_m2 56 rfl) rfl
theorem q377 : (Jvm.Cond.privateMethod ({ cls := "Lifeoffice", name := "total", desc := "(LLifeoffice$Law;)J" } : Jvm.MethodName)) ∈ lw_tbl := lw_at lw_m2 57 rfl
theorem q378 : (Jvm.Cond.instanceMethod ({ cls := "Lifeoffice", name := "total", desc := "(LLifeoffice$Law;)J" } : Jvm.MethodName)) ∈ lw_all := lw_g (lw_at lw_m2 58 rfl) rfl
theorem q379 : (Jvm.Cond.code ({ cls := "Lifeoffice", name := "total", desc := "(LLifeoffice$Law;)J" } : Jvm.MethodName) prog_1_method_10_code (5 : Nat) (Option.some Jvm.ClassFile.FieldType.long)) ∈ lw_all := lw_g (lw_at lw_m2 59 rfl) rfl
theorem q380 : (Jvm.Cond.methodLink "Lifeoffice" (144 : Nat) ({ cls := "java/util/ArrayList", name := "get", desc := "(I)Ljava/lang/Object;" } : Jvm.MethodName)) ∈ lw_all := lw_g (lw_at lw_m2 60 rfl) rfl
theorem q394 : (Jvm.Cond.classLink "Lifeoffice" (148 : Nat) "Lifeoffice$Policy") ∈ lw_all := lw_g (lw_at lw_m2 74 rfl) rfl
theorem q395 : (Jvm.Cond.methodLink "Lifeoffice" (150 : Nat) ({ cls := "Lifeoffice$Policy", name := "reserve", desc := "(LLifeoffice$Law;I)J" } : Jvm.MethodName)) ∈ lw_all := lw_g (lw_at lw_m2 75 rfl) rfl
theorem q420 : (Jvm.Cond.fieldLink "Lifeoffice" (335 : Nat) "Lifeoffice$Values" "benefit" "J") ∈ lw_all := lw_g (lw_at lw_m2 100 rfl) rfl
theorem q423 : (Jvm.Cond.fieldLink "Lifeoffice" (562 : Nat) "Lifeoffice$Values" "premium" "J") ∈ lw_all := lw_g (lw_at lw_m2 103 rfl) rfl
theorem q426 : (Jvm.Cond.fieldLink "Lifeoffice" (398 : Nat) "Lifeoffice$Values" "annuity" "J") ∈ lw_all := lw_g (lw_at lw_m2 106 rfl) rfl
theorem q451 : (Jvm.Cond.static ({ cls := "Lifeoffice", name := "down", desc := "(JJ)J" } : Jvm.MethodName)) ∈ lw_all := lw_g (lw_at lw_m2 131 rfl) rfl
theorem q452 : (Jvm.Cond.code ({ cls := "Lifeoffice", name := "down", desc := "(JJ)J" } : Jvm.MethodName) prog_1_method_1_code (4 : Nat) (Option.some Jvm.ClassFile.FieldType.long)) ∈ lw_all := lw_g (lw_at lw_m2 132 rfl) rfl
theorem q453 : (Jvm.Cond.methodLink "Lifeoffice" (1 : Nat) ({ cls := "java/lang/Math", name := "floorDiv", desc := "(JJ)J" } : Jvm.MethodName)) ∈ lw_all := lw_g (lw_at lw_m2 133 rfl) rfl
theorem q474 : (Jvm.Cond.static ({ cls := "Lifeoffice", name := "discounted", desc := "(JI)J" } : Jvm.MethodName)) ∈ lw_all := lw_g (lw_at lw_m2 154 rfl) rfl
theorem q475 : (Jvm.Cond.code ({ cls := "Lifeoffice", name := "discounted", desc := "(JI)J" } : Jvm.MethodName) prog_1_method_2_code (3 : Nat) (Option.some Jvm.ClassFile.FieldType.long)) ∈ lw_all := lw_g (lw_at lw_m2 155 rfl) rfl
theorem q476 : (Jvm.Cond.constantLong "Lifeoffice" (7 : Nat) (1000 : Int64)) ∈ lw_all := lw_g (lw_at lw_m2 156 rfl) rfl
theorem q477 : (Jvm.Cond.methodLink "Lifeoffice" (9 : Nat) ({ cls := "Lifeoffice", name := "down", desc := "(JJ)J" } : Jvm.MethodName)) ∈ lw_all := lw_g (lw_at lw_m2 157 rfl) rfl
theorem q498 : (Jvm.Cond.constantLong "Lifeoffice" (213 : Nat) (50 : Int64)) ∈ lw_all := lw_g (lw_at lw_m2 178 rfl) rfl
theorem q499 : (Jvm.Cond.constantLong "Lifeoffice" (215 : Nat) (200 : Int64)) ∈ lw_all := lw_g (lw_at lw_m2 179 rfl) rfl
theorem q500 : (Jvm.Cond.methodLink "Lifeoffice" (536 : Nat) ({ cls := "Lifeoffice", name := "blend", desc := "()J" } : Jvm.MethodName)) ∈ lw_all := lw_g (lw_at lw_m2 180 rfl) rfl
theorem q501 : (Jvm.Cond.privateMethod ({ cls := "Lifeoffice", name := "blend", desc := "()J" } : Jvm.MethodName)) ∈ lw_tbl := lw_at lw_m2 181 rfl
theorem q502 : (Jvm.Cond.instanceMethod ({ cls := "Lifeoffice", name := "blend", desc := "()J" } : Jvm.MethodName)) ∈ lw_all := lw_g (lw_at lw_m2 182 rfl) rfl
theorem q503 : (Jvm.Cond.code ({ cls := "Lifeoffice", name := "blend", desc := "()J" } : Jvm.MethodName) prog_1_method_62_code (1 : Nat) (Option.some Jvm.ClassFile.FieldType.long)) ∈ lw_all := lw_g (lw_at lw_m2 183 rfl) rfl
theorem q504 : (Jvm.Cond.methodLink "Lifeoffice" (530 : Nat) ({ cls := "Lifeoffice", name := "credibility", desc := "()J" } : Jvm.MethodName)) ∈ lw_all := lw_g (lw_at lw_m2 184 rfl) rfl
theorem q505 : (Jvm.Cond.privateMethod ({ cls := "Lifeoffice", name := "credibility", desc := "()J" } : Jvm.MethodName)) ∈ lw_tbl := lw_at lw_m2 185 rfl
theorem q506 : (Jvm.Cond.instanceMethod ({ cls := "Lifeoffice", name := "credibility", desc := "()J" } : Jvm.MethodName)) ∈ lw_all := lw_g (lw_at lw_m2 186 rfl) rfl
theorem q507 : (Jvm.Cond.code ({ cls := "Lifeoffice", name := "credibility", desc := "()J" } : Jvm.MethodName) prog_1_method_60_code (1 : Nat) (Option.some Jvm.ClassFile.FieldType.long)) ∈ lw_all := lw_g (lw_at lw_m2 187 rfl) rfl
theorem q508 : (Jvm.Cond.methodLink "Lifeoffice" (533 : Nat) ({ cls := "Lifeoffice", name := "ratio", desc := "()J" } : Jvm.MethodName)) ∈ lw_all := lw_g (lw_at lw_m2 188 rfl) rfl
theorem q509 : (Jvm.Cond.privateMethod ({ cls := "Lifeoffice", name := "ratio", desc := "()J" } : Jvm.MethodName)) ∈ lw_tbl := lw_at lw_m2 189 rfl
theorem q510 : (Jvm.Cond.instanceMethod ({ cls := "Lifeoffice", name := "ratio", desc := "()J" } : Jvm.MethodName)) ∈ lw_all := lw_g (lw_at lw_m2 190 rfl) rfl
theorem q511 : (Jvm.Cond.code ({ cls := "Lifeoffice", name := "ratio", desc := "()J" } : Jvm.MethodName) prog_1_method_61_code (1 : Nat) (Option.some Jvm.ClassFile.FieldType.long)) ∈ lw_all := lw_g (lw_at lw_m2 191 rfl) rfl
theorem q512 : (Jvm.Cond.constantLong "Lifeoffice" (424 : Nat) (100000 : Int64)) ∈ lw_all := lw_g (lw_at lw_m2 192 rfl) rfl
theorem q513 : (Jvm.Cond.methodLink "Lifeoffice" (488 : Nat) ({ cls := "java/lang/Math", name := "min", desc := "(JJ)J" } : Jvm.MethodName)) ∈ lw_all := lw_g (lw_at lw_m2 193 rfl) rfl
theorem q514 : (Jvm.Cond.methodLink "Lifeoffice" (340 : Nat) ({ cls := "java/lang/Math", name := "max", desc := "(JJ)J" } : Jvm.MethodName)) ∈ lw_all := lw_g (lw_at lw_m2 194 rfl) rfl
theorem q515 : (Jvm.Cond.methodLink "Lifeoffice" (217 : Nat) ({ cls := "Lifeoffice", name := "rebase", desc := "(J)V" } : Jvm.MethodName)) ∈ lw_all := lw_g (lw_at lw_m2 195 rfl) rfl
theorem q516 : (Jvm.Cond.privateMethod ({ cls := "Lifeoffice", name := "rebase", desc := "(J)V" } : Jvm.MethodName)) ∈ lw_tbl := lw_at lw_m2 196 rfl
theorem q517 : (Jvm.Cond.instanceMethod ({ cls := "Lifeoffice", name := "rebase", desc := "(J)V" } : Jvm.MethodName)) ∈ lw_all := lw_g (lw_at lw_m2 197 rfl) rfl
theorem q518 : (Jvm.Cond.code ({ cls := "Lifeoffice", name := "rebase", desc := "(J)V" } : Jvm.MethodName) prog_1_method_14_code (3 : Nat) (Option.none : Option Jvm.ClassFile.FieldType)) ∈ lw_all := lw_g (lw_at lw_m2 198 rfl) rfl
theorem q519 : (Jvm.Cond.methodLink "Lifeoffice" (187 : Nat) ({ cls := "java/lang/Integer", name := "valueOf", desc := "(I)Ljava/lang/Integer;" } : Jvm.MethodName)) ∈ lw_all := lw_g (lw_at lw_m2 199 rfl) rfl
theorem q539 : (Jvm.Cond.methodLink "Lifeoffice" (193 : Nat) ({ cls := "Lifeoffice$Ledger", name := "add", desc := "(Ljava/lang/Comparable;J)V" } : Jvm.MethodName)) ∈ lw_all := lw_g (lw_at lw_m2 219 rfl) rfl
theorem q723 : (Jvm.Cond.instanceMethod ({ cls := "Lifeoffice", name := "firstShort", desc := "()I" } : Jvm.MethodName)) ∈ lw_all := lw_g (lw_at lw_m3 163 rfl) rfl
theorem q724 : (Jvm.Cond.selects "Lifeoffice" ({ cls := "Lifeoffice", name := "firstShort", desc := "()I" } : Jvm.MethodName) ({ cls := "Lifeoffice", name := "firstShort", desc := "()I" } : Jvm.MethodName)) ∈ lw_all := lw_g (lw_at lw_m3 164 rfl) rfl
theorem q725 : (Jvm.Cond.code ({ cls := "Lifeoffice", name := "firstShort", desc := "()I" } : Jvm.MethodName) prog_1_method_70_code (2 : Nat) (Option.some Jvm.ClassFile.FieldType.int)) ∈ lw_all := lw_g (lw_at lw_m3 165 rfl) rfl
theorem q726 : (Jvm.Cond.methodLink "Lifeoffice" (544 : Nat) ({ cls := "Lifeoffice", name := "expectedAhead", desc := "(I)J" } : Jvm.MethodName)) ∈ lw_all := lw_g (lw_at lw_m3 166 rfl) rfl
theorem q727 : (Jvm.Cond.privateMethod ({ cls := "Lifeoffice", name := "expectedAhead", desc := "(I)J" } : Jvm.MethodName)) ∈ lw_tbl := lw_at lw_m3 167 rfl
theorem q728 : (Jvm.Cond.instanceMethod ({ cls := "Lifeoffice", name := "expectedAhead", desc := "(I)J" } : Jvm.MethodName)) ∈ lw_all := lw_g (lw_at lw_m3 168 rfl) rfl
theorem q729 : (Jvm.Cond.code ({ cls := "Lifeoffice", name := "expectedAhead", desc := "(I)J" } : Jvm.MethodName) prog_1_method_66_code (5 : Nat) (Option.some Jvm.ClassFile.FieldType.long)) ∈ lw_all := lw_g (lw_at lw_m3 169 rfl) rfl
theorem q730 : (Jvm.Cond.methodLink "Lifeoffice" (410 : Nat) ({ cls := "Lifeoffice$Policy", name := "isLiving", desc := "()Z" } : Jvm.MethodName)) ∈ lw_all := lw_g (lw_at lw_m3 170 rfl) rfl
theorem q731 : (Jvm.Cond.methodLink "Lifeoffice" (539 : Nat) ({ cls := "Lifeoffice", name := "expectedOf", desc := "(LLifeoffice$Policy;I)J" } : Jvm.MethodName)) ∈ lw_all := lw_g (lw_at lw_m3 171 rfl) rfl
theorem q732 : (Jvm.Cond.privateMethod ({ cls := "Lifeoffice", name := "expectedOf", desc := "(LLifeoffice$Policy;I)J" } : Jvm.MethodName)) ∈ lw_tbl := lw_at lw_m3 172 rfl
theorem q733 : (Jvm.Cond.instanceMethod ({ cls := "Lifeoffice", name := "expectedOf", desc := "(LLifeoffice$Policy;I)J" } : Jvm.MethodName)) ∈ lw_all := lw_g (lw_at lw_m3 173 rfl) rfl
theorem q734 : (Jvm.Cond.code ({ cls := "Lifeoffice", name := "expectedOf", desc := "(LLifeoffice$Policy;I)J" } : Jvm.MethodName) prog_1_method_65_code (12 : Nat) (Option.some Jvm.ClassFile.FieldType.long)) ∈ lw_all := lw_g (lw_at lw_m3 174 rfl) rfl
theorem q735 : (Jvm.Cond.constantLong "Lifeoffice" (254 : Nat) (1000000 : Int64)) ∈ lw_all := lw_g (lw_at lw_m3 175 rfl) rfl
theorem q736 : (Jvm.Cond.methodLink "Lifeoffice" (473 : Nat) ({ cls := "Lifeoffice$Policy", name := "paysIn", desc := "(I)Z" } : Jvm.MethodName)) ∈ lw_all := lw_g (lw_at lw_m3 176 rfl) rfl
theorem q740 : (Jvm.Cond.methodLink "Lifeoffice" (426 : Nat) ({ cls := "Lifeoffice$Policy", name := "mortality", desc := "(LLifeoffice$Law;II)J" } : Jvm.MethodName)) ∈ lw_all := lw_g (lw_at lw_m3 180 rfl) rfl
theorem q741 : (Jvm.Cond.methodLink "Lifeoffice" (364 : Nat) ({ cls := "Lifeoffice$Policy", name := "isAnnuity", desc := "()Z" } : Jvm.MethodName)) ∈ lw_all := lw_g (lw_at lw_m3 181 rfl) rfl
theorem q742 : (Jvm.Cond.methodLink "Lifeoffice" (413 : Nat) ({ cls := "Lifeoffice$Policy", name := "assured", desc := "()J" } : Jvm.MethodName)) ∈ lw_all := lw_g (lw_at lw_m3 182 rfl) rfl
theorem q743 : (Jvm.Cond.methodLink "Lifeoffice" (325 : Nat) ({ cls := "Lifeoffice$Policy", name := "hasValue", desc := "()Z" } : Jvm.MethodName)) ∈ lw_all := lw_g (lw_at lw_m3 183 rfl) rfl
theorem q744 : (Jvm.Cond.methodLink "Lifeoffice" (547 : Nat) ({ cls := "Lifeoffice", name := "bondsAhead", desc := "(I)J" } : Jvm.MethodName)) ∈ lw_all := lw_g (lw_at lw_m3 184 rfl) rfl
theorem q745 : (Jvm.Cond.privateMethod ({ cls := "Lifeoffice", name := "bondsAhead", desc := "(I)J" } : Jvm.MethodName)) ∈ lw_tbl := lw_at lw_m3 185 rfl
theorem q746 : (Jvm.Cond.instanceMethod ({ cls := "Lifeoffice", name := "bondsAhead", desc := "(I)J" } : Jvm.MethodName)) ∈ lw_all := lw_g (lw_at lw_m3 186 rfl) rfl
theorem q747 : (Jvm.Cond.code ({ cls := "Lifeoffice", name := "bondsAhead", desc := "(I)J" } : Jvm.MethodName) prog_1_method_68_code (6 : Nat) (Option.some Jvm.ClassFile.FieldType.long)) ∈ lw_all := lw_g (lw_at lw_m3 187 rfl) rfl
theorem q748 : (Jvm.Cond.methodLink "Lifeoffice" (161 : Nat) ({ cls := "java/util/TreeSet", name := "iterator", desc := "()Ljava/util/Iterator;" } : Jvm.MethodName)) ∈ lw_all := lw_g (lw_at lw_m3 188 rfl) rfl
theorem q820 : (Jvm.Cond.interfaceEntry "Lifeoffice" (165 : Nat)) ∈ lw_tbl := lw_at lw_m4 20 rfl
theorem q821 : (Jvm.Cond.methodLink "Lifeoffice" (165 : Nat) ({ cls := "java/util/Iterator", name := "hasNext", desc := "()Z" } : Jvm.MethodName)) ∈ lw_all := lw_g (lw_at lw_m4 21 rfl) rfl
theorem q842 : (Jvm.Cond.interfaceEntry "Lifeoffice" (171 : Nat)) ∈ lw_tbl := lw_at lw_m4 42 rfl
theorem q843 : (Jvm.Cond.methodLink "Lifeoffice" (171 : Nat) ({ cls := "java/util/Iterator", name := "next", desc := "()Ljava/lang/Object;" } : Jvm.MethodName)) ∈ lw_all := lw_g (lw_at lw_m4 43 rfl) rfl
theorem q950 : (Jvm.Cond.classLink "Lifeoffice" (175 : Nat) "Lifeoffice$Bond") ∈ lw_all := lw_g (lw_at lw_m4 150 rfl) rfl
theorem q951 : (Jvm.Cond.methodLink "Lifeoffice" (492 : Nat) ({ cls := "Lifeoffice$Bond", name := "interest", desc := "()J" } : Jvm.MethodName)) ∈ lw_all := lw_g (lw_at lw_m4 151 rfl) rfl
theorem q958 : (Jvm.Cond.instanceMethod ({ cls := "Lifeoffice", name := "errors", desc := "()I" } : Jvm.MethodName)) ∈ lw_all := lw_g (lw_at lw_m4 158 rfl) rfl
theorem q959 : (Jvm.Cond.selects "Lifeoffice" ({ cls := "Lifeoffice", name := "errors", desc := "()I" } : Jvm.MethodName) ({ cls := "Lifeoffice", name := "errors", desc := "()I" } : Jvm.MethodName)) ∈ lw_all := lw_g (lw_at lw_m4 159 rfl) rfl
theorem q960 : (Jvm.Cond.code ({ cls := "Lifeoffice", name := "errors", desc := "()I" } : Jvm.MethodName) prog_1_method_76_code (4 : Nat) (Option.some Jvm.ClassFile.FieldType.int)) ∈ lw_all := lw_g (lw_at lw_m4 160 rfl) rfl
theorem q961 : (Jvm.Cond.methodLink "Lifeoffice" (246 : Nat) ({ cls := "Lifeoffice", name := "estate", desc := "()J" } : Jvm.MethodName)) ∈ lw_all := lw_g (lw_at lw_m4 161 rfl) rfl
theorem q962 : (Jvm.Cond.privateMethod ({ cls := "Lifeoffice", name := "estate", desc := "()J" } : Jvm.MethodName)) ∈ lw_tbl := lw_at lw_m4 162 rfl
theorem q963 : (Jvm.Cond.instanceMethod ({ cls := "Lifeoffice", name := "estate", desc := "()J" } : Jvm.MethodName)) ∈ lw_all := lw_g (lw_at lw_m4 163 rfl) rfl
theorem q964 : (Jvm.Cond.code ({ cls := "Lifeoffice", name := "estate", desc := "()J" } : Jvm.MethodName) prog_1_method_13_code (1 : Nat) (Option.some Jvm.ClassFile.FieldType.long)) ∈ lw_all := lw_g (lw_at lw_m4 164 rfl) rfl
theorem q965 : (Jvm.Cond.methodLink "Lifeoffice" (180 : Nat) ({ cls := "Lifeoffice", name := "fund", desc := "()J" } : Jvm.MethodName)) ∈ lw_all := lw_g (lw_at lw_m4 165 rfl) rfl
theorem q966 : (Jvm.Cond.privateMethod ({ cls := "Lifeoffice", name := "fund", desc := "()J" } : Jvm.MethodName)) ∈ lw_tbl := lw_at lw_m4 166 rfl
theorem q967 : (Jvm.Cond.instanceMethod ({ cls := "Lifeoffice", name := "fund", desc := "()J" } : Jvm.MethodName)) ∈ lw_all := lw_g (lw_at lw_m4 167 rfl) rfl
theorem q968 : (Jvm.Cond.code ({ cls := "Lifeoffice", name := "fund", desc := "()J" } : Jvm.MethodName) prog_1_method_12_code (5 : Nat) (Option.some Jvm.ClassFile.FieldType.long)) ∈ lw_all := lw_g (lw_at lw_m4 168 rfl) rfl
theorem q969 : (Jvm.Cond.methodLink "Lifeoffice" (157 : Nat) ({ cls := "Lifeoffice", name := "loans", desc := "()J" } : Jvm.MethodName)) ∈ lw_all := lw_g (lw_at lw_m4 169 rfl) rfl
theorem q970 : (Jvm.Cond.privateMethod ({ cls := "Lifeoffice", name := "loans", desc := "()J" } : Jvm.MethodName)) ∈ lw_tbl := lw_at lw_m4 170 rfl
theorem q971 : (Jvm.Cond.instanceMethod ({ cls := "Lifeoffice", name := "loans", desc := "()J" } : Jvm.MethodName)) ∈ lw_all := lw_g (lw_at lw_m4 171 rfl) rfl
theorem q972 : (Jvm.Cond.code ({ cls := "Lifeoffice", name := "loans", desc := "()J" } : Jvm.MethodName) prog_1_method_11_code (4 : Nat) (Option.some Jvm.ClassFile.FieldType.long)) ∈ lw_all := lw_g (lw_at lw_m4 172 rfl) rfl
theorem q973 : (Jvm.Cond.methodLink "Lifeoffice" (249 : Nat) ({ cls := "Lifeoffice$Ledger", name := "all", desc := "()J" } : Jvm.MethodName)) ∈ lw_all := lw_g (lw_at lw_m4 173 rfl) rfl
theorem q995 : (Jvm.Cond.methodLink "Lifeoffice" (563 : Nat) ({ cls := "Lifeoffice", name := "runOnce", desc := "(LLifeoffice$Policy;)J" } : Jvm.MethodName)) ∈ lw_all := lw_g (lw_at lw_m4 195 rfl) rfl
theorem q996 : (Jvm.Cond.privateMethod ({ cls := "Lifeoffice", name := "runOnce", desc := "(LLifeoffice$Policy;)J" } : Jvm.MethodName)) ∈ lw_tbl := lw_at lw_m4 196 rfl
theorem q997 : (Jvm.Cond.instanceMethod ({ cls := "Lifeoffice", name := "runOnce", desc := "(LLifeoffice$Policy;)J" } : Jvm.MethodName)) ∈ lw_all := lw_g (lw_at lw_m4 197 rfl) rfl
theorem q998 : (Jvm.Cond.code ({ cls := "Lifeoffice", name := "runOnce", desc := "(LLifeoffice$Policy;)J" } : Jvm.MethodName) prog_1_method_75_code (7 : Nat) (Option.some Jvm.ClassFile.FieldType.long)) ∈ lw_all := lw_g (lw_at lw_m4 198 rfl) rfl
theorem q999 : (Jvm.Cond.methodLink "Lifeoffice" (553 : Nat) ({ cls := "Lifeoffice$Policy", name := "years", desc := "(I)LLifeoffice$Years;" } : Jvm.MethodName)) ∈ lw_all := lw_g (lw_at lw_m4 199 rfl) rfl
theorem q1017 : (Jvm.Cond.methodLink "Lifeoffice" (556 : Nat) ({ cls := "Lifeoffice$Years", name := "iterator", desc := "()Ljava/util/Iterator;" } : Jvm.MethodName)) ∈ lw_all := lw_g (lw_at lw_m4 217 rfl) rfl
theorem q1021 : (Jvm.Cond.classLink "Lifeoffice" (188 : Nat) "java/lang/Integer") ∈ lw_all := lw_g (lw_at lw_m4 221 rfl) rfl
theorem q1022 : (Jvm.Cond.methodLink "Lifeoffice" (559 : Nat) ({ cls := "java/lang/Integer", name := "intValue", desc := "()I" } : Jvm.MethodName)) ∈ lw_all := lw_g (lw_at lw_m4 222 rfl) rfl
theorem q1026 : (Jvm.Cond.classLink "Lifeoffice" (336 : Nat) "Lifeoffice$Values") ∈ lw_all := lw_g (lw_at lw_m4 226 rfl) rfl
theorem q1027 : (Jvm.Cond.methodLink "Lifeoffice" (385 : Nat) ({ cls := "Lifeoffice$Values", name := "<init>", desc := "(J)V" } : Jvm.MethodName)) ∈ lw_all := lw_g (lw_at lw_m4 227 rfl) rfl
theorem q1028 : (Jvm.Cond.methodLink "Lifeoffice" (394 : Nat) ({ cls := "Lifeoffice$Values", name := "back", desc := "(JI)V" } : Jvm.MethodName)) ∈ lw_all := lw_g (lw_at lw_m4 228 rfl) rfl
theorem q1029 : (Jvm.Cond.methodLink "Lifeoffice" (370 : Nat) ({ cls := "Lifeoffice$Policy", name := "isPaidUp", desc := "()Z" } : Jvm.MethodName)) ∈ lw_all := lw_g (lw_at lw_m4 229 rfl) rfl
theorem q1030 : (Jvm.Cond.methodLink "Lifeoffice" (477 : Nat) ({ cls := "Lifeoffice$Policy", name := "netPremium", desc := "(LLifeoffice$Law;I)J" } : Jvm.MethodName)) ∈ lw_all := lw_g (lw_at lw_m4 230 rfl) rfl
theorem q1032 : (Jvm.Cond.instanceMethod ({ cls := "Lifeoffice", name := "cover", desc := "()D" } : Jvm.MethodName)) ∈ lw_all := lw_g (lw_at lw_m4 232 rfl) rfl
theorem q1033 : (Jvm.Cond.selects "Lifeoffice" ({ cls := "Lifeoffice", name := "cover", desc := "()D" } : Jvm.MethodName) ({ cls := "Lifeoffice", name := "cover", desc := "()D" } : Jvm.MethodName)) ∈ lw_all := lw_g (lw_at lw_m4 233 rfl) rfl
theorem q1034 : (Jvm.Cond.code ({ cls := "Lifeoffice", name := "cover", desc := "()D" } : Jvm.MethodName) prog_1_method_77_code (3 : Nat) (Option.some Jvm.ClassFile.FieldType.double)) ∈ lw_all := lw_g (lw_at lw_m4 234 rfl) rfl
theorem q1036 : (Jvm.Cond.instanceMethod ({ cls := "Lifeoffice", name := "meanAge", desc := "()F" } : Jvm.MethodName)) ∈ lw_all := lw_g (lw_at lw_m4 236 rfl) rfl
theorem q1037 : (Jvm.Cond.selects "Lifeoffice" ({ cls := "Lifeoffice", name := "meanAge", desc := "()F" } : Jvm.MethodName) ({ cls := "Lifeoffice", name := "meanAge", desc := "()F" } : Jvm.MethodName)) ∈ lw_all := lw_g (lw_at lw_m4 237 rfl) rfl
theorem q1038 : (Jvm.Cond.code ({ cls := "Lifeoffice", name := "meanAge", desc := "()F" } : Jvm.MethodName) prog_1_method_78_code (5 : Nat) (Option.some Jvm.ClassFile.FieldType.float)) ∈ lw_all := lw_g (lw_at lw_m4 238 rfl) rfl
theorem q1039 : (Jvm.Cond.methodLink "Lifeoffice" (567 : Nat) ({ cls := "Lifeoffice$Life", name := "age", desc := "(I)I" } : Jvm.MethodName)) ∈ lw_all := lw_g (lw_at lw_m4 239 rfl) rfl
theorem q1045 : (Jvm.Cond.instanceMethod ({ cls := "Lifeoffice", name := "found", desc := "(II)I" } : Jvm.MethodName)) ∈ lw_all := lw_g (lw_at lw_m5 5 rfl) rfl
theorem q1046 : (Jvm.Cond.selects "Lifeoffice" ({ cls := "Lifeoffice", name := "found", desc := "(II)I" } : Jvm.MethodName) ({ cls := "Lifeoffice", name := "found", desc := "(II)I" } : Jvm.MethodName)) ∈ lw_all := lw_g (lw_at lw_m5 6 rfl) rfl
theorem q1047 : (Jvm.Cond.code ({ cls := "Lifeoffice", name := "found", desc := "(II)I" } : Jvm.MethodName) prog_1_method_15_code (4 : Nat) (Option.some Jvm.ClassFile.FieldType.int)) ∈ lw_all := lw_g (lw_at lw_m5 7 rfl) rfl
theorem q1048 : (Jvm.Cond.constantLong "Lifeoffice" (197 : Nat) (1900 : Int64)) ∈ lw_all := lw_g (lw_at lw_m5 8 rfl) rfl
theorem q1049 : (Jvm.Cond.constantLong "Lifeoffice" (199 : Nat) (2050 : Int64)) ∈ lw_all := lw_g (lw_at lw_m5 9 rfl) rfl
theorem q1050 : (Jvm.Cond.methodLink "Lifeoffice" (201 : Nat) ({ cls := "Lifeoffice", name := "checkRange", desc := "(JJJ)V" } : Jvm.MethodName)) ∈ lw_all := lw_g (lw_at lw_m5 10 rfl) rfl
theorem q1051 : (Jvm.Cond.static ({ cls := "Lifeoffice", name := "checkRange", desc := "(JJJ)V" } : Jvm.MethodName)) ∈ lw_all := lw_g (lw_at lw_m5 11 rfl) rfl
theorem q1052 : (Jvm.Cond.code ({ cls := "Lifeoffice", name := "checkRange", desc := "(JJJ)V" } : Jvm.MethodName) prog_1_method_6_code (6 : Nat) (Option.none : Option Jvm.ClassFile.FieldType)) ∈ lw_all := lw_g (lw_at lw_m5 12 rfl) rfl
theorem q1053 : (Jvm.Cond.classLink "Lifeoffice" (131 : Nat) "java/lang/IllegalArgumentException") ∈ lw_all := lw_g (lw_at lw_m5 13 rfl) rfl
theorem q1062 : (Jvm.Cond.methodLink "Lifeoffice" (133 : Nat) ({ cls := "java/lang/IllegalArgumentException", name := "<init>", desc := "()V" } : Jvm.MethodName)) ∈ lw_all := lw_g (lw_at lw_m5 22 rfl) rfl
theorem q1068 : (Jvm.Cond.constantLong "Lifeoffice" (205 : Nat) (1000000000 : Int64)) ∈ lw_all := lw_g (lw_at lw_m5 28 rfl) rfl
theorem q1106 : (Jvm.Cond.instanceMethod ({ cls := "Lifeoffice", name := "setLaw", desc := "(IIIZ)J" } : Jvm.MethodName)) ∈ lw_all := lw_g (lw_at lw_m5 66 rfl) rfl
theorem q1107 : (Jvm.Cond.selects "Lifeoffice" ({ cls := "Lifeoffice", name := "setLaw", desc := "(IIIZ)J" } : Jvm.MethodName) ({ cls := "Lifeoffice", name := "setLaw", desc := "(IIIZ)J" } : Jvm.MethodName)) ∈ lw_all := lw_g (lw_at lw_m5 67 rfl) rfl
theorem q1108 : (Jvm.Cond.code ({ cls := "Lifeoffice", name := "setLaw", desc := "(IIIZ)J" } : Jvm.MethodName) prog_1_method_17_code (8 : Nat) (Option.some Jvm.ClassFile.FieldType.long)) ∈ lw_all := lw_g (lw_at lw_m5 68 rfl) rfl
theorem q1109 : (Jvm.Cond.methodLink "Lifeoffice" (207 : Nat) ({ cls := "Lifeoffice", name := "law", desc := "(I)LLifeoffice$Law;" } : Jvm.MethodName)) ∈ lw_all := lw_g (lw_at lw_m5 69 rfl) rfl
theorem q1110 : (Jvm.Cond.privateMethod ({ cls := "Lifeoffice", name := "law", desc := "(I)LLifeoffice$Law;" } : Jvm.MethodName)) ∈ lw_tbl := lw_at lw_m5 70 rfl
theorem q1111 : (Jvm.Cond.instanceMethod ({ cls := "Lifeoffice", name := "law", desc := "(I)LLifeoffice$Law;" } : Jvm.MethodName)) ∈ lw_all := lw_g (lw_at lw_m5 71 rfl) rfl
theorem q1112 : (Jvm.Cond.code ({ cls := "Lifeoffice", name := "law", desc := "(I)LLifeoffice$Law;" } : Jvm.MethodName) prog_1_method_9_code (2 : Nat) (Option.some (Jvm.ClassFile.FieldType.object "Lifeoffice$Law"))) ∈ lw_all := lw_g (lw_at lw_m5 72 rfl) rfl
theorem q1113 : (Jvm.Cond.methodLink "Lifeoffice" (141 : Nat) ({ cls := "Lifeoffice", name := "checkIndex", desc := "(II)V" } : Jvm.MethodName)) ∈ lw_all := lw_g (lw_at lw_m5 73 rfl) rfl
theorem q1114 : (Jvm.Cond.static ({ cls := "Lifeoffice", name := "checkIndex", desc := "(II)V" } : Jvm.MethodName)) ∈ lw_all := lw_g (lw_at lw_m5 74 rfl) rfl
theorem q1115 : (Jvm.Cond.code ({ cls := "Lifeoffice", name := "checkIndex", desc := "(II)V" } : Jvm.MethodName) prog_1_method_5_code (2 : Nat) (Option.none : Option Jvm.ClassFile.FieldType)) ∈ lw_all := lw_g (lw_at lw_m5 75 rfl) rfl
theorem q1116 : (Jvm.Cond.classLink "Lifeoffice" (128 : Nat) "java/lang/IndexOutOfBoundsException") ∈ lw_all := lw_g (lw_at lw_m5 76 rfl) rfl
theorem q1125 : (Jvm.Cond.methodLink "Lifeoffice" (130 : Nat) ({ cls := "java/lang/IndexOutOfBoundsException", name := "<init>", desc := "()V" } : Jvm.MethodName)) ∈ lw_all := lw_g (lw_at lw_m5 85 rfl) rfl
theorem q1131 : (Jvm.Cond.constantLong "Lifeoffice" (211 : Nat) (150 : Int64)) ∈ lw_all := lw_g (lw_at lw_m5 91 rfl) rfl
theorem q1136 : (Jvm.Cond.instanceMethod ({ cls := "Lifeoffice", name := "setImprovement", desc := "(I)I" } : Jvm.MethodName)) ∈ lw_all := lw_g (lw_at lw_m5 96 rfl) rfl
theorem q1137 : (Jvm.Cond.selects "Lifeoffice" ({ cls := "Lifeoffice", name := "setImprovement", desc := "(I)I" } : Jvm.MethodName) ({ cls := "Lifeoffice", name := "setImprovement", desc := "(I)I" } : Jvm.MethodName)) ∈ lw_all := lw_g (lw_at lw_m5 97 rfl) rfl
theorem q1138 : (Jvm.Cond.code ({ cls := "Lifeoffice", name := "setImprovement", desc := "(I)I" } : Jvm.MethodName) prog_1_method_18_code (5 : Nat) (Option.some Jvm.ClassFile.FieldType.int)) ∈ lw_all := lw_g (lw_at lw_m5 98 rfl) rfl
theorem q1139 : (Jvm.Cond.constantLong "Lifeoffice" (221 : Nat) (20 : Int64)) ∈ lw_all := lw_g (lw_at lw_m5 99 rfl) rfl
theorem q1144 : (Jvm.Cond.instanceMethod ({ cls := "Lifeoffice", name := "setLoading", desc := "(II)I" } : Jvm.MethodName)) ∈ lw_all := lw_g (lw_at lw_m5 104 rfl) rfl
theorem q1145 : (Jvm.Cond.selects "Lifeoffice" ({ cls := "Lifeoffice", name := "setLoading", desc := "(II)I" } : Jvm.MethodName) ({ cls := "Lifeoffice", name := "setLoading", desc := "(II)I" } : Jvm.MethodName)) ∈ lw_all := lw_g (lw_at lw_m5 105 rfl) rfl
theorem q1146 : (Jvm.Cond.code ({ cls := "Lifeoffice", name := "setLoading", desc := "(II)I" } : Jvm.MethodName) prog_1_method_19_code (4 : Nat) (Option.some Jvm.ClassFile.FieldType.int)) ∈ lw_all := lw_g (lw_at lw_m5 106 rfl) rfl
theorem q1147 : (Jvm.Cond.constantLong "Lifeoffice" (223 : Nat) (500 : Int64)) ∈ lw_all := lw_g (lw_at lw_m5 107 rfl) rfl
theorem q1152 : (Jvm.Cond.instanceMethod ({ cls := "Lifeoffice", name := "mortality", desc := "(IIIII)I" } : Jvm.MethodName)) ∈ lw_all := lw_g (lw_at lw_m5 112 rfl) rfl
theorem q1153 : (Jvm.Cond.selects "Lifeoffice" ({ cls := "Lifeoffice", name := "mortality", desc := "(IIIII)I" } : Jvm.MethodName) ({ cls := "Lifeoffice", name := "mortality", desc := "(IIIII)I" } : Jvm.MethodName)) ∈ lw_all := lw_g (lw_at lw_m5 113 rfl) rfl
theorem q1154 : (Jvm.Cond.code ({ cls := "Lifeoffice", name := "mortality", desc := "(IIIII)I" } : Jvm.MethodName) prog_1_method_20_code (7 : Nat) (Option.some Jvm.ClassFile.FieldType.int)) ∈ lw_all := lw_g (lw_at lw_m5 114 rfl) rfl
theorem q1155 : (Jvm.Cond.constantLong "Lifeoffice" (225 : Nat) (3 : Int64)) ∈ lw_all := lw_g (lw_at lw_m5 115 rfl) rfl
theorem q1156 : (Jvm.Cond.constantLong "Lifeoffice" (227 : Nat) (1800 : Int64)) ∈ lw_all := lw_g (lw_at lw_m5 116 rfl) rfl
theorem q1157 : (Jvm.Cond.constantLong "Lifeoffice" (229 : Nat) (2150 : Int64)) ∈ lw_all := lw_g (lw_at lw_m5 117 rfl) rfl
theorem q1158 : (Jvm.Cond.constantLong "Lifeoffice" (231 : Nat) (2260 : Int64)) ∈ lw_all := lw_g (lw_at lw_m5 118 rfl) rfl
theorem q1159 : (Jvm.Cond.classLink "Lifeoffice" (233 : Nat) "Lifeoffice$Life") ∈ lw_all := lw_g (lw_at lw_m5 119 rfl) rfl
theorem q1161 : (Jvm.Cond.methodLink "Lifeoffice" (235 : Nat) ({ cls := "Lifeoffice$Life", name := "<init>", desc := "(II)V" } : Jvm.MethodName)) ∈ lw_all := lw_g (lw_at lw_m5 121 rfl) rfl
theorem q1166 : (Jvm.Cond.fieldLink "Lifeoffice" (391 : Nat) "Lifeoffice$Life" "birth" "I") ∈ lw_all := lw_g (lw_at lw_m5 126 rfl) rfl
theorem q1176 : (Jvm.Cond.methodLink "Lifeoffice" (240 : Nat) ({ cls := "Lifeoffice$Life", name := "mortality", desc := "(IIIII)J" } : Jvm.MethodName)) ∈ lw_all := lw_g (lw_at lw_m5 136 rfl) rfl
theorem q1181 : (Jvm.Cond.instanceMethod ({ cls := "Lifeoffice", name := "money", desc := "(I)J" } : Jvm.MethodName)) ∈ lw_all := lw_g (lw_at lw_m5 141 rfl) rfl
theorem q1182 : (Jvm.Cond.selects "Lifeoffice" ({ cls := "Lifeoffice", name := "money", desc := "(I)J" } : Jvm.MethodName) ({ cls := "Lifeoffice", name := "money", desc := "(I)J" } : Jvm.MethodName)) ∈ lw_all := lw_g (lw_at lw_m5 142 rfl) rfl
theorem q1183 : (Jvm.Cond.code ({ cls := "Lifeoffice", name := "money", desc := "(I)J" } : Jvm.MethodName) prog_1_method_21_code (2 : Nat) (Option.some Jvm.ClassFile.FieldType.long)) ∈ lw_all := lw_g (lw_at lw_m5 143 rfl) rfl
theorem q1184 : (Jvm.Cond.constantLong "Lifeoffice" (244 : Nat) (4 : Int64)) ∈ lw_all := lw_g (lw_at lw_m5 144 rfl) rfl
theorem q1189 : (Jvm.Cond.instanceMethod ({ cls := "Lifeoffice", name := "quote", desc := "(IIIIII)J" } : Jvm.MethodName)) ∈ lw_all := lw_g (lw_at lw_m5 149 rfl) rfl
theorem q1190 : (Jvm.Cond.selects "Lifeoffice" ({ cls := "Lifeoffice", name := "quote", desc := "(IIIIII)J" } : Jvm.MethodName) ({ cls := "Lifeoffice", name := "quote", desc := "(IIIIII)J" } : Jvm.MethodName)) ∈ lw_all := lw_g (lw_at lw_m5 150 rfl) rfl
theorem q1191 : (Jvm.Cond.code ({ cls := "Lifeoffice", name := "quote", desc := "(IIIIII)J" } : Jvm.MethodName) prog_1_method_23_code (7 : Nat) (Option.some Jvm.ClassFile.FieldType.long)) ∈ lw_all := lw_g (lw_at lw_m5 151 rfl) rfl
theorem q1192 : (Jvm.Cond.methodLink "Lifeoffice" (264 : Nat) ({ cls := "Lifeoffice", name := "checkPolicy", desc := "(IIIIII)V" } : Jvm.MethodName)) ∈ lw_all := lw_g (lw_at lw_m5 152 rfl) rfl
theorem q1193 : (Jvm.Cond.privateMethod ({ cls := "Lifeoffice", name := "checkPolicy", desc := "(IIIIII)V" } : Jvm.MethodName)) ∈ lw_tbl := lw_at lw_m5 153 rfl
theorem q1194 : (Jvm.Cond.instanceMethod ({ cls := "Lifeoffice", name := "checkPolicy", desc := "(IIIIII)V" } : Jvm.MethodName)) ∈ lw_all := lw_g (lw_at lw_m5 154 rfl) rfl
theorem q1195 : (Jvm.Cond.code ({ cls := "Lifeoffice", name := "checkPolicy", desc := "(IIIIII)V" } : Jvm.MethodName) prog_1_method_22_code (7 : Nat) (Option.none : Option Jvm.ClassFile.FieldType)) ∈ lw_all := lw_g (lw_at lw_m5 155 rfl) rfl
theorem q1196 : (Jvm.Cond.constantLong "Lifeoffice" (252 : Nat) (100 : Int64)) ∈ lw_all := lw_g (lw_at lw_m5 156 rfl) rfl
theorem q1197 : (Jvm.Cond.constantLong "Lifeoffice" (256 : Nat) (60 : Int64)) ∈ lw_all := lw_g (lw_at lw_m5 157 rfl) rfl
theorem q1198 : (Jvm.Cond.constantLong "Lifeoffice" (258 : Nat) (80 : Int64)) ∈ lw_all := lw_g (lw_at lw_m5 158 rfl) rfl
theorem q1199 : (Jvm.Cond.constantLong "Lifeoffice" (260 : Nat) (7 : Int64)) ∈ lw_all := lw_g (lw_at lw_m5 159 rfl) rfl
theorem q1200 : (Jvm.Cond.constantLong "Lifeoffice" (262 : Nat) (300 : Int64)) ∈ lw_all := lw_g (lw_at lw_m5 160 rfl) rfl
theorem q1202 : (Jvm.Cond.methodLink "Lifeoffice" (268 : Nat) ({ cls := "Lifeoffice$Policy", name := "<init>", desc := "(LLifeoffice;IIIIIII)V" } : Jvm.MethodName)) ∈ lw_all := lw_g (lw_at lw_m5 162 rfl) rfl
theorem q1211 : (Jvm.Cond.fieldLink "Lifeoffice" (299 : Nat) "Lifeoffice$Policy" "number" "I") ∈ lw_all := lw_g (lw_at lw_m5 171 rfl) rfl
theorem q1213 : (Jvm.Cond.fieldLink "Lifeoffice" (375 : Nat) "Lifeoffice$Policy" "kind" "I") ∈ lw_all := lw_g (lw_at lw_m5 173 rfl) rfl
theorem q1215 : (Jvm.Cond.fieldLink "Lifeoffice" (274 : Nat) "Lifeoffice$Policy" "start" "I") ∈ lw_all := lw_g (lw_at lw_m5 175 rfl) rfl
theorem q1217 : (Jvm.Cond.fieldLink "Lifeoffice" (322 : Nat) "Lifeoffice$Policy" "end" "I") ∈ lw_all := lw_g (lw_at lw_m5 177 rfl) rfl
theorem q1219 : (Jvm.Cond.fieldLink "Lifeoffice" (328 : Nat) "Lifeoffice$Policy" "points" "I") ∈ lw_all := lw_g (lw_at lw_m5 179 rfl) rfl
theorem q1221 : (Jvm.Cond.fieldLink "Lifeoffice" (387 : Nat) "Lifeoffice$Policy" "life" "LLifeoffice$Life;") ∈ lw_all := lw_g (lw_at lw_m5 181 rfl) rfl
theorem q1223 : (Jvm.Cond.fieldLink "Lifeoffice" (447 : Nat) "Lifeoffice$Policy" "isWithProfits" "Z") ∈ lw_all := lw_g (lw_at lw_m5 183 rfl) rfl
theorem q1225 : (Jvm.Cond.fieldLink "Lifeoffice" (309 : Nat) "Lifeoffice$Policy" "sum" "J") ∈ lw_all := lw_g (lw_at lw_m5 185 rfl) rfl
theorem q1227 : (Jvm.Cond.fieldLink "Lifeoffice" (271 : Nat) "Lifeoffice$Policy" "premium" "J") ∈ lw_all := lw_g (lw_at lw_m5 187 rfl) rfl
theorem q1229 : (Jvm.Cond.fieldLink "Lifeoffice" (312 : Nat) "Lifeoffice$Policy" "bonus" "J") ∈ lw_all := lw_g (lw_at lw_m5 189 rfl) rfl
theorem q1231 : (Jvm.Cond.fieldLink "Lifeoffice" (315 : Nat) "Lifeoffice$Policy" "assetShare" "J") ∈ lw_all := lw_g (lw_at lw_m5 191 rfl) rfl
theorem q1232 : (Jvm.Cond.fieldLink "Lifeoffice" (154 : Nat) "Lifeoffice$Policy" "loan" "J") ∈ lw_all := lw_g (lw_at lw_m5 192 rfl) rfl
theorem q1234 : (Jvm.Cond.fieldLink "Lifeoffice" (306 : Nat) "Lifeoffice$Policy" "state" "I") ∈ lw_all := lw_g (lw_at lw_m5 194 rfl) rfl
theorem q1236 : (Jvm.Cond.fieldLink "Lifeoffice" (355 : Nat) "Lifeoffice$Policy" "truePoints" "I") ∈ lw_all := lw_g (lw_at lw_m5 196 rfl) rfl
theorem q1237 : (Jvm.Cond.fieldLink "Lifeoffice" (382 : Nat) "Lifeoffice$Policy" "guarantee" "I") ∈ lw_all := lw_g (lw_at lw_m5 197 rfl) rfl
theorem q1238 : (Jvm.Cond.fieldLink "Lifeoffice" (367 : Nat) "Lifeoffice$Policy" "lapsedIn" "I") ∈ lw_all := lw_g (lw_at lw_m5 198 rfl) rfl
theorem q1239 : (Jvm.Cond.fieldLink "Lifeoffice" (361 : Nat) "Lifeoffice$Policy" "payments" "I") ∈ lw_all := lw_g (lw_at lw_m5 199 rfl) rfl
theorem q1241 : (Jvm.Cond.fieldLink "Lifeoffice" (343 : Nat) "Lifeoffice$Policy" "wasPaidUp" "Z") ∈ lw_all := lw_g (lw_at lw_m5 201 rfl) rfl
theorem q1287 : (Jvm.Cond.instanceMethod ({ cls := "Lifeoffice", name := "issue", desc := "(IIIIII)I" } : Jvm.MethodName)) ∈ lw_all := lw_g (lw_at lw_m6 7 rfl) rfl
theorem q1288 : (Jvm.Cond.selects "Lifeoffice" ({ cls := "Lifeoffice", name := "issue", desc := "(IIIIII)I" } : Jvm.MethodName) ({ cls := "Lifeoffice", name := "issue", desc := "(IIIIII)I" } : Jvm.MethodName)) ∈ lw_all := lw_g (lw_at lw_m6 8 rfl) rfl
theorem q1289 : (Jvm.Cond.code ({ cls := "Lifeoffice", name := "issue", desc := "(IIIIII)I" } : Jvm.MethodName) prog_1_method_25_code (8 : Nat) (Option.some Jvm.ClassFile.FieldType.int)) ∈ lw_all := lw_g (lw_at lw_m6 9 rfl) rfl
theorem q1290 : (Jvm.Cond.methodLink "Lifeoffice" (286 : Nat) ({ cls := "Lifeoffice", name := "checkState", desc := "(Z)V" } : Jvm.MethodName)) ∈ lw_all := lw_g (lw_at lw_m6 10 rfl) rfl
theorem q1291 : (Jvm.Cond.static ({ cls := "Lifeoffice", name := "checkState", desc := "(Z)V" } : Jvm.MethodName)) ∈ lw_all := lw_g (lw_at lw_m6 11 rfl) rfl
theorem q1292 : (Jvm.Cond.code ({ cls := "Lifeoffice", name := "checkState", desc := "(Z)V" } : Jvm.MethodName) prog_1_method_7_code (1 : Nat) (Option.none : Option Jvm.ClassFile.FieldType)) ∈ lw_all := lw_g (lw_at lw_m6 12 rfl) rfl
theorem q1293 : (Jvm.Cond.classLink "Lifeoffice" (134 : Nat) "java/lang/IllegalStateException") ∈ lw_all := lw_g (lw_at lw_m6 13 rfl) rfl
theorem q1302 : (Jvm.Cond.methodLink "Lifeoffice" (136 : Nat) ({ cls := "java/lang/IllegalStateException", name := "<init>", desc := "()V" } : Jvm.MethodName)) ∈ lw_all := lw_g (lw_at lw_m6 22 rfl) rfl
theorem q1308 : (Jvm.Cond.methodLink "Lifeoffice" (290 : Nat) ({ cls := "java/util/ArrayList", name := "add", desc := "(Ljava/lang/Object;)Z" } : Jvm.MethodName)) ∈ lw_all := lw_g (lw_at lw_m6 28 rfl) rfl
theorem q1340 : (Jvm.Cond.selects "Lifeoffice" ({ cls := "java/lang/Object", name := "getClass", desc := "()Ljava/lang/Class;" } : Jvm.MethodName) ({ cls := "java/lang/Object", name := "getClass", desc := "()Ljava/lang/Class;" } : Jvm.MethodName)) ∈ lw_all := lw_g (lw_at lw_m6 60 rfl) rfl
theorem q1380 : (Jvm.Cond.methodLink "Lifeoffice" (293 : Nat) ({ cls := "Lifeoffice", name := "generationOf", desc := "(LLifeoffice$Policy;)LLifeoffice$Generation;" } : Jvm.MethodName)) ∈ lw_all := lw_g (lw_at lw_m6 100 rfl) rfl
theorem q1381 : (Jvm.Cond.privateMethod ({ cls := "Lifeoffice", name := "generationOf", desc := "(LLifeoffice$Policy;)LLifeoffice$Generation;" } : Jvm.MethodName)) ∈ lw_tbl := lw_at lw_m6 101 rfl
theorem q1382 : (Jvm.Cond.instanceMethod ({ cls := "Lifeoffice", name := "generationOf", desc := "(LLifeoffice$Policy;)LLifeoffice$Generation;" } : Jvm.MethodName)) ∈ lw_all := lw_g (lw_at lw_m6 102 rfl) rfl
theorem q1383 : (Jvm.Cond.code ({ cls := "Lifeoffice", name := "generationOf", desc := "(LLifeoffice$Policy;)LLifeoffice$Generation;" } : Jvm.MethodName) prog_1_method_24_code (4 : Nat) (Option.some (Jvm.ClassFile.FieldType.object "Lifeoffice$Generation"))) ∈ lw_all := lw_g (lw_at lw_m6 103 rfl) rfl
theorem q1384 : (Jvm.Cond.methodLink "Lifeoffice" (276 : Nat) ({ cls := "java/util/TreeMap", name := "get", desc := "(Ljava/lang/Object;)Ljava/lang/Object;" } : Jvm.MethodName)) ∈ lw_all := lw_g (lw_at lw_m6 104 rfl) rfl
theorem q1385 : (Jvm.Cond.classLink "Lifeoffice" (279 : Nat) "Lifeoffice$Generation") ∈ lw_all := lw_g (lw_at lw_m6 105 rfl) rfl
theorem q1387 : (Jvm.Cond.methodLinkNest "Lifeoffice" (281 : Nat) ({ cls := "Lifeoffice$Generation", name := "<init>", desc := "()V" } : Jvm.MethodName) "Lifeoffice") ∈ lw_tbl := lw_at lw_m6 107 rfl
theorem q1391 : (Jvm.Cond.fieldLink "Lifeoffice" (297 : Nat) "Lifeoffice$Generation" "policies" "I") ∈ lw_all := lw_g (lw_at lw_m6 111 rfl) rfl
theorem q1392 : (Jvm.Cond.fieldLink "Lifeoffice" (485 : Nat) "Lifeoffice$Generation" "premiums" "J") ∈ lw_all := lw_g (lw_at lw_m6 112 rfl) rfl
theorem q1393 : (Jvm.Cond.fieldLink "Lifeoffice" (498 : Nat) "Lifeoffice$Generation" "payouts" "J") ∈ lw_all := lw_g (lw_at lw_m6 113 rfl) rfl
theorem q1401 : (Jvm.Cond.methodLink "Lifeoffice" (282 : Nat) ({ cls := "java/util/TreeMap", name := "put", desc := "(Ljava/lang/Object;Ljava/lang/Object;)Ljava/lang/Object;" } : Jvm.MethodName)) ∈ lw_all := lw_g (lw_at lw_m6 121 rfl) rfl
theorem q1406 : (Jvm.Cond.instanceMethod ({ cls := "Lifeoffice", name := "stateOf", desc := "(I)I" } : Jvm.MethodName)) ∈ lw_all := lw_g (lw_at lw_m6 126 rfl) rfl
theorem q1407 : (Jvm.Cond.selects "Lifeoffice" ({ cls := "Lifeoffice", name := "stateOf", desc := "(I)I" } : Jvm.MethodName) ({ cls := "Lifeoffice", name := "stateOf", desc := "(I)I" } : Jvm.MethodName)) ∈ lw_all := lw_g (lw_at lw_m6 127 rfl) rfl
theorem q1408 : (Jvm.Cond.code ({ cls := "Lifeoffice", name := "stateOf", desc := "(I)I" } : Jvm.MethodName) prog_1_method_27_code (2 : Nat) (Option.some Jvm.ClassFile.FieldType.int)) ∈ lw_all := lw_g (lw_at lw_m6 128 rfl) rfl
theorem q1409 : (Jvm.Cond.methodLink "Lifeoffice" (302 : Nat) ({ cls := "Lifeoffice", name := "policy", desc := "(I)LLifeoffice$Policy;" } : Jvm.MethodName)) ∈ lw_all := lw_g (lw_at lw_m6 129 rfl) rfl
theorem q1410 : (Jvm.Cond.privateMethod ({ cls := "Lifeoffice", name := "policy", desc := "(I)LLifeoffice$Policy;" } : Jvm.MethodName)) ∈ lw_tbl := lw_at lw_m6 130 rfl
theorem q1411 : (Jvm.Cond.instanceMethod ({ cls := "Lifeoffice", name := "policy", desc := "(I)LLifeoffice$Policy;" } : Jvm.MethodName)) ∈ lw_all := lw_g (lw_at lw_m6 131 rfl) rfl
theorem q1412 : (Jvm.Cond.code ({ cls := "Lifeoffice", name := "policy", desc := "(I)LLifeoffice$Policy;" } : Jvm.MethodName) prog_1_method_8_code (2 : Nat) (Option.some (Jvm.ClassFile.FieldType.object "Lifeoffice$Policy"))) ∈ lw_all := lw_g (lw_at lw_m6 132 rfl) rfl
theorem q1417 : (Jvm.Cond.instanceMethod ({ cls := "Lifeoffice", name := "policyAt", desc := "(II)J" } : Jvm.MethodName)) ∈ lw_all := lw_g (lw_at lw_m6 137 rfl) rfl
theorem q1418 : (Jvm.Cond.selects "Lifeoffice" ({ cls := "Lifeoffice", name := "policyAt", desc := "(II)J" } : Jvm.MethodName) ({ cls := "Lifeoffice", name := "policyAt", desc := "(II)J" } : Jvm.MethodName)) ∈ lw_all := lw_g (lw_at lw_m6 138 rfl) rfl
theorem q1419 : (Jvm.Cond.code ({ cls := "Lifeoffice", name := "policyAt", desc := "(II)J" } : Jvm.MethodName) prog_1_method_28_code (4 : Nat) (Option.some Jvm.ClassFile.FieldType.long)) ∈ lw_all := lw_g (lw_at lw_m6 139 rfl) rfl
theorem q1420 : (Jvm.Cond.methodLink "Lifeoffice" (318 : Nat) ({ cls := "Lifeoffice$Policy", name := "surrenderValue", desc := "(I)J" } : Jvm.MethodName)) ∈ lw_all := lw_g (lw_at lw_m6 140 rfl) rfl
theorem q1431 : (Jvm.Cond.instanceMethod ({ cls := "Lifeoffice", name := "reserve", desc := "(II)J" } : Jvm.MethodName)) ∈ lw_all := lw_g (lw_at lw_m6 151 rfl) rfl
theorem q1432 : (Jvm.Cond.selects "Lifeoffice" ({ cls := "Lifeoffice", name := "reserve", desc := "(II)J" } : Jvm.MethodName) ({ cls := "Lifeoffice", name := "reserve", desc := "(II)J" } : Jvm.MethodName)) ∈ lw_all := lw_g (lw_at lw_m6 152 rfl) rfl
theorem q1433 : (Jvm.Cond.code ({ cls := "Lifeoffice", name := "reserve", desc := "(II)J" } : Jvm.MethodName) prog_1_method_29_code (4 : Nat) (Option.some Jvm.ClassFile.FieldType.long)) ∈ lw_all := lw_g (lw_at lw_m6 153 rfl) rfl
theorem q1438 : (Jvm.Cond.instanceMethod ({ cls := "Lifeoffice", name := "reserves", desc := "(I)J" } : Jvm.MethodName)) ∈ lw_all := lw_g (lw_at lw_m6 158 rfl) rfl
theorem q1439 : (Jvm.Cond.selects "Lifeoffice" ({ cls := "Lifeoffice", name := "reserves", desc := "(I)J" } : Jvm.MethodName) ({ cls := "Lifeoffice", name := "reserves", desc := "(I)J" } : Jvm.MethodName)) ∈ lw_all := lw_g (lw_at lw_m6 159 rfl) rfl
theorem q1440 : (Jvm.Cond.code ({ cls := "Lifeoffice", name := "reserves", desc := "(I)J" } : Jvm.MethodName) prog_1_method_30_code (2 : Nat) (Option.some Jvm.ClassFile.FieldType.long)) ∈ lw_all := lw_g (lw_at lw_m6 160 rfl) rfl
theorem q1445 : (Jvm.Cond.instanceMethod ({ cls := "Lifeoffice", name := "makePaidUp", desc := "(I)I" } : Jvm.MethodName)) ∈ lw_all := lw_g (lw_at lw_m6 165 rfl) rfl
theorem q1446 : (Jvm.Cond.selects "Lifeoffice" ({ cls := "Lifeoffice", name := "makePaidUp", desc := "(I)I" } : Jvm.MethodName) ({ cls := "Lifeoffice", name := "makePaidUp", desc := "(I)I" } : Jvm.MethodName)) ∈ lw_all := lw_g (lw_at lw_m6 166 rfl) rfl
theorem q1447 : (Jvm.Cond.code ({ cls := "Lifeoffice", name := "makePaidUp", desc := "(I)I" } : Jvm.MethodName) prog_1_method_31_code (5 : Nat) (Option.some Jvm.ClassFile.FieldType.int)) ∈ lw_all := lw_g (lw_at lw_m6 167 rfl) rfl
theorem q1448 : (Jvm.Cond.methodLink "Lifeoffice" (331 : Nat) ({ cls := "Lifeoffice$Policy", name := "values", desc := "(LLifeoffice$Law;II)LLifeoffice$Values;" } : Jvm.MethodName)) ∈ lw_all := lw_g (lw_at lw_m6 168 rfl) rfl
theorem q1453 : (Jvm.Cond.instanceMethod ({ cls := "Lifeoffice", name := "lend", desc := "(II)J" } : Jvm.MethodName)) ∈ lw_all := lw_g (lw_at lw_m6 173 rfl) rfl
theorem q1454 : (Jvm.Cond.selects "Lifeoffice" ({ cls := "Lifeoffice", name := "lend", desc := "(II)J" } : Jvm.MethodName) ({ cls := "Lifeoffice", name := "lend", desc := "(II)J" } : Jvm.MethodName)) ∈ lw_all := lw_g (lw_at lw_m6 174 rfl) rfl
theorem q1455 : (Jvm.Cond.code ({ cls := "Lifeoffice", name := "lend", desc := "(II)J" } : Jvm.MethodName) prog_1_method_32_code (4 : Nat) (Option.some Jvm.ClassFile.FieldType.long)) ∈ lw_all := lw_g (lw_at lw_m6 175 rfl) rfl
theorem q1456 : (Jvm.Cond.constantLong "Lifeoffice" (346 : Nat) (2147483647 : Int64)) ∈ lw_all := lw_g (lw_at lw_m6 176 rfl) rfl
theorem q1457 : (Jvm.Cond.methodLink "Lifeoffice" (348 : Nat) ({ cls := "Lifeoffice$Policy", name := "isOpen", desc := "()Z" } : Jvm.MethodName)) ∈ lw_all := lw_g (lw_at lw_m6 177 rfl) rfl
theorem q1461 : (Jvm.Cond.constantLong "Lifeoffice" (351 : Nat) (9 : Int64)) ∈ lw_all := lw_g (lw_at lw_m6 181 rfl) rfl
theorem q1462 : (Jvm.Cond.constantLong "Lifeoffice" (353 : Nat) (10 : Int64)) ∈ lw_all := lw_g (lw_at lw_m6 182 rfl) rfl
theorem q1467 : (Jvm.Cond.instanceMethod ({ cls := "Lifeoffice", name := "repay", desc := "(II)J" } : Jvm.MethodName)) ∈ lw_all := lw_g (lw_at lw_m6 187 rfl) rfl
theorem q1468 : (Jvm.Cond.selects "Lifeoffice" ({ cls := "Lifeoffice", name := "repay", desc := "(II)J" } : Jvm.MethodName) ({ cls := "Lifeoffice", name := "repay", desc := "(II)J" } : Jvm.MethodName)) ∈ lw_all := lw_g (lw_at lw_m6 188 rfl) rfl
theorem q1469 : (Jvm.Cond.code ({ cls := "Lifeoffice", name := "repay", desc := "(II)J" } : Jvm.MethodName) prog_1_method_33_code (4 : Nat) (Option.some Jvm.ClassFile.FieldType.long)) ∈ lw_all := lw_g (lw_at lw_m6 189 rfl) rfl
theorem q1474 : (Jvm.Cond.instanceMethod ({ cls := "Lifeoffice", name := "tellDeath", desc := "(II)J" } : Jvm.MethodName)) ∈ lw_all := lw_g (lw_at lw_m6 194 rfl) rfl
theorem q1475 : (Jvm.Cond.selects "Lifeoffice" ({ cls := "Lifeoffice", name := "tellDeath", desc := "(II)J" } : Jvm.MethodName) ({ cls := "Lifeoffice", name := "tellDeath", desc := "(II)J" } : Jvm.MethodName)) ∈ lw_all := lw_g (lw_at lw_m6 195 rfl) rfl
theorem q1476 : (Jvm.Cond.code ({ cls := "Lifeoffice", name := "tellDeath", desc := "(II)J" } : Jvm.MethodName) prog_1_method_34_code (4 : Nat) (Option.some Jvm.ClassFile.FieldType.long)) ∈ lw_all := lw_g (lw_at lw_m6 196 rfl) rfl
theorem q1477 : (Jvm.Cond.methodLink "Lifeoffice" (358 : Nat) ({ cls := "Lifeoffice$Policy", name := "claim", desc := "()J" } : Jvm.MethodName)) ∈ lw_all := lw_g (lw_at lw_m6 197 rfl) rfl
theorem q1489 : (Jvm.Cond.instanceMethod ({ cls := "Lifeoffice", name := "tellLate", desc := "(II)J" } : Jvm.MethodName)) ∈ lw_all := lw_g (lw_at lw_m6 209 rfl) rfl
theorem q1490 : (Jvm.Cond.selects "Lifeoffice" ({ cls := "Lifeoffice", name := "tellLate", desc := "(II)J" } : Jvm.MethodName) ({ cls := "Lifeoffice", name := "tellLate", desc := "(II)J" } : Jvm.MethodName)) ∈ lw_all := lw_g (lw_at lw_m6 210 rfl) rfl
theorem q1491 : (Jvm.Cond.code ({ cls := "Lifeoffice", name := "tellLate", desc := "(II)J" } : Jvm.MethodName) prog_1_method_35_code (6 : Nat) (Option.some Jvm.ClassFile.FieldType.long)) ∈ lw_all := lw_g (lw_at lw_m6 211 rfl) rfl
theorem q1496 : (Jvm.Cond.instanceMethod ({ cls := "Lifeoffice", name := "tellSurrender", desc := "(I)J" } : Jvm.MethodName)) ∈ lw_all := lw_g (lw_at lw_m6 216 rfl) rfl
theorem q1497 : (Jvm.Cond.selects "Lifeoffice" ({ cls := "Lifeoffice", name := "tellSurrender", desc := "(I)J" } : Jvm.MethodName) ({ cls := "Lifeoffice", name := "tellSurrender", desc := "(I)J" } : Jvm.MethodName)) ∈ lw_all := lw_g (lw_at lw_m6 217 rfl) rfl
theorem q1498 : (Jvm.Cond.code ({ cls := "Lifeoffice", name := "tellSurrender", desc := "(I)J" } : Jvm.MethodName) prog_1_method_36_code (3 : Nat) (Option.some Jvm.ClassFile.FieldType.long)) ∈ lw_all := lw_g (lw_at lw_m6 218 rfl) rfl
theorem q1503 : (Jvm.Cond.instanceMethod ({ cls := "Lifeoffice", name := "lapse", desc := "(I)J" } : Jvm.MethodName)) ∈ lw_all := lw_g (lw_at lw_m6 223 rfl) rfl
theorem q1504 : (Jvm.Cond.selects "Lifeoffice" ({ cls := "Lifeoffice", name := "lapse", desc := "(I)J" } : Jvm.MethodName) ({ cls := "Lifeoffice", name := "lapse", desc := "(I)J" } : Jvm.MethodName)) ∈ lw_all := lw_g (lw_at lw_m6 224 rfl) rfl
theorem q1505 : (Jvm.Cond.code ({ cls := "Lifeoffice", name := "lapse", desc := "(I)J" } : Jvm.MethodName) prog_1_method_37_code (5 : Nat) (Option.some Jvm.ClassFile.FieldType.long)) ∈ lw_all := lw_g (lw_at lw_m6 225 rfl) rfl
theorem q1510 : (Jvm.Cond.instanceMethod ({ cls := "Lifeoffice", name := "reinstate", desc := "(I)J" } : Jvm.MethodName)) ∈ lw_all := lw_g (lw_at lw_m6 230 rfl) rfl
theorem q1511 : (Jvm.Cond.selects "Lifeoffice" ({ cls := "Lifeoffice", name := "reinstate", desc := "(I)J" } : Jvm.MethodName) ({ cls := "Lifeoffice", name := "reinstate", desc := "(I)J" } : Jvm.MethodName)) ∈ lw_all := lw_g (lw_at lw_m6 231 rfl) rfl
theorem q1512 : (Jvm.Cond.code ({ cls := "Lifeoffice", name := "reinstate", desc := "(I)J" } : Jvm.MethodName) prog_1_method_38_code (5 : Nat) (Option.some Jvm.ClassFile.FieldType.long)) ∈ lw_all := lw_g (lw_at lw_m6 232 rfl) rfl
theorem q1513 : (Jvm.Cond.constantLong "Lifeoffice" (373 : Nat) (1050 : Int64)) ∈ lw_all := lw_g (lw_at lw_m6 233 rfl) rfl
theorem q1518 : (Jvm.Cond.instanceMethod ({ cls := "Lifeoffice", name := "setGuarantee", desc := "(II)I" } : Jvm.MethodName)) ∈ lw_all := lw_g (lw_at lw_m6 238 rfl) rfl
theorem q1519 : (Jvm.Cond.selects "Lifeoffice" ({ cls := "Lifeoffice", name := "setGuarantee", desc := "(II)I" } : Jvm.MethodName) ({ cls := "Lifeoffice", name := "setGuarantee", desc := "(II)I" } : Jvm.MethodName)) ∈ lw_all := lw_g (lw_at lw_m6 239 rfl) rfl
theorem q1520 : (Jvm.Cond.code ({ cls := "Lifeoffice", name := "setGuarantee", desc := "(II)I" } : Jvm.MethodName) prog_1_method_40_code (5 : Nat) (Option.some Jvm.ClassFile.FieldType.int)) ∈ lw_all := lw_g (lw_at lw_m7 0 rfl) rfl
theorem q1521 : (Jvm.Cond.methodLink "Lifeoffice" (378 : Nat) ({ cls := "Lifeoffice", name := "isEndowment", desc := "(LLifeoffice$Policy;)Z" } : Jvm.MethodName)) ∈ lw_all := lw_g (lw_at lw_m7 1 rfl) rfl
theorem q1522 : (Jvm.Cond.static ({ cls := "Lifeoffice", name := "isEndowment", desc := "(LLifeoffice$Policy;)Z" } : Jvm.MethodName)) ∈ lw_all := lw_g (lw_at lw_m7 2 rfl) rfl
theorem q1523 : (Jvm.Cond.code ({ cls := "Lifeoffice", name := "isEndowment", desc := "(LLifeoffice$Policy;)Z" } : Jvm.MethodName) prog_1_method_39_code (1 : Nat) (Option.some Jvm.ClassFile.FieldType.boolean)) ∈ lw_all := lw_g (lw_at lw_m7 3 rfl) rfl
theorem q1528 : (Jvm.Cond.instanceMethod ({ cls := "Lifeoffice", name := "optionValue", desc := "(II)J" } : Jvm.MethodName)) ∈ lw_all := lw_g (lw_at lw_m7 8 rfl) rfl
theorem q1529 : (Jvm.Cond.selects "Lifeoffice" ({ cls := "Lifeoffice", name := "optionValue", desc := "(II)J" } : Jvm.MethodName) ({ cls := "Lifeoffice", name := "optionValue", desc := "(II)J" } : Jvm.MethodName)) ∈ lw_all := lw_g (lw_at lw_m7 9 rfl) rfl
theorem q1530 : (Jvm.Cond.code ({ cls := "Lifeoffice", name := "optionValue", desc := "(II)J" } : Jvm.MethodName) prog_1_method_43_code (10 : Nat) (Option.some Jvm.ClassFile.FieldType.long)) ∈ lw_all := lw_g (lw_at lw_m7 10 rfl) rfl
theorem q1531 : (Jvm.Cond.methodLink "Lifeoffice" (416 : Nat) ({ cls := "Lifeoffice", name := "rateAt", desc := "(III)I" } : Jvm.MethodName)) ∈ lw_all := lw_g (lw_at lw_m7 11 rfl) rfl
theorem q1532 : (Jvm.Cond.privateMethod ({ cls := "Lifeoffice", name := "rateAt", desc := "(III)I" } : Jvm.MethodName)) ∈ lw_tbl := lw_at lw_m7 12 rfl
theorem q1533 : (Jvm.Cond.instanceMethod ({ cls := "Lifeoffice", name := "rateAt", desc := "(III)I" } : Jvm.MethodName)) ∈ lw_all := lw_g (lw_at lw_m7 13 rfl) rfl
theorem q1534 : (Jvm.Cond.code ({ cls := "Lifeoffice", name := "rateAt", desc := "(III)I" } : Jvm.MethodName) prog_1_method_42_code (4 : Nat) (Option.some Jvm.ClassFile.FieldType.int)) ∈ lw_all := lw_g (lw_at lw_m7 14 rfl) rfl
theorem q1535 : (Jvm.Cond.methodLink "Lifeoffice" (404 : Nat) ({ cls := "java/lang/Math", name := "min", desc := "(II)I" } : Jvm.MethodName)) ∈ lw_all := lw_g (lw_at lw_m7 15 rfl) rfl
theorem q1536 : (Jvm.Cond.methodLink "Lifeoffice" (408 : Nat) ({ cls := "java/lang/Math", name := "max", desc := "(II)I" } : Jvm.MethodName)) ∈ lw_all := lw_g (lw_at lw_m7 16 rfl) rfl
theorem q1537 : (Jvm.Cond.methodLink "Lifeoffice" (420 : Nat) ({ cls := "Lifeoffice", name := "annuityAtEnd", desc := "(LLifeoffice$Policy;I)J" } : Jvm.MethodName)) ∈ lw_all := lw_g (lw_at lw_m7 17 rfl) rfl
theorem q1538 : (Jvm.Cond.privateMethod ({ cls := "Lifeoffice", name := "annuityAtEnd", desc := "(LLifeoffice$Policy;I)J" } : Jvm.MethodName)) ∈ lw_tbl := lw_at lw_m7 18 rfl
theorem q1539 : (Jvm.Cond.instanceMethod ({ cls := "Lifeoffice", name := "annuityAtEnd", desc := "(LLifeoffice$Policy;I)J" } : Jvm.MethodName)) ∈ lw_all := lw_g (lw_at lw_m7 19 rfl) rfl
theorem q1540 : (Jvm.Cond.code ({ cls := "Lifeoffice", name := "annuityAtEnd", desc := "(LLifeoffice$Policy;I)J" } : Jvm.MethodName) prog_1_method_41_code (5 : Nat) (Option.some Jvm.ClassFile.FieldType.long)) ∈ lw_all := lw_g (lw_at lw_m7 20 rfl) rfl
theorem q1541 : (Jvm.Cond.constantLong "Lifeoffice" (429 : Nat) (2 : Int64)) ∈ lw_all := lw_g (lw_at lw_m7 21 rfl) rfl
theorem q1542 : (Jvm.Cond.methodLink "Lifeoffice" (431 : Nat) ({ cls := "Lifeoffice", name := "discounted", desc := "(JI)J" } : Jvm.MethodName)) ∈ lw_all := lw_g (lw_at lw_m7 22 rfl) rfl
theorem q1548 : (Jvm.Cond.instanceMethod ({ cls := "Lifeoffice", name := "byReserve", desc := "(I)I" } : Jvm.MethodName)) ∈ lw_all := lw_g (lw_at lw_m7 28 rfl) rfl
theorem q1549 : (Jvm.Cond.selects "Lifeoffice" ({ cls := "Lifeoffice", name := "byReserve", desc := "(I)I" } : Jvm.MethodName) ({ cls := "Lifeoffice", name := "byReserve", desc := "(I)I" } : Jvm.MethodName)) ∈ lw_all := lw_g (lw_at lw_m7 29 rfl) rfl
theorem q1550 : (Jvm.Cond.code ({ cls := "Lifeoffice", name := "byReserve", desc := "(I)I" } : Jvm.MethodName) prog_1_method_44_code (6 : Nat) (Option.some Jvm.ClassFile.FieldType.int)) ∈ lw_all := lw_g (lw_at lw_m7 30 rfl) rfl
theorem q1551 : (Jvm.Cond.classLink "Lifeoffice" (435 : Nat) "Lifeoffice$ByReserve") ∈ lw_all := lw_g (lw_at lw_m7 31 rfl) rfl
theorem q1553 : (Jvm.Cond.methodLinkNest "Lifeoffice" (437 : Nat) ({ cls := "Lifeoffice$ByReserve", name := "<init>", desc := "(LLifeoffice;)V" } : Jvm.MethodName) "Lifeoffice") ∈ lw_tbl := lw_at lw_m7 33 rfl
theorem q1561 : (Jvm.Cond.methodLink "Lifeoffice" (440 : Nat) ({ cls := "java/util/TreeSet", name := "<init>", desc := "(Ljava/util/Comparator;)V" } : Jvm.MethodName)) ∈ lw_all := lw_g (lw_at lw_m7 41 rfl) rfl
theorem q1567 : (Jvm.Cond.methodLink "Lifeoffice" (443 : Nat) ({ cls := "java/util/TreeSet", name := "add", desc := "(Ljava/lang/Object;)Z" } : Jvm.MethodName)) ∈ lw_all := lw_g (lw_at lw_m7 47 rfl) rfl
theorem q1579 : (Jvm.Cond.classLink "Lifeoffice" (444 : Nat) "java/util/NoSuchElementException") ∈ lw_all := lw_g (lw_at lw_m7 59 rfl) rfl
theorem q1580 : (Jvm.Cond.methodLink "Lifeoffice" (446 : Nat) ({ cls := "java/util/NoSuchElementException", name := "<init>", desc := "()V" } : Jvm.MethodName)) ∈ lw_all := lw_g (lw_at lw_m7 60 rfl) rfl
theorem q1585 : (Jvm.Cond.instanceMethod ({ cls := "Lifeoffice", name := "declare", desc := "(I)J" } : Jvm.MethodName)) ∈ lw_all := lw_g (lw_at lw_m7 65 rfl) rfl
theorem q1586 : (Jvm.Cond.selects "Lifeoffice" ({ cls := "Lifeoffice", name := "declare", desc := "(I)J" } : Jvm.MethodName) ({ cls := "Lifeoffice", name := "declare", desc := "(I)J" } : Jvm.MethodName)) ∈ lw_all := lw_g (lw_at lw_m7 66 rfl) rfl
theorem q1587 : (Jvm.Cond.code ({ cls := "Lifeoffice", name := "declare", desc := "(I)J" } : Jvm.MethodName) prog_1_method_46_code (10 : Nat) (Option.some Jvm.ClassFile.FieldType.long)) ∈ lw_all := lw_g (lw_at lw_m7 67 rfl) rfl
theorem q1588 : (Jvm.Cond.methodLink "Lifeoffice" (450 : Nat) ({ cls := "java/lang/Math", name := "abs", desc := "(I)I" } : Jvm.MethodName)) ∈ lw_all := lw_g (lw_at lw_m7 68 rfl) rfl
theorem q1591 : (Jvm.Cond.methodLink "Lifeoffice" (454 : Nat) ({ cls := "Lifeoffice", name := "moreBonus", desc := "(LLifeoffice$Policy;I)J" } : Jvm.MethodName)) ∈ lw_all := lw_g (lw_at lw_m7 71 rfl) rfl
theorem q1592 : (Jvm.Cond.privateMethod ({ cls := "Lifeoffice", name := "moreBonus", desc := "(LLifeoffice$Policy;I)J" } : Jvm.MethodName)) ∈ lw_tbl := lw_at lw_m7 72 rfl
theorem q1593 : (Jvm.Cond.instanceMethod ({ cls := "Lifeoffice", name := "moreBonus", desc := "(LLifeoffice$Policy;I)J" } : Jvm.MethodName)) ∈ lw_all := lw_g (lw_at lw_m7 73 rfl) rfl
theorem q1594 : (Jvm.Cond.code ({ cls := "Lifeoffice", name := "moreBonus", desc := "(LLifeoffice$Policy;I)J" } : Jvm.MethodName) prog_1_method_45_code (3 : Nat) (Option.some Jvm.ClassFile.FieldType.long)) ∈ lw_all := lw_g (lw_at lw_m7 74 rfl) rfl
theorem q1595 : (Jvm.Cond.constantLong "Lifeoffice" (457 : Nat) (100000000 : Int64)) ∈ lw_all := lw_g (lw_at lw_m7 75 rfl) rfl
theorem q1600 : (Jvm.Cond.instanceMethod ({ cls := "Lifeoffice", name := "setSmoothing", desc := "(I)I" } : Jvm.MethodName)) ∈ lw_all := lw_g (lw_at lw_m7 80 rfl) rfl
theorem q1601 : (Jvm.Cond.selects "Lifeoffice" ({ cls := "Lifeoffice", name := "setSmoothing", desc := "(I)I" } : Jvm.MethodName) ({ cls := "Lifeoffice", name := "setSmoothing", desc := "(I)I" } : Jvm.MethodName)) ∈ lw_all := lw_g (lw_at lw_m7 81 rfl) rfl
theorem q1602 : (Jvm.Cond.code ({ cls := "Lifeoffice", name := "setSmoothing", desc := "(I)I" } : Jvm.MethodName) prog_1_method_47_code (3 : Nat) (Option.some Jvm.ClassFile.FieldType.int)) ∈ lw_all := lw_g (lw_at lw_m7 82 rfl) rfl
theorem q1607 : (Jvm.Cond.instanceMethod ({ cls := "Lifeoffice", name := "setFinal", desc := "(I)I" } : Jvm.MethodName)) ∈ lw_all := lw_g (lw_at lw_m7 87 rfl) rfl
theorem q1608 : (Jvm.Cond.selects "Lifeoffice" ({ cls := "Lifeoffice", name := "setFinal", desc := "(I)I" } : Jvm.MethodName) ({ cls := "Lifeoffice", name := "setFinal", desc := "(I)I" } : Jvm.MethodName)) ∈ lw_all := lw_g (lw_at lw_m7 88 rfl) rfl
theorem q1609 : (Jvm.Cond.code ({ cls := "Lifeoffice", name := "setFinal", desc := "(I)I" } : Jvm.MethodName) prog_1_method_48_code (3 : Nat) (Option.some Jvm.ClassFile.FieldType.int)) ∈ lw_all := lw_g (lw_at lw_m7 89 rfl) rfl
theorem q1614 : (Jvm.Cond.instanceMethod ({ cls := "Lifeoffice", name := "buyBond", desc := "(III)I" } : Jvm.MethodName)) ∈ lw_all := lw_g (lw_at lw_m7 94 rfl) rfl
theorem q1615 : (Jvm.Cond.selects "Lifeoffice" ({ cls := "Lifeoffice", name := "buyBond", desc := "(III)I" } : Jvm.MethodName) ({ cls := "Lifeoffice", name := "buyBond", desc := "(III)I" } : Jvm.MethodName)) ∈ lw_all := lw_g (lw_at lw_m7 95 rfl) rfl
theorem q1616 : (Jvm.Cond.code ({ cls := "Lifeoffice", name := "buyBond", desc := "(III)I" } : Jvm.MethodName) prog_1_method_49_code (4 : Nat) (Option.some Jvm.ClassFile.FieldType.int)) ∈ lw_all := lw_g (lw_at lw_m7 96 rfl) rfl
theorem q1617 : (Jvm.Cond.methodLink "Lifeoffice" (459 : Nat) ({ cls := "java/util/TreeSet", name := "size", desc := "()I" } : Jvm.MethodName)) ∈ lw_all := lw_g (lw_at lw_m7 97 rfl) rfl
theorem q1630 : (Jvm.Cond.methodLink "Lifeoffice" (460 : Nat) ({ cls := "Lifeoffice$Bond", name := "<init>", desc := "(IIJI)V" } : Jvm.MethodName)) ∈ lw_all := lw_g (lw_at lw_m7 110 rfl) rfl
theorem q1636 : (Jvm.Cond.fieldLink "Lifeoffice" (470 : Nat) "Lifeoffice$Bond" "rate" "I") ∈ lw_all := lw_g (lw_at lw_m7 116 rfl) rfl
theorem q1638 : (Jvm.Cond.fieldLink "Lifeoffice" (467 : Nat) "Lifeoffice$Bond" "years" "I") ∈ lw_all := lw_g (lw_at lw_m7 118 rfl) rfl
theorem q1640 : (Jvm.Cond.fieldLink "Lifeoffice" (177 : Nat) "Lifeoffice$Bond" "nominal" "J") ∈ lw_all := lw_g (lw_at lw_m7 120 rfl) rfl
theorem q1654 : (Jvm.Cond.instanceMethod ({ cls := "Lifeoffice", name := "bondAt", desc := "(II)I" } : Jvm.MethodName)) ∈ lw_all := lw_g (lw_at lw_m7 134 rfl) rfl
theorem q1655 : (Jvm.Cond.selects "Lifeoffice" ({ cls := "Lifeoffice", name := "bondAt", desc := "(II)I" } : Jvm.MethodName) ({ cls := "Lifeoffice", name := "bondAt", desc := "(II)I" } : Jvm.MethodName)) ∈ lw_all := lw_g (lw_at lw_m7 135 rfl) rfl
theorem q1656 : (Jvm.Cond.code ({ cls := "Lifeoffice", name := "bondAt", desc := "(II)I" } : Jvm.MethodName) prog_1_method_51_code (4 : Nat) (Option.some Jvm.ClassFile.FieldType.int)) ∈ lw_all := lw_g (lw_at lw_m7 136 rfl) rfl
theorem q1657 : (Jvm.Cond.methodLink "Lifeoffice" (463 : Nat) ({ cls := "Lifeoffice", name := "bond", desc := "(I)LLifeoffice$Bond;" } : Jvm.MethodName)) ∈ lw_all := lw_g (lw_at lw_m7 137 rfl) rfl
theorem q1658 : (Jvm.Cond.privateMethod ({ cls := "Lifeoffice", name := "bond", desc := "(I)LLifeoffice$Bond;" } : Jvm.MethodName)) ∈ lw_tbl := lw_at lw_m7 138 rfl
theorem q1659 : (Jvm.Cond.instanceMethod ({ cls := "Lifeoffice", name := "bond", desc := "(I)LLifeoffice$Bond;" } : Jvm.MethodName)) ∈ lw_all := lw_g (lw_at lw_m7 139 rfl) rfl
theorem q1660 : (Jvm.Cond.code ({ cls := "Lifeoffice", name := "bond", desc := "(I)LLifeoffice$Bond;" } : Jvm.MethodName) prog_1_method_50_code (5 : Nat) (Option.some (Jvm.ClassFile.FieldType.object "Lifeoffice$Bond"))) ∈ lw_all := lw_g (lw_at lw_m7 140 rfl) rfl
theorem q1665 : (Jvm.Cond.instanceMethod ({ cls := "Lifeoffice", name := "defaults", desc := "(II)I" } : Jvm.MethodName)) ∈ lw_all := lw_g (lw_at lw_m7 145 rfl) rfl
theorem q1666 : (Jvm.Cond.selects "Lifeoffice" ({ cls := "Lifeoffice", name := "defaults", desc := "(II)I" } : Jvm.MethodName) ({ cls := "Lifeoffice", name := "defaults", desc := "(II)I" } : Jvm.MethodName)) ∈ lw_all := lw_g (lw_at lw_m7 146 rfl) rfl
theorem q1667 : (Jvm.Cond.code ({ cls := "Lifeoffice", name := "defaults", desc := "(II)I" } : Jvm.MethodName) prog_1_method_52_code (6 : Nat) (Option.some Jvm.ClassFile.FieldType.int)) ∈ lw_all := lw_g (lw_at lw_m7 147 rfl) rfl
theorem q1672 : (Jvm.Cond.instanceMethod ({ cls := "Lifeoffice", name := "setReinsurance", desc := "(II)I" } : Jvm.MethodName)) ∈ lw_all := lw_g (lw_at lw_m7 152 rfl) rfl
theorem q1673 : (Jvm.Cond.selects "Lifeoffice" ({ cls := "Lifeoffice", name := "setReinsurance", desc := "(II)I" } : Jvm.MethodName) ({ cls := "Lifeoffice", name := "setReinsurance", desc := "(II)I" } : Jvm.MethodName)) ∈ lw_all := lw_g (lw_at lw_m7 153 rfl) rfl
theorem q1674 : (Jvm.Cond.code ({ cls := "Lifeoffice", name := "setReinsurance", desc := "(II)I" } : Jvm.MethodName) prog_1_method_53_code (4 : Nat) (Option.some Jvm.ClassFile.FieldType.int)) ∈ lw_all := lw_g (lw_at lw_m7 154 rfl) rfl
theorem q1679 : (Jvm.Cond.instanceMethod ({ cls := "Lifeoffice", name := "closeYear", desc := "(II)J" } : Jvm.MethodName)) ∈ lw_all := lw_g (lw_at lw_m7 159 rfl) rfl
theorem q1680 : (Jvm.Cond.selects "Lifeoffice" ({ cls := "Lifeoffice", name := "closeYear", desc := "(II)J" } : Jvm.MethodName) ({ cls := "Lifeoffice", name := "closeYear", desc := "(II)J" } : Jvm.MethodName)) ∈ lw_all := lw_g (lw_at lw_m7 160 rfl) rfl
theorem q1681 : (Jvm.Cond.code ({ cls := "Lifeoffice", name := "closeYear", desc := "(II)J" } : Jvm.MethodName) prog_1_method_58_code (6 : Nat) (Option.some Jvm.ClassFile.FieldType.long)) ∈ lw_all := lw_g (lw_at lw_m7 161 rfl) rfl
theorem q1682 : (Jvm.Cond.methodLink "Lifeoffice" (508 : Nat) ({ cls := "Lifeoffice", name := "collect", desc := "(LLifeoffice$Policy;II)V" } : Jvm.MethodName)) ∈ lw_all := lw_g (lw_at lw_m7 162 rfl) rfl
theorem q1683 : (Jvm.Cond.privateMethod ({ cls := "Lifeoffice", name := "collect", desc := "(LLifeoffice$Policy;II)V" } : Jvm.MethodName)) ∈ lw_tbl := lw_at lw_m7 163 rfl
theorem q1684 : (Jvm.Cond.instanceMethod ({ cls := "Lifeoffice", name := "collect", desc := "(LLifeoffice$Policy;II)V" } : Jvm.MethodName)) ∈ lw_all := lw_g (lw_at lw_m7 164 rfl) rfl
theorem q1685 : (Jvm.Cond.code ({ cls := "Lifeoffice", name := "collect", desc := "(LLifeoffice$Policy;II)V" } : Jvm.MethodName) prog_1_method_54_code (14 : Nat) (Option.none : Option Jvm.ClassFile.FieldType)) ∈ lw_all := lw_g (lw_at lw_m7 165 rfl) rfl
theorem q1686 : (Jvm.Cond.methodLink "Lifeoffice" (480 : Nat) ({ cls := "Lifeoffice$Policy", name := "ceded", desc := "()J" } : Jvm.MethodName)) ∈ lw_all := lw_g (lw_at lw_m7 166 rfl) rfl
theorem q1691 : (Jvm.Cond.constantLong "Lifeoffice" (483 : Nat) (11 : Int64)) ∈ lw_all := lw_g (lw_at lw_m7 171 rfl) rfl
theorem q1692 : (Jvm.Cond.methodLink "Lifeoffice" (512 : Nat) ({ cls := "Lifeoffice", name := "earn", desc := "(I)V" } : Jvm.MethodName)) ∈ lw_all := lw_g (lw_at lw_m7 172 rfl) rfl
theorem q1693 : (Jvm.Cond.privateMethod ({ cls := "Lifeoffice", name := "earn", desc := "(I)V" } : Jvm.MethodName)) ∈ lw_tbl := lw_at lw_m7 173 rfl
theorem q1694 : (Jvm.Cond.instanceMethod ({ cls := "Lifeoffice", name := "earn", desc := "(I)V" } : Jvm.MethodName)) ∈ lw_all := lw_g (lw_at lw_m7 174 rfl) rfl
theorem q1695 : (Jvm.Cond.code ({ cls := "Lifeoffice", name := "earn", desc := "(I)V" } : Jvm.MethodName) prog_1_method_55_code (8 : Nat) (Option.none : Option Jvm.ClassFile.FieldType)) ∈ lw_all := lw_g (lw_at lw_m7 175 rfl) rfl
theorem q1696 : (Jvm.Cond.constantLong "Lifeoffice" (490 : Nat) (1000000000000 : Int64)) ∈ lw_all := lw_g (lw_at lw_m7 176 rfl) rfl
theorem q1697 : (Jvm.Cond.methodLink "Lifeoffice" (494 : Nat) ({ cls := "java/util/TreeSet", name := "addAll", desc := "(Ljava/util/Collection;)Z" } : Jvm.MethodName)) ∈ lw_all := lw_g (lw_at lw_m7 177 rfl) rfl
theorem q1754 : (Jvm.Cond.selects "Lifeoffice" ({ cls := "java/lang/Object", name := "equals", desc := "(Ljava/lang/Object;)Z" } : Jvm.MethodName) ({ cls := "java/lang/Object", name := "equals", desc := "(Ljava/lang/Object;)Z" } : Jvm.MethodName)) ∈ lw_all := lw_g (lw_at lw_m7 234 rfl) rfl
theorem q1873 : (Jvm.Cond.methodLink "Lifeoffice" (516 : Nat) ({ cls := "Lifeoffice", name := "settle", desc := "(LLifeoffice$Policy;J)V" } : Jvm.MethodName)) ∈ lw_all := lw_g (lw_at lw_m8 113 rfl) rfl
theorem q1874 : (Jvm.Cond.privateMethod ({ cls := "Lifeoffice", name := "settle", desc := "(LLifeoffice$Policy;J)V" } : Jvm.MethodName)) ∈ lw_tbl := lw_at lw_m8 114 rfl
theorem q1875 : (Jvm.Cond.instanceMethod ({ cls := "Lifeoffice", name := "settle", desc := "(LLifeoffice$Policy;J)V" } : Jvm.MethodName)) ∈ lw_all := lw_g (lw_at lw_m8 115 rfl) rfl
theorem q1876 : (Jvm.Cond.code ({ cls := "Lifeoffice", name := "settle", desc := "(LLifeoffice$Policy;J)V" } : Jvm.MethodName) prog_1_method_57_code (11 : Nat) (Option.none : Option Jvm.ClassFile.FieldType)) ∈ lw_all := lw_g (lw_at lw_m8 116 rfl) rfl
theorem q1877 : (Jvm.Cond.methodLink "Lifeoffice" (501 : Nat) ({ cls := "Lifeoffice", name := "pay", desc := "(LLifeoffice$Policy;IJ)J" } : Jvm.MethodName)) ∈ lw_all := lw_g (lw_at lw_m8 117 rfl) rfl
theorem q1878 : (Jvm.Cond.privateMethod ({ cls := "Lifeoffice", name := "pay", desc := "(LLifeoffice$Policy;IJ)J" } : Jvm.MethodName)) ∈ lw_tbl := lw_at lw_m8 118 rfl
theorem q1879 : (Jvm.Cond.instanceMethod ({ cls := "Lifeoffice", name := "pay", desc := "(LLifeoffice$Policy;IJ)J" } : Jvm.MethodName)) ∈ lw_all := lw_g (lw_at lw_m8 119 rfl) rfl
theorem q1880 : (Jvm.Cond.code ({ cls := "Lifeoffice", name := "pay", desc := "(LLifeoffice$Policy;IJ)J" } : Jvm.MethodName) prog_1_method_56_code (7 : Nat) (Option.some Jvm.ClassFile.FieldType.long)) ∈ lw_all := lw_g (lw_at lw_m8 120 rfl) rfl
theorem q1881 : (Jvm.Cond.methodLink "Lifeoffice" (505 : Nat) ({ cls := "Lifeoffice$Policy", name := "maturity", desc := "()J" } : Jvm.MethodName)) ∈ lw_all := lw_g (lw_at lw_m8 121 rfl) rfl
theorem q1885 : (Jvm.Cond.methodLink "Lifeoffice" (520 : Nat) ({ cls := "Lifeoffice$Ledger", name := "take", desc := "(LLifeoffice$Ledger;)V" } : Jvm.MethodName)) ∈ lw_all := lw_g (lw_at lw_m8 125 rfl) rfl
theorem q1893 : (Jvm.Cond.instanceMethod ({ cls := "Lifeoffice", name := "surplus", desc := "(I)J" } : Jvm.MethodName)) ∈ lw_all := lw_g (lw_at lw_m8 133 rfl) rfl
theorem q1894 : (Jvm.Cond.selects "Lifeoffice" ({ cls := "Lifeoffice", name := "surplus", desc := "(I)J" } : Jvm.MethodName) ({ cls := "Lifeoffice", name := "surplus", desc := "(I)J" } : Jvm.MethodName)) ∈ lw_all := lw_g (lw_at lw_m8 134 rfl) rfl
theorem q1895 : (Jvm.Cond.code ({ cls := "Lifeoffice", name := "surplus", desc := "(I)J" } : Jvm.MethodName) prog_1_method_59_code (2 : Nat) (Option.some Jvm.ClassFile.FieldType.long)) ∈ lw_all := lw_g (lw_at lw_m8 135 rfl) rfl
theorem q1896 : (Jvm.Cond.constantLong "Lifeoffice" (524 : Nat) (8 : Int64)) ∈ lw_all := lw_g (lw_at lw_m8 136 rfl) rfl
theorem q1897 : (Jvm.Cond.methodLink "Lifeoffice" (526 : Nat) ({ cls := "Lifeoffice$Ledger", name := "of", desc := "(Ljava/lang/Comparable;)J" } : Jvm.MethodName)) ∈ lw_all := lw_g (lw_at lw_m8 137 rfl) rfl
theorem q1902 : (Jvm.Cond.instanceMethod ({ cls := "Lifeoffice", name := "experience", desc := "(I)J" } : Jvm.MethodName)) ∈ lw_all := lw_g (lw_at lw_m8 142 rfl) rfl
theorem q1903 : (Jvm.Cond.selects "Lifeoffice" ({ cls := "Lifeoffice", name := "experience", desc := "(I)J" } : Jvm.MethodName) ({ cls := "Lifeoffice", name := "experience", desc := "(I)J" } : Jvm.MethodName)) ∈ lw_all := lw_g (lw_at lw_m8 143 rfl) rfl
theorem q1904 : (Jvm.Cond.code ({ cls := "Lifeoffice", name := "experience", desc := "(I)J" } : Jvm.MethodName) prog_1_method_63_code (2 : Nat) (Option.some Jvm.ClassFile.FieldType.long)) ∈ lw_all := lw_g (lw_at lw_m8 144 rfl) rfl
theorem q1909 : (Jvm.Cond.instanceMethod ({ cls := "Lifeoffice", name := "expectedPayments", desc := "(I)J" } : Jvm.MethodName)) ∈ lw_all := lw_g (lw_at lw_m8 149 rfl) rfl
theorem q1910 : (Jvm.Cond.selects "Lifeoffice" ({ cls := "Lifeoffice", name := "expectedPayments", desc := "(I)J" } : Jvm.MethodName) ({ cls := "Lifeoffice", name := "expectedPayments", desc := "(I)J" } : Jvm.MethodName)) ∈ lw_all := lw_g (lw_at lw_m8 150 rfl) rfl
theorem q1911 : (Jvm.Cond.code ({ cls := "Lifeoffice", name := "expectedPayments", desc := "(I)J" } : Jvm.MethodName) prog_1_method_67_code (2 : Nat) (Option.some Jvm.ClassFile.FieldType.long)) ∈ lw_all := lw_g (lw_at lw_m8 151 rfl) rfl
theorem q1912 : (Jvm.Cond.constantLong "Lifeoffice" (542 : Nat) (40 : Int64)) ∈ lw_all := lw_g (lw_at lw_m8 152 rfl) rfl
theorem q1917 : (Jvm.Cond.instanceMethod ({ cls := "Lifeoffice", name := "bondPayments", desc := "(I)J" } : Jvm.MethodName)) ∈ lw_all := lw_g (lw_at lw_m8 157 rfl) rfl
theorem q1918 : (Jvm.Cond.selects "Lifeoffice" ({ cls := "Lifeoffice", name := "bondPayments", desc := "(I)J" } : Jvm.MethodName) ({ cls := "Lifeoffice", name := "bondPayments", desc := "(I)J" } : Jvm.MethodName)) ∈ lw_all := lw_g (lw_at lw_m8 158 rfl) rfl
theorem q1919 : (Jvm.Cond.code ({ cls := "Lifeoffice", name := "bondPayments", desc := "(I)J" } : Jvm.MethodName) prog_1_method_69_code (2 : Nat) (Option.some Jvm.ClassFile.FieldType.long)) ∈ lw_all := lw_g (lw_at lw_m8 159 rfl) rfl
theorem q1924 : (Jvm.Cond.instanceMethod ({ cls := "Lifeoffice", name := "close", desc := "()I" } : Jvm.MethodName)) ∈ lw_all := lw_g (lw_at lw_m8 164 rfl) rfl
theorem q1925 : (Jvm.Cond.selects "Lifeoffice" ({ cls := "Lifeoffice", name := "close", desc := "()I" } : Jvm.MethodName) ({ cls := "Lifeoffice", name := "close", desc := "()I" } : Jvm.MethodName)) ∈ lw_all := lw_g (lw_at lw_m8 165 rfl) rfl
theorem q1926 : (Jvm.Cond.code ({ cls := "Lifeoffice", name := "close", desc := "()I" } : Jvm.MethodName) prog_1_method_71_code (3 : Nat) (Option.some Jvm.ClassFile.FieldType.int)) ∈ lw_all := lw_g (lw_at lw_m8 166 rfl) rfl
theorem q1931 : (Jvm.Cond.instanceMethod ({ cls := "Lifeoffice", name := "distribute", desc := "(I)J" } : Jvm.MethodName)) ∈ lw_all := lw_g (lw_at lw_m8 171 rfl) rfl
theorem q1932 : (Jvm.Cond.selects "Lifeoffice" ({ cls := "Lifeoffice", name := "distribute", desc := "(I)J" } : Jvm.MethodName) ({ cls := "Lifeoffice", name := "distribute", desc := "(I)J" } : Jvm.MethodName)) ∈ lw_all := lw_g (lw_at lw_m8 172 rfl) rfl
theorem q1933 : (Jvm.Cond.code ({ cls := "Lifeoffice", name := "distribute", desc := "(I)J" } : Jvm.MethodName) prog_1_method_73_code (10 : Nat) (Option.some Jvm.ClassFile.FieldType.long)) ∈ lw_all := lw_g (lw_at lw_m8 173 rfl) rfl
theorem q1934 : (Jvm.Cond.methodLink "Lifeoffice" (550 : Nat) ({ cls := "Lifeoffice", name := "shares", desc := "(LLifeoffice$Policy;)Z" } : Jvm.MethodName)) ∈ lw_all := lw_g (lw_at lw_m8 174 rfl) rfl
theorem q1935 : (Jvm.Cond.privateMethod ({ cls := "Lifeoffice", name := "shares", desc := "(LLifeoffice$Policy;)Z" } : Jvm.MethodName)) ∈ lw_tbl := lw_at lw_m8 175 rfl
theorem q1936 : (Jvm.Cond.instanceMethod ({ cls := "Lifeoffice", name := "shares", desc := "(LLifeoffice$Policy;)Z" } : Jvm.MethodName)) ∈ lw_all := lw_g (lw_at lw_m8 176 rfl) rfl
theorem q1937 : (Jvm.Cond.code ({ cls := "Lifeoffice", name := "shares", desc := "(LLifeoffice$Policy;)Z" } : Jvm.MethodName) prog_1_method_72_code (2 : Nat) (Option.some Jvm.ClassFile.FieldType.boolean)) ∈ lw_all := lw_g (lw_at lw_m8 177 rfl) rfl
theorem q1942 : (Jvm.Cond.instanceMethod ({ cls := "Lifeoffice", name := "generation", desc := "(II)J" } : Jvm.MethodName)) ∈ lw_all := lw_g (lw_at lw_m8 182 rfl) rfl
theorem q1943 : (Jvm.Cond.selects "Lifeoffice" ({ cls := "Lifeoffice", name := "generation", desc := "(II)J" } : Jvm.MethodName) ({ cls := "Lifeoffice", name := "generation", desc := "(II)J" } : Jvm.MethodName)) ∈ lw_all := lw_g (lw_at lw_m8 183 rfl) rfl
theorem q1944 : (Jvm.Cond.code ({ cls := "Lifeoffice", name := "generation", desc := "(II)J" } : Jvm.MethodName) prog_1_method_74_code (4 : Nat) (Option.some Jvm.ClassFile.FieldType.long)) ∈ lw_all := lw_g (lw_at lw_m8 184 rfl) rfl
theorem q2527 : (Jvm.Cond.castable "Lifeoffice" "java/lang/Object") ∈ lw_tbl := lw_at lw_m11 47 rfl
theorem in_X1 : ∀ w ∈ wsX10, w ∈ lw_all := lw_in wsX10 [313, 315, 317, 319, 321, 323, 325, 327, 329, 331, 333, 335, 337, 339, 341, 343, 345, 347, 349, 351, 353, 355, 357] (by decide +kernel) (by decide +kernel)
