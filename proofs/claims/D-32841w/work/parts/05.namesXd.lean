/-! Lifeoffice$Law -/
set_option maxRecDepth 100000
def RX2 : String := "Lifeoffice$Law"
def TX2 : u_T := fun k => match k with
  | 0 => ("Lifeoffice$Law", "interest", "I", false)
  | 1 => ("Lifeoffice$Law", "percent", "I", false)
  | _ => ("Lifeoffice$Law", "isZeroised", "Z", false)
def tyX2 : Nat → FieldType := fun k => match k with
  | 0 => .int
  | 1 => .int
  | _ => .boolean
abbrev wsX20 : List Cond := u_ws RX2 TX2 3
theorem nmX2 : ∀ a, a < 3 → ∀ b, b < 3 → a ≠ b → (TX2 a).2.1 ≠ (TX2 b).2.1 := by decide +kernel
theorem tyX2_ok : ∀ k, k < 3 → parseFieldDescriptor (TX2 k).2.2.1 = some (tyX2 k) := by decide +kernel
abbrev cX2_init : ByteArray := prog_5_method_1_code
def yX2_init : MethodName := ⟨RX2, "<init>", "()V"⟩
theorem dX2_init_0 : decode cX2_init 0 = .ok (.aload_n 0, 1) := by decide +kernel
theorem dX2_init_1 : decode cX2_init 1 = .ok (.invokespecial 1, 3) := by decide +kernel
theorem dX2_init_4 : decode cX2_init 4 = .ok (.return_, 1) := by decide +kernel
abbrev cX2_set : ByteArray := prog_5_method_2_code
def yX2_set : MethodName := ⟨RX2, "set", "(IIZ)V"⟩
def dkwX2_set_0 : List UInt8 := [42, 27, 181, 0, 7, 42, 28, 181, 0, 13, 42, 29, 181, 0, 16, 177]
abbrev dktX2_set_0 : List UInt8 := dkwX2_set_0 ++ []
theorem dksX2_set_0 : cX2_set.data.toList.drop 0 = dktX2_set_0 := by decide +kernel
theorem dX2_set_0 : decode cX2_set 0 = .ok (.aload_n 0, 1) := dk_42 (dk_at dksX2_set_0 0 rfl rfl)
theorem dX2_set_1 : decode cX2_set 1 = .ok (.iload_n 1, 1) := dk_27 (dk_at dksX2_set_0 1 rfl rfl)
theorem dX2_set_2 : decode cX2_set 2 = .ok (.putfield 7, 3) := dk_181 0 7 (dk_at dksX2_set_0 2 rfl rfl)
theorem dX2_set_5 : decode cX2_set 5 = .ok (.aload_n 0, 1) := dk_42 (dk_at dksX2_set_0 5 rfl rfl)
theorem dX2_set_6 : decode cX2_set 6 = .ok (.iload_n 2, 1) := dk_28 (dk_at dksX2_set_0 6 rfl rfl)
theorem dX2_set_7 : decode cX2_set 7 = .ok (.putfield 13, 3) := dk_181 0 13 (dk_at dksX2_set_0 7 rfl rfl)
theorem dX2_set_10 : decode cX2_set 10 = .ok (.aload_n 0, 1) := dk_42 (dk_at dksX2_set_0 10 rfl rfl)
theorem dX2_set_11 : decode cX2_set 11 = .ok (.iload_n 3, 1) := dk_29 (dk_at dksX2_set_0 11 rfl rfl)
theorem dX2_set_12 : decode cX2_set 12 = .ok (.putfield 16, 3) := dk_181 0 16 (dk_at dksX2_set_0 12 rfl rfl)
theorem dX2_set_15 : decode cX2_set 15 = .ok (.return_, 1) := dk_177 (dk_at dksX2_set_0 15 rfl rfl)
theorem q82 : (Jvm.Cond.initialized "Lifeoffice$Law") ∈ lw_all := lw_g (lw_at lw_m1 2 rfl) rfl
theorem q134 : (Jvm.Cond.instantiable "Lifeoffice$Law" (3 : Nat)) ∈ lw_all := lw_g (lw_at lw_m1 54 rfl) rfl
theorem q136 : (Jvm.Cond.instanceMethod ({ cls := "Lifeoffice$Law", name := "<init>", desc := "()V" } : Jvm.MethodName)) ∈ lw_all := lw_g (lw_at lw_m1 56 rfl) rfl
theorem q137 : (Jvm.Cond.code ({ cls := "Lifeoffice$Law", name := "<init>", desc := "()V" } : Jvm.MethodName) prog_5_method_1_code (1 : Nat) (Option.none : Option Jvm.ClassFile.FieldType)) ∈ lw_all := lw_g (lw_at lw_m1 57 rfl) rfl
theorem q138 : (Jvm.Cond.methodLink "Lifeoffice$Law" (1 : Nat) ({ cls := "java/lang/Object", name := "<init>", desc := "()V" } : Jvm.MethodName)) ∈ lw_all := lw_g (lw_at lw_m1 58 rfl) rfl
theorem q139 : (Jvm.Cond.fieldLink "Lifeoffice$Law" (7 : Nat) "Lifeoffice$Law" "interest" "I") ∈ lw_all := lw_g (lw_at lw_m1 59 rfl) rfl
theorem q142 : (Jvm.Cond.fieldLink "Lifeoffice$Law" (13 : Nat) "Lifeoffice$Law" "percent" "I") ∈ lw_all := lw_g (lw_at lw_m1 62 rfl) rfl
theorem q145 : (Jvm.Cond.fieldLink "Lifeoffice$Law" (16 : Nat) "Lifeoffice$Law" "isZeroised" "Z") ∈ lw_all := lw_g (lw_at lw_m1 65 rfl) rfl
theorem q147 : (Jvm.Cond.lays "Lifeoffice$Law" "Lifeoffice$Law" "interest" "I") ∈ lw_all := lw_g (lw_at lw_m1 67 rfl) rfl
theorem q148 : (Jvm.Cond.soleField "Lifeoffice$Law" "interest") ∈ lw_all := lw_g (lw_at lw_m1 68 rfl) rfl
theorem q149 : (Jvm.Cond.lays "Lifeoffice$Law" "Lifeoffice$Law" "percent" "I") ∈ lw_all := lw_g (lw_at lw_m1 69 rfl) rfl
theorem q150 : (Jvm.Cond.soleField "Lifeoffice$Law" "percent") ∈ lw_all := lw_g (lw_at lw_m1 70 rfl) rfl
theorem q151 : (Jvm.Cond.lays "Lifeoffice$Law" "Lifeoffice$Law" "isZeroised" "Z") ∈ lw_all := lw_g (lw_at lw_m1 71 rfl) rfl
theorem q152 : (Jvm.Cond.soleField "Lifeoffice$Law" "isZeroised") ∈ lw_all := lw_g (lw_at lw_m1 72 rfl) rfl
theorem q153 : (Jvm.Cond.superclass "Lifeoffice$Law" "java/lang/Object") ∈ lw_all := lw_g (lw_at lw_m1 73 rfl) rfl
theorem q253 : (Jvm.Cond.instanceMethod ({ cls := "Lifeoffice$Law", name := "set", desc := "(IIZ)V" } : Jvm.MethodName)) ∈ lw_all := lw_g (lw_at lw_m1 173 rfl) rfl
theorem q254 : (Jvm.Cond.selects "Lifeoffice$Law" ({ cls := "Lifeoffice$Law", name := "set", desc := "(IIZ)V" } : Jvm.MethodName) ({ cls := "Lifeoffice$Law", name := "set", desc := "(IIZ)V" } : Jvm.MethodName)) ∈ lw_all := lw_g (lw_at lw_m1 174 rfl) rfl
theorem q255 : (Jvm.Cond.code ({ cls := "Lifeoffice$Law", name := "set", desc := "(IIZ)V" } : Jvm.MethodName) prog_5_method_2_code (4 : Nat) (Option.none : Option Jvm.ClassFile.FieldType)) ∈ lw_all := lw_g (lw_at lw_m1 175 rfl) rfl
theorem q1344 : (Jvm.Cond.selects "Lifeoffice$Law" ({ cls := "java/lang/Object", name := "getClass", desc := "()Ljava/lang/Class;" } : Jvm.MethodName) ({ cls := "java/lang/Object", name := "getClass", desc := "()Ljava/lang/Class;" } : Jvm.MethodName)) ∈ lw_all := lw_g (lw_at lw_m6 64 rfl) rfl
theorem q1758 : (Jvm.Cond.selects "Lifeoffice$Law" ({ cls := "java/lang/Object", name := "equals", desc := "(Ljava/lang/Object;)Z" } : Jvm.MethodName) ({ cls := "java/lang/Object", name := "equals", desc := "(Ljava/lang/Object;)Z" } : Jvm.MethodName)) ∈ lw_all := lw_g (lw_at lw_m7 238 rfl) rfl
theorem q2526 : (Jvm.Cond.castable "Lifeoffice$Law" "java/lang/Object") ∈ lw_tbl := lw_at lw_m11 46 rfl
theorem in_X2 : ∀ w ∈ wsX20, w ∈ lw_all := lw_in wsX20 [147, 149, 151] (by decide +kernel) (by decide +kernel)
/-! Lifeoffice$Ledger -/
set_option maxRecDepth 100000
def RX3 : String := "Lifeoffice$Ledger"
def TX3 : u_T := fun k => match k with
  | _ => ("Lifeoffice$Ledger", "amounts", "Ljava/util/TreeMap;", true)
def tyX3 : Nat → FieldType := fun k => match k with
  | _ => .object "java/util/TreeMap"
abbrev wsX30 : List Cond := u_ws RX3 TX3 1
theorem nmX3 : ∀ a, a < 1 → ∀ b, b < 1 → a ≠ b → (TX3 a).2.1 ≠ (TX3 b).2.1 := by decide +kernel
theorem tyX3_ok : ∀ k, k < 1 → parseFieldDescriptor (TX3 k).2.2.1 = some (tyX3 k) := by decide +kernel
abbrev cX3_init : ByteArray := prog_6_method_1_code
def yX3_init : MethodName := ⟨RX3, "<init>", "()V"⟩
def dkwX3_init_0 : List UInt8 := [42, 183, 0, 1, 42, 187, 0, 7, 89, 183, 0, 9, 181, 0, 10, 177]
abbrev dktX3_init_0 : List UInt8 := dkwX3_init_0 ++ []
theorem dksX3_init_0 : cX3_init.data.toList.drop 0 = dktX3_init_0 := by decide +kernel
theorem dX3_init_0 : decode cX3_init 0 = .ok (.aload_n 0, 1) := dk_42 (dk_at dksX3_init_0 0 rfl rfl)
theorem dX3_init_1 : decode cX3_init 1 = .ok (.invokespecial 1, 3) := dk_183 0 1 (dk_at dksX3_init_0 1 rfl rfl)
theorem dX3_init_4 : decode cX3_init 4 = .ok (.aload_n 0, 1) := dk_42 (dk_at dksX3_init_0 4 rfl rfl)
theorem dX3_init_5 : decode cX3_init 5 = .ok (.new 7, 3) := dk_187 0 7 (dk_at dksX3_init_0 5 rfl rfl)
theorem dX3_init_8 : decode cX3_init 8 = .ok (.dup, 1) := dk_89 (dk_at dksX3_init_0 8 rfl rfl)
theorem dX3_init_9 : decode cX3_init 9 = .ok (.invokespecial 9, 3) := dk_183 0 9 (dk_at dksX3_init_0 9 rfl rfl)
theorem dX3_init_12 : decode cX3_init 12 = .ok (.putfield 10, 3) := dk_181 0 10 (dk_at dksX3_init_0 12 rfl rfl)
theorem dX3_init_15 : decode cX3_init 15 = .ok (.return_, 1) := dk_177 (dk_at dksX3_init_0 15 rfl rfl)
abbrev cX3_clear : ByteArray := prog_6_method_6_code
def yX3_clear : MethodName := ⟨RX3, "clear", "()V"⟩
def dkwX3_clear_0 : List UInt8 := [42, 180, 0, 10, 182, 0, 60, 177]
abbrev dktX3_clear_0 : List UInt8 := dkwX3_clear_0 ++ []
theorem dksX3_clear_0 : cX3_clear.data.toList.drop 0 = dktX3_clear_0 := by decide +kernel
theorem dX3_clear_0 : decode cX3_clear 0 = .ok (.aload_n 0, 1) := dk_42 (dk_at dksX3_clear_0 0 rfl rfl)
theorem dX3_clear_1 : decode cX3_clear 1 = .ok (.getfield 10, 3) := dk_180 0 10 (dk_at dksX3_clear_0 1 rfl rfl)
theorem dX3_clear_4 : decode cX3_clear 4 = .ok (.invokevirtual 60, 3) := dk_182 0 60 (dk_at dksX3_clear_0 4 rfl rfl)
theorem dX3_clear_7 : decode cX3_clear 7 = .ok (.return_, 1) := dk_177 (dk_at dksX3_clear_0 7 rfl rfl)
abbrev cX3_add : ByteArray := prog_6_method_2_code
def yX3_add : MethodName := ⟨RX3, "add", "(Ljava/lang/Comparable;J)V"⟩
def dkwX3_add_0 : List UInt8 := [42, 180, 0, 10, 43, 42, 43, 182, 0, 16, 32, 97, 184, 0, 20, 182, 0, 26, 87, 177]
abbrev dktX3_add_0 : List UInt8 := dkwX3_add_0 ++ []
theorem dksX3_add_0 : cX3_add.data.toList.drop 0 = dktX3_add_0 := by decide +kernel
theorem dX3_add_0 : decode cX3_add 0 = .ok (.aload_n 0, 1) := dk_42 (dk_at dksX3_add_0 0 rfl rfl)
theorem dX3_add_1 : decode cX3_add 1 = .ok (.getfield 10, 3) := dk_180 0 10 (dk_at dksX3_add_0 1 rfl rfl)
theorem dX3_add_4 : decode cX3_add 4 = .ok (.aload_n 1, 1) := dk_43 (dk_at dksX3_add_0 4 rfl rfl)
theorem dX3_add_5 : decode cX3_add 5 = .ok (.aload_n 0, 1) := dk_42 (dk_at dksX3_add_0 5 rfl rfl)
theorem dX3_add_6 : decode cX3_add 6 = .ok (.aload_n 1, 1) := dk_43 (dk_at dksX3_add_0 6 rfl rfl)
theorem dX3_add_7 : decode cX3_add 7 = .ok (.invokevirtual 16, 3) := dk_182 0 16 (dk_at dksX3_add_0 7 rfl rfl)
theorem dX3_add_10 : decode cX3_add 10 = .ok (.lload_n 2, 1) := dk_32 (dk_at dksX3_add_0 10 rfl rfl)
theorem dX3_add_11 : decode cX3_add 11 = .ok (.ladd, 1) := dk_97 (dk_at dksX3_add_0 11 rfl rfl)
theorem dX3_add_12 : decode cX3_add 12 = .ok (.invokestatic 20, 3) := dk_184 0 20 (dk_at dksX3_add_0 12 rfl rfl)
theorem dX3_add_15 : decode cX3_add 15 = .ok (.invokevirtual 26, 3) := dk_182 0 26 (dk_at dksX3_add_0 15 rfl rfl)
theorem dX3_add_18 : decode cX3_add 18 = .ok (.pop, 1) := dk_87 (dk_at dksX3_add_0 18 rfl rfl)
theorem dX3_add_19 : decode cX3_add 19 = .ok (.return_, 1) := dk_177 (dk_at dksX3_add_0 19 rfl rfl)
abbrev cX3_of : ByteArray := prog_6_method_3_code
def yX3_of : MethodName := ⟨RX3, "of", "(Ljava/lang/Comparable;)J"⟩
def dkwX3_of_1 : List UInt8 := [173]
abbrev dktX3_of_1 : List UInt8 := dkwX3_of_1 ++ []
def dkwX3_of_0 : List UInt8 := [42, 180, 0, 10, 43, 182, 0, 30, 192, 0, 21, 77, 44, 199, 0, 7, 9, 167, 0, 7, 44, 182, 0, 34]
abbrev dktX3_of_0 : List UInt8 := dkwX3_of_0 ++ dktX3_of_1
theorem dksX3_of_0 : cX3_of.data.toList.drop 0 = dktX3_of_0 := by decide +kernel
theorem dksX3_of_1 : cX3_of.data.toList.drop 24 = dktX3_of_1 := dk_seg dksX3_of_0 24 rfl rfl
theorem dX3_of_0 : decode cX3_of 0 = .ok (.aload_n 0, 1) := dk_42 (dk_at dksX3_of_0 0 rfl rfl)
theorem dX3_of_1 : decode cX3_of 1 = .ok (.getfield 10, 3) := dk_180 0 10 (dk_at dksX3_of_0 1 rfl rfl)
theorem dX3_of_4 : decode cX3_of 4 = .ok (.aload_n 1, 1) := dk_43 (dk_at dksX3_of_0 4 rfl rfl)
theorem dX3_of_5 : decode cX3_of 5 = .ok (.invokevirtual 30, 3) := dk_182 0 30 (dk_at dksX3_of_0 5 rfl rfl)
theorem dX3_of_8 : decode cX3_of 8 = .ok (.checkcast 21, 3) := dk_192 0 21 (dk_at dksX3_of_0 8 rfl rfl)
theorem dX3_of_11 : decode cX3_of 11 = .ok (.astore_n 2, 1) := dk_77 (dk_at dksX3_of_0 11 rfl rfl)
theorem dX3_of_12 : decode cX3_of 12 = .ok (.aload_n 2, 1) := dk_44 (dk_at dksX3_of_0 12 rfl rfl)
theorem dX3_of_13 : decode cX3_of 13 = .ok (.ifnonnull 7, 3) := dk_199 0 7 (dk_at dksX3_of_0 13 rfl rfl)
theorem dX3_of_16 : decode cX3_of 16 = .ok (.lconst 0, 1) := dk_9 (dk_at dksX3_of_0 16 rfl rfl)
theorem dX3_of_17 : decode cX3_of 17 = .ok (.goto 7, 3) := dk_167 0 7 (dk_at dksX3_of_0 17 rfl rfl)
theorem dX3_of_20 : decode cX3_of 20 = .ok (.aload_n 2, 1) := dk_44 (dk_at dksX3_of_0 20 rfl rfl)
theorem dX3_of_21 : decode cX3_of 21 = .ok (.invokevirtual 34, 3) := dk_182 0 34 (dk_at dksX3_of_0 21 rfl rfl)
theorem dX3_of_24 : decode cX3_of 24 = .ok (.lreturn, 1) := dk_173 (dk_at dksX3_of_1 0 rfl rfl)
abbrev cX3_all : ByteArray := prog_6_method_4_code
def yX3_all : MethodName := ⟨RX3, "all", "()J"⟩
def dkwX3_all_2 : List UInt8 := [173]
abbrev dktX3_all_2 : List UInt8 := dkwX3_all_2 ++ []
def dkwX3_all_1 : List UInt8 := [45, 185, 0, 54, 1, 0, 192, 0, 58, 58, 4, 31, 42, 25, 4, 182, 0, 16, 97, 64, 167, 255, 227, 31]
abbrev dktX3_all_1 : List UInt8 := dkwX3_all_1 ++ dktX3_all_2
def dkwX3_all_0 : List UInt8 := [9, 64, 42, 180, 0, 10, 182, 0, 38, 185, 0, 42, 1, 0, 78, 45, 185, 0, 48, 1, 0, 153, 0, 26]
abbrev dktX3_all_0 : List UInt8 := dkwX3_all_0 ++ dktX3_all_1
theorem dksX3_all_0 : cX3_all.data.toList.drop 0 = dktX3_all_0 := by decide +kernel
theorem dksX3_all_1 : cX3_all.data.toList.drop 24 = dktX3_all_1 := dk_seg dksX3_all_0 24 rfl rfl
theorem dksX3_all_2 : cX3_all.data.toList.drop 48 = dktX3_all_2 := dk_seg dksX3_all_1 24 rfl rfl
theorem dX3_all_0 : decode cX3_all 0 = .ok (.lconst 0, 1) := dk_9 (dk_at dksX3_all_0 0 rfl rfl)
theorem dX3_all_1 : decode cX3_all 1 = .ok (.lstore_n 1, 1) := dk_64 (dk_at dksX3_all_0 1 rfl rfl)
theorem dX3_all_2 : decode cX3_all 2 = .ok (.aload_n 0, 1) := dk_42 (dk_at dksX3_all_0 2 rfl rfl)
theorem dX3_all_3 : decode cX3_all 3 = .ok (.getfield 10, 3) := dk_180 0 10 (dk_at dksX3_all_0 3 rfl rfl)
theorem dX3_all_6 : decode cX3_all 6 = .ok (.invokevirtual 38, 3) := dk_182 0 38 (dk_at dksX3_all_0 6 rfl rfl)
theorem dX3_all_9 : decode cX3_all 9 = .ok (.invokeinterface 42 1, 5) := by decide +kernel
theorem dX3_all_14 : decode cX3_all 14 = .ok (.astore_n 3, 1) := dk_78 (dk_at dksX3_all_0 14 rfl rfl)
theorem dX3_all_15 : decode cX3_all 15 = .ok (.aload_n 3, 1) := dk_45 (dk_at dksX3_all_0 15 rfl rfl)
theorem dX3_all_16 : decode cX3_all 16 = .ok (.invokeinterface 48 1, 5) := by decide +kernel
theorem dX3_all_21 : decode cX3_all 21 = .ok (.ifCond .eq 26, 3) := dk_153 0 26 (dk_at dksX3_all_0 21 rfl rfl)
theorem dX3_all_24 : decode cX3_all 24 = .ok (.aload_n 3, 1) := dk_45 (dk_at dksX3_all_1 0 rfl rfl)
theorem dX3_all_25 : decode cX3_all 25 = .ok (.invokeinterface 54 1, 5) := by decide +kernel
theorem dX3_all_30 : decode cX3_all 30 = .ok (.checkcast 58, 3) := dk_192 0 58 (dk_at dksX3_all_1 6 rfl rfl)
theorem dX3_all_33 : decode cX3_all 33 = .ok (.astore 4, 2) := dk_58 4 (dk_at dksX3_all_1 9 rfl rfl)
theorem dX3_all_35 : decode cX3_all 35 = .ok (.lload_n 1, 1) := dk_31 (dk_at dksX3_all_1 11 rfl rfl)
theorem dX3_all_36 : decode cX3_all 36 = .ok (.aload_n 0, 1) := dk_42 (dk_at dksX3_all_1 12 rfl rfl)
theorem dX3_all_37 : decode cX3_all 37 = .ok (.aload 4, 2) := dk_25 4 (dk_at dksX3_all_1 13 rfl rfl)
theorem dX3_all_39 : decode cX3_all 39 = .ok (.invokevirtual 16, 3) := dk_182 0 16 (dk_at dksX3_all_1 15 rfl rfl)
theorem dX3_all_42 : decode cX3_all 42 = .ok (.ladd, 1) := dk_97 (dk_at dksX3_all_1 18 rfl rfl)
theorem dX3_all_43 : decode cX3_all 43 = .ok (.lstore_n 1, 1) := dk_64 (dk_at dksX3_all_1 19 rfl rfl)
theorem dX3_all_44 : decode cX3_all 44 = .ok (.goto (-29), 3) := dk_167 255 227 (dk_at dksX3_all_1 20 rfl rfl)
theorem dX3_all_47 : decode cX3_all 47 = .ok (.lload_n 1, 1) := dk_31 (dk_at dksX3_all_1 23 rfl rfl)
theorem dX3_all_48 : decode cX3_all 48 = .ok (.lreturn, 1) := dk_173 (dk_at dksX3_all_2 0 rfl rfl)
abbrev cX3_take : ByteArray := prog_6_method_5_code
def yX3_take : MethodName := ⟨RX3, "take", "(LLifeoffice$Ledger;)V"⟩
def dkwX3_take_2 : List UInt8 := [180, 0, 10, 45, 182, 0, 30, 192, 0, 21, 182, 0, 26, 87, 167, 255, 217, 177]
abbrev dktX3_take_2 : List UInt8 := dkwX3_take_2 ++ []
def dkwX3_take_1 : List UInt8 := [185, 0, 48, 1, 0, 153, 0, 36, 44, 185, 0, 54, 1, 0, 192, 0, 58, 78, 42, 180, 0, 10, 45, 43]
abbrev dktX3_take_1 : List UInt8 := dkwX3_take_1 ++ dktX3_take_2
def dkwX3_take_0 : List UInt8 := [42, 180, 0, 10, 182, 0, 60, 43, 180, 0, 10, 182, 0, 38, 185, 0, 42, 1, 0, 77, 44]
abbrev dktX3_take_0 : List UInt8 := dkwX3_take_0 ++ dktX3_take_1
theorem dksX3_take_0 : cX3_take.data.toList.drop 0 = dktX3_take_0 := by decide +kernel
theorem dksX3_take_1 : cX3_take.data.toList.drop 21 = dktX3_take_1 := dk_seg dksX3_take_0 21 rfl rfl
theorem dksX3_take_2 : cX3_take.data.toList.drop 45 = dktX3_take_2 := dk_seg dksX3_take_1 24 rfl rfl
theorem dX3_take_0 : decode cX3_take 0 = .ok (.aload_n 0, 1) := dk_42 (dk_at dksX3_take_0 0 rfl rfl)
theorem dX3_take_1 : decode cX3_take 1 = .ok (.getfield 10, 3) := dk_180 0 10 (dk_at dksX3_take_0 1 rfl rfl)
theorem dX3_take_4 : decode cX3_take 4 = .ok (.invokevirtual 60, 3) := dk_182 0 60 (dk_at dksX3_take_0 4 rfl rfl)
theorem dX3_take_7 : decode cX3_take 7 = .ok (.aload_n 1, 1) := dk_43 (dk_at dksX3_take_0 7 rfl rfl)
theorem dX3_take_8 : decode cX3_take 8 = .ok (.getfield 10, 3) := dk_180 0 10 (dk_at dksX3_take_0 8 rfl rfl)
theorem dX3_take_11 : decode cX3_take 11 = .ok (.invokevirtual 38, 3) := dk_182 0 38 (dk_at dksX3_take_0 11 rfl rfl)
theorem dX3_take_14 : decode cX3_take 14 = .ok (.invokeinterface 42 1, 5) := by decide +kernel
theorem dX3_take_19 : decode cX3_take 19 = .ok (.astore_n 2, 1) := dk_77 (dk_at dksX3_take_0 19 rfl rfl)
theorem dX3_take_20 : decode cX3_take 20 = .ok (.aload_n 2, 1) := dk_44 (dk_at dksX3_take_0 20 rfl rfl)
theorem dX3_take_21 : decode cX3_take 21 = .ok (.invokeinterface 48 1, 5) := by decide +kernel
theorem dX3_take_26 : decode cX3_take 26 = .ok (.ifCond .eq 36, 3) := dk_153 0 36 (dk_at dksX3_take_1 5 rfl rfl)
theorem dX3_take_29 : decode cX3_take 29 = .ok (.aload_n 2, 1) := dk_44 (dk_at dksX3_take_1 8 rfl rfl)
theorem dX3_take_30 : decode cX3_take 30 = .ok (.invokeinterface 54 1, 5) := by decide +kernel
theorem dX3_take_35 : decode cX3_take 35 = .ok (.checkcast 58, 3) := dk_192 0 58 (dk_at dksX3_take_1 14 rfl rfl)
theorem dX3_take_38 : decode cX3_take 38 = .ok (.astore_n 3, 1) := dk_78 (dk_at dksX3_take_1 17 rfl rfl)
theorem dX3_take_39 : decode cX3_take 39 = .ok (.aload_n 0, 1) := dk_42 (dk_at dksX3_take_1 18 rfl rfl)
theorem dX3_take_40 : decode cX3_take 40 = .ok (.getfield 10, 3) := dk_180 0 10 (dk_at dksX3_take_1 19 rfl rfl)
theorem dX3_take_43 : decode cX3_take 43 = .ok (.aload_n 3, 1) := dk_45 (dk_at dksX3_take_1 22 rfl rfl)
theorem dX3_take_44 : decode cX3_take 44 = .ok (.aload_n 1, 1) := dk_43 (dk_at dksX3_take_1 23 rfl rfl)
theorem dX3_take_45 : decode cX3_take 45 = .ok (.getfield 10, 3) := dk_180 0 10 (dk_at dksX3_take_2 0 rfl rfl)
theorem dX3_take_48 : decode cX3_take 48 = .ok (.aload_n 3, 1) := dk_45 (dk_at dksX3_take_2 3 rfl rfl)
theorem dX3_take_49 : decode cX3_take 49 = .ok (.invokevirtual 30, 3) := dk_182 0 30 (dk_at dksX3_take_2 4 rfl rfl)
theorem dX3_take_52 : decode cX3_take 52 = .ok (.checkcast 21, 3) := dk_192 0 21 (dk_at dksX3_take_2 7 rfl rfl)
theorem dX3_take_55 : decode cX3_take 55 = .ok (.invokevirtual 26, 3) := dk_182 0 26 (dk_at dksX3_take_2 10 rfl rfl)
theorem dX3_take_58 : decode cX3_take 58 = .ok (.pop, 1) := dk_87 (dk_at dksX3_take_2 13 rfl rfl)
theorem dX3_take_59 : decode cX3_take 59 = .ok (.goto (-39), 3) := dk_167 255 217 (dk_at dksX3_take_2 14 rfl rfl)
theorem dX3_take_62 : decode cX3_take 62 = .ok (.return_, 1) := dk_177 (dk_at dksX3_take_2 17 rfl rfl)
theorem q90 : (Jvm.Cond.initialized "Lifeoffice$Ledger") ∈ lw_all := lw_g (lw_at lw_m1 10 rfl) rfl
theorem q236 : (Jvm.Cond.instantiable "Lifeoffice$Ledger" (1 : Nat)) ∈ lw_all := lw_g (lw_at lw_m1 156 rfl) rfl
theorem q238 : (Jvm.Cond.instanceMethod ({ cls := "Lifeoffice$Ledger", name := "<init>", desc := "()V" } : Jvm.MethodName)) ∈ lw_all := lw_g (lw_at lw_m1 158 rfl) rfl
theorem q239 : (Jvm.Cond.code ({ cls := "Lifeoffice$Ledger", name := "<init>", desc := "()V" } : Jvm.MethodName) prog_6_method_1_code (1 : Nat) (Option.none : Option Jvm.ClassFile.FieldType)) ∈ lw_all := lw_g (lw_at lw_m1 159 rfl) rfl
theorem q240 : (Jvm.Cond.methodLink "Lifeoffice$Ledger" (1 : Nat) ({ cls := "java/lang/Object", name := "<init>", desc := "()V" } : Jvm.MethodName)) ∈ lw_all := lw_g (lw_at lw_m1 160 rfl) rfl
theorem q241 : (Jvm.Cond.classLink "Lifeoffice$Ledger" (7 : Nat) "java/util/TreeMap") ∈ lw_all := lw_g (lw_at lw_m1 161 rfl) rfl
theorem q242 : (Jvm.Cond.methodLink "Lifeoffice$Ledger" (9 : Nat) ({ cls := "java/util/TreeMap", name := "<init>", desc := "()V" } : Jvm.MethodName)) ∈ lw_all := lw_g (lw_at lw_m1 162 rfl) rfl
theorem q243 : (Jvm.Cond.fieldLink "Lifeoffice$Ledger" (10 : Nat) "Lifeoffice$Ledger" "amounts" "Ljava/util/TreeMap;") ∈ lw_all := lw_g (lw_at lw_m1 163 rfl) rfl
theorem q244 : (Jvm.Cond.laysFinal "Lifeoffice$Ledger" "Lifeoffice$Ledger" "amounts" "Ljava/util/TreeMap;") ∈ lw_all := lw_g (lw_at lw_m1 164 rfl) rfl
theorem q245 : (Jvm.Cond.soleField "Lifeoffice$Ledger" "amounts") ∈ lw_all := lw_g (lw_at lw_m1 165 rfl) rfl
theorem q246 : (Jvm.Cond.superclass "Lifeoffice$Ledger" "java/lang/Object") ∈ lw_all := lw_g (lw_at lw_m1 166 rfl) rfl
theorem q275 : (Jvm.Cond.instanceMethod ({ cls := "Lifeoffice$Ledger", name := "clear", desc := "()V" } : Jvm.MethodName)) ∈ lw_all := lw_g (lw_at lw_m1 195 rfl) rfl
theorem q276 : (Jvm.Cond.selects "Lifeoffice$Ledger" ({ cls := "Lifeoffice$Ledger", name := "clear", desc := "()V" } : Jvm.MethodName) ({ cls := "Lifeoffice$Ledger", name := "clear", desc := "()V" } : Jvm.MethodName)) ∈ lw_all := lw_g (lw_at lw_m1 196 rfl) rfl
theorem q277 : (Jvm.Cond.code ({ cls := "Lifeoffice$Ledger", name := "clear", desc := "()V" } : Jvm.MethodName) prog_6_method_6_code (1 : Nat) (Option.none : Option Jvm.ClassFile.FieldType)) ∈ lw_all := lw_g (lw_at lw_m1 197 rfl) rfl
theorem q278 : (Jvm.Cond.methodLink "Lifeoffice$Ledger" (60 : Nat) ({ cls := "java/util/TreeMap", name := "clear", desc := "()V" } : Jvm.MethodName)) ∈ lw_all := lw_g (lw_at lw_m1 198 rfl) rfl
theorem q540 : (Jvm.Cond.instanceMethod ({ cls := "Lifeoffice$Ledger", name := "add", desc := "(Ljava/lang/Comparable;J)V" } : Jvm.MethodName)) ∈ lw_all := lw_g (lw_at lw_m2 220 rfl) rfl
theorem q541 : (Jvm.Cond.selects "Lifeoffice$Ledger" ({ cls := "Lifeoffice$Ledger", name := "add", desc := "(Ljava/lang/Comparable;J)V" } : Jvm.MethodName) ({ cls := "Lifeoffice$Ledger", name := "add", desc := "(Ljava/lang/Comparable;J)V" } : Jvm.MethodName)) ∈ lw_all := lw_g (lw_at lw_m2 221 rfl) rfl
theorem q542 : (Jvm.Cond.code ({ cls := "Lifeoffice$Ledger", name := "add", desc := "(Ljava/lang/Comparable;J)V" } : Jvm.MethodName) prog_6_method_2_code (4 : Nat) (Option.none : Option Jvm.ClassFile.FieldType)) ∈ lw_all := lw_g (lw_at lw_m2 222 rfl) rfl
theorem q543 : (Jvm.Cond.methodLink "Lifeoffice$Ledger" (16 : Nat) ({ cls := "Lifeoffice$Ledger", name := "of", desc := "(Ljava/lang/Comparable;)J" } : Jvm.MethodName)) ∈ lw_all := lw_g (lw_at lw_m2 223 rfl) rfl
theorem q544 : (Jvm.Cond.instanceMethod ({ cls := "Lifeoffice$Ledger", name := "of", desc := "(Ljava/lang/Comparable;)J" } : Jvm.MethodName)) ∈ lw_all := lw_g (lw_at lw_m2 224 rfl) rfl
theorem q545 : (Jvm.Cond.selects "Lifeoffice$Ledger" ({ cls := "Lifeoffice$Ledger", name := "of", desc := "(Ljava/lang/Comparable;)J" } : Jvm.MethodName) ({ cls := "Lifeoffice$Ledger", name := "of", desc := "(Ljava/lang/Comparable;)J" } : Jvm.MethodName)) ∈ lw_all := lw_g (lw_at lw_m2 225 rfl) rfl
theorem q546 : (Jvm.Cond.code ({ cls := "Lifeoffice$Ledger", name := "of", desc := "(Ljava/lang/Comparable;)J" } : Jvm.MethodName) prog_6_method_3_code (3 : Nat) (Option.some Jvm.ClassFile.FieldType.long)) ∈ lw_all := lw_g (lw_at lw_m2 226 rfl) rfl
theorem q547 : (Jvm.Cond.methodLink "Lifeoffice$Ledger" (30 : Nat) ({ cls := "java/util/TreeMap", name := "get", desc := "(Ljava/lang/Object;)Ljava/lang/Object;" } : Jvm.MethodName)) ∈ lw_all := lw_g (lw_at lw_m2 227 rfl) rfl
theorem q624 : (Jvm.Cond.classLink "Lifeoffice$Ledger" (21 : Nat) "java/lang/Long") ∈ lw_all := lw_g (lw_at lw_m3 64 rfl) rfl
theorem q625 : (Jvm.Cond.methodLink "Lifeoffice$Ledger" (34 : Nat) ({ cls := "java/lang/Long", name := "longValue", desc := "()J" } : Jvm.MethodName)) ∈ lw_all := lw_g (lw_at lw_m3 65 rfl) rfl
theorem q629 : (Jvm.Cond.methodLink "Lifeoffice$Ledger" (20 : Nat) ({ cls := "java/lang/Long", name := "valueOf", desc := "(J)Ljava/lang/Long;" } : Jvm.MethodName)) ∈ lw_all := lw_g (lw_at lw_m3 69 rfl) rfl
theorem q645 : (Jvm.Cond.methodLink "Lifeoffice$Ledger" (26 : Nat) ({ cls := "java/util/TreeMap", name := "put", desc := "(Ljava/lang/Object;Ljava/lang/Object;)Ljava/lang/Object;" } : Jvm.MethodName)) ∈ lw_all := lw_g (lw_at lw_m3 85 rfl) rfl
theorem q974 : (Jvm.Cond.instanceMethod ({ cls := "Lifeoffice$Ledger", name := "all", desc := "()J" } : Jvm.MethodName)) ∈ lw_all := lw_g (lw_at lw_m4 174 rfl) rfl
theorem q975 : (Jvm.Cond.selects "Lifeoffice$Ledger" ({ cls := "Lifeoffice$Ledger", name := "all", desc := "()J" } : Jvm.MethodName) ({ cls := "Lifeoffice$Ledger", name := "all", desc := "()J" } : Jvm.MethodName)) ∈ lw_all := lw_g (lw_at lw_m4 175 rfl) rfl
theorem q976 : (Jvm.Cond.code ({ cls := "Lifeoffice$Ledger", name := "all", desc := "()J" } : Jvm.MethodName) prog_6_method_4_code (5 : Nat) (Option.some Jvm.ClassFile.FieldType.long)) ∈ lw_all := lw_g (lw_at lw_m4 176 rfl) rfl
theorem q977 : (Jvm.Cond.methodLink "Lifeoffice$Ledger" (38 : Nat) ({ cls := "java/util/TreeMap", name := "keySet", desc := "()Ljava/util/Set;" } : Jvm.MethodName)) ∈ lw_all := lw_g (lw_at lw_m4 177 rfl) rfl
theorem q982 : (Jvm.Cond.interfaceEntry "Lifeoffice$Ledger" (42 : Nat)) ∈ lw_tbl := lw_at lw_m4 182 rfl
theorem q983 : (Jvm.Cond.methodLink "Lifeoffice$Ledger" (42 : Nat) ({ cls := "java/util/Set", name := "iterator", desc := "()Ljava/util/Iterator;" } : Jvm.MethodName)) ∈ lw_all := lw_g (lw_at lw_m4 183 rfl) rfl
theorem q990 : (Jvm.Cond.interfaceEntry "Lifeoffice$Ledger" (48 : Nat)) ∈ lw_tbl := lw_at lw_m4 190 rfl
theorem q991 : (Jvm.Cond.methodLink "Lifeoffice$Ledger" (48 : Nat) ({ cls := "java/util/Iterator", name := "hasNext", desc := "()Z" } : Jvm.MethodName)) ∈ lw_all := lw_g (lw_at lw_m4 191 rfl) rfl
theorem q992 : (Jvm.Cond.interfaceEntry "Lifeoffice$Ledger" (54 : Nat)) ∈ lw_tbl := lw_at lw_m4 192 rfl
theorem q993 : (Jvm.Cond.methodLink "Lifeoffice$Ledger" (54 : Nat) ({ cls := "java/util/Iterator", name := "next", desc := "()Ljava/lang/Object;" } : Jvm.MethodName)) ∈ lw_all := lw_g (lw_at lw_m4 193 rfl) rfl
theorem q994 : (Jvm.Cond.classLink "Lifeoffice$Ledger" (58 : Nat) "java/lang/Comparable") ∈ lw_all := lw_g (lw_at lw_m4 194 rfl) rfl
theorem q1345 : (Jvm.Cond.selects "Lifeoffice$Ledger" ({ cls := "java/lang/Object", name := "getClass", desc := "()Ljava/lang/Class;" } : Jvm.MethodName) ({ cls := "java/lang/Object", name := "getClass", desc := "()Ljava/lang/Class;" } : Jvm.MethodName)) ∈ lw_all := lw_g (lw_at lw_m6 65 rfl) rfl
theorem q1759 : (Jvm.Cond.selects "Lifeoffice$Ledger" ({ cls := "java/lang/Object", name := "equals", desc := "(Ljava/lang/Object;)Z" } : Jvm.MethodName) ({ cls := "java/lang/Object", name := "equals", desc := "(Ljava/lang/Object;)Z" } : Jvm.MethodName)) ∈ lw_all := lw_g (lw_at lw_m7 239 rfl) rfl
theorem q1886 : (Jvm.Cond.instanceMethod ({ cls := "Lifeoffice$Ledger", name := "take", desc := "(LLifeoffice$Ledger;)V" } : Jvm.MethodName)) ∈ lw_all := lw_g (lw_at lw_m8 126 rfl) rfl
theorem q1887 : (Jvm.Cond.selects "Lifeoffice$Ledger" ({ cls := "Lifeoffice$Ledger", name := "take", desc := "(LLifeoffice$Ledger;)V" } : Jvm.MethodName) ({ cls := "Lifeoffice$Ledger", name := "take", desc := "(LLifeoffice$Ledger;)V" } : Jvm.MethodName)) ∈ lw_all := lw_g (lw_at lw_m8 127 rfl) rfl
theorem q1888 : (Jvm.Cond.code ({ cls := "Lifeoffice$Ledger", name := "take", desc := "(LLifeoffice$Ledger;)V" } : Jvm.MethodName) prog_6_method_5_code (4 : Nat) (Option.none : Option Jvm.ClassFile.FieldType)) ∈ lw_all := lw_g (lw_at lw_m8 128 rfl) rfl
theorem q2531 : (Jvm.Cond.castable "Lifeoffice$Ledger" "java/lang/Object") ∈ lw_tbl := lw_at lw_m11 51 rfl
theorem in_X3 : ∀ w ∈ wsX30, w ∈ lw_all := lw_in wsX30 [244] (by decide +kernel) (by decide +kernel)
/-! Lifeoffice$Values -/
set_option maxRecDepth 100000
def RX5 : String := "Lifeoffice$Values"
def TX5 : u_T := fun k => match k with
  | 0 => ("Lifeoffice$Values", "benefit", "J", false)
  | 1 => ("Lifeoffice$Values", "premium", "J", false)
  | _ => ("Lifeoffice$Values", "annuity", "J", false)
def tyX5 : Nat → FieldType := fun k => match k with
  | 0 => .long
  | 1 => .long
  | _ => .long
abbrev wsX50 : List Cond := u_ws RX5 TX5 3
theorem nmX5 : ∀ a, a < 3 → ∀ b, b < 3 → a ≠ b → (TX5 a).2.1 ≠ (TX5 b).2.1 := by decide +kernel
theorem tyX5_ok : ∀ k, k < 3 → parseFieldDescriptor (TX5 k).2.2.1 = some (tyX5 k) := by decide +kernel
abbrev cX5_init : ByteArray := prog_9_method_1_code
def yX5_init : MethodName := ⟨RX5, "<init>", "(J)V"⟩
def dkwX5_init_0 : List UInt8 := [42, 183, 0, 3, 42, 31, 181, 0, 9, 177]
abbrev dktX5_init_0 : List UInt8 := dkwX5_init_0 ++ []
theorem dksX5_init_0 : cX5_init.data.toList.drop 0 = dktX5_init_0 := by decide +kernel
theorem dX5_init_0 : decode cX5_init 0 = .ok (.aload_n 0, 1) := dk_42 (dk_at dksX5_init_0 0 rfl rfl)
theorem dX5_init_1 : decode cX5_init 1 = .ok (.invokespecial 3, 3) := dk_183 0 3 (dk_at dksX5_init_0 1 rfl rfl)
theorem dX5_init_4 : decode cX5_init 4 = .ok (.aload_n 0, 1) := dk_42 (dk_at dksX5_init_0 4 rfl rfl)
theorem dX5_init_5 : decode cX5_init 5 = .ok (.lload_n 1, 1) := dk_31 (dk_at dksX5_init_0 5 rfl rfl)
theorem dX5_init_6 : decode cX5_init 6 = .ok (.putfield 9, 3) := dk_181 0 9 (dk_at dksX5_init_0 6 rfl rfl)
theorem dX5_init_9 : decode cX5_init 9 = .ok (.return_, 1) := dk_177 (dk_at dksX5_init_0 9 rfl rfl)
abbrev cX5_back : ByteArray := prog_9_method_2_code
def yX5_back : MethodName := ⟨RX5, "back", "(JI)V"⟩
def dkwX5_back_3 : List UInt8 := [20, 0, 15, 184, 0, 19, 29, 184, 0, 23, 181, 0, 30, 177]
abbrev dktX5_back_3 : List UInt8 := dkwX5_back_3 ++ []
def dkwX5_back_2 : List UInt8 := [184, 0, 19, 29, 184, 0, 23, 97, 181, 0, 27, 42, 22, 4, 20, 0, 17, 42, 180, 0, 30, 97, 105]
abbrev dktX5_back_2 : List UInt8 := dkwX5_back_2 ++ dktX5_back_3
def dkwX5_back_1 : List UInt8 := [184, 0, 19, 29, 184, 0, 23, 181, 0, 9, 42, 20, 0, 17, 22, 4, 42, 180, 0, 27, 105, 20, 0, 15]
abbrev dktX5_back_1 : List UInt8 := dkwX5_back_1 ++ dktX5_back_2
def dkwX5_back_0 : List UInt8 := [20, 0, 15, 31, 101, 55, 4, 42, 31, 20, 0, 17, 105, 22, 4, 42, 180, 0, 9, 105, 97, 20, 0, 15]
abbrev dktX5_back_0 : List UInt8 := dkwX5_back_0 ++ dktX5_back_1
theorem dksX5_back_0 : cX5_back.data.toList.drop 0 = dktX5_back_0 := by decide +kernel
theorem dksX5_back_1 : cX5_back.data.toList.drop 24 = dktX5_back_1 := dk_seg dksX5_back_0 24 rfl rfl
theorem dksX5_back_2 : cX5_back.data.toList.drop 48 = dktX5_back_2 := dk_seg dksX5_back_1 24 rfl rfl
theorem dksX5_back_3 : cX5_back.data.toList.drop 71 = dktX5_back_3 := dk_seg dksX5_back_2 23 rfl rfl
theorem dX5_back_0 : decode cX5_back 0 = .ok (.ldc2_w 15, 3) := dk_20 0 15 (dk_at dksX5_back_0 0 rfl rfl)
theorem dX5_back_3 : decode cX5_back 3 = .ok (.lload_n 1, 1) := dk_31 (dk_at dksX5_back_0 3 rfl rfl)
theorem dX5_back_4 : decode cX5_back 4 = .ok (.lsub, 1) := dk_101 (dk_at dksX5_back_0 4 rfl rfl)
theorem dX5_back_5 : decode cX5_back 5 = .ok (.lstore 4, 2) := dk_55 4 (dk_at dksX5_back_0 5 rfl rfl)
theorem dX5_back_7 : decode cX5_back 7 = .ok (.aload_n 0, 1) := dk_42 (dk_at dksX5_back_0 7 rfl rfl)
theorem dX5_back_8 : decode cX5_back 8 = .ok (.lload_n 1, 1) := dk_31 (dk_at dksX5_back_0 8 rfl rfl)
theorem dX5_back_9 : decode cX5_back 9 = .ok (.ldc2_w 17, 3) := dk_20 0 17 (dk_at dksX5_back_0 9 rfl rfl)
theorem dX5_back_12 : decode cX5_back 12 = .ok (.lmul, 1) := dk_105 (dk_at dksX5_back_0 12 rfl rfl)
theorem dX5_back_13 : decode cX5_back 13 = .ok (.lload 4, 2) := dk_22 4 (dk_at dksX5_back_0 13 rfl rfl)
theorem dX5_back_15 : decode cX5_back 15 = .ok (.aload_n 0, 1) := dk_42 (dk_at dksX5_back_0 15 rfl rfl)
theorem dX5_back_16 : decode cX5_back 16 = .ok (.getfield 9, 3) := dk_180 0 9 (dk_at dksX5_back_0 16 rfl rfl)
theorem dX5_back_19 : decode cX5_back 19 = .ok (.lmul, 1) := dk_105 (dk_at dksX5_back_0 19 rfl rfl)
theorem dX5_back_20 : decode cX5_back 20 = .ok (.ladd, 1) := dk_97 (dk_at dksX5_back_0 20 rfl rfl)
theorem dX5_back_21 : decode cX5_back 21 = .ok (.ldc2_w 15, 3) := dk_20 0 15 (dk_at dksX5_back_0 21 rfl rfl)
theorem dX5_back_24 : decode cX5_back 24 = .ok (.invokestatic 19, 3) := dk_184 0 19 (dk_at dksX5_back_1 0 rfl rfl)
theorem dX5_back_27 : decode cX5_back 27 = .ok (.iload_n 3, 1) := dk_29 (dk_at dksX5_back_1 3 rfl rfl)
theorem dX5_back_28 : decode cX5_back 28 = .ok (.invokestatic 23, 3) := dk_184 0 23 (dk_at dksX5_back_1 4 rfl rfl)
theorem dX5_back_31 : decode cX5_back 31 = .ok (.putfield 9, 3) := dk_181 0 9 (dk_at dksX5_back_1 7 rfl rfl)
theorem dX5_back_34 : decode cX5_back 34 = .ok (.aload_n 0, 1) := dk_42 (dk_at dksX5_back_1 10 rfl rfl)
theorem dX5_back_35 : decode cX5_back 35 = .ok (.ldc2_w 17, 3) := dk_20 0 17 (dk_at dksX5_back_1 11 rfl rfl)
theorem dX5_back_38 : decode cX5_back 38 = .ok (.lload 4, 2) := dk_22 4 (dk_at dksX5_back_1 14 rfl rfl)
theorem dX5_back_40 : decode cX5_back 40 = .ok (.aload_n 0, 1) := dk_42 (dk_at dksX5_back_1 16 rfl rfl)
theorem dX5_back_41 : decode cX5_back 41 = .ok (.getfield 27, 3) := dk_180 0 27 (dk_at dksX5_back_1 17 rfl rfl)
theorem dX5_back_44 : decode cX5_back 44 = .ok (.lmul, 1) := dk_105 (dk_at dksX5_back_1 20 rfl rfl)
theorem dX5_back_45 : decode cX5_back 45 = .ok (.ldc2_w 15, 3) := dk_20 0 15 (dk_at dksX5_back_1 21 rfl rfl)
theorem dX5_back_48 : decode cX5_back 48 = .ok (.invokestatic 19, 3) := dk_184 0 19 (dk_at dksX5_back_2 0 rfl rfl)
theorem dX5_back_51 : decode cX5_back 51 = .ok (.iload_n 3, 1) := dk_29 (dk_at dksX5_back_2 3 rfl rfl)
theorem dX5_back_52 : decode cX5_back 52 = .ok (.invokestatic 23, 3) := dk_184 0 23 (dk_at dksX5_back_2 4 rfl rfl)
theorem dX5_back_55 : decode cX5_back 55 = .ok (.ladd, 1) := dk_97 (dk_at dksX5_back_2 7 rfl rfl)
theorem dX5_back_56 : decode cX5_back 56 = .ok (.putfield 27, 3) := dk_181 0 27 (dk_at dksX5_back_2 8 rfl rfl)
theorem dX5_back_59 : decode cX5_back 59 = .ok (.aload_n 0, 1) := dk_42 (dk_at dksX5_back_2 11 rfl rfl)
theorem dX5_back_60 : decode cX5_back 60 = .ok (.lload 4, 2) := dk_22 4 (dk_at dksX5_back_2 12 rfl rfl)
theorem dX5_back_62 : decode cX5_back 62 = .ok (.ldc2_w 17, 3) := dk_20 0 17 (dk_at dksX5_back_2 14 rfl rfl)
theorem dX5_back_65 : decode cX5_back 65 = .ok (.aload_n 0, 1) := dk_42 (dk_at dksX5_back_2 17 rfl rfl)
theorem dX5_back_66 : decode cX5_back 66 = .ok (.getfield 30, 3) := dk_180 0 30 (dk_at dksX5_back_2 18 rfl rfl)
theorem dX5_back_69 : decode cX5_back 69 = .ok (.ladd, 1) := dk_97 (dk_at dksX5_back_2 21 rfl rfl)
theorem dX5_back_70 : decode cX5_back 70 = .ok (.lmul, 1) := dk_105 (dk_at dksX5_back_2 22 rfl rfl)
theorem dX5_back_71 : decode cX5_back 71 = .ok (.ldc2_w 15, 3) := dk_20 0 15 (dk_at dksX5_back_3 0 rfl rfl)
theorem dX5_back_74 : decode cX5_back 74 = .ok (.invokestatic 19, 3) := dk_184 0 19 (dk_at dksX5_back_3 3 rfl rfl)
theorem dX5_back_77 : decode cX5_back 77 = .ok (.iload_n 3, 1) := dk_29 (dk_at dksX5_back_3 6 rfl rfl)
theorem dX5_back_78 : decode cX5_back 78 = .ok (.invokestatic 23, 3) := dk_184 0 23 (dk_at dksX5_back_3 7 rfl rfl)
theorem dX5_back_81 : decode cX5_back 81 = .ok (.putfield 30, 3) := dk_181 0 30 (dk_at dksX5_back_3 10 rfl rfl)
theorem dX5_back_84 : decode cX5_back 84 = .ok (.return_, 1) := dk_177 (dk_at dksX5_back_3 13 rfl rfl)
theorem q101 : (Jvm.Cond.initialized "Lifeoffice$Values") ∈ lw_all := lw_g (lw_at lw_m1 21 rfl) rfl
theorem q408 : (Jvm.Cond.instantiable "Lifeoffice$Values" (3 : Nat)) ∈ lw_all := lw_g (lw_at lw_m2 88 rfl) rfl
theorem q415 : (Jvm.Cond.instanceMethod ({ cls := "Lifeoffice$Values", name := "<init>", desc := "(J)V" } : Jvm.MethodName)) ∈ lw_all := lw_g (lw_at lw_m2 95 rfl) rfl
theorem q416 : (Jvm.Cond.code ({ cls := "Lifeoffice$Values", name := "<init>", desc := "(J)V" } : Jvm.MethodName) prog_9_method_1_code (3 : Nat) (Option.none : Option Jvm.ClassFile.FieldType)) ∈ lw_all := lw_g (lw_at lw_m2 96 rfl) rfl
theorem q417 : (Jvm.Cond.methodLink "Lifeoffice$Values" (3 : Nat) ({ cls := "java/lang/Object", name := "<init>", desc := "()V" } : Jvm.MethodName)) ∈ lw_all := lw_g (lw_at lw_m2 97 rfl) rfl
theorem q418 : (Jvm.Cond.fieldLink "Lifeoffice$Values" (9 : Nat) "Lifeoffice$Values" "benefit" "J") ∈ lw_all := lw_g (lw_at lw_m2 98 rfl) rfl
theorem q421 : (Jvm.Cond.fieldLink "Lifeoffice$Values" (27 : Nat) "Lifeoffice$Values" "premium" "J") ∈ lw_all := lw_g (lw_at lw_m2 101 rfl) rfl
theorem q424 : (Jvm.Cond.fieldLink "Lifeoffice$Values" (30 : Nat) "Lifeoffice$Values" "annuity" "J") ∈ lw_all := lw_g (lw_at lw_m2 104 rfl) rfl
theorem q427 : (Jvm.Cond.lays "Lifeoffice$Values" "Lifeoffice$Values" "benefit" "J") ∈ lw_all := lw_g (lw_at lw_m2 107 rfl) rfl
theorem q428 : (Jvm.Cond.soleField "Lifeoffice$Values" "benefit") ∈ lw_all := lw_g (lw_at lw_m2 108 rfl) rfl
theorem q429 : (Jvm.Cond.lays "Lifeoffice$Values" "Lifeoffice$Values" "premium" "J") ∈ lw_all := lw_g (lw_at lw_m2 109 rfl) rfl
theorem q430 : (Jvm.Cond.soleField "Lifeoffice$Values" "premium") ∈ lw_all := lw_g (lw_at lw_m2 110 rfl) rfl
theorem q431 : (Jvm.Cond.lays "Lifeoffice$Values" "Lifeoffice$Values" "annuity" "J") ∈ lw_all := lw_g (lw_at lw_m2 111 rfl) rfl
theorem q432 : (Jvm.Cond.soleField "Lifeoffice$Values" "annuity") ∈ lw_all := lw_g (lw_at lw_m2 112 rfl) rfl
theorem q433 : (Jvm.Cond.superclass "Lifeoffice$Values" "java/lang/Object") ∈ lw_all := lw_g (lw_at lw_m2 113 rfl) rfl
theorem q467 : (Jvm.Cond.instanceMethod ({ cls := "Lifeoffice$Values", name := "back", desc := "(JI)V" } : Jvm.MethodName)) ∈ lw_all := lw_g (lw_at lw_m2 147 rfl) rfl
theorem q468 : (Jvm.Cond.selects "Lifeoffice$Values" ({ cls := "Lifeoffice$Values", name := "back", desc := "(JI)V" } : Jvm.MethodName) ({ cls := "Lifeoffice$Values", name := "back", desc := "(JI)V" } : Jvm.MethodName)) ∈ lw_all := lw_g (lw_at lw_m2 148 rfl) rfl
theorem q469 : (Jvm.Cond.code ({ cls := "Lifeoffice$Values", name := "back", desc := "(JI)V" } : Jvm.MethodName) prog_9_method_2_code (6 : Nat) (Option.none : Option Jvm.ClassFile.FieldType)) ∈ lw_all := lw_g (lw_at lw_m2 149 rfl) rfl
theorem q470 : (Jvm.Cond.constantLong "Lifeoffice$Values" (15 : Nat) (100000 : Int64)) ∈ lw_all := lw_g (lw_at lw_m2 150 rfl) rfl
theorem q471 : (Jvm.Cond.constantLong "Lifeoffice$Values" (17 : Nat) (1000000 : Int64)) ∈ lw_all := lw_g (lw_at lw_m2 151 rfl) rfl
theorem q472 : (Jvm.Cond.methodLinkNest "Lifeoffice$Values" (19 : Nat) ({ cls := "Lifeoffice", name := "down", desc := "(JJ)J" } : Jvm.MethodName) "Lifeoffice") ∈ lw_tbl := lw_at lw_m2 152 rfl
theorem q473 : (Jvm.Cond.methodLinkNest "Lifeoffice$Values" (23 : Nat) ({ cls := "Lifeoffice", name := "discounted", desc := "(JI)J" } : Jvm.MethodName) "Lifeoffice") ∈ lw_tbl := lw_at lw_m2 153 rfl
theorem q1348 : (Jvm.Cond.selects "Lifeoffice$Values" ({ cls := "java/lang/Object", name := "getClass", desc := "()Ljava/lang/Class;" } : Jvm.MethodName) ({ cls := "java/lang/Object", name := "getClass", desc := "()Ljava/lang/Class;" } : Jvm.MethodName)) ∈ lw_all := lw_g (lw_at lw_m6 68 rfl) rfl
theorem q1762 : (Jvm.Cond.selects "Lifeoffice$Values" ({ cls := "java/lang/Object", name := "equals", desc := "(Ljava/lang/Object;)Z" } : Jvm.MethodName) ({ cls := "java/lang/Object", name := "equals", desc := "(Ljava/lang/Object;)Z" } : Jvm.MethodName)) ∈ lw_all := lw_g (lw_at lw_m8 2 rfl) rfl
theorem q2536 : (Jvm.Cond.castable "Lifeoffice$Values" "java/lang/Object") ∈ lw_tbl := lw_at lw_m11 56 rfl
theorem in_X5 : ∀ w ∈ wsX50, w ∈ lw_all := lw_in wsX50 [427, 429, 431] (by decide +kernel) (by decide +kernel)
/-! Lifeoffice$Life -/
set_option maxRecDepth 100000
def RX6 : String := "Lifeoffice$Life"
def TX6 : u_T := fun k => match k with
  | 0 => ("Lifeoffice$Life", "birth", "I", true)
  | 1 => ("Lifeoffice$Life", "isWoman", "Z", true)
  | _ => ("Lifeoffice$Life", "isSmoker", "Z", true)
def tyX6 : Nat → FieldType := fun k => match k with
  | 0 => .int
  | 1 => .boolean
  | _ => .boolean
abbrev wsX60 : List Cond := u_ws RX6 TX6 3
theorem nmX6 : ∀ a, a < 3 → ∀ b, b < 3 → a ≠ b → (TX6 a).2.1 ≠ (TX6 b).2.1 := by decide +kernel
theorem tyX6_ok : ∀ k, k < 3 → parseFieldDescriptor (TX6 k).2.2.1 = some (tyX6 k) := by decide +kernel
abbrev cX6_mortality : ByteArray := prog_7_method_3_code
def yX6_mortality : MethodName := ⟨RX6, "mortality", "(IIIII)J"⟩
def dkwX6_mortality_7 : List UInt8 := [184, 0, 34, 55, 8, 20, 0, 28, 22, 8, 21, 4, 133, 105, 20, 0, 55, 184, 0, 34, 184, 0, 48, 173]
abbrev dktX6_mortality_7 : List UInt8 := dkwX6_mortality_7 ++ []
def dkwX6_mortality_6 : List UInt8 := [184, 0, 48, 105, 20, 0, 53, 184, 0, 34, 101, 55, 8, 22, 8, 16, 100, 29, 96, 133, 105, 20, 0, 55]
abbrev dktX6_mortality_6 : List UInt8 := dkwX6_mortality_6 ++ dktX6_mortality_7
def dkwX6_mortality_5 : List UInt8 := [17, 7, 208, 164, 0, 33, 22, 8, 22, 8, 20, 0, 46, 21, 5, 133, 27, 17, 7, 208, 100, 133, 105]
abbrev dktX6_mortality_5 : List UInt8 := dkwX6_mortality_5 ++ dktX6_mortality_6
def dkwX6_mortality_4 : List UInt8 := [55, 8, 28, 4, 160, 0, 17, 22, 8, 20, 0, 44, 105, 20, 0, 38, 184, 0, 34, 55, 8, 27]
abbrev dktX6_mortality_4 : List UInt8 := dkwX6_mortality_4 ++ dktX6_mortality_5
def dkwX6_mortality_3 : List UInt8 := [153, 0, 11, 22, 8, 20, 0, 42, 105, 55, 8, 28, 154, 0, 13, 22, 8, 20, 0, 42, 184, 0, 34]
abbrev dktX6_mortality_3 : List UInt8 := dkwX6_mortality_3 ++ dktX6_mortality_4
def dkwX6_mortality_2 : List UInt8 := [180, 0, 15, 153, 0, 17, 22, 8, 20, 0, 38, 105, 20, 0, 40, 184, 0, 34, 55, 8, 42, 180, 0, 19]
abbrev dktX6_mortality_2 : List UInt8 := dkwX6_mortality_2 ++ dktX6_mortality_3
def dkwX6_mortality_1 : List UInt8 := [22, 6, 22, 6, 105, 22, 6, 105, 22, 6, 105, 22, 6, 105, 20, 0, 32, 184, 0, 34, 97, 55, 8, 42]
abbrev dktX6_mortality_1 : List UInt8 := dkwX6_mortality_1 ++ dktX6_mortality_2
def dkwX6_mortality_0 : List UInt8 := [42, 27, 182, 0, 22, 133, 55, 6, 22, 6, 20, 0, 26, 148, 155, 0, 7, 20, 0, 28, 173, 20, 0, 30]
abbrev dktX6_mortality_0 : List UInt8 := dkwX6_mortality_0 ++ dktX6_mortality_1
theorem dksX6_mortality_0 : cX6_mortality.data.toList.drop 0 = dktX6_mortality_0 := by decide +kernel
theorem dksX6_mortality_1 : cX6_mortality.data.toList.drop 24 = dktX6_mortality_1 := dk_seg dksX6_mortality_0 24 rfl rfl
theorem dksX6_mortality_2 : cX6_mortality.data.toList.drop 48 = dktX6_mortality_2 := dk_seg dksX6_mortality_1 24 rfl rfl
theorem dksX6_mortality_3 : cX6_mortality.data.toList.drop 72 = dktX6_mortality_3 := dk_seg dksX6_mortality_2 24 rfl rfl
theorem dksX6_mortality_4 : cX6_mortality.data.toList.drop 95 = dktX6_mortality_4 := dk_seg dksX6_mortality_3 23 rfl rfl
theorem dksX6_mortality_5 : cX6_mortality.data.toList.drop 117 = dktX6_mortality_5 := dk_seg dksX6_mortality_4 22 rfl rfl
theorem dksX6_mortality_6 : cX6_mortality.data.toList.drop 140 = dktX6_mortality_6 := dk_seg dksX6_mortality_5 23 rfl rfl
theorem dksX6_mortality_7 : cX6_mortality.data.toList.drop 164 = dktX6_mortality_7 := dk_seg dksX6_mortality_6 24 rfl rfl
theorem dX6_mortality_0 : decode cX6_mortality 0 = .ok (.aload_n 0, 1) := dk_42 (dk_at dksX6_mortality_0 0 rfl rfl)
theorem dX6_mortality_1 : decode cX6_mortality 1 = .ok (.iload_n 1, 1) := dk_27 (dk_at dksX6_mortality_0 1 rfl rfl)
theorem dX6_mortality_2 : decode cX6_mortality 2 = .ok (.invokevirtual 22, 3) := dk_182 0 22 (dk_at dksX6_mortality_0 2 rfl rfl)
theorem dX6_mortality_5 : decode cX6_mortality 5 = .ok (.i2l, 1) := dk_133 (dk_at dksX6_mortality_0 5 rfl rfl)
theorem dX6_mortality_6 : decode cX6_mortality 6 = .ok (.lstore 6, 2) := dk_55 6 (dk_at dksX6_mortality_0 6 rfl rfl)
theorem dX6_mortality_8 : decode cX6_mortality 8 = .ok (.lload 6, 2) := dk_22 6 (dk_at dksX6_mortality_0 8 rfl rfl)
theorem dX6_mortality_10 : decode cX6_mortality 10 = .ok (.ldc2_w 26, 3) := dk_20 0 26 (dk_at dksX6_mortality_0 10 rfl rfl)
theorem dX6_mortality_13 : decode cX6_mortality 13 = .ok (.lcmp, 1) := dk_148 (dk_at dksX6_mortality_0 13 rfl rfl)
theorem dX6_mortality_14 : decode cX6_mortality 14 = .ok (.ifCond .lt 7, 3) := dk_155 0 7 (dk_at dksX6_mortality_0 14 rfl rfl)
theorem dX6_mortality_17 : decode cX6_mortality 17 = .ok (.ldc2_w 28, 3) := dk_20 0 28 (dk_at dksX6_mortality_0 17 rfl rfl)
theorem dX6_mortality_20 : decode cX6_mortality 20 = .ok (.lreturn, 1) := dk_173 (dk_at dksX6_mortality_0 20 rfl rfl)
theorem dX6_mortality_21 : decode cX6_mortality 21 = .ok (.ldc2_w 30, 3) := dk_20 0 30 (dk_at dksX6_mortality_0 21 rfl rfl)
theorem dX6_mortality_24 : decode cX6_mortality 24 = .ok (.lload 6, 2) := dk_22 6 (dk_at dksX6_mortality_1 0 rfl rfl)
theorem dX6_mortality_26 : decode cX6_mortality 26 = .ok (.lload 6, 2) := dk_22 6 (dk_at dksX6_mortality_1 2 rfl rfl)
theorem dX6_mortality_28 : decode cX6_mortality 28 = .ok (.lmul, 1) := dk_105 (dk_at dksX6_mortality_1 4 rfl rfl)
theorem dX6_mortality_29 : decode cX6_mortality 29 = .ok (.lload 6, 2) := dk_22 6 (dk_at dksX6_mortality_1 5 rfl rfl)
theorem dX6_mortality_31 : decode cX6_mortality 31 = .ok (.lmul, 1) := dk_105 (dk_at dksX6_mortality_1 7 rfl rfl)
theorem dX6_mortality_32 : decode cX6_mortality 32 = .ok (.lload 6, 2) := dk_22 6 (dk_at dksX6_mortality_1 8 rfl rfl)
theorem dX6_mortality_34 : decode cX6_mortality 34 = .ok (.lmul, 1) := dk_105 (dk_at dksX6_mortality_1 10 rfl rfl)
theorem dX6_mortality_35 : decode cX6_mortality 35 = .ok (.lload 6, 2) := dk_22 6 (dk_at dksX6_mortality_1 11 rfl rfl)
theorem dX6_mortality_37 : decode cX6_mortality 37 = .ok (.lmul, 1) := dk_105 (dk_at dksX6_mortality_1 13 rfl rfl)
theorem dX6_mortality_38 : decode cX6_mortality 38 = .ok (.ldc2_w 32, 3) := dk_20 0 32 (dk_at dksX6_mortality_1 14 rfl rfl)
theorem dX6_mortality_41 : decode cX6_mortality 41 = .ok (.invokestatic 34, 3) := dk_184 0 34 (dk_at dksX6_mortality_1 17 rfl rfl)
theorem dX6_mortality_44 : decode cX6_mortality 44 = .ok (.ladd, 1) := dk_97 (dk_at dksX6_mortality_1 20 rfl rfl)
theorem dX6_mortality_45 : decode cX6_mortality 45 = .ok (.lstore 8, 2) := dk_55 8 (dk_at dksX6_mortality_1 21 rfl rfl)
theorem dX6_mortality_47 : decode cX6_mortality 47 = .ok (.aload_n 0, 1) := dk_42 (dk_at dksX6_mortality_1 23 rfl rfl)
theorem dX6_mortality_48 : decode cX6_mortality 48 = .ok (.getfield 15, 3) := dk_180 0 15 (dk_at dksX6_mortality_2 0 rfl rfl)
theorem dX6_mortality_51 : decode cX6_mortality 51 = .ok (.ifCond .eq 17, 3) := dk_153 0 17 (dk_at dksX6_mortality_2 3 rfl rfl)
theorem dX6_mortality_54 : decode cX6_mortality 54 = .ok (.lload 8, 2) := dk_22 8 (dk_at dksX6_mortality_2 6 rfl rfl)
theorem dX6_mortality_56 : decode cX6_mortality 56 = .ok (.ldc2_w 38, 3) := dk_20 0 38 (dk_at dksX6_mortality_2 8 rfl rfl)
theorem dX6_mortality_59 : decode cX6_mortality 59 = .ok (.lmul, 1) := dk_105 (dk_at dksX6_mortality_2 11 rfl rfl)
theorem dX6_mortality_60 : decode cX6_mortality 60 = .ok (.ldc2_w 40, 3) := dk_20 0 40 (dk_at dksX6_mortality_2 12 rfl rfl)
theorem dX6_mortality_63 : decode cX6_mortality 63 = .ok (.invokestatic 34, 3) := dk_184 0 34 (dk_at dksX6_mortality_2 15 rfl rfl)
theorem dX6_mortality_66 : decode cX6_mortality 66 = .ok (.lstore 8, 2) := dk_55 8 (dk_at dksX6_mortality_2 18 rfl rfl)
theorem dX6_mortality_68 : decode cX6_mortality 68 = .ok (.aload_n 0, 1) := dk_42 (dk_at dksX6_mortality_2 20 rfl rfl)
theorem dX6_mortality_69 : decode cX6_mortality 69 = .ok (.getfield 19, 3) := dk_180 0 19 (dk_at dksX6_mortality_2 21 rfl rfl)
theorem dX6_mortality_72 : decode cX6_mortality 72 = .ok (.ifCond .eq 11, 3) := dk_153 0 11 (dk_at dksX6_mortality_3 0 rfl rfl)
theorem dX6_mortality_75 : decode cX6_mortality 75 = .ok (.lload 8, 2) := dk_22 8 (dk_at dksX6_mortality_3 3 rfl rfl)
theorem dX6_mortality_77 : decode cX6_mortality 77 = .ok (.ldc2_w 42, 3) := dk_20 0 42 (dk_at dksX6_mortality_3 5 rfl rfl)
theorem dX6_mortality_80 : decode cX6_mortality 80 = .ok (.lmul, 1) := dk_105 (dk_at dksX6_mortality_3 8 rfl rfl)
theorem dX6_mortality_81 : decode cX6_mortality 81 = .ok (.lstore 8, 2) := dk_55 8 (dk_at dksX6_mortality_3 9 rfl rfl)
theorem dX6_mortality_83 : decode cX6_mortality 83 = .ok (.iload_n 2, 1) := dk_28 (dk_at dksX6_mortality_3 11 rfl rfl)
theorem dX6_mortality_84 : decode cX6_mortality 84 = .ok (.ifCond .ne 13, 3) := dk_154 0 13 (dk_at dksX6_mortality_3 12 rfl rfl)
theorem dX6_mortality_87 : decode cX6_mortality 87 = .ok (.lload 8, 2) := dk_22 8 (dk_at dksX6_mortality_3 15 rfl rfl)
theorem dX6_mortality_89 : decode cX6_mortality 89 = .ok (.ldc2_w 42, 3) := dk_20 0 42 (dk_at dksX6_mortality_3 17 rfl rfl)
theorem dX6_mortality_92 : decode cX6_mortality 92 = .ok (.invokestatic 34, 3) := dk_184 0 34 (dk_at dksX6_mortality_3 20 rfl rfl)
theorem dX6_mortality_95 : decode cX6_mortality 95 = .ok (.lstore 8, 2) := dk_55 8 (dk_at dksX6_mortality_4 0 rfl rfl)
theorem dX6_mortality_97 : decode cX6_mortality 97 = .ok (.iload_n 2, 1) := dk_28 (dk_at dksX6_mortality_4 2 rfl rfl)
theorem dX6_mortality_98 : decode cX6_mortality 98 = .ok (.iconst 1, 1) := dk_4 (dk_at dksX6_mortality_4 3 rfl rfl)
theorem dX6_mortality_99 : decode cX6_mortality 99 = .ok (.if_icmp .ne 17, 3) := dk_160 0 17 (dk_at dksX6_mortality_4 4 rfl rfl)
theorem dX6_mortality_102 : decode cX6_mortality 102 = .ok (.lload 8, 2) := dk_22 8 (dk_at dksX6_mortality_4 7 rfl rfl)
theorem dX6_mortality_104 : decode cX6_mortality 104 = .ok (.ldc2_w 44, 3) := dk_20 0 44 (dk_at dksX6_mortality_4 9 rfl rfl)
theorem dX6_mortality_107 : decode cX6_mortality 107 = .ok (.lmul, 1) := dk_105 (dk_at dksX6_mortality_4 12 rfl rfl)
theorem dX6_mortality_108 : decode cX6_mortality 108 = .ok (.ldc2_w 38, 3) := dk_20 0 38 (dk_at dksX6_mortality_4 13 rfl rfl)
theorem dX6_mortality_111 : decode cX6_mortality 111 = .ok (.invokestatic 34, 3) := dk_184 0 34 (dk_at dksX6_mortality_4 16 rfl rfl)
theorem dX6_mortality_114 : decode cX6_mortality 114 = .ok (.lstore 8, 2) := dk_55 8 (dk_at dksX6_mortality_4 19 rfl rfl)
theorem dX6_mortality_116 : decode cX6_mortality 116 = .ok (.iload_n 1, 1) := dk_27 (dk_at dksX6_mortality_4 21 rfl rfl)
theorem dX6_mortality_117 : decode cX6_mortality 117 = .ok (.sipush 2000, 3) := dk_17 7 208 (dk_at dksX6_mortality_5 0 rfl rfl)
theorem dX6_mortality_120 : decode cX6_mortality 120 = .ok (.if_icmp .le 33, 3) := dk_164 0 33 (dk_at dksX6_mortality_5 3 rfl rfl)
theorem dX6_mortality_123 : decode cX6_mortality 123 = .ok (.lload 8, 2) := dk_22 8 (dk_at dksX6_mortality_5 6 rfl rfl)
theorem dX6_mortality_125 : decode cX6_mortality 125 = .ok (.lload 8, 2) := dk_22 8 (dk_at dksX6_mortality_5 8 rfl rfl)
theorem dX6_mortality_127 : decode cX6_mortality 127 = .ok (.ldc2_w 46, 3) := dk_20 0 46 (dk_at dksX6_mortality_5 10 rfl rfl)
theorem dX6_mortality_130 : decode cX6_mortality 130 = .ok (.iload 5, 2) := dk_21 5 (dk_at dksX6_mortality_5 13 rfl rfl)
theorem dX6_mortality_132 : decode cX6_mortality 132 = .ok (.i2l, 1) := dk_133 (dk_at dksX6_mortality_5 15 rfl rfl)
theorem dX6_mortality_133 : decode cX6_mortality 133 = .ok (.iload_n 1, 1) := dk_27 (dk_at dksX6_mortality_5 16 rfl rfl)
theorem dX6_mortality_134 : decode cX6_mortality 134 = .ok (.sipush 2000, 3) := dk_17 7 208 (dk_at dksX6_mortality_5 17 rfl rfl)
theorem dX6_mortality_137 : decode cX6_mortality 137 = .ok (.isub, 1) := dk_100 (dk_at dksX6_mortality_5 20 rfl rfl)
theorem dX6_mortality_138 : decode cX6_mortality 138 = .ok (.i2l, 1) := dk_133 (dk_at dksX6_mortality_5 21 rfl rfl)
theorem dX6_mortality_139 : decode cX6_mortality 139 = .ok (.lmul, 1) := dk_105 (dk_at dksX6_mortality_5 22 rfl rfl)
theorem dX6_mortality_140 : decode cX6_mortality 140 = .ok (.invokestatic 48, 3) := dk_184 0 48 (dk_at dksX6_mortality_6 0 rfl rfl)
theorem dX6_mortality_143 : decode cX6_mortality 143 = .ok (.lmul, 1) := dk_105 (dk_at dksX6_mortality_6 3 rfl rfl)
theorem dX6_mortality_144 : decode cX6_mortality 144 = .ok (.ldc2_w 53, 3) := dk_20 0 53 (dk_at dksX6_mortality_6 4 rfl rfl)
theorem dX6_mortality_147 : decode cX6_mortality 147 = .ok (.invokestatic 34, 3) := dk_184 0 34 (dk_at dksX6_mortality_6 7 rfl rfl)
theorem dX6_mortality_150 : decode cX6_mortality 150 = .ok (.lsub, 1) := dk_101 (dk_at dksX6_mortality_6 10 rfl rfl)
theorem dX6_mortality_151 : decode cX6_mortality 151 = .ok (.lstore 8, 2) := dk_55 8 (dk_at dksX6_mortality_6 11 rfl rfl)
theorem dX6_mortality_153 : decode cX6_mortality 153 = .ok (.lload 8, 2) := dk_22 8 (dk_at dksX6_mortality_6 13 rfl rfl)
theorem dX6_mortality_155 : decode cX6_mortality 155 = .ok (.bipush 100, 2) := dk_16 100 (dk_at dksX6_mortality_6 15 rfl rfl)
theorem dX6_mortality_157 : decode cX6_mortality 157 = .ok (.iload_n 3, 1) := dk_29 (dk_at dksX6_mortality_6 17 rfl rfl)
theorem dX6_mortality_158 : decode cX6_mortality 158 = .ok (.iadd, 1) := dk_96 (dk_at dksX6_mortality_6 18 rfl rfl)
theorem dX6_mortality_159 : decode cX6_mortality 159 = .ok (.i2l, 1) := dk_133 (dk_at dksX6_mortality_6 19 rfl rfl)
theorem dX6_mortality_160 : decode cX6_mortality 160 = .ok (.lmul, 1) := dk_105 (dk_at dksX6_mortality_6 20 rfl rfl)
theorem dX6_mortality_161 : decode cX6_mortality 161 = .ok (.ldc2_w 55, 3) := dk_20 0 55 (dk_at dksX6_mortality_6 21 rfl rfl)
theorem dX6_mortality_164 : decode cX6_mortality 164 = .ok (.invokestatic 34, 3) := dk_184 0 34 (dk_at dksX6_mortality_7 0 rfl rfl)
theorem dX6_mortality_167 : decode cX6_mortality 167 = .ok (.lstore 8, 2) := dk_55 8 (dk_at dksX6_mortality_7 3 rfl rfl)
theorem dX6_mortality_169 : decode cX6_mortality 169 = .ok (.ldc2_w 28, 3) := dk_20 0 28 (dk_at dksX6_mortality_7 5 rfl rfl)
theorem dX6_mortality_172 : decode cX6_mortality 172 = .ok (.lload 8, 2) := dk_22 8 (dk_at dksX6_mortality_7 8 rfl rfl)
theorem dX6_mortality_174 : decode cX6_mortality 174 = .ok (.iload 4, 2) := dk_21 4 (dk_at dksX6_mortality_7 10 rfl rfl)
theorem dX6_mortality_176 : decode cX6_mortality 176 = .ok (.i2l, 1) := dk_133 (dk_at dksX6_mortality_7 12 rfl rfl)
theorem dX6_mortality_177 : decode cX6_mortality 177 = .ok (.lmul, 1) := dk_105 (dk_at dksX6_mortality_7 13 rfl rfl)
theorem dX6_mortality_178 : decode cX6_mortality 178 = .ok (.ldc2_w 55, 3) := dk_20 0 55 (dk_at dksX6_mortality_7 14 rfl rfl)
theorem dX6_mortality_181 : decode cX6_mortality 181 = .ok (.invokestatic 34, 3) := dk_184 0 34 (dk_at dksX6_mortality_7 17 rfl rfl)
theorem dX6_mortality_184 : decode cX6_mortality 184 = .ok (.invokestatic 48, 3) := dk_184 0 48 (dk_at dksX6_mortality_7 20 rfl rfl)
theorem dX6_mortality_187 : decode cX6_mortality 187 = .ok (.lreturn, 1) := dk_173 (dk_at dksX6_mortality_7 23 rfl rfl)
abbrev cX6_age : ByteArray := prog_7_method_2_code
def yX6_age : MethodName := ⟨RX6, "age", "(I)I"⟩
def dkwX6_age_0 : List UInt8 := [27, 42, 180, 0, 9, 100, 172]
abbrev dktX6_age_0 : List UInt8 := dkwX6_age_0 ++ []
theorem dksX6_age_0 : cX6_age.data.toList.drop 0 = dktX6_age_0 := by decide +kernel
theorem dX6_age_0 : decode cX6_age 0 = .ok (.iload_n 1, 1) := dk_27 (dk_at dksX6_age_0 0 rfl rfl)
theorem dX6_age_1 : decode cX6_age 1 = .ok (.aload_n 0, 1) := dk_42 (dk_at dksX6_age_0 1 rfl rfl)
theorem dX6_age_2 : decode cX6_age 2 = .ok (.getfield 9, 3) := dk_180 0 9 (dk_at dksX6_age_0 2 rfl rfl)
theorem dX6_age_5 : decode cX6_age 5 = .ok (.isub, 1) := dk_100 (dk_at dksX6_age_0 5 rfl rfl)
theorem dX6_age_6 : decode cX6_age 6 = .ok (.ireturn, 1) := dk_172 (dk_at dksX6_age_0 6 rfl rfl)
abbrev cX6_init : ByteArray := prog_7_method_1_code
def yX6_init : MethodName := ⟨RX6, "<init>", "(II)V"⟩
def dkwX6_init_1 : List UInt8 := [42, 28, 5, 126, 153, 0, 7, 4, 167, 0, 4, 3, 181, 0, 19, 177]
abbrev dktX6_init_1 : List UInt8 := dkwX6_init_1 ++ []
def dkwX6_init_0 : List UInt8 := [42, 183, 0, 3, 42, 27, 181, 0, 9, 42, 28, 4, 126, 153, 0, 7, 4, 167, 0, 4, 3, 181, 0, 15]
abbrev dktX6_init_0 : List UInt8 := dkwX6_init_0 ++ dktX6_init_1
theorem dksX6_init_0 : cX6_init.data.toList.drop 0 = dktX6_init_0 := by decide +kernel
theorem dksX6_init_1 : cX6_init.data.toList.drop 24 = dktX6_init_1 := dk_seg dksX6_init_0 24 rfl rfl
theorem dX6_init_0 : decode cX6_init 0 = .ok (.aload_n 0, 1) := dk_42 (dk_at dksX6_init_0 0 rfl rfl)
theorem dX6_init_1 : decode cX6_init 1 = .ok (.invokespecial 3, 3) := dk_183 0 3 (dk_at dksX6_init_0 1 rfl rfl)
theorem dX6_init_4 : decode cX6_init 4 = .ok (.aload_n 0, 1) := dk_42 (dk_at dksX6_init_0 4 rfl rfl)
theorem dX6_init_5 : decode cX6_init 5 = .ok (.iload_n 1, 1) := dk_27 (dk_at dksX6_init_0 5 rfl rfl)
theorem dX6_init_6 : decode cX6_init 6 = .ok (.putfield 9, 3) := dk_181 0 9 (dk_at dksX6_init_0 6 rfl rfl)
theorem dX6_init_9 : decode cX6_init 9 = .ok (.aload_n 0, 1) := dk_42 (dk_at dksX6_init_0 9 rfl rfl)
theorem dX6_init_10 : decode cX6_init 10 = .ok (.iload_n 2, 1) := dk_28 (dk_at dksX6_init_0 10 rfl rfl)
theorem dX6_init_11 : decode cX6_init 11 = .ok (.iconst 1, 1) := dk_4 (dk_at dksX6_init_0 11 rfl rfl)
theorem dX6_init_12 : decode cX6_init 12 = .ok (.iand, 1) := dk_126 (dk_at dksX6_init_0 12 rfl rfl)
theorem dX6_init_13 : decode cX6_init 13 = .ok (.ifCond .eq 7, 3) := dk_153 0 7 (dk_at dksX6_init_0 13 rfl rfl)
theorem dX6_init_16 : decode cX6_init 16 = .ok (.iconst 1, 1) := dk_4 (dk_at dksX6_init_0 16 rfl rfl)
theorem dX6_init_17 : decode cX6_init 17 = .ok (.goto 4, 3) := dk_167 0 4 (dk_at dksX6_init_0 17 rfl rfl)
theorem dX6_init_20 : decode cX6_init 20 = .ok (.iconst 0, 1) := dk_3 (dk_at dksX6_init_0 20 rfl rfl)
theorem dX6_init_21 : decode cX6_init 21 = .ok (.putfield 15, 3) := dk_181 0 15 (dk_at dksX6_init_0 21 rfl rfl)
theorem dX6_init_24 : decode cX6_init 24 = .ok (.aload_n 0, 1) := dk_42 (dk_at dksX6_init_1 0 rfl rfl)
theorem dX6_init_25 : decode cX6_init 25 = .ok (.iload_n 2, 1) := dk_28 (dk_at dksX6_init_1 1 rfl rfl)
theorem dX6_init_26 : decode cX6_init 26 = .ok (.iconst 2, 1) := dk_5 (dk_at dksX6_init_1 2 rfl rfl)
theorem dX6_init_27 : decode cX6_init 27 = .ok (.iand, 1) := dk_126 (dk_at dksX6_init_1 3 rfl rfl)
theorem dX6_init_28 : decode cX6_init 28 = .ok (.ifCond .eq 7, 3) := dk_153 0 7 (dk_at dksX6_init_1 4 rfl rfl)
theorem dX6_init_31 : decode cX6_init 31 = .ok (.iconst 1, 1) := dk_4 (dk_at dksX6_init_1 7 rfl rfl)
theorem dX6_init_32 : decode cX6_init 32 = .ok (.goto 4, 3) := dk_167 0 4 (dk_at dksX6_init_1 8 rfl rfl)
theorem dX6_init_35 : decode cX6_init 35 = .ok (.iconst 0, 1) := dk_3 (dk_at dksX6_init_1 11 rfl rfl)
theorem dX6_init_36 : decode cX6_init 36 = .ok (.putfield 19, 3) := dk_181 0 19 (dk_at dksX6_init_1 12 rfl rfl)
theorem dX6_init_39 : decode cX6_init 39 = .ok (.return_, 1) := dk_177 (dk_at dksX6_init_1 15 rfl rfl)
theorem q109 : (Jvm.Cond.initialized "Lifeoffice$Life") ∈ lw_all := lw_g (lw_at lw_m1 29 rfl) rfl
theorem q439 : (Jvm.Cond.instanceMethod ({ cls := "Lifeoffice$Life", name := "mortality", desc := "(IIIII)J" } : Jvm.MethodName)) ∈ lw_all := lw_g (lw_at lw_m2 119 rfl) rfl
theorem q440 : (Jvm.Cond.selects "Lifeoffice$Life" ({ cls := "Lifeoffice$Life", name := "mortality", desc := "(IIIII)J" } : Jvm.MethodName) ({ cls := "Lifeoffice$Life", name := "mortality", desc := "(IIIII)J" } : Jvm.MethodName)) ∈ lw_all := lw_g (lw_at lw_m2 120 rfl) rfl
theorem q441 : (Jvm.Cond.code ({ cls := "Lifeoffice$Life", name := "mortality", desc := "(IIIII)J" } : Jvm.MethodName) prog_7_method_3_code (10 : Nat) (Option.some Jvm.ClassFile.FieldType.long)) ∈ lw_all := lw_g (lw_at lw_m2 121 rfl) rfl
theorem q442 : (Jvm.Cond.methodLink "Lifeoffice$Life" (22 : Nat) ({ cls := "Lifeoffice$Life", name := "age", desc := "(I)I" } : Jvm.MethodName)) ∈ lw_all := lw_g (lw_at lw_m2 122 rfl) rfl
theorem q443 : (Jvm.Cond.instanceMethod ({ cls := "Lifeoffice$Life", name := "age", desc := "(I)I" } : Jvm.MethodName)) ∈ lw_all := lw_g (lw_at lw_m2 123 rfl) rfl
theorem q444 : (Jvm.Cond.selects "Lifeoffice$Life" ({ cls := "Lifeoffice$Life", name := "age", desc := "(I)I" } : Jvm.MethodName) ({ cls := "Lifeoffice$Life", name := "age", desc := "(I)I" } : Jvm.MethodName)) ∈ lw_all := lw_g (lw_at lw_m2 124 rfl) rfl
theorem q445 : (Jvm.Cond.code ({ cls := "Lifeoffice$Life", name := "age", desc := "(I)I" } : Jvm.MethodName) prog_7_method_2_code (2 : Nat) (Option.some Jvm.ClassFile.FieldType.int)) ∈ lw_all := lw_g (lw_at lw_m2 125 rfl) rfl
theorem q446 : (Jvm.Cond.constantLong "Lifeoffice$Life" (26 : Nat) (110 : Int64)) ∈ lw_all := lw_g (lw_at lw_m2 126 rfl) rfl
theorem q447 : (Jvm.Cond.constantLong "Lifeoffice$Life" (28 : Nat) (100000 : Int64)) ∈ lw_all := lw_g (lw_at lw_m2 127 rfl) rfl
theorem q448 : (Jvm.Cond.constantLong "Lifeoffice$Life" (30 : Nat) (20 : Int64)) ∈ lw_all := lw_g (lw_at lw_m2 128 rfl) rfl
theorem q449 : (Jvm.Cond.constantLong "Lifeoffice$Life" (32 : Nat) (1000000 : Int64)) ∈ lw_all := lw_g (lw_at lw_m2 129 rfl) rfl
theorem q450 : (Jvm.Cond.methodLinkNest "Lifeoffice$Life" (34 : Nat) ({ cls := "Lifeoffice", name := "down", desc := "(JJ)J" } : Jvm.MethodName) "Lifeoffice") ∈ lw_tbl := lw_at lw_m2 130 rfl
theorem q456 : (Jvm.Cond.constantLong "Lifeoffice$Life" (38 : Nat) (4 : Int64)) ∈ lw_all := lw_g (lw_at lw_m2 136 rfl) rfl
theorem q457 : (Jvm.Cond.constantLong "Lifeoffice$Life" (40 : Nat) (5 : Int64)) ∈ lw_all := lw_g (lw_at lw_m2 137 rfl) rfl
theorem q458 : (Jvm.Cond.constantLong "Lifeoffice$Life" (42 : Nat) (2 : Int64)) ∈ lw_all := lw_g (lw_at lw_m2 138 rfl) rfl
theorem q459 : (Jvm.Cond.constantLong "Lifeoffice$Life" (44 : Nat) (3 : Int64)) ∈ lw_all := lw_g (lw_at lw_m2 139 rfl) rfl
theorem q460 : (Jvm.Cond.constantLong "Lifeoffice$Life" (46 : Nat) (500 : Int64)) ∈ lw_all := lw_g (lw_at lw_m2 140 rfl) rfl
theorem q461 : (Jvm.Cond.methodLink "Lifeoffice$Life" (48 : Nat) ({ cls := "java/lang/Math", name := "min", desc := "(JJ)J" } : Jvm.MethodName)) ∈ lw_all := lw_g (lw_at lw_m2 141 rfl) rfl
theorem q464 : (Jvm.Cond.constantLong "Lifeoffice$Life" (53 : Nat) (1000 : Int64)) ∈ lw_all := lw_g (lw_at lw_m2 144 rfl) rfl
theorem q465 : (Jvm.Cond.constantLong "Lifeoffice$Life" (55 : Nat) (100 : Int64)) ∈ lw_all := lw_g (lw_at lw_m2 145 rfl) rfl
theorem q1160 : (Jvm.Cond.instantiable "Lifeoffice$Life" (3 : Nat)) ∈ lw_all := lw_g (lw_at lw_m5 120 rfl) rfl
theorem q1162 : (Jvm.Cond.instanceMethod ({ cls := "Lifeoffice$Life", name := "<init>", desc := "(II)V" } : Jvm.MethodName)) ∈ lw_all := lw_g (lw_at lw_m5 122 rfl) rfl
theorem q1163 : (Jvm.Cond.code ({ cls := "Lifeoffice$Life", name := "<init>", desc := "(II)V" } : Jvm.MethodName) prog_7_method_1_code (3 : Nat) (Option.none : Option Jvm.ClassFile.FieldType)) ∈ lw_all := lw_g (lw_at lw_m5 123 rfl) rfl
theorem q1164 : (Jvm.Cond.methodLink "Lifeoffice$Life" (3 : Nat) ({ cls := "java/lang/Object", name := "<init>", desc := "()V" } : Jvm.MethodName)) ∈ lw_all := lw_g (lw_at lw_m5 124 rfl) rfl
theorem q1165 : (Jvm.Cond.fieldLink "Lifeoffice$Life" (9 : Nat) "Lifeoffice$Life" "birth" "I") ∈ lw_all := lw_g (lw_at lw_m5 125 rfl) rfl
theorem q1167 : (Jvm.Cond.fieldLink "Lifeoffice$Life" (15 : Nat) "Lifeoffice$Life" "isWoman" "Z") ∈ lw_all := lw_g (lw_at lw_m5 127 rfl) rfl
theorem q1168 : (Jvm.Cond.fieldLink "Lifeoffice$Life" (19 : Nat) "Lifeoffice$Life" "isSmoker" "Z") ∈ lw_all := lw_g (lw_at lw_m5 128 rfl) rfl
theorem q1169 : (Jvm.Cond.laysFinal "Lifeoffice$Life" "Lifeoffice$Life" "birth" "I") ∈ lw_all := lw_g (lw_at lw_m5 129 rfl) rfl
theorem q1170 : (Jvm.Cond.soleField "Lifeoffice$Life" "birth") ∈ lw_all := lw_g (lw_at lw_m5 130 rfl) rfl
theorem q1171 : (Jvm.Cond.laysFinal "Lifeoffice$Life" "Lifeoffice$Life" "isWoman" "Z") ∈ lw_all := lw_g (lw_at lw_m5 131 rfl) rfl
theorem q1172 : (Jvm.Cond.soleField "Lifeoffice$Life" "isWoman") ∈ lw_all := lw_g (lw_at lw_m5 132 rfl) rfl
theorem q1173 : (Jvm.Cond.laysFinal "Lifeoffice$Life" "Lifeoffice$Life" "isSmoker" "Z") ∈ lw_all := lw_g (lw_at lw_m5 133 rfl) rfl
theorem q1174 : (Jvm.Cond.soleField "Lifeoffice$Life" "isSmoker") ∈ lw_all := lw_g (lw_at lw_m5 134 rfl) rfl
theorem q1175 : (Jvm.Cond.superclass "Lifeoffice$Life" "java/lang/Object") ∈ lw_all := lw_g (lw_at lw_m5 135 rfl) rfl
theorem q1346 : (Jvm.Cond.selects "Lifeoffice$Life" ({ cls := "java/lang/Object", name := "getClass", desc := "()Ljava/lang/Class;" } : Jvm.MethodName) ({ cls := "java/lang/Object", name := "getClass", desc := "()Ljava/lang/Class;" } : Jvm.MethodName)) ∈ lw_all := lw_g (lw_at lw_m6 66 rfl) rfl
theorem q1760 : (Jvm.Cond.selects "Lifeoffice$Life" ({ cls := "java/lang/Object", name := "equals", desc := "(Ljava/lang/Object;)Z" } : Jvm.MethodName) ({ cls := "java/lang/Object", name := "equals", desc := "(Ljava/lang/Object;)Z" } : Jvm.MethodName)) ∈ lw_all := lw_g (lw_at lw_m8 0 rfl) rfl
theorem q2540 : (Jvm.Cond.castable "Lifeoffice$Life" "java/lang/Object") ∈ lw_tbl := lw_at lw_m11 60 rfl
theorem in_X6 : ∀ w ∈ wsX60, w ∈ lw_all := lw_in wsX60 [1169, 1171, 1173] (by decide +kernel) (by decide +kernel)
/-! Lifeoffice$Policy -/
set_option maxRecDepth 100000
def RX7 : String := "Lifeoffice$Policy"
def TX7 : u_T := fun k => match k with
  | 0 => ("Lifeoffice$Policy", "number", "I", true)
  | 1 => ("Lifeoffice$Policy", "kind", "I", true)
  | 2 => ("Lifeoffice$Policy", "start", "I", true)
  | 3 => ("Lifeoffice$Policy", "end", "I", true)
  | 4 => ("Lifeoffice$Policy", "points", "I", true)
  | 5 => ("Lifeoffice$Policy", "life", "LLifeoffice$Life;", true)
  | 6 => ("Lifeoffice$Policy", "isWithProfits", "Z", true)
  | 7 => ("Lifeoffice$Policy", "sum", "J", false)
  | 8 => ("Lifeoffice$Policy", "premium", "J", false)
  | 9 => ("Lifeoffice$Policy", "bonus", "J", false)
  | 10 => ("Lifeoffice$Policy", "assetShare", "J", false)
  | 11 => ("Lifeoffice$Policy", "loan", "J", false)
  | 12 => ("Lifeoffice$Policy", "state", "I", false)
  | 13 => ("Lifeoffice$Policy", "truePoints", "I", false)
  | 14 => ("Lifeoffice$Policy", "guarantee", "I", false)
  | 15 => ("Lifeoffice$Policy", "lapsedIn", "I", false)
  | 16 => ("Lifeoffice$Policy", "payments", "I", false)
  | 17 => ("Lifeoffice$Policy", "wasPaidUp", "Z", false)
  | _ => ("Lifeoffice$Policy", "this$0", "LLifeoffice;", true)
def tyX7 : Nat → FieldType := fun k => match k with
  | 0 => .int
  | 1 => .int
  | 2 => .int
  | 3 => .int
  | 4 => .int
  | 5 => .object "Lifeoffice$Life"
  | 6 => .boolean
  | 7 => .long
  | 8 => .long
  | 9 => .long
  | 10 => .long
  | 11 => .long
  | 12 => .int
  | 13 => .int
  | 14 => .int
  | 15 => .int
  | 16 => .int
  | 17 => .boolean
  | _ => .object "Lifeoffice"
abbrev wsX70 : List Cond := u_ws RX7 TX7 19
set_option maxRecDepth 100000 in
theorem nmX7 : ∀ a, a < 19 → ∀ b, b < 19 → a ≠ b → (TX7 a).2.1 ≠ (TX7 b).2.1 := by decide +kernel
set_option maxRecDepth 100000 in
theorem tyX7_ok : ∀ k, k < 19 → parseFieldDescriptor (TX7 k).2.2.1 = some (tyX7 k) := by decide +kernel
abbrev cX7_reserve : ByteArray := prog_8_method_11_code
def yX7_reserve : MethodName := ⟨RX7, "reserve", "(LLifeoffice$Law;I)J"⟩
def dkwX7_reserve_5 : List UInt8 := [184, 0, 143, 167, 0, 5, 22, 4, 173]
abbrev dktX7_reserve_5 : List UInt8 := dkwX7_reserve_5 ++ []
def dkwX7_reserve_4 : List UInt8 := [45, 180, 0, 129, 105, 20, 0, 101, 184, 0, 67, 101, 55, 4, 43, 180, 0, 140, 153, 0, 12, 9, 22, 4]
abbrev dktX7_reserve_4 : List UInt8 := dkwX7_reserve_4 ++ dktX7_reserve_5
def dkwX7_reserve_3 : List UInt8 := [182, 0, 120, 154, 0, 35, 42, 182, 0, 137, 154, 0, 28, 22, 4, 42, 43, 42, 180, 0, 29, 182, 0, 58]
abbrev dktX7_reserve_3 : List UInt8 := dkwX7_reserve_3 ++ dktX7_reserve_4
def dkwX7_reserve_2 : List UInt8 := [184, 0, 67, 167, 0, 18, 42, 182, 0, 133, 45, 180, 0, 126, 105, 20, 0, 101, 184, 0, 67, 55, 4, 42]
abbrev dktX7_reserve_2 : List UInt8 := dkwX7_reserve_2 ++ dktX7_reserve_3
def dkwX7_reserve_1 : List UInt8 := [182, 0, 116, 78, 42, 182, 0, 120, 153, 0, 21, 42, 180, 0, 25, 45, 180, 0, 123, 105, 20, 0, 101]
abbrev dktX7_reserve_1 : List UInt8 := dkwX7_reserve_1 ++ dktX7_reserve_2
def dkwX7_reserve_0 : List UInt8 := [42, 182, 0, 130, 153, 0, 11, 28, 42, 180, 0, 35, 160, 0, 5, 9, 173, 42, 43, 28, 42, 180, 0, 29]
abbrev dktX7_reserve_0 : List UInt8 := dkwX7_reserve_0 ++ dktX7_reserve_1
theorem dksX7_reserve_0 : cX7_reserve.data.toList.drop 0 = dktX7_reserve_0 := by decide +kernel
theorem dksX7_reserve_1 : cX7_reserve.data.toList.drop 24 = dktX7_reserve_1 := dk_seg dksX7_reserve_0 24 rfl rfl
theorem dksX7_reserve_2 : cX7_reserve.data.toList.drop 47 = dktX7_reserve_2 := dk_seg dksX7_reserve_1 23 rfl rfl
theorem dksX7_reserve_3 : cX7_reserve.data.toList.drop 71 = dktX7_reserve_3 := dk_seg dksX7_reserve_2 24 rfl rfl
theorem dksX7_reserve_4 : cX7_reserve.data.toList.drop 95 = dktX7_reserve_4 := dk_seg dksX7_reserve_3 24 rfl rfl
theorem dksX7_reserve_5 : cX7_reserve.data.toList.drop 119 = dktX7_reserve_5 := dk_seg dksX7_reserve_4 24 rfl rfl
theorem dX7_reserve_0 : decode cX7_reserve 0 = .ok (.aload_n 0, 1) := dk_42 (dk_at dksX7_reserve_0 0 rfl rfl)
theorem dX7_reserve_1 : decode cX7_reserve 1 = .ok (.invokevirtual 130, 3) := dk_182 0 130 (dk_at dksX7_reserve_0 1 rfl rfl)
theorem dX7_reserve_4 : decode cX7_reserve 4 = .ok (.ifCond .eq 11, 3) := dk_153 0 11 (dk_at dksX7_reserve_0 4 rfl rfl)
theorem dX7_reserve_7 : decode cX7_reserve 7 = .ok (.iload_n 2, 1) := dk_28 (dk_at dksX7_reserve_0 7 rfl rfl)
theorem dX7_reserve_8 : decode cX7_reserve 8 = .ok (.aload_n 0, 1) := dk_42 (dk_at dksX7_reserve_0 8 rfl rfl)
theorem dX7_reserve_9 : decode cX7_reserve 9 = .ok (.getfield 35, 3) := dk_180 0 35 (dk_at dksX7_reserve_0 9 rfl rfl)
theorem dX7_reserve_12 : decode cX7_reserve 12 = .ok (.if_icmp .ne 5, 3) := dk_160 0 5 (dk_at dksX7_reserve_0 12 rfl rfl)
theorem dX7_reserve_15 : decode cX7_reserve 15 = .ok (.lconst 0, 1) := dk_9 (dk_at dksX7_reserve_0 15 rfl rfl)
theorem dX7_reserve_16 : decode cX7_reserve 16 = .ok (.lreturn, 1) := dk_173 (dk_at dksX7_reserve_0 16 rfl rfl)
theorem dX7_reserve_17 : decode cX7_reserve 17 = .ok (.aload_n 0, 1) := dk_42 (dk_at dksX7_reserve_0 17 rfl rfl)
theorem dX7_reserve_18 : decode cX7_reserve 18 = .ok (.aload_n 1, 1) := dk_43 (dk_at dksX7_reserve_0 18 rfl rfl)
theorem dX7_reserve_19 : decode cX7_reserve 19 = .ok (.iload_n 2, 1) := dk_28 (dk_at dksX7_reserve_0 19 rfl rfl)
theorem dX7_reserve_20 : decode cX7_reserve 20 = .ok (.aload_n 0, 1) := dk_42 (dk_at dksX7_reserve_0 20 rfl rfl)
theorem dX7_reserve_21 : decode cX7_reserve 21 = .ok (.getfield 29, 3) := dk_180 0 29 (dk_at dksX7_reserve_0 21 rfl rfl)
theorem dX7_reserve_24 : decode cX7_reserve 24 = .ok (.invokevirtual 116, 3) := dk_182 0 116 (dk_at dksX7_reserve_1 0 rfl rfl)
theorem dX7_reserve_27 : decode cX7_reserve 27 = .ok (.astore_n 3, 1) := dk_78 (dk_at dksX7_reserve_1 3 rfl rfl)
theorem dX7_reserve_28 : decode cX7_reserve 28 = .ok (.aload_n 0, 1) := dk_42 (dk_at dksX7_reserve_1 4 rfl rfl)
theorem dX7_reserve_29 : decode cX7_reserve 29 = .ok (.invokevirtual 120, 3) := dk_182 0 120 (dk_at dksX7_reserve_1 5 rfl rfl)
theorem dX7_reserve_32 : decode cX7_reserve 32 = .ok (.ifCond .eq 21, 3) := dk_153 0 21 (dk_at dksX7_reserve_1 8 rfl rfl)
theorem dX7_reserve_35 : decode cX7_reserve 35 = .ok (.aload_n 0, 1) := dk_42 (dk_at dksX7_reserve_1 11 rfl rfl)
theorem dX7_reserve_36 : decode cX7_reserve 36 = .ok (.getfield 25, 3) := dk_180 0 25 (dk_at dksX7_reserve_1 12 rfl rfl)
theorem dX7_reserve_39 : decode cX7_reserve 39 = .ok (.aload_n 3, 1) := dk_45 (dk_at dksX7_reserve_1 15 rfl rfl)
theorem dX7_reserve_40 : decode cX7_reserve 40 = .ok (.getfield 123, 3) := dk_180 0 123 (dk_at dksX7_reserve_1 16 rfl rfl)
theorem dX7_reserve_43 : decode cX7_reserve 43 = .ok (.lmul, 1) := dk_105 (dk_at dksX7_reserve_1 19 rfl rfl)
theorem dX7_reserve_44 : decode cX7_reserve 44 = .ok (.ldc2_w 101, 3) := dk_20 0 101 (dk_at dksX7_reserve_1 20 rfl rfl)
theorem dX7_reserve_47 : decode cX7_reserve 47 = .ok (.invokestatic 67, 3) := dk_184 0 67 (dk_at dksX7_reserve_2 0 rfl rfl)
theorem dX7_reserve_50 : decode cX7_reserve 50 = .ok (.goto 18, 3) := dk_167 0 18 (dk_at dksX7_reserve_2 3 rfl rfl)
theorem dX7_reserve_53 : decode cX7_reserve 53 = .ok (.aload_n 0, 1) := dk_42 (dk_at dksX7_reserve_2 6 rfl rfl)
theorem dX7_reserve_54 : decode cX7_reserve 54 = .ok (.invokevirtual 133, 3) := dk_182 0 133 (dk_at dksX7_reserve_2 7 rfl rfl)
theorem dX7_reserve_57 : decode cX7_reserve 57 = .ok (.aload_n 3, 1) := dk_45 (dk_at dksX7_reserve_2 10 rfl rfl)
theorem dX7_reserve_58 : decode cX7_reserve 58 = .ok (.getfield 126, 3) := dk_180 0 126 (dk_at dksX7_reserve_2 11 rfl rfl)
theorem dX7_reserve_61 : decode cX7_reserve 61 = .ok (.lmul, 1) := dk_105 (dk_at dksX7_reserve_2 14 rfl rfl)
theorem dX7_reserve_62 : decode cX7_reserve 62 = .ok (.ldc2_w 101, 3) := dk_20 0 101 (dk_at dksX7_reserve_2 15 rfl rfl)
theorem dX7_reserve_65 : decode cX7_reserve 65 = .ok (.invokestatic 67, 3) := dk_184 0 67 (dk_at dksX7_reserve_2 18 rfl rfl)
theorem dX7_reserve_68 : decode cX7_reserve 68 = .ok (.lstore 4, 2) := dk_55 4 (dk_at dksX7_reserve_2 21 rfl rfl)
theorem dX7_reserve_70 : decode cX7_reserve 70 = .ok (.aload_n 0, 1) := dk_42 (dk_at dksX7_reserve_2 23 rfl rfl)
theorem dX7_reserve_71 : decode cX7_reserve 71 = .ok (.invokevirtual 120, 3) := dk_182 0 120 (dk_at dksX7_reserve_3 0 rfl rfl)
theorem dX7_reserve_74 : decode cX7_reserve 74 = .ok (.ifCond .ne 35, 3) := dk_154 0 35 (dk_at dksX7_reserve_3 3 rfl rfl)
theorem dX7_reserve_77 : decode cX7_reserve 77 = .ok (.aload_n 0, 1) := dk_42 (dk_at dksX7_reserve_3 6 rfl rfl)
theorem dX7_reserve_78 : decode cX7_reserve 78 = .ok (.invokevirtual 137, 3) := dk_182 0 137 (dk_at dksX7_reserve_3 7 rfl rfl)
theorem dX7_reserve_81 : decode cX7_reserve 81 = .ok (.ifCond .ne 28, 3) := dk_154 0 28 (dk_at dksX7_reserve_3 10 rfl rfl)
theorem dX7_reserve_84 : decode cX7_reserve 84 = .ok (.lload 4, 2) := dk_22 4 (dk_at dksX7_reserve_3 13 rfl rfl)
theorem dX7_reserve_86 : decode cX7_reserve 86 = .ok (.aload_n 0, 1) := dk_42 (dk_at dksX7_reserve_3 15 rfl rfl)
theorem dX7_reserve_87 : decode cX7_reserve 87 = .ok (.aload_n 1, 1) := dk_43 (dk_at dksX7_reserve_3 16 rfl rfl)
theorem dX7_reserve_88 : decode cX7_reserve 88 = .ok (.aload_n 0, 1) := dk_42 (dk_at dksX7_reserve_3 17 rfl rfl)
theorem dX7_reserve_89 : decode cX7_reserve 89 = .ok (.getfield 29, 3) := dk_180 0 29 (dk_at dksX7_reserve_3 18 rfl rfl)
theorem dX7_reserve_92 : decode cX7_reserve 92 = .ok (.invokevirtual 58, 3) := dk_182 0 58 (dk_at dksX7_reserve_3 21 rfl rfl)
theorem dX7_reserve_95 : decode cX7_reserve 95 = .ok (.aload_n 3, 1) := dk_45 (dk_at dksX7_reserve_4 0 rfl rfl)
theorem dX7_reserve_96 : decode cX7_reserve 96 = .ok (.getfield 129, 3) := dk_180 0 129 (dk_at dksX7_reserve_4 1 rfl rfl)
theorem dX7_reserve_99 : decode cX7_reserve 99 = .ok (.lmul, 1) := dk_105 (dk_at dksX7_reserve_4 4 rfl rfl)
theorem dX7_reserve_100 : decode cX7_reserve 100 = .ok (.ldc2_w 101, 3) := dk_20 0 101 (dk_at dksX7_reserve_4 5 rfl rfl)
theorem dX7_reserve_103 : decode cX7_reserve 103 = .ok (.invokestatic 67, 3) := dk_184 0 67 (dk_at dksX7_reserve_4 8 rfl rfl)
theorem dX7_reserve_106 : decode cX7_reserve 106 = .ok (.lsub, 1) := dk_101 (dk_at dksX7_reserve_4 11 rfl rfl)
theorem dX7_reserve_107 : decode cX7_reserve 107 = .ok (.lstore 4, 2) := dk_55 4 (dk_at dksX7_reserve_4 12 rfl rfl)
theorem dX7_reserve_109 : decode cX7_reserve 109 = .ok (.aload_n 1, 1) := dk_43 (dk_at dksX7_reserve_4 14 rfl rfl)
theorem dX7_reserve_110 : decode cX7_reserve 110 = .ok (.getfield 140, 3) := dk_180 0 140 (dk_at dksX7_reserve_4 15 rfl rfl)
theorem dX7_reserve_113 : decode cX7_reserve 113 = .ok (.ifCond .eq 12, 3) := dk_153 0 12 (dk_at dksX7_reserve_4 18 rfl rfl)
theorem dX7_reserve_116 : decode cX7_reserve 116 = .ok (.lconst 0, 1) := dk_9 (dk_at dksX7_reserve_4 21 rfl rfl)
theorem dX7_reserve_117 : decode cX7_reserve 117 = .ok (.lload 4, 2) := dk_22 4 (dk_at dksX7_reserve_4 22 rfl rfl)
theorem dX7_reserve_119 : decode cX7_reserve 119 = .ok (.invokestatic 143, 3) := dk_184 0 143 (dk_at dksX7_reserve_5 0 rfl rfl)
theorem dX7_reserve_122 : decode cX7_reserve 122 = .ok (.goto 5, 3) := dk_167 0 5 (dk_at dksX7_reserve_5 3 rfl rfl)
theorem dX7_reserve_125 : decode cX7_reserve 125 = .ok (.lload 4, 2) := dk_22 4 (dk_at dksX7_reserve_5 6 rfl rfl)
theorem dX7_reserve_127 : decode cX7_reserve 127 = .ok (.lreturn, 1) := dk_173 (dk_at dksX7_reserve_5 8 rfl rfl)
abbrev cX7_isLiving : ByteArray := prog_8_method_3_code
def yX7_isLiving : MethodName := ⟨RX7, "isLiving", "()Z"⟩
def dkwX7_isLiving_0 : List UInt8 := [42, 180, 0, 15, 6, 163, 0, 7, 4, 167, 0, 4, 3, 172]
abbrev dktX7_isLiving_0 : List UInt8 := dkwX7_isLiving_0 ++ []
theorem dksX7_isLiving_0 : cX7_isLiving.data.toList.drop 0 = dktX7_isLiving_0 := by decide +kernel
theorem dX7_isLiving_0 : decode cX7_isLiving 0 = .ok (.aload_n 0, 1) := dk_42 (dk_at dksX7_isLiving_0 0 rfl rfl)
theorem dX7_isLiving_1 : decode cX7_isLiving 1 = .ok (.getfield 15, 3) := dk_180 0 15 (dk_at dksX7_isLiving_0 1 rfl rfl)
theorem dX7_isLiving_4 : decode cX7_isLiving 4 = .ok (.iconst 3, 1) := dk_6 (dk_at dksX7_isLiving_0 4 rfl rfl)
theorem dX7_isLiving_5 : decode cX7_isLiving 5 = .ok (.if_icmp .gt 7, 3) := dk_163 0 7 (dk_at dksX7_isLiving_0 5 rfl rfl)
theorem dX7_isLiving_8 : decode cX7_isLiving 8 = .ok (.iconst 1, 1) := dk_4 (dk_at dksX7_isLiving_0 8 rfl rfl)
theorem dX7_isLiving_9 : decode cX7_isLiving 9 = .ok (.goto 4, 3) := dk_167 0 4 (dk_at dksX7_isLiving_0 9 rfl rfl)
theorem dX7_isLiving_12 : decode cX7_isLiving 12 = .ok (.iconst 0, 1) := dk_3 (dk_at dksX7_isLiving_0 12 rfl rfl)
theorem dX7_isLiving_13 : decode cX7_isLiving 13 = .ok (.ireturn, 1) := dk_172 (dk_at dksX7_isLiving_0 13 rfl rfl)
abbrev cX7_values : ByteArray := prog_8_method_9_code
def yX7_values : MethodName := ⟨RX7, "values", "(LLifeoffice$Law;II)LLifeoffice$Values;"⟩
def dkwX7_values_2 : List UInt8 := [180, 0, 109, 182, 0, 112, 132, 5, 255, 167, 255, 230, 25, 4, 176]
abbrev dktX7_values_2 : List UInt8 := dkwX7_values_2 ++ []
def dkwX7_values_1 : List UInt8 := [180, 0, 38, 4, 100, 54, 5, 21, 5, 28, 161, 0, 26, 25, 4, 42, 43, 21, 5, 29, 182, 0, 106, 43]
abbrev dktX7_values_1 : List UInt8 := dkwX7_values_1 ++ dktX7_values_2
def dkwX7_values_0 : List UInt8 := [187, 0, 95, 89, 42, 182, 0, 97, 153, 0, 9, 20, 0, 101, 167, 0, 4, 9, 183, 0, 103, 58, 4, 42]
abbrev dktX7_values_0 : List UInt8 := dkwX7_values_0 ++ dktX7_values_1
theorem dksX7_values_0 : cX7_values.data.toList.drop 0 = dktX7_values_0 := by decide +kernel
theorem dksX7_values_1 : cX7_values.data.toList.drop 24 = dktX7_values_1 := dk_seg dksX7_values_0 24 rfl rfl
theorem dksX7_values_2 : cX7_values.data.toList.drop 48 = dktX7_values_2 := dk_seg dksX7_values_1 24 rfl rfl
theorem dX7_values_0 : decode cX7_values 0 = .ok (.new 95, 3) := dk_187 0 95 (dk_at dksX7_values_0 0 rfl rfl)
theorem dX7_values_3 : decode cX7_values 3 = .ok (.dup, 1) := dk_89 (dk_at dksX7_values_0 3 rfl rfl)
theorem dX7_values_4 : decode cX7_values 4 = .ok (.aload_n 0, 1) := dk_42 (dk_at dksX7_values_0 4 rfl rfl)
theorem dX7_values_5 : decode cX7_values 5 = .ok (.invokevirtual 97, 3) := dk_182 0 97 (dk_at dksX7_values_0 5 rfl rfl)
theorem dX7_values_8 : decode cX7_values 8 = .ok (.ifCond .eq 9, 3) := dk_153 0 9 (dk_at dksX7_values_0 8 rfl rfl)
theorem dX7_values_11 : decode cX7_values 11 = .ok (.ldc2_w 101, 3) := dk_20 0 101 (dk_at dksX7_values_0 11 rfl rfl)
theorem dX7_values_14 : decode cX7_values 14 = .ok (.goto 4, 3) := dk_167 0 4 (dk_at dksX7_values_0 14 rfl rfl)
theorem dX7_values_17 : decode cX7_values 17 = .ok (.lconst 0, 1) := dk_9 (dk_at dksX7_values_0 17 rfl rfl)
theorem dX7_values_18 : decode cX7_values 18 = .ok (.invokespecial 103, 3) := dk_183 0 103 (dk_at dksX7_values_0 18 rfl rfl)
theorem dX7_values_21 : decode cX7_values 21 = .ok (.astore 4, 2) := dk_58 4 (dk_at dksX7_values_0 21 rfl rfl)
theorem dX7_values_23 : decode cX7_values 23 = .ok (.aload_n 0, 1) := dk_42 (dk_at dksX7_values_0 23 rfl rfl)
theorem dX7_values_24 : decode cX7_values 24 = .ok (.getfield 38, 3) := dk_180 0 38 (dk_at dksX7_values_1 0 rfl rfl)
theorem dX7_values_27 : decode cX7_values 27 = .ok (.iconst 1, 1) := dk_4 (dk_at dksX7_values_1 3 rfl rfl)
theorem dX7_values_28 : decode cX7_values 28 = .ok (.isub, 1) := dk_100 (dk_at dksX7_values_1 4 rfl rfl)
theorem dX7_values_29 : decode cX7_values 29 = .ok (.istore 5, 2) := dk_54 5 (dk_at dksX7_values_1 5 rfl rfl)
theorem dX7_values_31 : decode cX7_values 31 = .ok (.iload 5, 2) := dk_21 5 (dk_at dksX7_values_1 7 rfl rfl)
theorem dX7_values_33 : decode cX7_values 33 = .ok (.iload_n 2, 1) := dk_28 (dk_at dksX7_values_1 9 rfl rfl)
theorem dX7_values_34 : decode cX7_values 34 = .ok (.if_icmp .lt 26, 3) := dk_161 0 26 (dk_at dksX7_values_1 10 rfl rfl)
theorem dX7_values_37 : decode cX7_values 37 = .ok (.aload 4, 2) := dk_25 4 (dk_at dksX7_values_1 13 rfl rfl)
theorem dX7_values_39 : decode cX7_values 39 = .ok (.aload_n 0, 1) := dk_42 (dk_at dksX7_values_1 15 rfl rfl)
theorem dX7_values_40 : decode cX7_values 40 = .ok (.aload_n 1, 1) := dk_43 (dk_at dksX7_values_1 16 rfl rfl)
theorem dX7_values_41 : decode cX7_values 41 = .ok (.iload 5, 2) := dk_21 5 (dk_at dksX7_values_1 17 rfl rfl)
theorem dX7_values_43 : decode cX7_values 43 = .ok (.iload_n 3, 1) := dk_29 (dk_at dksX7_values_1 19 rfl rfl)
theorem dX7_values_44 : decode cX7_values 44 = .ok (.invokevirtual 106, 3) := dk_182 0 106 (dk_at dksX7_values_1 20 rfl rfl)
theorem dX7_values_47 : decode cX7_values 47 = .ok (.aload_n 1, 1) := dk_43 (dk_at dksX7_values_1 23 rfl rfl)
theorem dX7_values_48 : decode cX7_values 48 = .ok (.getfield 109, 3) := dk_180 0 109 (dk_at dksX7_values_2 0 rfl rfl)
theorem dX7_values_51 : decode cX7_values 51 = .ok (.invokevirtual 112, 3) := dk_182 0 112 (dk_at dksX7_values_2 3 rfl rfl)
theorem dX7_values_54 : decode cX7_values 54 = .ok (.iinc 5 (-1), 3) := dk_132 5 255 (dk_at dksX7_values_2 6 rfl rfl)
theorem dX7_values_57 : decode cX7_values 57 = .ok (.goto (-26), 3) := dk_167 255 230 (dk_at dksX7_values_2 9 rfl rfl)
theorem dX7_values_60 : decode cX7_values 60 = .ok (.aload 4, 2) := dk_25 4 (dk_at dksX7_values_2 12 rfl rfl)
theorem dX7_values_62 : decode cX7_values 62 = .ok (.areturn, 1) := dk_176 (dk_at dksX7_values_2 14 rfl rfl)
abbrev cX7_hasValue : ByteArray := prog_8_method_5_code
def yX7_hasValue : MethodName := ⟨RX7, "hasValue", "()Z"⟩
def dkwX7_hasValue_0 : List UInt8 := [42, 180, 0, 22, 153, 0, 11, 42, 180, 0, 22, 4, 160, 0, 7, 4, 167, 0, 4, 3, 172]
abbrev dktX7_hasValue_0 : List UInt8 := dkwX7_hasValue_0 ++ []
theorem dksX7_hasValue_0 : cX7_hasValue.data.toList.drop 0 = dktX7_hasValue_0 := by decide +kernel
theorem dX7_hasValue_0 : decode cX7_hasValue 0 = .ok (.aload_n 0, 1) := dk_42 (dk_at dksX7_hasValue_0 0 rfl rfl)
theorem dX7_hasValue_1 : decode cX7_hasValue 1 = .ok (.getfield 22, 3) := dk_180 0 22 (dk_at dksX7_hasValue_0 1 rfl rfl)
theorem dX7_hasValue_4 : decode cX7_hasValue 4 = .ok (.ifCond .eq 11, 3) := dk_153 0 11 (dk_at dksX7_hasValue_0 4 rfl rfl)
theorem dX7_hasValue_7 : decode cX7_hasValue 7 = .ok (.aload_n 0, 1) := dk_42 (dk_at dksX7_hasValue_0 7 rfl rfl)
theorem dX7_hasValue_8 : decode cX7_hasValue 8 = .ok (.getfield 22, 3) := dk_180 0 22 (dk_at dksX7_hasValue_0 8 rfl rfl)
theorem dX7_hasValue_11 : decode cX7_hasValue 11 = .ok (.iconst 1, 1) := dk_4 (dk_at dksX7_hasValue_0 11 rfl rfl)
theorem dX7_hasValue_12 : decode cX7_hasValue 12 = .ok (.if_icmp .ne 7, 3) := dk_160 0 7 (dk_at dksX7_hasValue_0 12 rfl rfl)
theorem dX7_hasValue_15 : decode cX7_hasValue 15 = .ok (.iconst 1, 1) := dk_4 (dk_at dksX7_hasValue_0 15 rfl rfl)
theorem dX7_hasValue_16 : decode cX7_hasValue 16 = .ok (.goto 4, 3) := dk_167 0 4 (dk_at dksX7_hasValue_0 16 rfl rfl)
theorem dX7_hasValue_19 : decode cX7_hasValue 19 = .ok (.iconst 0, 1) := dk_3 (dk_at dksX7_hasValue_0 19 rfl rfl)
theorem dX7_hasValue_20 : decode cX7_hasValue 20 = .ok (.ireturn, 1) := dk_172 (dk_at dksX7_hasValue_0 20 rfl rfl)
abbrev cX7_mortality : ByteArray := prog_8_method_7_code
def yX7_mortality : MethodName := ⟨RX7, "mortality", "(LLifeoffice$Law;II)J"⟩
def dkwX7_mortality_1 : List UInt8 := [182, 0, 88, 173]
abbrev dktX7_mortality_1 : List UInt8 := dkwX7_mortality_1 ++ []
def dkwX7_mortality_0 : List UInt8 := [42, 180, 0, 46, 28, 28, 42, 180, 0, 35, 100, 29, 43, 180, 0, 80, 42, 180, 0, 3, 180, 0, 85]
abbrev dktX7_mortality_0 : List UInt8 := dkwX7_mortality_0 ++ dktX7_mortality_1
theorem dksX7_mortality_0 : cX7_mortality.data.toList.drop 0 = dktX7_mortality_0 := by decide +kernel
theorem dksX7_mortality_1 : cX7_mortality.data.toList.drop 23 = dktX7_mortality_1 := dk_seg dksX7_mortality_0 23 rfl rfl
theorem dX7_mortality_0 : decode cX7_mortality 0 = .ok (.aload_n 0, 1) := dk_42 (dk_at dksX7_mortality_0 0 rfl rfl)
theorem dX7_mortality_1 : decode cX7_mortality 1 = .ok (.getfield 46, 3) := dk_180 0 46 (dk_at dksX7_mortality_0 1 rfl rfl)
theorem dX7_mortality_4 : decode cX7_mortality 4 = .ok (.iload_n 2, 1) := dk_28 (dk_at dksX7_mortality_0 4 rfl rfl)
theorem dX7_mortality_5 : decode cX7_mortality 5 = .ok (.iload_n 2, 1) := dk_28 (dk_at dksX7_mortality_0 5 rfl rfl)
theorem dX7_mortality_6 : decode cX7_mortality 6 = .ok (.aload_n 0, 1) := dk_42 (dk_at dksX7_mortality_0 6 rfl rfl)
theorem dX7_mortality_7 : decode cX7_mortality 7 = .ok (.getfield 35, 3) := dk_180 0 35 (dk_at dksX7_mortality_0 7 rfl rfl)
theorem dX7_mortality_10 : decode cX7_mortality 10 = .ok (.isub, 1) := dk_100 (dk_at dksX7_mortality_0 10 rfl rfl)
theorem dX7_mortality_11 : decode cX7_mortality 11 = .ok (.iload_n 3, 1) := dk_29 (dk_at dksX7_mortality_0 11 rfl rfl)
theorem dX7_mortality_12 : decode cX7_mortality 12 = .ok (.aload_n 1, 1) := dk_43 (dk_at dksX7_mortality_0 12 rfl rfl)
theorem dX7_mortality_13 : decode cX7_mortality 13 = .ok (.getfield 80, 3) := dk_180 0 80 (dk_at dksX7_mortality_0 13 rfl rfl)
theorem dX7_mortality_16 : decode cX7_mortality 16 = .ok (.aload_n 0, 1) := dk_42 (dk_at dksX7_mortality_0 16 rfl rfl)
theorem dX7_mortality_17 : decode cX7_mortality 17 = .ok (.getfield 3, 3) := dk_180 0 3 (dk_at dksX7_mortality_0 17 rfl rfl)
theorem dX7_mortality_20 : decode cX7_mortality 20 = .ok (.getfield 85, 3) := dk_180 0 85 (dk_at dksX7_mortality_0 20 rfl rfl)
theorem dX7_mortality_23 : decode cX7_mortality 23 = .ok (.invokevirtual 88, 3) := dk_182 0 88 (dk_at dksX7_mortality_1 0 rfl rfl)
theorem dX7_mortality_26 : decode cX7_mortality 26 = .ok (.lreturn, 1) := dk_173 (dk_at dksX7_mortality_1 3 rfl rfl)
abbrev cX7_isAnnuity : ByteArray := prog_8_method_2_code
def yX7_isAnnuity : MethodName := ⟨RX7, "isAnnuity", "()Z"⟩
def dkwX7_isAnnuity_0 : List UInt8 := [42, 180, 0, 22, 6, 160, 0, 7, 4, 167, 0, 4, 3, 172]
abbrev dktX7_isAnnuity_0 : List UInt8 := dkwX7_isAnnuity_0 ++ []
theorem dksX7_isAnnuity_0 : cX7_isAnnuity.data.toList.drop 0 = dktX7_isAnnuity_0 := by decide +kernel
theorem dX7_isAnnuity_0 : decode cX7_isAnnuity 0 = .ok (.aload_n 0, 1) := dk_42 (dk_at dksX7_isAnnuity_0 0 rfl rfl)
theorem dX7_isAnnuity_1 : decode cX7_isAnnuity 1 = .ok (.getfield 22, 3) := dk_180 0 22 (dk_at dksX7_isAnnuity_0 1 rfl rfl)
theorem dX7_isAnnuity_4 : decode cX7_isAnnuity 4 = .ok (.iconst 3, 1) := dk_6 (dk_at dksX7_isAnnuity_0 4 rfl rfl)
theorem dX7_isAnnuity_5 : decode cX7_isAnnuity 5 = .ok (.if_icmp .ne 7, 3) := dk_160 0 7 (dk_at dksX7_isAnnuity_0 5 rfl rfl)
theorem dX7_isAnnuity_8 : decode cX7_isAnnuity 8 = .ok (.iconst 1, 1) := dk_4 (dk_at dksX7_isAnnuity_0 8 rfl rfl)
theorem dX7_isAnnuity_9 : decode cX7_isAnnuity 9 = .ok (.goto 4, 3) := dk_167 0 4 (dk_at dksX7_isAnnuity_0 9 rfl rfl)
theorem dX7_isAnnuity_12 : decode cX7_isAnnuity 12 = .ok (.iconst 0, 1) := dk_3 (dk_at dksX7_isAnnuity_0 12 rfl rfl)
theorem dX7_isAnnuity_13 : decode cX7_isAnnuity 13 = .ok (.ireturn, 1) := dk_172 (dk_at dksX7_isAnnuity_0 13 rfl rfl)
abbrev cX7_assured : ByteArray := prog_8_method_6_code
def yX7_assured : MethodName := ⟨RX7, "assured", "()J"⟩
def dkwX7_assured_0 : List UInt8 := [42, 180, 0, 25, 42, 180, 0, 77, 97, 173]
abbrev dktX7_assured_0 : List UInt8 := dkwX7_assured_0 ++ []
theorem dksX7_assured_0 : cX7_assured.data.toList.drop 0 = dktX7_assured_0 := by decide +kernel
theorem dX7_assured_0 : decode cX7_assured 0 = .ok (.aload_n 0, 1) := dk_42 (dk_at dksX7_assured_0 0 rfl rfl)
theorem dX7_assured_1 : decode cX7_assured 1 = .ok (.getfield 25, 3) := dk_180 0 25 (dk_at dksX7_assured_0 1 rfl rfl)
theorem dX7_assured_4 : decode cX7_assured 4 = .ok (.aload_n 0, 1) := dk_42 (dk_at dksX7_assured_0 4 rfl rfl)
theorem dX7_assured_5 : decode cX7_assured 5 = .ok (.getfield 77, 3) := dk_180 0 77 (dk_at dksX7_assured_0 5 rfl rfl)
theorem dX7_assured_8 : decode cX7_assured 8 = .ok (.ladd, 1) := dk_97 (dk_at dksX7_assured_0 8 rfl rfl)
theorem dX7_assured_9 : decode cX7_assured 9 = .ok (.lreturn, 1) := dk_173 (dk_at dksX7_assured_0 9 rfl rfl)
abbrev cX7_isPaidUp : ByteArray := prog_8_method_12_code
def yX7_isPaidUp : MethodName := ⟨RX7, "isPaidUp", "()Z"⟩
theorem dX7_isPaidUp_0 : decode cX7_isPaidUp 0 = .ok (.aload_n 0, 1) := by decide +kernel
theorem dX7_isPaidUp_1 : decode cX7_isPaidUp 1 = .ok (.getfield 148, 3) := by decide +kernel
theorem dX7_isPaidUp_4 : decode cX7_isPaidUp 4 = .ok (.ireturn, 1) := by decide +kernel
abbrev cX7_netPremium : ByteArray := prog_8_method_10_code
def yX7_netPremium : MethodName := ⟨RX7, "netPremium", "(LLifeoffice$Law;I)J"⟩
def dkwX7_netPremium_2 : List UInt8 := [180, 0, 129, 184, 0, 67, 173]
abbrev dktX7_netPremium_2 : List UInt8 := dkwX7_netPremium_2 ++ []
def dkwX7_netPremium_1 : List UInt8 := [180, 0, 123, 105, 20, 0, 101, 184, 0, 67, 167, 0, 19, 42, 180, 0, 25, 45, 180, 0, 126, 105, 45]
abbrev dktX7_netPremium_1 : List UInt8 := dkwX7_netPremium_1 ++ dktX7_netPremium_2
def dkwX7_netPremium_0 : List UInt8 := [42, 43, 42, 180, 0, 35, 28, 182, 0, 116, 78, 42, 182, 0, 120, 153, 0, 21, 42, 180, 0, 25, 45]
abbrev dktX7_netPremium_0 : List UInt8 := dkwX7_netPremium_0 ++ dktX7_netPremium_1
theorem dksX7_netPremium_0 : cX7_netPremium.data.toList.drop 0 = dktX7_netPremium_0 := by decide +kernel
theorem dksX7_netPremium_1 : cX7_netPremium.data.toList.drop 23 = dktX7_netPremium_1 := dk_seg dksX7_netPremium_0 23 rfl rfl
theorem dksX7_netPremium_2 : cX7_netPremium.data.toList.drop 46 = dktX7_netPremium_2 := dk_seg dksX7_netPremium_1 23 rfl rfl
theorem dX7_netPremium_0 : decode cX7_netPremium 0 = .ok (.aload_n 0, 1) := dk_42 (dk_at dksX7_netPremium_0 0 rfl rfl)
theorem dX7_netPremium_1 : decode cX7_netPremium 1 = .ok (.aload_n 1, 1) := dk_43 (dk_at dksX7_netPremium_0 1 rfl rfl)
theorem dX7_netPremium_2 : decode cX7_netPremium 2 = .ok (.aload_n 0, 1) := dk_42 (dk_at dksX7_netPremium_0 2 rfl rfl)
theorem dX7_netPremium_3 : decode cX7_netPremium 3 = .ok (.getfield 35, 3) := dk_180 0 35 (dk_at dksX7_netPremium_0 3 rfl rfl)
theorem dX7_netPremium_6 : decode cX7_netPremium 6 = .ok (.iload_n 2, 1) := dk_28 (dk_at dksX7_netPremium_0 6 rfl rfl)
theorem dX7_netPremium_7 : decode cX7_netPremium 7 = .ok (.invokevirtual 116, 3) := dk_182 0 116 (dk_at dksX7_netPremium_0 7 rfl rfl)
theorem dX7_netPremium_10 : decode cX7_netPremium 10 = .ok (.astore_n 3, 1) := dk_78 (dk_at dksX7_netPremium_0 10 rfl rfl)
theorem dX7_netPremium_11 : decode cX7_netPremium 11 = .ok (.aload_n 0, 1) := dk_42 (dk_at dksX7_netPremium_0 11 rfl rfl)
theorem dX7_netPremium_12 : decode cX7_netPremium 12 = .ok (.invokevirtual 120, 3) := dk_182 0 120 (dk_at dksX7_netPremium_0 12 rfl rfl)
theorem dX7_netPremium_15 : decode cX7_netPremium 15 = .ok (.ifCond .eq 21, 3) := dk_153 0 21 (dk_at dksX7_netPremium_0 15 rfl rfl)
theorem dX7_netPremium_18 : decode cX7_netPremium 18 = .ok (.aload_n 0, 1) := dk_42 (dk_at dksX7_netPremium_0 18 rfl rfl)
theorem dX7_netPremium_19 : decode cX7_netPremium 19 = .ok (.getfield 25, 3) := dk_180 0 25 (dk_at dksX7_netPremium_0 19 rfl rfl)
theorem dX7_netPremium_22 : decode cX7_netPremium 22 = .ok (.aload_n 3, 1) := dk_45 (dk_at dksX7_netPremium_0 22 rfl rfl)
theorem dX7_netPremium_23 : decode cX7_netPremium 23 = .ok (.getfield 123, 3) := dk_180 0 123 (dk_at dksX7_netPremium_1 0 rfl rfl)
theorem dX7_netPremium_26 : decode cX7_netPremium 26 = .ok (.lmul, 1) := dk_105 (dk_at dksX7_netPremium_1 3 rfl rfl)
theorem dX7_netPremium_27 : decode cX7_netPremium 27 = .ok (.ldc2_w 101, 3) := dk_20 0 101 (dk_at dksX7_netPremium_1 4 rfl rfl)
theorem dX7_netPremium_30 : decode cX7_netPremium 30 = .ok (.invokestatic 67, 3) := dk_184 0 67 (dk_at dksX7_netPremium_1 7 rfl rfl)
theorem dX7_netPremium_33 : decode cX7_netPremium 33 = .ok (.goto 19, 3) := dk_167 0 19 (dk_at dksX7_netPremium_1 10 rfl rfl)
theorem dX7_netPremium_36 : decode cX7_netPremium 36 = .ok (.aload_n 0, 1) := dk_42 (dk_at dksX7_netPremium_1 13 rfl rfl)
theorem dX7_netPremium_37 : decode cX7_netPremium 37 = .ok (.getfield 25, 3) := dk_180 0 25 (dk_at dksX7_netPremium_1 14 rfl rfl)
theorem dX7_netPremium_40 : decode cX7_netPremium 40 = .ok (.aload_n 3, 1) := dk_45 (dk_at dksX7_netPremium_1 17 rfl rfl)
theorem dX7_netPremium_41 : decode cX7_netPremium 41 = .ok (.getfield 126, 3) := dk_180 0 126 (dk_at dksX7_netPremium_1 18 rfl rfl)
theorem dX7_netPremium_44 : decode cX7_netPremium 44 = .ok (.lmul, 1) := dk_105 (dk_at dksX7_netPremium_1 21 rfl rfl)
theorem dX7_netPremium_45 : decode cX7_netPremium 45 = .ok (.aload_n 3, 1) := dk_45 (dk_at dksX7_netPremium_1 22 rfl rfl)
theorem dX7_netPremium_46 : decode cX7_netPremium 46 = .ok (.getfield 129, 3) := dk_180 0 129 (dk_at dksX7_netPremium_2 0 rfl rfl)
theorem dX7_netPremium_49 : decode cX7_netPremium 49 = .ok (.invokestatic 67, 3) := dk_184 0 67 (dk_at dksX7_netPremium_2 3 rfl rfl)
theorem dX7_netPremium_52 : decode cX7_netPremium 52 = .ok (.lreturn, 1) := dk_173 (dk_at dksX7_netPremium_2 6 rfl rfl)
abbrev cX7_paysIn : ByteArray := prog_8_method_13_code
def yX7_paysIn : MethodName := ⟨RX7, "paysIn", "(I)Z"⟩
def dkwX7_paysIn_1 : List UInt8 := [182, 0, 137, 154, 0, 7, 4, 167, 0, 4, 3, 172]
abbrev dktX7_paysIn_1 : List UInt8 := dkwX7_paysIn_1 ++ []
def dkwX7_paysIn_0 : List UInt8 := [42, 182, 0, 120, 153, 0, 19, 27, 42, 180, 0, 35, 160, 0, 7, 4, 167, 0, 19, 3, 167, 0, 15, 42]
abbrev dktX7_paysIn_0 : List UInt8 := dkwX7_paysIn_0 ++ dktX7_paysIn_1
theorem dksX7_paysIn_0 : cX7_paysIn.data.toList.drop 0 = dktX7_paysIn_0 := by decide +kernel
theorem dksX7_paysIn_1 : cX7_paysIn.data.toList.drop 24 = dktX7_paysIn_1 := dk_seg dksX7_paysIn_0 24 rfl rfl
theorem dX7_paysIn_0 : decode cX7_paysIn 0 = .ok (.aload_n 0, 1) := dk_42 (dk_at dksX7_paysIn_0 0 rfl rfl)
theorem dX7_paysIn_1 : decode cX7_paysIn 1 = .ok (.invokevirtual 120, 3) := dk_182 0 120 (dk_at dksX7_paysIn_0 1 rfl rfl)
theorem dX7_paysIn_4 : decode cX7_paysIn 4 = .ok (.ifCond .eq 19, 3) := dk_153 0 19 (dk_at dksX7_paysIn_0 4 rfl rfl)
theorem dX7_paysIn_7 : decode cX7_paysIn 7 = .ok (.iload_n 1, 1) := dk_27 (dk_at dksX7_paysIn_0 7 rfl rfl)
theorem dX7_paysIn_8 : decode cX7_paysIn 8 = .ok (.aload_n 0, 1) := dk_42 (dk_at dksX7_paysIn_0 8 rfl rfl)
theorem dX7_paysIn_9 : decode cX7_paysIn 9 = .ok (.getfield 35, 3) := dk_180 0 35 (dk_at dksX7_paysIn_0 9 rfl rfl)
theorem dX7_paysIn_12 : decode cX7_paysIn 12 = .ok (.if_icmp .ne 7, 3) := dk_160 0 7 (dk_at dksX7_paysIn_0 12 rfl rfl)
theorem dX7_paysIn_15 : decode cX7_paysIn 15 = .ok (.iconst 1, 1) := dk_4 (dk_at dksX7_paysIn_0 15 rfl rfl)
theorem dX7_paysIn_16 : decode cX7_paysIn 16 = .ok (.goto 19, 3) := dk_167 0 19 (dk_at dksX7_paysIn_0 16 rfl rfl)
theorem dX7_paysIn_19 : decode cX7_paysIn 19 = .ok (.iconst 0, 1) := dk_3 (dk_at dksX7_paysIn_0 19 rfl rfl)
theorem dX7_paysIn_20 : decode cX7_paysIn 20 = .ok (.goto 15, 3) := dk_167 0 15 (dk_at dksX7_paysIn_0 20 rfl rfl)
theorem dX7_paysIn_23 : decode cX7_paysIn 23 = .ok (.aload_n 0, 1) := dk_42 (dk_at dksX7_paysIn_0 23 rfl rfl)
theorem dX7_paysIn_24 : decode cX7_paysIn 24 = .ok (.invokevirtual 137, 3) := dk_182 0 137 (dk_at dksX7_paysIn_1 0 rfl rfl)
theorem dX7_paysIn_27 : decode cX7_paysIn 27 = .ok (.ifCond .ne 7, 3) := dk_154 0 7 (dk_at dksX7_paysIn_1 3 rfl rfl)
theorem dX7_paysIn_30 : decode cX7_paysIn 30 = .ok (.iconst 1, 1) := dk_4 (dk_at dksX7_paysIn_1 6 rfl rfl)
theorem dX7_paysIn_31 : decode cX7_paysIn 31 = .ok (.goto 4, 3) := dk_167 0 4 (dk_at dksX7_paysIn_1 7 rfl rfl)
theorem dX7_paysIn_34 : decode cX7_paysIn 34 = .ok (.iconst 0, 1) := dk_3 (dk_at dksX7_paysIn_1 10 rfl rfl)
theorem dX7_paysIn_35 : decode cX7_paysIn 35 = .ok (.ireturn, 1) := dk_172 (dk_at dksX7_paysIn_1 11 rfl rfl)
abbrev cX7_years : ByteArray := prog_8_method_8_code
def yX7_years : MethodName := ⟨RX7, "years", "(I)LLifeoffice$Years;"⟩
def dkwX7_years_0 : List UInt8 := [187, 0, 92, 89, 27, 42, 180, 0, 38, 183, 0, 94, 176]
abbrev dktX7_years_0 : List UInt8 := dkwX7_years_0 ++ []
theorem dksX7_years_0 : cX7_years.data.toList.drop 0 = dktX7_years_0 := by decide +kernel
theorem dX7_years_0 : decode cX7_years 0 = .ok (.new 92, 3) := dk_187 0 92 (dk_at dksX7_years_0 0 rfl rfl)
theorem dX7_years_3 : decode cX7_years 3 = .ok (.dup, 1) := dk_89 (dk_at dksX7_years_0 3 rfl rfl)
theorem dX7_years_4 : decode cX7_years 4 = .ok (.iload_n 1, 1) := dk_27 (dk_at dksX7_years_0 4 rfl rfl)
theorem dX7_years_5 : decode cX7_years 5 = .ok (.aload_n 0, 1) := dk_42 (dk_at dksX7_years_0 5 rfl rfl)
theorem dX7_years_6 : decode cX7_years 6 = .ok (.getfield 38, 3) := dk_180 0 38 (dk_at dksX7_years_0 6 rfl rfl)
theorem dX7_years_9 : decode cX7_years 9 = .ok (.invokespecial 94, 3) := dk_183 0 94 (dk_at dksX7_years_0 9 rfl rfl)
theorem dX7_years_12 : decode cX7_years 12 = .ok (.areturn, 1) := dk_176 (dk_at dksX7_years_0 12 rfl rfl)
abbrev cX7_init : ByteArray := prog_8_method_1_code
def yX7_init : MethodName := ⟨RX7, "<init>", "(LLifeoffice;IIIIIII)V"⟩
def dkwX7_init_6 : List UInt8 := [181, 0, 74, 177]
abbrev dktX7_init_6 : List UInt8 := dkwX7_init_6 ++ []
def dkwX7_init_5 : List UInt8 := [17, 3, 232, 43, 180, 0, 62, 96, 133, 105, 20, 0, 65, 184, 0, 67, 43, 180, 0, 71, 133, 97]
abbrev dktX7_init_5 : List UInt8 := dkwX7_init_5 ++ dktX7_init_6
def dkwX7_init_4 : List UInt8 := [161, 0, 7, 4, 167, 0, 4, 3, 181, 0, 50, 42, 42, 43, 180, 0, 54, 3, 50, 21, 8, 182, 0, 58]
abbrev dktX7_init_4 : List UInt8 := dkwX7_init_4 ++ dktX7_init_5
def dkwX7_init_3 : List UInt8 := [181, 0, 38, 42, 187, 0, 41, 89, 21, 6, 21, 7, 183, 0, 43, 181, 0, 46, 42, 21, 7, 7]
abbrev dktX7_init_3 : List UInt8 := dkwX7_init_3 ++ dktX7_init_4
def dkwX7_init_2 : List UInt8 := [153, 0, 8, 29, 6, 160, 0, 11, 21, 6, 16, 110, 96, 167, 0, 10, 43, 180, 0, 32, 21, 5, 96]
abbrev dktX7_init_2 : List UInt8 := dkwX7_init_2 ++ dktX7_init_3
def dkwX7_init_1 : List UInt8 := [42, 21, 4, 133, 181, 0, 25, 42, 21, 8, 181, 0, 29, 42, 43, 180, 0, 32, 181, 0, 35, 42, 29]
abbrev dktX7_init_1 : List UInt8 := dkwX7_init_1 ++ dktX7_init_2
def dkwX7_init_0 : List UInt8 := [42, 43, 181, 0, 3, 42, 183, 0, 9, 42, 3, 181, 0, 15, 42, 28, 181, 0, 19, 42, 29, 181, 0, 22]
abbrev dktX7_init_0 : List UInt8 := dkwX7_init_0 ++ dktX7_init_1
theorem dksX7_init_0 : cX7_init.data.toList.drop 0 = dktX7_init_0 := by decide +kernel
theorem dksX7_init_1 : cX7_init.data.toList.drop 24 = dktX7_init_1 := dk_seg dksX7_init_0 24 rfl rfl
theorem dksX7_init_2 : cX7_init.data.toList.drop 47 = dktX7_init_2 := dk_seg dksX7_init_1 23 rfl rfl
theorem dksX7_init_3 : cX7_init.data.toList.drop 70 = dktX7_init_3 := dk_seg dksX7_init_2 23 rfl rfl
theorem dksX7_init_4 : cX7_init.data.toList.drop 92 = dktX7_init_4 := dk_seg dksX7_init_3 22 rfl rfl
theorem dksX7_init_5 : cX7_init.data.toList.drop 116 = dktX7_init_5 := dk_seg dksX7_init_4 24 rfl rfl
theorem dksX7_init_6 : cX7_init.data.toList.drop 138 = dktX7_init_6 := dk_seg dksX7_init_5 22 rfl rfl
theorem dX7_init_0 : decode cX7_init 0 = .ok (.aload_n 0, 1) := dk_42 (dk_at dksX7_init_0 0 rfl rfl)
theorem dX7_init_1 : decode cX7_init 1 = .ok (.aload_n 1, 1) := dk_43 (dk_at dksX7_init_0 1 rfl rfl)
theorem dX7_init_2 : decode cX7_init 2 = .ok (.putfield 3, 3) := dk_181 0 3 (dk_at dksX7_init_0 2 rfl rfl)
theorem dX7_init_5 : decode cX7_init 5 = .ok (.aload_n 0, 1) := dk_42 (dk_at dksX7_init_0 5 rfl rfl)
theorem dX7_init_6 : decode cX7_init 6 = .ok (.invokespecial 9, 3) := dk_183 0 9 (dk_at dksX7_init_0 6 rfl rfl)
theorem dX7_init_9 : decode cX7_init 9 = .ok (.aload_n 0, 1) := dk_42 (dk_at dksX7_init_0 9 rfl rfl)
theorem dX7_init_10 : decode cX7_init 10 = .ok (.iconst 0, 1) := dk_3 (dk_at dksX7_init_0 10 rfl rfl)
theorem dX7_init_11 : decode cX7_init 11 = .ok (.putfield 15, 3) := dk_181 0 15 (dk_at dksX7_init_0 11 rfl rfl)
theorem dX7_init_14 : decode cX7_init 14 = .ok (.aload_n 0, 1) := dk_42 (dk_at dksX7_init_0 14 rfl rfl)
theorem dX7_init_15 : decode cX7_init 15 = .ok (.iload_n 2, 1) := dk_28 (dk_at dksX7_init_0 15 rfl rfl)
theorem dX7_init_16 : decode cX7_init 16 = .ok (.putfield 19, 3) := dk_181 0 19 (dk_at dksX7_init_0 16 rfl rfl)
theorem dX7_init_19 : decode cX7_init 19 = .ok (.aload_n 0, 1) := dk_42 (dk_at dksX7_init_0 19 rfl rfl)
theorem dX7_init_20 : decode cX7_init 20 = .ok (.iload_n 3, 1) := dk_29 (dk_at dksX7_init_0 20 rfl rfl)
theorem dX7_init_21 : decode cX7_init 21 = .ok (.putfield 22, 3) := dk_181 0 22 (dk_at dksX7_init_0 21 rfl rfl)
theorem dX7_init_24 : decode cX7_init 24 = .ok (.aload_n 0, 1) := dk_42 (dk_at dksX7_init_1 0 rfl rfl)
theorem dX7_init_25 : decode cX7_init 25 = .ok (.iload 4, 2) := dk_21 4 (dk_at dksX7_init_1 1 rfl rfl)
theorem dX7_init_27 : decode cX7_init 27 = .ok (.i2l, 1) := dk_133 (dk_at dksX7_init_1 3 rfl rfl)
theorem dX7_init_28 : decode cX7_init 28 = .ok (.putfield 25, 3) := dk_181 0 25 (dk_at dksX7_init_1 4 rfl rfl)
theorem dX7_init_31 : decode cX7_init 31 = .ok (.aload_n 0, 1) := dk_42 (dk_at dksX7_init_1 7 rfl rfl)
theorem dX7_init_32 : decode cX7_init 32 = .ok (.iload 8, 2) := dk_21 8 (dk_at dksX7_init_1 8 rfl rfl)
theorem dX7_init_34 : decode cX7_init 34 = .ok (.putfield 29, 3) := dk_181 0 29 (dk_at dksX7_init_1 10 rfl rfl)
theorem dX7_init_37 : decode cX7_init 37 = .ok (.aload_n 0, 1) := dk_42 (dk_at dksX7_init_1 13 rfl rfl)
theorem dX7_init_38 : decode cX7_init 38 = .ok (.aload_n 1, 1) := dk_43 (dk_at dksX7_init_1 14 rfl rfl)
theorem dX7_init_39 : decode cX7_init 39 = .ok (.getfield 32, 3) := dk_180 0 32 (dk_at dksX7_init_1 15 rfl rfl)
theorem dX7_init_42 : decode cX7_init 42 = .ok (.putfield 35, 3) := dk_181 0 35 (dk_at dksX7_init_1 18 rfl rfl)
theorem dX7_init_45 : decode cX7_init 45 = .ok (.aload_n 0, 1) := dk_42 (dk_at dksX7_init_1 21 rfl rfl)
theorem dX7_init_46 : decode cX7_init 46 = .ok (.iload_n 3, 1) := dk_29 (dk_at dksX7_init_1 22 rfl rfl)
theorem dX7_init_47 : decode cX7_init 47 = .ok (.ifCond .eq 8, 3) := dk_153 0 8 (dk_at dksX7_init_2 0 rfl rfl)
theorem dX7_init_50 : decode cX7_init 50 = .ok (.iload_n 3, 1) := dk_29 (dk_at dksX7_init_2 3 rfl rfl)
theorem dX7_init_51 : decode cX7_init 51 = .ok (.iconst 3, 1) := dk_6 (dk_at dksX7_init_2 4 rfl rfl)
theorem dX7_init_52 : decode cX7_init 52 = .ok (.if_icmp .ne 11, 3) := dk_160 0 11 (dk_at dksX7_init_2 5 rfl rfl)
theorem dX7_init_55 : decode cX7_init 55 = .ok (.iload 6, 2) := dk_21 6 (dk_at dksX7_init_2 8 rfl rfl)
theorem dX7_init_57 : decode cX7_init 57 = .ok (.bipush 110, 2) := dk_16 110 (dk_at dksX7_init_2 10 rfl rfl)
theorem dX7_init_59 : decode cX7_init 59 = .ok (.iadd, 1) := dk_96 (dk_at dksX7_init_2 12 rfl rfl)
theorem dX7_init_60 : decode cX7_init 60 = .ok (.goto 10, 3) := dk_167 0 10 (dk_at dksX7_init_2 13 rfl rfl)
theorem dX7_init_63 : decode cX7_init 63 = .ok (.aload_n 1, 1) := dk_43 (dk_at dksX7_init_2 16 rfl rfl)
theorem dX7_init_64 : decode cX7_init 64 = .ok (.getfield 32, 3) := dk_180 0 32 (dk_at dksX7_init_2 17 rfl rfl)
theorem dX7_init_67 : decode cX7_init 67 = .ok (.iload 5, 2) := dk_21 5 (dk_at dksX7_init_2 20 rfl rfl)
theorem dX7_init_69 : decode cX7_init 69 = .ok (.iadd, 1) := dk_96 (dk_at dksX7_init_2 22 rfl rfl)
theorem dX7_init_70 : decode cX7_init 70 = .ok (.putfield 38, 3) := dk_181 0 38 (dk_at dksX7_init_3 0 rfl rfl)
theorem dX7_init_73 : decode cX7_init 73 = .ok (.aload_n 0, 1) := dk_42 (dk_at dksX7_init_3 3 rfl rfl)
theorem dX7_init_74 : decode cX7_init 74 = .ok (.new 41, 3) := dk_187 0 41 (dk_at dksX7_init_3 4 rfl rfl)
theorem dX7_init_77 : decode cX7_init 77 = .ok (.dup, 1) := dk_89 (dk_at dksX7_init_3 7 rfl rfl)
theorem dX7_init_78 : decode cX7_init 78 = .ok (.iload 6, 2) := dk_21 6 (dk_at dksX7_init_3 8 rfl rfl)
theorem dX7_init_80 : decode cX7_init 80 = .ok (.iload 7, 2) := dk_21 7 (dk_at dksX7_init_3 10 rfl rfl)
theorem dX7_init_82 : decode cX7_init 82 = .ok (.invokespecial 43, 3) := dk_183 0 43 (dk_at dksX7_init_3 12 rfl rfl)
theorem dX7_init_85 : decode cX7_init 85 = .ok (.putfield 46, 3) := dk_181 0 46 (dk_at dksX7_init_3 15 rfl rfl)
theorem dX7_init_88 : decode cX7_init 88 = .ok (.aload_n 0, 1) := dk_42 (dk_at dksX7_init_3 18 rfl rfl)
theorem dX7_init_89 : decode cX7_init 89 = .ok (.iload 7, 2) := dk_21 7 (dk_at dksX7_init_3 19 rfl rfl)
theorem dX7_init_91 : decode cX7_init 91 = .ok (.iconst 4, 1) := dk_7 (dk_at dksX7_init_3 21 rfl rfl)
theorem dX7_init_92 : decode cX7_init 92 = .ok (.if_icmp .lt 7, 3) := dk_161 0 7 (dk_at dksX7_init_4 0 rfl rfl)
theorem dX7_init_95 : decode cX7_init 95 = .ok (.iconst 1, 1) := dk_4 (dk_at dksX7_init_4 3 rfl rfl)
theorem dX7_init_96 : decode cX7_init 96 = .ok (.goto 4, 3) := dk_167 0 4 (dk_at dksX7_init_4 4 rfl rfl)
theorem dX7_init_99 : decode cX7_init 99 = .ok (.iconst 0, 1) := dk_3 (dk_at dksX7_init_4 7 rfl rfl)
theorem dX7_init_100 : decode cX7_init 100 = .ok (.putfield 50, 3) := dk_181 0 50 (dk_at dksX7_init_4 8 rfl rfl)
theorem dX7_init_103 : decode cX7_init 103 = .ok (.aload_n 0, 1) := dk_42 (dk_at dksX7_init_4 11 rfl rfl)
theorem dX7_init_104 : decode cX7_init 104 = .ok (.aload_n 0, 1) := dk_42 (dk_at dksX7_init_4 12 rfl rfl)
theorem dX7_init_105 : decode cX7_init 105 = .ok (.aload_n 1, 1) := dk_43 (dk_at dksX7_init_4 13 rfl rfl)
theorem dX7_init_106 : decode cX7_init 106 = .ok (.getfield 54, 3) := dk_180 0 54 (dk_at dksX7_init_4 14 rfl rfl)
theorem dX7_init_109 : decode cX7_init 109 = .ok (.iconst 0, 1) := dk_3 (dk_at dksX7_init_4 17 rfl rfl)
theorem dX7_init_110 : decode cX7_init 110 = .ok (.aaload, 1) := dk_50 (dk_at dksX7_init_4 18 rfl rfl)
theorem dX7_init_111 : decode cX7_init 111 = .ok (.iload 8, 2) := dk_21 8 (dk_at dksX7_init_4 19 rfl rfl)
theorem dX7_init_113 : decode cX7_init 113 = .ok (.invokevirtual 58, 3) := dk_182 0 58 (dk_at dksX7_init_4 21 rfl rfl)
theorem dX7_init_116 : decode cX7_init 116 = .ok (.sipush 1000, 3) := dk_17 3 232 (dk_at dksX7_init_5 0 rfl rfl)
theorem dX7_init_119 : decode cX7_init 119 = .ok (.aload_n 1, 1) := dk_43 (dk_at dksX7_init_5 3 rfl rfl)
theorem dX7_init_120 : decode cX7_init 120 = .ok (.getfield 62, 3) := dk_180 0 62 (dk_at dksX7_init_5 4 rfl rfl)
theorem dX7_init_123 : decode cX7_init 123 = .ok (.iadd, 1) := dk_96 (dk_at dksX7_init_5 7 rfl rfl)
theorem dX7_init_124 : decode cX7_init 124 = .ok (.i2l, 1) := dk_133 (dk_at dksX7_init_5 8 rfl rfl)
theorem dX7_init_125 : decode cX7_init 125 = .ok (.lmul, 1) := dk_105 (dk_at dksX7_init_5 9 rfl rfl)
theorem dX7_init_126 : decode cX7_init 126 = .ok (.ldc2_w 65, 3) := dk_20 0 65 (dk_at dksX7_init_5 10 rfl rfl)
theorem dX7_init_129 : decode cX7_init 129 = .ok (.invokestatic 67, 3) := dk_184 0 67 (dk_at dksX7_init_5 13 rfl rfl)
theorem dX7_init_132 : decode cX7_init 132 = .ok (.aload_n 1, 1) := dk_43 (dk_at dksX7_init_5 16 rfl rfl)
theorem dX7_init_133 : decode cX7_init 133 = .ok (.getfield 71, 3) := dk_180 0 71 (dk_at dksX7_init_5 17 rfl rfl)
theorem dX7_init_136 : decode cX7_init 136 = .ok (.i2l, 1) := dk_133 (dk_at dksX7_init_5 20 rfl rfl)
theorem dX7_init_137 : decode cX7_init 137 = .ok (.ladd, 1) := dk_97 (dk_at dksX7_init_5 21 rfl rfl)
theorem dX7_init_138 : decode cX7_init 138 = .ok (.putfield 74, 3) := dk_181 0 74 (dk_at dksX7_init_6 0 rfl rfl)
theorem dX7_init_141 : decode cX7_init 141 = .ok (.return_, 1) := dk_177 (dk_at dksX7_init_6 3 rfl rfl)
abbrev cX7_surrenderValue : ByteArray := prog_8_method_14_code
def yX7_surrenderValue : MethodName := ⟨RX7, "surrenderValue", "(I)J"⟩
def dkwX7_surrenderValue_1 : List UInt8 := [20, 0, 154, 105, 20, 0, 156, 184, 0, 67, 184, 0, 143, 167, 0, 4, 9, 173]
abbrev dktX7_surrenderValue_1 : List UInt8 := dkwX7_surrenderValue_1 ++ []
def dkwX7_surrenderValue_0 : List UInt8 := [42, 182, 0, 97, 153, 0, 34, 9, 42, 42, 180, 0, 3, 180, 0, 54, 3, 50, 27, 182, 0, 151]
abbrev dktX7_surrenderValue_0 : List UInt8 := dkwX7_surrenderValue_0 ++ dktX7_surrenderValue_1
theorem dksX7_surrenderValue_0 : cX7_surrenderValue.data.toList.drop 0 = dktX7_surrenderValue_0 := by decide +kernel
theorem dksX7_surrenderValue_1 : cX7_surrenderValue.data.toList.drop 22 = dktX7_surrenderValue_1 := dk_seg dksX7_surrenderValue_0 22 rfl rfl
theorem dX7_surrenderValue_0 : decode cX7_surrenderValue 0 = .ok (.aload_n 0, 1) := dk_42 (dk_at dksX7_surrenderValue_0 0 rfl rfl)
theorem dX7_surrenderValue_1 : decode cX7_surrenderValue 1 = .ok (.invokevirtual 97, 3) := dk_182 0 97 (dk_at dksX7_surrenderValue_0 1 rfl rfl)
theorem dX7_surrenderValue_4 : decode cX7_surrenderValue 4 = .ok (.ifCond .eq 34, 3) := dk_153 0 34 (dk_at dksX7_surrenderValue_0 4 rfl rfl)
theorem dX7_surrenderValue_7 : decode cX7_surrenderValue 7 = .ok (.lconst 0, 1) := dk_9 (dk_at dksX7_surrenderValue_0 7 rfl rfl)
theorem dX7_surrenderValue_8 : decode cX7_surrenderValue 8 = .ok (.aload_n 0, 1) := dk_42 (dk_at dksX7_surrenderValue_0 8 rfl rfl)
theorem dX7_surrenderValue_9 : decode cX7_surrenderValue 9 = .ok (.aload_n 0, 1) := dk_42 (dk_at dksX7_surrenderValue_0 9 rfl rfl)
theorem dX7_surrenderValue_10 : decode cX7_surrenderValue 10 = .ok (.getfield 3, 3) := dk_180 0 3 (dk_at dksX7_surrenderValue_0 10 rfl rfl)
theorem dX7_surrenderValue_13 : decode cX7_surrenderValue 13 = .ok (.getfield 54, 3) := dk_180 0 54 (dk_at dksX7_surrenderValue_0 13 rfl rfl)
theorem dX7_surrenderValue_16 : decode cX7_surrenderValue 16 = .ok (.iconst 0, 1) := dk_3 (dk_at dksX7_surrenderValue_0 16 rfl rfl)
theorem dX7_surrenderValue_17 : decode cX7_surrenderValue 17 = .ok (.aaload, 1) := dk_50 (dk_at dksX7_surrenderValue_0 17 rfl rfl)
theorem dX7_surrenderValue_18 : decode cX7_surrenderValue 18 = .ok (.iload_n 1, 1) := dk_27 (dk_at dksX7_surrenderValue_0 18 rfl rfl)
theorem dX7_surrenderValue_19 : decode cX7_surrenderValue 19 = .ok (.invokevirtual 151, 3) := dk_182 0 151 (dk_at dksX7_surrenderValue_0 19 rfl rfl)
theorem dX7_surrenderValue_22 : decode cX7_surrenderValue 22 = .ok (.ldc2_w 154, 3) := dk_20 0 154 (dk_at dksX7_surrenderValue_1 0 rfl rfl)
theorem dX7_surrenderValue_25 : decode cX7_surrenderValue 25 = .ok (.lmul, 1) := dk_105 (dk_at dksX7_surrenderValue_1 3 rfl rfl)
theorem dX7_surrenderValue_26 : decode cX7_surrenderValue 26 = .ok (.ldc2_w 156, 3) := dk_20 0 156 (dk_at dksX7_surrenderValue_1 4 rfl rfl)
theorem dX7_surrenderValue_29 : decode cX7_surrenderValue 29 = .ok (.invokestatic 67, 3) := dk_184 0 67 (dk_at dksX7_surrenderValue_1 7 rfl rfl)
theorem dX7_surrenderValue_32 : decode cX7_surrenderValue 32 = .ok (.invokestatic 143, 3) := dk_184 0 143 (dk_at dksX7_surrenderValue_1 10 rfl rfl)
theorem dX7_surrenderValue_35 : decode cX7_surrenderValue 35 = .ok (.goto 4, 3) := dk_167 0 4 (dk_at dksX7_surrenderValue_1 13 rfl rfl)
theorem dX7_surrenderValue_38 : decode cX7_surrenderValue 38 = .ok (.lconst 0, 1) := dk_9 (dk_at dksX7_surrenderValue_1 16 rfl rfl)
theorem dX7_surrenderValue_39 : decode cX7_surrenderValue 39 = .ok (.lreturn, 1) := dk_173 (dk_at dksX7_surrenderValue_1 17 rfl rfl)
abbrev cX7_isOpen : ByteArray := prog_8_method_4_code
def yX7_isOpen : MethodName := ⟨RX7, "isOpen", "()Z"⟩
def dkwX7_isOpen_0 : List UInt8 := [42, 180, 0, 15, 153, 0, 11, 42, 180, 0, 15, 4, 160, 0, 7, 4, 167, 0, 4, 3, 172]
abbrev dktX7_isOpen_0 : List UInt8 := dkwX7_isOpen_0 ++ []
theorem dksX7_isOpen_0 : cX7_isOpen.data.toList.drop 0 = dktX7_isOpen_0 := by decide +kernel
theorem dX7_isOpen_0 : decode cX7_isOpen 0 = .ok (.aload_n 0, 1) := dk_42 (dk_at dksX7_isOpen_0 0 rfl rfl)
theorem dX7_isOpen_1 : decode cX7_isOpen 1 = .ok (.getfield 15, 3) := dk_180 0 15 (dk_at dksX7_isOpen_0 1 rfl rfl)
theorem dX7_isOpen_4 : decode cX7_isOpen 4 = .ok (.ifCond .eq 11, 3) := dk_153 0 11 (dk_at dksX7_isOpen_0 4 rfl rfl)
theorem dX7_isOpen_7 : decode cX7_isOpen 7 = .ok (.aload_n 0, 1) := dk_42 (dk_at dksX7_isOpen_0 7 rfl rfl)
theorem dX7_isOpen_8 : decode cX7_isOpen 8 = .ok (.getfield 15, 3) := dk_180 0 15 (dk_at dksX7_isOpen_0 8 rfl rfl)
theorem dX7_isOpen_11 : decode cX7_isOpen 11 = .ok (.iconst 1, 1) := dk_4 (dk_at dksX7_isOpen_0 11 rfl rfl)
theorem dX7_isOpen_12 : decode cX7_isOpen 12 = .ok (.if_icmp .ne 7, 3) := dk_160 0 7 (dk_at dksX7_isOpen_0 12 rfl rfl)
theorem dX7_isOpen_15 : decode cX7_isOpen 15 = .ok (.iconst 1, 1) := dk_4 (dk_at dksX7_isOpen_0 15 rfl rfl)
theorem dX7_isOpen_16 : decode cX7_isOpen 16 = .ok (.goto 4, 3) := dk_167 0 4 (dk_at dksX7_isOpen_0 16 rfl rfl)
theorem dX7_isOpen_19 : decode cX7_isOpen 19 = .ok (.iconst 0, 1) := dk_3 (dk_at dksX7_isOpen_0 19 rfl rfl)
theorem dX7_isOpen_20 : decode cX7_isOpen 20 = .ok (.ireturn, 1) := dk_172 (dk_at dksX7_isOpen_0 20 rfl rfl)
abbrev cX7_claim : ByteArray := prog_8_method_16_code
def yX7_claim : MethodName := ⟨RX7, "claim", "()J"⟩
def dkwX7_claim_3 : List UInt8 := [50, 42, 180, 0, 29, 182, 0, 58, 105, 33, 184, 0, 67, 173]
abbrev dktX7_claim_3 : List UInt8 := dkwX7_claim_3 ++ []
def dkwX7_claim_2 : List UInt8 := [182, 0, 58, 66, 33, 9, 148, 154, 0, 7, 31, 167, 0, 26, 31, 42, 42, 180, 0, 3, 180, 0, 54, 3]
abbrev dktX7_claim_2 : List UInt8 := dkwX7_claim_2 ++ dktX7_claim_3
def dkwX7_claim_1 : List UInt8 := [180, 0, 29, 163, 0, 5, 31, 173, 42, 42, 180, 0, 3, 180, 0, 54, 3, 50, 42, 180, 0, 167]
abbrev dktX7_claim_1 : List UInt8 := dkwX7_claim_1 ++ dktX7_claim_2
def dkwX7_claim_0 : List UInt8 := [42, 182, 0, 120, 153, 0, 5, 9, 173, 42, 182, 0, 133, 42, 182, 0, 164, 97, 64, 42, 180, 0, 167, 42]
abbrev dktX7_claim_0 : List UInt8 := dkwX7_claim_0 ++ dktX7_claim_1
theorem dksX7_claim_0 : cX7_claim.data.toList.drop 0 = dktX7_claim_0 := by decide +kernel
theorem dksX7_claim_1 : cX7_claim.data.toList.drop 24 = dktX7_claim_1 := dk_seg dksX7_claim_0 24 rfl rfl
theorem dksX7_claim_2 : cX7_claim.data.toList.drop 46 = dktX7_claim_2 := dk_seg dksX7_claim_1 22 rfl rfl
theorem dksX7_claim_3 : cX7_claim.data.toList.drop 70 = dktX7_claim_3 := dk_seg dksX7_claim_2 24 rfl rfl
theorem dX7_claim_0 : decode cX7_claim 0 = .ok (.aload_n 0, 1) := dk_42 (dk_at dksX7_claim_0 0 rfl rfl)
theorem dX7_claim_1 : decode cX7_claim 1 = .ok (.invokevirtual 120, 3) := dk_182 0 120 (dk_at dksX7_claim_0 1 rfl rfl)
theorem dX7_claim_4 : decode cX7_claim 4 = .ok (.ifCond .eq 5, 3) := dk_153 0 5 (dk_at dksX7_claim_0 4 rfl rfl)
theorem dX7_claim_7 : decode cX7_claim 7 = .ok (.lconst 0, 1) := dk_9 (dk_at dksX7_claim_0 7 rfl rfl)
theorem dX7_claim_8 : decode cX7_claim 8 = .ok (.lreturn, 1) := dk_173 (dk_at dksX7_claim_0 8 rfl rfl)
theorem dX7_claim_9 : decode cX7_claim 9 = .ok (.aload_n 0, 1) := dk_42 (dk_at dksX7_claim_0 9 rfl rfl)
theorem dX7_claim_10 : decode cX7_claim 10 = .ok (.invokevirtual 133, 3) := dk_182 0 133 (dk_at dksX7_claim_0 10 rfl rfl)
theorem dX7_claim_13 : decode cX7_claim 13 = .ok (.aload_n 0, 1) := dk_42 (dk_at dksX7_claim_0 13 rfl rfl)
theorem dX7_claim_14 : decode cX7_claim 14 = .ok (.invokevirtual 164, 3) := dk_182 0 164 (dk_at dksX7_claim_0 14 rfl rfl)
theorem dX7_claim_17 : decode cX7_claim 17 = .ok (.ladd, 1) := dk_97 (dk_at dksX7_claim_0 17 rfl rfl)
theorem dX7_claim_18 : decode cX7_claim 18 = .ok (.lstore_n 1, 1) := dk_64 (dk_at dksX7_claim_0 18 rfl rfl)
theorem dX7_claim_19 : decode cX7_claim 19 = .ok (.aload_n 0, 1) := dk_42 (dk_at dksX7_claim_0 19 rfl rfl)
theorem dX7_claim_20 : decode cX7_claim 20 = .ok (.getfield 167, 3) := dk_180 0 167 (dk_at dksX7_claim_0 20 rfl rfl)
theorem dX7_claim_23 : decode cX7_claim 23 = .ok (.aload_n 0, 1) := dk_42 (dk_at dksX7_claim_0 23 rfl rfl)
theorem dX7_claim_24 : decode cX7_claim 24 = .ok (.getfield 29, 3) := dk_180 0 29 (dk_at dksX7_claim_1 0 rfl rfl)
theorem dX7_claim_27 : decode cX7_claim 27 = .ok (.if_icmp .gt 5, 3) := dk_163 0 5 (dk_at dksX7_claim_1 3 rfl rfl)
theorem dX7_claim_30 : decode cX7_claim 30 = .ok (.lload_n 1, 1) := dk_31 (dk_at dksX7_claim_1 6 rfl rfl)
theorem dX7_claim_31 : decode cX7_claim 31 = .ok (.lreturn, 1) := dk_173 (dk_at dksX7_claim_1 7 rfl rfl)
theorem dX7_claim_32 : decode cX7_claim 32 = .ok (.aload_n 0, 1) := dk_42 (dk_at dksX7_claim_1 8 rfl rfl)
theorem dX7_claim_33 : decode cX7_claim 33 = .ok (.aload_n 0, 1) := dk_42 (dk_at dksX7_claim_1 9 rfl rfl)
theorem dX7_claim_34 : decode cX7_claim 34 = .ok (.getfield 3, 3) := dk_180 0 3 (dk_at dksX7_claim_1 10 rfl rfl)
theorem dX7_claim_37 : decode cX7_claim 37 = .ok (.getfield 54, 3) := dk_180 0 54 (dk_at dksX7_claim_1 13 rfl rfl)
theorem dX7_claim_40 : decode cX7_claim 40 = .ok (.iconst 0, 1) := dk_3 (dk_at dksX7_claim_1 16 rfl rfl)
theorem dX7_claim_41 : decode cX7_claim 41 = .ok (.aaload, 1) := dk_50 (dk_at dksX7_claim_1 17 rfl rfl)
theorem dX7_claim_42 : decode cX7_claim 42 = .ok (.aload_n 0, 1) := dk_42 (dk_at dksX7_claim_1 18 rfl rfl)
theorem dX7_claim_43 : decode cX7_claim 43 = .ok (.getfield 167, 3) := dk_180 0 167 (dk_at dksX7_claim_1 19 rfl rfl)
theorem dX7_claim_46 : decode cX7_claim 46 = .ok (.invokevirtual 58, 3) := dk_182 0 58 (dk_at dksX7_claim_2 0 rfl rfl)
theorem dX7_claim_49 : decode cX7_claim 49 = .ok (.lstore_n 3, 1) := dk_66 (dk_at dksX7_claim_2 3 rfl rfl)
theorem dX7_claim_50 : decode cX7_claim 50 = .ok (.lload_n 3, 1) := dk_33 (dk_at dksX7_claim_2 4 rfl rfl)
theorem dX7_claim_51 : decode cX7_claim 51 = .ok (.lconst 0, 1) := dk_9 (dk_at dksX7_claim_2 5 rfl rfl)
theorem dX7_claim_52 : decode cX7_claim 52 = .ok (.lcmp, 1) := dk_148 (dk_at dksX7_claim_2 6 rfl rfl)
theorem dX7_claim_53 : decode cX7_claim 53 = .ok (.ifCond .ne 7, 3) := dk_154 0 7 (dk_at dksX7_claim_2 7 rfl rfl)
theorem dX7_claim_56 : decode cX7_claim 56 = .ok (.lload_n 1, 1) := dk_31 (dk_at dksX7_claim_2 10 rfl rfl)
theorem dX7_claim_57 : decode cX7_claim 57 = .ok (.goto 26, 3) := dk_167 0 26 (dk_at dksX7_claim_2 11 rfl rfl)
theorem dX7_claim_60 : decode cX7_claim 60 = .ok (.lload_n 1, 1) := dk_31 (dk_at dksX7_claim_2 14 rfl rfl)
theorem dX7_claim_61 : decode cX7_claim 61 = .ok (.aload_n 0, 1) := dk_42 (dk_at dksX7_claim_2 15 rfl rfl)
theorem dX7_claim_62 : decode cX7_claim 62 = .ok (.aload_n 0, 1) := dk_42 (dk_at dksX7_claim_2 16 rfl rfl)
theorem dX7_claim_63 : decode cX7_claim 63 = .ok (.getfield 3, 3) := dk_180 0 3 (dk_at dksX7_claim_2 17 rfl rfl)
theorem dX7_claim_66 : decode cX7_claim 66 = .ok (.getfield 54, 3) := dk_180 0 54 (dk_at dksX7_claim_2 20 rfl rfl)
theorem dX7_claim_69 : decode cX7_claim 69 = .ok (.iconst 0, 1) := dk_3 (dk_at dksX7_claim_2 23 rfl rfl)
theorem dX7_claim_70 : decode cX7_claim 70 = .ok (.aaload, 1) := dk_50 (dk_at dksX7_claim_3 0 rfl rfl)
theorem dX7_claim_71 : decode cX7_claim 71 = .ok (.aload_n 0, 1) := dk_42 (dk_at dksX7_claim_3 1 rfl rfl)
theorem dX7_claim_72 : decode cX7_claim 72 = .ok (.getfield 29, 3) := dk_180 0 29 (dk_at dksX7_claim_3 2 rfl rfl)
theorem dX7_claim_75 : decode cX7_claim 75 = .ok (.invokevirtual 58, 3) := dk_182 0 58 (dk_at dksX7_claim_3 5 rfl rfl)
theorem dX7_claim_78 : decode cX7_claim 78 = .ok (.lmul, 1) := dk_105 (dk_at dksX7_claim_3 8 rfl rfl)
theorem dX7_claim_79 : decode cX7_claim 79 = .ok (.lload_n 3, 1) := dk_33 (dk_at dksX7_claim_3 9 rfl rfl)
theorem dX7_claim_80 : decode cX7_claim 80 = .ok (.invokestatic 67, 3) := dk_184 0 67 (dk_at dksX7_claim_3 10 rfl rfl)
theorem dX7_claim_83 : decode cX7_claim 83 = .ok (.lreturn, 1) := dk_173 (dk_at dksX7_claim_3 13 rfl rfl)
abbrev cX7_finalBonus : ByteArray := prog_8_method_15_code
def yX7_finalBonus : MethodName := ⟨RX7, "finalBonus", "()J"⟩
def dkwX7_finalBonus_1 : List UInt8 := [180, 0, 3, 180, 0, 161, 133, 105, 20, 0, 65, 184, 0, 67, 184, 0, 143, 167, 0, 4, 9, 173]
abbrev dktX7_finalBonus_1 : List UInt8 := dkwX7_finalBonus_1 ++ []
def dkwX7_finalBonus_0 : List UInt8 := [42, 180, 0, 50, 153, 0, 39, 9, 42, 180, 0, 158, 42, 180, 0, 25, 101, 42, 180, 0, 77, 101, 42]
abbrev dktX7_finalBonus_0 : List UInt8 := dkwX7_finalBonus_0 ++ dktX7_finalBonus_1
theorem dksX7_finalBonus_0 : cX7_finalBonus.data.toList.drop 0 = dktX7_finalBonus_0 := by decide +kernel
theorem dksX7_finalBonus_1 : cX7_finalBonus.data.toList.drop 23 = dktX7_finalBonus_1 := dk_seg dksX7_finalBonus_0 23 rfl rfl
theorem dX7_finalBonus_0 : decode cX7_finalBonus 0 = .ok (.aload_n 0, 1) := dk_42 (dk_at dksX7_finalBonus_0 0 rfl rfl)
theorem dX7_finalBonus_1 : decode cX7_finalBonus 1 = .ok (.getfield 50, 3) := dk_180 0 50 (dk_at dksX7_finalBonus_0 1 rfl rfl)
theorem dX7_finalBonus_4 : decode cX7_finalBonus 4 = .ok (.ifCond .eq 39, 3) := dk_153 0 39 (dk_at dksX7_finalBonus_0 4 rfl rfl)
theorem dX7_finalBonus_7 : decode cX7_finalBonus 7 = .ok (.lconst 0, 1) := dk_9 (dk_at dksX7_finalBonus_0 7 rfl rfl)
theorem dX7_finalBonus_8 : decode cX7_finalBonus 8 = .ok (.aload_n 0, 1) := dk_42 (dk_at dksX7_finalBonus_0 8 rfl rfl)
theorem dX7_finalBonus_9 : decode cX7_finalBonus 9 = .ok (.getfield 158, 3) := dk_180 0 158 (dk_at dksX7_finalBonus_0 9 rfl rfl)
theorem dX7_finalBonus_12 : decode cX7_finalBonus 12 = .ok (.aload_n 0, 1) := dk_42 (dk_at dksX7_finalBonus_0 12 rfl rfl)
theorem dX7_finalBonus_13 : decode cX7_finalBonus 13 = .ok (.getfield 25, 3) := dk_180 0 25 (dk_at dksX7_finalBonus_0 13 rfl rfl)
theorem dX7_finalBonus_16 : decode cX7_finalBonus 16 = .ok (.lsub, 1) := dk_101 (dk_at dksX7_finalBonus_0 16 rfl rfl)
theorem dX7_finalBonus_17 : decode cX7_finalBonus 17 = .ok (.aload_n 0, 1) := dk_42 (dk_at dksX7_finalBonus_0 17 rfl rfl)
theorem dX7_finalBonus_18 : decode cX7_finalBonus 18 = .ok (.getfield 77, 3) := dk_180 0 77 (dk_at dksX7_finalBonus_0 18 rfl rfl)
theorem dX7_finalBonus_21 : decode cX7_finalBonus 21 = .ok (.lsub, 1) := dk_101 (dk_at dksX7_finalBonus_0 21 rfl rfl)
theorem dX7_finalBonus_22 : decode cX7_finalBonus 22 = .ok (.aload_n 0, 1) := dk_42 (dk_at dksX7_finalBonus_0 22 rfl rfl)
theorem dX7_finalBonus_23 : decode cX7_finalBonus 23 = .ok (.getfield 3, 3) := dk_180 0 3 (dk_at dksX7_finalBonus_1 0 rfl rfl)
theorem dX7_finalBonus_26 : decode cX7_finalBonus 26 = .ok (.getfield 161, 3) := dk_180 0 161 (dk_at dksX7_finalBonus_1 3 rfl rfl)
theorem dX7_finalBonus_29 : decode cX7_finalBonus 29 = .ok (.i2l, 1) := dk_133 (dk_at dksX7_finalBonus_1 6 rfl rfl)
theorem dX7_finalBonus_30 : decode cX7_finalBonus 30 = .ok (.lmul, 1) := dk_105 (dk_at dksX7_finalBonus_1 7 rfl rfl)
theorem dX7_finalBonus_31 : decode cX7_finalBonus 31 = .ok (.ldc2_w 65, 3) := dk_20 0 65 (dk_at dksX7_finalBonus_1 8 rfl rfl)
theorem dX7_finalBonus_34 : decode cX7_finalBonus 34 = .ok (.invokestatic 67, 3) := dk_184 0 67 (dk_at dksX7_finalBonus_1 11 rfl rfl)
theorem dX7_finalBonus_37 : decode cX7_finalBonus 37 = .ok (.invokestatic 143, 3) := dk_184 0 143 (dk_at dksX7_finalBonus_1 14 rfl rfl)
theorem dX7_finalBonus_40 : decode cX7_finalBonus 40 = .ok (.goto 4, 3) := dk_167 0 4 (dk_at dksX7_finalBonus_1 17 rfl rfl)
theorem dX7_finalBonus_43 : decode cX7_finalBonus 43 = .ok (.lconst 0, 1) := dk_9 (dk_at dksX7_finalBonus_1 20 rfl rfl)
theorem dX7_finalBonus_44 : decode cX7_finalBonus 44 = .ok (.lreturn, 1) := dk_173 (dk_at dksX7_finalBonus_1 21 rfl rfl)
abbrev cX7_ceded : ByteArray := prog_8_method_17_code
def yX7_ceded : MethodName := ⟨RX7, "ceded", "()J"⟩
def dkwX7_ceded_2 : List UInt8 := [180, 0, 176, 133, 105, 20, 0, 65, 184, 0, 67, 97, 173]
abbrev dktX7_ceded_2 : List UInt8 := dkwX7_ceded_2 ++ []
def dkwX7_ceded_1 : List UInt8 := [184, 0, 143, 42, 180, 0, 25, 42, 180, 0, 3, 180, 0, 170, 133, 184, 0, 173, 42, 180, 0, 3]
abbrev dktX7_ceded_1 : List UInt8 := dkwX7_ceded_1 ++ dktX7_ceded_2
def dkwX7_ceded_0 : List UInt8 := [42, 182, 0, 120, 153, 0, 5, 9, 173, 9, 42, 180, 0, 25, 42, 180, 0, 3, 180, 0, 170, 133, 101]
abbrev dktX7_ceded_0 : List UInt8 := dkwX7_ceded_0 ++ dktX7_ceded_1
theorem dksX7_ceded_0 : cX7_ceded.data.toList.drop 0 = dktX7_ceded_0 := by decide +kernel
theorem dksX7_ceded_1 : cX7_ceded.data.toList.drop 23 = dktX7_ceded_1 := dk_seg dksX7_ceded_0 23 rfl rfl
theorem dksX7_ceded_2 : cX7_ceded.data.toList.drop 45 = dktX7_ceded_2 := dk_seg dksX7_ceded_1 22 rfl rfl
theorem dX7_ceded_0 : decode cX7_ceded 0 = .ok (.aload_n 0, 1) := dk_42 (dk_at dksX7_ceded_0 0 rfl rfl)
theorem dX7_ceded_1 : decode cX7_ceded 1 = .ok (.invokevirtual 120, 3) := dk_182 0 120 (dk_at dksX7_ceded_0 1 rfl rfl)
theorem dX7_ceded_4 : decode cX7_ceded 4 = .ok (.ifCond .eq 5, 3) := dk_153 0 5 (dk_at dksX7_ceded_0 4 rfl rfl)
theorem dX7_ceded_7 : decode cX7_ceded 7 = .ok (.lconst 0, 1) := dk_9 (dk_at dksX7_ceded_0 7 rfl rfl)
theorem dX7_ceded_8 : decode cX7_ceded 8 = .ok (.lreturn, 1) := dk_173 (dk_at dksX7_ceded_0 8 rfl rfl)
theorem dX7_ceded_9 : decode cX7_ceded 9 = .ok (.lconst 0, 1) := dk_9 (dk_at dksX7_ceded_0 9 rfl rfl)
theorem dX7_ceded_10 : decode cX7_ceded 10 = .ok (.aload_n 0, 1) := dk_42 (dk_at dksX7_ceded_0 10 rfl rfl)
theorem dX7_ceded_11 : decode cX7_ceded 11 = .ok (.getfield 25, 3) := dk_180 0 25 (dk_at dksX7_ceded_0 11 rfl rfl)
theorem dX7_ceded_14 : decode cX7_ceded 14 = .ok (.aload_n 0, 1) := dk_42 (dk_at dksX7_ceded_0 14 rfl rfl)
theorem dX7_ceded_15 : decode cX7_ceded 15 = .ok (.getfield 3, 3) := dk_180 0 3 (dk_at dksX7_ceded_0 15 rfl rfl)
theorem dX7_ceded_18 : decode cX7_ceded 18 = .ok (.getfield 170, 3) := dk_180 0 170 (dk_at dksX7_ceded_0 18 rfl rfl)
theorem dX7_ceded_21 : decode cX7_ceded 21 = .ok (.i2l, 1) := dk_133 (dk_at dksX7_ceded_0 21 rfl rfl)
theorem dX7_ceded_22 : decode cX7_ceded 22 = .ok (.lsub, 1) := dk_101 (dk_at dksX7_ceded_0 22 rfl rfl)
theorem dX7_ceded_23 : decode cX7_ceded 23 = .ok (.invokestatic 143, 3) := dk_184 0 143 (dk_at dksX7_ceded_1 0 rfl rfl)
theorem dX7_ceded_26 : decode cX7_ceded 26 = .ok (.aload_n 0, 1) := dk_42 (dk_at dksX7_ceded_1 3 rfl rfl)
theorem dX7_ceded_27 : decode cX7_ceded 27 = .ok (.getfield 25, 3) := dk_180 0 25 (dk_at dksX7_ceded_1 4 rfl rfl)
theorem dX7_ceded_30 : decode cX7_ceded 30 = .ok (.aload_n 0, 1) := dk_42 (dk_at dksX7_ceded_1 7 rfl rfl)
theorem dX7_ceded_31 : decode cX7_ceded 31 = .ok (.getfield 3, 3) := dk_180 0 3 (dk_at dksX7_ceded_1 8 rfl rfl)
theorem dX7_ceded_34 : decode cX7_ceded 34 = .ok (.getfield 170, 3) := dk_180 0 170 (dk_at dksX7_ceded_1 11 rfl rfl)
theorem dX7_ceded_37 : decode cX7_ceded 37 = .ok (.i2l, 1) := dk_133 (dk_at dksX7_ceded_1 14 rfl rfl)
theorem dX7_ceded_38 : decode cX7_ceded 38 = .ok (.invokestatic 173, 3) := dk_184 0 173 (dk_at dksX7_ceded_1 15 rfl rfl)
theorem dX7_ceded_41 : decode cX7_ceded 41 = .ok (.aload_n 0, 1) := dk_42 (dk_at dksX7_ceded_1 18 rfl rfl)
theorem dX7_ceded_42 : decode cX7_ceded 42 = .ok (.getfield 3, 3) := dk_180 0 3 (dk_at dksX7_ceded_1 19 rfl rfl)
theorem dX7_ceded_45 : decode cX7_ceded 45 = .ok (.getfield 176, 3) := dk_180 0 176 (dk_at dksX7_ceded_2 0 rfl rfl)
theorem dX7_ceded_48 : decode cX7_ceded 48 = .ok (.i2l, 1) := dk_133 (dk_at dksX7_ceded_2 3 rfl rfl)
theorem dX7_ceded_49 : decode cX7_ceded 49 = .ok (.lmul, 1) := dk_105 (dk_at dksX7_ceded_2 4 rfl rfl)
theorem dX7_ceded_50 : decode cX7_ceded 50 = .ok (.ldc2_w 65, 3) := dk_20 0 65 (dk_at dksX7_ceded_2 5 rfl rfl)
theorem dX7_ceded_53 : decode cX7_ceded 53 = .ok (.invokestatic 67, 3) := dk_184 0 67 (dk_at dksX7_ceded_2 8 rfl rfl)
theorem dX7_ceded_56 : decode cX7_ceded 56 = .ok (.ladd, 1) := dk_97 (dk_at dksX7_ceded_2 11 rfl rfl)
theorem dX7_ceded_57 : decode cX7_ceded 57 = .ok (.lreturn, 1) := dk_173 (dk_at dksX7_ceded_2 12 rfl rfl)
abbrev cX7_maturity : ByteArray := prog_8_method_18_code
def yX7_maturity : MethodName := ⟨RX7, "maturity", "()J"⟩
def dkwX7_maturity_1 : List UInt8 := [167, 0, 12, 42, 182, 0, 133, 42, 182, 0, 164, 97, 173]
abbrev dktX7_maturity_1 : List UInt8 := dkwX7_maturity_1 ++ []
def dkwX7_maturity_0 : List UInt8 := [42, 180, 0, 22, 6, 160, 0, 10, 42, 180, 0, 25, 167, 0, 24, 42, 180, 0, 22, 5, 160, 0, 7, 9]
abbrev dktX7_maturity_0 : List UInt8 := dkwX7_maturity_0 ++ dktX7_maturity_1
theorem dksX7_maturity_0 : cX7_maturity.data.toList.drop 0 = dktX7_maturity_0 := by decide +kernel
theorem dksX7_maturity_1 : cX7_maturity.data.toList.drop 24 = dktX7_maturity_1 := dk_seg dksX7_maturity_0 24 rfl rfl
theorem dX7_maturity_0 : decode cX7_maturity 0 = .ok (.aload_n 0, 1) := dk_42 (dk_at dksX7_maturity_0 0 rfl rfl)
theorem dX7_maturity_1 : decode cX7_maturity 1 = .ok (.getfield 22, 3) := dk_180 0 22 (dk_at dksX7_maturity_0 1 rfl rfl)
theorem dX7_maturity_4 : decode cX7_maturity 4 = .ok (.iconst 3, 1) := dk_6 (dk_at dksX7_maturity_0 4 rfl rfl)
theorem dX7_maturity_5 : decode cX7_maturity 5 = .ok (.if_icmp .ne 10, 3) := dk_160 0 10 (dk_at dksX7_maturity_0 5 rfl rfl)
theorem dX7_maturity_8 : decode cX7_maturity 8 = .ok (.aload_n 0, 1) := dk_42 (dk_at dksX7_maturity_0 8 rfl rfl)
theorem dX7_maturity_9 : decode cX7_maturity 9 = .ok (.getfield 25, 3) := dk_180 0 25 (dk_at dksX7_maturity_0 9 rfl rfl)
theorem dX7_maturity_12 : decode cX7_maturity 12 = .ok (.goto 24, 3) := dk_167 0 24 (dk_at dksX7_maturity_0 12 rfl rfl)
theorem dX7_maturity_15 : decode cX7_maturity 15 = .ok (.aload_n 0, 1) := dk_42 (dk_at dksX7_maturity_0 15 rfl rfl)
theorem dX7_maturity_16 : decode cX7_maturity 16 = .ok (.getfield 22, 3) := dk_180 0 22 (dk_at dksX7_maturity_0 16 rfl rfl)
theorem dX7_maturity_19 : decode cX7_maturity 19 = .ok (.iconst 2, 1) := dk_5 (dk_at dksX7_maturity_0 19 rfl rfl)
theorem dX7_maturity_20 : decode cX7_maturity 20 = .ok (.if_icmp .ne 7, 3) := dk_160 0 7 (dk_at dksX7_maturity_0 20 rfl rfl)
theorem dX7_maturity_23 : decode cX7_maturity 23 = .ok (.lconst 0, 1) := dk_9 (dk_at dksX7_maturity_0 23 rfl rfl)
theorem dX7_maturity_24 : decode cX7_maturity 24 = .ok (.goto 12, 3) := dk_167 0 12 (dk_at dksX7_maturity_1 0 rfl rfl)
theorem dX7_maturity_27 : decode cX7_maturity 27 = .ok (.aload_n 0, 1) := dk_42 (dk_at dksX7_maturity_1 3 rfl rfl)
theorem dX7_maturity_28 : decode cX7_maturity 28 = .ok (.invokevirtual 133, 3) := dk_182 0 133 (dk_at dksX7_maturity_1 4 rfl rfl)
theorem dX7_maturity_31 : decode cX7_maturity 31 = .ok (.aload_n 0, 1) := dk_42 (dk_at dksX7_maturity_1 7 rfl rfl)
theorem dX7_maturity_32 : decode cX7_maturity 32 = .ok (.invokevirtual 164, 3) := dk_182 0 164 (dk_at dksX7_maturity_1 8 rfl rfl)
theorem dX7_maturity_35 : decode cX7_maturity 35 = .ok (.ladd, 1) := dk_97 (dk_at dksX7_maturity_1 11 rfl rfl)
theorem dX7_maturity_36 : decode cX7_maturity 36 = .ok (.lreturn, 1) := dk_173 (dk_at dksX7_maturity_1 12 rfl rfl)
theorem q114 : (Jvm.Cond.initialized "Lifeoffice$Policy") ∈ lw_all := lw_g (lw_at lw_m1 34 rfl) rfl
theorem q140 : (Jvm.Cond.fieldLink "Lifeoffice$Policy" (109 : Nat) "Lifeoffice$Law" "interest" "I") ∈ lw_all := lw_g (lw_at lw_m1 60 rfl) rfl
theorem q143 : (Jvm.Cond.fieldLink "Lifeoffice$Policy" (80 : Nat) "Lifeoffice$Law" "percent" "I") ∈ lw_all := lw_g (lw_at lw_m1 63 rfl) rfl
theorem q146 : (Jvm.Cond.fieldLink "Lifeoffice$Policy" (140 : Nat) "Lifeoffice$Law" "isZeroised" "Z") ∈ lw_all := lw_g (lw_at lw_m1 66 rfl) rfl
theorem q280 : (Jvm.Cond.fieldLinkNest "Lifeoffice$Policy" (54 : Nat) "Lifeoffice" "laws" "[LLifeoffice$Law;" "Lifeoffice") ∈ lw_tbl := lw_at lw_m1 200 rfl
theorem q288 : (Jvm.Cond.fieldLinkNest "Lifeoffice$Policy" (32 : Nat) "Lifeoffice" "year" "I" "Lifeoffice") ∈ lw_tbl := lw_at lw_m1 208 rfl
theorem q292 : (Jvm.Cond.fieldLinkNest "Lifeoffice$Policy" (85 : Nat) "Lifeoffice" "improvement" "I" "Lifeoffice") ∈ lw_tbl := lw_at lw_m1 212 rfl
theorem q293 : (Jvm.Cond.fieldLinkNest "Lifeoffice$Policy" (62 : Nat) "Lifeoffice" "loading" "I" "Lifeoffice") ∈ lw_tbl := lw_at lw_m1 213 rfl
theorem q295 : (Jvm.Cond.fieldLinkNest "Lifeoffice$Policy" (71 : Nat) "Lifeoffice" "flat" "I" "Lifeoffice") ∈ lw_tbl := lw_at lw_m1 215 rfl
theorem q298 : (Jvm.Cond.fieldLinkNest "Lifeoffice$Policy" (170 : Nat) "Lifeoffice" "retention" "I" "Lifeoffice") ∈ lw_tbl := lw_at lw_m1 218 rfl
theorem q300 : (Jvm.Cond.fieldLinkNest "Lifeoffice$Policy" (176 : Nat) "Lifeoffice" "quota" "I" "Lifeoffice") ∈ lw_tbl := lw_at lw_m1 220 rfl
theorem q304 : (Jvm.Cond.fieldLinkNest "Lifeoffice$Policy" (161 : Nat) "Lifeoffice" "finalRate" "I" "Lifeoffice") ∈ lw_tbl := lw_at lw_m1 224 rfl
theorem q396 : (Jvm.Cond.instanceMethod ({ cls := "Lifeoffice$Policy", name := "reserve", desc := "(LLifeoffice$Law;I)J" } : Jvm.MethodName)) ∈ lw_all := lw_g (lw_at lw_m2 76 rfl) rfl
theorem q397 : (Jvm.Cond.selects "Lifeoffice$Policy" ({ cls := "Lifeoffice$Policy", name := "reserve", desc := "(LLifeoffice$Law;I)J" } : Jvm.MethodName) ({ cls := "Lifeoffice$Policy", name := "reserve", desc := "(LLifeoffice$Law;I)J" } : Jvm.MethodName)) ∈ lw_all := lw_g (lw_at lw_m2 77 rfl) rfl
theorem q398 : (Jvm.Cond.code ({ cls := "Lifeoffice$Policy", name := "reserve", desc := "(LLifeoffice$Law;I)J" } : Jvm.MethodName) prog_8_method_11_code (6 : Nat) (Option.some Jvm.ClassFile.FieldType.long)) ∈ lw_all := lw_g (lw_at lw_m2 78 rfl) rfl
theorem q399 : (Jvm.Cond.methodLink "Lifeoffice$Policy" (130 : Nat) ({ cls := "Lifeoffice$Policy", name := "isLiving", desc := "()Z" } : Jvm.MethodName)) ∈ lw_all := lw_g (lw_at lw_m2 79 rfl) rfl
theorem q400 : (Jvm.Cond.instanceMethod ({ cls := "Lifeoffice$Policy", name := "isLiving", desc := "()Z" } : Jvm.MethodName)) ∈ lw_all := lw_g (lw_at lw_m2 80 rfl) rfl
theorem q401 : (Jvm.Cond.selects "Lifeoffice$Policy" ({ cls := "Lifeoffice$Policy", name := "isLiving", desc := "()Z" } : Jvm.MethodName) ({ cls := "Lifeoffice$Policy", name := "isLiving", desc := "()Z" } : Jvm.MethodName)) ∈ lw_all := lw_g (lw_at lw_m2 81 rfl) rfl
theorem q402 : (Jvm.Cond.code ({ cls := "Lifeoffice$Policy", name := "isLiving", desc := "()Z" } : Jvm.MethodName) prog_8_method_3_code (1 : Nat) (Option.some Jvm.ClassFile.FieldType.boolean)) ∈ lw_all := lw_g (lw_at lw_m2 82 rfl) rfl
theorem q403 : (Jvm.Cond.methodLink "Lifeoffice$Policy" (116 : Nat) ({ cls := "Lifeoffice$Policy", name := "values", desc := "(LLifeoffice$Law;II)LLifeoffice$Values;" } : Jvm.MethodName)) ∈ lw_all := lw_g (lw_at lw_m2 83 rfl) rfl
theorem q404 : (Jvm.Cond.instanceMethod ({ cls := "Lifeoffice$Policy", name := "values", desc := "(LLifeoffice$Law;II)LLifeoffice$Values;" } : Jvm.MethodName)) ∈ lw_all := lw_g (lw_at lw_m2 84 rfl) rfl
theorem q405 : (Jvm.Cond.selects "Lifeoffice$Policy" ({ cls := "Lifeoffice$Policy", name := "values", desc := "(LLifeoffice$Law;II)LLifeoffice$Values;" } : Jvm.MethodName) ({ cls := "Lifeoffice$Policy", name := "values", desc := "(LLifeoffice$Law;II)LLifeoffice$Values;" } : Jvm.MethodName)) ∈ lw_all := lw_g (lw_at lw_m2 85 rfl) rfl
theorem q406 : (Jvm.Cond.code ({ cls := "Lifeoffice$Policy", name := "values", desc := "(LLifeoffice$Law;II)LLifeoffice$Values;" } : Jvm.MethodName) prog_8_method_9_code (6 : Nat) (Option.some (Jvm.ClassFile.FieldType.object "Lifeoffice$Values"))) ∈ lw_all := lw_g (lw_at lw_m2 86 rfl) rfl
theorem q407 : (Jvm.Cond.classLink "Lifeoffice$Policy" (95 : Nat) "Lifeoffice$Values") ∈ lw_all := lw_g (lw_at lw_m2 87 rfl) rfl
theorem q409 : (Jvm.Cond.methodLink "Lifeoffice$Policy" (97 : Nat) ({ cls := "Lifeoffice$Policy", name := "hasValue", desc := "()Z" } : Jvm.MethodName)) ∈ lw_all := lw_g (lw_at lw_m2 89 rfl) rfl
theorem q410 : (Jvm.Cond.instanceMethod ({ cls := "Lifeoffice$Policy", name := "hasValue", desc := "()Z" } : Jvm.MethodName)) ∈ lw_all := lw_g (lw_at lw_m2 90 rfl) rfl
theorem q411 : (Jvm.Cond.selects "Lifeoffice$Policy" ({ cls := "Lifeoffice$Policy", name := "hasValue", desc := "()Z" } : Jvm.MethodName) ({ cls := "Lifeoffice$Policy", name := "hasValue", desc := "()Z" } : Jvm.MethodName)) ∈ lw_all := lw_g (lw_at lw_m2 91 rfl) rfl
theorem q412 : (Jvm.Cond.code ({ cls := "Lifeoffice$Policy", name := "hasValue", desc := "()Z" } : Jvm.MethodName) prog_8_method_5_code (1 : Nat) (Option.some Jvm.ClassFile.FieldType.boolean)) ∈ lw_all := lw_g (lw_at lw_m2 92 rfl) rfl
theorem q413 : (Jvm.Cond.constantLong "Lifeoffice$Policy" (101 : Nat) (1000000 : Int64)) ∈ lw_all := lw_g (lw_at lw_m2 93 rfl) rfl
theorem q414 : (Jvm.Cond.methodLink "Lifeoffice$Policy" (103 : Nat) ({ cls := "Lifeoffice$Values", name := "<init>", desc := "(J)V" } : Jvm.MethodName)) ∈ lw_all := lw_g (lw_at lw_m2 94 rfl) rfl
theorem q419 : (Jvm.Cond.fieldLink "Lifeoffice$Policy" (126 : Nat) "Lifeoffice$Values" "benefit" "J") ∈ lw_all := lw_g (lw_at lw_m2 99 rfl) rfl
theorem q422 : (Jvm.Cond.fieldLink "Lifeoffice$Policy" (129 : Nat) "Lifeoffice$Values" "premium" "J") ∈ lw_all := lw_g (lw_at lw_m2 102 rfl) rfl
theorem q425 : (Jvm.Cond.fieldLink "Lifeoffice$Policy" (123 : Nat) "Lifeoffice$Values" "annuity" "J") ∈ lw_all := lw_g (lw_at lw_m2 105 rfl) rfl
theorem q434 : (Jvm.Cond.methodLink "Lifeoffice$Policy" (106 : Nat) ({ cls := "Lifeoffice$Policy", name := "mortality", desc := "(LLifeoffice$Law;II)J" } : Jvm.MethodName)) ∈ lw_all := lw_g (lw_at lw_m2 114 rfl) rfl
theorem q435 : (Jvm.Cond.instanceMethod ({ cls := "Lifeoffice$Policy", name := "mortality", desc := "(LLifeoffice$Law;II)J" } : Jvm.MethodName)) ∈ lw_all := lw_g (lw_at lw_m2 115 rfl) rfl
theorem q436 : (Jvm.Cond.selects "Lifeoffice$Policy" ({ cls := "Lifeoffice$Policy", name := "mortality", desc := "(LLifeoffice$Law;II)J" } : Jvm.MethodName) ({ cls := "Lifeoffice$Policy", name := "mortality", desc := "(LLifeoffice$Law;II)J" } : Jvm.MethodName)) ∈ lw_all := lw_g (lw_at lw_m2 116 rfl) rfl
theorem q437 : (Jvm.Cond.code ({ cls := "Lifeoffice$Policy", name := "mortality", desc := "(LLifeoffice$Law;II)J" } : Jvm.MethodName) prog_8_method_7_code (4 : Nat) (Option.some Jvm.ClassFile.FieldType.long)) ∈ lw_all := lw_g (lw_at lw_m2 117 rfl) rfl
theorem q438 : (Jvm.Cond.methodLink "Lifeoffice$Policy" (88 : Nat) ({ cls := "Lifeoffice$Life", name := "mortality", desc := "(IIIII)J" } : Jvm.MethodName)) ∈ lw_all := lw_g (lw_at lw_m2 118 rfl) rfl
theorem q466 : (Jvm.Cond.methodLink "Lifeoffice$Policy" (112 : Nat) ({ cls := "Lifeoffice$Values", name := "back", desc := "(JI)V" } : Jvm.MethodName)) ∈ lw_all := lw_g (lw_at lw_m2 146 rfl) rfl
theorem q478 : (Jvm.Cond.methodLink "Lifeoffice$Policy" (120 : Nat) ({ cls := "Lifeoffice$Policy", name := "isAnnuity", desc := "()Z" } : Jvm.MethodName)) ∈ lw_all := lw_g (lw_at lw_m2 158 rfl) rfl
theorem q479 : (Jvm.Cond.instanceMethod ({ cls := "Lifeoffice$Policy", name := "isAnnuity", desc := "()Z" } : Jvm.MethodName)) ∈ lw_all := lw_g (lw_at lw_m2 159 rfl) rfl
theorem q480 : (Jvm.Cond.selects "Lifeoffice$Policy" ({ cls := "Lifeoffice$Policy", name := "isAnnuity", desc := "()Z" } : Jvm.MethodName) ({ cls := "Lifeoffice$Policy", name := "isAnnuity", desc := "()Z" } : Jvm.MethodName)) ∈ lw_all := lw_g (lw_at lw_m2 160 rfl) rfl
theorem q481 : (Jvm.Cond.code ({ cls := "Lifeoffice$Policy", name := "isAnnuity", desc := "()Z" } : Jvm.MethodName) prog_8_method_2_code (1 : Nat) (Option.some Jvm.ClassFile.FieldType.boolean)) ∈ lw_all := lw_g (lw_at lw_m2 161 rfl) rfl
theorem q482 : (Jvm.Cond.methodLinkNest "Lifeoffice$Policy" (67 : Nat) ({ cls := "Lifeoffice", name := "down", desc := "(JJ)J" } : Jvm.MethodName) "Lifeoffice") ∈ lw_tbl := lw_at lw_m2 162 rfl
theorem q483 : (Jvm.Cond.methodLink "Lifeoffice$Policy" (133 : Nat) ({ cls := "Lifeoffice$Policy", name := "assured", desc := "()J" } : Jvm.MethodName)) ∈ lw_all := lw_g (lw_at lw_m2 163 rfl) rfl
theorem q484 : (Jvm.Cond.instanceMethod ({ cls := "Lifeoffice$Policy", name := "assured", desc := "()J" } : Jvm.MethodName)) ∈ lw_all := lw_g (lw_at lw_m2 164 rfl) rfl
theorem q485 : (Jvm.Cond.selects "Lifeoffice$Policy" ({ cls := "Lifeoffice$Policy", name := "assured", desc := "()J" } : Jvm.MethodName) ({ cls := "Lifeoffice$Policy", name := "assured", desc := "()J" } : Jvm.MethodName)) ∈ lw_all := lw_g (lw_at lw_m2 165 rfl) rfl
theorem q486 : (Jvm.Cond.code ({ cls := "Lifeoffice$Policy", name := "assured", desc := "()J" } : Jvm.MethodName) prog_8_method_6_code (1 : Nat) (Option.some Jvm.ClassFile.FieldType.long)) ∈ lw_all := lw_g (lw_at lw_m2 166 rfl) rfl
theorem q487 : (Jvm.Cond.methodLink "Lifeoffice$Policy" (137 : Nat) ({ cls := "Lifeoffice$Policy", name := "isPaidUp", desc := "()Z" } : Jvm.MethodName)) ∈ lw_all := lw_g (lw_at lw_m2 167 rfl) rfl
theorem q488 : (Jvm.Cond.instanceMethod ({ cls := "Lifeoffice$Policy", name := "isPaidUp", desc := "()Z" } : Jvm.MethodName)) ∈ lw_all := lw_g (lw_at lw_m2 168 rfl) rfl
theorem q489 : (Jvm.Cond.selects "Lifeoffice$Policy" ({ cls := "Lifeoffice$Policy", name := "isPaidUp", desc := "()Z" } : Jvm.MethodName) ({ cls := "Lifeoffice$Policy", name := "isPaidUp", desc := "()Z" } : Jvm.MethodName)) ∈ lw_all := lw_g (lw_at lw_m2 169 rfl) rfl
theorem q490 : (Jvm.Cond.code ({ cls := "Lifeoffice$Policy", name := "isPaidUp", desc := "()Z" } : Jvm.MethodName) prog_8_method_12_code (1 : Nat) (Option.some Jvm.ClassFile.FieldType.boolean)) ∈ lw_all := lw_g (lw_at lw_m2 170 rfl) rfl
theorem q491 : (Jvm.Cond.methodLink "Lifeoffice$Policy" (58 : Nat) ({ cls := "Lifeoffice$Policy", name := "netPremium", desc := "(LLifeoffice$Law;I)J" } : Jvm.MethodName)) ∈ lw_all := lw_g (lw_at lw_m2 171 rfl) rfl
theorem q492 : (Jvm.Cond.instanceMethod ({ cls := "Lifeoffice$Policy", name := "netPremium", desc := "(LLifeoffice$Law;I)J" } : Jvm.MethodName)) ∈ lw_all := lw_g (lw_at lw_m2 172 rfl) rfl
theorem q493 : (Jvm.Cond.selects "Lifeoffice$Policy" ({ cls := "Lifeoffice$Policy", name := "netPremium", desc := "(LLifeoffice$Law;I)J" } : Jvm.MethodName) ({ cls := "Lifeoffice$Policy", name := "netPremium", desc := "(LLifeoffice$Law;I)J" } : Jvm.MethodName)) ∈ lw_all := lw_g (lw_at lw_m2 173 rfl) rfl
theorem q494 : (Jvm.Cond.code ({ cls := "Lifeoffice$Policy", name := "netPremium", desc := "(LLifeoffice$Law;I)J" } : Jvm.MethodName) prog_8_method_10_code (4 : Nat) (Option.some Jvm.ClassFile.FieldType.long)) ∈ lw_all := lw_g (lw_at lw_m2 174 rfl) rfl
theorem q495 : (Jvm.Cond.methodLink "Lifeoffice$Policy" (143 : Nat) ({ cls := "java/lang/Math", name := "max", desc := "(JJ)J" } : Jvm.MethodName)) ∈ lw_all := lw_g (lw_at lw_m2 175 rfl) rfl
theorem q737 : (Jvm.Cond.instanceMethod ({ cls := "Lifeoffice$Policy", name := "paysIn", desc := "(I)Z" } : Jvm.MethodName)) ∈ lw_all := lw_g (lw_at lw_m3 177 rfl) rfl
theorem q738 : (Jvm.Cond.selects "Lifeoffice$Policy" ({ cls := "Lifeoffice$Policy", name := "paysIn", desc := "(I)Z" } : Jvm.MethodName) ({ cls := "Lifeoffice$Policy", name := "paysIn", desc := "(I)Z" } : Jvm.MethodName)) ∈ lw_all := lw_g (lw_at lw_m3 178 rfl) rfl
theorem q739 : (Jvm.Cond.code ({ cls := "Lifeoffice$Policy", name := "paysIn", desc := "(I)Z" } : Jvm.MethodName) prog_8_method_13_code (2 : Nat) (Option.some Jvm.ClassFile.FieldType.boolean)) ∈ lw_all := lw_g (lw_at lw_m3 179 rfl) rfl
theorem q1000 : (Jvm.Cond.instanceMethod ({ cls := "Lifeoffice$Policy", name := "years", desc := "(I)LLifeoffice$Years;" } : Jvm.MethodName)) ∈ lw_all := lw_g (lw_at lw_m4 200 rfl) rfl
theorem q1001 : (Jvm.Cond.selects "Lifeoffice$Policy" ({ cls := "Lifeoffice$Policy", name := "years", desc := "(I)LLifeoffice$Years;" } : Jvm.MethodName) ({ cls := "Lifeoffice$Policy", name := "years", desc := "(I)LLifeoffice$Years;" } : Jvm.MethodName)) ∈ lw_all := lw_g (lw_at lw_m4 201 rfl) rfl
theorem q1002 : (Jvm.Cond.code ({ cls := "Lifeoffice$Policy", name := "years", desc := "(I)LLifeoffice$Years;" } : Jvm.MethodName) prog_8_method_8_code (2 : Nat) (Option.some (Jvm.ClassFile.FieldType.object "Lifeoffice$Years"))) ∈ lw_all := lw_g (lw_at lw_m4 202 rfl) rfl
theorem q1003 : (Jvm.Cond.classLink "Lifeoffice$Policy" (92 : Nat) "Lifeoffice$Years") ∈ lw_all := lw_g (lw_at lw_m4 203 rfl) rfl
theorem q1005 : (Jvm.Cond.methodLink "Lifeoffice$Policy" (94 : Nat) ({ cls := "Lifeoffice$Years", name := "<init>", desc := "(II)V" } : Jvm.MethodName)) ∈ lw_all := lw_g (lw_at lw_m4 205 rfl) rfl
theorem q1201 : (Jvm.Cond.instantiable "Lifeoffice$Policy" (19 : Nat)) ∈ lw_all := lw_g (lw_at lw_m5 161 rfl) rfl
theorem q1203 : (Jvm.Cond.instanceMethod ({ cls := "Lifeoffice$Policy", name := "<init>", desc := "(LLifeoffice;IIIIIII)V" } : Jvm.MethodName)) ∈ lw_all := lw_g (lw_at lw_m5 163 rfl) rfl
theorem q1204 : (Jvm.Cond.code ({ cls := "Lifeoffice$Policy", name := "<init>", desc := "(LLifeoffice;IIIIIII)V" } : Jvm.MethodName) prog_8_method_1_code (9 : Nat) (Option.none : Option Jvm.ClassFile.FieldType)) ∈ lw_all := lw_g (lw_at lw_m5 164 rfl) rfl
theorem q1205 : (Jvm.Cond.methodLink "Lifeoffice$Policy" (9 : Nat) ({ cls := "java/lang/Object", name := "<init>", desc := "()V" } : Jvm.MethodName)) ∈ lw_all := lw_g (lw_at lw_m5 165 rfl) rfl
theorem q1206 : (Jvm.Cond.classLink "Lifeoffice$Policy" (41 : Nat) "Lifeoffice$Life") ∈ lw_all := lw_g (lw_at lw_m5 166 rfl) rfl
theorem q1207 : (Jvm.Cond.methodLink "Lifeoffice$Policy" (43 : Nat) ({ cls := "Lifeoffice$Life", name := "<init>", desc := "(II)V" } : Jvm.MethodName)) ∈ lw_all := lw_g (lw_at lw_m5 167 rfl) rfl
theorem q1208 : (Jvm.Cond.constantLong "Lifeoffice$Policy" (65 : Nat) (1000 : Int64)) ∈ lw_all := lw_g (lw_at lw_m5 168 rfl) rfl
theorem q1209 : (Jvm.Cond.fieldLink "Lifeoffice$Policy" (19 : Nat) "Lifeoffice$Policy" "number" "I") ∈ lw_all := lw_g (lw_at lw_m5 169 rfl) rfl
theorem q1212 : (Jvm.Cond.fieldLink "Lifeoffice$Policy" (22 : Nat) "Lifeoffice$Policy" "kind" "I") ∈ lw_all := lw_g (lw_at lw_m5 172 rfl) rfl
theorem q1214 : (Jvm.Cond.fieldLink "Lifeoffice$Policy" (35 : Nat) "Lifeoffice$Policy" "start" "I") ∈ lw_all := lw_g (lw_at lw_m5 174 rfl) rfl
theorem q1216 : (Jvm.Cond.fieldLink "Lifeoffice$Policy" (38 : Nat) "Lifeoffice$Policy" "end" "I") ∈ lw_all := lw_g (lw_at lw_m5 176 rfl) rfl
theorem q1218 : (Jvm.Cond.fieldLink "Lifeoffice$Policy" (29 : Nat) "Lifeoffice$Policy" "points" "I") ∈ lw_all := lw_g (lw_at lw_m5 178 rfl) rfl
theorem q1220 : (Jvm.Cond.fieldLink "Lifeoffice$Policy" (46 : Nat) "Lifeoffice$Policy" "life" "LLifeoffice$Life;") ∈ lw_all := lw_g (lw_at lw_m5 180 rfl) rfl
theorem q1222 : (Jvm.Cond.fieldLink "Lifeoffice$Policy" (50 : Nat) "Lifeoffice$Policy" "isWithProfits" "Z") ∈ lw_all := lw_g (lw_at lw_m5 182 rfl) rfl
theorem q1224 : (Jvm.Cond.fieldLink "Lifeoffice$Policy" (25 : Nat) "Lifeoffice$Policy" "sum" "J") ∈ lw_all := lw_g (lw_at lw_m5 184 rfl) rfl
theorem q1226 : (Jvm.Cond.fieldLink "Lifeoffice$Policy" (74 : Nat) "Lifeoffice$Policy" "premium" "J") ∈ lw_all := lw_g (lw_at lw_m5 186 rfl) rfl
theorem q1228 : (Jvm.Cond.fieldLink "Lifeoffice$Policy" (77 : Nat) "Lifeoffice$Policy" "bonus" "J") ∈ lw_all := lw_g (lw_at lw_m5 188 rfl) rfl
theorem q1230 : (Jvm.Cond.fieldLink "Lifeoffice$Policy" (158 : Nat) "Lifeoffice$Policy" "assetShare" "J") ∈ lw_all := lw_g (lw_at lw_m5 190 rfl) rfl
theorem q1233 : (Jvm.Cond.fieldLink "Lifeoffice$Policy" (15 : Nat) "Lifeoffice$Policy" "state" "I") ∈ lw_all := lw_g (lw_at lw_m5 193 rfl) rfl
theorem q1235 : (Jvm.Cond.fieldLink "Lifeoffice$Policy" (167 : Nat) "Lifeoffice$Policy" "truePoints" "I") ∈ lw_all := lw_g (lw_at lw_m5 195 rfl) rfl
theorem q1240 : (Jvm.Cond.fieldLink "Lifeoffice$Policy" (148 : Nat) "Lifeoffice$Policy" "wasPaidUp" "Z") ∈ lw_all := lw_g (lw_at lw_m5 200 rfl) rfl
theorem q1242 : (Jvm.Cond.fieldLink "Lifeoffice$Policy" (3 : Nat) "Lifeoffice$Policy" "this$0" "LLifeoffice;") ∈ lw_all := lw_g (lw_at lw_m5 202 rfl) rfl
theorem q1243 : (Jvm.Cond.laysFinal "Lifeoffice$Policy" "Lifeoffice$Policy" "number" "I") ∈ lw_all := lw_g (lw_at lw_m5 203 rfl) rfl
theorem q1244 : (Jvm.Cond.soleField "Lifeoffice$Policy" "number") ∈ lw_all := lw_g (lw_at lw_m5 204 rfl) rfl
theorem q1245 : (Jvm.Cond.laysFinal "Lifeoffice$Policy" "Lifeoffice$Policy" "kind" "I") ∈ lw_all := lw_g (lw_at lw_m5 205 rfl) rfl
theorem q1246 : (Jvm.Cond.soleField "Lifeoffice$Policy" "kind") ∈ lw_all := lw_g (lw_at lw_m5 206 rfl) rfl
theorem q1247 : (Jvm.Cond.laysFinal "Lifeoffice$Policy" "Lifeoffice$Policy" "start" "I") ∈ lw_all := lw_g (lw_at lw_m5 207 rfl) rfl
theorem q1248 : (Jvm.Cond.soleField "Lifeoffice$Policy" "start") ∈ lw_all := lw_g (lw_at lw_m5 208 rfl) rfl
theorem q1249 : (Jvm.Cond.laysFinal "Lifeoffice$Policy" "Lifeoffice$Policy" "end" "I") ∈ lw_all := lw_g (lw_at lw_m5 209 rfl) rfl
theorem q1250 : (Jvm.Cond.soleField "Lifeoffice$Policy" "end") ∈ lw_all := lw_g (lw_at lw_m5 210 rfl) rfl
theorem q1251 : (Jvm.Cond.laysFinal "Lifeoffice$Policy" "Lifeoffice$Policy" "points" "I") ∈ lw_all := lw_g (lw_at lw_m5 211 rfl) rfl
theorem q1252 : (Jvm.Cond.soleField "Lifeoffice$Policy" "points") ∈ lw_all := lw_g (lw_at lw_m5 212 rfl) rfl
theorem q1253 : (Jvm.Cond.laysFinal "Lifeoffice$Policy" "Lifeoffice$Policy" "life" "LLifeoffice$Life;") ∈ lw_all := lw_g (lw_at lw_m5 213 rfl) rfl
theorem q1254 : (Jvm.Cond.soleField "Lifeoffice$Policy" "life") ∈ lw_all := lw_g (lw_at lw_m5 214 rfl) rfl
theorem q1255 : (Jvm.Cond.laysFinal "Lifeoffice$Policy" "Lifeoffice$Policy" "isWithProfits" "Z") ∈ lw_all := lw_g (lw_at lw_m5 215 rfl) rfl
theorem q1256 : (Jvm.Cond.soleField "Lifeoffice$Policy" "isWithProfits") ∈ lw_all := lw_g (lw_at lw_m5 216 rfl) rfl
theorem q1257 : (Jvm.Cond.lays "Lifeoffice$Policy" "Lifeoffice$Policy" "sum" "J") ∈ lw_all := lw_g (lw_at lw_m5 217 rfl) rfl
theorem q1258 : (Jvm.Cond.soleField "Lifeoffice$Policy" "sum") ∈ lw_all := lw_g (lw_at lw_m5 218 rfl) rfl
theorem q1259 : (Jvm.Cond.lays "Lifeoffice$Policy" "Lifeoffice$Policy" "premium" "J") ∈ lw_all := lw_g (lw_at lw_m5 219 rfl) rfl
theorem q1260 : (Jvm.Cond.soleField "Lifeoffice$Policy" "premium") ∈ lw_all := lw_g (lw_at lw_m5 220 rfl) rfl
theorem q1261 : (Jvm.Cond.lays "Lifeoffice$Policy" "Lifeoffice$Policy" "bonus" "J") ∈ lw_all := lw_g (lw_at lw_m5 221 rfl) rfl
theorem q1262 : (Jvm.Cond.soleField "Lifeoffice$Policy" "bonus") ∈ lw_all := lw_g (lw_at lw_m5 222 rfl) rfl
theorem q1263 : (Jvm.Cond.lays "Lifeoffice$Policy" "Lifeoffice$Policy" "assetShare" "J") ∈ lw_all := lw_g (lw_at lw_m5 223 rfl) rfl
theorem q1264 : (Jvm.Cond.soleField "Lifeoffice$Policy" "assetShare") ∈ lw_all := lw_g (lw_at lw_m5 224 rfl) rfl
theorem q1265 : (Jvm.Cond.lays "Lifeoffice$Policy" "Lifeoffice$Policy" "loan" "J") ∈ lw_all := lw_g (lw_at lw_m5 225 rfl) rfl
theorem q1266 : (Jvm.Cond.soleField "Lifeoffice$Policy" "loan") ∈ lw_all := lw_g (lw_at lw_m5 226 rfl) rfl
theorem q1267 : (Jvm.Cond.lays "Lifeoffice$Policy" "Lifeoffice$Policy" "state" "I") ∈ lw_all := lw_g (lw_at lw_m5 227 rfl) rfl
theorem q1268 : (Jvm.Cond.soleField "Lifeoffice$Policy" "state") ∈ lw_all := lw_g (lw_at lw_m5 228 rfl) rfl
theorem q1269 : (Jvm.Cond.lays "Lifeoffice$Policy" "Lifeoffice$Policy" "truePoints" "I") ∈ lw_all := lw_g (lw_at lw_m5 229 rfl) rfl
theorem q1270 : (Jvm.Cond.soleField "Lifeoffice$Policy" "truePoints") ∈ lw_all := lw_g (lw_at lw_m5 230 rfl) rfl
theorem q1271 : (Jvm.Cond.lays "Lifeoffice$Policy" "Lifeoffice$Policy" "guarantee" "I") ∈ lw_all := lw_g (lw_at lw_m5 231 rfl) rfl
theorem q1272 : (Jvm.Cond.soleField "Lifeoffice$Policy" "guarantee") ∈ lw_all := lw_g (lw_at lw_m5 232 rfl) rfl
theorem q1273 : (Jvm.Cond.lays "Lifeoffice$Policy" "Lifeoffice$Policy" "lapsedIn" "I") ∈ lw_all := lw_g (lw_at lw_m5 233 rfl) rfl
theorem q1274 : (Jvm.Cond.soleField "Lifeoffice$Policy" "lapsedIn") ∈ lw_all := lw_g (lw_at lw_m5 234 rfl) rfl
theorem q1275 : (Jvm.Cond.lays "Lifeoffice$Policy" "Lifeoffice$Policy" "payments" "I") ∈ lw_all := lw_g (lw_at lw_m5 235 rfl) rfl
theorem q1276 : (Jvm.Cond.soleField "Lifeoffice$Policy" "payments") ∈ lw_all := lw_g (lw_at lw_m5 236 rfl) rfl
theorem q1277 : (Jvm.Cond.lays "Lifeoffice$Policy" "Lifeoffice$Policy" "wasPaidUp" "Z") ∈ lw_all := lw_g (lw_at lw_m5 237 rfl) rfl
theorem q1278 : (Jvm.Cond.soleField "Lifeoffice$Policy" "wasPaidUp") ∈ lw_all := lw_g (lw_at lw_m5 238 rfl) rfl
theorem q1279 : (Jvm.Cond.laysFinal "Lifeoffice$Policy" "Lifeoffice$Policy" "this$0" "LLifeoffice;") ∈ lw_all := lw_g (lw_at lw_m5 239 rfl) rfl
theorem q1280 : (Jvm.Cond.soleField "Lifeoffice$Policy" "this$0") ∈ lw_all := lw_g (lw_at lw_m6 0 rfl) rfl
theorem q1281 : (Jvm.Cond.superclass "Lifeoffice$Policy" "java/lang/Object") ∈ lw_all := lw_g (lw_at lw_m6 1 rfl) rfl
theorem q1347 : (Jvm.Cond.selects "Lifeoffice$Policy" ({ cls := "java/lang/Object", name := "getClass", desc := "()Ljava/lang/Class;" } : Jvm.MethodName) ({ cls := "java/lang/Object", name := "getClass", desc := "()Ljava/lang/Class;" } : Jvm.MethodName)) ∈ lw_all := lw_g (lw_at lw_m6 67 rfl) rfl
theorem q1421 : (Jvm.Cond.instanceMethod ({ cls := "Lifeoffice$Policy", name := "surrenderValue", desc := "(I)J" } : Jvm.MethodName)) ∈ lw_all := lw_g (lw_at lw_m6 141 rfl) rfl
theorem q1422 : (Jvm.Cond.selects "Lifeoffice$Policy" ({ cls := "Lifeoffice$Policy", name := "surrenderValue", desc := "(I)J" } : Jvm.MethodName) ({ cls := "Lifeoffice$Policy", name := "surrenderValue", desc := "(I)J" } : Jvm.MethodName)) ∈ lw_all := lw_g (lw_at lw_m6 142 rfl) rfl
theorem q1423 : (Jvm.Cond.code ({ cls := "Lifeoffice$Policy", name := "surrenderValue", desc := "(I)J" } : Jvm.MethodName) prog_8_method_14_code (2 : Nat) (Option.some Jvm.ClassFile.FieldType.long)) ∈ lw_all := lw_g (lw_at lw_m6 143 rfl) rfl
theorem q1424 : (Jvm.Cond.methodLink "Lifeoffice$Policy" (151 : Nat) ({ cls := "Lifeoffice$Policy", name := "reserve", desc := "(LLifeoffice$Law;I)J" } : Jvm.MethodName)) ∈ lw_all := lw_g (lw_at lw_m6 144 rfl) rfl
theorem q1425 : (Jvm.Cond.constantLong "Lifeoffice$Policy" (154 : Nat) (9 : Int64)) ∈ lw_all := lw_g (lw_at lw_m6 145 rfl) rfl
theorem q1426 : (Jvm.Cond.constantLong "Lifeoffice$Policy" (156 : Nat) (10 : Int64)) ∈ lw_all := lw_g (lw_at lw_m6 146 rfl) rfl
theorem q1458 : (Jvm.Cond.instanceMethod ({ cls := "Lifeoffice$Policy", name := "isOpen", desc := "()Z" } : Jvm.MethodName)) ∈ lw_all := lw_g (lw_at lw_m6 178 rfl) rfl
theorem q1459 : (Jvm.Cond.selects "Lifeoffice$Policy" ({ cls := "Lifeoffice$Policy", name := "isOpen", desc := "()Z" } : Jvm.MethodName) ({ cls := "Lifeoffice$Policy", name := "isOpen", desc := "()Z" } : Jvm.MethodName)) ∈ lw_all := lw_g (lw_at lw_m6 179 rfl) rfl
theorem q1460 : (Jvm.Cond.code ({ cls := "Lifeoffice$Policy", name := "isOpen", desc := "()Z" } : Jvm.MethodName) prog_8_method_4_code (1 : Nat) (Option.some Jvm.ClassFile.FieldType.boolean)) ∈ lw_all := lw_g (lw_at lw_m6 180 rfl) rfl
theorem q1478 : (Jvm.Cond.instanceMethod ({ cls := "Lifeoffice$Policy", name := "claim", desc := "()J" } : Jvm.MethodName)) ∈ lw_all := lw_g (lw_at lw_m6 198 rfl) rfl
theorem q1479 : (Jvm.Cond.selects "Lifeoffice$Policy" ({ cls := "Lifeoffice$Policy", name := "claim", desc := "()J" } : Jvm.MethodName) ({ cls := "Lifeoffice$Policy", name := "claim", desc := "()J" } : Jvm.MethodName)) ∈ lw_all := lw_g (lw_at lw_m6 199 rfl) rfl
theorem q1480 : (Jvm.Cond.code ({ cls := "Lifeoffice$Policy", name := "claim", desc := "()J" } : Jvm.MethodName) prog_8_method_16_code (5 : Nat) (Option.some Jvm.ClassFile.FieldType.long)) ∈ lw_all := lw_g (lw_at lw_m6 200 rfl) rfl
theorem q1481 : (Jvm.Cond.methodLink "Lifeoffice$Policy" (164 : Nat) ({ cls := "Lifeoffice$Policy", name := "finalBonus", desc := "()J" } : Jvm.MethodName)) ∈ lw_all := lw_g (lw_at lw_m6 201 rfl) rfl
theorem q1482 : (Jvm.Cond.instanceMethod ({ cls := "Lifeoffice$Policy", name := "finalBonus", desc := "()J" } : Jvm.MethodName)) ∈ lw_all := lw_g (lw_at lw_m6 202 rfl) rfl
theorem q1483 : (Jvm.Cond.selects "Lifeoffice$Policy" ({ cls := "Lifeoffice$Policy", name := "finalBonus", desc := "()J" } : Jvm.MethodName) ({ cls := "Lifeoffice$Policy", name := "finalBonus", desc := "()J" } : Jvm.MethodName)) ∈ lw_all := lw_g (lw_at lw_m6 203 rfl) rfl
theorem q1484 : (Jvm.Cond.code ({ cls := "Lifeoffice$Policy", name := "finalBonus", desc := "()J" } : Jvm.MethodName) prog_8_method_15_code (1 : Nat) (Option.some Jvm.ClassFile.FieldType.long)) ∈ lw_all := lw_g (lw_at lw_m6 204 rfl) rfl
theorem q1687 : (Jvm.Cond.instanceMethod ({ cls := "Lifeoffice$Policy", name := "ceded", desc := "()J" } : Jvm.MethodName)) ∈ lw_all := lw_g (lw_at lw_m7 167 rfl) rfl
theorem q1688 : (Jvm.Cond.selects "Lifeoffice$Policy" ({ cls := "Lifeoffice$Policy", name := "ceded", desc := "()J" } : Jvm.MethodName) ({ cls := "Lifeoffice$Policy", name := "ceded", desc := "()J" } : Jvm.MethodName)) ∈ lw_all := lw_g (lw_at lw_m7 168 rfl) rfl
theorem q1689 : (Jvm.Cond.code ({ cls := "Lifeoffice$Policy", name := "ceded", desc := "()J" } : Jvm.MethodName) prog_8_method_17_code (1 : Nat) (Option.some Jvm.ClassFile.FieldType.long)) ∈ lw_all := lw_g (lw_at lw_m7 169 rfl) rfl
theorem q1690 : (Jvm.Cond.methodLink "Lifeoffice$Policy" (173 : Nat) ({ cls := "java/lang/Math", name := "min", desc := "(JJ)J" } : Jvm.MethodName)) ∈ lw_all := lw_g (lw_at lw_m7 170 rfl) rfl
theorem q1761 : (Jvm.Cond.selects "Lifeoffice$Policy" ({ cls := "java/lang/Object", name := "equals", desc := "(Ljava/lang/Object;)Z" } : Jvm.MethodName) ({ cls := "java/lang/Object", name := "equals", desc := "(Ljava/lang/Object;)Z" } : Jvm.MethodName)) ∈ lw_all := lw_g (lw_at lw_m8 1 rfl) rfl
theorem q1882 : (Jvm.Cond.instanceMethod ({ cls := "Lifeoffice$Policy", name := "maturity", desc := "()J" } : Jvm.MethodName)) ∈ lw_all := lw_g (lw_at lw_m8 122 rfl) rfl
theorem q1883 : (Jvm.Cond.selects "Lifeoffice$Policy" ({ cls := "Lifeoffice$Policy", name := "maturity", desc := "()J" } : Jvm.MethodName) ({ cls := "Lifeoffice$Policy", name := "maturity", desc := "()J" } : Jvm.MethodName)) ∈ lw_all := lw_g (lw_at lw_m8 123 rfl) rfl
theorem q1884 : (Jvm.Cond.code ({ cls := "Lifeoffice$Policy", name := "maturity", desc := "()J" } : Jvm.MethodName) prog_8_method_18_code (1 : Nat) (Option.some Jvm.ClassFile.FieldType.long)) ∈ lw_all := lw_g (lw_at lw_m8 124 rfl) rfl
theorem q2544 : (Jvm.Cond.castable "Lifeoffice$Policy" "java/lang/Object") ∈ lw_tbl := lw_at lw_m11 64 rfl
theorem in_X7 : ∀ w ∈ wsX70, w ∈ lw_all := lw_in wsX70 [1243, 1245, 1247, 1249, 1251, 1253, 1255, 1257, 1259, 1261, 1263, 1265, 1267, 1269, 1271, 1273, 1275, 1277, 1279] (by decide +kernel) (by decide +kernel)
/-! Lifeoffice$Generation -/
set_option maxRecDepth 100000
def RX8 : String := "Lifeoffice$Generation"
def TX8 : u_T := fun k => match k with
  | 0 => ("Lifeoffice$Generation", "policies", "I", false)
  | 1 => ("Lifeoffice$Generation", "premiums", "J", false)
  | _ => ("Lifeoffice$Generation", "payouts", "J", false)
def tyX8 : Nat → FieldType := fun k => match k with
  | 0 => .int
  | 1 => .long
  | _ => .long
abbrev wsX80 : List Cond := u_ws RX8 TX8 3
theorem nmX8 : ∀ a, a < 3 → ∀ b, b < 3 → a ≠ b → (TX8 a).2.1 ≠ (TX8 b).2.1 := by decide +kernel
theorem tyX8_ok : ∀ k, k < 3 → parseFieldDescriptor (TX8 k).2.2.1 = some (tyX8 k) := by decide +kernel
abbrev cX8_init : ByteArray := prog_4_method_1_code
def yX8_init : MethodName := ⟨RX8, "<init>", "()V"⟩
theorem dX8_init_0 : decode cX8_init 0 = .ok (.aload_n 0, 1) := by decide +kernel
theorem dX8_init_1 : decode cX8_init 1 = .ok (.invokespecial 1, 3) := by decide +kernel
theorem dX8_init_4 : decode cX8_init 4 = .ok (.return_, 1) := by decide +kernel
theorem q119 : (Jvm.Cond.initialized "Lifeoffice$Generation") ∈ lw_all := lw_g (lw_at lw_m1 39 rfl) rfl
theorem q1343 : (Jvm.Cond.selects "Lifeoffice$Generation" ({ cls := "java/lang/Object", name := "getClass", desc := "()Ljava/lang/Class;" } : Jvm.MethodName) ({ cls := "java/lang/Object", name := "getClass", desc := "()Ljava/lang/Class;" } : Jvm.MethodName)) ∈ lw_all := lw_g (lw_at lw_m6 63 rfl) rfl
theorem q1386 : (Jvm.Cond.instantiable "Lifeoffice$Generation" (3 : Nat)) ∈ lw_all := lw_g (lw_at lw_m6 106 rfl) rfl
theorem q1388 : (Jvm.Cond.instanceMethod ({ cls := "Lifeoffice$Generation", name := "<init>", desc := "()V" } : Jvm.MethodName)) ∈ lw_all := lw_g (lw_at lw_m6 108 rfl) rfl
theorem q1389 : (Jvm.Cond.code ({ cls := "Lifeoffice$Generation", name := "<init>", desc := "()V" } : Jvm.MethodName) prog_4_method_1_code (1 : Nat) (Option.none : Option Jvm.ClassFile.FieldType)) ∈ lw_all := lw_g (lw_at lw_m6 109 rfl) rfl
theorem q1390 : (Jvm.Cond.methodLink "Lifeoffice$Generation" (1 : Nat) ({ cls := "java/lang/Object", name := "<init>", desc := "()V" } : Jvm.MethodName)) ∈ lw_all := lw_g (lw_at lw_m6 110 rfl) rfl
theorem q1394 : (Jvm.Cond.lays "Lifeoffice$Generation" "Lifeoffice$Generation" "policies" "I") ∈ lw_all := lw_g (lw_at lw_m6 114 rfl) rfl
theorem q1395 : (Jvm.Cond.soleField "Lifeoffice$Generation" "policies") ∈ lw_all := lw_g (lw_at lw_m6 115 rfl) rfl
theorem q1396 : (Jvm.Cond.lays "Lifeoffice$Generation" "Lifeoffice$Generation" "premiums" "J") ∈ lw_all := lw_g (lw_at lw_m6 116 rfl) rfl
theorem q1397 : (Jvm.Cond.soleField "Lifeoffice$Generation" "premiums") ∈ lw_all := lw_g (lw_at lw_m6 117 rfl) rfl
theorem q1398 : (Jvm.Cond.lays "Lifeoffice$Generation" "Lifeoffice$Generation" "payouts" "J") ∈ lw_all := lw_g (lw_at lw_m6 118 rfl) rfl
theorem q1399 : (Jvm.Cond.soleField "Lifeoffice$Generation" "payouts") ∈ lw_all := lw_g (lw_at lw_m6 119 rfl) rfl
theorem q1400 : (Jvm.Cond.superclass "Lifeoffice$Generation" "java/lang/Object") ∈ lw_all := lw_g (lw_at lw_m6 120 rfl) rfl
theorem q1757 : (Jvm.Cond.selects "Lifeoffice$Generation" ({ cls := "java/lang/Object", name := "equals", desc := "(Ljava/lang/Object;)Z" } : Jvm.MethodName) ({ cls := "java/lang/Object", name := "equals", desc := "(Ljava/lang/Object;)Z" } : Jvm.MethodName)) ∈ lw_all := lw_g (lw_at lw_m7 237 rfl) rfl
theorem q2546 : (Jvm.Cond.castable "Lifeoffice$Generation" "java/lang/Object") ∈ lw_tbl := lw_at lw_m11 66 rfl
theorem in_X8 : ∀ w ∈ wsX80, w ∈ lw_all := lw_in wsX80 [1394, 1396, 1398] (by decide +kernel) (by decide +kernel)
/-! Lifeoffice$ByReserve -/
set_option maxRecDepth 100000
def RX9 : String := "Lifeoffice$ByReserve"
def TX9 : u_T := fun k => match k with
  | _ => ("Lifeoffice$ByReserve", "this$0", "LLifeoffice;", true)
def tyX9 : Nat → FieldType := fun k => match k with
  | _ => .object "Lifeoffice"
abbrev wsX90 : List Cond := u_ws RX9 TX9 1
theorem nmX9 : ∀ a, a < 1 → ∀ b, b < 1 → a ≠ b → (TX9 a).2.1 ≠ (TX9 b).2.1 := by decide +kernel
theorem tyX9_ok : ∀ k, k < 1 → parseFieldDescriptor (TX9 k).2.2.1 = some (tyX9 k) := by decide +kernel
abbrev cX9_compare : ByteArray := prog_3_method_3_code
def yX9_compare : MethodName := ⟨RX9, "compare", "(Ljava/lang/Object;Ljava/lang/Object;)I"⟩
def dkwX9_compare_0 : List UInt8 := [42, 43, 192, 0, 24, 44, 192, 0, 24, 182, 0, 43, 172]
abbrev dktX9_compare_0 : List UInt8 := dkwX9_compare_0 ++ []
theorem dksX9_compare_0 : cX9_compare.data.toList.drop 0 = dktX9_compare_0 := by decide +kernel
theorem dX9_compare_0 : decode cX9_compare 0 = .ok (.aload_n 0, 1) := dk_42 (dk_at dksX9_compare_0 0 rfl rfl)
theorem dX9_compare_1 : decode cX9_compare 1 = .ok (.aload_n 1, 1) := dk_43 (dk_at dksX9_compare_0 1 rfl rfl)
theorem dX9_compare_2 : decode cX9_compare 2 = .ok (.checkcast 24, 3) := dk_192 0 24 (dk_at dksX9_compare_0 2 rfl rfl)
theorem dX9_compare_5 : decode cX9_compare 5 = .ok (.aload_n 2, 1) := dk_44 (dk_at dksX9_compare_0 5 rfl rfl)
theorem dX9_compare_6 : decode cX9_compare 6 = .ok (.checkcast 24, 3) := dk_192 0 24 (dk_at dksX9_compare_0 6 rfl rfl)
theorem dX9_compare_9 : decode cX9_compare 9 = .ok (.invokevirtual 43, 3) := dk_182 0 43 (dk_at dksX9_compare_0 9 rfl rfl)
theorem dX9_compare_12 : decode cX9_compare 12 = .ok (.ireturn, 1) := dk_172 (dk_at dksX9_compare_0 12 rfl rfl)
abbrev cX9_compare_2 : ByteArray := prog_3_method_2_code
def yX9_compare_2 : MethodName := ⟨RX9, "compare", "(LLifeoffice$Policy;LLifeoffice$Policy;)I"⟩
def dkwX9_compare_2_2 : List UInt8 := [153, 0, 7, 29, 167, 0, 14, 43, 180, 0, 35, 44, 180, 0, 35, 184, 0, 38, 172]
abbrev dktX9_compare_2_2 : List UInt8 := dkwX9_compare_2_2 ++ []
def dkwX9_compare_2_1 : List UInt8 := [180, 0, 1, 180, 0, 13, 3, 50, 42, 180, 0, 1, 180, 0, 19, 182, 0, 23, 184, 0, 29, 62, 29]
abbrev dktX9_compare_2_1 : List UInt8 := dkwX9_compare_2_1 ++ dktX9_compare_2_2
def dkwX9_compare_2_0 : List UInt8 := [44, 42, 180, 0, 1, 180, 0, 13, 3, 50, 42, 180, 0, 1, 180, 0, 19, 182, 0, 23, 43, 42]
abbrev dktX9_compare_2_0 : List UInt8 := dkwX9_compare_2_0 ++ dktX9_compare_2_1
theorem dksX9_compare_2_0 : cX9_compare_2.data.toList.drop 0 = dktX9_compare_2_0 := by decide +kernel
theorem dksX9_compare_2_1 : cX9_compare_2.data.toList.drop 22 = dktX9_compare_2_1 := dk_seg dksX9_compare_2_0 22 rfl rfl
theorem dksX9_compare_2_2 : cX9_compare_2.data.toList.drop 45 = dktX9_compare_2_2 := dk_seg dksX9_compare_2_1 23 rfl rfl
theorem dX9_compare_2_0 : decode cX9_compare_2 0 = .ok (.aload_n 2, 1) := dk_44 (dk_at dksX9_compare_2_0 0 rfl rfl)
theorem dX9_compare_2_1 : decode cX9_compare_2 1 = .ok (.aload_n 0, 1) := dk_42 (dk_at dksX9_compare_2_0 1 rfl rfl)
theorem dX9_compare_2_2 : decode cX9_compare_2 2 = .ok (.getfield 1, 3) := dk_180 0 1 (dk_at dksX9_compare_2_0 2 rfl rfl)
theorem dX9_compare_2_5 : decode cX9_compare_2 5 = .ok (.getfield 13, 3) := dk_180 0 13 (dk_at dksX9_compare_2_0 5 rfl rfl)
theorem dX9_compare_2_8 : decode cX9_compare_2 8 = .ok (.iconst 0, 1) := dk_3 (dk_at dksX9_compare_2_0 8 rfl rfl)
theorem dX9_compare_2_9 : decode cX9_compare_2 9 = .ok (.aaload, 1) := dk_50 (dk_at dksX9_compare_2_0 9 rfl rfl)
theorem dX9_compare_2_10 : decode cX9_compare_2 10 = .ok (.aload_n 0, 1) := dk_42 (dk_at dksX9_compare_2_0 10 rfl rfl)
theorem dX9_compare_2_11 : decode cX9_compare_2 11 = .ok (.getfield 1, 3) := dk_180 0 1 (dk_at dksX9_compare_2_0 11 rfl rfl)
theorem dX9_compare_2_14 : decode cX9_compare_2 14 = .ok (.getfield 19, 3) := dk_180 0 19 (dk_at dksX9_compare_2_0 14 rfl rfl)
theorem dX9_compare_2_17 : decode cX9_compare_2 17 = .ok (.invokevirtual 23, 3) := dk_182 0 23 (dk_at dksX9_compare_2_0 17 rfl rfl)
theorem dX9_compare_2_20 : decode cX9_compare_2 20 = .ok (.aload_n 1, 1) := dk_43 (dk_at dksX9_compare_2_0 20 rfl rfl)
theorem dX9_compare_2_21 : decode cX9_compare_2 21 = .ok (.aload_n 0, 1) := dk_42 (dk_at dksX9_compare_2_0 21 rfl rfl)
theorem dX9_compare_2_22 : decode cX9_compare_2 22 = .ok (.getfield 1, 3) := dk_180 0 1 (dk_at dksX9_compare_2_1 0 rfl rfl)
theorem dX9_compare_2_25 : decode cX9_compare_2 25 = .ok (.getfield 13, 3) := dk_180 0 13 (dk_at dksX9_compare_2_1 3 rfl rfl)
theorem dX9_compare_2_28 : decode cX9_compare_2 28 = .ok (.iconst 0, 1) := dk_3 (dk_at dksX9_compare_2_1 6 rfl rfl)
theorem dX9_compare_2_29 : decode cX9_compare_2 29 = .ok (.aaload, 1) := dk_50 (dk_at dksX9_compare_2_1 7 rfl rfl)
theorem dX9_compare_2_30 : decode cX9_compare_2 30 = .ok (.aload_n 0, 1) := dk_42 (dk_at dksX9_compare_2_1 8 rfl rfl)
theorem dX9_compare_2_31 : decode cX9_compare_2 31 = .ok (.getfield 1, 3) := dk_180 0 1 (dk_at dksX9_compare_2_1 9 rfl rfl)
theorem dX9_compare_2_34 : decode cX9_compare_2 34 = .ok (.getfield 19, 3) := dk_180 0 19 (dk_at dksX9_compare_2_1 12 rfl rfl)
theorem dX9_compare_2_37 : decode cX9_compare_2 37 = .ok (.invokevirtual 23, 3) := dk_182 0 23 (dk_at dksX9_compare_2_1 15 rfl rfl)
theorem dX9_compare_2_40 : decode cX9_compare_2 40 = .ok (.invokestatic 29, 3) := dk_184 0 29 (dk_at dksX9_compare_2_1 18 rfl rfl)
theorem dX9_compare_2_43 : decode cX9_compare_2 43 = .ok (.istore_n 3, 1) := dk_62 (dk_at dksX9_compare_2_1 21 rfl rfl)
theorem dX9_compare_2_44 : decode cX9_compare_2 44 = .ok (.iload_n 3, 1) := dk_29 (dk_at dksX9_compare_2_1 22 rfl rfl)
theorem dX9_compare_2_45 : decode cX9_compare_2 45 = .ok (.ifCond .eq 7, 3) := dk_153 0 7 (dk_at dksX9_compare_2_2 0 rfl rfl)
theorem dX9_compare_2_48 : decode cX9_compare_2 48 = .ok (.iload_n 3, 1) := dk_29 (dk_at dksX9_compare_2_2 3 rfl rfl)
theorem dX9_compare_2_49 : decode cX9_compare_2 49 = .ok (.goto 14, 3) := dk_167 0 14 (dk_at dksX9_compare_2_2 4 rfl rfl)
theorem dX9_compare_2_52 : decode cX9_compare_2 52 = .ok (.aload_n 1, 1) := dk_43 (dk_at dksX9_compare_2_2 7 rfl rfl)
theorem dX9_compare_2_53 : decode cX9_compare_2 53 = .ok (.getfield 35, 3) := dk_180 0 35 (dk_at dksX9_compare_2_2 8 rfl rfl)
theorem dX9_compare_2_56 : decode cX9_compare_2 56 = .ok (.aload_n 2, 1) := dk_44 (dk_at dksX9_compare_2_2 11 rfl rfl)
theorem dX9_compare_2_57 : decode cX9_compare_2 57 = .ok (.getfield 35, 3) := dk_180 0 35 (dk_at dksX9_compare_2_2 12 rfl rfl)
theorem dX9_compare_2_60 : decode cX9_compare_2 60 = .ok (.invokestatic 38, 3) := dk_184 0 38 (dk_at dksX9_compare_2_2 15 rfl rfl)
theorem dX9_compare_2_63 : decode cX9_compare_2 63 = .ok (.ireturn, 1) := dk_172 (dk_at dksX9_compare_2_2 18 rfl rfl)
abbrev cX9_init : ByteArray := prog_3_method_1_code
def yX9_init : MethodName := ⟨RX9, "<init>", "(LLifeoffice;)V"⟩
def dkwX9_init_0 : List UInt8 := [42, 43, 181, 0, 1, 42, 183, 0, 7, 177]
abbrev dktX9_init_0 : List UInt8 := dkwX9_init_0 ++ []
theorem dksX9_init_0 : cX9_init.data.toList.drop 0 = dktX9_init_0 := by decide +kernel
theorem dX9_init_0 : decode cX9_init 0 = .ok (.aload_n 0, 1) := dk_42 (dk_at dksX9_init_0 0 rfl rfl)
theorem dX9_init_1 : decode cX9_init 1 = .ok (.aload_n 1, 1) := dk_43 (dk_at dksX9_init_0 1 rfl rfl)
theorem dX9_init_2 : decode cX9_init 2 = .ok (.putfield 1, 3) := dk_181 0 1 (dk_at dksX9_init_0 2 rfl rfl)
theorem dX9_init_5 : decode cX9_init 5 = .ok (.aload_n 0, 1) := dk_42 (dk_at dksX9_init_0 5 rfl rfl)
theorem dX9_init_6 : decode cX9_init 6 = .ok (.invokespecial 7, 3) := dk_183 0 7 (dk_at dksX9_init_0 6 rfl rfl)
theorem dX9_init_9 : decode cX9_init 9 = .ok (.return_, 1) := dk_177 (dk_at dksX9_init_0 9 rfl rfl)
theorem q120 : (Jvm.Cond.initialized "Lifeoffice$ByReserve") ∈ lw_all := lw_g (lw_at lw_m1 40 rfl) rfl
theorem q281 : (Jvm.Cond.fieldLinkNest "Lifeoffice$ByReserve" (13 : Nat) "Lifeoffice" "laws" "[LLifeoffice$Law;" "Lifeoffice") ∈ lw_tbl := lw_at lw_m1 201 rfl
theorem q289 : (Jvm.Cond.fieldLinkNest "Lifeoffice$ByReserve" (19 : Nat) "Lifeoffice" "year" "I" "Lifeoffice") ∈ lw_tbl := lw_at lw_m1 209 rfl
theorem q563 : (Jvm.Cond.castable "Lifeoffice$ByReserve" "java/util/Comparator") ∈ lw_tbl := lw_at lw_m3 3 rfl
theorem q564 : (Jvm.Cond.selects "Lifeoffice$ByReserve" ({ cls := "java/util/Comparator", name := "compare", desc := "(Ljava/lang/Object;Ljava/lang/Object;)I" } : Jvm.MethodName) ({ cls := "Lifeoffice$ByReserve", name := "compare", desc := "(Ljava/lang/Object;Ljava/lang/Object;)I" } : Jvm.MethodName)) ∈ lw_all := lw_g (lw_at lw_m3 4 rfl) rfl
theorem q565 : (Jvm.Cond.unhidden "Lifeoffice$ByReserve" "compare" "(Ljava/lang/Object;Ljava/lang/Object;)I") ∈ lw_tbl := lw_at lw_m3 5 rfl
theorem q566 : (Jvm.Cond.instanceMethod ({ cls := "Lifeoffice$ByReserve", name := "compare", desc := "(Ljava/lang/Object;Ljava/lang/Object;)I" } : Jvm.MethodName)) ∈ lw_all := lw_g (lw_at lw_m3 6 rfl) rfl
theorem q567 : (Jvm.Cond.publicMethod ({ cls := "Lifeoffice$ByReserve", name := "compare", desc := "(Ljava/lang/Object;Ljava/lang/Object;)I" } : Jvm.MethodName)) ∈ lw_tbl := lw_at lw_m3 7 rfl
theorem q568 : (Jvm.Cond.code ({ cls := "Lifeoffice$ByReserve", name := "compare", desc := "(Ljava/lang/Object;Ljava/lang/Object;)I" } : Jvm.MethodName) prog_3_method_3_code (3 : Nat) (Option.some Jvm.ClassFile.FieldType.int)) ∈ lw_all := lw_g (lw_at lw_m3 8 rfl) rfl
theorem q569 : (Jvm.Cond.classLink "Lifeoffice$ByReserve" (24 : Nat) "Lifeoffice$Policy") ∈ lw_all := lw_g (lw_at lw_m3 9 rfl) rfl
theorem q570 : (Jvm.Cond.methodLink "Lifeoffice$ByReserve" (43 : Nat) ({ cls := "Lifeoffice$ByReserve", name := "compare", desc := "(LLifeoffice$Policy;LLifeoffice$Policy;)I" } : Jvm.MethodName)) ∈ lw_all := lw_g (lw_at lw_m3 10 rfl) rfl
theorem q571 : (Jvm.Cond.instanceMethod ({ cls := "Lifeoffice$ByReserve", name := "compare", desc := "(LLifeoffice$Policy;LLifeoffice$Policy;)I" } : Jvm.MethodName)) ∈ lw_all := lw_g (lw_at lw_m3 11 rfl) rfl
theorem q572 : (Jvm.Cond.selects "Lifeoffice$ByReserve" ({ cls := "Lifeoffice$ByReserve", name := "compare", desc := "(LLifeoffice$Policy;LLifeoffice$Policy;)I" } : Jvm.MethodName) ({ cls := "Lifeoffice$ByReserve", name := "compare", desc := "(LLifeoffice$Policy;LLifeoffice$Policy;)I" } : Jvm.MethodName)) ∈ lw_all := lw_g (lw_at lw_m3 12 rfl) rfl
theorem q573 : (Jvm.Cond.code ({ cls := "Lifeoffice$ByReserve", name := "compare", desc := "(LLifeoffice$Policy;LLifeoffice$Policy;)I" } : Jvm.MethodName) prog_3_method_2_code (4 : Nat) (Option.some Jvm.ClassFile.FieldType.int)) ∈ lw_all := lw_g (lw_at lw_m3 13 rfl) rfl
theorem q574 : (Jvm.Cond.methodLink "Lifeoffice$ByReserve" (23 : Nat) ({ cls := "Lifeoffice$Policy", name := "reserve", desc := "(LLifeoffice$Law;I)J" } : Jvm.MethodName)) ∈ lw_all := lw_g (lw_at lw_m3 14 rfl) rfl
theorem q575 : (Jvm.Cond.methodLink "Lifeoffice$ByReserve" (29 : Nat) ({ cls := "java/lang/Long", name := "compare", desc := "(JJ)I" } : Jvm.MethodName)) ∈ lw_all := lw_g (lw_at lw_m3 15 rfl) rfl
theorem q578 : (Jvm.Cond.methodLink "Lifeoffice$ByReserve" (38 : Nat) ({ cls := "java/lang/Integer", name := "compare", desc := "(II)I" } : Jvm.MethodName)) ∈ lw_all := lw_g (lw_at lw_m3 18 rfl) rfl
theorem q1210 : (Jvm.Cond.fieldLink "Lifeoffice$ByReserve" (35 : Nat) "Lifeoffice$Policy" "number" "I") ∈ lw_all := lw_g (lw_at lw_m5 170 rfl) rfl
theorem q1342 : (Jvm.Cond.selects "Lifeoffice$ByReserve" ({ cls := "java/lang/Object", name := "getClass", desc := "()Ljava/lang/Class;" } : Jvm.MethodName) ({ cls := "java/lang/Object", name := "getClass", desc := "()Ljava/lang/Class;" } : Jvm.MethodName)) ∈ lw_all := lw_g (lw_at lw_m6 62 rfl) rfl
theorem q1552 : (Jvm.Cond.instantiable "Lifeoffice$ByReserve" (1 : Nat)) ∈ lw_all := lw_g (lw_at lw_m7 32 rfl) rfl
theorem q1554 : (Jvm.Cond.instanceMethod ({ cls := "Lifeoffice$ByReserve", name := "<init>", desc := "(LLifeoffice;)V" } : Jvm.MethodName)) ∈ lw_all := lw_g (lw_at lw_m7 34 rfl) rfl
theorem q1555 : (Jvm.Cond.code ({ cls := "Lifeoffice$ByReserve", name := "<init>", desc := "(LLifeoffice;)V" } : Jvm.MethodName) prog_3_method_1_code (2 : Nat) (Option.none : Option Jvm.ClassFile.FieldType)) ∈ lw_all := lw_g (lw_at lw_m7 35 rfl) rfl
theorem q1556 : (Jvm.Cond.methodLink "Lifeoffice$ByReserve" (7 : Nat) ({ cls := "java/lang/Object", name := "<init>", desc := "()V" } : Jvm.MethodName)) ∈ lw_all := lw_g (lw_at lw_m7 36 rfl) rfl
theorem q1557 : (Jvm.Cond.fieldLink "Lifeoffice$ByReserve" (1 : Nat) "Lifeoffice$ByReserve" "this$0" "LLifeoffice;") ∈ lw_all := lw_g (lw_at lw_m7 37 rfl) rfl
theorem q1558 : (Jvm.Cond.laysFinal "Lifeoffice$ByReserve" "Lifeoffice$ByReserve" "this$0" "LLifeoffice;") ∈ lw_all := lw_g (lw_at lw_m7 38 rfl) rfl
theorem q1559 : (Jvm.Cond.soleField "Lifeoffice$ByReserve" "this$0") ∈ lw_all := lw_g (lw_at lw_m7 39 rfl) rfl
theorem q1560 : (Jvm.Cond.superclass "Lifeoffice$ByReserve" "java/lang/Object") ∈ lw_all := lw_g (lw_at lw_m7 40 rfl) rfl
theorem q1756 : (Jvm.Cond.selects "Lifeoffice$ByReserve" ({ cls := "java/lang/Object", name := "equals", desc := "(Ljava/lang/Object;)Z" } : Jvm.MethodName) ({ cls := "java/lang/Object", name := "equals", desc := "(Ljava/lang/Object;)Z" } : Jvm.MethodName)) ∈ lw_all := lw_g (lw_at lw_m7 236 rfl) rfl
theorem q2547 : (Jvm.Cond.castable "Lifeoffice$ByReserve" "java/lang/Object") ∈ lw_tbl := lw_at lw_m11 67 rfl
theorem in_X9 : ∀ w ∈ wsX90, w ∈ lw_all := lw_in wsX90 [1558] (by decide +kernel) (by decide +kernel)
/-! Lifeoffice$Bond -/
set_option maxRecDepth 100000
def RX10 : String := "Lifeoffice$Bond"
def TX10 : u_T := fun k => match k with
  | 0 => ("Lifeoffice$Bond", "number", "I", true)
  | 1 => ("Lifeoffice$Bond", "rate", "I", true)
  | 2 => ("Lifeoffice$Bond", "years", "I", false)
  | _ => ("Lifeoffice$Bond", "nominal", "J", false)
def tyX10 : Nat → FieldType := fun k => match k with
  | 0 => .int
  | 1 => .int
  | 2 => .int
  | _ => .long
abbrev wsX100 : List Cond := u_ws RX10 TX10 4
theorem nmX10 : ∀ a, a < 4 → ∀ b, b < 4 → a ≠ b → (TX10 a).2.1 ≠ (TX10 b).2.1 := by decide +kernel
theorem tyX10_ok : ∀ k, k < 4 → parseFieldDescriptor (TX10 k).2.2.1 = some (tyX10 k) := by decide +kernel
abbrev cX10_compareTo : ByteArray := prog_2_method_4_code
def yX10_compareTo : MethodName := ⟨RX10, "compareTo", "(Ljava/lang/Object;)I"⟩
def dkwX10_compareTo_0 : List UInt8 := [42, 43, 192, 0, 8, 182, 0, 37, 172]
abbrev dktX10_compareTo_0 : List UInt8 := dkwX10_compareTo_0 ++ []
theorem dksX10_compareTo_0 : cX10_compareTo.data.toList.drop 0 = dktX10_compareTo_0 := by decide +kernel
theorem dX10_compareTo_0 : decode cX10_compareTo 0 = .ok (.aload_n 0, 1) := dk_42 (dk_at dksX10_compareTo_0 0 rfl rfl)
theorem dX10_compareTo_1 : decode cX10_compareTo 1 = .ok (.aload_n 1, 1) := dk_43 (dk_at dksX10_compareTo_0 1 rfl rfl)
theorem dX10_compareTo_2 : decode cX10_compareTo 2 = .ok (.checkcast 8, 3) := dk_192 0 8 (dk_at dksX10_compareTo_0 2 rfl rfl)
theorem dX10_compareTo_5 : decode cX10_compareTo 5 = .ok (.invokevirtual 37, 3) := dk_182 0 37 (dk_at dksX10_compareTo_0 5 rfl rfl)
theorem dX10_compareTo_8 : decode cX10_compareTo 8 = .ok (.ireturn, 1) := dk_172 (dk_at dksX10_compareTo_0 8 rfl rfl)
abbrev cX10_compareTo_2 : ByteArray := prog_2_method_3_code
def yX10_compareTo_2 : MethodName := ⟨RX10, "compareTo", "(LLifeoffice$Bond;)I"⟩
def dkwX10_compareTo_2_1 : List UInt8 := [167, 0, 14, 42, 180, 0, 7, 43, 180, 0, 7, 184, 0, 31, 172]
abbrev dktX10_compareTo_2_1 : List UInt8 := dkwX10_compareTo_2_1 ++ []
def dkwX10_compareTo_2_0 : List UInt8 := [42, 180, 0, 13, 43, 180, 0, 13, 159, 0, 17, 42, 180, 0, 13, 43, 180, 0, 13, 184, 0, 31]
abbrev dktX10_compareTo_2_0 : List UInt8 := dkwX10_compareTo_2_0 ++ dktX10_compareTo_2_1
theorem dksX10_compareTo_2_0 : cX10_compareTo_2.data.toList.drop 0 = dktX10_compareTo_2_0 := by decide +kernel
theorem dksX10_compareTo_2_1 : cX10_compareTo_2.data.toList.drop 22 = dktX10_compareTo_2_1 := dk_seg dksX10_compareTo_2_0 22 rfl rfl
theorem dX10_compareTo_2_0 : decode cX10_compareTo_2 0 = .ok (.aload_n 0, 1) := dk_42 (dk_at dksX10_compareTo_2_0 0 rfl rfl)
theorem dX10_compareTo_2_1 : decode cX10_compareTo_2 1 = .ok (.getfield 13, 3) := dk_180 0 13 (dk_at dksX10_compareTo_2_0 1 rfl rfl)
theorem dX10_compareTo_2_4 : decode cX10_compareTo_2 4 = .ok (.aload_n 1, 1) := dk_43 (dk_at dksX10_compareTo_2_0 4 rfl rfl)
theorem dX10_compareTo_2_5 : decode cX10_compareTo_2 5 = .ok (.getfield 13, 3) := dk_180 0 13 (dk_at dksX10_compareTo_2_0 5 rfl rfl)
theorem dX10_compareTo_2_8 : decode cX10_compareTo_2 8 = .ok (.if_icmp .eq 17, 3) := dk_159 0 17 (dk_at dksX10_compareTo_2_0 8 rfl rfl)
theorem dX10_compareTo_2_11 : decode cX10_compareTo_2 11 = .ok (.aload_n 0, 1) := dk_42 (dk_at dksX10_compareTo_2_0 11 rfl rfl)
theorem dX10_compareTo_2_12 : decode cX10_compareTo_2 12 = .ok (.getfield 13, 3) := dk_180 0 13 (dk_at dksX10_compareTo_2_0 12 rfl rfl)
theorem dX10_compareTo_2_15 : decode cX10_compareTo_2 15 = .ok (.aload_n 1, 1) := dk_43 (dk_at dksX10_compareTo_2_0 15 rfl rfl)
theorem dX10_compareTo_2_16 : decode cX10_compareTo_2 16 = .ok (.getfield 13, 3) := dk_180 0 13 (dk_at dksX10_compareTo_2_0 16 rfl rfl)
theorem dX10_compareTo_2_19 : decode cX10_compareTo_2 19 = .ok (.invokestatic 31, 3) := dk_184 0 31 (dk_at dksX10_compareTo_2_0 19 rfl rfl)
theorem dX10_compareTo_2_22 : decode cX10_compareTo_2 22 = .ok (.goto 14, 3) := dk_167 0 14 (dk_at dksX10_compareTo_2_1 0 rfl rfl)
theorem dX10_compareTo_2_25 : decode cX10_compareTo_2 25 = .ok (.aload_n 0, 1) := dk_42 (dk_at dksX10_compareTo_2_1 3 rfl rfl)
theorem dX10_compareTo_2_26 : decode cX10_compareTo_2 26 = .ok (.getfield 7, 3) := dk_180 0 7 (dk_at dksX10_compareTo_2_1 4 rfl rfl)
theorem dX10_compareTo_2_29 : decode cX10_compareTo_2 29 = .ok (.aload_n 1, 1) := dk_43 (dk_at dksX10_compareTo_2_1 7 rfl rfl)
theorem dX10_compareTo_2_30 : decode cX10_compareTo_2 30 = .ok (.getfield 7, 3) := dk_180 0 7 (dk_at dksX10_compareTo_2_1 8 rfl rfl)
theorem dX10_compareTo_2_33 : decode cX10_compareTo_2 33 = .ok (.invokestatic 31, 3) := dk_184 0 31 (dk_at dksX10_compareTo_2_1 11 rfl rfl)
theorem dX10_compareTo_2_36 : decode cX10_compareTo_2 36 = .ok (.ireturn, 1) := dk_172 (dk_at dksX10_compareTo_2_1 14 rfl rfl)
abbrev cX10_interest : ByteArray := prog_2_method_2_code
def yX10_interest : MethodName := ⟨RX10, "interest", "()J"⟩
def dkwX10_interest_0 : List UInt8 := [42, 180, 0, 16, 42, 180, 0, 20, 133, 105, 20, 0, 23, 184, 0, 25, 173]
abbrev dktX10_interest_0 : List UInt8 := dkwX10_interest_0 ++ []
theorem dksX10_interest_0 : cX10_interest.data.toList.drop 0 = dktX10_interest_0 := by decide +kernel
theorem dX10_interest_0 : decode cX10_interest 0 = .ok (.aload_n 0, 1) := dk_42 (dk_at dksX10_interest_0 0 rfl rfl)
theorem dX10_interest_1 : decode cX10_interest 1 = .ok (.getfield 16, 3) := dk_180 0 16 (dk_at dksX10_interest_0 1 rfl rfl)
theorem dX10_interest_4 : decode cX10_interest 4 = .ok (.aload_n 0, 1) := dk_42 (dk_at dksX10_interest_0 4 rfl rfl)
theorem dX10_interest_5 : decode cX10_interest 5 = .ok (.getfield 20, 3) := dk_180 0 20 (dk_at dksX10_interest_0 5 rfl rfl)
theorem dX10_interest_8 : decode cX10_interest 8 = .ok (.i2l, 1) := dk_133 (dk_at dksX10_interest_0 8 rfl rfl)
theorem dX10_interest_9 : decode cX10_interest 9 = .ok (.lmul, 1) := dk_105 (dk_at dksX10_interest_0 9 rfl rfl)
theorem dX10_interest_10 : decode cX10_interest 10 = .ok (.ldc2_w 23, 3) := dk_20 0 23 (dk_at dksX10_interest_0 10 rfl rfl)
theorem dX10_interest_13 : decode cX10_interest 13 = .ok (.invokestatic 25, 3) := dk_184 0 25 (dk_at dksX10_interest_0 13 rfl rfl)
theorem dX10_interest_16 : decode cX10_interest 16 = .ok (.lreturn, 1) := dk_173 (dk_at dksX10_interest_0 16 rfl rfl)
abbrev cX10_init : ByteArray := prog_2_method_1_code
def yX10_init : MethodName := ⟨RX10, "<init>", "(IIJI)V"⟩
def dkwX10_init_1 : List UInt8 := [181, 0, 20, 177]
abbrev dktX10_init_1 : List UInt8 := dkwX10_init_1 ++ []
def dkwX10_init_0 : List UInt8 := [42, 183, 0, 1, 42, 27, 181, 0, 7, 42, 28, 181, 0, 13, 42, 33, 181, 0, 16, 42, 21, 5]
abbrev dktX10_init_0 : List UInt8 := dkwX10_init_0 ++ dktX10_init_1
theorem dksX10_init_0 : cX10_init.data.toList.drop 0 = dktX10_init_0 := by decide +kernel
theorem dksX10_init_1 : cX10_init.data.toList.drop 22 = dktX10_init_1 := dk_seg dksX10_init_0 22 rfl rfl
theorem dX10_init_0 : decode cX10_init 0 = .ok (.aload_n 0, 1) := dk_42 (dk_at dksX10_init_0 0 rfl rfl)
theorem dX10_init_1 : decode cX10_init 1 = .ok (.invokespecial 1, 3) := dk_183 0 1 (dk_at dksX10_init_0 1 rfl rfl)
theorem dX10_init_4 : decode cX10_init 4 = .ok (.aload_n 0, 1) := dk_42 (dk_at dksX10_init_0 4 rfl rfl)
theorem dX10_init_5 : decode cX10_init 5 = .ok (.iload_n 1, 1) := dk_27 (dk_at dksX10_init_0 5 rfl rfl)
theorem dX10_init_6 : decode cX10_init 6 = .ok (.putfield 7, 3) := dk_181 0 7 (dk_at dksX10_init_0 6 rfl rfl)
theorem dX10_init_9 : decode cX10_init 9 = .ok (.aload_n 0, 1) := dk_42 (dk_at dksX10_init_0 9 rfl rfl)
theorem dX10_init_10 : decode cX10_init 10 = .ok (.iload_n 2, 1) := dk_28 (dk_at dksX10_init_0 10 rfl rfl)
theorem dX10_init_11 : decode cX10_init 11 = .ok (.putfield 13, 3) := dk_181 0 13 (dk_at dksX10_init_0 11 rfl rfl)
theorem dX10_init_14 : decode cX10_init 14 = .ok (.aload_n 0, 1) := dk_42 (dk_at dksX10_init_0 14 rfl rfl)
theorem dX10_init_15 : decode cX10_init 15 = .ok (.lload_n 3, 1) := dk_33 (dk_at dksX10_init_0 15 rfl rfl)
theorem dX10_init_16 : decode cX10_init 16 = .ok (.putfield 16, 3) := dk_181 0 16 (dk_at dksX10_init_0 16 rfl rfl)
theorem dX10_init_19 : decode cX10_init 19 = .ok (.aload_n 0, 1) := dk_42 (dk_at dksX10_init_0 19 rfl rfl)
theorem dX10_init_20 : decode cX10_init 20 = .ok (.iload 5, 2) := dk_21 5 (dk_at dksX10_init_0 20 rfl rfl)
theorem dX10_init_22 : decode cX10_init 22 = .ok (.putfield 20, 3) := dk_181 0 20 (dk_at dksX10_init_1 0 rfl rfl)
theorem dX10_init_25 : decode cX10_init 25 = .ok (.return_, 1) := dk_177 (dk_at dksX10_init_1 3 rfl rfl)
theorem q121 : (Jvm.Cond.initialized "Lifeoffice$Bond") ∈ lw_all := lw_g (lw_at lw_m1 41 rfl) rfl
theorem q589 : (Jvm.Cond.castable "Lifeoffice$Bond" "java/lang/Comparable") ∈ lw_tbl := lw_at lw_m3 29 rfl
theorem q590 : (Jvm.Cond.selects "Lifeoffice$Bond" ({ cls := "java/lang/Comparable", name := "compareTo", desc := "(Ljava/lang/Object;)I" } : Jvm.MethodName) ({ cls := "Lifeoffice$Bond", name := "compareTo", desc := "(Ljava/lang/Object;)I" } : Jvm.MethodName)) ∈ lw_all := lw_g (lw_at lw_m3 30 rfl) rfl
theorem q591 : (Jvm.Cond.unhidden "Lifeoffice$Bond" "compareTo" "(Ljava/lang/Object;)I") ∈ lw_tbl := lw_at lw_m3 31 rfl
theorem q592 : (Jvm.Cond.instanceMethod ({ cls := "Lifeoffice$Bond", name := "compareTo", desc := "(Ljava/lang/Object;)I" } : Jvm.MethodName)) ∈ lw_all := lw_g (lw_at lw_m3 32 rfl) rfl
theorem q593 : (Jvm.Cond.publicMethod ({ cls := "Lifeoffice$Bond", name := "compareTo", desc := "(Ljava/lang/Object;)I" } : Jvm.MethodName)) ∈ lw_tbl := lw_at lw_m3 33 rfl
theorem q594 : (Jvm.Cond.code ({ cls := "Lifeoffice$Bond", name := "compareTo", desc := "(Ljava/lang/Object;)I" } : Jvm.MethodName) prog_2_method_4_code (2 : Nat) (Option.some Jvm.ClassFile.FieldType.int)) ∈ lw_all := lw_g (lw_at lw_m3 34 rfl) rfl
theorem q595 : (Jvm.Cond.classLink "Lifeoffice$Bond" (8 : Nat) "Lifeoffice$Bond") ∈ lw_all := lw_g (lw_at lw_m3 35 rfl) rfl
theorem q596 : (Jvm.Cond.methodLink "Lifeoffice$Bond" (37 : Nat) ({ cls := "Lifeoffice$Bond", name := "compareTo", desc := "(LLifeoffice$Bond;)I" } : Jvm.MethodName)) ∈ lw_all := lw_g (lw_at lw_m3 36 rfl) rfl
theorem q597 : (Jvm.Cond.instanceMethod ({ cls := "Lifeoffice$Bond", name := "compareTo", desc := "(LLifeoffice$Bond;)I" } : Jvm.MethodName)) ∈ lw_all := lw_g (lw_at lw_m3 37 rfl) rfl
theorem q598 : (Jvm.Cond.selects "Lifeoffice$Bond" ({ cls := "Lifeoffice$Bond", name := "compareTo", desc := "(LLifeoffice$Bond;)I" } : Jvm.MethodName) ({ cls := "Lifeoffice$Bond", name := "compareTo", desc := "(LLifeoffice$Bond;)I" } : Jvm.MethodName)) ∈ lw_all := lw_g (lw_at lw_m3 38 rfl) rfl
theorem q599 : (Jvm.Cond.code ({ cls := "Lifeoffice$Bond", name := "compareTo", desc := "(LLifeoffice$Bond;)I" } : Jvm.MethodName) prog_2_method_3_code (2 : Nat) (Option.some Jvm.ClassFile.FieldType.int)) ∈ lw_all := lw_g (lw_at lw_m3 39 rfl) rfl
theorem q600 : (Jvm.Cond.methodLink "Lifeoffice$Bond" (31 : Nat) ({ cls := "java/lang/Integer", name := "compare", desc := "(II)I" } : Jvm.MethodName)) ∈ lw_all := lw_g (lw_at lw_m3 40 rfl) rfl
theorem q952 : (Jvm.Cond.instanceMethod ({ cls := "Lifeoffice$Bond", name := "interest", desc := "()J" } : Jvm.MethodName)) ∈ lw_all := lw_g (lw_at lw_m4 152 rfl) rfl
theorem q953 : (Jvm.Cond.selects "Lifeoffice$Bond" ({ cls := "Lifeoffice$Bond", name := "interest", desc := "()J" } : Jvm.MethodName) ({ cls := "Lifeoffice$Bond", name := "interest", desc := "()J" } : Jvm.MethodName)) ∈ lw_all := lw_g (lw_at lw_m4 153 rfl) rfl
theorem q954 : (Jvm.Cond.code ({ cls := "Lifeoffice$Bond", name := "interest", desc := "()J" } : Jvm.MethodName) prog_2_method_2_code (1 : Nat) (Option.some Jvm.ClassFile.FieldType.long)) ∈ lw_all := lw_g (lw_at lw_m4 154 rfl) rfl
theorem q955 : (Jvm.Cond.constantLong "Lifeoffice$Bond" (23 : Nat) (1000 : Int64)) ∈ lw_all := lw_g (lw_at lw_m4 155 rfl) rfl
theorem q956 : (Jvm.Cond.methodLinkNest "Lifeoffice$Bond" (25 : Nat) ({ cls := "Lifeoffice", name := "down", desc := "(JJ)J" } : Jvm.MethodName) "Lifeoffice") ∈ lw_tbl := lw_at lw_m4 156 rfl
theorem q1341 : (Jvm.Cond.selects "Lifeoffice$Bond" ({ cls := "java/lang/Object", name := "getClass", desc := "()Ljava/lang/Class;" } : Jvm.MethodName) ({ cls := "java/lang/Object", name := "getClass", desc := "()Ljava/lang/Class;" } : Jvm.MethodName)) ∈ lw_all := lw_g (lw_at lw_m6 61 rfl) rfl
theorem q1629 : (Jvm.Cond.instantiable "Lifeoffice$Bond" (4 : Nat)) ∈ lw_all := lw_g (lw_at lw_m7 109 rfl) rfl
theorem q1631 : (Jvm.Cond.instanceMethod ({ cls := "Lifeoffice$Bond", name := "<init>", desc := "(IIJI)V" } : Jvm.MethodName)) ∈ lw_all := lw_g (lw_at lw_m7 111 rfl) rfl
theorem q1632 : (Jvm.Cond.code ({ cls := "Lifeoffice$Bond", name := "<init>", desc := "(IIJI)V" } : Jvm.MethodName) prog_2_method_1_code (6 : Nat) (Option.none : Option Jvm.ClassFile.FieldType)) ∈ lw_all := lw_g (lw_at lw_m7 112 rfl) rfl
theorem q1633 : (Jvm.Cond.methodLink "Lifeoffice$Bond" (1 : Nat) ({ cls := "java/lang/Object", name := "<init>", desc := "()V" } : Jvm.MethodName)) ∈ lw_all := lw_g (lw_at lw_m7 113 rfl) rfl
theorem q1634 : (Jvm.Cond.fieldLink "Lifeoffice$Bond" (7 : Nat) "Lifeoffice$Bond" "number" "I") ∈ lw_all := lw_g (lw_at lw_m7 114 rfl) rfl
theorem q1635 : (Jvm.Cond.fieldLink "Lifeoffice$Bond" (20 : Nat) "Lifeoffice$Bond" "rate" "I") ∈ lw_all := lw_g (lw_at lw_m7 115 rfl) rfl
theorem q1637 : (Jvm.Cond.fieldLink "Lifeoffice$Bond" (13 : Nat) "Lifeoffice$Bond" "years" "I") ∈ lw_all := lw_g (lw_at lw_m7 117 rfl) rfl
theorem q1639 : (Jvm.Cond.fieldLink "Lifeoffice$Bond" (16 : Nat) "Lifeoffice$Bond" "nominal" "J") ∈ lw_all := lw_g (lw_at lw_m7 119 rfl) rfl
theorem q1641 : (Jvm.Cond.laysFinal "Lifeoffice$Bond" "Lifeoffice$Bond" "number" "I") ∈ lw_all := lw_g (lw_at lw_m7 121 rfl) rfl
theorem q1642 : (Jvm.Cond.soleField "Lifeoffice$Bond" "number") ∈ lw_all := lw_g (lw_at lw_m7 122 rfl) rfl
theorem q1643 : (Jvm.Cond.laysFinal "Lifeoffice$Bond" "Lifeoffice$Bond" "rate" "I") ∈ lw_all := lw_g (lw_at lw_m7 123 rfl) rfl
theorem q1644 : (Jvm.Cond.soleField "Lifeoffice$Bond" "rate") ∈ lw_all := lw_g (lw_at lw_m7 124 rfl) rfl
theorem q1645 : (Jvm.Cond.lays "Lifeoffice$Bond" "Lifeoffice$Bond" "years" "I") ∈ lw_all := lw_g (lw_at lw_m7 125 rfl) rfl
theorem q1646 : (Jvm.Cond.soleField "Lifeoffice$Bond" "years") ∈ lw_all := lw_g (lw_at lw_m7 126 rfl) rfl
theorem q1647 : (Jvm.Cond.lays "Lifeoffice$Bond" "Lifeoffice$Bond" "nominal" "J") ∈ lw_all := lw_g (lw_at lw_m7 127 rfl) rfl
theorem q1648 : (Jvm.Cond.soleField "Lifeoffice$Bond" "nominal") ∈ lw_all := lw_g (lw_at lw_m7 128 rfl) rfl
theorem q1649 : (Jvm.Cond.superclass "Lifeoffice$Bond" "java/lang/Object") ∈ lw_all := lw_g (lw_at lw_m7 129 rfl) rfl
theorem q1755 : (Jvm.Cond.selects "Lifeoffice$Bond" ({ cls := "java/lang/Object", name := "equals", desc := "(Ljava/lang/Object;)Z" } : Jvm.MethodName) ({ cls := "java/lang/Object", name := "equals", desc := "(Ljava/lang/Object;)Z" } : Jvm.MethodName)) ∈ lw_all := lw_g (lw_at lw_m7 235 rfl) rfl
theorem q2548 : (Jvm.Cond.castable "Lifeoffice$Bond" "java/lang/Object") ∈ lw_tbl := lw_at lw_m11 68 rfl
theorem in_X10 : ∀ w ∈ wsX100, w ∈ lw_all := lw_in wsX100 [1641, 1643, 1645, 1647] (by decide +kernel) (by decide +kernel)
/-! Lifeoffice$Years -/
set_option maxRecDepth 100000
def RX11 : String := "Lifeoffice$Years"
def TX11 : u_T := fun k => match k with
  | 0 => ("Lifeoffice$Years", "end", "I", true)
  | _ => ("Lifeoffice$Years", "next", "I", false)
def tyX11 : Nat → FieldType := fun k => match k with
  | 0 => .int
  | _ => .int
abbrev wsX110 : List Cond := u_ws RX11 TX11 2
theorem nmX11 : ∀ a, a < 2 → ∀ b, b < 2 → a ≠ b → (TX11 a).2.1 ≠ (TX11 b).2.1 := by decide +kernel
theorem tyX11_ok : ∀ k, k < 2 → parseFieldDescriptor (TX11 k).2.2.1 = some (tyX11 k) := by decide +kernel
abbrev cX11_hasNext : ByteArray := prog_10_method_3_code
def yX11_hasNext : MethodName := ⟨RX11, "hasNext", "()Z"⟩
def dkwX11_hasNext_0 : List UInt8 := [42, 180, 0, 7, 42, 180, 0, 13, 162, 0, 7, 4, 167, 0, 4, 3, 172]
abbrev dktX11_hasNext_0 : List UInt8 := dkwX11_hasNext_0 ++ []
theorem dksX11_hasNext_0 : cX11_hasNext.data.toList.drop 0 = dktX11_hasNext_0 := by decide +kernel
theorem dX11_hasNext_0 : decode cX11_hasNext 0 = .ok (.aload_n 0, 1) := dk_42 (dk_at dksX11_hasNext_0 0 rfl rfl)
theorem dX11_hasNext_1 : decode cX11_hasNext 1 = .ok (.getfield 7, 3) := dk_180 0 7 (dk_at dksX11_hasNext_0 1 rfl rfl)
theorem dX11_hasNext_4 : decode cX11_hasNext 4 = .ok (.aload_n 0, 1) := dk_42 (dk_at dksX11_hasNext_0 4 rfl rfl)
theorem dX11_hasNext_5 : decode cX11_hasNext 5 = .ok (.getfield 13, 3) := dk_180 0 13 (dk_at dksX11_hasNext_0 5 rfl rfl)
theorem dX11_hasNext_8 : decode cX11_hasNext 8 = .ok (.if_icmp .ge 7, 3) := dk_162 0 7 (dk_at dksX11_hasNext_0 8 rfl rfl)
theorem dX11_hasNext_11 : decode cX11_hasNext 11 = .ok (.iconst 1, 1) := dk_4 (dk_at dksX11_hasNext_0 11 rfl rfl)
theorem dX11_hasNext_12 : decode cX11_hasNext 12 = .ok (.goto 4, 3) := dk_167 0 4 (dk_at dksX11_hasNext_0 12 rfl rfl)
theorem dX11_hasNext_15 : decode cX11_hasNext 15 = .ok (.iconst 0, 1) := dk_3 (dk_at dksX11_hasNext_0 15 rfl rfl)
theorem dX11_hasNext_16 : decode cX11_hasNext 16 = .ok (.ireturn, 1) := dk_172 (dk_at dksX11_hasNext_0 16 rfl rfl)
abbrev cX11_next : ByteArray := prog_10_method_5_code
def yX11_next : MethodName := ⟨RX11, "next", "()Ljava/lang/Object;"⟩
theorem dX11_next_0 : decode cX11_next 0 = .ok (.aload_n 0, 1) := by decide +kernel
theorem dX11_next_1 : decode cX11_next 1 = .ok (.invokevirtual 29, 3) := by decide +kernel
theorem dX11_next_4 : decode cX11_next 4 = .ok (.areturn, 1) := by decide +kernel
abbrev cX11_next_2 : ByteArray := prog_10_method_4_code
def yX11_next_2 : MethodName := ⟨RX11, "next", "()Ljava/lang/Integer;"⟩
def dkwX11_next_2_1 : List UInt8 := [181, 0, 7, 184, 0, 23, 176]
abbrev dktX11_next_2_1 : List UInt8 := dkwX11_next_2_1 ++ []
def dkwX11_next_2_0 : List UInt8 := [42, 182, 0, 16, 154, 0, 11, 187, 0, 20, 89, 183, 0, 22, 191, 42, 89, 180, 0, 7, 90, 4, 96]
abbrev dktX11_next_2_0 : List UInt8 := dkwX11_next_2_0 ++ dktX11_next_2_1
theorem dksX11_next_2_0 : cX11_next_2.data.toList.drop 0 = dktX11_next_2_0 := by decide +kernel
theorem dksX11_next_2_1 : cX11_next_2.data.toList.drop 23 = dktX11_next_2_1 := dk_seg dksX11_next_2_0 23 rfl rfl
theorem dX11_next_2_0 : decode cX11_next_2 0 = .ok (.aload_n 0, 1) := dk_42 (dk_at dksX11_next_2_0 0 rfl rfl)
theorem dX11_next_2_1 : decode cX11_next_2 1 = .ok (.invokevirtual 16, 3) := dk_182 0 16 (dk_at dksX11_next_2_0 1 rfl rfl)
theorem dX11_next_2_4 : decode cX11_next_2 4 = .ok (.ifCond .ne 11, 3) := dk_154 0 11 (dk_at dksX11_next_2_0 4 rfl rfl)
theorem dX11_next_2_7 : decode cX11_next_2 7 = .ok (.new 20, 3) := dk_187 0 20 (dk_at dksX11_next_2_0 7 rfl rfl)
theorem dX11_next_2_10 : decode cX11_next_2 10 = .ok (.dup, 1) := dk_89 (dk_at dksX11_next_2_0 10 rfl rfl)
theorem dX11_next_2_11 : decode cX11_next_2 11 = .ok (.invokespecial 22, 3) := dk_183 0 22 (dk_at dksX11_next_2_0 11 rfl rfl)
theorem dX11_next_2_14 : decode cX11_next_2 14 = .ok (.athrow, 1) := dk_191 (dk_at dksX11_next_2_0 14 rfl rfl)
theorem dX11_next_2_15 : decode cX11_next_2 15 = .ok (.aload_n 0, 1) := dk_42 (dk_at dksX11_next_2_0 15 rfl rfl)
theorem dX11_next_2_16 : decode cX11_next_2 16 = .ok (.dup, 1) := dk_89 (dk_at dksX11_next_2_0 16 rfl rfl)
theorem dX11_next_2_17 : decode cX11_next_2 17 = .ok (.getfield 7, 3) := dk_180 0 7 (dk_at dksX11_next_2_0 17 rfl rfl)
theorem dX11_next_2_20 : decode cX11_next_2 20 = .ok (.dup_x1, 1) := dk_90 (dk_at dksX11_next_2_0 20 rfl rfl)
theorem dX11_next_2_21 : decode cX11_next_2 21 = .ok (.iconst 1, 1) := dk_4 (dk_at dksX11_next_2_0 21 rfl rfl)
theorem dX11_next_2_22 : decode cX11_next_2 22 = .ok (.iadd, 1) := dk_96 (dk_at dksX11_next_2_0 22 rfl rfl)
theorem dX11_next_2_23 : decode cX11_next_2 23 = .ok (.putfield 7, 3) := dk_181 0 7 (dk_at dksX11_next_2_1 0 rfl rfl)
theorem dX11_next_2_26 : decode cX11_next_2 26 = .ok (.invokestatic 23, 3) := dk_184 0 23 (dk_at dksX11_next_2_1 3 rfl rfl)
theorem dX11_next_2_29 : decode cX11_next_2 29 = .ok (.areturn, 1) := dk_176 (dk_at dksX11_next_2_1 6 rfl rfl)
abbrev cX11_init : ByteArray := prog_10_method_1_code
def yX11_init : MethodName := ⟨RX11, "<init>", "(II)V"⟩
def dkwX11_init_0 : List UInt8 := [42, 183, 0, 1, 42, 27, 181, 0, 7, 42, 28, 181, 0, 13, 177]
abbrev dktX11_init_0 : List UInt8 := dkwX11_init_0 ++ []
theorem dksX11_init_0 : cX11_init.data.toList.drop 0 = dktX11_init_0 := by decide +kernel
theorem dX11_init_0 : decode cX11_init 0 = .ok (.aload_n 0, 1) := dk_42 (dk_at dksX11_init_0 0 rfl rfl)
theorem dX11_init_1 : decode cX11_init 1 = .ok (.invokespecial 1, 3) := dk_183 0 1 (dk_at dksX11_init_0 1 rfl rfl)
theorem dX11_init_4 : decode cX11_init 4 = .ok (.aload_n 0, 1) := dk_42 (dk_at dksX11_init_0 4 rfl rfl)
theorem dX11_init_5 : decode cX11_init 5 = .ok (.iload_n 1, 1) := dk_27 (dk_at dksX11_init_0 5 rfl rfl)
theorem dX11_init_6 : decode cX11_init 6 = .ok (.putfield 7, 3) := dk_181 0 7 (dk_at dksX11_init_0 6 rfl rfl)
theorem dX11_init_9 : decode cX11_init 9 = .ok (.aload_n 0, 1) := dk_42 (dk_at dksX11_init_0 9 rfl rfl)
theorem dX11_init_10 : decode cX11_init 10 = .ok (.iload_n 2, 1) := dk_28 (dk_at dksX11_init_0 10 rfl rfl)
theorem dX11_init_11 : decode cX11_init 11 = .ok (.putfield 13, 3) := dk_181 0 13 (dk_at dksX11_init_0 11 rfl rfl)
theorem dX11_init_14 : decode cX11_init 14 = .ok (.return_, 1) := dk_177 (dk_at dksX11_init_0 14 rfl rfl)
abbrev cX11_iterator : ByteArray := prog_10_method_2_code
def yX11_iterator : MethodName := ⟨RX11, "iterator", "()Ljava/util/Iterator;"⟩
theorem dX11_iterator_0 : decode cX11_iterator 0 = .ok (.aload_n 0, 1) := by decide +kernel
theorem dX11_iterator_1 : decode cX11_iterator 1 = .ok (.areturn, 1) := by decide +kernel
theorem q123 : (Jvm.Cond.initialized "Lifeoffice$Years") ∈ lw_all := lw_g (lw_at lw_m1 43 rfl) rfl
theorem q824 : (Jvm.Cond.castable "Lifeoffice$Years" "java/util/Iterator") ∈ lw_tbl := lw_at lw_m4 24 rfl
theorem q825 : (Jvm.Cond.selects "Lifeoffice$Years" ({ cls := "java/util/Iterator", name := "hasNext", desc := "()Z" } : Jvm.MethodName) ({ cls := "Lifeoffice$Years", name := "hasNext", desc := "()Z" } : Jvm.MethodName)) ∈ lw_all := lw_g (lw_at lw_m4 25 rfl) rfl
theorem q826 : (Jvm.Cond.unhidden "Lifeoffice$Years" "hasNext" "()Z") ∈ lw_tbl := lw_at lw_m4 26 rfl
theorem q827 : (Jvm.Cond.instanceMethod ({ cls := "Lifeoffice$Years", name := "hasNext", desc := "()Z" } : Jvm.MethodName)) ∈ lw_all := lw_g (lw_at lw_m4 27 rfl) rfl
theorem q828 : (Jvm.Cond.publicMethod ({ cls := "Lifeoffice$Years", name := "hasNext", desc := "()Z" } : Jvm.MethodName)) ∈ lw_tbl := lw_at lw_m4 28 rfl
theorem q829 : (Jvm.Cond.code ({ cls := "Lifeoffice$Years", name := "hasNext", desc := "()Z" } : Jvm.MethodName) prog_10_method_3_code (1 : Nat) (Option.some Jvm.ClassFile.FieldType.boolean)) ∈ lw_all := lw_g (lw_at lw_m4 29 rfl) rfl
theorem q846 : (Jvm.Cond.selects "Lifeoffice$Years" ({ cls := "java/util/Iterator", name := "next", desc := "()Ljava/lang/Object;" } : Jvm.MethodName) ({ cls := "Lifeoffice$Years", name := "next", desc := "()Ljava/lang/Object;" } : Jvm.MethodName)) ∈ lw_all := lw_g (lw_at lw_m4 46 rfl) rfl
theorem q847 : (Jvm.Cond.unhidden "Lifeoffice$Years" "next" "()Ljava/lang/Object;") ∈ lw_tbl := lw_at lw_m4 47 rfl
theorem q848 : (Jvm.Cond.instanceMethod ({ cls := "Lifeoffice$Years", name := "next", desc := "()Ljava/lang/Object;" } : Jvm.MethodName)) ∈ lw_all := lw_g (lw_at lw_m4 48 rfl) rfl
theorem q849 : (Jvm.Cond.publicMethod ({ cls := "Lifeoffice$Years", name := "next", desc := "()Ljava/lang/Object;" } : Jvm.MethodName)) ∈ lw_tbl := lw_at lw_m4 49 rfl
theorem q850 : (Jvm.Cond.code ({ cls := "Lifeoffice$Years", name := "next", desc := "()Ljava/lang/Object;" } : Jvm.MethodName) prog_10_method_5_code (1 : Nat) (Option.some (Jvm.ClassFile.FieldType.object "java/lang/Object"))) ∈ lw_all := lw_g (lw_at lw_m4 50 rfl) rfl
theorem q851 : (Jvm.Cond.methodLink "Lifeoffice$Years" (29 : Nat) ({ cls := "Lifeoffice$Years", name := "next", desc := "()Ljava/lang/Integer;" } : Jvm.MethodName)) ∈ lw_all := lw_g (lw_at lw_m4 51 rfl) rfl
theorem q852 : (Jvm.Cond.instanceMethod ({ cls := "Lifeoffice$Years", name := "next", desc := "()Ljava/lang/Integer;" } : Jvm.MethodName)) ∈ lw_all := lw_g (lw_at lw_m4 52 rfl) rfl
theorem q853 : (Jvm.Cond.selects "Lifeoffice$Years" ({ cls := "Lifeoffice$Years", name := "next", desc := "()Ljava/lang/Integer;" } : Jvm.MethodName) ({ cls := "Lifeoffice$Years", name := "next", desc := "()Ljava/lang/Integer;" } : Jvm.MethodName)) ∈ lw_all := lw_g (lw_at lw_m4 53 rfl) rfl
theorem q854 : (Jvm.Cond.code ({ cls := "Lifeoffice$Years", name := "next", desc := "()Ljava/lang/Integer;" } : Jvm.MethodName) prog_10_method_4_code (1 : Nat) (Option.some (Jvm.ClassFile.FieldType.object "java/lang/Integer"))) ∈ lw_all := lw_g (lw_at lw_m4 54 rfl) rfl
theorem q855 : (Jvm.Cond.methodLink "Lifeoffice$Years" (16 : Nat) ({ cls := "Lifeoffice$Years", name := "hasNext", desc := "()Z" } : Jvm.MethodName)) ∈ lw_all := lw_g (lw_at lw_m4 55 rfl) rfl
theorem q856 : (Jvm.Cond.classLink "Lifeoffice$Years" (20 : Nat) "java/util/NoSuchElementException") ∈ lw_all := lw_g (lw_at lw_m4 56 rfl) rfl
theorem q899 : (Jvm.Cond.methodLink "Lifeoffice$Years" (22 : Nat) ({ cls := "java/util/NoSuchElementException", name := "<init>", desc := "()V" } : Jvm.MethodName)) ∈ lw_all := lw_g (lw_at lw_m4 99 rfl) rfl
theorem q922 : (Jvm.Cond.methodLink "Lifeoffice$Years" (23 : Nat) ({ cls := "java/lang/Integer", name := "valueOf", desc := "(I)Ljava/lang/Integer;" } : Jvm.MethodName)) ∈ lw_all := lw_g (lw_at lw_m4 122 rfl) rfl
theorem q1004 : (Jvm.Cond.instantiable "Lifeoffice$Years" (2 : Nat)) ∈ lw_all := lw_g (lw_at lw_m4 204 rfl) rfl
theorem q1006 : (Jvm.Cond.instanceMethod ({ cls := "Lifeoffice$Years", name := "<init>", desc := "(II)V" } : Jvm.MethodName)) ∈ lw_all := lw_g (lw_at lw_m4 206 rfl) rfl
theorem q1007 : (Jvm.Cond.code ({ cls := "Lifeoffice$Years", name := "<init>", desc := "(II)V" } : Jvm.MethodName) prog_10_method_1_code (3 : Nat) (Option.none : Option Jvm.ClassFile.FieldType)) ∈ lw_all := lw_g (lw_at lw_m4 207 rfl) rfl
theorem q1008 : (Jvm.Cond.methodLink "Lifeoffice$Years" (1 : Nat) ({ cls := "java/lang/Object", name := "<init>", desc := "()V" } : Jvm.MethodName)) ∈ lw_all := lw_g (lw_at lw_m4 208 rfl) rfl
theorem q1009 : (Jvm.Cond.fieldLink "Lifeoffice$Years" (13 : Nat) "Lifeoffice$Years" "end" "I") ∈ lw_all := lw_g (lw_at lw_m4 209 rfl) rfl
theorem q1010 : (Jvm.Cond.fieldLink "Lifeoffice$Years" (7 : Nat) "Lifeoffice$Years" "next" "I") ∈ lw_all := lw_g (lw_at lw_m4 210 rfl) rfl
theorem q1011 : (Jvm.Cond.laysFinal "Lifeoffice$Years" "Lifeoffice$Years" "end" "I") ∈ lw_all := lw_g (lw_at lw_m4 211 rfl) rfl
theorem q1012 : (Jvm.Cond.soleField "Lifeoffice$Years" "end") ∈ lw_all := lw_g (lw_at lw_m4 212 rfl) rfl
theorem q1013 : (Jvm.Cond.lays "Lifeoffice$Years" "Lifeoffice$Years" "next" "I") ∈ lw_all := lw_g (lw_at lw_m4 213 rfl) rfl
theorem q1014 : (Jvm.Cond.soleField "Lifeoffice$Years" "next") ∈ lw_all := lw_g (lw_at lw_m4 214 rfl) rfl
theorem q1015 : (Jvm.Cond.superclass "Lifeoffice$Years" "java/lang/Object") ∈ lw_all := lw_g (lw_at lw_m4 215 rfl) rfl
theorem q1018 : (Jvm.Cond.instanceMethod ({ cls := "Lifeoffice$Years", name := "iterator", desc := "()Ljava/util/Iterator;" } : Jvm.MethodName)) ∈ lw_all := lw_g (lw_at lw_m4 218 rfl) rfl
theorem q1019 : (Jvm.Cond.selects "Lifeoffice$Years" ({ cls := "Lifeoffice$Years", name := "iterator", desc := "()Ljava/util/Iterator;" } : Jvm.MethodName) ({ cls := "Lifeoffice$Years", name := "iterator", desc := "()Ljava/util/Iterator;" } : Jvm.MethodName)) ∈ lw_all := lw_g (lw_at lw_m4 219 rfl) rfl
theorem q1020 : (Jvm.Cond.code ({ cls := "Lifeoffice$Years", name := "iterator", desc := "()Ljava/util/Iterator;" } : Jvm.MethodName) prog_10_method_2_code (1 : Nat) (Option.some (Jvm.ClassFile.FieldType.object "java/util/Iterator"))) ∈ lw_all := lw_g (lw_at lw_m4 220 rfl) rfl
theorem q1349 : (Jvm.Cond.selects "Lifeoffice$Years" ({ cls := "java/lang/Object", name := "getClass", desc := "()Ljava/lang/Class;" } : Jvm.MethodName) ({ cls := "java/lang/Object", name := "getClass", desc := "()Ljava/lang/Class;" } : Jvm.MethodName)) ∈ lw_all := lw_g (lw_at lw_m6 69 rfl) rfl
theorem q1763 : (Jvm.Cond.selects "Lifeoffice$Years" ({ cls := "java/lang/Object", name := "equals", desc := "(Ljava/lang/Object;)Z" } : Jvm.MethodName) ({ cls := "java/lang/Object", name := "equals", desc := "(Ljava/lang/Object;)Z" } : Jvm.MethodName)) ∈ lw_all := lw_g (lw_at lw_m8 3 rfl) rfl
theorem q2518 : (Jvm.Cond.selects "Lifeoffice$Years" ({ cls := "Lifeoffice$Years", name := "hasNext", desc := "()Z" } : Jvm.MethodName) ({ cls := "Lifeoffice$Years", name := "hasNext", desc := "()Z" } : Jvm.MethodName)) ∈ lw_all := lw_g (lw_at lw_m11 38 rfl) rfl
theorem q2550 : (Jvm.Cond.castable "Lifeoffice$Years" "java/lang/Object") ∈ lw_tbl := lw_at lw_m11 70 rfl
theorem in_X11 : ∀ w ∈ wsX110, w ∈ lw_all := lw_in wsX110 [1011, 1013] (by decide +kernel) (by decide +kernel)
