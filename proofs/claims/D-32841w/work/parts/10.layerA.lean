/-! THE LAYER: machine ints as images of Int; an abstract heap (address to region and cell); a frame as one word; rows over them -/
set_option maxRecDepth 100000
def iI (z : Int) : Int32 := Int32.ofInt z
def iL (z : Int) : Int64 := Int64.ofInt z
theorem iI_add (a b : Int) : iI a + iI b = iI (a + b) := (Int32.ofInt_add a b).symm
theorem iI_neg (a : Int) : -iI a = iI (-a) := (Int32.ofInt_neg a).symm
theorem iI_sub (a b : Int) : iI a - iI b = iI (a - b) := by unfold iI; rw [Int.sub_eq_add_neg, Int32.ofInt_add, Int32.ofInt_neg, Int32.sub_eq_add_neg]
theorem iI_mul (a b : Int) : iI a * iI b = iI (a * b) := (Int32.ofInt_mul a b).symm
theorem iL_add (a b : Int) : iL a + iL b = iL (a + b) := (Int64.ofInt_add a b).symm
theorem iL_neg (a : Int) : -iL a = iL (-a) := (Int64.ofInt_neg a).symm
theorem iL_sub (a b : Int) : iL a - iL b = iL (a - b) := by unfold iL; rw [Int.sub_eq_add_neg, Int64.ofInt_add, Int64.ofInt_neg, Int64.sub_eq_add_neg]
theorem iL_mul (a b : Int) : iL a * iL b = iL (a * b) := (Int64.ofInt_mul a b).symm
theorem iI_t {z : Int} (h1 : -2147483648 ≤ z) (h2 : z < 2147483648) : (iI z).toInt = z := Int32.toInt_ofInt_of_le (by omega) (by omega)
theorem iL_t {z : Int} (h1 : -9223372036854775808 ≤ z) (h2 : z < 9223372036854775808) : (iL z).toInt = z := Int64.toInt_ofInt_of_le (by omega) (by omega)
theorem iI_raw (x : Int32) : x = iI x.toInt := (Int32.ofInt_toInt x).symm
theorem iL_raw (x : Int64) : x = iL x.toInt := (Int64.ofInt_toInt x).symm
/-- the long that an Int stands for -/
def w64 (z : Int) : Int := (iL z).toInt
def w32 (z : Int) : Int := (iI z).toInt
theorem w64_of {z : Int} (h1 : -9223372036854775808 ≤ z) (h2 : z < 9223372036854775808) : w64 z = z := iL_t h1 h2
theorem w32_of {z : Int} (h1 : -2147483648 ≤ z) (h2 : z < 2147483648) : w32 z = z := iI_t h1 h2
theorem w64_lo (z : Int) : -9223372036854775808 ≤ w64 z := by have := Int64.le_toInt (iL z); show _ ≤ (iL z).toInt; omega
theorem w64_hi (z : Int) : w64 z < 9223372036854775808 := by have := Int64.toInt_lt (iL z); show (iL z).toInt < _; omega
theorem w32_lo (z : Int) : -2147483648 ≤ w32 z := by have := Int32.le_toInt (iI z); show _ ≤ (iI z).toInt; omega
theorem w32_hi (z : Int) : w32 z < 2147483648 := by have := Int32.toInt_lt (iI z); show (iI z).toInt < _; omega
theorem iL_w (z : Int) : iL (w64 z) = iL z := Int64.ofInt_toInt _
theorem iI_w (z : Int) : iI (w32 z) = iI z := Int32.ofInt_toInt _
theorem iI_lt {a b : Int} : iI a < iI b ↔ w32 a < w32 b := Int32.lt_iff_toInt_lt
theorem iI_le {a b : Int} : iI a ≤ iI b ↔ w32 a ≤ w32 b := Int32.le_iff_toInt_le
theorem iI_eq {a b : Int} : iI a = iI b ↔ w32 a = w32 b := ⟨fun h => congrArg Int32.toInt h, fun h => Int32.toInt_inj.mp h⟩
theorem iL_lt {a b : Int} : iL a < iL b ↔ w64 a < w64 b := Int64.lt_iff_toInt_lt
theorem iL_le {a b : Int} : iL a ≤ iL b ↔ w64 a ≤ w64 b := Int64.le_iff_toInt_le
theorem iL_eq {a b : Int} : iL a = iL b ↔ w64 a = w64 b := ⟨fun h => congrArg Int64.toInt h, fun h => Int64.toInt_inj.mp h⟩
theorem iI_l {z : Int} (h1 : -2147483648 ≤ z) (h2 : z < 2147483648) : (iI z).toInt64 = iL z := by
  rw [← Int64.toInt_inj, Int32.toInt_toInt64, iI_t h1 h2, iL_t (by omega) (by omega)]
theorem iL_i (z : Int) : (iL z).toInt32 = iI z := Int64.toInt32_ofInt
theorem iI_clamp {z : Int} (h1 : 0 ≤ z) (h2 : z < 2147483648) : (iI z).toNatClampNeg = z.toNat := by
  show (iI z).toInt.toNat = z.toNat
  rw [iI_t (by omega) h2]
theorem iI_in {z : Int} {n : Nat} (h1 : 0 ≤ z) (h2 : z < (n : Int)) (hn : n < 2147483648) : vp_in (iI z) n := by
  refine vp_in_iff.mpr ?_
  rw [iI_t (by omega) (by omega)]
  exact ⟨h1, h2⟩
theorem iI_nat (n : Nat) : Int32.ofNat n = iI (n : Int) := (Int32.ofInt_eq_ofNat (n := n)).symm
theorem iL_nat (n : Nat) : Int64.ofNat n = iL (n : Int) := (Int64.ofInt_eq_ofNat (n := n)).symm
theorem iI_div {a b : Int} (h1 : 0 ≤ a) (h2 : a < 2147483648) (h3 : 0 < b) (h4 : b < 2147483648) : iI a / iI b = iI (a / b) := by
  obtain ⟨m, rfl⟩ := Int.eq_ofNat_of_zero_le h1
  obtain ⟨k, rfl⟩ := Int.eq_ofNat_of_zero_le (Int.le_of_lt h3)
  have h := pk_div (a := m) (d := k) (by omega) (by omega) (by omega)
  simp only [nI, iI_nat] at h
  rw [h]; rfl
theorem iL_div {a b : Int} (h1 : 0 ≤ a) (h2 : a < 9223372036854775808) (h3 : 0 < b) (h4 : b < 9223372036854775808) : iL a / iL b = iL (a / b) := by
  obtain ⟨m, rfl⟩ := Int.eq_ofNat_of_zero_le h1
  obtain ⟨k, rfl⟩ := Int.eq_ofNat_of_zero_le (Int.le_of_lt h3)
  have h := pk_lDiv (a := m) (b := k) (by omega) (by omega) (by omega)
  simp only [lN, iL_nat] at h
  rw [h]; rfl
theorem iI_rem {a b : Int} (h1 : 0 ≤ a) (h2 : a < 2147483648) (h3 : 0 < b) (h4 : b < 2147483648) : iI a - iI a / iI b * iI b = iI (a % b) := by
  rw [iI_div h1 h2 h3 h4, iI_mul, iI_sub, Int.emod_def, Int.mul_comm b]
theorem iI_ne0 {b : Int} (h3 : 0 < b) (h4 : b < 2147483648) : ¬ iI b = 0 := by
  intro h
  have h5 := congrArg Int32.toInt h
  rw [iI_t (by omega) h4, Int32.toInt_zero] at h5
  omega
theorem iL_ne0 {b : Int} (h3 : 0 < b) (h4 : b < 9223372036854775808) : ¬ iL b = 0 := by
  intro h
  have h5 := congrArg Int64.toInt h
  rw [iL_t (by omega) h4, Int64.toInt_zero] at h5
  omega
theorem iI_ltB {a b : Int} (ha : -2147483648 ≤ a ∧ a < 2147483648) (hb : -2147483648 ≤ b ∧ b < 2147483648) : iI a < iI b ↔ a < b := by rw [iI_lt, w32_of ha.1 ha.2, w32_of hb.1 hb.2]
theorem iI_leB {a b : Int} (ha : -2147483648 ≤ a ∧ a < 2147483648) (hb : -2147483648 ≤ b ∧ b < 2147483648) : iI a ≤ iI b ↔ a ≤ b := by rw [iI_le, w32_of ha.1 ha.2, w32_of hb.1 hb.2]
theorem iI_eqB {a b : Int} (ha : -2147483648 ≤ a ∧ a < 2147483648) (hb : -2147483648 ≤ b ∧ b < 2147483648) : iI a = iI b ↔ a = b := by rw [iI_eq, w32_of ha.1 ha.2, w32_of hb.1 hb.2]
theorem iI_0 : (0 : Int32) = iI 0 := rfl
theorem iL_0 : (0 : Int64) = iL 0 := rfl
abbrev n32 (a : Int) : Prop := -2147483648 ≤ a ∧ a < 2147483648
abbrev n64 (a : Int) : Prop := -9223372036854775808 ≤ a ∧ a < 9223372036854775808
theorem iL_ltB {a b : Int} (ha : n64 a) (hb : n64 b) : iL a < iL b ↔ a < b := by rw [iL_lt, w64_of ha.1 ha.2, w64_of hb.1 hb.2]
theorem iL_leB {a b : Int} (ha : n64 a) (hb : n64 b) : iL a ≤ iL b ↔ a ≤ b := by rw [iL_le, w64_of ha.1 ha.2, w64_of hb.1 hb.2]
theorem iL_eqB {a b : Int} (ha : n64 a) (hb : n64 b) : iL a = iL b ↔ a = b := by rw [iL_eq, w64_of ha.1 ha.2, w64_of hb.1 hb.2]

abbrev zCL : List vw_C := [(RX1, TX1, 23), (RX2, TX2, 3), (RX3, TX3, 1), (RX4, TX4, 55), (RX5, TX5, 3), (RX6, TX6, 3), (RX7, TX7, 19), (RX8, TX8, 3), (RX9, TX9, 1), (RX10, TX10, 4), (RX11, TX11, 2), (RJ2, TJ2, 3), (RJ4, TJ4, 1), (RJ6, TJ6, 9), (RJ20, TJ20, 6), (RJ21, TJ21, 1), (RJ23, TJ23, 4), (RJ18, TJ18, 1), (RJ19, TJ19, 1)]
abbrev zTh : Type := Program × Launch × Env × Room × State × MethodId × Array Value × List Frame × Method × Code
abbrev tp (θ : zTh) : Program := θ.1
abbrev tl (θ : zTh) : Launch := θ.2.1
abbrev te (θ : zTh) : Env := θ.2.2.1
abbrev tR (θ : zTh) : Room := θ.2.2.2.1
abbrev ts (θ : zTh) : State := θ.2.2.2.2.1
abbrev tm (θ : zTh) : MethodId := θ.2.2.2.2.2.1
abbrev ta (θ : zTh) : Array Value := θ.2.2.2.2.2.2.1
abbrev tb (θ : zTh) : List Frame := θ.2.2.2.2.2.2.2.1
abbrev tM (θ : zTh) : Method := θ.2.2.2.2.2.2.2.2.1
abbrev tc (θ : zTh) : Code := θ.2.2.2.2.2.2.2.2.2
/-- class tables, the heap at the law's start, the array classes, the caches' boxes, the statics' cells -/
abbrev zEn : Type := va_G × Heap × (Nat → ClassId) × (Nat → Nat) × (Nat → Nat) × (Nat → Nat)
/-- an abstract heap: a cell's region and contents -/
abbrev zHp : Type := Nat → Option (Nat × va_E)
def zB (E : zEn) : Nat := E.2.1.size
def zA (E : zEn) : Nat → Prop := fun q => zB E ≤ q
abbrev zTYS (E : zEn) : List (ClassId × FieldType) := [(E.2.2.1 0, .int), (E.2.2.1 1, .long), (E.2.2.1 2, .boolean), (E.2.2.1 3, .object "java/lang/Object"), (E.2.2.1 4, .object "Lifeoffice$Law")]
def zSim (E : zEn) (h : zHp) (H : Heap) : Prop := zB E ≤ H.size ∧ (∀ q : Nat, q < zB E → H[q]? = E.2.1[q]?) ∧ ∀ (a t : Nat) (e : va_E), h a = some (t, e) → zB E ≤ a ∧ va_at E.1 zCL (a, e) H
theorem zSim.lt {E : zEn} {h : zHp} {H : Heap} (hS : zSim E h H) {a t : Nat} {e : va_E} (ha : h a = some (t, e)) : a < H.size := ((hS.2.2 a t e ha).2).lt
theorem zSim.none {E : zEn} {h : zHp} {H : Heap} (hS : zSim E h H) {a : Nat} (ha : H.size ≤ a) : h a = none := by
  cases hc : h a with
  | none => rfl
  | some x => exact absurd (hS.lt (t := x.1) (e := x.2) hc) (by omega)
theorem zSim.put {E : zEn} {h : zHp} {H H1 : Heap} (hS : zSim E h H) {a t : Nat} {e : va_E} (hb : zB E ≤ a) (z : H.size ≤ H1.size) (oq : ∀ q : Nat, q < H.size → q ≠ a → H1[q]? = H[q]?) (hat : va_at E.1 zCL (a, e) H1) : zSim E (va_up h a (some (t, e))) H1 := by
  refine ⟨Nat.le_trans hS.1 z, fun q hq => ?_, fun b t' e' hb' => ?_⟩
  · rw [oq q (Nat.lt_of_lt_of_le hq hS.1) (by omega)]
    exact hS.2.1 q hq
  · by_cases hba : b = a
    · subst hba
      rw [va_up_self] at hb'
      cases hb'
      exact ⟨hb, hat⟩
    · rw [va_up_ne _ _ hba] at hb'
      obtain ⟨h1, h2⟩ := hS.2.2 b t' e' hb'
      exact ⟨h1, h2.kept (oq b h2.lt hba)⟩
theorem zSim.mono {E : zEn} {h h' : zHp} {H : Heap} (hS : zSim E h H) (hle : ∀ (a : Nat) (x : Nat × va_E), h' a = some x → h a = some x) : zSim E h' H :=
  ⟨hS.1, hS.2.1, fun a t e ha => hS.2.2 a t e (hle a _ ha)⟩
theorem zSim.P {E : zEn} {h : zHp} {H : Heap} (hS : zSim E h H) {a t : Nat} {e : va_E} (ha : h a = some (t, e)) : va_P E.1 zCL [(a, e)] H := by
  intro k q hk
  cases k with
  | zero => cases hk; exact (hS.2.2 a t e ha).2
  | succ k => simp at hk
theorem up_s {h : zHp} {a : Nat} {x : Option (Nat × va_E)} : va_up h a x a = x := va_up_self _ _ _
theorem up_n {h : zHp} {a b : Nat} {x : Option (Nat × va_E)} (hne : b ≠ a) : va_up h a x b = h b := va_up_ne _ _ hne
/-- an old fact behind a new cell -/
theorem up_o {h : zHp} {q b : Nat} {x y : Nat × va_E} (hb : h b = some x) (hq : h q = none) : va_up h q (some y) b = some x := by
  rw [va_up_ne]
  · exact hb
  · intro z; rw [z, hq] at hb; cases hb
/-- a fact of another region behind a write -/
theorem up_t {h : zHp} {a b t t' : Nat} {e e' : va_E} {y : Option (Nat × va_E)} (hb : h b = some (t, e)) (ha : h a = some (t', e')) (hne : t ≠ t') : va_up h a y b = some (t, e) := by
  rw [va_up_ne]
  · exact hb
  · intro z; rw [z, ha] at hb; cases hb; exact hne rfl


def zst1 (L : List (Nat × Value)) (i : Nat) (v : Value) : List (Nat × Value) := (i, v) :: L.filter (fun q => !(q.1 == i) && !(q.1 + 1 == i && q.2.category == 2))
def zst2 (L : List (Nat × Value)) (i : Nat) (v : Value) : List (Nat × Value) := (i, v) :: L.filter (fun q => !(q.1 == i) && (!(q.1 == i + 1) && !(q.1 + 1 == i && q.2.category == 2)))
/-- the walk's judgement: from pc, with the locals L, the stack st, over every heap that h describes -/
def VW (θ : zTh) (Q : State → Prop) (E : zEn) (h : zHp) (cs sl pc : Nat) (L : List (Nat × Value)) (st : List Value) : Prop :=
  ∀ (H : Heap) (locs : List Loc) (ls : Array Slot), zSim E h H → va_S (zA E) (ts θ).heap H locs → lv_has ls (tc θ).maxLocals L →
    W (tp θ) (tl θ) (te θ) (tR θ) (ts θ) (tm θ) (ta θ) (tb θ) (tM θ) (tc θ) H locs cs sl Q (F0 (tm θ) pc ls st)

