/-! THE LAYER, 7: plain division and floor division; exclusive or; small helps -/
set_option maxRecDepth 100000
theorem zfs {N : Nat} {ty : Nat → FieldType} {fs : List Value} (h : (List.range N).map (fun j => defaultValue (ty j)) = fs) : ∀ j, j < N → defaultValue (ty j) = vp_V fs j := by
  intro j hj
  subst h
  simp [vp_V, hj]
theorem iL_tdiv {a b : Int} (h1 : n64 a) (h2 : 0 < b ∧ b < 9223372036854775808) : iL a / iL b = iL (a.tdiv b) := by
  rw [← Int64.toInt_inj, Int64.toInt_div, iL_t h1.1 h1.2, iL_t (by omega) h2.2]
  have h3 : (a.tdiv b).natAbs ≤ a.natAbs := by rw [Int.natAbs_tdiv]; exact Nat.div_le_self _ _
  have h4 : a.tdiv b ≠ 9223372036854775808 := by
    intro e
    by_cases ha : 0 ≤ a
    · have := Int.tdiv_le_self (a := a) b ha; omega
    · have h5 : a.tdiv b ≤ 0 := by
        rw [show a = -(-a) by omega, Int.neg_tdiv]
        have := Int.tdiv_nonneg (a := -a) (b := b) (by omega) (by omega)
        omega
      omega
  have h5 : n64 (a.tdiv b) := by
    constructor <;> omega
  have e1 : w64 (a.tdiv b) = a.tdiv b := w64_of h5.1 h5.2
  show _ = w64 (a.tdiv b)
  rw [e1]
  rw [Int.bmod_eq_of_le] <;> omega
theorem iL_xor {a b : Int} (h1 : n64 a) (h2 : 0 < b ∧ b < 9223372036854775808) : (iL a ^^^ iL b).toInt < 0 ↔ a < 0 := by
  have e : ∀ x : Int64, x.toInt < 0 ↔ x.toBitVec.msb = true := fun x => by
    show x.toBitVec.toInt < 0 ↔ _
    rw [BitVec.msb_eq_toInt]; simp
  have ha := e (iL a)
  have hb := e (iL b)
  rw [iL_t h1.1 h1.2] at ha
  rw [iL_t (by omega) h2.2] at hb
  rw [e, Int64.toBitVec_xor, BitVec.msb_xor, ha]
  have hbf : (iL b).toBitVec.msb = false := by
    cases hc : (iL b).toBitVec.msb with
    | false => rfl
    | true => exact absurd (hb.mpr hc) (by omega)
  rw [hbf, Bool.xor_false]
theorem fdiv_split {a b : Int} (hb : 0 < b) : a / b = if a < 0 ∧ a.tdiv b * b ≠ a then a.tdiv b - 1 else a.tdiv b := by
  have h0 := Int.tdiv_mul_add_tmod a b
  by_cases ha : a < 0
  · have h3 : a.tmod b ≤ 0 := by
      have := Int.tmod_nonneg (a := -a) b (by omega)
      rw [Int.neg_tmod] at this; omega
    have h4 : -b < a.tmod b := by
      have := Int.tmod_lt_of_pos (-a) hb
      rw [Int.neg_tmod] at this; omega
    by_cases he : a.tdiv b * b = a
    · rw [if_neg (fun q => q.2 he)]
      have h7 : b * a.tdiv b = a := by rw [Int.mul_comm]; exact he
      exact Int.ediv_eq_of_eq_mul_right (by omega) h7.symm
    · rw [if_pos ⟨ha, he⟩]
      have h5 : a.tmod b ≠ 0 := fun z => he (by omega)
      have h6 : a = (a.tmod b + b) + b * (a.tdiv b - 1) := by rw [Int.mul_sub, Int.mul_comm b]; omega
      have h7 : a / b = ((a.tmod b + b) + b * (a.tdiv b - 1)) / b := by rw [← h6]
      rw [h7, Int.add_mul_ediv_left _ _ (by omega), Int.ediv_eq_zero_of_lt (by omega) (by omega)]
      omega
  · rw [if_neg (fun q => ha q.1), Int.tdiv_eq_ediv_of_nonneg (by omega)]
section ZN0
variable {θ : zTh} {Q : State → Prop} {E : zEn} {h : zHp} {cs sl pc : Nat} {L L' : List (Nat × Value)} {st : List Value}
/-- the locals in another order, or fewer: by their places -/
theorem VW.pick {L2 : List (Nat × Value)} (ks : List Nat) (hl : lv_pick L ks = L2) (k : VW θ Q E h cs sl pc L2 st) : VW θ Q E h cs sl pc L st := fun H locs ls a b c => k H locs ls a b (lv_sub c ks hl)
end ZN0
section ZN
variable {θ : zTh} {Q : State → Prop} {E : zEn} {h : zHp} {cs sl pc : Nat} {L L' : List (Nat × Value)} {st st0 : List Value} {cc : ByteArray} {nL : Nat} {own : String} {rt : Option FieldType} {R : Room}
theorem v_ldivT (G : zCtx θ E cc nL own rt R) {x y : Int} (h1 : n64 x) (h2 : 0 < y ∧ y < 9223372036854775808) (hd : decode cc pc = .ok (.ldiv, 1)) (k : VW θ Q E h cs sl (pc + 1) L (.long (iL (x.tdiv y)) :: st)) : VW θ Q E h cs sl pc L (.long (iL y) :: .long (iL x) :: st) := fun H locs ls a b c => lv_ldiv G.1 G.2.1 hd (iL_ne0 h2.1 h2.2) (by rw [iL_tdiv h1 h2]; exact k H locs ls a b c)
theorem v_lxorS (G : zCtx θ E cc nL own rt R) {x y : Int} (h1 : n64 x) (h2 : 0 < y ∧ y < 9223372036854775808) (hd : decode cc pc = .ok (.lxor, 1)) (k : ∀ z : Int, n64 z → (z < 0 ↔ x < 0) → VW θ Q E h cs sl (pc + 1) L (.long (iL z) :: st)) : VW θ Q E h cs sl pc L (.long (iL y) :: .long (iL x) :: st) := fun H locs ls a b c => lv_lxor G.1 G.2.1 hd (by
  have hn := w64_lo ((iL x ^^^ iL y).toInt)
  have hn2 := w64_hi ((iL x ^^^ iL y).toInt)
  have e : iL ((iL x ^^^ iL y).toInt) = iL x ^^^ iL y := (iL_raw _).symm
  unfold w64 at hn hn2
  rw [e] at hn hn2
  rw [iL_raw (iL x ^^^ iL y)]
  exact k _ ⟨hn, hn2⟩ (iL_xor h1 h2) H locs ls a b c)
end ZN
theorem tdiv_bd {a b : Int} (h1 : n64 a) (h2 : 0 < b) : n64 (a.tdiv b * b) ∧ n64 (a.tdiv b - 1) ∨ (a.tdiv b * b = a ∧ n64 (a.tdiv b)) := by
  by_cases e : a.tdiv b * b = a
  · refine Or.inr ⟨e, ?_⟩
    have h3 : (a.tdiv b).natAbs ≤ a.natAbs := by rw [Int.natAbs_tdiv]; exact Nat.div_le_self _ _
    by_cases ha : 0 ≤ a
    · have := Int.tdiv_nonneg (a := a) (b := b) ha (by omega); constructor <;> omega
    · have h5 : a.tdiv b ≤ 0 := by
        rw [show a = -(-a) by omega, Int.neg_tdiv]
        have := Int.tdiv_nonneg (a := -a) (b := b) (by omega) (by omega)
        omega
      constructor <;> omega
  · refine Or.inl ?_
    have h0 := Int.tdiv_mul_add_tmod a b
    by_cases ha : 0 ≤ a
    · have h3 := Int.tmod_nonneg b ha
      have h4 := Int.tdiv_nonneg (a := a) (b := b) ha (by omega)
      have h5 : 0 ≤ a.tdiv b * b := Int.mul_nonneg h4 (by omega)
      have h6 := Int.tdiv_le_self (a := a) b ha
      refine ⟨⟨by omega, by omega⟩, by omega, by omega⟩
    · have h3 : a.tmod b ≤ 0 := by
        have := Int.tmod_nonneg (a := -a) b (by omega)
        rw [Int.neg_tmod] at this; omega
      have h4 : a.tdiv b ≤ 0 := by
        rw [show a = -(-a) by omega, Int.neg_tdiv]
        have := Int.tdiv_nonneg (a := -a) (b := b) (by omega) (by omega)
        omega
      have h5 : a.tdiv b * b ≤ 0 := Int.mul_nonpos_of_nonpos_of_nonneg h4 (by omega)
      have h6 : a.tmod b ≠ 0 := fun z => e (by omega)
      have h7 : a.tdiv b * b ≤ a.tdiv b := by
        have : a.tdiv b * b ≤ a.tdiv b * 1 := Int.mul_le_mul_of_nonpos_left h4 (by omega)
        omega
      refine ⟨⟨by omega, by omega⟩, by omega, by omega⟩
