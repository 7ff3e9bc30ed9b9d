/-! THE LAYER, 6: the reference's memory as one function: field k of the one object, place i of its array k; its heap; its rows -/
set_option maxRecDepth 100000
theorem zCtx.fl {θ : zTh} {E : zEn} {cc : ByteArray} {nL : Nat} {own : String} {rt : Option FieldType} {R : Room} (G : zCtx θ E cc nL own rt R) : (tl θ).stackTraces = false := G.2.2.2.2.2.2.2.2.2.2
theorem zRm.ok {R rm : Room} {maxL cs sl cs' sl' : Nat} (h : (Nat.ble (rm.frames + 1) R.frames && Nat.ble (8 + (maxL + 11) + rm.locals) R.locals && Nat.ble (cs + rm.cells) cs' && Nat.ble cs' R.cells && Nat.ble (sl + rm.slots) sl' && Nat.ble sl' R.slots) = true) : zRm R rm maxL cs sl cs' sl' := by
  simp only [Bool.and_eq_true, Nat.ble_eq] at h
  exact ⟨⟨h.1.1.1.1.1, h.1.1.1.1.2⟩, ⟨h.1.1.1.2, h.1.1.2⟩, h.1.2, h.2⟩
theorem zRm.ok2 {R rm : Room} {maxL cs sl cs' sl' : Nat} (c s : Nat) (hc : rm.cells = c) (hs : rm.slots = s) (h : (Nat.ble (rm.frames + 1) R.frames && Nat.ble (8 + (maxL + 11) + rm.locals) R.locals) = true) (h1 : cs + c ≤ cs') (h2 : cs' ≤ R.cells) (h3 : sl + s ≤ sl') (h4 : sl' ≤ R.slots) : zRm R rm maxL cs sl cs' sl' := by
  simp only [Bool.and_eq_true, Nat.ble_eq] at h
  exact ⟨⟨h.1, h.2⟩, ⟨by rw [hc]; exact h1, h2⟩, by rw [hs]; exact h3, h4⟩
def mLen (k : Nat) : Nat := if k ≤ 20 then 3 else if k ≤ 22 then 9 else if k ≤ 41 then 24 else if k ≤ 44 then 16 else if k ≤ 53 then 24 else 64
/-- 0 int, 1 long, 2 boolean: of a field, or of an array's places -/
def mTy (k : Nat) : Nat := if k ≤ 11 then 0 else if k ≤ 13 then 2 else if k ≤ 17 then 1 else if k ≤ 19 then 0 else if k = 20 then 2 else if k ≤ 22 then 1 else if k ≤ 33 then 0 else if k = 34 then 2 else if k ≤ 41 then 1 else if k ≤ 44 then 0 else if k ≤ 52 then 1 else if k = 53 then 2 else 1
def mIsA (k : Nat) : Bool := (Nat.ble 18 k && Nat.ble k 44) || (Nat.ble 51 k && Nat.ble k 54)
abbrev mIdx : List Nat := [18, 19, 20, 21, 22, 23, 24, 25, 26, 27, 28, 29, 30, 31, 32, 33, 34, 35, 36, 37, 38, 39, 40, 41, 42, 43, 44, 51, 52, 53, 54]
abbrev mMem : Type := Nat → Int → Int
def mArr (E : zEn) (τ : mMem) (k : Nat) : va_E := if mTy k = 0 then aI E (mLen k) (τ k) else if mTy k = 1 then aL E (mLen k) (τ k) else aZ E (mLen k) (τ k)
def mVal (A : Nat → Nat) (τ : mMem) (k : Nat) : Value := if mIsA k = true then .ref (A k) else if mTy k = 1 then .long (iL (τ k 0)) else .int (iI (τ k 0))
def mFs (A : Nat → Nat) (τ : mMem) : List Value := (List.range 55).map (mVal A τ)
def zM (E : zEn) (A : Nat → Nat) (h : zHp) (τ : mMem) : zHp := fun b => if b = A 0 then some (1, .inr (3, mFs A τ)) else match mIdx.find? (fun k => A k == b) with
  | some k => some (k, mArr E τ k)
  | none => h b
def mInj (A : Nat → Nat) : Prop := ∀ j ∈ (0 :: mIdx), ∀ k ∈ (0 :: mIdx), A j = A k → j = k
def st2 (τ : mMem) (k : Nat) (i z : Int) : mMem := fun k' => if k' = k then iup (τ k) i z else τ k'
theorem st2_k {τ : mMem} {k k' : Nat} {i z : Int} (h : k' ≠ k) : st2 τ k i z k' = τ k' := by simp [st2, h]
theorem st2_s {τ : mMem} {k : Nat} {i z : Int} : st2 τ k i z k i = z := by simp [st2, iup]
theorem st2_n {τ : mMem} {k : Nat} {i j z : Int} (h : j ≠ i) : st2 τ k i z k j = τ k j := by simp [st2, iup, h]
theorem mIsA_iff {k : Nat} : mIsA k = true ↔ k ∈ mIdx := by
  constructor
  · intro h
    simp only [mIsA, Bool.or_eq_true, Bool.and_eq_true, Nat.ble_eq] at h
    simp only [mIdx, List.mem_cons, List.not_mem_nil, or_false]
    omega
  · intro h
    simp only [mIdx, List.mem_cons, List.not_mem_nil, or_false] at h
    simp only [mIsA, Bool.or_eq_true, Bool.and_eq_true, Nat.ble_eq]
    omega
theorem mFs_get {A : Nat → Nat} {τ : mMem} {k : Nat} (hk : k < 55) : (mFs A τ)[k]? = some (mVal A τ k) := by
  simp [mFs, hk]
theorem zM_0 {E : zEn} {A : Nat → Nat} {h : zHp} {τ : mMem} : zM E A h τ (A 0) = some (1, .inr (3, mFs A τ)) := by simp [zM]
theorem zM_k {E : zEn} {A : Nat → Nat} {h : zHp} {τ : mMem} (hA : mInj A) {k : Nat} (hk : mIsA k = true) : zM E A h τ (A k) = some (k, mArr E τ k) := by
  have hm := mIsA_iff.mp hk
  have h0 : A k ≠ A 0 := fun e => by
    have := hA k (List.mem_cons_of_mem _ hm) 0 List.mem_cons_self e
    subst this; simp [mIsA] at hk
  unfold zM
  rw [if_neg h0]
  cases hf : mIdx.find? (fun j => A j == A k) with
  | none =>
    have := List.find?_eq_none.mp hf k hm
    simp at this
  | some j =>
    have h1 := List.find?_some hf
    have h2 := List.mem_of_find?_eq_some hf
    have h3 : j = k := hA j (List.mem_cons_of_mem _ h2) k (List.mem_cons_of_mem _ hm) (by simpa using h1)
    rw [h3]
theorem zM_o {E : zEn} {A : Nat → Nat} {h : zHp} {τ : mMem} {b : Nat} (hb : ∀ k ∈ (0 :: mIdx), A k ≠ b) : zM E A h τ b = h b := by
  unfold zM
  rw [if_neg (Ne.symm (hb 0 List.mem_cons_self))]
  cases hf : mIdx.find? (fun j => A j == b) with
  | none => rfl
  | some j =>
    have h1 := List.find?_some hf
    have h2 := List.mem_of_find?_eq_some hf
    exact absurd (by simpa using h1) (hb j (List.mem_cons_of_mem _ h2))
theorem mFs_congr {A : Nat → Nat} {τ τ' : mMem} (hτ : ∀ j : Nat, mIsA j = false → τ' j 0 = τ j 0) : mFs A τ' = mFs A τ := by
  unfold mFs
  refine List.map_congr_left fun j _ => ?_
  unfold mVal
  by_cases hj : mIsA j = true
  · rw [if_pos hj, if_pos hj]
  · rw [if_neg hj, if_neg hj, hτ j (by simpa using hj)]
theorem zM_upA {E : zEn} {A : Nat → Nat} {h : zHp} {τ τ' : mMem} (hA : mInj A) {k : Nat} (hk : mIsA k = true) (hτ : ∀ j, j ≠ k → τ' j = τ j) : va_up (zM E A h τ) (A k) (some (k, mArr E τ' k)) = zM E A h τ' := by
  have hm := mIsA_iff.mp hk
  have hF : mFs A τ' = mFs A τ := mFs_congr fun j hj => by rw [hτ j (fun e => by rw [e, hk] at hj; cases hj)]
  funext b
  by_cases hb : b = A k
  · subst hb; rw [up_s, zM_k hA hk]
  · rw [up_n hb]
    unfold zM
    by_cases h0 : b = A 0
    · rw [if_pos h0, if_pos h0, hF]
    · rw [if_neg h0, if_neg h0]
      cases hf : mIdx.find? (fun j => A j == b) with
      | none => rfl
      | some j =>
        have h1 : A j = b := by simpa using List.find?_some hf
        have hjk : j ≠ k := fun e => hb (by rw [← h1, e])
        have e1 : mArr E τ' j = mArr E τ j := by unfold mArr; rw [hτ j hjk]
        show some (j, mArr E τ j) = some (j, mArr E τ' j)
        rw [e1]
theorem zM_up0 {E : zEn} {A : Nat → Nat} {h : zHp} {τ : mMem} {k : Nat} {z : Int} (hk : mIsA k = false) (hk2 : k < 55) : va_up (zM E A h τ) (A 0) (some (1, .inr (3, (mFs A τ).set k (mVal A (st2 τ k 0 z) k)))) = zM E A h (st2 τ k 0 z) := by
  have hF : mFs A (st2 τ k 0 z) = (mFs A τ).set k (mVal A (st2 τ k 0 z) k) := by
    apply List.ext_getElem?
    intro j
    by_cases hj : j < 55
    · rw [mFs_get hj, List.getElem?_set]
      by_cases hkj : k = j
      · subst hkj
        rw [if_pos rfl, if_pos (by simpa [mFs] using hj)]
      · rw [if_neg hkj, mFs_get hj]
        unfold mVal
        rw [st2_k (Ne.symm hkj)]
    · rw [List.getElem?_eq_none (by simpa [mFs] using Nat.le_of_not_lt hj), List.getElem?_eq_none (by simpa [mFs] using Nat.le_of_not_lt hj)]
  funext b
  by_cases hb : b = A 0
  · subst hb; rw [up_s, zM_0, hF]
  · rw [up_n hb]
    unfold zM
    rw [if_neg hb, if_neg hb]
    cases hf : mIdx.find? (fun j => A j == b) with
    | none => rfl
    | some j =>
      have hj := mIsA_iff.mpr (List.mem_of_find?_eq_some hf)
      have hjk : j ≠ k := fun e => by rw [e, hk] at hj; cases hj
      have e1 : mArr E (st2 τ k 0 z) j = mArr E τ j := by unfold mArr; rw [st2_k hjk]
      show some (j, mArr E τ j) = some (j, mArr E (st2 τ k 0 z) j)
      rw [e1]
section ZM
variable {θ : zTh} {Q : State → Prop} {E : zEn} {h : zHp} {A : Nat → Nat} {τ : mMem} {cs sl pc : Nat} {L L' : List (Nat × Value)} {st st0 : List Value} {cc : ByteArray} {nL : Nat} {own : String} {rt : Option FieldType} {R : Room}
theorem m_ald {k : Nat} {i v : Int} (G : zCtx θ E cc nL own rt R) (hA : mInj A) (hk : (mIsA k && Nat.beq (mTy k) 0) = true) (hi : 0 ≤ i ∧ i < (mLen k : Int)) (hv : τ k i = v) (hd : decode cc pc = .ok (.iaload, 1)) (kk : VW θ Q E (zM E A h τ) cs sl (pc + 1) L (.int (iI v) :: st)) : VW θ Q E (zM E A h τ) cs sl pc L (.int (iI i) :: .ref (A k) :: st) := by
  subst hv
  simp only [Bool.and_eq_true, Nat.beq_eq] at hk
  refine v_iald G (F := τ k) (n := mLen k) ((zM_k hA hk.1).trans (by unfold mArr; rw [if_pos hk.2])) ?_ hi hd kk
  unfold mLen; repeat' split
  all_goals omega
theorem m_lld {k : Nat} {i v : Int} (G : zCtx θ E cc nL own rt R) (hA : mInj A) (hk : (mIsA k && Nat.beq (mTy k) 1) = true) (hi : 0 ≤ i ∧ i < (mLen k : Int)) (hv : τ k i = v) (hd : decode cc pc = .ok (.laload, 1)) (kk : VW θ Q E (zM E A h τ) cs sl (pc + 1) L (.long (iL v) :: st)) : VW θ Q E (zM E A h τ) cs sl pc L (.int (iI i) :: .ref (A k) :: st) := by
  subst hv
  simp only [Bool.and_eq_true, Nat.beq_eq] at hk
  refine v_lald G (F := τ k) (n := mLen k) ((zM_k hA hk.1).trans (by unfold mArr; rw [if_neg (by omega), if_pos hk.2])) ?_ hi hd kk
  unfold mLen; repeat' split
  all_goals omega
theorem m_zld {k : Nat} {i v : Int} (G : zCtx θ E cc nL own rt R) (hA : mInj A) (hk : (mIsA k && Nat.beq (mTy k) 2) = true) (hi : 0 ≤ i ∧ i < (mLen k : Int)) (hv : τ k i = v) (hd : decode cc pc = .ok (.baload, 1)) (kk : VW θ Q E (zM E A h τ) cs sl (pc + 1) L (.int (iI v) :: st)) : VW θ Q E (zM E A h τ) cs sl pc L (.int (iI i) :: .ref (A k) :: st) := by
  subst hv
  simp only [Bool.and_eq_true, Nat.beq_eq] at hk
  refine v_zald G (F := τ k) (n := mLen k) ((zM_k hA hk.1).trans (by unfold mArr; rw [if_neg (by omega), if_neg (by omega)])) ?_ hi hd kk
  unfold mLen; repeat' split
  all_goals omega
theorem m_ast {k : Nat} {i z : Int} (G : zCtx θ E cc nL own rt R) (hA : mInj A) (hk : (mIsA k && Nat.beq (mTy k) 0) = true) (hi : 0 ≤ i ∧ i < (mLen k : Int)) (hd : decode cc pc = .ok (.iastore, 1)) (kk : VW θ Q E (zM E A h (st2 τ k i z)) cs sl (pc + 1) L st) : VW θ Q E (zM E A h τ) cs sl pc L (.int (iI z) :: .int (iI i) :: .ref (A k) :: st) := by
  simp only [Bool.and_eq_true, Nat.beq_eq] at hk
  refine v_iast G (F := τ k) (n := mLen k) ((zM_k hA hk.1).trans (by unfold mArr; rw [if_pos hk.2])) ?_ hi hd ?_
  · unfold mLen; repeat' split
    all_goals omega
  · refine VW.hpe ?_ kk
    rw [← zM_upA hA hk.1 (τ' := st2 τ k i z) (fun j hj => st2_k hj)]
    unfold mArr; rw [if_pos hk.2]; simp [st2]
theorem m_lst {k : Nat} {i z : Int} (G : zCtx θ E cc nL own rt R) (hA : mInj A) (hk : (mIsA k && Nat.beq (mTy k) 1) = true) (hi : 0 ≤ i ∧ i < (mLen k : Int)) (hd : decode cc pc = .ok (.lastore, 1)) (kk : VW θ Q E (zM E A h (st2 τ k i z)) cs sl (pc + 1) L st) : VW θ Q E (zM E A h τ) cs sl pc L (.long (iL z) :: .int (iI i) :: .ref (A k) :: st) := by
  simp only [Bool.and_eq_true, Nat.beq_eq] at hk
  refine v_last G (F := τ k) (n := mLen k) ((zM_k hA hk.1).trans (by unfold mArr; rw [if_neg (by omega), if_pos hk.2])) ?_ hi hd ?_
  · unfold mLen; repeat' split
    all_goals omega
  · refine VW.hpe ?_ kk
    rw [← zM_upA hA hk.1 (τ' := st2 τ k i z) (fun j hj => st2_k hj)]
    unfold mArr; rw [if_neg (by omega), if_pos hk.2]; simp [st2]
theorem m_zst {k : Nat} {i z : Int} (G : zCtx θ E cc nL own rt R) (hA : mInj A) (hk : (mIsA k && Nat.beq (mTy k) 2) = true) (hz : z = 0 ∨ z = 1) (hi : 0 ≤ i ∧ i < (mLen k : Int)) (hd : decode cc pc = .ok (.bastore, 1)) (kk : VW θ Q E (zM E A h (st2 τ k i z)) cs sl (pc + 1) L st) : VW θ Q E (zM E A h τ) cs sl pc L (.int (iI z) :: .int (iI i) :: .ref (A k) :: st) := by
  simp only [Bool.and_eq_true, Nat.beq_eq] at hk
  refine v_zast G (F := τ k) (n := mLen k) ((zM_k hA hk.1).trans (by unfold mArr; rw [if_neg (by omega), if_neg (by omega)])) hz ?_ hi hd ?_
  · unfold mLen; repeat' split
    all_goals omega
  · refine VW.hpe ?_ kk
    rw [← zM_upA hA hk.1 (τ' := st2 τ k i z) (fun j hj => st2_k hj)]
    unfold mArr; rw [if_neg (by omega), if_neg (by omega)]; simp [st2]
end ZM
