/-! PLAIN AND PICTURES: the office's objects, a policy's numbers -/
set_option maxRecDepth 100000
theorem and_2 {f : Int} (h : 0 ≤ f ∧ f ≤ 7) : iI f &&& iI 2 = iI (f / 2 % 2 * 2) := by
  obtain ⟨h1, h2⟩ := h
  have : f = 0 ∨ f = 1 ∨ f = 2 ∨ f = 3 ∨ f = 4 ∨ f = 5 ∨ f = 6 ∨ f = 7 := by omega
  rcases this with rfl | rfl | rfl | rfl | rfl | rfl | rfl | rfl <;> rfl
theorem and_1 {f : Int} (h : 0 ≤ f ∧ f ≤ 7) : iI f &&& iI 1 = iI (f % 2) := by
  obtain ⟨h1, h2⟩ := h
  have : f = 0 ∨ f = 1 ∨ f = 2 ∨ f = 3 ∨ f = 4 ∨ f = 5 ∨ f = 6 ∨ f = 7 := by omega
  rcases this with rfl | rfl | rfl | rfl | rfl | rfl | rfl | rfl <;> rfl
section ZO
variable {θ : zTh} {Q : State → Prop} {E : zEn} {h : zHp} {cs sl pc : Nat} {L L' : List (Nat × Value)} {st st0 : List Value} {cc : ByteArray} {nL : Nat} {own : String} {rt : Option FieldType} {R : Room}
theorem v_iand (G : zCtx θ E cc nL own rt R) {x y z : Int} (hz : iI x &&& iI y = iI z) (hd : decode cc pc = .ok (.iand, 1)) (k : VW θ Q E h cs sl (pc + 1) L (.int (iI z) :: st)) : VW θ Q E h cs sl pc L (.int (iI y) :: .int (iI x) :: st) := fun H locs ls a b c => lv_iand G.1 G.2.1 hd (by rw [hz]; exact k H locs ls a b c)
end ZO
theorem drop_new {h : zHp} {q : Nat} {y : Nat × va_E} (hq : h q = none) : ∀ (a : Nat) (x : Nat × va_E), h a = some x → va_up h q (some y) a = some x := fun _ _ hx => up_o hx hq
/-- the fields of a policy (its numbers P by their places, its life, its office), of a life, of a law, of the office -/
abbrev polF (P : Nat → Int) (li x : Nat) : List Value := [.int (iI (P 0)), .int (iI (P 1)), .int (iI (P 2)), .int (iI (P 3)), .int (iI (P 4)), .ref li, .int (iI (P 6)), .long (iL (P 7)), .long (iL (P 8)), .long (iL (P 9)), .long (iL (P 10)), .long (iL (P 11)), .int (iI (P 12)), .int (iI (P 13)), .int (iI (P 14)), .int (iI (P 15)), .int (iI (P 16)), .int (iI (P 17)), .ref x]
abbrev lifF (b w s : Int) : List Value := [.int (iI b), .int (iI w), .int (iI s)]
abbrev lawF (i c z : Int) : List Value := [.int (iI i), .int (iI c), .int (iI z)]
abbrev valF (b p n : Int) : List Value := [.long (iL b), .long (iL p), .long (iL n)]
abbrev offF (O : Nat → Int) (la pl bs gs so lt : Nat) : List Value := [.ref la, .ref pl, .ref bs, .ref gs, .ref so, .ref lt, .int (iI (O 6)), .int (iI (O 7)), .int (iI (O 8)), .int (iI (O 9)), .int (iI (O 10)), .int (iI (O 11)), .int (iI (O 12)), .int (iI (O 13)), .int (iI (O 14)), .int (iI (O 15)), .long (iL (O 16)), .long (iL (O 17)), .long (iL (O 18)), .long (iL (O 19)), .long (iL (O 20)), .int (iI (O 21)), .int (iI (O 22))]
/-- a policy's mortality in a year, by a law's percent, with points; improvement im; its life b w s -/
def pqS (im c b w s st pts y : Int) : Int := qS im c b w s y (y - st) pts
/-- kinds with a value; the start of the benefits -/
def d0S (kind : Int) : Int := if kind = 0 ∨ kind = 1 then 1000000 else 0
theorem d0S_bd (kind : Int) : 0 ≤ d0S kind ∧ d0S kind ≤ 1000000 := by unfold d0S; split <;> omega
/-- the net premium of a sum by values from the start -/
def netS (kind sum d p n : Int) : Int := if kind = 3 then sum * n / 1000000 else sum * d / p
/-- what holds of a policy's numbers -/
def okP (im b w s : Int) (P : Nat → Int) : Prop := (0 ≤ im ∧ im ≤ 20) ∧ (w = 0 ∨ w = 1) ∧ (s = 0 ∨ s = 1) ∧ (0 ≤ P 1 ∧ P 1 ≤ 3) ∧ (1700 ≤ b ∧ b ≤ P 2 ∧ P 2 < P 3 ∧ P 3 ≤ b + 110 ∧ P 3 ≤ 2400) ∧ (0 ≤ P 4 ∧ P 4 ≤ 300) ∧ (P 6 = 0 ∨ P 6 = 1) ∧ (0 ≤ P 7 ∧ P 7 ≤ 1000000) ∧ (0 ≤ P 8 ∧ P 8 ≤ 100000000000) ∧ (0 ≤ P 9 ∧ P 7 + P 9 ≤ 120000000) ∧ (0 ≤ P 10 ∧ P 10 ≤ 1000000000) ∧ (0 ≤ P 11 ∧ P 11 ≤ 200000000) ∧ (0 ≤ P 12 ∧ P 12 ≤ 7) ∧ (0 ≤ P 13 ∧ P 13 ≤ 300) ∧ (P 17 = 0 ∨ P 17 = 1)
def okW (i c z : Int) : Prop := (0 ≤ i ∧ i ≤ 150) ∧ (0 ≤ c ∧ c ≤ 200) ∧ (z = 0 ∨ z = 1)
theorem okP_q {im b w s i c z pts : Int} {P : Nat → Int} (h : okP im b w s P) (hw : okW i c z) (hp : 0 ≤ pts ∧ pts ≤ 300) : okR (pqS im c b w s (P 2) pts) i (P 2) (P 3) := by
  obtain ⟨h1, h2, h3, h4, h5, -⟩ := h
  refine ⟨hw.1.1, fun y hy1 hy2 => qS_bd ⟨h1, hw.2.1, h2, h3, ⟨by omega, by omega, by omega⟩, hp⟩⟩
