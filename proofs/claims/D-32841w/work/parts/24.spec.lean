/-! PLAIN: the office's mathematics, over Int -/
set_option maxRecDepth 100000
def q0S (age : Int) : Int := 20 + age * age * age * age * age / 1000000
def q1S (w q : Int) : Int := if w = 1 then q * 4 / 5 else q
def q2S (s q : Int) : Int := if s = 1 then q * 2 else q
def q3S (py q : Int) : Int := if py = 0 then q / 2 else if py = 1 then q * 3 / 4 else q
def q4S (imp y q : Int) : Int := if 2000 < y then q - q * min 500 (imp * (y - 2000)) / 1000 else q
/-- the mortality of a life (woman, smoker: 0 or 1) -/
def qS (imp pct birth w s y py pts : Int) : Int := if 110 ≤ y - birth then 100000 else min 100000 (q4S imp y (q3S py (q2S s (q1S w (q0S (y - birth))))) * (100 + pts) / 100 * pct / 100)
def okQ (imp pct birth w s y pts : Int) : Prop := (0 ≤ imp ∧ imp ≤ 20) ∧ (0 ≤ pct ∧ pct ≤ 200) ∧ (w = 0 ∨ w = 1) ∧ (s = 0 ∨ s = 1) ∧ (birth ≤ y ∧ y ≤ 2400 ∧ 1700 ≤ birth) ∧ (0 ≤ pts ∧ pts ≤ 300)
theorem age5 {a : Int} (h0 : 0 ≤ a) (h1 : a < 110) : 0 ≤ a * a * a * a * a ∧ a * a * a * a * a ≤ 15386239549 := by
  have b2 := mul_bd h0 (show a ≤ 109 by omega) h0 (show a ≤ 109 by omega)
  have b3 := mul_bd b2.1 b2.2 h0 (show a ≤ 109 by omega)
  have b4 := mul_bd b3.1 b3.2 h0 (show a ≤ 109 by omega)
  have b5 := mul_bd b4.1 b4.2 h0 (show a ≤ 109 by omega)
  exact ⟨b5.1, by omega⟩
theorem q0S_bd {a : Int} (h0 : 0 ≤ a) (h1 : a < 110) : 20 ≤ q0S a ∧ q0S a ≤ 15406 := by
  have := age5 h0 h1
  unfold q0S; omega
theorem q1S_bd {w q : Int} (h : 0 ≤ q ∧ q ≤ 15406) : 0 ≤ q1S w q ∧ q1S w q ≤ 15406 := by unfold q1S; split <;> omega
theorem q2S_bd {s q : Int} (h : 0 ≤ q ∧ q ≤ 15406) : 0 ≤ q2S s q ∧ q2S s q ≤ 30812 := by unfold q2S; split <;> omega
theorem q3S_bd {py q : Int} (h : 0 ≤ q ∧ q ≤ 30812) : 0 ≤ q3S py q ∧ q3S py q ≤ 30812 := by
  unfold q3S; split
  · omega
  · split <;> omega
theorem q4S_bd {imp y q : Int} (hi : 0 ≤ imp) (h : 0 ≤ q ∧ q ≤ 30812) : 0 ≤ q4S imp y q ∧ q4S imp y q ≤ 30812 := by
  unfold q4S; split
  · have h1 : 0 ≤ imp * (y - 2000) := Int.mul_nonneg hi (by omega)
    have h2 := mul_bd h.1 h.2 (show 0 ≤ min 500 (imp * (y - 2000)) by omega) (show min 500 (imp * (y - 2000)) ≤ 500 by omega)
    have h3 : q * min 500 (imp * (y - 2000)) ≤ q * 500 := Int.mul_le_mul_of_nonneg_left (by omega) h.1
    omega
  · exact h
theorem mul_bd2 {a A b B : Int} (h : 0 ≤ a ∧ a ≤ A) (h' : 0 ≤ b ∧ b ≤ B) : 0 ≤ a * b ∧ a * b ≤ A * B := mul_bd h.1 h.2 h'.1 h'.2
theorem qS_bd {imp pct birth w s y py pts : Int} (h : okQ imp pct birth w s y pts) : 0 ≤ qS imp pct birth w s y py pts ∧ qS imp pct birth w s y py pts ≤ 100000 := by
  obtain ⟨h1, h2, h3, h4, h5, h6⟩ := h
  unfold qS
  split
  · omega
  · next hn =>
    have b0 := q0S_bd (a := y - birth) (by omega) (by omega)
    have b4 := q4S_bd (y := y) h1.1 (q3S_bd (py := py) (q2S_bd (s := s) (q1S_bd (w := w) ⟨by omega, b0.2⟩)))
    generalize q4S imp y (q3S py (q2S s (q1S w (q0S (y - birth))))) = q at b4
    have b5 := mul_bd2 b4 (show 0 ≤ 100 + pts ∧ 100 + pts ≤ 400 by omega)
    generalize q * (100 + pts) = z at b5 ⊢
    have b6 := mul_bd2 (show 0 ≤ z / 100 ∧ z / 100 ≤ 123248 by omega) h2
    generalize z / 100 * pct = z2 at b6 ⊢
    omega
def bkD (q i d : Int) : Int := (q * 1000000 + (100000 - q) * d) / 100000 * 1000 / (1000 + i)
def bkP (q i p : Int) : Int := 1000000 + (100000 - q) * p / 100000 * 1000 / (1000 + i)
def bkN (q i n : Int) : Int := (100000 - q) * (1000000 + n) / 100000 * 1000 / (1000 + i)
theorem dsc_bd {x X i : Int} (h : 0 ≤ x ∧ x ≤ X) (hi : 0 ≤ i) : 0 ≤ x * 1000 / (1000 + i) ∧ x * 1000 / (1000 + i) ≤ X := by
  refine ⟨Int.ediv_nonneg (by omega) (by omega), ?_⟩
  refine Int.le_trans (Int.ediv_le_of_le_mul (b := x) (by omega) ?_) h.2
  rw [Int.mul_add]
  have := Int.mul_nonneg h.1 hi
  omega
theorem bkD_bd {q i d : Int} (hq : 0 ≤ q ∧ q ≤ 100000) (hi : 0 ≤ i) (hd : 0 ≤ d ∧ d ≤ 1000000) : 0 ≤ bkD q i d ∧ bkD q i d ≤ 1000000 := by
  unfold bkD
  have h1 : 0 ≤ (100000 - q) * d ∧ (100000 - q) * d ≤ (100000 - q) * 1000000 := ⟨Int.mul_nonneg (by omega) hd.1, Int.mul_le_mul_of_nonneg_left hd.2 (by omega)⟩
  exact dsc_bd (by omega) hi
theorem bkP_bd {q i p P : Int} (hq : 0 ≤ q ∧ q ≤ 100000) (hi : 0 ≤ i) (hp : 0 ≤ p ∧ p ≤ P) : 0 ≤ bkP q i p ∧ bkP q i p ≤ 1000000 + P := by
  unfold bkP
  have h1 : 0 ≤ (100000 - q) * p ∧ (100000 - q) * p ≤ 100000 * P := mul_bd2 ⟨by omega, by omega⟩ hp
  have := dsc_bd (x := (100000 - q) * p / 100000) (X := P) (by omega) hi
  omega
theorem bkN_bd {q i n P : Int} (hq : 0 ≤ q ∧ q ≤ 100000) (hi : 0 ≤ i) (hn : 0 ≤ n ∧ n ≤ P) : 0 ≤ bkN q i n ∧ bkN q i n ≤ 1000000 + P := by
  unfold bkN
  have h1 : 0 ≤ (100000 - q) * (1000000 + n) ∧ (100000 - q) * (1000000 + n) ≤ 100000 * (1000000 + P) := mul_bd2 ⟨by omega, by omega⟩ ⟨by omega, by omega⟩
  exact dsc_bd (by omega) hi
/-- values of a life run from its end e back, k years: benefits, premiums, annuity -/
def vD (qf : Int → Int) (i e d0 : Int) : Nat → Int
  | 0 => d0
  | k + 1 => bkD (qf (e - 1 - (k : Int))) i (vD qf i e d0 k)
def vP (qf : Int → Int) (i e : Int) : Nat → Int
  | 0 => 0
  | k + 1 => bkP (qf (e - 1 - (k : Int))) i (vP qf i e k)
def vN (qf : Int → Int) (i e : Int) : Nat → Int
  | 0 => 0
  | k + 1 => bkN (qf (e - 1 - (k : Int))) i (vN qf i e k)
def okR (qf : Int → Int) (i a e : Int) : Prop := 0 ≤ i ∧ ∀ y, a ≤ y → y < e → 0 ≤ qf y ∧ qf y ≤ 100000
theorem vD_bd {qf : Int → Int} {i a e d0 : Int} (h : okR qf i a e) (hd : 0 ≤ d0 ∧ d0 ≤ 1000000) : ∀ k : Nat, (k : Int) ≤ e - a → 0 ≤ vD qf i e d0 k ∧ vD qf i e d0 k ≤ 1000000
  | 0, _ => hd
  | k + 1, hk => bkD_bd (h.2 _ (by omega) (by omega)) h.1 (vD_bd h hd k (by omega))
theorem vP_bd {qf : Int → Int} {i a e : Int} (h : okR qf i a e) : ∀ k : Nat, (k : Int) ≤ e - a → 0 ≤ vP qf i e k ∧ vP qf i e k ≤ 1000000 * (k : Int)
  | 0, _ => by simp [vP]
  | k + 1, hk => by
    have := bkP_bd (h.2 (e - 1 - (k : Int)) (by omega) (by omega)) h.1 (vP_bd h k (by omega))
    show 0 ≤ bkP _ _ _ ∧ bkP _ _ _ ≤ _
    omega
theorem vN_bd {qf : Int → Int} {i a e : Int} (h : okR qf i a e) : ∀ k : Nat, (k : Int) ≤ e - a → 0 ≤ vN qf i e k ∧ vN qf i e k ≤ 1000000 * (k : Int)
  | 0, _ => by simp [vN]
  | k + 1, hk => by
    have := bkN_bd (h.2 (e - 1 - (k : Int)) (by omega) (by omega)) h.1 (vN_bd h k (by omega))
    show 0 ≤ bkN _ _ _ ∧ bkN _ _ _ ≤ _
    omega
/-- with one year or more the premiums' value is at least a million -/
theorem vP_pos {qf : Int → Int} {i a e : Int} (h : okR qf i a e) (k : Nat) (hk : ((k + 1 : Nat) : Int) ≤ e - a) : 1000000 ≤ vP qf i e (k + 1) := by
  have h1 := vP_bd h k (by omega)
  have hq := h.2 (e - 1 - (k : Int)) (by omega) (by omega)
  show 1000000 ≤ bkP _ _ _
  unfold bkP
  have h2 : 0 ≤ (100000 - qf (e - 1 - (k : Int))) * vP qf i e k := Int.mul_nonneg (by omega) h1.1
  have h3 : 0 ≤ (100000 - qf (e - 1 - (k : Int))) * vP qf i e k / 100000 * 1000 / (1000 + i) := Int.ediv_nonneg (by omega) (by have := h.1; omega)
  omega
