/-! PLAIN: the reference's memory: scratch and state; its policies' numbers; what holds of it -/
set_option maxRecDepth 100000
/-- the state's fields of τ (1 to 44), the scratch of D (0: thrown; 45 on) -/
def sc (τ D : mMem) : mMem := fun k => cond (Nat.beq k 0 || Nat.ble 45 k) (D k) (τ k)
theorem sc_D {τ D : mMem} {k : Nat} {i z : Int} (hk : (Nat.beq k 0 || Nat.ble 45 k) = true) : st2 (sc τ D) k i z = sc τ (st2 D k i z) := by
  funext j
  by_cases hj : j = k
  · subst hj; simp [st2, sc, hk]
  · simp [st2, sc, hj]
theorem sc_t {τ D : mMem} {k : Nat} {i z : Int} (hk : (Nat.beq k 0 || Nat.ble 45 k) = false) : st2 (sc τ D) k i z = sc (st2 τ k i z) D := by
  funext j
  by_cases hj : j = k
  · subst hj; simp [st2, sc, hk]
  · simp [st2, sc, hj]
theorem sc_rD {τ D : mMem} {k : Nat} {i z : Int} (hk : (Nat.beq k 0 || Nat.ble 45 k) = true) : sc τ (st2 D k i z) k i = z := by simp [sc, hk, st2, iup]
theorem sc_rt {τ D : mMem} {k : Nat} {i z : Int} (hk : (Nat.beq k 0 || Nat.ble 45 k) = false) : sc (st2 τ k i z) D k i = z := by simp [sc, hk, st2, iup]
theorem sc_sc {τ D D' : mMem} : sc (sc τ D) D' = sc τ D' := by
  funext j
  unfold sc
  cases (Nat.beq j 0 || Nat.ble 45 j) <;> rfl
theorem ite01 {P : Prop} [Decidable P] {z : Int} (h : z = if P then 1 else 0) : (z = 1 ∧ P) ∨ (z = 0 ∧ ¬P) := by
  by_cases hp : P
  · rw [if_pos hp] at h; exact Or.inl ⟨h, hp⟩
  · rw [if_neg hp] at h; exact Or.inr ⟨h, hp⟩
theorem bT {P : Prop} {z : Int} (h : (z = 1 ∧ P) ∨ (z = 0 ∧ ¬P)) (hz : ¬ z = 0) : P := h.elim (fun a => a.2) (fun a => absurd a.1 hz)
theorem bF {P : Prop} {z : Int} (h : (z = 1 ∧ P) ∨ (z = 0 ∧ ¬P)) (hz : z = 0) : ¬P := h.elim (fun a => absurd (a.1.symm.trans hz) (by decide)) (fun a => a.2)
abbrev zS (E : zEn) (A : Nat → Nat) (h : zHp) (τ : mMem) (r : Option Value) (K : mMem → Prop) : Option Value → zHp → Prop := fun v h' => v = r ∧ ∃ D' : mMem, K D' ∧ h' = zM E A h (sc τ D')
def kp (D D' : mMem) : Prop := ∀ k : Nat, k < 45 ∨ 50 < k → D' k = D k
theorem kp.rfl {D : mMem} : kp D D := fun _ _ => Eq.refl _
theorem kp.trans {D D' D2 : mMem} (h : kp D D') (h2 : kp D' D2) : kp D D2 := fun k hk => (h2 k hk).trans (h k hk)
theorem kp.st {D D' : mMem} {k : Nat} {i z : Int} (h : kp D D') (hk : (Nat.ble 45 k && Nat.ble k 50) = true) : kp D (st2 D' k i z) := fun j hj => by
  simp only [Bool.and_eq_true, Nat.ble_eq] at hk
  rw [st2_k (by omega)]; exact h j hj
/-- a policy's numbers by the places of the office's fields -/
def tP (τ : mMem) (p : Int) : Nat → Int
  | 0 => p | 1 => τ 23 p | 2 => τ 27 p | 3 => τ 28 p | 4 => τ 26 p | 6 => if 4 ≤ τ 25 p then 1 else 0 | 7 => τ 35 p | 8 => τ 39 p | 9 => τ 36 p | 10 => τ 37 p
  | 11 => τ 38 p | 12 => τ 29 p | 13 => τ 30 p | 14 => τ 33 p | 15 => τ 32 p | 16 => if τ 23 p = 3 then τ 31 p else 0 | 17 => τ 34 p | _ => 0
/-- the numbers of a life and its policy's years by which runs goes -/
def okM (τ : mMem) (law fl b pts st e : Int) : Prop := (0 ≤ τ 2 0 ∧ τ 2 0 ≤ 20) ∧ (0 ≤ law ∧ law < 3) ∧ (0 ≤ τ 18 law ∧ τ 18 law ≤ 150) ∧ (0 ≤ τ 19 law ∧ τ 19 law ≤ 200) ∧ (0 ≤ fl ∧ fl ≤ 7) ∧ (0 ≤ pts ∧ pts ≤ 300) ∧ (1700 ≤ b ∧ b ≤ st ∧ st ≤ e ∧ e ≤ b + 110 ∧ e ≤ 2400)
abbrev qT (τ : mMem) (law fl b pts st : Int) : Int → Int := pqS (τ 2 0) (τ 19 law) b (fl % 2) (fl / 2 % 2) st pts
theorem okM_R {τ : mMem} {law fl b pts st e : Int} (h : okM τ law fl b pts st e) : okR (qT τ law fl b pts st) (τ 18 law) st e := by
  obtain ⟨h1, h2, h3, h4, h5, h6, h7⟩ := h
  exact ⟨h3.1, fun y hy1 hy2 => qS_bd ⟨h1, h4, by omega, by omega, ⟨by omega, by omega, by omega⟩, h6⟩⟩
/-- what runs leaves behind -/
def rnK (τ : mMem) (law kind fl b pts st e y : Int) (D D' : mMem) : Prop :=
  (D' 45 0 = vD (qT τ law fl b pts st) (τ 18 law) e (d0S kind) (e - y).toNat ∧ D' 46 0 = vP (qT τ law fl b pts st) (τ 18 law) e (e - y).toNat ∧ D' 47 0 = vN (qT τ law fl b pts st) (τ 18 law) e (e - y).toNat) ∧
  (D' 48 0 = vD (qT τ law fl b pts st) (τ 18 law) e (d0S kind) (e - st).toNat ∧ D' 49 0 = vP (qT τ law fl b pts st) (τ 18 law) e (e - st).toNat ∧ D' 50 0 = vN (qT τ law fl b pts st) (τ 18 law) e (e - st).toNat) ∧ kp D D'
theorem vD_st {qf : Int → Int} {i e d0 t : Int} (h : t < e) : vD qf i e d0 (e - t).toNat = bkD (qf t) i (vD qf i e d0 (e - 1 - t).toNat) := by
  rw [show (e - t).toNat = (e - 1 - t).toNat + 1 by omega]
  show bkD (qf (e - 1 - ((e - 1 - t).toNat : Int))) i _ = _
  rw [show e - 1 - ((e - 1 - t).toNat : Int) = t by omega]
theorem vP_st {qf : Int → Int} {i e t : Int} (h : t < e) : vP qf i e (e - t).toNat = bkP (qf t) i (vP qf i e (e - 1 - t).toNat) := by
  rw [show (e - t).toNat = (e - 1 - t).toNat + 1 by omega]
  show bkP (qf (e - 1 - ((e - 1 - t).toNat : Int))) i _ = _
  rw [show e - 1 - ((e - 1 - t).toNat : Int) = t by omega]
theorem vN_st {qf : Int → Int} {i e t : Int} (h : t < e) : vN qf i e (e - t).toNat = bkN (qf t) i (vN qf i e (e - 1 - t).toNat) := by
  rw [show (e - t).toNat = (e - 1 - t).toNat + 1 by omega]
  show bkN (qf (e - 1 - ((e - 1 - t).toNat : Int))) i _ = _
  rw [show e - 1 - ((e - 1 - t).toNat : Int) = t by omega]
/-- the sum of f over 0 .. n-1 -/
def sumN (f : Int → Int) : Nat → Int
  | 0 => 0
  | n + 1 => sumN f n + f (n : Int)
abbrev sumT (f : Int → Int) (n : Int) : Int := sumN f n.toNat
theorem sumT_0 {f : Int → Int} : sumT f 0 = 0 := rfl
theorem sumT_s {f : Int → Int} {n : Int} (h : 0 ≤ n) : sumT f (n + 1) = sumT f n + f n := by
  unfold sumT
  rw [show (n + 1).toNat = n.toNat + 1 by omega]
  show sumN f n.toNat + f (n.toNat : Int) = _
  rw [show (n.toNat : Int) = n by omega]
theorem sumN_congr {f g : Int → Int} : ∀ n : Nat, (∀ p : Int, 0 ≤ p → p < n → f p = g p) → sumN f n = sumN g n
  | 0, _ => rfl
  | n + 1, h => by
    show sumN f n + f n = sumN g n + g n
    rw [sumN_congr n (fun p a b => h p a (by omega)), h n (by omega) (by omega)]
theorem sumT_congr {f g : Int → Int} {n : Int} (h : ∀ p : Int, 0 ≤ p → p < n → f p = g p) : sumT f n = sumT g n := sumN_congr _ fun p a b => h p a (by omega)
/-- a policy's reserve by a law at a year; its net premium by law and points -/
def rsT (τ : mMem) (law p y : Int) : Int := rsS (τ 2 0) (τ 18 law) (τ 19 law) (τ 20 law) (τ 24 p) (τ 25 p % 2) (τ 25 p / 2 % 2) (tP τ p) y
def npT (τ : mMem) (law p pts : Int) : Int := npS (τ 2 0) (τ 19 law) (τ 24 p) (τ 25 p % 2) (τ 25 p / 2 % 2) (τ 18 law) (tP τ p) pts
def svT (τ : mMem) (p y : Int) : Int := svS (τ 23 p) (rsT τ 0 p y)
def clT (τ : mMem) (p : Int) : Int := clS (τ 2 0) (τ 19 0) (τ 24 p) (τ 25 p % 2) (τ 25 p / 2 % 2) (τ 18 0) (tP τ p) (τ 7 0)
def totT (τ : mMem) (law : Int) : Int := sumT (fun p => rsT τ law p (τ 1 0)) (τ 10 0)
def loansT (τ : mMem) : Int := sumT (fun p => τ 38 p) (τ 10 0)
def fundT (τ : mMem) : Int := τ 14 0 + loansT τ + sumT (fun b => τ 43 b) (τ 11 0)
def estT (τ : mMem) : Int := fundT τ - totT τ 0
def liveT (τ : mMem) : Int := sumT (fun p => if τ 29 p ≤ 3 then 1 else 0) (τ 10 0)
/-- what holds of a policy -/
def okP1 (τ : mMem) (p : Int) : Prop := okP (τ 2 0) (τ 24 p) (τ 25 p % 2) (τ 25 p / 2 % 2) (tP τ p) ∧ (0 ≤ τ 25 p ∧ τ 25 p ≤ 7)
def okY (τ : mMem) (p y : Int) : Prop := τ 27 p ≤ y ∧ (τ 29 p ≤ 3 → y ≤ τ 28 p) ∧ y ≤ 2400
def okA (τ : mMem) : Prop := (0 ≤ τ 10 0 ∧ τ 10 0 ≤ 24) ∧ ∀ p, 0 ≤ p → p < τ 10 0 → okP1 τ p ∧ okY τ p (τ 1 0)
def okPol (τ : mMem) (p : Int) : Prop := okP1 τ p ∧ τ 35 p + τ 36 p ≤ 100000000 ∧ (τ 34 p = 1 → τ 23 p ≤ 1) ∧ τ 27 p ≤ τ 1 0 ∧ (τ 29 p ≤ 3 → τ 1 0 < τ 28 p) ∧ (0 ≤ τ 31 p ∧ τ 31 p ≤ τ 1 0 - 1900) ∧ (0 ≤ τ 33 p ∧ τ 33 p ≤ 300) ∧ (0 ≤ τ 32 p ∧ τ 32 p ≤ τ 1 0) ∧ τ 38 p ≤ 110000000 ∧ (2 ≤ τ 23 p → τ 25 p ≤ 3) ∧ (τ 23 p = 1 → τ 28 p ≤ τ 27 p + 60)
def okLaw (τ : mMem) (k : Int) : Prop := okW (τ 18 k) (τ 19 k) (τ 20 k)
def okBnd (τ : mMem) (b : Int) : Prop := (1 ≤ τ 42 b ∧ τ 42 b ≤ 50) ∧ (0 ≤ τ 43 b ∧ τ 43 b ≤ 100000000) ∧ (0 ≤ τ 44 b ∧ τ 44 b ≤ 150)
/-- what holds of the reference between two calls -/
def okT (τ : mMem) : Prop :=
  (1900 ≤ τ 1 0 ∧ τ 1 0 ≤ 2150) ∧
  (0 ≤ τ 2 0 ∧ τ 2 0 ≤ 20) ∧
  ((0 ≤ τ 3 0 ∧ τ 3 0 ≤ 500) ∧ (0 ≤ τ 4 0 ∧ τ 4 0 ≤ 1000) ∧ (0 ≤ τ 5 0 ∧ τ 5 0 ≤ 100) ∧ (0 ≤ τ 6 0 ∧ τ 6 0 ≤ 100) ∧ (0 ≤ τ 7 0 ∧ τ 7 0 ≤ 1000) ∧ (0 ≤ τ 8 0 ∧ τ 8 0 ≤ 1000000) ∧ (0 ≤ τ 9 0 ∧ τ 9 0 ≤ 1000)) ∧
  ((0 ≤ τ 10 0 ∧ τ 10 0 ≤ 24) ∧ (0 ≤ τ 11 0 ∧ τ 11 0 ≤ 16)) ∧
  ((τ 12 0 = 0 ∨ τ 12 0 = 1) ∧ (τ 13 0 = 0 ∨ τ 13 0 = 1)) ∧
  ((0 ≤ τ 15 0 ∧ τ 15 0 ≤ 24 * (τ 1 0 - 1900)) ∧ (0 ≤ τ 16 0 ∧ τ 16 0 ≤ 2400000 * (τ 1 0 - 1900))) ∧
  (∀ k, 0 ≤ k → k < 3 → okLaw τ k) ∧
  (τ 20 0 = 0) ∧
  (∀ p, 0 ≤ p → p < τ 10 0 → okPol τ p) ∧
  (∀ b, 0 ≤ b → b < τ 11 0 → okBnd τ b) ∧
  (∀ b c, 0 ≤ b → b < c → c < τ 11 0 → τ 42 b ≤ τ 42 c)
theorem okT.year {τ : mMem} (h : okT τ) : 1900 ≤ τ 1 0 ∧ τ 1 0 ≤ 2150 := h.1
theorem okT.imp {τ : mMem} (h : okT τ) : 0 ≤ τ 2 0 ∧ τ 2 0 ≤ 20 := h.2.1
theorem okT.nums {τ : mMem} (h : okT τ) : (0 ≤ τ 3 0 ∧ τ 3 0 ≤ 500) ∧ (0 ≤ τ 4 0 ∧ τ 4 0 ≤ 1000) ∧ (0 ≤ τ 5 0 ∧ τ 5 0 ≤ 100) ∧ (0 ≤ τ 6 0 ∧ τ 6 0 ≤ 100) ∧ (0 ≤ τ 7 0 ∧ τ 7 0 ≤ 1000) ∧ (0 ≤ τ 8 0 ∧ τ 8 0 ≤ 1000000) ∧ (0 ≤ τ 9 0 ∧ τ 9 0 ≤ 1000) := h.2.2.1
theorem okT.many {τ : mMem} (h : okT τ) : (0 ≤ τ 10 0 ∧ τ 10 0 ≤ 24) ∧ (0 ≤ τ 11 0 ∧ τ 11 0 ≤ 16) := h.2.2.2.1
theorem okT.bits {τ : mMem} (h : okT τ) : (τ 12 0 = 0 ∨ τ 12 0 = 1) ∧ (τ 13 0 = 0 ∨ τ 13 0 = 1) := h.2.2.2.2.1
theorem okT.exp {τ : mMem} (h : okT τ) : (0 ≤ τ 15 0 ∧ τ 15 0 ≤ 24 * (τ 1 0 - 1900)) ∧ (0 ≤ τ 16 0 ∧ τ 16 0 ≤ 2400000 * (τ 1 0 - 1900)) := h.2.2.2.2.2.1
theorem okT.law {τ : mMem} (h : okT τ) : ∀ k, 0 ≤ k → k < 3 → okLaw τ k := h.2.2.2.2.2.2.1
theorem okT.law0 {τ : mMem} (h : okT τ) : τ 20 0 = 0 := h.2.2.2.2.2.2.2.1
theorem okT.pol {τ : mMem} (h : okT τ) : ∀ p, 0 ≤ p → p < τ 10 0 → okPol τ p := h.2.2.2.2.2.2.2.2.1
theorem okT.bnd {τ : mMem} (h : okT τ) : ∀ b, 0 ≤ b → b < τ 11 0 → okBnd τ b := h.2.2.2.2.2.2.2.2.2.1
theorem okT.ord {τ : mMem} (h : okT τ) : ∀ b c, 0 ≤ b → b < c → c < τ 11 0 → τ 42 b ≤ τ 42 c := h.2.2.2.2.2.2.2.2.2.2
theorem okT.A {τ : mMem} (h : okT τ) : okA τ := ⟨h.many.1, fun p a b => ⟨(h.pol p a b).1, by
  have := h.pol p a b
  have hy := h.year
  unfold okPol at this
  unfold okY
  omega⟩⟩
theorem okP1.M {τ : mMem} {p law pts : Int} (h : okP1 τ p) (hl : 0 ≤ law ∧ law < 3) (hw : okLaw τ law) (hpts : 0 ≤ pts ∧ pts ≤ 300) : okM τ law (τ 25 p) (τ 24 p) pts (τ 27 p) (τ 28 p) := by
  simp only [okLaw, okW] at hw
  simp only [okP1, okP, tP] at h
  unfold okM
  omega
theorem rsT_of {τ : mMem} {law p y : Int} {D D' : mMem} (k : rnK τ law (τ 23 p) (τ 25 p) (τ 24 p) (τ 26 p) (τ 27 p) (τ 28 p) y D D') (h : ¬ (3 < τ 29 p ∨ y = τ 27 p)) : rsT τ law p y = if τ 20 law = 1 then max 0 (if τ 23 p = 3 then τ 35 p * D' 47 0 / 1000000 else (τ 35 p + τ 36 p) * D' 45 0 / 1000000 - (if τ 34 p = 1 then 0 else netS (τ 23 p) (τ 35 p) (D' 48 0) (D' 49 0) (D' 50 0) * D' 46 0 / 1000000)) else (if τ 23 p = 3 then τ 35 p * D' 47 0 / 1000000 else (τ 35 p + τ 36 p) * D' 45 0 / 1000000 - (if τ 34 p = 1 then 0 else netS (τ 23 p) (τ 35 p) (D' 48 0) (D' 49 0) (D' 50 0) * D' 46 0 / 1000000)) := by
  obtain ⟨⟨k1, k2, k3⟩, ⟨k4, k5, k6⟩, _⟩ := k
  rw [k1, k2, k3, k4, k5, k6]
  unfold rsT rsS
  exact if_neg h
theorem rsT_0 {τ : mMem} {law p y : Int} (h : 3 < τ 29 p ∨ y = τ 27 p) : rsT τ law p y = 0 := by
  unfold rsT rsS
  exact if_pos h
theorem rn_bd {τ : mMem} {law p y pts : Int} {D D' : mMem} (h : okP1 τ p) (hw : okLaw τ law) (hp : 0 ≤ pts ∧ pts ≤ 300) (hy : τ 27 p ≤ y ∧ y ≤ τ 28 p) (k : rnK τ law (τ 23 p) (τ 25 p) (τ 24 p) pts (τ 27 p) (τ 28 p) y D D') : (0 ≤ D' 45 0 ∧ D' 45 0 ≤ 1000000) ∧ (0 ≤ D' 46 0 ∧ D' 46 0 ≤ 110000000) ∧ (0 ≤ D' 47 0 ∧ D' 47 0 ≤ 110000000) ∧ (0 ≤ D' 48 0 ∧ D' 48 0 ≤ 1000000) ∧ (1000000 ≤ D' 49 0 ∧ D' 49 0 ≤ 110000000) ∧ (0 ≤ D' 50 0 ∧ D' 50 0 ≤ 110000000) := by
  obtain ⟨⟨k1, k2, k3⟩, ⟨k4, k5, k6⟩, _⟩ := k
  have ha := vals_bd h.1 hw hp (y := y) hy
  have hs : τ 27 p < τ 28 p := by have := h.1; simp only [okP, tP] at this; omega
  have hb := vals_bd h.1 hw hp (y := τ 27 p) ⟨Int.le_refl _, Int.le_of_lt hs⟩
  have hb4 := hb.2.2.2 hs
  simp only [tP] at ha hb hb4
  rw [k1, k2, k3, k4, k5, k6]
  exact ⟨ha.1, ha.2.1, ha.2.2.1, hb.1, ⟨hb4, hb.2.1.2⟩, hb.2.2.1⟩
theorem rsT_bd {τ : mMem} {law p y : Int} (h : okP1 τ p) (hw : okLaw τ law) (hy : okY τ p y) : -120000000 ≤ rsT τ law p y ∧ rsT τ law p y ≤ 120000000 ∧ (τ 23 p ≠ 3 → rsT τ law p y ≤ τ 35 p + τ 36 p) := by
  by_cases h0 : 3 < τ 29 p
  · rw [rsT_0 (Or.inl h0)]
    have := h.1
    simp only [okP, tP] at this
    omega
  · exact rsS_bd h.1 hw (y := y) ⟨hy.1, hy.2.1 (by omega)⟩
theorem npT_bd {τ : mMem} {law p pts : Int} (h : okP1 τ p) (hw : okLaw τ law) (hp : 0 ≤ pts ∧ pts ≤ 300) : 0 ≤ npT τ law p pts ∧ npT τ law p pts ≤ 110000000 := ⟨(npS_bd h.1 hw hp).1, (npS_bd h.1 hw hp).2.1⟩
theorem npT_of {τ : mMem} {law p y pts : Int} {D D' : mMem} (k : rnK τ law (τ 23 p) (τ 25 p) (τ 24 p) pts (τ 27 p) (τ 28 p) y D D') : npT τ law p pts = netS (τ 23 p) (τ 35 p) (D' 48 0) (D' 49 0) (D' 50 0) := by
  obtain ⟨⟨k1, k2, k3⟩, ⟨k4, k5, k6⟩, _⟩ := k
  rw [k4, k5, k6]
  rfl
