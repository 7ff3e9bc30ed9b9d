/-! PLAIN: what each call answers: thrown, value, the state after -/
set_option maxRecDepth 100000
abbrev oR : Type := Int × Int × mMem
abbrev zOI (E : zEn) (A : Nat → Nat) (h : zHp) (r : oR) : Option Value → zHp → Prop := zS E A h r.2.2 (some (.int (iI r.2.1))) (fun D' => D' 0 0 = r.1)
abbrev zOL (E : zEn) (A : Nat → Nat) (h : zHp) (r : oR) : Option Value → zHp → Prop := zS E A h r.2.2 (some (.long (iL r.2.1))) (fun D' => D' 0 0 = r.1)
abbrev isP (τ : mMem) (p : Int) : Prop := 0 ≤ p ∧ p < τ 10 0
def oFound (τ : mMem) (y c : Int) : oR := if (1900 ≤ y ∧ y ≤ 2050) ∧ 0 ≤ c ∧ c ≤ 1000000000 then (0, τ 10 0, fdS τ y c) else (1, 0, τ)
def oYear (τ : mMem) : oR := (0, τ 1 0, τ)
def slT (τ : mMem) (law i c z : Int) : mMem := st2 (st2 (st2 τ 18 law i) 19 law c) 20 law z
def oSetLaw (τ : mMem) (law i c z : Int) : oR := if ¬ (0 ≤ law ∧ law < 3) then (1, 0, τ) else if ¬ ((0 ≤ i ∧ i ≤ 150) ∧ (50 ≤ c ∧ c ≤ 200) ∧ ¬ (law = 0 ∧ z = 1)) then (2, 0, τ)
  else (0, totT (slT τ law i c z) law, ad (slT τ law i c z) 21 6 (- (totT (slT τ law i c z) 0 - totT τ 0)))
def oImp (τ : mMem) (i : Int) : oR := if 0 ≤ i ∧ i ≤ 20 then (0, τ 2 0, ad (st2 τ 2 0 i) 21 6 (- (totT (st2 τ 2 0 i) 0 - totT τ 0))) else (1, 0, τ)
def oLoad (τ : mMem) (a b : Int) : oR := if (0 ≤ a ∧ a ≤ 500) ∧ 0 ≤ b ∧ b ≤ 1000 then (0, τ 3 0, st2 (st2 τ 3 0 a) 4 0 b) else (1, 0, τ)
def oMort (τ : mMem) (law fl b y py : Int) : oR := if ¬ (0 ≤ law ∧ law < 3) then (1, 0, τ) else if ¬ ((0 ≤ fl ∧ fl ≤ 3) ∧ (1800 ≤ b ∧ b ≤ 2150) ∧ (b ≤ y ∧ y ≤ 2260) ∧ (0 ≤ py ∧ py ≤ 200)) then (2, 0, τ) else (0, qS (τ 2 0) (τ 19 law) b (fl % 2) (fl / 2 % 2) y py 0, τ)
def oMoney (τ : mMem) (w : Int) : oR := if 0 ≤ w ∧ w ≤ 4 then (0, if w = 0 then fundT τ else if w = 1 then τ 14 0 else if w = 2 then estT τ else if w = 3 then loansT τ else τ 17 0, τ) else (1, 0, τ)
def oQuote (τ : mMem) (kind u term b fl pts : Int) : oR := if ofT τ kind u term b fl pts then (0, pmT τ kind u term b fl pts, τ) else (1, 0, τ)
def isT (τ : mMem) (kind u term b fl pts : Int) : mMem :=
  st2 (st2 (st2 (st2 (st2 (st2 (st2 (st2 (st2 (st2 (st2 (st2 (st2 (st2 (st2 (st2 (st2 (st2 (st2 (st2 τ 10 0 (τ 10 0 + 1)) 23 (τ 10 0) kind) 35 (τ 10 0) u) 24 (τ 10 0) b) 25 (τ 10 0) fl) 26 (τ 10 0) pts) 27 (τ 10 0) (τ 1 0)) 28 (τ 10 0) (enT τ kind term b)) 39 (τ 10 0) (pmT τ kind u term b fl pts)) 29 (τ 10 0) 0) 34 (τ 10 0) 0) 30 (τ 10 0) pts) 31 (τ 10 0) 0) 32 (τ 10 0) 0) 33 (τ 10 0) 0) 36 (τ 10 0) 0) 37 (τ 10 0) 0) 38 (τ 10 0) 0) 40 (τ 10 0) 0) 41 (τ 10 0) 0
def oIssue (τ : mMem) (kind u term b fl pts : Int) : oR := if ¬ ofT τ kind u term b fl pts then (1, 0, τ) else if τ 10 0 = 24 ∨ τ 13 0 = 1 ∨ 150 < pts ∨ τ 1 0 = 2150 then (2, 0, τ) else (0, τ 10 0, isT τ kind u term b fl pts)
def oPols (τ : mMem) : oR := (0, τ 10 0, τ)
def oState (τ : mMem) (p : Int) : oR := if isP τ p then (0, τ 29 p, τ) else (1, 0, τ)
def oPolAt (τ : mMem) (p w : Int) : oR := if ¬ isP τ p then (1, 0, τ) else if ¬ (0 ≤ w ∧ w ≤ 7) then (2, 0, τ) else (0, if w = 0 then τ 39 p else if w = 1 then τ 35 p else if w = 2 then τ 36 p else if w = 3 then τ 37 p else if w = 4 then τ 38 p else if w = 5 then svT τ p (τ 1 0) else if w = 6 then τ 27 p else τ 28 p, τ)
def oRes (τ : mMem) (p law : Int) : oR := if isP τ p ∧ 0 ≤ law ∧ law < 3 then (0, rsT τ law p (τ 1 0), τ) else (1, 0, τ)
def oRess (τ : mMem) (law : Int) : oR := if 0 ≤ law ∧ law < 3 then (0, totT τ law, τ) else (1, 0, τ)
def vdT (τ : mMem) (p y : Int) : Int := vD (qT τ 0 (τ 25 p) (τ 24 p) (τ 26 p) (τ 27 p)) (τ 18 0) (τ 28 p) (d0S (τ 23 p)) (τ 28 p - y).toNat
def puS (τ : mMem) (p : Int) : Int := max 0 (rsT τ 0 p (τ 1 0) * 1000000 / vdT τ p (τ 1 0) - τ 36 p)
def puT (τ : mMem) (p : Int) : mMem := st2 (st2 (st2 τ 35 p (puS τ p)) 29 p 1) 34 p 1
def oPaid (τ : mMem) (p : Int) : oR := if ¬ isP τ p then (1, 0, τ) else if τ 29 p ≠ 0 ∨ 2 ≤ τ 23 p ∨ τ 27 p = τ 1 0 ∨ rsT τ 0 p (τ 1 0) ≤ 0 then (2, 0, τ) else (0, puS τ p, ad (puT τ p) 21 4 (rsT τ 0 p (τ 1 0) - rsT (puT τ p) 0 p (τ 1 0)))
def oLend (τ : mMem) (p a : Int) : oR := if ¬ isP τ p then (1, 0, τ) else if a < 1 then (2, 0, τ) else if 1 < τ 29 p ∨ svT τ p (τ 1 0) * 9 / 10 < τ 38 p + a then (3, 0, τ) else (0, τ 38 p + a, st2 (st2 τ 38 p (τ 38 p + a)) 14 0 (τ 14 0 - a))
def oRepay (τ : mMem) (p a : Int) : oR := if ¬ isP τ p then (1, 0, τ) else if ¬ (1 ≤ a ∧ a ≤ τ 38 p) then (2, 0, τ) else if 1 < τ 29 p then (3, 0, τ) else (0, τ 38 p - a, st2 (st2 τ 38 p (τ 38 p - a)) 14 0 (τ 14 0 + a))
def oDeath (τ : mMem) (p n : Int) : oR := if ¬ isP τ p then (1, 0, τ) else if ¬ (0 ≤ n ∧ n ≤ 300) then (2, 0, τ) else if 1 < τ 29 p then (3, 0, τ) else (0, clT (st2 (st2 τ 29 p 2) 30 p n) p, st2 (st2 τ 29 p 2) 30 p n)
def oLate (τ : mMem) (p n : Int) : oR := if ¬ isP τ p then (1, 0, τ) else if ¬ (1 ≤ n ∧ n ≤ (if τ 23 p = 3 then τ 31 p else 0)) then (2, 0, τ) else if ¬ (τ 23 p = 3 ∧ τ 29 p = 0) then (3, 0, τ) else (0, τ 35 p * n, st2 (st2 (ad τ 21 0 (τ 35 p * n + rsT τ 0 p (τ 1 0))) 14 0 (τ 14 0 + τ 35 p * n)) 29 p 4)
def oSurr (τ : mMem) (p : Int) : oR := if ¬ isP τ p then (1, 0, τ) else if 1 < τ 29 p ∨ 2 ≤ τ 23 p then (2, 0, τ) else (0, svT (st2 τ 29 p 3) p (τ 1 0), st2 τ 29 p 3)
def oLapse (τ : mMem) (p : Int) : oR := if ¬ isP τ p then (1, 0, τ) else if τ 29 p ≠ 0 ∨ τ 23 p = 3 then (2, 0, τ) else (0, rsT τ 0 p (τ 1 0), st2 (st2 (st2 (ad τ 21 4 (rsT τ 0 p (τ 1 0) - τ 38 p)) 38 p 0) 32 p (τ 1 0)) 29 p 7)
def riP (τ : mMem) (p : Int) : Int := if τ 34 p = 1 then 0 else (τ 1 0 - τ 32 p) * (τ 39 p * 1050 / 1000)
def riM (τ : mMem) (p : Int) : mMem := st2 (st2 τ 29 p (if τ 34 p = 1 then 1 else 0)) 14 0 (τ 14 0 + riP τ p)
def oRein (τ : mMem) (p : Int) : oR := if ¬ isP τ p then (1, 0, τ) else if τ 29 p ≠ 7 ∨ 2 < τ 1 0 - τ 32 p ∨ τ 28 p ≤ τ 1 0 then (2, 0, τ) else (0, riP τ p, ad (riM τ p) 21 4 (riP τ p - rsT (riM τ p) 0 p (τ 1 0)))
def oGuar (τ : mMem) (p g : Int) : oR := if ¬ isP τ p then (1, 0, τ) else if ¬ (0 ≤ g ∧ g ≤ 300) then (2, 0, τ) else if τ 23 p ≠ 1 ∨ 1 < τ 29 p then (3, 0, τ) else (0, τ 33 p, st2 τ 33 p g)
def oOpt (τ : mMem) (p s : Int) : oR := if ¬ isP τ p then (1, 0, τ) else if ¬ (0 ≤ s ∧ s ≤ 20) then (2, 0, τ) else if τ 23 p ≠ 1 ∨ 3 < τ 29 p then (3, 0, τ) else (0, if τ 33 p = 0 then 0 else opT τ p s, τ)
def oSmooth (τ : mMem) (n : Int) : oR := if 0 ≤ n ∧ n ≤ 100 then (0, τ 5 0, st2 τ 5 0 n) else (1, 0, τ)
def abI (x : Int) : Int := if x < 0 then -x else x
def oFinal (τ : mMem) (n : Int) : oR := if ¬ (0 ≤ n ∧ n ≤ 1000) then (1, 0, τ) else if 20 * τ 5 0 < abI (n - τ 7 0) then (2, 0, τ) else (0, τ 7 0, st2 τ 7 0 n)
def oBondAt (τ : mMem) (b w : Int) : oR := if ¬ (0 ≤ b ∧ b < τ 11 0) then (1, 0, τ) else if ¬ (0 ≤ w ∧ w ≤ 2) then (2, 0, τ) else (0, if w = 0 then τ 42 b else if w = 1 then τ 43 b else τ 44 b, τ)
def oDef (τ : mMem) (b n : Int) : oR := if ¬ (0 ≤ b ∧ b < τ 11 0) then (1, 0, τ) else if ¬ (1 ≤ n ∧ n ≤ 1000) then (2, 0, τ) else (0, τ 43 b * n / 1000, ad (st2 τ 43 b (τ 43 b - τ 43 b * n / 1000)) 21 8 (- (τ 43 b * n / 1000)))
def oReins (τ : mMem) (r q : Int) : oR := if (0 ≤ r ∧ r ≤ 1000000) ∧ 0 ≤ q ∧ q ≤ 1000 then (0, τ 8 0, st2 (st2 τ 8 0 r) 9 0 q) else (1, 0, τ)
def oCloseY (τ : mMem) (j x : Int) : oR := if ¬ ((0 ≤ j ∧ j ≤ 100) ∧ 0 ≤ x ∧ x ≤ 1000) then (1, 0, τ) else if τ 1 0 = 2150 then (2, 0, τ) else (0, closeS τ j x 17 0, closeS τ j x)
def oSurplus (τ : mMem) (k : Int) : oR := if 0 ≤ k ∧ k ≤ 8 then (0, τ 22 k, τ) else (1, 0, τ)
def oExp (τ : mMem) (w : Int) : oR := if 0 ≤ w ∧ w ≤ 4 then (0, if w = 0 then τ 15 0 else if w = 1 then τ 16 0 else if w = 2 then crT τ else if w = 3 then raT τ else blT τ, τ) else (1, 0, τ)
def adM (τ : mMem) : mMem := st2 (st2 (st2 τ 19 0 (max 50 (min 200 (τ 19 0 * blT τ / 1000)))) 15 0 0) 16 0 0
def oAdopt (τ : mMem) : oR := (0, max 50 (min 200 (τ 19 0 * blT τ / 1000)), ad (adM τ) 21 6 (- (totT (adM τ) 0 - totT τ 0)))
def oExpP (τ : mMem) (a : Int) : oR := if 0 ≤ a ∧ a ≤ 40 then (0, exA τ a, τ) else (1, 0, τ)
def oBondP (τ : mMem) (a : Int) : oR := if 0 ≤ a ∧ a ≤ 40 then (0, bpT τ a, τ) else (1, 0, τ)
def oClose (τ : mMem) : oR := if τ 13 0 = 1 then (1, 0, τ) else (0, liveT τ, st2 τ 13 0 1)
theorem abI_bd {x B : Int} (h : -B ≤ x ∧ x ≤ B) : 0 ≤ abI x ∧ abI x ≤ B := by unfold abI; split <;> omega
theorem okA_of {τ τ' : mMem} (h : okA τ) (h1 : τ' 1 = τ 1) (h10 : τ' 10 0 = τ 10 0) (hp : ∀ p, 0 ≤ p → p < τ 10 0 → okP1 τ' p ∧ (τ' 27 p = τ 27 p ∧ τ' 28 p = τ 28 p) ∧ (τ' 29 p ≤ 3 → τ 29 p ≤ 3)) : okA τ' := by
  obtain ⟨hm, ha⟩ := h
  refine ⟨by rw [h10]; exact hm, fun p a b => ?_⟩
  rw [h10] at b
  obtain ⟨a1, ⟨a2, a3⟩, a4⟩ := hp p a b
  obtain ⟨b1, b2⟩ := ha p a b
  refine ⟨a1, ?_⟩
  unfold okY at b2 ⊢
  rw [a2, a3, h1]
  exact ⟨b2.1, fun q => b2.2.1 (a4 q), b2.2.2⟩
theorem slA {τ : mMem} {law i c z : Int} (H : okT τ) : okA (slT τ law i c z) := H.A
theorem slW {τ : mMem} {law i c z k : Int} (H : okT τ) (hl : (0 ≤ law ∧ law < 3) ∧ (0 ≤ i ∧ i ≤ 150) ∧ (50 ≤ c ∧ c ≤ 200) ∧ (z = 0 ∨ z = 1)) (h1 : 0 ≤ k) (h2 : k < 3) : okLaw (slT τ law i c z) k := by
  have hk := H.law k h1 h2
  simp only [okLaw, okW] at hk ⊢
  by_cases e : k = law
  · subst e
    have e1 : slT τ k i c z 18 k = i := by simp [slT, st2, iup]
    have e2 : slT τ k i c z 19 k = c := by simp [slT, st2, iup]
    have e3 : slT τ k i c z 20 k = z := by simp [slT, st2, iup]
    rw [e1, e2, e3]; omega
  · have e1 : slT τ law i c z 18 k = τ 18 k := by simp [slT, st2, iup, e]
    have e2 : slT τ law i c z 19 k = τ 19 k := by simp [slT, st2, iup, e]
    have e3 : slT τ law i c z 20 k = τ 20 k := by simp [slT, st2, iup, e]
    rw [e1, e2, e3]; exact hk
theorem impA {τ : mMem} {i : Int} (H : okT τ) (h : 0 ≤ i ∧ i ≤ 20) : okA (st2 τ 2 0 i) := by
  refine okA_of H.A rfl rfl fun p a b => ⟨?_, ⟨rfl, rfl⟩, fun q => q⟩
  have h9 := (H.pol p a b).1
  simp only [okP1, okP, tP] at h9 ⊢
  have e : ∀ k : Nat, k ≠ 2 → st2 τ 2 0 i k = τ k := fun k hk => st2_k hk
  have e2 : st2 τ 2 0 i 2 0 = i := st2_s
  simp only [e 23 (by decide), e 24 (by decide), e 25 (by decide), e 26 (by decide), e 27 (by decide), e 28 (by decide), e 29 (by decide), e 30 (by decide), e 34 (by decide), e 35 (by decide), e 36 (by decide), e 37 (by decide), e 38 (by decide), e 39 (by decide), e2]
  omega
theorem svT_0 {τ : mMem} {p y : Int} (h : 3 < τ 29 p) : svT τ p y = 0 := by
  unfold svT svS
  rw [rsT_0 (Or.inl h)]
  split <;> rfl
theorem deathP {τ : mMem} {p n : Int} (h : okP1 τ p) (hs : τ 29 p ≤ 7) (hn : 0 ≤ n ∧ n ≤ 300) : okP1 (st2 (st2 τ 29 p 2) 30 p n) p := by
  simp only [okP1, okP, tP] at h ⊢
  have e : ∀ k : Nat, k ≠ 29 → k ≠ 30 → st2 (st2 τ 29 p 2) 30 p n k = τ k := fun k h1 h2 => by rw [st2_k h2, st2_k h1]
  have e1 : st2 (st2 τ 29 p 2) 30 p n 29 p = 2 := by rw [st2_k (by decide), st2_s]
  have e2 : st2 (st2 τ 29 p 2) 30 p n 30 p = n := st2_s
  simp only [e 2 (by decide) (by decide), e 23 (by decide) (by decide), e 24 (by decide) (by decide), e 25 (by decide) (by decide), e 26 (by decide) (by decide), e 27 (by decide) (by decide), e 28 (by decide) (by decide), e 34 (by decide) (by decide), e 35 (by decide) (by decide), e 36 (by decide) (by decide), e 37 (by decide) (by decide), e 38 (by decide) (by decide), e 39 (by decide) (by decide), e1, e2]
  omega
theorem stP {τ : mMem} {p v : Int} (h : okP1 τ p) (hv : 0 ≤ v ∧ v ≤ 7) : okP1 (st2 τ 29 p v) p := by
  simp only [okP1, okP, tP] at h ⊢
  have e : ∀ k : Nat, k ≠ 29 → st2 τ 29 p v k = τ k := fun k h1 => st2_k h1
  have e1 : st2 τ 29 p v 29 p = v := st2_s
  simp only [e 2 (by decide), e 23 (by decide), e 24 (by decide), e 25 (by decide), e 26 (by decide), e 27 (by decide), e 28 (by decide), e 30 (by decide), e 34 (by decide), e 35 (by decide), e 36 (by decide), e 37 (by decide), e 38 (by decide), e 39 (by decide), e1]
  omega
theorem stY {τ : mMem} {p v y : Int} (h : τ 27 p ≤ y ∧ y ≤ τ 28 p ∧ y ≤ 2400) : okY (st2 τ 29 p v) p y := ⟨h.1, fun _ => h.2.1, h.2.2⟩
theorem bl_bd {τ : mMem} (h : (0 ≤ τ 15 0 ∧ τ 15 0 ≤ 10000) ∧ (0 ≤ τ 16 0 ∧ τ 16 0 ≤ 1000000000)) : 0 ≤ blT τ ∧ blT τ ≤ 1000001000000 := by
  have e9 := cr_bd h.1
  have e8 := ra_bd h
  have e7 := mul_bd2 e9 e8
  unfold blT
  omega
theorem adA {τ : mMem} (H : okT τ) : okA (adM τ) := H.A
theorem adW {τ : mMem} (H : okT τ) : okLaw (adM τ) 0 := by
  have hk := H.law 0 (by omega) (by omega)
  simp only [okLaw, okW] at hk ⊢
  have e1 : adM τ 18 = τ 18 := rfl
  have e2 : adM τ 19 0 = max 50 (min 200 (τ 19 0 * blT τ / 1000)) := rfl
  have e3 : adM τ 20 = τ 20 := rfl
  rw [e1, e2, e3]
  omega
def genV (τ : mMem) (d w p : Int) : Int := if ¬ (d ≤ τ 27 p ∧ τ 27 p ≤ d + 9) then 0 else if w = 0 then 1 else if w = 1 then τ 40 p else τ 41 p
def oGen (τ : mMem) (d w : Int) : oR := if (1900 ≤ d ∧ d ≤ 2150) ∧ d % 10 = 0 ∧ (0 ≤ w ∧ w ≤ 2) then (0, sumT (genV τ d w) (τ 10 0), τ) else (1, 0, τ)
def oErr (τ : mMem) : oR := (0, 0, τ)
/-- the first k from 0 on, before n, that has c; n if none -/
def firstN (c : Int → Bool) : Nat → Int → Int
  | 0, k => k
  | n + 1, k => if c k = true then k else firstN c n (k + 1)
abbrev shC (τ : mMem) (k : Int) : Bool := decide (w64 (bpT τ k) < w64 (exA τ k))
def oShort (τ : mMem) : oR := (0, if firstN (shC τ) 41 0 = 41 then -1 else firstN (shC τ) 41 0, τ)
theorem firstN_eq {c : Int → Bool} {k : Int} : ∀ (n : Nat) (a : Int), a ≤ k → k < a + n → (∀ q, a ≤ q → q < k → c q = false) → c k = true → firstN c n a = k
  | 0, a, h1, h2, _, _ => absurd h2 (by omega)
  | n + 1, a, h1, h2, h3, h4 => by
    unfold firstN
    by_cases e : a = k
    · subst e; rw [if_pos h4]
    · rw [if_neg (by rw [h3 a (by omega) (by omega)]; decide)]
      exact firstN_eq n (a + 1) (by omega) (by omega) (fun q a b => h3 q (by omega) b) h4
theorem firstN_no {c : Int → Bool} : ∀ (n : Nat) (a : Int), (∀ q, a ≤ q → q < a + n → c q = false) → firstN c n a = a + n
  | 0, a, _ => by simp [firstN]
  | n + 1, a, h => by
    unfold firstN
    rw [if_neg (by rw [h a (by omega) (by omega)]; decide), firstN_no n (a + 1) (fun q x y => h q (by omega) (by omega))]
    omega
