/-! PLAIN: a year's parts: what they leave alone -/
set_option maxRecDepth 100000
theorem eaS_o {τ : mMem} {j : Int} {k : Nat} (h1 : k ≠ 14) (h2 : k ≠ 38) : eaS τ j k = τ k := by
  unfold eaS
  rw [eaL_o h2]
  exact st2_k h1
theorem eaL_38' {τ : mMem} {q : Int} : ∀ n : Nat, eaL τ n 38 q = τ 38 q ∨ eaL τ n 38 q = τ 38 q + moT τ q
  | 0 => Or.inl rfl
  | n + 1 => by
    show ad _ _ _ _ 38 q = _ ∨ ad _ _ _ _ 38 q = _
    unfold ad
    by_cases hq : q = n
    · subst hq
      rw [st2_s, eaL_38 n (Int.le_refl _)]
      exact Or.inr rfl
    · rw [st2_n hq]
      exact eaL_38' n
theorem eaS_38 {τ : mMem} {j q : Int} (h : 0 ≤ τ 38 q ∧ τ 38 q ≤ 110000000) : 0 ≤ eaS τ j 38 q ∧ eaS τ j 38 q ≤ 200000000 := by
  have hm : 0 ≤ moT τ q ∧ moT τ q ≤ 6600000 := by unfold moT; split <;> omega
  have := eaL_38' (τ := ad τ 14 0 (eaC τ j)) (q := q) (τ 10 0).toNat
  rw [show moT (ad τ 14 0 (eaC τ j)) q = moT τ q from rfl, show (ad τ 14 0 (eaC τ j)) 38 q = τ 38 q from rfl] at this
  unfold eaS
  omega
theorem agS_o {τ : mMem} {k : Nat} (h0 : k ≠ 11) (h1 : k ≠ 14) (h2 : k ≠ 42) (h3 : k ≠ 43) (h4 : k ≠ 44) : agS τ k = τ k := by
  unfold agS
  rw [st2_k h0, agN_o h1 h2 h3 h4]
theorem fnS_o {τ : mMem} {p w n : Int} {k : Nat} (h : k ≠ 14 ∧ k ≠ 15 ∧ k ≠ 21 ∧ k ≠ 29 ∧ k ≠ 31 ∧ k ≠ 32 ∧ k ≠ 38 ∧ k ≠ 41) : fnS τ p w n k = τ k := by
  obtain ⟨h1, h2, h3, h4, h5, h6, h7, h8⟩ := h
  unfold fnS enS ad
  repeat' split
  all_goals simp [st2, h1, h2, h3, h4, h5, h6, h7, h8]
theorem st2_q {τ : mMem} {k k' : Nat} {i z q : Int} (h : q ≠ i) : st2 τ k i z k' q = τ k' q := by
  unfold st2
  by_cases hk : k' = k
  · rw [if_pos hk, hk]; simp [iup, h]
  · rw [if_neg hk]
theorem ad_q {τ : mMem} {k k' : Nat} {i z q : Int} (h : q ≠ i) : ad τ k i z k' q = τ k' q := st2_q h
theorem ad_k {τ : mMem} {k k' : Nat} {i z : Int} (h : k' ≠ k) : ad τ k i z k' = τ k' := st2_k h
theorem fnS_p {τ : mMem} {p w n q : Int} {k : Nat} (hq : q ≠ p) (h : k ≠ 14 ∧ k ≠ 15 ∧ k ≠ 21) : fnS τ p w n k q = τ k q := by
  obtain ⟨h1, h2, h3⟩ := h
  unfold fnS enS
  repeat' split
  all_goals simp only [st2_q hq, ad_q hq, st2_k h1, ad_k h1, ad_k h2, ad_k h3]
theorem fnN_o {τ0 τ : mMem} {k : Nat} (h : k ≠ 14 ∧ k ≠ 15 ∧ k ≠ 21 ∧ k ≠ 29 ∧ k ≠ 31 ∧ k ≠ 32 ∧ k ≠ 38 ∧ k ≠ 41) : ∀ n : Nat, fnN τ0 τ n k = τ k
  | 0 => rfl
  | n + 1 => by
    unfold fnN
    split
    · rw [fnS_o h, fnN_o h n]
    · exact fnN_o h n
theorem fnN_p {τ0 τ : mMem} {q : Int} {k : Nat} (h : k ≠ 14 ∧ k ≠ 15 ∧ k ≠ 21) : ∀ n : Nat, (n : Int) ≤ q → fnN τ0 τ n k q = τ k q
  | 0, _ => rfl
  | n + 1, hn => by
    unfold fnN
    split
    · rw [fnS_p (by omega) h, fnN_p h n (by omega)]
    · exact fnN_p h n (by omega)
/-- okP1 goes by these numbers -/
theorem okP1_of {τ τ' : mMem} {p : Int} (h : okP1 τ p) (e : pEq τ τ' p) (e8 : τ' 39 p = τ 39 p) (e13 : τ' 30 p = τ 30 p) (h37 : 0 ≤ τ' 37 p ∧ τ' 37 p ≤ 1000000000) (h38 : 0 ≤ τ' 38 p ∧ τ' 38 p ≤ 200000000) : okP1 τ' p := by
  obtain ⟨⟨h1, h2, h3, h4⟩, ⟨h5, h6, h7, h8, h9, h10⟩, ⟨h11, h12, h13⟩, h14⟩ := e
  simp only [okP1, okP, tP] at h ⊢
  rw [h1, h5, h6, h7, h8, h9, h10, h11, h12, h13, h14, e8, e13]
  omega
/-- after begins, interest and bonds -/
theorem clE_o {τ : mMem} {j x : Int} {k : Nat} (h : k ≠ 14 ∧ k ≠ 40 ∧ k ≠ 21 ∧ k ≠ 16 ∧ k ≠ 37 ∧ k ≠ 38 ∧ k ≠ 11 ∧ k ≠ 42 ∧ k ≠ 43 ∧ k ≠ 44) : clE τ j x k = τ k := by
  obtain ⟨h1, h2, h3, h4, h5, h6, h7, h8, h9, h10⟩ := h
  unfold clE
  rw [agS_o h7 h1 h8 h9 h10]
  unfold ad
  rw [st2_k h3, eaS_o h1 h6]
  exact bgN_o ⟨h1, h2, h3, h4, h5⟩ _
theorem clE_p {τ : mMem} {j x q : Int} (h7 : 0 ≤ τ 37 q ∧ τ 37 q ≤ 1000000000) (h8 : 0 ≤ τ 38 q ∧ τ 38 q ≤ 110000000) : (0 ≤ clE τ j x 37 q ∧ clE τ j x 37 q ≤ 1000000000) ∧ (0 ≤ clE τ j x 38 q ∧ clE τ j x 38 q ≤ 200000000) := by
  unfold clE
  rw [agS_o (by decide) (by decide) (by decide) (by decide) (by decide), agS_o (by decide) (by decide) (by decide) (by decide) (by decide)]
  unfold ad
  rw [st2_k (by decide), st2_k (by decide), eaS_o (by decide) (by decide)]
  refine ⟨bgN_37 h7 _, eaS_38 ?_⟩
  rw [show clB τ j x 38 = τ 38 from bgN_o (by decide) _]
  exact h8
theorem clE_pEq {τ : mMem} {j x q : Int} : pEq τ (clE τ j x) q := by
  unfold pEq
  rw [clE_o (k := 2) (by decide), clE_o (k := 18) (by decide), clE_o (k := 19) (by decide), clE_o (k := 20) (by decide), clE_o (k := 23) (by decide), clE_o (k := 24) (by decide), clE_o (k := 25) (by decide), clE_o (k := 26) (by decide), clE_o (k := 27) (by decide), clE_o (k := 28) (by decide), clE_o (k := 29) (by decide), clE_o (k := 34) (by decide), clE_o (k := 35) (by decide), clE_o (k := 36) (by decide)]
  simp only [and_self]
/-- the scratch of the year: living, was and nets of the policies before p -/
def cl1 (τ : mMem) (p : Int) (D : mMem) : Prop := ∀ q, 0 ≤ q → q < p → (D 53 q = if τ 29 q ≤ 3 then 1 else 0) ∧ (τ 29 q ≤ 3 → D 51 q = rsT τ 0 q (τ 1 0) ∧ D 52 q = ntT τ q (τ 1 0))
theorem cl1_0 {τ D : mMem} : cl1 τ 0 D := fun q h1 h2 => absurd h2 (by omega)
theorem cl1_n {τ D : mMem} {p z : Int} (h : cl1 τ p D) (hz : z = 0) (hl : ¬ τ 29 p ≤ 3) : cl1 τ (p + 1) (st2 D 53 p z) := by
  intro q h1 h2
  by_cases hq : q = p
  · subst hq
    rw [st2_s, if_neg hl]
    exact ⟨hz, fun a => absurd a hl⟩
  · rw [st2_n hq, st2_k (by decide), st2_k (by decide)]
    exact h q h1 (by omega)
theorem cl1_s {τ t D D2 : mMem} {p z : Int} (h : cl1 τ p D) (hr : rsT t 0 p (τ 1 0) = rsT τ 0 p (τ 1 0)) (hnt : ntT t p (τ 1 0) = ntT τ p (τ 1 0)) (o1 : t 1 0 = τ 1 0) (hz : z = 1) (hl : τ 29 p ≤ 3) (hb : bgK t p (st2 D 53 p z) D2) : cl1 τ (p + 1) D2 := by
  obtain ⟨b1, b2, b3⟩ := hb
  rw [o1, st2_k (by decide)] at b1
  rw [o1, st2_k (by decide)] at b2
  intro q h1 h2
  rw [b3 53 (by omega), b1, b2]
  by_cases hq : q = p
  · subst hq
    rw [st2_s, if_pos hl]
    simp only [iup, if_true]
    exact ⟨hz, fun _ => ⟨hr, hnt⟩⟩
  · rw [st2_n hq]
    simp only [iup, if_neg hq]
    exact h q h1 (by omega)
/-! options, expected payments, offers, a new office -/
def rtT (τ : mMem) (k u s : Int) : Int := max 0 (min 150 (τ 18 0 + s * (2 * u - k)))
def qoT (τ : mMem) (p t : Int) : Int := qS (τ 2 0) (τ 19 0) (τ 24 p) (τ 25 p % 2) (τ 25 p / 2 % 2) t (-1000) (τ 26 p)
def anT (τ : mMem) (p y r : Int) : Int := vN (qoT τ p) r (τ 24 p + 110) (τ 24 p + 110 - y).toNat
def opB (τ : mMem) (p s many u : Int) : Int := max 0 ((τ 35 p + τ 36 p) * τ 33 p / 1000 * anT τ p (τ 28 p) (rtT τ many u s) / 1000000 - (τ 35 p + τ 36 p))
def opL (τ : mMem) (p s many : Int) : Nat → Int → Int
  | 0 => fun u => opB τ p s many u
  | d + 1 => fun u => (opL τ p s many d u + opL τ p s many d (u + 1)) / 2 * 1000 / (1000 + rtT τ (many - 1 - (d : Int)) u s) * (100000 - qaT τ 0 p (τ 1 0 + (many - 1 - (d : Int)))) / 100000
def opT (τ : mMem) (p s : Int) : Int := opL τ p s (τ 28 p - τ 1 0) (τ 28 p - τ 1 0).toNat 0
theorem rtT_bd {τ : mMem} {k u s : Int} : 0 ≤ rtT τ k u s ∧ rtT τ k u s ≤ 150 := by unfold rtT; omega
theorem qoT_ok {τ : mMem} {p t : Int} (ho : okP1 τ p) (hw : okLaw τ 0) (hs : τ 27 p ≤ 2150) (h1 : τ 24 p ≤ t) (h2 : t < τ 24 p + 110) : okQ (τ 2 0) (τ 19 0) (τ 24 p) (τ 25 p % 2) (τ 25 p / 2 % 2) t (τ 26 p) := by
  simp only [okP1, okP, tP] at ho
  simp only [okLaw, okW] at hw
  exact ⟨by omega, by omega, by omega, by omega, ⟨by omega, by omega, by omega⟩, by omega⟩
theorem qoT_R {τ : mMem} {p r a : Int} (ho : okP1 τ p) (hw : okLaw τ 0) (hs : τ 27 p ≤ 2150) (hr : 0 ≤ r) (ha : τ 24 p ≤ a) : okR (qoT τ p) r a (τ 24 p + 110) :=
  ⟨hr, fun y h1 h2 => qS_bd (qoT_ok ho hw hs (by omega) h2)⟩
theorem anT_bd {τ : mMem} {p y r : Int} (ho : okP1 τ p) (hw : okLaw τ 0) (hs : τ 27 p ≤ 2150) (hr : 0 ≤ r) (ha : τ 24 p ≤ y ∧ y ≤ τ 24 p + 110) : 0 ≤ anT τ p y r ∧ anT τ p y r ≤ 110000000 := by
  have := vN_bd (e := τ 24 p + 110) (qoT_R ho hw hs hr ha.1) (τ 24 p + 110 - y).toNat (by omega)
  unfold anT
  omega
theorem opB_bd {τ : mMem} {p s many u : Int} (ho : okP1 τ p) (hw : okLaw τ 0) (hs : τ 27 p ≤ 2150) (hg : 0 ≤ τ 33 p ∧ τ 33 p ≤ 300) : (0 ≤ (τ 35 p + τ 36 p) * τ 33 p ∧ (τ 35 p + τ 36 p) * τ 33 p ≤ 36000000000) ∧ (0 ≤ (τ 35 p + τ 36 p) * τ 33 p / 1000 * anT τ p (τ 28 p) (rtT τ many u s) ∧ (τ 35 p + τ 36 p) * τ 33 p / 1000 * anT τ p (τ 28 p) (rtT τ many u s) ≤ 3960000000000000) ∧ 0 ≤ opB τ p s many u ∧ opB τ p s many u ≤ 4000000000 := by
  have h9 := ho
  simp only [okP1, okP, tP] at h9
  have e1 := mul_bd2 (show 0 ≤ τ 35 p + τ 36 p ∧ τ 35 p + τ 36 p ≤ 120000000 by omega) hg
  have e2 := anT_bd ho hw hs (rtT_bd (τ := τ) (k := many) (u := u) (s := s)).1 (y := τ 28 p) (by omega)
  have e3 := mul_bd2 (show 0 ≤ (τ 35 p + τ 36 p) * τ 33 p / 1000 ∧ (τ 35 p + τ 36 p) * τ 33 p / 1000 ≤ 36000000 by omega) e2
  unfold opB
  omega
theorem opL_bd {τ : mMem} {p s many : Int} (ho : okP1 τ p) (hw : okLaw τ 0) (hs : τ 27 p ≤ 2150) (hg : 0 ≤ τ 33 p ∧ τ 33 p ≤ 300) (hq : ∀ t, τ 1 0 ≤ t → t < τ 1 0 + many → 0 ≤ qaT τ 0 p t ∧ qaT τ 0 p t ≤ 100000) : ∀ (d : Nat), (d : Int) ≤ many → ∀ u : Int, 0 ≤ opL τ p s many d u ∧ opL τ p s many d u ≤ 4000000000
  | 0, _, u => (opB_bd ho hw hs hg).2.2
  | d + 1, hd, u => by
    have i1 := opL_bd (s := s) ho hw hs hg hq d (by omega) u
    have i2 := opL_bd (s := s) ho hw hs hg hq d (by omega) (u + 1)
    have hr := rtT_bd (τ := τ) (k := many - 1 - (d : Int)) (u := u) (s := s)
    have hx := dsc_bd (x := (opL τ p s many d u + opL τ p s many d (u + 1)) / 2) (X := 4000000000) (i := rtT τ (many - 1 - (d : Int)) u s) (by omega) hr.1
    have hq9 := hq (τ 1 0 + (many - 1 - (d : Int))) (by omega) (by omega)
    have hm := mul_bd2 hx (show 0 ≤ 100000 - qaT τ 0 p (τ 1 0 + (many - 1 - (d : Int))) ∧ 100000 - qaT τ 0 p (τ 1 0 + (many - 1 - (d : Int))) ≤ 100000 by omega)
    show 0 ≤ _ / 100000 ∧ _ / 100000 ≤ _
    omega
def lfT (τ : mMem) (p : Int) : Nat → Int
  | 0 => 1000000
  | t + 1 => lfT τ p t * (100000 - qaT τ 0 p (τ 1 0 + (t : Int))) / 100000
/-- what a policy gets and pays in the year ahead by t, with l and m alive at its begin and end -/
def exP (τ : mMem) (p y l m : Int) : Int := (if τ 23 p = 3 then τ 35 p * m / 1000000 else (τ 35 p + τ 36 p) * l / 1000000 * qaT τ 0 p y / 100000 + (if y + 1 = τ 28 p ∧ τ 23 p ≠ 2 then (τ 35 p + τ 36 p) * m / 1000000 else 0)) - (if pyP τ p y then τ 39 p * l / 1000000 else 0)
def exT (τ : mMem) (p a : Int) : Int := if τ 1 0 + a < τ 28 p then exP τ p (τ 1 0 + a) (lfT τ p a.toNat) (lfT τ p (a + 1).toNat) else 0
def exA (τ : mMem) (a : Int) : Int := sumT (fun p => if τ 29 p ≤ 3 then exT τ p a else 0) (τ 10 0)
def bpT (τ : mMem) (a : Int) : Int := sumT (fun b => (if a < τ 42 b then τ 43 b * τ 44 b / 1000 else 0) + (if τ 42 b = a + 1 then τ 43 b else 0)) (τ 11 0)
theorem lfT_s {τ : mMem} {p t : Int} (h : 0 ≤ t) : lfT τ p (t + 1).toNat = lfT τ p t.toNat * (100000 - qaT τ 0 p (τ 1 0 + t)) / 100000 := by
  rw [toNat_s h]
  show _ * (100000 - qaT τ 0 p (τ 1 0 + (t.toNat : Int))) / 100000 = _
  rw [toNat_c h]
theorem lfT_bd {τ : mMem} {p : Int} : ∀ t : Nat, (∀ y, τ 1 0 ≤ y → y < τ 1 0 + t → 0 ≤ qaT τ 0 p y ∧ qaT τ 0 p y ≤ 100000) → 0 ≤ lfT τ p t ∧ lfT τ p t ≤ 1000000
  | 0, _ => by simp [lfT]
  | t + 1, h => by
    have ih := lfT_bd (τ := τ) (p := p) t (fun y a b => h y a (by omega))
    have hq := h (τ 1 0 + (t : Int)) (by omega) (by omega)
    have := mul_bd2 ih (show 0 ≤ 100000 - qaT τ 0 p (τ 1 0 + (t : Int)) ∧ 100000 - qaT τ 0 p (τ 1 0 + (t : Int)) ≤ 100000 by omega)
    show 0 ≤ _ / 100000 ∧ _ / 100000 ≤ _
    omega
theorem qaT_bd {τ : mMem} {p y : Int} (ho : okP1 τ p) (hw : okLaw τ 0) (hy : τ 24 p ≤ y ∧ y ≤ 2400) : 0 ≤ qaT τ 0 p y ∧ qaT τ 0 p y ≤ 100000 := by
  simp only [okP1, okP, tP] at ho
  simp only [okLaw, okW] at hw
  exact qS_bd ⟨by omega, by omega, by omega, by omega, ⟨by omega, by omega, by omega⟩, by omega⟩
abbrev ofT (τ : mMem) (kind u term b fl pts : Int) : Prop := (0 ≤ kind ∧ kind ≤ 3) ∧ (100 ≤ u ∧ u ≤ 1000000) ∧ (1 ≤ term ∧ term ≤ 60) ∧ (0 ≤ τ 1 0 - b ∧ τ 1 0 - b ≤ (if kind = 1 ∨ kind = 2 then min 80 (110 - term) else 80)) ∧ (0 ≤ fl ∧ fl ≤ (if kind ≤ 1 then 7 else 3)) ∧ (0 ≤ pts ∧ pts ≤ 300)
def enT (τ : mMem) (kind term b : Int) : Int := if kind = 1 ∨ kind = 2 then τ 1 0 + term else b + 110
def pmT (τ : mMem) (kind u term b fl pts : Int) : Int := netS kind u (vD (qT τ 0 fl b pts (τ 1 0)) (τ 18 0) (enT τ kind term b) (d0S kind) (enT τ kind term b - τ 1 0).toNat) (vP (qT τ 0 fl b pts (τ 1 0)) (τ 18 0) (enT τ kind term b) (enT τ kind term b - τ 1 0).toNat) (vN (qT τ 0 fl b pts (τ 1 0)) (τ 18 0) (enT τ kind term b) (enT τ kind term b - τ 1 0).toNat) * (1000 + τ 3 0) / 1000 + τ 4 0
def okE (τ : mMem) : Prop := (1900 ≤ τ 1 0 ∧ τ 1 0 ≤ 2150) ∧ (0 ≤ τ 2 0 ∧ τ 2 0 ≤ 20) ∧ ((0 ≤ τ 3 0 ∧ τ 3 0 ≤ 500) ∧ 0 ≤ τ 4 0 ∧ τ 4 0 ≤ 1000) ∧ okLaw τ 0
theorem okT.E {τ : mMem} (H : okT τ) : okE τ := ⟨H.year, H.imp, ⟨H.nums.1, H.nums.2.1⟩, H.law 0 (by omega) (by omega)⟩
theorem of_M {τ : mMem} {kind u term b fl pts : Int} (H : okE τ) (h : ofT τ kind u term b fl pts) : okM τ 0 fl b pts (τ 1 0) (enT τ kind term b) ∧ τ 1 0 < enT τ kind term b := by
  obtain ⟨hy, hi, _, hl⟩ := H
  simp only [okLaw, okW] at hl
  obtain ⟨h1, h2, h3, h4, h5, h6⟩ := h
  unfold okM enT
  by_cases hk : kind = 1 ∨ kind = 2
  · rw [if_pos hk] at h4 ⊢
    by_cases hk1 : kind ≤ 1
    · rw [if_pos hk1] at h5; omega
    · rw [if_neg hk1] at h5; omega
  · rw [if_neg hk] at h4 ⊢
    by_cases hk1 : kind ≤ 1
    · rw [if_pos hk1] at h5; omega
    · rw [if_neg hk1] at h5; omega
theorem of_bd {τ : mMem} {kind u term b fl pts : Int} (H : okE τ) (h : ofT τ kind u term b fl pts) {D D' : mMem} (k : rnK τ 0 kind fl b pts (τ 1 0) (enT τ kind term b) (τ 1 0) D D') : (0 ≤ D' 48 0 ∧ D' 48 0 ≤ 1000000) ∧ (1000000 ≤ D' 49 0 ∧ D' 49 0 ≤ 110000000) ∧ (0 ≤ D' 50 0 ∧ D' 50 0 ≤ 110000000) := by
  obtain ⟨hm, hlt⟩ := of_M H h
  have hr := okM_R hm
  obtain ⟨m1, m2, m3, m4, m5, m6, m7⟩ := hm
  obtain ⟨⟨k1, k2, k3⟩, ⟨k4, k5, k6⟩, _⟩ := k
  have a1 := vD_bd hr (d0S_bd kind) (enT τ kind term b - τ 1 0).toNat (by omega)
  have a2 := vP_bd hr (enT τ kind term b - τ 1 0).toNat (by omega)
  have a3 := vN_bd hr (enT τ kind term b - τ 1 0).toNat (by omega)
  obtain ⟨k, hk⟩ : ∃ k : Nat, (enT τ kind term b - τ 1 0).toNat = k + 1 := ⟨(enT τ kind term b - τ 1 0).toNat - 1, by omega⟩
  have a4 := vP_pos hr k (by omega)
  rw [← hk] at a4
  rw [k4, k5, k6]
  omega
def fdA (τ : mMem) (y c : Int) : mMem := st2 (st2 (st2 (st2 (st2 (st2 (st2 (st2 (st2 (st2 (st2 (st2 (st2 (st2 (st2 (st2 (st2 τ 1 0 y) 14 0 c) 2 0 5) 3 0 100) 4 0 10) 5 0 10) 6 0 0) 7 0 0) 8 0 100000) 9 0 0) 10 0 0) 11 0 0) 12 0 0) 13 0 0) 15 0 0) 16 0 0) 17 0 0
def fdL (τ : mMem) : Nat → mMem
  | 0 => τ
  | k + 1 => st2 (st2 (st2 (fdL τ k) 18 k (30 - 10 * (k : Int))) 19 k (100 + 10 * (k : Int))) 20 k (if 0 < (k : Int) then 1 else 0)
def fdM (τ : mMem) : Nat → mMem
  | 0 => τ
  | k + 1 => st2 (st2 (fdM τ k) 21 k 0) 22 k 0
def fdS (τ : mMem) (y c : Int) : mMem := fdM (fdL (fdA τ y c) 3) 9
theorem fdL_s {τ : mMem} {k : Int} (h : 0 ≤ k) : fdL τ (k + 1).toNat = st2 (st2 (st2 (fdL τ k.toNat) 18 k (30 - 10 * k)) 19 k (100 + 10 * k)) 20 k (if 0 < k then 1 else 0) := by
  rw [toNat_s h]
  show st2 (st2 (st2 _ 18 (k.toNat : Int) _) 19 (k.toNat : Int) _) 20 (k.toNat : Int) _ = _
  rw [toNat_c h]
theorem fdM_s {τ : mMem} {k : Int} (h : 0 ≤ k) : fdM τ (k + 1).toNat = st2 (st2 (fdM τ k.toNat) 21 k 0) 22 k 0 := by
  rw [toNat_s h]
  show st2 (st2 _ 21 (k.toNat : Int) _) 22 (k.toNat : Int) _ = _
  rw [toNat_c h]
theorem net_bd {kind u d p n : Int} (hu : 0 ≤ u ∧ u ≤ 1000000) (hd : 0 ≤ d ∧ d ≤ 1000000) (hp : 1000000 ≤ p ∧ p ≤ 110000000) (hn : 0 ≤ n ∧ n ≤ 110000000) : 0 ≤ netS kind u d p n ∧ netS kind u d p n ≤ 110000000 := by
  have e1 := mul_bd2 hu hd
  have e2 := mul_bd2 hu hn
  unfold netS
  split
  · omega
  · refine ⟨Int.ediv_nonneg e1.1 (by omega), Int.ediv_le_of_le_mul (by omega) (by omega)⟩
