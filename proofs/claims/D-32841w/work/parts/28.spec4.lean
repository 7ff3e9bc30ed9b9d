/-! PLAIN: what a year does to the reference's memory -/
set_option maxRecDepth 100000
def ad (τ : mMem) (k : Nat) (i z : Int) : mMem := st2 τ k i (τ k i + z)
theorem ad_0 {τ : mMem} {k : Nat} {i : Int} : ad τ k i 0 = τ := by
  funext k'
  unfold ad st2
  by_cases h : k' = k
  · subst h
    rw [if_pos rfl]
    funext j
    unfold iup
    by_cases hj : j = i
    · subst hj; rw [if_pos rfl]; omega
    · rw [if_neg hj]
  · rw [if_neg h]
/-- whether a policy pays in a year; what; its net premium then -/
abbrev pyP (τ : mMem) (p y : Int) : Prop := τ 34 p = 0 ∧ (τ 23 p = 3 → y = τ 27 p)
def pdT (τ : mMem) (p y : Int) : Int := if pyP τ p y then τ 39 p else 0
def ntT (τ : mMem) (p y : Int) : Int := if pyP τ p y then npT τ 0 p (τ 26 p) else 0
def cmT (τ : mMem) (p y : Int) : Int := if τ 27 p < y then 0 else if τ 23 p = 3 then τ 39 p * 3 / 100 else τ 39 p / 2
def qaT (τ : mMem) (law p y : Int) : Int := pqS (τ 2 0) (τ 19 law) (τ 24 p) (τ 25 p % 2) (τ 25 p / 2 % 2) (τ 27 p) (τ 26 p) y
def cdT (τ : mMem) (p : Int) : Int := max 0 (τ 35 p - τ 8 0) + min (τ 35 p) (τ 8 0) * τ 9 0 / 1000
def riT (τ : mMem) (p y : Int) : Int := if τ 23 p = 3 then 0 else cdT τ p * qaT τ 0 p y / 100000 * 11 / 10
def qeT (τ : mMem) (p y : Int) : Int := if τ 23 p = 3 then 0 else qaT τ 0 p y
def fbT (τ : mMem) (p : Int) : Int := if 4 ≤ τ 25 p then max 0 ((τ 37 p - τ 35 p - τ 36 p) * τ 7 0 / 1000) else 0
def grS (s o j : Int) : Int := max 0 (min 1000000000 ((s + o) * (1000 + j) / 1000))
/-- the year's begin of a policy -/
def bgS (τ : mMem) (p j x : Int) : mMem :=
  let t := ad (ad (ad (ad τ 14 0 (pdT τ p (τ 1 0) - x - cmT τ p (τ 1 0))) 40 p (pdT τ p (τ 1 0))) 21 2 (pdT τ p (τ 1 0) - ntT τ p (τ 1 0) - x)) 21 3 (- cmT τ p (τ 1 0))
  let u := ad (ad (ad t 14 0 (- riT τ p (τ 1 0))) 21 7 (- riT τ p (τ 1 0))) 16 0 (qeT τ p (τ 1 0))
  if 4 ≤ τ 25 p then st2 u 37 p (grS (τ 37 p) (pdT τ p (τ 1 0) - x - cmT τ p (τ 1 0)) j) else u
/-- what the bonds pay in interest, the first n of them -/
def bonT (τ : mMem) (n : Int) : Int := sumT (fun b => τ 43 b * τ 44 b / 1000) n
def eaC (τ : mMem) (j : Int) : Int := (if 0 < w64 (τ 14 0) ∧ w64 (τ 14 0) ≤ 1000000000000 then w64 (τ 14 0) * j / 1000 else 0) + bonT τ (τ 11 0)
def moT (τ : mMem) (p : Int) : Int := if τ 29 p ≤ 3 then τ 38 p * 60 / 1000 else 0
/-- the loans' interest, the first n policies -/
def eaL (τ : mMem) : Nat → mMem
  | 0 => τ
  | n + 1 => ad (eaL τ n) 38 n (moT τ n)
def eaS (τ : mMem) (j : Int) : mMem := eaL (ad τ 14 0 (eaC τ j)) (τ 10 0).toNat
def eaV (τ : mMem) (j : Int) : Int := eaC τ j + sumT (moT τ) (τ 10 0)
/-- the bonds' year: those that end are paid, the others move up -/
def agN (τ : mMem) : Nat → mMem × Int
  | 0 => (τ, 0)
  | b + 1 => if (agN τ b).1 42 b = 1 then (ad (agN τ b).1 14 0 ((agN τ b).1 43 b), (agN τ b).2)
    else (st2 (st2 (st2 (agN τ b).1 42 (agN τ b).2 ((agN τ b).1 42 b - 1)) 43 (agN τ b).2 ((agN τ b).1 43 b)) 44 (agN τ b).2 ((agN τ b).1 44 b), (agN τ b).2 + 1)
def agS (τ : mMem) : mMem := st2 (agN τ (τ 11 0).toNat).1 11 0 (agN τ (τ 11 0).toNat).2
/-- a policy's end -/
def enS (τ : mMem) (p its how : Int) : mMem := st2 (ad (st2 (st2 τ 14 0 (τ 14 0 - max 0 (its - τ 38 p))) 38 p 0) 41 p (if τ 23 p = 3 then 0 else its)) 29 p how
/-- a policy's end of year: its reserve w at the year's begin, its net premium n -/
def fnS (τ : mMem) (p w n : Int) : mMem :=
  let by_ := (w + n) * τ 18 0 / 1000
  let its := w + n + by_
  let t := ad τ 21 1 (- by_)
  if τ 29 p = 2 then
    let u := if τ 23 p = 3 then t else ad (ad (ad t 14 0 (cdT τ p)) 21 7 (cdT τ p)) 15 0 1
    ad (enS u p (clT τ p) 4) 21 0 (its - max (clT τ p) (τ 38 p))
  else if τ 29 p = 3 then ad (enS t p (svT τ p (τ 1 0)) 5) 21 4 (its - max (svT τ p (τ 1 0)) (τ 38 p))
  else if τ 1 0 + 1 = τ 28 p then
    let m := if τ 23 p = 3 then τ 35 p else if τ 23 p = 2 then 0 else τ 35 p + τ 36 p + fbT τ p
    ad (enS (ad t 31 p 1) p m 6) 21 0 (its - max m (τ 38 p))
  else if svT τ p (τ 1 0 + 1) < τ 38 p then st2 (st2 (st2 (ad t 21 4 (its - τ 38 p)) 38 p 0) 32 p (τ 1 0 + 1)) 29 p 7
  else
    let m := if τ 23 p = 3 then τ 35 p else 0
    ad (ad (ad t 31 p 1) 14 0 (- m)) 21 0 (its - rsT τ 0 p (τ 1 0 + 1) - m)
/-- the year -/
def bgN (τ : mMem) (j x : Int) : Nat → mMem
  | 0 => τ
  | p + 1 => if τ 29 p ≤ 3 then bgS (bgN τ j x p) p j x else bgN τ j x p
def fnN (τ0 : mMem) (τ : mMem) : Nat → mMem
  | 0 => τ
  | p + 1 => if τ0 29 p ≤ 3 then fnS (fnN τ0 τ p) p (rsT τ0 0 p (τ0 1 0)) (ntT τ0 p (τ0 1 0)) else fnN τ0 τ p
def snN (τ : mMem) : Nat → mMem
  | 0 => st2 τ 17 0 0
  | k + 1 => st2 (ad (st2 (snN τ k) 22 k (τ 21 k)) 17 0 (τ 21 k)) 21 k 0
def clB (τ : mMem) (j x : Int) : mMem := bgN τ j x (τ 10 0).toNat
def clE (τ : mMem) (j x : Int) : mMem := agS (ad (eaS (clB τ j x) j) 21 1 (eaV (clB τ j x) j))
def clF (τ : mMem) (j x : Int) : mMem := fnN τ (clE τ j x) (τ 10 0).toNat
def closeS (τ : mMem) (j x : Int) : mMem := st2 (snN (st2 (clF τ j x) 1 0 (τ 1 0 + 1)) 9) 12 0 0
/-- experience -/
def crT (τ : mMem) : Int := 1000 * τ 15 0 / (τ 15 0 + 50)
def raT (τ : mMem) : Int := if τ 16 0 = 0 then 1000 else 1000 * τ 15 0 * 100000 / τ 16 0
def blT (τ : mMem) : Int := (crT τ * raT τ + (1000 - crT τ) * 1000) / 1000
theorem gr_bd {u f j : Int} (hu : 0 ≤ u ∧ u ≤ 1000000000) (hf : -1000000000000 ≤ f ∧ f ≤ 1000000000000) (hj : 0 ≤ j ∧ j ≤ 100) : -2000000000000000 ≤ (u + f) * (1000 + j) ∧ (u + f) * (1000 + j) ≤ 2000000000000000 := by
  by_cases h : 0 ≤ u + f
  · have := mul_bd2 (show 0 ≤ u + f ∧ u + f ≤ 1001000000000 by omega) (show 0 ≤ 1000 + j ∧ 1000 + j ≤ 1100 by omega)
    omega
  · have := mul_bd2 (show 0 ≤ -(u + f) ∧ -(u + f) ≤ 1001000000000 by omega) (show 0 ≤ 1000 + j ∧ 1000 + j ≤ 1100 by omega)
    rw [Int.neg_mul] at this
    omega
theorem fbT_S {τ : mMem} {p : Int} : fbT τ p = fbS (tP τ p) (τ 7 0) := by
  unfold fbT fbS
  simp only [tP]
  by_cases h : 4 ≤ τ 25 p
  · rw [if_pos h, if_pos h, if_pos rfl]
  · rw [if_neg h, if_neg h, if_neg (by decide)]
theorem clT_3 {τ : mMem} {p : Int} (h : τ 23 p = 3) : clT τ p = 0 := by unfold clT clS; exact if_pos h
theorem clT_1 {τ : mMem} {p : Int} (h : τ 23 p ≠ 3) (h1 : τ 30 p ≤ τ 26 p) : clT τ p = τ 35 p + τ 36 p + fbT τ p := by
  rw [fbT_S]; unfold clT clS; rw [if_neg (show ¬ tP τ p 1 = 3 from h)]; exact if_pos h1
theorem clT_0 {τ : mMem} {p : Int} (h : τ 23 p ≠ 3) (h1 : ¬ τ 30 p ≤ τ 26 p) (h2 : npT τ 0 p (τ 30 p) = 0) : clT τ p = τ 35 p + τ 36 p + fbT τ p := by
  rw [fbT_S]; unfold clT clS; rw [if_neg (show ¬ tP τ p 1 = 3 from h), if_neg (show ¬ tP τ p 13 ≤ tP τ p 4 from h1)]; exact if_pos h2
theorem clT_n {τ : mMem} {p : Int} (h : τ 23 p ≠ 3) (h1 : ¬ τ 30 p ≤ τ 26 p) (h2 : npT τ 0 p (τ 30 p) ≠ 0) : clT τ p = (τ 35 p + τ 36 p + fbT τ p) * npT τ 0 p (τ 26 p) / npT τ 0 p (τ 30 p) := by
  rw [fbT_S]; unfold clT clS; rw [if_neg (show ¬ tP τ p 1 = 3 from h), if_neg (show ¬ tP τ p 13 ≤ tP τ p 4 from h1)]; exact if_neg h2
theorem cr_bd {τ : mMem} (h : 0 ≤ τ 15 0 ∧ τ 15 0 ≤ 10000) : 0 ≤ crT τ ∧ crT τ ≤ 1000 := by
  unfold crT
  refine ⟨Int.ediv_nonneg (by omega) (by omega), Int.ediv_le_of_le_mul (by omega) (by omega)⟩
theorem ra_bd {τ : mMem} (h : (0 ≤ τ 15 0 ∧ τ 15 0 ≤ 10000) ∧ (0 ≤ τ 16 0 ∧ τ 16 0 ≤ 1000000000)) : 0 ≤ raT τ ∧ raT τ ≤ 1000000000000 := by
  unfold raT
  split
  · omega
  · next hn =>
    refine ⟨Int.ediv_nonneg (by omega) (by omega), Int.ediv_le_of_le_mul (by omega) ?_⟩
    omega
/-- what begins does to the scratch -/
def bgK (τ : mMem) (p : Int) (D D' : mMem) : Prop := D' 51 = iup (D 51) p (rsT τ 0 p (τ 1 0)) ∧ D' 52 = iup (D 52) p (ntT τ p (τ 1 0)) ∧ ∀ k : Nat, k = 0 ∨ 53 ≤ k → D' k = D k
theorem bgK_of {τ : mMem} {p : Int} {D D1 D2 : mMem} (h1 : kp D D1) (h2 : kp (st2 D1 51 p (rsT τ 0 p (τ 1 0))) D2) : bgK τ p D (st2 D2 52 p (ntT τ p (τ 1 0))) := by
  refine ⟨?_, ?_, fun k hk => ?_⟩
  · rw [st2_k (by decide), h2 51 (by omega)]
    show iup (D1 51) p _ = _
    rw [h1 51 (by omega)]
  · show iup (D2 52) p _ = _
    rw [h2 52 (by omega), st2_k (by decide), h1 52 (by omega)]
  · rw [st2_k (by omega), h2 k (by omega), st2_k (by omega), h1 k (by omega)]
theorem eaL_o {τ : mMem} {k : Nat} (hk : k ≠ 38) : ∀ n : Nat, eaL τ n k = τ k
  | 0 => rfl
  | n + 1 => by
    show ad _ _ _ _ k = _
    unfold ad
    rw [st2_k hk, eaL_o hk n]
theorem eaL_38 {τ : mMem} {p : Int} : ∀ n : Nat, (n : Int) ≤ p → eaL τ n 38 p = τ 38 p
  | 0, _ => rfl
  | n + 1, h => by
    show ad _ _ _ _ 38 p = _
    unfold ad
    rw [st2_n (by omega), eaL_38 n (by omega)]
theorem toNat_s {p : Int} (h : 0 ≤ p) : (p + 1).toNat = p.toNat + 1 := by omega
theorem toNat_c {p : Int} (h : 0 ≤ p) : (p.toNat : Int) = p := by omega
theorem eaL_s {τ : mMem} {p : Int} (h : 0 ≤ p) : eaL τ (p + 1).toNat = ad (eaL τ p.toNat) 38 p (moT τ p) := by
  rw [toNat_s h]
  show ad _ _ (p.toNat : Int) _ = _
  rw [toNat_c h]
theorem agN_o {τ : mMem} {k : Nat} (h1 : k ≠ 14) (h2 : k ≠ 42) (h3 : k ≠ 43) (h4 : k ≠ 44) : ∀ n : Nat, (agN τ n).1 k = τ k
  | 0 => rfl
  | n + 1 => by
    unfold agN
    split
    · show ad _ _ _ _ k = _
      unfold ad
      rw [st2_k h1, agN_o h1 h2 h3 h4 n]
    · show st2 _ _ _ _ k = _
      rw [st2_k h4, st2_k h3, st2_k h2, agN_o h1 h2 h3 h4 n]
theorem agN_n {τ : mMem} : ∀ n : Nat, 0 ≤ (agN τ n).2 ∧ (agN τ n).2 ≤ n
  | 0 => by simp [agN]
  | n + 1 => by
    have := agN_n (τ := τ) n
    unfold agN
    split
    · exact ⟨this.1, by omega⟩
    · show 0 ≤ (agN τ n).2 + 1 ∧ (agN τ n).2 + 1 ≤ _
      omega
/-- the places not yet reached are as they were -/
theorem agN_r {τ : mMem} {k : Nat} (hk : k = 42 ∨ k = 43 ∨ k = 44) {b : Int} : ∀ n : Nat, (n : Int) ≤ b → (agN τ n).1 k b = τ k b
  | 0, _ => rfl
  | n + 1, h => by
    have hn := agN_n (τ := τ) n
    have ih := agN_r (τ := τ) hk n (show (n : Int) ≤ b by omega)
    unfold agN
    split
    · show ad _ _ _ _ k b = _
      unfold ad
      rw [st2_k (by omega), ih]
    · show st2 _ _ _ _ k b = _
      rcases hk with rfl | rfl | rfl
      · rw [st2_k (by decide), st2_k (by decide), st2_n (by omega), ih]
      · rw [st2_k (by decide), st2_n (by omega), st2_k (by decide), ih]
      · rw [st2_n (by omega), st2_k (by decide), st2_k (by decide), ih]
theorem agN_s1 {τ : mMem} {b : Int} (h : 0 ≤ b) (h1 : τ 42 b = 1) : agN τ (b + 1).toNat = (ad (agN τ b.toNat).1 14 0 (τ 43 b), (agN τ b.toNat).2) := by
  rw [toNat_s h]
  show (if (agN τ b.toNat).1 42 (b.toNat : Int) = 1 then _ else _) = _
  rw [toNat_c h, agN_r (by omega) _ (by omega), if_pos h1, agN_r (by omega) _ (by omega)]
theorem agN_s2 {τ : mMem} {b : Int} (h : 0 ≤ b) (h1 : ¬ τ 42 b = 1) : agN τ (b + 1).toNat = (st2 (st2 (st2 (agN τ b.toNat).1 42 (agN τ b.toNat).2 (τ 42 b - 1)) 43 (agN τ b.toNat).2 (τ 43 b)) 44 (agN τ b.toNat).2 (τ 44 b), (agN τ b.toNat).2 + 1) := by
  rw [toNat_s h]
  show (if (agN τ b.toNat).1 42 (b.toNat : Int) = 1 then _ else _) = _
  rw [toNat_c h, agN_r (by omega) _ (by omega), if_neg h1, agN_r (by omega) _ (by omega), agN_r (by omega) _ (by omega)]
theorem cd_bd {τ : mMem} {p : Int} (h : 0 ≤ τ 35 p ∧ τ 35 p ≤ 1000000) (hr : (0 ≤ τ 8 0 ∧ τ 8 0 ≤ 1000000) ∧ (0 ≤ τ 9 0 ∧ τ 9 0 ≤ 1000)) : 0 ≤ cdT τ p ∧ cdT τ p ≤ 2000000 := by
  have e := mul_bd2 (show 0 ≤ min (τ 35 p) (τ 8 0) ∧ min (τ 35 p) (τ 8 0) ≤ 1000000 by omega) hr.2
  unfold cdT
  omega
theorem pd_bd {τ : mMem} {p y : Int} (h : 0 ≤ τ 39 p ∧ τ 39 p ≤ 100000000000) : 0 ≤ pdT τ p y ∧ pdT τ p y ≤ 100000000000 := by unfold pdT; split <;> omega
theorem cm_bd {τ : mMem} {p y : Int} (h : 0 ≤ τ 39 p ∧ τ 39 p ≤ 100000000000) : 0 ≤ cmT τ p y ∧ cmT τ p y ≤ 100000000000 := by
  unfold cmT; split
  · omega
  · split <;> omega
/-- the numbers that reserves go by agree -/
def pEq (τ τ' : mMem) (p : Int) : Prop := (τ' 2 = τ 2 ∧ τ' 18 = τ 18 ∧ τ' 19 = τ 19 ∧ τ' 20 = τ 20) ∧ (τ' 23 p = τ 23 p ∧ τ' 24 p = τ 24 p ∧ τ' 25 p = τ 25 p ∧ τ' 26 p = τ 26 p ∧ τ' 27 p = τ 27 p ∧ τ' 28 p = τ 28 p) ∧ (τ' 34 p = τ 34 p ∧ τ' 35 p = τ 35 p ∧ τ' 36 p = τ 36 p) ∧ τ' 29 p = τ 29 p
theorem rsT_congr {τ τ' : mMem} {p : Int} (h : pEq τ τ' p) (law y : Int) : rsT τ' law p y = rsT τ law p y := by
  obtain ⟨⟨h1, h2, h3, h4⟩, ⟨h5, h6, h7, h8, h9, h10⟩, ⟨h11, h12, h13⟩, h14⟩ := h
  simp only [rsT, rsS, npS, netS, tP, h1, h2, h3, h4, h5, h6, h7, h8, h9, h10, h11, h12, h13, h14]
theorem npT_congr {τ τ' : mMem} {p : Int} (h : pEq τ τ' p) (law pts : Int) : npT τ' law p pts = npT τ law p pts := by
  obtain ⟨⟨h1, h2, h3, h4⟩, ⟨h5, h6, h7, h8, h9, h10⟩, ⟨h11, h12, h13⟩, h14⟩ := h
  simp only [npT, npS, netS, tP, h1, h2, h3, h4, h5, h6, h7, h8, h9, h10, h11, h12, h13, h14]
theorem ntT_congr {τ τ' : mMem} {p : Int} (h : pEq τ τ' p) (y : Int) : ntT τ' p y = ntT τ p y := by
  have hn := npT_congr h 0 (τ 26 p)
  obtain ⟨⟨h1, h2, h3, h4⟩, ⟨h5, h6, h7, h8, h9, h10⟩, ⟨h11, h12, h13⟩, h14⟩ := h
  simp only [ntT, pyP, h5, h8, h9, h11, hn]
theorem bgS_o {τ : mMem} {p j x : Int} {k : Nat} (h : k ≠ 14 ∧ k ≠ 40 ∧ k ≠ 21 ∧ k ≠ 16 ∧ k ≠ 37) : bgS τ p j x k = τ k := by
  obtain ⟨h1, h2, h3, h4, h5⟩ := h
  unfold bgS
  split
  · rw [st2_k h5]; simp only [ad]; rw [st2_k h4, st2_k h3, st2_k h1, st2_k h3, st2_k h3, st2_k h2, st2_k h1]
  · simp only [ad]; rw [st2_k h4, st2_k h3, st2_k h1, st2_k h3, st2_k h3, st2_k h2, st2_k h1]
theorem bgS_p {τ : mMem} {p j x q : Int} {k : Nat} (hq : q ≠ p) (h : k ≠ 14 ∧ k ≠ 21 ∧ k ≠ 16) : bgS τ p j x k q = τ k q := by
  obtain ⟨h1, h3, h4⟩ := h
  by_cases h2 : k = 40
  · subst h2
    unfold bgS
    split
    · rw [st2_k (by decide)]; simp only [ad]; rw [st2_k h4, st2_k h3, st2_k h1, st2_k h3, st2_k h3, st2_n hq, st2_k h1]
    · simp only [ad]; rw [st2_k h4, st2_k h3, st2_k h1, st2_k h3, st2_k h3, st2_n hq, st2_k h1]
  · by_cases h5 : k = 37
    · subst h5
      unfold bgS
      split
      · rw [st2_n hq]; simp only [ad]; rw [st2_k h4, st2_k h3, st2_k h1, st2_k h3, st2_k h3, st2_k h2, st2_k h1]
      · simp only [ad]; rw [st2_k h4, st2_k h3, st2_k h1, st2_k h3, st2_k h3, st2_k h2, st2_k h1]
    · rw [bgS_o ⟨h1, h2, h3, h4, h5⟩]
theorem bgS_37 {τ : mMem} {p j x : Int} (h : 0 ≤ τ 37 p ∧ τ 37 p ≤ 1000000000) : 0 ≤ bgS τ p j x 37 p ∧ bgS τ p j x 37 p ≤ 1000000000 := by
  unfold bgS
  split
  · rw [st2_s]; unfold grS; omega
  · simp only [ad]
    rw [st2_k (by decide), st2_k (by decide), st2_k (by decide), st2_k (by decide), st2_k (by decide), st2_k (by decide), st2_k (by decide)]
    exact h
theorem bgN_o {τ : mMem} {j x : Int} {k : Nat} (h : k ≠ 14 ∧ k ≠ 40 ∧ k ≠ 21 ∧ k ≠ 16 ∧ k ≠ 37) : ∀ n : Nat, bgN τ j x n k = τ k
  | 0 => rfl
  | n + 1 => by
    unfold bgN
    split
    · rw [bgS_o h, bgN_o h n]
    · exact bgN_o h n
theorem bgN_p {τ : mMem} {j x q : Int} {k : Nat} (h : k ≠ 14 ∧ k ≠ 21 ∧ k ≠ 16) : ∀ n : Nat, (n : Int) ≤ q → bgN τ j x n k q = τ k q
  | 0, _ => rfl
  | n + 1, hn => by
    unfold bgN
    split
    · rw [bgS_p (by omega) h, bgN_p h n (by omega)]
    · exact bgN_p h n (by omega)
theorem bgN_37 {τ : mMem} {j x q : Int} (h : 0 ≤ τ 37 q ∧ τ 37 q ≤ 1000000000) : ∀ n : Nat, 0 ≤ bgN τ j x n 37 q ∧ bgN τ j x n 37 q ≤ 1000000000
  | 0 => h
  | n + 1 => by
    have ih := bgN_37 (j := j) (x := x) h n
    unfold bgN
    split
    · by_cases hq : q = n
      · subst hq; exact bgS_37 ih
      · rw [bgS_p hq (by decide)]; exact ih
    · exact ih
theorem bgN_pEq {τ : mMem} {j x q : Int} (n : Nat) : pEq τ (bgN τ j x n) q := by
  unfold pEq
  simp only [bgN_o (τ := τ) (j := j) (x := x) (k := 2) (by decide) n, bgN_o (τ := τ) (j := j) (x := x) (k := 18) (by decide) n, bgN_o (τ := τ) (j := j) (x := x) (k := 19) (by decide) n, bgN_o (τ := τ) (j := j) (x := x) (k := 20) (by decide) n, bgN_o (τ := τ) (j := j) (x := x) (k := 23) (by decide) n, bgN_o (τ := τ) (j := j) (x := x) (k := 24) (by decide) n, bgN_o (τ := τ) (j := j) (x := x) (k := 25) (by decide) n, bgN_o (τ := τ) (j := j) (x := x) (k := 26) (by decide) n, bgN_o (τ := τ) (j := j) (x := x) (k := 27) (by decide) n, bgN_o (τ := τ) (j := j) (x := x) (k := 28) (by decide) n, bgN_o (τ := τ) (j := j) (x := x) (k := 29) (by decide) n, bgN_o (τ := τ) (j := j) (x := x) (k := 34) (by decide) n, bgN_o (τ := τ) (j := j) (x := x) (k := 35) (by decide) n, bgN_o (τ := τ) (j := j) (x := x) (k := 36) (by decide) n, and_self]
theorem bgN_s {τ : mMem} {j x p : Int} (h : 0 ≤ p) : bgN τ j x (p + 1).toNat = if τ 29 p ≤ 3 then bgS (bgN τ j x p.toNat) p j x else bgN τ j x p.toNat := by
  rw [toNat_s h]
  show (if τ 29 (p.toNat : Int) ≤ 3 then bgS _ (p.toNat : Int) j x else _) = _
  rw [toNat_c h]
theorem fnN_s {τ0 τ : mMem} {p : Int} (h : 0 ≤ p) : fnN τ0 τ (p + 1).toNat = if τ0 29 p ≤ 3 then fnS (fnN τ0 τ p.toNat) p (rsT τ0 0 p (τ0 1 0)) (ntT τ0 p (τ0 1 0)) else fnN τ0 τ p.toNat := by
  rw [toNat_s h]
  show (if τ0 29 (p.toNat : Int) ≤ 3 then fnS _ (p.toNat : Int) _ _ else _) = _
  rw [toNat_c h]
theorem snN_s {τ : mMem} {k : Int} (h : 0 ≤ k) : snN τ (k + 1).toNat = st2 (ad (st2 (snN τ k.toNat) 22 k (τ 21 k)) 17 0 (τ 21 k)) 21 k 0 := by
  rw [toNat_s h]
  show st2 (ad (st2 _ 22 (k.toNat : Int) _) 17 0 _) 21 (k.toNat : Int) 0 = _
  rw [toNat_c h]
theorem snN_21 {τ : mMem} {k : Int} : ∀ n : Nat, (n : Int) ≤ k → snN τ n 21 k = τ 21 k
  | 0, _ => rfl
  | n + 1, h => by
    show st2 (ad _ _ _ _) _ _ _ 21 k = _
    unfold ad
    rw [st2_n (by omega), st2_k (by decide), st2_k (by decide), snN_21 n (by omega)]
theorem snN_o {τ : mMem} {k : Nat} (h1 : k ≠ 17) (h2 : k ≠ 22) (h3 : k ≠ 21) : ∀ n : Nat, snN τ n k = τ k
  | 0 => st2_k h1
  | n + 1 => by
    show st2 (ad _ _ _ _) _ _ _ k = _
    unfold ad
    rw [st2_k h3, st2_k h1, st2_k h2, snN_o h1 h2 h3 n]
theorem mul_bd3 {a b : Int} (h : -120000000 ≤ a ∧ a ≤ 230000000) (hb : 0 ≤ b ∧ b ≤ 150) : -120000000 * 150 ≤ a * b ∧ a * b ≤ 230000000 * 150 := by
  by_cases h0 : 0 ≤ a
  · have := mul_bd2 ⟨h0, h.2⟩ hb
    omega
  · have := mul_bd2 (show 0 ≤ -a ∧ -a ≤ 120000000 by omega) hb
    rw [Int.neg_mul] at this
    omega
theorem svT_bd {τ : mMem} {p y : Int} (ho : okP1 τ p) (hw : okLaw τ 0) (hy : okY τ p y) : 0 ≤ svT τ p y ∧ svT τ p y ≤ 108000000 := by
  have := rsT_bd ho hw hy
  unfold svT svS
  split <;> omega
theorem clT_bd {τ : mMem} {p : Int} (ho : okP1 τ p) (hw : okLaw τ 0) (hf : 0 ≤ τ 7 0 ∧ τ 7 0 ≤ 1000) : 0 ≤ clT τ p ∧ clT τ p ≤ 123200000000000000 := by
  have h9 := ho
  simp only [okP1, okP, tP] at h9
  have f9 := fbS_bd ho.1 hf
  have f8 : fbT τ p = fbS (tP τ p) (τ 7 0) := fbT_S
  by_cases h1 : τ 23 p = 3
  · rw [clT_3 h1]; omega
  · by_cases h2 : τ 30 p ≤ τ 26 p
    · rw [clT_1 h1 h2]; omega
    · by_cases h3 : npT τ 0 p (τ 30 p) = 0
      · rw [clT_0 h1 h2 h3]; omega
      · rw [clT_n h1 h2 h3]
        have n9 := npT_bd ho hw (pts := τ 30 p) ⟨by omega, by omega⟩
        have n8 := npT_bd ho hw (pts := τ 26 p) ⟨by omega, by omega⟩
        have e1 := mul_bd2 (show 0 ≤ τ 35 p + τ 36 p + fbT τ p ∧ τ 35 p + τ 36 p + fbT τ p ≤ 1120000000 by omega) n8
        refine ⟨Int.ediv_nonneg e1.1 (by omega), Int.ediv_le_of_le_mul (by omega) ?_⟩
        omega
