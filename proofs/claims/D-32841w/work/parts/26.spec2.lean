/-! PLAIN: a policy's net premium, reserve, surrender value, claim, what is ceded, what is paid at maturity -/
set_option maxRecDepth 100000
def npS (im c b w s i : Int) (P : Nat → Int) (pts : Int) : Int := netS (P 1) (P 7) (vD (pqS im c b w s (P 2) pts) i (P 3) (d0S (P 1)) (P 3 - P 2).toNat) (vP (pqS im c b w s (P 2) pts) i (P 3) (P 3 - P 2).toNat) (vN (pqS im c b w s (P 2) pts) i (P 3) (P 3 - P 2).toNat)
def rsS (im i c z b w s : Int) (P : Nat → Int) (y : Int) : Int := if 3 < P 12 ∨ y = P 2 then 0 else
  if z = 1 then max 0 (if P 1 = 3 then P 7 * vN (pqS im c b w s (P 2) (P 4)) i (P 3) (P 3 - y).toNat / 1000000 else (P 7 + P 9) * vD (pqS im c b w s (P 2) (P 4)) i (P 3) (d0S (P 1)) (P 3 - y).toNat / 1000000 - (if P 17 = 1 then 0 else npS im c b w s i P (P 4) * vP (pqS im c b w s (P 2) (P 4)) i (P 3) (P 3 - y).toNat / 1000000))
  else (if P 1 = 3 then P 7 * vN (pqS im c b w s (P 2) (P 4)) i (P 3) (P 3 - y).toNat / 1000000 else (P 7 + P 9) * vD (pqS im c b w s (P 2) (P 4)) i (P 3) (d0S (P 1)) (P 3 - y).toNat / 1000000 - (if P 17 = 1 then 0 else npS im c b w s i P (P 4) * vP (pqS im c b w s (P 2) (P 4)) i (P 3) (P 3 - y).toNat / 1000000))
/-- what the start's values are -/
theorem vals_bd {im b w s i c z pts : Int} {P : Nat → Int} (hok : okP im b w s P) (how : okW i c z) (hp : 0 ≤ pts ∧ pts ≤ 300) {y : Int} (hy : P 2 ≤ y ∧ y ≤ P 3) :
    (0 ≤ vD (pqS im c b w s (P 2) pts) i (P 3) (d0S (P 1)) (P 3 - y).toNat ∧ vD (pqS im c b w s (P 2) pts) i (P 3) (d0S (P 1)) (P 3 - y).toNat ≤ 1000000) ∧ (0 ≤ vP (pqS im c b w s (P 2) pts) i (P 3) (P 3 - y).toNat ∧ vP (pqS im c b w s (P 2) pts) i (P 3) (P 3 - y).toNat ≤ 110000000) ∧ (0 ≤ vN (pqS im c b w s (P 2) pts) i (P 3) (P 3 - y).toNat ∧ vN (pqS im c b w s (P 2) pts) i (P 3) (P 3 - y).toNat ≤ 110000000) ∧ (y < P 3 → 1000000 ≤ vP (pqS im c b w s (P 2) pts) i (P 3) (P 3 - y).toNat) := by
  have hr := okP_q hok how hp
  have ho := hok
  unfold okP at ho
  have h1 := vD_bd (e := P 3) hr (d0S_bd (P 1)) (P 3 - y).toNat (by omega)
  have h2 := vP_bd (e := P 3) hr (P 3 - y).toNat (by omega)
  have h3 := vN_bd (e := P 3) hr (P 3 - y).toNat (by omega)
  refine ⟨h1, ⟨h2.1, by omega⟩, ⟨h3.1, by omega⟩, fun hlt => ?_⟩
  obtain ⟨k, hk⟩ : ∃ k : Nat, (P 3 - y).toNat = k + 1 := ⟨(P 3 - y).toNat - 1, by omega⟩
  rw [hk]
  exact vP_pos (e := P 3) hr k (by omega)
theorem npS_bd {im b w s i c z pts : Int} {P : Nat → Int} (hok : okP im b w s P) (how : okW i c z) (hp : 0 ≤ pts ∧ pts ≤ 300) : 0 ≤ npS im c b w s i P pts ∧ npS im c b w s i P pts ≤ 110000000 ∧ (P 1 ≠ 3 → npS im c b w s i P pts ≤ 1000000) := by
  have ho := hok
  unfold okP at ho
  obtain ⟨h1, h2, h3, h4⟩ := vals_bd hok how hp (y := P 2) (by omega)
  unfold npS netS
  split
  · have e := mul_bd2 (show 0 ≤ P 7 ∧ P 7 ≤ 1000000 by omega) h3
    omega
  · have e := mul_bd2 (show 0 ≤ P 7 ∧ P 7 ≤ 1000000 by omega) h1
    have hp := h4 (by omega)
    have e2 : 0 ≤ P 7 * vD (pqS im c b w s (P 2) pts) i (P 3) (d0S (P 1)) (P 3 - P 2).toNat / vP (pqS im c b w s (P 2) pts) i (P 3) (P 3 - P 2).toNat := Int.ediv_nonneg e.1 (by omega)
    have e3 : P 7 * vD (pqS im c b w s (P 2) pts) i (P 3) (d0S (P 1)) (P 3 - P 2).toNat / vP (pqS im c b w s (P 2) pts) i (P 3) (P 3 - P 2).toNat ≤ 1000000 := by
      refine Int.ediv_le_of_le_mul (by omega) ?_
      omega
    omega
theorem rsS_bd {im b w s i c z : Int} {P : Nat → Int} (hok : okP im b w s P) (how : okW i c z) {y : Int} (hy : P 2 ≤ y ∧ y ≤ P 3) : -120000000 ≤ rsS im i c z b w s P y ∧ rsS im i c z b w s P y ≤ 120000000 ∧ (P 1 ≠ 3 → rsS im i c z b w s P y ≤ P 7 + P 9) := by
  have ho := hok
  unfold okP at ho
  obtain ⟨h1, h2, h3, h4⟩ := vals_bd hok how (pts := P 4) (by omega) hy
  have hn := npS_bd hok how (pts := P 4) (by omega)
  unfold rsS
  split
  · omega
  · have e : -120000000 ≤ (if P 1 = 3 then P 7 * vN (pqS im c b w s (P 2) (P 4)) i (P 3) (P 3 - y).toNat / 1000000 else (P 7 + P 9) * vD (pqS im c b w s (P 2) (P 4)) i (P 3) (d0S (P 1)) (P 3 - y).toNat / 1000000 - (if P 17 = 1 then 0 else npS im c b w s i P (P 4) * vP (pqS im c b w s (P 2) (P 4)) i (P 3) (P 3 - y).toNat / 1000000)) ∧ (if P 1 = 3 then P 7 * vN (pqS im c b w s (P 2) (P 4)) i (P 3) (P 3 - y).toNat / 1000000 else (P 7 + P 9) * vD (pqS im c b w s (P 2) (P 4)) i (P 3) (d0S (P 1)) (P 3 - y).toNat / 1000000 - (if P 17 = 1 then 0 else npS im c b w s i P (P 4) * vP (pqS im c b w s (P 2) (P 4)) i (P 3) (P 3 - y).toNat / 1000000)) ≤ 120000000 ∧ (P 1 ≠ 3 → (if P 1 = 3 then P 7 * vN (pqS im c b w s (P 2) (P 4)) i (P 3) (P 3 - y).toNat / 1000000 else (P 7 + P 9) * vD (pqS im c b w s (P 2) (P 4)) i (P 3) (d0S (P 1)) (P 3 - y).toNat / 1000000 - (if P 17 = 1 then 0 else npS im c b w s i P (P 4) * vP (pqS im c b w s (P 2) (P 4)) i (P 3) (P 3 - y).toNat / 1000000)) ≤ P 7 + P 9) := by
      by_cases hk : P 1 = 3
      · rw [if_pos hk]
        have e := mul_bd2 (show 0 ≤ P 7 ∧ P 7 ≤ 1000000 by omega) h3
        omega
      · rw [if_neg hk]
        have e : 0 ≤ (P 7 + P 9) * vD (pqS im c b w s (P 2) (P 4)) i (P 3) (d0S (P 1)) (P 3 - y).toNat ∧ (P 7 + P 9) * vD (pqS im c b w s (P 2) (P 4)) i (P 3) (d0S (P 1)) (P 3 - y).toNat ≤ (P 7 + P 9) * 1000000 := ⟨Int.mul_nonneg (by omega) h1.1, Int.mul_le_mul_of_nonneg_left h1.2 (by omega)⟩
        have e2 := mul_bd2 (show 0 ≤ npS im c b w s i P (P 4) ∧ npS im c b w s i P (P 4) ≤ 1000000 from ⟨hn.1, hn.2.2 hk⟩) h2
        split <;> omega
    split <;> omega
def svS (kind r : Int) : Int := if kind ≤ 1 then max 0 (r * 9 / 10) else 0
def fbS (P : Nat → Int) (rate : Int) : Int := if P 6 = 1 then max 0 ((P 10 - P 7 - P 9) * rate / 1000) else 0
def cdS (P : Nat → Int) (ret quo : Int) : Int := if P 1 = 3 then 0 else max 0 (P 7 - ret) + min (P 7) ret * quo / 1000
def mtS (P : Nat → Int) (rate : Int) : Int := if P 1 = 3 then P 7 else if P 1 = 2 then 0 else P 7 + P 9 + fbS P rate
def clS (im c b w s i : Int) (P : Nat → Int) (rate : Int) : Int := if P 1 = 3 then 0 else if P 13 ≤ P 4 then P 7 + P 9 + fbS P rate else if npS im c b w s i P (P 13) = 0 then P 7 + P 9 + fbS P rate else (P 7 + P 9 + fbS P rate) * npS im c b w s i P (P 4) / npS im c b w s i P (P 13)
theorem fbS_bd {im b w s rate : Int} {P : Nat → Int} (hok : okP im b w s P) (hr : 0 ≤ rate ∧ rate ≤ 1000) : 0 ≤ fbS P rate ∧ fbS P rate ≤ 1000000000 := by
  unfold okP at hok
  unfold fbS
  split
  · by_cases h : 0 ≤ P 10 - P 7 - P 9
    · have e := mul_bd2 (show 0 ≤ P 10 - P 7 - P 9 ∧ P 10 - P 7 - P 9 ≤ 1000000000 by omega) hr
      omega
    · have e : (P 10 - P 7 - P 9) * rate ≤ 0 := Int.mul_nonpos_of_nonpos_of_nonneg (by omega) hr.1
      omega
  · omega
theorem fb_mul {im b w s rate : Int} {P : Nat → Int} (hok : okP im b w s P) (hr : 0 ≤ rate ∧ rate ≤ 1000) : -1000000000000 ≤ (P 10 - P 7 - P 9) * rate ∧ (P 10 - P 7 - P 9) * rate ≤ 1000000000000 := by
  unfold okP at hok
  by_cases h : 0 ≤ P 10 - P 7 - P 9
  · have e := mul_bd2 (show 0 ≤ P 10 - P 7 - P 9 ∧ P 10 - P 7 - P 9 ≤ 1000000000 by omega) hr
    omega
  · have e := mul_bd2 (show 0 ≤ -(P 10 - P 7 - P 9) ∧ -(P 10 - P 7 - P 9) ≤ 1000000000 by omega) hr
    rw [Int.neg_mul] at e
    omega
