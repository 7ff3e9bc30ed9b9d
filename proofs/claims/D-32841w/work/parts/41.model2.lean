/-! WALKS: the reference: sums, surrender, claims -/
set_option maxRecDepth 100000
set_option maxHeartbeats 4000000 in
theorem n_all {l : Launch} (hfl : l.stackTraces = false) {E : zEn} {h : zHp} {A : Nat → Nat} {τ D : mMem} (hA : mInj A) {law : Int} (hl : 0 ≤ law ∧ law < 3) (hw : okLaw τ law) (ha : okA τ)  : CN l E yX4_allReserves (ws_ yX4_allReserves cX4_allReserves 5 (some FieldType.long)) ({ frames := 5, cells := 0, slots := 0, locals := 142 } : Room) [.ref (A 0), .int (iI law)] (zM E A h (sc τ D)) (zS E A h τ (some (.long (iL (totT τ law)))) (kp D)) := by
  refine CN.of (by decide +kernel) hfl (Nat.le_of_ble_eq_true rfl) fun θ Q hl G hin hQ => ?_
  subst hl
  show VW θ Q E (zM E A h (sc τ D)) 0 0 0 [(0, .ref (A 0)), (1, .int (iI law))] []
  have a9 := ha
  obtain ⟨m9, p9⟩ := a9
  have w9 := hw
  simp only [okLaw, okW] at w9
  refine v_lconst G (n := 0) (v0 := 0) rfl dX4_allReserves_0 ?_
  refine v_lstore_n G (L' := [(2, .long (iL 0)), (0, .ref (A 0)), (1, .int (iI law))]) rfl (Nat.le_of_ble_eq_true rfl) rfl dX4_allReserves_1 ?_
  refine v_iconst G dX4_allReserves_2 ?_
  refine v_istore G (L' := [(4, .int (iI 0)), (2, .long (iL 0)), (0, .ref (A 0)), (1, .int (iI law))]) (Nat.le_of_ble_eq_true rfl) rfl dX4_allReserves_3 ?_
  have P1 : ∀ (n : Nat) (p : Int) (s : Int) (D1 : mMem), (0 ≤ p ∧ p ≤ τ 10 0) → (s = sumT (fun p => rsT τ law p (τ 1 0)) p) → (kp D D1) → (τ 10 0 - p).toNat < n → VW θ Q E (zM E A h (sc τ D1)) 0 0 5 [(0, .ref (A 0)), (1, .int (iI law)), (2, .long (iL s)), (4, .int (iI p))] [] := by
    intro n
    induction n with
    | zero => intros; omega
    | succ n P1ih =>
      intro p s D1 hp hs hk hn
      refine v_iload G 3 rfl dX4_allReserves_5 ?_
      refine v_aload_n G 0 rfl rfl dX4_allReserves_7 ?_
      refine gX4_146 G zM_0 (v := .int (iI (τ 10 0))) rfl dX4_allReserves_8 ?_
      refine v_icmp_ge G 34 ⟨by omega, by omega⟩ ⟨by omega, by omega⟩ (by decide) dX4_allReserves_11 (fun c2 => ?_) (fun c2 => ?_)
      · obtain rfl : p = τ 10 0 := by omega
        refine v_lload_n G 2 rfl rfl dX4_allReserves_34 ?_
        exact v_lret G hQ ⟨by rw [hs]; rfl, D1, hk, rfl⟩ (Nat.le_of_ble_eq_true rfl) (Nat.le_of_ble_eq_true rfl) dX4_allReserves_35
      · obtain ⟨ho, hy⟩ := p9 p hp.1 (by omega)
        have y9 := hy
        unfold okY at y9
        have h9 := ho
        simp only [okP1, okP, tP] at h9
        refine v_lload_n G 2 rfl rfl dX4_allReserves_14 ?_
        refine v_aload_n G 0 rfl rfl dX4_allReserves_15 ?_
        refine v_iload G 3 rfl dX4_allReserves_16 ?_
        refine v_aload_n G 0 rfl rfl dX4_allReserves_18 ?_
        refine gX4_114 G zM_0 (v := .int (iI (τ 1 0))) rfl dX4_allReserves_19 ?_
        refine v_iload_n G 1 rfl rfl dX4_allReserves_22 ?_
        refine kX4_244 G (As := [.int (iI p), .int (iI (τ 1 0)), .int (iI law)]) (rest := [.long (iL s)]) (cs' := 0) (sl' := 0) (n_resAt G.fl (τ := τ) (D := D1) hA (p := p) (y := (τ 1 0)) (law := law) ⟨by omega, by omega⟩ ho ⟨by omega, by omega⟩ hw hy) (zRcv.of G (q := (RX4, TX4, 55)) rfl zM_0) rfl rfl (Nat.le_of_ble_eq_true rfl) (zRm.ok rfl) dX4_allReserves_23 (fun vq3 hq3 q3 => ?_)
        obtain ⟨_, D4, hD4, _⟩ := q3
        subst vq3 hq3
        show VW θ Q E (zM E A h (sc τ D4)) 0 0 26 [(0, .ref (A 0)), (1, .int (iI law)), (2, .long (iL s)), (4, .int (iI p))] [.long (iL (rsT τ law p (τ 1 0))), .long (iL s)]
        refine v_ladd G dX4_allReserves_26 ?_
        refine v_lstore_n G (L' := [(2, .long (iL (s + (rsT τ law p (τ 1 0))))), (0, .ref (A 0)), (1, .int (iI law)), (4, .int (iI p))]) rfl (Nat.le_of_ble_eq_true rfl) rfl dX4_allReserves_27 ?_
        refine v_iinc G (L' := [(4, .int (iI (p + 1))), (2, .long (iL (s + (rsT τ law p (τ 1 0))))), (0, .ref (A 0)), (1, .int (iI law))]) 3 rfl (Nat.le_of_ble_eq_true rfl) rfl dX4_allReserves_28 ?_
        refine v_goto G 5 (by decide) dX4_allReserves_31 ?_
        refine VW.pick (L2 := [(0, .ref (A 0)), (1, .int (iI law)), (2, .long (iL (s + (rsT τ law p (τ 1 0))))), (4, .int (iI (p + 1)))]) [2, 3, 1, 0] rfl ?_
        exact P1ih (p + 1) (s + (rsT τ law p (τ 1 0))) D4 ⟨by omega, by omega⟩ (by rw [sumT_s hp.1, ← hs]) (hk.trans hD4) (by omega)
  refine VW.pick (L2 := [(0, .ref (A 0)), (1, .int (iI law)), (2, .long (iL 0)), (4, .int (iI 0))]) [2, 3, 1, 0] rfl ?_
  exact P1 _ 0 0 D ⟨by omega, by omega⟩ rfl kp.rfl (Nat.lt_succ_self _)

set_option maxHeartbeats 4000000 in
theorem n_surr {l : Launch} (hfl : l.stackTraces = false) {E : zEn} {h : zHp} {A : Nat → Nat} {τ D : mMem} (hA : mInj A) {p : Int} (hp : 0 ≤ p ∧ p < 24) (ho : okP1 τ p) (hw : okLaw τ 0) {y : Int} (hy : okY τ p y)  : CN l E yX4_surrenderAt (ws_ yX4_surrenderAt cX4_surrenderAt 3 (some FieldType.long)) ({ frames := 5, cells := 0, slots := 0, locals := 142 } : Room) [.ref (A 0), .int (iI p), .int (iI y)] (zM E A h (sc τ D)) (zS E A h τ (some (.long (iL (svT τ p y)))) (kp D)) := by
  refine CN.of (by decide +kernel) hfl (Nat.le_of_ble_eq_true rfl) fun θ Q hl G hin hQ => ?_
  subst hl
  show VW θ Q E (zM E A h (sc τ D)) 0 0 0 [(0, .ref (A 0)), (1, .int (iI p)), (2, .int (iI y))] []
  have h9 := ho
  simp only [okP1, okP, tP] at h9
  have w9 := hw
  simp only [okLaw, okW] at w9
  have y9 := hy
  unfold okY at y9
  have r9 := rsT_bd ho hw hy
  refine v_aload_n G 0 rfl rfl dX4_surrenderAt_0 ?_
  refine gX4_31 G zM_0 (v := .ref (A 23)) rfl dX4_surrenderAt_1 ?_
  refine v_iload_n G 1 rfl rfl dX4_surrenderAt_4 ?_
  refine m_ald G hA (v := τ 23 p) rfl ⟨by omega, by show _ < (24 : Int); omega⟩ rfl dX4_surrenderAt_5 ?_
  refine v_iconst G dX4_surrenderAt_6 ?_
  refine v_icmp_lt G 14 ⟨by omega, by omega⟩ ⟨by decide, by decide⟩ (by decide) dX4_surrenderAt_7 (fun c1 => ?_) (fun c1 => ?_)
  · refine v_lconst G (n := 0) (v0 := 0) rfl dX4_surrenderAt_14 ?_
    refine v_aload_n G 0 rfl rfl dX4_surrenderAt_15 ?_
    refine v_iload_n G 1 rfl rfl dX4_surrenderAt_16 ?_
    refine v_iload_n G 2 rfl rfl dX4_surrenderAt_17 ?_
    refine v_iconst G dX4_surrenderAt_18 ?_
    refine kX4_244 G (As := [.int (iI p), .int (iI y), .int (iI 0)]) (rest := [.long (iL 0)]) (cs' := 0) (sl' := 0) (n_resAt G.fl (τ := τ) (D := D) hA (p := p) (y := y) (law := 0) ⟨by omega, by omega⟩ ho ⟨by omega, by omega⟩ hw hy) (zRcv.of G (q := (RX4, TX4, 55)) rfl zM_0) rfl rfl (Nat.le_of_ble_eq_true rfl) (zRm.ok rfl) dX4_surrenderAt_19 (fun vq2 hq2 q2 => ?_)
    obtain ⟨_, D3, hD3, _⟩ := q2
    subst vq2 hq2
    show VW θ Q E (zM E A h (sc τ D3)) 0 0 22 [(0, .ref (A 0)), (1, .int (iI p)), (2, .int (iI y))] [.long (iL (rsT τ 0 p y)), .long (iL 0)]
    refine v_ldc2 G (v := 9) q2275 rfl dX4_surrenderAt_22 ?_
    refine v_lmul G dX4_surrenderAt_25 ?_
    refine v_ldc2 G (v := 10) q2276 rfl dX4_surrenderAt_26 ?_
    refine kX4_238 G (As := [.long (iL ((rsT τ 0 p y) * 9)), .long (iL 10)]) (rest := [.long (iL 0)]) (cs' := 0) (sl' := 0) (m_fdiv G.fl (a := ((rsT τ 0 p y) * 9)) (b := 10) ⟨by omega, by omega⟩ ⟨by decide, by decide⟩) rfl rfl (Nat.le_of_ble_eq_true rfl) (zRm.ok rfl) dX4_surrenderAt_29 (fun vq5 hq5 q5 => ?_)
    obtain ⟨_, _⟩ := q5
    subst vq5 hq5
    show VW θ Q E (zM E A h (sc τ D3)) 0 0 32 [(0, .ref (A 0)), (1, .int (iI p)), (2, .int (iI y))] [.long (iL (((rsT τ 0 p y) * 9) / 10)), .long (iL 0)]
    refine kX4_241 G (As := [.long (iL 0), .long (iL (((rsT τ 0 p y) * 9) / 10))]) (rest := []) (cs' := 0) (sl' := 0) (m_maxL G.fl (a := 0) (b := (((rsT τ 0 p y) * 9) / 10)) ⟨by decide, by decide⟩ ⟨by omega, by omega⟩) rfl rfl (Nat.le_of_ble_eq_true rfl) (zRm.ok rfl) dX4_surrenderAt_32 (fun vq7 hq7 q7 => ?_)
    obtain ⟨_, _⟩ := q7
    subst vq7 hq7
    show VW θ Q E (zM E A h (sc τ D3)) 0 0 35 [(0, .ref (A 0)), (1, .int (iI p)), (2, .int (iI y))] [.long (iL (max 0 (((rsT τ 0 p y) * 9) / 10)))]
    exact v_lret G hQ ⟨by unfold svT svS; first | rw [if_pos (by omega)] | rw [if_neg (by omega)], D3, hD3, rfl⟩ (Nat.le_of_ble_eq_true rfl) (Nat.le_of_ble_eq_true rfl) dX4_surrenderAt_35
  · refine v_lconst G (n := 0) (v0 := 0) rfl dX4_surrenderAt_10 ?_
    refine v_goto G 35 (by decide) dX4_surrenderAt_11 ?_
    exact v_lret G hQ ⟨by unfold svT svS; first | rw [if_pos (by omega)] | rw [if_neg (by omega)], D, kp.rfl, rfl⟩ (Nat.le_of_ble_eq_true rfl) (Nat.le_of_ble_eq_true rfl) dX4_surrenderAt_35

set_option maxHeartbeats 4000000 in
theorem n_loans {l : Launch} (hfl : l.stackTraces = false) {E : zEn} {h : zHp} {A : Nat → Nat} {τ D : mMem} (hA : mInj A) (hm : (0 ≤ τ 10 0 ∧ τ 10 0 ≤ 24) ∧ (0 ≤ τ 11 0 ∧ τ 11 0 ≤ 16))  : CN l E yX4_loans (ws_ yX4_loans cX4_loans 4 (some FieldType.long)) ({ frames := 0, cells := 0, slots := 0, locals := 0 } : Room) [.ref (A 0)] (zM E A h (sc τ D)) (zR (.long (iL (loansT τ))) (zM E A h (sc τ D))) := by
  refine CN.of (by decide +kernel) hfl (Nat.le_of_ble_eq_true rfl) fun θ Q hl G hin hQ => ?_
  subst hl
  show VW θ Q E (zM E A h (sc τ D)) 0 0 0 [(0, .ref (A 0))] []
  refine v_lconst G (n := 0) (v0 := 0) rfl dX4_loans_0 ?_
  refine v_lstore_n G (L' := [(1, .long (iL 0)), (0, .ref (A 0))]) rfl (Nat.le_of_ble_eq_true rfl) rfl dX4_loans_1 ?_
  refine v_iconst G dX4_loans_2 ?_
  refine v_istore_n G (L' := [(3, .int (iI 0)), (1, .long (iL 0)), (0, .ref (A 0))]) rfl (Nat.le_of_ble_eq_true rfl) rfl dX4_loans_3 ?_
  have P1 : ∀ (n : Nat) (p : Int) (s : Int), (0 ≤ p ∧ p ≤ τ 10 0) → (s = sumT (fun p => τ 38 p) p) → (τ 10 0 - p).toNat < n → VW θ Q E (zM E A h (sc τ D)) 0 0 4 [(0, .ref (A 0)), (1, .long (iL s)), (3, .int (iI p))] [] := by
    intro n
    induction n with
    | zero => intros; omega
    | succ n P1ih =>
      intro p s hp hs hn
      refine v_iload_n G 2 rfl rfl dX4_loans_4 ?_
      refine v_aload_n G 0 rfl rfl dX4_loans_5 ?_
      refine gX4_146 G zM_0 (v := .int (iI (τ 10 0))) rfl dX4_loans_6 ?_
      refine v_icmp_ge G 27 ⟨by omega, by omega⟩ ⟨by omega, by omega⟩ (by decide) dX4_loans_9 (fun c2 => ?_) (fun c2 => ?_)
      · obtain rfl : p = τ 10 0 := by omega
        refine v_lload_n G 1 rfl rfl dX4_loans_27 ?_
        exact v_lret G hQ ⟨by rw [hs]; rfl, rfl⟩ (Nat.le_of_ble_eq_true rfl) (Nat.le_of_ble_eq_true rfl) dX4_loans_28
      · refine v_lload_n G 1 rfl rfl dX4_loans_12 ?_
        refine v_aload_n G 0 rfl rfl dX4_loans_13 ?_
        refine gX4_76 G zM_0 (v := .ref (A 38)) rfl dX4_loans_14 ?_
        refine v_iload_n G 2 rfl rfl dX4_loans_17 ?_
        refine m_lld G hA (v := τ 38 p) rfl ⟨by omega, by show _ < (24 : Int); omega⟩ rfl dX4_loans_18 ?_
        refine v_ladd G dX4_loans_19 ?_
        refine v_lstore_n G (L' := [(1, .long (iL (s + (τ 38 p)))), (0, .ref (A 0)), (3, .int (iI p))]) rfl (Nat.le_of_ble_eq_true rfl) rfl dX4_loans_20 ?_
        refine v_iinc G (L' := [(3, .int (iI (p + 1))), (1, .long (iL (s + (τ 38 p)))), (0, .ref (A 0))]) 2 rfl (Nat.le_of_ble_eq_true rfl) rfl dX4_loans_21 ?_
        refine v_goto G 4 (by decide) dX4_loans_24 ?_
        refine VW.pick (L2 := [(0, .ref (A 0)), (1, .long (iL (s + (τ 38 p)))), (3, .int (iI (p + 1)))]) [2, 1, 0] rfl ?_
        exact P1ih (p + 1) (s + (τ 38 p)) ⟨by omega, by omega⟩ (by rw [sumT_s hp.1, ← hs]) (by omega)
  refine VW.pick (L2 := [(0, .ref (A 0)), (1, .long (iL 0)), (3, .int (iI 0))]) [2, 1, 0] rfl ?_
  exact P1 _ 0 0 ⟨by omega, by omega⟩ rfl (Nat.lt_succ_self _)

set_option maxHeartbeats 4000000 in
theorem n_fund {l : Launch} (hfl : l.stackTraces = false) {E : zEn} {h : zHp} {A : Nat → Nat} {τ D : mMem} (hA : mInj A) (hm : (0 ≤ τ 10 0 ∧ τ 10 0 ≤ 24) ∧ (0 ≤ τ 11 0 ∧ τ 11 0 ≤ 16)) (hb : ∀ b, 0 ≤ b → b < τ 11 0 → 0 ≤ τ 43 b ∧ τ 43 b ≤ 100000000)  : CN l E yX4_fund (ws_ yX4_fund cX4_fund 4 (some FieldType.long)) ({ frames := 1, cells := 0, slots := 0, locals := 23 } : Room) [.ref (A 0)] (zM E A h (sc τ D)) (zR (.long (iL (fundT τ))) (zM E A h (sc τ D))) := by
  refine CN.of (by decide +kernel) hfl (Nat.le_of_ble_eq_true rfl) fun θ Q hl G hin hQ => ?_
  subst hl
  show VW θ Q E (zM E A h (sc τ D)) 0 0 0 [(0, .ref (A 0))] []
  refine v_aload_n G 0 rfl rfl dX4_fund_0 ?_
  refine gX4_117 G zM_0 (v := .long (iL (τ 14 0))) rfl dX4_fund_1 ?_
  refine v_aload_n G 0 rfl rfl dX4_fund_4 ?_
  refine kX4_252 G (As := []) (rest := [.long (iL (τ 14 0))]) (cs' := 0) (sl' := 0) (n_loans G.fl (τ := τ) (D := D) hA hm) (zRcv.of G (q := (RX4, TX4, 55)) rfl zM_0) rfl rfl (Nat.le_of_ble_eq_true rfl) (zRm.ok rfl) dX4_fund_5 (fun vq1 hq1 q1 => ?_)
  obtain ⟨_, _⟩ := q1
  subst vq1 hq1
  show VW θ Q E (zM E A h (sc τ D)) 0 0 8 [(0, .ref (A 0))] [.long (iL (loansT τ)), .long (iL (τ 14 0))]
  refine v_ladd G dX4_fund_8 ?_
  refine v_lstore_n G (L' := [(1, .long (iL ((τ 14 0) + (loansT τ)))), (0, .ref (A 0))]) rfl (Nat.le_of_ble_eq_true rfl) rfl dX4_fund_9 ?_
  refine v_iconst G dX4_fund_10 ?_
  refine v_istore_n G (L' := [(3, .int (iI 0)), (1, .long (iL ((τ 14 0) + (loansT τ)))), (0, .ref (A 0))]) rfl (Nat.le_of_ble_eq_true rfl) rfl dX4_fund_11 ?_
  have P2 : ∀ (n : Nat) (p : Int) (s : Int), (0 ≤ p ∧ p ≤ τ 11 0) → (s = τ 14 0 + loansT τ + sumT (fun b => τ 43 b) p) → (τ 11 0 - p).toNat < n → VW θ Q E (zM E A h (sc τ D)) 0 0 12 [(0, .ref (A 0)), (1, .long (iL s)), (3, .int (iI p))] [] := by
    intro n
    induction n with
    | zero => intros; omega
    | succ n P2ih =>
      intro p s hp hs hn
      refine v_iload_n G 2 rfl rfl dX4_fund_12 ?_
      refine v_aload_n G 0 rfl rfl dX4_fund_13 ?_
      refine gX4_149 G zM_0 (v := .int (iI (τ 11 0))) rfl dX4_fund_14 ?_
      refine v_icmp_ge G 36 ⟨by omega, by omega⟩ ⟨by omega, by omega⟩ (by decide) dX4_fund_17 (fun c3 => ?_) (fun c3 => ?_)
      · obtain rfl : p = τ 11 0 := by omega
        refine v_lload_n G 1 rfl rfl dX4_fund_36 ?_
        exact v_lret G hQ ⟨by rw [hs]; rfl, rfl⟩ (Nat.le_of_ble_eq_true rfl) (Nat.le_of_ble_eq_true rfl) dX4_fund_37
      · have b9 := hb p hp.1 (by omega)
        refine v_lload_n G 1 rfl rfl dX4_fund_20 ?_
        refine v_aload_n G 0 rfl rfl dX4_fund_21 ?_
        refine gX4_91 G zM_0 (v := .ref (A 43)) rfl dX4_fund_22 ?_
        refine v_iload_n G 2 rfl rfl dX4_fund_25 ?_
        refine m_ald G hA (v := τ 43 p) rfl ⟨by omega, by show _ < (16 : Int); omega⟩ rfl dX4_fund_26 ?_
        refine v_i2l G ⟨by omega, by omega⟩ dX4_fund_27 ?_
        refine v_ladd G dX4_fund_28 ?_
        refine v_lstore_n G (L' := [(1, .long (iL (s + (τ 43 p)))), (0, .ref (A 0)), (3, .int (iI p))]) rfl (Nat.le_of_ble_eq_true rfl) rfl dX4_fund_29 ?_
        refine v_iinc G (L' := [(3, .int (iI (p + 1))), (1, .long (iL (s + (τ 43 p)))), (0, .ref (A 0))]) 2 rfl (Nat.le_of_ble_eq_true rfl) rfl dX4_fund_30 ?_
        refine v_goto G 12 (by decide) dX4_fund_33 ?_
        refine VW.pick (L2 := [(0, .ref (A 0)), (1, .long (iL (s + (τ 43 p)))), (3, .int (iI (p + 1)))]) [2, 1, 0] rfl ?_
        exact P2ih (p + 1) (s + (τ 43 p)) ⟨by omega, by omega⟩ (by rw [sumT_s hp.1, ← Int.add_assoc, ← hs]) (by omega)
  refine VW.pick (L2 := [(0, .ref (A 0)), (1, .long (iL ((τ 14 0) + (loansT τ)))), (3, .int (iI 0))]) [2, 1, 0] rfl ?_
  exact P2 _ 0 (τ 14 0 + loansT τ) ⟨by omega, by omega⟩ (Int.add_zero _).symm (Nat.lt_succ_self _)

set_option maxHeartbeats 4000000 in
theorem n_estate {l : Launch} (hfl : l.stackTraces = false) {E : zEn} {h : zHp} {A : Nat → Nat} {τ D : mMem} (hA : mInj A) (hm : (0 ≤ τ 10 0 ∧ τ 10 0 ≤ 24) ∧ (0 ≤ τ 11 0 ∧ τ 11 0 ≤ 16)) (hb : ∀ b, 0 ≤ b → b < τ 11 0 → 0 ≤ τ 43 b ∧ τ 43 b ≤ 100000000) (hw : okLaw τ 0) (ha : okA τ)  : CN l E yX4_estate (ws_ yX4_estate cX4_estate 1 (some FieldType.long)) ({ frames := 6, cells := 0, slots := 0, locals := 166 } : Room) [.ref (A 0)] (zM E A h (sc τ D)) (zS E A h τ (some (.long (iL (estT τ)))) (kp D)) := by
  refine CN.of (by decide +kernel) hfl (Nat.le_of_ble_eq_true rfl) fun θ Q hl G hin hQ => ?_
  subst hl
  show VW θ Q E (zM E A h (sc τ D)) 0 0 0 [(0, .ref (A 0))] []
  refine v_aload_n G 0 rfl rfl dX4_estate_0 ?_
  refine kX4_256 G (As := []) (rest := []) (cs' := 0) (sl' := 0) (n_fund G.fl (τ := τ) (D := D) hA hm hb) (zRcv.of G (q := (RX4, TX4, 55)) rfl zM_0) rfl rfl (Nat.le_of_ble_eq_true rfl) (zRm.ok rfl) dX4_estate_1 (fun vq1 hq1 q1 => ?_)
  obtain ⟨_, _⟩ := q1
  subst vq1 hq1
  show VW θ Q E (zM E A h (sc τ D)) 0 0 4 [(0, .ref (A 0))] [.long (iL (fundT τ))]
  refine v_aload_n G 0 rfl rfl dX4_estate_4 ?_
  refine v_iconst G dX4_estate_5 ?_
  refine kX4_259 G (As := [.int (iI 0)]) (rest := [.long (iL (fundT τ))]) (cs' := 0) (sl' := 0) (n_all G.fl (τ := τ) (D := D) hA (law := 0) ⟨by omega, by omega⟩ hw ha) (zRcv.of G (q := (RX4, TX4, 55)) rfl zM_0) rfl rfl (Nat.le_of_ble_eq_true rfl) (zRm.ok rfl) dX4_estate_6 (fun vq2 hq2 q2 => ?_)
  obtain ⟨_, D3, hD3, _⟩ := q2
  subst vq2 hq2
  show VW θ Q E (zM E A h (sc τ D3)) 0 0 9 [(0, .ref (A 0))] [.long (iL (totT τ 0)), .long (iL (fundT τ))]
  refine v_lsub G dX4_estate_9 ?_
  exact v_lret G hQ ⟨rfl, D3, hD3, rfl⟩ (Nat.le_of_ble_eq_true rfl) (Nat.le_of_ble_eq_true rfl) dX4_estate_10

set_option maxHeartbeats 4000000 in
theorem n_ceded {l : Launch} (hfl : l.stackTraces = false) {E : zEn} {h : zHp} {A : Nat → Nat} {τ D : mMem} (hA : mInj A) {p : Int} (hp : 0 ≤ p ∧ p < 24) (ho : okP1 τ p) (hr : (0 ≤ τ 8 0 ∧ τ 8 0 ≤ 1000000) ∧ (0 ≤ τ 9 0 ∧ τ 9 0 ≤ 1000))  : CN l E yX4_ceded (ws_ yX4_ceded cX4_ceded 2 (some FieldType.long)) ({ frames := 1, cells := 0, slots := 0, locals := 23 } : Room) [.ref (A 0), .int (iI p)] (zM E A h (sc τ D)) (zR (.long (iL (cdT τ p))) (zM E A h (sc τ D))) := by
  refine CN.of (by decide +kernel) hfl (Nat.le_of_ble_eq_true rfl) fun θ Q hl G hin hQ => ?_
  subst hl
  show VW θ Q E (zM E A h (sc τ D)) 0 0 0 [(0, .ref (A 0)), (1, .int (iI p))] []
  have h9 := ho
  simp only [okP1, okP, tP] at h9
  have e1 := mul_bd2 (show 0 ≤ min (τ 35 p) (τ 8 0) ∧ min (τ 35 p) (τ 8 0) ≤ 1000000 by omega) hr.2
  refine v_lconst G (n := 0) (v0 := 0) rfl dX4_ceded_0 ?_
  refine v_aload_n G 0 rfl rfl dX4_ceded_1 ?_
  refine gX4_67 G zM_0 (v := .ref (A 35)) rfl dX4_ceded_2 ?_
  refine v_iload_n G 1 rfl rfl dX4_ceded_5 ?_
  refine m_lld G hA (v := τ 35 p) rfl ⟨by omega, by show _ < (24 : Int); omega⟩ rfl dX4_ceded_6 ?_
  refine v_aload_n G 0 rfl rfl dX4_ceded_7 ?_
  refine gX4_140 G zM_0 (v := .int (iI (τ 8 0))) rfl dX4_ceded_8 ?_
  refine v_i2l G ⟨by omega, by omega⟩ dX4_ceded_11 ?_
  refine v_lsub G dX4_ceded_12 ?_
  refine kX4_241 G (As := [.long (iL 0), .long (iL ((τ 35 p) - (τ 8 0)))]) (rest := []) (cs' := 0) (sl' := 0) (m_maxL G.fl (a := 0) (b := ((τ 35 p) - (τ 8 0))) ⟨by decide, by decide⟩ ⟨by omega, by omega⟩) rfl rfl (Nat.le_of_ble_eq_true rfl) (zRm.ok rfl) dX4_ceded_13 (fun vq2 hq2 q2 => ?_)
  obtain ⟨_, _⟩ := q2
  subst vq2 hq2
  show VW θ Q E (zM E A h (sc τ D)) 0 0 16 [(0, .ref (A 0)), (1, .int (iI p))] [.long (iL (max 0 ((τ 35 p) - (τ 8 0))))]
  refine v_aload_n G 0 rfl rfl dX4_ceded_16 ?_
  refine gX4_67 G zM_0 (v := .ref (A 35)) rfl dX4_ceded_17 ?_
  refine v_iload_n G 1 rfl rfl dX4_ceded_20 ?_
  refine m_lld G hA (v := τ 35 p) rfl ⟨by omega, by show _ < (24 : Int); omega⟩ rfl dX4_ceded_21 ?_
  refine v_aload_n G 0 rfl rfl dX4_ceded_22 ?_
  refine gX4_140 G zM_0 (v := .int (iI (τ 8 0))) rfl dX4_ceded_23 ?_
  refine v_i2l G ⟨by omega, by omega⟩ dX4_ceded_26 ?_
  refine kX4_198 G (As := [.long (iL (τ 35 p)), .long (iL (τ 8 0))]) (rest := [.long (iL (max 0 ((τ 35 p) - (τ 8 0))))]) (cs' := 0) (sl' := 0) (m_minL G.fl (a := (τ 35 p)) (b := (τ 8 0)) ⟨by omega, by omega⟩ ⟨by omega, by omega⟩) rfl rfl (Nat.le_of_ble_eq_true rfl) (zRm.ok rfl) dX4_ceded_27 (fun vq4 hq4 q4 => ?_)
  obtain ⟨_, _⟩ := q4
  subst vq4 hq4
  show VW θ Q E (zM E A h (sc τ D)) 0 0 30 [(0, .ref (A 0)), (1, .int (iI p))] [.long (iL (min (τ 35 p) (τ 8 0))), .long (iL (max 0 ((τ 35 p) - (τ 8 0))))]
  refine v_aload_n G 0 rfl rfl dX4_ceded_30 ?_
  refine gX4_143 G zM_0 (v := .int (iI (τ 9 0))) rfl dX4_ceded_31 ?_
  refine v_i2l G ⟨by omega, by omega⟩ dX4_ceded_34 ?_
  refine v_lmul G dX4_ceded_35 ?_
  refine v_ldc2 G (v := 1000) q2190 rfl dX4_ceded_36 ?_
  refine v_ldiv G ⟨by omega, by omega⟩ ⟨by decide, by decide⟩ dX4_ceded_39 ?_
  refine v_ladd G dX4_ceded_40 ?_
  exact v_lret G hQ ⟨rfl, rfl⟩ (Nat.le_of_ble_eq_true rfl) (Nat.le_of_ble_eq_true rfl) dX4_ceded_41

set_option maxHeartbeats 4000000 in
theorem n_final {l : Launch} (hfl : l.stackTraces = false) {E : zEn} {h : zHp} {A : Nat → Nat} {τ D : mMem} (hA : mInj A) {p : Int} (hp : 0 ≤ p ∧ p < 24) (ho : okP1 τ p) (hf : 0 ≤ τ 7 0 ∧ τ 7 0 ≤ 1000)  : CN l E yX4_finalBonus (ws_ yX4_finalBonus cX4_finalBonus 2 (some FieldType.long)) ({ frames := 1, cells := 0, slots := 0, locals := 25 } : Room) [.ref (A 0), .int (iI p)] (zM E A h (sc τ D)) (zR (.long (iL (fbT τ p))) (zM E A h (sc τ D))) := by
  refine CN.of (by decide +kernel) hfl (Nat.le_of_ble_eq_true rfl) fun θ Q hl G hin hQ => ?_
  subst hl
  show VW θ Q E (zM E A h (sc τ D)) 0 0 0 [(0, .ref (A 0)), (1, .int (iI p))] []
  have h9 := ho
  simp only [okP1, okP, tP] at h9
  have e1 := fb_mul ho.1 hf
  simp only [tP] at e1
  have e2 := fbS_bd ho.1 hf
  refine v_aload_n G 0 rfl rfl dX4_finalBonus_0 ?_
  refine v_iload_n G 1 rfl rfl dX4_finalBonus_1 ?_
  refine kX4_263 G (As := [.int (iI p)]) (rest := []) (cs' := 0) (sl' := 0) (n_hasProfits G.fl (τ := τ) (D := D) hA (p := p) ⟨by omega, by omega⟩ (show 0 ≤ τ 25 p ∧ τ 25 p ≤ 7 by omega)) (zRcv.of G (q := (RX4, TX4, 55)) rfl zM_0) rfl rfl (Nat.le_of_ble_eq_true rfl) (zRm.ok rfl) dX4_finalBonus_2 (fun vq1 hq1 q1 => ?_)
  obtain ⟨_, _⟩ := q1
  subst vq1 hq1
  refine VW.nmI (fun z2 hz2 => ?_)
  have hz2 := (show (z2 = 1 ∧ 4 ≤ τ 25 p) ∨ (z2 = 0 ∧ ¬ (4 ≤ τ 25 p)) from ite01 hz2)
  show VW θ Q E (zM E A h (sc τ D)) 0 0 5 [(0, .ref (A 0)), (1, .int (iI p))] [.int (iI z2)]
  refine v_if_eq G 47 ⟨by omega, by omega⟩ (by decide) dX4_finalBonus_5 (fun c3 => ?_) (fun c3 => ?_)
  · have gz2 := bF hz2 (by omega)
    refine v_lconst G (n := 0) (v0 := 0) rfl dX4_finalBonus_47 ?_
    exact v_lret G hQ ⟨by unfold fbT; first | rw [if_pos (by omega)] | rw [if_neg (by omega)], rfl⟩ (Nat.le_of_ble_eq_true rfl) (Nat.le_of_ble_eq_true rfl) dX4_finalBonus_48
  · have gz2 := bT hz2 (by omega)
    refine v_lconst G (n := 0) (v0 := 0) rfl dX4_finalBonus_8 ?_
    refine v_aload_n G 0 rfl rfl dX4_finalBonus_9 ?_
    refine gX4_73 G zM_0 (v := .ref (A 37)) rfl dX4_finalBonus_10 ?_
    refine v_iload_n G 1 rfl rfl dX4_finalBonus_13 ?_
    refine m_lld G hA (v := τ 37 p) rfl ⟨by omega, by show _ < (24 : Int); omega⟩ rfl dX4_finalBonus_14 ?_
    refine v_aload_n G 0 rfl rfl dX4_finalBonus_15 ?_
    refine gX4_67 G zM_0 (v := .ref (A 35)) rfl dX4_finalBonus_16 ?_
    refine v_iload_n G 1 rfl rfl dX4_finalBonus_19 ?_
    refine m_lld G hA (v := τ 35 p) rfl ⟨by omega, by show _ < (24 : Int); omega⟩ rfl dX4_finalBonus_20 ?_
    refine v_lsub G dX4_finalBonus_21 ?_
    refine v_aload_n G 0 rfl rfl dX4_finalBonus_22 ?_
    refine gX4_70 G zM_0 (v := .ref (A 36)) rfl dX4_finalBonus_23 ?_
    refine v_iload_n G 1 rfl rfl dX4_finalBonus_26 ?_
    refine m_lld G hA (v := τ 36 p) rfl ⟨by omega, by show _ < (24 : Int); omega⟩ rfl dX4_finalBonus_27 ?_
    refine v_lsub G dX4_finalBonus_28 ?_
    refine v_aload_n G 0 rfl rfl dX4_finalBonus_29 ?_
    refine gX4_136 G zM_0 (v := .int (iI (τ 7 0))) rfl dX4_finalBonus_30 ?_
    refine v_i2l G ⟨by omega, by omega⟩ dX4_finalBonus_33 ?_
    refine v_lmul G dX4_finalBonus_34 ?_
    refine v_ldc2 G (v := 1000) q2190 rfl dX4_finalBonus_35 ?_
    refine kX4_238 G (As := [.long (iL ((((τ 37 p) - (τ 35 p)) - (τ 36 p)) * (τ 7 0))), .long (iL 1000)]) (rest := [.long (iL 0)]) (cs' := 0) (sl' := 0) (m_fdiv G.fl (a := ((((τ 37 p) - (τ 35 p)) - (τ 36 p)) * (τ 7 0))) (b := 1000) ⟨by omega, by omega⟩ ⟨by decide, by decide⟩) rfl rfl (Nat.le_of_ble_eq_true rfl) (zRm.ok rfl) dX4_finalBonus_38 (fun vq5 hq5 q5 => ?_)
    obtain ⟨_, _⟩ := q5
    subst vq5 hq5
    show VW θ Q E (zM E A h (sc τ D)) 0 0 41 [(0, .ref (A 0)), (1, .int (iI p))] [.long (iL (((((τ 37 p) - (τ 35 p)) - (τ 36 p)) * (τ 7 0)) / 1000)), .long (iL 0)]
    refine kX4_241 G (As := [.long (iL 0), .long (iL (((((τ 37 p) - (τ 35 p)) - (τ 36 p)) * (τ 7 0)) / 1000))]) (rest := []) (cs' := 0) (sl' := 0) (m_maxL G.fl (a := 0) (b := (((((τ 37 p) - (τ 35 p)) - (τ 36 p)) * (τ 7 0)) / 1000)) ⟨by decide, by decide⟩ ⟨by omega, by omega⟩) rfl rfl (Nat.le_of_ble_eq_true rfl) (zRm.ok rfl) dX4_finalBonus_41 (fun vq7 hq7 q7 => ?_)
    obtain ⟨_, _⟩ := q7
    subst vq7 hq7
    show VW θ Q E (zM E A h (sc τ D)) 0 0 44 [(0, .ref (A 0)), (1, .int (iI p))] [.long (iL (max 0 (((((τ 37 p) - (τ 35 p)) - (τ 36 p)) * (τ 7 0)) / 1000)))]
    refine v_goto G 48 (by decide) dX4_finalBonus_44 ?_
    exact v_lret G hQ ⟨by unfold fbT; first | rw [if_pos (by omega)] | rw [if_neg (by omega)], rfl⟩ (Nat.le_of_ble_eq_true rfl) (Nat.le_of_ble_eq_true rfl) dX4_finalBonus_48

set_option maxHeartbeats 4000000 in
theorem n_pays {l : Launch} (hfl : l.stackTraces = false) {E : zEn} {h : zHp} {A : Nat → Nat} {τ D : mMem} (hA : mInj A) {p : Int} (hp : 0 ≤ p ∧ p < 24) (ho : okP1 τ p) {y : Int} (hy : n32 y)  : CN l E yX4_pays (ws_ yX4_pays cX4_pays 3 (some FieldType.boolean)) ({ frames := 0, cells := 0, slots := 0, locals := 0 } : Room) [.ref (A 0), .int (iI p), .int (iI y)] (zM E A h (sc τ D)) (zR (.int (iI (if pyP τ p y then 1 else 0))) (zM E A h (sc τ D))) := by
  refine CN.of (by decide +kernel) hfl (Nat.le_of_ble_eq_true rfl) fun θ Q hl G hin hQ => ?_
  subst hl
  show VW θ Q E (zM E A h (sc τ D)) 0 0 0 [(0, .ref (A 0)), (1, .int (iI p)), (2, .int (iI y))] []
  have h9 := ho
  simp only [okP1, okP, tP] at h9
  refine v_aload_n G 0 rfl rfl dX4_pays_0 ?_
  refine gX4_64 G zM_0 (v := .ref (A 34)) rfl dX4_pays_1 ?_
  refine v_iload_n G 1 rfl rfl dX4_pays_4 ?_
  refine m_zld G hA (v := τ 34 p) rfl ⟨by omega, by show _ < (24 : Int); omega⟩ rfl dX4_pays_5 ?_
  refine v_if_ne G 33 ⟨by omega, by omega⟩ (by decide) dX4_pays_6 (fun c1 => ?_) (fun c1 => ?_)
  · refine v_iconst G dX4_pays_33 ?_
    exact v_zret G hQ (by decide) ⟨by first | rw [if_pos (show pyP τ p y by unfold pyP; omega)] | rw [if_neg (show ¬ pyP τ p y by unfold pyP; omega)], rfl⟩ (Nat.le_of_ble_eq_true rfl) (Nat.le_of_ble_eq_true rfl) dX4_pays_34
  · refine v_aload_n G 0 rfl rfl dX4_pays_9 ?_
    refine gX4_31 G zM_0 (v := .ref (A 23)) rfl dX4_pays_10 ?_
    refine v_iload_n G 1 rfl rfl dX4_pays_13 ?_
    refine m_ald G hA (v := τ 23 p) rfl ⟨by omega, by show _ < (24 : Int); omega⟩ rfl dX4_pays_14 ?_
    refine v_iconst G dX4_pays_15 ?_
    refine v_icmp_ne G 29 ⟨by omega, by omega⟩ ⟨by decide, by decide⟩ (by decide) dX4_pays_16 (fun c2 => ?_) (fun c2 => ?_)
    · refine v_iconst G dX4_pays_29 ?_
      refine v_goto G 34 (by decide) dX4_pays_30 ?_
      exact v_zret G hQ (by decide) ⟨by first | rw [if_pos (show pyP τ p y by unfold pyP; omega)] | rw [if_neg (show ¬ pyP τ p y by unfold pyP; omega)], rfl⟩ (Nat.le_of_ble_eq_true rfl) (Nat.le_of_ble_eq_true rfl) dX4_pays_34
    · refine v_iload_n G 2 rfl rfl dX4_pays_19 ?_
      refine v_aload_n G 0 rfl rfl dX4_pays_20 ?_
      refine gX4_43 G zM_0 (v := .ref (A 27)) rfl dX4_pays_21 ?_
      refine v_iload_n G 1 rfl rfl dX4_pays_24 ?_
      refine m_ald G hA (v := τ 27 p) rfl ⟨by omega, by show _ < (24 : Int); omega⟩ rfl dX4_pays_25 ?_
      refine v_icmp_ne G 33 ⟨by omega, by omega⟩ ⟨by omega, by omega⟩ (by decide) dX4_pays_26 (fun c3 => ?_) (fun c3 => ?_)
      · refine v_iconst G dX4_pays_33 ?_
        exact v_zret G hQ (by decide) ⟨by first | rw [if_pos (show pyP τ p y by unfold pyP; omega)] | rw [if_neg (show ¬ pyP τ p y by unfold pyP; omega)], rfl⟩ (Nat.le_of_ble_eq_true rfl) (Nat.le_of_ble_eq_true rfl) dX4_pays_34
      · refine v_iconst G dX4_pays_29 ?_
        refine v_goto G 34 (by decide) dX4_pays_30 ?_
        exact v_zret G hQ (by decide) ⟨by first | rw [if_pos (show pyP τ p y by unfold pyP; omega)] | rw [if_neg (show ¬ pyP τ p y by unfold pyP; omega)], rfl⟩ (Nat.le_of_ble_eq_true rfl) (Nat.le_of_ble_eq_true rfl) dX4_pays_34

set_option maxHeartbeats 4000000 in
theorem n_growth {l : Launch} (hfl : l.stackTraces = false) {E : zEn} {h : zHp} {A : Nat → Nat} {τ D : mMem} (hA : mInj A) {u f j : Int} (hu : 0 ≤ u ∧ u ≤ 1000000000) (hf : -1000000000000 ≤ f ∧ f ≤ 1000000000000) (hj : 0 ≤ j ∧ j ≤ 100)  : CN l E yX4_growth (ws_ yX4_growth cX4_growth 6 (some FieldType.long)) ({ frames := 1, cells := 0, slots := 0, locals := 25 } : Room) [.ref (A 0), .long (iL u), .long (iL f), .int (iI j)] (zM E A h (sc τ D)) (zR (.long (iL (grS u f j))) (zM E A h (sc τ D))) := by
  refine CN.of (by decide +kernel) hfl (Nat.le_of_ble_eq_true rfl) fun θ Q hl G hin hQ => ?_
  subst hl
  show VW θ Q E (zM E A h (sc τ D)) 0 0 0 [(0, .ref (A 0)), (1, .long (iL u)), (3, .long (iL f)), (5, .int (iI j))] []
  have e1 : -2000000000000000 ≤ (u + f) * (1000 + j) ∧ (u + f) * (1000 + j) ≤ 2000000000000000 := gr_bd hu hf hj
  refine v_lconst G (n := 0) (v0 := 0) rfl dX4_growth_0 ?_
  refine v_ldc2 G (v := 1000000000) q2138 rfl dX4_growth_1 ?_
  refine v_lload_n G 1 rfl rfl dX4_growth_4 ?_
  refine v_lload_n G 2 rfl rfl dX4_growth_5 ?_
  refine v_ladd G dX4_growth_6 ?_
  refine v_sipush G rfl dX4_growth_7 ?_
  refine v_iload G 3 rfl dX4_growth_10 ?_
  refine v_iadd G dX4_growth_12 ?_
  refine v_i2l G ⟨by omega, by omega⟩ dX4_growth_13 ?_
  refine v_lmul G dX4_growth_14 ?_
  refine v_ldc2 G (v := 1000) q2190 rfl dX4_growth_15 ?_
  refine kX4_238 G (As := [.long (iL ((u + f) * (1000 + j))), .long (iL 1000)]) (rest := [.long (iL 1000000000), .long (iL 0)]) (cs' := 0) (sl' := 0) (m_fdiv G.fl (a := ((u + f) * (1000 + j))) (b := 1000) ⟨by omega, by omega⟩ ⟨by decide, by decide⟩) rfl rfl (Nat.le_of_ble_eq_true rfl) (zRm.ok rfl) dX4_growth_18 (fun vq2 hq2 q2 => ?_)
  obtain ⟨_, _⟩ := q2
  subst vq2 hq2
  show VW θ Q E (zM E A h (sc τ D)) 0 0 21 [(0, .ref (A 0)), (1, .long (iL u)), (3, .long (iL f)), (5, .int (iI j))] [.long (iL (((u + f) * (1000 + j)) / 1000)), .long (iL 1000000000), .long (iL 0)]
  refine kX4_198 G (As := [.long (iL 1000000000), .long (iL (((u + f) * (1000 + j)) / 1000))]) (rest := [.long (iL 0)]) (cs' := 0) (sl' := 0) (m_minL G.fl (a := 1000000000) (b := (((u + f) * (1000 + j)) / 1000)) ⟨by decide, by decide⟩ ⟨by omega, by omega⟩) rfl rfl (Nat.le_of_ble_eq_true rfl) (zRm.ok rfl) dX4_growth_21 (fun vq4 hq4 q4 => ?_)
  obtain ⟨_, _⟩ := q4
  subst vq4 hq4
  show VW θ Q E (zM E A h (sc τ D)) 0 0 24 [(0, .ref (A 0)), (1, .long (iL u)), (3, .long (iL f)), (5, .int (iI j))] [.long (iL (min 1000000000 (((u + f) * (1000 + j)) / 1000))), .long (iL 0)]
  refine kX4_241 G (As := [.long (iL 0), .long (iL (min 1000000000 (((u + f) * (1000 + j)) / 1000)))]) (rest := []) (cs' := 0) (sl' := 0) (m_maxL G.fl (a := 0) (b := (min 1000000000 (((u + f) * (1000 + j)) / 1000))) ⟨by decide, by decide⟩ ⟨by omega, by omega⟩) rfl rfl (Nat.le_of_ble_eq_true rfl) (zRm.ok rfl) dX4_growth_24 (fun vq6 hq6 q6 => ?_)
  obtain ⟨_, _⟩ := q6
  subst vq6 hq6
  show VW θ Q E (zM E A h (sc τ D)) 0 0 27 [(0, .ref (A 0)), (1, .long (iL u)), (3, .long (iL f)), (5, .int (iI j))] [.long (iL (max 0 (min 1000000000 (((u + f) * (1000 + j)) / 1000))))]
  exact v_lret G hQ ⟨rfl, rfl⟩ (Nat.le_of_ble_eq_true rfl) (Nat.le_of_ble_eq_true rfl) dX4_growth_27

set_option maxHeartbeats 4000000 in
theorem n_claim {l : Launch} (hfl : l.stackTraces = false) {E : zEn} {h : zHp} {A : Nat → Nat} {τ D : mMem} (hA : mInj A) {p : Int} (hp : 0 ≤ p ∧ p < 24) (ho : okP1 τ p) (hw : okLaw τ 0) (hf : 0 ≤ τ 7 0 ∧ τ 7 0 ≤ 1000)  : CN l E yX4_claim (ws_ yX4_claim cX4_claim 8 (some FieldType.long)) ({ frames := 5, cells := 0, slots := 0, locals := 139 } : Room) [.ref (A 0), .int (iI p)] (zM E A h (sc τ D)) (zS E A h τ (some (.long (iL (clT τ p)))) (kp D)) := by
  refine CN.of (by decide +kernel) hfl (Nat.le_of_ble_eq_true rfl) fun θ Q hl G hin hQ => ?_
  subst hl
  show VW θ Q E (zM E A h (sc τ D)) 0 0 0 [(0, .ref (A 0)), (1, .int (iI p))] []
  have h9 := ho
  simp only [okP1, okP, tP] at h9
  have w9 := hw
  simp only [okLaw, okW] at w9
  have f9 := fbS_bd ho.1 hf
  have f8 : fbT τ p = fbS (tP τ p) (τ 7 0) := fbT_S
  refine v_aload_n G 0 rfl rfl dX4_claim_0 ?_
  refine gX4_31 G zM_0 (v := .ref (A 23)) rfl dX4_claim_1 ?_
  refine v_iload_n G 1 rfl rfl dX4_claim_4 ?_
  refine m_ald G hA (v := τ 23 p) rfl ⟨by omega, by show _ < (24 : Int); omega⟩ rfl dX4_claim_5 ?_
  refine v_iconst G dX4_claim_6 ?_
  refine v_icmp_ne G 12 ⟨by omega, by omega⟩ ⟨by decide, by decide⟩ (by decide) dX4_claim_7 (fun c1 => ?_) (fun c1 => ?_)
  · refine v_aload_n G 0 rfl rfl dX4_claim_12 ?_
    refine gX4_67 G zM_0 (v := .ref (A 35)) rfl dX4_claim_13 ?_
    refine v_iload_n G 1 rfl rfl dX4_claim_16 ?_
    refine m_lld G hA (v := τ 35 p) rfl ⟨by omega, by show _ < (24 : Int); omega⟩ rfl dX4_claim_17 ?_
    refine v_aload_n G 0 rfl rfl dX4_claim_18 ?_
    refine gX4_70 G zM_0 (v := .ref (A 36)) rfl dX4_claim_19 ?_
    refine v_iload_n G 1 rfl rfl dX4_claim_22 ?_
    refine m_lld G hA (v := τ 36 p) rfl ⟨by omega, by show _ < (24 : Int); omega⟩ rfl dX4_claim_23 ?_
    refine v_ladd G dX4_claim_24 ?_
    refine v_aload_n G 0 rfl rfl dX4_claim_25 ?_
    refine v_iload_n G 1 rfl rfl dX4_claim_26 ?_
    refine kX4_266 G (As := [.int (iI p)]) (rest := [.long (iL ((τ 35 p) + (τ 36 p)))]) (cs' := 0) (sl' := 0) (n_final G.fl (τ := τ) (D := D) hA (p := p) ⟨by omega, by omega⟩ ho hf) (zRcv.of G (q := (RX4, TX4, 55)) rfl zM_0) rfl rfl (Nat.le_of_ble_eq_true rfl) (zRm.ok rfl) dX4_claim_27 (fun vq2 hq2 q2 => ?_)
    obtain ⟨_, _⟩ := q2
    subst vq2 hq2
    show VW θ Q E (zM E A h (sc τ D)) 0 0 30 [(0, .ref (A 0)), (1, .int (iI p))] [.long (iL (fbT τ p)), .long (iL ((τ 35 p) + (τ 36 p)))]
    refine v_ladd G dX4_claim_30 ?_
    refine v_lstore_n G (L' := [(2, .long (iL (((τ 35 p) + (τ 36 p)) + (fbT τ p)))), (0, .ref (A 0)), (1, .int (iI p))]) rfl (Nat.le_of_ble_eq_true rfl) rfl dX4_claim_31 ?_
    refine v_aload_n G 1 rfl rfl dX4_claim_32 ?_
    refine gX4_52 G zM_0 (v := .ref (A 30)) rfl dX4_claim_33 ?_
    refine v_iload_n G 2 rfl rfl dX4_claim_36 ?_
    refine m_ald G hA (v := τ 30 p) rfl ⟨by omega, by show _ < (24 : Int); omega⟩ rfl dX4_claim_37 ?_
    refine v_aload_n G 1 rfl rfl dX4_claim_38 ?_
    refine gX4_40 G zM_0 (v := .ref (A 26)) rfl dX4_claim_39 ?_
    refine v_iload_n G 2 rfl rfl dX4_claim_42 ?_
    refine m_ald G hA (v := τ 26 p) rfl ⟨by omega, by show _ < (24 : Int); omega⟩ rfl dX4_claim_43 ?_
    refine v_icmp_gt G 49 ⟨by omega, by omega⟩ ⟨by omega, by omega⟩ (by decide) dX4_claim_44 (fun c3 => ?_) (fun c3 => ?_)
    · refine v_aload_n G 1 rfl rfl dX4_claim_49 ?_
      refine v_iload_n G 2 rfl rfl dX4_claim_50 ?_
      refine v_iconst G dX4_claim_51 ?_
      refine kX4_269 G (As := [.int (iI p), .int (iI 0)]) (rest := []) (cs' := 0) (sl' := 0) (n_net G.fl (τ := τ) (D := D) hA (p := p) (law := 0) ⟨by omega, by omega⟩ ho ⟨by omega, by omega⟩ hw) (zRcv.of G (q := (RX4, TX4, 55)) rfl zM_0) rfl rfl (Nat.le_of_ble_eq_true rfl) (zRm.ok rfl) dX4_claim_52 (fun vq4 hq4 q4 => ?_)
      obtain ⟨_, D5, hD5, _⟩ := q4
      subst vq4 hq4
      show VW θ Q E (zM E A h (sc τ D5)) 0 0 55 [(2, .long (iL (((τ 35 p) + (τ 36 p)) + (fbT τ p)))), (0, .ref (A 0)), (1, .int (iI p))] [.long (iL (npT τ 0 p (τ 26 p)))]
      refine v_lstore G (L' := [(4, .long (iL (npT τ 0 p (τ 26 p)))), (2, .long (iL (((τ 35 p) + (τ 36 p)) + (fbT τ p)))), (0, .ref (A 0)), (1, .int (iI p))]) (Nat.le_of_ble_eq_true rfl) rfl dX4_claim_55 ?_
      refine v_aload_n G 2 rfl rfl dX4_claim_57 ?_
      refine v_aload_n G 2 rfl rfl dX4_claim_58 ?_
      refine gX4_31 G zM_0 (v := .ref (A 23)) rfl dX4_claim_59 ?_
      refine v_iload_n G 3 rfl rfl dX4_claim_62 ?_
      refine m_ald G hA (v := τ 23 p) rfl ⟨by omega, by show _ < (24 : Int); omega⟩ rfl dX4_claim_63 ?_
      refine v_aload_n G 2 rfl rfl dX4_claim_64 ?_
      refine gX4_37 G zM_0 (v := .ref (A 25)) rfl dX4_claim_65 ?_
      refine v_iload_n G 3 rfl rfl dX4_claim_68 ?_
      refine m_ald G hA (v := τ 25 p) rfl ⟨by omega, by show _ < (24 : Int); omega⟩ rfl dX4_claim_69 ?_
      refine v_aload_n G 2 rfl rfl dX4_claim_70 ?_
      refine gX4_34 G zM_0 (v := .ref (A 24)) rfl dX4_claim_71 ?_
      refine v_iload_n G 3 rfl rfl dX4_claim_74 ?_
      refine m_ald G hA (v := τ 24 p) rfl ⟨by omega, by show _ < (24 : Int); omega⟩ rfl dX4_claim_75 ?_
      refine v_aload_n G 2 rfl rfl dX4_claim_76 ?_
      refine gX4_52 G zM_0 (v := .ref (A 30)) rfl dX4_claim_77 ?_
      refine v_iload_n G 3 rfl rfl dX4_claim_80 ?_
      refine m_ald G hA (v := τ 30 p) rfl ⟨by omega, by show _ < (24 : Int); omega⟩ rfl dX4_claim_81 ?_
      refine v_aload_n G 2 rfl rfl dX4_claim_82 ?_
      refine gX4_43 G zM_0 (v := .ref (A 27)) rfl dX4_claim_83 ?_
      refine v_iload_n G 3 rfl rfl dX4_claim_86 ?_
      refine m_ald G hA (v := τ 27 p) rfl ⟨by omega, by show _ < (24 : Int); omega⟩ rfl dX4_claim_87 ?_
      refine v_aload_n G 2 rfl rfl dX4_claim_88 ?_
      refine gX4_46 G zM_0 (v := .ref (A 28)) rfl dX4_claim_89 ?_
      refine v_iload_n G 3 rfl rfl dX4_claim_92 ?_
      refine m_ald G hA (v := τ 28 p) rfl ⟨by omega, by show _ < (24 : Int); omega⟩ rfl dX4_claim_93 ?_
      refine v_aload_n G 2 rfl rfl dX4_claim_94 ?_
      refine gX4_43 G zM_0 (v := .ref (A 27)) rfl dX4_claim_95 ?_
      refine v_iload_n G 3 rfl rfl dX4_claim_98 ?_
      refine m_ald G hA (v := τ 27 p) rfl ⟨by omega, by show _ < (24 : Int); omega⟩ rfl dX4_claim_99 ?_
      refine v_iconst G dX4_claim_100 ?_
      refine kX4_223 G (As := [.int (iI (τ 23 p)), .int (iI (τ 25 p)), .int (iI (τ 24 p)), .int (iI (τ 30 p)), .int (iI (τ 27 p)), .int (iI (τ 28 p)), .int (iI (τ 27 p)), .int (iI 0)]) (rest := []) (cs' := 0) (sl' := 0) (n_runs G.fl (τ := τ) (D := D5) hA (kind := (τ 23 p)) (fl := (τ 25 p)) (b := (τ 24 p)) (pts := (τ 30 p)) (st := (τ 27 p)) (e := (τ 28 p)) (y := (τ 27 p)) (law := 0) ⟨by omega, by omega⟩ (ho.M (by omega) hw ⟨by omega, by omega⟩) ⟨by omega, by omega⟩) (zRcv.of G (q := (RX4, TX4, 55)) rfl zM_0) rfl rfl (Nat.le_of_ble_eq_true rfl) (zRm.ok rfl) dX4_claim_101 (fun vq6 hq6 q6 => ?_)
      obtain ⟨_, D7, hD7, _⟩ := q6
      subst vq6 hq6
      show VW θ Q E (zM E A h (sc τ D7)) 0 0 104 [(4, .long (iL (npT τ 0 p (τ 26 p)))), (2, .long (iL (((τ 35 p) + (τ 36 p)) + (fbT τ p)))), (0, .ref (A 0)), (1, .int (iI p))] []
      have hbD7 := rn_bd ho hw (pts := τ 30 p) (y := τ 27 p) ⟨by omega, by omega⟩ ⟨by omega, by omega⟩ hD7
      have hn := npT_of hD7
      have n9 := npT_bd ho hw (pts := τ 30 p) ⟨by omega, by omega⟩
      have n8 := npT_bd ho hw (pts := τ 26 p) ⟨by omega, by omega⟩
      have e1 := mul_bd2 (show 0 ≤ τ 35 p + τ 36 p + fbT τ p ∧ τ 35 p + τ 36 p + fbT τ p ≤ 1120000000 by omega) n8
      refine v_aload_n G 2 rfl rfl dX4_claim_104 ?_
      refine v_aload_n G 2 rfl rfl dX4_claim_105 ?_
      refine gX4_31 G zM_0 (v := .ref (A 23)) rfl dX4_claim_106 ?_
      refine v_iload_n G 3 rfl rfl dX4_claim_109 ?_
      refine m_ald G hA (v := τ 23 p) rfl ⟨by omega, by show _ < (24 : Int); omega⟩ rfl dX4_claim_110 ?_
      refine v_aload_n G 2 rfl rfl dX4_claim_111 ?_
      refine gX4_67 G zM_0 (v := .ref (A 35)) rfl dX4_claim_112 ?_
      refine v_iload_n G 3 rfl rfl dX4_claim_115 ?_
      refine m_lld G hA (v := τ 35 p) rfl ⟨by omega, by show _ < (24 : Int); omega⟩ rfl dX4_claim_116 ?_
      refine kX4_230 G (As := [.int (iI (τ 23 p)), .long (iL (τ 35 p))]) (rest := []) (cs' := 0) (sl' := 0) (n_netOf G.fl (τ := τ) (D := D7) hA (kind := (τ 23 p)) (u := (τ 35 p)) ⟨by omega, by omega⟩ ⟨by omega, by omega⟩ ⟨by omega, by omega⟩ ⟨by omega, by omega⟩ ⟨by omega, by omega⟩) (zRcv.of G (q := (RX4, TX4, 55)) rfl zM_0) rfl rfl (Nat.le_of_ble_eq_true rfl) (zRm.ok rfl) dX4_claim_117 (fun vq8 hq8 q8 => ?_)
      obtain ⟨_, _⟩ := q8
      subst vq8 hq8
      show VW θ Q E (zM E A h (sc τ D7)) 0 0 120 [(4, .long (iL (npT τ 0 p (τ 26 p)))), (2, .long (iL (((τ 35 p) + (τ 36 p)) + (fbT τ p)))), (0, .ref (A 0)), (1, .int (iI p))] [.long (iL (netS (τ 23 p) (τ 35 p) (D7 48 0) (D7 49 0) (D7 50 0)))]
      rw [← hn]
      refine v_lstore G (L' := [(6, .long (iL (npT τ 0 p (τ 30 p)))), (4, .long (iL (npT τ 0 p (τ 26 p)))), (2, .long (iL (((τ 35 p) + (τ 36 p)) + (fbT τ p)))), (0, .ref (A 0)), (1, .int (iI p))]) (Nat.le_of_ble_eq_true rfl) rfl dX4_claim_120 ?_
      refine v_lload G 0 rfl dX4_claim_122 ?_
      refine v_lconst G (n := 0) (v0 := 0) rfl dX4_claim_124 ?_
      refine v_lcmp G ⟨by omega, by omega⟩ ⟨by decide, by decide⟩ dX4_claim_125 ?_
      refine v_lif_ne G 133 (by decide) dX4_claim_126 (fun c9 => ?_) (fun c9 => ?_)
      · refine v_lload_n G 2 rfl rfl dX4_claim_133 ?_
        refine v_lload G 1 rfl dX4_claim_134 ?_
        refine v_lmul G dX4_claim_136 ?_
        refine v_lload G 0 rfl dX4_claim_137 ?_
        refine v_ldiv G ⟨by omega, by omega⟩ ⟨by omega, by omega⟩ dX4_claim_139 ?_
        exact v_lret G hQ ⟨by rw [clT_n (by omega) (by omega) (by omega)], D7, (hD5.trans hD7.2.2), rfl⟩ (Nat.le_of_ble_eq_true rfl) (Nat.le_of_ble_eq_true rfl) dX4_claim_140
      · refine v_lload_n G 2 rfl rfl dX4_claim_129 ?_
        refine v_goto G 140 (by decide) dX4_claim_130 ?_
        exact v_lret G hQ ⟨by rw [clT_0 (by omega) (by omega) (by omega)], D7, (hD5.trans hD7.2.2), rfl⟩ (Nat.le_of_ble_eq_true rfl) (Nat.le_of_ble_eq_true rfl) dX4_claim_140
    · refine v_lload_n G 0 rfl rfl dX4_claim_47 ?_
      exact v_lret G hQ ⟨by rw [clT_1 (by omega) (by omega)], D, kp.rfl, rfl⟩ (Nat.le_of_ble_eq_true rfl) (Nat.le_of_ble_eq_true rfl) dX4_claim_48
  · refine v_lconst G (n := 0) (v0 := 0) rfl dX4_claim_10 ?_
    exact v_lret G hQ ⟨by rw [clT_3 (by omega)], D, kp.rfl, rfl⟩ (Nat.le_of_ble_eq_true rfl) (Nat.le_of_ble_eq_true rfl) dX4_claim_11

set_option maxHeartbeats 4000000 in
theorem n_live {l : Launch} (hfl : l.stackTraces = false) {E : zEn} {h : zHp} {A : Nat → Nat} {τ D : mMem} (hA : mInj A) (hm : (0 ≤ τ 10 0 ∧ τ 10 0 ≤ 24) ∧ (0 ≤ τ 11 0 ∧ τ 11 0 ≤ 16)) (hb : ∀ p, 0 ≤ p → p < τ 10 0 → 0 ≤ τ 29 p ∧ τ 29 p ≤ 7)  : CN l E yX4_livingMany (ws_ yX4_livingMany cX4_livingMany 3 (some FieldType.int)) ({ frames := 1, cells := 0, slots := 0, locals := 21 } : Room) [.ref (A 0)] (zM E A h (sc τ D)) (zR (.int (iI (liveT τ))) (zM E A h (sc τ D))) := by
  refine CN.of (by decide +kernel) hfl (Nat.le_of_ble_eq_true rfl) fun θ Q hl G hin hQ => ?_
  subst hl
  show VW θ Q E (zM E A h (sc τ D)) 0 0 0 [(0, .ref (A 0))] []
  refine v_iconst G dX4_livingMany_0 ?_
  refine v_istore_n G (L' := [(1, .int (iI 0)), (0, .ref (A 0))]) rfl (Nat.le_of_ble_eq_true rfl) rfl dX4_livingMany_1 ?_
  refine v_iconst G dX4_livingMany_2 ?_
  refine v_istore_n G (L' := [(2, .int (iI 0)), (1, .int (iI 0)), (0, .ref (A 0))]) rfl (Nat.le_of_ble_eq_true rfl) rfl dX4_livingMany_3 ?_
  have P1 : ∀ (n : Nat) (p : Int) (s : Int), (0 ≤ p ∧ p ≤ τ 10 0) → (s = sumT (fun p => if τ 29 p ≤ 3 then 1 else 0) p) → (0 ≤ s ∧ s ≤ p) → (τ 10 0 - p).toNat < n → VW θ Q E (zM E A h (sc τ D)) 0 0 4 [(0, .ref (A 0)), (1, .int (iI s)), (2, .int (iI p))] [] := by
    intro n
    induction n with
    | zero => intros; omega
    | succ n P1ih =>
      intro p s hp hs hs2 hn
      refine v_iload_n G 2 rfl rfl dX4_livingMany_4 ?_
      refine v_aload_n G 0 rfl rfl dX4_livingMany_5 ?_
      refine gX4_146 G zM_0 (v := .int (iI (τ 10 0))) rfl dX4_livingMany_6 ?_
      refine v_icmp_ge G 34 ⟨by omega, by omega⟩ ⟨by omega, by omega⟩ (by decide) dX4_livingMany_9 (fun c2 => ?_) (fun c2 => ?_)
      · obtain rfl : p = τ 10 0 := by omega
        refine v_iload_n G 1 rfl rfl dX4_livingMany_34 ?_
        exact v_iret G hQ ⟨by rw [hs]; rfl, rfl⟩ (Nat.le_of_ble_eq_true rfl) (Nat.le_of_ble_eq_true rfl) dX4_livingMany_35
      · have b9 := hb p hp.1 (by omega)
        refine v_iload_n G 1 rfl rfl dX4_livingMany_12 ?_
        refine v_aload_n G 0 rfl rfl dX4_livingMany_13 ?_
        refine v_iload_n G 2 rfl rfl dX4_livingMany_14 ?_
        refine kX4_234 G (As := [.int (iI p)]) (rest := [.int (iI s)]) (cs' := 0) (sl' := 0) (n_isLiving G.fl (τ := τ) (D := D) hA (p := p) ⟨by omega, by omega⟩ (show 0 ≤ τ 29 p ∧ τ 29 p ≤ 7 by omega)) (zRcv.of G (q := (RX4, TX4, 55)) rfl zM_0) rfl rfl (Nat.le_of_ble_eq_true rfl) (zRm.ok rfl) dX4_livingMany_15 (fun vq3 hq3 q3 => ?_)
        obtain ⟨_, _⟩ := q3
        subst vq3 hq3
        refine VW.nmI (fun z4 hz4 => ?_)
        have hz4 := (show (z4 = 1 ∧ τ 29 p ≤ 3) ∨ (z4 = 0 ∧ ¬ (τ 29 p ≤ 3)) from ite01 hz4)
        show VW θ Q E (zM E A h (sc τ D)) 0 0 18 [(0, .ref (A 0)), (1, .int (iI s)), (2, .int (iI p))] [.int (iI z4), .int (iI s)]
        refine v_if_eq G 25 ⟨by omega, by omega⟩ (by decide) dX4_livingMany_18 (fun c5 => ?_) (fun c5 => ?_)
        · have gz4 := bF hz4 (by omega)
          refine v_iconst G dX4_livingMany_25 ?_
          refine v_iadd G dX4_livingMany_26 ?_
          refine v_istore_n G (L' := [(1, .int (iI (s + 0))), (0, .ref (A 0)), (2, .int (iI p))]) rfl (Nat.le_of_ble_eq_true rfl) rfl dX4_livingMany_27 ?_
          refine v_iinc G (L' := [(2, .int (iI (p + 1))), (1, .int (iI (s + 0))), (0, .ref (A 0))]) 2 rfl (Nat.le_of_ble_eq_true rfl) rfl dX4_livingMany_28 ?_
          refine v_goto G 4 (by decide) dX4_livingMany_31 ?_
          refine VW.pick (L2 := [(0, .ref (A 0)), (1, .int (iI (s + 0))), (2, .int (iI (p + 1)))]) [2, 1, 0] rfl ?_
          exact P1ih (p + 1) (s + 0) ⟨by omega, by omega⟩ (by rw [sumT_s hp.1, ← hs]; first | rw [if_pos (by omega)] | rw [if_neg (by omega)]) ⟨by omega, by omega⟩ (by omega)
        · have gz4 := bT hz4 (by omega)
          refine v_iconst G dX4_livingMany_21 ?_
          refine v_goto G 26 (by decide) dX4_livingMany_22 ?_
          refine v_iadd G dX4_livingMany_26 ?_
          refine v_istore_n G (L' := [(1, .int (iI (s + 1))), (0, .ref (A 0)), (2, .int (iI p))]) rfl (Nat.le_of_ble_eq_true rfl) rfl dX4_livingMany_27 ?_
          refine v_iinc G (L' := [(2, .int (iI (p + 1))), (1, .int (iI (s + 1))), (0, .ref (A 0))]) 2 rfl (Nat.le_of_ble_eq_true rfl) rfl dX4_livingMany_28 ?_
          refine v_goto G 4 (by decide) dX4_livingMany_31 ?_
          refine VW.pick (L2 := [(0, .ref (A 0)), (1, .int (iI (s + 1))), (2, .int (iI (p + 1)))]) [2, 1, 0] rfl ?_
          exact P1ih (p + 1) (s + 1) ⟨by omega, by omega⟩ (by rw [sumT_s hp.1, ← hs]; first | rw [if_pos (by omega)] | rw [if_neg (by omega)]) ⟨by omega, by omega⟩ (by omega)
  refine VW.pick (L2 := [(0, .ref (A 0)), (1, .int (iI 0)), (2, .int (iI 0))]) [2, 1, 0] rfl ?_
  exact P1 _ 0 0 ⟨by omega, by omega⟩ rfl ⟨by omega, by omega⟩ (Nat.lt_succ_self _)

set_option maxHeartbeats 4000000 in
theorem n_cred {l : Launch} (hfl : l.stackTraces = false) {E : zEn} {h : zHp} {A : Nat → Nat} {τ D : mMem} (hA : mInj A) (hx : (0 ≤ τ 15 0 ∧ τ 15 0 ≤ 10000) ∧ (0 ≤ τ 16 0 ∧ τ 16 0 ≤ 1000000000))  : CN l E yX4_credibility (ws_ yX4_credibility cX4_credibility 1 (some FieldType.long)) ({ frames := 0, cells := 0, slots := 0, locals := 0 } : Room) [.ref (A 0)] (zM E A h (sc τ D)) (zR (.long (iL (crT τ))) (zM E A h (sc τ D))) := by
  refine CN.of (by decide +kernel) hfl (Nat.le_of_ble_eq_true rfl) fun θ Q hl G hin hQ => ?_
  subst hl
  show VW θ Q E (zM E A h (sc τ D)) 0 0 0 [(0, .ref (A 0))] []
  refine v_ldc2 G (v := 1000) q2190 rfl dX4_credibility_0 ?_
  refine v_aload_n G 0 rfl rfl dX4_credibility_3 ?_
  refine gX4_159 G zM_0 (v := .long (iL (τ 15 0))) rfl dX4_credibility_4 ?_
  refine v_lmul G dX4_credibility_7 ?_
  refine v_aload_n G 0 rfl rfl dX4_credibility_8 ?_
  refine gX4_159 G zM_0 (v := .long (iL (τ 15 0))) rfl dX4_credibility_9 ?_
  refine v_ldc2 G (v := 50) q2156 rfl dX4_credibility_12 ?_
  refine v_ladd G dX4_credibility_15 ?_
  refine v_ldiv G ⟨by omega, by omega⟩ ⟨by omega, by omega⟩ dX4_credibility_16 ?_
  exact v_lret G hQ ⟨rfl, rfl⟩ (Nat.le_of_ble_eq_true rfl) (Nat.le_of_ble_eq_true rfl) dX4_credibility_17

set_option maxHeartbeats 4000000 in
theorem n_ratio {l : Launch} (hfl : l.stackTraces = false) {E : zEn} {h : zHp} {A : Nat → Nat} {τ D : mMem} (hA : mInj A) (hx : (0 ≤ τ 15 0 ∧ τ 15 0 ≤ 10000) ∧ (0 ≤ τ 16 0 ∧ τ 16 0 ≤ 1000000000))  : CN l E yX4_ratio (ws_ yX4_ratio cX4_ratio 1 (some FieldType.long)) ({ frames := 0, cells := 0, slots := 0, locals := 0 } : Room) [.ref (A 0)] (zM E A h (sc τ D)) (zR (.long (iL (raT τ))) (zM E A h (sc τ D))) := by
  refine CN.of (by decide +kernel) hfl (Nat.le_of_ble_eq_true rfl) fun θ Q hl G hin hQ => ?_
  subst hl
  show VW θ Q E (zM E A h (sc τ D)) 0 0 0 [(0, .ref (A 0))] []
  refine v_aload_n G 0 rfl rfl dX4_ratio_0 ?_
  refine gX4_162 G zM_0 (v := .long (iL (τ 16 0))) rfl dX4_ratio_1 ?_
  refine v_lconst G (n := 0) (v0 := 0) rfl dX4_ratio_4 ?_
  refine v_lcmp G ⟨by omega, by omega⟩ ⟨by decide, by decide⟩ dX4_ratio_5 ?_
  refine v_lif_ne G 15 (by decide) dX4_ratio_6 (fun c1 => ?_) (fun c1 => ?_)
  · refine v_ldc2 G (v := 1000) q2190 rfl dX4_ratio_15 ?_
    refine v_aload_n G 0 rfl rfl dX4_ratio_18 ?_
    refine gX4_159 G zM_0 (v := .long (iL (τ 15 0))) rfl dX4_ratio_19 ?_
    refine v_lmul G dX4_ratio_22 ?_
    refine v_ldc2 G (v := 100000) q2184 rfl dX4_ratio_23 ?_
    refine v_lmul G dX4_ratio_26 ?_
    refine v_aload_n G 0 rfl rfl dX4_ratio_27 ?_
    refine gX4_162 G zM_0 (v := .long (iL (τ 16 0))) rfl dX4_ratio_28 ?_
    refine v_ldiv G ⟨by omega, by omega⟩ ⟨by omega, by omega⟩ dX4_ratio_31 ?_
    exact v_lret G hQ ⟨by unfold raT; first | rw [if_pos (by omega)] | rw [if_neg (by omega)], rfl⟩ (Nat.le_of_ble_eq_true rfl) (Nat.le_of_ble_eq_true rfl) dX4_ratio_32
  · refine v_ldc2 G (v := 1000) q2190 rfl dX4_ratio_9 ?_
    refine v_goto G 32 (by decide) dX4_ratio_12 ?_
    exact v_lret G hQ ⟨by unfold raT; first | rw [if_pos (by omega)] | rw [if_neg (by omega)], rfl⟩ (Nat.le_of_ble_eq_true rfl) (Nat.le_of_ble_eq_true rfl) dX4_ratio_32

set_option maxHeartbeats 4000000 in
theorem n_blend {l : Launch} (hfl : l.stackTraces = false) {E : zEn} {h : zHp} {A : Nat → Nat} {τ D : mMem} (hA : mInj A) (hx : (0 ≤ τ 15 0 ∧ τ 15 0 ≤ 10000) ∧ (0 ≤ τ 16 0 ∧ τ 16 0 ≤ 1000000000))  : CN l E yX4_blend (ws_ yX4_blend cX4_blend 1 (some FieldType.long)) ({ frames := 1, cells := 0, slots := 0, locals := 20 } : Room) [.ref (A 0)] (zM E A h (sc τ D)) (zR (.long (iL (blT τ))) (zM E A h (sc τ D))) := by
  refine CN.of (by decide +kernel) hfl (Nat.le_of_ble_eq_true rfl) fun θ Q hl G hin hQ => ?_
  subst hl
  show VW θ Q E (zM E A h (sc τ D)) 0 0 0 [(0, .ref (A 0))] []
  have e9 := cr_bd hx.1
  have e8 := ra_bd hx
  have e7 := mul_bd2 e9 e8
  refine v_aload_n G 0 rfl rfl dX4_blend_0 ?_
  refine kX4_332 G (As := []) (rest := []) (cs' := 0) (sl' := 0) (n_cred G.fl (τ := τ) (D := D) hA hx) (zRcv.of G (q := (RX4, TX4, 55)) rfl zM_0) rfl rfl (Nat.le_of_ble_eq_true rfl) (zRm.ok rfl) dX4_blend_1 (fun vq1 hq1 q1 => ?_)
  obtain ⟨_, _⟩ := q1
  subst vq1 hq1
  show VW θ Q E (zM E A h (sc τ D)) 0 0 4 [(0, .ref (A 0))] [.long (iL (crT τ))]
  refine v_aload_n G 0 rfl rfl dX4_blend_4 ?_
  refine kX4_335 G (As := []) (rest := [.long (iL (crT τ))]) (cs' := 0) (sl' := 0) (n_ratio G.fl (τ := τ) (D := D) hA hx) (zRcv.of G (q := (RX4, TX4, 55)) rfl zM_0) rfl rfl (Nat.le_of_ble_eq_true rfl) (zRm.ok rfl) dX4_blend_5 (fun vq2 hq2 q2 => ?_)
  obtain ⟨_, _⟩ := q2
  subst vq2 hq2
  show VW θ Q E (zM E A h (sc τ D)) 0 0 8 [(0, .ref (A 0))] [.long (iL (raT τ)), .long (iL (crT τ))]
  refine v_lmul G dX4_blend_8 ?_
  refine v_ldc2 G (v := 1000) q2190 rfl dX4_blend_9 ?_
  refine v_aload_n G 0 rfl rfl dX4_blend_12 ?_
  refine kX4_332 G (As := []) (rest := [.long (iL 1000), .long (iL ((crT τ) * (raT τ)))]) (cs' := 0) (sl' := 0) (n_cred G.fl (τ := τ) (D := D) hA hx) (zRcv.of G (q := (RX4, TX4, 55)) rfl zM_0) rfl rfl (Nat.le_of_ble_eq_true rfl) (zRm.ok rfl) dX4_blend_13 (fun vq3 hq3 q3 => ?_)
  obtain ⟨_, _⟩ := q3
  subst vq3 hq3
  show VW θ Q E (zM E A h (sc τ D)) 0 0 16 [(0, .ref (A 0))] [.long (iL (crT τ)), .long (iL 1000), .long (iL ((crT τ) * (raT τ)))]
  refine v_lsub G dX4_blend_16 ?_
  refine v_ldc2 G (v := 1000) q2190 rfl dX4_blend_17 ?_
  refine v_lmul G dX4_blend_20 ?_
  refine v_ladd G dX4_blend_21 ?_
  refine v_ldc2 G (v := 1000) q2190 rfl dX4_blend_22 ?_
  refine v_ldiv G ⟨by omega, by omega⟩ ⟨by decide, by decide⟩ dX4_blend_25 ?_
  exact v_lret G hQ ⟨rfl, rfl⟩ (Nat.le_of_ble_eq_true rfl) (Nat.le_of_ble_eq_true rfl) dX4_blend_26

