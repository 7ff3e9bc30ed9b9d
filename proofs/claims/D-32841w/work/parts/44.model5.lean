/-! WALKS: the reference: options, expectations, offers -/
set_option maxRecDepth 100000
set_option maxHeartbeats 4000000 in
theorem n_ann {l : Launch} (hfl : l.stackTraces = false) {E : zEn} {h : zHp} {A : Nat → Nat} {τ D : mMem} (hA : mInj A) {p : Int} (hp : 0 ≤ p ∧ p < 24) (ho : okP1 τ p) (hw : okLaw τ 0) (hs9 : τ 27 p ≤ 2150) {y r : Int} (hr : 0 ≤ r ∧ r ≤ 150) (hy : τ 24 p ≤ y ∧ y ≤ τ 24 p + 110)  : CN l E yX4_annuityOf (ws_ yX4_annuityOf cX4_annuityOf 9 (some FieldType.long)) ({ frames := 2, cells := 0, slots := 0, locals := 53 } : Room) [.ref (A 0), .int (iI p), .int (iI y), .int (iI r)] (zM E A h (sc τ D)) (zR (.long (iL (anT τ p y r))) (zM E A h (sc τ D))) := by
  refine CN.of (by decide +kernel) hfl (Nat.le_of_ble_eq_true rfl) fun θ Q hl G hin hQ => ?_
  subst hl
  show VW θ Q E (zM E A h (sc τ D)) 0 0 0 [(0, .ref (A 0)), (1, .int (iI p)), (2, .int (iI y)), (3, .int (iI r))] []
  have h9 := ho
  simp only [okP1, okP, tP] at h9
  have w9 := hw
  simp only [okLaw, okW] at w9
  have hR := qoT_R ho hw hs9 hr.1 hy.1
  refine v_lconst G (n := 0) (v0 := 0) rfl dX4_annuityOf_0 ?_
  refine v_lstore G (L' := [(4, .long (iL 0)), (0, .ref (A 0)), (1, .int (iI p)), (2, .int (iI y)), (3, .int (iI r))]) (Nat.le_of_ble_eq_true rfl) rfl dX4_annuityOf_1 ?_
  refine v_aload_n G 1 rfl rfl dX4_annuityOf_3 ?_
  refine gX4_34 G zM_0 (v := .ref (A 24)) rfl dX4_annuityOf_4 ?_
  refine v_iload_n G 2 rfl rfl dX4_annuityOf_7 ?_
  refine m_ald G hA (v := τ 24 p) rfl ⟨by omega, by show _ < (24 : Int); omega⟩ rfl dX4_annuityOf_8 ?_
  refine v_bipush G rfl dX4_annuityOf_9 ?_
  refine v_iadd G dX4_annuityOf_11 ?_
  refine v_istore G (L' := [(6, .int (iI ((τ 24 p) + 109))), (4, .long (iL 0)), (0, .ref (A 0)), (1, .int (iI p)), (2, .int (iI y)), (3, .int (iI r))]) (Nat.le_of_ble_eq_true rfl) rfl dX4_annuityOf_12 ?_
  have P1 : ∀ (n : Nat) (t : Int) (v : Int), (y - 1 ≤ t ∧ t < τ 24 p + 110) → (v = vN (qoT τ p) r (τ 24 p + 110) (τ 24 p + 110 - 1 - t).toNat) → (t - y + 1).toNat < n → VW θ Q E (zM E A h (sc τ D)) 0 0 14 [(0, .ref (A 0)), (1, .int (iI p)), (2, .int (iI y)), (3, .int (iI r)), (4, .long (iL v)), (6, .int (iI t))] [] := by
    intro n
    induction n with
    | zero => intros; omega
    | succ n P1ih =>
      intro t v ht hv hn
      have vb := vN_bd (e := τ 24 p + 110) hR (τ 24 p + 110 - 1 - t).toNat (by omega)
      rw [← hv] at vb
      refine v_iload G 5 rfl dX4_annuityOf_14 ?_
      refine v_iload_n G 2 rfl rfl dX4_annuityOf_16 ?_
      refine v_icmp_lt G 86 ⟨by omega, by omega⟩ ⟨by omega, by omega⟩ (by decide) dX4_annuityOf_17 (fun c2 => ?_) (fun c2 => ?_)
      · have hte : t = y - 1 := by omega
        rw [hte, show τ 24 p + 110 - 1 - (y - 1) = τ 24 p + 110 - y by omega] at hv
        refine v_lload G 4 rfl dX4_annuityOf_86 ?_
        exact v_lret G hQ ⟨by rw [hv]; rfl, rfl⟩ (Nat.le_of_ble_eq_true rfl) (Nat.le_of_ble_eq_true rfl) dX4_annuityOf_88
      · have oq := qoT_ok (t := t) ho hw hs9 (by omega) (by omega)
        have q9 : 0 ≤ qoT τ p t ∧ qoT τ p t ≤ 100000 := qS_bd oq
        have e3 := mul_bd2 (show 0 ≤ 100000 - qoT τ p t ∧ 100000 - qoT τ p t ≤ 100000 by omega) (show 0 ≤ 1000000 + v ∧ 1000000 + v ≤ 111000000 by omega)
        refine v_ldc2 G (v := 100000) q2184 rfl dX4_annuityOf_20 ?_
        refine v_aload_n G 0 rfl rfl dX4_annuityOf_23 ?_
        refine v_iconst G dX4_annuityOf_24 ?_
        refine v_aload_n G 0 rfl rfl dX4_annuityOf_25 ?_
        refine gX4_37 G zM_0 (v := .ref (A 25)) rfl dX4_annuityOf_26 ?_
        refine v_iload_n G 1 rfl rfl dX4_annuityOf_29 ?_
        refine m_ald G hA (v := τ 25 p) rfl ⟨by omega, by show _ < (24 : Int); omega⟩ rfl dX4_annuityOf_30 ?_
        refine v_aload_n G 0 rfl rfl dX4_annuityOf_31 ?_
        refine gX4_34 G zM_0 (v := .ref (A 24)) rfl dX4_annuityOf_32 ?_
        refine v_iload_n G 1 rfl rfl dX4_annuityOf_35 ?_
        refine m_ald G hA (v := τ 24 p) rfl ⟨by omega, by show _ < (24 : Int); omega⟩ rfl dX4_annuityOf_36 ?_
        refine v_iload G 5 rfl dX4_annuityOf_37 ?_
        refine v_sipush G rfl dX4_annuityOf_39 ?_
        refine v_aload_n G 0 rfl rfl dX4_annuityOf_42 ?_
        refine gX4_40 G zM_0 (v := .ref (A 26)) rfl dX4_annuityOf_43 ?_
        refine v_iload_n G 1 rfl rfl dX4_annuityOf_46 ?_
        refine m_ald G hA (v := τ 26 p) rfl ⟨by omega, by show _ < (24 : Int); omega⟩ rfl dX4_annuityOf_47 ?_
        refine kX4_201 G (As := [.int (iI 0), .int (iI (τ 25 p)), .int (iI (τ 24 p)), .int (iI t), .int (iI (-1000)), .int (iI (τ 26 p))]) (rest := [.long (iL 100000)]) (cs' := 0) (sl' := 0) (n_mort G.fl (τ := τ) (D := D) hA (law := 0) (fl := (τ 25 p)) (b := (τ 24 p)) (y := t) (py := (-1000)) (pts := (τ 26 p)) ⟨by omega, by omega⟩ ⟨by omega, by omega⟩ (show okQ (τ 2 0) (τ 19 0) (τ 24 p) ((τ 25 p) % 2) ((τ 25 p) / 2 % 2) t (τ 26 p) from oq) ⟨by omega, by omega⟩) (zRcv.of G (q := (RX4, TX4, 55)) rfl zM_0) rfl rfl (Nat.le_of_ble_eq_true rfl) (zRm.ok rfl) dX4_annuityOf_48 (fun vq3 hq3 q3 => ?_)
        obtain ⟨_, _⟩ := q3
        subst vq3 hq3
        show VW θ Q E (zM E A h (sc τ D)) 0 0 51 [(0, .ref (A 0)), (1, .int (iI p)), (2, .int (iI y)), (3, .int (iI r)), (4, .long (iL v)), (6, .int (iI t))] [.long (iL (qoT τ p t)), .long (iL 100000)]
        refine v_lsub G dX4_annuityOf_51 ?_
        refine v_lstore G (L' := [(7, .long (iL (100000 - (qoT τ p t)))), (0, .ref (A 0)), (1, .int (iI p)), (2, .int (iI y)), (3, .int (iI r)), (4, .long (iL v)), (6, .int (iI t))]) (Nat.le_of_ble_eq_true rfl) rfl dX4_annuityOf_52 ?_
        refine v_lload G 0 rfl dX4_annuityOf_54 ?_
        refine v_ldc2 G (v := 1000000) q2178 rfl dX4_annuityOf_56 ?_
        refine v_lload G 5 rfl dX4_annuityOf_59 ?_
        refine v_ladd G dX4_annuityOf_61 ?_
        refine v_lmul G dX4_annuityOf_62 ?_
        refine v_ldc2 G (v := 100000) q2184 rfl dX4_annuityOf_63 ?_
        refine v_ldiv G ⟨by omega, by omega⟩ ⟨by decide, by decide⟩ dX4_annuityOf_66 ?_
        refine v_ldc2 G (v := 1000) q2190 rfl dX4_annuityOf_67 ?_
        refine v_lmul G dX4_annuityOf_70 ?_
        refine v_sipush G rfl dX4_annuityOf_71 ?_
        refine v_iload_n G 4 rfl rfl dX4_annuityOf_74 ?_
        refine v_iadd G dX4_annuityOf_75 ?_
        refine v_i2l G ⟨by omega, by omega⟩ dX4_annuityOf_76 ?_
        refine v_ldiv G ⟨by omega, by omega⟩ ⟨by omega, by omega⟩ dX4_annuityOf_77 ?_
        refine v_lstore G (L' := [(4, .long (iL (((((100000 - (qoT τ p t)) * (1000000 + v)) / 100000) * 1000) / (1000 + r)))), (7, .long (iL (100000 - (qoT τ p t)))), (0, .ref (A 0)), (1, .int (iI p)), (2, .int (iI y)), (3, .int (iI r)), (6, .int (iI t))]) (Nat.le_of_ble_eq_true rfl) rfl dX4_annuityOf_78 ?_
        refine v_iinc G (L' := [(6, .int (iI (t + (-1)))), (4, .long (iL (((((100000 - (qoT τ p t)) * (1000000 + v)) / 100000) * 1000) / (1000 + r)))), (7, .long (iL (100000 - (qoT τ p t)))), (0, .ref (A 0)), (1, .int (iI p)), (2, .int (iI y)), (3, .int (iI r))]) 6 rfl (Nat.le_of_ble_eq_true rfl) rfl dX4_annuityOf_80 ?_
        refine v_goto G 14 (by decide) dX4_annuityOf_83 ?_
        refine VW.pick (L2 := [(0, .ref (A 0)), (1, .int (iI p)), (2, .int (iI y)), (3, .int (iI r)), (4, .long (iL (((((100000 - (qoT τ p t)) * (1000000 + v)) / 100000) * 1000) / (1000 + r)))), (6, .int (iI (t + (-1))))]) [3, 4, 5, 6, 1, 0] rfl ?_
        exact P1ih (t + (-1)) (((((100000 - (qoT τ p t)) * (1000000 + v)) / 100000) * 1000) / (1000 + r)) ⟨by omega, by omega⟩ (by rw [show τ 24 p + 110 - 1 - (t + (-1)) = τ 24 p + 110 - t by omega, vN_st (by omega), ← hv]; rfl) (by omega)
  refine VW.pick (L2 := [(0, .ref (A 0)), (1, .int (iI p)), (2, .int (iI y)), (3, .int (iI r)), (4, .long (iL 0)), (6, .int (iI ((τ 24 p) + 109)))]) [2, 3, 4, 5, 1, 0] rfl ?_
  exact P1 _ (τ 24 p + 109) 0 ⟨by omega, by omega⟩ (by rw [show τ 24 p + 110 - 1 - (τ 24 p + 109) = 0 by omega]; rfl) (Nat.lt_succ_self _)

set_option maxHeartbeats 4000000 in
theorem n_rate {l : Launch} (hfl : l.stackTraces = false) {E : zEn} {h : zHp} {A : Nat → Nat} {τ D : mMem} (hA : mInj A) {k u s : Int} (hk : 0 ≤ k ∧ k ≤ 200) (hu : 0 ≤ u ∧ u ≤ 200) (hs : 0 ≤ s ∧ s ≤ 20) (h18 : 0 ≤ τ 18 0 ∧ τ 18 0 ≤ 150)  : CN l E yX4_rateOn (ws_ yX4_rateOn cX4_rateOn 4 (some FieldType.int)) ({ frames := 1, cells := 0, slots := 0, locals := 21 } : Room) [.ref (A 0), .int (iI k), .int (iI u), .int (iI s)] (zM E A h (sc τ D)) (zR (.int (iI (rtT τ k u s))) (zM E A h (sc τ D))) := by
  refine CN.of (by decide +kernel) hfl (Nat.le_of_ble_eq_true rfl) fun θ Q hl G hin hQ => ?_
  subst hl
  show VW θ Q E (zM E A h (sc τ D)) 0 0 0 [(0, .ref (A 0)), (1, .int (iI k)), (2, .int (iI u)), (3, .int (iI s))] []
  have e1 : -20 * 600 ≤ s * (2 * u - k) ∧ s * (2 * u - k) ≤ 20 * 600 := by
    by_cases h0 : 0 ≤ 2 * u - k
    · have := mul_bd2 hs (show 0 ≤ 2 * u - k ∧ 2 * u - k ≤ 600 by omega); omega
    · have := mul_bd2 hs (show 0 ≤ -(2 * u - k) ∧ -(2 * u - k) ≤ 600 by omega); rw [Int.mul_neg] at this; omega
  refine v_iconst G dX4_rateOn_0 ?_
  refine v_sipush G rfl dX4_rateOn_1 ?_
  refine v_aload_n G 0 rfl rfl dX4_rateOn_4 ?_
  refine gX4_13 G zM_0 (v := .ref (A 18)) rfl dX4_rateOn_5 ?_
  refine v_iconst G dX4_rateOn_8 ?_
  refine m_ald G hA (v := τ 18 0) rfl ⟨by omega, by show _ < (3 : Int); omega⟩ rfl dX4_rateOn_9 ?_
  refine v_iload_n G 3 rfl rfl dX4_rateOn_10 ?_
  refine v_iconst G dX4_rateOn_11 ?_
  refine v_iload_n G 2 rfl rfl dX4_rateOn_12 ?_
  refine v_imul G dX4_rateOn_13 ?_
  refine v_iload_n G 1 rfl rfl dX4_rateOn_14 ?_
  refine v_isub G dX4_rateOn_15 ?_
  refine v_imul G dX4_rateOn_16 ?_
  refine v_iadd G dX4_rateOn_17 ?_
  refine kX4_188 G (As := [.int (iI 150), .int (iI ((τ 18 0) + (s * ((2 * u) - k))))]) (rest := [.int (iI 0)]) (cs' := 0) (sl' := 0) (m_minI G.fl (a := 150) (b := ((τ 18 0) + (s * ((2 * u) - k)))) ⟨by decide, by decide⟩ ⟨by omega, by omega⟩) rfl rfl (Nat.le_of_ble_eq_true rfl) (zRm.ok rfl) dX4_rateOn_18 (fun vq2 hq2 q2 => ?_)
  obtain ⟨_, _⟩ := q2
  subst vq2 hq2
  show VW θ Q E (zM E A h (sc τ D)) 0 0 21 [(0, .ref (A 0)), (1, .int (iI k)), (2, .int (iI u)), (3, .int (iI s))] [.int (iI (min 150 ((τ 18 0) + (s * ((2 * u) - k))))), .int (iI 0)]
  refine kX4_318 G (As := [.int (iI 0), .int (iI (min 150 ((τ 18 0) + (s * ((2 * u) - k)))))]) (rest := []) (cs' := 0) (sl' := 0) (m_maxI G.fl (a := 0) (b := (min 150 ((τ 18 0) + (s * ((2 * u) - k))))) ⟨by decide, by decide⟩ ⟨by omega, by omega⟩) rfl rfl (Nat.le_of_ble_eq_true rfl) (zRm.ok rfl) dX4_rateOn_21 (fun vq4 hq4 q4 => ?_)
  obtain ⟨_, _⟩ := q4
  subst vq4 hq4
  show VW θ Q E (zM E A h (sc τ D)) 0 0 24 [(0, .ref (A 0)), (1, .int (iI k)), (2, .int (iI u)), (3, .int (iI s))] [.int (iI (max 0 (min 150 ((τ 18 0) + (s * ((2 * u) - k))))))]
  exact v_iret G hQ ⟨rfl, rfl⟩ (Nat.le_of_ble_eq_true rfl) (Nat.le_of_ble_eq_true rfl) dX4_rateOn_24

set_option maxHeartbeats 4000000 in
theorem n_option {l : Launch} (hfl : l.stackTraces = false) {E : zEn} {h : zHp} {A : Nat → Nat} {τ D : mMem} (hA : mInj A) {p : Int} (hp : 0 ≤ p ∧ p < 24) (ho : okP1 τ p) (hw : okLaw τ 0) (hyr : τ 27 p ≤ τ 1 0 ∧ τ 1 0 < τ 28 p ∧ τ 28 p - τ 1 0 ≤ 60 ∧ τ 1 0 ≤ 2150) (hg : 0 ≤ τ 33 p ∧ τ 33 p ≤ 300) {s : Int} (hs : 0 ≤ s ∧ s ≤ 20)  : CN l E yX4_option (ws_ yX4_option cX4_option 10 (some FieldType.long)) ({ frames := 3, cells := 0, slots := 0, locals := 81 } : Room) [.ref (A 0), .int (iI p), .int (iI s)] (zM E A h (sc τ D)) (zS E A h τ (some (.long (iL (opT τ p s)))) (fun D' => D' 0 = D 0)) := by
  refine CN.of (by decide +kernel) hfl (Nat.le_of_ble_eq_true rfl) fun θ Q hl G hin hQ => ?_
  subst hl
  show VW θ Q E (zM E A h (sc τ D)) 0 0 0 [(0, .ref (A 0)), (1, .int (iI p)), (2, .int (iI s))] []
  have h9 := ho
  simp only [okP1, okP, tP] at h9
  have w9 := hw
  simp only [okLaw, okW] at w9
  have hs9 : τ 27 p ≤ 2150 := by omega
  have hq : ∀ t, τ 1 0 ≤ t → t < τ 1 0 + (τ 28 p - τ 1 0) → 0 ≤ qaT τ 0 p t ∧ qaT τ 0 p t ≤ 100000 := fun t h1 h2 => qaT_bd ho hw (by omega)
  have hob := fun u => opB_bd (τ := τ) (p := p) (s := s) (many := τ 28 p - τ 1 0) (u := u) ho hw hs9 hg
  have hol := opL_bd (s := s) ho hw hs9 hg hq
  refine v_aload_n G 0 rfl rfl dX4_option_0 ?_
  refine gX4_46 G zM_0 (v := .ref (A 28)) rfl dX4_option_1 ?_
  refine v_iload_n G 1 rfl rfl dX4_option_4 ?_
  refine m_ald G hA (v := τ 28 p) rfl ⟨by omega, by show _ < (24 : Int); omega⟩ rfl dX4_option_5 ?_
  refine v_aload_n G 0 rfl rfl dX4_option_6 ?_
  refine gX4_114 G zM_0 (v := .int (iI (τ 1 0))) rfl dX4_option_7 ?_
  refine v_isub G dX4_option_10 ?_
  refine v_istore_n G (L' := [(3, .int (iI ((τ 28 p) - (τ 1 0)))), (0, .ref (A 0)), (1, .int (iI p)), (2, .int (iI s))]) rfl (Nat.le_of_ble_eq_true rfl) rfl dX4_option_11 ?_
  refine v_aload_n G 1 rfl rfl dX4_option_12 ?_
  refine gX4_67 G zM_0 (v := .ref (A 35)) rfl dX4_option_13 ?_
  refine v_iload_n G 2 rfl rfl dX4_option_16 ?_
  refine m_lld G hA (v := τ 35 p) rfl ⟨by omega, by show _ < (24 : Int); omega⟩ rfl dX4_option_17 ?_
  refine v_aload_n G 1 rfl rfl dX4_option_18 ?_
  refine gX4_70 G zM_0 (v := .ref (A 36)) rfl dX4_option_19 ?_
  refine v_iload_n G 2 rfl rfl dX4_option_22 ?_
  refine m_lld G hA (v := τ 36 p) rfl ⟨by omega, by show _ < (24 : Int); omega⟩ rfl dX4_option_23 ?_
  refine v_ladd G dX4_option_24 ?_
  refine v_lstore G (L' := [(4, .long (iL ((τ 35 p) + (τ 36 p)))), (3, .int (iI ((τ 28 p) - (τ 1 0)))), (0, .ref (A 0)), (1, .int (iI p)), (2, .int (iI s))]) (Nat.le_of_ble_eq_true rfl) rfl dX4_option_25 ?_
  refine v_iconst G dX4_option_27 ?_
  refine v_istore G (L' := [(6, .int (iI 0)), (4, .long (iL ((τ 35 p) + (τ 36 p)))), (3, .int (iI ((τ 28 p) - (τ 1 0)))), (0, .ref (A 0)), (1, .int (iI p)), (2, .int (iI s))]) (Nat.le_of_ble_eq_true rfl) rfl dX4_option_28 ?_
  have P1 : ∀ (n : Nat) (u : Int) (D1 : mMem), (0 ≤ u ∧ u ≤ τ 28 p - τ 1 0 + 1) → (∀ v, 0 ≤ v → v < u → D1 54 v = opL τ p s (τ 28 p - τ 1 0) 0 v) → (D1 0 = D 0) → (τ 28 p - τ 1 0 + 1 - u).toNat < n → VW θ Q E (zM E A h (sc τ D1)) 0 0 30 [(0, .ref (A 0)), (1, .int (iI p)), (2, .int (iI s)), (3, .int (iI (τ 28 p - τ 1 0))), (4, .long (iL (τ 35 p + τ 36 p))), (6, .int (iI u))] [] := by
    intro n
    induction n with
    | zero => intros; omega
    | succ n P1ih =>
      intro u D1 hu hd hk0 hn
      have ob := hob u
      have rb := rtT_bd (τ := τ) (k := τ 28 p - τ 1 0) (u := u) (s := s)
      refine v_iload G 5 rfl dX4_option_30 ?_
      refine v_iload_n G 3 rfl rfl dX4_option_32 ?_
      refine v_icmp_gt G 94 ⟨by omega, by omega⟩ ⟨by omega, by omega⟩ (by decide) dX4_option_33 (fun c2 => ?_) (fun c2 => ?_)
      · have hue : u = τ 28 p - τ 1 0 + 1 := by omega
        rw [hue] at hd
        refine v_iload_n G 3 rfl rfl dX4_option_94 ?_
        refine v_iconst G dX4_option_95 ?_
        refine v_isub G dX4_option_96 ?_
        refine v_istore G (L' := [(6, .int (iI ((τ 28 p - τ 1 0) - 1))), (0, .ref (A 0)), (1, .int (iI p)), (2, .int (iI s)), (3, .int (iI (τ 28 p - τ 1 0))), (4, .long (iL (τ 35 p + τ 36 p)))]) (Nat.le_of_ble_eq_true rfl) rfl dX4_option_97 ?_
        have P3 : ∀ (n : Nat) (k : Int) (D2 : mMem), (-1 ≤ k ∧ k ≤ τ 28 p - τ 1 0 - 1) → (∀ v, 0 ≤ v → v ≤ k + 1 → D2 54 v = opL τ p s (τ 28 p - τ 1 0) (τ 28 p - τ 1 0 - 1 - k).toNat v) → (D2 0 = D 0) → (k + 1).toNat < n → VW θ Q E (zM E A h (sc τ D2)) 0 0 99 [(0, .ref (A 0)), (1, .int (iI p)), (2, .int (iI s)), (6, .int (iI k))] [] := by
          intro n
          induction n with
          | zero => intros; omega
          | succ n P3ih =>
            intro k D2 hk hd2 hk02 hn
            refine v_iload G 3 rfl dX4_option_99 ?_
            refine v_if_lt G 199 ⟨by omega, by omega⟩ (by decide) dX4_option_101 (fun c4 => ?_) (fun c4 => ?_)
            · have hke : k = -1 := by omega
              have hv := hd2 0 (by omega) (by omega)
              refine v_aload_n G 0 rfl rfl dX4_option_199 ?_
              refine gX4_106 G zM_0 (v := .ref (A 54)) rfl dX4_option_200 ?_
              refine v_iconst G dX4_option_203 ?_
              refine m_lld G hA (v := D2 54 0) rfl ⟨by omega, by show _ < (64 : Int); omega⟩ rfl dX4_option_204 ?_
              exact v_lret G hQ ⟨by rw [hv, hke, show τ 28 p - τ 1 0 - 1 - -1 = τ 28 p - τ 1 0 by omega]; rfl, D2, hk02, rfl⟩ (Nat.le_of_ble_eq_true rfl) (Nat.le_of_ble_eq_true rfl) dX4_option_205
            · have hqk := hq (τ 1 0 + k) (by omega) (by omega)
              have hdn : (τ 28 p - τ 1 0 - 1 - (k + (-1))).toNat = (τ 28 p - τ 1 0 - 1 - k).toNat + 1 := by omega
              refine v_ldc2 G (v := 100000) q2184 rfl dX4_option_104 ?_
              refine v_aload_n G 0 rfl rfl dX4_option_107 ?_
              refine v_iload_n G 1 rfl rfl dX4_option_108 ?_
              refine v_aload_n G 0 rfl rfl dX4_option_109 ?_
              refine gX4_114 G zM_0 (v := .int (iI (τ 1 0))) rfl dX4_option_110 ?_
              refine v_iload G 3 rfl dX4_option_113 ?_
              refine v_iadd G dX4_option_115 ?_
              refine v_iconst G dX4_option_116 ?_
              refine kX4_279 G (As := [.int (iI p), .int (iI ((τ 1 0) + k)), .int (iI 0)]) (rest := [.long (iL 100000)]) (cs' := 0) (sl' := 0) (n_q G.fl (τ := τ) (D := D2) hA (p := p) (y := ((τ 1 0) + k)) (law := 0) ⟨by omega, by omega⟩ ⟨by omega, by omega⟩ (show 0 ≤ τ 25 p ∧ τ 25 p ≤ 7 by omega) (show okQ (τ 2 0) (τ 19 0) (τ 24 p) (τ 25 p % 2) (τ 25 p / 2 % 2) ((τ 1 0) + k) (τ 26 p) from ⟨⟨by omega, by omega⟩, ⟨by omega, by omega⟩, by omega, by omega, ⟨by omega, by omega, by omega⟩, ⟨by omega, by omega⟩⟩) (show 1700 ≤ τ 27 p ∧ τ 27 p ≤ 2400 by omega)) (zRcv.of G (q := (RX4, TX4, 55)) rfl zM_0) rfl rfl (Nat.le_of_ble_eq_true rfl) (zRm.ok rfl) dX4_option_117 (fun vq5 hq5 q5 => ?_)
              obtain ⟨_, _⟩ := q5
              subst vq5 hq5
              show VW θ Q E (zM E A h (sc τ D2)) 0 0 120 [(0, .ref (A 0)), (1, .int (iI p)), (2, .int (iI s)), (6, .int (iI k))] [.long (iL (qaT τ 0 p (τ 1 0 + k))), .long (iL 100000)]
              refine v_lsub G dX4_option_120 ?_
              refine v_lstore G (L' := [(7, .long (iL (100000 - (qaT τ 0 p (τ 1 0 + k))))), (0, .ref (A 0)), (1, .int (iI p)), (2, .int (iI s)), (6, .int (iI k))]) (Nat.le_of_ble_eq_true rfl) rfl dX4_option_121 ?_
              refine v_iconst G dX4_option_123 ?_
              refine v_istore G (L' := [(9, .int (iI 0)), (7, .long (iL (100000 - (qaT τ 0 p (τ 1 0 + k))))), (0, .ref (A 0)), (1, .int (iI p)), (2, .int (iI s)), (6, .int (iI k))]) (Nat.le_of_ble_eq_true rfl) rfl dX4_option_124 ?_
              have P6 : ∀ (n : Nat) (u : Int) (D3 : mMem), (0 ≤ u ∧ u ≤ k + 1) → (∀ v, 0 ≤ v → v ≤ k + 1 → (v < u → D3 54 v = opL τ p s (τ 28 p - τ 1 0) ((τ 28 p - τ 1 0 - 1 - k).toNat + 1) v) ∧ (u ≤ v → D3 54 v = opL τ p s (τ 28 p - τ 1 0) (τ 28 p - τ 1 0 - 1 - k).toNat v)) → (D3 0 = D 0) → (k + 1 - u).toNat < n → VW θ Q E (zM E A h (sc τ D3)) 0 0 126 [(0, .ref (A 0)), (1, .int (iI p)), (2, .int (iI s)), (6, .int (iI k)), (7, .long (iL (100000 - qaT τ 0 p (τ 1 0 + k)))), (9, .int (iI u))] [] := by
                intro n
                induction n with
                | zero => intros; omega
                | succ n P6ih =>
                  intro u D3 hu3 hd3 hk03 hn
                  refine v_iload G 5 rfl dX4_option_126 ?_
                  refine v_iload G 3 rfl dX4_option_128 ?_
                  refine v_icmp_gt G 193 ⟨by omega, by omega⟩ ⟨by omega, by omega⟩ (by decide) dX4_option_130 (fun c7 => ?_) (fun c7 => ?_)
                  · have hue : u = k + 1 := by omega
                    rw [hue] at hd3
                    refine v_iinc G (L' := [(6, .int (iI (k + (-1)))), (0, .ref (A 0)), (1, .int (iI p)), (2, .int (iI s)), (7, .long (iL (100000 - qaT τ 0 p (τ 1 0 + k)))), (9, .int (iI u))]) 3 rfl (Nat.le_of_ble_eq_true rfl) rfl dX4_option_193 ?_
                    refine v_goto G 99 (by decide) dX4_option_196 ?_
                    refine VW.pick (L2 := [(0, .ref (A 0)), (1, .int (iI p)), (2, .int (iI s)), (6, .int (iI (k + (-1))))]) [1, 2, 3, 0] rfl ?_
                    exact P3ih (k + (-1)) D3 ⟨by omega, by omega⟩ (fun v a b => by rw [(hd3 v a (by omega)).1 (by omega), hdn]) hk03 (by omega)
                  · have v1 := (hd3 u (by omega) (by omega)).2 (by omega)
                    have v2 := (hd3 (u + 1) (by omega) (by omega)).2 (by omega)
                    have b1 := hol (τ 28 p - τ 1 0 - 1 - k).toNat (by omega) u
                    have b2 := hol (τ 28 p - τ 1 0 - 1 - k).toNat (by omega) (u + 1)
                    rw [← v1] at b1
                    rw [← v2] at b2
                    have rb := rtT_bd (τ := τ) (k := k) (u := u) (s := s)
                    have hx := dsc_bd (x := (D3 54 u + D3 54 (u + 1)) / 2) (X := 4000000000) (i := rtT τ k u s) (by omega) rb.1
                    have hm := mul_bd2 hx (show 0 ≤ 100000 - qaT τ 0 p (τ 1 0 + k) ∧ 100000 - qaT τ 0 p (τ 1 0 + k) ≤ 100000 by omega)
                    have hnew : (D3 54 u + D3 54 (u + 1)) / 2 * 1000 / (1000 + rtT τ k u s) * (100000 - qaT τ 0 p (τ 1 0 + k)) / 100000 = opL τ p s (τ 28 p - τ 1 0) ((τ 28 p - τ 1 0 - 1 - k).toNat + 1) u := by
                      show _ = (opL τ p s (τ 28 p - τ 1 0) (τ 28 p - τ 1 0 - 1 - k).toNat u + opL τ p s (τ 28 p - τ 1 0) (τ 28 p - τ 1 0 - 1 - k).toNat (u + 1)) / 2 * 1000 / (1000 + rtT τ (τ 28 p - τ 1 0 - 1 - ((τ 28 p - τ 1 0 - 1 - k).toNat : Int)) u s) * (100000 - qaT τ 0 p (τ 1 0 + (τ 28 p - τ 1 0 - 1 - ((τ 28 p - τ 1 0 - 1 - k).toNat : Int)))) / 100000
                      rw [v1, v2, show τ 28 p - τ 1 0 - 1 - ((τ 28 p - τ 1 0 - 1 - k).toNat : Int) = k by omega]
                    refine v_aload_n G 0 rfl rfl dX4_option_133 ?_
                    refine gX4_106 G zM_0 (v := .ref (A 54)) rfl dX4_option_134 ?_
                    refine v_iload G 5 rfl dX4_option_137 ?_
                    refine v_aload_n G 0 rfl rfl dX4_option_139 ?_
                    refine gX4_106 G zM_0 (v := .ref (A 54)) rfl dX4_option_140 ?_
                    refine v_iload G 5 rfl dX4_option_143 ?_
                    refine m_lld G hA (v := D3 54 u) rfl ⟨by omega, by show _ < (64 : Int); omega⟩ rfl dX4_option_145 ?_
                    refine v_aload_n G 0 rfl rfl dX4_option_146 ?_
                    refine gX4_106 G zM_0 (v := .ref (A 54)) rfl dX4_option_147 ?_
                    refine v_iload G 5 rfl dX4_option_150 ?_
                    refine v_iconst G dX4_option_152 ?_
                    refine v_iadd G dX4_option_153 ?_
                    refine m_lld G hA (v := D3 54 (u + 1)) rfl ⟨by omega, by show _ < (64 : Int); omega⟩ rfl dX4_option_154 ?_
                    refine v_ladd G dX4_option_155 ?_
                    refine v_ldc2 G (v := 2) q2154 rfl dX4_option_156 ?_
                    refine v_ldiv G ⟨by omega, by omega⟩ ⟨by decide, by decide⟩ dX4_option_159 ?_
                    refine v_ldc2 G (v := 1000) q2190 rfl dX4_option_160 ?_
                    refine v_lmul G dX4_option_163 ?_
                    refine v_sipush G rfl dX4_option_164 ?_
                    refine v_aload_n G 0 rfl rfl dX4_option_167 ?_
                    refine v_iload G 3 rfl dX4_option_168 ?_
                    refine v_iload G 5 rfl dX4_option_170 ?_
                    refine v_iload_n G 2 rfl rfl dX4_option_172 ?_
                    refine kX4_320 G (As := [.int (iI k), .int (iI u), .int (iI s)]) (rest := [.int (iI 1000), .long (iL ((((D3 54 u) + (D3 54 (u + 1))) / 2) * 1000)), .int (iI u), .ref (A 54)]) (cs' := 0) (sl' := 0) (n_rate G.fl (τ := τ) (D := D3) hA (k := k) (u := u) (s := s) ⟨by omega, by omega⟩ ⟨by omega, by omega⟩ ⟨by omega, by omega⟩ (show 0 ≤ τ 18 0 ∧ τ 18 0 ≤ 150 by omega)) (zRcv.of G (q := (RX4, TX4, 55)) rfl zM_0) rfl rfl (Nat.le_of_ble_eq_true rfl) (zRm.ok rfl) dX4_option_173 (fun vq8 hq8 q8 => ?_)
                    obtain ⟨_, _⟩ := q8
                    subst vq8 hq8
                    show VW θ Q E (zM E A h (sc τ D3)) 0 0 176 [(0, .ref (A 0)), (1, .int (iI p)), (2, .int (iI s)), (6, .int (iI k)), (7, .long (iL (100000 - qaT τ 0 p (τ 1 0 + k)))), (9, .int (iI u))] [.int (iI (rtT τ k u s)), .int (iI 1000), .long (iL ((((D3 54 u) + (D3 54 (u + 1))) / 2) * 1000)), .int (iI u), .ref (A 54)]
                    refine v_iadd G dX4_option_176 ?_
                    refine v_i2l G ⟨by omega, by omega⟩ dX4_option_177 ?_
                    refine v_ldiv G ⟨by omega, by omega⟩ ⟨by omega, by omega⟩ dX4_option_178 ?_
                    refine v_lload G 4 rfl dX4_option_179 ?_
                    refine v_lmul G dX4_option_181 ?_
                    refine v_ldc2 G (v := 100000) q2184 rfl dX4_option_182 ?_
                    refine v_ldiv G ⟨by omega, by omega⟩ ⟨by decide, by decide⟩ dX4_option_185 ?_
                    refine m_lst G hA rfl ⟨by omega, by show _ < (64 : Int); omega⟩ dX4_option_186 ?_
                    refine VW.hpe (congrArg (zM E A h) (sc_D (k := 54) rfl)) ?_
                    refine v_iinc G (L' := [(9, .int (iI (u + 1))), (0, .ref (A 0)), (1, .int (iI p)), (2, .int (iI s)), (6, .int (iI k)), (7, .long (iL (100000 - qaT τ 0 p (τ 1 0 + k))))]) 5 rfl (Nat.le_of_ble_eq_true rfl) rfl dX4_option_187 ?_
                    refine v_goto G 126 (by decide) dX4_option_190 ?_
                    refine VW.pick (L2 := [(0, .ref (A 0)), (1, .int (iI p)), (2, .int (iI s)), (6, .int (iI k)), (7, .long (iL (100000 - qaT τ 0 p (τ 1 0 + k)))), (9, .int (iI (u + 1)))]) [1, 2, 3, 4, 5, 0] rfl ?_
                    exact P6ih (u + 1) (st2 D3 54 u (((((((D3 54 u) + (D3 54 (u + 1))) / 2) * 1000) / (1000 + (rtT τ k u s))) * (100000 - qaT τ 0 p (τ 1 0 + k))) / 100000)) ⟨by omega, by omega⟩ (fun v a b => ⟨fun c => by
                                            by_cases hv : v = u
                                            · rw [hv, st2_s]; exact hnew
                                            · rw [st2_n hv]; exact (hd3 v a b).1 (by omega), fun c => by rw [st2_n (by omega)]; exact (hd3 v a b).2 (by omega)⟩) hk03 (by omega)
              refine VW.pick (L2 := [(0, .ref (A 0)), (1, .int (iI p)), (2, .int (iI s)), (6, .int (iI k)), (7, .long (iL (100000 - (qaT τ 0 p (τ 1 0 + k))))), (9, .int (iI 0))]) [2, 3, 4, 5, 1, 0] rfl ?_
              exact P6 _ 0 D2 ⟨by omega, by omega⟩ (fun v a b => ⟨fun c => absurd c (by omega), fun _ => hd2 v a b⟩) hk02 (Nat.lt_succ_self _)
        refine VW.pick (L2 := [(0, .ref (A 0)), (1, .int (iI p)), (2, .int (iI s)), (6, .int (iI ((τ 28 p - τ 1 0) - 1)))]) [1, 2, 3, 0] rfl ?_
        exact P3 _ (τ 28 p - τ 1 0 - 1) D1 ⟨by omega, by omega⟩ (fun v a b => by rw [hd v a (by omega), show (τ 28 p - τ 1 0 - 1 - (τ 28 p - τ 1 0 - 1)).toNat = 0 by omega]) hk0 (Nat.lt_succ_self _)
      · skip
        refine v_aload_n G 0 rfl rfl dX4_option_36 ?_
        refine gX4_106 G zM_0 (v := .ref (A 54)) rfl dX4_option_37 ?_
        refine v_iload G 5 rfl dX4_option_40 ?_
        refine v_lconst G (n := 0) (v0 := 0) rfl dX4_option_42 ?_
        refine v_lload G 4 rfl dX4_option_43 ?_
        refine v_aload_n G 0 rfl rfl dX4_option_45 ?_
        refine gX4_61 G zM_0 (v := .ref (A 33)) rfl dX4_option_46 ?_
        refine v_iload_n G 1 rfl rfl dX4_option_49 ?_
        refine m_ald G hA (v := τ 33 p) rfl ⟨by omega, by show _ < (24 : Int); omega⟩ rfl dX4_option_50 ?_
        refine v_i2l G ⟨by omega, by omega⟩ dX4_option_51 ?_
        refine v_lmul G dX4_option_52 ?_
        refine v_ldc2 G (v := 1000) q2190 rfl dX4_option_53 ?_
        refine v_ldiv G ⟨by omega, by omega⟩ ⟨by decide, by decide⟩ dX4_option_56 ?_
        refine v_aload_n G 0 rfl rfl dX4_option_57 ?_
        refine v_iload_n G 1 rfl rfl dX4_option_58 ?_
        refine v_aload_n G 0 rfl rfl dX4_option_59 ?_
        refine gX4_46 G zM_0 (v := .ref (A 28)) rfl dX4_option_60 ?_
        refine v_iload_n G 1 rfl rfl dX4_option_63 ?_
        refine m_ald G hA (v := τ 28 p) rfl ⟨by omega, by show _ < (24 : Int); omega⟩ rfl dX4_option_64 ?_
        refine v_aload_n G 0 rfl rfl dX4_option_65 ?_
        refine v_iload_n G 3 rfl rfl dX4_option_66 ?_
        refine v_iload G 5 rfl dX4_option_67 ?_
        refine v_iload_n G 2 rfl rfl dX4_option_69 ?_
        refine s_callVw G (n := 3) (lw_V q2350 q2352 qs61 q91 q2353) ⟨rfl, by decide, by decide, by decide +kernel⟩ (As := [.int (iI (τ 28 p - τ 1 0)), .int (iI u), .int (iI s)]) (rest := [.int (iI (τ 28 p)), .int (iI p), .ref (A 0), .long (iL (((τ 35 p + τ 36 p) * (τ 33 p)) / 1000)), .long (iL 0), .int (iI u), .ref (A 54)]) (cs' := 0) (sl' := 0) (n_rate G.fl (τ := τ) (D := D1) hA (k := (τ 28 p - τ 1 0)) (u := u) (s := s) ⟨by omega, by omega⟩ ⟨by omega, by omega⟩ ⟨by omega, by omega⟩ (show 0 ≤ τ 18 0 ∧ τ 18 0 ≤ 150 by omega)) (zRcv.of G (q := (RX4, TX4, 55)) rfl zM_0) rfl rfl (Nat.le_of_ble_eq_true rfl) (zRm.ok rfl) (Nat.le_of_ble_eq_true rfl) dX4_option_70 (fun vq9 hq9 q9 => ?_)
        obtain ⟨_, _⟩ := q9
        subst vq9 hq9
        show VW θ Q E (zM E A h (sc τ D1)) 0 0 73 [(0, .ref (A 0)), (1, .int (iI p)), (2, .int (iI s)), (3, .int (iI (τ 28 p - τ 1 0))), (4, .long (iL (τ 35 p + τ 36 p))), (6, .int (iI u))] [.int (iI (rtT τ (τ 28 p - τ 1 0) u s)), .int (iI (τ 28 p)), .int (iI p), .ref (A 0), .long (iL (((τ 35 p + τ 36 p) * (τ 33 p)) / 1000)), .long (iL 0), .int (iI u), .ref (A 54)]
        refine kX4_324 G (As := [.int (iI p), .int (iI (τ 28 p)), .int (iI (rtT τ (τ 28 p - τ 1 0) u s))]) (rest := [.long (iL (((τ 35 p + τ 36 p) * (τ 33 p)) / 1000)), .long (iL 0), .int (iI u), .ref (A 54)]) (cs' := 0) (sl' := 0) (n_ann G.fl (τ := τ) (D := D1) hA (p := p) (y := (τ 28 p)) (r := (rtT τ (τ 28 p - τ 1 0) u s)) ⟨by omega, by omega⟩ ho hw hs9 ⟨by omega, by omega⟩ ⟨by omega, by omega⟩) (zRcv.of G (q := (RX4, TX4, 55)) rfl zM_0) rfl rfl (Nat.le_of_ble_eq_true rfl) (zRm.ok rfl) dX4_option_73 (fun vq10 hq10 q10 => ?_)
        obtain ⟨_, _⟩ := q10
        subst vq10 hq10
        show VW θ Q E (zM E A h (sc τ D1)) 0 0 76 [(0, .ref (A 0)), (1, .int (iI p)), (2, .int (iI s)), (3, .int (iI (τ 28 p - τ 1 0))), (4, .long (iL (τ 35 p + τ 36 p))), (6, .int (iI u))] [.long (iL (anT τ p (τ 28 p) (rtT τ (τ 28 p - τ 1 0) u s))), .long (iL (((τ 35 p + τ 36 p) * (τ 33 p)) / 1000)), .long (iL 0), .int (iI u), .ref (A 54)]
        refine v_lmul G dX4_option_76 ?_
        refine v_ldc2 G (v := 1000000) q2178 rfl dX4_option_77 ?_
        refine v_ldiv G ⟨by omega, by omega⟩ ⟨by decide, by decide⟩ dX4_option_80 ?_
        refine v_lload G 4 rfl dX4_option_81 ?_
        refine v_lsub G dX4_option_83 ?_
        refine kX4_241 G (As := [.long (iL 0), .long (iL ((((((τ 35 p + τ 36 p) * (τ 33 p)) / 1000) * (anT τ p (τ 28 p) (rtT τ (τ 28 p - τ 1 0) u s))) / 1000000) - (τ 35 p + τ 36 p)))]) (rest := [.int (iI u), .ref (A 54)]) (cs' := 0) (sl' := 0) (m_maxL G.fl (a := 0) (b := ((((((τ 35 p + τ 36 p) * (τ 33 p)) / 1000) * (anT τ p (τ 28 p) (rtT τ (τ 28 p - τ 1 0) u s))) / 1000000) - (τ 35 p + τ 36 p))) ⟨by decide, by decide⟩ ⟨by omega, by omega⟩) rfl rfl (Nat.le_of_ble_eq_true rfl) (zRm.ok rfl) dX4_option_84 (fun vq12 hq12 q12 => ?_)
        obtain ⟨_, _⟩ := q12
        subst vq12 hq12
        show VW θ Q E (zM E A h (sc τ D1)) 0 0 87 [(0, .ref (A 0)), (1, .int (iI p)), (2, .int (iI s)), (3, .int (iI (τ 28 p - τ 1 0))), (4, .long (iL (τ 35 p + τ 36 p))), (6, .int (iI u))] [.long (iL (max 0 ((((((τ 35 p + τ 36 p) * (τ 33 p)) / 1000) * (anT τ p (τ 28 p) (rtT τ (τ 28 p - τ 1 0) u s))) / 1000000) - (τ 35 p + τ 36 p)))), .int (iI u), .ref (A 54)]
        refine m_lst G hA rfl ⟨by omega, by show _ < (64 : Int); omega⟩ dX4_option_87 ?_
        refine VW.hpe (congrArg (zM E A h) (sc_D (k := 54) rfl)) ?_
        refine v_iinc G (L' := [(6, .int (iI (u + 1))), (0, .ref (A 0)), (1, .int (iI p)), (2, .int (iI s)), (3, .int (iI (τ 28 p - τ 1 0))), (4, .long (iL (τ 35 p + τ 36 p)))]) 5 rfl (Nat.le_of_ble_eq_true rfl) rfl dX4_option_88 ?_
        refine v_goto G 30 (by decide) dX4_option_91 ?_
        refine VW.pick (L2 := [(0, .ref (A 0)), (1, .int (iI p)), (2, .int (iI s)), (3, .int (iI (τ 28 p - τ 1 0))), (4, .long (iL (τ 35 p + τ 36 p))), (6, .int (iI (u + 1)))]) [1, 2, 3, 4, 5, 0] rfl ?_
        exact P1ih (u + 1) (st2 D1 54 u (max 0 ((((((τ 35 p + τ 36 p) * (τ 33 p)) / 1000) * (anT τ p (τ 28 p) (rtT τ (τ 28 p - τ 1 0) u s))) / 1000000) - (τ 35 p + τ 36 p)))) ⟨by omega, by omega⟩ (fun v a b => by
                    by_cases hv : v = u
                    · subst hv; rw [st2_s]; rfl
                    · rw [st2_n hv]; exact hd v a (by omega)) hk0 (by omega)
  refine VW.pick (L2 := [(0, .ref (A 0)), (1, .int (iI p)), (2, .int (iI s)), (3, .int (iI ((τ 28 p) - (τ 1 0)))), (4, .long (iL ((τ 35 p) + (τ 36 p)))), (6, .int (iI 0))]) [3, 4, 5, 2, 1, 0] rfl ?_
  exact P1 _ 0 D ⟨by omega, by omega⟩ (fun v a b => absurd b (by omega)) rfl (Nat.lt_succ_self _)

