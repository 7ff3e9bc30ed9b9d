/-! WALKS: the reference: calls -/
set_option maxRecDepth 100000
set_option maxHeartbeats 4000000 in
theorem m_abs {l : Launch} (hfl : l.stackTraces = false) {E : zEn} {h : zHp} {x : Int} (hx : -2000000000 ≤ x ∧ x ≤ 2000000000)  : CN l E yJ16_abs (ws_ yJ16_abs cJ16_abs 1 (some FieldType.int)) ({ frames := 0, cells := 0, slots := 0, locals := 0 } : Room) [.int (iI x)] h (zR (.int (iI (abI x))) h) := by
  refine CN.of (by decide +kernel) hfl (Nat.le_of_ble_eq_true rfl) fun θ Q hl G hin hQ => ?_
  subst hl
  show VW θ Q E h 0 0 0 [(0, .int (iI x))] []
  refine v_iload_n G 0 rfl rfl dJ16_abs_0 ?_
  refine v_if_ge G 9 ⟨by omega, by omega⟩ (by decide) dJ16_abs_1 (fun c1 => ?_) (fun c1 => ?_)
  · refine v_iload_n G 0 rfl rfl dJ16_abs_9 ?_
    exact v_iret G hQ ⟨by unfold abI; first | rw [if_pos (by omega)] | rw [if_neg (by omega)], rfl⟩ (Nat.le_of_ble_eq_true rfl) (Nat.le_of_ble_eq_true rfl) dJ16_abs_10
  · refine v_iload_n G 0 rfl rfl dJ16_abs_4 ?_
    refine v_ineg G dJ16_abs_5 ?_
    refine v_goto G 10 (by decide) dJ16_abs_6 ?_
    exact v_iret G hQ ⟨by unfold abI; first | rw [if_pos (by omega)] | rw [if_neg (by omega)], rfl⟩ (Nat.le_of_ble_eq_true rfl) (Nat.le_of_ble_eq_true rfl) dJ16_abs_10

set_option maxHeartbeats 4000000 in
theorem o_found {l : Launch} (hfl : l.stackTraces = false) {E : zEn} {h : zHp} {A : Nat → Nat} {τ D : mMem} (hA : mInj A) (H : okT τ) {y : Int} (nny : n32 y) {c : Int} (nnc : n32 c)  : CN l E yX4_found (ws_ yX4_found cX4_found 4 (some FieldType.int)) ({ frames := 1, cells := 0, slots := 0, locals := 25 } : Room) [.ref (A 0), .int (iI y), .int (iI c)] (zM E A h (sc τ D)) (zOI E A h (oFound τ y c)) := by
  refine CN.of (by decide +kernel) hfl (Nat.le_of_ble_eq_true rfl) fun θ Q hl G hin hQ => ?_
  subst hl
  show VW θ Q E (zM E A h (sc τ D)) 0 0 0 [(0, .ref (A 0)), (1, .int (iI y)), (2, .int (iI c))] []
  have hm := H.many
  have hyr := H.year
  have hn := H.nums
  have hi := H.imp
  have hbt := H.bits
  refine v_aload_n G 0 rfl rfl dX4_found_0 ?_
  refine v_iconst G dX4_found_1 ?_
  refine pX4_1 G zM_0 (Nat.le_of_ble_eq_true rfl) dX4_found_2 ?_
  refine VW.hpe (zM_up0 (k := 0) (z := 0) rfl (by decide)) ?_
  refine VW.hpe (congrArg (zM E A h) (sc_D (k := 0) rfl)) ?_
  refine v_iload_n G 1 rfl rfl dX4_found_5 ?_
  refine v_i2l G ⟨by omega, by omega⟩ dX4_found_6 ?_
  refine v_ldc2 G (v := 1900) q2133 rfl dX4_found_7 ?_
  refine v_ldc2 G (v := 2050) q2134 rfl dX4_found_10 ?_
  refine kX4_168 G (As := [.long (iL y), .long (iL 1900), .long (iL 2050)]) (rest := []) (cs' := 0) (sl' := 0) (n_isIn G.fl (v := y) (a := 1900) (b := 2050) ⟨by omega, by omega⟩ ⟨by decide, by decide⟩ ⟨by decide, by decide⟩) rfl rfl (Nat.le_of_ble_eq_true rfl) (zRm.ok rfl) dX4_found_13 (fun vq1 hq1 q1 => ?_)
  obtain ⟨_, _⟩ := q1
  subst vq1 hq1
  refine VW.nmI (fun z2 hz2 => ?_)
  have hz2 := ite01 hz2
  show VW θ Q E (zM E A h (sc τ (st2 D 0 0 0))) 0 0 16 [(0, .ref (A 0)), (1, .int (iI y)), (2, .int (iI c))] [.int (iI z2)]
  refine v_if_eq G 31 ⟨by omega, by omega⟩ (by decide) dX4_found_16 (fun c3 => ?_) (fun c3 => ?_)
  · have gz2 := bF hz2 (by omega)
    refine v_aload_n G 0 rfl rfl dX4_found_31 ?_
    refine v_iconst G dX4_found_32 ?_
    refine kX4_342 G (As := [.int (iI 1)]) (rest := []) (cs' := 0) (sl' := 0) (n_fails G.fl (τ := τ) (D := st2 D 0 0 0) hA (k := 1)) (zRcv.of G (q := (RX4, TX4, 55)) rfl zM_0) rfl rfl (Nat.le_of_ble_eq_true rfl) (zRm.ok rfl) dX4_found_33 (fun vq4 hq4 q4 => ?_)
    obtain ⟨_, _⟩ := q4
    subst vq4 hq4
    show VW θ Q E (zM E A h (sc τ (st2 (st2 D 0 0 0) 0 0 1))) 0 0 36 [(0, .ref (A 0)), (1, .int (iI y)), (2, .int (iI c))] [.int (iI 0)]
    have e : oFound τ y c = (1, 0, τ) := by
      unfold oFound
      (repeat (first | rw [if_pos (by omega)] | rw [if_neg (by omega)]))
      all_goals rfl
    exact v_iret G hQ (by rw [e]; exact ⟨rfl, st2 (st2 D 0 0 0) 0 0 1, rfl, rfl⟩) (Nat.le_of_ble_eq_true rfl) (Nat.le_of_ble_eq_true rfl) dX4_found_36
  · have gz2 := bT hz2 (by omega)
    refine v_iload_n G 2 rfl rfl dX4_found_19 ?_
    refine v_i2l G ⟨by omega, by omega⟩ dX4_found_20 ?_
    refine v_lconst G (n := 0) (v0 := 0) rfl dX4_found_21 ?_
    refine v_ldc2 G (v := 1000000000) q2138 rfl dX4_found_22 ?_
    refine kX4_168 G (As := [.long (iL c), .long (iL 0), .long (iL 1000000000)]) (rest := []) (cs' := 0) (sl' := 0) (n_isIn G.fl (v := c) (a := 0) (b := 1000000000) ⟨by omega, by omega⟩ ⟨by decide, by decide⟩ ⟨by decide, by decide⟩) rfl rfl (Nat.le_of_ble_eq_true rfl) (zRm.ok rfl) dX4_found_25 (fun vq5 hq5 q5 => ?_)
    obtain ⟨_, _⟩ := q5
    subst vq5 hq5
    refine VW.nmI (fun z6 hz6 => ?_)
    have hz6 := ite01 hz6
    show VW θ Q E (zM E A h (sc τ (st2 D 0 0 0))) 0 0 28 [(0, .ref (A 0)), (1, .int (iI y)), (2, .int (iI c))] [.int (iI z6)]
    refine v_if_ne G 37 ⟨by omega, by omega⟩ (by decide) dX4_found_28 (fun c7 => ?_) (fun c7 => ?_)
    · have gz6 := bT hz6 (by omega)
      refine v_aload_n G 0 rfl rfl dX4_found_37 ?_
      refine gX4_146 G zM_0 (v := .int (iI (τ 10 0))) rfl dX4_found_38 ?_
      refine v_istore_n G (L' := [(3, .int (iI (τ 10 0))), (0, .ref (A 0)), (1, .int (iI y)), (2, .int (iI c))]) rfl (Nat.le_of_ble_eq_true rfl) rfl dX4_found_41 ?_
      refine v_aload_n G 1 rfl rfl dX4_found_42 ?_
      refine v_iload_n G 2 rfl rfl dX4_found_43 ?_
      refine v_iload_n G 3 rfl rfl dX4_found_44 ?_
      refine kX4_110 G (As := [.int (iI y), .int (iI c)]) (rest := []) (cs' := 0) (sl' := 0) (n_founds G.fl (τ := τ) (D := st2 D 0 0 0) hA (y := y) (c := c) ⟨by omega, by omega⟩) (zRcv.of G (q := (RX4, TX4, 55)) rfl zM_0) rfl rfl (Nat.le_of_ble_eq_true rfl) (zRm.ok rfl) dX4_found_45 (fun vq8 hq8 q8 => ?_)
      obtain ⟨_, _⟩ := q8
      subst vq8 hq8
      show VW θ Q E (zM E A h (sc (fdS τ y c) (st2 D 0 0 0))) 0 0 48 [(3, .int (iI (τ 10 0))), (0, .ref (A 0)), (1, .int (iI y)), (2, .int (iI c))] []
      refine v_iload_n G 0 rfl rfl dX4_found_48 ?_
      have e : oFound τ y c = (0, (τ 10 0), fdS τ y c) := by
        unfold oFound
        (repeat (first | rw [if_pos (by omega)] | rw [if_neg (by omega)]))
        all_goals rfl
      exact v_iret G hQ (by rw [e]; exact ⟨rfl, st2 D 0 0 0, rfl, rfl⟩) (Nat.le_of_ble_eq_true rfl) (Nat.le_of_ble_eq_true rfl) dX4_found_49
    · have gz6 := bF hz6 (by omega)
      refine v_aload_n G 0 rfl rfl dX4_found_31 ?_
      refine v_iconst G dX4_found_32 ?_
      refine kX4_342 G (As := [.int (iI 1)]) (rest := []) (cs' := 0) (sl' := 0) (n_fails G.fl (τ := τ) (D := st2 D 0 0 0) hA (k := 1)) (zRcv.of G (q := (RX4, TX4, 55)) rfl zM_0) rfl rfl (Nat.le_of_ble_eq_true rfl) (zRm.ok rfl) dX4_found_33 (fun vq9 hq9 q9 => ?_)
      obtain ⟨_, _⟩ := q9
      subst vq9 hq9
      show VW θ Q E (zM E A h (sc τ (st2 (st2 D 0 0 0) 0 0 1))) 0 0 36 [(0, .ref (A 0)), (1, .int (iI y)), (2, .int (iI c))] [.int (iI 0)]
      have e : oFound τ y c = (1, 0, τ) := by
        unfold oFound
        (repeat (first | rw [if_pos (by omega)] | rw [if_neg (by omega)]))
        all_goals rfl
      exact v_iret G hQ (by rw [e]; exact ⟨rfl, st2 (st2 D 0 0 0) 0 0 1, rfl, rfl⟩) (Nat.le_of_ble_eq_true rfl) (Nat.le_of_ble_eq_true rfl) dX4_found_36

set_option maxHeartbeats 4000000 in
theorem o_year {l : Launch} (hfl : l.stackTraces = false) {E : zEn} {h : zHp} {A : Nat → Nat} {τ D : mMem} (hA : mInj A) (H : okT τ)  : CN l E yX4_year (ws_ yX4_year cX4_year 1 (some FieldType.int)) ({ frames := 0, cells := 0, slots := 0, locals := 0 } : Room) [.ref (A 0)] (zM E A h (sc τ D)) (zOI E A h (oYear τ)) := by
  refine CN.of (by decide +kernel) hfl (Nat.le_of_ble_eq_true rfl) fun θ Q hl G hin hQ => ?_
  subst hl
  show VW θ Q E (zM E A h (sc τ D)) 0 0 0 [(0, .ref (A 0))] []
  have hm := H.many
  have hyr := H.year
  have hn := H.nums
  have hi := H.imp
  have hbt := H.bits
  refine v_aload_n G 0 rfl rfl dX4_year_0 ?_
  refine v_iconst G dX4_year_1 ?_
  refine pX4_1 G zM_0 (Nat.le_of_ble_eq_true rfl) dX4_year_2 ?_
  refine VW.hpe (zM_up0 (k := 0) (z := 0) rfl (by decide)) ?_
  refine VW.hpe (congrArg (zM E A h) (sc_D (k := 0) rfl)) ?_
  refine v_aload_n G 0 rfl rfl dX4_year_5 ?_
  refine gX4_114 G zM_0 (v := .int (iI (τ 1 0))) rfl dX4_year_6 ?_
  have e : oYear τ = (0, (τ 1 0), τ) := by
    unfold oYear
    (repeat (first | rw [if_pos (by omega)] | rw [if_neg (by omega)]))
    all_goals rfl
  exact v_iret G hQ (by rw [e]; exact ⟨rfl, st2 D 0 0 0, rfl, rfl⟩) (Nat.le_of_ble_eq_true rfl) (Nat.le_of_ble_eq_true rfl) dX4_year_9

set_option maxHeartbeats 4000000 in
theorem o_setLaw {l : Launch} (hfl : l.stackTraces = false) {E : zEn} {h : zHp} {A : Nat → Nat} {τ D : mMem} (hA : mInj A) (H : okT τ) {law : Int} (nnlaw : n32 law) {i : Int} (nni : n32 i) {c : Int} (nnc : n32 c) {z : Int} (hz : z = 0 ∨ z = 1)  : CN l E yX4_setLaw (ws_ yX4_setLaw cX4_setLaw 7 (some FieldType.long)) ({ frames := 6, cells := 0, slots := 0, locals := 166 } : Room) [.ref (A 0), .int (iI law), .int (iI i), .int (iI c), .int (iI z)] (zM E A h (sc τ D)) (zOL E A h (oSetLaw τ law i c z)) := by
  refine CN.of (by decide +kernel) hfl (Nat.le_of_ble_eq_true rfl) fun θ Q hl G hin hQ => ?_
  subst hl
  show VW θ Q E (zM E A h (sc τ D)) 0 0 0 [(0, .ref (A 0)), (1, .int (iI law)), (2, .int (iI i)), (3, .int (iI c)), (4, .int (iI z))] []
  have hm := H.many
  have hyr := H.year
  have hn := H.nums
  have hi := H.imp
  have hbt := H.bits
  refine v_aload_n G 0 rfl rfl dX4_setLaw_0 ?_
  refine v_iconst G dX4_setLaw_1 ?_
  refine pX4_1 G zM_0 (Nat.le_of_ble_eq_true rfl) dX4_setLaw_2 ?_
  refine VW.hpe (zM_up0 (k := 0) (z := 0) rfl (by decide)) ?_
  refine VW.hpe (congrArg (zM E A h) (sc_D (k := 0) rfl)) ?_
  refine v_iload_n G 1 rfl rfl dX4_setLaw_5 ?_
  refine kX4_346 G (As := [.int (iI law)]) (rest := []) (cs' := 0) (sl' := 0) (n_isLaw G.fl (p := law) ⟨by omega, by omega⟩) rfl rfl (Nat.le_of_ble_eq_true rfl) (zRm.ok rfl) dX4_setLaw_6 (fun vq1 hq1 q1 => ?_)
  obtain ⟨_, _⟩ := q1
  subst vq1 hq1
  refine VW.nmI (fun z2 hz2 => ?_)
  have hz2 := ite01 hz2
  show VW θ Q E (zM E A h (sc τ (st2 D 0 0 0))) 0 0 9 [(0, .ref (A 0)), (1, .int (iI law)), (2, .int (iI i)), (3, .int (iI c)), (4, .int (iI z))] [.int (iI z2)]
  refine v_if_ne G 19 ⟨by omega, by omega⟩ (by decide) dX4_setLaw_9 (fun c3 => ?_) (fun c3 => ?_)
  · have gz2 := bT hz2 (by omega)
    refine v_iload_n G 2 rfl rfl dX4_setLaw_19 ?_
    refine v_i2l G ⟨by omega, by omega⟩ dX4_setLaw_20 ?_
    refine v_lconst G (n := 0) (v0 := 0) rfl dX4_setLaw_21 ?_
    refine v_ldc2 G (v := 150) q2155 rfl dX4_setLaw_22 ?_
    refine kX4_168 G (As := [.long (iL i), .long (iL 0), .long (iL 150)]) (rest := []) (cs' := 0) (sl' := 0) (n_isIn G.fl (v := i) (a := 0) (b := 150) ⟨by omega, by omega⟩ ⟨by decide, by decide⟩ ⟨by decide, by decide⟩) rfl rfl (Nat.le_of_ble_eq_true rfl) (zRm.ok rfl) dX4_setLaw_25 (fun vq4 hq4 q4 => ?_)
    obtain ⟨_, _⟩ := q4
    subst vq4 hq4
    refine VW.nmI (fun z5 hz5 => ?_)
    have hz5 := ite01 hz5
    show VW θ Q E (zM E A h (sc τ (st2 D 0 0 0))) 0 0 28 [(0, .ref (A 0)), (1, .int (iI law)), (2, .int (iI i)), (3, .int (iI c)), (4, .int (iI z))] [.int (iI z5)]
    refine v_if_eq G 54 ⟨by omega, by omega⟩ (by decide) dX4_setLaw_28 (fun c6 => ?_) (fun c6 => ?_)
    · have gz5 := bF hz5 (by omega)
      refine v_aload_n G 0 rfl rfl dX4_setLaw_54 ?_
      refine v_iconst G dX4_setLaw_55 ?_
      refine kX4_342 G (As := [.int (iI 2)]) (rest := []) (cs' := 0) (sl' := 0) (n_fails G.fl (τ := τ) (D := st2 D 0 0 0) hA (k := 2)) (zRcv.of G (q := (RX4, TX4, 55)) rfl zM_0) rfl rfl (Nat.le_of_ble_eq_true rfl) (zRm.ok rfl) dX4_setLaw_56 (fun vq7 hq7 q7 => ?_)
      obtain ⟨_, _⟩ := q7
      subst vq7 hq7
      show VW θ Q E (zM E A h (sc τ (st2 (st2 D 0 0 0) 0 0 2))) 0 0 59 [(0, .ref (A 0)), (1, .int (iI law)), (2, .int (iI i)), (3, .int (iI c)), (4, .int (iI z))] [.int (iI 0)]
      refine v_i2l G ⟨by decide, by decide⟩ dX4_setLaw_59 ?_
      have e : oSetLaw τ law i c z = (2, 0, τ) := by
        unfold oSetLaw
        (repeat (first | rw [if_pos (by omega)] | rw [if_neg (by omega)]))
        all_goals rfl
      exact v_lret G hQ (by rw [e]; exact ⟨rfl, st2 (st2 D 0 0 0) 0 0 2, rfl, rfl⟩) (Nat.le_of_ble_eq_true rfl) (Nat.le_of_ble_eq_true rfl) dX4_setLaw_60
    · have gz5 := bT hz5 (by omega)
      refine v_iload_n G 3 rfl rfl dX4_setLaw_31 ?_
      refine v_i2l G ⟨by omega, by omega⟩ dX4_setLaw_32 ?_
      refine v_ldc2 G (v := 50) q2156 rfl dX4_setLaw_33 ?_
      refine v_ldc2 G (v := 200) q2157 rfl dX4_setLaw_36 ?_
      refine kX4_168 G (As := [.long (iL c), .long (iL 50), .long (iL 200)]) (rest := []) (cs' := 0) (sl' := 0) (n_isIn G.fl (v := c) (a := 50) (b := 200) ⟨by omega, by omega⟩ ⟨by decide, by decide⟩ ⟨by decide, by decide⟩) rfl rfl (Nat.le_of_ble_eq_true rfl) (zRm.ok rfl) dX4_setLaw_39 (fun vq8 hq8 q8 => ?_)
      obtain ⟨_, _⟩ := q8
      subst vq8 hq8
      refine VW.nmI (fun z9 hz9 => ?_)
      have hz9 := ite01 hz9
      show VW θ Q E (zM E A h (sc τ (st2 D 0 0 0))) 0 0 42 [(0, .ref (A 0)), (1, .int (iI law)), (2, .int (iI i)), (3, .int (iI c)), (4, .int (iI z))] [.int (iI z9)]
      refine v_if_eq G 54 ⟨by omega, by omega⟩ (by decide) dX4_setLaw_42 (fun c10 => ?_) (fun c10 => ?_)
      · have gz9 := bF hz9 (by omega)
        refine v_aload_n G 0 rfl rfl dX4_setLaw_54 ?_
        refine v_iconst G dX4_setLaw_55 ?_
        refine kX4_342 G (As := [.int (iI 2)]) (rest := []) (cs' := 0) (sl' := 0) (n_fails G.fl (τ := τ) (D := st2 D 0 0 0) hA (k := 2)) (zRcv.of G (q := (RX4, TX4, 55)) rfl zM_0) rfl rfl (Nat.le_of_ble_eq_true rfl) (zRm.ok rfl) dX4_setLaw_56 (fun vq11 hq11 q11 => ?_)
        obtain ⟨_, _⟩ := q11
        subst vq11 hq11
        show VW θ Q E (zM E A h (sc τ (st2 (st2 D 0 0 0) 0 0 2))) 0 0 59 [(0, .ref (A 0)), (1, .int (iI law)), (2, .int (iI i)), (3, .int (iI c)), (4, .int (iI z))] [.int (iI 0)]
        refine v_i2l G ⟨by decide, by decide⟩ dX4_setLaw_59 ?_
        have e : oSetLaw τ law i c z = (2, 0, τ) := by
          unfold oSetLaw
          (repeat (first | rw [if_pos (by omega)] | rw [if_neg (by omega)]))
          all_goals rfl
        exact v_lret G hQ (by rw [e]; exact ⟨rfl, st2 (st2 D 0 0 0) 0 0 2, rfl, rfl⟩) (Nat.le_of_ble_eq_true rfl) (Nat.le_of_ble_eq_true rfl) dX4_setLaw_60
      · have gz9 := bT hz9 (by omega)
        refine v_iload_n G 1 rfl rfl dX4_setLaw_45 ?_
        refine v_if_ne G 61 ⟨by omega, by omega⟩ (by decide) dX4_setLaw_46 (fun c12 => ?_) (fun c12 => ?_)
        · have hl3 : (0 ≤ law ∧ law < 3) ∧ (0 ≤ i ∧ i ≤ 150) ∧ (50 ≤ c ∧ c ≤ 200) ∧ (z = 0 ∨ z = 1) := by omega
          refine v_aload_n G 0 rfl rfl dX4_setLaw_61 ?_
          refine v_iconst G dX4_setLaw_62 ?_
          refine kX4_259 G (As := [.int (iI 0)]) (rest := []) (cs' := 0) (sl' := 0) (n_all G.fl (τ := τ) (D := st2 D 0 0 0) hA (law := 0) ⟨by omega, by omega⟩ (H.law 0 (by omega) (by omega)) H.A) (zRcv.of G (q := (RX4, TX4, 55)) rfl zM_0) rfl rfl (Nat.le_of_ble_eq_true rfl) (zRm.ok rfl) dX4_setLaw_63 (fun vq13 hq13 q13 => ?_)
          obtain ⟨_, D14, hD14, _⟩ := q13
          subst vq13 hq13
          show VW θ Q E (zM E A h (sc τ D14)) 0 0 66 [(0, .ref (A 0)), (1, .int (iI law)), (2, .int (iI i)), (3, .int (iI c)), (4, .int (iI z))] [.long (iL (totT τ 0))]
          refine v_lstore G (L' := [(5, .long (iL (totT τ 0))), (0, .ref (A 0)), (1, .int (iI law)), (2, .int (iI i)), (3, .int (iI c)), (4, .int (iI z))]) (Nat.le_of_ble_eq_true rfl) rfl dX4_setLaw_66 ?_
          refine v_aload_n G 1 rfl rfl dX4_setLaw_68 ?_
          refine gX4_13 G zM_0 (v := .ref (A 18)) rfl dX4_setLaw_69 ?_
          refine v_iload_n G 2 rfl rfl dX4_setLaw_72 ?_
          refine v_iload_n G 3 rfl rfl dX4_setLaw_73 ?_
          refine m_ast G hA rfl ⟨by omega, by show _ < (3 : Int); omega⟩ dX4_setLaw_74 ?_
          refine VW.hpe (congrArg (zM E A h) (sc_t (k := 18) rfl)) ?_
          refine v_aload_n G 1 rfl rfl dX4_setLaw_75 ?_
          refine gX4_17 G zM_0 (v := .ref (A 19)) rfl dX4_setLaw_76 ?_
          refine v_iload_n G 2 rfl rfl dX4_setLaw_79 ?_
          refine v_iload_n G 4 rfl rfl dX4_setLaw_80 ?_
          refine m_ast G hA rfl ⟨by omega, by show _ < (3 : Int); omega⟩ dX4_setLaw_81 ?_
          refine VW.hpe (congrArg (zM E A h) (sc_t (k := 19) rfl)) ?_
          refine v_aload_n G 1 rfl rfl dX4_setLaw_82 ?_
          refine gX4_20 G zM_0 (v := .ref (A 20)) rfl dX4_setLaw_83 ?_
          refine v_iload_n G 2 rfl rfl dX4_setLaw_86 ?_
          refine v_iload G 5 rfl dX4_setLaw_87 ?_
          refine m_zst G hA rfl (by omega) ⟨by omega, by show _ < (3 : Int); omega⟩ dX4_setLaw_89 ?_
          refine VW.hpe (congrArg (zM E A h) (sc_t (k := 20) rfl)) ?_
          refine v_aload_n G 1 rfl rfl dX4_setLaw_90 ?_
          refine gX4_24 G zM_0 (v := .ref (A 21)) rfl dX4_setLaw_91 ?_
          refine v_bipush G rfl dX4_setLaw_94 ?_
          refine v_dup2 G rfl rfl dX4_setLaw_96 ?_
          refine m_lld G hA (v := τ 21 6) rfl ⟨by omega, by show _ < (9 : Int); omega⟩ rfl dX4_setLaw_97 ?_
          refine v_aload_n G 1 rfl rfl dX4_setLaw_98 ?_
          refine v_iconst G dX4_setLaw_99 ?_
          refine kX4_259 G (As := [.int (iI 0)]) (rest := [.long (iL (τ 21 6)), .int (iI 6), .ref (A 21)]) (cs' := 0) (sl' := 0) (n_all G.fl (τ := st2 (st2 (st2 τ 18 law i) 19 law c) 20 law z) (D := D14) hA (law := 0) ⟨by omega, by omega⟩ (slW H hl3 (by omega) (by omega)) (slA H)) (zRcv.of G (q := (RX4, TX4, 55)) rfl zM_0) rfl rfl (Nat.le_of_ble_eq_true rfl) (zRm.ok rfl) dX4_setLaw_100 (fun vq15 hq15 q15 => ?_)
          obtain ⟨_, D16, hD16, _⟩ := q15
          subst vq15 hq15
          show VW θ Q E (zM E A h (sc (st2 (st2 (st2 τ 18 law i) 19 law c) 20 law z) D16)) 0 0 103 [(5, .long (iL (totT τ 0))), (0, .ref (A 0)), (1, .int (iI law)), (2, .int (iI i)), (3, .int (iI c)), (4, .int (iI z))] [.long (iL (totT (st2 (st2 (st2 τ 18 law i) 19 law c) 20 law z) 0)), .long (iL (τ 21 6)), .int (iI 6), .ref (A 21)]
          refine v_lload G 0 rfl dX4_setLaw_103 ?_
          refine v_lsub G dX4_setLaw_105 ?_
          refine v_lsub G dX4_setLaw_106 ?_
          refine m_lst G hA rfl ⟨by omega, by show _ < (9 : Int); omega⟩ dX4_setLaw_107 ?_
          refine VW.hpe (congrArg (zM E A h) (sc_t (k := 21) rfl)) ?_
          refine v_aload_n G 1 rfl rfl dX4_setLaw_108 ?_
          refine v_iload_n G 2 rfl rfl dX4_setLaw_109 ?_
          refine kX4_259 G (As := [.int (iI law)]) (rest := []) (cs' := 0) (sl' := 0) (n_all G.fl (τ := st2 (st2 (st2 (st2 τ 18 law i) 19 law c) 20 law z) 21 6 ((τ 21 6) - ((totT (st2 (st2 (st2 τ 18 law i) 19 law c) 20 law z) 0) - (totT τ 0)))) (D := D16) hA (law := law) ⟨by omega, by omega⟩ (slW (i := i) (c := c) (z := z) H hl3 hl3.1.1 hl3.1.2) (show okA (slT τ law i c z) from slA H)) (zRcv.of G (q := (RX4, TX4, 55)) rfl zM_0) rfl rfl (Nat.le_of_ble_eq_true rfl) (zRm.ok rfl) dX4_setLaw_110 (fun vq17 hq17 q17 => ?_)
          obtain ⟨_, D18, hD18, _⟩ := q17
          subst vq17 hq17
          show VW θ Q E (zM E A h (sc (st2 (st2 (st2 (st2 τ 18 law i) 19 law c) 20 law z) 21 6 ((τ 21 6) - ((totT (st2 (st2 (st2 τ 18 law i) 19 law c) 20 law z) 0) - (totT τ 0)))) D18)) 0 0 113 [(5, .long (iL (totT τ 0))), (0, .ref (A 0)), (1, .int (iI law)), (2, .int (iI i)), (3, .int (iI c)), (4, .int (iI z))] [.long (iL (totT (st2 (st2 (st2 (st2 τ 18 law i) 19 law c) 20 law z) 21 6 ((τ 21 6) - ((totT (st2 (st2 (st2 τ 18 law i) 19 law c) 20 law z) 0) - (totT τ 0)))) law))]
          have e : oSetLaw τ law i c z = (0, (totT (st2 (st2 (st2 (st2 τ 18 law i) 19 law c) 20 law z) 21 6 ((τ 21 6) - ((totT (st2 (st2 (st2 τ 18 law i) 19 law c) 20 law z) 0) - (totT τ 0)))) law), st2 (st2 (st2 (st2 τ 18 law i) 19 law c) 20 law z) 21 6 ((τ 21 6) - ((totT (st2 (st2 (st2 τ 18 law i) 19 law c) 20 law z) 0) - (totT τ 0)))) := by
            unfold oSetLaw
            (repeat (first | rw [if_pos (by omega)] | rw [if_neg (by omega)]))
            all_goals rfl
          exact v_lret G hQ (by rw [e]; exact ⟨rfl, D18, ((congrFun (((hD14.trans hD16).trans hD18) 0 (Or.inl (by decide))) 0)), rfl⟩) (Nat.le_of_ble_eq_true rfl) (Nat.le_of_ble_eq_true rfl) dX4_setLaw_113
        · refine v_iload G 4 rfl dX4_setLaw_49 ?_
          refine v_if_eq G 61 ⟨by omega, by omega⟩ (by decide) dX4_setLaw_51 (fun c19 => ?_) (fun c19 => ?_)
          · have hl3 : (0 ≤ law ∧ law < 3) ∧ (0 ≤ i ∧ i ≤ 150) ∧ (50 ≤ c ∧ c ≤ 200) ∧ (z = 0 ∨ z = 1) := by omega
            refine v_aload_n G 0 rfl rfl dX4_setLaw_61 ?_
            refine v_iconst G dX4_setLaw_62 ?_
            refine kX4_259 G (As := [.int (iI 0)]) (rest := []) (cs' := 0) (sl' := 0) (n_all G.fl (τ := τ) (D := st2 D 0 0 0) hA (law := 0) ⟨by omega, by omega⟩ (H.law 0 (by omega) (by omega)) H.A) (zRcv.of G (q := (RX4, TX4, 55)) rfl zM_0) rfl rfl (Nat.le_of_ble_eq_true rfl) (zRm.ok rfl) dX4_setLaw_63 (fun vq20 hq20 q20 => ?_)
            obtain ⟨_, D21, hD21, _⟩ := q20
            subst vq20 hq20
            show VW θ Q E (zM E A h (sc τ D21)) 0 0 66 [(0, .ref (A 0)), (1, .int (iI law)), (2, .int (iI i)), (3, .int (iI c)), (4, .int (iI z))] [.long (iL (totT τ 0))]
            refine v_lstore G (L' := [(5, .long (iL (totT τ 0))), (0, .ref (A 0)), (1, .int (iI law)), (2, .int (iI i)), (3, .int (iI c)), (4, .int (iI z))]) (Nat.le_of_ble_eq_true rfl) rfl dX4_setLaw_66 ?_
            refine v_aload_n G 1 rfl rfl dX4_setLaw_68 ?_
            refine gX4_13 G zM_0 (v := .ref (A 18)) rfl dX4_setLaw_69 ?_
            refine v_iload_n G 2 rfl rfl dX4_setLaw_72 ?_
            refine v_iload_n G 3 rfl rfl dX4_setLaw_73 ?_
            refine m_ast G hA rfl ⟨by omega, by show _ < (3 : Int); omega⟩ dX4_setLaw_74 ?_
            refine VW.hpe (congrArg (zM E A h) (sc_t (k := 18) rfl)) ?_
            refine v_aload_n G 1 rfl rfl dX4_setLaw_75 ?_
            refine gX4_17 G zM_0 (v := .ref (A 19)) rfl dX4_setLaw_76 ?_
            refine v_iload_n G 2 rfl rfl dX4_setLaw_79 ?_
            refine v_iload_n G 4 rfl rfl dX4_setLaw_80 ?_
            refine m_ast G hA rfl ⟨by omega, by show _ < (3 : Int); omega⟩ dX4_setLaw_81 ?_
            refine VW.hpe (congrArg (zM E A h) (sc_t (k := 19) rfl)) ?_
            refine v_aload_n G 1 rfl rfl dX4_setLaw_82 ?_
            refine gX4_20 G zM_0 (v := .ref (A 20)) rfl dX4_setLaw_83 ?_
            refine v_iload_n G 2 rfl rfl dX4_setLaw_86 ?_
            refine v_iload G 5 rfl dX4_setLaw_87 ?_
            refine m_zst G hA rfl (by omega) ⟨by omega, by show _ < (3 : Int); omega⟩ dX4_setLaw_89 ?_
            refine VW.hpe (congrArg (zM E A h) (sc_t (k := 20) rfl)) ?_
            refine v_aload_n G 1 rfl rfl dX4_setLaw_90 ?_
            refine gX4_24 G zM_0 (v := .ref (A 21)) rfl dX4_setLaw_91 ?_
            refine v_bipush G rfl dX4_setLaw_94 ?_
            refine v_dup2 G rfl rfl dX4_setLaw_96 ?_
            refine m_lld G hA (v := τ 21 6) rfl ⟨by omega, by show _ < (9 : Int); omega⟩ rfl dX4_setLaw_97 ?_
            refine v_aload_n G 1 rfl rfl dX4_setLaw_98 ?_
            refine v_iconst G dX4_setLaw_99 ?_
            refine kX4_259 G (As := [.int (iI 0)]) (rest := [.long (iL (τ 21 6)), .int (iI 6), .ref (A 21)]) (cs' := 0) (sl' := 0) (n_all G.fl (τ := st2 (st2 (st2 τ 18 law i) 19 law c) 20 law z) (D := D21) hA (law := 0) ⟨by omega, by omega⟩ (slW H hl3 (by omega) (by omega)) (slA H)) (zRcv.of G (q := (RX4, TX4, 55)) rfl zM_0) rfl rfl (Nat.le_of_ble_eq_true rfl) (zRm.ok rfl) dX4_setLaw_100 (fun vq22 hq22 q22 => ?_)
            obtain ⟨_, D23, hD23, _⟩ := q22
            subst vq22 hq22
            show VW θ Q E (zM E A h (sc (st2 (st2 (st2 τ 18 law i) 19 law c) 20 law z) D23)) 0 0 103 [(5, .long (iL (totT τ 0))), (0, .ref (A 0)), (1, .int (iI law)), (2, .int (iI i)), (3, .int (iI c)), (4, .int (iI z))] [.long (iL (totT (st2 (st2 (st2 τ 18 law i) 19 law c) 20 law z) 0)), .long (iL (τ 21 6)), .int (iI 6), .ref (A 21)]
            refine v_lload G 0 rfl dX4_setLaw_103 ?_
            refine v_lsub G dX4_setLaw_105 ?_
            refine v_lsub G dX4_setLaw_106 ?_
            refine m_lst G hA rfl ⟨by omega, by show _ < (9 : Int); omega⟩ dX4_setLaw_107 ?_
            refine VW.hpe (congrArg (zM E A h) (sc_t (k := 21) rfl)) ?_
            refine v_aload_n G 1 rfl rfl dX4_setLaw_108 ?_
            refine v_iload_n G 2 rfl rfl dX4_setLaw_109 ?_
            refine kX4_259 G (As := [.int (iI law)]) (rest := []) (cs' := 0) (sl' := 0) (n_all G.fl (τ := st2 (st2 (st2 (st2 τ 18 law i) 19 law c) 20 law z) 21 6 ((τ 21 6) - ((totT (st2 (st2 (st2 τ 18 law i) 19 law c) 20 law z) 0) - (totT τ 0)))) (D := D23) hA (law := law) ⟨by omega, by omega⟩ (slW (i := i) (c := c) (z := z) H hl3 hl3.1.1 hl3.1.2) (show okA (slT τ law i c z) from slA H)) (zRcv.of G (q := (RX4, TX4, 55)) rfl zM_0) rfl rfl (Nat.le_of_ble_eq_true rfl) (zRm.ok rfl) dX4_setLaw_110 (fun vq24 hq24 q24 => ?_)
            obtain ⟨_, D25, hD25, _⟩ := q24
            subst vq24 hq24
            show VW θ Q E (zM E A h (sc (st2 (st2 (st2 (st2 τ 18 law i) 19 law c) 20 law z) 21 6 ((τ 21 6) - ((totT (st2 (st2 (st2 τ 18 law i) 19 law c) 20 law z) 0) - (totT τ 0)))) D25)) 0 0 113 [(5, .long (iL (totT τ 0))), (0, .ref (A 0)), (1, .int (iI law)), (2, .int (iI i)), (3, .int (iI c)), (4, .int (iI z))] [.long (iL (totT (st2 (st2 (st2 (st2 τ 18 law i) 19 law c) 20 law z) 21 6 ((τ 21 6) - ((totT (st2 (st2 (st2 τ 18 law i) 19 law c) 20 law z) 0) - (totT τ 0)))) law))]
            have e : oSetLaw τ law i c z = (0, (totT (st2 (st2 (st2 (st2 τ 18 law i) 19 law c) 20 law z) 21 6 ((τ 21 6) - ((totT (st2 (st2 (st2 τ 18 law i) 19 law c) 20 law z) 0) - (totT τ 0)))) law), st2 (st2 (st2 (st2 τ 18 law i) 19 law c) 20 law z) 21 6 ((τ 21 6) - ((totT (st2 (st2 (st2 τ 18 law i) 19 law c) 20 law z) 0) - (totT τ 0)))) := by
              unfold oSetLaw
              (repeat (first | rw [if_pos (by omega)] | rw [if_neg (by omega)]))
              all_goals rfl
            exact v_lret G hQ (by rw [e]; exact ⟨rfl, D25, ((congrFun (((hD21.trans hD23).trans hD25) 0 (Or.inl (by decide))) 0)), rfl⟩) (Nat.le_of_ble_eq_true rfl) (Nat.le_of_ble_eq_true rfl) dX4_setLaw_113
          · refine v_aload_n G 0 rfl rfl dX4_setLaw_54 ?_
            refine v_iconst G dX4_setLaw_55 ?_
            refine kX4_342 G (As := [.int (iI 2)]) (rest := []) (cs' := 0) (sl' := 0) (n_fails G.fl (τ := τ) (D := st2 D 0 0 0) hA (k := 2)) (zRcv.of G (q := (RX4, TX4, 55)) rfl zM_0) rfl rfl (Nat.le_of_ble_eq_true rfl) (zRm.ok rfl) dX4_setLaw_56 (fun vq26 hq26 q26 => ?_)
            obtain ⟨_, _⟩ := q26
            subst vq26 hq26
            show VW θ Q E (zM E A h (sc τ (st2 (st2 D 0 0 0) 0 0 2))) 0 0 59 [(0, .ref (A 0)), (1, .int (iI law)), (2, .int (iI i)), (3, .int (iI c)), (4, .int (iI z))] [.int (iI 0)]
            refine v_i2l G ⟨by decide, by decide⟩ dX4_setLaw_59 ?_
            have e : oSetLaw τ law i c z = (2, 0, τ) := by
              unfold oSetLaw
              (repeat (first | rw [if_pos (by omega)] | rw [if_neg (by omega)]))
              all_goals rfl
            exact v_lret G hQ (by rw [e]; exact ⟨rfl, st2 (st2 D 0 0 0) 0 0 2, rfl, rfl⟩) (Nat.le_of_ble_eq_true rfl) (Nat.le_of_ble_eq_true rfl) dX4_setLaw_60
  · have gz2 := bF hz2 (by omega)
    refine v_aload_n G 0 rfl rfl dX4_setLaw_12 ?_
    refine v_iconst G dX4_setLaw_13 ?_
    refine kX4_342 G (As := [.int (iI 1)]) (rest := []) (cs' := 0) (sl' := 0) (n_fails G.fl (τ := τ) (D := st2 D 0 0 0) hA (k := 1)) (zRcv.of G (q := (RX4, TX4, 55)) rfl zM_0) rfl rfl (Nat.le_of_ble_eq_true rfl) (zRm.ok rfl) dX4_setLaw_14 (fun vq27 hq27 q27 => ?_)
    obtain ⟨_, _⟩ := q27
    subst vq27 hq27
    show VW θ Q E (zM E A h (sc τ (st2 (st2 D 0 0 0) 0 0 1))) 0 0 17 [(0, .ref (A 0)), (1, .int (iI law)), (2, .int (iI i)), (3, .int (iI c)), (4, .int (iI z))] [.int (iI 0)]
    refine v_i2l G ⟨by decide, by decide⟩ dX4_setLaw_17 ?_
    have e : oSetLaw τ law i c z = (1, 0, τ) := by
      unfold oSetLaw
      (repeat (first | rw [if_pos (by omega)] | rw [if_neg (by omega)]))
      all_goals rfl
    exact v_lret G hQ (by rw [e]; exact ⟨rfl, st2 (st2 D 0 0 0) 0 0 1, rfl, rfl⟩) (Nat.le_of_ble_eq_true rfl) (Nat.le_of_ble_eq_true rfl) dX4_setLaw_18

set_option maxHeartbeats 4000000 in
theorem o_load {l : Launch} (hfl : l.stackTraces = false) {E : zEn} {h : zHp} {A : Nat → Nat} {τ D : mMem} (hA : mInj A) (H : okT τ) {a : Int} (nna : n32 a) {b : Int} (nnb : n32 b)  : CN l E yX4_setLoading (ws_ yX4_setLoading cX4_setLoading 4 (some FieldType.int)) ({ frames := 1, cells := 0, slots := 0, locals := 25 } : Room) [.ref (A 0), .int (iI a), .int (iI b)] (zM E A h (sc τ D)) (zOI E A h (oLoad τ a b)) := by
  refine CN.of (by decide +kernel) hfl (Nat.le_of_ble_eq_true rfl) fun θ Q hl G hin hQ => ?_
  subst hl
  show VW θ Q E (zM E A h (sc τ D)) 0 0 0 [(0, .ref (A 0)), (1, .int (iI a)), (2, .int (iI b))] []
  have hm := H.many
  have hyr := H.year
  have hn := H.nums
  have hi := H.imp
  have hbt := H.bits
  refine v_aload_n G 0 rfl rfl dX4_setLoading_0 ?_
  refine v_iconst G dX4_setLoading_1 ?_
  refine pX4_1 G zM_0 (Nat.le_of_ble_eq_true rfl) dX4_setLoading_2 ?_
  refine VW.hpe (zM_up0 (k := 0) (z := 0) rfl (by decide)) ?_
  refine VW.hpe (congrArg (zM E A h) (sc_D (k := 0) rfl)) ?_
  refine v_iload_n G 1 rfl rfl dX4_setLoading_5 ?_
  refine v_i2l G ⟨by omega, by omega⟩ dX4_setLoading_6 ?_
  refine v_lconst G (n := 0) (v0 := 0) rfl dX4_setLoading_7 ?_
  refine v_ldc2 G (v := 500) q2207 rfl dX4_setLoading_8 ?_
  refine kX4_168 G (As := [.long (iL a), .long (iL 0), .long (iL 500)]) (rest := []) (cs' := 0) (sl' := 0) (n_isIn G.fl (v := a) (a := 0) (b := 500) ⟨by omega, by omega⟩ ⟨by decide, by decide⟩ ⟨by decide, by decide⟩) rfl rfl (Nat.le_of_ble_eq_true rfl) (zRm.ok rfl) dX4_setLoading_11 (fun vq1 hq1 q1 => ?_)
  obtain ⟨_, _⟩ := q1
  subst vq1 hq1
  refine VW.nmI (fun z2 hz2 => ?_)
  have hz2 := ite01 hz2
  show VW θ Q E (zM E A h (sc τ (st2 D 0 0 0))) 0 0 14 [(0, .ref (A 0)), (1, .int (iI a)), (2, .int (iI b))] [.int (iI z2)]
  refine v_if_eq G 29 ⟨by omega, by omega⟩ (by decide) dX4_setLoading_14 (fun c3 => ?_) (fun c3 => ?_)
  · have gz2 := bF hz2 (by omega)
    refine v_aload_n G 0 rfl rfl dX4_setLoading_29 ?_
    refine v_iconst G dX4_setLoading_30 ?_
    refine kX4_342 G (As := [.int (iI 1)]) (rest := []) (cs' := 0) (sl' := 0) (n_fails G.fl (τ := τ) (D := st2 D 0 0 0) hA (k := 1)) (zRcv.of G (q := (RX4, TX4, 55)) rfl zM_0) rfl rfl (Nat.le_of_ble_eq_true rfl) (zRm.ok rfl) dX4_setLoading_31 (fun vq4 hq4 q4 => ?_)
    obtain ⟨_, _⟩ := q4
    subst vq4 hq4
    show VW θ Q E (zM E A h (sc τ (st2 (st2 D 0 0 0) 0 0 1))) 0 0 34 [(0, .ref (A 0)), (1, .int (iI a)), (2, .int (iI b))] [.int (iI 0)]
    have e : oLoad τ a b = (1, 0, τ) := by
      unfold oLoad
      (repeat (first | rw [if_pos (by omega)] | rw [if_neg (by omega)]))
      all_goals rfl
    exact v_iret G hQ (by rw [e]; exact ⟨rfl, st2 (st2 D 0 0 0) 0 0 1, rfl, rfl⟩) (Nat.le_of_ble_eq_true rfl) (Nat.le_of_ble_eq_true rfl) dX4_setLoading_34
  · have gz2 := bT hz2 (by omega)
    refine v_iload_n G 2 rfl rfl dX4_setLoading_17 ?_
    refine v_i2l G ⟨by omega, by omega⟩ dX4_setLoading_18 ?_
    refine v_lconst G (n := 0) (v0 := 0) rfl dX4_setLoading_19 ?_
    refine v_ldc2 G (v := 1000) q2190 rfl dX4_setLoading_20 ?_
    refine kX4_168 G (As := [.long (iL b), .long (iL 0), .long (iL 1000)]) (rest := []) (cs' := 0) (sl' := 0) (n_isIn G.fl (v := b) (a := 0) (b := 1000) ⟨by omega, by omega⟩ ⟨by decide, by decide⟩ ⟨by decide, by decide⟩) rfl rfl (Nat.le_of_ble_eq_true rfl) (zRm.ok rfl) dX4_setLoading_23 (fun vq5 hq5 q5 => ?_)
    obtain ⟨_, _⟩ := q5
    subst vq5 hq5
    refine VW.nmI (fun z6 hz6 => ?_)
    have hz6 := ite01 hz6
    show VW θ Q E (zM E A h (sc τ (st2 D 0 0 0))) 0 0 26 [(0, .ref (A 0)), (1, .int (iI a)), (2, .int (iI b))] [.int (iI z6)]
    refine v_if_ne G 35 ⟨by omega, by omega⟩ (by decide) dX4_setLoading_26 (fun c7 => ?_) (fun c7 => ?_)
    · have gz6 := bT hz6 (by omega)
      refine v_aload_n G 0 rfl rfl dX4_setLoading_35 ?_
      refine gX4_124 G zM_0 (v := .int (iI (τ 3 0))) rfl dX4_setLoading_36 ?_
      refine v_istore_n G (L' := [(3, .int (iI (τ 3 0))), (0, .ref (A 0)), (1, .int (iI a)), (2, .int (iI b))]) rfl (Nat.le_of_ble_eq_true rfl) rfl dX4_setLoading_39 ?_
      refine v_aload_n G 1 rfl rfl dX4_setLoading_40 ?_
      refine v_iload_n G 2 rfl rfl dX4_setLoading_41 ?_
      refine pX4_124 G zM_0 (Nat.le_of_ble_eq_true rfl) dX4_setLoading_42 ?_
      refine VW.hpe (zM_up0 (k := 3) (z := a) rfl (by decide)) ?_
      refine VW.hpe (congrArg (zM E A h) (sc_t (k := 3) rfl)) ?_
      refine v_aload_n G 1 rfl rfl dX4_setLoading_45 ?_
      refine v_iload_n G 3 rfl rfl dX4_setLoading_46 ?_
      refine pX4_127 G zM_0 (Nat.le_of_ble_eq_true rfl) dX4_setLoading_47 ?_
      refine VW.hpe (zM_up0 (k := 4) (z := b) rfl (by decide)) ?_
      refine VW.hpe (congrArg (zM E A h) (sc_t (k := 4) rfl)) ?_
      refine v_iload_n G 0 rfl rfl dX4_setLoading_50 ?_
      have e : oLoad τ a b = (0, (τ 3 0), st2 (st2 τ 3 0 a) 4 0 b) := by
        unfold oLoad
        (repeat (first | rw [if_pos (by omega)] | rw [if_neg (by omega)]))
        all_goals rfl
      exact v_iret G hQ (by rw [e]; exact ⟨rfl, st2 D 0 0 0, rfl, rfl⟩) (Nat.le_of_ble_eq_true rfl) (Nat.le_of_ble_eq_true rfl) dX4_setLoading_51
    · have gz6 := bF hz6 (by omega)
      refine v_aload_n G 0 rfl rfl dX4_setLoading_29 ?_
      refine v_iconst G dX4_setLoading_30 ?_
      refine kX4_342 G (As := [.int (iI 1)]) (rest := []) (cs' := 0) (sl' := 0) (n_fails G.fl (τ := τ) (D := st2 D 0 0 0) hA (k := 1)) (zRcv.of G (q := (RX4, TX4, 55)) rfl zM_0) rfl rfl (Nat.le_of_ble_eq_true rfl) (zRm.ok rfl) dX4_setLoading_31 (fun vq8 hq8 q8 => ?_)
      obtain ⟨_, _⟩ := q8
      subst vq8 hq8
      show VW θ Q E (zM E A h (sc τ (st2 (st2 D 0 0 0) 0 0 1))) 0 0 34 [(0, .ref (A 0)), (1, .int (iI a)), (2, .int (iI b))] [.int (iI 0)]
      have e : oLoad τ a b = (1, 0, τ) := by
        unfold oLoad
        (repeat (first | rw [if_pos (by omega)] | rw [if_neg (by omega)]))
        all_goals rfl
      exact v_iret G hQ (by rw [e]; exact ⟨rfl, st2 (st2 D 0 0 0) 0 0 1, rfl, rfl⟩) (Nat.le_of_ble_eq_true rfl) (Nat.le_of_ble_eq_true rfl) dX4_setLoading_34

set_option maxHeartbeats 4000000 in
theorem o_mort {l : Launch} (hfl : l.stackTraces = false) {E : zEn} {h : zHp} {A : Nat → Nat} {τ D : mMem} (hA : mInj A) (H : okT τ) {law : Int} (nnlaw : n32 law) {fl : Int} (nnfl : n32 fl) {b : Int} (nnb : n32 b) {y : Int} (nny : n32 y) {py : Int} (nnpy : n32 py)  : CN l E yX4_mortality (ws_ yX4_mortality cX4_mortality 6 (some FieldType.int)) ({ frames := 2, cells := 0, slots := 0, locals := 53 } : Room) [.ref (A 0), .int (iI law), .int (iI fl), .int (iI b), .int (iI y), .int (iI py)] (zM E A h (sc τ D)) (zOI E A h (oMort τ law fl b y py)) := by
  refine CN.of (by decide +kernel) hfl (Nat.le_of_ble_eq_true rfl) fun θ Q hl G hin hQ => ?_
  subst hl
  show VW θ Q E (zM E A h (sc τ D)) 0 0 0 [(0, .ref (A 0)), (1, .int (iI law)), (2, .int (iI fl)), (3, .int (iI b)), (4, .int (iI y)), (5, .int (iI py))] []
  have hm := H.many
  have hyr := H.year
  have hn := H.nums
  have hi := H.imp
  have hbt := H.bits
  refine v_aload_n G 0 rfl rfl dX4_mortality_0 ?_
  refine v_iconst G dX4_mortality_1 ?_
  refine pX4_1 G zM_0 (Nat.le_of_ble_eq_true rfl) dX4_mortality_2 ?_
  refine VW.hpe (zM_up0 (k := 0) (z := 0) rfl (by decide)) ?_
  refine VW.hpe (congrArg (zM E A h) (sc_D (k := 0) rfl)) ?_
  refine v_iload_n G 1 rfl rfl dX4_mortality_5 ?_
  refine kX4_346 G (As := [.int (iI law)]) (rest := []) (cs' := 0) (sl' := 0) (n_isLaw G.fl (p := law) ⟨by omega, by omega⟩) rfl rfl (Nat.le_of_ble_eq_true rfl) (zRm.ok rfl) dX4_mortality_6 (fun vq1 hq1 q1 => ?_)
  obtain ⟨_, _⟩ := q1
  subst vq1 hq1
  refine VW.nmI (fun z2 hz2 => ?_)
  have hz2 := ite01 hz2
  show VW θ Q E (zM E A h (sc τ (st2 D 0 0 0))) 0 0 9 [(0, .ref (A 0)), (1, .int (iI law)), (2, .int (iI fl)), (3, .int (iI b)), (4, .int (iI y)), (5, .int (iI py))] [.int (iI z2)]
  refine v_if_ne G 18 ⟨by omega, by omega⟩ (by decide) dX4_mortality_9 (fun c3 => ?_) (fun c3 => ?_)
  · have gz2 := bT hz2 (by omega)
    refine v_iload_n G 2 rfl rfl dX4_mortality_18 ?_
    refine v_i2l G ⟨by omega, by omega⟩ dX4_mortality_19 ?_
    refine v_lconst G (n := 0) (v0 := 0) rfl dX4_mortality_20 ?_
    refine v_ldc2 G (v := 3) q2188 rfl dX4_mortality_21 ?_
    refine kX4_168 G (As := [.long (iL fl), .long (iL 0), .long (iL 3)]) (rest := []) (cs' := 0) (sl' := 0) (n_isIn G.fl (v := fl) (a := 0) (b := 3) ⟨by omega, by omega⟩ ⟨by decide, by decide⟩ ⟨by decide, by decide⟩) rfl rfl (Nat.le_of_ble_eq_true rfl) (zRm.ok rfl) dX4_mortality_24 (fun vq4 hq4 q4 => ?_)
    obtain ⟨_, _⟩ := q4
    subst vq4 hq4
    refine VW.nmI (fun z5 hz5 => ?_)
    have hz5 := ite01 hz5
    show VW θ Q E (zM E A h (sc τ (st2 D 0 0 0))) 0 0 27 [(0, .ref (A 0)), (1, .int (iI law)), (2, .int (iI fl)), (3, .int (iI b)), (4, .int (iI y)), (5, .int (iI py))] [.int (iI z5)]
    refine v_if_eq G 71 ⟨by omega, by omega⟩ (by decide) dX4_mortality_27 (fun c6 => ?_) (fun c6 => ?_)
    · have gz5 := bF hz5 (by omega)
      refine v_aload_n G 0 rfl rfl dX4_mortality_71 ?_
      refine v_iconst G dX4_mortality_72 ?_
      refine kX4_342 G (As := [.int (iI 2)]) (rest := []) (cs' := 0) (sl' := 0) (n_fails G.fl (τ := τ) (D := st2 D 0 0 0) hA (k := 2)) (zRcv.of G (q := (RX4, TX4, 55)) rfl zM_0) rfl rfl (Nat.le_of_ble_eq_true rfl) (zRm.ok rfl) dX4_mortality_73 (fun vq7 hq7 q7 => ?_)
      obtain ⟨_, _⟩ := q7
      subst vq7 hq7
      show VW θ Q E (zM E A h (sc τ (st2 (st2 D 0 0 0) 0 0 2))) 0 0 76 [(0, .ref (A 0)), (1, .int (iI law)), (2, .int (iI fl)), (3, .int (iI b)), (4, .int (iI y)), (5, .int (iI py))] [.int (iI 0)]
      have e : oMort τ law fl b y py = (2, 0, τ) := by
        unfold oMort
        (repeat (first | rw [if_pos (by omega)] | rw [if_neg (by omega)]))
        all_goals rfl
      exact v_iret G hQ (by rw [e]; exact ⟨rfl, st2 (st2 D 0 0 0) 0 0 2, rfl, rfl⟩) (Nat.le_of_ble_eq_true rfl) (Nat.le_of_ble_eq_true rfl) dX4_mortality_76
    · have gz5 := bT hz5 (by omega)
      refine v_iload_n G 3 rfl rfl dX4_mortality_30 ?_
      refine v_i2l G ⟨by omega, by omega⟩ dX4_mortality_31 ?_
      refine v_ldc2 G (v := 1800) q2212 rfl dX4_mortality_32 ?_
      refine v_ldc2 G (v := 2150) q2213 rfl dX4_mortality_35 ?_
      refine kX4_168 G (As := [.long (iL b), .long (iL 1800), .long (iL 2150)]) (rest := []) (cs' := 0) (sl' := 0) (n_isIn G.fl (v := b) (a := 1800) (b := 2150) ⟨by omega, by omega⟩ ⟨by decide, by decide⟩ ⟨by decide, by decide⟩) rfl rfl (Nat.le_of_ble_eq_true rfl) (zRm.ok rfl) dX4_mortality_38 (fun vq8 hq8 q8 => ?_)
      obtain ⟨_, _⟩ := q8
      subst vq8 hq8
      refine VW.nmI (fun z9 hz9 => ?_)
      have hz9 := ite01 hz9
      show VW θ Q E (zM E A h (sc τ (st2 D 0 0 0))) 0 0 41 [(0, .ref (A 0)), (1, .int (iI law)), (2, .int (iI fl)), (3, .int (iI b)), (4, .int (iI y)), (5, .int (iI py))] [.int (iI z9)]
      refine v_if_eq G 71 ⟨by omega, by omega⟩ (by decide) dX4_mortality_41 (fun c10 => ?_) (fun c10 => ?_)
      · have gz9 := bF hz9 (by omega)
        refine v_aload_n G 0 rfl rfl dX4_mortality_71 ?_
        refine v_iconst G dX4_mortality_72 ?_
        refine kX4_342 G (As := [.int (iI 2)]) (rest := []) (cs' := 0) (sl' := 0) (n_fails G.fl (τ := τ) (D := st2 D 0 0 0) hA (k := 2)) (zRcv.of G (q := (RX4, TX4, 55)) rfl zM_0) rfl rfl (Nat.le_of_ble_eq_true rfl) (zRm.ok rfl) dX4_mortality_73 (fun vq11 hq11 q11 => ?_)
        obtain ⟨_, _⟩ := q11
        subst vq11 hq11
        show VW θ Q E (zM E A h (sc τ (st2 (st2 D 0 0 0) 0 0 2))) 0 0 76 [(0, .ref (A 0)), (1, .int (iI law)), (2, .int (iI fl)), (3, .int (iI b)), (4, .int (iI y)), (5, .int (iI py))] [.int (iI 0)]
        have e : oMort τ law fl b y py = (2, 0, τ) := by
          unfold oMort
          (repeat (first | rw [if_pos (by omega)] | rw [if_neg (by omega)]))
          all_goals rfl
        exact v_iret G hQ (by rw [e]; exact ⟨rfl, st2 (st2 D 0 0 0) 0 0 2, rfl, rfl⟩) (Nat.le_of_ble_eq_true rfl) (Nat.le_of_ble_eq_true rfl) dX4_mortality_76
      · have gz9 := bT hz9 (by omega)
        refine v_iload G 4 rfl dX4_mortality_44 ?_
        refine v_i2l G ⟨by omega, by omega⟩ dX4_mortality_46 ?_
        refine v_iload_n G 3 rfl rfl dX4_mortality_47 ?_
        refine v_i2l G ⟨by omega, by omega⟩ dX4_mortality_48 ?_
        refine v_ldc2 G (v := 2260) q2214 rfl dX4_mortality_49 ?_
        refine kX4_168 G (As := [.long (iL y), .long (iL b), .long (iL 2260)]) (rest := []) (cs' := 0) (sl' := 0) (n_isIn G.fl (v := y) (a := b) (b := 2260) ⟨by omega, by omega⟩ ⟨by omega, by omega⟩ ⟨by decide, by decide⟩) rfl rfl (Nat.le_of_ble_eq_true rfl) (zRm.ok rfl) dX4_mortality_52 (fun vq12 hq12 q12 => ?_)
        obtain ⟨_, _⟩ := q12
        subst vq12 hq12
        refine VW.nmI (fun z13 hz13 => ?_)
        have hz13 := ite01 hz13
        show VW θ Q E (zM E A h (sc τ (st2 D 0 0 0))) 0 0 55 [(0, .ref (A 0)), (1, .int (iI law)), (2, .int (iI fl)), (3, .int (iI b)), (4, .int (iI y)), (5, .int (iI py))] [.int (iI z13)]
        refine v_if_eq G 71 ⟨by omega, by omega⟩ (by decide) dX4_mortality_55 (fun c14 => ?_) (fun c14 => ?_)
        · have gz13 := bF hz13 (by omega)
          refine v_aload_n G 0 rfl rfl dX4_mortality_71 ?_
          refine v_iconst G dX4_mortality_72 ?_
          refine kX4_342 G (As := [.int (iI 2)]) (rest := []) (cs' := 0) (sl' := 0) (n_fails G.fl (τ := τ) (D := st2 D 0 0 0) hA (k := 2)) (zRcv.of G (q := (RX4, TX4, 55)) rfl zM_0) rfl rfl (Nat.le_of_ble_eq_true rfl) (zRm.ok rfl) dX4_mortality_73 (fun vq15 hq15 q15 => ?_)
          obtain ⟨_, _⟩ := q15
          subst vq15 hq15
          show VW θ Q E (zM E A h (sc τ (st2 (st2 D 0 0 0) 0 0 2))) 0 0 76 [(0, .ref (A 0)), (1, .int (iI law)), (2, .int (iI fl)), (3, .int (iI b)), (4, .int (iI y)), (5, .int (iI py))] [.int (iI 0)]
          have e : oMort τ law fl b y py = (2, 0, τ) := by
            unfold oMort
            (repeat (first | rw [if_pos (by omega)] | rw [if_neg (by omega)]))
            all_goals rfl
          exact v_iret G hQ (by rw [e]; exact ⟨rfl, st2 (st2 D 0 0 0) 0 0 2, rfl, rfl⟩) (Nat.le_of_ble_eq_true rfl) (Nat.le_of_ble_eq_true rfl) dX4_mortality_76
        · have gz13 := bT hz13 (by omega)
          refine v_iload G 5 rfl dX4_mortality_58 ?_
          refine v_i2l G ⟨by omega, by omega⟩ dX4_mortality_60 ?_
          refine v_lconst G (n := 0) (v0 := 0) rfl dX4_mortality_61 ?_
          refine v_ldc2 G (v := 200) q2157 rfl dX4_mortality_62 ?_
          refine kX4_168 G (As := [.long (iL py), .long (iL 0), .long (iL 200)]) (rest := []) (cs' := 0) (sl' := 0) (n_isIn G.fl (v := py) (a := 0) (b := 200) ⟨by omega, by omega⟩ ⟨by decide, by decide⟩ ⟨by decide, by decide⟩) rfl rfl (Nat.le_of_ble_eq_true rfl) (zRm.ok rfl) dX4_mortality_65 (fun vq16 hq16 q16 => ?_)
          obtain ⟨_, _⟩ := q16
          subst vq16 hq16
          refine VW.nmI (fun z17 hz17 => ?_)
          have hz17 := ite01 hz17
          show VW θ Q E (zM E A h (sc τ (st2 D 0 0 0))) 0 0 68 [(0, .ref (A 0)), (1, .int (iI law)), (2, .int (iI fl)), (3, .int (iI b)), (4, .int (iI y)), (5, .int (iI py))] [.int (iI z17)]
          refine v_if_ne G 77 ⟨by omega, by omega⟩ (by decide) dX4_mortality_68 (fun c18 => ?_) (fun c18 => ?_)
          · have gz17 := bT hz17 (by omega)
            refine v_aload_n G 0 rfl rfl dX4_mortality_77 ?_
            refine v_iload_n G 1 rfl rfl dX4_mortality_78 ?_
            refine v_iload_n G 2 rfl rfl dX4_mortality_79 ?_
            refine v_iload_n G 3 rfl rfl dX4_mortality_80 ?_
            refine v_iload G 4 rfl dX4_mortality_81 ?_
            refine v_iload G 5 rfl dX4_mortality_83 ?_
            refine v_iconst G dX4_mortality_85 ?_
            have lw := H.law law (by omega) (by omega)
            simp only [okLaw, okW] at lw
            refine kX4_201 G (As := [.int (iI law), .int (iI fl), .int (iI b), .int (iI y), .int (iI py), .int (iI 0)]) (rest := []) (cs' := 0) (sl' := 0) (n_mort G.fl (τ := τ) (D := st2 D 0 0 0) hA (law := law) (fl := fl) (b := b) (y := y) (py := py) (pts := 0) ⟨by omega, by omega⟩ ⟨by omega, by omega⟩ (show okQ (τ 2 0) (τ 19 law) b (fl % 2) (fl / 2 % 2) y 0 from ⟨⟨by omega, by omega⟩, ⟨by omega, by omega⟩, by omega, by omega, ⟨by omega, by omega, by omega⟩, ⟨by omega, by omega⟩⟩) ⟨by omega, by omega⟩) (zRcv.of G (q := (RX4, TX4, 55)) rfl zM_0) rfl rfl (Nat.le_of_ble_eq_true rfl) (zRm.ok rfl) dX4_mortality_86 (fun vq19 hq19 q19 => ?_)
            obtain ⟨_, _⟩ := q19
            subst vq19 hq19
            show VW θ Q E (zM E A h (sc τ (st2 D 0 0 0))) 0 0 89 [(0, .ref (A 0)), (1, .int (iI law)), (2, .int (iI fl)), (3, .int (iI b)), (4, .int (iI y)), (5, .int (iI py))] [.long (iL (qS (τ 2 0) (τ 19 law) b (fl % 2) (fl / 2 % 2) y py 0))]
            refine v_l2i G dX4_mortality_89 ?_
            have e : oMort τ law fl b y py = (0, (qS (τ 2 0) (τ 19 law) b (fl % 2) (fl / 2 % 2) y py 0), τ) := by
              unfold oMort
              (repeat (first | rw [if_pos (by omega)] | rw [if_neg (by omega)]))
              all_goals rfl
            exact v_iret G hQ (by rw [e]; exact ⟨rfl, st2 D 0 0 0, rfl, rfl⟩) (Nat.le_of_ble_eq_true rfl) (Nat.le_of_ble_eq_true rfl) dX4_mortality_90
          · have gz17 := bF hz17 (by omega)
            refine v_aload_n G 0 rfl rfl dX4_mortality_71 ?_
            refine v_iconst G dX4_mortality_72 ?_
            refine kX4_342 G (As := [.int (iI 2)]) (rest := []) (cs' := 0) (sl' := 0) (n_fails G.fl (τ := τ) (D := st2 D 0 0 0) hA (k := 2)) (zRcv.of G (q := (RX4, TX4, 55)) rfl zM_0) rfl rfl (Nat.le_of_ble_eq_true rfl) (zRm.ok rfl) dX4_mortality_73 (fun vq20 hq20 q20 => ?_)
            obtain ⟨_, _⟩ := q20
            subst vq20 hq20
            show VW θ Q E (zM E A h (sc τ (st2 (st2 D 0 0 0) 0 0 2))) 0 0 76 [(0, .ref (A 0)), (1, .int (iI law)), (2, .int (iI fl)), (3, .int (iI b)), (4, .int (iI y)), (5, .int (iI py))] [.int (iI 0)]
            have e : oMort τ law fl b y py = (2, 0, τ) := by
              unfold oMort
              (repeat (first | rw [if_pos (by omega)] | rw [if_neg (by omega)]))
              all_goals rfl
            exact v_iret G hQ (by rw [e]; exact ⟨rfl, st2 (st2 D 0 0 0) 0 0 2, rfl, rfl⟩) (Nat.le_of_ble_eq_true rfl) (Nat.le_of_ble_eq_true rfl) dX4_mortality_76
  · have gz2 := bF hz2 (by omega)
    refine v_aload_n G 0 rfl rfl dX4_mortality_12 ?_
    refine v_iconst G dX4_mortality_13 ?_
    refine kX4_342 G (As := [.int (iI 1)]) (rest := []) (cs' := 0) (sl' := 0) (n_fails G.fl (τ := τ) (D := st2 D 0 0 0) hA (k := 1)) (zRcv.of G (q := (RX4, TX4, 55)) rfl zM_0) rfl rfl (Nat.le_of_ble_eq_true rfl) (zRm.ok rfl) dX4_mortality_14 (fun vq21 hq21 q21 => ?_)
    obtain ⟨_, _⟩ := q21
    subst vq21 hq21
    show VW θ Q E (zM E A h (sc τ (st2 (st2 D 0 0 0) 0 0 1))) 0 0 17 [(0, .ref (A 0)), (1, .int (iI law)), (2, .int (iI fl)), (3, .int (iI b)), (4, .int (iI y)), (5, .int (iI py))] [.int (iI 0)]
    have e : oMort τ law fl b y py = (1, 0, τ) := by
      unfold oMort
      (repeat (first | rw [if_pos (by omega)] | rw [if_neg (by omega)]))
      all_goals rfl
    exact v_iret G hQ (by rw [e]; exact ⟨rfl, st2 (st2 D 0 0 0) 0 0 1, rfl, rfl⟩) (Nat.le_of_ble_eq_true rfl) (Nat.le_of_ble_eq_true rfl) dX4_mortality_17

set_option maxHeartbeats 4000000 in
theorem o_pols {l : Launch} (hfl : l.stackTraces = false) {E : zEn} {h : zHp} {A : Nat → Nat} {τ D : mMem} (hA : mInj A) (H : okT τ)  : CN l E yX4_policies (ws_ yX4_policies cX4_policies 1 (some FieldType.int)) ({ frames := 0, cells := 0, slots := 0, locals := 0 } : Room) [.ref (A 0)] (zM E A h (sc τ D)) (zOI E A h (oPols τ)) := by
  refine CN.of (by decide +kernel) hfl (Nat.le_of_ble_eq_true rfl) fun θ Q hl G hin hQ => ?_
  subst hl
  show VW θ Q E (zM E A h (sc τ D)) 0 0 0 [(0, .ref (A 0))] []
  have hm := H.many
  have hyr := H.year
  have hn := H.nums
  have hi := H.imp
  have hbt := H.bits
  refine v_aload_n G 0 rfl rfl dX4_policies_0 ?_
  refine v_iconst G dX4_policies_1 ?_
  refine pX4_1 G zM_0 (Nat.le_of_ble_eq_true rfl) dX4_policies_2 ?_
  refine VW.hpe (zM_up0 (k := 0) (z := 0) rfl (by decide)) ?_
  refine VW.hpe (congrArg (zM E A h) (sc_D (k := 0) rfl)) ?_
  refine v_aload_n G 0 rfl rfl dX4_policies_5 ?_
  refine gX4_146 G zM_0 (v := .int (iI (τ 10 0))) rfl dX4_policies_6 ?_
  have e : oPols τ = (0, (τ 10 0), τ) := by
    unfold oPols
    (repeat (first | rw [if_pos (by omega)] | rw [if_neg (by omega)]))
    all_goals rfl
  exact v_iret G hQ (by rw [e]; exact ⟨rfl, st2 D 0 0 0, rfl, rfl⟩) (Nat.le_of_ble_eq_true rfl) (Nat.le_of_ble_eq_true rfl) dX4_policies_9

set_option maxHeartbeats 4000000 in
theorem o_state {l : Launch} (hfl : l.stackTraces = false) {E : zEn} {h : zHp} {A : Nat → Nat} {τ D : mMem} (hA : mInj A) (H : okT τ) {p : Int} (nnp : n32 p)  : CN l E yX4_stateOf (ws_ yX4_stateOf cX4_stateOf 2 (some FieldType.int)) ({ frames := 2, cells := 0, slots := 0, locals := 46 } : Room) [.ref (A 0), .int (iI p)] (zM E A h (sc τ D)) (zOI E A h (oState τ p)) := by
  refine CN.of (by decide +kernel) hfl (Nat.le_of_ble_eq_true rfl) fun θ Q hl G hin hQ => ?_
  subst hl
  show VW θ Q E (zM E A h (sc τ D)) 0 0 0 [(0, .ref (A 0)), (1, .int (iI p))] []
  have hm := H.many
  have hyr := H.year
  have hn := H.nums
  have hi := H.imp
  have hbt := H.bits
  refine v_aload_n G 0 rfl rfl dX4_stateOf_0 ?_
  refine v_iconst G dX4_stateOf_1 ?_
  refine pX4_1 G zM_0 (Nat.le_of_ble_eq_true rfl) dX4_stateOf_2 ?_
  refine VW.hpe (zM_up0 (k := 0) (z := 0) rfl (by decide)) ?_
  refine VW.hpe (congrArg (zM E A h) (sc_D (k := 0) rfl)) ?_
  refine v_aload_n G 0 rfl rfl dX4_stateOf_5 ?_
  refine v_iload_n G 1 rfl rfl dX4_stateOf_6 ?_
  refine kX4_380 G (As := [.int (iI p)]) (rest := []) (cs' := 0) (sl' := 0) (n_isPolicy G.fl (τ := τ) (D := st2 D 0 0 0) hA (p := p) ⟨by omega, by omega⟩ (show 0 ≤ τ 10 0 ∧ τ 10 0 ≤ 24 by omega)) (zRcv.of G (q := (RX4, TX4, 55)) rfl zM_0) rfl rfl (Nat.le_of_ble_eq_true rfl) (zRm.ok rfl) dX4_stateOf_7 (fun vq1 hq1 q1 => ?_)
  obtain ⟨_, _⟩ := q1
  subst vq1 hq1
  refine VW.nmI (fun z2 hz2 => ?_)
  have hz2 := (show (z2 = 1 ∧ 0 ≤ p ∧ p < τ 10 0) ∨ (z2 = 0 ∧ ¬ (0 ≤ p ∧ p < τ 10 0)) from ite01 hz2)
  show VW θ Q E (zM E A h (sc τ (st2 D 0 0 0))) 0 0 10 [(0, .ref (A 0)), (1, .int (iI p))] [.int (iI z2)]
  refine v_if_ne G 19 ⟨by omega, by omega⟩ (by decide) dX4_stateOf_10 (fun c3 => ?_) (fun c3 => ?_)
  · have gz2 := bT hz2 (by omega)
    refine v_aload_n G 0 rfl rfl dX4_stateOf_19 ?_
    refine gX4_49 G zM_0 (v := .ref (A 29)) rfl dX4_stateOf_20 ?_
    refine v_iload_n G 1 rfl rfl dX4_stateOf_23 ?_
    refine m_ald G hA (v := τ 29 p) rfl ⟨by omega, by show _ < (24 : Int); omega⟩ rfl dX4_stateOf_24 ?_
    have e : oState τ p = (0, (τ 29 p), τ) := by
      unfold oState
      (repeat (first | rw [if_pos (by omega)] | rw [if_neg (by omega)]))
      all_goals rfl
    exact v_iret G hQ (by rw [e]; exact ⟨rfl, st2 D 0 0 0, rfl, rfl⟩) (Nat.le_of_ble_eq_true rfl) (Nat.le_of_ble_eq_true rfl) dX4_stateOf_25
  · have gz2 := bF hz2 (by omega)
    refine v_aload_n G 0 rfl rfl dX4_stateOf_13 ?_
    refine v_iconst G dX4_stateOf_14 ?_
    refine kX4_342 G (As := [.int (iI 1)]) (rest := []) (cs' := 0) (sl' := 0) (n_fails G.fl (τ := τ) (D := st2 D 0 0 0) hA (k := 1)) (zRcv.of G (q := (RX4, TX4, 55)) rfl zM_0) rfl rfl (Nat.le_of_ble_eq_true rfl) (zRm.ok rfl) dX4_stateOf_15 (fun vq4 hq4 q4 => ?_)
    obtain ⟨_, _⟩ := q4
    subst vq4 hq4
    show VW θ Q E (zM E A h (sc τ (st2 (st2 D 0 0 0) 0 0 1))) 0 0 18 [(0, .ref (A 0)), (1, .int (iI p))] [.int (iI 0)]
    have e : oState τ p = (1, 0, τ) := by
      unfold oState
      (repeat (first | rw [if_pos (by omega)] | rw [if_neg (by omega)]))
      all_goals rfl
    exact v_iret G hQ (by rw [e]; exact ⟨rfl, st2 (st2 D 0 0 0) 0 0 1, rfl, rfl⟩) (Nat.le_of_ble_eq_true rfl) (Nat.le_of_ble_eq_true rfl) dX4_stateOf_18

set_option maxHeartbeats 4000000 in
theorem o_smooth {l : Launch} (hfl : l.stackTraces = false) {E : zEn} {h : zHp} {A : Nat → Nat} {τ D : mMem} (hA : mInj A) (H : okT τ) {n : Int} (nnn : n32 n)  : CN l E yX4_setSmoothing (ws_ yX4_setSmoothing cX4_setSmoothing 3 (some FieldType.int)) ({ frames := 1, cells := 0, slots := 0, locals := 25 } : Room) [.ref (A 0), .int (iI n)] (zM E A h (sc τ D)) (zOI E A h (oSmooth τ n)) := by
  refine CN.of (by decide +kernel) hfl (Nat.le_of_ble_eq_true rfl) fun θ Q hl G hin hQ => ?_
  subst hl
  show VW θ Q E (zM E A h (sc τ D)) 0 0 0 [(0, .ref (A 0)), (1, .int (iI n))] []
  have hm := H.many
  have hyr := H.year
  have hn := H.nums
  have hi := H.imp
  have hbt := H.bits
  refine v_aload_n G 0 rfl rfl dX4_setSmoothing_0 ?_
  refine v_iconst G dX4_setSmoothing_1 ?_
  refine pX4_1 G zM_0 (Nat.le_of_ble_eq_true rfl) dX4_setSmoothing_2 ?_
  refine VW.hpe (zM_up0 (k := 0) (z := 0) rfl (by decide)) ?_
  refine VW.hpe (congrArg (zM E A h) (sc_D (k := 0) rfl)) ?_
  refine v_iload_n G 1 rfl rfl dX4_setSmoothing_5 ?_
  refine v_i2l G ⟨by omega, by omega⟩ dX4_setSmoothing_6 ?_
  refine v_lconst G (n := 0) (v0 := 0) rfl dX4_setSmoothing_7 ?_
  refine v_ldc2 G (v := 100) q2191 rfl dX4_setSmoothing_8 ?_
  refine kX4_168 G (As := [.long (iL n), .long (iL 0), .long (iL 100)]) (rest := []) (cs' := 0) (sl' := 0) (n_isIn G.fl (v := n) (a := 0) (b := 100) ⟨by omega, by omega⟩ ⟨by decide, by decide⟩ ⟨by decide, by decide⟩) rfl rfl (Nat.le_of_ble_eq_true rfl) (zRm.ok rfl) dX4_setSmoothing_11 (fun vq1 hq1 q1 => ?_)
  obtain ⟨_, _⟩ := q1
  subst vq1 hq1
  refine VW.nmI (fun z2 hz2 => ?_)
  have hz2 := ite01 hz2
  show VW θ Q E (zM E A h (sc τ (st2 D 0 0 0))) 0 0 14 [(0, .ref (A 0)), (1, .int (iI n))] [.int (iI z2)]
  refine v_if_ne G 23 ⟨by omega, by omega⟩ (by decide) dX4_setSmoothing_14 (fun c3 => ?_) (fun c3 => ?_)
  · have gz2 := bT hz2 (by omega)
    refine v_aload_n G 0 rfl rfl dX4_setSmoothing_23 ?_
    refine gX4_130 G zM_0 (v := .int (iI (τ 5 0))) rfl dX4_setSmoothing_24 ?_
    refine v_istore_n G (L' := [(2, .int (iI (τ 5 0))), (0, .ref (A 0)), (1, .int (iI n))]) rfl (Nat.le_of_ble_eq_true rfl) rfl dX4_setSmoothing_27 ?_
    refine v_aload_n G 1 rfl rfl dX4_setSmoothing_28 ?_
    refine v_iload_n G 2 rfl rfl dX4_setSmoothing_29 ?_
    refine pX4_130 G zM_0 (Nat.le_of_ble_eq_true rfl) dX4_setSmoothing_30 ?_
    refine VW.hpe (zM_up0 (k := 5) (z := n) rfl (by decide)) ?_
    refine VW.hpe (congrArg (zM E A h) (sc_t (k := 5) rfl)) ?_
    refine v_iload_n G 0 rfl rfl dX4_setSmoothing_33 ?_
    have e : oSmooth τ n = (0, (τ 5 0), st2 τ 5 0 n) := by
      unfold oSmooth
      (repeat (first | rw [if_pos (by omega)] | rw [if_neg (by omega)]))
      all_goals rfl
    exact v_iret G hQ (by rw [e]; exact ⟨rfl, st2 D 0 0 0, rfl, rfl⟩) (Nat.le_of_ble_eq_true rfl) (Nat.le_of_ble_eq_true rfl) dX4_setSmoothing_34
  · have gz2 := bF hz2 (by omega)
    refine v_aload_n G 0 rfl rfl dX4_setSmoothing_17 ?_
    refine v_iconst G dX4_setSmoothing_18 ?_
    refine kX4_342 G (As := [.int (iI 1)]) (rest := []) (cs' := 0) (sl' := 0) (n_fails G.fl (τ := τ) (D := st2 D 0 0 0) hA (k := 1)) (zRcv.of G (q := (RX4, TX4, 55)) rfl zM_0) rfl rfl (Nat.le_of_ble_eq_true rfl) (zRm.ok rfl) dX4_setSmoothing_19 (fun vq4 hq4 q4 => ?_)
    obtain ⟨_, _⟩ := q4
    subst vq4 hq4
    show VW θ Q E (zM E A h (sc τ (st2 (st2 D 0 0 0) 0 0 1))) 0 0 22 [(0, .ref (A 0)), (1, .int (iI n))] [.int (iI 0)]
    have e : oSmooth τ n = (1, 0, τ) := by
      unfold oSmooth
      (repeat (first | rw [if_pos (by omega)] | rw [if_neg (by omega)]))
      all_goals rfl
    exact v_iret G hQ (by rw [e]; exact ⟨rfl, st2 (st2 D 0 0 0) 0 0 1, rfl, rfl⟩) (Nat.le_of_ble_eq_true rfl) (Nat.le_of_ble_eq_true rfl) dX4_setSmoothing_22

set_option maxHeartbeats 4000000 in
theorem o_final {l : Launch} (hfl : l.stackTraces = false) {E : zEn} {h : zHp} {A : Nat → Nat} {τ D : mMem} (hA : mInj A) (H : okT τ) {n : Int} (nnn : n32 n)  : CN l E yX4_setFinal (ws_ yX4_setFinal cX4_setFinal 3 (some FieldType.int)) ({ frames := 1, cells := 0, slots := 0, locals := 25 } : Room) [.ref (A 0), .int (iI n)] (zM E A h (sc τ D)) (zOI E A h (oFinal τ n)) := by
  refine CN.of (by decide +kernel) hfl (Nat.le_of_ble_eq_true rfl) fun θ Q hl G hin hQ => ?_
  subst hl
  show VW θ Q E (zM E A h (sc τ D)) 0 0 0 [(0, .ref (A 0)), (1, .int (iI n))] []
  have hm := H.many
  have hyr := H.year
  have hn := H.nums
  have hi := H.imp
  have hbt := H.bits
  refine v_aload_n G 0 rfl rfl dX4_setFinal_0 ?_
  refine v_iconst G dX4_setFinal_1 ?_
  refine pX4_1 G zM_0 (Nat.le_of_ble_eq_true rfl) dX4_setFinal_2 ?_
  refine VW.hpe (zM_up0 (k := 0) (z := 0) rfl (by decide)) ?_
  refine VW.hpe (congrArg (zM E A h) (sc_D (k := 0) rfl)) ?_
  refine v_iload_n G 1 rfl rfl dX4_setFinal_5 ?_
  refine v_i2l G ⟨by omega, by omega⟩ dX4_setFinal_6 ?_
  refine v_lconst G (n := 0) (v0 := 0) rfl dX4_setFinal_7 ?_
  refine v_ldc2 G (v := 1000) q2190 rfl dX4_setFinal_8 ?_
  refine kX4_168 G (As := [.long (iL n), .long (iL 0), .long (iL 1000)]) (rest := []) (cs' := 0) (sl' := 0) (n_isIn G.fl (v := n) (a := 0) (b := 1000) ⟨by omega, by omega⟩ ⟨by decide, by decide⟩ ⟨by decide, by decide⟩) rfl rfl (Nat.le_of_ble_eq_true rfl) (zRm.ok rfl) dX4_setFinal_11 (fun vq1 hq1 q1 => ?_)
  obtain ⟨_, _⟩ := q1
  subst vq1 hq1
  refine VW.nmI (fun z2 hz2 => ?_)
  have hz2 := ite01 hz2
  show VW θ Q E (zM E A h (sc τ (st2 D 0 0 0))) 0 0 14 [(0, .ref (A 0)), (1, .int (iI n))] [.int (iI z2)]
  refine v_if_ne G 23 ⟨by omega, by omega⟩ (by decide) dX4_setFinal_14 (fun c3 => ?_) (fun c3 => ?_)
  · have gz2 := bT hz2 (by omega)
    refine v_iload_n G 1 rfl rfl dX4_setFinal_23 ?_
    refine v_aload_n G 0 rfl rfl dX4_setFinal_24 ?_
    refine gX4_136 G zM_0 (v := .int (iI (τ 7 0))) rfl dX4_setFinal_25 ?_
    refine v_isub G dX4_setFinal_28 ?_
    refine kX4_391 G (As := [.int (iI (n - (τ 7 0)))]) (rest := []) (cs' := 0) (sl' := 0) (m_abs G.fl (x := (n - (τ 7 0))) ⟨by omega, by omega⟩) rfl rfl (Nat.le_of_ble_eq_true rfl) (zRm.ok rfl) dX4_setFinal_29 (fun vq4 hq4 q4 => ?_)
    obtain ⟨_, _⟩ := q4
    subst vq4 hq4
    show VW θ Q E (zM E A h (sc τ (st2 D 0 0 0))) 0 0 32 [(0, .ref (A 0)), (1, .int (iI n))] [.int (iI (abI ((n - (τ 7 0)))))]
    have ab9 := abI_bd (x := (n - (τ 7 0))) (B := 2000) ⟨by omega, by omega⟩
    refine v_bipush G rfl dX4_setFinal_32 ?_
    refine v_aload_n G 0 rfl rfl dX4_setFinal_34 ?_
    refine gX4_130 G zM_0 (v := .int (iI (τ 5 0))) rfl dX4_setFinal_35 ?_
    refine v_imul G dX4_setFinal_38 ?_
    refine v_icmp_le G 48 ⟨by omega, by omega⟩ ⟨by omega, by omega⟩ (by decide) dX4_setFinal_39 (fun c5 => ?_) (fun c5 => ?_)
    · refine v_aload_n G 0 rfl rfl dX4_setFinal_48 ?_
      refine gX4_136 G zM_0 (v := .int (iI (τ 7 0))) rfl dX4_setFinal_49 ?_
      refine v_istore_n G (L' := [(2, .int (iI (τ 7 0))), (0, .ref (A 0)), (1, .int (iI n))]) rfl (Nat.le_of_ble_eq_true rfl) rfl dX4_setFinal_52 ?_
      refine v_aload_n G 1 rfl rfl dX4_setFinal_53 ?_
      refine v_iload_n G 2 rfl rfl dX4_setFinal_54 ?_
      refine pX4_136 G zM_0 (Nat.le_of_ble_eq_true rfl) dX4_setFinal_55 ?_
      refine VW.hpe (zM_up0 (k := 7) (z := n) rfl (by decide)) ?_
      refine VW.hpe (congrArg (zM E A h) (sc_t (k := 7) rfl)) ?_
      refine v_iload_n G 0 rfl rfl dX4_setFinal_58 ?_
      have e : oFinal τ n = (0, (τ 7 0), st2 τ 7 0 n) := by
        unfold oFinal
        (repeat (first | rw [if_pos (by omega)] | rw [if_neg (by omega)]))
        all_goals rfl
      exact v_iret G hQ (by rw [e]; exact ⟨rfl, st2 D 0 0 0, rfl, rfl⟩) (Nat.le_of_ble_eq_true rfl) (Nat.le_of_ble_eq_true rfl) dX4_setFinal_59
    · refine v_aload_n G 0 rfl rfl dX4_setFinal_42 ?_
      refine v_iconst G dX4_setFinal_43 ?_
      refine kX4_342 G (As := [.int (iI 2)]) (rest := []) (cs' := 0) (sl' := 0) (n_fails G.fl (τ := τ) (D := st2 D 0 0 0) hA (k := 2)) (zRcv.of G (q := (RX4, TX4, 55)) rfl zM_0) rfl rfl (Nat.le_of_ble_eq_true rfl) (zRm.ok rfl) dX4_setFinal_44 (fun vq6 hq6 q6 => ?_)
      obtain ⟨_, _⟩ := q6
      subst vq6 hq6
      show VW θ Q E (zM E A h (sc τ (st2 (st2 D 0 0 0) 0 0 2))) 0 0 47 [(0, .ref (A 0)), (1, .int (iI n))] [.int (iI 0)]
      have e : oFinal τ n = (2, 0, τ) := by
        unfold oFinal
        (repeat (first | rw [if_pos (by omega)] | rw [if_neg (by omega)]))
        all_goals rfl
      exact v_iret G hQ (by rw [e]; exact ⟨rfl, st2 (st2 D 0 0 0) 0 0 2, rfl, rfl⟩) (Nat.le_of_ble_eq_true rfl) (Nat.le_of_ble_eq_true rfl) dX4_setFinal_47
  · have gz2 := bF hz2 (by omega)
    refine v_aload_n G 0 rfl rfl dX4_setFinal_17 ?_
    refine v_iconst G dX4_setFinal_18 ?_
    refine kX4_342 G (As := [.int (iI 1)]) (rest := []) (cs' := 0) (sl' := 0) (n_fails G.fl (τ := τ) (D := st2 D 0 0 0) hA (k := 1)) (zRcv.of G (q := (RX4, TX4, 55)) rfl zM_0) rfl rfl (Nat.le_of_ble_eq_true rfl) (zRm.ok rfl) dX4_setFinal_19 (fun vq7 hq7 q7 => ?_)
    obtain ⟨_, _⟩ := q7
    subst vq7 hq7
    show VW θ Q E (zM E A h (sc τ (st2 (st2 D 0 0 0) 0 0 1))) 0 0 22 [(0, .ref (A 0)), (1, .int (iI n))] [.int (iI 0)]
    have e : oFinal τ n = (1, 0, τ) := by
      unfold oFinal
      (repeat (first | rw [if_pos (by omega)] | rw [if_neg (by omega)]))
      all_goals rfl
    exact v_iret G hQ (by rw [e]; exact ⟨rfl, st2 (st2 D 0 0 0) 0 0 1, rfl, rfl⟩) (Nat.le_of_ble_eq_true rfl) (Nat.le_of_ble_eq_true rfl) dX4_setFinal_22

set_option maxHeartbeats 4000000 in
theorem o_reins {l : Launch} (hfl : l.stackTraces = false) {E : zEn} {h : zHp} {A : Nat → Nat} {τ D : mMem} (hA : mInj A) (H : okT τ) {r : Int} (nnr : n32 r) {q : Int} (nnq : n32 q)  : CN l E yX4_setReinsurance (ws_ yX4_setReinsurance cX4_setReinsurance 4 (some FieldType.int)) ({ frames := 1, cells := 0, slots := 0, locals := 25 } : Room) [.ref (A 0), .int (iI r), .int (iI q)] (zM E A h (sc τ D)) (zOI E A h (oReins τ r q)) := by
  refine CN.of (by decide +kernel) hfl (Nat.le_of_ble_eq_true rfl) fun θ Q hl G hin hQ => ?_
  subst hl
  show VW θ Q E (zM E A h (sc τ D)) 0 0 0 [(0, .ref (A 0)), (1, .int (iI r)), (2, .int (iI q))] []
  have hm := H.many
  have hyr := H.year
  have hn := H.nums
  have hi := H.imp
  have hbt := H.bits
  refine v_aload_n G 0 rfl rfl dX4_setReinsurance_0 ?_
  refine v_iconst G dX4_setReinsurance_1 ?_
  refine pX4_1 G zM_0 (Nat.le_of_ble_eq_true rfl) dX4_setReinsurance_2 ?_
  refine VW.hpe (zM_up0 (k := 0) (z := 0) rfl (by decide)) ?_
  refine VW.hpe (congrArg (zM E A h) (sc_D (k := 0) rfl)) ?_
  refine v_iload_n G 1 rfl rfl dX4_setReinsurance_5 ?_
  refine v_i2l G ⟨by omega, by omega⟩ dX4_setReinsurance_6 ?_
  refine v_lconst G (n := 0) (v0 := 0) rfl dX4_setReinsurance_7 ?_
  refine v_ldc2 G (v := 1000000) q2178 rfl dX4_setReinsurance_8 ?_
  refine kX4_168 G (As := [.long (iL r), .long (iL 0), .long (iL 1000000)]) (rest := []) (cs' := 0) (sl' := 0) (n_isIn G.fl (v := r) (a := 0) (b := 1000000) ⟨by omega, by omega⟩ ⟨by decide, by decide⟩ ⟨by decide, by decide⟩) rfl rfl (Nat.le_of_ble_eq_true rfl) (zRm.ok rfl) dX4_setReinsurance_11 (fun vq1 hq1 q1 => ?_)
  obtain ⟨_, _⟩ := q1
  subst vq1 hq1
  refine VW.nmI (fun z2 hz2 => ?_)
  have hz2 := ite01 hz2
  show VW θ Q E (zM E A h (sc τ (st2 D 0 0 0))) 0 0 14 [(0, .ref (A 0)), (1, .int (iI r)), (2, .int (iI q))] [.int (iI z2)]
  refine v_if_eq G 29 ⟨by omega, by omega⟩ (by decide) dX4_setReinsurance_14 (fun c3 => ?_) (fun c3 => ?_)
  · have gz2 := bF hz2 (by omega)
    refine v_aload_n G 0 rfl rfl dX4_setReinsurance_29 ?_
    refine v_iconst G dX4_setReinsurance_30 ?_
    refine kX4_342 G (As := [.int (iI 1)]) (rest := []) (cs' := 0) (sl' := 0) (n_fails G.fl (τ := τ) (D := st2 D 0 0 0) hA (k := 1)) (zRcv.of G (q := (RX4, TX4, 55)) rfl zM_0) rfl rfl (Nat.le_of_ble_eq_true rfl) (zRm.ok rfl) dX4_setReinsurance_31 (fun vq4 hq4 q4 => ?_)
    obtain ⟨_, _⟩ := q4
    subst vq4 hq4
    show VW θ Q E (zM E A h (sc τ (st2 (st2 D 0 0 0) 0 0 1))) 0 0 34 [(0, .ref (A 0)), (1, .int (iI r)), (2, .int (iI q))] [.int (iI 0)]
    have e : oReins τ r q = (1, 0, τ) := by
      unfold oReins
      (repeat (first | rw [if_pos (by omega)] | rw [if_neg (by omega)]))
      all_goals rfl
    exact v_iret G hQ (by rw [e]; exact ⟨rfl, st2 (st2 D 0 0 0) 0 0 1, rfl, rfl⟩) (Nat.le_of_ble_eq_true rfl) (Nat.le_of_ble_eq_true rfl) dX4_setReinsurance_34
  · have gz2 := bT hz2 (by omega)
    refine v_iload_n G 2 rfl rfl dX4_setReinsurance_17 ?_
    refine v_i2l G ⟨by omega, by omega⟩ dX4_setReinsurance_18 ?_
    refine v_lconst G (n := 0) (v0 := 0) rfl dX4_setReinsurance_19 ?_
    refine v_ldc2 G (v := 1000) q2190 rfl dX4_setReinsurance_20 ?_
    refine kX4_168 G (As := [.long (iL q), .long (iL 0), .long (iL 1000)]) (rest := []) (cs' := 0) (sl' := 0) (n_isIn G.fl (v := q) (a := 0) (b := 1000) ⟨by omega, by omega⟩ ⟨by decide, by decide⟩ ⟨by decide, by decide⟩) rfl rfl (Nat.le_of_ble_eq_true rfl) (zRm.ok rfl) dX4_setReinsurance_23 (fun vq5 hq5 q5 => ?_)
    obtain ⟨_, _⟩ := q5
    subst vq5 hq5
    refine VW.nmI (fun z6 hz6 => ?_)
    have hz6 := ite01 hz6
    show VW θ Q E (zM E A h (sc τ (st2 D 0 0 0))) 0 0 26 [(0, .ref (A 0)), (1, .int (iI r)), (2, .int (iI q))] [.int (iI z6)]
    refine v_if_ne G 35 ⟨by omega, by omega⟩ (by decide) dX4_setReinsurance_26 (fun c7 => ?_) (fun c7 => ?_)
    · have gz6 := bT hz6 (by omega)
      refine v_aload_n G 0 rfl rfl dX4_setReinsurance_35 ?_
      refine gX4_140 G zM_0 (v := .int (iI (τ 8 0))) rfl dX4_setReinsurance_36 ?_
      refine v_istore_n G (L' := [(3, .int (iI (τ 8 0))), (0, .ref (A 0)), (1, .int (iI r)), (2, .int (iI q))]) rfl (Nat.le_of_ble_eq_true rfl) rfl dX4_setReinsurance_39 ?_
      refine v_aload_n G 1 rfl rfl dX4_setReinsurance_40 ?_
      refine v_iload_n G 2 rfl rfl dX4_setReinsurance_41 ?_
      refine pX4_140 G zM_0 (Nat.le_of_ble_eq_true rfl) dX4_setReinsurance_42 ?_
      refine VW.hpe (zM_up0 (k := 8) (z := r) rfl (by decide)) ?_
      refine VW.hpe (congrArg (zM E A h) (sc_t (k := 8) rfl)) ?_
      refine v_aload_n G 1 rfl rfl dX4_setReinsurance_45 ?_
      refine v_iload_n G 3 rfl rfl dX4_setReinsurance_46 ?_
      refine pX4_143 G zM_0 (Nat.le_of_ble_eq_true rfl) dX4_setReinsurance_47 ?_
      refine VW.hpe (zM_up0 (k := 9) (z := q) rfl (by decide)) ?_
      refine VW.hpe (congrArg (zM E A h) (sc_t (k := 9) rfl)) ?_
      refine v_iload_n G 0 rfl rfl dX4_setReinsurance_50 ?_
      have e : oReins τ r q = (0, (τ 8 0), st2 (st2 τ 8 0 r) 9 0 q) := by
        unfold oReins
        (repeat (first | rw [if_pos (by omega)] | rw [if_neg (by omega)]))
        all_goals rfl
      exact v_iret G hQ (by rw [e]; exact ⟨rfl, st2 D 0 0 0, rfl, rfl⟩) (Nat.le_of_ble_eq_true rfl) (Nat.le_of_ble_eq_true rfl) dX4_setReinsurance_51
    · have gz6 := bF hz6 (by omega)
      refine v_aload_n G 0 rfl rfl dX4_setReinsurance_29 ?_
      refine v_iconst G dX4_setReinsurance_30 ?_
      refine kX4_342 G (As := [.int (iI 1)]) (rest := []) (cs' := 0) (sl' := 0) (n_fails G.fl (τ := τ) (D := st2 D 0 0 0) hA (k := 1)) (zRcv.of G (q := (RX4, TX4, 55)) rfl zM_0) rfl rfl (Nat.le_of_ble_eq_true rfl) (zRm.ok rfl) dX4_setReinsurance_31 (fun vq8 hq8 q8 => ?_)
      obtain ⟨_, _⟩ := q8
      subst vq8 hq8
      show VW θ Q E (zM E A h (sc τ (st2 (st2 D 0 0 0) 0 0 1))) 0 0 34 [(0, .ref (A 0)), (1, .int (iI r)), (2, .int (iI q))] [.int (iI 0)]
      have e : oReins τ r q = (1, 0, τ) := by
        unfold oReins
        (repeat (first | rw [if_pos (by omega)] | rw [if_neg (by omega)]))
        all_goals rfl
      exact v_iret G hQ (by rw [e]; exact ⟨rfl, st2 (st2 D 0 0 0) 0 0 1, rfl, rfl⟩) (Nat.le_of_ble_eq_true rfl) (Nat.le_of_ble_eq_true rfl) dX4_setReinsurance_34

set_option maxHeartbeats 4000000 in
theorem o_surplus {l : Launch} (hfl : l.stackTraces = false) {E : zEn} {h : zHp} {A : Nat → Nat} {τ D : mMem} (hA : mInj A) (H : okT τ) {k : Int} (nnk : n32 k)  : CN l E yX4_surplus (ws_ yX4_surplus cX4_surplus 2 (some FieldType.long)) ({ frames := 1, cells := 0, slots := 0, locals := 25 } : Room) [.ref (A 0), .int (iI k)] (zM E A h (sc τ D)) (zOL E A h (oSurplus τ k)) := by
  refine CN.of (by decide +kernel) hfl (Nat.le_of_ble_eq_true rfl) fun θ Q hl G hin hQ => ?_
  subst hl
  show VW θ Q E (zM E A h (sc τ D)) 0 0 0 [(0, .ref (A 0)), (1, .int (iI k))] []
  have hm := H.many
  have hyr := H.year
  have hn := H.nums
  have hi := H.imp
  have hbt := H.bits
  refine v_aload_n G 0 rfl rfl dX4_surplus_0 ?_
  refine v_iconst G dX4_surplus_1 ?_
  refine pX4_1 G zM_0 (Nat.le_of_ble_eq_true rfl) dX4_surplus_2 ?_
  refine VW.hpe (zM_up0 (k := 0) (z := 0) rfl (by decide)) ?_
  refine VW.hpe (congrArg (zM E A h) (sc_D (k := 0) rfl)) ?_
  refine v_iload_n G 1 rfl rfl dX4_surplus_5 ?_
  refine v_i2l G ⟨by omega, by omega⟩ dX4_surplus_6 ?_
  refine v_lconst G (n := 0) (v0 := 0) rfl dX4_surplus_7 ?_
  refine v_ldc2 G (v := 8) q2443 rfl dX4_surplus_8 ?_
  refine kX4_168 G (As := [.long (iL k), .long (iL 0), .long (iL 8)]) (rest := []) (cs' := 0) (sl' := 0) (n_isIn G.fl (v := k) (a := 0) (b := 8) ⟨by omega, by omega⟩ ⟨by decide, by decide⟩ ⟨by decide, by decide⟩) rfl rfl (Nat.le_of_ble_eq_true rfl) (zRm.ok rfl) dX4_surplus_11 (fun vq1 hq1 q1 => ?_)
  obtain ⟨_, _⟩ := q1
  subst vq1 hq1
  refine VW.nmI (fun z2 hz2 => ?_)
  have hz2 := ite01 hz2
  show VW θ Q E (zM E A h (sc τ (st2 D 0 0 0))) 0 0 14 [(0, .ref (A 0)), (1, .int (iI k))] [.int (iI z2)]
  refine v_if_ne G 24 ⟨by omega, by omega⟩ (by decide) dX4_surplus_14 (fun c3 => ?_) (fun c3 => ?_)
  · have gz2 := bT hz2 (by omega)
    refine v_aload_n G 0 rfl rfl dX4_surplus_24 ?_
    refine gX4_28 G zM_0 (v := .ref (A 22)) rfl dX4_surplus_25 ?_
    refine v_iload_n G 1 rfl rfl dX4_surplus_28 ?_
    refine m_lld G hA (v := τ 22 k) rfl ⟨by omega, by show _ < (9 : Int); omega⟩ rfl dX4_surplus_29 ?_
    have e : oSurplus τ k = (0, (τ 22 k), τ) := by
      unfold oSurplus
      (repeat (first | rw [if_pos (by omega)] | rw [if_neg (by omega)]))
      all_goals rfl
    exact v_lret G hQ (by rw [e]; exact ⟨rfl, st2 D 0 0 0, rfl, rfl⟩) (Nat.le_of_ble_eq_true rfl) (Nat.le_of_ble_eq_true rfl) dX4_surplus_30
  · have gz2 := bF hz2 (by omega)
    refine v_aload_n G 0 rfl rfl dX4_surplus_17 ?_
    refine v_iconst G dX4_surplus_18 ?_
    refine kX4_342 G (As := [.int (iI 1)]) (rest := []) (cs' := 0) (sl' := 0) (n_fails G.fl (τ := τ) (D := st2 D 0 0 0) hA (k := 1)) (zRcv.of G (q := (RX4, TX4, 55)) rfl zM_0) rfl rfl (Nat.le_of_ble_eq_true rfl) (zRm.ok rfl) dX4_surplus_19 (fun vq4 hq4 q4 => ?_)
    obtain ⟨_, _⟩ := q4
    subst vq4 hq4
    show VW θ Q E (zM E A h (sc τ (st2 (st2 D 0 0 0) 0 0 1))) 0 0 22 [(0, .ref (A 0)), (1, .int (iI k))] [.int (iI 0)]
    refine v_i2l G ⟨by decide, by decide⟩ dX4_surplus_22 ?_
    have e : oSurplus τ k = (1, 0, τ) := by
      unfold oSurplus
      (repeat (first | rw [if_pos (by omega)] | rw [if_neg (by omega)]))
      all_goals rfl
    exact v_lret G hQ (by rw [e]; exact ⟨rfl, st2 (st2 D 0 0 0) 0 0 1, rfl, rfl⟩) (Nat.le_of_ble_eq_true rfl) (Nat.le_of_ble_eq_true rfl) dX4_surplus_23

set_option maxHeartbeats 4000000 in
theorem o_expP {l : Launch} (hfl : l.stackTraces = false) {E : zEn} {h : zHp} {A : Nat → Nat} {τ D : mMem} (hA : mInj A) (H : okT τ) {a : Int} (nna : n32 a)  : CN l E yX4_expectedPayments (ws_ yX4_expectedPayments cX4_expectedPayments 2 (some FieldType.long)) ({ frames := 5, cells := 0, slots := 0, locals := 134 } : Room) [.ref (A 0), .int (iI a)] (zM E A h (sc τ D)) (zOL E A h (oExpP τ a)) := by
  refine CN.of (by decide +kernel) hfl (Nat.le_of_ble_eq_true rfl) fun θ Q hl G hin hQ => ?_
  subst hl
  show VW θ Q E (zM E A h (sc τ D)) 0 0 0 [(0, .ref (A 0)), (1, .int (iI a))] []
  have hm := H.many
  have hyr := H.year
  have hn := H.nums
  have hi := H.imp
  have hbt := H.bits
  refine v_aload_n G 0 rfl rfl dX4_expectedPayments_0 ?_
  refine v_iconst G dX4_expectedPayments_1 ?_
  refine pX4_1 G zM_0 (Nat.le_of_ble_eq_true rfl) dX4_expectedPayments_2 ?_
  refine VW.hpe (zM_up0 (k := 0) (z := 0) rfl (by decide)) ?_
  refine VW.hpe (congrArg (zM E A h) (sc_D (k := 0) rfl)) ?_
  refine v_iload_n G 1 rfl rfl dX4_expectedPayments_5 ?_
  refine v_i2l G ⟨by omega, by omega⟩ dX4_expectedPayments_6 ?_
  refine v_lconst G (n := 0) (v0 := 0) rfl dX4_expectedPayments_7 ?_
  refine v_ldc2 G (v := 40) q2468 rfl dX4_expectedPayments_8 ?_
  refine kX4_168 G (As := [.long (iL a), .long (iL 0), .long (iL 40)]) (rest := []) (cs' := 0) (sl' := 0) (n_isIn G.fl (v := a) (a := 0) (b := 40) ⟨by omega, by omega⟩ ⟨by decide, by decide⟩ ⟨by decide, by decide⟩) rfl rfl (Nat.le_of_ble_eq_true rfl) (zRm.ok rfl) dX4_expectedPayments_11 (fun vq1 hq1 q1 => ?_)
  obtain ⟨_, _⟩ := q1
  subst vq1 hq1
  refine VW.nmI (fun z2 hz2 => ?_)
  have hz2 := ite01 hz2
  show VW θ Q E (zM E A h (sc τ (st2 D 0 0 0))) 0 0 14 [(0, .ref (A 0)), (1, .int (iI a))] [.int (iI z2)]
  refine v_if_ne G 24 ⟨by omega, by omega⟩ (by decide) dX4_expectedPayments_14 (fun c3 => ?_) (fun c3 => ?_)
  · have gz2 := bT hz2 (by omega)
    refine v_aload_n G 0 rfl rfl dX4_expectedPayments_24 ?_
    refine v_iload_n G 1 rfl rfl dX4_expectedPayments_25 ?_
    refine kX4_406 G (As := [.int (iI a)]) (rest := []) (cs' := 0) (sl' := 0) (n_expA G.fl (τ := τ) (D := st2 D 0 0 0) hA (a := a) H ⟨by omega, by omega⟩) (zRcv.of G (q := (RX4, TX4, 55)) rfl zM_0) rfl rfl (Nat.le_of_ble_eq_true rfl) (zRm.ok rfl) dX4_expectedPayments_26 (fun vq4 hq4 q4 => ?_)
    obtain ⟨_, _⟩ := q4
    subst vq4 hq4
    show VW θ Q E (zM E A h (sc τ (st2 D 0 0 0))) 0 0 29 [(0, .ref (A 0)), (1, .int (iI a))] [.long (iL (exA τ a))]
    have e : oExpP τ a = (0, (exA τ a), τ) := by
      unfold oExpP
      (repeat (first | rw [if_pos (by omega)] | rw [if_neg (by omega)]))
      all_goals rfl
    exact v_lret G hQ (by rw [e]; exact ⟨rfl, st2 D 0 0 0, rfl, rfl⟩) (Nat.le_of_ble_eq_true rfl) (Nat.le_of_ble_eq_true rfl) dX4_expectedPayments_29
  · have gz2 := bF hz2 (by omega)
    refine v_aload_n G 0 rfl rfl dX4_expectedPayments_17 ?_
    refine v_iconst G dX4_expectedPayments_18 ?_
    refine kX4_342 G (As := [.int (iI 1)]) (rest := []) (cs' := 0) (sl' := 0) (n_fails G.fl (τ := τ) (D := st2 D 0 0 0) hA (k := 1)) (zRcv.of G (q := (RX4, TX4, 55)) rfl zM_0) rfl rfl (Nat.le_of_ble_eq_true rfl) (zRm.ok rfl) dX4_expectedPayments_19 (fun vq5 hq5 q5 => ?_)
    obtain ⟨_, _⟩ := q5
    subst vq5 hq5
    show VW θ Q E (zM E A h (sc τ (st2 (st2 D 0 0 0) 0 0 1))) 0 0 22 [(0, .ref (A 0)), (1, .int (iI a))] [.int (iI 0)]
    refine v_i2l G ⟨by decide, by decide⟩ dX4_expectedPayments_22 ?_
    have e : oExpP τ a = (1, 0, τ) := by
      unfold oExpP
      (repeat (first | rw [if_pos (by omega)] | rw [if_neg (by omega)]))
      all_goals rfl
    exact v_lret G hQ (by rw [e]; exact ⟨rfl, st2 (st2 D 0 0 0) 0 0 1, rfl, rfl⟩) (Nat.le_of_ble_eq_true rfl) (Nat.le_of_ble_eq_true rfl) dX4_expectedPayments_23

set_option maxHeartbeats 4000000 in
theorem o_bondP {l : Launch} (hfl : l.stackTraces = false) {E : zEn} {h : zHp} {A : Nat → Nat} {τ D : mMem} (hA : mInj A) (H : okT τ) {a : Int} (nna : n32 a)  : CN l E yX4_bondPayments (ws_ yX4_bondPayments cX4_bondPayments 2 (some FieldType.long)) ({ frames := 1, cells := 0, slots := 0, locals := 25 } : Room) [.ref (A 0), .int (iI a)] (zM E A h (sc τ D)) (zOL E A h (oBondP τ a)) := by
  refine CN.of (by decide +kernel) hfl (Nat.le_of_ble_eq_true rfl) fun θ Q hl G hin hQ => ?_
  subst hl
  show VW θ Q E (zM E A h (sc τ D)) 0 0 0 [(0, .ref (A 0)), (1, .int (iI a))] []
  have hm := H.many
  have hyr := H.year
  have hn := H.nums
  have hi := H.imp
  have hbt := H.bits
  refine v_aload_n G 0 rfl rfl dX4_bondPayments_0 ?_
  refine v_iconst G dX4_bondPayments_1 ?_
  refine pX4_1 G zM_0 (Nat.le_of_ble_eq_true rfl) dX4_bondPayments_2 ?_
  refine VW.hpe (zM_up0 (k := 0) (z := 0) rfl (by decide)) ?_
  refine VW.hpe (congrArg (zM E A h) (sc_D (k := 0) rfl)) ?_
  refine v_iload_n G 1 rfl rfl dX4_bondPayments_5 ?_
  refine v_i2l G ⟨by omega, by omega⟩ dX4_bondPayments_6 ?_
  refine v_lconst G (n := 0) (v0 := 0) rfl dX4_bondPayments_7 ?_
  refine v_ldc2 G (v := 40) q2468 rfl dX4_bondPayments_8 ?_
  refine kX4_168 G (As := [.long (iL a), .long (iL 0), .long (iL 40)]) (rest := []) (cs' := 0) (sl' := 0) (n_isIn G.fl (v := a) (a := 0) (b := 40) ⟨by omega, by omega⟩ ⟨by decide, by decide⟩ ⟨by decide, by decide⟩) rfl rfl (Nat.le_of_ble_eq_true rfl) (zRm.ok rfl) dX4_bondPayments_11 (fun vq1 hq1 q1 => ?_)
  obtain ⟨_, _⟩ := q1
  subst vq1 hq1
  refine VW.nmI (fun z2 hz2 => ?_)
  have hz2 := ite01 hz2
  show VW θ Q E (zM E A h (sc τ (st2 D 0 0 0))) 0 0 14 [(0, .ref (A 0)), (1, .int (iI a))] [.int (iI z2)]
  refine v_if_ne G 24 ⟨by omega, by omega⟩ (by decide) dX4_bondPayments_14 (fun c3 => ?_) (fun c3 => ?_)
  · have gz2 := bT hz2 (by omega)
    refine v_aload_n G 0 rfl rfl dX4_bondPayments_24 ?_
    refine v_iload_n G 1 rfl rfl dX4_bondPayments_25 ?_
    refine kX4_409 G (As := [.int (iI a)]) (rest := []) (cs' := 0) (sl' := 0) (n_bonds G.fl (τ := τ) (D := st2 D 0 0 0) hA (a := a) H ⟨by omega, by omega⟩) (zRcv.of G (q := (RX4, TX4, 55)) rfl zM_0) rfl rfl (Nat.le_of_ble_eq_true rfl) (zRm.ok rfl) dX4_bondPayments_26 (fun vq4 hq4 q4 => ?_)
    obtain ⟨_, _⟩ := q4
    subst vq4 hq4
    show VW θ Q E (zM E A h (sc τ (st2 D 0 0 0))) 0 0 29 [(0, .ref (A 0)), (1, .int (iI a))] [.long (iL (bpT τ a))]
    have e : oBondP τ a = (0, (bpT τ a), τ) := by
      unfold oBondP
      (repeat (first | rw [if_pos (by omega)] | rw [if_neg (by omega)]))
      all_goals rfl
    exact v_lret G hQ (by rw [e]; exact ⟨rfl, st2 D 0 0 0, rfl, rfl⟩) (Nat.le_of_ble_eq_true rfl) (Nat.le_of_ble_eq_true rfl) dX4_bondPayments_29
  · have gz2 := bF hz2 (by omega)
    refine v_aload_n G 0 rfl rfl dX4_bondPayments_17 ?_
    refine v_iconst G dX4_bondPayments_18 ?_
    refine kX4_342 G (As := [.int (iI 1)]) (rest := []) (cs' := 0) (sl' := 0) (n_fails G.fl (τ := τ) (D := st2 D 0 0 0) hA (k := 1)) (zRcv.of G (q := (RX4, TX4, 55)) rfl zM_0) rfl rfl (Nat.le_of_ble_eq_true rfl) (zRm.ok rfl) dX4_bondPayments_19 (fun vq5 hq5 q5 => ?_)
    obtain ⟨_, _⟩ := q5
    subst vq5 hq5
    show VW θ Q E (zM E A h (sc τ (st2 (st2 D 0 0 0) 0 0 1))) 0 0 22 [(0, .ref (A 0)), (1, .int (iI a))] [.int (iI 0)]
    refine v_i2l G ⟨by decide, by decide⟩ dX4_bondPayments_22 ?_
    have e : oBondP τ a = (1, 0, τ) := by
      unfold oBondP
      (repeat (first | rw [if_pos (by omega)] | rw [if_neg (by omega)]))
      all_goals rfl
    exact v_lret G hQ (by rw [e]; exact ⟨rfl, st2 (st2 D 0 0 0) 0 0 1, rfl, rfl⟩) (Nat.le_of_ble_eq_true rfl) (Nat.le_of_ble_eq_true rfl) dX4_bondPayments_23

set_option maxHeartbeats 4000000 in
theorem o_imp {l : Launch} (hfl : l.stackTraces = false) {E : zEn} {h : zHp} {A : Nat → Nat} {τ D : mMem} (hA : mInj A) (H : okT τ) {i : Int} (nni : n32 i)  : CN l E yX4_setImprovement (ws_ yX4_setImprovement cX4_setImprovement 5 (some FieldType.int)) ({ frames := 6, cells := 0, slots := 0, locals := 166 } : Room) [.ref (A 0), .int (iI i)] (zM E A h (sc τ D)) (zOI E A h (oImp τ i)) := by
  refine CN.of (by decide +kernel) hfl (Nat.le_of_ble_eq_true rfl) fun θ Q hl G hin hQ => ?_
  subst hl
  show VW θ Q E (zM E A h (sc τ D)) 0 0 0 [(0, .ref (A 0)), (1, .int (iI i))] []
  have hm := H.many
  have hyr := H.year
  have hn := H.nums
  have hi := H.imp
  have hbt := H.bits
  refine v_aload_n G 0 rfl rfl dX4_setImprovement_0 ?_
  refine v_iconst G dX4_setImprovement_1 ?_
  refine pX4_1 G zM_0 (Nat.le_of_ble_eq_true rfl) dX4_setImprovement_2 ?_
  refine VW.hpe (zM_up0 (k := 0) (z := 0) rfl (by decide)) ?_
  refine VW.hpe (congrArg (zM E A h) (sc_D (k := 0) rfl)) ?_
  refine v_iload_n G 1 rfl rfl dX4_setImprovement_5 ?_
  refine v_i2l G ⟨by omega, by omega⟩ dX4_setImprovement_6 ?_
  refine v_lconst G (n := 0) (v0 := 0) rfl dX4_setImprovement_7 ?_
  refine v_ldc2 G (v := 20) q2185 rfl dX4_setImprovement_8 ?_
  refine kX4_168 G (As := [.long (iL i), .long (iL 0), .long (iL 20)]) (rest := []) (cs' := 0) (sl' := 0) (n_isIn G.fl (v := i) (a := 0) (b := 20) ⟨by omega, by omega⟩ ⟨by decide, by decide⟩ ⟨by decide, by decide⟩) rfl rfl (Nat.le_of_ble_eq_true rfl) (zRm.ok rfl) dX4_setImprovement_11 (fun vq1 hq1 q1 => ?_)
  obtain ⟨_, _⟩ := q1
  subst vq1 hq1
  refine VW.nmI (fun z2 hz2 => ?_)
  have hz2 := ite01 hz2
  show VW θ Q E (zM E A h (sc τ (st2 D 0 0 0))) 0 0 14 [(0, .ref (A 0)), (1, .int (iI i))] [.int (iI z2)]
  refine v_if_ne G 23 ⟨by omega, by omega⟩ (by decide) dX4_setImprovement_14 (fun c3 => ?_) (fun c3 => ?_)
  · have gz2 := bT hz2 (by omega)
    refine v_aload_n G 0 rfl rfl dX4_setImprovement_23 ?_
    refine v_iconst G dX4_setImprovement_24 ?_
    refine kX4_259 G (As := [.int (iI 0)]) (rest := []) (cs' := 0) (sl' := 0) (n_all G.fl (τ := τ) (D := st2 D 0 0 0) hA (law := 0) ⟨by omega, by omega⟩ (H.law 0 (by omega) (by omega)) H.A) (zRcv.of G (q := (RX4, TX4, 55)) rfl zM_0) rfl rfl (Nat.le_of_ble_eq_true rfl) (zRm.ok rfl) dX4_setImprovement_25 (fun vq4 hq4 q4 => ?_)
    obtain ⟨_, D5, hD5, _⟩ := q4
    subst vq4 hq4
    show VW θ Q E (zM E A h (sc τ D5)) 0 0 28 [(0, .ref (A 0)), (1, .int (iI i))] [.long (iL (totT τ 0))]
    refine v_lstore_n G (L' := [(2, .long (iL (totT τ 0))), (0, .ref (A 0)), (1, .int (iI i))]) rfl (Nat.le_of_ble_eq_true rfl) rfl dX4_setImprovement_28 ?_
    refine v_aload_n G 1 rfl rfl dX4_setImprovement_29 ?_
    refine gX4_121 G zM_0 (v := .int (iI (τ 2 0))) rfl dX4_setImprovement_30 ?_
    refine v_istore G (L' := [(4, .int (iI (τ 2 0))), (2, .long (iL (totT τ 0))), (0, .ref (A 0)), (1, .int (iI i))]) (Nat.le_of_ble_eq_true rfl) rfl dX4_setImprovement_33 ?_
    refine v_aload_n G 2 rfl rfl dX4_setImprovement_35 ?_
    refine v_iload_n G 3 rfl rfl dX4_setImprovement_36 ?_
    refine pX4_121 G zM_0 (Nat.le_of_ble_eq_true rfl) dX4_setImprovement_37 ?_
    refine VW.hpe (zM_up0 (k := 2) (z := i) rfl (by decide)) ?_
    refine VW.hpe (congrArg (zM E A h) (sc_t (k := 2) rfl)) ?_
    refine v_aload_n G 2 rfl rfl dX4_setImprovement_40 ?_
    refine gX4_24 G zM_0 (v := .ref (A 21)) rfl dX4_setImprovement_41 ?_
    refine v_bipush G rfl dX4_setImprovement_44 ?_
    refine v_dup2 G rfl rfl dX4_setImprovement_46 ?_
    refine m_lld G hA (v := τ 21 6) rfl ⟨by omega, by show _ < (9 : Int); omega⟩ rfl dX4_setImprovement_47 ?_
    refine v_aload_n G 2 rfl rfl dX4_setImprovement_48 ?_
    refine v_iconst G dX4_setImprovement_49 ?_
    refine kX4_259 G (As := [.int (iI 0)]) (rest := [.long (iL (τ 21 6)), .int (iI 6), .ref (A 21)]) (cs' := 0) (sl' := 0) (n_all G.fl (τ := st2 τ 2 0 i) (D := D5) hA (law := 0) ⟨by omega, by omega⟩ (H.law 0 (by omega) (by omega)) (impA H ⟨by omega, by omega⟩)) (zRcv.of G (q := (RX4, TX4, 55)) rfl zM_0) rfl rfl (Nat.le_of_ble_eq_true rfl) (zRm.ok rfl) dX4_setImprovement_50 (fun vq6 hq6 q6 => ?_)
    obtain ⟨_, D7, hD7, _⟩ := q6
    subst vq6 hq6
    show VW θ Q E (zM E A h (sc (st2 τ 2 0 i) D7)) 0 0 53 [(4, .int (iI (τ 2 0))), (2, .long (iL (totT τ 0))), (0, .ref (A 0)), (1, .int (iI i))] [.long (iL (totT (st2 τ 2 0 i) 0)), .long (iL (τ 21 6)), .int (iI 6), .ref (A 21)]
    refine v_lload_n G 1 rfl rfl dX4_setImprovement_53 ?_
    refine v_lsub G dX4_setImprovement_54 ?_
    refine v_lsub G dX4_setImprovement_55 ?_
    refine m_lst G hA rfl ⟨by omega, by show _ < (9 : Int); omega⟩ dX4_setImprovement_56 ?_
    refine VW.hpe (congrArg (zM E A h) (sc_t (k := 21) rfl)) ?_
    refine v_iload G 0 rfl dX4_setImprovement_57 ?_
    have e : oImp τ i = (0, (τ 2 0), st2 (st2 τ 2 0 i) 21 6 ((τ 21 6) - ((totT (st2 τ 2 0 i) 0) - (totT τ 0)))) := by
      unfold oImp
      (repeat (first | rw [if_pos (by omega)] | rw [if_neg (by omega)]))
      all_goals rfl
    exact v_iret G hQ (by rw [e]; exact ⟨rfl, D7, ((congrFun ((hD5.trans hD7) 0 (Or.inl (by decide))) 0)), rfl⟩) (Nat.le_of_ble_eq_true rfl) (Nat.le_of_ble_eq_true rfl) dX4_setImprovement_59
  · have gz2 := bF hz2 (by omega)
    refine v_aload_n G 0 rfl rfl dX4_setImprovement_17 ?_
    refine v_iconst G dX4_setImprovement_18 ?_
    refine kX4_342 G (As := [.int (iI 1)]) (rest := []) (cs' := 0) (sl' := 0) (n_fails G.fl (τ := τ) (D := st2 D 0 0 0) hA (k := 1)) (zRcv.of G (q := (RX4, TX4, 55)) rfl zM_0) rfl rfl (Nat.le_of_ble_eq_true rfl) (zRm.ok rfl) dX4_setImprovement_19 (fun vq8 hq8 q8 => ?_)
    obtain ⟨_, _⟩ := q8
    subst vq8 hq8
    show VW θ Q E (zM E A h (sc τ (st2 (st2 D 0 0 0) 0 0 1))) 0 0 22 [(0, .ref (A 0)), (1, .int (iI i))] [.int (iI 0)]
    have e : oImp τ i = (1, 0, τ) := by
      unfold oImp
      (repeat (first | rw [if_pos (by omega)] | rw [if_neg (by omega)]))
      all_goals rfl
    exact v_iret G hQ (by rw [e]; exact ⟨rfl, st2 (st2 D 0 0 0) 0 0 1, rfl, rfl⟩) (Nat.le_of_ble_eq_true rfl) (Nat.le_of_ble_eq_true rfl) dX4_setImprovement_22

set_option maxHeartbeats 4000000 in
theorem o_money {l : Launch} (hfl : l.stackTraces = false) {E : zEn} {h : zHp} {A : Nat → Nat} {τ D : mMem} (hA : mInj A) (H : okT τ) {w : Int} (nnw : n32 w)  : CN l E yX4_money (ws_ yX4_money cX4_money 2 (some FieldType.long)) ({ frames := 7, cells := 0, slots := 0, locals := 186 } : Room) [.ref (A 0), .int (iI w)] (zM E A h (sc τ D)) (zOL E A h (oMoney τ w)) := by
  refine CN.of (by decide +kernel) hfl (Nat.le_of_ble_eq_true rfl) fun θ Q hl G hin hQ => ?_
  subst hl
  show VW θ Q E (zM E A h (sc τ D)) 0 0 0 [(0, .ref (A 0)), (1, .int (iI w))] []
  have hm := H.many
  have hyr := H.year
  have hn := H.nums
  have hi := H.imp
  have hbt := H.bits
  refine v_aload_n G 0 rfl rfl dX4_money_0 ?_
  refine v_iconst G dX4_money_1 ?_
  refine pX4_1 G zM_0 (Nat.le_of_ble_eq_true rfl) dX4_money_2 ?_
  refine VW.hpe (zM_up0 (k := 0) (z := 0) rfl (by decide)) ?_
  refine VW.hpe (congrArg (zM E A h) (sc_D (k := 0) rfl)) ?_
  refine v_iload_n G 1 rfl rfl dX4_money_5 ?_
  refine v_i2l G ⟨by omega, by omega⟩ dX4_money_6 ?_
  refine v_lconst G (n := 0) (v0 := 0) rfl dX4_money_7 ?_
  refine v_ldc2 G (v := 4) q2186 rfl dX4_money_8 ?_
  refine kX4_168 G (As := [.long (iL w), .long (iL 0), .long (iL 4)]) (rest := []) (cs' := 0) (sl' := 0) (n_isIn G.fl (v := w) (a := 0) (b := 4) ⟨by omega, by omega⟩ ⟨by decide, by decide⟩ ⟨by decide, by decide⟩) rfl rfl (Nat.le_of_ble_eq_true rfl) (zRm.ok rfl) dX4_money_11 (fun vq1 hq1 q1 => ?_)
  obtain ⟨_, _⟩ := q1
  subst vq1 hq1
  refine VW.nmI (fun z2 hz2 => ?_)
  have hz2 := ite01 hz2
  show VW θ Q E (zM E A h (sc τ (st2 D 0 0 0))) 0 0 14 [(0, .ref (A 0)), (1, .int (iI w))] [.int (iI z2)]
  refine v_if_ne G 24 ⟨by omega, by omega⟩ (by decide) dX4_money_14 (fun c3 => ?_) (fun c3 => ?_)
  · have gz2 := bT hz2 (by omega)
    refine v_iload_n G 1 rfl rfl dX4_money_24 ?_
    have c4 : w = 0 ∨ w = 1 ∨ w = 2 ∨ w = 3 ∨ (w < 0 ∨ 3 < w) := by omega
    rcases c4 with c4 | c4 | c4 | c4 | c4
    · refine v_tabIn G 56 ⟨by omega, by omega⟩ (by omega) (by omega) (by rw [c4]; rfl) (by decide) dX4_money_25 ?_
      refine v_aload_n G 0 rfl rfl dX4_money_56 ?_
      refine kX4_256 G (As := []) (rest := []) (cs' := 0) (sl' := 0) (n_fund G.fl (τ := τ) (D := st2 D 0 0 0) hA H.many (fun b h1 h2 => (H.bnd b h1 h2).2.1)) (zRcv.of G (q := (RX4, TX4, 55)) rfl zM_0) rfl rfl (Nat.le_of_ble_eq_true rfl) (zRm.ok rfl) dX4_money_57 (fun vq5 hq5 q5 => ?_)
      obtain ⟨_, _⟩ := q5
      subst vq5 hq5
      show VW θ Q E (zM E A h (sc τ (st2 D 0 0 0))) 0 0 60 [(0, .ref (A 0)), (1, .int (iI w))] [.long (iL (fundT τ))]
      have e : oMoney τ w = (0, (fundT τ), τ) := by
        unfold oMoney
        (repeat (first | rw [if_pos (by omega)] | rw [if_neg (by omega)]))
        all_goals rfl
      exact v_lret G hQ (by rw [e]; exact ⟨rfl, st2 D 0 0 0, rfl, rfl⟩) (Nat.le_of_ble_eq_true rfl) (Nat.le_of_ble_eq_true rfl) dX4_money_60
    · refine v_tabIn G 61 ⟨by omega, by omega⟩ (by omega) (by omega) (by rw [c4]; rfl) (by decide) dX4_money_25 ?_
      refine v_aload_n G 0 rfl rfl dX4_money_61 ?_
      refine gX4_117 G zM_0 (v := .long (iL (τ 14 0))) rfl dX4_money_62 ?_
      have e : oMoney τ w = (0, (τ 14 0), τ) := by
        unfold oMoney
        (repeat (first | rw [if_pos (by omega)] | rw [if_neg (by omega)]))
        all_goals rfl
      exact v_lret G hQ (by rw [e]; exact ⟨rfl, st2 D 0 0 0, rfl, rfl⟩) (Nat.le_of_ble_eq_true rfl) (Nat.le_of_ble_eq_true rfl) dX4_money_65
    · refine v_tabIn G 66 ⟨by omega, by omega⟩ (by omega) (by omega) (by rw [c4]; rfl) (by decide) dX4_money_25 ?_
      refine v_aload_n G 0 rfl rfl dX4_money_66 ?_
      refine kX4_361 G (As := []) (rest := []) (cs' := 0) (sl' := 0) (n_estate G.fl (τ := τ) (D := st2 D 0 0 0) hA H.many (fun b h1 h2 => (H.bnd b h1 h2).2.1) (H.law 0 (by omega) (by omega)) H.A) (zRcv.of G (q := (RX4, TX4, 55)) rfl zM_0) rfl rfl (Nat.le_of_ble_eq_true rfl) (zRm.ok rfl) dX4_money_67 (fun vq6 hq6 q6 => ?_)
      obtain ⟨_, D7, hD7, _⟩ := q6
      subst vq6 hq6
      show VW θ Q E (zM E A h (sc τ D7)) 0 0 70 [(0, .ref (A 0)), (1, .int (iI w))] [.long (iL (estT τ))]
      have e : oMoney τ w = (0, (estT τ), τ) := by
        unfold oMoney
        (repeat (first | rw [if_pos (by omega)] | rw [if_neg (by omega)]))
        all_goals rfl
      exact v_lret G hQ (by rw [e]; exact ⟨rfl, D7, ((congrFun (hD7 0 (Or.inl (by decide))) 0)), rfl⟩) (Nat.le_of_ble_eq_true rfl) (Nat.le_of_ble_eq_true rfl) dX4_money_70
    · refine v_tabIn G 71 ⟨by omega, by omega⟩ (by omega) (by omega) (by rw [c4]; rfl) (by decide) dX4_money_25 ?_
      refine v_aload_n G 0 rfl rfl dX4_money_71 ?_
      refine kX4_252 G (As := []) (rest := []) (cs' := 0) (sl' := 0) (n_loans G.fl (τ := τ) (D := st2 D 0 0 0) hA H.many) (zRcv.of G (q := (RX4, TX4, 55)) rfl zM_0) rfl rfl (Nat.le_of_ble_eq_true rfl) (zRm.ok rfl) dX4_money_72 (fun vq8 hq8 q8 => ?_)
      obtain ⟨_, _⟩ := q8
      subst vq8 hq8
      show VW θ Q E (zM E A h (sc τ (st2 D 0 0 0))) 0 0 75 [(0, .ref (A 0)), (1, .int (iI w))] [.long (iL (loansT τ))]
      have e : oMoney τ w = (0, (loansT τ), τ) := by
        unfold oMoney
        (repeat (first | rw [if_pos (by omega)] | rw [if_neg (by omega)]))
        all_goals rfl
      exact v_lret G hQ (by rw [e]; exact ⟨rfl, st2 D 0 0 0, rfl, rfl⟩) (Nat.le_of_ble_eq_true rfl) (Nat.le_of_ble_eq_true rfl) dX4_money_75
    · refine v_tabOut G 76 ⟨by omega, by omega⟩ c4 (by decide) dX4_money_25 ?_
      refine v_aload_n G 0 rfl rfl dX4_money_76 ?_
      refine gX4_165 G zM_0 (v := .long (iL (τ 17 0))) rfl dX4_money_77 ?_
      have e : oMoney τ w = (0, (τ 17 0), τ) := by
        unfold oMoney
        (repeat (first | rw [if_pos (by omega)] | rw [if_neg (by omega)]))
        all_goals rfl
      exact v_lret G hQ (by rw [e]; exact ⟨rfl, st2 D 0 0 0, rfl, rfl⟩) (Nat.le_of_ble_eq_true rfl) (Nat.le_of_ble_eq_true rfl) dX4_money_80
  · have gz2 := bF hz2 (by omega)
    refine v_aload_n G 0 rfl rfl dX4_money_17 ?_
    refine v_iconst G dX4_money_18 ?_
    refine kX4_342 G (As := [.int (iI 1)]) (rest := []) (cs' := 0) (sl' := 0) (n_fails G.fl (τ := τ) (D := st2 D 0 0 0) hA (k := 1)) (zRcv.of G (q := (RX4, TX4, 55)) rfl zM_0) rfl rfl (Nat.le_of_ble_eq_true rfl) (zRm.ok rfl) dX4_money_19 (fun vq9 hq9 q9 => ?_)
    obtain ⟨_, _⟩ := q9
    subst vq9 hq9
    show VW θ Q E (zM E A h (sc τ (st2 (st2 D 0 0 0) 0 0 1))) 0 0 22 [(0, .ref (A 0)), (1, .int (iI w))] [.int (iI 0)]
    refine v_i2l G ⟨by decide, by decide⟩ dX4_money_22 ?_
    have e : oMoney τ w = (1, 0, τ) := by
      unfold oMoney
      (repeat (first | rw [if_pos (by omega)] | rw [if_neg (by omega)]))
      all_goals rfl
    exact v_lret G hQ (by rw [e]; exact ⟨rfl, st2 (st2 D 0 0 0) 0 0 1, rfl, rfl⟩) (Nat.le_of_ble_eq_true rfl) (Nat.le_of_ble_eq_true rfl) dX4_money_23

set_option maxHeartbeats 4000000 in
theorem o_quote {l : Launch} (hfl : l.stackTraces = false) {E : zEn} {h : zHp} {A : Nat → Nat} {τ D : mMem} (hA : mInj A) (H : okT τ) {kind : Int} (nnkind : n32 kind) {u : Int} (nnu : n32 u) {term : Int} (nnterm : n32 term) {b : Int} (nnb : n32 b) {fl : Int} (nnfl : n32 fl) {pts : Int} (nnpts : n32 pts)  : CN l E yX4_quote (ws_ yX4_quote cX4_quote 7 (some FieldType.long)) ({ frames := 4, cells := 0, slots := 0, locals := 120 } : Room) [.ref (A 0), .int (iI kind), .int (iI u), .int (iI term), .int (iI b), .int (iI fl), .int (iI pts)] (zM E A h (sc τ D)) (zOL E A h (oQuote τ kind u term b fl pts)) := by
  refine CN.of (by decide +kernel) hfl (Nat.le_of_ble_eq_true rfl) fun θ Q hl G hin hQ => ?_
  subst hl
  show VW θ Q E (zM E A h (sc τ D)) 0 0 0 [(0, .ref (A 0)), (1, .int (iI kind)), (2, .int (iI u)), (3, .int (iI term)), (4, .int (iI b)), (5, .int (iI fl)), (6, .int (iI pts))] []
  have hm := H.many
  have hyr := H.year
  have hn := H.nums
  have hi := H.imp
  have hbt := H.bits
  refine v_aload_n G 0 rfl rfl dX4_quote_0 ?_
  refine v_iconst G dX4_quote_1 ?_
  refine pX4_1 G zM_0 (Nat.le_of_ble_eq_true rfl) dX4_quote_2 ?_
  refine VW.hpe (zM_up0 (k := 0) (z := 0) rfl (by decide)) ?_
  refine VW.hpe (congrArg (zM E A h) (sc_D (k := 0) rfl)) ?_
  refine v_aload_n G 0 rfl rfl dX4_quote_5 ?_
  refine v_iload_n G 1 rfl rfl dX4_quote_6 ?_
  refine v_iload_n G 2 rfl rfl dX4_quote_7 ?_
  refine v_iload_n G 3 rfl rfl dX4_quote_8 ?_
  refine v_iload G 4 rfl dX4_quote_9 ?_
  refine v_iload G 5 rfl dX4_quote_11 ?_
  refine v_iload G 6 rfl dX4_quote_13 ?_
  refine kX4_373 G (As := [.int (iI kind), .int (iI u), .int (iI term), .int (iI b), .int (iI fl), .int (iI pts)]) (rest := []) (cs' := 0) (sl' := 0) (n_isOffer G.fl (τ := τ) (D := st2 D 0 0 0) hA H (kind := kind) (u := u) (term := term) (b := b) (fl := fl) (pts := pts) ⟨by omega, by omega⟩ ⟨by omega, by omega⟩ ⟨by omega, by omega⟩ ⟨by omega, by omega⟩ ⟨by omega, by omega⟩ ⟨by omega, by omega⟩) (zRcv.of G (q := (RX4, TX4, 55)) rfl zM_0) rfl rfl (Nat.le_of_ble_eq_true rfl) (zRm.ok rfl) dX4_quote_15 (fun vq1 hq1 q1 => ?_)
  obtain ⟨_, _⟩ := q1
  subst vq1 hq1
  refine VW.nmI (fun z2 hz2 => ?_)
  have hz2 := ite01 hz2
  show VW θ Q E (zM E A h (sc τ (st2 D 0 0 0))) 0 0 18 [(0, .ref (A 0)), (1, .int (iI kind)), (2, .int (iI u)), (3, .int (iI term)), (4, .int (iI b)), (5, .int (iI fl)), (6, .int (iI pts))] [.int (iI z2)]
  refine v_if_ne G 28 ⟨by omega, by omega⟩ (by decide) dX4_quote_18 (fun c3 => ?_) (fun c3 => ?_)
  · have gz2 := bT hz2 (by omega)
    refine v_aload_n G 0 rfl rfl dX4_quote_28 ?_
    refine v_iload_n G 1 rfl rfl dX4_quote_29 ?_
    refine v_iload_n G 2 rfl rfl dX4_quote_30 ?_
    refine v_iload_n G 3 rfl rfl dX4_quote_31 ?_
    refine v_iload G 4 rfl dX4_quote_32 ?_
    refine v_iload G 5 rfl dX4_quote_34 ?_
    refine v_iload G 6 rfl dX4_quote_36 ?_
    refine kX4_377 G (As := [.int (iI kind), .int (iI u), .int (iI term), .int (iI b), .int (iI fl), .int (iI pts)]) (rest := []) (cs' := 0) (sl' := 0) (n_prem G.fl (τ := τ) (D := st2 D 0 0 0) hA (kind := kind) (u := u) (term := term) (b := b) (fl := fl) (pts := pts) (show okE τ from H.E) (by assumption)) (zRcv.of G (q := (RX4, TX4, 55)) rfl zM_0) rfl rfl (Nat.le_of_ble_eq_true rfl) (zRm.ok rfl) dX4_quote_38 (fun vq4 hq4 q4 => ?_)
    obtain ⟨_, D5, hD5, _⟩ := q4
    subst vq4 hq4
    show VW θ Q E (zM E A h (sc τ D5)) 0 0 41 [(0, .ref (A 0)), (1, .int (iI kind)), (2, .int (iI u)), (3, .int (iI term)), (4, .int (iI b)), (5, .int (iI fl)), (6, .int (iI pts))] [.long (iL (pmT τ kind u term b fl pts))]
    have e : oQuote τ kind u term b fl pts = (0, (pmT τ kind u term b fl pts), τ) := by
      unfold oQuote
      (repeat (first | rw [if_pos (by omega)] | rw [if_neg (by omega)]))
      all_goals rfl
    exact v_lret G hQ (by rw [e]; exact ⟨rfl, D5, ((congrFun (hD5 0 (Or.inl (by decide))) 0)), rfl⟩) (Nat.le_of_ble_eq_true rfl) (Nat.le_of_ble_eq_true rfl) dX4_quote_41
  · have gz2 := bF hz2 (by omega)
    refine v_aload_n G 0 rfl rfl dX4_quote_21 ?_
    refine v_iconst G dX4_quote_22 ?_
    refine kX4_342 G (As := [.int (iI 1)]) (rest := []) (cs' := 0) (sl' := 0) (n_fails G.fl (τ := τ) (D := st2 D 0 0 0) hA (k := 1)) (zRcv.of G (q := (RX4, TX4, 55)) rfl zM_0) rfl rfl (Nat.le_of_ble_eq_true rfl) (zRm.ok rfl) dX4_quote_23 (fun vq6 hq6 q6 => ?_)
    obtain ⟨_, _⟩ := q6
    subst vq6 hq6
    show VW θ Q E (zM E A h (sc τ (st2 (st2 D 0 0 0) 0 0 1))) 0 0 26 [(0, .ref (A 0)), (1, .int (iI kind)), (2, .int (iI u)), (3, .int (iI term)), (4, .int (iI b)), (5, .int (iI fl)), (6, .int (iI pts))] [.int (iI 0)]
    refine v_i2l G ⟨by decide, by decide⟩ dX4_quote_26 ?_
    have e : oQuote τ kind u term b fl pts = (1, 0, τ) := by
      unfold oQuote
      (repeat (first | rw [if_pos (by omega)] | rw [if_neg (by omega)]))
      all_goals rfl
    exact v_lret G hQ (by rw [e]; exact ⟨rfl, st2 (st2 D 0 0 0) 0 0 1, rfl, rfl⟩) (Nat.le_of_ble_eq_true rfl) (Nat.le_of_ble_eq_true rfl) dX4_quote_27

set_option maxHeartbeats 4000000 in
theorem o_polAt {l : Launch} (hfl : l.stackTraces = false) {E : zEn} {h : zHp} {A : Nat → Nat} {τ D : mMem} (hA : mInj A) (H : okT τ) {p : Int} (nnp : n32 p) {w : Int} (nnw : n32 w)  : CN l E yX4_policyAt (ws_ yX4_policyAt cX4_policyAt 3 (some FieldType.long)) ({ frames := 6, cells := 0, slots := 0, locals := 164 } : Room) [.ref (A 0), .int (iI p), .int (iI w)] (zM E A h (sc τ D)) (zOL E A h (oPolAt τ p w)) := by
  refine CN.of (by decide +kernel) hfl (Nat.le_of_ble_eq_true rfl) fun θ Q hl G hin hQ => ?_
  subst hl
  show VW θ Q E (zM E A h (sc τ D)) 0 0 0 [(0, .ref (A 0)), (1, .int (iI p)), (2, .int (iI w))] []
  have hm := H.many
  have hyr := H.year
  have hn := H.nums
  have hi := H.imp
  have hbt := H.bits
  refine v_aload_n G 0 rfl rfl dX4_policyAt_0 ?_
  refine v_iconst G dX4_policyAt_1 ?_
  refine pX4_1 G zM_0 (Nat.le_of_ble_eq_true rfl) dX4_policyAt_2 ?_
  refine VW.hpe (zM_up0 (k := 0) (z := 0) rfl (by decide)) ?_
  refine VW.hpe (congrArg (zM E A h) (sc_D (k := 0) rfl)) ?_
  refine v_aload_n G 0 rfl rfl dX4_policyAt_5 ?_
  refine v_iload_n G 1 rfl rfl dX4_policyAt_6 ?_
  refine kX4_380 G (As := [.int (iI p)]) (rest := []) (cs' := 0) (sl' := 0) (n_isPolicy G.fl (τ := τ) (D := st2 D 0 0 0) hA (p := p) ⟨by omega, by omega⟩ (show 0 ≤ τ 10 0 ∧ τ 10 0 ≤ 24 by omega)) (zRcv.of G (q := (RX4, TX4, 55)) rfl zM_0) rfl rfl (Nat.le_of_ble_eq_true rfl) (zRm.ok rfl) dX4_policyAt_7 (fun vq1 hq1 q1 => ?_)
  obtain ⟨_, _⟩ := q1
  subst vq1 hq1
  refine VW.nmI (fun z2 hz2 => ?_)
  have hz2 := (show (z2 = 1 ∧ 0 ≤ p ∧ p < τ 10 0) ∨ (z2 = 0 ∧ ¬ (0 ≤ p ∧ p < τ 10 0)) from ite01 hz2)
  show VW θ Q E (zM E A h (sc τ (st2 D 0 0 0))) 0 0 10 [(0, .ref (A 0)), (1, .int (iI p)), (2, .int (iI w))] [.int (iI z2)]
  refine v_if_ne G 20 ⟨by omega, by omega⟩ (by decide) dX4_policyAt_10 (fun c3 => ?_) (fun c3 => ?_)
  · have gz2 := bT hz2 (by omega)
    refine v_iload_n G 2 rfl rfl dX4_policyAt_20 ?_
    refine v_i2l G ⟨by omega, by omega⟩ dX4_policyAt_21 ?_
    refine v_lconst G (n := 0) (v0 := 0) rfl dX4_policyAt_22 ?_
    refine v_ldc2 G (v := 7) q2241 rfl dX4_policyAt_23 ?_
    refine kX4_168 G (As := [.long (iL w), .long (iL 0), .long (iL 7)]) (rest := []) (cs' := 0) (sl' := 0) (n_isIn G.fl (v := w) (a := 0) (b := 7) ⟨by omega, by omega⟩ ⟨by decide, by decide⟩ ⟨by decide, by decide⟩) rfl rfl (Nat.le_of_ble_eq_true rfl) (zRm.ok rfl) dX4_policyAt_26 (fun vq4 hq4 q4 => ?_)
    obtain ⟨_, _⟩ := q4
    subst vq4 hq4
    refine VW.nmI (fun z5 hz5 => ?_)
    have hz5 := ite01 hz5
    show VW θ Q E (zM E A h (sc τ (st2 D 0 0 0))) 0 0 29 [(0, .ref (A 0)), (1, .int (iI p)), (2, .int (iI w))] [.int (iI z5)]
    refine v_if_ne G 39 ⟨by omega, by omega⟩ (by decide) dX4_policyAt_29 (fun c6 => ?_) (fun c6 => ?_)
    · have gz5 := bT hz5 (by omega)
      have P9 := H.pol p (by omega) (by omega)
      have ho := P9.1
      unfold okPol at P9
      have h9 := ho
      simp only [okP1, okP, tP] at h9
      refine v_iload_n G 2 rfl rfl dX4_policyAt_39 ?_
      have c7 : w = 0 ∨ w = 1 ∨ w = 2 ∨ w = 3 ∨ w = 4 ∨ w = 5 ∨ w = 6 ∨ (w < 0 ∨ 6 < w) := by omega
      rcases c7 with c7 | c7 | c7 | c7 | c7 | c7 | c7 | c7
      · refine v_tabIn G 84 ⟨by omega, by omega⟩ (by omega) (by omega) (by rw [c7]; rfl) (by decide) dX4_policyAt_40 ?_
        refine v_aload_n G 0 rfl rfl dX4_policyAt_84 ?_
        refine gX4_79 G zM_0 (v := .ref (A 39)) rfl dX4_policyAt_85 ?_
        refine v_iload_n G 1 rfl rfl dX4_policyAt_88 ?_
        refine m_lld G hA (v := τ 39 p) rfl ⟨by omega, by show _ < (24 : Int); omega⟩ rfl dX4_policyAt_89 ?_
        have e : oPolAt τ p w = (0, (τ 39 p), τ) := by
          unfold oPolAt
          (repeat (first | rw [if_pos (by omega)] | rw [if_neg (by omega)]))
          all_goals rfl
        exact v_lret G hQ (by rw [e]; exact ⟨rfl, st2 D 0 0 0, rfl, rfl⟩) (Nat.le_of_ble_eq_true rfl) (Nat.le_of_ble_eq_true rfl) dX4_policyAt_90
      · refine v_tabIn G 91 ⟨by omega, by omega⟩ (by omega) (by omega) (by rw [c7]; rfl) (by decide) dX4_policyAt_40 ?_
        refine v_aload_n G 0 rfl rfl dX4_policyAt_91 ?_
        refine gX4_67 G zM_0 (v := .ref (A 35)) rfl dX4_policyAt_92 ?_
        refine v_iload_n G 1 rfl rfl dX4_policyAt_95 ?_
        refine m_lld G hA (v := τ 35 p) rfl ⟨by omega, by show _ < (24 : Int); omega⟩ rfl dX4_policyAt_96 ?_
        have e : oPolAt τ p w = (0, (τ 35 p), τ) := by
          unfold oPolAt
          (repeat (first | rw [if_pos (by omega)] | rw [if_neg (by omega)]))
          all_goals rfl
        exact v_lret G hQ (by rw [e]; exact ⟨rfl, st2 D 0 0 0, rfl, rfl⟩) (Nat.le_of_ble_eq_true rfl) (Nat.le_of_ble_eq_true rfl) dX4_policyAt_97
      · refine v_tabIn G 98 ⟨by omega, by omega⟩ (by omega) (by omega) (by rw [c7]; rfl) (by decide) dX4_policyAt_40 ?_
        refine v_aload_n G 0 rfl rfl dX4_policyAt_98 ?_
        refine gX4_70 G zM_0 (v := .ref (A 36)) rfl dX4_policyAt_99 ?_
        refine v_iload_n G 1 rfl rfl dX4_policyAt_102 ?_
        refine m_lld G hA (v := τ 36 p) rfl ⟨by omega, by show _ < (24 : Int); omega⟩ rfl dX4_policyAt_103 ?_
        have e : oPolAt τ p w = (0, (τ 36 p), τ) := by
          unfold oPolAt
          (repeat (first | rw [if_pos (by omega)] | rw [if_neg (by omega)]))
          all_goals rfl
        exact v_lret G hQ (by rw [e]; exact ⟨rfl, st2 D 0 0 0, rfl, rfl⟩) (Nat.le_of_ble_eq_true rfl) (Nat.le_of_ble_eq_true rfl) dX4_policyAt_104
      · refine v_tabIn G 105 ⟨by omega, by omega⟩ (by omega) (by omega) (by rw [c7]; rfl) (by decide) dX4_policyAt_40 ?_
        refine v_aload_n G 0 rfl rfl dX4_policyAt_105 ?_
        refine gX4_73 G zM_0 (v := .ref (A 37)) rfl dX4_policyAt_106 ?_
        refine v_iload_n G 1 rfl rfl dX4_policyAt_109 ?_
        refine m_lld G hA (v := τ 37 p) rfl ⟨by omega, by show _ < (24 : Int); omega⟩ rfl dX4_policyAt_110 ?_
        have e : oPolAt τ p w = (0, (τ 37 p), τ) := by
          unfold oPolAt
          (repeat (first | rw [if_pos (by omega)] | rw [if_neg (by omega)]))
          all_goals rfl
        exact v_lret G hQ (by rw [e]; exact ⟨rfl, st2 D 0 0 0, rfl, rfl⟩) (Nat.le_of_ble_eq_true rfl) (Nat.le_of_ble_eq_true rfl) dX4_policyAt_111
      · refine v_tabIn G 112 ⟨by omega, by omega⟩ (by omega) (by omega) (by rw [c7]; rfl) (by decide) dX4_policyAt_40 ?_
        refine v_aload_n G 0 rfl rfl dX4_policyAt_112 ?_
        refine gX4_76 G zM_0 (v := .ref (A 38)) rfl dX4_policyAt_113 ?_
        refine v_iload_n G 1 rfl rfl dX4_policyAt_116 ?_
        refine m_lld G hA (v := τ 38 p) rfl ⟨by omega, by show _ < (24 : Int); omega⟩ rfl dX4_policyAt_117 ?_
        have e : oPolAt τ p w = (0, (τ 38 p), τ) := by
          unfold oPolAt
          (repeat (first | rw [if_pos (by omega)] | rw [if_neg (by omega)]))
          all_goals rfl
        exact v_lret G hQ (by rw [e]; exact ⟨rfl, st2 D 0 0 0, rfl, rfl⟩) (Nat.le_of_ble_eq_true rfl) (Nat.le_of_ble_eq_true rfl) dX4_policyAt_118
      · refine v_tabIn G 119 ⟨by omega, by omega⟩ (by omega) (by omega) (by rw [c7]; rfl) (by decide) dX4_policyAt_40 ?_
        refine v_aload_n G 0 rfl rfl dX4_policyAt_119 ?_
        refine v_iload_n G 1 rfl rfl dX4_policyAt_120 ?_
        refine kX4_234 G (As := [.int (iI p)]) (rest := []) (cs' := 0) (sl' := 0) (n_isLiving G.fl (τ := τ) (D := st2 D 0 0 0) hA (p := p) ⟨by omega, by omega⟩ (show 0 ≤ τ 29 p ∧ τ 29 p ≤ 7 by omega)) (zRcv.of G (q := (RX4, TX4, 55)) rfl zM_0) rfl rfl (Nat.le_of_ble_eq_true rfl) (zRm.ok rfl) dX4_policyAt_121 (fun vq8 hq8 q8 => ?_)
        obtain ⟨_, _⟩ := q8
        subst vq8 hq8
        refine VW.nmI (fun z9 hz9 => ?_)
        have hz9 := (show (z9 = 1 ∧ τ 29 p ≤ 3) ∨ (z9 = 0 ∧ ¬ (τ 29 p ≤ 3)) from ite01 hz9)
        show VW θ Q E (zM E A h (sc τ (st2 D 0 0 0))) 0 0 124 [(0, .ref (A 0)), (1, .int (iI p)), (2, .int (iI w))] [.int (iI z9)]
        refine v_if_eq G 139 ⟨by omega, by omega⟩ (by decide) dX4_policyAt_124 (fun c10 => ?_) (fun c10 => ?_)
        · have gz9 := bF hz9 (by omega)
          refine v_lconst G (n := 0) (v0 := 0) rfl dX4_policyAt_139 ?_
          refine VW.cL (y := svT τ p (τ 1 0)) (by rw [svT_0 (by omega)]) ?_
          have e : oPolAt τ p w = (0, (svT τ p (τ 1 0)), τ) := by
            unfold oPolAt
            (repeat (first | rw [if_pos (by omega)] | rw [if_neg (by omega)]))
            all_goals rfl
          exact v_lret G hQ (by rw [e]; exact ⟨rfl, st2 D 0 0 0, rfl, rfl⟩) (Nat.le_of_ble_eq_true rfl) (Nat.le_of_ble_eq_true rfl) dX4_policyAt_140
        · have gz9 := bT hz9 (by omega)
          refine v_aload_n G 0 rfl rfl dX4_policyAt_127 ?_
          refine v_iload_n G 1 rfl rfl dX4_policyAt_128 ?_
          refine v_aload_n G 0 rfl rfl dX4_policyAt_129 ?_
          refine gX4_114 G zM_0 (v := .int (iI (τ 1 0))) rfl dX4_policyAt_130 ?_
          refine kX4_302 G (As := [.int (iI p), .int (iI (τ 1 0))]) (rest := []) (cs' := 0) (sl' := 0) (n_surr G.fl (τ := τ) (D := st2 D 0 0 0) hA (p := p) (y := (τ 1 0)) ⟨by omega, by omega⟩ ho (H.law 0 (by omega) (by omega)) (H.A.2 p (by omega) (by omega)).2) (zRcv.of G (q := (RX4, TX4, 55)) rfl zM_0) rfl rfl (Nat.le_of_ble_eq_true rfl) (zRm.ok rfl) dX4_policyAt_133 (fun vq11 hq11 q11 => ?_)
          obtain ⟨_, D12, hD12, _⟩ := q11
          subst vq11 hq11
          show VW θ Q E (zM E A h (sc τ D12)) 0 0 136 [(0, .ref (A 0)), (1, .int (iI p)), (2, .int (iI w))] [.long (iL (svT τ p (τ 1 0)))]
          refine v_goto G 140 (by decide) dX4_policyAt_136 ?_
          have e : oPolAt τ p w = (0, (svT τ p (τ 1 0)), τ) := by
            unfold oPolAt
            (repeat (first | rw [if_pos (by omega)] | rw [if_neg (by omega)]))
            all_goals rfl
          exact v_lret G hQ (by rw [e]; exact ⟨rfl, D12, ((congrFun (hD12 0 (Or.inl (by decide))) 0)), rfl⟩) (Nat.le_of_ble_eq_true rfl) (Nat.le_of_ble_eq_true rfl) dX4_policyAt_140
      · refine v_tabIn G 141 ⟨by omega, by omega⟩ (by omega) (by omega) (by rw [c7]; rfl) (by decide) dX4_policyAt_40 ?_
        refine v_aload_n G 0 rfl rfl dX4_policyAt_141 ?_
        refine gX4_43 G zM_0 (v := .ref (A 27)) rfl dX4_policyAt_142 ?_
        refine v_iload_n G 1 rfl rfl dX4_policyAt_145 ?_
        refine m_ald G hA (v := τ 27 p) rfl ⟨by omega, by show _ < (24 : Int); omega⟩ rfl dX4_policyAt_146 ?_
        refine v_i2l G ⟨by omega, by omega⟩ dX4_policyAt_147 ?_
        have e : oPolAt τ p w = (0, (τ 27 p), τ) := by
          unfold oPolAt
          (repeat (first | rw [if_pos (by omega)] | rw [if_neg (by omega)]))
          all_goals rfl
        exact v_lret G hQ (by rw [e]; exact ⟨rfl, st2 D 0 0 0, rfl, rfl⟩) (Nat.le_of_ble_eq_true rfl) (Nat.le_of_ble_eq_true rfl) dX4_policyAt_148
      · refine v_tabOut G 149 ⟨by omega, by omega⟩ c7 (by decide) dX4_policyAt_40 ?_
        refine v_aload_n G 0 rfl rfl dX4_policyAt_149 ?_
        refine gX4_46 G zM_0 (v := .ref (A 28)) rfl dX4_policyAt_150 ?_
        refine v_iload_n G 1 rfl rfl dX4_policyAt_153 ?_
        refine m_ald G hA (v := τ 28 p) rfl ⟨by omega, by show _ < (24 : Int); omega⟩ rfl dX4_policyAt_154 ?_
        refine v_i2l G ⟨by omega, by omega⟩ dX4_policyAt_155 ?_
        have e : oPolAt τ p w = (0, (τ 28 p), τ) := by
          unfold oPolAt
          (repeat (first | rw [if_pos (by omega)] | rw [if_neg (by omega)]))
          all_goals rfl
        exact v_lret G hQ (by rw [e]; exact ⟨rfl, st2 D 0 0 0, rfl, rfl⟩) (Nat.le_of_ble_eq_true rfl) (Nat.le_of_ble_eq_true rfl) dX4_policyAt_156
    · have gz5 := bF hz5 (by omega)
      refine v_aload_n G 0 rfl rfl dX4_policyAt_32 ?_
      refine v_iconst G dX4_policyAt_33 ?_
      refine kX4_342 G (As := [.int (iI 2)]) (rest := []) (cs' := 0) (sl' := 0) (n_fails G.fl (τ := τ) (D := st2 D 0 0 0) hA (k := 2)) (zRcv.of G (q := (RX4, TX4, 55)) rfl zM_0) rfl rfl (Nat.le_of_ble_eq_true rfl) (zRm.ok rfl) dX4_policyAt_34 (fun vq13 hq13 q13 => ?_)
      obtain ⟨_, _⟩ := q13
      subst vq13 hq13
      show VW θ Q E (zM E A h (sc τ (st2 (st2 D 0 0 0) 0 0 2))) 0 0 37 [(0, .ref (A 0)), (1, .int (iI p)), (2, .int (iI w))] [.int (iI 0)]
      refine v_i2l G ⟨by decide, by decide⟩ dX4_policyAt_37 ?_
      have e : oPolAt τ p w = (2, 0, τ) := by
        unfold oPolAt
        (repeat (first | rw [if_pos (by omega)] | rw [if_neg (by omega)]))
        all_goals rfl
      exact v_lret G hQ (by rw [e]; exact ⟨rfl, st2 (st2 D 0 0 0) 0 0 2, rfl, rfl⟩) (Nat.le_of_ble_eq_true rfl) (Nat.le_of_ble_eq_true rfl) dX4_policyAt_38
  · have gz2 := bF hz2 (by omega)
    refine v_aload_n G 0 rfl rfl dX4_policyAt_13 ?_
    refine v_iconst G dX4_policyAt_14 ?_
    refine kX4_342 G (As := [.int (iI 1)]) (rest := []) (cs' := 0) (sl' := 0) (n_fails G.fl (τ := τ) (D := st2 D 0 0 0) hA (k := 1)) (zRcv.of G (q := (RX4, TX4, 55)) rfl zM_0) rfl rfl (Nat.le_of_ble_eq_true rfl) (zRm.ok rfl) dX4_policyAt_15 (fun vq14 hq14 q14 => ?_)
    obtain ⟨_, _⟩ := q14
    subst vq14 hq14
    show VW θ Q E (zM E A h (sc τ (st2 (st2 D 0 0 0) 0 0 1))) 0 0 18 [(0, .ref (A 0)), (1, .int (iI p)), (2, .int (iI w))] [.int (iI 0)]
    refine v_i2l G ⟨by decide, by decide⟩ dX4_policyAt_18 ?_
    have e : oPolAt τ p w = (1, 0, τ) := by
      unfold oPolAt
      (repeat (first | rw [if_pos (by omega)] | rw [if_neg (by omega)]))
      all_goals rfl
    exact v_lret G hQ (by rw [e]; exact ⟨rfl, st2 (st2 D 0 0 0) 0 0 1, rfl, rfl⟩) (Nat.le_of_ble_eq_true rfl) (Nat.le_of_ble_eq_true rfl) dX4_policyAt_19

set_option maxHeartbeats 4000000 in
theorem o_res {l : Launch} (hfl : l.stackTraces = false) {E : zEn} {h : zHp} {A : Nat → Nat} {τ D : mMem} (hA : mInj A) (H : okT τ) {p : Int} (nnp : n32 p) {law : Int} (nnlaw : n32 law)  : CN l E yX4_reserve (ws_ yX4_reserve cX4_reserve 3 (some FieldType.long)) ({ frames := 5, cells := 0, slots := 0, locals := 142 } : Room) [.ref (A 0), .int (iI p), .int (iI law)] (zM E A h (sc τ D)) (zOL E A h (oRes τ p law)) := by
  refine CN.of (by decide +kernel) hfl (Nat.le_of_ble_eq_true rfl) fun θ Q hl G hin hQ => ?_
  subst hl
  show VW θ Q E (zM E A h (sc τ D)) 0 0 0 [(0, .ref (A 0)), (1, .int (iI p)), (2, .int (iI law))] []
  have hm := H.many
  have hyr := H.year
  have hn := H.nums
  have hi := H.imp
  have hbt := H.bits
  refine v_aload_n G 0 rfl rfl dX4_reserve_0 ?_
  refine v_iconst G dX4_reserve_1 ?_
  refine pX4_1 G zM_0 (Nat.le_of_ble_eq_true rfl) dX4_reserve_2 ?_
  refine VW.hpe (zM_up0 (k := 0) (z := 0) rfl (by decide)) ?_
  refine VW.hpe (congrArg (zM E A h) (sc_D (k := 0) rfl)) ?_
  refine v_aload_n G 0 rfl rfl dX4_reserve_5 ?_
  refine v_iload_n G 1 rfl rfl dX4_reserve_6 ?_
  refine kX4_380 G (As := [.int (iI p)]) (rest := []) (cs' := 0) (sl' := 0) (n_isPolicy G.fl (τ := τ) (D := st2 D 0 0 0) hA (p := p) ⟨by omega, by omega⟩ (show 0 ≤ τ 10 0 ∧ τ 10 0 ≤ 24 by omega)) (zRcv.of G (q := (RX4, TX4, 55)) rfl zM_0) rfl rfl (Nat.le_of_ble_eq_true rfl) (zRm.ok rfl) dX4_reserve_7 (fun vq1 hq1 q1 => ?_)
  obtain ⟨_, _⟩ := q1
  subst vq1 hq1
  refine VW.nmI (fun z2 hz2 => ?_)
  have hz2 := (show (z2 = 1 ∧ 0 ≤ p ∧ p < τ 10 0) ∨ (z2 = 0 ∧ ¬ (0 ≤ p ∧ p < τ 10 0)) from ite01 hz2)
  show VW θ Q E (zM E A h (sc τ (st2 D 0 0 0))) 0 0 10 [(0, .ref (A 0)), (1, .int (iI p)), (2, .int (iI law))] [.int (iI z2)]
  refine v_if_eq G 20 ⟨by omega, by omega⟩ (by decide) dX4_reserve_10 (fun c3 => ?_) (fun c3 => ?_)
  · have gz2 := bF hz2 (by omega)
    refine v_aload_n G 0 rfl rfl dX4_reserve_20 ?_
    refine v_iconst G dX4_reserve_21 ?_
    refine kX4_342 G (As := [.int (iI 1)]) (rest := []) (cs' := 0) (sl' := 0) (n_fails G.fl (τ := τ) (D := st2 D 0 0 0) hA (k := 1)) (zRcv.of G (q := (RX4, TX4, 55)) rfl zM_0) rfl rfl (Nat.le_of_ble_eq_true rfl) (zRm.ok rfl) dX4_reserve_22 (fun vq4 hq4 q4 => ?_)
    obtain ⟨_, _⟩ := q4
    subst vq4 hq4
    show VW θ Q E (zM E A h (sc τ (st2 (st2 D 0 0 0) 0 0 1))) 0 0 25 [(0, .ref (A 0)), (1, .int (iI p)), (2, .int (iI law))] [.int (iI 0)]
    refine v_i2l G ⟨by decide, by decide⟩ dX4_reserve_25 ?_
    have e : oRes τ p law = (1, 0, τ) := by
      unfold oRes
      (repeat (first | rw [if_pos (by omega)] | rw [if_neg (by omega)]))
      all_goals rfl
    exact v_lret G hQ (by rw [e]; exact ⟨rfl, st2 (st2 D 0 0 0) 0 0 1, rfl, rfl⟩) (Nat.le_of_ble_eq_true rfl) (Nat.le_of_ble_eq_true rfl) dX4_reserve_26
  · have gz2 := bT hz2 (by omega)
    refine v_iload_n G 2 rfl rfl dX4_reserve_13 ?_
    refine kX4_346 G (As := [.int (iI law)]) (rest := []) (cs' := 0) (sl' := 0) (n_isLaw G.fl (p := law) ⟨by omega, by omega⟩) rfl rfl (Nat.le_of_ble_eq_true rfl) (zRm.ok rfl) dX4_reserve_14 (fun vq5 hq5 q5 => ?_)
    obtain ⟨_, _⟩ := q5
    subst vq5 hq5
    refine VW.nmI (fun z6 hz6 => ?_)
    have hz6 := ite01 hz6
    show VW θ Q E (zM E A h (sc τ (st2 D 0 0 0))) 0 0 17 [(0, .ref (A 0)), (1, .int (iI p)), (2, .int (iI law))] [.int (iI z6)]
    refine v_if_ne G 27 ⟨by omega, by omega⟩ (by decide) dX4_reserve_17 (fun c7 => ?_) (fun c7 => ?_)
    · have gz6 := bT hz6 (by omega)
      refine v_aload_n G 0 rfl rfl dX4_reserve_27 ?_
      refine v_iload_n G 1 rfl rfl dX4_reserve_28 ?_
      refine v_aload_n G 0 rfl rfl dX4_reserve_29 ?_
      refine gX4_114 G zM_0 (v := .int (iI (τ 1 0))) rfl dX4_reserve_30 ?_
      refine v_iload_n G 2 rfl rfl dX4_reserve_33 ?_
      refine kX4_244 G (As := [.int (iI p), .int (iI (τ 1 0)), .int (iI law)]) (rest := []) (cs' := 0) (sl' := 0) (n_resAt G.fl (τ := τ) (D := st2 D 0 0 0) hA (p := p) (y := (τ 1 0)) (law := law) ⟨by omega, by omega⟩ (H.pol p (by omega) (by omega)).1 ⟨by omega, by omega⟩ (H.law law (by omega) (by omega)) (H.A.2 p (by omega) (by omega)).2) (zRcv.of G (q := (RX4, TX4, 55)) rfl zM_0) rfl rfl (Nat.le_of_ble_eq_true rfl) (zRm.ok rfl) dX4_reserve_34 (fun vq8 hq8 q8 => ?_)
      obtain ⟨_, D9, hD9, _⟩ := q8
      subst vq8 hq8
      show VW θ Q E (zM E A h (sc τ D9)) 0 0 37 [(0, .ref (A 0)), (1, .int (iI p)), (2, .int (iI law))] [.long (iL (rsT τ law p (τ 1 0)))]
      have e : oRes τ p law = (0, (rsT τ law p (τ 1 0)), τ) := by
        unfold oRes
        (repeat (first | rw [if_pos (by omega)] | rw [if_neg (by omega)]))
        all_goals rfl
      exact v_lret G hQ (by rw [e]; exact ⟨rfl, D9, ((congrFun (hD9 0 (Or.inl (by decide))) 0)), rfl⟩) (Nat.le_of_ble_eq_true rfl) (Nat.le_of_ble_eq_true rfl) dX4_reserve_37
    · have gz6 := bF hz6 (by omega)
      refine v_aload_n G 0 rfl rfl dX4_reserve_20 ?_
      refine v_iconst G dX4_reserve_21 ?_
      refine kX4_342 G (As := [.int (iI 1)]) (rest := []) (cs' := 0) (sl' := 0) (n_fails G.fl (τ := τ) (D := st2 D 0 0 0) hA (k := 1)) (zRcv.of G (q := (RX4, TX4, 55)) rfl zM_0) rfl rfl (Nat.le_of_ble_eq_true rfl) (zRm.ok rfl) dX4_reserve_22 (fun vq10 hq10 q10 => ?_)
      obtain ⟨_, _⟩ := q10
      subst vq10 hq10
      show VW θ Q E (zM E A h (sc τ (st2 (st2 D 0 0 0) 0 0 1))) 0 0 25 [(0, .ref (A 0)), (1, .int (iI p)), (2, .int (iI law))] [.int (iI 0)]
      refine v_i2l G ⟨by decide, by decide⟩ dX4_reserve_25 ?_
      have e : oRes τ p law = (1, 0, τ) := by
        unfold oRes
        (repeat (first | rw [if_pos (by omega)] | rw [if_neg (by omega)]))
        all_goals rfl
      exact v_lret G hQ (by rw [e]; exact ⟨rfl, st2 (st2 D 0 0 0) 0 0 1, rfl, rfl⟩) (Nat.le_of_ble_eq_true rfl) (Nat.le_of_ble_eq_true rfl) dX4_reserve_26

set_option maxHeartbeats 4000000 in
theorem o_ress {l : Launch} (hfl : l.stackTraces = false) {E : zEn} {h : zHp} {A : Nat → Nat} {τ D : mMem} (hA : mInj A) (H : okT τ) {law : Int} (nnlaw : n32 law)  : CN l E yX4_reserves (ws_ yX4_reserves cX4_reserves 2 (some FieldType.long)) ({ frames := 6, cells := 0, slots := 0, locals := 166 } : Room) [.ref (A 0), .int (iI law)] (zM E A h (sc τ D)) (zOL E A h (oRess τ law)) := by
  refine CN.of (by decide +kernel) hfl (Nat.le_of_ble_eq_true rfl) fun θ Q hl G hin hQ => ?_
  subst hl
  show VW θ Q E (zM E A h (sc τ D)) 0 0 0 [(0, .ref (A 0)), (1, .int (iI law))] []
  have hm := H.many
  have hyr := H.year
  have hn := H.nums
  have hi := H.imp
  have hbt := H.bits
  refine v_aload_n G 0 rfl rfl dX4_reserves_0 ?_
  refine v_iconst G dX4_reserves_1 ?_
  refine pX4_1 G zM_0 (Nat.le_of_ble_eq_true rfl) dX4_reserves_2 ?_
  refine VW.hpe (zM_up0 (k := 0) (z := 0) rfl (by decide)) ?_
  refine VW.hpe (congrArg (zM E A h) (sc_D (k := 0) rfl)) ?_
  refine v_iload_n G 1 rfl rfl dX4_reserves_5 ?_
  refine kX4_346 G (As := [.int (iI law)]) (rest := []) (cs' := 0) (sl' := 0) (n_isLaw G.fl (p := law) ⟨by omega, by omega⟩) rfl rfl (Nat.le_of_ble_eq_true rfl) (zRm.ok rfl) dX4_reserves_6 (fun vq1 hq1 q1 => ?_)
  obtain ⟨_, _⟩ := q1
  subst vq1 hq1
  refine VW.nmI (fun z2 hz2 => ?_)
  have hz2 := ite01 hz2
  show VW θ Q E (zM E A h (sc τ (st2 D 0 0 0))) 0 0 9 [(0, .ref (A 0)), (1, .int (iI law))] [.int (iI z2)]
  refine v_if_ne G 19 ⟨by omega, by omega⟩ (by decide) dX4_reserves_9 (fun c3 => ?_) (fun c3 => ?_)
  · have gz2 := bT hz2 (by omega)
    refine v_aload_n G 0 rfl rfl dX4_reserves_19 ?_
    refine v_iload_n G 1 rfl rfl dX4_reserves_20 ?_
    refine kX4_259 G (As := [.int (iI law)]) (rest := []) (cs' := 0) (sl' := 0) (n_all G.fl (τ := τ) (D := st2 D 0 0 0) hA (law := law) ⟨by omega, by omega⟩ (H.law law (by omega) (by omega)) H.A) (zRcv.of G (q := (RX4, TX4, 55)) rfl zM_0) rfl rfl (Nat.le_of_ble_eq_true rfl) (zRm.ok rfl) dX4_reserves_21 (fun vq4 hq4 q4 => ?_)
    obtain ⟨_, D5, hD5, _⟩ := q4
    subst vq4 hq4
    show VW θ Q E (zM E A h (sc τ D5)) 0 0 24 [(0, .ref (A 0)), (1, .int (iI law))] [.long (iL (totT τ law))]
    have e : oRess τ law = (0, (totT τ law), τ) := by
      unfold oRess
      (repeat (first | rw [if_pos (by omega)] | rw [if_neg (by omega)]))
      all_goals rfl
    exact v_lret G hQ (by rw [e]; exact ⟨rfl, D5, ((congrFun (hD5 0 (Or.inl (by decide))) 0)), rfl⟩) (Nat.le_of_ble_eq_true rfl) (Nat.le_of_ble_eq_true rfl) dX4_reserves_24
  · have gz2 := bF hz2 (by omega)
    refine v_aload_n G 0 rfl rfl dX4_reserves_12 ?_
    refine v_iconst G dX4_reserves_13 ?_
    refine kX4_342 G (As := [.int (iI 1)]) (rest := []) (cs' := 0) (sl' := 0) (n_fails G.fl (τ := τ) (D := st2 D 0 0 0) hA (k := 1)) (zRcv.of G (q := (RX4, TX4, 55)) rfl zM_0) rfl rfl (Nat.le_of_ble_eq_true rfl) (zRm.ok rfl) dX4_reserves_14 (fun vq6 hq6 q6 => ?_)
    obtain ⟨_, _⟩ := q6
    subst vq6 hq6
    show VW θ Q E (zM E A h (sc τ (st2 (st2 D 0 0 0) 0 0 1))) 0 0 17 [(0, .ref (A 0)), (1, .int (iI law))] [.int (iI 0)]
    refine v_i2l G ⟨by decide, by decide⟩ dX4_reserves_17 ?_
    have e : oRess τ law = (1, 0, τ) := by
      unfold oRess
      (repeat (first | rw [if_pos (by omega)] | rw [if_neg (by omega)]))
      all_goals rfl
    exact v_lret G hQ (by rw [e]; exact ⟨rfl, st2 (st2 D 0 0 0) 0 0 1, rfl, rfl⟩) (Nat.le_of_ble_eq_true rfl) (Nat.le_of_ble_eq_true rfl) dX4_reserves_18

set_option maxHeartbeats 4000000 in
theorem o_lend {l : Launch} (hfl : l.stackTraces = false) {E : zEn} {h : zHp} {A : Nat → Nat} {τ D : mMem} (hA : mInj A) (H : okT τ) {p : Int} (nnp : n32 p) {a : Int} (nna : n32 a)  : CN l E yX4_lend (ws_ yX4_lend cX4_lend 3 (some FieldType.long)) ({ frames := 6, cells := 0, slots := 0, locals := 164 } : Room) [.ref (A 0), .int (iI p), .int (iI a)] (zM E A h (sc τ D)) (zOL E A h (oLend τ p a)) := by
  refine CN.of (by decide +kernel) hfl (Nat.le_of_ble_eq_true rfl) fun θ Q hl G hin hQ => ?_
  subst hl
  show VW θ Q E (zM E A h (sc τ D)) 0 0 0 [(0, .ref (A 0)), (1, .int (iI p)), (2, .int (iI a))] []
  have hm := H.many
  have hyr := H.year
  have hn := H.nums
  have hi := H.imp
  have hbt := H.bits
  have hw := H.law 0 (by omega) (by omega)
  have w9 := hw
  simp only [okLaw, okW] at w9
  refine v_aload_n G 0 rfl rfl dX4_lend_0 ?_
  refine v_iconst G dX4_lend_1 ?_
  refine pX4_1 G zM_0 (Nat.le_of_ble_eq_true rfl) dX4_lend_2 ?_
  refine VW.hpe (zM_up0 (k := 0) (z := 0) rfl (by decide)) ?_
  refine VW.hpe (congrArg (zM E A h) (sc_D (k := 0) rfl)) ?_
  refine v_aload_n G 0 rfl rfl dX4_lend_5 ?_
  refine v_iload_n G 1 rfl rfl dX4_lend_6 ?_
  refine kX4_380 G (As := [.int (iI p)]) (rest := []) (cs' := 0) (sl' := 0) (n_isPolicy G.fl (τ := τ) (D := st2 D 0 0 0) hA (p := p) ⟨by omega, by omega⟩ (show 0 ≤ τ 10 0 ∧ τ 10 0 ≤ 24 by omega)) (zRcv.of G (q := (RX4, TX4, 55)) rfl zM_0) rfl rfl (Nat.le_of_ble_eq_true rfl) (zRm.ok rfl) dX4_lend_7 (fun vq1 hq1 q1 => ?_)
  obtain ⟨_, _⟩ := q1
  subst vq1 hq1
  refine VW.nmI (fun z2 hz2 => ?_)
  have hz2 := (show (z2 = 1 ∧ 0 ≤ p ∧ p < τ 10 0) ∨ (z2 = 0 ∧ ¬ (0 ≤ p ∧ p < τ 10 0)) from ite01 hz2)
  show VW θ Q E (zM E A h (sc τ (st2 D 0 0 0))) 0 0 10 [(0, .ref (A 0)), (1, .int (iI p)), (2, .int (iI a))] [.int (iI z2)]
  refine v_if_ne G 20 ⟨by omega, by omega⟩ (by decide) dX4_lend_10 (fun c3 => ?_) (fun c3 => ?_)
  · have gz2 := bT hz2 (by omega)
    have P9 := H.pol p (by omega) (by omega)
    have ho := P9.1
    unfold okPol at P9
    have h9 := ho
    simp only [okP1, okP, tP] at h9
    refine v_iload_n G 2 rfl rfl dX4_lend_20 ?_
    refine v_iconst G dX4_lend_21 ?_
    refine v_icmp_ge G 32 ⟨by omega, by omega⟩ ⟨by decide, by decide⟩ (by decide) dX4_lend_22 (fun c4 => ?_) (fun c4 => ?_)
    · refine v_aload_n G 0 rfl rfl dX4_lend_32 ?_
      refine v_iload_n G 1 rfl rfl dX4_lend_33 ?_
      refine kX4_383 G (As := [.int (iI p)]) (rest := []) (cs' := 0) (sl' := 0) (n_isQuiet G.fl (τ := τ) (D := st2 D 0 0 0) hA (p := p) ⟨by omega, by omega⟩ (show 0 ≤ τ 29 p ∧ τ 29 p ≤ 7 by omega)) (zRcv.of G (q := (RX4, TX4, 55)) rfl zM_0) rfl rfl (Nat.le_of_ble_eq_true rfl) (zRm.ok rfl) dX4_lend_34 (fun vq5 hq5 q5 => ?_)
      obtain ⟨_, _⟩ := q5
      subst vq5 hq5
      refine VW.nmI (fun z6 hz6 => ?_)
      have hz6 := (show (z6 = 1 ∧ τ 29 p ≤ 1) ∨ (z6 = 0 ∧ ¬ (τ 29 p ≤ 1)) from ite01 hz6)
      show VW θ Q E (zM E A h (sc τ (st2 D 0 0 0))) 0 0 37 [(0, .ref (A 0)), (1, .int (iI p)), (2, .int (iI a))] [.int (iI z6)]
      refine v_if_eq G 70 ⟨by omega, by omega⟩ (by decide) dX4_lend_37 (fun c7 => ?_) (fun c7 => ?_)
      · have gz6 := bF hz6 (by omega)
        refine v_aload_n G 0 rfl rfl dX4_lend_70 ?_
        refine v_iconst G dX4_lend_71 ?_
        refine kX4_342 G (As := [.int (iI 3)]) (rest := []) (cs' := 0) (sl' := 0) (n_fails G.fl (τ := τ) (D := st2 D 0 0 0) hA (k := 3)) (zRcv.of G (q := (RX4, TX4, 55)) rfl zM_0) rfl rfl (Nat.le_of_ble_eq_true rfl) (zRm.ok rfl) dX4_lend_72 (fun vq8 hq8 q8 => ?_)
        obtain ⟨_, _⟩ := q8
        subst vq8 hq8
        show VW θ Q E (zM E A h (sc τ (st2 (st2 D 0 0 0) 0 0 3))) 0 0 75 [(0, .ref (A 0)), (1, .int (iI p)), (2, .int (iI a))] [.int (iI 0)]
        refine v_i2l G ⟨by decide, by decide⟩ dX4_lend_75 ?_
        have e : oLend τ p a = (3, 0, τ) := by
          unfold oLend
          (repeat (first | rw [if_pos (by omega)] | rw [if_neg (by omega)]))
          all_goals rfl
        exact v_lret G hQ (by rw [e]; exact ⟨rfl, st2 (st2 D 0 0 0) 0 0 3, rfl, rfl⟩) (Nat.le_of_ble_eq_true rfl) (Nat.le_of_ble_eq_true rfl) dX4_lend_76
      · have gz6 := bT hz6 (by omega)
        refine v_aload_n G 0 rfl rfl dX4_lend_40 ?_
        refine gX4_76 G zM_0 (v := .ref (A 38)) rfl dX4_lend_41 ?_
        refine v_iload_n G 1 rfl rfl dX4_lend_44 ?_
        refine m_lld G hA (v := τ 38 p) rfl ⟨by omega, by show _ < (24 : Int); omega⟩ rfl dX4_lend_45 ?_
        refine v_iload_n G 2 rfl rfl dX4_lend_46 ?_
        refine v_i2l G ⟨by omega, by omega⟩ dX4_lend_47 ?_
        refine v_ladd G dX4_lend_48 ?_
        refine v_aload_n G 0 rfl rfl dX4_lend_49 ?_
        refine v_iload_n G 1 rfl rfl dX4_lend_50 ?_
        refine v_aload_n G 0 rfl rfl dX4_lend_51 ?_
        refine gX4_114 G zM_0 (v := .int (iI (τ 1 0))) rfl dX4_lend_52 ?_
        have sb := svT_bd ho hw (H.A.2 p (by omega) (by omega)).2
        refine kX4_302 G (As := [.int (iI p), .int (iI (τ 1 0))]) (rest := [.long (iL ((τ 38 p) + a))]) (cs' := 0) (sl' := 0) (n_surr G.fl (τ := τ) (D := st2 D 0 0 0) hA (p := p) (y := (τ 1 0)) ⟨by omega, by omega⟩ ho hw (H.A.2 p (by omega) (by omega)).2) (zRcv.of G (q := (RX4, TX4, 55)) rfl zM_0) rfl rfl (Nat.le_of_ble_eq_true rfl) (zRm.ok rfl) dX4_lend_55 (fun vq9 hq9 q9 => ?_)
        obtain ⟨_, D10, hD10, _⟩ := q9
        subst vq9 hq9
        show VW θ Q E (zM E A h (sc τ D10)) 0 0 58 [(0, .ref (A 0)), (1, .int (iI p)), (2, .int (iI a))] [.long (iL (svT τ p (τ 1 0))), .long (iL ((τ 38 p) + a))]
        refine v_ldc2 G (v := 9) q2275 rfl dX4_lend_58 ?_
        refine v_lmul G dX4_lend_61 ?_
        refine v_ldc2 G (v := 10) q2276 rfl dX4_lend_62 ?_
        refine v_ldiv G ⟨by omega, by omega⟩ ⟨by decide, by decide⟩ dX4_lend_65 ?_
        refine v_lcmp G ⟨by omega, by omega⟩ ⟨by omega, by omega⟩ dX4_lend_66 ?_
        refine v_lif_le G 77 (by decide) dX4_lend_67 (fun c11 => ?_) (fun c11 => ?_)
        · refine v_aload_n G 0 rfl rfl dX4_lend_77 ?_
          refine gX4_76 G zM_0 (v := .ref (A 38)) rfl dX4_lend_78 ?_
          refine v_iload_n G 1 rfl rfl dX4_lend_81 ?_
          refine v_dup2 G rfl rfl dX4_lend_82 ?_
          refine m_lld G hA (v := τ 38 p) rfl ⟨by omega, by show _ < (24 : Int); omega⟩ rfl dX4_lend_83 ?_
          refine v_iload_n G 2 rfl rfl dX4_lend_84 ?_
          refine v_i2l G ⟨by omega, by omega⟩ dX4_lend_85 ?_
          refine v_ladd G dX4_lend_86 ?_
          refine m_lst G hA rfl ⟨by omega, by show _ < (24 : Int); omega⟩ dX4_lend_87 ?_
          refine VW.hpe (congrArg (zM E A h) (sc_t (k := 38) rfl)) ?_
          refine v_aload_n G 0 rfl rfl dX4_lend_88 ?_
          refine v_dup G rfl dX4_lend_89 ?_
          refine gX4_117 G zM_0 (v := .long (iL (τ 14 0))) rfl dX4_lend_90 ?_
          refine v_iload_n G 2 rfl rfl dX4_lend_93 ?_
          refine v_i2l G ⟨by omega, by omega⟩ dX4_lend_94 ?_
          refine v_lsub G dX4_lend_95 ?_
          refine pX4_117 G zM_0 (Nat.le_of_ble_eq_true rfl) dX4_lend_96 ?_
          refine VW.hpe (zM_up0 (k := 14) (z := ((τ 14 0) - a)) rfl (by decide)) ?_
          refine VW.hpe (congrArg (zM E A h) (sc_t (k := 14) rfl)) ?_
          refine v_aload_n G 0 rfl rfl dX4_lend_99 ?_
          refine gX4_76 G zM_0 (v := .ref (A 38)) rfl dX4_lend_100 ?_
          refine v_iload_n G 1 rfl rfl dX4_lend_103 ?_
          refine m_lld G hA (v := ((τ 38 p) + a)) rfl ⟨by omega, by show _ < (24 : Int); omega⟩ (by first | exact sc_rD rfl | exact sc_rt rfl | simp (decide := true) [sc, st2, iup]) dX4_lend_104 ?_
          have e : oLend τ p a = (0, ((τ 38 p) + a), st2 (st2 τ 38 p ((τ 38 p) + a)) 14 0 ((τ 14 0) - a)) := by
            unfold oLend
            (repeat (first | rw [if_pos (by omega)] | rw [if_neg (by omega)]))
            all_goals rfl
          exact v_lret G hQ (by rw [e]; exact ⟨rfl, D10, ((congrFun (hD10 0 (Or.inl (by decide))) 0)), rfl⟩) (Nat.le_of_ble_eq_true rfl) (Nat.le_of_ble_eq_true rfl) dX4_lend_105
        · refine v_aload_n G 0 rfl rfl dX4_lend_70 ?_
          refine v_iconst G dX4_lend_71 ?_
          refine kX4_342 G (As := [.int (iI 3)]) (rest := []) (cs' := 0) (sl' := 0) (n_fails G.fl (τ := τ) (D := D10) hA (k := 3)) (zRcv.of G (q := (RX4, TX4, 55)) rfl zM_0) rfl rfl (Nat.le_of_ble_eq_true rfl) (zRm.ok rfl) dX4_lend_72 (fun vq12 hq12 q12 => ?_)
          obtain ⟨_, _⟩ := q12
          subst vq12 hq12
          show VW θ Q E (zM E A h (sc τ (st2 D10 0 0 3))) 0 0 75 [(0, .ref (A 0)), (1, .int (iI p)), (2, .int (iI a))] [.int (iI 0)]
          refine v_i2l G ⟨by decide, by decide⟩ dX4_lend_75 ?_
          have e : oLend τ p a = (3, 0, τ) := by
            unfold oLend
            (repeat (first | rw [if_pos (by omega)] | rw [if_neg (by omega)]))
            all_goals rfl
          exact v_lret G hQ (by rw [e]; exact ⟨rfl, st2 D10 0 0 3, rfl, rfl⟩) (Nat.le_of_ble_eq_true rfl) (Nat.le_of_ble_eq_true rfl) dX4_lend_76
    · refine v_aload_n G 0 rfl rfl dX4_lend_25 ?_
      refine v_iconst G dX4_lend_26 ?_
      refine kX4_342 G (As := [.int (iI 2)]) (rest := []) (cs' := 0) (sl' := 0) (n_fails G.fl (τ := τ) (D := st2 D 0 0 0) hA (k := 2)) (zRcv.of G (q := (RX4, TX4, 55)) rfl zM_0) rfl rfl (Nat.le_of_ble_eq_true rfl) (zRm.ok rfl) dX4_lend_27 (fun vq13 hq13 q13 => ?_)
      obtain ⟨_, _⟩ := q13
      subst vq13 hq13
      show VW θ Q E (zM E A h (sc τ (st2 (st2 D 0 0 0) 0 0 2))) 0 0 30 [(0, .ref (A 0)), (1, .int (iI p)), (2, .int (iI a))] [.int (iI 0)]
      refine v_i2l G ⟨by decide, by decide⟩ dX4_lend_30 ?_
      have e : oLend τ p a = (2, 0, τ) := by
        unfold oLend
        (repeat (first | rw [if_pos (by omega)] | rw [if_neg (by omega)]))
        all_goals rfl
      exact v_lret G hQ (by rw [e]; exact ⟨rfl, st2 (st2 D 0 0 0) 0 0 2, rfl, rfl⟩) (Nat.le_of_ble_eq_true rfl) (Nat.le_of_ble_eq_true rfl) dX4_lend_31
  · have gz2 := bF hz2 (by omega)
    refine v_aload_n G 0 rfl rfl dX4_lend_13 ?_
    refine v_iconst G dX4_lend_14 ?_
    refine kX4_342 G (As := [.int (iI 1)]) (rest := []) (cs' := 0) (sl' := 0) (n_fails G.fl (τ := τ) (D := st2 D 0 0 0) hA (k := 1)) (zRcv.of G (q := (RX4, TX4, 55)) rfl zM_0) rfl rfl (Nat.le_of_ble_eq_true rfl) (zRm.ok rfl) dX4_lend_15 (fun vq14 hq14 q14 => ?_)
    obtain ⟨_, _⟩ := q14
    subst vq14 hq14
    show VW θ Q E (zM E A h (sc τ (st2 (st2 D 0 0 0) 0 0 1))) 0 0 18 [(0, .ref (A 0)), (1, .int (iI p)), (2, .int (iI a))] [.int (iI 0)]
    refine v_i2l G ⟨by decide, by decide⟩ dX4_lend_18 ?_
    have e : oLend τ p a = (1, 0, τ) := by
      unfold oLend
      (repeat (first | rw [if_pos (by omega)] | rw [if_neg (by omega)]))
      all_goals rfl
    exact v_lret G hQ (by rw [e]; exact ⟨rfl, st2 (st2 D 0 0 0) 0 0 1, rfl, rfl⟩) (Nat.le_of_ble_eq_true rfl) (Nat.le_of_ble_eq_true rfl) dX4_lend_19

set_option maxHeartbeats 4000000 in
theorem o_repay {l : Launch} (hfl : l.stackTraces = false) {E : zEn} {h : zHp} {A : Nat → Nat} {τ D : mMem} (hA : mInj A) (H : okT τ) {p : Int} (nnp : n32 p) {a : Int} (nna : n32 a)  : CN l E yX4_repay (ws_ yX4_repay cX4_repay 3 (some FieldType.long)) ({ frames := 2, cells := 0, slots := 0, locals := 46 } : Room) [.ref (A 0), .int (iI p), .int (iI a)] (zM E A h (sc τ D)) (zOL E A h (oRepay τ p a)) := by
  refine CN.of (by decide +kernel) hfl (Nat.le_of_ble_eq_true rfl) fun θ Q hl G hin hQ => ?_
  subst hl
  show VW θ Q E (zM E A h (sc τ D)) 0 0 0 [(0, .ref (A 0)), (1, .int (iI p)), (2, .int (iI a))] []
  have hm := H.many
  have hyr := H.year
  have hn := H.nums
  have hi := H.imp
  have hbt := H.bits
  have hw := H.law 0 (by omega) (by omega)
  have w9 := hw
  simp only [okLaw, okW] at w9
  refine v_aload_n G 0 rfl rfl dX4_repay_0 ?_
  refine v_iconst G dX4_repay_1 ?_
  refine pX4_1 G zM_0 (Nat.le_of_ble_eq_true rfl) dX4_repay_2 ?_
  refine VW.hpe (zM_up0 (k := 0) (z := 0) rfl (by decide)) ?_
  refine VW.hpe (congrArg (zM E A h) (sc_D (k := 0) rfl)) ?_
  refine v_aload_n G 0 rfl rfl dX4_repay_5 ?_
  refine v_iload_n G 1 rfl rfl dX4_repay_6 ?_
  refine kX4_380 G (As := [.int (iI p)]) (rest := []) (cs' := 0) (sl' := 0) (n_isPolicy G.fl (τ := τ) (D := st2 D 0 0 0) hA (p := p) ⟨by omega, by omega⟩ (show 0 ≤ τ 10 0 ∧ τ 10 0 ≤ 24 by omega)) (zRcv.of G (q := (RX4, TX4, 55)) rfl zM_0) rfl rfl (Nat.le_of_ble_eq_true rfl) (zRm.ok rfl) dX4_repay_7 (fun vq1 hq1 q1 => ?_)
  obtain ⟨_, _⟩ := q1
  subst vq1 hq1
  refine VW.nmI (fun z2 hz2 => ?_)
  have hz2 := (show (z2 = 1 ∧ 0 ≤ p ∧ p < τ 10 0) ∨ (z2 = 0 ∧ ¬ (0 ≤ p ∧ p < τ 10 0)) from ite01 hz2)
  show VW θ Q E (zM E A h (sc τ (st2 D 0 0 0))) 0 0 10 [(0, .ref (A 0)), (1, .int (iI p)), (2, .int (iI a))] [.int (iI z2)]
  refine v_if_ne G 20 ⟨by omega, by omega⟩ (by decide) dX4_repay_10 (fun c3 => ?_) (fun c3 => ?_)
  · have gz2 := bT hz2 (by omega)
    have P9 := H.pol p (by omega) (by omega)
    have ho := P9.1
    unfold okPol at P9
    have h9 := ho
    simp only [okP1, okP, tP] at h9
    refine v_iload_n G 2 rfl rfl dX4_repay_20 ?_
    refine v_i2l G ⟨by omega, by omega⟩ dX4_repay_21 ?_
    refine v_lconst G (n := 1) (v0 := 0) rfl dX4_repay_22 ?_
    refine v_aload_n G 0 rfl rfl dX4_repay_23 ?_
    refine gX4_76 G zM_0 (v := .ref (A 38)) rfl dX4_repay_24 ?_
    refine v_iload_n G 1 rfl rfl dX4_repay_27 ?_
    refine m_lld G hA (v := τ 38 p) rfl ⟨by omega, by show _ < (24 : Int); omega⟩ rfl dX4_repay_28 ?_
    refine kX4_168 G (As := [.long (iL a), .long (iL 1), .long (iL (τ 38 p))]) (rest := []) (cs' := 0) (sl' := 0) (n_isIn G.fl (v := a) (a := 1) (b := (τ 38 p)) ⟨by omega, by omega⟩ ⟨by decide, by decide⟩ ⟨by omega, by omega⟩) rfl rfl (Nat.le_of_ble_eq_true rfl) (zRm.ok rfl) dX4_repay_29 (fun vq4 hq4 q4 => ?_)
    obtain ⟨_, _⟩ := q4
    subst vq4 hq4
    refine VW.nmI (fun z5 hz5 => ?_)
    have hz5 := ite01 hz5
    show VW θ Q E (zM E A h (sc τ (st2 D 0 0 0))) 0 0 32 [(0, .ref (A 0)), (1, .int (iI p)), (2, .int (iI a))] [.int (iI z5)]
    refine v_if_ne G 42 ⟨by omega, by omega⟩ (by decide) dX4_repay_32 (fun c6 => ?_) (fun c6 => ?_)
    · have gz5 := bT hz5 (by omega)
      refine v_aload_n G 0 rfl rfl dX4_repay_42 ?_
      refine v_iload_n G 1 rfl rfl dX4_repay_43 ?_
      refine kX4_383 G (As := [.int (iI p)]) (rest := []) (cs' := 0) (sl' := 0) (n_isQuiet G.fl (τ := τ) (D := st2 D 0 0 0) hA (p := p) ⟨by omega, by omega⟩ (show 0 ≤ τ 29 p ∧ τ 29 p ≤ 7 by omega)) (zRcv.of G (q := (RX4, TX4, 55)) rfl zM_0) rfl rfl (Nat.le_of_ble_eq_true rfl) (zRm.ok rfl) dX4_repay_44 (fun vq7 hq7 q7 => ?_)
      obtain ⟨_, _⟩ := q7
      subst vq7 hq7
      refine VW.nmI (fun z8 hz8 => ?_)
      have hz8 := (show (z8 = 1 ∧ τ 29 p ≤ 1) ∨ (z8 = 0 ∧ ¬ (τ 29 p ≤ 1)) from ite01 hz8)
      show VW θ Q E (zM E A h (sc τ (st2 D 0 0 0))) 0 0 47 [(0, .ref (A 0)), (1, .int (iI p)), (2, .int (iI a))] [.int (iI z8)]
      refine v_if_ne G 57 ⟨by omega, by omega⟩ (by decide) dX4_repay_47 (fun c9 => ?_) (fun c9 => ?_)
      · have gz8 := bT hz8 (by omega)
        refine v_aload_n G 0 rfl rfl dX4_repay_57 ?_
        refine gX4_76 G zM_0 (v := .ref (A 38)) rfl dX4_repay_58 ?_
        refine v_iload_n G 1 rfl rfl dX4_repay_61 ?_
        refine v_dup2 G rfl rfl dX4_repay_62 ?_
        refine m_lld G hA (v := τ 38 p) rfl ⟨by omega, by show _ < (24 : Int); omega⟩ rfl dX4_repay_63 ?_
        refine v_iload_n G 2 rfl rfl dX4_repay_64 ?_
        refine v_i2l G ⟨by omega, by omega⟩ dX4_repay_65 ?_
        refine v_lsub G dX4_repay_66 ?_
        refine m_lst G hA rfl ⟨by omega, by show _ < (24 : Int); omega⟩ dX4_repay_67 ?_
        refine VW.hpe (congrArg (zM E A h) (sc_t (k := 38) rfl)) ?_
        refine v_aload_n G 0 rfl rfl dX4_repay_68 ?_
        refine v_dup G rfl dX4_repay_69 ?_
        refine gX4_117 G zM_0 (v := .long (iL (τ 14 0))) rfl dX4_repay_70 ?_
        refine v_iload_n G 2 rfl rfl dX4_repay_73 ?_
        refine v_i2l G ⟨by omega, by omega⟩ dX4_repay_74 ?_
        refine v_ladd G dX4_repay_75 ?_
        refine pX4_117 G zM_0 (Nat.le_of_ble_eq_true rfl) dX4_repay_76 ?_
        refine VW.hpe (zM_up0 (k := 14) (z := ((τ 14 0) + a)) rfl (by decide)) ?_
        refine VW.hpe (congrArg (zM E A h) (sc_t (k := 14) rfl)) ?_
        refine v_aload_n G 0 rfl rfl dX4_repay_79 ?_
        refine gX4_76 G zM_0 (v := .ref (A 38)) rfl dX4_repay_80 ?_
        refine v_iload_n G 1 rfl rfl dX4_repay_83 ?_
        refine m_lld G hA (v := ((τ 38 p) - a)) rfl ⟨by omega, by show _ < (24 : Int); omega⟩ (by first | exact sc_rD rfl | exact sc_rt rfl | simp (decide := true) [sc, st2, iup]) dX4_repay_84 ?_
        have e : oRepay τ p a = (0, ((τ 38 p) - a), st2 (st2 τ 38 p ((τ 38 p) - a)) 14 0 ((τ 14 0) + a)) := by
          unfold oRepay
          (repeat (first | rw [if_pos (by omega)] | rw [if_neg (by omega)]))
          all_goals rfl
        exact v_lret G hQ (by rw [e]; exact ⟨rfl, st2 D 0 0 0, rfl, rfl⟩) (Nat.le_of_ble_eq_true rfl) (Nat.le_of_ble_eq_true rfl) dX4_repay_85
      · have gz8 := bF hz8 (by omega)
        refine v_aload_n G 0 rfl rfl dX4_repay_50 ?_
        refine v_iconst G dX4_repay_51 ?_
        refine kX4_342 G (As := [.int (iI 3)]) (rest := []) (cs' := 0) (sl' := 0) (n_fails G.fl (τ := τ) (D := st2 D 0 0 0) hA (k := 3)) (zRcv.of G (q := (RX4, TX4, 55)) rfl zM_0) rfl rfl (Nat.le_of_ble_eq_true rfl) (zRm.ok rfl) dX4_repay_52 (fun vq10 hq10 q10 => ?_)
        obtain ⟨_, _⟩ := q10
        subst vq10 hq10
        show VW θ Q E (zM E A h (sc τ (st2 (st2 D 0 0 0) 0 0 3))) 0 0 55 [(0, .ref (A 0)), (1, .int (iI p)), (2, .int (iI a))] [.int (iI 0)]
        refine v_i2l G ⟨by decide, by decide⟩ dX4_repay_55 ?_
        have e : oRepay τ p a = (3, 0, τ) := by
          unfold oRepay
          (repeat (first | rw [if_pos (by omega)] | rw [if_neg (by omega)]))
          all_goals rfl
        exact v_lret G hQ (by rw [e]; exact ⟨rfl, st2 (st2 D 0 0 0) 0 0 3, rfl, rfl⟩) (Nat.le_of_ble_eq_true rfl) (Nat.le_of_ble_eq_true rfl) dX4_repay_56
    · have gz5 := bF hz5 (by omega)
      refine v_aload_n G 0 rfl rfl dX4_repay_35 ?_
      refine v_iconst G dX4_repay_36 ?_
      refine kX4_342 G (As := [.int (iI 2)]) (rest := []) (cs' := 0) (sl' := 0) (n_fails G.fl (τ := τ) (D := st2 D 0 0 0) hA (k := 2)) (zRcv.of G (q := (RX4, TX4, 55)) rfl zM_0) rfl rfl (Nat.le_of_ble_eq_true rfl) (zRm.ok rfl) dX4_repay_37 (fun vq11 hq11 q11 => ?_)
      obtain ⟨_, _⟩ := q11
      subst vq11 hq11
      show VW θ Q E (zM E A h (sc τ (st2 (st2 D 0 0 0) 0 0 2))) 0 0 40 [(0, .ref (A 0)), (1, .int (iI p)), (2, .int (iI a))] [.int (iI 0)]
      refine v_i2l G ⟨by decide, by decide⟩ dX4_repay_40 ?_
      have e : oRepay τ p a = (2, 0, τ) := by
        unfold oRepay
        (repeat (first | rw [if_pos (by omega)] | rw [if_neg (by omega)]))
        all_goals rfl
      exact v_lret G hQ (by rw [e]; exact ⟨rfl, st2 (st2 D 0 0 0) 0 0 2, rfl, rfl⟩) (Nat.le_of_ble_eq_true rfl) (Nat.le_of_ble_eq_true rfl) dX4_repay_41
  · have gz2 := bF hz2 (by omega)
    refine v_aload_n G 0 rfl rfl dX4_repay_13 ?_
    refine v_iconst G dX4_repay_14 ?_
    refine kX4_342 G (As := [.int (iI 1)]) (rest := []) (cs' := 0) (sl' := 0) (n_fails G.fl (τ := τ) (D := st2 D 0 0 0) hA (k := 1)) (zRcv.of G (q := (RX4, TX4, 55)) rfl zM_0) rfl rfl (Nat.le_of_ble_eq_true rfl) (zRm.ok rfl) dX4_repay_15 (fun vq12 hq12 q12 => ?_)
    obtain ⟨_, _⟩ := q12
    subst vq12 hq12
    show VW θ Q E (zM E A h (sc τ (st2 (st2 D 0 0 0) 0 0 1))) 0 0 18 [(0, .ref (A 0)), (1, .int (iI p)), (2, .int (iI a))] [.int (iI 0)]
    refine v_i2l G ⟨by decide, by decide⟩ dX4_repay_18 ?_
    have e : oRepay τ p a = (1, 0, τ) := by
      unfold oRepay
      (repeat (first | rw [if_pos (by omega)] | rw [if_neg (by omega)]))
      all_goals rfl
    exact v_lret G hQ (by rw [e]; exact ⟨rfl, st2 (st2 D 0 0 0) 0 0 1, rfl, rfl⟩) (Nat.le_of_ble_eq_true rfl) (Nat.le_of_ble_eq_true rfl) dX4_repay_19

set_option maxHeartbeats 4000000 in
theorem o_death {l : Launch} (hfl : l.stackTraces = false) {E : zEn} {h : zHp} {A : Nat → Nat} {τ D : mMem} (hA : mInj A) (H : okT τ) {p : Int} (nnp : n32 p) {n : Int} (nnn : n32 n)  : CN l E yX4_tellDeath (ws_ yX4_tellDeath cX4_tellDeath 3 (some FieldType.long)) ({ frames := 6, cells := 0, slots := 0, locals := 166 } : Room) [.ref (A 0), .int (iI p), .int (iI n)] (zM E A h (sc τ D)) (zOL E A h (oDeath τ p n)) := by
  refine CN.of (by decide +kernel) hfl (Nat.le_of_ble_eq_true rfl) fun θ Q hl G hin hQ => ?_
  subst hl
  show VW θ Q E (zM E A h (sc τ D)) 0 0 0 [(0, .ref (A 0)), (1, .int (iI p)), (2, .int (iI n))] []
  have hm := H.many
  have hyr := H.year
  have hn := H.nums
  have hi := H.imp
  have hbt := H.bits
  have hw := H.law 0 (by omega) (by omega)
  have w9 := hw
  simp only [okLaw, okW] at w9
  refine v_aload_n G 0 rfl rfl dX4_tellDeath_0 ?_
  refine v_iconst G dX4_tellDeath_1 ?_
  refine pX4_1 G zM_0 (Nat.le_of_ble_eq_true rfl) dX4_tellDeath_2 ?_
  refine VW.hpe (zM_up0 (k := 0) (z := 0) rfl (by decide)) ?_
  refine VW.hpe (congrArg (zM E A h) (sc_D (k := 0) rfl)) ?_
  refine v_aload_n G 0 rfl rfl dX4_tellDeath_5 ?_
  refine v_iload_n G 1 rfl rfl dX4_tellDeath_6 ?_
  refine kX4_380 G (As := [.int (iI p)]) (rest := []) (cs' := 0) (sl' := 0) (n_isPolicy G.fl (τ := τ) (D := st2 D 0 0 0) hA (p := p) ⟨by omega, by omega⟩ (show 0 ≤ τ 10 0 ∧ τ 10 0 ≤ 24 by omega)) (zRcv.of G (q := (RX4, TX4, 55)) rfl zM_0) rfl rfl (Nat.le_of_ble_eq_true rfl) (zRm.ok rfl) dX4_tellDeath_7 (fun vq1 hq1 q1 => ?_)
  obtain ⟨_, _⟩ := q1
  subst vq1 hq1
  refine VW.nmI (fun z2 hz2 => ?_)
  have hz2 := (show (z2 = 1 ∧ 0 ≤ p ∧ p < τ 10 0) ∨ (z2 = 0 ∧ ¬ (0 ≤ p ∧ p < τ 10 0)) from ite01 hz2)
  show VW θ Q E (zM E A h (sc τ (st2 D 0 0 0))) 0 0 10 [(0, .ref (A 0)), (1, .int (iI p)), (2, .int (iI n))] [.int (iI z2)]
  refine v_if_ne G 20 ⟨by omega, by omega⟩ (by decide) dX4_tellDeath_10 (fun c3 => ?_) (fun c3 => ?_)
  · have gz2 := bT hz2 (by omega)
    have P9 := H.pol p (by omega) (by omega)
    have ho := P9.1
    unfold okPol at P9
    have h9 := ho
    simp only [okP1, okP, tP] at h9
    refine v_iload_n G 2 rfl rfl dX4_tellDeath_20 ?_
    refine v_i2l G ⟨by omega, by omega⟩ dX4_tellDeath_21 ?_
    refine v_lconst G (n := 0) (v0 := 0) rfl dX4_tellDeath_22 ?_
    refine v_ldc2 G (v := 300) q2242 rfl dX4_tellDeath_23 ?_
    refine kX4_168 G (As := [.long (iL n), .long (iL 0), .long (iL 300)]) (rest := []) (cs' := 0) (sl' := 0) (n_isIn G.fl (v := n) (a := 0) (b := 300) ⟨by omega, by omega⟩ ⟨by decide, by decide⟩ ⟨by decide, by decide⟩) rfl rfl (Nat.le_of_ble_eq_true rfl) (zRm.ok rfl) dX4_tellDeath_26 (fun vq4 hq4 q4 => ?_)
    obtain ⟨_, _⟩ := q4
    subst vq4 hq4
    refine VW.nmI (fun z5 hz5 => ?_)
    have hz5 := ite01 hz5
    show VW θ Q E (zM E A h (sc τ (st2 D 0 0 0))) 0 0 29 [(0, .ref (A 0)), (1, .int (iI p)), (2, .int (iI n))] [.int (iI z5)]
    refine v_if_ne G 39 ⟨by omega, by omega⟩ (by decide) dX4_tellDeath_29 (fun c6 => ?_) (fun c6 => ?_)
    · have gz5 := bT hz5 (by omega)
      refine v_aload_n G 0 rfl rfl dX4_tellDeath_39 ?_
      refine v_iload_n G 1 rfl rfl dX4_tellDeath_40 ?_
      refine kX4_383 G (As := [.int (iI p)]) (rest := []) (cs' := 0) (sl' := 0) (n_isQuiet G.fl (τ := τ) (D := st2 D 0 0 0) hA (p := p) ⟨by omega, by omega⟩ (show 0 ≤ τ 29 p ∧ τ 29 p ≤ 7 by omega)) (zRcv.of G (q := (RX4, TX4, 55)) rfl zM_0) rfl rfl (Nat.le_of_ble_eq_true rfl) (zRm.ok rfl) dX4_tellDeath_41 (fun vq7 hq7 q7 => ?_)
      obtain ⟨_, _⟩ := q7
      subst vq7 hq7
      refine VW.nmI (fun z8 hz8 => ?_)
      have hz8 := (show (z8 = 1 ∧ τ 29 p ≤ 1) ∨ (z8 = 0 ∧ ¬ (τ 29 p ≤ 1)) from ite01 hz8)
      show VW θ Q E (zM E A h (sc τ (st2 D 0 0 0))) 0 0 44 [(0, .ref (A 0)), (1, .int (iI p)), (2, .int (iI n))] [.int (iI z8)]
      refine v_if_ne G 54 ⟨by omega, by omega⟩ (by decide) dX4_tellDeath_44 (fun c9 => ?_) (fun c9 => ?_)
      · have gz8 := bT hz8 (by omega)
        refine v_aload_n G 0 rfl rfl dX4_tellDeath_54 ?_
        refine gX4_49 G zM_0 (v := .ref (A 29)) rfl dX4_tellDeath_55 ?_
        refine v_iload_n G 1 rfl rfl dX4_tellDeath_58 ?_
        refine v_iconst G dX4_tellDeath_59 ?_
        refine m_ast G hA rfl ⟨by omega, by show _ < (24 : Int); omega⟩ dX4_tellDeath_60 ?_
        refine VW.hpe (congrArg (zM E A h) (sc_t (k := 29) rfl)) ?_
        refine v_aload_n G 0 rfl rfl dX4_tellDeath_61 ?_
        refine gX4_52 G zM_0 (v := .ref (A 30)) rfl dX4_tellDeath_62 ?_
        refine v_iload_n G 1 rfl rfl dX4_tellDeath_65 ?_
        refine v_iload_n G 2 rfl rfl dX4_tellDeath_66 ?_
        refine m_ast G hA rfl ⟨by omega, by show _ < (24 : Int); omega⟩ dX4_tellDeath_67 ?_
        refine VW.hpe (congrArg (zM E A h) (sc_t (k := 30) rfl)) ?_
        refine v_aload_n G 0 rfl rfl dX4_tellDeath_68 ?_
        refine v_iload_n G 1 rfl rfl dX4_tellDeath_69 ?_
        refine kX4_295 G (As := [.int (iI p)]) (rest := []) (cs' := 0) (sl' := 0) (n_claim G.fl (τ := st2 (st2 τ 29 p 2) 30 p n) (D := st2 D 0 0 0) hA (p := p) ⟨by omega, by omega⟩ (deathP ho (by omega) (by omega)) hw (show 0 ≤ τ 7 0 ∧ τ 7 0 ≤ 1000 by omega)) (zRcv.of G (q := (RX4, TX4, 55)) rfl zM_0) rfl rfl (Nat.le_of_ble_eq_true rfl) (zRm.ok rfl) dX4_tellDeath_70 (fun vq10 hq10 q10 => ?_)
        obtain ⟨_, D11, hD11, _⟩ := q10
        subst vq10 hq10
        show VW θ Q E (zM E A h (sc (st2 (st2 τ 29 p 2) 30 p n) D11)) 0 0 73 [(0, .ref (A 0)), (1, .int (iI p)), (2, .int (iI n))] [.long (iL (clT (st2 (st2 τ 29 p 2) 30 p n) p))]
        have e : oDeath τ p n = (0, (clT (st2 (st2 τ 29 p 2) 30 p n) p), st2 (st2 τ 29 p 2) 30 p n) := by
          unfold oDeath
          (repeat (first | rw [if_pos (by omega)] | rw [if_neg (by omega)]))
          all_goals rfl
        exact v_lret G hQ (by rw [e]; exact ⟨rfl, D11, ((congrFun (hD11 0 (Or.inl (by decide))) 0)), rfl⟩) (Nat.le_of_ble_eq_true rfl) (Nat.le_of_ble_eq_true rfl) dX4_tellDeath_73
      · have gz8 := bF hz8 (by omega)
        refine v_aload_n G 0 rfl rfl dX4_tellDeath_47 ?_
        refine v_iconst G dX4_tellDeath_48 ?_
        refine kX4_342 G (As := [.int (iI 3)]) (rest := []) (cs' := 0) (sl' := 0) (n_fails G.fl (τ := τ) (D := st2 D 0 0 0) hA (k := 3)) (zRcv.of G (q := (RX4, TX4, 55)) rfl zM_0) rfl rfl (Nat.le_of_ble_eq_true rfl) (zRm.ok rfl) dX4_tellDeath_49 (fun vq12 hq12 q12 => ?_)
        obtain ⟨_, _⟩ := q12
        subst vq12 hq12
        show VW θ Q E (zM E A h (sc τ (st2 (st2 D 0 0 0) 0 0 3))) 0 0 52 [(0, .ref (A 0)), (1, .int (iI p)), (2, .int (iI n))] [.int (iI 0)]
        refine v_i2l G ⟨by decide, by decide⟩ dX4_tellDeath_52 ?_
        have e : oDeath τ p n = (3, 0, τ) := by
          unfold oDeath
          (repeat (first | rw [if_pos (by omega)] | rw [if_neg (by omega)]))
          all_goals rfl
        exact v_lret G hQ (by rw [e]; exact ⟨rfl, st2 (st2 D 0 0 0) 0 0 3, rfl, rfl⟩) (Nat.le_of_ble_eq_true rfl) (Nat.le_of_ble_eq_true rfl) dX4_tellDeath_53
    · have gz5 := bF hz5 (by omega)
      refine v_aload_n G 0 rfl rfl dX4_tellDeath_32 ?_
      refine v_iconst G dX4_tellDeath_33 ?_
      refine kX4_342 G (As := [.int (iI 2)]) (rest := []) (cs' := 0) (sl' := 0) (n_fails G.fl (τ := τ) (D := st2 D 0 0 0) hA (k := 2)) (zRcv.of G (q := (RX4, TX4, 55)) rfl zM_0) rfl rfl (Nat.le_of_ble_eq_true rfl) (zRm.ok rfl) dX4_tellDeath_34 (fun vq13 hq13 q13 => ?_)
      obtain ⟨_, _⟩ := q13
      subst vq13 hq13
      show VW θ Q E (zM E A h (sc τ (st2 (st2 D 0 0 0) 0 0 2))) 0 0 37 [(0, .ref (A 0)), (1, .int (iI p)), (2, .int (iI n))] [.int (iI 0)]
      refine v_i2l G ⟨by decide, by decide⟩ dX4_tellDeath_37 ?_
      have e : oDeath τ p n = (2, 0, τ) := by
        unfold oDeath
        (repeat (first | rw [if_pos (by omega)] | rw [if_neg (by omega)]))
        all_goals rfl
      exact v_lret G hQ (by rw [e]; exact ⟨rfl, st2 (st2 D 0 0 0) 0 0 2, rfl, rfl⟩) (Nat.le_of_ble_eq_true rfl) (Nat.le_of_ble_eq_true rfl) dX4_tellDeath_38
  · have gz2 := bF hz2 (by omega)
    refine v_aload_n G 0 rfl rfl dX4_tellDeath_13 ?_
    refine v_iconst G dX4_tellDeath_14 ?_
    refine kX4_342 G (As := [.int (iI 1)]) (rest := []) (cs' := 0) (sl' := 0) (n_fails G.fl (τ := τ) (D := st2 D 0 0 0) hA (k := 1)) (zRcv.of G (q := (RX4, TX4, 55)) rfl zM_0) rfl rfl (Nat.le_of_ble_eq_true rfl) (zRm.ok rfl) dX4_tellDeath_15 (fun vq14 hq14 q14 => ?_)
    obtain ⟨_, _⟩ := q14
    subst vq14 hq14
    show VW θ Q E (zM E A h (sc τ (st2 (st2 D 0 0 0) 0 0 1))) 0 0 18 [(0, .ref (A 0)), (1, .int (iI p)), (2, .int (iI n))] [.int (iI 0)]
    refine v_i2l G ⟨by decide, by decide⟩ dX4_tellDeath_18 ?_
    have e : oDeath τ p n = (1, 0, τ) := by
      unfold oDeath
      (repeat (first | rw [if_pos (by omega)] | rw [if_neg (by omega)]))
      all_goals rfl
    exact v_lret G hQ (by rw [e]; exact ⟨rfl, st2 (st2 D 0 0 0) 0 0 1, rfl, rfl⟩) (Nat.le_of_ble_eq_true rfl) (Nat.le_of_ble_eq_true rfl) dX4_tellDeath_19

