/-! WALKS: Math, the office's floor division, values, lives -/
set_option maxRecDepth 100000
set_option maxHeartbeats 4000000 in
/-- floorDiv by a positive number -/
theorem m_fdiv {l : Launch} (hfl : l.stackTraces = false) {E : zEn} {h : zHp} {a b : Int} (ha : n64 a) (hb : 0 < b ∧ b < 9223372036854775808)  : CN l E yJ16_floorDiv (ws_ yJ16_floorDiv cJ16_floorDiv 6 (some FieldType.long)) ({ frames := 0, cells := 0, slots := 0, locals := 0 } : Room) [.long (iL a), .long (iL b)] h (zR (.long (iL (a / b))) h) := by
  refine CN.of (by decide +kernel) hfl (Nat.le_of_ble_eq_true rfl) fun θ Q hl G hin hQ => ?_
  subst hl
  show VW θ Q E h 0 0 0 [(0, .long (iL a)), (2, .long (iL b))] []
  refine v_lload_n G 0 rfl rfl dJ16_floorDiv_0 ?_
  refine v_lload_n G 1 rfl rfl dJ16_floorDiv_1 ?_
  refine v_ldivT G ha hb dJ16_floorDiv_2 ?_
  have hs := fdiv_split (a := a) hb.1
  have hbd := tdiv_bd ha hb.1
  refine v_lstore G (L' := [(4, .long (iL (a.tdiv b))), (0, .long (iL a)), (2, .long (iL b))]) (Nat.le_of_ble_eq_true rfl) rfl dJ16_floorDiv_3 ?_
  refine v_lload_n G 1 rfl rfl dJ16_floorDiv_5 ?_
  refine v_lload_n G 2 rfl rfl dJ16_floorDiv_6 ?_
  refine v_lxorS G ha hb dJ16_floorDiv_7 (fun x hx hx0 => ?_)
  refine v_lconst G (n := 0) (v0 := 0) rfl dJ16_floorDiv_8 ?_
  refine v_lcmp G ⟨by omega, by omega⟩ ⟨by decide, by decide⟩ dJ16_floorDiv_9 ?_
  refine v_lif_ge G 27 (by decide) dJ16_floorDiv_10 (fun c1 => ?_) (fun c1 => ?_)
  · refine v_lload G 0 rfl dJ16_floorDiv_27 ?_
    exact v_lret G hQ ⟨by rw [hs, if_neg (by omega)], rfl⟩ (Nat.le_of_ble_eq_true rfl) (Nat.le_of_ble_eq_true rfl) dJ16_floorDiv_29
  · refine v_lload G 0 rfl dJ16_floorDiv_13 ?_
    refine v_lload_n G 2 rfl rfl dJ16_floorDiv_15 ?_
    refine v_lmul G dJ16_floorDiv_16 ?_
    refine VW.nmL (fun z2 hz2 => ?_)
    refine v_lload_n G 1 rfl rfl dJ16_floorDiv_17 ?_
    refine v_lcmp G ⟨by omega, by omega⟩ ⟨by omega, by omega⟩ dJ16_floorDiv_18 ?_
    refine v_lif_eq G 27 (by decide) dJ16_floorDiv_19 (fun c3 => ?_) (fun c3 => ?_)
    · refine v_lload G 0 rfl dJ16_floorDiv_27 ?_
      exact v_lret G hQ ⟨by rw [hs, if_neg (by omega)], rfl⟩ (Nat.le_of_ble_eq_true rfl) (Nat.le_of_ble_eq_true rfl) dJ16_floorDiv_29
    · refine v_lload G 0 rfl dJ16_floorDiv_22 ?_
      refine v_lconst G (n := 1) (v0 := 0) rfl dJ16_floorDiv_24 ?_
      refine v_lsub G dJ16_floorDiv_25 ?_
      exact v_lret G hQ ⟨by rw [hs, if_pos (by omega)], rfl⟩ (Nat.le_of_ble_eq_true rfl) (Nat.le_of_ble_eq_true rfl) dJ16_floorDiv_26

set_option maxHeartbeats 4000000 in
theorem m_maxI {l : Launch} (hfl : l.stackTraces = false) {E : zEn} {h : zHp} {a b : Int} (ha : n32 a) (hb : n32 b)  : CN l E yJ16_max_2 (ws_ yJ16_max_2 cJ16_max_2 2 (some FieldType.int)) ({ frames := 0, cells := 0, slots := 0, locals := 0 } : Room) [.int (iI a), .int (iI b)] h (zR (.int (iI (max a b))) h) := by
  refine CN.of (by decide +kernel) hfl (Nat.le_of_ble_eq_true rfl) fun θ Q hl G hin hQ => ?_
  subst hl
  show VW θ Q E h 0 0 0 [(0, .int (iI a)), (1, .int (iI b))] []
  refine v_iload_n G 0 rfl rfl dJ16_max_2_0 ?_
  refine v_iload_n G 1 rfl rfl dJ16_max_2_1 ?_
  refine v_icmp_lt G 9 ⟨by omega, by omega⟩ ⟨by omega, by omega⟩ (by decide) dJ16_max_2_2 (fun c1 => ?_) (fun c1 => ?_)
  · refine v_iload_n G 1 rfl rfl dJ16_max_2_9 ?_
    exact v_iret G hQ ⟨by congr 3; omega, rfl⟩ (Nat.le_of_ble_eq_true rfl) (Nat.le_of_ble_eq_true rfl) dJ16_max_2_10
  · refine v_iload_n G 0 rfl rfl dJ16_max_2_5 ?_
    refine v_goto G 10 (by decide) dJ16_max_2_6 ?_
    exact v_iret G hQ ⟨by congr 3; omega, rfl⟩ (Nat.le_of_ble_eq_true rfl) (Nat.le_of_ble_eq_true rfl) dJ16_max_2_10

set_option maxHeartbeats 4000000 in
theorem m_minI {l : Launch} (hfl : l.stackTraces = false) {E : zEn} {h : zHp} {a b : Int} (ha : n32 a) (hb : n32 b)  : CN l E yJ16_min_2 (ws_ yJ16_min_2 cJ16_min_2 2 (some FieldType.int)) ({ frames := 0, cells := 0, slots := 0, locals := 0 } : Room) [.int (iI a), .int (iI b)] h (zR (.int (iI (min a b))) h) := by
  refine CN.of (by decide +kernel) hfl (Nat.le_of_ble_eq_true rfl) fun θ Q hl G hin hQ => ?_
  subst hl
  show VW θ Q E h 0 0 0 [(0, .int (iI a)), (1, .int (iI b))] []
  refine v_iload_n G 0 rfl rfl dJ16_min_2_0 ?_
  refine v_iload_n G 1 rfl rfl dJ16_min_2_1 ?_
  refine v_icmp_gt G 9 ⟨by omega, by omega⟩ ⟨by omega, by omega⟩ (by decide) dJ16_min_2_2 (fun c1 => ?_) (fun c1 => ?_)
  · refine v_iload_n G 1 rfl rfl dJ16_min_2_9 ?_
    exact v_iret G hQ ⟨by congr 3; omega, rfl⟩ (Nat.le_of_ble_eq_true rfl) (Nat.le_of_ble_eq_true rfl) dJ16_min_2_10
  · refine v_iload_n G 0 rfl rfl dJ16_min_2_5 ?_
    refine v_goto G 10 (by decide) dJ16_min_2_6 ?_
    exact v_iret G hQ ⟨by congr 3; omega, rfl⟩ (Nat.le_of_ble_eq_true rfl) (Nat.le_of_ble_eq_true rfl) dJ16_min_2_10

set_option maxHeartbeats 4000000 in
theorem m_maxL {l : Launch} (hfl : l.stackTraces = false) {E : zEn} {h : zHp} {a b : Int} (ha : n64 a) (hb : n64 b)  : CN l E yJ16_max (ws_ yJ16_max cJ16_max 4 (some FieldType.long)) ({ frames := 0, cells := 0, slots := 0, locals := 0 } : Room) [.long (iL a), .long (iL b)] h (zR (.long (iL (max a b))) h) := by
  refine CN.of (by decide +kernel) hfl (Nat.le_of_ble_eq_true rfl) fun θ Q hl G hin hQ => ?_
  subst hl
  show VW θ Q E h 0 0 0 [(0, .long (iL a)), (2, .long (iL b))] []
  refine v_lload_n G 0 rfl rfl dJ16_max_0 ?_
  refine v_lload_n G 1 rfl rfl dJ16_max_1 ?_
  refine v_lcmp G ⟨by omega, by omega⟩ ⟨by omega, by omega⟩ dJ16_max_2 ?_
  refine v_lif_lt G 10 (by decide) dJ16_max_3 (fun c1 => ?_) (fun c1 => ?_)
  · refine v_lload_n G 1 rfl rfl dJ16_max_10 ?_
    exact v_lret G hQ ⟨by congr 3; omega, rfl⟩ (Nat.le_of_ble_eq_true rfl) (Nat.le_of_ble_eq_true rfl) dJ16_max_11
  · refine v_lload_n G 0 rfl rfl dJ16_max_6 ?_
    refine v_goto G 11 (by decide) dJ16_max_7 ?_
    exact v_lret G hQ ⟨by congr 3; omega, rfl⟩ (Nat.le_of_ble_eq_true rfl) (Nat.le_of_ble_eq_true rfl) dJ16_max_11

set_option maxHeartbeats 4000000 in
theorem m_minL {l : Launch} (hfl : l.stackTraces = false) {E : zEn} {h : zHp} {a b : Int} (ha : n64 a) (hb : n64 b)  : CN l E yJ16_min (ws_ yJ16_min cJ16_min 4 (some FieldType.long)) ({ frames := 0, cells := 0, slots := 0, locals := 0 } : Room) [.long (iL a), .long (iL b)] h (zR (.long (iL (min a b))) h) := by
  refine CN.of (by decide +kernel) hfl (Nat.le_of_ble_eq_true rfl) fun θ Q hl G hin hQ => ?_
  subst hl
  show VW θ Q E h 0 0 0 [(0, .long (iL a)), (2, .long (iL b))] []
  refine v_lload_n G 0 rfl rfl dJ16_min_0 ?_
  refine v_lload_n G 1 rfl rfl dJ16_min_1 ?_
  refine v_lcmp G ⟨by omega, by omega⟩ ⟨by omega, by omega⟩ dJ16_min_2 ?_
  refine v_lif_gt G 10 (by decide) dJ16_min_3 (fun c1 => ?_) (fun c1 => ?_)
  · refine v_lload_n G 1 rfl rfl dJ16_min_10 ?_
    exact v_lret G hQ ⟨by congr 3; omega, rfl⟩ (Nat.le_of_ble_eq_true rfl) (Nat.le_of_ble_eq_true rfl) dJ16_min_11
  · refine v_lload_n G 0 rfl rfl dJ16_min_6 ?_
    refine v_goto G 11 (by decide) dJ16_min_7 ?_
    exact v_lret G hQ ⟨by congr 3; omega, rfl⟩ (Nat.le_of_ble_eq_true rfl) (Nat.le_of_ble_eq_true rfl) dJ16_min_11

set_option maxHeartbeats 4000000 in
theorem m_down {l : Launch} (hfl : l.stackTraces = false) {E : zEn} {h : zHp} {a b : Int} (ha : n64 a) (hb : 0 < b ∧ b < 9223372036854775808)  : CN l E yX1_down (ws_ yX1_down cX1_down 4 (some FieldType.long)) ({ frames := 1, cells := 0, slots := 0, locals := 25 } : Room) [.long (iL a), .long (iL b)] h (zR (.long (iL (a / b))) h) := by
  refine CN.of (by decide +kernel) hfl (Nat.le_of_ble_eq_true rfl) fun θ Q hl G hin hQ => ?_
  subst hl
  show VW θ Q E h 0 0 0 [(0, .long (iL a)), (2, .long (iL b))] []
  refine v_lload_n G 0 rfl rfl dX1_down_0 ?_
  refine v_lload_n G 1 rfl rfl dX1_down_1 ?_
  refine kX1_1 G (As := [.long (iL a), .long (iL b)]) (rest := []) (cs' := 0) (sl' := 0) (m_fdiv G.fl (a := a) (b := b) ⟨by omega, by omega⟩ ⟨by omega, by omega⟩) rfl rfl (Nat.le_of_ble_eq_true rfl) (zRm.ok rfl) dX1_down_2 (fun vq2 hq2 q2 => ?_)
  obtain ⟨_, _⟩ := q2
  subst vq2 hq2
  show VW θ Q E h 0 0 5 [(0, .long (iL a)), (2, .long (iL b))] [.long (iL (a / b))]
  exact v_lret G hQ (by subst_vars; exact ⟨rfl, rfl⟩) (Nat.le_of_ble_eq_true rfl) (Nat.le_of_ble_eq_true rfl) dX1_down_5

set_option maxHeartbeats 4000000 in
theorem m_disc {l : Launch} (hfl : l.stackTraces = false) {E : zEn} {h : zHp} {a i : Int} (ha : 0 ≤ a ∧ a ≤ 9000000000000000) (hi : 0 ≤ i ∧ i ≤ 150)  : CN l E yX1_discounted (ws_ yX1_discounted cX1_discounted 3 (some FieldType.long)) ({ frames := 2, cells := 0, slots := 0, locals := 48 } : Room) [.long (iL a), .int (iI i)] h (zR (.long (iL (a * 1000 / (1000 + i)))) h) := by
  refine CN.of (by decide +kernel) hfl (Nat.le_of_ble_eq_true rfl) fun θ Q hl G hin hQ => ?_
  subst hl
  show VW θ Q E h 0 0 0 [(0, .long (iL a)), (2, .int (iI i))] []
  refine v_lload_n G 0 rfl rfl dX1_discounted_0 ?_
  refine v_ldc2 G (v := 1000) q476 rfl dX1_discounted_1 ?_
  refine v_lmul G dX1_discounted_4 ?_
  refine v_sipush G rfl dX1_discounted_5 ?_
  refine v_iload_n G 1 rfl rfl dX1_discounted_8 ?_
  refine v_iadd G dX1_discounted_9 ?_
  refine v_i2l G ⟨by omega, by omega⟩ dX1_discounted_10 ?_
  refine kX1_9 G (As := [.long (iL (a * 1000)), .long (iL (1000 + i))]) (rest := []) (cs' := 0) (sl' := 0) (m_down G.fl (a := (a * 1000)) (b := (1000 + i)) ⟨by omega, by omega⟩ ⟨by omega, by omega⟩) rfl rfl (Nat.le_of_ble_eq_true rfl) (zRm.ok rfl) dX1_discounted_11 (fun vq1 hq1 q1 => ?_)
  obtain ⟨_, _⟩ := q1
  subst vq1 hq1
  show VW θ Q E h 0 0 14 [(0, .long (iL a)), (2, .int (iI i))] [.long (iL ((a * 1000) / (1000 + i)))]
  exact v_lret G hQ (by subst_vars; exact ⟨rfl, rfl⟩) (Nat.le_of_ble_eq_true rfl) (Nat.le_of_ble_eq_true rfl) dX1_discounted_14

set_option maxHeartbeats 4000000 in
theorem m_Values {l : Launch} (hfl : l.stackTraces = false) {E : zEn} {h : zHp} {v t : Nat} {b : Int} (hv : h v = some (t, .inr (4, [.long (iL 0), .long (iL 0), .long (iL 0)])))  : CN l E yX5_init (ws_ yX5_init cX5_init 3 none) ({ frames := 1, cells := 0, slots := 0, locals := 20 } : Room) [.ref v, .long (iL b)] h (zV (va_up h v (some (t, .inr (4, [.long (iL b), .long (iL 0), .long (iL 0)]))))) := by
  refine CN.of (by decide +kernel) hfl (Nat.le_of_ble_eq_true rfl) fun θ Q hl G hin hQ => ?_
  subst hl
  show VW θ Q E h 0 0 0 [(0, .ref v), (1, .long (iL b))] []
  refine v_aload_n G 0 rfl rfl dX5_init_0 ?_
  refine v_objInit G q417 q130 q131 ⟨Nat.le_of_ble_eq_true rfl, Nat.le_of_ble_eq_true rfl⟩ dX5_init_1 ?_
  refine v_aload_n G 0 rfl rfl dX5_init_4 ?_
  refine v_lload_n G 1 rfl rfl dX5_init_5 ?_
  refine pX5_9 G hv (Nat.le_of_ble_eq_true rfl) dX5_init_6 ?_
  have f1 : (va_up h v (some (t, .inr (4, [.long (iL b), .long (iL 0), .long (iL 0)])))) v = some (t, .inr (4, [.long (iL b), .long (iL 0), .long (iL 0)])) := up_s
  show VW θ Q E (va_up h v (some (t, .inr (4, [.long (iL b), .long (iL 0), .long (iL 0)])))) 0 0 9 [(0, .ref v), (1, .long (iL b))] []
  exact v_vret G hQ (by subst_vars; exact ⟨rfl, rfl⟩) (Nat.le_of_ble_eq_true rfl) (Nat.le_of_ble_eq_true rfl) dX5_init_9

set_option maxHeartbeats 4000000 in
theorem m_back {l : Launch} (hfl : l.stackTraces = false) {E : zEn} {h : zHp} {v t : Nat} {q i b p n : Int} (hq : 0 ≤ q ∧ q ≤ 100000) (hi : 0 ≤ i ∧ i ≤ 150) (hb : 0 ≤ b ∧ b ≤ 1000000) (hp : 0 ≤ p ∧ p ≤ 400000000) (hn : 0 ≤ n ∧ n ≤ 400000000) (hv : h v = some (t, .inr (4, [.long (iL b), .long (iL p), .long (iL n)])))  : CN l E yX5_back (ws_ yX5_back cX5_back 6 none) ({ frames := 3, cells := 0, slots := 0, locals := 70 } : Room) [.ref v, .long (iL q), .int (iI i)] h (zV (va_up h v (some (t, .inr (4, [.long (iL (bkD q i b)), .long (iL (bkP q i p)), .long (iL (bkN q i n))]))))) := by
  refine CN.of (by decide +kernel) hfl (Nat.le_of_ble_eq_true rfl) fun θ Q hl G hin hQ => ?_
  subst hl
  show VW θ Q E h 0 0 0 [(0, .ref v), (1, .long (iL q)), (3, .int (iI i))] []
  have e1 := mul_bd2 (show 0 ≤ 100000 - q ∧ 100000 - q ≤ 100000 by omega) hb
  have e2 := mul_bd2 (show 0 ≤ 100000 - q ∧ 100000 - q ≤ 100000 by omega) hp
  have e3 := mul_bd2 (show 0 ≤ 100000 - q ∧ 100000 - q ≤ 100000 by omega) (show 0 ≤ 1000000 + n ∧ 1000000 + n ≤ 401000000 by omega)
  refine v_ldc2 G (v := 100000) q470 rfl dX5_back_0 ?_
  refine v_lload_n G 1 rfl rfl dX5_back_3 ?_
  refine v_lsub G dX5_back_4 ?_
  refine v_lstore G (L' := [(4, .long (iL (100000 - q))), (0, .ref v), (1, .long (iL q)), (3, .int (iI i))]) (Nat.le_of_ble_eq_true rfl) rfl dX5_back_5 ?_
  refine v_aload_n G 1 rfl rfl dX5_back_7 ?_
  refine v_lload_n G 2 rfl rfl dX5_back_8 ?_
  refine v_ldc2 G (v := 1000000) q471 rfl dX5_back_9 ?_
  refine v_lmul G dX5_back_12 ?_
  refine v_lload G 0 rfl dX5_back_13 ?_
  refine v_aload_n G 1 rfl rfl dX5_back_15 ?_
  refine gX5_9 G hv rfl dX5_back_16 ?_
  refine v_lmul G dX5_back_19 ?_
  refine v_ladd G dX5_back_20 ?_
  refine v_ldc2 G (v := 100000) q470 rfl dX5_back_21 ?_
  refine kX5_19 G (As := [.long (iL ((q * 1000000) + ((100000 - q) * b))), .long (iL 100000)]) (rest := [.ref v]) (cs' := 0) (sl' := 0) (m_down G.fl (a := ((q * 1000000) + ((100000 - q) * b))) (b := 100000) ⟨by omega, by omega⟩ ⟨by decide, by decide⟩) rfl rfl (Nat.le_of_ble_eq_true rfl) (zRm.ok rfl) dX5_back_24 (fun vq1 hq1 q1 => ?_)
  obtain ⟨_, _⟩ := q1
  subst vq1 hq1
  show VW θ Q E h 0 0 27 [(4, .long (iL (100000 - q))), (0, .ref v), (1, .long (iL q)), (3, .int (iI i))] [.long (iL (((q * 1000000) + ((100000 - q) * b)) / 100000)), .ref v]
  refine v_iload_n G 3 rfl rfl dX5_back_27 ?_
  refine kX5_23 G (As := [.long (iL (((q * 1000000) + ((100000 - q) * b)) / 100000)), .int (iI i)]) (rest := [.ref v]) (cs' := 0) (sl' := 0) (m_disc G.fl (a := (((q * 1000000) + ((100000 - q) * b)) / 100000)) (i := i) ⟨by omega, by omega⟩ ⟨by omega, by omega⟩) rfl rfl (Nat.le_of_ble_eq_true rfl) (zRm.ok rfl) dX5_back_28 (fun vq2 hq2 q2 => ?_)
  obtain ⟨_, _⟩ := q2
  subst vq2 hq2
  show VW θ Q E h 0 0 31 [(4, .long (iL (100000 - q))), (0, .ref v), (1, .long (iL q)), (3, .int (iI i))] [.long (iL ((((q * 1000000) + ((100000 - q) * b)) / 100000) * 1000 / (1000 + i))), .ref v]
  refine pX5_9 G hv (Nat.le_of_ble_eq_true rfl) dX5_back_31 ?_
  have f3 : (va_up h v (some (t, .inr (4, [.long (iL ((((q * 1000000) + ((100000 - q) * b)) / 100000) * 1000 / (1000 + i))), .long (iL p), .long (iL n)])))) v = some (t, .inr (4, [.long (iL ((((q * 1000000) + ((100000 - q) * b)) / 100000) * 1000 / (1000 + i))), .long (iL p), .long (iL n)])) := up_s
  show VW θ Q E (va_up h v (some (t, .inr (4, [.long (iL ((((q * 1000000) + ((100000 - q) * b)) / 100000) * 1000 / (1000 + i))), .long (iL p), .long (iL n)])))) 0 0 34 [(4, .long (iL (100000 - q))), (0, .ref v), (1, .long (iL q)), (3, .int (iI i))] []
  refine v_aload_n G 1 rfl rfl dX5_back_34 ?_
  refine v_ldc2 G (v := 1000000) q471 rfl dX5_back_35 ?_
  refine v_lload G 0 rfl dX5_back_38 ?_
  refine v_aload_n G 1 rfl rfl dX5_back_40 ?_
  refine gX5_27 G f3 rfl dX5_back_41 ?_
  refine v_lmul G dX5_back_44 ?_
  refine v_ldc2 G (v := 100000) q470 rfl dX5_back_45 ?_
  refine kX5_19 G (As := [.long (iL ((100000 - q) * p)), .long (iL 100000)]) (rest := [.long (iL 1000000), .ref v]) (cs' := 0) (sl' := 0) (m_down G.fl (a := ((100000 - q) * p)) (b := 100000) ⟨by omega, by omega⟩ ⟨by decide, by decide⟩) rfl rfl (Nat.le_of_ble_eq_true rfl) (zRm.ok rfl) dX5_back_48 (fun vq4 hq4 q4 => ?_)
  obtain ⟨_, _⟩ := q4
  subst vq4 hq4
  show VW θ Q E (va_up h v (some (t, .inr (4, [.long (iL ((((q * 1000000) + ((100000 - q) * b)) / 100000) * 1000 / (1000 + i))), .long (iL p), .long (iL n)])))) 0 0 51 [(4, .long (iL (100000 - q))), (0, .ref v), (1, .long (iL q)), (3, .int (iI i))] [.long (iL (((100000 - q) * p) / 100000)), .long (iL 1000000), .ref v]
  refine v_iload_n G 3 rfl rfl dX5_back_51 ?_
  refine kX5_23 G (As := [.long (iL (((100000 - q) * p) / 100000)), .int (iI i)]) (rest := [.long (iL 1000000), .ref v]) (cs' := 0) (sl' := 0) (m_disc G.fl (a := (((100000 - q) * p) / 100000)) (i := i) ⟨by omega, by omega⟩ ⟨by omega, by omega⟩) rfl rfl (Nat.le_of_ble_eq_true rfl) (zRm.ok rfl) dX5_back_52 (fun vq5 hq5 q5 => ?_)
  obtain ⟨_, _⟩ := q5
  subst vq5 hq5
  show VW θ Q E (va_up h v (some (t, .inr (4, [.long (iL ((((q * 1000000) + ((100000 - q) * b)) / 100000) * 1000 / (1000 + i))), .long (iL p), .long (iL n)])))) 0 0 55 [(4, .long (iL (100000 - q))), (0, .ref v), (1, .long (iL q)), (3, .int (iI i))] [.long (iL ((((100000 - q) * p) / 100000) * 1000 / (1000 + i))), .long (iL 1000000), .ref v]
  refine v_ladd G dX5_back_55 ?_
  refine pX5_27 G f3 (Nat.le_of_ble_eq_true rfl) dX5_back_56 ?_
  refine VW.hpe up_up ?_
  have f6 : (va_up h v (some (t, .inr (4, [.long (iL ((((q * 1000000) + ((100000 - q) * b)) / 100000) * 1000 / (1000 + i))), .long (iL (1000000 + ((((100000 - q) * p) / 100000) * 1000 / (1000 + i)))), .long (iL n)])))) v = some (t, .inr (4, [.long (iL ((((q * 1000000) + ((100000 - q) * b)) / 100000) * 1000 / (1000 + i))), .long (iL (1000000 + ((((100000 - q) * p) / 100000) * 1000 / (1000 + i)))), .long (iL n)])) := up_s
  show VW θ Q E (va_up h v (some (t, .inr (4, [.long (iL ((((q * 1000000) + ((100000 - q) * b)) / 100000) * 1000 / (1000 + i))), .long (iL (1000000 + ((((100000 - q) * p) / 100000) * 1000 / (1000 + i)))), .long (iL n)])))) 0 0 59 [(4, .long (iL (100000 - q))), (0, .ref v), (1, .long (iL q)), (3, .int (iI i))] []
  refine v_aload_n G 1 rfl rfl dX5_back_59 ?_
  refine v_lload G 0 rfl dX5_back_60 ?_
  refine v_ldc2 G (v := 1000000) q471 rfl dX5_back_62 ?_
  refine v_aload_n G 1 rfl rfl dX5_back_65 ?_
  refine gX5_30 G f6 rfl dX5_back_66 ?_
  refine v_ladd G dX5_back_69 ?_
  refine v_lmul G dX5_back_70 ?_
  refine v_ldc2 G (v := 100000) q470 rfl dX5_back_71 ?_
  refine kX5_19 G (As := [.long (iL ((100000 - q) * (1000000 + n))), .long (iL 100000)]) (rest := [.ref v]) (cs' := 0) (sl' := 0) (m_down G.fl (a := ((100000 - q) * (1000000 + n))) (b := 100000) ⟨by omega, by omega⟩ ⟨by decide, by decide⟩) rfl rfl (Nat.le_of_ble_eq_true rfl) (zRm.ok rfl) dX5_back_74 (fun vq7 hq7 q7 => ?_)
  obtain ⟨_, _⟩ := q7
  subst vq7 hq7
  show VW θ Q E (va_up h v (some (t, .inr (4, [.long (iL ((((q * 1000000) + ((100000 - q) * b)) / 100000) * 1000 / (1000 + i))), .long (iL (1000000 + ((((100000 - q) * p) / 100000) * 1000 / (1000 + i)))), .long (iL n)])))) 0 0 77 [(4, .long (iL (100000 - q))), (0, .ref v), (1, .long (iL q)), (3, .int (iI i))] [.long (iL (((100000 - q) * (1000000 + n)) / 100000)), .ref v]
  refine v_iload_n G 3 rfl rfl dX5_back_77 ?_
  refine kX5_23 G (As := [.long (iL (((100000 - q) * (1000000 + n)) / 100000)), .int (iI i)]) (rest := [.ref v]) (cs' := 0) (sl' := 0) (m_disc G.fl (a := (((100000 - q) * (1000000 + n)) / 100000)) (i := i) ⟨by omega, by omega⟩ ⟨by omega, by omega⟩) rfl rfl (Nat.le_of_ble_eq_true rfl) (zRm.ok rfl) dX5_back_78 (fun vq8 hq8 q8 => ?_)
  obtain ⟨_, _⟩ := q8
  subst vq8 hq8
  show VW θ Q E (va_up h v (some (t, .inr (4, [.long (iL ((((q * 1000000) + ((100000 - q) * b)) / 100000) * 1000 / (1000 + i))), .long (iL (1000000 + ((((100000 - q) * p) / 100000) * 1000 / (1000 + i)))), .long (iL n)])))) 0 0 81 [(4, .long (iL (100000 - q))), (0, .ref v), (1, .long (iL q)), (3, .int (iI i))] [.long (iL ((((100000 - q) * (1000000 + n)) / 100000) * 1000 / (1000 + i))), .ref v]
  refine pX5_30 G f6 (Nat.le_of_ble_eq_true rfl) dX5_back_81 ?_
  refine VW.hpe up_up ?_
  have f9 : (va_up h v (some (t, .inr (4, [.long (iL ((((q * 1000000) + ((100000 - q) * b)) / 100000) * 1000 / (1000 + i))), .long (iL (1000000 + ((((100000 - q) * p) / 100000) * 1000 / (1000 + i)))), .long (iL ((((100000 - q) * (1000000 + n)) / 100000) * 1000 / (1000 + i)))])))) v = some (t, .inr (4, [.long (iL ((((q * 1000000) + ((100000 - q) * b)) / 100000) * 1000 / (1000 + i))), .long (iL (1000000 + ((((100000 - q) * p) / 100000) * 1000 / (1000 + i)))), .long (iL ((((100000 - q) * (1000000 + n)) / 100000) * 1000 / (1000 + i)))])) := up_s
  show VW θ Q E (va_up h v (some (t, .inr (4, [.long (iL ((((q * 1000000) + ((100000 - q) * b)) / 100000) * 1000 / (1000 + i))), .long (iL (1000000 + ((((100000 - q) * p) / 100000) * 1000 / (1000 + i)))), .long (iL ((((100000 - q) * (1000000 + n)) / 100000) * 1000 / (1000 + i)))])))) 0 0 84 [(4, .long (iL (100000 - q))), (0, .ref v), (1, .long (iL q)), (3, .int (iI i))] []
  exact v_vret G hQ (by subst_vars; exact ⟨rfl, rfl⟩) (Nat.le_of_ble_eq_true rfl) (Nat.le_of_ble_eq_true rfl) dX5_back_84

set_option maxHeartbeats 4000000 in
theorem m_age {l : Launch} (hfl : l.stackTraces = false) {E : zEn} {h : zHp} {f t : Nat} {birth wo sm y : Int} (hf : h f = some (t, .inr (5, [.int (iI birth), .int (iI wo), .int (iI sm)])))  : CN l E yX6_age (ws_ yX6_age cX6_age 2 (some FieldType.int)) ({ frames := 0, cells := 0, slots := 0, locals := 0 } : Room) [.ref f, .int (iI y)] h (zR (.int (iI (y - birth))) h) := by
  refine CN.of (by decide +kernel) hfl (Nat.le_of_ble_eq_true rfl) fun θ Q hl G hin hQ => ?_
  subst hl
  show VW θ Q E h 0 0 0 [(0, .ref f), (1, .int (iI y))] []
  refine v_iload_n G 1 rfl rfl dX6_age_0 ?_
  refine v_aload_n G 0 rfl rfl dX6_age_1 ?_
  refine gX6_9 G hf rfl dX6_age_2 ?_
  refine v_isub G dX6_age_5 ?_
  exact v_iret G hQ (by subst_vars; exact ⟨rfl, rfl⟩) (Nat.le_of_ble_eq_true rfl) (Nat.le_of_ble_eq_true rfl) dX6_age_6

