/-! WALKS: the reference: small methods, mortality, values -/
set_option maxRecDepth 100000
set_option maxHeartbeats 4000000 in
theorem n_isIn {l : Launch} (hfl : l.stackTraces = false) {E : zEn} {h : zHp} {v a b : Int} (hv : n64 v) (ha : n64 a) (hb : n64 b)  : CN l E yX4_isIn (ws_ yX4_isIn cX4_isIn 6 (some FieldType.boolean)) ({ frames := 0, cells := 0, slots := 0, locals := 0 } : Room) [.long (iL v), .long (iL a), .long (iL b)] h (zR (.int (iI (if a ≤ v ∧ v ≤ b then 1 else 0))) h) := by
  refine CN.of (by decide +kernel) hfl (Nat.le_of_ble_eq_true rfl) fun θ Q hl G hin hQ => ?_
  subst hl
  show VW θ Q E h 0 0 0 [(0, .long (iL v)), (2, .long (iL a)), (4, .long (iL b))] []
  refine v_lload_n G 0 rfl rfl dX4_isIn_0 ?_
  refine v_lload_n G 1 rfl rfl dX4_isIn_1 ?_
  refine v_lcmp G ⟨by omega, by omega⟩ ⟨by omega, by omega⟩ dX4_isIn_2 ?_
  refine v_lif_lt G 17 (by decide) dX4_isIn_3 (fun c1 => ?_) (fun c1 => ?_)
  · refine v_iconst G dX4_isIn_17 ?_
    exact v_zret G hQ (by decide) ⟨by first | rw [if_pos (by omega)] | rw [if_neg (by omega)], rfl⟩ (Nat.le_of_ble_eq_true rfl) (Nat.le_of_ble_eq_true rfl) dX4_isIn_18
  · refine v_lload_n G 0 rfl rfl dX4_isIn_6 ?_
    refine v_lload G 2 rfl dX4_isIn_7 ?_
    refine v_lcmp G ⟨by omega, by omega⟩ ⟨by omega, by omega⟩ dX4_isIn_9 ?_
    refine v_lif_gt G 17 (by decide) dX4_isIn_10 (fun c2 => ?_) (fun c2 => ?_)
    · refine v_iconst G dX4_isIn_17 ?_
      exact v_zret G hQ (by decide) ⟨by first | rw [if_pos (by omega)] | rw [if_neg (by omega)], rfl⟩ (Nat.le_of_ble_eq_true rfl) (Nat.le_of_ble_eq_true rfl) dX4_isIn_18
    · refine v_iconst G dX4_isIn_13 ?_
      refine v_goto G 18 (by decide) dX4_isIn_14 ?_
      exact v_zret G hQ (by decide) ⟨by first | rw [if_pos (by omega)] | rw [if_neg (by omega)], rfl⟩ (Nat.le_of_ble_eq_true rfl) (Nat.le_of_ble_eq_true rfl) dX4_isIn_18

set_option maxHeartbeats 4000000 in
theorem n_isPolicy {l : Launch} (hfl : l.stackTraces = false) {E : zEn} {h : zHp} {A : Nat → Nat} {τ D : mMem} (hA : mInj A) {p : Int} (hp : n32 p) (hm : 0 ≤ τ 10 0 ∧ τ 10 0 ≤ 24)  : CN l E yX4_isPolicy (ws_ yX4_isPolicy cX4_isPolicy 2 (some FieldType.boolean)) ({ frames := 1, cells := 0, slots := 0, locals := 25 } : Room) [.ref (A 0), .int (iI p)] (zM E A h (sc τ D)) (zR (.int (iI (if 0 ≤ p ∧ p < τ 10 0 then 1 else 0))) (zM E A h (sc τ D))) := by
  refine CN.of (by decide +kernel) hfl (Nat.le_of_ble_eq_true rfl) fun θ Q hl G hin hQ => ?_
  subst hl
  show VW θ Q E (zM E A h (sc τ D)) 0 0 0 [(0, .ref (A 0)), (1, .int (iI p))] []
  refine v_iload_n G 1 rfl rfl dX4_isPolicy_0 ?_
  refine v_i2l G ⟨by omega, by omega⟩ dX4_isPolicy_1 ?_
  refine v_lconst G (n := 0) (v0 := 0) rfl dX4_isPolicy_2 ?_
  refine v_aload_n G 0 rfl rfl dX4_isPolicy_3 ?_
  refine gX4_146 G zM_0 (v := .int (iI (τ 10 0))) rfl dX4_isPolicy_4 ?_
  refine v_iconst G dX4_isPolicy_7 ?_
  refine v_isub G dX4_isPolicy_8 ?_
  refine v_i2l G ⟨by omega, by omega⟩ dX4_isPolicy_9 ?_
  refine kX4_168 G (As := [.long (iL p), .long (iL 0), .long (iL ((τ 10 0) - 1))]) (rest := []) (cs' := 0) (sl' := 0) (n_isIn G.fl (v := p) (a := 0) (b := ((τ 10 0) - 1)) ⟨by omega, by omega⟩ ⟨by decide, by decide⟩ ⟨by omega, by omega⟩) rfl rfl (Nat.le_of_ble_eq_true rfl) (zRm.ok rfl) dX4_isPolicy_10 (fun vq1 hq1 q1 => ?_)
  obtain ⟨_, _⟩ := q1
  subst vq1 hq1
  refine VW.nmI (fun z2 hz2 => ?_)
  have hz2 := ite01 hz2
  show VW θ Q E (zM E A h (sc τ D)) 0 0 13 [(0, .ref (A 0)), (1, .int (iI p))] [.int (iI z2)]
  exact v_zret G hQ (by omega) ⟨by rcases hz2 with ⟨e, _⟩ | ⟨e, _⟩ <;> subst e <;> first | rw [if_pos (by omega)] | rw [if_neg (by omega)], rfl⟩ (Nat.le_of_ble_eq_true rfl) (Nat.le_of_ble_eq_true rfl) dX4_isPolicy_13

set_option maxHeartbeats 4000000 in
theorem n_isLaw {l : Launch} (hfl : l.stackTraces = false) {E : zEn} {h : zHp} {p : Int} (hp : n32 p)  : CN l E yX4_isLaw (ws_ yX4_isLaw cX4_isLaw 1 (some FieldType.boolean)) ({ frames := 1, cells := 0, slots := 0, locals := 25 } : Room) [.int (iI p)] h (zR (.int (iI (if 0 ≤ p ∧ p < 3 then 1 else 0))) h) := by
  refine CN.of (by decide +kernel) hfl (Nat.le_of_ble_eq_true rfl) fun θ Q hl G hin hQ => ?_
  subst hl
  show VW θ Q E h 0 0 0 [(0, .int (iI p))] []
  refine v_iload_n G 0 rfl rfl dX4_isLaw_0 ?_
  refine v_i2l G ⟨by omega, by omega⟩ dX4_isLaw_1 ?_
  refine v_lconst G (n := 0) (v0 := 0) rfl dX4_isLaw_2 ?_
  refine v_ldc2 G (v := 2) q2154 rfl dX4_isLaw_3 ?_
  refine kX4_168 G (As := [.long (iL p), .long (iL 0), .long (iL 2)]) (rest := []) (cs' := 0) (sl' := 0) (n_isIn G.fl (v := p) (a := 0) (b := 2) ⟨by omega, by omega⟩ ⟨by decide, by decide⟩ ⟨by decide, by decide⟩) rfl rfl (Nat.le_of_ble_eq_true rfl) (zRm.ok rfl) dX4_isLaw_6 (fun vq1 hq1 q1 => ?_)
  obtain ⟨_, _⟩ := q1
  subst vq1 hq1
  refine VW.nmI (fun z2 hz2 => ?_)
  have hz2 := ite01 hz2
  show VW θ Q E h 0 0 9 [(0, .int (iI p))] [.int (iI z2)]
  exact v_zret G hQ (by omega) ⟨by rcases hz2 with ⟨e, _⟩ | ⟨e, _⟩ <;> subst e <;> first | rw [if_pos (by omega)] | rw [if_neg (by omega)], rfl⟩ (Nat.le_of_ble_eq_true rfl) (Nat.le_of_ble_eq_true rfl) dX4_isLaw_9

set_option maxHeartbeats 4000000 in
theorem n_isLiving {l : Launch} (hfl : l.stackTraces = false) {E : zEn} {h : zHp} {A : Nat → Nat} {τ D : mMem} (hA : mInj A) {p : Int} (hp : 0 ≤ p ∧ p < 24) (hb : 0 ≤ τ 29 p ∧ τ 29 p ≤ 7)  : CN l E yX4_isLiving (ws_ yX4_isLiving cX4_isLiving 2 (some FieldType.boolean)) ({ frames := 0, cells := 0, slots := 0, locals := 0 } : Room) [.ref (A 0), .int (iI p)] (zM E A h (sc τ D)) (zR (.int (iI (if τ 29 p ≤ 3 then 1 else 0))) (zM E A h (sc τ D))) := by
  refine CN.of (by decide +kernel) hfl (Nat.le_of_ble_eq_true rfl) fun θ Q hl G hin hQ => ?_
  subst hl
  show VW θ Q E (zM E A h (sc τ D)) 0 0 0 [(0, .ref (A 0)), (1, .int (iI p))] []
  refine v_aload_n G 0 rfl rfl dX4_isLiving_0 ?_
  refine gX4_49 G zM_0 (v := .ref (A 29)) rfl dX4_isLiving_1 ?_
  refine v_iload_n G 1 rfl rfl dX4_isLiving_4 ?_
  refine m_ald G hA (v := τ 29 p) rfl ⟨by omega, by show _ < (24 : Int); omega⟩ rfl dX4_isLiving_5 ?_
  refine v_iconst G dX4_isLiving_6 ?_
  refine v_icmp_gt G 14 ⟨by omega, by omega⟩ ⟨by decide, by decide⟩ (by decide) dX4_isLiving_7 (fun c1 => ?_) (fun c1 => ?_)
  · refine v_iconst G dX4_isLiving_14 ?_
    exact v_zret G hQ (by decide) ⟨by first | rw [if_pos (by omega)] | rw [if_neg (by omega)], rfl⟩ (Nat.le_of_ble_eq_true rfl) (Nat.le_of_ble_eq_true rfl) dX4_isLiving_15
  · refine v_iconst G dX4_isLiving_10 ?_
    refine v_goto G 15 (by decide) dX4_isLiving_11 ?_
    exact v_zret G hQ (by decide) ⟨by first | rw [if_pos (by omega)] | rw [if_neg (by omega)], rfl⟩ (Nat.le_of_ble_eq_true rfl) (Nat.le_of_ble_eq_true rfl) dX4_isLiving_15

set_option maxHeartbeats 4000000 in
theorem n_isQuiet {l : Launch} (hfl : l.stackTraces = false) {E : zEn} {h : zHp} {A : Nat → Nat} {τ D : mMem} (hA : mInj A) {p : Int} (hp : 0 ≤ p ∧ p < 24) (hb : 0 ≤ τ 29 p ∧ τ 29 p ≤ 7)  : CN l E yX4_isQuiet (ws_ yX4_isQuiet cX4_isQuiet 2 (some FieldType.boolean)) ({ frames := 0, cells := 0, slots := 0, locals := 0 } : Room) [.ref (A 0), .int (iI p)] (zM E A h (sc τ D)) (zR (.int (iI (if τ 29 p ≤ 1 then 1 else 0))) (zM E A h (sc τ D))) := by
  refine CN.of (by decide +kernel) hfl (Nat.le_of_ble_eq_true rfl) fun θ Q hl G hin hQ => ?_
  subst hl
  show VW θ Q E (zM E A h (sc τ D)) 0 0 0 [(0, .ref (A 0)), (1, .int (iI p))] []
  refine v_aload_n G 0 rfl rfl dX4_isQuiet_0 ?_
  refine gX4_49 G zM_0 (v := .ref (A 29)) rfl dX4_isQuiet_1 ?_
  refine v_iload_n G 1 rfl rfl dX4_isQuiet_4 ?_
  refine m_ald G hA (v := τ 29 p) rfl ⟨by omega, by show _ < (24 : Int); omega⟩ rfl dX4_isQuiet_5 ?_
  refine v_iconst G dX4_isQuiet_6 ?_
  refine v_icmp_gt G 14 ⟨by omega, by omega⟩ ⟨by decide, by decide⟩ (by decide) dX4_isQuiet_7 (fun c1 => ?_) (fun c1 => ?_)
  · refine v_iconst G dX4_isQuiet_14 ?_
    exact v_zret G hQ (by decide) ⟨by first | rw [if_pos (by omega)] | rw [if_neg (by omega)], rfl⟩ (Nat.le_of_ble_eq_true rfl) (Nat.le_of_ble_eq_true rfl) dX4_isQuiet_15
  · refine v_iconst G dX4_isQuiet_10 ?_
    refine v_goto G 15 (by decide) dX4_isQuiet_11 ?_
    exact v_zret G hQ (by decide) ⟨by first | rw [if_pos (by omega)] | rw [if_neg (by omega)], rfl⟩ (Nat.le_of_ble_eq_true rfl) (Nat.le_of_ble_eq_true rfl) dX4_isQuiet_15

set_option maxHeartbeats 4000000 in
theorem n_hasProfits {l : Launch} (hfl : l.stackTraces = false) {E : zEn} {h : zHp} {A : Nat → Nat} {τ D : mMem} (hA : mInj A) {p : Int} (hp : 0 ≤ p ∧ p < 24) (hb : 0 ≤ τ 25 p ∧ τ 25 p ≤ 7)  : CN l E yX4_hasProfits (ws_ yX4_hasProfits cX4_hasProfits 2 (some FieldType.boolean)) ({ frames := 0, cells := 0, slots := 0, locals := 0 } : Room) [.ref (A 0), .int (iI p)] (zM E A h (sc τ D)) (zR (.int (iI (if 4 ≤ τ 25 p then 1 else 0))) (zM E A h (sc τ D))) := by
  refine CN.of (by decide +kernel) hfl (Nat.le_of_ble_eq_true rfl) fun θ Q hl G hin hQ => ?_
  subst hl
  show VW θ Q E (zM E A h (sc τ D)) 0 0 0 [(0, .ref (A 0)), (1, .int (iI p))] []
  refine v_aload_n G 0 rfl rfl dX4_hasProfits_0 ?_
  refine gX4_37 G zM_0 (v := .ref (A 25)) rfl dX4_hasProfits_1 ?_
  refine v_iload_n G 1 rfl rfl dX4_hasProfits_4 ?_
  refine m_ald G hA (v := τ 25 p) rfl ⟨by omega, by show _ < (24 : Int); omega⟩ rfl dX4_hasProfits_5 ?_
  refine v_iconst G dX4_hasProfits_6 ?_
  refine v_icmp_lt G 14 ⟨by omega, by omega⟩ ⟨by decide, by decide⟩ (by decide) dX4_hasProfits_7 (fun c1 => ?_) (fun c1 => ?_)
  · refine v_iconst G dX4_hasProfits_14 ?_
    exact v_zret G hQ (by decide) ⟨by first | rw [if_pos (by omega)] | rw [if_neg (by omega)], rfl⟩ (Nat.le_of_ble_eq_true rfl) (Nat.le_of_ble_eq_true rfl) dX4_hasProfits_15
  · refine v_iconst G dX4_hasProfits_10 ?_
    refine v_goto G 15 (by decide) dX4_hasProfits_11 ?_
    exact v_zret G hQ (by decide) ⟨by first | rw [if_pos (by omega)] | rw [if_neg (by omega)], rfl⟩ (Nat.le_of_ble_eq_true rfl) (Nat.le_of_ble_eq_true rfl) dX4_hasProfits_15

set_option maxHeartbeats 4000000 in
theorem n_fails {l : Launch} (hfl : l.stackTraces = false) {E : zEn} {h : zHp} {A : Nat → Nat} {τ D : mMem} (hA : mInj A) {k : Int}  : CN l E yX4_fails (ws_ yX4_fails cX4_fails 2 (some FieldType.int)) ({ frames := 0, cells := 0, slots := 0, locals := 0 } : Room) [.ref (A 0), .int (iI k)] (zM E A h (sc τ D)) (zR (.int (iI 0)) (zM E A h (sc τ (st2 D 0 0 k)))) := by
  refine CN.of (by decide +kernel) hfl (Nat.le_of_ble_eq_true rfl) fun θ Q hl G hin hQ => ?_
  subst hl
  show VW θ Q E (zM E A h (sc τ D)) 0 0 0 [(0, .ref (A 0)), (1, .int (iI k))] []
  refine v_aload_n G 0 rfl rfl dX4_fails_0 ?_
  refine v_iload_n G 1 rfl rfl dX4_fails_1 ?_
  refine pX4_1 G zM_0 (Nat.le_of_ble_eq_true rfl) dX4_fails_2 ?_
  refine VW.hpe (zM_up0 (k := 0) (z := k) rfl (by decide)) ?_
  refine VW.hpe (congrArg (zM E A h) (sc_D (k := 0) rfl)) ?_
  refine v_iconst G dX4_fails_5 ?_
  exact v_iret G hQ ⟨rfl, rfl⟩ (Nat.le_of_ble_eq_true rfl) (Nat.le_of_ble_eq_true rfl) dX4_fails_6

set_option maxHeartbeats 4000000 in
theorem n_thrown {l : Launch} (hfl : l.stackTraces = false) {E : zEn} {h : zHp} {A : Nat → Nat} {τ D : mMem} (hA : mInj A)  : CN l E yX4_thrown (ws_ yX4_thrown cX4_thrown 1 (some FieldType.int)) ({ frames := 0, cells := 0, slots := 0, locals := 0 } : Room) [.ref (A 0)] (zM E A h (sc τ D)) (zR (.int (iI (D 0 0))) (zM E A h (sc τ D))) := by
  refine CN.of (by decide +kernel) hfl (Nat.le_of_ble_eq_true rfl) fun θ Q hl G hin hQ => ?_
  subst hl
  show VW θ Q E (zM E A h (sc τ D)) 0 0 0 [(0, .ref (A 0))] []
  refine v_aload_n G 0 rfl rfl dX4_thrown_0 ?_
  refine gX4_1 G zM_0 (v := .int (iI (D 0 0))) rfl dX4_thrown_1 ?_
  exact v_iret G hQ ⟨rfl, rfl⟩ (Nat.le_of_ble_eq_true rfl) (Nat.le_of_ble_eq_true rfl) dX4_thrown_4

set_option maxHeartbeats 4000000 in
theorem n_mort {l : Launch} (hfl : l.stackTraces = false) {E : zEn} {h : zHp} {A : Nat → Nat} {τ D : mMem} (hA : mInj A) {law fl b y py pts : Int} (hl : 0 ≤ law ∧ law < 3) (hf : 0 ≤ fl ∧ fl ≤ 7) (hq : okQ (τ 2 0) (τ 19 law) b (fl % 2) (fl / 2 % 2) y pts) (hpy : n32 py)  : CN l E yX4_mortalityOf (ws_ yX4_mortalityOf cX4_mortalityOf 11 (some FieldType.long)) ({ frames := 1, cells := 0, slots := 0, locals := 23 } : Room) [.ref (A 0), .int (iI law), .int (iI fl), .int (iI b), .int (iI y), .int (iI py), .int (iI pts)] (zM E A h (sc τ D)) (zR (.long (iL (qS (τ 2 0) (τ 19 law) b (fl % 2) (fl / 2 % 2) y py pts))) (zM E A h (sc τ D))) := by
  refine CN.of (by decide +kernel) hfl (Nat.le_of_ble_eq_true rfl) fun θ Q hl G hin hQ => ?_
  subst hl
  show VW θ Q E (zM E A h (sc τ D)) 0 0 0 [(0, .ref (A 0)), (1, .int (iI law)), (2, .int (iI fl)), (3, .int (iI b)), (4, .int (iI y)), (5, .int (iI py)), (6, .int (iI pts))] []
  obtain ⟨h1, h2, h3, h4, h5, h6⟩ := hq
  refine v_iload G 4 rfl dX4_mortalityOf_0 ?_
  refine v_iload_n G 3 rfl rfl dX4_mortalityOf_2 ?_
  refine v_isub G dX4_mortalityOf_3 ?_
  refine v_i2l G ⟨by omega, by omega⟩ dX4_mortalityOf_4 ?_
  refine v_lstore G (L' := [(7, .long (iL (y - b))), (0, .ref (A 0)), (1, .int (iI law)), (2, .int (iI fl)), (3, .int (iI b)), (4, .int (iI y)), (5, .int (iI py)), (6, .int (iI pts))]) (Nat.le_of_ble_eq_true rfl) rfl dX4_mortalityOf_5 ?_
  refine v_lload G 0 rfl dX4_mortalityOf_7 ?_
  refine v_ldc2 G (v := 110) q2183 rfl dX4_mortalityOf_9 ?_
  refine v_lcmp G ⟨by omega, by omega⟩ ⟨by decide, by decide⟩ dX4_mortalityOf_12 ?_
  refine v_lif_lt G 20 (by decide) dX4_mortalityOf_13 (fun c1 => ?_) (fun c1 => ?_)
  · have e5 := age5 (a := y - b) (by omega) (by omega)
    have b0 := q0S_bd (a := y - b) (by omega) (by omega)
    refine v_ldc2 G (v := 20) q2185 rfl dX4_mortalityOf_20 ?_
    refine v_lload G 0 rfl dX4_mortalityOf_23 ?_
    refine v_lload G 0 rfl dX4_mortalityOf_25 ?_
    refine v_lmul G dX4_mortalityOf_27 ?_
    refine v_lload G 0 rfl dX4_mortalityOf_28 ?_
    refine v_lmul G dX4_mortalityOf_30 ?_
    refine v_lload G 0 rfl dX4_mortalityOf_31 ?_
    refine v_lmul G dX4_mortalityOf_33 ?_
    refine v_lload G 0 rfl dX4_mortalityOf_34 ?_
    refine v_lmul G dX4_mortalityOf_36 ?_
    refine v_ldc2 G (v := 1000000) q2178 rfl dX4_mortalityOf_37 ?_
    refine v_ldiv G ⟨by omega, by omega⟩ ⟨by decide, by decide⟩ dX4_mortalityOf_40 ?_
    refine v_ladd G dX4_mortalityOf_41 ?_
    refine VW.cL (y := q0S (y - b)) (by subst_vars; rfl) ?_
    refine VW.nmL (fun q0 hq0 => ?_)
    rw [← hq0] at b0
    refine v_lstore G (L' := [(9, .long (iL q0)), (7, .long (iL (y - b))), (0, .ref (A 0)), (1, .int (iI law)), (2, .int (iI fl)), (3, .int (iI b)), (4, .int (iI y)), (5, .int (iI py)), (6, .int (iI pts))]) (Nat.le_of_ble_eq_true rfl) rfl dX4_mortalityOf_42 ?_
    have J2 : ∀ (q1 : Int), (q1 = q1S (fl % 2) q0) → VW θ Q E (zM E A h (sc τ D)) 0 0 66 [(9, .long (iL q0)), (7, .long (iL (y - b))), (0, .ref (A 0)), (1, .int (iI law)), (2, .int (iI fl)), (3, .int (iI b)), (4, .int (iI y)), (5, .int (iI py)), (6, .int (iI pts))] [.long (iL q1)] := by
      intro q1 hq1
      have b1 := q1S_bd (w := fl % 2) (q := q0) ⟨by omega, b0.2⟩
      rw [← hq1] at b1
      refine v_lstore G (L' := [(9, .long (iL q1)), (7, .long (iL (y - b))), (0, .ref (A 0)), (1, .int (iI law)), (2, .int (iI fl)), (3, .int (iI b)), (4, .int (iI y)), (5, .int (iI py)), (6, .int (iI pts))]) (Nat.le_of_ble_eq_true rfl) rfl dX4_mortalityOf_66 ?_
      have J3 : ∀ (q2 : Int), (q2 = q2S (fl / 2 % 2) q1) → VW θ Q E (zM E A h (sc τ D)) 0 0 88 [(9, .long (iL q1)), (7, .long (iL (y - b))), (0, .ref (A 0)), (1, .int (iI law)), (2, .int (iI fl)), (3, .int (iI b)), (4, .int (iI y)), (5, .int (iI py)), (6, .int (iI pts))] [.long (iL q2)] := by
        intro q2 hq2
        have b2 := q2S_bd (s := fl / 2 % 2) b1
        rw [← hq2] at b2
        refine v_lstore G (L' := [(9, .long (iL q2)), (7, .long (iL (y - b))), (0, .ref (A 0)), (1, .int (iI law)), (2, .int (iI fl)), (3, .int (iI b)), (4, .int (iI y)), (5, .int (iI py)), (6, .int (iI pts))]) (Nat.le_of_ble_eq_true rfl) rfl dX4_mortalityOf_88 ?_
        have J4 : ∀ (q3 : Int), (q3 = q3S py q2) → VW θ Q E (zM E A h (sc τ D)) 0 0 125 [(9, .long (iL q2)), (7, .long (iL (y - b))), (0, .ref (A 0)), (1, .int (iI law)), (2, .int (iI fl)), (3, .int (iI b)), (4, .int (iI y)), (5, .int (iI py)), (6, .int (iI pts))] [.long (iL q3)] := by
          intro q3 hq3
          have b3 := q3S_bd (py := py) b2
          rw [← hq3] at b3
          refine v_lstore G (L' := [(9, .long (iL q3)), (7, .long (iL (y - b))), (0, .ref (A 0)), (1, .int (iI law)), (2, .int (iI fl)), (3, .int (iI b)), (4, .int (iI y)), (5, .int (iI py)), (6, .int (iI pts))]) (Nat.le_of_ble_eq_true rfl) rfl dX4_mortalityOf_125 ?_
          have J5 : ∀ (q4 : Int), (q4 = q4S (τ 2 0) y q3) → VW θ Q E (zM E A h (sc τ D)) 0 0 165 [(9, .long (iL q4)), (7, .long (iL (y - b))), (0, .ref (A 0)), (1, .int (iI law)), (2, .int (iI fl)), (3, .int (iI b)), (4, .int (iI y)), (5, .int (iI py)), (6, .int (iI pts))] [] := by
            intro q4 hq4
            have b4 := q4S_bd (imp := τ 2 0) (y := y) h1.1 b3
            rw [← hq4] at b4
            have b5 := mul_bd2 b4 (show 0 ≤ 100 + pts ∧ 100 + pts ≤ 400 by omega)
            have b6 := mul_bd2 (show 0 ≤ q4 * (100 + pts) / 100 ∧ q4 * (100 + pts) / 100 ≤ 123248 by omega) h2
            refine v_lload G 0 rfl dX4_mortalityOf_165 ?_
            refine v_bipush G rfl dX4_mortalityOf_167 ?_
            refine v_iload G 8 rfl dX4_mortalityOf_169 ?_
            refine v_iadd G dX4_mortalityOf_171 ?_
            refine v_i2l G ⟨by omega, by omega⟩ dX4_mortalityOf_172 ?_
            refine v_lmul G dX4_mortalityOf_173 ?_
            refine v_ldc2 G (v := 100) q2191 rfl dX4_mortalityOf_174 ?_
            refine v_ldiv G ⟨by omega, by omega⟩ ⟨by decide, by decide⟩ dX4_mortalityOf_177 ?_
            refine v_aload_n G 2 rfl rfl dX4_mortalityOf_178 ?_
            refine gX4_17 G zM_0 (v := .ref (A 19)) rfl dX4_mortalityOf_179 ?_
            refine v_iload_n G 3 rfl rfl dX4_mortalityOf_182 ?_
            refine m_ald G hA (v := τ 19 law) rfl ⟨by omega, by show _ < (3 : Int); omega⟩ rfl dX4_mortalityOf_183 ?_
            refine v_i2l G ⟨by omega, by omega⟩ dX4_mortalityOf_184 ?_
            refine v_lmul G dX4_mortalityOf_185 ?_
            refine v_ldc2 G (v := 100) q2191 rfl dX4_mortalityOf_186 ?_
            refine v_ldiv G ⟨by omega, by omega⟩ ⟨by decide, by decide⟩ dX4_mortalityOf_189 ?_
            refine v_lstore G (L' := [(9, .long (iL ((((q4 * (100 + pts)) / 100) * (τ 19 law)) / 100))), (7, .long (iL (y - b))), (0, .ref (A 0)), (1, .int (iI law)), (2, .int (iI fl)), (3, .int (iI b)), (4, .int (iI y)), (5, .int (iI py)), (6, .int (iI pts))]) (Nat.le_of_ble_eq_true rfl) rfl dX4_mortalityOf_190 ?_
            refine v_ldc2 G (v := 100000) q2184 rfl dX4_mortalityOf_192 ?_
            refine v_lload G 0 rfl dX4_mortalityOf_195 ?_
            refine kX4_198 G (As := [.long (iL 100000), .long (iL ((((q4 * (100 + pts)) / 100) * (τ 19 law)) / 100))]) (rest := []) (cs' := 0) (sl' := 0) (m_minL G.fl (a := 100000) (b := ((((q4 * (100 + pts)) / 100) * (τ 19 law)) / 100)) ⟨by decide, by decide⟩ ⟨by omega, by omega⟩) rfl rfl (Nat.le_of_ble_eq_true rfl) (zRm.ok rfl) dX4_mortalityOf_197 (fun vq7 hq7 q7 => ?_)
            obtain ⟨_, _⟩ := q7
            subst vq7 hq7
            show VW θ Q E (zM E A h (sc τ D)) 0 0 200 [(9, .long (iL ((((q4 * (100 + pts)) / 100) * (τ 19 law)) / 100))), (7, .long (iL (y - b))), (0, .ref (A 0)), (1, .int (iI law)), (2, .int (iI fl)), (3, .int (iI b)), (4, .int (iI y)), (5, .int (iI py)), (6, .int (iI pts))] [.long (iL (min 100000 ((((q4 * (100 + pts)) / 100) * (τ 19 law)) / 100)))]
            exact v_lret G hQ ⟨by rw [qS, if_neg (by omega)]; subst_vars; rfl, rfl⟩ (Nat.le_of_ble_eq_true rfl) (Nat.le_of_ble_eq_true rfl) dX4_mortalityOf_200
          refine v_iload G 6 rfl dX4_mortalityOf_127 ?_
          refine v_sipush G rfl dX4_mortalityOf_129 ?_
          refine v_icmp_le G 165 ⟨by omega, by omega⟩ ⟨by decide, by decide⟩ (by decide) dX4_mortalityOf_132 (fun c8 => ?_) (fun c8 => ?_)
          · exact J5 q3 (by unfold q4S; first | rw [if_pos (by omega)] | rw [if_neg (by omega)])
          · have e6 := mul_bd2 h1 (show 0 ≤ y - 2000 ∧ y - 2000 ≤ 400 by omega)
            have e7 := mul_bd2 b3 (show 0 ≤ min 500 (τ 2 0 * (y - 2000)) ∧ min 500 (τ 2 0 * (y - 2000)) ≤ 500 by omega)
            refine v_lload G 0 rfl dX4_mortalityOf_135 ?_
            refine v_lload G 0 rfl dX4_mortalityOf_137 ?_
            refine v_sipush G rfl dX4_mortalityOf_139 ?_
            refine v_aload_n G 2 rfl rfl dX4_mortalityOf_142 ?_
            refine gX4_121 G zM_0 (v := .int (iI (τ 2 0))) rfl dX4_mortalityOf_143 ?_
            refine v_iload G 6 rfl dX4_mortalityOf_146 ?_
            refine v_sipush G rfl dX4_mortalityOf_148 ?_
            refine v_isub G dX4_mortalityOf_151 ?_
            refine v_imul G dX4_mortalityOf_152 ?_
            refine kX4_188 G (As := [.int (iI 500), .int (iI ((τ 2 0) * (y - 2000)))]) (rest := [.long (iL q3), .long (iL q3)]) (cs' := 0) (sl' := 0) (m_minI G.fl (a := 500) (b := ((τ 2 0) * (y - 2000))) ⟨by decide, by decide⟩ ⟨by omega, by omega⟩) rfl rfl (Nat.le_of_ble_eq_true rfl) (zRm.ok rfl) dX4_mortalityOf_153 (fun vq10 hq10 q10 => ?_)
            obtain ⟨_, _⟩ := q10
            subst vq10 hq10
            show VW θ Q E (zM E A h (sc τ D)) 0 0 156 [(9, .long (iL q3)), (7, .long (iL (y - b))), (0, .ref (A 0)), (1, .int (iI law)), (2, .int (iI fl)), (3, .int (iI b)), (4, .int (iI y)), (5, .int (iI py)), (6, .int (iI pts))] [.int (iI (min 500 ((τ 2 0) * (y - 2000)))), .long (iL q3), .long (iL q3)]
            refine v_i2l G ⟨by omega, by omega⟩ dX4_mortalityOf_156 ?_
            refine v_lmul G dX4_mortalityOf_157 ?_
            refine v_ldc2 G (v := 1000) q2190 rfl dX4_mortalityOf_158 ?_
            refine v_ldiv G ⟨by omega, by omega⟩ ⟨by decide, by decide⟩ dX4_mortalityOf_161 ?_
            refine v_lsub G dX4_mortalityOf_162 ?_
            refine v_lstore G (L' := [(9, .long (iL (q3 - ((q3 * (min 500 ((τ 2 0) * (y - 2000)))) / 1000)))), (7, .long (iL (y - b))), (0, .ref (A 0)), (1, .int (iI law)), (2, .int (iI fl)), (3, .int (iI b)), (4, .int (iI y)), (5, .int (iI py)), (6, .int (iI pts))]) (Nat.le_of_ble_eq_true rfl) rfl dX4_mortalityOf_163 ?_
            exact J5 (q3 - ((q3 * (min 500 ((τ 2 0) * (y - 2000)))) / 1000)) (by unfold q4S; first | rw [if_pos (by omega)] | rw [if_neg (by omega)])
        refine v_iload G 7 rfl dX4_mortalityOf_90 ?_
        refine v_if_ne G 104 ⟨by omega, by omega⟩ (by decide) dX4_mortalityOf_92 (fun c11 => ?_) (fun c11 => ?_)
        · refine v_iload G 7 rfl dX4_mortalityOf_104 ?_
          refine v_iconst G dX4_mortalityOf_106 ?_
          refine v_icmp_ne G 123 ⟨by omega, by omega⟩ ⟨by decide, by decide⟩ (by decide) dX4_mortalityOf_107 (fun c12 => ?_) (fun c12 => ?_)
          · refine v_lload G 0 rfl dX4_mortalityOf_123 ?_
            exact J4 q2 (by unfold q3S; first | rw [if_pos (by omega)] | rw [if_neg (by omega), if_pos (by omega)] | rw [if_neg (by omega), if_neg (by omega)])
          · refine v_lload G 0 rfl dX4_mortalityOf_110 ?_
            refine v_ldc2 G (v := 3) q2188 rfl dX4_mortalityOf_112 ?_
            refine v_lmul G dX4_mortalityOf_115 ?_
            refine v_ldc2 G (v := 4) q2186 rfl dX4_mortalityOf_116 ?_
            refine v_ldiv G ⟨by omega, by omega⟩ ⟨by decide, by decide⟩ dX4_mortalityOf_119 ?_
            refine v_goto G 125 (by decide) dX4_mortalityOf_120 ?_
            exact J4 ((q2 * 3) / 4) (by unfold q3S; first | rw [if_pos (by omega)] | rw [if_neg (by omega), if_pos (by omega)] | rw [if_neg (by omega), if_neg (by omega)])
        · refine v_lload G 0 rfl dX4_mortalityOf_95 ?_
          refine v_ldc2 G (v := 2) q2154 rfl dX4_mortalityOf_97 ?_
          refine v_ldiv G ⟨by omega, by omega⟩ ⟨by decide, by decide⟩ dX4_mortalityOf_100 ?_
          refine v_goto G 125 (by decide) dX4_mortalityOf_101 ?_
          exact J4 (q2 / 2) (by unfold q3S; first | rw [if_pos (by omega)] | rw [if_neg (by omega), if_pos (by omega)] | rw [if_neg (by omega), if_neg (by omega)])
      refine v_iload_n G 4 rfl rfl dX4_mortalityOf_68 ?_
      refine v_iconst G dX4_mortalityOf_69 ?_
      refine v_idiv G ⟨by omega, by omega⟩ ⟨by decide, by decide⟩ dX4_mortalityOf_70 ?_
      refine v_iconst G dX4_mortalityOf_71 ?_
      refine v_irem G ⟨by omega, by omega⟩ ⟨by decide, by decide⟩ dX4_mortalityOf_72 ?_
      refine v_iconst G dX4_mortalityOf_73 ?_
      refine v_icmp_ne G 86 ⟨by omega, by omega⟩ ⟨by decide, by decide⟩ (by decide) dX4_mortalityOf_74 (fun c13 => ?_) (fun c13 => ?_)
      · refine v_lload G 0 rfl dX4_mortalityOf_86 ?_
        exact J3 q1 (by unfold q2S; first | rw [if_pos (by omega)] | rw [if_neg (by omega)])
      · refine v_lload G 0 rfl dX4_mortalityOf_77 ?_
        refine v_ldc2 G (v := 2) q2154 rfl dX4_mortalityOf_79 ?_
        refine v_lmul G dX4_mortalityOf_82 ?_
        refine v_goto G 88 (by decide) dX4_mortalityOf_83 ?_
        exact J3 (q1 * 2) (by unfold q2S; first | rw [if_pos (by omega)] | rw [if_neg (by omega)])
    refine v_iload_n G 4 rfl rfl dX4_mortalityOf_44 ?_
    refine v_iconst G dX4_mortalityOf_45 ?_
    refine v_irem G ⟨by omega, by omega⟩ ⟨by decide, by decide⟩ dX4_mortalityOf_46 ?_
    refine v_iconst G dX4_mortalityOf_47 ?_
    refine v_icmp_ne G 64 ⟨by omega, by omega⟩ ⟨by decide, by decide⟩ (by decide) dX4_mortalityOf_48 (fun c14 => ?_) (fun c14 => ?_)
    · refine v_lload G 0 rfl dX4_mortalityOf_64 ?_
      exact J2 q0 (by unfold q1S; subst_vars; first | rw [if_pos (by omega)] | rw [if_neg (by omega)])
    · refine v_lload G 0 rfl dX4_mortalityOf_51 ?_
      refine v_ldc2 G (v := 4) q2186 rfl dX4_mortalityOf_53 ?_
      refine v_lmul G dX4_mortalityOf_56 ?_
      refine v_ldc2 G (v := 5) q2187 rfl dX4_mortalityOf_57 ?_
      refine v_ldiv G ⟨by omega, by omega⟩ ⟨by decide, by decide⟩ dX4_mortalityOf_60 ?_
      refine v_goto G 66 (by decide) dX4_mortalityOf_61 ?_
      exact J2 ((q0 * 4) / 5) (by unfold q1S; subst_vars; first | rw [if_pos (by omega)] | rw [if_neg (by omega)])
  · refine v_ldc2 G (v := 100000) q2184 rfl dX4_mortalityOf_16 ?_
    exact v_lret G hQ ⟨by rw [qS, if_pos (by omega)], rfl⟩ (Nat.le_of_ble_eq_true rfl) (Nat.le_of_ble_eq_true rfl) dX4_mortalityOf_19

set_option maxHeartbeats 4000000 in
theorem n_q {l : Launch} (hfl : l.stackTraces = false) {E : zEn} {h : zHp} {A : Nat → Nat} {τ D : mMem} (hA : mInj A) {p y law : Int} (hp : 0 ≤ p ∧ p < 24) (hl : 0 ≤ law ∧ law < 3) (hf : 0 ≤ τ 25 p ∧ τ 25 p ≤ 7) (hq : okQ (τ 2 0) (τ 19 law) (τ 24 p) (τ 25 p % 2) (τ 25 p / 2 % 2) y (τ 26 p)) (hs : 1700 ≤ τ 27 p ∧ τ 27 p ≤ 2400)  : CN l E yX4_q (ws_ yX4_q cX4_q 4 (some FieldType.long)) ({ frames := 2, cells := 0, slots := 0, locals := 53 } : Room) [.ref (A 0), .int (iI p), .int (iI y), .int (iI law)] (zM E A h (sc τ D)) (zR (.long (iL (pqS (τ 2 0) (τ 19 law) (τ 24 p) (τ 25 p % 2) (τ 25 p / 2 % 2) (τ 27 p) (τ 26 p) y))) (zM E A h (sc τ D))) := by
  refine CN.of (by decide +kernel) hfl (Nat.le_of_ble_eq_true rfl) fun θ Q hl G hin hQ => ?_
  subst hl
  show VW θ Q E (zM E A h (sc τ D)) 0 0 0 [(0, .ref (A 0)), (1, .int (iI p)), (2, .int (iI y)), (3, .int (iI law))] []
  have hq2 := hq
  unfold okQ at hq2
  refine v_aload_n G 0 rfl rfl dX4_q_0 ?_
  refine v_iload_n G 3 rfl rfl dX4_q_1 ?_
  refine v_aload_n G 0 rfl rfl dX4_q_2 ?_
  refine gX4_37 G zM_0 (v := .ref (A 25)) rfl dX4_q_3 ?_
  refine v_iload_n G 1 rfl rfl dX4_q_6 ?_
  refine m_ald G hA (v := τ 25 p) rfl ⟨by omega, by show _ < (24 : Int); omega⟩ rfl dX4_q_7 ?_
  refine v_aload_n G 0 rfl rfl dX4_q_8 ?_
  refine gX4_34 G zM_0 (v := .ref (A 24)) rfl dX4_q_9 ?_
  refine v_iload_n G 1 rfl rfl dX4_q_12 ?_
  refine m_ald G hA (v := τ 24 p) rfl ⟨by omega, by show _ < (24 : Int); omega⟩ rfl dX4_q_13 ?_
  refine v_iload_n G 2 rfl rfl dX4_q_14 ?_
  refine v_iload_n G 2 rfl rfl dX4_q_15 ?_
  refine v_aload_n G 0 rfl rfl dX4_q_16 ?_
  refine gX4_43 G zM_0 (v := .ref (A 27)) rfl dX4_q_17 ?_
  refine v_iload_n G 1 rfl rfl dX4_q_20 ?_
  refine m_ald G hA (v := τ 27 p) rfl ⟨by omega, by show _ < (24 : Int); omega⟩ rfl dX4_q_21 ?_
  refine v_isub G dX4_q_22 ?_
  refine v_aload_n G 0 rfl rfl dX4_q_23 ?_
  refine gX4_40 G zM_0 (v := .ref (A 26)) rfl dX4_q_24 ?_
  refine v_iload_n G 1 rfl rfl dX4_q_27 ?_
  refine m_ald G hA (v := τ 26 p) rfl ⟨by omega, by show _ < (24 : Int); omega⟩ rfl dX4_q_28 ?_
  refine kX4_201 G (As := [.int (iI law), .int (iI (τ 25 p)), .int (iI (τ 24 p)), .int (iI y), .int (iI (y - (τ 27 p))), .int (iI (τ 26 p))]) (rest := []) (cs' := 0) (sl' := 0) (n_mort G.fl (τ := τ) (D := D) hA (law := law) (fl := (τ 25 p)) (b := (τ 24 p)) (y := y) (py := (y - (τ 27 p))) (pts := (τ 26 p)) ⟨by omega, by omega⟩ ⟨by omega, by omega⟩ (show okQ (τ 2 0) (τ 19 law) (τ 24 p) ((τ 25 p) % 2) ((τ 25 p) / 2 % 2) y (τ 26 p) from hq) ⟨by omega, by omega⟩) (zRcv.of G (q := (RX4, TX4, 55)) rfl zM_0) rfl rfl (Nat.le_of_ble_eq_true rfl) (zRm.ok rfl) dX4_q_29 (fun vq1 hq1 q1 => ?_)
  obtain ⟨_, _⟩ := q1
  subst vq1 hq1
  show VW θ Q E (zM E A h (sc τ D)) 0 0 32 [(0, .ref (A 0)), (1, .int (iI p)), (2, .int (iI y)), (3, .int (iI law))] [.long (iL (qS (τ 2 0) (τ 19 law) (τ 24 p) ((τ 25 p) % 2) ((τ 25 p) / 2 % 2) y (y - (τ 27 p)) (τ 26 p)))]
  exact v_lret G hQ ⟨rfl, rfl⟩ (Nat.le_of_ble_eq_true rfl) (Nat.le_of_ble_eq_true rfl) dX4_q_32

set_option maxHeartbeats 4000000 in
theorem n_runs {l : Launch} (hfl : l.stackTraces = false) {E : zEn} {h : zHp} {A : Nat → Nat} {τ D : mMem} (hA : mInj A) {kind fl b pts st e y law : Int} (hk : 0 ≤ kind ∧ kind ≤ 3) (hm : okM τ law fl b pts st e) (hy : st ≤ y ∧ y ≤ e)  : CN l E yX4_runs_2 (ws_ yX4_runs_2 cX4_runs_2 22 none) ({ frames := 2, cells := 0, slots := 0, locals := 53 } : Room) [.ref (A 0), .int (iI kind), .int (iI fl), .int (iI b), .int (iI pts), .int (iI st), .int (iI e), .int (iI y), .int (iI law)] (zM E A h (sc τ D)) (zS E A h τ none (rnK τ law kind fl b pts st e y D)) := by
  refine CN.of (by decide +kernel) hfl (Nat.le_of_ble_eq_true rfl) fun θ Q hl G hin hQ => ?_
  subst hl
  show VW θ Q E (zM E A h (sc τ D)) 0 0 0 [(0, .ref (A 0)), (1, .int (iI kind)), (2, .int (iI fl)), (3, .int (iI b)), (4, .int (iI pts)), (5, .int (iI st)), (6, .int (iI e)), (7, .int (iI y)), (8, .int (iI law))] []
  have hr := okM_R hm
  have hd0 := d0S_bd kind
  obtain ⟨h1, h2, h3, h4, h5, h6, h7⟩ := hm
  have J1 : ∀ (d : Int), (d = d0S kind) → VW θ Q E (zM E A h (sc τ D)) 0 0 16 [(0, .ref (A 0)), (1, .int (iI kind)), (2, .int (iI fl)), (3, .int (iI b)), (4, .int (iI pts)), (5, .int (iI st)), (6, .int (iI e)), (7, .int (iI y)), (8, .int (iI law))] [.long (iL d)] := by
    intro d hd
    refine v_lstore G (L' := [(9, .long (iL d)), (0, .ref (A 0)), (1, .int (iI kind)), (2, .int (iI fl)), (3, .int (iI b)), (4, .int (iI pts)), (5, .int (iI st)), (6, .int (iI e)), (7, .int (iI y)), (8, .int (iI law))]) (Nat.le_of_ble_eq_true rfl) rfl dX4_runs_2_16 ?_
    refine v_lconst G (n := 0) (v0 := 0) rfl dX4_runs_2_18 ?_
    refine v_lstore G (L' := [(11, .long (iL 0)), (9, .long (iL d)), (0, .ref (A 0)), (1, .int (iI kind)), (2, .int (iI fl)), (3, .int (iI b)), (4, .int (iI pts)), (5, .int (iI st)), (6, .int (iI e)), (7, .int (iI y)), (8, .int (iI law))]) (Nat.le_of_ble_eq_true rfl) rfl dX4_runs_2_19 ?_
    refine v_lconst G (n := 0) (v0 := 0) rfl dX4_runs_2_21 ?_
    refine v_lstore G (L' := [(13, .long (iL 0)), (11, .long (iL 0)), (9, .long (iL d)), (0, .ref (A 0)), (1, .int (iI kind)), (2, .int (iI fl)), (3, .int (iI b)), (4, .int (iI pts)), (5, .int (iI st)), (6, .int (iI e)), (7, .int (iI y)), (8, .int (iI law))]) (Nat.le_of_ble_eq_true rfl) rfl dX4_runs_2_22 ?_
    refine v_aload_n G 3 rfl rfl dX4_runs_2_24 ?_
    refine v_lload G 2 rfl dX4_runs_2_25 ?_
    refine pX4_205 G zM_0 (Nat.le_of_ble_eq_true rfl) dX4_runs_2_27 ?_
    refine VW.hpe (zM_up0 (k := 45) (z := d) rfl (by decide)) ?_
    refine VW.hpe (congrArg (zM E A h) (sc_D (k := 45) rfl)) ?_
    refine v_aload_n G 3 rfl rfl dX4_runs_2_30 ?_
    refine v_lload G 1 rfl dX4_runs_2_31 ?_
    refine pX4_208 G zM_0 (Nat.le_of_ble_eq_true rfl) dX4_runs_2_33 ?_
    refine VW.hpe (zM_up0 (k := 46) (z := 0) rfl (by decide)) ?_
    refine VW.hpe (congrArg (zM E A h) (sc_D (k := 46) rfl)) ?_
    refine v_aload_n G 3 rfl rfl dX4_runs_2_36 ?_
    refine v_lload G 0 rfl dX4_runs_2_37 ?_
    refine pX4_211 G zM_0 (Nat.le_of_ble_eq_true rfl) dX4_runs_2_39 ?_
    refine VW.hpe (zM_up0 (k := 47) (z := 0) rfl (by decide)) ?_
    refine VW.hpe (congrArg (zM E A h) (sc_D (k := 47) rfl)) ?_
    refine v_sipush G rfl dX4_runs_2_42 ?_
    refine v_aload_n G 3 rfl rfl dX4_runs_2_45 ?_
    refine gX4_13 G zM_0 (v := .ref (A 18)) rfl dX4_runs_2_46 ?_
    refine v_iload G 11 rfl dX4_runs_2_49 ?_
    refine m_ald G hA (v := τ 18 law) rfl ⟨by omega, by show _ < (3 : Int); omega⟩ rfl dX4_runs_2_51 ?_
    refine v_iadd G dX4_runs_2_52 ?_
    refine v_i2l G ⟨by omega, by omega⟩ dX4_runs_2_53 ?_
    refine v_lstore G (L' := [(15, .long (iL (1000 + (τ 18 law)))), (13, .long (iL 0)), (11, .long (iL 0)), (9, .long (iL d)), (0, .ref (A 0)), (1, .int (iI kind)), (2, .int (iI fl)), (3, .int (iI b)), (4, .int (iI pts)), (5, .int (iI st)), (6, .int (iI e)), (7, .int (iI y)), (8, .int (iI law))]) (Nat.le_of_ble_eq_true rfl) rfl dX4_runs_2_54 ?_
    refine v_iload G 10 rfl dX4_runs_2_56 ?_
    refine v_iconst G dX4_runs_2_58 ?_
    refine v_isub G dX4_runs_2_59 ?_
    refine v_istore G (L' := [(17, .int (iI (e - 1))), (15, .long (iL (1000 + (τ 18 law)))), (13, .long (iL 0)), (11, .long (iL 0)), (9, .long (iL d)), (0, .ref (A 0)), (1, .int (iI kind)), (2, .int (iI fl)), (3, .int (iI b)), (4, .int (iI pts)), (5, .int (iI st)), (6, .int (iI e)), (7, .int (iI y)), (8, .int (iI law))]) (Nat.le_of_ble_eq_true rfl) rfl dX4_runs_2_60 ?_
    have P2 : ∀ (n : Nat) (t : Int) (d1 : Int) (p1 : Int) (n1 : Int) (D1 : mMem), (st - 1 ≤ t ∧ t < e) → (d1 = vD (qT τ law fl b pts st) (τ 18 law) e (d0S kind) (e - 1 - t).toNat) → (p1 = vP (qT τ law fl b pts st) (τ 18 law) e (e - 1 - t).toNat) → (n1 = vN (qT τ law fl b pts st) (τ 18 law) e (e - 1 - t).toNat) → (t < y → D1 45 0 = vD (qT τ law fl b pts st) (τ 18 law) e (d0S kind) (e - y).toNat ∧ D1 46 0 = vP (qT τ law fl b pts st) (τ 18 law) e (e - y).toNat ∧ D1 47 0 = vN (qT τ law fl b pts st) (τ 18 law) e (e - y).toNat) → (kp D D1) → (t - st + 1).toNat < n → VW θ Q E (zM E A h (sc τ D1)) 0 0 62 [(0, .ref (A 0)), (5, .int (iI st)), (7, .int (iI y)), (8, .int (iI law)), (2, .int (iI fl)), (3, .int (iI b)), (4, .int (iI pts)), (9, .long (iL d1)), (11, .long (iL p1)), (13, .long (iL n1)), (15, .long (iL (1000 + τ 18 law))), (17, .int (iI t))] [] := by
      intro n
      induction n with
      | zero => intros; omega
      | succ n P2ih =>
        intro t d1 p1 n1 D1 ht hd1 hp1 hn1 hv1 hk1 hn
        have hbd := vD_bd (e := e) hr hd0 (e - 1 - t).toNat (by omega)
        have hbp := vP_bd (e := e) hr (e - 1 - t).toNat (by omega)
        have hbn := vN_bd (e := e) hr (e - 1 - t).toNat (by omega)
        rw [← hd1] at hbd
        rw [← hp1] at hbp
        rw [← hn1] at hbn
        refine v_iload G 11 rfl dX4_runs_2_62 ?_
        refine v_iload G 1 rfl dX4_runs_2_64 ?_
        refine v_icmp_lt G 196 ⟨by omega, by omega⟩ ⟨by omega, by omega⟩ (by decide) dX4_runs_2_66 (fun c3 => ?_) (fun c3 => ?_)
        · obtain rfl : t = st - 1 := by omega
          rw [show e - 1 - (st - 1) = e - st by omega] at hd1 hp1 hn1
          obtain ⟨v1, v2, v3⟩ := hv1 (by omega)
          refine v_aload_n G 0 rfl rfl dX4_runs_2_196 ?_
          refine v_lload G 7 rfl dX4_runs_2_197 ?_
          refine pX4_214 G zM_0 (Nat.le_of_ble_eq_true rfl) dX4_runs_2_199 ?_
          refine VW.hpe (zM_up0 (k := 48) (z := d1) rfl (by decide)) ?_
          refine VW.hpe (congrArg (zM E A h) (sc_D (k := 48) rfl)) ?_
          refine v_aload_n G 0 rfl rfl dX4_runs_2_202 ?_
          refine v_lload G 8 rfl dX4_runs_2_203 ?_
          refine pX4_217 G zM_0 (Nat.le_of_ble_eq_true rfl) dX4_runs_2_205 ?_
          refine VW.hpe (zM_up0 (k := 49) (z := p1) rfl (by decide)) ?_
          refine VW.hpe (congrArg (zM E A h) (sc_D (k := 49) rfl)) ?_
          refine v_aload_n G 0 rfl rfl dX4_runs_2_208 ?_
          refine v_lload G 9 rfl dX4_runs_2_209 ?_
          refine pX4_220 G zM_0 (Nat.le_of_ble_eq_true rfl) dX4_runs_2_211 ?_
          refine VW.hpe (zM_up0 (k := 50) (z := n1) rfl (by decide)) ?_
          refine VW.hpe (congrArg (zM E A h) (sc_D (k := 50) rfl)) ?_
          exact v_vret G hQ ⟨rfl, st2 (st2 (st2 D1 48 0 d1) 49 0 p1) 50 0 n1, ⟨⟨v1, v2, v3⟩, ⟨hd1, hp1, hn1⟩, ((hk1.st rfl).st rfl).st rfl⟩, rfl⟩ (Nat.le_of_ble_eq_true rfl) (Nat.le_of_ble_eq_true rfl) dX4_runs_2_214
        · have hq1 := hr.2 t (by omega) (by omega)
          have e1 := mul_bd2 (show 0 ≤ 100000 - qT τ law fl b pts st t ∧ 100000 - qT τ law fl b pts st t ≤ 100000 by omega) hbd
          have e2 := mul_bd2 (show 0 ≤ 100000 - qT τ law fl b pts st t ∧ 100000 - qT τ law fl b pts st t ≤ 100000 by omega) (show 0 ≤ p1 ∧ p1 ≤ 110000000 by omega)
          have e3 := mul_bd2 (show 0 ≤ 100000 - qT τ law fl b pts st t ∧ 100000 - qT τ law fl b pts st t ≤ 100000 by omega) (show 0 ≤ 1000000 + n1 ∧ 1000000 + n1 ≤ 111000000 by omega)
          refine v_aload_n G 0 rfl rfl dX4_runs_2_69 ?_
          refine v_iload G 3 rfl dX4_runs_2_70 ?_
          refine v_iload_n G 4 rfl rfl dX4_runs_2_72 ?_
          refine v_iload_n G 5 rfl rfl dX4_runs_2_73 ?_
          refine v_iload G 11 rfl dX4_runs_2_74 ?_
          refine v_iload G 11 rfl dX4_runs_2_76 ?_
          refine v_iload G 1 rfl dX4_runs_2_78 ?_
          refine v_isub G dX4_runs_2_80 ?_
          refine v_iload G 6 rfl dX4_runs_2_81 ?_
          refine kX4_201 G (As := [.int (iI law), .int (iI fl), .int (iI b), .int (iI t), .int (iI (t - st)), .int (iI pts)]) (rest := []) (cs' := 0) (sl' := 0) (n_mort G.fl (τ := τ) (D := D1) hA (law := law) (fl := fl) (b := b) (y := t) (py := (t - st)) (pts := pts) ⟨by omega, by omega⟩ ⟨by omega, by omega⟩ (show okQ (τ 2 0) (τ 19 law) b (fl % 2) (fl / 2 % 2) t pts from ⟨⟨by omega, by omega⟩, ⟨by omega, by omega⟩, by omega, by omega, ⟨by omega, by omega, by omega⟩, ⟨by omega, by omega⟩⟩) ⟨by omega, by omega⟩) (zRcv.of G (q := (RX4, TX4, 55)) rfl zM_0) rfl rfl (Nat.le_of_ble_eq_true rfl) (zRm.ok rfl) dX4_runs_2_83 (fun vq4 hq4 q4 => ?_)
          obtain ⟨_, _⟩ := q4
          subst vq4 hq4
          show VW θ Q E (zM E A h (sc τ D1)) 0 0 86 [(0, .ref (A 0)), (5, .int (iI st)), (7, .int (iI y)), (8, .int (iI law)), (2, .int (iI fl)), (3, .int (iI b)), (4, .int (iI pts)), (9, .long (iL d1)), (11, .long (iL p1)), (13, .long (iL n1)), (15, .long (iL (1000 + τ 18 law))), (17, .int (iI t))] [.long (iL (qT τ law fl b pts st t))]
          refine v_lstore G (L' := [(18, .long (iL (qT τ law fl b pts st t))), (0, .ref (A 0)), (5, .int (iI st)), (7, .int (iI y)), (8, .int (iI law)), (2, .int (iI fl)), (3, .int (iI b)), (4, .int (iI pts)), (9, .long (iL d1)), (11, .long (iL p1)), (13, .long (iL n1)), (15, .long (iL (1000 + τ 18 law))), (17, .int (iI t))]) (Nat.le_of_ble_eq_true rfl) rfl dX4_runs_2_86 ?_
          refine v_ldc2 G (v := 100000) q2184 rfl dX4_runs_2_88 ?_
          refine v_lload G 0 rfl dX4_runs_2_91 ?_
          refine v_lsub G dX4_runs_2_93 ?_
          refine v_lstore G (L' := [(20, .long (iL (100000 - (qT τ law fl b pts st t)))), (18, .long (iL (qT τ law fl b pts st t))), (0, .ref (A 0)), (5, .int (iI st)), (7, .int (iI y)), (8, .int (iI law)), (2, .int (iI fl)), (3, .int (iI b)), (4, .int (iI pts)), (9, .long (iL d1)), (11, .long (iL p1)), (13, .long (iL n1)), (15, .long (iL (1000 + τ 18 law))), (17, .int (iI t))]) (Nat.le_of_ble_eq_true rfl) rfl dX4_runs_2_94 ?_
          refine v_lload G 1 rfl dX4_runs_2_96 ?_
          refine v_ldc2 G (v := 1000000) q2178 rfl dX4_runs_2_98 ?_
          refine v_lmul G dX4_runs_2_101 ?_
          refine v_lload G 0 rfl dX4_runs_2_102 ?_
          refine v_lload G 9 rfl dX4_runs_2_104 ?_
          refine v_lmul G dX4_runs_2_106 ?_
          refine v_ladd G dX4_runs_2_107 ?_
          refine v_ldc2 G (v := 100000) q2184 rfl dX4_runs_2_108 ?_
          refine v_ldiv G ⟨by omega, by omega⟩ ⟨by decide, by decide⟩ dX4_runs_2_111 ?_
          refine v_ldc2 G (v := 1000) q2190 rfl dX4_runs_2_112 ?_
          refine v_lmul G dX4_runs_2_115 ?_
          refine v_lload G 12 rfl dX4_runs_2_116 ?_
          refine v_ldiv G ⟨by omega, by omega⟩ ⟨by omega, by omega⟩ dX4_runs_2_118 ?_
          refine v_lstore G (L' := [(9, .long (iL ((((((qT τ law fl b pts st t) * 1000000) + ((100000 - (qT τ law fl b pts st t)) * d1)) / 100000) * 1000) / (1000 + τ 18 law)))), (20, .long (iL (100000 - (qT τ law fl b pts st t)))), (18, .long (iL (qT τ law fl b pts st t))), (0, .ref (A 0)), (5, .int (iI st)), (7, .int (iI y)), (8, .int (iI law)), (2, .int (iI fl)), (3, .int (iI b)), (4, .int (iI pts)), (11, .long (iL p1)), (13, .long (iL n1)), (15, .long (iL (1000 + τ 18 law))), (17, .int (iI t))]) (Nat.le_of_ble_eq_true rfl) rfl dX4_runs_2_119 ?_
          refine v_ldc2 G (v := 1000000) q2178 rfl dX4_runs_2_121 ?_
          refine v_lload G 1 rfl dX4_runs_2_124 ?_
          refine v_lload G 10 rfl dX4_runs_2_126 ?_
          refine v_lmul G dX4_runs_2_128 ?_
          refine v_ldc2 G (v := 100000) q2184 rfl dX4_runs_2_129 ?_
          refine v_ldiv G ⟨by omega, by omega⟩ ⟨by decide, by decide⟩ dX4_runs_2_132 ?_
          refine v_ldc2 G (v := 1000) q2190 rfl dX4_runs_2_133 ?_
          refine v_lmul G dX4_runs_2_136 ?_
          refine v_lload G 12 rfl dX4_runs_2_137 ?_
          refine v_ldiv G ⟨by omega, by omega⟩ ⟨by omega, by omega⟩ dX4_runs_2_139 ?_
          refine v_ladd G dX4_runs_2_140 ?_
          refine v_lstore G (L' := [(11, .long (iL (1000000 + (((((100000 - (qT τ law fl b pts st t)) * p1) / 100000) * 1000) / (1000 + τ 18 law))))), (9, .long (iL ((((((qT τ law fl b pts st t) * 1000000) + ((100000 - (qT τ law fl b pts st t)) * d1)) / 100000) * 1000) / (1000 + τ 18 law)))), (20, .long (iL (100000 - (qT τ law fl b pts st t)))), (18, .long (iL (qT τ law fl b pts st t))), (0, .ref (A 0)), (5, .int (iI st)), (7, .int (iI y)), (8, .int (iI law)), (2, .int (iI fl)), (3, .int (iI b)), (4, .int (iI pts)), (13, .long (iL n1)), (15, .long (iL (1000 + τ 18 law))), (17, .int (iI t))]) (Nat.le_of_ble_eq_true rfl) rfl dX4_runs_2_141 ?_
          refine v_lload G 2 rfl dX4_runs_2_143 ?_
          refine v_ldc2 G (v := 1000000) q2178 rfl dX4_runs_2_145 ?_
          refine v_lload G 11 rfl dX4_runs_2_148 ?_
          refine v_ladd G dX4_runs_2_150 ?_
          refine v_lmul G dX4_runs_2_151 ?_
          refine v_ldc2 G (v := 100000) q2184 rfl dX4_runs_2_152 ?_
          refine v_ldiv G ⟨by omega, by omega⟩ ⟨by decide, by decide⟩ dX4_runs_2_155 ?_
          refine v_ldc2 G (v := 1000) q2190 rfl dX4_runs_2_156 ?_
          refine v_lmul G dX4_runs_2_159 ?_
          refine v_lload G 12 rfl dX4_runs_2_160 ?_
          refine v_ldiv G ⟨by omega, by omega⟩ ⟨by omega, by omega⟩ dX4_runs_2_162 ?_
          refine v_lstore G (L' := [(13, .long (iL (((((100000 - (qT τ law fl b pts st t)) * (1000000 + n1)) / 100000) * 1000) / (1000 + τ 18 law)))), (11, .long (iL (1000000 + (((((100000 - (qT τ law fl b pts st t)) * p1) / 100000) * 1000) / (1000 + τ 18 law))))), (9, .long (iL ((((((qT τ law fl b pts st t) * 1000000) + ((100000 - (qT τ law fl b pts st t)) * d1)) / 100000) * 1000) / (1000 + τ 18 law)))), (20, .long (iL (100000 - (qT τ law fl b pts st t)))), (18, .long (iL (qT τ law fl b pts st t))), (0, .ref (A 0)), (5, .int (iI st)), (7, .int (iI y)), (8, .int (iI law)), (2, .int (iI fl)), (3, .int (iI b)), (4, .int (iI pts)), (15, .long (iL (1000 + τ 18 law))), (17, .int (iI t))]) (Nat.le_of_ble_eq_true rfl) rfl dX4_runs_2_163 ?_
          refine v_iload G 13 rfl dX4_runs_2_165 ?_
          refine v_iload G 7 rfl dX4_runs_2_167 ?_
          refine v_icmp_ne G 190 ⟨by omega, by omega⟩ ⟨by omega, by omega⟩ (by decide) dX4_runs_2_169 (fun c5 => ?_) (fun c5 => ?_)
          · refine v_iinc G (L' := [(17, .int (iI (t + (-1)))), (13, .long (iL (((((100000 - (qT τ law fl b pts st t)) * (1000000 + n1)) / 100000) * 1000) / (1000 + τ 18 law)))), (11, .long (iL (1000000 + (((((100000 - (qT τ law fl b pts st t)) * p1) / 100000) * 1000) / (1000 + τ 18 law))))), (9, .long (iL ((((((qT τ law fl b pts st t) * 1000000) + ((100000 - (qT τ law fl b pts st t)) * d1)) / 100000) * 1000) / (1000 + τ 18 law)))), (20, .long (iL (100000 - (qT τ law fl b pts st t)))), (18, .long (iL (qT τ law fl b pts st t))), (0, .ref (A 0)), (5, .int (iI st)), (7, .int (iI y)), (8, .int (iI law)), (2, .int (iI fl)), (3, .int (iI b)), (4, .int (iI pts)), (15, .long (iL (1000 + τ 18 law)))]) 13 rfl (Nat.le_of_ble_eq_true rfl) rfl dX4_runs_2_190 ?_
            refine v_goto G 62 (by decide) dX4_runs_2_193 ?_
            refine VW.pick (L2 := [(0, .ref (A 0)), (5, .int (iI st)), (7, .int (iI y)), (8, .int (iI law)), (2, .int (iI fl)), (3, .int (iI b)), (4, .int (iI pts)), (9, .long (iL ((((((qT τ law fl b pts st t) * 1000000) + ((100000 - (qT τ law fl b pts st t)) * d1)) / 100000) * 1000) / (1000 + τ 18 law)))), (11, .long (iL (1000000 + (((((100000 - (qT τ law fl b pts st t)) * p1) / 100000) * 1000) / (1000 + τ 18 law))))), (13, .long (iL (((((100000 - (qT τ law fl b pts st t)) * (1000000 + n1)) / 100000) * 1000) / (1000 + τ 18 law)))), (15, .long (iL (1000 + τ 18 law))), (17, .int (iI (t + (-1))))]) [6, 7, 8, 9, 10, 11, 12, 3, 2, 1, 13, 0] rfl ?_
            exact P2ih (t + (-1)) ((((((qT τ law fl b pts st t) * 1000000) + ((100000 - (qT τ law fl b pts st t)) * d1)) / 100000) * 1000) / (1000 + τ 18 law)) (1000000 + (((((100000 - (qT τ law fl b pts st t)) * p1) / 100000) * 1000) / (1000 + τ 18 law))) (((((100000 - (qT τ law fl b pts st t)) * (1000000 + n1)) / 100000) * 1000) / (1000 + τ 18 law)) D1 ⟨by omega, by omega⟩ (by rw [show e - 1 - (t + (-1)) = e - t by omega, vD_st (by omega), ← hd1]; rfl) (by rw [show e - 1 - (t + (-1)) = e - t by omega, vP_st (by omega), ← hp1]; rfl) (by rw [show e - 1 - (t + (-1)) = e - t by omega, vN_st (by omega), ← hn1]; rfl) (fun _ => hv1 (by omega)) hk1 (by omega)
          · refine v_aload_n G 5 rfl rfl dX4_runs_2_172 ?_
            refine v_lload G 2 rfl dX4_runs_2_173 ?_
            refine pX4_205 G zM_0 (Nat.le_of_ble_eq_true rfl) dX4_runs_2_175 ?_
            refine VW.hpe (zM_up0 (k := 45) (z := ((((((qT τ law fl b pts st t) * 1000000) + ((100000 - (qT τ law fl b pts st t)) * d1)) / 100000) * 1000) / (1000 + τ 18 law))) rfl (by decide)) ?_
            refine VW.hpe (congrArg (zM E A h) (sc_D (k := 45) rfl)) ?_
            refine v_aload_n G 5 rfl rfl dX4_runs_2_178 ?_
            refine v_lload G 1 rfl dX4_runs_2_179 ?_
            refine pX4_208 G zM_0 (Nat.le_of_ble_eq_true rfl) dX4_runs_2_181 ?_
            refine VW.hpe (zM_up0 (k := 46) (z := (1000000 + (((((100000 - (qT τ law fl b pts st t)) * p1) / 100000) * 1000) / (1000 + τ 18 law)))) rfl (by decide)) ?_
            refine VW.hpe (congrArg (zM E A h) (sc_D (k := 46) rfl)) ?_
            refine v_aload_n G 5 rfl rfl dX4_runs_2_184 ?_
            refine v_lload G 0 rfl dX4_runs_2_185 ?_
            refine pX4_211 G zM_0 (Nat.le_of_ble_eq_true rfl) dX4_runs_2_187 ?_
            refine VW.hpe (zM_up0 (k := 47) (z := (((((100000 - (qT τ law fl b pts st t)) * (1000000 + n1)) / 100000) * 1000) / (1000 + τ 18 law))) rfl (by decide)) ?_
            refine VW.hpe (congrArg (zM E A h) (sc_D (k := 47) rfl)) ?_
            refine v_iinc G (L' := [(17, .int (iI (t + (-1)))), (13, .long (iL (((((100000 - (qT τ law fl b pts st t)) * (1000000 + n1)) / 100000) * 1000) / (1000 + τ 18 law)))), (11, .long (iL (1000000 + (((((100000 - (qT τ law fl b pts st t)) * p1) / 100000) * 1000) / (1000 + τ 18 law))))), (9, .long (iL ((((((qT τ law fl b pts st t) * 1000000) + ((100000 - (qT τ law fl b pts st t)) * d1)) / 100000) * 1000) / (1000 + τ 18 law)))), (20, .long (iL (100000 - (qT τ law fl b pts st t)))), (18, .long (iL (qT τ law fl b pts st t))), (0, .ref (A 0)), (5, .int (iI st)), (7, .int (iI y)), (8, .int (iI law)), (2, .int (iI fl)), (3, .int (iI b)), (4, .int (iI pts)), (15, .long (iL (1000 + τ 18 law)))]) 13 rfl (Nat.le_of_ble_eq_true rfl) rfl dX4_runs_2_190 ?_
            refine v_goto G 62 (by decide) dX4_runs_2_193 ?_
            refine VW.pick (L2 := [(0, .ref (A 0)), (5, .int (iI st)), (7, .int (iI y)), (8, .int (iI law)), (2, .int (iI fl)), (3, .int (iI b)), (4, .int (iI pts)), (9, .long (iL ((((((qT τ law fl b pts st t) * 1000000) + ((100000 - (qT τ law fl b pts st t)) * d1)) / 100000) * 1000) / (1000 + τ 18 law)))), (11, .long (iL (1000000 + (((((100000 - (qT τ law fl b pts st t)) * p1) / 100000) * 1000) / (1000 + τ 18 law))))), (13, .long (iL (((((100000 - (qT τ law fl b pts st t)) * (1000000 + n1)) / 100000) * 1000) / (1000 + τ 18 law)))), (15, .long (iL (1000 + τ 18 law))), (17, .int (iI (t + (-1))))]) [6, 7, 8, 9, 10, 11, 12, 3, 2, 1, 13, 0] rfl ?_
            exact P2ih (t + (-1)) ((((((qT τ law fl b pts st t) * 1000000) + ((100000 - (qT τ law fl b pts st t)) * d1)) / 100000) * 1000) / (1000 + τ 18 law)) (1000000 + (((((100000 - (qT τ law fl b pts st t)) * p1) / 100000) * 1000) / (1000 + τ 18 law))) (((((100000 - (qT τ law fl b pts st t)) * (1000000 + n1)) / 100000) * 1000) / (1000 + τ 18 law)) (st2 (st2 (st2 D1 45 0 ((((((qT τ law fl b pts st t) * 1000000) + ((100000 - (qT τ law fl b pts st t)) * d1)) / 100000) * 1000) / (1000 + τ 18 law))) 46 0 (1000000 + (((((100000 - (qT τ law fl b pts st t)) * p1) / 100000) * 1000) / (1000 + τ 18 law)))) 47 0 (((((100000 - (qT τ law fl b pts st t)) * (1000000 + n1)) / 100000) * 1000) / (1000 + τ 18 law))) ⟨by omega, by omega⟩ (by rw [show e - 1 - (t + (-1)) = e - t by omega, vD_st (by omega), ← hd1]; rfl) (by rw [show e - 1 - (t + (-1)) = e - t by omega, vP_st (by omega), ← hp1]; rfl) (by rw [show e - 1 - (t + (-1)) = e - t by omega, vN_st (by omega), ← hn1]; rfl) (fun _ => by obtain rfl : t = y := (by omega); exact ⟨(by rw [vD_st (t := t) (e := e) (by omega), ← hd1]; rfl), (by rw [vP_st (t := t) (e := e) (by omega), ← hp1]; rfl), (by rw [vN_st (t := t) (e := e) (by omega), ← hn1]; rfl)⟩) (((hk1.st rfl).st rfl).st rfl) (by omega)
    refine VW.pick (L2 := [(0, .ref (A 0)), (5, .int (iI st)), (7, .int (iI y)), (8, .int (iI law)), (2, .int (iI fl)), (3, .int (iI b)), (4, .int (iI pts)), (9, .long (iL d)), (11, .long (iL 0)), (13, .long (iL 0)), (15, .long (iL (1000 + (τ 18 law)))), (17, .int (iI (e - 1)))]) [5, 10, 12, 13, 7, 8, 9, 4, 3, 2, 1, 0] rfl ?_
    exact P2 _ (e - 1) d 0 0 (st2 (st2 (st2 D 45 0 d) 46 0 0) 47 0 0) ⟨by omega, by omega⟩ (by subst hd; rw [show e - 1 - (e - 1) = 0 by omega]; rfl) (by rw [show e - 1 - (e - 1) = 0 by omega]; rfl) (by rw [show e - 1 - (e - 1) = 0 by omega]; rfl) (fun hye => by subst hd; rw [show e - y = 0 by omega]; exact ⟨rfl, rfl, rfl⟩) (((kp.rfl.st rfl).st rfl).st rfl) (Nat.lt_succ_self _)
  refine v_iload_n G 1 rfl rfl dX4_runs_2_0 ?_
  refine v_if_eq G 9 ⟨by omega, by omega⟩ (by decide) dX4_runs_2_1 (fun c6 => ?_) (fun c6 => ?_)
  · refine v_ldc2 G (v := 1000000) q2178 rfl dX4_runs_2_9 ?_
    refine v_goto G 16 (by decide) dX4_runs_2_12 ?_
    exact J1 1000000 (by unfold d0S; first | rw [if_pos (by omega)] | rw [if_neg (by omega)])
  · refine v_iload_n G 1 rfl rfl dX4_runs_2_4 ?_
    refine v_iconst G dX4_runs_2_5 ?_
    refine v_icmp_ne G 15 ⟨by omega, by omega⟩ ⟨by decide, by decide⟩ (by decide) dX4_runs_2_6 (fun c7 => ?_) (fun c7 => ?_)
    · refine v_lconst G (n := 0) (v0 := 0) rfl dX4_runs_2_15 ?_
      exact J1 0 (by unfold d0S; first | rw [if_pos (by omega)] | rw [if_neg (by omega)])
    · refine v_ldc2 G (v := 1000000) q2178 rfl dX4_runs_2_9 ?_
      refine v_goto G 16 (by decide) dX4_runs_2_12 ?_
      exact J1 1000000 (by unfold d0S; first | rw [if_pos (by omega)] | rw [if_neg (by omega)])

set_option maxHeartbeats 4000000 in
theorem n_runs3 {l : Launch} (hfl : l.stackTraces = false) {E : zEn} {h : zHp} {A : Nat → Nat} {τ D : mMem} (hA : mInj A) {p : Int} (hp : 0 ≤ p ∧ p < 24) (ho : okP1 τ p) {law : Int} (hl : 0 ≤ law ∧ law < 3) (hw : okLaw τ law) {y : Int} (hy : τ 27 p ≤ y ∧ y ≤ τ 28 p)  : CN l E yX4_runs (ws_ yX4_runs cX4_runs 4 none) ({ frames := 3, cells := 0, slots := 0, locals := 94 } : Room) [.ref (A 0), .int (iI p), .int (iI y), .int (iI law)] (zM E A h (sc τ D)) (zS E A h τ none (rnK τ law (τ 23 p) (τ 25 p) (τ 24 p) (τ 26 p) (τ 27 p) (τ 28 p) y D)) := by
  refine CN.of (by decide +kernel) hfl (Nat.le_of_ble_eq_true rfl) fun θ Q hl G hin hQ => ?_
  subst hl
  show VW θ Q E (zM E A h (sc τ D)) 0 0 0 [(0, .ref (A 0)), (1, .int (iI p)), (2, .int (iI y)), (3, .int (iI law))] []
  have h9 := ho
  simp only [okP1, okP, tP] at h9
  have w9 := hw
  simp only [okLaw, okW] at w9
  refine v_aload_n G 0 rfl rfl dX4_runs_0 ?_
  refine v_aload_n G 0 rfl rfl dX4_runs_1 ?_
  refine gX4_31 G zM_0 (v := .ref (A 23)) rfl dX4_runs_2 ?_
  refine v_iload_n G 1 rfl rfl dX4_runs_5 ?_
  refine m_ald G hA (v := τ 23 p) rfl ⟨by omega, by show _ < (24 : Int); omega⟩ rfl dX4_runs_6 ?_
  refine v_aload_n G 0 rfl rfl dX4_runs_7 ?_
  refine gX4_37 G zM_0 (v := .ref (A 25)) rfl dX4_runs_8 ?_
  refine v_iload_n G 1 rfl rfl dX4_runs_11 ?_
  refine m_ald G hA (v := τ 25 p) rfl ⟨by omega, by show _ < (24 : Int); omega⟩ rfl dX4_runs_12 ?_
  refine v_aload_n G 0 rfl rfl dX4_runs_13 ?_
  refine gX4_34 G zM_0 (v := .ref (A 24)) rfl dX4_runs_14 ?_
  refine v_iload_n G 1 rfl rfl dX4_runs_17 ?_
  refine m_ald G hA (v := τ 24 p) rfl ⟨by omega, by show _ < (24 : Int); omega⟩ rfl dX4_runs_18 ?_
  refine v_aload_n G 0 rfl rfl dX4_runs_19 ?_
  refine gX4_40 G zM_0 (v := .ref (A 26)) rfl dX4_runs_20 ?_
  refine v_iload_n G 1 rfl rfl dX4_runs_23 ?_
  refine m_ald G hA (v := τ 26 p) rfl ⟨by omega, by show _ < (24 : Int); omega⟩ rfl dX4_runs_24 ?_
  refine v_aload_n G 0 rfl rfl dX4_runs_25 ?_
  refine gX4_43 G zM_0 (v := .ref (A 27)) rfl dX4_runs_26 ?_
  refine v_iload_n G 1 rfl rfl dX4_runs_29 ?_
  refine m_ald G hA (v := τ 27 p) rfl ⟨by omega, by show _ < (24 : Int); omega⟩ rfl dX4_runs_30 ?_
  refine v_aload_n G 0 rfl rfl dX4_runs_31 ?_
  refine gX4_46 G zM_0 (v := .ref (A 28)) rfl dX4_runs_32 ?_
  refine v_iload_n G 1 rfl rfl dX4_runs_35 ?_
  refine m_ald G hA (v := τ 28 p) rfl ⟨by omega, by show _ < (24 : Int); omega⟩ rfl dX4_runs_36 ?_
  refine v_iload_n G 2 rfl rfl dX4_runs_37 ?_
  refine v_iload_n G 3 rfl rfl dX4_runs_38 ?_
  refine kX4_223 G (As := [.int (iI (τ 23 p)), .int (iI (τ 25 p)), .int (iI (τ 24 p)), .int (iI (τ 26 p)), .int (iI (τ 27 p)), .int (iI (τ 28 p)), .int (iI y), .int (iI law)]) (rest := []) (cs' := 0) (sl' := 0) (n_runs G.fl (τ := τ) (D := D) hA (kind := (τ 23 p)) (fl := (τ 25 p)) (b := (τ 24 p)) (pts := (τ 26 p)) (st := (τ 27 p)) (e := (τ 28 p)) (y := y) (law := law) ⟨by omega, by omega⟩ (ho.M hl hw ⟨by omega, by omega⟩) ⟨by omega, by omega⟩) (zRcv.of G (q := (RX4, TX4, 55)) rfl zM_0) rfl rfl (Nat.le_of_ble_eq_true rfl) (zRm.ok rfl) dX4_runs_39 (fun vq1 hq1 q1 => ?_)
  obtain ⟨_, D2, hD2, _⟩ := q1
  subst vq1 hq1
  show VW θ Q E (zM E A h (sc τ D2)) 0 0 42 [(0, .ref (A 0)), (1, .int (iI p)), (2, .int (iI y)), (3, .int (iI law))] []
  exact v_vret G hQ ⟨rfl, D2, hD2, rfl⟩ (Nat.le_of_ble_eq_true rfl) (Nat.le_of_ble_eq_true rfl) dX4_runs_42

set_option maxHeartbeats 4000000 in
theorem n_netOf {l : Launch} (hfl : l.stackTraces = false) {E : zEn} {h : zHp} {A : Nat → Nat} {τ D : mMem} (hA : mInj A) {kind u : Int} (hk : 0 ≤ kind ∧ kind ≤ 3) (hu : 0 ≤ u ∧ u ≤ 1000000) (hd : 0 ≤ D 48 0 ∧ D 48 0 ≤ 1000000) (hpp : 1000000 ≤ D 49 0 ∧ D 49 0 ≤ 110000000) (hn : 0 ≤ D 50 0 ∧ D 50 0 ≤ 110000000)  : CN l E yX4_netOf (ws_ yX4_netOf cX4_netOf 4 (some FieldType.long)) ({ frames := 0, cells := 0, slots := 0, locals := 0 } : Room) [.ref (A 0), .int (iI kind), .long (iL u)] (zM E A h (sc τ D)) (zR (.long (iL (netS kind u (D 48 0) (D 49 0) (D 50 0)))) (zM E A h (sc τ D))) := by
  refine CN.of (by decide +kernel) hfl (Nat.le_of_ble_eq_true rfl) fun θ Q hl G hin hQ => ?_
  subst hl
  show VW θ Q E (zM E A h (sc τ D)) 0 0 0 [(0, .ref (A 0)), (1, .int (iI kind)), (2, .long (iL u))] []
  have e1 := mul_bd2 hu hd
  have e2 := mul_bd2 hu hn
  refine v_iload_n G 1 rfl rfl dX4_netOf_0 ?_
  refine v_iconst G dX4_netOf_1 ?_
  refine v_icmp_ne G 18 ⟨by omega, by omega⟩ ⟨by decide, by decide⟩ (by decide) dX4_netOf_2 (fun c1 => ?_) (fun c1 => ?_)
  · refine v_lload_n G 2 rfl rfl dX4_netOf_18 ?_
    refine v_aload_n G 0 rfl rfl dX4_netOf_19 ?_
    refine gX4_214 G zM_0 (v := .long (iL (D 48 0))) rfl dX4_netOf_20 ?_
    refine v_lmul G dX4_netOf_23 ?_
    refine v_aload_n G 0 rfl rfl dX4_netOf_24 ?_
    refine gX4_217 G zM_0 (v := .long (iL (D 49 0))) rfl dX4_netOf_25 ?_
    refine v_ldiv G ⟨by omega, by omega⟩ ⟨by omega, by omega⟩ dX4_netOf_28 ?_
    exact v_lret G hQ ⟨by unfold netS; first | rw [if_pos (by omega)] | rw [if_neg (by omega)], rfl⟩ (Nat.le_of_ble_eq_true rfl) (Nat.le_of_ble_eq_true rfl) dX4_netOf_29
  · refine v_lload_n G 2 rfl rfl dX4_netOf_5 ?_
    refine v_aload_n G 0 rfl rfl dX4_netOf_6 ?_
    refine gX4_220 G zM_0 (v := .long (iL (D 50 0))) rfl dX4_netOf_7 ?_
    refine v_lmul G dX4_netOf_10 ?_
    refine v_ldc2 G (v := 1000000) q2178 rfl dX4_netOf_11 ?_
    refine v_ldiv G ⟨by omega, by omega⟩ ⟨by decide, by decide⟩ dX4_netOf_14 ?_
    refine v_goto G 29 (by decide) dX4_netOf_15 ?_
    exact v_lret G hQ ⟨by unfold netS; first | rw [if_pos (by omega)] | rw [if_neg (by omega)], rfl⟩ (Nat.le_of_ble_eq_true rfl) (Nat.le_of_ble_eq_true rfl) dX4_netOf_29

set_option maxHeartbeats 4000000 in
theorem n_net {l : Launch} (hfl : l.stackTraces = false) {E : zEn} {h : zHp} {A : Nat → Nat} {τ D : mMem} (hA : mInj A) {p : Int} (hp : 0 ≤ p ∧ p < 24) (ho : okP1 τ p) {law : Int} (hl : 0 ≤ law ∧ law < 3) (hw : okLaw τ law)  : CN l E yX4_net (ws_ yX4_net cX4_net 3 (some FieldType.long)) ({ frames := 4, cells := 0, slots := 0, locals := 117 } : Room) [.ref (A 0), .int (iI p), .int (iI law)] (zM E A h (sc τ D)) (zS E A h τ (some (.long (iL (npT τ law p (τ 26 p))))) (kp D)) := by
  refine CN.of (by decide +kernel) hfl (Nat.le_of_ble_eq_true rfl) fun θ Q hl G hin hQ => ?_
  subst hl
  show VW θ Q E (zM E A h (sc τ D)) 0 0 0 [(0, .ref (A 0)), (1, .int (iI p)), (2, .int (iI law))] []
  have h9 := ho
  simp only [okP1, okP, tP] at h9
  have w9 := hw
  simp only [okLaw, okW] at w9
  refine v_aload_n G 0 rfl rfl dX4_net_0 ?_
  refine v_iload_n G 1 rfl rfl dX4_net_1 ?_
  refine v_aload_n G 0 rfl rfl dX4_net_2 ?_
  refine gX4_43 G zM_0 (v := .ref (A 27)) rfl dX4_net_3 ?_
  refine v_iload_n G 1 rfl rfl dX4_net_6 ?_
  refine m_ald G hA (v := τ 27 p) rfl ⟨by omega, by show _ < (24 : Int); omega⟩ rfl dX4_net_7 ?_
  refine v_iload_n G 2 rfl rfl dX4_net_8 ?_
  refine kX4_227 G (As := [.int (iI p), .int (iI (τ 27 p)), .int (iI law)]) (rest := []) (cs' := 0) (sl' := 0) (n_runs3 G.fl (τ := τ) (D := D) hA (p := p) (y := (τ 27 p)) (law := law) ⟨by omega, by omega⟩ ho ⟨by omega, by omega⟩ hw ⟨by omega, by omega⟩) (zRcv.of G (q := (RX4, TX4, 55)) rfl zM_0) rfl rfl (Nat.le_of_ble_eq_true rfl) (zRm.ok rfl) dX4_net_9 (fun vq1 hq1 q1 => ?_)
  obtain ⟨_, D2, hD2, _⟩ := q1
  subst vq1 hq1
  show VW θ Q E (zM E A h (sc τ D2)) 0 0 12 [(0, .ref (A 0)), (1, .int (iI p)), (2, .int (iI law))] []
  have hbD2 := rn_bd ho hw (pts := (τ 26 p)) (y := (τ 27 p)) ⟨by omega, by omega⟩ ⟨by omega, by omega⟩ hD2
  refine v_aload_n G 0 rfl rfl dX4_net_12 ?_
  refine v_aload_n G 0 rfl rfl dX4_net_13 ?_
  refine gX4_31 G zM_0 (v := .ref (A 23)) rfl dX4_net_14 ?_
  refine v_iload_n G 1 rfl rfl dX4_net_17 ?_
  refine m_ald G hA (v := τ 23 p) rfl ⟨by omega, by show _ < (24 : Int); omega⟩ rfl dX4_net_18 ?_
  refine v_aload_n G 0 rfl rfl dX4_net_19 ?_
  refine gX4_67 G zM_0 (v := .ref (A 35)) rfl dX4_net_20 ?_
  refine v_iload_n G 1 rfl rfl dX4_net_23 ?_
  refine m_lld G hA (v := τ 35 p) rfl ⟨by omega, by show _ < (24 : Int); omega⟩ rfl dX4_net_24 ?_
  refine kX4_230 G (As := [.int (iI (τ 23 p)), .long (iL (τ 35 p))]) (rest := []) (cs' := 0) (sl' := 0) (n_netOf G.fl (τ := τ) (D := D2) hA (kind := (τ 23 p)) (u := (τ 35 p)) ⟨by omega, by omega⟩ ⟨by omega, by omega⟩ ⟨by omega, by omega⟩ ⟨by omega, by omega⟩ ⟨by omega, by omega⟩) (zRcv.of G (q := (RX4, TX4, 55)) rfl zM_0) rfl rfl (Nat.le_of_ble_eq_true rfl) (zRm.ok rfl) dX4_net_25 (fun vq3 hq3 q3 => ?_)
  obtain ⟨_, _⟩ := q3
  subst vq3 hq3
  show VW θ Q E (zM E A h (sc τ D2)) 0 0 28 [(0, .ref (A 0)), (1, .int (iI p)), (2, .int (iI law))] [.long (iL (netS (τ 23 p) (τ 35 p) (D2 48 0) (D2 49 0) (D2 50 0)))]
  exact v_lret G hQ ⟨by rw [npT_of hD2], D2, hD2.2.2, rfl⟩ (Nat.le_of_ble_eq_true rfl) (Nat.le_of_ble_eq_true rfl) dX4_net_28

set_option maxHeartbeats 4000000 in
theorem n_resAt {l : Launch} (hfl : l.stackTraces = false) {E : zEn} {h : zHp} {A : Nat → Nat} {τ D : mMem} (hA : mInj A) {p : Int} (hp : 0 ≤ p ∧ p < 24) (ho : okP1 τ p) {law : Int} (hl : 0 ≤ law ∧ law < 3) (hw : okLaw τ law) {y : Int} (hy : okY τ p y)  : CN l E yX4_reserveAt (ws_ yX4_reserveAt cX4_reserveAt 6 (some FieldType.long)) ({ frames := 4, cells := 0, slots := 0, locals := 117 } : Room) [.ref (A 0), .int (iI p), .int (iI y), .int (iI law)] (zM E A h (sc τ D)) (zS E A h τ (some (.long (iL (rsT τ law p y)))) (kp D)) := by
  refine CN.of (by decide +kernel) hfl (Nat.le_of_ble_eq_true rfl) fun θ Q hl G hin hQ => ?_
  subst hl
  show VW θ Q E (zM E A h (sc τ D)) 0 0 0 [(0, .ref (A 0)), (1, .int (iI p)), (2, .int (iI y)), (3, .int (iI law))] []
  have h9 := ho
  simp only [okP1, okP, tP] at h9
  have w9 := hw
  simp only [okLaw, okW] at w9
  have y9 := hy
  unfold okY at y9
  refine v_aload_n G 0 rfl rfl dX4_reserveAt_0 ?_
  refine v_iload_n G 1 rfl rfl dX4_reserveAt_1 ?_
  refine kX4_234 G (As := [.int (iI p)]) (rest := []) (cs' := 0) (sl' := 0) (n_isLiving G.fl (τ := τ) (D := D) hA (p := p) ⟨by omega, by omega⟩ (show 0 ≤ τ 29 p ∧ τ 29 p ≤ 7 by omega)) (zRcv.of G (q := (RX4, TX4, 55)) rfl zM_0) rfl rfl (Nat.le_of_ble_eq_true rfl) (zRm.ok rfl) dX4_reserveAt_2 (fun vq1 hq1 q1 => ?_)
  obtain ⟨_, _⟩ := q1
  subst vq1 hq1
  refine VW.nmI (fun z2 hz2 => ?_)
  have hz2 := (show (z2 = 1 ∧ τ 29 p ≤ 3) ∨ (z2 = 0 ∧ ¬ (τ 29 p ≤ 3)) from ite01 hz2)
  show VW θ Q E (zM E A h (sc τ D)) 0 0 5 [(0, .ref (A 0)), (1, .int (iI p)), (2, .int (iI y)), (3, .int (iI law))] [.int (iI z2)]
  refine v_if_eq G 18 ⟨by omega, by omega⟩ (by decide) dX4_reserveAt_5 (fun c3 => ?_) (fun c3 => ?_)
  · have gz2 := bF hz2 (by omega)
    refine v_lconst G (n := 0) (v0 := 0) rfl dX4_reserveAt_18 ?_
    exact v_lret G hQ ⟨by rw [rsT_0 (by omega)], D, kp.rfl, rfl⟩ (Nat.le_of_ble_eq_true rfl) (Nat.le_of_ble_eq_true rfl) dX4_reserveAt_19
  · have gz2 := bT hz2 (by omega)
    refine v_iload_n G 2 rfl rfl dX4_reserveAt_8 ?_
    refine v_aload_n G 0 rfl rfl dX4_reserveAt_9 ?_
    refine gX4_43 G zM_0 (v := .ref (A 27)) rfl dX4_reserveAt_10 ?_
    refine v_iload_n G 1 rfl rfl dX4_reserveAt_13 ?_
    refine m_ald G hA (v := τ 27 p) rfl ⟨by omega, by show _ < (24 : Int); omega⟩ rfl dX4_reserveAt_14 ?_
    refine v_icmp_ne G 20 ⟨by omega, by omega⟩ ⟨by omega, by omega⟩ (by decide) dX4_reserveAt_15 (fun c4 => ?_) (fun c4 => ?_)
    · refine v_aload_n G 0 rfl rfl dX4_reserveAt_20 ?_
      refine v_iload_n G 1 rfl rfl dX4_reserveAt_21 ?_
      refine v_iload_n G 2 rfl rfl dX4_reserveAt_22 ?_
      refine v_iload_n G 3 rfl rfl dX4_reserveAt_23 ?_
      refine kX4_227 G (As := [.int (iI p), .int (iI y), .int (iI law)]) (rest := []) (cs' := 0) (sl' := 0) (n_runs3 G.fl (τ := τ) (D := D) hA (p := p) (y := y) (law := law) ⟨by omega, by omega⟩ ho ⟨by omega, by omega⟩ hw ⟨by omega, by omega⟩) (zRcv.of G (q := (RX4, TX4, 55)) rfl zM_0) rfl rfl (Nat.le_of_ble_eq_true rfl) (zRm.ok rfl) dX4_reserveAt_24 (fun vq5 hq5 q5 => ?_)
      obtain ⟨_, D1, hD1, _⟩ := q5
      subst vq5 hq5
      show VW θ Q E (zM E A h (sc τ D1)) 0 0 27 [(0, .ref (A 0)), (1, .int (iI p)), (2, .int (iI y)), (3, .int (iI law))] []
      have hbD1 := rn_bd ho hw (pts := (τ 26 p)) (y := y) ⟨by omega, by omega⟩ ⟨by omega, by omega⟩ hD1
      have hr := rsT_of hD1 (by omega)
      have e1 := mul_bd2 (show 0 ≤ τ 35 p ∧ τ 35 p ≤ 1000000 by omega) hbD1.2.2.1
      have e2 := mul_bd2 (show 0 ≤ τ 35 p + τ 36 p ∧ τ 35 p + τ 36 p ≤ 120000000 by omega) hbD1.1
      have e3 := npT_bd ho hw (pts := τ 26 p) ⟨by omega, by omega⟩
      rw [npT_of hD1] at e3
      have e4 := mul_bd2 e3 hbD1.2.1
      refine v_aload_n G 0 rfl rfl dX4_reserveAt_27 ?_
      refine gX4_31 G zM_0 (v := .ref (A 23)) rfl dX4_reserveAt_28 ?_
      refine v_iload_n G 1 rfl rfl dX4_reserveAt_31 ?_
      refine m_ald G hA (v := τ 23 p) rfl ⟨by omega, by show _ < (24 : Int); omega⟩ rfl dX4_reserveAt_32 ?_
      refine v_iconst G dX4_reserveAt_33 ?_
      refine v_icmp_ne G 57 ⟨by omega, by omega⟩ ⟨by decide, by decide⟩ (by decide) dX4_reserveAt_34 (fun c6 => ?_) (fun c6 => ?_)
      · have J7 : ∀ (r2 : Int), (r2 = (τ 35 p + τ 36 p) * D1 45 0 / 1000000 - (if τ 34 p = 1 then 0 else netS (τ 23 p) (τ 35 p) (D1 48 0) (D1 49 0) (D1 50 0) * D1 46 0 / 1000000)) → (n64 r2) → VW θ Q E (zM E A h (sc τ D1)) 0 0 122 [(0, .ref (A 0)), (1, .int (iI p)), (2, .int (iI y)), (3, .int (iI law)), (4, .long (iL r2))] [] := by
          intro r2 hr2 hr4
          refine v_aload_n G 0 rfl rfl dX4_reserveAt_122 ?_
          refine gX4_20 G zM_0 (v := .ref (A 20)) rfl dX4_reserveAt_123 ?_
          refine v_iload_n G 3 rfl rfl dX4_reserveAt_126 ?_
          refine m_zld G hA (v := τ 20 law) rfl ⟨by omega, by show _ < (3 : Int); omega⟩ rfl dX4_reserveAt_127 ?_
          refine v_if_eq G 140 ⟨by omega, by omega⟩ (by decide) dX4_reserveAt_128 (fun c8 => ?_) (fun c8 => ?_)
          · refine v_lload G 4 rfl dX4_reserveAt_140 ?_
            exact v_lret G hQ ⟨by rw [hr]; first | rw [if_pos (by omega), if_pos (by omega)] | rw [if_neg (by omega), if_pos (by omega)] | rw [if_pos (by omega), if_neg (by omega), hr2] | rw [if_neg (by omega), if_neg (by omega), hr2], D1, hD1.2.2, rfl⟩ (Nat.le_of_ble_eq_true rfl) (Nat.le_of_ble_eq_true rfl) dX4_reserveAt_142
          · refine v_lconst G (n := 0) (v0 := 0) rfl dX4_reserveAt_131 ?_
            refine v_lload G 4 rfl dX4_reserveAt_132 ?_
            refine kX4_241 G (As := [.long (iL 0), .long (iL r2)]) (rest := []) (cs' := 0) (sl' := 0) (m_maxL G.fl (a := 0) (b := r2) ⟨by decide, by decide⟩ ⟨by omega, by omega⟩) rfl rfl (Nat.le_of_ble_eq_true rfl) (zRm.ok rfl) dX4_reserveAt_134 (fun vq10 hq10 q10 => ?_)
            obtain ⟨_, _⟩ := q10
            subst vq10 hq10
            show VW θ Q E (zM E A h (sc τ D1)) 0 0 137 [(0, .ref (A 0)), (1, .int (iI p)), (2, .int (iI y)), (3, .int (iI law)), (4, .long (iL r2))] [.long (iL (max 0 r2))]
            refine v_goto G 142 (by decide) dX4_reserveAt_137 ?_
            exact v_lret G hQ ⟨by rw [hr]; first | rw [if_pos (by omega), if_pos (by omega)] | rw [if_neg (by omega), if_pos (by omega)] | rw [if_pos (by omega), if_neg (by omega), hr2] | rw [if_neg (by omega), if_neg (by omega), hr2], D1, hD1.2.2, rfl⟩ (Nat.le_of_ble_eq_true rfl) (Nat.le_of_ble_eq_true rfl) dX4_reserveAt_142
        refine v_aload_n G 0 rfl rfl dX4_reserveAt_57 ?_
        refine gX4_67 G zM_0 (v := .ref (A 35)) rfl dX4_reserveAt_58 ?_
        refine v_iload_n G 1 rfl rfl dX4_reserveAt_61 ?_
        refine m_lld G hA (v := τ 35 p) rfl ⟨by omega, by show _ < (24 : Int); omega⟩ rfl dX4_reserveAt_62 ?_
        refine v_aload_n G 0 rfl rfl dX4_reserveAt_63 ?_
        refine gX4_70 G zM_0 (v := .ref (A 36)) rfl dX4_reserveAt_64 ?_
        refine v_iload_n G 1 rfl rfl dX4_reserveAt_67 ?_
        refine m_lld G hA (v := τ 36 p) rfl ⟨by omega, by show _ < (24 : Int); omega⟩ rfl dX4_reserveAt_68 ?_
        refine v_ladd G dX4_reserveAt_69 ?_
        refine v_aload_n G 0 rfl rfl dX4_reserveAt_70 ?_
        refine gX4_205 G zM_0 (v := .long (iL (D1 45 0))) rfl dX4_reserveAt_71 ?_
        refine v_lmul G dX4_reserveAt_74 ?_
        refine v_ldc2 G (v := 1000000) q2178 rfl dX4_reserveAt_75 ?_
        refine kX4_238 G (As := [.long (iL (((τ 35 p) + (τ 36 p)) * (D1 45 0))), .long (iL 1000000)]) (rest := []) (cs' := 0) (sl' := 0) (m_fdiv G.fl (a := (((τ 35 p) + (τ 36 p)) * (D1 45 0))) (b := 1000000) ⟨by omega, by omega⟩ ⟨by decide, by decide⟩) rfl rfl (Nat.le_of_ble_eq_true rfl) (zRm.ok rfl) dX4_reserveAt_78 (fun vq12 hq12 q12 => ?_)
        obtain ⟨_, _⟩ := q12
        subst vq12 hq12
        show VW θ Q E (zM E A h (sc τ D1)) 0 0 81 [(0, .ref (A 0)), (1, .int (iI p)), (2, .int (iI y)), (3, .int (iI law))] [.long (iL ((((τ 35 p) + (τ 36 p)) * (D1 45 0)) / 1000000))]
        refine v_aload_n G 0 rfl rfl dX4_reserveAt_81 ?_
        refine gX4_64 G zM_0 (v := .ref (A 34)) rfl dX4_reserveAt_82 ?_
        refine v_iload_n G 1 rfl rfl dX4_reserveAt_85 ?_
        refine m_zld G hA (v := τ 34 p) rfl ⟨by omega, by show _ < (24 : Int); omega⟩ rfl dX4_reserveAt_86 ?_
        refine v_if_eq G 94 ⟨by omega, by omega⟩ (by decide) dX4_reserveAt_87 (fun c13 => ?_) (fun c13 => ?_)
        · refine v_aload_n G 0 rfl rfl dX4_reserveAt_94 ?_
          refine v_aload_n G 0 rfl rfl dX4_reserveAt_95 ?_
          refine gX4_31 G zM_0 (v := .ref (A 23)) rfl dX4_reserveAt_96 ?_
          refine v_iload_n G 1 rfl rfl dX4_reserveAt_99 ?_
          refine m_ald G hA (v := τ 23 p) rfl ⟨by omega, by show _ < (24 : Int); omega⟩ rfl dX4_reserveAt_100 ?_
          refine v_aload_n G 0 rfl rfl dX4_reserveAt_101 ?_
          refine gX4_67 G zM_0 (v := .ref (A 35)) rfl dX4_reserveAt_102 ?_
          refine v_iload_n G 1 rfl rfl dX4_reserveAt_105 ?_
          refine m_lld G hA (v := τ 35 p) rfl ⟨by omega, by show _ < (24 : Int); omega⟩ rfl dX4_reserveAt_106 ?_
          refine kX4_230 G (As := [.int (iI (τ 23 p)), .long (iL (τ 35 p))]) (rest := [.long (iL ((((τ 35 p) + (τ 36 p)) * (D1 45 0)) / 1000000))]) (cs' := 0) (sl' := 0) (n_netOf G.fl (τ := τ) (D := D1) hA (kind := (τ 23 p)) (u := (τ 35 p)) ⟨by omega, by omega⟩ ⟨by omega, by omega⟩ ⟨by omega, by omega⟩ ⟨by omega, by omega⟩ ⟨by omega, by omega⟩) (zRcv.of G (q := (RX4, TX4, 55)) rfl zM_0) rfl rfl (Nat.le_of_ble_eq_true rfl) (zRm.ok rfl) dX4_reserveAt_107 (fun vq14 hq14 q14 => ?_)
          obtain ⟨_, _⟩ := q14
          subst vq14 hq14
          show VW θ Q E (zM E A h (sc τ D1)) 0 0 110 [(0, .ref (A 0)), (1, .int (iI p)), (2, .int (iI y)), (3, .int (iI law))] [.long (iL (netS (τ 23 p) (τ 35 p) (D1 48 0) (D1 49 0) (D1 50 0))), .long (iL ((((τ 35 p) + (τ 36 p)) * (D1 45 0)) / 1000000))]
          refine v_aload_n G 0 rfl rfl dX4_reserveAt_110 ?_
          refine gX4_208 G zM_0 (v := .long (iL (D1 46 0))) rfl dX4_reserveAt_111 ?_
          refine v_lmul G dX4_reserveAt_114 ?_
          refine v_ldc2 G (v := 1000000) q2178 rfl dX4_reserveAt_115 ?_
          refine v_ldiv G ⟨by omega, by omega⟩ ⟨by decide, by decide⟩ dX4_reserveAt_118 ?_
          refine v_lsub G dX4_reserveAt_119 ?_
          refine v_lstore G (L' := [(4, .long (iL (((((τ 35 p) + (τ 36 p)) * (D1 45 0)) / 1000000) - (((netS (τ 23 p) (τ 35 p) (D1 48 0) (D1 49 0) (D1 50 0)) * (D1 46 0)) / 1000000)))), (0, .ref (A 0)), (1, .int (iI p)), (2, .int (iI y)), (3, .int (iI law))]) (Nat.le_of_ble_eq_true rfl) rfl dX4_reserveAt_120 ?_
          refine VW.pick (L2 := [(0, .ref (A 0)), (1, .int (iI p)), (2, .int (iI y)), (3, .int (iI law)), (4, .long (iL (((((τ 35 p) + (τ 36 p)) * (D1 45 0)) / 1000000) - (((netS (τ 23 p) (τ 35 p) (D1 48 0) (D1 49 0) (D1 50 0)) * (D1 46 0)) / 1000000))))]) [1, 2, 3, 4, 0] rfl ?_
          exact J7 (((((τ 35 p) + (τ 36 p)) * (D1 45 0)) / 1000000) - (((netS (τ 23 p) (τ 35 p) (D1 48 0) (D1 49 0) (D1 50 0)) * (D1 46 0)) / 1000000)) (by first | rw [if_pos (by omega), Int.sub_zero] | rw [if_neg (by omega)]) ⟨by omega, by omega⟩
        · refine v_lconst G (n := 0) (v0 := 0) rfl dX4_reserveAt_90 ?_
          refine v_goto G 119 (by decide) dX4_reserveAt_91 ?_
          refine v_lsub G dX4_reserveAt_119 ?_
          refine v_lstore G (L' := [(4, .long (iL (((((τ 35 p) + (τ 36 p)) * (D1 45 0)) / 1000000) - 0))), (0, .ref (A 0)), (1, .int (iI p)), (2, .int (iI y)), (3, .int (iI law))]) (Nat.le_of_ble_eq_true rfl) rfl dX4_reserveAt_120 ?_
          refine VW.pick (L2 := [(0, .ref (A 0)), (1, .int (iI p)), (2, .int (iI y)), (3, .int (iI law)), (4, .long (iL (((((τ 35 p) + (τ 36 p)) * (D1 45 0)) / 1000000) - 0)))]) [1, 2, 3, 4, 0] rfl ?_
          exact J7 (((((τ 35 p) + (τ 36 p)) * (D1 45 0)) / 1000000) - 0) (by first | rw [if_pos (by omega), Int.sub_zero] | rw [if_neg (by omega)]) ⟨by omega, by omega⟩
      · refine v_aload_n G 0 rfl rfl dX4_reserveAt_37 ?_
        refine gX4_67 G zM_0 (v := .ref (A 35)) rfl dX4_reserveAt_38 ?_
        refine v_iload_n G 1 rfl rfl dX4_reserveAt_41 ?_
        refine m_lld G hA (v := τ 35 p) rfl ⟨by omega, by show _ < (24 : Int); omega⟩ rfl dX4_reserveAt_42 ?_
        refine v_aload_n G 0 rfl rfl dX4_reserveAt_43 ?_
        refine gX4_211 G zM_0 (v := .long (iL (D1 47 0))) rfl dX4_reserveAt_44 ?_
        refine v_lmul G dX4_reserveAt_47 ?_
        refine v_ldc2 G (v := 1000000) q2178 rfl dX4_reserveAt_48 ?_
        refine v_ldiv G ⟨by omega, by omega⟩ ⟨by decide, by decide⟩ dX4_reserveAt_51 ?_
        refine v_lstore G (L' := [(4, .long (iL (((τ 35 p) * (D1 47 0)) / 1000000))), (0, .ref (A 0)), (1, .int (iI p)), (2, .int (iI y)), (3, .int (iI law))]) (Nat.le_of_ble_eq_true rfl) rfl dX4_reserveAt_52 ?_
        refine v_goto G 122 (by decide) dX4_reserveAt_54 ?_
        refine v_aload_n G 1 rfl rfl dX4_reserveAt_122 ?_
        refine gX4_20 G zM_0 (v := .ref (A 20)) rfl dX4_reserveAt_123 ?_
        refine v_iload_n G 4 rfl rfl dX4_reserveAt_126 ?_
        refine m_zld G hA (v := τ 20 law) rfl ⟨by omega, by show _ < (3 : Int); omega⟩ rfl dX4_reserveAt_127 ?_
        refine v_if_eq G 140 ⟨by omega, by omega⟩ (by decide) dX4_reserveAt_128 (fun c15 => ?_) (fun c15 => ?_)
        · refine v_lload G 0 rfl dX4_reserveAt_140 ?_
          exact v_lret G hQ ⟨by rw [hr]; first | rw [if_pos (by omega), if_pos (by omega)] | rw [if_neg (by omega), if_pos (by omega)] | rw [if_pos (by omega), if_neg (by omega), hr2] | rw [if_neg (by omega), if_neg (by omega), hr2], D1, hD1.2.2, rfl⟩ (Nat.le_of_ble_eq_true rfl) (Nat.le_of_ble_eq_true rfl) dX4_reserveAt_142
        · refine v_lconst G (n := 0) (v0 := 0) rfl dX4_reserveAt_131 ?_
          refine v_lload G 0 rfl dX4_reserveAt_132 ?_
          refine kX4_241 G (As := [.long (iL 0), .long (iL (((τ 35 p) * (D1 47 0)) / 1000000))]) (rest := []) (cs' := 0) (sl' := 0) (m_maxL G.fl (a := 0) (b := (((τ 35 p) * (D1 47 0)) / 1000000)) ⟨by decide, by decide⟩ ⟨by omega, by omega⟩) rfl rfl (Nat.le_of_ble_eq_true rfl) (zRm.ok rfl) dX4_reserveAt_134 (fun vq17 hq17 q17 => ?_)
          obtain ⟨_, _⟩ := q17
          subst vq17 hq17
          show VW θ Q E (zM E A h (sc τ D1)) 0 0 137 [(4, .long (iL (((τ 35 p) * (D1 47 0)) / 1000000))), (0, .ref (A 0)), (1, .int (iI p)), (2, .int (iI y)), (3, .int (iI law))] [.long (iL (max 0 (((τ 35 p) * (D1 47 0)) / 1000000)))]
          refine v_goto G 142 (by decide) dX4_reserveAt_137 ?_
          exact v_lret G hQ ⟨by rw [hr]; first | rw [if_pos (by omega), if_pos (by omega)] | rw [if_neg (by omega), if_pos (by omega)] | rw [if_pos (by omega), if_neg (by omega), hr2] | rw [if_neg (by omega), if_neg (by omega), hr2], D1, hD1.2.2, rfl⟩ (Nat.le_of_ble_eq_true rfl) (Nat.le_of_ble_eq_true rfl) dX4_reserveAt_142
    · refine v_lconst G (n := 0) (v0 := 0) rfl dX4_reserveAt_18 ?_
      exact v_lret G hQ ⟨by rw [rsT_0 (by omega)], D, kp.rfl, rfl⟩ (Nat.le_of_ble_eq_true rfl) (Nat.le_of_ble_eq_true rfl) dX4_reserveAt_19

