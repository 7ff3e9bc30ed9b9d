/-! WALKS: policies: premiums, reserves, what is paid -/
set_option maxRecDepth 100000
set_option maxHeartbeats 4000000 in
theorem m_net {l : Launch} (hfl : l.stackTraces = false) {E : zEn} {h : zHp} {p tgp li : Nat} {P : Nat → Int} {x : Nat} (hp : h p = some (tgp, .inr (6, polF P li x))) {tgl : Nat} {b wo sm : Int} (hli : h li = some (tgl, .inr (5, lifF b wo sm))) {lw tgw : Nat} {i c z : Int} (hlw : h lw = some (tgw, .inr (1, lawF i c z))) {tgx la pl bs gs so lt : Nat} {O : Nat → Int} (hx : h x = some (tgx, .inr (0, offF O la pl bs gs so lt))) {pts : Int} (hok : okP (O 7) b wo sm P) (how : okW i c z) (hpts : 0 ≤ pts ∧ pts ≤ 300)  : CN l E yX7_netPremium (ws_ yX7_netPremium cX7_netPremium 4 (some FieldType.long)) ({ frames := 5, cells := 1, slots := 3, locals := 125 } : Room) [.ref p, .ref lw, .int (iI pts)] h (zR (.long (iL (npS (O 7) c b wo sm i P pts))) h) := by
  refine CN.of (by decide +kernel) hfl (Nat.le_of_ble_eq_true rfl) fun θ Q hl G hin hQ => ?_
  subst hl
  show VW θ Q E h 0 0 0 [(0, .ref p), (1, .ref lw), (2, .int (iI pts))] []
  have ho := hok
  unfold okP at ho
  have hw9 := how
  unfold okW at hw9
  obtain ⟨v1, v2, v3, v4⟩ := vals_bd hok how hpts (y := P 2) ⟨by omega, by omega⟩
  have v4 := v4 (by omega)
  have e1 := mul_bd2 (show 0 ≤ P 7 ∧ P 7 ≤ 1000000 by omega) v1
  have e2 := mul_bd2 (show 0 ≤ P 7 ∧ P 7 ≤ 1000000 by omega) v3
  refine v_aload_n G 0 rfl rfl dX7_netPremium_0 ?_
  refine v_aload_n G 1 rfl rfl dX7_netPremium_1 ?_
  refine v_aload_n G 0 rfl rfl dX7_netPremium_2 ?_
  refine gX7_35 G hp rfl dX7_netPremium_3 ?_
  refine v_iload_n G 2 rfl rfl dX7_netPremium_6 ?_
  refine kX7_116 G (As := [.ref lw, .int (iI (P 2)), .int (iI pts)]) (rest := []) (cs' := 1) (sl' := 3) (m_values G.fl hp hli hlw hx (y := (P 2)) (pts := pts) hok how ⟨by omega, by omega⟩ ⟨by omega, by omega⟩) (zRcv.of G (ci := 6) rfl hp) rfl rfl (Nat.le_of_ble_eq_true rfl) (zRm.ok rfl) dX7_netPremium_7 (fun vq1 hq1 q1 => ?_)
  obtain ⟨q2, hq2, _, _⟩ := q1
  subst vq1 hq1
  have f3 := up_o (y := (9000, .inr (4, [.long (iL (vD (pqS (O 7) c b wo sm (P 2) pts) i (P 3) (d0S (P 1)) (P 3 - (P 2)).toNat)), .long (iL (vP (pqS (O 7) c b wo sm (P 2) pts) i (P 3) (P 3 - (P 2)).toNat)), .long (iL (vN (pqS (O 7) c b wo sm (P 2) pts) i (P 3) (P 3 - (P 2)).toNat))]))) hp hq2
  have f4 := up_o (y := (9000, .inr (4, [.long (iL (vD (pqS (O 7) c b wo sm (P 2) pts) i (P 3) (d0S (P 1)) (P 3 - (P 2)).toNat)), .long (iL (vP (pqS (O 7) c b wo sm (P 2) pts) i (P 3) (P 3 - (P 2)).toNat)), .long (iL (vN (pqS (O 7) c b wo sm (P 2) pts) i (P 3) (P 3 - (P 2)).toNat))]))) hli hq2
  have f5 := up_o (y := (9000, .inr (4, [.long (iL (vD (pqS (O 7) c b wo sm (P 2) pts) i (P 3) (d0S (P 1)) (P 3 - (P 2)).toNat)), .long (iL (vP (pqS (O 7) c b wo sm (P 2) pts) i (P 3) (P 3 - (P 2)).toNat)), .long (iL (vN (pqS (O 7) c b wo sm (P 2) pts) i (P 3) (P 3 - (P 2)).toNat))]))) hlw hq2
  have f6 := up_o (y := (9000, .inr (4, [.long (iL (vD (pqS (O 7) c b wo sm (P 2) pts) i (P 3) (d0S (P 1)) (P 3 - (P 2)).toNat)), .long (iL (vP (pqS (O 7) c b wo sm (P 2) pts) i (P 3) (P 3 - (P 2)).toNat)), .long (iL (vN (pqS (O 7) c b wo sm (P 2) pts) i (P 3) (P 3 - (P 2)).toNat))]))) hx hq2
  have f7 : (va_up h q2 (some (9000, .inr (4, [.long (iL (vD (pqS (O 7) c b wo sm (P 2) pts) i (P 3) (d0S (P 1)) (P 3 - (P 2)).toNat)), .long (iL (vP (pqS (O 7) c b wo sm (P 2) pts) i (P 3) (P 3 - (P 2)).toNat)), .long (iL (vN (pqS (O 7) c b wo sm (P 2) pts) i (P 3) (P 3 - (P 2)).toNat))])))) q2 = some (9000, .inr (4, [.long (iL (vD (pqS (O 7) c b wo sm (P 2) pts) i (P 3) (d0S (P 1)) (P 3 - (P 2)).toNat)), .long (iL (vP (pqS (O 7) c b wo sm (P 2) pts) i (P 3) (P 3 - (P 2)).toNat)), .long (iL (vN (pqS (O 7) c b wo sm (P 2) pts) i (P 3) (P 3 - (P 2)).toNat))])) := up_s
  show VW θ Q E (va_up h q2 (some (9000, .inr (4, [.long (iL (vD (pqS (O 7) c b wo sm (P 2) pts) i (P 3) (d0S (P 1)) (P 3 - (P 2)).toNat)), .long (iL (vP (pqS (O 7) c b wo sm (P 2) pts) i (P 3) (P 3 - (P 2)).toNat)), .long (iL (vN (pqS (O 7) c b wo sm (P 2) pts) i (P 3) (P 3 - (P 2)).toNat))])))) 1 3 10 [(0, .ref p), (1, .ref lw), (2, .int (iI pts))] [.ref q2]
  refine v_astore_n G (L' := [(3, .ref q2), (0, .ref p), (1, .ref lw), (2, .int (iI pts))]) rfl (Nat.le_of_ble_eq_true rfl) rfl dX7_netPremium_10 ?_
  refine v_aload_n G 1 rfl rfl dX7_netPremium_11 ?_
  refine kX7_120 G (As := []) (rest := []) (cs' := 1) (sl' := 3) (m_isAnnuity G.fl f3 ⟨by omega, by omega⟩) (zRcv.of G (ci := 6) rfl f3) rfl rfl (Nat.le_of_ble_eq_true rfl) (zRm.ok rfl) dX7_netPremium_12 (fun vq8 hq8 q8 => ?_)
  obtain ⟨_, _⟩ := q8
  subst vq8 hq8
  show VW θ Q E (va_up h q2 (some (9000, .inr (4, [.long (iL (vD (pqS (O 7) c b wo sm (P 2) pts) i (P 3) (d0S (P 1)) (P 3 - (P 2)).toNat)), .long (iL (vP (pqS (O 7) c b wo sm (P 2) pts) i (P 3) (P 3 - (P 2)).toNat)), .long (iL (vN (pqS (O 7) c b wo sm (P 2) pts) i (P 3) (P 3 - (P 2)).toNat))])))) 1 3 15 [(3, .ref q2), (0, .ref p), (1, .ref lw), (2, .int (iI pts))] [.int (iI (if P 1 = 3 then 1 else 0))]
  refine v_if_eq G 36 ⟨by omega, by omega⟩ (by decide) dX7_netPremium_15 (fun c9 => ?_) (fun c9 => ?_)
  · refine v_aload_n G 1 rfl rfl dX7_netPremium_36 ?_
    refine gX7_25 G f3 rfl dX7_netPremium_37 ?_
    refine v_aload_n G 0 rfl rfl dX7_netPremium_40 ?_
    refine gX7_126 G f7 rfl dX7_netPremium_41 ?_
    refine v_lmul G dX7_netPremium_44 ?_
    refine v_aload_n G 0 rfl rfl dX7_netPremium_45 ?_
    refine gX7_129 G f7 rfl dX7_netPremium_46 ?_
    refine kX7_67 G (As := [.long (iL ((P 7) * (vD (pqS (O 7) c b wo sm (P 2) pts) i (P 3) (d0S (P 1)) (P 3 - (P 2)).toNat))), .long (iL (vP (pqS (O 7) c b wo sm (P 2) pts) i (P 3) (P 3 - (P 2)).toNat))]) (rest := []) (cs' := 1) (sl' := 3) (m_down G.fl (a := ((P 7) * (vD (pqS (O 7) c b wo sm (P 2) pts) i (P 3) (d0S (P 1)) (P 3 - (P 2)).toNat))) (b := (vP (pqS (O 7) c b wo sm (P 2) pts) i (P 3) (P 3 - (P 2)).toNat)) ⟨by omega, by omega⟩ ⟨by omega, by omega⟩) rfl rfl (Nat.le_of_ble_eq_true rfl) (zRm.ok rfl) dX7_netPremium_49 (fun vq10 hq10 q10 => ?_)
    obtain ⟨_, _⟩ := q10
    subst vq10 hq10
    show VW θ Q E (va_up h q2 (some (9000, .inr (4, [.long (iL (vD (pqS (O 7) c b wo sm (P 2) pts) i (P 3) (d0S (P 1)) (P 3 - (P 2)).toNat)), .long (iL (vP (pqS (O 7) c b wo sm (P 2) pts) i (P 3) (P 3 - (P 2)).toNat)), .long (iL (vN (pqS (O 7) c b wo sm (P 2) pts) i (P 3) (P 3 - (P 2)).toNat))])))) 1 3 52 [(3, .ref q2), (0, .ref p), (1, .ref lw), (2, .int (iI pts))] [.long (iL (((P 7) * (vD (pqS (O 7) c b wo sm (P 2) pts) i (P 3) (d0S (P 1)) (P 3 - (P 2)).toNat)) / (vP (pqS (O 7) c b wo sm (P 2) pts) i (P 3) (P 3 - (P 2)).toNat)))]
    refine VW.drop (drop_new hq2) ?_
    show VW θ Q E h 1 3 52 [(3, .ref q2), (0, .ref p), (1, .ref lw), (2, .int (iI pts))] [.long (iL (((P 7) * (vD (pqS (O 7) c b wo sm (P 2) pts) i (P 3) (d0S (P 1)) (P 3 - (P 2)).toNat)) / (vP (pqS (O 7) c b wo sm (P 2) pts) i (P 3) (P 3 - (P 2)).toNat)))]
    exact v_lret G hQ ⟨by unfold npS netS; first | rw [if_pos (by omega)] | rw [if_neg (by omega)], rfl⟩ (Nat.le_of_ble_eq_true rfl) (Nat.le_of_ble_eq_true rfl) dX7_netPremium_52
  · refine v_aload_n G 1 rfl rfl dX7_netPremium_18 ?_
    refine gX7_25 G f3 rfl dX7_netPremium_19 ?_
    refine v_aload_n G 0 rfl rfl dX7_netPremium_22 ?_
    refine gX7_123 G f7 rfl dX7_netPremium_23 ?_
    refine v_lmul G dX7_netPremium_26 ?_
    refine v_ldc2 G (v := 1000000) q413 rfl dX7_netPremium_27 ?_
    refine kX7_67 G (As := [.long (iL ((P 7) * (vN (pqS (O 7) c b wo sm (P 2) pts) i (P 3) (P 3 - (P 2)).toNat))), .long (iL 1000000)]) (rest := []) (cs' := 1) (sl' := 3) (m_down G.fl (a := ((P 7) * (vN (pqS (O 7) c b wo sm (P 2) pts) i (P 3) (P 3 - (P 2)).toNat))) (b := 1000000) ⟨by omega, by omega⟩ ⟨by decide, by decide⟩) rfl rfl (Nat.le_of_ble_eq_true rfl) (zRm.ok rfl) dX7_netPremium_30 (fun vq11 hq11 q11 => ?_)
    obtain ⟨_, _⟩ := q11
    subst vq11 hq11
    show VW θ Q E (va_up h q2 (some (9000, .inr (4, [.long (iL (vD (pqS (O 7) c b wo sm (P 2) pts) i (P 3) (d0S (P 1)) (P 3 - (P 2)).toNat)), .long (iL (vP (pqS (O 7) c b wo sm (P 2) pts) i (P 3) (P 3 - (P 2)).toNat)), .long (iL (vN (pqS (O 7) c b wo sm (P 2) pts) i (P 3) (P 3 - (P 2)).toNat))])))) 1 3 33 [(3, .ref q2), (0, .ref p), (1, .ref lw), (2, .int (iI pts))] [.long (iL (((P 7) * (vN (pqS (O 7) c b wo sm (P 2) pts) i (P 3) (P 3 - (P 2)).toNat)) / 1000000))]
    refine v_goto G 52 (by decide) dX7_netPremium_33 ?_
    refine VW.drop (drop_new hq2) ?_
    show VW θ Q E h 1 3 52 [(3, .ref q2), (0, .ref p), (1, .ref lw), (2, .int (iI pts))] [.long (iL (((P 7) * (vN (pqS (O 7) c b wo sm (P 2) pts) i (P 3) (P 3 - (P 2)).toNat)) / 1000000))]
    exact v_lret G hQ ⟨by unfold npS netS; first | rw [if_pos (by omega)] | rw [if_neg (by omega)], rfl⟩ (Nat.le_of_ble_eq_true rfl) (Nat.le_of_ble_eq_true rfl) dX7_netPremium_52

set_option maxHeartbeats 4000000 in
theorem m_reserve {l : Launch} (hfl : l.stackTraces = false) {E : zEn} {h : zHp} {p tgp li : Nat} {P : Nat → Int} {x : Nat} (hp : h p = some (tgp, .inr (6, polF P li x))) {tgl : Nat} {b wo sm : Int} (hli : h li = some (tgl, .inr (5, lifF b wo sm))) {lw tgw : Nat} {i c z : Int} (hlw : h lw = some (tgw, .inr (1, lawF i c z))) {tgx la pl bs gs so lt : Nat} {O : Nat → Int} (hx : h x = some (tgx, .inr (0, offF O la pl bs gs so lt))) {y : Int} (hok : okP (O 7) b wo sm P) (how : okW i c z) (hy : P 2 ≤ y ∧ (P 12 ≤ 3 → y ≤ P 3) ∧ y ≤ 2400)  : CN l E yX7_reserve (ws_ yX7_reserve cX7_reserve 6 (some FieldType.long)) ({ frames := 6, cells := 2, slots := 6, locals := 148 } : Room) [.ref p, .ref lw, .int (iI y)] h (zR (.long (iL (rsS (O 7) i c z b wo sm P y))) h) := by
  refine CN.of (by decide +kernel) hfl (Nat.le_of_ble_eq_true rfl) fun θ Q hl G hin hQ => ?_
  subst hl
  show VW θ Q E h 0 0 0 [(0, .ref p), (1, .ref lw), (2, .int (iI y))] []
  have ho := hok
  unfold okP at ho
  have hw9 := how
  unfold okW at hw9
  refine v_aload_n G 0 rfl rfl dX7_reserve_0 ?_
  refine kX7_130 G (As := []) (rest := []) (cs' := 0) (sl' := 0) (m_isLiving G.fl hp ⟨by omega, by omega⟩) (zRcv.of G (ci := 6) rfl hp) rfl rfl (Nat.le_of_ble_eq_true rfl) (zRm.ok rfl) dX7_reserve_1 (fun vq1 hq1 q1 => ?_)
  obtain ⟨_, _⟩ := q1
  subst vq1 hq1
  show VW θ Q E h 0 0 4 [(0, .ref p), (1, .ref lw), (2, .int (iI y))] [.int (iI (if P 12 ≤ 3 then 1 else 0))]
  refine v_if_eq G 15 ⟨by omega, by omega⟩ (by decide) dX7_reserve_4 (fun c2 => ?_) (fun c2 => ?_)
  · refine v_lconst G (n := 0) (v0 := 0) rfl dX7_reserve_15 ?_
    exact v_lret G hQ ⟨by rw [rsS, if_pos (by omega)], rfl⟩ (Nat.le_of_ble_eq_true rfl) (Nat.le_of_ble_eq_true rfl) dX7_reserve_16
  · refine v_iload_n G 2 rfl rfl dX7_reserve_7 ?_
    refine v_aload_n G 0 rfl rfl dX7_reserve_8 ?_
    refine gX7_35 G hp rfl dX7_reserve_9 ?_
    refine v_icmp_ne G 17 ⟨by omega, by omega⟩ ⟨by omega, by omega⟩ (by decide) dX7_reserve_12 (fun c3 => ?_) (fun c3 => ?_)
    · have hnl : ¬ (3 < P 12 ∨ y = P 2) := by omega
      obtain ⟨v1, v2, v3, v4⟩ := vals_bd hok how (pts := P 4) ⟨by omega, by omega⟩ (y := y) ⟨by omega, by omega⟩
      have hn := npS_bd hok how (pts := P 4) ⟨by omega, by omega⟩
      have e1 := mul_bd2 (show 0 ≤ P 7 ∧ P 7 ≤ 1000000 by omega) v3
      have e2 := mul_bd2 (show 0 ≤ P 7 + P 9 ∧ P 7 + P 9 ≤ 120000000 by omega) v1
      have e3 := mul_bd2 (show 0 ≤ npS (O 7) c b wo sm i P (P 4) ∧ npS (O 7) c b wo sm i P (P 4) ≤ 110000000 by omega) v2
      refine v_aload_n G 0 rfl rfl dX7_reserve_17 ?_
      refine v_aload_n G 1 rfl rfl dX7_reserve_18 ?_
      refine v_iload_n G 2 rfl rfl dX7_reserve_19 ?_
      refine v_aload_n G 0 rfl rfl dX7_reserve_20 ?_
      refine gX7_29 G hp rfl dX7_reserve_21 ?_
      refine kX7_116 G (As := [.ref lw, .int (iI y), .int (iI (P 4))]) (rest := []) (cs' := 1) (sl' := 3) (m_values G.fl hp hli hlw hx (y := y) (pts := (P 4)) hok how ⟨by omega, by omega⟩ ⟨by omega, by omega⟩) (zRcv.of G (ci := 6) rfl hp) rfl rfl (Nat.le_of_ble_eq_true rfl) (zRm.ok rfl) dX7_reserve_24 (fun vq4 hq4 q4 => ?_)
      obtain ⟨q5, hq5, _, _⟩ := q4
      subst vq4 hq4
      have f6 := up_o (y := (9000, .inr (4, [.long (iL (vD (pqS (O 7) c b wo sm (P 2) (P 4)) i (P 3) (d0S (P 1)) (P 3 - y).toNat)), .long (iL (vP (pqS (O 7) c b wo sm (P 2) (P 4)) i (P 3) (P 3 - y).toNat)), .long (iL (vN (pqS (O 7) c b wo sm (P 2) (P 4)) i (P 3) (P 3 - y).toNat))]))) hp hq5
      have f7 := up_o (y := (9000, .inr (4, [.long (iL (vD (pqS (O 7) c b wo sm (P 2) (P 4)) i (P 3) (d0S (P 1)) (P 3 - y).toNat)), .long (iL (vP (pqS (O 7) c b wo sm (P 2) (P 4)) i (P 3) (P 3 - y).toNat)), .long (iL (vN (pqS (O 7) c b wo sm (P 2) (P 4)) i (P 3) (P 3 - y).toNat))]))) hli hq5
      have f8 := up_o (y := (9000, .inr (4, [.long (iL (vD (pqS (O 7) c b wo sm (P 2) (P 4)) i (P 3) (d0S (P 1)) (P 3 - y).toNat)), .long (iL (vP (pqS (O 7) c b wo sm (P 2) (P 4)) i (P 3) (P 3 - y).toNat)), .long (iL (vN (pqS (O 7) c b wo sm (P 2) (P 4)) i (P 3) (P 3 - y).toNat))]))) hlw hq5
      have f9 := up_o (y := (9000, .inr (4, [.long (iL (vD (pqS (O 7) c b wo sm (P 2) (P 4)) i (P 3) (d0S (P 1)) (P 3 - y).toNat)), .long (iL (vP (pqS (O 7) c b wo sm (P 2) (P 4)) i (P 3) (P 3 - y).toNat)), .long (iL (vN (pqS (O 7) c b wo sm (P 2) (P 4)) i (P 3) (P 3 - y).toNat))]))) hx hq5
      have f10 : (va_up h q5 (some (9000, .inr (4, [.long (iL (vD (pqS (O 7) c b wo sm (P 2) (P 4)) i (P 3) (d0S (P 1)) (P 3 - y).toNat)), .long (iL (vP (pqS (O 7) c b wo sm (P 2) (P 4)) i (P 3) (P 3 - y).toNat)), .long (iL (vN (pqS (O 7) c b wo sm (P 2) (P 4)) i (P 3) (P 3 - y).toNat))])))) q5 = some (9000, .inr (4, [.long (iL (vD (pqS (O 7) c b wo sm (P 2) (P 4)) i (P 3) (d0S (P 1)) (P 3 - y).toNat)), .long (iL (vP (pqS (O 7) c b wo sm (P 2) (P 4)) i (P 3) (P 3 - y).toNat)), .long (iL (vN (pqS (O 7) c b wo sm (P 2) (P 4)) i (P 3) (P 3 - y).toNat))])) := up_s
      show VW θ Q E (va_up h q5 (some (9000, .inr (4, [.long (iL (vD (pqS (O 7) c b wo sm (P 2) (P 4)) i (P 3) (d0S (P 1)) (P 3 - y).toNat)), .long (iL (vP (pqS (O 7) c b wo sm (P 2) (P 4)) i (P 3) (P 3 - y).toNat)), .long (iL (vN (pqS (O 7) c b wo sm (P 2) (P 4)) i (P 3) (P 3 - y).toNat))])))) 1 3 27 [(0, .ref p), (1, .ref lw), (2, .int (iI y))] [.ref q5]
      refine v_astore_n G (L' := [(3, .ref q5), (0, .ref p), (1, .ref lw), (2, .int (iI y))]) rfl (Nat.le_of_ble_eq_true rfl) rfl dX7_reserve_27 ?_
      have J11 : ∀ (r1 : Int), (r1 = if P 1 = 3 then P 7 * vN (pqS (O 7) c b wo sm (P 2) (P 4)) i (P 3) (P 3 - y).toNat / 1000000 else (P 7 + P 9) * vD (pqS (O 7) c b wo sm (P 2) (P 4)) i (P 3) (d0S (P 1)) (P 3 - y).toNat / 1000000) → (n64 r1) → VW θ Q E (va_up h q5 (some (9000, .inr (4, [.long (iL (vD (pqS (O 7) c b wo sm (P 2) (P 4)) i (P 3) (d0S (P 1)) (P 3 - y).toNat)), .long (iL (vP (pqS (O 7) c b wo sm (P 2) (P 4)) i (P 3) (P 3 - y).toNat)), .long (iL (vN (pqS (O 7) c b wo sm (P 2) (P 4)) i (P 3) (P 3 - y).toNat))])))) 1 3 70 [(3, .ref q5), (0, .ref p), (1, .ref lw), (2, .int (iI y)), (4, .long (iL r1))] [] := by
        intro r1 hr1 hr2
        have J12 : ∀ (r2 : Int), (r2 = if P 1 = 3 then P 7 * vN (pqS (O 7) c b wo sm (P 2) (P 4)) i (P 3) (P 3 - y).toNat / 1000000 else (P 7 + P 9) * vD (pqS (O 7) c b wo sm (P 2) (P 4)) i (P 3) (d0S (P 1)) (P 3 - y).toNat / 1000000 - (if P 17 = 1 then 0 else npS (O 7) c b wo sm i P (P 4) * vP (pqS (O 7) c b wo sm (P 2) (P 4)) i (P 3) (P 3 - y).toNat / 1000000)) → (n64 r2) → VW θ Q E (va_up h q5 (some (9000, .inr (4, [.long (iL (vD (pqS (O 7) c b wo sm (P 2) (P 4)) i (P 3) (d0S (P 1)) (P 3 - y).toNat)), .long (iL (vP (pqS (O 7) c b wo sm (P 2) (P 4)) i (P 3) (P 3 - y).toNat)), .long (iL (vN (pqS (O 7) c b wo sm (P 2) (P 4)) i (P 3) (P 3 - y).toNat))])))) 2 6 109 [(3, .ref q5), (0, .ref p), (1, .ref lw), (2, .int (iI y)), (4, .long (iL r2))] [] := by
          intro r2 hr3 hr4
          refine v_aload_n G 2 rfl rfl dX7_reserve_109 ?_
          refine gX7_140 G f8 rfl dX7_reserve_110 ?_
          refine v_if_eq G 125 ⟨by omega, by omega⟩ (by decide) dX7_reserve_113 (fun c13 => ?_) (fun c13 => ?_)
          · refine v_lload G 4 rfl dX7_reserve_125 ?_
            refine VW.drop (drop_new hq5) ?_
            show VW θ Q E h 2 6 127 [(3, .ref q5), (0, .ref p), (1, .ref lw), (2, .int (iI y)), (4, .long (iL r2))] [.long (iL r2)]
            exact v_lret G hQ ⟨by unfold rsS; rw [if_neg hnl]; first | rw [if_pos (by omega), ← hr3] | rw [if_neg (by omega), ← hr3], rfl⟩ (Nat.le_of_ble_eq_true rfl) (Nat.le_of_ble_eq_true rfl) dX7_reserve_127
          · refine v_lconst G (n := 0) (v0 := 0) rfl dX7_reserve_116 ?_
            refine v_lload G 4 rfl dX7_reserve_117 ?_
            refine kX7_143 G (As := [.long (iL 0), .long (iL r2)]) (rest := []) (cs' := 2) (sl' := 6) (m_maxL G.fl (a := 0) (b := r2) ⟨by decide, by decide⟩ ⟨by omega, by omega⟩) rfl rfl (Nat.le_of_ble_eq_true rfl) (zRm.ok rfl) dX7_reserve_119 (fun vq15 hq15 q15 => ?_)
            obtain ⟨_, _⟩ := q15
            subst vq15 hq15
            show VW θ Q E (va_up h q5 (some (9000, .inr (4, [.long (iL (vD (pqS (O 7) c b wo sm (P 2) (P 4)) i (P 3) (d0S (P 1)) (P 3 - y).toNat)), .long (iL (vP (pqS (O 7) c b wo sm (P 2) (P 4)) i (P 3) (P 3 - y).toNat)), .long (iL (vN (pqS (O 7) c b wo sm (P 2) (P 4)) i (P 3) (P 3 - y).toNat))])))) 2 6 122 [(3, .ref q5), (0, .ref p), (1, .ref lw), (2, .int (iI y)), (4, .long (iL r2))] [.long (iL (max 0 r2))]
            refine v_goto G 127 (by decide) dX7_reserve_122 ?_
            refine VW.drop (drop_new hq5) ?_
            show VW θ Q E h 2 6 127 [(3, .ref q5), (0, .ref p), (1, .ref lw), (2, .int (iI y)), (4, .long (iL r2))] [.long (iL (max 0 r2))]
            exact v_lret G hQ ⟨by unfold rsS; rw [if_neg hnl]; first | rw [if_pos (by omega), ← hr3] | rw [if_neg (by omega), ← hr3], rfl⟩ (Nat.le_of_ble_eq_true rfl) (Nat.le_of_ble_eq_true rfl) dX7_reserve_127
        refine v_aload_n G 1 rfl rfl dX7_reserve_70 ?_
        refine kX7_120 G (As := []) (rest := []) (cs' := 1) (sl' := 3) (m_isAnnuity G.fl f6 ⟨by omega, by omega⟩) (zRcv.of G (ci := 6) rfl f6) rfl rfl (Nat.le_of_ble_eq_true rfl) (zRm.ok rfl) dX7_reserve_71 (fun vq16 hq16 q16 => ?_)
        obtain ⟨_, _⟩ := q16
        subst vq16 hq16
        show VW θ Q E (va_up h q5 (some (9000, .inr (4, [.long (iL (vD (pqS (O 7) c b wo sm (P 2) (P 4)) i (P 3) (d0S (P 1)) (P 3 - y).toNat)), .long (iL (vP (pqS (O 7) c b wo sm (P 2) (P 4)) i (P 3) (P 3 - y).toNat)), .long (iL (vN (pqS (O 7) c b wo sm (P 2) (P 4)) i (P 3) (P 3 - y).toNat))])))) 1 3 74 [(3, .ref q5), (0, .ref p), (1, .ref lw), (2, .int (iI y)), (4, .long (iL r1))] [.int (iI (if P 1 = 3 then 1 else 0))]
        refine v_if_ne G 109 ⟨by omega, by omega⟩ (by decide) dX7_reserve_74 (fun c17 => ?_) (fun c17 => ?_)
        · refine VW.wid (k := 2) (n := 6) (Nat.le_of_ble_eq_true rfl) (Nat.le_of_ble_eq_true rfl) ?_
          exact J12 r1 (by subst hr1; first | rw [if_pos (by omega), if_pos (by omega)] | rw [if_neg (by omega), if_neg (by omega), if_neg (by omega)] | rw [if_neg (by omega), if_neg (by omega), if_pos (by omega), Int.sub_zero]) ⟨by omega, by omega⟩
        · refine v_aload_n G 1 rfl rfl dX7_reserve_77 ?_
          refine kX7_137 G (As := []) (rest := []) (cs' := 1) (sl' := 3) (m_isPaidUp G.fl f6 (by omega)) (zRcv.of G (ci := 6) rfl f6) rfl rfl (Nat.le_of_ble_eq_true rfl) (zRm.ok rfl) dX7_reserve_78 (fun vq18 hq18 q18 => ?_)
          obtain ⟨_, _⟩ := q18
          subst vq18 hq18
          show VW θ Q E (va_up h q5 (some (9000, .inr (4, [.long (iL (vD (pqS (O 7) c b wo sm (P 2) (P 4)) i (P 3) (d0S (P 1)) (P 3 - y).toNat)), .long (iL (vP (pqS (O 7) c b wo sm (P 2) (P 4)) i (P 3) (P 3 - y).toNat)), .long (iL (vN (pqS (O 7) c b wo sm (P 2) (P 4)) i (P 3) (P 3 - y).toNat))])))) 1 3 81 [(3, .ref q5), (0, .ref p), (1, .ref lw), (2, .int (iI y)), (4, .long (iL r1))] [.int (iI (P 17))]
          refine v_if_ne G 109 ⟨by omega, by omega⟩ (by decide) dX7_reserve_81 (fun c19 => ?_) (fun c19 => ?_)
          · refine VW.wid (k := 2) (n := 6) (Nat.le_of_ble_eq_true rfl) (Nat.le_of_ble_eq_true rfl) ?_
            exact J12 r1 (by subst hr1; first | rw [if_pos (by omega), if_pos (by omega)] | rw [if_neg (by omega), if_neg (by omega), if_neg (by omega)] | rw [if_neg (by omega), if_neg (by omega), if_pos (by omega), Int.sub_zero]) ⟨by omega, by omega⟩
          · refine v_lload G 4 rfl dX7_reserve_84 ?_
            refine v_aload_n G 1 rfl rfl dX7_reserve_86 ?_
            refine v_aload_n G 2 rfl rfl dX7_reserve_87 ?_
            refine v_aload_n G 1 rfl rfl dX7_reserve_88 ?_
            refine gX7_29 G f6 rfl dX7_reserve_89 ?_
            refine kX7_58 G (As := [.ref lw, .int (iI (P 4))]) (rest := [.long (iL r1)]) (cs' := 2) (sl' := 6) (m_net G.fl f6 f7 f8 f9 (pts := (P 4)) hok how ⟨by omega, by omega⟩) (zRcv.of G (ci := 6) rfl f6) rfl rfl (Nat.le_of_ble_eq_true rfl) (zRm.ok rfl) dX7_reserve_92 (fun vq20 hq20 q20 => ?_)
            obtain ⟨_, _⟩ := q20
            subst vq20 hq20
            show VW θ Q E (va_up h q5 (some (9000, .inr (4, [.long (iL (vD (pqS (O 7) c b wo sm (P 2) (P 4)) i (P 3) (d0S (P 1)) (P 3 - y).toNat)), .long (iL (vP (pqS (O 7) c b wo sm (P 2) (P 4)) i (P 3) (P 3 - y).toNat)), .long (iL (vN (pqS (O 7) c b wo sm (P 2) (P 4)) i (P 3) (P 3 - y).toNat))])))) 2 6 95 [(3, .ref q5), (0, .ref p), (1, .ref lw), (2, .int (iI y)), (4, .long (iL r1))] [.long (iL (npS (O 7) c b wo sm i P (P 4))), .long (iL r1)]
            refine v_aload_n G 0 rfl rfl dX7_reserve_95 ?_
            refine gX7_129 G f10 rfl dX7_reserve_96 ?_
            refine v_lmul G dX7_reserve_99 ?_
            refine v_ldc2 G (v := 1000000) q413 rfl dX7_reserve_100 ?_
            refine kX7_67 G (As := [.long (iL ((npS (O 7) c b wo sm i P (P 4)) * (vP (pqS (O 7) c b wo sm (P 2) (P 4)) i (P 3) (P 3 - y).toNat))), .long (iL 1000000)]) (rest := [.long (iL r1)]) (cs' := 2) (sl' := 6) (m_down G.fl (a := ((npS (O 7) c b wo sm i P (P 4)) * (vP (pqS (O 7) c b wo sm (P 2) (P 4)) i (P 3) (P 3 - y).toNat))) (b := 1000000) ⟨by omega, by omega⟩ ⟨by decide, by decide⟩) rfl rfl (Nat.le_of_ble_eq_true rfl) (zRm.ok rfl) dX7_reserve_103 (fun vq21 hq21 q21 => ?_)
            obtain ⟨_, _⟩ := q21
            subst vq21 hq21
            show VW θ Q E (va_up h q5 (some (9000, .inr (4, [.long (iL (vD (pqS (O 7) c b wo sm (P 2) (P 4)) i (P 3) (d0S (P 1)) (P 3 - y).toNat)), .long (iL (vP (pqS (O 7) c b wo sm (P 2) (P 4)) i (P 3) (P 3 - y).toNat)), .long (iL (vN (pqS (O 7) c b wo sm (P 2) (P 4)) i (P 3) (P 3 - y).toNat))])))) 2 6 106 [(3, .ref q5), (0, .ref p), (1, .ref lw), (2, .int (iI y)), (4, .long (iL r1))] [.long (iL (((npS (O 7) c b wo sm i P (P 4)) * (vP (pqS (O 7) c b wo sm (P 2) (P 4)) i (P 3) (P 3 - y).toNat)) / 1000000)), .long (iL r1)]
            refine v_lsub G dX7_reserve_106 ?_
            refine v_lstore G (L' := [(4, .long (iL (r1 - (((npS (O 7) c b wo sm i P (P 4)) * (vP (pqS (O 7) c b wo sm (P 2) (P 4)) i (P 3) (P 3 - y).toNat)) / 1000000)))), (3, .ref q5), (0, .ref p), (1, .ref lw), (2, .int (iI y))]) (Nat.le_of_ble_eq_true rfl) rfl dX7_reserve_107 ?_
            refine VW.pick (L2 := [(3, .ref q5), (0, .ref p), (1, .ref lw), (2, .int (iI y)), (4, .long (iL (r1 - (((npS (O 7) c b wo sm i P (P 4)) * (vP (pqS (O 7) c b wo sm (P 2) (P 4)) i (P 3) (P 3 - y).toNat)) / 1000000))))]) [1, 2, 3, 4, 0] rfl ?_
            exact J12 (r1 - (((npS (O 7) c b wo sm i P (P 4)) * (vP (pqS (O 7) c b wo sm (P 2) (P 4)) i (P 3) (P 3 - y).toNat)) / 1000000)) (by subst hr1; first | rw [if_pos (by omega), if_pos (by omega)] | rw [if_neg (by omega), if_neg (by omega), if_neg (by omega)] | rw [if_neg (by omega), if_neg (by omega), if_pos (by omega), Int.sub_zero]) ⟨by omega, by omega⟩
      refine v_aload_n G 1 rfl rfl dX7_reserve_28 ?_
      refine kX7_120 G (As := []) (rest := []) (cs' := 1) (sl' := 3) (m_isAnnuity G.fl f6 ⟨by omega, by omega⟩) (zRcv.of G (ci := 6) rfl f6) rfl rfl (Nat.le_of_ble_eq_true rfl) (zRm.ok rfl) dX7_reserve_29 (fun vq22 hq22 q22 => ?_)
      obtain ⟨_, _⟩ := q22
      subst vq22 hq22
      show VW θ Q E (va_up h q5 (some (9000, .inr (4, [.long (iL (vD (pqS (O 7) c b wo sm (P 2) (P 4)) i (P 3) (d0S (P 1)) (P 3 - y).toNat)), .long (iL (vP (pqS (O 7) c b wo sm (P 2) (P 4)) i (P 3) (P 3 - y).toNat)), .long (iL (vN (pqS (O 7) c b wo sm (P 2) (P 4)) i (P 3) (P 3 - y).toNat))])))) 1 3 32 [(3, .ref q5), (0, .ref p), (1, .ref lw), (2, .int (iI y))] [.int (iI (if P 1 = 3 then 1 else 0))]
      refine v_if_eq G 53 ⟨by omega, by omega⟩ (by decide) dX7_reserve_32 (fun c23 => ?_) (fun c23 => ?_)
      · refine v_aload_n G 1 rfl rfl dX7_reserve_53 ?_
        refine kX7_133 G (As := []) (rest := []) (cs' := 1) (sl' := 3) (m_assured G.fl f6) (zRcv.of G (ci := 6) rfl f6) rfl rfl (Nat.le_of_ble_eq_true rfl) (zRm.ok rfl) dX7_reserve_54 (fun vq24 hq24 q24 => ?_)
        obtain ⟨_, _⟩ := q24
        subst vq24 hq24
        show VW θ Q E (va_up h q5 (some (9000, .inr (4, [.long (iL (vD (pqS (O 7) c b wo sm (P 2) (P 4)) i (P 3) (d0S (P 1)) (P 3 - y).toNat)), .long (iL (vP (pqS (O 7) c b wo sm (P 2) (P 4)) i (P 3) (P 3 - y).toNat)), .long (iL (vN (pqS (O 7) c b wo sm (P 2) (P 4)) i (P 3) (P 3 - y).toNat))])))) 1 3 57 [(3, .ref q5), (0, .ref p), (1, .ref lw), (2, .int (iI y))] [.long (iL (P 7 + P 9))]
        refine v_aload_n G 0 rfl rfl dX7_reserve_57 ?_
        refine gX7_126 G f10 rfl dX7_reserve_58 ?_
        refine v_lmul G dX7_reserve_61 ?_
        refine v_ldc2 G (v := 1000000) q413 rfl dX7_reserve_62 ?_
        refine kX7_67 G (As := [.long (iL ((P 7 + P 9) * (vD (pqS (O 7) c b wo sm (P 2) (P 4)) i (P 3) (d0S (P 1)) (P 3 - y).toNat))), .long (iL 1000000)]) (rest := []) (cs' := 1) (sl' := 3) (m_down G.fl (a := ((P 7 + P 9) * (vD (pqS (O 7) c b wo sm (P 2) (P 4)) i (P 3) (d0S (P 1)) (P 3 - y).toNat))) (b := 1000000) ⟨by omega, by omega⟩ ⟨by decide, by decide⟩) rfl rfl (Nat.le_of_ble_eq_true rfl) (zRm.ok rfl) dX7_reserve_65 (fun vq25 hq25 q25 => ?_)
        obtain ⟨_, _⟩ := q25
        subst vq25 hq25
        show VW θ Q E (va_up h q5 (some (9000, .inr (4, [.long (iL (vD (pqS (O 7) c b wo sm (P 2) (P 4)) i (P 3) (d0S (P 1)) (P 3 - y).toNat)), .long (iL (vP (pqS (O 7) c b wo sm (P 2) (P 4)) i (P 3) (P 3 - y).toNat)), .long (iL (vN (pqS (O 7) c b wo sm (P 2) (P 4)) i (P 3) (P 3 - y).toNat))])))) 1 3 68 [(3, .ref q5), (0, .ref p), (1, .ref lw), (2, .int (iI y))] [.long (iL (((P 7 + P 9) * (vD (pqS (O 7) c b wo sm (P 2) (P 4)) i (P 3) (d0S (P 1)) (P 3 - y).toNat)) / 1000000))]
        refine v_lstore G (L' := [(4, .long (iL (((P 7 + P 9) * (vD (pqS (O 7) c b wo sm (P 2) (P 4)) i (P 3) (d0S (P 1)) (P 3 - y).toNat)) / 1000000))), (3, .ref q5), (0, .ref p), (1, .ref lw), (2, .int (iI y))]) (Nat.le_of_ble_eq_true rfl) rfl dX7_reserve_68 ?_
        refine VW.pick (L2 := [(3, .ref q5), (0, .ref p), (1, .ref lw), (2, .int (iI y)), (4, .long (iL (((P 7 + P 9) * (vD (pqS (O 7) c b wo sm (P 2) (P 4)) i (P 3) (d0S (P 1)) (P 3 - y).toNat)) / 1000000)))]) [1, 2, 3, 4, 0] rfl ?_
        exact J11 (((P 7 + P 9) * (vD (pqS (O 7) c b wo sm (P 2) (P 4)) i (P 3) (d0S (P 1)) (P 3 - y).toNat)) / 1000000) (by first | rw [if_pos (by omega)] | rw [if_neg (by omega)]) ⟨by omega, by omega⟩
      · refine v_aload_n G 1 rfl rfl dX7_reserve_35 ?_
        refine gX7_25 G f6 rfl dX7_reserve_36 ?_
        refine v_aload_n G 0 rfl rfl dX7_reserve_39 ?_
        refine gX7_123 G f10 rfl dX7_reserve_40 ?_
        refine v_lmul G dX7_reserve_43 ?_
        refine v_ldc2 G (v := 1000000) q413 rfl dX7_reserve_44 ?_
        refine kX7_67 G (As := [.long (iL ((P 7) * (vN (pqS (O 7) c b wo sm (P 2) (P 4)) i (P 3) (P 3 - y).toNat))), .long (iL 1000000)]) (rest := []) (cs' := 1) (sl' := 3) (m_down G.fl (a := ((P 7) * (vN (pqS (O 7) c b wo sm (P 2) (P 4)) i (P 3) (P 3 - y).toNat))) (b := 1000000) ⟨by omega, by omega⟩ ⟨by decide, by decide⟩) rfl rfl (Nat.le_of_ble_eq_true rfl) (zRm.ok rfl) dX7_reserve_47 (fun vq26 hq26 q26 => ?_)
        obtain ⟨_, _⟩ := q26
        subst vq26 hq26
        show VW θ Q E (va_up h q5 (some (9000, .inr (4, [.long (iL (vD (pqS (O 7) c b wo sm (P 2) (P 4)) i (P 3) (d0S (P 1)) (P 3 - y).toNat)), .long (iL (vP (pqS (O 7) c b wo sm (P 2) (P 4)) i (P 3) (P 3 - y).toNat)), .long (iL (vN (pqS (O 7) c b wo sm (P 2) (P 4)) i (P 3) (P 3 - y).toNat))])))) 1 3 50 [(3, .ref q5), (0, .ref p), (1, .ref lw), (2, .int (iI y))] [.long (iL (((P 7) * (vN (pqS (O 7) c b wo sm (P 2) (P 4)) i (P 3) (P 3 - y).toNat)) / 1000000))]
        refine v_goto G 68 (by decide) dX7_reserve_50 ?_
        refine v_lstore G (L' := [(4, .long (iL (((P 7) * (vN (pqS (O 7) c b wo sm (P 2) (P 4)) i (P 3) (P 3 - y).toNat)) / 1000000))), (3, .ref q5), (0, .ref p), (1, .ref lw), (2, .int (iI y))]) (Nat.le_of_ble_eq_true rfl) rfl dX7_reserve_68 ?_
        refine VW.pick (L2 := [(3, .ref q5), (0, .ref p), (1, .ref lw), (2, .int (iI y)), (4, .long (iL (((P 7) * (vN (pqS (O 7) c b wo sm (P 2) (P 4)) i (P 3) (P 3 - y).toNat)) / 1000000)))]) [1, 2, 3, 4, 0] rfl ?_
        exact J11 (((P 7) * (vN (pqS (O 7) c b wo sm (P 2) (P 4)) i (P 3) (P 3 - y).toNat)) / 1000000) (by first | rw [if_pos (by omega)] | rw [if_neg (by omega)]) ⟨by omega, by omega⟩
    · refine v_lconst G (n := 0) (v0 := 0) rfl dX7_reserve_15 ?_
      exact v_lret G hQ ⟨by rw [rsS, if_pos (by omega)], rfl⟩ (Nat.le_of_ble_eq_true rfl) (Nat.le_of_ble_eq_true rfl) dX7_reserve_16

set_option maxHeartbeats 4000000 in
theorem m_paysIn {l : Launch} (hfl : l.stackTraces = false) {E : zEn} {h : zHp} {p tgp li : Nat} {P : Nat → Int} {x : Nat} (hp : h p = some (tgp, .inr (6, polF P li x))) (hk : 0 ≤ P 1 ∧ P 1 ≤ 3) (hk2 : P 17 = 0 ∨ P 17 = 1) {y : Int} (hs : n32 (P 2)) (hy : n32 y)  : CN l E yX7_paysIn (ws_ yX7_paysIn cX7_paysIn 2 (some FieldType.boolean)) ({ frames := 1, cells := 0, slots := 0, locals := 20 } : Room) [.ref p, .int (iI y)] h (zR (.int (iI (if P 1 = 3 then (if y = P 2 then 1 else 0) else 1 - P 17))) h) := by
  refine CN.of (by decide +kernel) hfl (Nat.le_of_ble_eq_true rfl) fun θ Q hl G hin hQ => ?_
  subst hl
  show VW θ Q E h 0 0 0 [(0, .ref p), (1, .int (iI y))] []
  refine v_aload_n G 0 rfl rfl dX7_paysIn_0 ?_
  refine kX7_120 G (As := []) (rest := []) (cs' := 0) (sl' := 0) (m_isAnnuity G.fl hp ⟨by omega, by omega⟩) (zRcv.of G (ci := 6) rfl hp) rfl rfl (Nat.le_of_ble_eq_true rfl) (zRm.ok rfl) dX7_paysIn_1 (fun vq1 hq1 q1 => ?_)
  obtain ⟨_, _⟩ := q1
  subst vq1 hq1
  show VW θ Q E h 0 0 4 [(0, .ref p), (1, .int (iI y))] [.int (iI (if P 1 = 3 then 1 else 0))]
  refine v_if_eq G 23 ⟨by omega, by omega⟩ (by decide) dX7_paysIn_4 (fun c2 => ?_) (fun c2 => ?_)
  · refine v_aload_n G 0 rfl rfl dX7_paysIn_23 ?_
    refine kX7_137 G (As := []) (rest := []) (cs' := 0) (sl' := 0) (m_isPaidUp G.fl hp (by omega)) (zRcv.of G (ci := 6) rfl hp) rfl rfl (Nat.le_of_ble_eq_true rfl) (zRm.ok rfl) dX7_paysIn_24 (fun vq3 hq3 q3 => ?_)
    obtain ⟨_, _⟩ := q3
    subst vq3 hq3
    show VW θ Q E h 0 0 27 [(0, .ref p), (1, .int (iI y))] [.int (iI (P 17))]
    refine v_if_ne G 34 ⟨by omega, by omega⟩ (by decide) dX7_paysIn_27 (fun c4 => ?_) (fun c4 => ?_)
    · refine v_iconst G dX7_paysIn_34 ?_
      exact v_zret G hQ (by decide) ⟨by congr 3; omega, rfl⟩ (Nat.le_of_ble_eq_true rfl) (Nat.le_of_ble_eq_true rfl) dX7_paysIn_35
    · refine v_iconst G dX7_paysIn_30 ?_
      refine v_goto G 35 (by decide) dX7_paysIn_31 ?_
      exact v_zret G hQ (by decide) ⟨by congr 3; omega, rfl⟩ (Nat.le_of_ble_eq_true rfl) (Nat.le_of_ble_eq_true rfl) dX7_paysIn_35
  · refine v_iload_n G 1 rfl rfl dX7_paysIn_7 ?_
    refine v_aload_n G 0 rfl rfl dX7_paysIn_8 ?_
    refine gX7_35 G hp rfl dX7_paysIn_9 ?_
    refine v_icmp_ne G 19 ⟨by omega, by omega⟩ ⟨by omega, by omega⟩ (by decide) dX7_paysIn_12 (fun c5 => ?_) (fun c5 => ?_)
    · refine v_iconst G dX7_paysIn_19 ?_
      refine v_goto G 35 (by decide) dX7_paysIn_20 ?_
      exact v_zret G hQ (by decide) ⟨by congr 3; omega, rfl⟩ (Nat.le_of_ble_eq_true rfl) (Nat.le_of_ble_eq_true rfl) dX7_paysIn_35
    · refine v_iconst G dX7_paysIn_15 ?_
      refine v_goto G 35 (by decide) dX7_paysIn_16 ?_
      exact v_zret G hQ (by decide) ⟨by congr 3; omega, rfl⟩ (Nat.le_of_ble_eq_true rfl) (Nat.le_of_ble_eq_true rfl) dX7_paysIn_35

set_option maxHeartbeats 4000000 in
theorem m_surr {l : Launch} (hfl : l.stackTraces = false) {E : zEn} {h : zHp} {p tgp li : Nat} {P : Nat → Int} {x : Nat} (hp : h p = some (tgp, .inr (6, polF P li x))) {tgl : Nat} {b wo sm : Int} (hli : h li = some (tgl, .inr (5, lifF b wo sm))) {lw tgw : Nat} {i c z : Int} (hlw : h lw = some (tgw, .inr (1, lawF i c z))) {tgx la pl bs gs so lt : Nat} {O : Nat → Int} (hx : h x = some (tgx, .inr (0, offF O la pl bs gs so lt))) {tga : Nat} {lf : Nat → Option Nat} (hla : h la = some (tga, aQ E 4 3 lf)) (hl0 : lf 0 = some lw) {y : Int} (hok : okP (O 7) b wo sm P) (how : okW i c z) (hy : P 2 ≤ y ∧ (P 12 ≤ 3 → y ≤ P 3) ∧ y ≤ 2400)  : CN l E yX7_surrenderValue (ws_ yX7_surrenderValue cX7_surrenderValue 2 (some FieldType.long)) ({ frames := 7, cells := 2, slots := 6, locals := 173 } : Room) [.ref p, .int (iI y)] h (zR (.long (iL (svS (P 1) (rsS (O 7) i c z b wo sm P y)))) h) := by
  refine CN.of (by decide +kernel) hfl (Nat.le_of_ble_eq_true rfl) fun θ Q hl G hin hQ => ?_
  subst hl
  show VW θ Q E h 0 0 0 [(0, .ref p), (1, .int (iI y))] []
  have ho := hok
  unfold okP at ho
  have hw9 := how
  unfold okW at hw9
  have hb : n64 (rsS (O 7) i c z b wo sm P y) ∧ n64 (rsS (O 7) i c z b wo sm P y * 9) := by
    by_cases hl : 3 < P 12
    · rw [rsS, if_pos (Or.inl hl)]; exact ⟨⟨by decide, by decide⟩, by decide, by decide⟩
    · have := rsS_bd hok how (y := y) ⟨by omega, by omega⟩
      exact ⟨⟨by omega, by omega⟩, by omega, by omega⟩
  refine v_aload_n G 0 rfl rfl dX7_surrenderValue_0 ?_
  refine kX7_97 G (As := []) (rest := []) (cs' := 0) (sl' := 0) (m_hasValue G.fl hp ⟨by omega, by omega⟩) (zRcv.of G (ci := 6) rfl hp) rfl rfl (Nat.le_of_ble_eq_true rfl) (zRm.ok rfl) dX7_surrenderValue_1 (fun vq1 hq1 q1 => ?_)
  obtain ⟨_, _⟩ := q1
  subst vq1 hq1
  show VW θ Q E h 0 0 4 [(0, .ref p), (1, .int (iI y))] [.int (iI (if P 1 ≤ 1 then 1 else 0))]
  refine v_if_eq G 38 ⟨by omega, by omega⟩ (by decide) dX7_surrenderValue_4 (fun c2 => ?_) (fun c2 => ?_)
  · refine v_lconst G (n := 0) (v0 := 0) rfl dX7_surrenderValue_38 ?_
    exact v_lret G hQ ⟨by unfold svS; first | rw [if_pos (by omega)] | rw [if_neg (by omega)], rfl⟩ (Nat.le_of_ble_eq_true rfl) (Nat.le_of_ble_eq_true rfl) dX7_surrenderValue_39
  · refine v_lconst G (n := 0) (v0 := 0) rfl dX7_surrenderValue_7 ?_
    refine v_aload_n G 0 rfl rfl dX7_surrenderValue_8 ?_
    refine v_aload_n G 0 rfl rfl dX7_surrenderValue_9 ?_
    refine gX7_3 G hp rfl dX7_surrenderValue_10 ?_
    refine gX7_54 G hx rfl dX7_surrenderValue_13 ?_
    refine v_iconst G dX7_surrenderValue_16 ?_
    refine v_aald G (kt := 4) (r := some lw) hla rfl (by decide) ⟨by omega, by omega⟩ hl0 dX7_surrenderValue_17 ?_
    refine v_iload_n G 1 rfl rfl dX7_surrenderValue_18 ?_
    refine kX7_151 G (As := [.ref lw, .int (iI y)]) (rest := [.long (iL 0)]) (cs' := 2) (sl' := 6) (m_reserve G.fl hp hli hlw hx (y := y) hok how ⟨by omega, by omega, by omega⟩) (zRcv.of G (ci := 6) rfl hp) rfl rfl (Nat.le_of_ble_eq_true rfl) (zRm.ok rfl) dX7_surrenderValue_19 (fun vq3 hq3 q3 => ?_)
    obtain ⟨_, _⟩ := q3
    subst vq3 hq3
    show VW θ Q E h 2 6 22 [(0, .ref p), (1, .int (iI y))] [.long (iL (rsS (O 7) i c z b wo sm P y)), .long (iL 0)]
    refine v_ldc2 G (v := 9) q1425 rfl dX7_surrenderValue_22 ?_
    refine v_lmul G dX7_surrenderValue_25 ?_
    refine v_ldc2 G (v := 10) q1426 rfl dX7_surrenderValue_26 ?_
    refine kX7_67 G (As := [.long (iL ((rsS (O 7) i c z b wo sm P y) * 9)), .long (iL 10)]) (rest := [.long (iL 0)]) (cs' := 2) (sl' := 6) (m_down G.fl (a := ((rsS (O 7) i c z b wo sm P y) * 9)) (b := 10) ⟨by omega, by omega⟩ ⟨by decide, by decide⟩) rfl rfl (Nat.le_of_ble_eq_true rfl) (zRm.ok rfl) dX7_surrenderValue_29 (fun vq4 hq4 q4 => ?_)
    obtain ⟨_, _⟩ := q4
    subst vq4 hq4
    show VW θ Q E h 2 6 32 [(0, .ref p), (1, .int (iI y))] [.long (iL (((rsS (O 7) i c z b wo sm P y) * 9) / 10)), .long (iL 0)]
    refine kX7_143 G (As := [.long (iL 0), .long (iL (((rsS (O 7) i c z b wo sm P y) * 9) / 10))]) (rest := []) (cs' := 2) (sl' := 6) (m_maxL G.fl (a := 0) (b := (((rsS (O 7) i c z b wo sm P y) * 9) / 10)) ⟨by decide, by decide⟩ ⟨by omega, by omega⟩) rfl rfl (Nat.le_of_ble_eq_true rfl) (zRm.ok rfl) dX7_surrenderValue_32 (fun vq6 hq6 q6 => ?_)
    obtain ⟨_, _⟩ := q6
    subst vq6 hq6
    show VW θ Q E h 2 6 35 [(0, .ref p), (1, .int (iI y))] [.long (iL (max 0 (((rsS (O 7) i c z b wo sm P y) * 9) / 10)))]
    refine v_goto G 39 (by decide) dX7_surrenderValue_35 ?_
    exact v_lret G hQ ⟨by unfold svS; first | rw [if_pos (by omega)] | rw [if_neg (by omega)], rfl⟩ (Nat.le_of_ble_eq_true rfl) (Nat.le_of_ble_eq_true rfl) dX7_surrenderValue_39

set_option maxHeartbeats 4000000 in
theorem m_fbonus {l : Launch} (hfl : l.stackTraces = false) {E : zEn} {h : zHp} {p tgp li : Nat} {P : Nat → Int} {x : Nat} (hp : h p = some (tgp, .inr (6, polF P li x))) {tgx la pl bs gs so lt : Nat} {O : Nat → Int} (hx : h x = some (tgx, .inr (0, offF O la pl bs gs so lt))) {b wo sm : Int} (hok : okP (O 7) b wo sm P) (hrt : 0 ≤ O 14 ∧ O 14 ≤ 1000)  : CN l E yX7_finalBonus (ws_ yX7_finalBonus cX7_finalBonus 1 (some FieldType.long)) ({ frames := 2, cells := 0, slots := 0, locals := 48 } : Room) [.ref p] h (zR (.long (iL (fbS P (O 14)))) h) := by
  refine CN.of (by decide +kernel) hfl (Nat.le_of_ble_eq_true rfl) fun θ Q hl G hin hQ => ?_
  subst hl
  show VW θ Q E h 0 0 0 [(0, .ref p)] []
  have ho := hok
  unfold okP at ho
  have e1 := fb_mul hok hrt
  refine v_aload_n G 0 rfl rfl dX7_finalBonus_0 ?_
  refine gX7_50 G hp rfl dX7_finalBonus_1 ?_
  refine v_if_eq G 43 ⟨by omega, by omega⟩ (by decide) dX7_finalBonus_4 (fun c1 => ?_) (fun c1 => ?_)
  · refine v_lconst G (n := 0) (v0 := 0) rfl dX7_finalBonus_43 ?_
    exact v_lret G hQ ⟨by unfold fbS; first | rw [if_pos (by omega)] | rw [if_neg (by omega)], rfl⟩ (Nat.le_of_ble_eq_true rfl) (Nat.le_of_ble_eq_true rfl) dX7_finalBonus_44
  · refine v_lconst G (n := 0) (v0 := 0) rfl dX7_finalBonus_7 ?_
    refine v_aload_n G 0 rfl rfl dX7_finalBonus_8 ?_
    refine gX7_158 G hp rfl dX7_finalBonus_9 ?_
    refine v_aload_n G 0 rfl rfl dX7_finalBonus_12 ?_
    refine gX7_25 G hp rfl dX7_finalBonus_13 ?_
    refine v_lsub G dX7_finalBonus_16 ?_
    refine v_aload_n G 0 rfl rfl dX7_finalBonus_17 ?_
    refine gX7_77 G hp rfl dX7_finalBonus_18 ?_
    refine v_lsub G dX7_finalBonus_21 ?_
    refine v_aload_n G 0 rfl rfl dX7_finalBonus_22 ?_
    refine gX7_3 G hp rfl dX7_finalBonus_23 ?_
    refine gX7_161 G hx rfl dX7_finalBonus_26 ?_
    refine v_i2l G ⟨by omega, by omega⟩ dX7_finalBonus_29 ?_
    refine v_lmul G dX7_finalBonus_30 ?_
    refine v_ldc2 G (v := 1000) q1208 rfl dX7_finalBonus_31 ?_
    refine kX7_67 G (As := [.long (iL ((((P 10) - (P 7)) - (P 9)) * (O 14))), .long (iL 1000)]) (rest := [.long (iL 0)]) (cs' := 0) (sl' := 0) (m_down G.fl (a := ((((P 10) - (P 7)) - (P 9)) * (O 14))) (b := 1000) ⟨by omega, by omega⟩ ⟨by decide, by decide⟩) rfl rfl (Nat.le_of_ble_eq_true rfl) (zRm.ok rfl) dX7_finalBonus_34 (fun vq2 hq2 q2 => ?_)
    obtain ⟨_, _⟩ := q2
    subst vq2 hq2
    show VW θ Q E h 0 0 37 [(0, .ref p)] [.long (iL (((((P 10) - (P 7)) - (P 9)) * (O 14)) / 1000)), .long (iL 0)]
    refine kX7_143 G (As := [.long (iL 0), .long (iL (((((P 10) - (P 7)) - (P 9)) * (O 14)) / 1000))]) (rest := []) (cs' := 0) (sl' := 0) (m_maxL G.fl (a := 0) (b := (((((P 10) - (P 7)) - (P 9)) * (O 14)) / 1000)) ⟨by decide, by decide⟩ ⟨by omega, by omega⟩) rfl rfl (Nat.le_of_ble_eq_true rfl) (zRm.ok rfl) dX7_finalBonus_37 (fun vq4 hq4 q4 => ?_)
    obtain ⟨_, _⟩ := q4
    subst vq4 hq4
    show VW θ Q E h 0 0 40 [(0, .ref p)] [.long (iL (max 0 (((((P 10) - (P 7)) - (P 9)) * (O 14)) / 1000)))]
    refine v_goto G 44 (by decide) dX7_finalBonus_40 ?_
    exact v_lret G hQ ⟨by unfold fbS; first | rw [if_pos (by omega)] | rw [if_neg (by omega)], rfl⟩ (Nat.le_of_ble_eq_true rfl) (Nat.le_of_ble_eq_true rfl) dX7_finalBonus_44

set_option maxHeartbeats 4000000 in
theorem m_claim {l : Launch} (hfl : l.stackTraces = false) {E : zEn} {h : zHp} {p tgp li : Nat} {P : Nat → Int} {x : Nat} (hp : h p = some (tgp, .inr (6, polF P li x))) {tgl : Nat} {b wo sm : Int} (hli : h li = some (tgl, .inr (5, lifF b wo sm))) {lw tgw : Nat} {i c z : Int} (hlw : h lw = some (tgw, .inr (1, lawF i c z))) {tgx la pl bs gs so lt : Nat} {O : Nat → Int} (hx : h x = some (tgx, .inr (0, offF O la pl bs gs so lt))) {tga : Nat} {lf : Nat → Option Nat} (hla : h la = some (tga, aQ E 4 3 lf)) (hl0 : lf 0 = some lw) (hok : okP (O 7) b wo sm P) (how : okW i c z) (hrt : 0 ≤ O 14 ∧ O 14 ≤ 1000)  : CN l E yX7_claim (ws_ yX7_claim cX7_claim 5 (some FieldType.long)) ({ frames := 6, cells := 2, slots := 6, locals := 148 } : Room) [.ref p] h (zR (.long (iL (clS (O 7) c b wo sm i P (O 14)))) h) := by
  refine CN.of (by decide +kernel) hfl (Nat.le_of_ble_eq_true rfl) fun θ Q hl G hin hQ => ?_
  subst hl
  show VW θ Q E h 0 0 0 [(0, .ref p)] []
  have ho := hok
  unfold okP at ho
  have hw9 := how
  unfold okW at hw9
  have f1 := fbS_bd hok hrt
  have n1 := npS_bd hok how (pts := P 4) ⟨by omega, by omega⟩
  have n2 := npS_bd hok how (pts := P 13) ⟨by omega, by omega⟩
  have e1 := mul_bd2 (show 0 ≤ P 7 + P 9 + fbS P (O 14) ∧ P 7 + P 9 + fbS P (O 14) ≤ 1120000000 by omega) (show 0 ≤ npS (O 7) c b wo sm i P (P 4) ∧ npS (O 7) c b wo sm i P (P 4) ≤ 110000000 by omega)
  refine v_aload_n G 0 rfl rfl dX7_claim_0 ?_
  refine kX7_120 G (As := []) (rest := []) (cs' := 0) (sl' := 0) (m_isAnnuity G.fl hp ⟨by omega, by omega⟩) (zRcv.of G (ci := 6) rfl hp) rfl rfl (Nat.le_of_ble_eq_true rfl) (zRm.ok rfl) dX7_claim_1 (fun vq1 hq1 q1 => ?_)
  obtain ⟨_, _⟩ := q1
  subst vq1 hq1
  show VW θ Q E h 0 0 4 [(0, .ref p)] [.int (iI (if P 1 = 3 then 1 else 0))]
  refine v_if_eq G 9 ⟨by omega, by omega⟩ (by decide) dX7_claim_4 (fun c2 => ?_) (fun c2 => ?_)
  · refine v_aload_n G 0 rfl rfl dX7_claim_9 ?_
    refine kX7_133 G (As := []) (rest := []) (cs' := 0) (sl' := 0) (m_assured G.fl hp) (zRcv.of G (ci := 6) rfl hp) rfl rfl (Nat.le_of_ble_eq_true rfl) (zRm.ok rfl) dX7_claim_10 (fun vq3 hq3 q3 => ?_)
    obtain ⟨_, _⟩ := q3
    subst vq3 hq3
    show VW θ Q E h 0 0 13 [(0, .ref p)] [.long (iL (P 7 + P 9))]
    refine v_aload_n G 0 rfl rfl dX7_claim_13 ?_
    refine kX7_164 G (As := []) (rest := [.long (iL (P 7 + P 9))]) (cs' := 0) (sl' := 0) (m_fbonus G.fl hp hx hok ⟨by omega, by omega⟩) (zRcv.of G (ci := 6) rfl hp) rfl rfl (Nat.le_of_ble_eq_true rfl) (zRm.ok rfl) dX7_claim_14 (fun vq4 hq4 q4 => ?_)
    obtain ⟨_, _⟩ := q4
    subst vq4 hq4
    show VW θ Q E h 0 0 17 [(0, .ref p)] [.long (iL (fbS P (O 14))), .long (iL (P 7 + P 9))]
    refine v_ladd G dX7_claim_17 ?_
    refine v_lstore_n G (L' := [(1, .long (iL ((P 7 + P 9) + (fbS P (O 14))))), (0, .ref p)]) rfl (Nat.le_of_ble_eq_true rfl) rfl dX7_claim_18 ?_
    refine v_aload_n G 1 rfl rfl dX7_claim_19 ?_
    refine gX7_167 G hp rfl dX7_claim_20 ?_
    refine v_aload_n G 1 rfl rfl dX7_claim_23 ?_
    refine gX7_29 G hp rfl dX7_claim_24 ?_
    refine v_icmp_gt G 32 ⟨by omega, by omega⟩ ⟨by omega, by omega⟩ (by decide) dX7_claim_27 (fun c5 => ?_) (fun c5 => ?_)
    · refine v_aload_n G 1 rfl rfl dX7_claim_32 ?_
      refine v_aload_n G 1 rfl rfl dX7_claim_33 ?_
      refine gX7_3 G hp rfl dX7_claim_34 ?_
      refine gX7_54 G hx rfl dX7_claim_37 ?_
      refine v_iconst G dX7_claim_40 ?_
      refine v_aald G (kt := 4) (r := some lw) hla rfl (by decide) ⟨by omega, by omega⟩ hl0 dX7_claim_41 ?_
      refine v_aload_n G 1 rfl rfl dX7_claim_42 ?_
      refine gX7_167 G hp rfl dX7_claim_43 ?_
      refine kX7_58 G (As := [.ref lw, .int (iI (P 13))]) (rest := []) (cs' := 1) (sl' := 3) (m_net G.fl hp hli hlw hx (pts := (P 13)) hok how ⟨by omega, by omega⟩) (zRcv.of G (ci := 6) rfl hp) rfl rfl (Nat.le_of_ble_eq_true rfl) (zRm.ok rfl) dX7_claim_46 (fun vq6 hq6 q6 => ?_)
      obtain ⟨_, _⟩ := q6
      subst vq6 hq6
      show VW θ Q E h 1 3 49 [(1, .long (iL ((P 7 + P 9) + (fbS P (O 14))))), (0, .ref p)] [.long (iL (npS (O 7) c b wo sm i P (P 13)))]
      refine v_lstore_n G (L' := [(3, .long (iL (npS (O 7) c b wo sm i P (P 13)))), (1, .long (iL ((P 7 + P 9) + (fbS P (O 14))))), (0, .ref p)]) rfl (Nat.le_of_ble_eq_true rfl) rfl dX7_claim_49 ?_
      refine v_lload_n G 0 rfl rfl dX7_claim_50 ?_
      refine v_lconst G (n := 0) (v0 := 0) rfl dX7_claim_51 ?_
      refine v_lcmp G ⟨by omega, by omega⟩ ⟨by decide, by decide⟩ dX7_claim_52 ?_
      refine v_lif_ne G 60 (by decide) dX7_claim_53 (fun c7 => ?_) (fun c7 => ?_)
      · refine v_lload_n G 1 rfl rfl dX7_claim_60 ?_
        refine v_aload_n G 2 rfl rfl dX7_claim_61 ?_
        refine v_aload_n G 2 rfl rfl dX7_claim_62 ?_
        refine gX7_3 G hp rfl dX7_claim_63 ?_
        refine gX7_54 G hx rfl dX7_claim_66 ?_
        refine v_iconst G dX7_claim_69 ?_
        refine v_aald G (kt := 4) (r := some lw) hla rfl (by decide) ⟨by omega, by omega⟩ hl0 dX7_claim_70 ?_
        refine v_aload_n G 2 rfl rfl dX7_claim_71 ?_
        refine gX7_29 G hp rfl dX7_claim_72 ?_
        refine kX7_58 G (As := [.ref lw, .int (iI (P 4))]) (rest := [.long (iL ((P 7 + P 9) + (fbS P (O 14))))]) (cs' := 2) (sl' := 6) (m_net G.fl hp hli hlw hx (pts := (P 4)) hok how ⟨by omega, by omega⟩) (zRcv.of G (ci := 6) rfl hp) rfl rfl (Nat.le_of_ble_eq_true rfl) (zRm.ok rfl) dX7_claim_75 (fun vq8 hq8 q8 => ?_)
        obtain ⟨_, _⟩ := q8
        subst vq8 hq8
        show VW θ Q E h 2 6 78 [(3, .long (iL (npS (O 7) c b wo sm i P (P 13)))), (1, .long (iL ((P 7 + P 9) + (fbS P (O 14))))), (0, .ref p)] [.long (iL (npS (O 7) c b wo sm i P (P 4))), .long (iL ((P 7 + P 9) + (fbS P (O 14))))]
        refine v_lmul G dX7_claim_78 ?_
        refine v_lload_n G 0 rfl rfl dX7_claim_79 ?_
        refine kX7_67 G (As := [.long (iL (((P 7 + P 9) + (fbS P (O 14))) * (npS (O 7) c b wo sm i P (P 4)))), .long (iL (npS (O 7) c b wo sm i P (P 13)))]) (rest := []) (cs' := 2) (sl' := 6) (m_down G.fl (a := (((P 7 + P 9) + (fbS P (O 14))) * (npS (O 7) c b wo sm i P (P 4)))) (b := (npS (O 7) c b wo sm i P (P 13))) ⟨by omega, by omega⟩ ⟨by omega, by omega⟩) rfl rfl (Nat.le_of_ble_eq_true rfl) (zRm.ok rfl) dX7_claim_80 (fun vq9 hq9 q9 => ?_)
        obtain ⟨_, _⟩ := q9
        subst vq9 hq9
        show VW θ Q E h 2 6 83 [(3, .long (iL (npS (O 7) c b wo sm i P (P 13)))), (1, .long (iL ((P 7 + P 9) + (fbS P (O 14))))), (0, .ref p)] [.long (iL ((((P 7 + P 9) + (fbS P (O 14))) * (npS (O 7) c b wo sm i P (P 4))) / (npS (O 7) c b wo sm i P (P 13))))]
        exact v_lret G hQ ⟨by unfold clS; first | rw [if_pos (by omega)] | rw [if_neg (by omega), if_pos (by omega)] | rw [if_neg (by omega), if_neg (by omega), if_pos (by omega)] | rw [if_neg (by omega), if_neg (by omega), if_neg (by omega)], rfl⟩ (Nat.le_of_ble_eq_true rfl) (Nat.le_of_ble_eq_true rfl) dX7_claim_83
      · refine v_lload_n G 1 rfl rfl dX7_claim_56 ?_
        refine v_goto G 83 (by decide) dX7_claim_57 ?_
        exact v_lret G hQ ⟨by unfold clS; first | rw [if_pos (by omega)] | rw [if_neg (by omega), if_pos (by omega)] | rw [if_neg (by omega), if_neg (by omega), if_pos (by omega)] | rw [if_neg (by omega), if_neg (by omega), if_neg (by omega)], rfl⟩ (Nat.le_of_ble_eq_true rfl) (Nat.le_of_ble_eq_true rfl) dX7_claim_83
    · refine v_lload_n G 0 rfl rfl dX7_claim_30 ?_
      exact v_lret G hQ ⟨by unfold clS; first | rw [if_pos (by omega)] | rw [if_neg (by omega), if_pos (by omega)] | rw [if_neg (by omega), if_neg (by omega), if_pos (by omega)] | rw [if_neg (by omega), if_neg (by omega), if_neg (by omega)], rfl⟩ (Nat.le_of_ble_eq_true rfl) (Nat.le_of_ble_eq_true rfl) dX7_claim_31
  · refine v_lconst G (n := 0) (v0 := 0) rfl dX7_claim_7 ?_
    exact v_lret G hQ ⟨by unfold clS; first | rw [if_pos (by omega)] | rw [if_neg (by omega), if_pos (by omega)] | rw [if_neg (by omega), if_neg (by omega), if_pos (by omega)] | rw [if_neg (by omega), if_neg (by omega), if_neg (by omega)], rfl⟩ (Nat.le_of_ble_eq_true rfl) (Nat.le_of_ble_eq_true rfl) dX7_claim_8

set_option maxHeartbeats 4000000 in
theorem m_ceded {l : Launch} (hfl : l.stackTraces = false) {E : zEn} {h : zHp} {p tgp li : Nat} {P : Nat → Int} {x : Nat} (hp : h p = some (tgp, .inr (6, polF P li x))) {tgx la pl bs gs so lt : Nat} {O : Nat → Int} (hx : h x = some (tgx, .inr (0, offF O la pl bs gs so lt))) {b wo sm : Int} (hok : okP (O 7) b wo sm P) (hrt : 0 ≤ O 10 ∧ O 10 ≤ 1000000) (hqt : 0 ≤ O 11 ∧ O 11 ≤ 1000)  : CN l E yX7_ceded (ws_ yX7_ceded cX7_ceded 1 (some FieldType.long)) ({ frames := 2, cells := 0, slots := 0, locals := 48 } : Room) [.ref p] h (zR (.long (iL (cdS P (O 10) (O 11)))) h) := by
  refine CN.of (by decide +kernel) hfl (Nat.le_of_ble_eq_true rfl) fun θ Q hl G hin hQ => ?_
  subst hl
  show VW θ Q E h 0 0 0 [(0, .ref p)] []
  have ho := hok
  unfold okP at ho
  have e1 := mul_bd2 (show 0 ≤ min (P 7) (O 10) ∧ min (P 7) (O 10) ≤ 1000000 by omega) hqt
  refine v_aload_n G 0 rfl rfl dX7_ceded_0 ?_
  refine kX7_120 G (As := []) (rest := []) (cs' := 0) (sl' := 0) (m_isAnnuity G.fl hp ⟨by omega, by omega⟩) (zRcv.of G (ci := 6) rfl hp) rfl rfl (Nat.le_of_ble_eq_true rfl) (zRm.ok rfl) dX7_ceded_1 (fun vq1 hq1 q1 => ?_)
  obtain ⟨_, _⟩ := q1
  subst vq1 hq1
  show VW θ Q E h 0 0 4 [(0, .ref p)] [.int (iI (if P 1 = 3 then 1 else 0))]
  refine v_if_eq G 9 ⟨by omega, by omega⟩ (by decide) dX7_ceded_4 (fun c2 => ?_) (fun c2 => ?_)
  · refine v_lconst G (n := 0) (v0 := 0) rfl dX7_ceded_9 ?_
    refine v_aload_n G 0 rfl rfl dX7_ceded_10 ?_
    refine gX7_25 G hp rfl dX7_ceded_11 ?_
    refine v_aload_n G 0 rfl rfl dX7_ceded_14 ?_
    refine gX7_3 G hp rfl dX7_ceded_15 ?_
    refine gX7_170 G hx rfl dX7_ceded_18 ?_
    refine v_i2l G ⟨by omega, by omega⟩ dX7_ceded_21 ?_
    refine v_lsub G dX7_ceded_22 ?_
    refine kX7_143 G (As := [.long (iL 0), .long (iL ((P 7) - (O 10)))]) (rest := []) (cs' := 0) (sl' := 0) (m_maxL G.fl (a := 0) (b := ((P 7) - (O 10))) ⟨by decide, by decide⟩ ⟨by omega, by omega⟩) rfl rfl (Nat.le_of_ble_eq_true rfl) (zRm.ok rfl) dX7_ceded_23 (fun vq4 hq4 q4 => ?_)
    obtain ⟨_, _⟩ := q4
    subst vq4 hq4
    show VW θ Q E h 0 0 26 [(0, .ref p)] [.long (iL (max 0 ((P 7) - (O 10))))]
    refine v_aload_n G 0 rfl rfl dX7_ceded_26 ?_
    refine gX7_25 G hp rfl dX7_ceded_27 ?_
    refine v_aload_n G 0 rfl rfl dX7_ceded_30 ?_
    refine gX7_3 G hp rfl dX7_ceded_31 ?_
    refine gX7_170 G hx rfl dX7_ceded_34 ?_
    refine v_i2l G ⟨by omega, by omega⟩ dX7_ceded_37 ?_
    refine kX7_173 G (As := [.long (iL (P 7)), .long (iL (O 10))]) (rest := [.long (iL (max 0 ((P 7) - (O 10))))]) (cs' := 0) (sl' := 0) (m_minL G.fl (a := (P 7)) (b := (O 10)) ⟨by omega, by omega⟩ ⟨by omega, by omega⟩) rfl rfl (Nat.le_of_ble_eq_true rfl) (zRm.ok rfl) dX7_ceded_38 (fun vq6 hq6 q6 => ?_)
    obtain ⟨_, _⟩ := q6
    subst vq6 hq6
    show VW θ Q E h 0 0 41 [(0, .ref p)] [.long (iL (min (P 7) (O 10))), .long (iL (max 0 ((P 7) - (O 10))))]
    refine v_aload_n G 0 rfl rfl dX7_ceded_41 ?_
    refine gX7_3 G hp rfl dX7_ceded_42 ?_
    refine gX7_176 G hx rfl dX7_ceded_45 ?_
    refine v_i2l G ⟨by omega, by omega⟩ dX7_ceded_48 ?_
    refine v_lmul G dX7_ceded_49 ?_
    refine v_ldc2 G (v := 1000) q1208 rfl dX7_ceded_50 ?_
    refine kX7_67 G (As := [.long (iL ((min (P 7) (O 10)) * (O 11))), .long (iL 1000)]) (rest := [.long (iL (max 0 ((P 7) - (O 10))))]) (cs' := 0) (sl' := 0) (m_down G.fl (a := ((min (P 7) (O 10)) * (O 11))) (b := 1000) ⟨by omega, by omega⟩ ⟨by decide, by decide⟩) rfl rfl (Nat.le_of_ble_eq_true rfl) (zRm.ok rfl) dX7_ceded_53 (fun vq7 hq7 q7 => ?_)
    obtain ⟨_, _⟩ := q7
    subst vq7 hq7
    show VW θ Q E h 0 0 56 [(0, .ref p)] [.long (iL (((min (P 7) (O 10)) * (O 11)) / 1000)), .long (iL (max 0 ((P 7) - (O 10))))]
    refine v_ladd G dX7_ceded_56 ?_
    exact v_lret G hQ ⟨by unfold cdS; first | rw [if_pos (by omega)] | rw [if_neg (by omega)], rfl⟩ (Nat.le_of_ble_eq_true rfl) (Nat.le_of_ble_eq_true rfl) dX7_ceded_57
  · refine v_lconst G (n := 0) (v0 := 0) rfl dX7_ceded_7 ?_
    exact v_lret G hQ ⟨by unfold cdS; first | rw [if_pos (by omega)] | rw [if_neg (by omega)], rfl⟩ (Nat.le_of_ble_eq_true rfl) (Nat.le_of_ble_eq_true rfl) dX7_ceded_8

set_option maxHeartbeats 4000000 in
theorem m_matur {l : Launch} (hfl : l.stackTraces = false) {E : zEn} {h : zHp} {p tgp li : Nat} {P : Nat → Int} {x : Nat} (hp : h p = some (tgp, .inr (6, polF P li x))) {tgx la pl bs gs so lt : Nat} {O : Nat → Int} (hx : h x = some (tgx, .inr (0, offF O la pl bs gs so lt))) {b wo sm : Int} (hok : okP (O 7) b wo sm P) (hrt : 0 ≤ O 14 ∧ O 14 ≤ 1000)  : CN l E yX7_maturity (ws_ yX7_maturity cX7_maturity 1 (some FieldType.long)) ({ frames := 3, cells := 0, slots := 0, locals := 68 } : Room) [.ref p] h (zR (.long (iL (mtS P (O 14)))) h) := by
  refine CN.of (by decide +kernel) hfl (Nat.le_of_ble_eq_true rfl) fun θ Q hl G hin hQ => ?_
  subst hl
  show VW θ Q E h 0 0 0 [(0, .ref p)] []
  have ho := hok
  unfold okP at ho
  refine v_aload_n G 0 rfl rfl dX7_maturity_0 ?_
  refine gX7_22 G hp rfl dX7_maturity_1 ?_
  refine v_iconst G dX7_maturity_4 ?_
  refine v_icmp_ne G 15 ⟨by omega, by omega⟩ ⟨by decide, by decide⟩ (by decide) dX7_maturity_5 (fun c1 => ?_) (fun c1 => ?_)
  · refine v_aload_n G 0 rfl rfl dX7_maturity_15 ?_
    refine gX7_22 G hp rfl dX7_maturity_16 ?_
    refine v_iconst G dX7_maturity_19 ?_
    refine v_icmp_ne G 27 ⟨by omega, by omega⟩ ⟨by decide, by decide⟩ (by decide) dX7_maturity_20 (fun c2 => ?_) (fun c2 => ?_)
    · refine v_aload_n G 0 rfl rfl dX7_maturity_27 ?_
      refine kX7_133 G (As := []) (rest := []) (cs' := 0) (sl' := 0) (m_assured G.fl hp) (zRcv.of G (ci := 6) rfl hp) rfl rfl (Nat.le_of_ble_eq_true rfl) (zRm.ok rfl) dX7_maturity_28 (fun vq3 hq3 q3 => ?_)
      obtain ⟨_, _⟩ := q3
      subst vq3 hq3
      show VW θ Q E h 0 0 31 [(0, .ref p)] [.long (iL (P 7 + P 9))]
      refine v_aload_n G 0 rfl rfl dX7_maturity_31 ?_
      refine kX7_164 G (As := []) (rest := [.long (iL (P 7 + P 9))]) (cs' := 0) (sl' := 0) (m_fbonus G.fl hp hx hok ⟨by omega, by omega⟩) (zRcv.of G (ci := 6) rfl hp) rfl rfl (Nat.le_of_ble_eq_true rfl) (zRm.ok rfl) dX7_maturity_32 (fun vq4 hq4 q4 => ?_)
      obtain ⟨_, _⟩ := q4
      subst vq4 hq4
      show VW θ Q E h 0 0 35 [(0, .ref p)] [.long (iL (fbS P (O 14))), .long (iL (P 7 + P 9))]
      refine v_ladd G dX7_maturity_35 ?_
      exact v_lret G hQ ⟨by unfold mtS; first | rw [if_pos (by omega)] | rw [if_neg (by omega), if_pos (by omega)] | rw [if_neg (by omega), if_neg (by omega)], rfl⟩ (Nat.le_of_ble_eq_true rfl) (Nat.le_of_ble_eq_true rfl) dX7_maturity_36
    · refine v_lconst G (n := 0) (v0 := 0) rfl dX7_maturity_23 ?_
      refine v_goto G 36 (by decide) dX7_maturity_24 ?_
      exact v_lret G hQ ⟨by unfold mtS; first | rw [if_pos (by omega)] | rw [if_neg (by omega), if_pos (by omega)] | rw [if_neg (by omega), if_neg (by omega)], rfl⟩ (Nat.le_of_ble_eq_true rfl) (Nat.le_of_ble_eq_true rfl) dX7_maturity_36
  · refine v_aload_n G 0 rfl rfl dX7_maturity_8 ?_
    refine gX7_25 G hp rfl dX7_maturity_9 ?_
    refine v_goto G 36 (by decide) dX7_maturity_12 ?_
    exact v_lret G hQ ⟨by unfold mtS; first | rw [if_pos (by omega)] | rw [if_neg (by omega), if_pos (by omega)] | rw [if_neg (by omega), if_neg (by omega)], rfl⟩ (Nat.le_of_ble_eq_true rfl) (Nat.le_of_ble_eq_true rfl) dX7_maturity_36

