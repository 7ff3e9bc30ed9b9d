/-! WALKS: lives and policies -/
set_option maxRecDepth 100000
set_option maxHeartbeats 4000000 in
theorem m_Life {l : Launch} (hfl : l.stackTraces = false) {E : zEn} {h : zHp} {f t : Nat} {b g wo sm : Int} (hg : 0 ≤ g ∧ g ≤ 7) (hwo : wo = g % 2) (hsm : sm = g / 2 % 2) (hf : h f = some (t, .inr (5, lifF 0 0 0)))  : CN l E yX6_init (ws_ yX6_init cX6_init 3 none) ({ frames := 1, cells := 0, slots := 0, locals := 20 } : Room) [.ref f, .int (iI b), .int (iI g)] h (zV (va_up h f (some (t, .inr (5, lifF b wo sm))))) := by
  refine CN.of (by decide +kernel) hfl (Nat.le_of_ble_eq_true rfl) fun θ Q hl G hin hQ => ?_
  subst hl
  show VW θ Q E h 0 0 0 [(0, .ref f), (1, .int (iI b)), (2, .int (iI g))] []
  refine v_aload_n G 0 rfl rfl dX6_init_0 ?_
  refine v_objInit G q1164 q130 q131 ⟨Nat.le_of_ble_eq_true rfl, Nat.le_of_ble_eq_true rfl⟩ dX6_init_1 ?_
  refine v_aload_n G 0 rfl rfl dX6_init_4 ?_
  refine v_iload_n G 1 rfl rfl dX6_init_5 ?_
  refine pX6_9 G hin hf (Nat.le_of_ble_eq_true rfl) dX6_init_6 ?_
  have f1 : (va_up h f (some (t, .inr (5, [.int (iI b), .int (iI 0), .int (iI 0)])))) f = some (t, .inr (5, [.int (iI b), .int (iI 0), .int (iI 0)])) := up_s
  show VW θ Q E (va_up h f (some (t, .inr (5, [.int (iI b), .int (iI 0), .int (iI 0)])))) 0 0 9 [(0, .ref f), (1, .int (iI b)), (2, .int (iI g))] []
  refine v_aload_n G 0 rfl rfl dX6_init_9 ?_
  refine v_iload_n G 2 rfl rfl dX6_init_10 ?_
  refine v_iconst G dX6_init_11 ?_
  refine v_iand G (and_1 hg) dX6_init_12 ?_
  refine v_if_eq G 20 ⟨by omega, by omega⟩ (by decide) dX6_init_13 (fun c2 => ?_) (fun c2 => ?_)
  · refine v_iconst G dX6_init_20 ?_
    refine pX6_15 G hin (by decide) f1 (Nat.le_of_ble_eq_true rfl) dX6_init_21 ?_
    refine VW.hpe up_up ?_
    have f3 : (va_up h f (some (t, .inr (5, [.int (iI b), .int (iI 0), .int (iI 0)])))) f = some (t, .inr (5, [.int (iI b), .int (iI 0), .int (iI 0)])) := up_s
    show VW θ Q E (va_up h f (some (t, .inr (5, [.int (iI b), .int (iI 0), .int (iI 0)])))) 0 0 24 [(0, .ref f), (1, .int (iI b)), (2, .int (iI g))] []
    refine v_aload_n G 0 rfl rfl dX6_init_24 ?_
    refine v_iload_n G 2 rfl rfl dX6_init_25 ?_
    refine v_iconst G dX6_init_26 ?_
    refine v_iand G (and_2 hg) dX6_init_27 ?_
    refine v_if_eq G 35 ⟨by omega, by omega⟩ (by decide) dX6_init_28 (fun c4 => ?_) (fun c4 => ?_)
    · refine v_iconst G dX6_init_35 ?_
      refine pX6_19 G hin (by decide) f3 (Nat.le_of_ble_eq_true rfl) dX6_init_36 ?_
      refine VW.hpe up_up ?_
      have f5 : (va_up h f (some (t, .inr (5, [.int (iI b), .int (iI 0), .int (iI 0)])))) f = some (t, .inr (5, [.int (iI b), .int (iI 0), .int (iI 0)])) := up_s
      show VW θ Q E (va_up h f (some (t, .inr (5, [.int (iI b), .int (iI 0), .int (iI 0)])))) 0 0 39 [(0, .ref f), (1, .int (iI b)), (2, .int (iI g))] []
      exact v_vret G hQ ⟨rfl, by rw [show wo = 0 by omega, show sm = 0 by omega]⟩ (Nat.le_of_ble_eq_true rfl) (Nat.le_of_ble_eq_true rfl) dX6_init_39
    · refine v_iconst G dX6_init_31 ?_
      refine v_goto G 36 (by decide) dX6_init_32 ?_
      refine pX6_19 G hin (by decide) f3 (Nat.le_of_ble_eq_true rfl) dX6_init_36 ?_
      refine VW.hpe up_up ?_
      have f6 : (va_up h f (some (t, .inr (5, [.int (iI b), .int (iI 0), .int (iI 1)])))) f = some (t, .inr (5, [.int (iI b), .int (iI 0), .int (iI 1)])) := up_s
      show VW θ Q E (va_up h f (some (t, .inr (5, [.int (iI b), .int (iI 0), .int (iI 1)])))) 0 0 39 [(0, .ref f), (1, .int (iI b)), (2, .int (iI g))] []
      exact v_vret G hQ ⟨rfl, by rw [show wo = 0 by omega, show sm = 1 by omega]⟩ (Nat.le_of_ble_eq_true rfl) (Nat.le_of_ble_eq_true rfl) dX6_init_39
  · refine v_iconst G dX6_init_16 ?_
    refine v_goto G 21 (by decide) dX6_init_17 ?_
    refine pX6_15 G hin (by decide) f1 (Nat.le_of_ble_eq_true rfl) dX6_init_21 ?_
    refine VW.hpe up_up ?_
    have f7 : (va_up h f (some (t, .inr (5, [.int (iI b), .int (iI 1), .int (iI 0)])))) f = some (t, .inr (5, [.int (iI b), .int (iI 1), .int (iI 0)])) := up_s
    show VW θ Q E (va_up h f (some (t, .inr (5, [.int (iI b), .int (iI 1), .int (iI 0)])))) 0 0 24 [(0, .ref f), (1, .int (iI b)), (2, .int (iI g))] []
    refine v_aload_n G 0 rfl rfl dX6_init_24 ?_
    refine v_iload_n G 2 rfl rfl dX6_init_25 ?_
    refine v_iconst G dX6_init_26 ?_
    refine v_iand G (and_2 hg) dX6_init_27 ?_
    refine v_if_eq G 35 ⟨by omega, by omega⟩ (by decide) dX6_init_28 (fun c8 => ?_) (fun c8 => ?_)
    · refine v_iconst G dX6_init_35 ?_
      refine pX6_19 G hin (by decide) f7 (Nat.le_of_ble_eq_true rfl) dX6_init_36 ?_
      refine VW.hpe up_up ?_
      have f9 : (va_up h f (some (t, .inr (5, [.int (iI b), .int (iI 1), .int (iI 0)])))) f = some (t, .inr (5, [.int (iI b), .int (iI 1), .int (iI 0)])) := up_s
      show VW θ Q E (va_up h f (some (t, .inr (5, [.int (iI b), .int (iI 1), .int (iI 0)])))) 0 0 39 [(0, .ref f), (1, .int (iI b)), (2, .int (iI g))] []
      exact v_vret G hQ ⟨rfl, by rw [show wo = 1 by omega, show sm = 0 by omega]⟩ (Nat.le_of_ble_eq_true rfl) (Nat.le_of_ble_eq_true rfl) dX6_init_39
    · refine v_iconst G dX6_init_31 ?_
      refine v_goto G 36 (by decide) dX6_init_32 ?_
      refine pX6_19 G hin (by decide) f7 (Nat.le_of_ble_eq_true rfl) dX6_init_36 ?_
      refine VW.hpe up_up ?_
      have f10 : (va_up h f (some (t, .inr (5, [.int (iI b), .int (iI 1), .int (iI 1)])))) f = some (t, .inr (5, [.int (iI b), .int (iI 1), .int (iI 1)])) := up_s
      show VW θ Q E (va_up h f (some (t, .inr (5, [.int (iI b), .int (iI 1), .int (iI 1)])))) 0 0 39 [(0, .ref f), (1, .int (iI b)), (2, .int (iI g))] []
      exact v_vret G hQ ⟨rfl, by rw [show wo = 1 by omega, show sm = 1 by omega]⟩ (Nat.le_of_ble_eq_true rfl) (Nat.le_of_ble_eq_true rfl) dX6_init_39

set_option maxHeartbeats 4000000 in
theorem m_mort {l : Launch} (hfl : l.stackTraces = false) {E : zEn} {h : zHp} {f t : Nat} {b wo sm y py pts c im : Int} (hq : okQ im c b wo sm y pts) (hpy : n32 py) (hf : h f = some (t, .inr (5, lifF b wo sm)))  : CN l E yX6_mortality (ws_ yX6_mortality cX6_mortality 10 (some FieldType.long)) ({ frames := 2, cells := 0, slots := 0, locals := 48 } : Room) [.ref f, .int (iI y), .int (iI py), .int (iI pts), .int (iI c), .int (iI im)] h (zR (.long (iL (qS im c b wo sm y py pts))) h) := by
  refine CN.of (by decide +kernel) hfl (Nat.le_of_ble_eq_true rfl) fun θ Q hl G hin hQ => ?_
  subst hl
  show VW θ Q E h 0 0 0 [(0, .ref f), (1, .int (iI y)), (2, .int (iI py)), (3, .int (iI pts)), (4, .int (iI c)), (5, .int (iI im))] []
  obtain ⟨h1, h2, h3, h4, h5, h6⟩ := hq
  refine v_aload_n G 0 rfl rfl dX6_mortality_0 ?_
  refine v_iload_n G 1 rfl rfl dX6_mortality_1 ?_
  refine kX6_22 G (As := [.int (iI y)]) (rest := []) (cs' := 0) (sl' := 0) (m_age G.fl (y := y) hf) (zRcv.of G (ci := 5) rfl hf) rfl rfl (Nat.le_of_ble_eq_true rfl) (zRm.ok rfl) dX6_mortality_2 (fun vq1 hq1 q1 => ?_)
  obtain ⟨_, _⟩ := q1
  subst vq1 hq1
  show VW θ Q E h 0 0 5 [(0, .ref f), (1, .int (iI y)), (2, .int (iI py)), (3, .int (iI pts)), (4, .int (iI c)), (5, .int (iI im))] [.int (iI (y - b))]
  refine v_i2l G ⟨by omega, by omega⟩ dX6_mortality_5 ?_
  refine v_lstore G (L' := [(6, .long (iL (y - b))), (0, .ref f), (1, .int (iI y)), (2, .int (iI py)), (3, .int (iI pts)), (4, .int (iI c)), (5, .int (iI im))]) (Nat.le_of_ble_eq_true rfl) rfl dX6_mortality_6 ?_
  refine v_lload G 0 rfl dX6_mortality_8 ?_
  refine v_ldc2 G (v := 110) q446 rfl dX6_mortality_10 ?_
  refine v_lcmp G ⟨by omega, by omega⟩ ⟨by decide, by decide⟩ dX6_mortality_13 ?_
  refine v_lif_lt G 21 (by decide) dX6_mortality_14 (fun c2 => ?_) (fun c2 => ?_)
  · have e5 := age5 (a := y - b) (by omega) (by omega)
    have b0 := q0S_bd (a := y - b) (by omega) (by omega)
    refine v_ldc2 G (v := 20) q448 rfl dX6_mortality_21 ?_
    refine v_lload G 0 rfl dX6_mortality_24 ?_
    refine v_lload G 0 rfl dX6_mortality_26 ?_
    refine v_lmul G dX6_mortality_28 ?_
    refine v_lload G 0 rfl dX6_mortality_29 ?_
    refine v_lmul G dX6_mortality_31 ?_
    refine v_lload G 0 rfl dX6_mortality_32 ?_
    refine v_lmul G dX6_mortality_34 ?_
    refine v_lload G 0 rfl dX6_mortality_35 ?_
    refine v_lmul G dX6_mortality_37 ?_
    refine v_ldc2 G (v := 1000000) q449 rfl dX6_mortality_38 ?_
    refine kX6_34 G (As := [.long (iL (((((y - b) * (y - b)) * (y - b)) * (y - b)) * (y - b))), .long (iL 1000000)]) (rest := [.long (iL 20)]) (cs' := 0) (sl' := 0) (m_down G.fl (a := (((((y - b) * (y - b)) * (y - b)) * (y - b)) * (y - b))) (b := 1000000) ⟨by omega, by omega⟩ ⟨by decide, by decide⟩) rfl rfl (Nat.le_of_ble_eq_true rfl) (zRm.ok rfl) dX6_mortality_41 (fun vq3 hq3 q3 => ?_)
    obtain ⟨_, _⟩ := q3
    subst vq3 hq3
    show VW θ Q E h 0 0 44 [(6, .long (iL (y - b))), (0, .ref f), (1, .int (iI y)), (2, .int (iI py)), (3, .int (iI pts)), (4, .int (iI c)), (5, .int (iI im))] [.long (iL ((((((y - b) * (y - b)) * (y - b)) * (y - b)) * (y - b)) / 1000000)), .long (iL 20)]
    refine v_ladd G dX6_mortality_44 ?_
    refine VW.cL (y := q0S (y - b)) (by subst_vars; rfl) ?_
    refine VW.nmL (fun q0 hq0 => ?_)
    rw [← hq0] at b0
    refine v_lstore G (L' := [(8, .long (iL q0)), (6, .long (iL (y - b))), (0, .ref f), (1, .int (iI y)), (2, .int (iI py)), (3, .int (iI pts)), (4, .int (iI c)), (5, .int (iI im))]) (Nat.le_of_ble_eq_true rfl) rfl dX6_mortality_45 ?_
    have J4 : ∀ (q1 : Int), (q1 = q1S wo q0) → VW θ Q E h 0 0 68 [(8, .long (iL q1)), (6, .long (iL (y - b))), (0, .ref f), (1, .int (iI y)), (2, .int (iI py)), (3, .int (iI pts)), (4, .int (iI c)), (5, .int (iI im))] [] := by
      intro q1 hq1
      have b1 := q1S_bd (w := wo) (q := q0) ⟨by omega, b0.2⟩
      rw [← hq1] at b1
      have J5 : ∀ (q2 : Int), (q2 = q2S sm q1) → VW θ Q E h 0 0 83 [(8, .long (iL q2)), (6, .long (iL (y - b))), (0, .ref f), (1, .int (iI y)), (2, .int (iI py)), (3, .int (iI pts)), (4, .int (iI c)), (5, .int (iI im))] [] := by
        intro q2 hq2
        have b2 := q2S_bd (s := sm) b1
        rw [← hq2] at b2
        have J6 : ∀ (q3 : Int), (q3 = q3S py q2) → VW θ Q E h 0 0 116 [(8, .long (iL q3)), (6, .long (iL (y - b))), (0, .ref f), (1, .int (iI y)), (2, .int (iI py)), (3, .int (iI pts)), (4, .int (iI c)), (5, .int (iI im))] [] := by
          intro q3 hq3
          have b3 := q3S_bd (py := py) b2
          rw [← hq3] at b3
          have J7 : ∀ (q4 : Int), (q4 = q4S im y q3) → VW θ Q E h 0 0 153 [(8, .long (iL q4)), (6, .long (iL (y - b))), (0, .ref f), (1, .int (iI y)), (2, .int (iI py)), (3, .int (iI pts)), (4, .int (iI c)), (5, .int (iI im))] [] := by
            intro q4 hq4
            have b4 := q4S_bd (imp := im) (y := y) h1.1 b3
            rw [← hq4] at b4
            have b5 := mul_bd2 b4 (show 0 ≤ 100 + pts ∧ 100 + pts ≤ 400 by omega)
            have b6 := mul_bd2 (show 0 ≤ q4 * (100 + pts) / 100 ∧ q4 * (100 + pts) / 100 ≤ 123248 by omega) h2
            refine v_lload G 0 rfl dX6_mortality_153 ?_
            refine v_bipush G rfl dX6_mortality_155 ?_
            refine v_iload_n G 5 rfl rfl dX6_mortality_157 ?_
            refine v_iadd G dX6_mortality_158 ?_
            refine v_i2l G ⟨by omega, by omega⟩ dX6_mortality_159 ?_
            refine v_lmul G dX6_mortality_160 ?_
            refine v_ldc2 G (v := 100) q465 rfl dX6_mortality_161 ?_
            refine kX6_34 G (As := [.long (iL (q4 * (100 + pts))), .long (iL 100)]) (rest := []) (cs' := 0) (sl' := 0) (m_down G.fl (a := (q4 * (100 + pts))) (b := 100) ⟨by omega, by omega⟩ ⟨by decide, by decide⟩) rfl rfl (Nat.le_of_ble_eq_true rfl) (zRm.ok rfl) dX6_mortality_164 (fun vq8 hq8 q8 => ?_)
            obtain ⟨_, _⟩ := q8
            subst vq8 hq8
            show VW θ Q E h 0 0 167 [(8, .long (iL q4)), (6, .long (iL (y - b))), (0, .ref f), (1, .int (iI y)), (2, .int (iI py)), (3, .int (iI pts)), (4, .int (iI c)), (5, .int (iI im))] [.long (iL ((q4 * (100 + pts)) / 100))]
            refine v_lstore G (L' := [(8, .long (iL ((q4 * (100 + pts)) / 100))), (6, .long (iL (y - b))), (0, .ref f), (1, .int (iI y)), (2, .int (iI py)), (3, .int (iI pts)), (4, .int (iI c)), (5, .int (iI im))]) (Nat.le_of_ble_eq_true rfl) rfl dX6_mortality_167 ?_
            refine v_ldc2 G (v := 100000) q447 rfl dX6_mortality_169 ?_
            refine v_lload G 0 rfl dX6_mortality_172 ?_
            refine v_iload G 6 rfl dX6_mortality_174 ?_
            refine v_i2l G ⟨by omega, by omega⟩ dX6_mortality_176 ?_
            refine v_lmul G dX6_mortality_177 ?_
            refine v_ldc2 G (v := 100) q465 rfl dX6_mortality_178 ?_
            refine kX6_34 G (As := [.long (iL (((q4 * (100 + pts)) / 100) * c)), .long (iL 100)]) (rest := [.long (iL 100000)]) (cs' := 0) (sl' := 0) (m_down G.fl (a := (((q4 * (100 + pts)) / 100) * c)) (b := 100) ⟨by omega, by omega⟩ ⟨by decide, by decide⟩) rfl rfl (Nat.le_of_ble_eq_true rfl) (zRm.ok rfl) dX6_mortality_181 (fun vq9 hq9 q9 => ?_)
            obtain ⟨_, _⟩ := q9
            subst vq9 hq9
            show VW θ Q E h 0 0 184 [(8, .long (iL ((q4 * (100 + pts)) / 100))), (6, .long (iL (y - b))), (0, .ref f), (1, .int (iI y)), (2, .int (iI py)), (3, .int (iI pts)), (4, .int (iI c)), (5, .int (iI im))] [.long (iL ((((q4 * (100 + pts)) / 100) * c) / 100)), .long (iL 100000)]
            refine kX6_48 G (As := [.long (iL 100000), .long (iL ((((q4 * (100 + pts)) / 100) * c) / 100))]) (rest := []) (cs' := 0) (sl' := 0) (m_minL G.fl (a := 100000) (b := ((((q4 * (100 + pts)) / 100) * c) / 100)) ⟨by decide, by decide⟩ ⟨by omega, by omega⟩) rfl rfl (Nat.le_of_ble_eq_true rfl) (zRm.ok rfl) dX6_mortality_184 (fun vq11 hq11 q11 => ?_)
            obtain ⟨_, _⟩ := q11
            subst vq11 hq11
            show VW θ Q E h 0 0 187 [(8, .long (iL ((q4 * (100 + pts)) / 100))), (6, .long (iL (y - b))), (0, .ref f), (1, .int (iI y)), (2, .int (iI py)), (3, .int (iI pts)), (4, .int (iI c)), (5, .int (iI im))] [.long (iL (min 100000 ((((q4 * (100 + pts)) / 100) * c) / 100)))]
            exact v_lret G hQ ⟨by rw [qS, if_neg (by omega)]; subst_vars; rfl, rfl⟩ (Nat.le_of_ble_eq_true rfl) (Nat.le_of_ble_eq_true rfl) dX6_mortality_187
          refine v_iload_n G 3 rfl rfl dX6_mortality_116 ?_
          refine v_sipush G rfl dX6_mortality_117 ?_
          refine v_icmp_le G 153 ⟨by omega, by omega⟩ ⟨by decide, by decide⟩ (by decide) dX6_mortality_120 (fun c12 => ?_) (fun c12 => ?_)
          · exact J7 q3 (by unfold q4S; subst_vars; first | rw [if_pos (by omega)] | rw [if_neg (by omega)])
          · have e6 := mul_bd2 h1 (show 0 ≤ y - 2000 ∧ y - 2000 ≤ 400 by omega)
            have e7 := mul_bd2 b3 (show 0 ≤ min 500 (im * (y - 2000)) ∧ min 500 (im * (y - 2000)) ≤ 500 by omega)
            refine v_lload G 0 rfl dX6_mortality_123 ?_
            refine v_lload G 0 rfl dX6_mortality_125 ?_
            refine v_ldc2 G (v := 500) q460 rfl dX6_mortality_127 ?_
            refine v_iload G 7 rfl dX6_mortality_130 ?_
            refine v_i2l G ⟨by omega, by omega⟩ dX6_mortality_132 ?_
            refine v_iload_n G 3 rfl rfl dX6_mortality_133 ?_
            refine v_sipush G rfl dX6_mortality_134 ?_
            refine v_isub G dX6_mortality_137 ?_
            refine v_i2l G ⟨by omega, by omega⟩ dX6_mortality_138 ?_
            refine v_lmul G dX6_mortality_139 ?_
            refine kX6_48 G (As := [.long (iL 500), .long (iL (im * (y - 2000)))]) (rest := [.long (iL q3), .long (iL q3)]) (cs' := 0) (sl' := 0) (m_minL G.fl (a := 500) (b := (im * (y - 2000))) ⟨by decide, by decide⟩ ⟨by omega, by omega⟩) rfl rfl (Nat.le_of_ble_eq_true rfl) (zRm.ok rfl) dX6_mortality_140 (fun vq14 hq14 q14 => ?_)
            obtain ⟨_, _⟩ := q14
            subst vq14 hq14
            show VW θ Q E h 0 0 143 [(8, .long (iL q3)), (6, .long (iL (y - b))), (0, .ref f), (1, .int (iI y)), (2, .int (iI py)), (3, .int (iI pts)), (4, .int (iI c)), (5, .int (iI im))] [.long (iL (min 500 (im * (y - 2000)))), .long (iL q3), .long (iL q3)]
            refine v_lmul G dX6_mortality_143 ?_
            refine v_ldc2 G (v := 1000) q464 rfl dX6_mortality_144 ?_
            refine kX6_34 G (As := [.long (iL (q3 * (min 500 (im * (y - 2000))))), .long (iL 1000)]) (rest := [.long (iL q3)]) (cs' := 0) (sl' := 0) (m_down G.fl (a := (q3 * (min 500 (im * (y - 2000))))) (b := 1000) ⟨by omega, by omega⟩ ⟨by decide, by decide⟩) rfl rfl (Nat.le_of_ble_eq_true rfl) (zRm.ok rfl) dX6_mortality_147 (fun vq15 hq15 q15 => ?_)
            obtain ⟨_, _⟩ := q15
            subst vq15 hq15
            show VW θ Q E h 0 0 150 [(8, .long (iL q3)), (6, .long (iL (y - b))), (0, .ref f), (1, .int (iI y)), (2, .int (iI py)), (3, .int (iI pts)), (4, .int (iI c)), (5, .int (iI im))] [.long (iL ((q3 * (min 500 (im * (y - 2000)))) / 1000)), .long (iL q3)]
            refine v_lsub G dX6_mortality_150 ?_
            refine v_lstore G (L' := [(8, .long (iL (q3 - ((q3 * (min 500 (im * (y - 2000)))) / 1000)))), (6, .long (iL (y - b))), (0, .ref f), (1, .int (iI y)), (2, .int (iI py)), (3, .int (iI pts)), (4, .int (iI c)), (5, .int (iI im))]) (Nat.le_of_ble_eq_true rfl) rfl dX6_mortality_151 ?_
            exact J7 (q3 - ((q3 * (min 500 (im * (y - 2000)))) / 1000)) (by unfold q4S; subst_vars; first | rw [if_pos (by omega)] | rw [if_neg (by omega)])
        refine v_iload_n G 4 rfl rfl dX6_mortality_83 ?_
        refine v_if_ne G 97 ⟨by omega, by omega⟩ (by decide) dX6_mortality_84 (fun c16 => ?_) (fun c16 => ?_)
        · refine v_iload_n G 4 rfl rfl dX6_mortality_97 ?_
          refine v_iconst G dX6_mortality_98 ?_
          refine v_icmp_ne G 116 ⟨by omega, by omega⟩ ⟨by decide, by decide⟩ (by decide) dX6_mortality_99 (fun c17 => ?_) (fun c17 => ?_)
          · exact J6 q2 (by first | (exfalso; omega) | skip; unfold q3S; first | rw [if_pos (by omega)] | rw [if_neg (by omega), if_pos (by omega)] | rw [if_neg (by omega), if_neg (by omega)])
          · refine v_lload G 0 rfl dX6_mortality_102 ?_
            refine v_ldc2 G (v := 3) q459 rfl dX6_mortality_104 ?_
            refine v_lmul G dX6_mortality_107 ?_
            refine v_ldc2 G (v := 4) q456 rfl dX6_mortality_108 ?_
            refine kX6_34 G (As := [.long (iL (q2 * 3)), .long (iL 4)]) (rest := []) (cs' := 0) (sl' := 0) (m_down G.fl (a := (q2 * 3)) (b := 4) ⟨by omega, by omega⟩ ⟨by decide, by decide⟩) rfl rfl (Nat.le_of_ble_eq_true rfl) (zRm.ok rfl) dX6_mortality_111 (fun vq18 hq18 q18 => ?_)
            obtain ⟨_, _⟩ := q18
            subst vq18 hq18
            show VW θ Q E h 0 0 114 [(8, .long (iL q2)), (6, .long (iL (y - b))), (0, .ref f), (1, .int (iI y)), (2, .int (iI py)), (3, .int (iI pts)), (4, .int (iI c)), (5, .int (iI im))] [.long (iL ((q2 * 3) / 4))]
            refine v_lstore G (L' := [(8, .long (iL ((q2 * 3) / 4))), (6, .long (iL (y - b))), (0, .ref f), (1, .int (iI y)), (2, .int (iI py)), (3, .int (iI pts)), (4, .int (iI c)), (5, .int (iI im))]) (Nat.le_of_ble_eq_true rfl) rfl dX6_mortality_114 ?_
            exact J6 ((q2 * 3) / 4) (by first | (exfalso; omega) | skip; unfold q3S; first | rw [if_pos (by omega)] | rw [if_neg (by omega), if_pos (by omega)] | rw [if_neg (by omega), if_neg (by omega)])
        · refine v_lload G 0 rfl dX6_mortality_87 ?_
          refine v_ldc2 G (v := 2) q458 rfl dX6_mortality_89 ?_
          refine kX6_34 G (As := [.long (iL q2), .long (iL 2)]) (rest := []) (cs' := 0) (sl' := 0) (m_down G.fl (a := q2) (b := 2) ⟨by omega, by omega⟩ ⟨by decide, by decide⟩) rfl rfl (Nat.le_of_ble_eq_true rfl) (zRm.ok rfl) dX6_mortality_92 (fun vq19 hq19 q19 => ?_)
          obtain ⟨_, _⟩ := q19
          subst vq19 hq19
          show VW θ Q E h 0 0 95 [(8, .long (iL q2)), (6, .long (iL (y - b))), (0, .ref f), (1, .int (iI y)), (2, .int (iI py)), (3, .int (iI pts)), (4, .int (iI c)), (5, .int (iI im))] [.long (iL (q2 / 2))]
          refine v_lstore G (L' := [(8, .long (iL (q2 / 2))), (6, .long (iL (y - b))), (0, .ref f), (1, .int (iI y)), (2, .int (iI py)), (3, .int (iI pts)), (4, .int (iI c)), (5, .int (iI im))]) (Nat.le_of_ble_eq_true rfl) rfl dX6_mortality_95 ?_
          refine v_iload_n G 4 rfl rfl dX6_mortality_97 ?_
          refine v_iconst G dX6_mortality_98 ?_
          refine v_icmp_ne G 116 ⟨by omega, by omega⟩ ⟨by decide, by decide⟩ (by decide) dX6_mortality_99 (fun c20 => ?_) (fun c20 => ?_)
          · exact J6 (q2 / 2) (by first | (exfalso; omega) | skip; unfold q3S; first | rw [if_pos (by omega)] | rw [if_neg (by omega), if_pos (by omega)] | rw [if_neg (by omega), if_neg (by omega)])
          · refine v_lload G 0 rfl dX6_mortality_102 ?_
            refine v_ldc2 G (v := 3) q459 rfl dX6_mortality_104 ?_
            refine v_lmul G dX6_mortality_107 ?_
            refine v_ldc2 G (v := 4) q456 rfl dX6_mortality_108 ?_
            refine kX6_34 G (As := [.long (iL ((q2 / 2) * 3)), .long (iL 4)]) (rest := []) (cs' := 0) (sl' := 0) (m_down G.fl (a := ((q2 / 2) * 3)) (b := 4) ⟨by omega, by omega⟩ ⟨by decide, by decide⟩) rfl rfl (Nat.le_of_ble_eq_true rfl) (zRm.ok rfl) dX6_mortality_111 (fun vq21 hq21 q21 => ?_)
            obtain ⟨_, _⟩ := q21
            subst vq21 hq21
            show VW θ Q E h 0 0 114 [(8, .long (iL (q2 / 2))), (6, .long (iL (y - b))), (0, .ref f), (1, .int (iI y)), (2, .int (iI py)), (3, .int (iI pts)), (4, .int (iI c)), (5, .int (iI im))] [.long (iL (((q2 / 2) * 3) / 4))]
            refine v_lstore G (L' := [(8, .long (iL (((q2 / 2) * 3) / 4))), (6, .long (iL (y - b))), (0, .ref f), (1, .int (iI y)), (2, .int (iI py)), (3, .int (iI pts)), (4, .int (iI c)), (5, .int (iI im))]) (Nat.le_of_ble_eq_true rfl) rfl dX6_mortality_114 ?_
            exact J6 (((q2 / 2) * 3) / 4) (by first | (exfalso; omega) | skip; unfold q3S; first | rw [if_pos (by omega)] | rw [if_neg (by omega), if_pos (by omega)] | rw [if_neg (by omega), if_neg (by omega)])
      refine v_aload_n G 2 rfl rfl dX6_mortality_68 ?_
      refine gX6_19 G hf rfl dX6_mortality_69 ?_
      refine v_if_eq G 83 ⟨by omega, by omega⟩ (by decide) dX6_mortality_72 (fun c22 => ?_) (fun c22 => ?_)
      · exact J5 q1 (by unfold q2S; first | rw [if_pos (by omega)] | rw [if_neg (by omega)])
      · refine v_lload G 0 rfl dX6_mortality_75 ?_
        refine v_ldc2 G (v := 2) q458 rfl dX6_mortality_77 ?_
        refine v_lmul G dX6_mortality_80 ?_
        refine v_lstore G (L' := [(8, .long (iL (q1 * 2))), (6, .long (iL (y - b))), (0, .ref f), (1, .int (iI y)), (2, .int (iI py)), (3, .int (iI pts)), (4, .int (iI c)), (5, .int (iI im))]) (Nat.le_of_ble_eq_true rfl) rfl dX6_mortality_81 ?_
        exact J5 (q1 * 2) (by unfold q2S; first | rw [if_pos (by omega)] | rw [if_neg (by omega)])
    refine v_aload_n G 2 rfl rfl dX6_mortality_47 ?_
    refine gX6_15 G hf rfl dX6_mortality_48 ?_
    refine v_if_eq G 68 ⟨by omega, by omega⟩ (by decide) dX6_mortality_51 (fun c23 => ?_) (fun c23 => ?_)
    · exact J4 q0 (by unfold q1S; subst_vars; first | rw [if_pos (by omega)] | rw [if_neg (by omega)])
    · refine v_lload G 0 rfl dX6_mortality_54 ?_
      refine v_ldc2 G (v := 4) q456 rfl dX6_mortality_56 ?_
      refine v_lmul G dX6_mortality_59 ?_
      refine v_ldc2 G (v := 5) q457 rfl dX6_mortality_60 ?_
      refine kX6_34 G (As := [.long (iL (q0 * 4)), .long (iL 5)]) (rest := []) (cs' := 0) (sl' := 0) (m_down G.fl (a := (q0 * 4)) (b := 5) ⟨by omega, by omega⟩ ⟨by decide, by decide⟩) rfl rfl (Nat.le_of_ble_eq_true rfl) (zRm.ok rfl) dX6_mortality_63 (fun vq24 hq24 q24 => ?_)
      obtain ⟨_, _⟩ := q24
      subst vq24 hq24
      show VW θ Q E h 0 0 66 [(8, .long (iL q0)), (6, .long (iL (y - b))), (0, .ref f), (1, .int (iI y)), (2, .int (iI py)), (3, .int (iI pts)), (4, .int (iI c)), (5, .int (iI im))] [.long (iL ((q0 * 4) / 5))]
      refine v_lstore G (L' := [(8, .long (iL ((q0 * 4) / 5))), (6, .long (iL (y - b))), (0, .ref f), (1, .int (iI y)), (2, .int (iI py)), (3, .int (iI pts)), (4, .int (iI c)), (5, .int (iI im))]) (Nat.le_of_ble_eq_true rfl) rfl dX6_mortality_66 ?_
      exact J4 ((q0 * 4) / 5) (by unfold q1S; subst_vars; first | rw [if_pos (by omega)] | rw [if_neg (by omega)])
  · refine v_ldc2 G (v := 100000) q447 rfl dX6_mortality_17 ?_
    exact v_lret G hQ ⟨by rw [qS, if_pos (by omega)], rfl⟩ (Nat.le_of_ble_eq_true rfl) (Nat.le_of_ble_eq_true rfl) dX6_mortality_20

set_option maxHeartbeats 4000000 in
theorem m_isAnnuity {l : Launch} (hfl : l.stackTraces = false) {E : zEn} {h : zHp} {p tgp li : Nat} {P : Nat → Int} {x : Nat} (hp : h p = some (tgp, .inr (6, polF P li x))) (hk : 0 ≤ P 1 ∧ P 1 ≤ 3)  : CN l E yX7_isAnnuity (ws_ yX7_isAnnuity cX7_isAnnuity 1 (some FieldType.boolean)) ({ frames := 0, cells := 0, slots := 0, locals := 0 } : Room) [.ref p] h (zR (.int (iI (if P 1 = 3 then 1 else 0))) h) := by
  refine CN.of (by decide +kernel) hfl (Nat.le_of_ble_eq_true rfl) fun θ Q hl G hin hQ => ?_
  subst hl
  show VW θ Q E h 0 0 0 [(0, .ref p)] []
  refine v_aload_n G 0 rfl rfl dX7_isAnnuity_0 ?_
  refine gX7_22 G hp rfl dX7_isAnnuity_1 ?_
  refine v_iconst G dX7_isAnnuity_4 ?_
  refine v_icmp_ne G 12 ⟨by omega, by omega⟩ ⟨by decide, by decide⟩ (by decide) dX7_isAnnuity_5 (fun c1 => ?_) (fun c1 => ?_)
  · refine v_iconst G dX7_isAnnuity_12 ?_
    exact v_zret G hQ (by decide) ⟨by congr 3; omega, rfl⟩ (Nat.le_of_ble_eq_true rfl) (Nat.le_of_ble_eq_true rfl) dX7_isAnnuity_13
  · refine v_iconst G dX7_isAnnuity_8 ?_
    refine v_goto G 13 (by decide) dX7_isAnnuity_9 ?_
    exact v_zret G hQ (by decide) ⟨by congr 3; omega, rfl⟩ (Nat.le_of_ble_eq_true rfl) (Nat.le_of_ble_eq_true rfl) dX7_isAnnuity_13

set_option maxHeartbeats 4000000 in
theorem m_isLiving {l : Launch} (hfl : l.stackTraces = false) {E : zEn} {h : zHp} {p tgp li : Nat} {P : Nat → Int} {x : Nat} (hp : h p = some (tgp, .inr (6, polF P li x))) (hk : 0 ≤ P 12 ∧ P 12 ≤ 7)  : CN l E yX7_isLiving (ws_ yX7_isLiving cX7_isLiving 1 (some FieldType.boolean)) ({ frames := 0, cells := 0, slots := 0, locals := 0 } : Room) [.ref p] h (zR (.int (iI (if P 12 ≤ 3 then 1 else 0))) h) := by
  refine CN.of (by decide +kernel) hfl (Nat.le_of_ble_eq_true rfl) fun θ Q hl G hin hQ => ?_
  subst hl
  show VW θ Q E h 0 0 0 [(0, .ref p)] []
  refine v_aload_n G 0 rfl rfl dX7_isLiving_0 ?_
  refine gX7_15 G hp rfl dX7_isLiving_1 ?_
  refine v_iconst G dX7_isLiving_4 ?_
  refine v_icmp_gt G 12 ⟨by omega, by omega⟩ ⟨by decide, by decide⟩ (by decide) dX7_isLiving_5 (fun c1 => ?_) (fun c1 => ?_)
  · refine v_iconst G dX7_isLiving_12 ?_
    exact v_zret G hQ (by decide) ⟨by congr 3; omega, rfl⟩ (Nat.le_of_ble_eq_true rfl) (Nat.le_of_ble_eq_true rfl) dX7_isLiving_13
  · refine v_iconst G dX7_isLiving_8 ?_
    refine v_goto G 13 (by decide) dX7_isLiving_9 ?_
    exact v_zret G hQ (by decide) ⟨by congr 3; omega, rfl⟩ (Nat.le_of_ble_eq_true rfl) (Nat.le_of_ble_eq_true rfl) dX7_isLiving_13

set_option maxHeartbeats 4000000 in
theorem m_isOpen {l : Launch} (hfl : l.stackTraces = false) {E : zEn} {h : zHp} {p tgp li : Nat} {P : Nat → Int} {x : Nat} (hp : h p = some (tgp, .inr (6, polF P li x))) (hk : 0 ≤ P 12 ∧ P 12 ≤ 7)  : CN l E yX7_isOpen (ws_ yX7_isOpen cX7_isOpen 1 (some FieldType.boolean)) ({ frames := 0, cells := 0, slots := 0, locals := 0 } : Room) [.ref p] h (zR (.int (iI (if P 12 ≤ 1 then 1 else 0))) h) := by
  refine CN.of (by decide +kernel) hfl (Nat.le_of_ble_eq_true rfl) fun θ Q hl G hin hQ => ?_
  subst hl
  show VW θ Q E h 0 0 0 [(0, .ref p)] []
  refine v_aload_n G 0 rfl rfl dX7_isOpen_0 ?_
  refine gX7_15 G hp rfl dX7_isOpen_1 ?_
  refine v_if_eq G 15 ⟨by omega, by omega⟩ (by decide) dX7_isOpen_4 (fun c1 => ?_) (fun c1 => ?_)
  · refine v_iconst G dX7_isOpen_15 ?_
    refine v_goto G 20 (by decide) dX7_isOpen_16 ?_
    exact v_zret G hQ (by decide) ⟨by congr 3; omega, rfl⟩ (Nat.le_of_ble_eq_true rfl) (Nat.le_of_ble_eq_true rfl) dX7_isOpen_20
  · refine v_aload_n G 0 rfl rfl dX7_isOpen_7 ?_
    refine gX7_15 G hp rfl dX7_isOpen_8 ?_
    refine v_iconst G dX7_isOpen_11 ?_
    refine v_icmp_ne G 19 ⟨by omega, by omega⟩ ⟨by decide, by decide⟩ (by decide) dX7_isOpen_12 (fun c2 => ?_) (fun c2 => ?_)
    · refine v_iconst G dX7_isOpen_19 ?_
      exact v_zret G hQ (by decide) ⟨by congr 3; omega, rfl⟩ (Nat.le_of_ble_eq_true rfl) (Nat.le_of_ble_eq_true rfl) dX7_isOpen_20
    · refine v_iconst G dX7_isOpen_15 ?_
      refine v_goto G 20 (by decide) dX7_isOpen_16 ?_
      exact v_zret G hQ (by decide) ⟨by congr 3; omega, rfl⟩ (Nat.le_of_ble_eq_true rfl) (Nat.le_of_ble_eq_true rfl) dX7_isOpen_20

set_option maxHeartbeats 4000000 in
theorem m_hasValue {l : Launch} (hfl : l.stackTraces = false) {E : zEn} {h : zHp} {p tgp li : Nat} {P : Nat → Int} {x : Nat} (hp : h p = some (tgp, .inr (6, polF P li x))) (hk : 0 ≤ P 1 ∧ P 1 ≤ 3)  : CN l E yX7_hasValue (ws_ yX7_hasValue cX7_hasValue 1 (some FieldType.boolean)) ({ frames := 0, cells := 0, slots := 0, locals := 0 } : Room) [.ref p] h (zR (.int (iI (if P 1 ≤ 1 then 1 else 0))) h) := by
  refine CN.of (by decide +kernel) hfl (Nat.le_of_ble_eq_true rfl) fun θ Q hl G hin hQ => ?_
  subst hl
  show VW θ Q E h 0 0 0 [(0, .ref p)] []
  refine v_aload_n G 0 rfl rfl dX7_hasValue_0 ?_
  refine gX7_22 G hp rfl dX7_hasValue_1 ?_
  refine v_if_eq G 15 ⟨by omega, by omega⟩ (by decide) dX7_hasValue_4 (fun c1 => ?_) (fun c1 => ?_)
  · refine v_iconst G dX7_hasValue_15 ?_
    refine v_goto G 20 (by decide) dX7_hasValue_16 ?_
    exact v_zret G hQ (by decide) ⟨by congr 3; omega, rfl⟩ (Nat.le_of_ble_eq_true rfl) (Nat.le_of_ble_eq_true rfl) dX7_hasValue_20
  · refine v_aload_n G 0 rfl rfl dX7_hasValue_7 ?_
    refine gX7_22 G hp rfl dX7_hasValue_8 ?_
    refine v_iconst G dX7_hasValue_11 ?_
    refine v_icmp_ne G 19 ⟨by omega, by omega⟩ ⟨by decide, by decide⟩ (by decide) dX7_hasValue_12 (fun c2 => ?_) (fun c2 => ?_)
    · refine v_iconst G dX7_hasValue_19 ?_
      exact v_zret G hQ (by decide) ⟨by congr 3; omega, rfl⟩ (Nat.le_of_ble_eq_true rfl) (Nat.le_of_ble_eq_true rfl) dX7_hasValue_20
    · refine v_iconst G dX7_hasValue_15 ?_
      refine v_goto G 20 (by decide) dX7_hasValue_16 ?_
      exact v_zret G hQ (by decide) ⟨by congr 3; omega, rfl⟩ (Nat.le_of_ble_eq_true rfl) (Nat.le_of_ble_eq_true rfl) dX7_hasValue_20

set_option maxHeartbeats 4000000 in
theorem m_assured {l : Launch} (hfl : l.stackTraces = false) {E : zEn} {h : zHp} {p tgp li : Nat} {P : Nat → Int} {x : Nat} (hp : h p = some (tgp, .inr (6, polF P li x)))  : CN l E yX7_assured (ws_ yX7_assured cX7_assured 1 (some FieldType.long)) ({ frames := 0, cells := 0, slots := 0, locals := 0 } : Room) [.ref p] h (zR (.long (iL (P 7 + P 9))) h) := by
  refine CN.of (by decide +kernel) hfl (Nat.le_of_ble_eq_true rfl) fun θ Q hl G hin hQ => ?_
  subst hl
  show VW θ Q E h 0 0 0 [(0, .ref p)] []
  refine v_aload_n G 0 rfl rfl dX7_assured_0 ?_
  refine gX7_25 G hp rfl dX7_assured_1 ?_
  refine v_aload_n G 0 rfl rfl dX7_assured_4 ?_
  refine gX7_77 G hp rfl dX7_assured_5 ?_
  refine v_ladd G dX7_assured_8 ?_
  exact v_lret G hQ ⟨rfl, rfl⟩ (Nat.le_of_ble_eq_true rfl) (Nat.le_of_ble_eq_true rfl) dX7_assured_9

set_option maxHeartbeats 4000000 in
theorem m_isPaidUp {l : Launch} (hfl : l.stackTraces = false) {E : zEn} {h : zHp} {p tgp li : Nat} {P : Nat → Int} {x : Nat} (hp : h p = some (tgp, .inr (6, polF P li x))) (hk : P 17 = 0 ∨ P 17 = 1)  : CN l E yX7_isPaidUp (ws_ yX7_isPaidUp cX7_isPaidUp 1 (some FieldType.boolean)) ({ frames := 0, cells := 0, slots := 0, locals := 0 } : Room) [.ref p] h (zR (.int (iI (P 17))) h) := by
  refine CN.of (by decide +kernel) hfl (Nat.le_of_ble_eq_true rfl) fun θ Q hl G hin hQ => ?_
  subst hl
  show VW θ Q E h 0 0 0 [(0, .ref p)] []
  refine v_aload_n G 0 rfl rfl dX7_isPaidUp_0 ?_
  refine gX7_148 G hp rfl dX7_isPaidUp_1 ?_
  exact v_zret G hQ (by omega) ⟨rfl, rfl⟩ (Nat.le_of_ble_eq_true rfl) (Nat.le_of_ble_eq_true rfl) dX7_isPaidUp_4

set_option maxHeartbeats 4000000 in
theorem m_pmort {l : Launch} (hfl : l.stackTraces = false) {E : zEn} {h : zHp} {p tgp li : Nat} {P : Nat → Int} {x : Nat} (hp : h p = some (tgp, .inr (6, polF P li x))) {tgl : Nat} {b wo sm : Int} (hli : h li = some (tgl, .inr (5, lifF b wo sm))) {lw tgw : Nat} {i c z : Int} (hlw : h lw = some (tgw, .inr (1, lawF i c z))) {tgx la pl bs gs so lt : Nat} {O : Nat → Int} (hx : h x = some (tgx, .inr (0, offF O la pl bs gs so lt))) {y pts : Int} (hok : okP (O 7) b wo sm P) (how : okW i c z) (hy : P 2 ≤ y ∧ y ≤ 2400) (hpts : 0 ≤ pts ∧ pts ≤ 300)  : CN l E yX7_mortality (ws_ yX7_mortality cX7_mortality 4 (some FieldType.long)) ({ frames := 3, cells := 0, slots := 0, locals := 77 } : Room) [.ref p, .ref lw, .int (iI y), .int (iI pts)] h (zR (.long (iL (pqS (O 7) c b wo sm (P 2) pts y))) h) := by
  refine CN.of (by decide +kernel) hfl (Nat.le_of_ble_eq_true rfl) fun θ Q hl G hin hQ => ?_
  subst hl
  show VW θ Q E h 0 0 0 [(0, .ref p), (1, .ref lw), (2, .int (iI y)), (3, .int (iI pts))] []
  have ho := hok
  unfold okP at ho
  have hw9 := how
  unfold okW at hw9
  refine v_aload_n G 0 rfl rfl dX7_mortality_0 ?_
  refine gX7_46 G hp rfl dX7_mortality_1 ?_
  refine v_iload_n G 2 rfl rfl dX7_mortality_4 ?_
  refine v_iload_n G 2 rfl rfl dX7_mortality_5 ?_
  refine v_aload_n G 0 rfl rfl dX7_mortality_6 ?_
  refine gX7_35 G hp rfl dX7_mortality_7 ?_
  refine v_isub G dX7_mortality_10 ?_
  refine v_iload_n G 3 rfl rfl dX7_mortality_11 ?_
  refine v_aload_n G 1 rfl rfl dX7_mortality_12 ?_
  refine gX7_80 G hlw rfl dX7_mortality_13 ?_
  refine v_aload_n G 0 rfl rfl dX7_mortality_16 ?_
  refine gX7_3 G hp rfl dX7_mortality_17 ?_
  refine gX7_85 G hx rfl dX7_mortality_20 ?_
  refine kX7_88 G (As := [.int (iI y), .int (iI (y - (P 2))), .int (iI pts), .int (iI c), .int (iI (O 7))]) (rest := []) (cs' := 0) (sl' := 0) (m_mort G.fl (y := y) (py := (y - (P 2))) (pts := pts) (c := c) (im := (O 7)) (by unfold okQ; omega) ⟨by omega, by omega⟩ hli) (zRcv.of G (ci := 5) rfl hli) rfl rfl (Nat.le_of_ble_eq_true rfl) (zRm.ok rfl) dX7_mortality_23 (fun vq1 hq1 q1 => ?_)
  obtain ⟨_, _⟩ := q1
  subst vq1 hq1
  show VW θ Q E h 0 0 26 [(0, .ref p), (1, .ref lw), (2, .int (iI y)), (3, .int (iI pts))] [.long (iL (qS (O 7) c b wo sm y (y - (P 2)) pts))]
  exact v_lret G hQ ⟨rfl, rfl⟩ (Nat.le_of_ble_eq_true rfl) (Nat.le_of_ble_eq_true rfl) dX7_mortality_26

set_option maxHeartbeats 4000000 in
theorem m_values {l : Launch} (hfl : l.stackTraces = false) {E : zEn} {h : zHp} {p tgp li : Nat} {P : Nat → Int} {x : Nat} (hp : h p = some (tgp, .inr (6, polF P li x))) {tgl : Nat} {b wo sm : Int} (hli : h li = some (tgl, .inr (5, lifF b wo sm))) {lw tgw : Nat} {i c z : Int} (hlw : h lw = some (tgw, .inr (1, lawF i c z))) {tgx la pl bs gs so lt : Nat} {O : Nat → Int} (hx : h x = some (tgx, .inr (0, offF O la pl bs gs so lt))) {y pts : Int} (hok : okP (O 7) b wo sm P) (how : okW i c z) (hy : P 2 ≤ y ∧ y ≤ P 3) (hpts : 0 ≤ pts ∧ pts ≤ 300)  : CN l E yX7_values (ws_ yX7_values cX7_values 6 (some (FieldType.object "Lifeoffice$Values"))) ({ frames := 4, cells := 1, slots := 3, locals := 100 } : Room) [.ref p, .ref lw, .int (iI y), .int (iI pts)] h (fun v h' => ∃ q : Nat, h q = none ∧ v = some (.ref q) ∧ h' = va_up h q (some (9000, .inr (4, valF (vD (pqS (O 7) c b wo sm (P 2) pts) i (P 3) (d0S (P 1)) (P 3 - y).toNat) (vP (pqS (O 7) c b wo sm (P 2) pts) i (P 3) (P 3 - y).toNat) (vN (pqS (O 7) c b wo sm (P 2) pts) i (P 3) (P 3 - y).toNat))))) := by
  refine CN.of (by decide +kernel) hfl (Nat.le_of_ble_eq_true rfl) fun θ Q hl G hin hQ => ?_
  subst hl
  show VW θ Q E h 0 0 0 [(0, .ref p), (1, .ref lw), (2, .int (iI y)), (3, .int (iI pts))] []
  have ho := hok
  unfold okP at ho
  have hw9 := how
  unfold okW at hw9
  have hr := okP_q hok how hpts
  refine v_new G 9000 (ci := 4) (C := RX5) (T := TX5) (N := 3) (fs := [.long (iL 0), .long (iL 0), .long (iL 0)]) in_X5 tyX5 tyX5_ok rfl q407 q408 q101 (zfs rfl) (Nat.le_of_ble_eq_true rfl) (Nat.le_of_ble_eq_true rfl) dX7_values_0 (fun q1 hq1 => ?_)
  have f2 := up_o (y := (9000, .inr (4, [.long (iL 0), .long (iL 0), .long (iL 0)]))) hp hq1
  have f3 := up_o (y := (9000, .inr (4, [.long (iL 0), .long (iL 0), .long (iL 0)]))) hli hq1
  have f4 := up_o (y := (9000, .inr (4, [.long (iL 0), .long (iL 0), .long (iL 0)]))) hlw hq1
  have f5 := up_o (y := (9000, .inr (4, [.long (iL 0), .long (iL 0), .long (iL 0)]))) hx hq1
  have f6 : (va_up h q1 (some (9000, .inr (4, [.long (iL 0), .long (iL 0), .long (iL 0)])))) q1 = some (9000, .inr (4, [.long (iL 0), .long (iL 0), .long (iL 0)])) := up_s
  show VW θ Q E (va_up h q1 (some (9000, .inr (4, [.long (iL 0), .long (iL 0), .long (iL 0)])))) 1 3 3 [(0, .ref p), (1, .ref lw), (2, .int (iI y)), (3, .int (iI pts))] [.ref q1]
  refine v_dup G rfl dX7_values_3 ?_
  have J7 : ∀ (d0 : Int), (d0 = d0S (P 1)) → VW θ Q E (va_up h q1 (some (9000, .inr (4, [.long (iL 0), .long (iL 0), .long (iL 0)])))) 1 3 18 [(0, .ref p), (1, .ref lw), (2, .int (iI y)), (3, .int (iI pts))] [.long (iL d0), .ref q1, .ref q1] := by
    intro d0 hd0
    have hd := d0S_bd (P 1)
    rw [← hd0] at hd
    refine kX7_103 G (As := [.long (iL d0)]) (rest := [.ref q1]) (cs' := 1) (sl' := 3) (m_Values G.fl (b := d0) f6) rfl rfl (Nat.le_of_ble_eq_true rfl) (zRm.ok rfl) dX7_values_18 (fun vq8 hq8 q8 => ?_)
    obtain ⟨_, _⟩ := q8
    subst vq8 hq8
    refine VW.hpe up_up ?_
    have f9 : (va_up h q1 (some (9000, .inr (4, [.long (iL d0), .long (iL 0), .long (iL 0)])))) q1 = some (9000, .inr (4, [.long (iL d0), .long (iL 0), .long (iL 0)])) := up_s
    have f10 := up_o (y := (9000, .inr (4, [.long (iL d0), .long (iL 0), .long (iL 0)]))) hp hq1
    have f11 := up_o (y := (9000, .inr (4, [.long (iL d0), .long (iL 0), .long (iL 0)]))) hli hq1
    have f12 := up_o (y := (9000, .inr (4, [.long (iL d0), .long (iL 0), .long (iL 0)]))) hlw hq1
    have f13 := up_o (y := (9000, .inr (4, [.long (iL d0), .long (iL 0), .long (iL 0)]))) hx hq1
    show VW θ Q E (va_up h q1 (some (9000, .inr (4, [.long (iL d0), .long (iL 0), .long (iL 0)])))) 1 3 21 [(0, .ref p), (1, .ref lw), (2, .int (iI y)), (3, .int (iI pts))] [.ref q1]
    refine v_astore G (L' := [(4, .ref q1), (0, .ref p), (1, .ref lw), (2, .int (iI y)), (3, .int (iI pts))]) (Nat.le_of_ble_eq_true rfl) rfl dX7_values_21 ?_
    refine v_aload_n G 1 rfl rfl dX7_values_23 ?_
    refine gX7_38 G f10 rfl dX7_values_24 ?_
    refine v_iconst G dX7_values_27 ?_
    refine v_isub G dX7_values_28 ?_
    refine v_istore G (L' := [(5, .int (iI ((P 3) - 1))), (4, .ref q1), (0, .ref p), (1, .ref lw), (2, .int (iI y)), (3, .int (iI pts))]) (Nat.le_of_ble_eq_true rfl) rfl dX7_values_29 ?_
    have P14 : ∀ (n : Nat) (k : Nat) (yy : Int), (yy = P 3 - 1 - (k : Int)) → ((k : Int) ≤ P 3 - y) → (P 3 - y).toNat - k < n → VW θ Q E (va_up h q1 (some (9000, .inr (4, [.long (iL (vD (pqS (O 7) c b wo sm (P 2) pts) i (P 3) (d0S (P 1)) k)), .long (iL (vP (pqS (O 7) c b wo sm (P 2) pts) i (P 3) k)), .long (iL (vN (pqS (O 7) c b wo sm (P 2) pts) i (P 3) k))])))) 1 3 31 [(5, .int (iI yy)), (0, .ref p), (1, .ref lw), (2, .int (iI y)), (3, .int (iI pts)), (4, .ref q1)] [] := by
      intro n
      induction n with
      | zero => intros; omega
      | succ n P14ih =>
        intro k yy hk hk2 hn
        have bD := vD_bd (e := P 3) hr (d0S_bd (P 1)) k (by omega)
        have bP := vP_bd (e := P 3) hr k (by omega)
        have bN := vN_bd (e := P 3) hr k (by omega)
        have f15 : (va_up h q1 (some (9000, .inr (4, [.long (iL (vD (pqS (O 7) c b wo sm (P 2) pts) i (P 3) (d0S (P 1)) k)), .long (iL (vP (pqS (O 7) c b wo sm (P 2) pts) i (P 3) k)), .long (iL (vN (pqS (O 7) c b wo sm (P 2) pts) i (P 3) k))])))) q1 = some (9000, .inr (4, [.long (iL (vD (pqS (O 7) c b wo sm (P 2) pts) i (P 3) (d0S (P 1)) k)), .long (iL (vP (pqS (O 7) c b wo sm (P 2) pts) i (P 3) k)), .long (iL (vN (pqS (O 7) c b wo sm (P 2) pts) i (P 3) k))])) := up_s
        have f16 := up_o (y := (9000, .inr (4, [.long (iL (vD (pqS (O 7) c b wo sm (P 2) pts) i (P 3) (d0S (P 1)) k)), .long (iL (vP (pqS (O 7) c b wo sm (P 2) pts) i (P 3) k)), .long (iL (vN (pqS (O 7) c b wo sm (P 2) pts) i (P 3) k))]))) hp hq1
        have f17 := up_o (y := (9000, .inr (4, [.long (iL (vD (pqS (O 7) c b wo sm (P 2) pts) i (P 3) (d0S (P 1)) k)), .long (iL (vP (pqS (O 7) c b wo sm (P 2) pts) i (P 3) k)), .long (iL (vN (pqS (O 7) c b wo sm (P 2) pts) i (P 3) k))]))) hli hq1
        have f18 := up_o (y := (9000, .inr (4, [.long (iL (vD (pqS (O 7) c b wo sm (P 2) pts) i (P 3) (d0S (P 1)) k)), .long (iL (vP (pqS (O 7) c b wo sm (P 2) pts) i (P 3) k)), .long (iL (vN (pqS (O 7) c b wo sm (P 2) pts) i (P 3) k))]))) hlw hq1
        have f19 := up_o (y := (9000, .inr (4, [.long (iL (vD (pqS (O 7) c b wo sm (P 2) pts) i (P 3) (d0S (P 1)) k)), .long (iL (vP (pqS (O 7) c b wo sm (P 2) pts) i (P 3) k)), .long (iL (vN (pqS (O 7) c b wo sm (P 2) pts) i (P 3) k))]))) hx hq1
        refine v_iload G 0 rfl dX7_values_31 ?_
        refine v_iload_n G 3 rfl rfl dX7_values_33 ?_
        refine v_icmp_lt G 60 ⟨by omega, by omega⟩ ⟨by omega, by omega⟩ (by decide) dX7_values_34 (fun c20 => ?_) (fun c20 => ?_)
        · refine v_aload G 5 rfl dX7_values_60 ?_
          exact v_aret G hQ (r := some q1) (by first | exact Or.inl ⟨_, rfl⟩ | exact Or.inr ⟨_, rfl⟩) ⟨q1, hq1, rfl, by rw [show (P 3 - y).toNat = k by omega]⟩ (Nat.le_of_ble_eq_true rfl) (Nat.le_of_ble_eq_true rfl) dX7_values_62
        · have hq9 := hr.2 yy (by omega) (by omega)
          refine v_aload G 5 rfl dX7_values_37 ?_
          refine v_aload_n G 1 rfl rfl dX7_values_39 ?_
          refine v_aload_n G 2 rfl rfl dX7_values_40 ?_
          refine v_iload G 0 rfl dX7_values_41 ?_
          refine v_iload_n G 4 rfl rfl dX7_values_43 ?_
          refine kX7_106 G (As := [.ref lw, .int (iI yy), .int (iI pts)]) (rest := [.ref q1]) (cs' := 1) (sl' := 3) (m_pmort G.fl f16 f17 f18 f19 (y := yy) (pts := pts) hok how ⟨by omega, by omega⟩ ⟨by omega, by omega⟩) (zRcv.of G (ci := 6) rfl f16) rfl rfl (Nat.le_of_ble_eq_true rfl) (zRm.ok rfl) dX7_values_44 (fun vq21 hq21 q21 => ?_)
          obtain ⟨_, _⟩ := q21
          subst vq21 hq21
          show VW θ Q E (va_up h q1 (some (9000, .inr (4, [.long (iL (vD (pqS (O 7) c b wo sm (P 2) pts) i (P 3) (d0S (P 1)) k)), .long (iL (vP (pqS (O 7) c b wo sm (P 2) pts) i (P 3) k)), .long (iL (vN (pqS (O 7) c b wo sm (P 2) pts) i (P 3) k))])))) 1 3 47 [(5, .int (iI yy)), (0, .ref p), (1, .ref lw), (2, .int (iI y)), (3, .int (iI pts)), (4, .ref q1)] [.long (iL (pqS (O 7) c b wo sm (P 2) pts yy)), .ref q1]
          refine v_aload_n G 2 rfl rfl dX7_values_47 ?_
          refine gX7_109 G f18 rfl dX7_values_48 ?_
          refine kX7_112 G (As := [.long (iL (pqS (O 7) c b wo sm (P 2) pts yy)), .int (iI i)]) (rest := []) (cs' := 1) (sl' := 3) (m_back G.fl (q := (pqS (O 7) c b wo sm (P 2) pts yy)) (i := i) (by omega) (by omega) (by omega) (by omega) (by omega) f15) (zRcv.of G (ci := 4) rfl f15) rfl rfl (Nat.le_of_ble_eq_true rfl) (zRm.ok rfl) dX7_values_51 (fun vq22 hq22 q22 => ?_)
          obtain ⟨_, _⟩ := q22
          subst vq22 hq22
          refine VW.hpe up_up ?_
          have f23 : (va_up h q1 (some (9000, .inr (4, [.long (iL (bkD (pqS (O 7) c b wo sm (P 2) pts yy) i (vD (pqS (O 7) c b wo sm (P 2) pts) i (P 3) (d0S (P 1)) k))), .long (iL (bkP (pqS (O 7) c b wo sm (P 2) pts yy) i (vP (pqS (O 7) c b wo sm (P 2) pts) i (P 3) k))), .long (iL (bkN (pqS (O 7) c b wo sm (P 2) pts yy) i (vN (pqS (O 7) c b wo sm (P 2) pts) i (P 3) k)))])))) q1 = some (9000, .inr (4, [.long (iL (bkD (pqS (O 7) c b wo sm (P 2) pts yy) i (vD (pqS (O 7) c b wo sm (P 2) pts) i (P 3) (d0S (P 1)) k))), .long (iL (bkP (pqS (O 7) c b wo sm (P 2) pts yy) i (vP (pqS (O 7) c b wo sm (P 2) pts) i (P 3) k))), .long (iL (bkN (pqS (O 7) c b wo sm (P 2) pts yy) i (vN (pqS (O 7) c b wo sm (P 2) pts) i (P 3) k)))])) := up_s
          have f24 := up_o (y := (9000, .inr (4, [.long (iL (bkD (pqS (O 7) c b wo sm (P 2) pts yy) i (vD (pqS (O 7) c b wo sm (P 2) pts) i (P 3) (d0S (P 1)) k))), .long (iL (bkP (pqS (O 7) c b wo sm (P 2) pts yy) i (vP (pqS (O 7) c b wo sm (P 2) pts) i (P 3) k))), .long (iL (bkN (pqS (O 7) c b wo sm (P 2) pts yy) i (vN (pqS (O 7) c b wo sm (P 2) pts) i (P 3) k)))]))) hp hq1
          have f25 := up_o (y := (9000, .inr (4, [.long (iL (bkD (pqS (O 7) c b wo sm (P 2) pts yy) i (vD (pqS (O 7) c b wo sm (P 2) pts) i (P 3) (d0S (P 1)) k))), .long (iL (bkP (pqS (O 7) c b wo sm (P 2) pts yy) i (vP (pqS (O 7) c b wo sm (P 2) pts) i (P 3) k))), .long (iL (bkN (pqS (O 7) c b wo sm (P 2) pts yy) i (vN (pqS (O 7) c b wo sm (P 2) pts) i (P 3) k)))]))) hli hq1
          have f26 := up_o (y := (9000, .inr (4, [.long (iL (bkD (pqS (O 7) c b wo sm (P 2) pts yy) i (vD (pqS (O 7) c b wo sm (P 2) pts) i (P 3) (d0S (P 1)) k))), .long (iL (bkP (pqS (O 7) c b wo sm (P 2) pts yy) i (vP (pqS (O 7) c b wo sm (P 2) pts) i (P 3) k))), .long (iL (bkN (pqS (O 7) c b wo sm (P 2) pts yy) i (vN (pqS (O 7) c b wo sm (P 2) pts) i (P 3) k)))]))) hlw hq1
          have f27 := up_o (y := (9000, .inr (4, [.long (iL (bkD (pqS (O 7) c b wo sm (P 2) pts yy) i (vD (pqS (O 7) c b wo sm (P 2) pts) i (P 3) (d0S (P 1)) k))), .long (iL (bkP (pqS (O 7) c b wo sm (P 2) pts yy) i (vP (pqS (O 7) c b wo sm (P 2) pts) i (P 3) k))), .long (iL (bkN (pqS (O 7) c b wo sm (P 2) pts yy) i (vN (pqS (O 7) c b wo sm (P 2) pts) i (P 3) k)))]))) hx hq1
          show VW θ Q E (va_up h q1 (some (9000, .inr (4, [.long (iL (bkD (pqS (O 7) c b wo sm (P 2) pts yy) i (vD (pqS (O 7) c b wo sm (P 2) pts) i (P 3) (d0S (P 1)) k))), .long (iL (bkP (pqS (O 7) c b wo sm (P 2) pts yy) i (vP (pqS (O 7) c b wo sm (P 2) pts) i (P 3) k))), .long (iL (bkN (pqS (O 7) c b wo sm (P 2) pts yy) i (vN (pqS (O 7) c b wo sm (P 2) pts) i (P 3) k)))])))) 1 3 54 [(5, .int (iI yy)), (0, .ref p), (1, .ref lw), (2, .int (iI y)), (3, .int (iI pts)), (4, .ref q1)] []
          refine v_iinc G (L' := [(5, .int (iI (yy + (-1)))), (0, .ref p), (1, .ref lw), (2, .int (iI y)), (3, .int (iI pts)), (4, .ref q1)]) 0 rfl (Nat.le_of_ble_eq_true rfl) rfl dX7_values_54 ?_
          refine v_goto G 31 (by decide) dX7_values_57 ?_
          refine VW.hpe (h2 := va_up h q1 (some (9000, .inr (4, [.long (iL (vD (pqS (O 7) c b wo sm (P 2) pts) i (P 3) (d0S (P 1)) (k + 1))), .long (iL (vP (pqS (O 7) c b wo sm (P 2) pts) i (P 3) (k + 1))), .long (iL (vN (pqS (O 7) c b wo sm (P 2) pts) i (P 3) (k + 1)))])))) (by rw [hk]; rfl) ?_
          exact P14ih (k + 1) (yy + (-1)) (by omega) (by omega) (by omega)
    refine VW.pick (L2 := [(5, .int (iI ((P 3) - 1))), (0, .ref p), (1, .ref lw), (2, .int (iI y)), (3, .int (iI pts)), (4, .ref q1)]) [0, 2, 3, 4, 5, 1] rfl ?_
    refine VW.hpe (h2 := va_up h q1 (some (9000, .inr (4, [.long (iL (vD (pqS (O 7) c b wo sm (P 2) pts) i (P 3) (d0S (P 1)) 0)), .long (iL (vP (pqS (O 7) c b wo sm (P 2) pts) i (P 3) 0)), .long (iL (vN (pqS (O 7) c b wo sm (P 2) pts) i (P 3) 0))])))) (by rw [hd0]; rfl) ?_
    exact P14 ((P 3 - y).toNat + 1) 0 ((P 3) - 1) (by omega) (by omega) (by omega)
  refine v_aload_n G 0 rfl rfl dX7_values_4 ?_
  refine kX7_97 G (As := []) (rest := [.ref q1, .ref q1]) (cs' := 1) (sl' := 3) (m_hasValue G.fl f2 ⟨by omega, by omega⟩) (zRcv.of G (ci := 6) rfl f2) rfl rfl (Nat.le_of_ble_eq_true rfl) (zRm.ok rfl) dX7_values_5 (fun vq28 hq28 q28 => ?_)
  obtain ⟨_, _⟩ := q28
  subst vq28 hq28
  show VW θ Q E (va_up h q1 (some (9000, .inr (4, [.long (iL 0), .long (iL 0), .long (iL 0)])))) 1 3 8 [(0, .ref p), (1, .ref lw), (2, .int (iI y)), (3, .int (iI pts))] [.int (iI (if P 1 ≤ 1 then 1 else 0)), .ref q1, .ref q1]
  refine v_if_eq G 17 ⟨by omega, by omega⟩ (by decide) dX7_values_8 (fun c29 => ?_) (fun c29 => ?_)
  · refine v_lconst G (n := 0) (v0 := 0) rfl dX7_values_17 ?_
    exact J7 0 (by unfold d0S; first | rw [if_pos (by omega)] | rw [if_neg (by omega)])
  · refine v_ldc2 G (v := 1000000) q413 rfl dX7_values_11 ?_
    refine v_goto G 18 (by decide) dX7_values_14 ?_
    exact J7 1000000 (by unfold d0S; first | rw [if_pos (by omega)] | rw [if_neg (by omega)])

