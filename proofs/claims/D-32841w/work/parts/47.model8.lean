/-! WALKS: the reference: more calls -/
set_option maxRecDepth 100000
set_option maxHeartbeats 4000000 in
theorem o_late {l : Launch} (hfl : l.stackTraces = false) {E : zEn} {h : zHp} {A : Nat → Nat} {τ D : mMem} (hA : mInj A) (H : okT τ) {p : Int} (nnp : n32 p) {n : Int} (nnn : n32 n)  : CN l E yX4_tellLate (ws_ yX4_tellLate cX4_tellLate 5 (some FieldType.long)) ({ frames := 5, cells := 0, slots := 0, locals := 142 } : Room) [.ref (A 0), .int (iI p), .int (iI n)] (zM E A h (sc τ D)) (zOL E A h (oLate τ p n)) := by
  refine CN.of (by decide +kernel) hfl (Nat.le_of_ble_eq_true rfl) fun θ Q hl G hin hQ => ?_
  subst hl
  show VW θ Q E (zM E A h (sc τ D)) 0 0 0 [(0, .ref (A 0)), (1, .int (iI p)), (2, .int (iI n))] []
  have hm := H.many
  have hyr := H.year
  have hn := H.nums
  have hi := H.imp
  have hbt := H.bits
  have hw := H.law 0 (by omega) (by omega)
  have w9 := hw
  simp only [okLaw, okW] at w9
  refine v_aload_n G 0 rfl rfl dX4_tellLate_0 ?_
  refine v_iconst G dX4_tellLate_1 ?_
  refine pX4_1 G zM_0 (Nat.le_of_ble_eq_true rfl) dX4_tellLate_2 ?_
  refine VW.hpe (zM_up0 (k := 0) (z := 0) rfl (by decide)) ?_
  refine VW.hpe (congrArg (zM E A h) (sc_D (k := 0) rfl)) ?_
  refine v_aload_n G 0 rfl rfl dX4_tellLate_5 ?_
  refine v_iload_n G 1 rfl rfl dX4_tellLate_6 ?_
  refine kX4_380 G (As := [.int (iI p)]) (rest := []) (cs' := 0) (sl' := 0) (n_isPolicy G.fl (τ := τ) (D := st2 D 0 0 0) hA (p := p) ⟨by omega, by omega⟩ (show 0 ≤ τ 10 0 ∧ τ 10 0 ≤ 24 by omega)) (zRcv.of G (q := (RX4, TX4, 55)) rfl zM_0) rfl rfl (Nat.le_of_ble_eq_true rfl) (zRm.ok rfl) dX4_tellLate_7 (fun vq1 hq1 q1 => ?_)
  obtain ⟨_, _⟩ := q1
  subst vq1 hq1
  refine VW.nmI (fun z2 hz2 => ?_)
  have hz2 := (show (z2 = 1 ∧ 0 ≤ p ∧ p < τ 10 0) ∨ (z2 = 0 ∧ ¬ (0 ≤ p ∧ p < τ 10 0)) from ite01 hz2)
  show VW θ Q E (zM E A h (sc τ (st2 D 0 0 0))) 0 0 10 [(0, .ref (A 0)), (1, .int (iI p)), (2, .int (iI n))] [.int (iI z2)]
  refine v_if_ne G 20 ⟨by omega, by omega⟩ (by decide) dX4_tellLate_10 (fun c3 => ?_) (fun c3 => ?_)
  · have gz2 := bT hz2 (by omega)
    have P9 := H.pol p (by omega) (by omega)
    have ho := P9.1
    unfold okPol at P9
    have h9 := ho
    simp only [okP1, okP, tP] at h9
    refine v_iload_n G 2 rfl rfl dX4_tellLate_20 ?_
    refine v_i2l G ⟨by omega, by omega⟩ dX4_tellLate_21 ?_
    refine v_lconst G (n := 1) (v0 := 0) rfl dX4_tellLate_22 ?_
    refine v_aload_n G 0 rfl rfl dX4_tellLate_23 ?_
    refine gX4_31 G zM_0 (v := .ref (A 23)) rfl dX4_tellLate_24 ?_
    refine v_iload_n G 1 rfl rfl dX4_tellLate_27 ?_
    refine m_ald G hA (v := τ 23 p) rfl ⟨by omega, by show _ < (24 : Int); omega⟩ rfl dX4_tellLate_28 ?_
    refine v_iconst G dX4_tellLate_29 ?_
    have J4 : ∀ (mx : Int), (mx = if τ 23 p = 3 then τ 31 p else 0) → (0 ≤ mx ∧ mx ≤ 1000) → VW θ Q E (zM E A h (sc τ (st2 D 0 0 0))) 0 0 44 [(0, .ref (A 0)), (1, .int (iI p)), (2, .int (iI n))] [.long (iL mx), .long (iL 1), .long (iL n)] := by
      intro mx hmx hm4
      have hm5 : τ 23 p ≠ 3 → mx = 0 := fun q => by rw [hmx, if_neg q]
      refine kX4_168 G (As := [.long (iL n), .long (iL 1), .long (iL mx)]) (rest := []) (cs' := 0) (sl' := 0) (n_isIn G.fl (v := n) (a := 1) (b := mx) ⟨by omega, by omega⟩ ⟨by decide, by decide⟩ ⟨by omega, by omega⟩) rfl rfl (Nat.le_of_ble_eq_true rfl) (zRm.ok rfl) dX4_tellLate_44 (fun vq5 hq5 q5 => ?_)
      obtain ⟨_, _⟩ := q5
      subst vq5 hq5
      refine VW.nmI (fun z6 hz6 => ?_)
      have hz6 := ite01 hz6
      show VW θ Q E (zM E A h (sc τ (st2 D 0 0 0))) 0 0 47 [(0, .ref (A 0)), (1, .int (iI p)), (2, .int (iI n))] [.int (iI z6)]
      refine v_if_ne G 57 ⟨by omega, by omega⟩ (by decide) dX4_tellLate_47 (fun c7 => ?_) (fun c7 => ?_)
      · have gz6 := bT hz6 (by omega)
        refine v_aload_n G 0 rfl rfl dX4_tellLate_57 ?_
        refine gX4_31 G zM_0 (v := .ref (A 23)) rfl dX4_tellLate_58 ?_
        refine v_iload_n G 1 rfl rfl dX4_tellLate_61 ?_
        refine m_ald G hA (v := τ 23 p) rfl ⟨by omega, by show _ < (24 : Int); omega⟩ rfl dX4_tellLate_62 ?_
        refine v_iconst G dX4_tellLate_63 ?_
        refine v_icmp_ne G 76 ⟨by omega, by omega⟩ ⟨by decide, by decide⟩ (by decide) dX4_tellLate_64 (fun c8 => ?_) (fun c8 => ?_)
        · refine v_aload_n G 0 rfl rfl dX4_tellLate_76 ?_
          refine v_iconst G dX4_tellLate_77 ?_
          refine kX4_342 G (As := [.int (iI 3)]) (rest := []) (cs' := 0) (sl' := 0) (n_fails G.fl (τ := τ) (D := st2 D 0 0 0) hA (k := 3)) (zRcv.of G (q := (RX4, TX4, 55)) rfl zM_0) rfl rfl (Nat.le_of_ble_eq_true rfl) (zRm.ok rfl) dX4_tellLate_78 (fun vq9 hq9 q9 => ?_)
          obtain ⟨_, _⟩ := q9
          subst vq9 hq9
          show VW θ Q E (zM E A h (sc τ (st2 (st2 D 0 0 0) 0 0 3))) 0 0 81 [(0, .ref (A 0)), (1, .int (iI p)), (2, .int (iI n))] [.int (iI 0)]
          refine v_i2l G ⟨by decide, by decide⟩ dX4_tellLate_81 ?_
          have e : oLate τ p n = (3, 0, τ) := by
            first | (exfalso; omega) | (unfold oLate; rw [← hmx]; (repeat (first | rw [if_pos (by omega)] | rw [if_neg (by omega)])); all_goals rfl)
          exact v_lret G hQ (by rw [e]; exact ⟨rfl, st2 (st2 D 0 0 0) 0 0 3, rfl, rfl⟩) (Nat.le_of_ble_eq_true rfl) (Nat.le_of_ble_eq_true rfl) dX4_tellLate_82
        · refine v_aload_n G 0 rfl rfl dX4_tellLate_67 ?_
          refine gX4_49 G zM_0 (v := .ref (A 29)) rfl dX4_tellLate_68 ?_
          refine v_iload_n G 1 rfl rfl dX4_tellLate_71 ?_
          refine m_ald G hA (v := τ 29 p) rfl ⟨by omega, by show _ < (24 : Int); omega⟩ rfl dX4_tellLate_72 ?_
          refine v_if_eq G 83 ⟨by omega, by omega⟩ (by decide) dX4_tellLate_73 (fun c10 => ?_) (fun c10 => ?_)
          · refine v_aload_n G 0 rfl rfl dX4_tellLate_83 ?_
            refine gX4_67 G zM_0 (v := .ref (A 35)) rfl dX4_tellLate_84 ?_
            refine v_iload_n G 1 rfl rfl dX4_tellLate_87 ?_
            refine m_lld G hA (v := τ 35 p) rfl ⟨by omega, by show _ < (24 : Int); omega⟩ rfl dX4_tellLate_88 ?_
            refine v_iload_n G 2 rfl rfl dX4_tellLate_89 ?_
            refine v_i2l G ⟨by omega, by omega⟩ dX4_tellLate_90 ?_
            refine v_lmul G dX4_tellLate_91 ?_
            refine v_lstore_n G (L' := [(3, .long (iL ((τ 35 p) * n))), (0, .ref (A 0)), (1, .int (iI p)), (2, .int (iI n))]) rfl (Nat.le_of_ble_eq_true rfl) rfl dX4_tellLate_92 ?_
            refine v_aload_n G 1 rfl rfl dX4_tellLate_93 ?_
            refine gX4_24 G zM_0 (v := .ref (A 21)) rfl dX4_tellLate_94 ?_
            refine v_iconst G dX4_tellLate_97 ?_
            refine v_dup2 G rfl rfl dX4_tellLate_98 ?_
            refine m_lld G hA (v := τ 21 0) rfl ⟨by omega, by show _ < (9 : Int); omega⟩ rfl dX4_tellLate_99 ?_
            refine v_lload_n G 0 rfl rfl dX4_tellLate_100 ?_
            refine v_aload_n G 1 rfl rfl dX4_tellLate_101 ?_
            refine v_iload_n G 2 rfl rfl dX4_tellLate_102 ?_
            refine v_aload_n G 1 rfl rfl dX4_tellLate_103 ?_
            refine gX4_114 G zM_0 (v := .int (iI (τ 1 0))) rfl dX4_tellLate_104 ?_
            refine v_iconst G dX4_tellLate_107 ?_
            refine kX4_244 G (As := [.int (iI p), .int (iI (τ 1 0)), .int (iI 0)]) (rest := [.long (iL ((τ 35 p) * n)), .long (iL (τ 21 0)), .int (iI 0), .ref (A 21)]) (cs' := 0) (sl' := 0) (n_resAt G.fl (τ := τ) (D := st2 D 0 0 0) hA (p := p) (y := (τ 1 0)) (law := 0) ⟨by omega, by omega⟩ ho ⟨by omega, by omega⟩ hw (H.A.2 p (by omega) (by omega)).2) (zRcv.of G (q := (RX4, TX4, 55)) rfl zM_0) rfl rfl (Nat.le_of_ble_eq_true rfl) (zRm.ok rfl) dX4_tellLate_108 (fun vq11 hq11 q11 => ?_)
            obtain ⟨_, D12, hD12, _⟩ := q11
            subst vq11 hq11
            show VW θ Q E (zM E A h (sc τ D12)) 0 0 111 [(3, .long (iL ((τ 35 p) * n))), (0, .ref (A 0)), (1, .int (iI p)), (2, .int (iI n))] [.long (iL (rsT τ 0 p (τ 1 0))), .long (iL ((τ 35 p) * n)), .long (iL (τ 21 0)), .int (iI 0), .ref (A 21)]
            refine v_ladd G dX4_tellLate_111 ?_
            refine v_ladd G dX4_tellLate_112 ?_
            refine m_lst G hA rfl ⟨by omega, by show _ < (9 : Int); omega⟩ dX4_tellLate_113 ?_
            refine VW.hpe (congrArg (zM E A h) (sc_t (k := 21) rfl)) ?_
            refine v_aload_n G 1 rfl rfl dX4_tellLate_114 ?_
            refine v_dup G rfl dX4_tellLate_115 ?_
            refine gX4_117 G zM_0 (v := .long (iL (τ 14 0))) rfl dX4_tellLate_116 ?_
            refine v_lload_n G 0 rfl rfl dX4_tellLate_119 ?_
            refine v_ladd G dX4_tellLate_120 ?_
            refine pX4_117 G zM_0 (Nat.le_of_ble_eq_true rfl) dX4_tellLate_121 ?_
            refine VW.hpe (zM_up0 (k := 14) (z := ((τ 14 0) + ((τ 35 p) * n))) rfl (by decide)) ?_
            refine VW.hpe (congrArg (zM E A h) (sc_t (k := 14) rfl)) ?_
            refine v_aload_n G 1 rfl rfl dX4_tellLate_124 ?_
            refine gX4_49 G zM_0 (v := .ref (A 29)) rfl dX4_tellLate_125 ?_
            refine v_iload_n G 2 rfl rfl dX4_tellLate_128 ?_
            refine v_iconst G dX4_tellLate_129 ?_
            refine m_ast G hA rfl ⟨by omega, by show _ < (24 : Int); omega⟩ dX4_tellLate_130 ?_
            refine VW.hpe (congrArg (zM E A h) (sc_t (k := 29) rfl)) ?_
            refine v_lload_n G 0 rfl rfl dX4_tellLate_131 ?_
            have e : oLate τ p n = (0, ((τ 35 p) * n), st2 (st2 (st2 τ 21 0 ((τ 21 0) + (((τ 35 p) * n) + (rsT τ 0 p (τ 1 0))))) 14 0 ((τ 14 0) + ((τ 35 p) * n))) 29 p 4) := by
              first | (exfalso; omega) | (unfold oLate; rw [← hmx]; (repeat (first | rw [if_pos (by omega)] | rw [if_neg (by omega)])); all_goals rfl)
            exact v_lret G hQ (by rw [e]; exact ⟨rfl, D12, ((congrFun (hD12 0 (Or.inl (by decide))) 0)), rfl⟩) (Nat.le_of_ble_eq_true rfl) (Nat.le_of_ble_eq_true rfl) dX4_tellLate_132
          · refine v_aload_n G 0 rfl rfl dX4_tellLate_76 ?_
            refine v_iconst G dX4_tellLate_77 ?_
            refine kX4_342 G (As := [.int (iI 3)]) (rest := []) (cs' := 0) (sl' := 0) (n_fails G.fl (τ := τ) (D := st2 D 0 0 0) hA (k := 3)) (zRcv.of G (q := (RX4, TX4, 55)) rfl zM_0) rfl rfl (Nat.le_of_ble_eq_true rfl) (zRm.ok rfl) dX4_tellLate_78 (fun vq13 hq13 q13 => ?_)
            obtain ⟨_, _⟩ := q13
            subst vq13 hq13
            show VW θ Q E (zM E A h (sc τ (st2 (st2 D 0 0 0) 0 0 3))) 0 0 81 [(0, .ref (A 0)), (1, .int (iI p)), (2, .int (iI n))] [.int (iI 0)]
            refine v_i2l G ⟨by decide, by decide⟩ dX4_tellLate_81 ?_
            have e : oLate τ p n = (3, 0, τ) := by
              first | (exfalso; omega) | (unfold oLate; rw [← hmx]; (repeat (first | rw [if_pos (by omega)] | rw [if_neg (by omega)])); all_goals rfl)
            exact v_lret G hQ (by rw [e]; exact ⟨rfl, st2 (st2 D 0 0 0) 0 0 3, rfl, rfl⟩) (Nat.le_of_ble_eq_true rfl) (Nat.le_of_ble_eq_true rfl) dX4_tellLate_82
      · have gz6 := bF hz6 (by omega)
        refine v_aload_n G 0 rfl rfl dX4_tellLate_50 ?_
        refine v_iconst G dX4_tellLate_51 ?_
        refine kX4_342 G (As := [.int (iI 2)]) (rest := []) (cs' := 0) (sl' := 0) (n_fails G.fl (τ := τ) (D := st2 D 0 0 0) hA (k := 2)) (zRcv.of G (q := (RX4, TX4, 55)) rfl zM_0) rfl rfl (Nat.le_of_ble_eq_true rfl) (zRm.ok rfl) dX4_tellLate_52 (fun vq14 hq14 q14 => ?_)
        obtain ⟨_, _⟩ := q14
        subst vq14 hq14
        show VW θ Q E (zM E A h (sc τ (st2 (st2 D 0 0 0) 0 0 2))) 0 0 55 [(0, .ref (A 0)), (1, .int (iI p)), (2, .int (iI n))] [.int (iI 0)]
        refine v_i2l G ⟨by decide, by decide⟩ dX4_tellLate_55 ?_
        have e : oLate τ p n = (2, 0, τ) := by
          first | (exfalso; omega) | (unfold oLate; rw [← hmx]; (repeat (first | rw [if_pos (by omega)] | rw [if_neg (by omega)])); all_goals rfl)
        exact v_lret G hQ (by rw [e]; exact ⟨rfl, st2 (st2 D 0 0 0) 0 0 2, rfl, rfl⟩) (Nat.le_of_ble_eq_true rfl) (Nat.le_of_ble_eq_true rfl) dX4_tellLate_56
    refine v_icmp_ne G 43 ⟨by omega, by omega⟩ ⟨by decide, by decide⟩ (by decide) dX4_tellLate_30 (fun c15 => ?_) (fun c15 => ?_)
    · refine v_lconst G (n := 0) (v0 := 0) rfl dX4_tellLate_43 ?_
      exact J4 0 (by first | rw [if_pos (by omega)] | rw [if_neg (by omega)]) ⟨by omega, by omega⟩
    · refine v_aload_n G 0 rfl rfl dX4_tellLate_33 ?_
      refine gX4_55 G zM_0 (v := .ref (A 31)) rfl dX4_tellLate_34 ?_
      refine v_iload_n G 1 rfl rfl dX4_tellLate_37 ?_
      refine m_ald G hA (v := τ 31 p) rfl ⟨by omega, by show _ < (24 : Int); omega⟩ rfl dX4_tellLate_38 ?_
      refine v_i2l G ⟨by omega, by omega⟩ dX4_tellLate_39 ?_
      refine v_goto G 44 (by decide) dX4_tellLate_40 ?_
      exact J4 (τ 31 p) (by first | rw [if_pos (by omega)] | rw [if_neg (by omega)]) ⟨by omega, by omega⟩
  · have gz2 := bF hz2 (by omega)
    refine v_aload_n G 0 rfl rfl dX4_tellLate_13 ?_
    refine v_iconst G dX4_tellLate_14 ?_
    refine kX4_342 G (As := [.int (iI 1)]) (rest := []) (cs' := 0) (sl' := 0) (n_fails G.fl (τ := τ) (D := st2 D 0 0 0) hA (k := 1)) (zRcv.of G (q := (RX4, TX4, 55)) rfl zM_0) rfl rfl (Nat.le_of_ble_eq_true rfl) (zRm.ok rfl) dX4_tellLate_15 (fun vq16 hq16 q16 => ?_)
    obtain ⟨_, _⟩ := q16
    subst vq16 hq16
    show VW θ Q E (zM E A h (sc τ (st2 (st2 D 0 0 0) 0 0 1))) 0 0 18 [(0, .ref (A 0)), (1, .int (iI p)), (2, .int (iI n))] [.int (iI 0)]
    refine v_i2l G ⟨by decide, by decide⟩ dX4_tellLate_18 ?_
    have e : oLate τ p n = (1, 0, τ) := by
      unfold oLate
      (repeat (first | rw [if_pos (by omega)] | rw [if_neg (by omega)]))
      all_goals rfl
    exact v_lret G hQ (by rw [e]; exact ⟨rfl, st2 (st2 D 0 0 0) 0 0 1, rfl, rfl⟩) (Nat.le_of_ble_eq_true rfl) (Nat.le_of_ble_eq_true rfl) dX4_tellLate_19

set_option maxHeartbeats 4000000 in
theorem o_surr {l : Launch} (hfl : l.stackTraces = false) {E : zEn} {h : zHp} {A : Nat → Nat} {τ D : mMem} (hA : mInj A) (H : okT τ) {p : Int} (nnp : n32 p)  : CN l E yX4_tellSurrender (ws_ yX4_tellSurrender cX4_tellSurrender 2 (some FieldType.long)) ({ frames := 6, cells := 0, slots := 0, locals := 164 } : Room) [.ref (A 0), .int (iI p)] (zM E A h (sc τ D)) (zOL E A h (oSurr τ p)) := by
  refine CN.of (by decide +kernel) hfl (Nat.le_of_ble_eq_true rfl) fun θ Q hl G hin hQ => ?_
  subst hl
  show VW θ Q E (zM E A h (sc τ D)) 0 0 0 [(0, .ref (A 0)), (1, .int (iI p))] []
  have hm := H.many
  have hyr := H.year
  have hn := H.nums
  have hi := H.imp
  have hbt := H.bits
  have hw := H.law 0 (by omega) (by omega)
  have w9 := hw
  simp only [okLaw, okW] at w9
  refine v_aload_n G 0 rfl rfl dX4_tellSurrender_0 ?_
  refine v_iconst G dX4_tellSurrender_1 ?_
  refine pX4_1 G zM_0 (Nat.le_of_ble_eq_true rfl) dX4_tellSurrender_2 ?_
  refine VW.hpe (zM_up0 (k := 0) (z := 0) rfl (by decide)) ?_
  refine VW.hpe (congrArg (zM E A h) (sc_D (k := 0) rfl)) ?_
  refine v_aload_n G 0 rfl rfl dX4_tellSurrender_5 ?_
  refine v_iload_n G 1 rfl rfl dX4_tellSurrender_6 ?_
  refine kX4_380 G (As := [.int (iI p)]) (rest := []) (cs' := 0) (sl' := 0) (n_isPolicy G.fl (τ := τ) (D := st2 D 0 0 0) hA (p := p) ⟨by omega, by omega⟩ (show 0 ≤ τ 10 0 ∧ τ 10 0 ≤ 24 by omega)) (zRcv.of G (q := (RX4, TX4, 55)) rfl zM_0) rfl rfl (Nat.le_of_ble_eq_true rfl) (zRm.ok rfl) dX4_tellSurrender_7 (fun vq1 hq1 q1 => ?_)
  obtain ⟨_, _⟩ := q1
  subst vq1 hq1
  refine VW.nmI (fun z2 hz2 => ?_)
  have hz2 := (show (z2 = 1 ∧ 0 ≤ p ∧ p < τ 10 0) ∨ (z2 = 0 ∧ ¬ (0 ≤ p ∧ p < τ 10 0)) from ite01 hz2)
  show VW θ Q E (zM E A h (sc τ (st2 D 0 0 0))) 0 0 10 [(0, .ref (A 0)), (1, .int (iI p))] [.int (iI z2)]
  refine v_if_ne G 20 ⟨by omega, by omega⟩ (by decide) dX4_tellSurrender_10 (fun c3 => ?_) (fun c3 => ?_)
  · have gz2 := bT hz2 (by omega)
    have P9 := H.pol p (by omega) (by omega)
    have ho := P9.1
    unfold okPol at P9
    have h9 := ho
    simp only [okP1, okP, tP] at h9
    refine v_aload_n G 0 rfl rfl dX4_tellSurrender_20 ?_
    refine v_iload_n G 1 rfl rfl dX4_tellSurrender_21 ?_
    refine kX4_383 G (As := [.int (iI p)]) (rest := []) (cs' := 0) (sl' := 0) (n_isQuiet G.fl (τ := τ) (D := st2 D 0 0 0) hA (p := p) ⟨by omega, by omega⟩ (show 0 ≤ τ 29 p ∧ τ 29 p ≤ 7 by omega)) (zRcv.of G (q := (RX4, TX4, 55)) rfl zM_0) rfl rfl (Nat.le_of_ble_eq_true rfl) (zRm.ok rfl) dX4_tellSurrender_22 (fun vq4 hq4 q4 => ?_)
    obtain ⟨_, _⟩ := q4
    subst vq4 hq4
    refine VW.nmI (fun z5 hz5 => ?_)
    have hz5 := (show (z5 = 1 ∧ τ 29 p ≤ 1) ∨ (z5 = 0 ∧ ¬ (τ 29 p ≤ 1)) from ite01 hz5)
    show VW θ Q E (zM E A h (sc τ (st2 D 0 0 0))) 0 0 25 [(0, .ref (A 0)), (1, .int (iI p))] [.int (iI z5)]
    refine v_if_eq G 38 ⟨by omega, by omega⟩ (by decide) dX4_tellSurrender_25 (fun c6 => ?_) (fun c6 => ?_)
    · have gz5 := bF hz5 (by omega)
      refine v_aload_n G 0 rfl rfl dX4_tellSurrender_38 ?_
      refine v_iconst G dX4_tellSurrender_39 ?_
      refine kX4_342 G (As := [.int (iI 2)]) (rest := []) (cs' := 0) (sl' := 0) (n_fails G.fl (τ := τ) (D := st2 D 0 0 0) hA (k := 2)) (zRcv.of G (q := (RX4, TX4, 55)) rfl zM_0) rfl rfl (Nat.le_of_ble_eq_true rfl) (zRm.ok rfl) dX4_tellSurrender_40 (fun vq7 hq7 q7 => ?_)
      obtain ⟨_, _⟩ := q7
      subst vq7 hq7
      show VW θ Q E (zM E A h (sc τ (st2 (st2 D 0 0 0) 0 0 2))) 0 0 43 [(0, .ref (A 0)), (1, .int (iI p))] [.int (iI 0)]
      refine v_i2l G ⟨by decide, by decide⟩ dX4_tellSurrender_43 ?_
      have e : oSurr τ p = (2, 0, τ) := by
        unfold oSurr
        (repeat (first | rw [if_pos (by omega)] | rw [if_neg (by omega)]))
        all_goals rfl
      exact v_lret G hQ (by rw [e]; exact ⟨rfl, st2 (st2 D 0 0 0) 0 0 2, rfl, rfl⟩) (Nat.le_of_ble_eq_true rfl) (Nat.le_of_ble_eq_true rfl) dX4_tellSurrender_44
    · have gz5 := bT hz5 (by omega)
      refine v_aload_n G 0 rfl rfl dX4_tellSurrender_28 ?_
      refine gX4_31 G zM_0 (v := .ref (A 23)) rfl dX4_tellSurrender_29 ?_
      refine v_iload_n G 1 rfl rfl dX4_tellSurrender_32 ?_
      refine m_ald G hA (v := τ 23 p) rfl ⟨by omega, by show _ < (24 : Int); omega⟩ rfl dX4_tellSurrender_33 ?_
      refine v_iconst G dX4_tellSurrender_34 ?_
      refine v_icmp_lt G 45 ⟨by omega, by omega⟩ ⟨by decide, by decide⟩ (by decide) dX4_tellSurrender_35 (fun c8 => ?_) (fun c8 => ?_)
      · refine v_aload_n G 0 rfl rfl dX4_tellSurrender_45 ?_
        refine gX4_49 G zM_0 (v := .ref (A 29)) rfl dX4_tellSurrender_46 ?_
        refine v_iload_n G 1 rfl rfl dX4_tellSurrender_49 ?_
        refine v_iconst G dX4_tellSurrender_50 ?_
        refine m_ast G hA rfl ⟨by omega, by show _ < (24 : Int); omega⟩ dX4_tellSurrender_51 ?_
        refine VW.hpe (congrArg (zM E A h) (sc_t (k := 29) rfl)) ?_
        refine v_aload_n G 0 rfl rfl dX4_tellSurrender_52 ?_
        refine v_iload_n G 1 rfl rfl dX4_tellSurrender_53 ?_
        refine v_aload_n G 0 rfl rfl dX4_tellSurrender_54 ?_
        refine gX4_114 G zM_0 (v := .int (iI (τ 1 0))) rfl dX4_tellSurrender_55 ?_
        refine kX4_302 G (As := [.int (iI p), .int (iI (τ 1 0))]) (rest := []) (cs' := 0) (sl' := 0) (n_surr G.fl (τ := st2 τ 29 p 3) (D := st2 D 0 0 0) hA (p := p) (y := (τ 1 0)) ⟨by omega, by omega⟩ (stP ho ⟨by omega, by omega⟩) hw (stY ⟨by omega, by omega, by omega⟩)) (zRcv.of G (q := (RX4, TX4, 55)) rfl zM_0) rfl rfl (Nat.le_of_ble_eq_true rfl) (zRm.ok rfl) dX4_tellSurrender_58 (fun vq9 hq9 q9 => ?_)
        obtain ⟨_, D10, hD10, _⟩ := q9
        subst vq9 hq9
        show VW θ Q E (zM E A h (sc (st2 τ 29 p 3) D10)) 0 0 61 [(0, .ref (A 0)), (1, .int (iI p))] [.long (iL (svT (st2 τ 29 p 3) p (τ 1 0)))]
        have e : oSurr τ p = (0, (svT (st2 τ 29 p 3) p (τ 1 0)), st2 τ 29 p 3) := by
          unfold oSurr
          (repeat (first | rw [if_pos (by omega)] | rw [if_neg (by omega)]))
          all_goals rfl
        exact v_lret G hQ (by rw [e]; exact ⟨rfl, D10, ((congrFun (hD10 0 (Or.inl (by decide))) 0)), rfl⟩) (Nat.le_of_ble_eq_true rfl) (Nat.le_of_ble_eq_true rfl) dX4_tellSurrender_61
      · refine v_aload_n G 0 rfl rfl dX4_tellSurrender_38 ?_
        refine v_iconst G dX4_tellSurrender_39 ?_
        refine kX4_342 G (As := [.int (iI 2)]) (rest := []) (cs' := 0) (sl' := 0) (n_fails G.fl (τ := τ) (D := st2 D 0 0 0) hA (k := 2)) (zRcv.of G (q := (RX4, TX4, 55)) rfl zM_0) rfl rfl (Nat.le_of_ble_eq_true rfl) (zRm.ok rfl) dX4_tellSurrender_40 (fun vq11 hq11 q11 => ?_)
        obtain ⟨_, _⟩ := q11
        subst vq11 hq11
        show VW θ Q E (zM E A h (sc τ (st2 (st2 D 0 0 0) 0 0 2))) 0 0 43 [(0, .ref (A 0)), (1, .int (iI p))] [.int (iI 0)]
        refine v_i2l G ⟨by decide, by decide⟩ dX4_tellSurrender_43 ?_
        have e : oSurr τ p = (2, 0, τ) := by
          unfold oSurr
          (repeat (first | rw [if_pos (by omega)] | rw [if_neg (by omega)]))
          all_goals rfl
        exact v_lret G hQ (by rw [e]; exact ⟨rfl, st2 (st2 D 0 0 0) 0 0 2, rfl, rfl⟩) (Nat.le_of_ble_eq_true rfl) (Nat.le_of_ble_eq_true rfl) dX4_tellSurrender_44
  · have gz2 := bF hz2 (by omega)
    refine v_aload_n G 0 rfl rfl dX4_tellSurrender_13 ?_
    refine v_iconst G dX4_tellSurrender_14 ?_
    refine kX4_342 G (As := [.int (iI 1)]) (rest := []) (cs' := 0) (sl' := 0) (n_fails G.fl (τ := τ) (D := st2 D 0 0 0) hA (k := 1)) (zRcv.of G (q := (RX4, TX4, 55)) rfl zM_0) rfl rfl (Nat.le_of_ble_eq_true rfl) (zRm.ok rfl) dX4_tellSurrender_15 (fun vq12 hq12 q12 => ?_)
    obtain ⟨_, _⟩ := q12
    subst vq12 hq12
    show VW θ Q E (zM E A h (sc τ (st2 (st2 D 0 0 0) 0 0 1))) 0 0 18 [(0, .ref (A 0)), (1, .int (iI p))] [.int (iI 0)]
    refine v_i2l G ⟨by decide, by decide⟩ dX4_tellSurrender_18 ?_
    have e : oSurr τ p = (1, 0, τ) := by
      unfold oSurr
      (repeat (first | rw [if_pos (by omega)] | rw [if_neg (by omega)]))
      all_goals rfl
    exact v_lret G hQ (by rw [e]; exact ⟨rfl, st2 (st2 D 0 0 0) 0 0 1, rfl, rfl⟩) (Nat.le_of_ble_eq_true rfl) (Nat.le_of_ble_eq_true rfl) dX4_tellSurrender_19

set_option maxHeartbeats 4000000 in
theorem o_lapse {l : Launch} (hfl : l.stackTraces = false) {E : zEn} {h : zHp} {A : Nat → Nat} {τ D : mMem} (hA : mInj A) (H : okT τ) {p : Int} (nnp : n32 p)  : CN l E yX4_lapse (ws_ yX4_lapse cX4_lapse 4 (some FieldType.long)) ({ frames := 5, cells := 0, slots := 0, locals := 142 } : Room) [.ref (A 0), .int (iI p)] (zM E A h (sc τ D)) (zOL E A h (oLapse τ p)) := by
  refine CN.of (by decide +kernel) hfl (Nat.le_of_ble_eq_true rfl) fun θ Q hl G hin hQ => ?_
  subst hl
  show VW θ Q E (zM E A h (sc τ D)) 0 0 0 [(0, .ref (A 0)), (1, .int (iI p))] []
  have hm := H.many
  have hyr := H.year
  have hn := H.nums
  have hi := H.imp
  have hbt := H.bits
  have hw := H.law 0 (by omega) (by omega)
  have w9 := hw
  simp only [okLaw, okW] at w9
  refine v_aload_n G 0 rfl rfl dX4_lapse_0 ?_
  refine v_iconst G dX4_lapse_1 ?_
  refine pX4_1 G zM_0 (Nat.le_of_ble_eq_true rfl) dX4_lapse_2 ?_
  refine VW.hpe (zM_up0 (k := 0) (z := 0) rfl (by decide)) ?_
  refine VW.hpe (congrArg (zM E A h) (sc_D (k := 0) rfl)) ?_
  refine v_aload_n G 0 rfl rfl dX4_lapse_5 ?_
  refine v_iload_n G 1 rfl rfl dX4_lapse_6 ?_
  refine kX4_380 G (As := [.int (iI p)]) (rest := []) (cs' := 0) (sl' := 0) (n_isPolicy G.fl (τ := τ) (D := st2 D 0 0 0) hA (p := p) ⟨by omega, by omega⟩ (show 0 ≤ τ 10 0 ∧ τ 10 0 ≤ 24 by omega)) (zRcv.of G (q := (RX4, TX4, 55)) rfl zM_0) rfl rfl (Nat.le_of_ble_eq_true rfl) (zRm.ok rfl) dX4_lapse_7 (fun vq1 hq1 q1 => ?_)
  obtain ⟨_, _⟩ := q1
  subst vq1 hq1
  refine VW.nmI (fun z2 hz2 => ?_)
  have hz2 := (show (z2 = 1 ∧ 0 ≤ p ∧ p < τ 10 0) ∨ (z2 = 0 ∧ ¬ (0 ≤ p ∧ p < τ 10 0)) from ite01 hz2)
  show VW θ Q E (zM E A h (sc τ (st2 D 0 0 0))) 0 0 10 [(0, .ref (A 0)), (1, .int (iI p))] [.int (iI z2)]
  refine v_if_ne G 20 ⟨by omega, by omega⟩ (by decide) dX4_lapse_10 (fun c3 => ?_) (fun c3 => ?_)
  · have gz2 := bT hz2 (by omega)
    have P9 := H.pol p (by omega) (by omega)
    have ho := P9.1
    unfold okPol at P9
    have h9 := ho
    simp only [okP1, okP, tP] at h9
    refine v_aload_n G 0 rfl rfl dX4_lapse_20 ?_
    refine gX4_49 G zM_0 (v := .ref (A 29)) rfl dX4_lapse_21 ?_
    refine v_iload_n G 1 rfl rfl dX4_lapse_24 ?_
    refine m_ald G hA (v := τ 29 p) rfl ⟨by omega, by show _ < (24 : Int); omega⟩ rfl dX4_lapse_25 ?_
    refine v_if_ne G 39 ⟨by omega, by omega⟩ (by decide) dX4_lapse_26 (fun c4 => ?_) (fun c4 => ?_)
    · refine v_aload_n G 0 rfl rfl dX4_lapse_39 ?_
      refine v_iconst G dX4_lapse_40 ?_
      refine kX4_342 G (As := [.int (iI 2)]) (rest := []) (cs' := 0) (sl' := 0) (n_fails G.fl (τ := τ) (D := st2 D 0 0 0) hA (k := 2)) (zRcv.of G (q := (RX4, TX4, 55)) rfl zM_0) rfl rfl (Nat.le_of_ble_eq_true rfl) (zRm.ok rfl) dX4_lapse_41 (fun vq5 hq5 q5 => ?_)
      obtain ⟨_, _⟩ := q5
      subst vq5 hq5
      show VW θ Q E (zM E A h (sc τ (st2 (st2 D 0 0 0) 0 0 2))) 0 0 44 [(0, .ref (A 0)), (1, .int (iI p))] [.int (iI 0)]
      refine v_i2l G ⟨by decide, by decide⟩ dX4_lapse_44 ?_
      have e : oLapse τ p = (2, 0, τ) := by
        unfold oLapse
        (repeat (first | rw [if_pos (by omega)] | rw [if_neg (by omega)]))
        all_goals rfl
      exact v_lret G hQ (by rw [e]; exact ⟨rfl, st2 (st2 D 0 0 0) 0 0 2, rfl, rfl⟩) (Nat.le_of_ble_eq_true rfl) (Nat.le_of_ble_eq_true rfl) dX4_lapse_45
    · refine v_aload_n G 0 rfl rfl dX4_lapse_29 ?_
      refine gX4_31 G zM_0 (v := .ref (A 23)) rfl dX4_lapse_30 ?_
      refine v_iload_n G 1 rfl rfl dX4_lapse_33 ?_
      refine m_ald G hA (v := τ 23 p) rfl ⟨by omega, by show _ < (24 : Int); omega⟩ rfl dX4_lapse_34 ?_
      refine v_iconst G dX4_lapse_35 ?_
      refine v_icmp_ne G 46 ⟨by omega, by omega⟩ ⟨by decide, by decide⟩ (by decide) dX4_lapse_36 (fun c6 => ?_) (fun c6 => ?_)
      · refine v_aload_n G 0 rfl rfl dX4_lapse_46 ?_
        refine v_iload_n G 1 rfl rfl dX4_lapse_47 ?_
        refine v_aload_n G 0 rfl rfl dX4_lapse_48 ?_
        refine gX4_114 G zM_0 (v := .int (iI (τ 1 0))) rfl dX4_lapse_49 ?_
        refine v_iconst G dX4_lapse_52 ?_
        refine kX4_244 G (As := [.int (iI p), .int (iI (τ 1 0)), .int (iI 0)]) (rest := []) (cs' := 0) (sl' := 0) (n_resAt G.fl (τ := τ) (D := st2 D 0 0 0) hA (p := p) (y := (τ 1 0)) (law := 0) ⟨by omega, by omega⟩ ho ⟨by omega, by omega⟩ hw (H.A.2 p (by omega) (by omega)).2) (zRcv.of G (q := (RX4, TX4, 55)) rfl zM_0) rfl rfl (Nat.le_of_ble_eq_true rfl) (zRm.ok rfl) dX4_lapse_53 (fun vq7 hq7 q7 => ?_)
        obtain ⟨_, D8, hD8, _⟩ := q7
        subst vq7 hq7
        show VW θ Q E (zM E A h (sc τ D8)) 0 0 56 [(0, .ref (A 0)), (1, .int (iI p))] [.long (iL (rsT τ 0 p (τ 1 0)))]
        refine v_lstore_n G (L' := [(2, .long (iL (rsT τ 0 p (τ 1 0)))), (0, .ref (A 0)), (1, .int (iI p))]) rfl (Nat.le_of_ble_eq_true rfl) rfl dX4_lapse_56 ?_
        refine v_aload_n G 1 rfl rfl dX4_lapse_57 ?_
        refine gX4_24 G zM_0 (v := .ref (A 21)) rfl dX4_lapse_58 ?_
        refine v_iconst G dX4_lapse_61 ?_
        refine v_dup2 G rfl rfl dX4_lapse_62 ?_
        refine m_lld G hA (v := τ 21 4) rfl ⟨by omega, by show _ < (9 : Int); omega⟩ rfl dX4_lapse_63 ?_
        refine v_lload_n G 0 rfl rfl dX4_lapse_64 ?_
        refine v_aload_n G 1 rfl rfl dX4_lapse_65 ?_
        refine gX4_76 G zM_0 (v := .ref (A 38)) rfl dX4_lapse_66 ?_
        refine v_iload_n G 2 rfl rfl dX4_lapse_69 ?_
        refine m_lld G hA (v := τ 38 p) rfl ⟨by omega, by show _ < (24 : Int); omega⟩ rfl dX4_lapse_70 ?_
        refine v_lsub G dX4_lapse_71 ?_
        refine v_ladd G dX4_lapse_72 ?_
        refine m_lst G hA rfl ⟨by omega, by show _ < (9 : Int); omega⟩ dX4_lapse_73 ?_
        refine VW.hpe (congrArg (zM E A h) (sc_t (k := 21) rfl)) ?_
        refine v_aload_n G 1 rfl rfl dX4_lapse_74 ?_
        refine gX4_76 G zM_0 (v := .ref (A 38)) rfl dX4_lapse_75 ?_
        refine v_iload_n G 2 rfl rfl dX4_lapse_78 ?_
        refine v_lconst G (n := 0) (v0 := 0) rfl dX4_lapse_79 ?_
        refine m_lst G hA rfl ⟨by omega, by show _ < (24 : Int); omega⟩ dX4_lapse_80 ?_
        refine VW.hpe (congrArg (zM E A h) (sc_t (k := 38) rfl)) ?_
        refine v_aload_n G 1 rfl rfl dX4_lapse_81 ?_
        refine gX4_58 G zM_0 (v := .ref (A 32)) rfl dX4_lapse_82 ?_
        refine v_iload_n G 2 rfl rfl dX4_lapse_85 ?_
        refine v_aload_n G 1 rfl rfl dX4_lapse_86 ?_
        refine gX4_114 G zM_0 (v := .int (iI (τ 1 0))) rfl dX4_lapse_87 ?_
        refine m_ast G hA rfl ⟨by omega, by show _ < (24 : Int); omega⟩ dX4_lapse_90 ?_
        refine VW.hpe (congrArg (zM E A h) (sc_t (k := 32) rfl)) ?_
        refine v_aload_n G 1 rfl rfl dX4_lapse_91 ?_
        refine gX4_49 G zM_0 (v := .ref (A 29)) rfl dX4_lapse_92 ?_
        refine v_iload_n G 2 rfl rfl dX4_lapse_95 ?_
        refine v_bipush G rfl dX4_lapse_96 ?_
        refine m_ast G hA rfl ⟨by omega, by show _ < (24 : Int); omega⟩ dX4_lapse_98 ?_
        refine VW.hpe (congrArg (zM E A h) (sc_t (k := 29) rfl)) ?_
        refine v_lload_n G 0 rfl rfl dX4_lapse_99 ?_
        have e : oLapse τ p = (0, (rsT τ 0 p (τ 1 0)), st2 (st2 (st2 (st2 τ 21 4 ((τ 21 4) + ((rsT τ 0 p (τ 1 0)) - (τ 38 p)))) 38 p 0) 32 p (τ 1 0)) 29 p 7) := by
          unfold oLapse
          (repeat (first | rw [if_pos (by omega)] | rw [if_neg (by omega)]))
          all_goals rfl
        exact v_lret G hQ (by rw [e]; exact ⟨rfl, D8, ((congrFun (hD8 0 (Or.inl (by decide))) 0)), rfl⟩) (Nat.le_of_ble_eq_true rfl) (Nat.le_of_ble_eq_true rfl) dX4_lapse_100
      · refine v_aload_n G 0 rfl rfl dX4_lapse_39 ?_
        refine v_iconst G dX4_lapse_40 ?_
        refine kX4_342 G (As := [.int (iI 2)]) (rest := []) (cs' := 0) (sl' := 0) (n_fails G.fl (τ := τ) (D := st2 D 0 0 0) hA (k := 2)) (zRcv.of G (q := (RX4, TX4, 55)) rfl zM_0) rfl rfl (Nat.le_of_ble_eq_true rfl) (zRm.ok rfl) dX4_lapse_41 (fun vq9 hq9 q9 => ?_)
        obtain ⟨_, _⟩ := q9
        subst vq9 hq9
        show VW θ Q E (zM E A h (sc τ (st2 (st2 D 0 0 0) 0 0 2))) 0 0 44 [(0, .ref (A 0)), (1, .int (iI p))] [.int (iI 0)]
        refine v_i2l G ⟨by decide, by decide⟩ dX4_lapse_44 ?_
        have e : oLapse τ p = (2, 0, τ) := by
          unfold oLapse
          (repeat (first | rw [if_pos (by omega)] | rw [if_neg (by omega)]))
          all_goals rfl
        exact v_lret G hQ (by rw [e]; exact ⟨rfl, st2 (st2 D 0 0 0) 0 0 2, rfl, rfl⟩) (Nat.le_of_ble_eq_true rfl) (Nat.le_of_ble_eq_true rfl) dX4_lapse_45
  · have gz2 := bF hz2 (by omega)
    refine v_aload_n G 0 rfl rfl dX4_lapse_13 ?_
    refine v_iconst G dX4_lapse_14 ?_
    refine kX4_342 G (As := [.int (iI 1)]) (rest := []) (cs' := 0) (sl' := 0) (n_fails G.fl (τ := τ) (D := st2 D 0 0 0) hA (k := 1)) (zRcv.of G (q := (RX4, TX4, 55)) rfl zM_0) rfl rfl (Nat.le_of_ble_eq_true rfl) (zRm.ok rfl) dX4_lapse_15 (fun vq10 hq10 q10 => ?_)
    obtain ⟨_, _⟩ := q10
    subst vq10 hq10
    show VW θ Q E (zM E A h (sc τ (st2 (st2 D 0 0 0) 0 0 1))) 0 0 18 [(0, .ref (A 0)), (1, .int (iI p))] [.int (iI 0)]
    refine v_i2l G ⟨by decide, by decide⟩ dX4_lapse_18 ?_
    have e : oLapse τ p = (1, 0, τ) := by
      unfold oLapse
      (repeat (first | rw [if_pos (by omega)] | rw [if_neg (by omega)]))
      all_goals rfl
    exact v_lret G hQ (by rw [e]; exact ⟨rfl, st2 (st2 D 0 0 0) 0 0 1, rfl, rfl⟩) (Nat.le_of_ble_eq_true rfl) (Nat.le_of_ble_eq_true rfl) dX4_lapse_19

set_option maxHeartbeats 4000000 in
theorem o_rein {l : Launch} (hfl : l.stackTraces = false) {E : zEn} {h : zHp} {A : Nat → Nat} {τ D : mMem} (hA : mInj A) (H : okT τ) {p : Int} (nnp : n32 p)  : CN l E yX4_reinstate (ws_ yX4_reinstate cX4_reinstate 4 (some FieldType.long)) ({ frames := 5, cells := 0, slots := 0, locals := 142 } : Room) [.ref (A 0), .int (iI p)] (zM E A h (sc τ D)) (zOL E A h (oRein τ p)) := by
  refine CN.of (by decide +kernel) hfl (Nat.le_of_ble_eq_true rfl) fun θ Q hl G hin hQ => ?_
  subst hl
  show VW θ Q E (zM E A h (sc τ D)) 0 0 0 [(0, .ref (A 0)), (1, .int (iI p))] []
  have hm := H.many
  have hyr := H.year
  have hn := H.nums
  have hi := H.imp
  have hbt := H.bits
  have hw := H.law 0 (by omega) (by omega)
  have w9 := hw
  simp only [okLaw, okW] at w9
  refine v_aload_n G 0 rfl rfl dX4_reinstate_0 ?_
  refine v_iconst G dX4_reinstate_1 ?_
  refine pX4_1 G zM_0 (Nat.le_of_ble_eq_true rfl) dX4_reinstate_2 ?_
  refine VW.hpe (zM_up0 (k := 0) (z := 0) rfl (by decide)) ?_
  refine VW.hpe (congrArg (zM E A h) (sc_D (k := 0) rfl)) ?_
  refine v_aload_n G 0 rfl rfl dX4_reinstate_5 ?_
  refine v_iload_n G 1 rfl rfl dX4_reinstate_6 ?_
  refine kX4_380 G (As := [.int (iI p)]) (rest := []) (cs' := 0) (sl' := 0) (n_isPolicy G.fl (τ := τ) (D := st2 D 0 0 0) hA (p := p) ⟨by omega, by omega⟩ (show 0 ≤ τ 10 0 ∧ τ 10 0 ≤ 24 by omega)) (zRcv.of G (q := (RX4, TX4, 55)) rfl zM_0) rfl rfl (Nat.le_of_ble_eq_true rfl) (zRm.ok rfl) dX4_reinstate_7 (fun vq1 hq1 q1 => ?_)
  obtain ⟨_, _⟩ := q1
  subst vq1 hq1
  refine VW.nmI (fun z2 hz2 => ?_)
  have hz2 := (show (z2 = 1 ∧ 0 ≤ p ∧ p < τ 10 0) ∨ (z2 = 0 ∧ ¬ (0 ≤ p ∧ p < τ 10 0)) from ite01 hz2)
  show VW θ Q E (zM E A h (sc τ (st2 D 0 0 0))) 0 0 10 [(0, .ref (A 0)), (1, .int (iI p))] [.int (iI z2)]
  refine v_if_ne G 20 ⟨by omega, by omega⟩ (by decide) dX4_reinstate_10 (fun c3 => ?_) (fun c3 => ?_)
  · have gz2 := bT hz2 (by omega)
    have P9 := H.pol p (by omega) (by omega)
    have ho := P9.1
    unfold okPol at P9
    have h9 := ho
    simp only [okP1, okP, tP] at h9
    refine v_aload_n G 0 rfl rfl dX4_reinstate_20 ?_
    refine gX4_49 G zM_0 (v := .ref (A 29)) rfl dX4_reinstate_21 ?_
    refine v_iload_n G 1 rfl rfl dX4_reinstate_24 ?_
    refine m_ald G hA (v := τ 29 p) rfl ⟨by omega, by show _ < (24 : Int); omega⟩ rfl dX4_reinstate_25 ?_
    refine v_bipush G rfl dX4_reinstate_26 ?_
    refine v_icmp_ne G 59 ⟨by omega, by omega⟩ ⟨by decide, by decide⟩ (by decide) dX4_reinstate_28 (fun c4 => ?_) (fun c4 => ?_)
    · refine v_aload_n G 0 rfl rfl dX4_reinstate_59 ?_
      refine v_iconst G dX4_reinstate_60 ?_
      refine kX4_342 G (As := [.int (iI 2)]) (rest := []) (cs' := 0) (sl' := 0) (n_fails G.fl (τ := τ) (D := st2 D 0 0 0) hA (k := 2)) (zRcv.of G (q := (RX4, TX4, 55)) rfl zM_0) rfl rfl (Nat.le_of_ble_eq_true rfl) (zRm.ok rfl) dX4_reinstate_61 (fun vq5 hq5 q5 => ?_)
      obtain ⟨_, _⟩ := q5
      subst vq5 hq5
      show VW θ Q E (zM E A h (sc τ (st2 (st2 D 0 0 0) 0 0 2))) 0 0 64 [(0, .ref (A 0)), (1, .int (iI p))] [.int (iI 0)]
      refine v_i2l G ⟨by decide, by decide⟩ dX4_reinstate_64 ?_
      have e : oRein τ p = (2, 0, τ) := by
        unfold oRein
        (repeat (first | rw [if_pos (by omega)] | rw [if_neg (by omega)]))
        all_goals rfl
      exact v_lret G hQ (by rw [e]; exact ⟨rfl, st2 (st2 D 0 0 0) 0 0 2, rfl, rfl⟩) (Nat.le_of_ble_eq_true rfl) (Nat.le_of_ble_eq_true rfl) dX4_reinstate_65
    · refine v_aload_n G 0 rfl rfl dX4_reinstate_31 ?_
      refine gX4_114 G zM_0 (v := .int (iI (τ 1 0))) rfl dX4_reinstate_32 ?_
      refine v_aload_n G 0 rfl rfl dX4_reinstate_35 ?_
      refine gX4_58 G zM_0 (v := .ref (A 32)) rfl dX4_reinstate_36 ?_
      refine v_iload_n G 1 rfl rfl dX4_reinstate_39 ?_
      refine m_ald G hA (v := τ 32 p) rfl ⟨by omega, by show _ < (24 : Int); omega⟩ rfl dX4_reinstate_40 ?_
      refine v_isub G dX4_reinstate_41 ?_
      refine v_iconst G dX4_reinstate_42 ?_
      refine v_icmp_gt G 59 ⟨by omega, by omega⟩ ⟨by decide, by decide⟩ (by decide) dX4_reinstate_43 (fun c6 => ?_) (fun c6 => ?_)
      · refine v_aload_n G 0 rfl rfl dX4_reinstate_59 ?_
        refine v_iconst G dX4_reinstate_60 ?_
        refine kX4_342 G (As := [.int (iI 2)]) (rest := []) (cs' := 0) (sl' := 0) (n_fails G.fl (τ := τ) (D := st2 D 0 0 0) hA (k := 2)) (zRcv.of G (q := (RX4, TX4, 55)) rfl zM_0) rfl rfl (Nat.le_of_ble_eq_true rfl) (zRm.ok rfl) dX4_reinstate_61 (fun vq7 hq7 q7 => ?_)
        obtain ⟨_, _⟩ := q7
        subst vq7 hq7
        show VW θ Q E (zM E A h (sc τ (st2 (st2 D 0 0 0) 0 0 2))) 0 0 64 [(0, .ref (A 0)), (1, .int (iI p))] [.int (iI 0)]
        refine v_i2l G ⟨by decide, by decide⟩ dX4_reinstate_64 ?_
        have e : oRein τ p = (2, 0, τ) := by
          unfold oRein
          (repeat (first | rw [if_pos (by omega)] | rw [if_neg (by omega)]))
          all_goals rfl
        exact v_lret G hQ (by rw [e]; exact ⟨rfl, st2 (st2 D 0 0 0) 0 0 2, rfl, rfl⟩) (Nat.le_of_ble_eq_true rfl) (Nat.le_of_ble_eq_true rfl) dX4_reinstate_65
      · refine v_aload_n G 0 rfl rfl dX4_reinstate_46 ?_
        refine gX4_46 G zM_0 (v := .ref (A 28)) rfl dX4_reinstate_47 ?_
        refine v_iload_n G 1 rfl rfl dX4_reinstate_50 ?_
        refine m_ald G hA (v := τ 28 p) rfl ⟨by omega, by show _ < (24 : Int); omega⟩ rfl dX4_reinstate_51 ?_
        refine v_aload_n G 0 rfl rfl dX4_reinstate_52 ?_
        refine gX4_114 G zM_0 (v := .int (iI (τ 1 0))) rfl dX4_reinstate_53 ?_
        refine v_icmp_gt G 66 ⟨by omega, by omega⟩ ⟨by omega, by omega⟩ (by decide) dX4_reinstate_56 (fun c8 => ?_) (fun c8 => ?_)
        · refine v_aload_n G 0 rfl rfl dX4_reinstate_66 ?_
          refine gX4_64 G zM_0 (v := .ref (A 34)) rfl dX4_reinstate_67 ?_
          refine v_iload_n G 1 rfl rfl dX4_reinstate_70 ?_
          refine m_zld G hA (v := τ 34 p) rfl ⟨by omega, by show _ < (24 : Int); omega⟩ rfl dX4_reinstate_71 ?_
          have J9 : ∀ (pay : Int), (pay = riP τ p) → VW θ Q E (zM E A h (sc τ (st2 D 0 0 0))) 0 0 106 [(0, .ref (A 0)), (1, .int (iI p))] [.long (iL pay)] := by
            intro pay hpay
            refine v_lstore_n G (L' := [(2, .long (iL pay)), (0, .ref (A 0)), (1, .int (iI p))]) rfl (Nat.le_of_ble_eq_true rfl) rfl dX4_reinstate_106 ?_
            refine v_aload_n G 1 rfl rfl dX4_reinstate_107 ?_
            refine gX4_49 G zM_0 (v := .ref (A 29)) rfl dX4_reinstate_108 ?_
            refine v_iload_n G 2 rfl rfl dX4_reinstate_111 ?_
            refine v_aload_n G 1 rfl rfl dX4_reinstate_112 ?_
            refine gX4_64 G zM_0 (v := .ref (A 34)) rfl dX4_reinstate_113 ?_
            refine v_iload_n G 2 rfl rfl dX4_reinstate_116 ?_
            refine m_zld G hA (v := τ 34 p) rfl ⟨by omega, by show _ < (24 : Int); omega⟩ rfl dX4_reinstate_117 ?_
            have J10 : ∀ (sv : Int), (sv = if τ 34 p = 1 then 1 else 0) → (0 ≤ sv ∧ sv ≤ 1) → VW θ Q E (zM E A h (sc τ (st2 D 0 0 0))) 0 0 126 [(2, .long (iL pay)), (0, .ref (A 0)), (1, .int (iI p))] [.int (iI sv), .int (iI p), .ref (A 29)] := by
              intro sv hsv hsv2
              refine m_ast G hA rfl ⟨by omega, by show _ < (24 : Int); omega⟩ dX4_reinstate_126 ?_
              refine VW.hpe (congrArg (zM E A h) (sc_t (k := 29) rfl)) ?_
              refine v_aload_n G 1 rfl rfl dX4_reinstate_127 ?_
              refine v_dup G rfl dX4_reinstate_128 ?_
              refine gX4_117 G zM_0 (v := .long (iL (τ 14 0))) rfl dX4_reinstate_129 ?_
              refine v_lload_n G 0 rfl rfl dX4_reinstate_132 ?_
              refine v_ladd G dX4_reinstate_133 ?_
              refine pX4_117 G zM_0 (Nat.le_of_ble_eq_true rfl) dX4_reinstate_134 ?_
              refine VW.hpe (zM_up0 (k := 14) (z := ((τ 14 0) + pay)) rfl (by decide)) ?_
              refine VW.hpe (congrArg (zM E A h) (sc_t (k := 14) rfl)) ?_
              refine v_aload_n G 1 rfl rfl dX4_reinstate_137 ?_
              refine gX4_24 G zM_0 (v := .ref (A 21)) rfl dX4_reinstate_138 ?_
              refine v_iconst G dX4_reinstate_141 ?_
              refine v_dup2 G rfl rfl dX4_reinstate_142 ?_
              refine m_lld G hA (v := τ 21 4) rfl ⟨by omega, by show _ < (9 : Int); omega⟩ rfl dX4_reinstate_143 ?_
              refine v_lload_n G 0 rfl rfl dX4_reinstate_144 ?_
              refine v_aload_n G 1 rfl rfl dX4_reinstate_145 ?_
              refine v_iload_n G 2 rfl rfl dX4_reinstate_146 ?_
              refine v_aload_n G 1 rfl rfl dX4_reinstate_147 ?_
              refine gX4_114 G zM_0 (v := .int (iI (τ 1 0))) rfl dX4_reinstate_148 ?_
              refine v_iconst G dX4_reinstate_151 ?_
              refine kX4_244 G (As := [.int (iI p), .int (iI (τ 1 0)), .int (iI 0)]) (rest := [.long (iL pay), .long (iL (τ 21 4)), .int (iI 4), .ref (A 21)]) (cs' := 0) (sl' := 0) (n_resAt G.fl (τ := st2 (st2 τ 29 p sv) 14 0 ((τ 14 0) + pay)) (D := st2 D 0 0 0) hA (p := p) (y := (τ 1 0)) (law := 0) ⟨by omega, by omega⟩ (show okP1 (st2 τ 29 p sv) p from stP ho ⟨by omega, by omega⟩) ⟨by omega, by omega⟩ (show okLaw (st2 τ 29 p sv) 0 from hw) (show okY (st2 τ 29 p sv) p (τ 1 0) from stY ⟨by omega, by omega, by omega⟩)) (zRcv.of G (q := (RX4, TX4, 55)) rfl zM_0) rfl rfl (Nat.le_of_ble_eq_true rfl) (zRm.ok rfl) dX4_reinstate_152 (fun vq11 hq11 q11 => ?_)
              obtain ⟨_, D12, hD12, _⟩ := q11
              subst vq11 hq11
              show VW θ Q E (zM E A h (sc (st2 (st2 τ 29 p sv) 14 0 ((τ 14 0) + pay)) D12)) 0 0 155 [(2, .long (iL pay)), (0, .ref (A 0)), (1, .int (iI p))] [.long (iL (rsT (st2 (st2 τ 29 p sv) 14 0 ((τ 14 0) + pay)) 0 p (τ 1 0))), .long (iL pay), .long (iL (τ 21 4)), .int (iI 4), .ref (A 21)]
              refine v_lsub G dX4_reinstate_155 ?_
              refine v_ladd G dX4_reinstate_156 ?_
              refine m_lst G hA rfl ⟨by omega, by show _ < (9 : Int); omega⟩ dX4_reinstate_157 ?_
              refine VW.hpe (congrArg (zM E A h) (sc_t (k := 21) rfl)) ?_
              refine v_lload_n G 0 rfl rfl dX4_reinstate_158 ?_
              have e : oRein τ p = (0, pay, st2 (st2 (st2 τ 29 p sv) 14 0 ((τ 14 0) + pay)) 21 4 ((τ 21 4) + (pay - (rsT (st2 (st2 τ 29 p sv) 14 0 ((τ 14 0) + pay)) 0 p (τ 1 0))))) := by
                subst hpay hsv
                unfold oRein
                (repeat (first | rw [if_pos (by omega)] | rw [if_neg (by omega)]))
                all_goals rfl
              exact v_lret G hQ (by rw [e]; exact ⟨rfl, D12, ((congrFun (hD12 0 (Or.inl (by decide))) 0)), rfl⟩) (Nat.le_of_ble_eq_true rfl) (Nat.le_of_ble_eq_true rfl) dX4_reinstate_159
            refine v_if_eq G 125 ⟨by omega, by omega⟩ (by decide) dX4_reinstate_118 (fun c13 => ?_) (fun c13 => ?_)
            · refine v_iconst G dX4_reinstate_125 ?_
              exact J10 0 (by first | rw [if_pos (by omega)] | rw [if_neg (by omega)]) ⟨by omega, by omega⟩
            · refine v_iconst G dX4_reinstate_121 ?_
              refine v_goto G 126 (by decide) dX4_reinstate_122 ?_
              exact J10 1 (by first | rw [if_pos (by omega)] | rw [if_neg (by omega)]) ⟨by omega, by omega⟩
          refine v_if_eq G 79 ⟨by omega, by omega⟩ (by decide) dX4_reinstate_72 (fun c14 => ?_) (fun c14 => ?_)
          · refine v_aload_n G 0 rfl rfl dX4_reinstate_79 ?_
            refine gX4_114 G zM_0 (v := .int (iI (τ 1 0))) rfl dX4_reinstate_80 ?_
            refine v_aload_n G 0 rfl rfl dX4_reinstate_83 ?_
            refine gX4_58 G zM_0 (v := .ref (A 32)) rfl dX4_reinstate_84 ?_
            refine v_iload_n G 1 rfl rfl dX4_reinstate_87 ?_
            refine m_ald G hA (v := τ 32 p) rfl ⟨by omega, by show _ < (24 : Int); omega⟩ rfl dX4_reinstate_88 ?_
            refine v_isub G dX4_reinstate_89 ?_
            refine v_i2l G ⟨by omega, by omega⟩ dX4_reinstate_90 ?_
            refine v_aload_n G 0 rfl rfl dX4_reinstate_91 ?_
            refine gX4_79 G zM_0 (v := .ref (A 39)) rfl dX4_reinstate_92 ?_
            refine v_iload_n G 1 rfl rfl dX4_reinstate_95 ?_
            refine m_lld G hA (v := τ 39 p) rfl ⟨by omega, by show _ < (24 : Int); omega⟩ rfl dX4_reinstate_96 ?_
            refine v_ldc2 G (v := 1050) q2337 rfl dX4_reinstate_97 ?_
            refine v_lmul G dX4_reinstate_100 ?_
            refine v_ldc2 G (v := 1000) q2190 rfl dX4_reinstate_101 ?_
            refine v_ldiv G ⟨by omega, by omega⟩ ⟨by decide, by decide⟩ dX4_reinstate_104 ?_
            refine v_lmul G dX4_reinstate_105 ?_
            exact J9 (((τ 1 0) - (τ 32 p)) * (((τ 39 p) * 1050) / 1000)) (by unfold riP; first | rw [if_pos (by omega)] | rw [if_neg (by omega)])
          · refine v_lconst G (n := 0) (v0 := 0) rfl dX4_reinstate_75 ?_
            refine v_goto G 106 (by decide) dX4_reinstate_76 ?_
            exact J9 0 (by unfold riP; first | rw [if_pos (by omega)] | rw [if_neg (by omega)])
        · refine v_aload_n G 0 rfl rfl dX4_reinstate_59 ?_
          refine v_iconst G dX4_reinstate_60 ?_
          refine kX4_342 G (As := [.int (iI 2)]) (rest := []) (cs' := 0) (sl' := 0) (n_fails G.fl (τ := τ) (D := st2 D 0 0 0) hA (k := 2)) (zRcv.of G (q := (RX4, TX4, 55)) rfl zM_0) rfl rfl (Nat.le_of_ble_eq_true rfl) (zRm.ok rfl) dX4_reinstate_61 (fun vq15 hq15 q15 => ?_)
          obtain ⟨_, _⟩ := q15
          subst vq15 hq15
          show VW θ Q E (zM E A h (sc τ (st2 (st2 D 0 0 0) 0 0 2))) 0 0 64 [(0, .ref (A 0)), (1, .int (iI p))] [.int (iI 0)]
          refine v_i2l G ⟨by decide, by decide⟩ dX4_reinstate_64 ?_
          have e : oRein τ p = (2, 0, τ) := by
            unfold oRein
            (repeat (first | rw [if_pos (by omega)] | rw [if_neg (by omega)]))
            all_goals rfl
          exact v_lret G hQ (by rw [e]; exact ⟨rfl, st2 (st2 D 0 0 0) 0 0 2, rfl, rfl⟩) (Nat.le_of_ble_eq_true rfl) (Nat.le_of_ble_eq_true rfl) dX4_reinstate_65
  · have gz2 := bF hz2 (by omega)
    refine v_aload_n G 0 rfl rfl dX4_reinstate_13 ?_
    refine v_iconst G dX4_reinstate_14 ?_
    refine kX4_342 G (As := [.int (iI 1)]) (rest := []) (cs' := 0) (sl' := 0) (n_fails G.fl (τ := τ) (D := st2 D 0 0 0) hA (k := 1)) (zRcv.of G (q := (RX4, TX4, 55)) rfl zM_0) rfl rfl (Nat.le_of_ble_eq_true rfl) (zRm.ok rfl) dX4_reinstate_15 (fun vq16 hq16 q16 => ?_)
    obtain ⟨_, _⟩ := q16
    subst vq16 hq16
    show VW θ Q E (zM E A h (sc τ (st2 (st2 D 0 0 0) 0 0 1))) 0 0 18 [(0, .ref (A 0)), (1, .int (iI p))] [.int (iI 0)]
    refine v_i2l G ⟨by decide, by decide⟩ dX4_reinstate_18 ?_
    have e : oRein τ p = (1, 0, τ) := by
      unfold oRein
      (repeat (first | rw [if_pos (by omega)] | rw [if_neg (by omega)]))
      all_goals rfl
    exact v_lret G hQ (by rw [e]; exact ⟨rfl, st2 (st2 D 0 0 0) 0 0 1, rfl, rfl⟩) (Nat.le_of_ble_eq_true rfl) (Nat.le_of_ble_eq_true rfl) dX4_reinstate_19

set_option maxHeartbeats 4000000 in
theorem o_guar {l : Launch} (hfl : l.stackTraces = false) {E : zEn} {h : zHp} {A : Nat → Nat} {τ D : mMem} (hA : mInj A) (H : okT τ) {p : Int} (nnp : n32 p) {g : Int} (nng : n32 g)  : CN l E yX4_setGuarantee (ws_ yX4_setGuarantee cX4_setGuarantee 4 (some FieldType.int)) ({ frames := 2, cells := 0, slots := 0, locals := 46 } : Room) [.ref (A 0), .int (iI p), .int (iI g)] (zM E A h (sc τ D)) (zOI E A h (oGuar τ p g)) := by
  refine CN.of (by decide +kernel) hfl (Nat.le_of_ble_eq_true rfl) fun θ Q hl G hin hQ => ?_
  subst hl
  show VW θ Q E (zM E A h (sc τ D)) 0 0 0 [(0, .ref (A 0)), (1, .int (iI p)), (2, .int (iI g))] []
  have hm := H.many
  have hyr := H.year
  have hn := H.nums
  have hi := H.imp
  have hbt := H.bits
  have hw := H.law 0 (by omega) (by omega)
  have w9 := hw
  simp only [okLaw, okW] at w9
  refine v_aload_n G 0 rfl rfl dX4_setGuarantee_0 ?_
  refine v_iconst G dX4_setGuarantee_1 ?_
  refine pX4_1 G zM_0 (Nat.le_of_ble_eq_true rfl) dX4_setGuarantee_2 ?_
  refine VW.hpe (zM_up0 (k := 0) (z := 0) rfl (by decide)) ?_
  refine VW.hpe (congrArg (zM E A h) (sc_D (k := 0) rfl)) ?_
  refine v_aload_n G 0 rfl rfl dX4_setGuarantee_5 ?_
  refine v_iload_n G 1 rfl rfl dX4_setGuarantee_6 ?_
  refine kX4_380 G (As := [.int (iI p)]) (rest := []) (cs' := 0) (sl' := 0) (n_isPolicy G.fl (τ := τ) (D := st2 D 0 0 0) hA (p := p) ⟨by omega, by omega⟩ (show 0 ≤ τ 10 0 ∧ τ 10 0 ≤ 24 by omega)) (zRcv.of G (q := (RX4, TX4, 55)) rfl zM_0) rfl rfl (Nat.le_of_ble_eq_true rfl) (zRm.ok rfl) dX4_setGuarantee_7 (fun vq1 hq1 q1 => ?_)
  obtain ⟨_, _⟩ := q1
  subst vq1 hq1
  refine VW.nmI (fun z2 hz2 => ?_)
  have hz2 := (show (z2 = 1 ∧ 0 ≤ p ∧ p < τ 10 0) ∨ (z2 = 0 ∧ ¬ (0 ≤ p ∧ p < τ 10 0)) from ite01 hz2)
  show VW θ Q E (zM E A h (sc τ (st2 D 0 0 0))) 0 0 10 [(0, .ref (A 0)), (1, .int (iI p)), (2, .int (iI g))] [.int (iI z2)]
  refine v_if_ne G 19 ⟨by omega, by omega⟩ (by decide) dX4_setGuarantee_10 (fun c3 => ?_) (fun c3 => ?_)
  · have gz2 := bT hz2 (by omega)
    have P9 := H.pol p (by omega) (by omega)
    have ho := P9.1
    unfold okPol at P9
    have h9 := ho
    simp only [okP1, okP, tP] at h9
    refine v_iload_n G 2 rfl rfl dX4_setGuarantee_19 ?_
    refine v_i2l G ⟨by omega, by omega⟩ dX4_setGuarantee_20 ?_
    refine v_lconst G (n := 0) (v0 := 0) rfl dX4_setGuarantee_21 ?_
    refine v_ldc2 G (v := 300) q2242 rfl dX4_setGuarantee_22 ?_
    refine kX4_168 G (As := [.long (iL g), .long (iL 0), .long (iL 300)]) (rest := []) (cs' := 0) (sl' := 0) (n_isIn G.fl (v := g) (a := 0) (b := 300) ⟨by omega, by omega⟩ ⟨by decide, by decide⟩ ⟨by decide, by decide⟩) rfl rfl (Nat.le_of_ble_eq_true rfl) (zRm.ok rfl) dX4_setGuarantee_25 (fun vq4 hq4 q4 => ?_)
    obtain ⟨_, _⟩ := q4
    subst vq4 hq4
    refine VW.nmI (fun z5 hz5 => ?_)
    have hz5 := ite01 hz5
    show VW θ Q E (zM E A h (sc τ (st2 D 0 0 0))) 0 0 28 [(0, .ref (A 0)), (1, .int (iI p)), (2, .int (iI g))] [.int (iI z5)]
    refine v_if_ne G 37 ⟨by omega, by omega⟩ (by decide) dX4_setGuarantee_28 (fun c6 => ?_) (fun c6 => ?_)
    · have gz5 := bT hz5 (by omega)
      refine v_aload_n G 0 rfl rfl dX4_setGuarantee_37 ?_
      refine gX4_31 G zM_0 (v := .ref (A 23)) rfl dX4_setGuarantee_38 ?_
      refine v_iload_n G 1 rfl rfl dX4_setGuarantee_41 ?_
      refine m_ald G hA (v := τ 23 p) rfl ⟨by omega, by show _ < (24 : Int); omega⟩ rfl dX4_setGuarantee_42 ?_
      refine v_iconst G dX4_setGuarantee_43 ?_
      refine v_icmp_ne G 55 ⟨by omega, by omega⟩ ⟨by decide, by decide⟩ (by decide) dX4_setGuarantee_44 (fun c7 => ?_) (fun c7 => ?_)
      · refine v_aload_n G 0 rfl rfl dX4_setGuarantee_55 ?_
        refine v_iconst G dX4_setGuarantee_56 ?_
        refine kX4_342 G (As := [.int (iI 3)]) (rest := []) (cs' := 0) (sl' := 0) (n_fails G.fl (τ := τ) (D := st2 D 0 0 0) hA (k := 3)) (zRcv.of G (q := (RX4, TX4, 55)) rfl zM_0) rfl rfl (Nat.le_of_ble_eq_true rfl) (zRm.ok rfl) dX4_setGuarantee_57 (fun vq8 hq8 q8 => ?_)
        obtain ⟨_, _⟩ := q8
        subst vq8 hq8
        show VW θ Q E (zM E A h (sc τ (st2 (st2 D 0 0 0) 0 0 3))) 0 0 60 [(0, .ref (A 0)), (1, .int (iI p)), (2, .int (iI g))] [.int (iI 0)]
        have e : oGuar τ p g = (3, 0, τ) := by
          unfold oGuar
          (repeat (first | rw [if_pos (by omega)] | rw [if_neg (by omega)]))
          all_goals rfl
        exact v_iret G hQ (by rw [e]; exact ⟨rfl, st2 (st2 D 0 0 0) 0 0 3, rfl, rfl⟩) (Nat.le_of_ble_eq_true rfl) (Nat.le_of_ble_eq_true rfl) dX4_setGuarantee_60
      · refine v_aload_n G 0 rfl rfl dX4_setGuarantee_47 ?_
        refine v_iload_n G 1 rfl rfl dX4_setGuarantee_48 ?_
        refine kX4_383 G (As := [.int (iI p)]) (rest := []) (cs' := 0) (sl' := 0) (n_isQuiet G.fl (τ := τ) (D := st2 D 0 0 0) hA (p := p) ⟨by omega, by omega⟩ (show 0 ≤ τ 29 p ∧ τ 29 p ≤ 7 by omega)) (zRcv.of G (q := (RX4, TX4, 55)) rfl zM_0) rfl rfl (Nat.le_of_ble_eq_true rfl) (zRm.ok rfl) dX4_setGuarantee_49 (fun vq9 hq9 q9 => ?_)
        obtain ⟨_, _⟩ := q9
        subst vq9 hq9
        refine VW.nmI (fun z10 hz10 => ?_)
        have hz10 := (show (z10 = 1 ∧ τ 29 p ≤ 1) ∨ (z10 = 0 ∧ ¬ (τ 29 p ≤ 1)) from ite01 hz10)
        show VW θ Q E (zM E A h (sc τ (st2 D 0 0 0))) 0 0 52 [(0, .ref (A 0)), (1, .int (iI p)), (2, .int (iI g))] [.int (iI z10)]
        refine v_if_ne G 61 ⟨by omega, by omega⟩ (by decide) dX4_setGuarantee_52 (fun c11 => ?_) (fun c11 => ?_)
        · have gz10 := bT hz10 (by omega)
          refine v_aload_n G 0 rfl rfl dX4_setGuarantee_61 ?_
          refine gX4_61 G zM_0 (v := .ref (A 33)) rfl dX4_setGuarantee_62 ?_
          refine v_iload_n G 1 rfl rfl dX4_setGuarantee_65 ?_
          refine m_ald G hA (v := τ 33 p) rfl ⟨by omega, by show _ < (24 : Int); omega⟩ rfl dX4_setGuarantee_66 ?_
          refine v_istore_n G (L' := [(3, .int (iI (τ 33 p))), (0, .ref (A 0)), (1, .int (iI p)), (2, .int (iI g))]) rfl (Nat.le_of_ble_eq_true rfl) rfl dX4_setGuarantee_67 ?_
          refine v_aload_n G 1 rfl rfl dX4_setGuarantee_68 ?_
          refine gX4_61 G zM_0 (v := .ref (A 33)) rfl dX4_setGuarantee_69 ?_
          refine v_iload_n G 2 rfl rfl dX4_setGuarantee_72 ?_
          refine v_iload_n G 3 rfl rfl dX4_setGuarantee_73 ?_
          refine m_ast G hA rfl ⟨by omega, by show _ < (24 : Int); omega⟩ dX4_setGuarantee_74 ?_
          refine VW.hpe (congrArg (zM E A h) (sc_t (k := 33) rfl)) ?_
          refine v_iload_n G 0 rfl rfl dX4_setGuarantee_75 ?_
          have e : oGuar τ p g = (0, (τ 33 p), st2 τ 33 p g) := by
            unfold oGuar
            (repeat (first | rw [if_pos (by omega)] | rw [if_neg (by omega)]))
            all_goals rfl
          exact v_iret G hQ (by rw [e]; exact ⟨rfl, st2 D 0 0 0, rfl, rfl⟩) (Nat.le_of_ble_eq_true rfl) (Nat.le_of_ble_eq_true rfl) dX4_setGuarantee_76
        · have gz10 := bF hz10 (by omega)
          refine v_aload_n G 0 rfl rfl dX4_setGuarantee_55 ?_
          refine v_iconst G dX4_setGuarantee_56 ?_
          refine kX4_342 G (As := [.int (iI 3)]) (rest := []) (cs' := 0) (sl' := 0) (n_fails G.fl (τ := τ) (D := st2 D 0 0 0) hA (k := 3)) (zRcv.of G (q := (RX4, TX4, 55)) rfl zM_0) rfl rfl (Nat.le_of_ble_eq_true rfl) (zRm.ok rfl) dX4_setGuarantee_57 (fun vq12 hq12 q12 => ?_)
          obtain ⟨_, _⟩ := q12
          subst vq12 hq12
          show VW θ Q E (zM E A h (sc τ (st2 (st2 D 0 0 0) 0 0 3))) 0 0 60 [(0, .ref (A 0)), (1, .int (iI p)), (2, .int (iI g))] [.int (iI 0)]
          have e : oGuar τ p g = (3, 0, τ) := by
            unfold oGuar
            (repeat (first | rw [if_pos (by omega)] | rw [if_neg (by omega)]))
            all_goals rfl
          exact v_iret G hQ (by rw [e]; exact ⟨rfl, st2 (st2 D 0 0 0) 0 0 3, rfl, rfl⟩) (Nat.le_of_ble_eq_true rfl) (Nat.le_of_ble_eq_true rfl) dX4_setGuarantee_60
    · have gz5 := bF hz5 (by omega)
      refine v_aload_n G 0 rfl rfl dX4_setGuarantee_31 ?_
      refine v_iconst G dX4_setGuarantee_32 ?_
      refine kX4_342 G (As := [.int (iI 2)]) (rest := []) (cs' := 0) (sl' := 0) (n_fails G.fl (τ := τ) (D := st2 D 0 0 0) hA (k := 2)) (zRcv.of G (q := (RX4, TX4, 55)) rfl zM_0) rfl rfl (Nat.le_of_ble_eq_true rfl) (zRm.ok rfl) dX4_setGuarantee_33 (fun vq13 hq13 q13 => ?_)
      obtain ⟨_, _⟩ := q13
      subst vq13 hq13
      show VW θ Q E (zM E A h (sc τ (st2 (st2 D 0 0 0) 0 0 2))) 0 0 36 [(0, .ref (A 0)), (1, .int (iI p)), (2, .int (iI g))] [.int (iI 0)]
      have e : oGuar τ p g = (2, 0, τ) := by
        unfold oGuar
        (repeat (first | rw [if_pos (by omega)] | rw [if_neg (by omega)]))
        all_goals rfl
      exact v_iret G hQ (by rw [e]; exact ⟨rfl, st2 (st2 D 0 0 0) 0 0 2, rfl, rfl⟩) (Nat.le_of_ble_eq_true rfl) (Nat.le_of_ble_eq_true rfl) dX4_setGuarantee_36
  · have gz2 := bF hz2 (by omega)
    refine v_aload_n G 0 rfl rfl dX4_setGuarantee_13 ?_
    refine v_iconst G dX4_setGuarantee_14 ?_
    refine kX4_342 G (As := [.int (iI 1)]) (rest := []) (cs' := 0) (sl' := 0) (n_fails G.fl (τ := τ) (D := st2 D 0 0 0) hA (k := 1)) (zRcv.of G (q := (RX4, TX4, 55)) rfl zM_0) rfl rfl (Nat.le_of_ble_eq_true rfl) (zRm.ok rfl) dX4_setGuarantee_15 (fun vq14 hq14 q14 => ?_)
    obtain ⟨_, _⟩ := q14
    subst vq14 hq14
    show VW θ Q E (zM E A h (sc τ (st2 (st2 D 0 0 0) 0 0 1))) 0 0 18 [(0, .ref (A 0)), (1, .int (iI p)), (2, .int (iI g))] [.int (iI 0)]
    have e : oGuar τ p g = (1, 0, τ) := by
      unfold oGuar
      (repeat (first | rw [if_pos (by omega)] | rw [if_neg (by omega)]))
      all_goals rfl
    exact v_iret G hQ (by rw [e]; exact ⟨rfl, st2 (st2 D 0 0 0) 0 0 1, rfl, rfl⟩) (Nat.le_of_ble_eq_true rfl) (Nat.le_of_ble_eq_true rfl) dX4_setGuarantee_18

set_option maxHeartbeats 4000000 in
theorem o_opt {l : Launch} (hfl : l.stackTraces = false) {E : zEn} {h : zHp} {A : Nat → Nat} {τ D : mMem} (hA : mInj A) (H : okT τ) {p : Int} (nnp : n32 p) {s : Int} (nns : n32 s)  : CN l E yX4_optionValue (ws_ yX4_optionValue cX4_optionValue 3 (some FieldType.long)) ({ frames := 4, cells := 0, slots := 0, locals := 110 } : Room) [.ref (A 0), .int (iI p), .int (iI s)] (zM E A h (sc τ D)) (zOL E A h (oOpt τ p s)) := by
  refine CN.of (by decide +kernel) hfl (Nat.le_of_ble_eq_true rfl) fun θ Q hl G hin hQ => ?_
  subst hl
  show VW θ Q E (zM E A h (sc τ D)) 0 0 0 [(0, .ref (A 0)), (1, .int (iI p)), (2, .int (iI s))] []
  have hm := H.many
  have hyr := H.year
  have hn := H.nums
  have hi := H.imp
  have hbt := H.bits
  have hw := H.law 0 (by omega) (by omega)
  have w9 := hw
  simp only [okLaw, okW] at w9
  refine v_aload_n G 0 rfl rfl dX4_optionValue_0 ?_
  refine v_iconst G dX4_optionValue_1 ?_
  refine pX4_1 G zM_0 (Nat.le_of_ble_eq_true rfl) dX4_optionValue_2 ?_
  refine VW.hpe (zM_up0 (k := 0) (z := 0) rfl (by decide)) ?_
  refine VW.hpe (congrArg (zM E A h) (sc_D (k := 0) rfl)) ?_
  refine v_aload_n G 0 rfl rfl dX4_optionValue_5 ?_
  refine v_iload_n G 1 rfl rfl dX4_optionValue_6 ?_
  refine kX4_380 G (As := [.int (iI p)]) (rest := []) (cs' := 0) (sl' := 0) (n_isPolicy G.fl (τ := τ) (D := st2 D 0 0 0) hA (p := p) ⟨by omega, by omega⟩ (show 0 ≤ τ 10 0 ∧ τ 10 0 ≤ 24 by omega)) (zRcv.of G (q := (RX4, TX4, 55)) rfl zM_0) rfl rfl (Nat.le_of_ble_eq_true rfl) (zRm.ok rfl) dX4_optionValue_7 (fun vq1 hq1 q1 => ?_)
  obtain ⟨_, _⟩ := q1
  subst vq1 hq1
  refine VW.nmI (fun z2 hz2 => ?_)
  have hz2 := (show (z2 = 1 ∧ 0 ≤ p ∧ p < τ 10 0) ∨ (z2 = 0 ∧ ¬ (0 ≤ p ∧ p < τ 10 0)) from ite01 hz2)
  show VW θ Q E (zM E A h (sc τ (st2 D 0 0 0))) 0 0 10 [(0, .ref (A 0)), (1, .int (iI p)), (2, .int (iI s))] [.int (iI z2)]
  refine v_if_ne G 20 ⟨by omega, by omega⟩ (by decide) dX4_optionValue_10 (fun c3 => ?_) (fun c3 => ?_)
  · have gz2 := bT hz2 (by omega)
    have P9 := H.pol p (by omega) (by omega)
    have ho := P9.1
    unfold okPol at P9
    have h9 := ho
    simp only [okP1, okP, tP] at h9
    refine v_iload_n G 2 rfl rfl dX4_optionValue_20 ?_
    refine v_i2l G ⟨by omega, by omega⟩ dX4_optionValue_21 ?_
    refine v_lconst G (n := 0) (v0 := 0) rfl dX4_optionValue_22 ?_
    refine v_ldc2 G (v := 20) q2185 rfl dX4_optionValue_23 ?_
    refine kX4_168 G (As := [.long (iL s), .long (iL 0), .long (iL 20)]) (rest := []) (cs' := 0) (sl' := 0) (n_isIn G.fl (v := s) (a := 0) (b := 20) ⟨by omega, by omega⟩ ⟨by decide, by decide⟩ ⟨by decide, by decide⟩) rfl rfl (Nat.le_of_ble_eq_true rfl) (zRm.ok rfl) dX4_optionValue_26 (fun vq4 hq4 q4 => ?_)
    obtain ⟨_, _⟩ := q4
    subst vq4 hq4
    refine VW.nmI (fun z5 hz5 => ?_)
    have hz5 := ite01 hz5
    show VW θ Q E (zM E A h (sc τ (st2 D 0 0 0))) 0 0 29 [(0, .ref (A 0)), (1, .int (iI p)), (2, .int (iI s))] [.int (iI z5)]
    refine v_if_ne G 39 ⟨by omega, by omega⟩ (by decide) dX4_optionValue_29 (fun c6 => ?_) (fun c6 => ?_)
    · have gz5 := bT hz5 (by omega)
      refine v_aload_n G 0 rfl rfl dX4_optionValue_39 ?_
      refine gX4_31 G zM_0 (v := .ref (A 23)) rfl dX4_optionValue_40 ?_
      refine v_iload_n G 1 rfl rfl dX4_optionValue_43 ?_
      refine m_ald G hA (v := τ 23 p) rfl ⟨by omega, by show _ < (24 : Int); omega⟩ rfl dX4_optionValue_44 ?_
      refine v_iconst G dX4_optionValue_45 ?_
      refine v_icmp_ne G 57 ⟨by omega, by omega⟩ ⟨by decide, by decide⟩ (by decide) dX4_optionValue_46 (fun c7 => ?_) (fun c7 => ?_)
      · refine v_aload_n G 0 rfl rfl dX4_optionValue_57 ?_
        refine v_iconst G dX4_optionValue_58 ?_
        refine kX4_342 G (As := [.int (iI 3)]) (rest := []) (cs' := 0) (sl' := 0) (n_fails G.fl (τ := τ) (D := st2 D 0 0 0) hA (k := 3)) (zRcv.of G (q := (RX4, TX4, 55)) rfl zM_0) rfl rfl (Nat.le_of_ble_eq_true rfl) (zRm.ok rfl) dX4_optionValue_59 (fun vq8 hq8 q8 => ?_)
        obtain ⟨_, _⟩ := q8
        subst vq8 hq8
        show VW θ Q E (zM E A h (sc τ (st2 (st2 D 0 0 0) 0 0 3))) 0 0 62 [(0, .ref (A 0)), (1, .int (iI p)), (2, .int (iI s))] [.int (iI 0)]
        refine v_i2l G ⟨by decide, by decide⟩ dX4_optionValue_62 ?_
        have e : oOpt τ p s = (3, 0, τ) := by
          unfold oOpt
          (repeat (first | rw [if_pos (by omega)] | rw [if_neg (by omega)]))
          all_goals rfl
        exact v_lret G hQ (by rw [e]; exact ⟨rfl, st2 (st2 D 0 0 0) 0 0 3, rfl, rfl⟩) (Nat.le_of_ble_eq_true rfl) (Nat.le_of_ble_eq_true rfl) dX4_optionValue_63
      · refine v_aload_n G 0 rfl rfl dX4_optionValue_49 ?_
        refine v_iload_n G 1 rfl rfl dX4_optionValue_50 ?_
        refine kX4_234 G (As := [.int (iI p)]) (rest := []) (cs' := 0) (sl' := 0) (n_isLiving G.fl (τ := τ) (D := st2 D 0 0 0) hA (p := p) ⟨by omega, by omega⟩ (show 0 ≤ τ 29 p ∧ τ 29 p ≤ 7 by omega)) (zRcv.of G (q := (RX4, TX4, 55)) rfl zM_0) rfl rfl (Nat.le_of_ble_eq_true rfl) (zRm.ok rfl) dX4_optionValue_51 (fun vq9 hq9 q9 => ?_)
        obtain ⟨_, _⟩ := q9
        subst vq9 hq9
        refine VW.nmI (fun z10 hz10 => ?_)
        have hz10 := (show (z10 = 1 ∧ τ 29 p ≤ 3) ∨ (z10 = 0 ∧ ¬ (τ 29 p ≤ 3)) from ite01 hz10)
        show VW θ Q E (zM E A h (sc τ (st2 D 0 0 0))) 0 0 54 [(0, .ref (A 0)), (1, .int (iI p)), (2, .int (iI s))] [.int (iI z10)]
        refine v_if_ne G 64 ⟨by omega, by omega⟩ (by decide) dX4_optionValue_54 (fun c11 => ?_) (fun c11 => ?_)
        · have gz10 := bT hz10 (by omega)
          refine v_aload_n G 0 rfl rfl dX4_optionValue_64 ?_
          refine gX4_61 G zM_0 (v := .ref (A 33)) rfl dX4_optionValue_65 ?_
          refine v_iload_n G 1 rfl rfl dX4_optionValue_68 ?_
          refine m_ald G hA (v := τ 33 p) rfl ⟨by omega, by show _ < (24 : Int); omega⟩ rfl dX4_optionValue_69 ?_
          refine v_if_ne G 77 ⟨by omega, by omega⟩ (by decide) dX4_optionValue_70 (fun c12 => ?_) (fun c12 => ?_)
          · refine v_aload_n G 0 rfl rfl dX4_optionValue_77 ?_
            refine v_iload_n G 1 rfl rfl dX4_optionValue_78 ?_
            refine v_iload_n G 2 rfl rfl dX4_optionValue_79 ?_
            refine kX4_388 G (As := [.int (iI p), .int (iI s)]) (rest := []) (cs' := 0) (sl' := 0) (n_option G.fl (τ := τ) (D := st2 D 0 0 0) hA (p := p) (s := s) ⟨by omega, by omega⟩ ho hw ⟨by omega, by omega, by omega, by omega⟩ ⟨by omega, by omega⟩ ⟨by omega, by omega⟩) (zRcv.of G (q := (RX4, TX4, 55)) rfl zM_0) rfl rfl (Nat.le_of_ble_eq_true rfl) (zRm.ok rfl) dX4_optionValue_80 (fun vq13 hq13 q13 => ?_)
            obtain ⟨_, D14, hD14, _⟩ := q13
            subst vq13 hq13
            show VW θ Q E (zM E A h (sc τ D14)) 0 0 83 [(0, .ref (A 0)), (1, .int (iI p)), (2, .int (iI s))] [.long (iL (opT τ p s))]
            have e : oOpt τ p s = (0, (opT τ p s), τ) := by
              unfold oOpt
              (repeat (first | rw [if_pos (by omega)] | rw [if_neg (by omega)]))
              all_goals rfl
            exact v_lret G hQ (by rw [e]; exact ⟨rfl, D14, (congrFun hD14 0), rfl⟩) (Nat.le_of_ble_eq_true rfl) (Nat.le_of_ble_eq_true rfl) dX4_optionValue_83
          · refine v_lconst G (n := 0) (v0 := 0) rfl dX4_optionValue_73 ?_
            refine v_goto G 83 (by decide) dX4_optionValue_74 ?_
            have e : oOpt τ p s = (0, 0, τ) := by
              unfold oOpt
              (repeat (first | rw [if_pos (by omega)] | rw [if_neg (by omega)]))
              all_goals rfl
            exact v_lret G hQ (by rw [e]; exact ⟨rfl, st2 D 0 0 0, rfl, rfl⟩) (Nat.le_of_ble_eq_true rfl) (Nat.le_of_ble_eq_true rfl) dX4_optionValue_83
        · have gz10 := bF hz10 (by omega)
          refine v_aload_n G 0 rfl rfl dX4_optionValue_57 ?_
          refine v_iconst G dX4_optionValue_58 ?_
          refine kX4_342 G (As := [.int (iI 3)]) (rest := []) (cs' := 0) (sl' := 0) (n_fails G.fl (τ := τ) (D := st2 D 0 0 0) hA (k := 3)) (zRcv.of G (q := (RX4, TX4, 55)) rfl zM_0) rfl rfl (Nat.le_of_ble_eq_true rfl) (zRm.ok rfl) dX4_optionValue_59 (fun vq15 hq15 q15 => ?_)
          obtain ⟨_, _⟩ := q15
          subst vq15 hq15
          show VW θ Q E (zM E A h (sc τ (st2 (st2 D 0 0 0) 0 0 3))) 0 0 62 [(0, .ref (A 0)), (1, .int (iI p)), (2, .int (iI s))] [.int (iI 0)]
          refine v_i2l G ⟨by decide, by decide⟩ dX4_optionValue_62 ?_
          have e : oOpt τ p s = (3, 0, τ) := by
            unfold oOpt
            (repeat (first | rw [if_pos (by omega)] | rw [if_neg (by omega)]))
            all_goals rfl
          exact v_lret G hQ (by rw [e]; exact ⟨rfl, st2 (st2 D 0 0 0) 0 0 3, rfl, rfl⟩) (Nat.le_of_ble_eq_true rfl) (Nat.le_of_ble_eq_true rfl) dX4_optionValue_63
    · have gz5 := bF hz5 (by omega)
      refine v_aload_n G 0 rfl rfl dX4_optionValue_32 ?_
      refine v_iconst G dX4_optionValue_33 ?_
      refine kX4_342 G (As := [.int (iI 2)]) (rest := []) (cs' := 0) (sl' := 0) (n_fails G.fl (τ := τ) (D := st2 D 0 0 0) hA (k := 2)) (zRcv.of G (q := (RX4, TX4, 55)) rfl zM_0) rfl rfl (Nat.le_of_ble_eq_true rfl) (zRm.ok rfl) dX4_optionValue_34 (fun vq16 hq16 q16 => ?_)
      obtain ⟨_, _⟩ := q16
      subst vq16 hq16
      show VW θ Q E (zM E A h (sc τ (st2 (st2 D 0 0 0) 0 0 2))) 0 0 37 [(0, .ref (A 0)), (1, .int (iI p)), (2, .int (iI s))] [.int (iI 0)]
      refine v_i2l G ⟨by decide, by decide⟩ dX4_optionValue_37 ?_
      have e : oOpt τ p s = (2, 0, τ) := by
        unfold oOpt
        (repeat (first | rw [if_pos (by omega)] | rw [if_neg (by omega)]))
        all_goals rfl
      exact v_lret G hQ (by rw [e]; exact ⟨rfl, st2 (st2 D 0 0 0) 0 0 2, rfl, rfl⟩) (Nat.le_of_ble_eq_true rfl) (Nat.le_of_ble_eq_true rfl) dX4_optionValue_38
  · have gz2 := bF hz2 (by omega)
    refine v_aload_n G 0 rfl rfl dX4_optionValue_13 ?_
    refine v_iconst G dX4_optionValue_14 ?_
    refine kX4_342 G (As := [.int (iI 1)]) (rest := []) (cs' := 0) (sl' := 0) (n_fails G.fl (τ := τ) (D := st2 D 0 0 0) hA (k := 1)) (zRcv.of G (q := (RX4, TX4, 55)) rfl zM_0) rfl rfl (Nat.le_of_ble_eq_true rfl) (zRm.ok rfl) dX4_optionValue_15 (fun vq17 hq17 q17 => ?_)
    obtain ⟨_, _⟩ := q17
    subst vq17 hq17
    show VW θ Q E (zM E A h (sc τ (st2 (st2 D 0 0 0) 0 0 1))) 0 0 18 [(0, .ref (A 0)), (1, .int (iI p)), (2, .int (iI s))] [.int (iI 0)]
    refine v_i2l G ⟨by decide, by decide⟩ dX4_optionValue_18 ?_
    have e : oOpt τ p s = (1, 0, τ) := by
      unfold oOpt
      (repeat (first | rw [if_pos (by omega)] | rw [if_neg (by omega)]))
      all_goals rfl
    exact v_lret G hQ (by rw [e]; exact ⟨rfl, st2 (st2 D 0 0 0) 0 0 1, rfl, rfl⟩) (Nat.le_of_ble_eq_true rfl) (Nat.le_of_ble_eq_true rfl) dX4_optionValue_19

set_option maxHeartbeats 4000000 in
theorem o_bondAt {l : Launch} (hfl : l.stackTraces = false) {E : zEn} {h : zHp} {A : Nat → Nat} {τ D : mMem} (hA : mInj A) (H : okT τ) {b : Int} (nnb : n32 b) {w : Int} (nnw : n32 w)  : CN l E yX4_bondAt (ws_ yX4_bondAt cX4_bondAt 3 (some FieldType.int)) ({ frames := 1, cells := 0, slots := 0, locals := 25 } : Room) [.ref (A 0), .int (iI b), .int (iI w)] (zM E A h (sc τ D)) (zOI E A h (oBondAt τ b w)) := by
  refine CN.of (by decide +kernel) hfl (Nat.le_of_ble_eq_true rfl) fun θ Q hl G hin hQ => ?_
  subst hl
  show VW θ Q E (zM E A h (sc τ D)) 0 0 0 [(0, .ref (A 0)), (1, .int (iI b)), (2, .int (iI w))] []
  have hm := H.many
  have hyr := H.year
  have hn := H.nums
  have hi := H.imp
  have hbt := H.bits
  refine v_aload_n G 0 rfl rfl dX4_bondAt_0 ?_
  refine v_iconst G dX4_bondAt_1 ?_
  refine pX4_1 G zM_0 (Nat.le_of_ble_eq_true rfl) dX4_bondAt_2 ?_
  refine VW.hpe (zM_up0 (k := 0) (z := 0) rfl (by decide)) ?_
  refine VW.hpe (congrArg (zM E A h) (sc_D (k := 0) rfl)) ?_
  refine v_iload_n G 1 rfl rfl dX4_bondAt_5 ?_
  refine v_i2l G ⟨by omega, by omega⟩ dX4_bondAt_6 ?_
  refine v_lconst G (n := 0) (v0 := 0) rfl dX4_bondAt_7 ?_
  refine v_aload_n G 0 rfl rfl dX4_bondAt_8 ?_
  refine gX4_149 G zM_0 (v := .int (iI (τ 11 0))) rfl dX4_bondAt_9 ?_
  refine v_iconst G dX4_bondAt_12 ?_
  refine v_isub G dX4_bondAt_13 ?_
  refine v_i2l G ⟨by omega, by omega⟩ dX4_bondAt_14 ?_
  refine kX4_168 G (As := [.long (iL b), .long (iL 0), .long (iL ((τ 11 0) - 1))]) (rest := []) (cs' := 0) (sl' := 0) (n_isIn G.fl (v := b) (a := 0) (b := ((τ 11 0) - 1)) ⟨by omega, by omega⟩ ⟨by decide, by decide⟩ ⟨by omega, by omega⟩) rfl rfl (Nat.le_of_ble_eq_true rfl) (zRm.ok rfl) dX4_bondAt_15 (fun vq1 hq1 q1 => ?_)
  obtain ⟨_, _⟩ := q1
  subst vq1 hq1
  refine VW.nmI (fun z2 hz2 => ?_)
  have hz2 := ite01 hz2
  show VW θ Q E (zM E A h (sc τ (st2 D 0 0 0))) 0 0 18 [(0, .ref (A 0)), (1, .int (iI b)), (2, .int (iI w))] [.int (iI z2)]
  refine v_if_ne G 27 ⟨by omega, by omega⟩ (by decide) dX4_bondAt_18 (fun c3 => ?_) (fun c3 => ?_)
  · have gz2 := bT hz2 (by omega)
    have b9 := H.bnd b (by omega) (by omega)
    unfold okBnd at b9
    refine v_iload_n G 2 rfl rfl dX4_bondAt_27 ?_
    refine v_i2l G ⟨by omega, by omega⟩ dX4_bondAt_28 ?_
    refine v_lconst G (n := 0) (v0 := 0) rfl dX4_bondAt_29 ?_
    refine v_ldc2 G (v := 2) q2154 rfl dX4_bondAt_30 ?_
    refine kX4_168 G (As := [.long (iL w), .long (iL 0), .long (iL 2)]) (rest := []) (cs' := 0) (sl' := 0) (n_isIn G.fl (v := w) (a := 0) (b := 2) ⟨by omega, by omega⟩ ⟨by decide, by decide⟩ ⟨by decide, by decide⟩) rfl rfl (Nat.le_of_ble_eq_true rfl) (zRm.ok rfl) dX4_bondAt_33 (fun vq4 hq4 q4 => ?_)
    obtain ⟨_, _⟩ := q4
    subst vq4 hq4
    refine VW.nmI (fun z5 hz5 => ?_)
    have hz5 := ite01 hz5
    show VW θ Q E (zM E A h (sc τ (st2 D 0 0 0))) 0 0 36 [(0, .ref (A 0)), (1, .int (iI b)), (2, .int (iI w))] [.int (iI z5)]
    refine v_if_ne G 45 ⟨by omega, by omega⟩ (by decide) dX4_bondAt_36 (fun c6 => ?_) (fun c6 => ?_)
    · have gz5 := bT hz5 (by omega)
      refine v_iload_n G 2 rfl rfl dX4_bondAt_45 ?_
      refine v_if_ne G 58 ⟨by omega, by omega⟩ (by decide) dX4_bondAt_46 (fun c7 => ?_) (fun c7 => ?_)
      · refine v_iload_n G 2 rfl rfl dX4_bondAt_58 ?_
        refine v_iconst G dX4_bondAt_59 ?_
        refine v_icmp_ne G 72 ⟨by omega, by omega⟩ ⟨by decide, by decide⟩ (by decide) dX4_bondAt_60 (fun c8 => ?_) (fun c8 => ?_)
        · refine v_aload_n G 0 rfl rfl dX4_bondAt_72 ?_
          refine gX4_94 G zM_0 (v := .ref (A 44)) rfl dX4_bondAt_73 ?_
          refine v_iload_n G 1 rfl rfl dX4_bondAt_76 ?_
          refine m_ald G hA (v := τ 44 b) rfl ⟨by omega, by show _ < (16 : Int); omega⟩ rfl dX4_bondAt_77 ?_
          have e : oBondAt τ b w = (0, (τ 44 b), τ) := by
            unfold oBondAt
            (repeat (first | rw [if_pos (by omega)] | rw [if_neg (by omega)]))
            all_goals rfl
          exact v_iret G hQ (by rw [e]; exact ⟨rfl, st2 D 0 0 0, rfl, rfl⟩) (Nat.le_of_ble_eq_true rfl) (Nat.le_of_ble_eq_true rfl) dX4_bondAt_78
        · refine v_aload_n G 0 rfl rfl dX4_bondAt_63 ?_
          refine gX4_91 G zM_0 (v := .ref (A 43)) rfl dX4_bondAt_64 ?_
          refine v_iload_n G 1 rfl rfl dX4_bondAt_67 ?_
          refine m_ald G hA (v := τ 43 b) rfl ⟨by omega, by show _ < (16 : Int); omega⟩ rfl dX4_bondAt_68 ?_
          refine v_goto G 78 (by decide) dX4_bondAt_69 ?_
          have e : oBondAt τ b w = (0, (τ 43 b), τ) := by
            unfold oBondAt
            (repeat (first | rw [if_pos (by omega)] | rw [if_neg (by omega)]))
            all_goals rfl
          exact v_iret G hQ (by rw [e]; exact ⟨rfl, st2 D 0 0 0, rfl, rfl⟩) (Nat.le_of_ble_eq_true rfl) (Nat.le_of_ble_eq_true rfl) dX4_bondAt_78
      · refine v_aload_n G 0 rfl rfl dX4_bondAt_49 ?_
        refine gX4_88 G zM_0 (v := .ref (A 42)) rfl dX4_bondAt_50 ?_
        refine v_iload_n G 1 rfl rfl dX4_bondAt_53 ?_
        refine m_ald G hA (v := τ 42 b) rfl ⟨by omega, by show _ < (16 : Int); omega⟩ rfl dX4_bondAt_54 ?_
        refine v_goto G 78 (by decide) dX4_bondAt_55 ?_
        have e : oBondAt τ b w = (0, (τ 42 b), τ) := by
          unfold oBondAt
          (repeat (first | rw [if_pos (by omega)] | rw [if_neg (by omega)]))
          all_goals rfl
        exact v_iret G hQ (by rw [e]; exact ⟨rfl, st2 D 0 0 0, rfl, rfl⟩) (Nat.le_of_ble_eq_true rfl) (Nat.le_of_ble_eq_true rfl) dX4_bondAt_78
    · have gz5 := bF hz5 (by omega)
      refine v_aload_n G 0 rfl rfl dX4_bondAt_39 ?_
      refine v_iconst G dX4_bondAt_40 ?_
      refine kX4_342 G (As := [.int (iI 2)]) (rest := []) (cs' := 0) (sl' := 0) (n_fails G.fl (τ := τ) (D := st2 D 0 0 0) hA (k := 2)) (zRcv.of G (q := (RX4, TX4, 55)) rfl zM_0) rfl rfl (Nat.le_of_ble_eq_true rfl) (zRm.ok rfl) dX4_bondAt_41 (fun vq9 hq9 q9 => ?_)
      obtain ⟨_, _⟩ := q9
      subst vq9 hq9
      show VW θ Q E (zM E A h (sc τ (st2 (st2 D 0 0 0) 0 0 2))) 0 0 44 [(0, .ref (A 0)), (1, .int (iI b)), (2, .int (iI w))] [.int (iI 0)]
      have e : oBondAt τ b w = (2, 0, τ) := by
        unfold oBondAt
        (repeat (first | rw [if_pos (by omega)] | rw [if_neg (by omega)]))
        all_goals rfl
      exact v_iret G hQ (by rw [e]; exact ⟨rfl, st2 (st2 D 0 0 0) 0 0 2, rfl, rfl⟩) (Nat.le_of_ble_eq_true rfl) (Nat.le_of_ble_eq_true rfl) dX4_bondAt_44
  · have gz2 := bF hz2 (by omega)
    refine v_aload_n G 0 rfl rfl dX4_bondAt_21 ?_
    refine v_iconst G dX4_bondAt_22 ?_
    refine kX4_342 G (As := [.int (iI 1)]) (rest := []) (cs' := 0) (sl' := 0) (n_fails G.fl (τ := τ) (D := st2 D 0 0 0) hA (k := 1)) (zRcv.of G (q := (RX4, TX4, 55)) rfl zM_0) rfl rfl (Nat.le_of_ble_eq_true rfl) (zRm.ok rfl) dX4_bondAt_23 (fun vq10 hq10 q10 => ?_)
    obtain ⟨_, _⟩ := q10
    subst vq10 hq10
    show VW θ Q E (zM E A h (sc τ (st2 (st2 D 0 0 0) 0 0 1))) 0 0 26 [(0, .ref (A 0)), (1, .int (iI b)), (2, .int (iI w))] [.int (iI 0)]
    have e : oBondAt τ b w = (1, 0, τ) := by
      unfold oBondAt
      (repeat (first | rw [if_pos (by omega)] | rw [if_neg (by omega)]))
      all_goals rfl
    exact v_iret G hQ (by rw [e]; exact ⟨rfl, st2 (st2 D 0 0 0) 0 0 1, rfl, rfl⟩) (Nat.le_of_ble_eq_true rfl) (Nat.le_of_ble_eq_true rfl) dX4_bondAt_26

set_option maxHeartbeats 4000000 in
theorem o_def {l : Launch} (hfl : l.stackTraces = false) {E : zEn} {h : zHp} {A : Nat → Nat} {τ D : mMem} (hA : mInj A) (H : okT τ) {b : Int} (nnb : n32 b) {n : Int} (nnn : n32 n)  : CN l E yX4_defaults (ws_ yX4_defaults cX4_defaults 4 (some FieldType.int)) ({ frames := 1, cells := 0, slots := 0, locals := 25 } : Room) [.ref (A 0), .int (iI b), .int (iI n)] (zM E A h (sc τ D)) (zOI E A h (oDef τ b n)) := by
  refine CN.of (by decide +kernel) hfl (Nat.le_of_ble_eq_true rfl) fun θ Q hl G hin hQ => ?_
  subst hl
  show VW θ Q E (zM E A h (sc τ D)) 0 0 0 [(0, .ref (A 0)), (1, .int (iI b)), (2, .int (iI n))] []
  have hm := H.many
  have hyr := H.year
  have hn := H.nums
  have hi := H.imp
  have hbt := H.bits
  refine v_aload_n G 0 rfl rfl dX4_defaults_0 ?_
  refine v_iconst G dX4_defaults_1 ?_
  refine pX4_1 G zM_0 (Nat.le_of_ble_eq_true rfl) dX4_defaults_2 ?_
  refine VW.hpe (zM_up0 (k := 0) (z := 0) rfl (by decide)) ?_
  refine VW.hpe (congrArg (zM E A h) (sc_D (k := 0) rfl)) ?_
  refine v_iload_n G 1 rfl rfl dX4_defaults_5 ?_
  refine v_i2l G ⟨by omega, by omega⟩ dX4_defaults_6 ?_
  refine v_lconst G (n := 0) (v0 := 0) rfl dX4_defaults_7 ?_
  refine v_aload_n G 0 rfl rfl dX4_defaults_8 ?_
  refine gX4_149 G zM_0 (v := .int (iI (τ 11 0))) rfl dX4_defaults_9 ?_
  refine v_iconst G dX4_defaults_12 ?_
  refine v_isub G dX4_defaults_13 ?_
  refine v_i2l G ⟨by omega, by omega⟩ dX4_defaults_14 ?_
  refine kX4_168 G (As := [.long (iL b), .long (iL 0), .long (iL ((τ 11 0) - 1))]) (rest := []) (cs' := 0) (sl' := 0) (n_isIn G.fl (v := b) (a := 0) (b := ((τ 11 0) - 1)) ⟨by omega, by omega⟩ ⟨by decide, by decide⟩ ⟨by omega, by omega⟩) rfl rfl (Nat.le_of_ble_eq_true rfl) (zRm.ok rfl) dX4_defaults_15 (fun vq1 hq1 q1 => ?_)
  obtain ⟨_, _⟩ := q1
  subst vq1 hq1
  refine VW.nmI (fun z2 hz2 => ?_)
  have hz2 := ite01 hz2
  show VW θ Q E (zM E A h (sc τ (st2 D 0 0 0))) 0 0 18 [(0, .ref (A 0)), (1, .int (iI b)), (2, .int (iI n))] [.int (iI z2)]
  refine v_if_ne G 27 ⟨by omega, by omega⟩ (by decide) dX4_defaults_18 (fun c3 => ?_) (fun c3 => ?_)
  · have gz2 := bT hz2 (by omega)
    have b9 := H.bnd b (by omega) (by omega)
    unfold okBnd at b9
    refine v_iload_n G 2 rfl rfl dX4_defaults_27 ?_
    refine v_i2l G ⟨by omega, by omega⟩ dX4_defaults_28 ?_
    refine v_lconst G (n := 1) (v0 := 0) rfl dX4_defaults_29 ?_
    refine v_ldc2 G (v := 1000) q2190 rfl dX4_defaults_30 ?_
    refine kX4_168 G (As := [.long (iL n), .long (iL 1), .long (iL 1000)]) (rest := []) (cs' := 0) (sl' := 0) (n_isIn G.fl (v := n) (a := 1) (b := 1000) ⟨by omega, by omega⟩ ⟨by decide, by decide⟩ ⟨by decide, by decide⟩) rfl rfl (Nat.le_of_ble_eq_true rfl) (zRm.ok rfl) dX4_defaults_33 (fun vq4 hq4 q4 => ?_)
    obtain ⟨_, _⟩ := q4
    subst vq4 hq4
    refine VW.nmI (fun z5 hz5 => ?_)
    have hz5 := ite01 hz5
    show VW θ Q E (zM E A h (sc τ (st2 D 0 0 0))) 0 0 36 [(0, .ref (A 0)), (1, .int (iI b)), (2, .int (iI n))] [.int (iI z5)]
    refine v_if_ne G 45 ⟨by omega, by omega⟩ (by decide) dX4_defaults_36 (fun c6 => ?_) (fun c6 => ?_)
    · have gz5 := bT hz5 (by omega)
      refine v_aload_n G 0 rfl rfl dX4_defaults_45 ?_
      refine gX4_91 G zM_0 (v := .ref (A 43)) rfl dX4_defaults_46 ?_
      refine v_iload_n G 1 rfl rfl dX4_defaults_49 ?_
      refine m_ald G hA (v := τ 43 b) rfl ⟨by omega, by show _ < (16 : Int); omega⟩ rfl dX4_defaults_50 ?_
      refine v_i2l G ⟨by omega, by omega⟩ dX4_defaults_51 ?_
      refine v_iload_n G 2 rfl rfl dX4_defaults_52 ?_
      refine v_i2l G ⟨by omega, by omega⟩ dX4_defaults_53 ?_
      refine v_lmul G dX4_defaults_54 ?_
      refine v_ldc2 G (v := 1000) q2190 rfl dX4_defaults_55 ?_
      have e9 := mul_bd2 b9.2.1 (show 0 ≤ n ∧ n ≤ 1000 by omega)
      refine v_ldiv G ⟨by omega, by omega⟩ ⟨by decide, by decide⟩ dX4_defaults_58 ?_
      refine v_l2i G dX4_defaults_59 ?_
      refine v_istore_n G (L' := [(3, .int (iI (((τ 43 b) * n) / 1000))), (0, .ref (A 0)), (1, .int (iI b)), (2, .int (iI n))]) rfl (Nat.le_of_ble_eq_true rfl) rfl dX4_defaults_60 ?_
      refine v_aload_n G 1 rfl rfl dX4_defaults_61 ?_
      refine gX4_91 G zM_0 (v := .ref (A 43)) rfl dX4_defaults_62 ?_
      refine v_iload_n G 2 rfl rfl dX4_defaults_65 ?_
      refine v_dup2 G rfl rfl dX4_defaults_66 ?_
      refine m_ald G hA (v := τ 43 b) rfl ⟨by omega, by show _ < (16 : Int); omega⟩ rfl dX4_defaults_67 ?_
      refine v_iload_n G 0 rfl rfl dX4_defaults_68 ?_
      refine v_isub G dX4_defaults_69 ?_
      refine m_ast G hA rfl ⟨by omega, by show _ < (16 : Int); omega⟩ dX4_defaults_70 ?_
      refine VW.hpe (congrArg (zM E A h) (sc_t (k := 43) rfl)) ?_
      refine v_aload_n G 1 rfl rfl dX4_defaults_71 ?_
      refine gX4_24 G zM_0 (v := .ref (A 21)) rfl dX4_defaults_72 ?_
      refine v_bipush G rfl dX4_defaults_75 ?_
      refine v_dup2 G rfl rfl dX4_defaults_77 ?_
      refine m_lld G hA (v := τ 21 8) rfl ⟨by omega, by show _ < (9 : Int); omega⟩ rfl dX4_defaults_78 ?_
      refine v_iload_n G 0 rfl rfl dX4_defaults_79 ?_
      refine v_i2l G ⟨by omega, by omega⟩ dX4_defaults_80 ?_
      refine v_lsub G dX4_defaults_81 ?_
      refine m_lst G hA rfl ⟨by omega, by show _ < (9 : Int); omega⟩ dX4_defaults_82 ?_
      refine VW.hpe (congrArg (zM E A h) (sc_t (k := 21) rfl)) ?_
      refine v_iload_n G 0 rfl rfl dX4_defaults_83 ?_
      have e : oDef τ b n = (0, (((τ 43 b) * n) / 1000), st2 (st2 τ 43 b ((τ 43 b) - (((τ 43 b) * n) / 1000))) 21 8 ((τ 21 8) - (((τ 43 b) * n) / 1000))) := by
        unfold oDef
        (repeat (first | rw [if_pos (by omega)] | rw [if_neg (by omega)]))
        all_goals rfl
      exact v_iret G hQ (by rw [e]; exact ⟨rfl, st2 D 0 0 0, rfl, rfl⟩) (Nat.le_of_ble_eq_true rfl) (Nat.le_of_ble_eq_true rfl) dX4_defaults_84
    · have gz5 := bF hz5 (by omega)
      refine v_aload_n G 0 rfl rfl dX4_defaults_39 ?_
      refine v_iconst G dX4_defaults_40 ?_
      refine kX4_342 G (As := [.int (iI 2)]) (rest := []) (cs' := 0) (sl' := 0) (n_fails G.fl (τ := τ) (D := st2 D 0 0 0) hA (k := 2)) (zRcv.of G (q := (RX4, TX4, 55)) rfl zM_0) rfl rfl (Nat.le_of_ble_eq_true rfl) (zRm.ok rfl) dX4_defaults_41 (fun vq7 hq7 q7 => ?_)
      obtain ⟨_, _⟩ := q7
      subst vq7 hq7
      show VW θ Q E (zM E A h (sc τ (st2 (st2 D 0 0 0) 0 0 2))) 0 0 44 [(0, .ref (A 0)), (1, .int (iI b)), (2, .int (iI n))] [.int (iI 0)]
      have e : oDef τ b n = (2, 0, τ) := by
        unfold oDef
        (repeat (first | rw [if_pos (by omega)] | rw [if_neg (by omega)]))
        all_goals rfl
      exact v_iret G hQ (by rw [e]; exact ⟨rfl, st2 (st2 D 0 0 0) 0 0 2, rfl, rfl⟩) (Nat.le_of_ble_eq_true rfl) (Nat.le_of_ble_eq_true rfl) dX4_defaults_44
  · have gz2 := bF hz2 (by omega)
    refine v_aload_n G 0 rfl rfl dX4_defaults_21 ?_
    refine v_iconst G dX4_defaults_22 ?_
    refine kX4_342 G (As := [.int (iI 1)]) (rest := []) (cs' := 0) (sl' := 0) (n_fails G.fl (τ := τ) (D := st2 D 0 0 0) hA (k := 1)) (zRcv.of G (q := (RX4, TX4, 55)) rfl zM_0) rfl rfl (Nat.le_of_ble_eq_true rfl) (zRm.ok rfl) dX4_defaults_23 (fun vq8 hq8 q8 => ?_)
    obtain ⟨_, _⟩ := q8
    subst vq8 hq8
    show VW θ Q E (zM E A h (sc τ (st2 (st2 D 0 0 0) 0 0 1))) 0 0 26 [(0, .ref (A 0)), (1, .int (iI b)), (2, .int (iI n))] [.int (iI 0)]
    have e : oDef τ b n = (1, 0, τ) := by
      unfold oDef
      (repeat (first | rw [if_pos (by omega)] | rw [if_neg (by omega)]))
      all_goals rfl
    exact v_iret G hQ (by rw [e]; exact ⟨rfl, st2 (st2 D 0 0 0) 0 0 1, rfl, rfl⟩) (Nat.le_of_ble_eq_true rfl) (Nat.le_of_ble_eq_true rfl) dX4_defaults_26

set_option maxHeartbeats 4000000 in
theorem o_closeY {l : Launch} (hfl : l.stackTraces = false) {E : zEn} {h : zHp} {A : Nat → Nat} {τ D : mMem} (hA : mInj A) (H : okT τ) {j : Int} (nnj : n32 j) {x : Int} (nnx : n32 x)  : CN l E yX4_closeYear (ws_ yX4_closeYear cX4_closeYear 3 (some FieldType.long)) ({ frames := 8, cells := 0, slots := 0, locals := 219 } : Room) [.ref (A 0), .int (iI j), .int (iI x)] (zM E A h (sc τ D)) (zOL E A h (oCloseY τ j x)) := by
  refine CN.of (by decide +kernel) hfl (Nat.le_of_ble_eq_true rfl) fun θ Q hl G hin hQ => ?_
  subst hl
  show VW θ Q E (zM E A h (sc τ D)) 0 0 0 [(0, .ref (A 0)), (1, .int (iI j)), (2, .int (iI x))] []
  have hm := H.many
  have hyr := H.year
  have hn := H.nums
  have hi := H.imp
  have hbt := H.bits
  refine v_aload_n G 0 rfl rfl dX4_closeYear_0 ?_
  refine v_iconst G dX4_closeYear_1 ?_
  refine pX4_1 G zM_0 (Nat.le_of_ble_eq_true rfl) dX4_closeYear_2 ?_
  refine VW.hpe (zM_up0 (k := 0) (z := 0) rfl (by decide)) ?_
  refine VW.hpe (congrArg (zM E A h) (sc_D (k := 0) rfl)) ?_
  refine v_iload_n G 1 rfl rfl dX4_closeYear_5 ?_
  refine v_i2l G ⟨by omega, by omega⟩ dX4_closeYear_6 ?_
  refine v_lconst G (n := 0) (v0 := 0) rfl dX4_closeYear_7 ?_
  refine v_ldc2 G (v := 100) q2191 rfl dX4_closeYear_8 ?_
  refine kX4_168 G (As := [.long (iL j), .long (iL 0), .long (iL 100)]) (rest := []) (cs' := 0) (sl' := 0) (n_isIn G.fl (v := j) (a := 0) (b := 100) ⟨by omega, by omega⟩ ⟨by decide, by decide⟩ ⟨by decide, by decide⟩) rfl rfl (Nat.le_of_ble_eq_true rfl) (zRm.ok rfl) dX4_closeYear_11 (fun vq1 hq1 q1 => ?_)
  obtain ⟨_, _⟩ := q1
  subst vq1 hq1
  refine VW.nmI (fun z2 hz2 => ?_)
  have hz2 := ite01 hz2
  show VW θ Q E (zM E A h (sc τ (st2 D 0 0 0))) 0 0 14 [(0, .ref (A 0)), (1, .int (iI j)), (2, .int (iI x))] [.int (iI z2)]
  refine v_if_eq G 29 ⟨by omega, by omega⟩ (by decide) dX4_closeYear_14 (fun c3 => ?_) (fun c3 => ?_)
  · have gz2 := bF hz2 (by omega)
    refine v_aload_n G 0 rfl rfl dX4_closeYear_29 ?_
    refine v_iconst G dX4_closeYear_30 ?_
    refine kX4_342 G (As := [.int (iI 1)]) (rest := []) (cs' := 0) (sl' := 0) (n_fails G.fl (τ := τ) (D := st2 D 0 0 0) hA (k := 1)) (zRcv.of G (q := (RX4, TX4, 55)) rfl zM_0) rfl rfl (Nat.le_of_ble_eq_true rfl) (zRm.ok rfl) dX4_closeYear_31 (fun vq4 hq4 q4 => ?_)
    obtain ⟨_, _⟩ := q4
    subst vq4 hq4
    show VW θ Q E (zM E A h (sc τ (st2 (st2 D 0 0 0) 0 0 1))) 0 0 34 [(0, .ref (A 0)), (1, .int (iI j)), (2, .int (iI x))] [.int (iI 0)]
    refine v_i2l G ⟨by decide, by decide⟩ dX4_closeYear_34 ?_
    have e : oCloseY τ j x = (1, 0, τ) := by
      unfold oCloseY
      (repeat (first | rw [if_pos (by omega)] | rw [if_neg (by omega)]))
      all_goals rfl
    exact v_lret G hQ (by rw [e]; exact ⟨rfl, st2 (st2 D 0 0 0) 0 0 1, rfl, rfl⟩) (Nat.le_of_ble_eq_true rfl) (Nat.le_of_ble_eq_true rfl) dX4_closeYear_35
  · have gz2 := bT hz2 (by omega)
    refine v_iload_n G 2 rfl rfl dX4_closeYear_17 ?_
    refine v_i2l G ⟨by omega, by omega⟩ dX4_closeYear_18 ?_
    refine v_lconst G (n := 0) (v0 := 0) rfl dX4_closeYear_19 ?_
    refine v_ldc2 G (v := 1000) q2190 rfl dX4_closeYear_20 ?_
    refine kX4_168 G (As := [.long (iL x), .long (iL 0), .long (iL 1000)]) (rest := []) (cs' := 0) (sl' := 0) (n_isIn G.fl (v := x) (a := 0) (b := 1000) ⟨by omega, by omega⟩ ⟨by decide, by decide⟩ ⟨by decide, by decide⟩) rfl rfl (Nat.le_of_ble_eq_true rfl) (zRm.ok rfl) dX4_closeYear_23 (fun vq5 hq5 q5 => ?_)
    obtain ⟨_, _⟩ := q5
    subst vq5 hq5
    refine VW.nmI (fun z6 hz6 => ?_)
    have hz6 := ite01 hz6
    show VW θ Q E (zM E A h (sc τ (st2 D 0 0 0))) 0 0 26 [(0, .ref (A 0)), (1, .int (iI j)), (2, .int (iI x))] [.int (iI z6)]
    refine v_if_ne G 36 ⟨by omega, by omega⟩ (by decide) dX4_closeYear_26 (fun c7 => ?_) (fun c7 => ?_)
    · have gz6 := bT hz6 (by omega)
      refine v_aload_n G 0 rfl rfl dX4_closeYear_36 ?_
      refine gX4_114 G zM_0 (v := .int (iI (τ 1 0))) rfl dX4_closeYear_37 ?_
      refine v_sipush G rfl dX4_closeYear_40 ?_
      refine v_icmp_ne G 53 ⟨by omega, by omega⟩ ⟨by decide, by decide⟩ (by decide) dX4_closeYear_43 (fun c8 => ?_) (fun c8 => ?_)
      · refine v_aload_n G 0 rfl rfl dX4_closeYear_53 ?_
        refine v_iload_n G 1 rfl rfl dX4_closeYear_54 ?_
        refine v_iload_n G 2 rfl rfl dX4_closeYear_55 ?_
        refine kX4_396 G (As := [.int (iI j), .int (iI x)]) (rest := []) (cs' := 0) (sl' := 0) (n_closes G.fl (τ := τ) (D := st2 D 0 0 0) hA (j := j) (x := x) H (by omega) ⟨by omega, by omega⟩ ⟨by omega, by omega⟩) (zRcv.of G (q := (RX4, TX4, 55)) rfl zM_0) rfl rfl (Nat.le_of_ble_eq_true rfl) (zRm.ok rfl) dX4_closeYear_56 (fun vq9 hq9 q9 => ?_)
        obtain ⟨_, D10, hD10, _⟩ := q9
        subst vq9 hq9
        show VW θ Q E (zM E A h (sc (closeS τ j x) D10)) 0 0 59 [(0, .ref (A 0)), (1, .int (iI j)), (2, .int (iI x))] [.long (iL (closeS τ j x 17 0))]
        have e : oCloseY τ j x = (0, (closeS τ j x 17 0), closeS τ j x) := by
          unfold oCloseY
          (repeat (first | rw [if_pos (by omega)] | rw [if_neg (by omega)]))
          all_goals rfl
        exact v_lret G hQ (by rw [e]; exact ⟨rfl, D10, (congrFun hD10 0), rfl⟩) (Nat.le_of_ble_eq_true rfl) (Nat.le_of_ble_eq_true rfl) dX4_closeYear_59
      · refine v_aload_n G 0 rfl rfl dX4_closeYear_46 ?_
        refine v_iconst G dX4_closeYear_47 ?_
        refine kX4_342 G (As := [.int (iI 2)]) (rest := []) (cs' := 0) (sl' := 0) (n_fails G.fl (τ := τ) (D := st2 D 0 0 0) hA (k := 2)) (zRcv.of G (q := (RX4, TX4, 55)) rfl zM_0) rfl rfl (Nat.le_of_ble_eq_true rfl) (zRm.ok rfl) dX4_closeYear_48 (fun vq11 hq11 q11 => ?_)
        obtain ⟨_, _⟩ := q11
        subst vq11 hq11
        show VW θ Q E (zM E A h (sc τ (st2 (st2 D 0 0 0) 0 0 2))) 0 0 51 [(0, .ref (A 0)), (1, .int (iI j)), (2, .int (iI x))] [.int (iI 0)]
        refine v_i2l G ⟨by decide, by decide⟩ dX4_closeYear_51 ?_
        have e : oCloseY τ j x = (2, 0, τ) := by
          unfold oCloseY
          (repeat (first | rw [if_pos (by omega)] | rw [if_neg (by omega)]))
          all_goals rfl
        exact v_lret G hQ (by rw [e]; exact ⟨rfl, st2 (st2 D 0 0 0) 0 0 2, rfl, rfl⟩) (Nat.le_of_ble_eq_true rfl) (Nat.le_of_ble_eq_true rfl) dX4_closeYear_52
    · have gz6 := bF hz6 (by omega)
      refine v_aload_n G 0 rfl rfl dX4_closeYear_29 ?_
      refine v_iconst G dX4_closeYear_30 ?_
      refine kX4_342 G (As := [.int (iI 1)]) (rest := []) (cs' := 0) (sl' := 0) (n_fails G.fl (τ := τ) (D := st2 D 0 0 0) hA (k := 1)) (zRcv.of G (q := (RX4, TX4, 55)) rfl zM_0) rfl rfl (Nat.le_of_ble_eq_true rfl) (zRm.ok rfl) dX4_closeYear_31 (fun vq12 hq12 q12 => ?_)
      obtain ⟨_, _⟩ := q12
      subst vq12 hq12
      show VW θ Q E (zM E A h (sc τ (st2 (st2 D 0 0 0) 0 0 1))) 0 0 34 [(0, .ref (A 0)), (1, .int (iI j)), (2, .int (iI x))] [.int (iI 0)]
      refine v_i2l G ⟨by decide, by decide⟩ dX4_closeYear_34 ?_
      have e : oCloseY τ j x = (1, 0, τ) := by
        unfold oCloseY
        (repeat (first | rw [if_pos (by omega)] | rw [if_neg (by omega)]))
        all_goals rfl
      exact v_lret G hQ (by rw [e]; exact ⟨rfl, st2 (st2 D 0 0 0) 0 0 1, rfl, rfl⟩) (Nat.le_of_ble_eq_true rfl) (Nat.le_of_ble_eq_true rfl) dX4_closeYear_35

set_option maxHeartbeats 4000000 in
theorem o_exper {l : Launch} (hfl : l.stackTraces = false) {E : zEn} {h : zHp} {A : Nat → Nat} {τ D : mMem} (hA : mInj A) (H : okT τ) {w : Int} (nnw : n32 w)  : CN l E yX4_experience (ws_ yX4_experience cX4_experience 2 (some FieldType.long)) ({ frames := 2, cells := 0, slots := 0, locals := 40 } : Room) [.ref (A 0), .int (iI w)] (zM E A h (sc τ D)) (zOL E A h (oExp τ w)) := by
  refine CN.of (by decide +kernel) hfl (Nat.le_of_ble_eq_true rfl) fun θ Q hl G hin hQ => ?_
  subst hl
  show VW θ Q E (zM E A h (sc τ D)) 0 0 0 [(0, .ref (A 0)), (1, .int (iI w))] []
  have hm := H.many
  have hyr := H.year
  have hn := H.nums
  have hi := H.imp
  have hbt := H.bits
  have hx9 := H.exp
  have hx : (0 ≤ τ 15 0 ∧ τ 15 0 ≤ 10000) ∧ (0 ≤ τ 16 0 ∧ τ 16 0 ≤ 1000000000) := ⟨⟨by omega, by omega⟩, ⟨by omega, by omega⟩⟩
  have hbl := bl_bd hx
  refine v_aload_n G 0 rfl rfl dX4_experience_0 ?_
  refine v_iconst G dX4_experience_1 ?_
  refine pX4_1 G zM_0 (Nat.le_of_ble_eq_true rfl) dX4_experience_2 ?_
  refine VW.hpe (zM_up0 (k := 0) (z := 0) rfl (by decide)) ?_
  refine VW.hpe (congrArg (zM E A h) (sc_D (k := 0) rfl)) ?_
  refine v_iload_n G 1 rfl rfl dX4_experience_5 ?_
  refine v_i2l G ⟨by omega, by omega⟩ dX4_experience_6 ?_
  refine v_lconst G (n := 0) (v0 := 0) rfl dX4_experience_7 ?_
  refine v_ldc2 G (v := 4) q2186 rfl dX4_experience_8 ?_
  refine kX4_168 G (As := [.long (iL w), .long (iL 0), .long (iL 4)]) (rest := []) (cs' := 0) (sl' := 0) (n_isIn G.fl (v := w) (a := 0) (b := 4) ⟨by omega, by omega⟩ ⟨by decide, by decide⟩ ⟨by decide, by decide⟩) rfl rfl (Nat.le_of_ble_eq_true rfl) (zRm.ok rfl) dX4_experience_11 (fun vq1 hq1 q1 => ?_)
  obtain ⟨_, _⟩ := q1
  subst vq1 hq1
  refine VW.nmI (fun z2 hz2 => ?_)
  have hz2 := ite01 hz2
  show VW θ Q E (zM E A h (sc τ (st2 D 0 0 0))) 0 0 14 [(0, .ref (A 0)), (1, .int (iI w))] [.int (iI z2)]
  refine v_if_ne G 24 ⟨by omega, by omega⟩ (by decide) dX4_experience_14 (fun c3 => ?_) (fun c3 => ?_)
  · have gz2 := bT hz2 (by omega)
    refine v_iload_n G 1 rfl rfl dX4_experience_24 ?_
    refine v_if_ne G 35 ⟨by omega, by omega⟩ (by decide) dX4_experience_25 (fun c4 => ?_) (fun c4 => ?_)
    · refine v_iload_n G 1 rfl rfl dX4_experience_35 ?_
      refine v_iconst G dX4_experience_36 ?_
      refine v_icmp_ne G 47 ⟨by omega, by omega⟩ ⟨by decide, by decide⟩ (by decide) dX4_experience_37 (fun c5 => ?_) (fun c5 => ?_)
      · refine v_iload_n G 1 rfl rfl dX4_experience_47 ?_
        refine v_iconst G dX4_experience_48 ?_
        refine v_icmp_ne G 59 ⟨by omega, by omega⟩ ⟨by decide, by decide⟩ (by decide) dX4_experience_49 (fun c6 => ?_) (fun c6 => ?_)
        · refine v_iload_n G 1 rfl rfl dX4_experience_59 ?_
          refine v_iconst G dX4_experience_60 ?_
          refine v_icmp_ne G 71 ⟨by omega, by omega⟩ ⟨by decide, by decide⟩ (by decide) dX4_experience_61 (fun c7 => ?_) (fun c7 => ?_)
          · refine v_aload_n G 0 rfl rfl dX4_experience_71 ?_
            refine kX4_401 G (As := []) (rest := []) (cs' := 0) (sl' := 0) (n_blend G.fl (τ := τ) (D := st2 D 0 0 0) hA hx) (zRcv.of G (q := (RX4, TX4, 55)) rfl zM_0) rfl rfl (Nat.le_of_ble_eq_true rfl) (zRm.ok rfl) dX4_experience_72 (fun vq8 hq8 q8 => ?_)
            obtain ⟨_, _⟩ := q8
            subst vq8 hq8
            show VW θ Q E (zM E A h (sc τ (st2 D 0 0 0))) 0 0 75 [(0, .ref (A 0)), (1, .int (iI w))] [.long (iL (blT τ))]
            have e : oExp τ w = (0, (blT τ), τ) := by
              unfold oExp
              (repeat (first | rw [if_pos (by omega)] | rw [if_neg (by omega)]))
              all_goals rfl
            exact v_lret G hQ (by rw [e]; exact ⟨rfl, st2 D 0 0 0, rfl, rfl⟩) (Nat.le_of_ble_eq_true rfl) (Nat.le_of_ble_eq_true rfl) dX4_experience_75
          · refine v_aload_n G 0 rfl rfl dX4_experience_64 ?_
            refine kX4_335 G (As := []) (rest := []) (cs' := 0) (sl' := 0) (n_ratio G.fl (τ := τ) (D := st2 D 0 0 0) hA hx) (zRcv.of G (q := (RX4, TX4, 55)) rfl zM_0) rfl rfl (Nat.le_of_ble_eq_true rfl) (zRm.ok rfl) dX4_experience_65 (fun vq9 hq9 q9 => ?_)
            obtain ⟨_, _⟩ := q9
            subst vq9 hq9
            show VW θ Q E (zM E A h (sc τ (st2 D 0 0 0))) 0 0 68 [(0, .ref (A 0)), (1, .int (iI w))] [.long (iL (raT τ))]
            refine v_goto G 75 (by decide) dX4_experience_68 ?_
            have e : oExp τ w = (0, (raT τ), τ) := by
              unfold oExp
              (repeat (first | rw [if_pos (by omega)] | rw [if_neg (by omega)]))
              all_goals rfl
            exact v_lret G hQ (by rw [e]; exact ⟨rfl, st2 D 0 0 0, rfl, rfl⟩) (Nat.le_of_ble_eq_true rfl) (Nat.le_of_ble_eq_true rfl) dX4_experience_75
        · refine v_aload_n G 0 rfl rfl dX4_experience_52 ?_
          refine kX4_332 G (As := []) (rest := []) (cs' := 0) (sl' := 0) (n_cred G.fl (τ := τ) (D := st2 D 0 0 0) hA hx) (zRcv.of G (q := (RX4, TX4, 55)) rfl zM_0) rfl rfl (Nat.le_of_ble_eq_true rfl) (zRm.ok rfl) dX4_experience_53 (fun vq10 hq10 q10 => ?_)
          obtain ⟨_, _⟩ := q10
          subst vq10 hq10
          show VW θ Q E (zM E A h (sc τ (st2 D 0 0 0))) 0 0 56 [(0, .ref (A 0)), (1, .int (iI w))] [.long (iL (crT τ))]
          refine v_goto G 75 (by decide) dX4_experience_56 ?_
          have e : oExp τ w = (0, (crT τ), τ) := by
            unfold oExp
            (repeat (first | rw [if_pos (by omega)] | rw [if_neg (by omega)]))
            all_goals rfl
          exact v_lret G hQ (by rw [e]; exact ⟨rfl, st2 D 0 0 0, rfl, rfl⟩) (Nat.le_of_ble_eq_true rfl) (Nat.le_of_ble_eq_true rfl) dX4_experience_75
      · refine v_aload_n G 0 rfl rfl dX4_experience_40 ?_
        refine gX4_162 G zM_0 (v := .long (iL (τ 16 0))) rfl dX4_experience_41 ?_
        refine v_goto G 75 (by decide) dX4_experience_44 ?_
        have e : oExp τ w = (0, (τ 16 0), τ) := by
          unfold oExp
          (repeat (first | rw [if_pos (by omega)] | rw [if_neg (by omega)]))
          all_goals rfl
        exact v_lret G hQ (by rw [e]; exact ⟨rfl, st2 D 0 0 0, rfl, rfl⟩) (Nat.le_of_ble_eq_true rfl) (Nat.le_of_ble_eq_true rfl) dX4_experience_75
    · refine v_aload_n G 0 rfl rfl dX4_experience_28 ?_
      refine gX4_159 G zM_0 (v := .long (iL (τ 15 0))) rfl dX4_experience_29 ?_
      refine v_goto G 75 (by decide) dX4_experience_32 ?_
      have e : oExp τ w = (0, (τ 15 0), τ) := by
        unfold oExp
        (repeat (first | rw [if_pos (by omega)] | rw [if_neg (by omega)]))
        all_goals rfl
      exact v_lret G hQ (by rw [e]; exact ⟨rfl, st2 D 0 0 0, rfl, rfl⟩) (Nat.le_of_ble_eq_true rfl) (Nat.le_of_ble_eq_true rfl) dX4_experience_75
  · have gz2 := bF hz2 (by omega)
    refine v_aload_n G 0 rfl rfl dX4_experience_17 ?_
    refine v_iconst G dX4_experience_18 ?_
    refine kX4_342 G (As := [.int (iI 1)]) (rest := []) (cs' := 0) (sl' := 0) (n_fails G.fl (τ := τ) (D := st2 D 0 0 0) hA (k := 1)) (zRcv.of G (q := (RX4, TX4, 55)) rfl zM_0) rfl rfl (Nat.le_of_ble_eq_true rfl) (zRm.ok rfl) dX4_experience_19 (fun vq11 hq11 q11 => ?_)
    obtain ⟨_, _⟩ := q11
    subst vq11 hq11
    show VW θ Q E (zM E A h (sc τ (st2 (st2 D 0 0 0) 0 0 1))) 0 0 22 [(0, .ref (A 0)), (1, .int (iI w))] [.int (iI 0)]
    refine v_i2l G ⟨by decide, by decide⟩ dX4_experience_22 ?_
    have e : oExp τ w = (1, 0, τ) := by
      unfold oExp
      (repeat (first | rw [if_pos (by omega)] | rw [if_neg (by omega)]))
      all_goals rfl
    exact v_lret G hQ (by rw [e]; exact ⟨rfl, st2 (st2 D 0 0 0) 0 0 1, rfl, rfl⟩) (Nat.le_of_ble_eq_true rfl) (Nat.le_of_ble_eq_true rfl) dX4_experience_23

set_option maxHeartbeats 4000000 in
theorem o_adopt {l : Launch} (hfl : l.stackTraces = false) {E : zEn} {h : zHp} {A : Nat → Nat} {τ D : mMem} (hA : mInj A) (H : okT τ)  : CN l E yX4_adopt (ws_ yX4_adopt cX4_adopt 3 (some FieldType.int)) ({ frames := 6, cells := 0, slots := 0, locals := 166 } : Room) [.ref (A 0)] (zM E A h (sc τ D)) (zOI E A h (oAdopt τ)) := by
  refine CN.of (by decide +kernel) hfl (Nat.le_of_ble_eq_true rfl) fun θ Q hl G hin hQ => ?_
  subst hl
  show VW θ Q E (zM E A h (sc τ D)) 0 0 0 [(0, .ref (A 0))] []
  have hm := H.many
  have hyr := H.year
  have hn := H.nums
  have hi := H.imp
  have hbt := H.bits
  have hw := H.law 0 (by omega) (by omega)
  have w9 := hw
  simp only [okLaw, okW] at w9
  have hx9 := H.exp
  have hx : (0 ≤ τ 15 0 ∧ τ 15 0 ≤ 10000) ∧ (0 ≤ τ 16 0 ∧ τ 16 0 ≤ 1000000000) := ⟨⟨by omega, by omega⟩, ⟨by omega, by omega⟩⟩
  have hbl := bl_bd hx
  have e9 := mul_bd2 w9.2.1 hbl
  refine v_aload_n G 0 rfl rfl dX4_adopt_0 ?_
  refine v_iconst G dX4_adopt_1 ?_
  refine pX4_1 G zM_0 (Nat.le_of_ble_eq_true rfl) dX4_adopt_2 ?_
  refine VW.hpe (zM_up0 (k := 0) (z := 0) rfl (by decide)) ?_
  refine VW.hpe (congrArg (zM E A h) (sc_D (k := 0) rfl)) ?_
  refine v_aload_n G 0 rfl rfl dX4_adopt_5 ?_
  refine v_iconst G dX4_adopt_6 ?_
  refine kX4_259 G (As := [.int (iI 0)]) (rest := []) (cs' := 0) (sl' := 0) (n_all G.fl (τ := τ) (D := st2 D 0 0 0) hA (law := 0) ⟨by omega, by omega⟩ hw H.A) (zRcv.of G (q := (RX4, TX4, 55)) rfl zM_0) rfl rfl (Nat.le_of_ble_eq_true rfl) (zRm.ok rfl) dX4_adopt_7 (fun vq1 hq1 q1 => ?_)
  obtain ⟨_, D2, hD2, _⟩ := q1
  subst vq1 hq1
  show VW θ Q E (zM E A h (sc τ D2)) 0 0 10 [(0, .ref (A 0))] [.long (iL (totT τ 0))]
  refine v_lstore_n G (L' := [(1, .long (iL (totT τ 0))), (0, .ref (A 0))]) rfl (Nat.le_of_ble_eq_true rfl) rfl dX4_adopt_10 ?_
  refine v_aload_n G 1 rfl rfl dX4_adopt_11 ?_
  refine gX4_17 G zM_0 (v := .ref (A 19)) rfl dX4_adopt_12 ?_
  refine v_iconst G dX4_adopt_15 ?_
  refine v_ldc2 G (v := 50) q2156 rfl dX4_adopt_16 ?_
  refine v_ldc2 G (v := 200) q2157 rfl dX4_adopt_19 ?_
  refine v_aload_n G 1 rfl rfl dX4_adopt_22 ?_
  refine gX4_17 G zM_0 (v := .ref (A 19)) rfl dX4_adopt_23 ?_
  refine v_iconst G dX4_adopt_26 ?_
  refine m_ald G hA (v := τ 19 0) rfl ⟨by omega, by show _ < (3 : Int); omega⟩ rfl dX4_adopt_27 ?_
  refine v_i2l G ⟨by omega, by omega⟩ dX4_adopt_28 ?_
  refine v_aload_n G 1 rfl rfl dX4_adopt_29 ?_
  refine kX4_401 G (As := []) (rest := [.long (iL (τ 19 0)), .long (iL 200), .long (iL 50), .int (iI 0), .ref (A 19)]) (cs' := 0) (sl' := 0) (n_blend G.fl (τ := τ) (D := D2) hA hx) (zRcv.of G (q := (RX4, TX4, 55)) rfl zM_0) rfl rfl (Nat.le_of_ble_eq_true rfl) (zRm.ok rfl) dX4_adopt_30 (fun vq3 hq3 q3 => ?_)
  obtain ⟨_, _⟩ := q3
  subst vq3 hq3
  show VW θ Q E (zM E A h (sc τ D2)) 0 0 33 [(1, .long (iL (totT τ 0))), (0, .ref (A 0))] [.long (iL (blT τ)), .long (iL (τ 19 0)), .long (iL 200), .long (iL 50), .int (iI 0), .ref (A 19)]
  refine v_lmul G dX4_adopt_33 ?_
  refine v_ldc2 G (v := 1000) q2190 rfl dX4_adopt_34 ?_
  refine v_ldiv G ⟨by omega, by omega⟩ ⟨by decide, by decide⟩ dX4_adopt_37 ?_
  refine kX4_198 G (As := [.long (iL 200), .long (iL (((τ 19 0) * (blT τ)) / 1000))]) (rest := [.long (iL 50), .int (iI 0), .ref (A 19)]) (cs' := 0) (sl' := 0) (m_minL G.fl (a := 200) (b := (((τ 19 0) * (blT τ)) / 1000)) ⟨by decide, by decide⟩ ⟨by omega, by omega⟩) rfl rfl (Nat.le_of_ble_eq_true rfl) (zRm.ok rfl) dX4_adopt_38 (fun vq5 hq5 q5 => ?_)
  obtain ⟨_, _⟩ := q5
  subst vq5 hq5
  show VW θ Q E (zM E A h (sc τ D2)) 0 0 41 [(1, .long (iL (totT τ 0))), (0, .ref (A 0))] [.long (iL (min 200 (((τ 19 0) * (blT τ)) / 1000))), .long (iL 50), .int (iI 0), .ref (A 19)]
  refine kX4_241 G (As := [.long (iL 50), .long (iL (min 200 (((τ 19 0) * (blT τ)) / 1000)))]) (rest := [.int (iI 0), .ref (A 19)]) (cs' := 0) (sl' := 0) (m_maxL G.fl (a := 50) (b := (min 200 (((τ 19 0) * (blT τ)) / 1000))) ⟨by decide, by decide⟩ ⟨by omega, by omega⟩) rfl rfl (Nat.le_of_ble_eq_true rfl) (zRm.ok rfl) dX4_adopt_41 (fun vq7 hq7 q7 => ?_)
  obtain ⟨_, _⟩ := q7
  subst vq7 hq7
  show VW θ Q E (zM E A h (sc τ D2)) 0 0 44 [(1, .long (iL (totT τ 0))), (0, .ref (A 0))] [.long (iL (max 50 (min 200 (((τ 19 0) * (blT τ)) / 1000)))), .int (iI 0), .ref (A 19)]
  refine v_l2i G dX4_adopt_44 ?_
  refine m_ast G hA rfl ⟨by omega, by show _ < (3 : Int); omega⟩ dX4_adopt_45 ?_
  refine VW.hpe (congrArg (zM E A h) (sc_t (k := 19) rfl)) ?_
  refine v_aload_n G 1 rfl rfl dX4_adopt_46 ?_
  refine v_lconst G (n := 0) (v0 := 0) rfl dX4_adopt_47 ?_
  refine pX4_159 G zM_0 (Nat.le_of_ble_eq_true rfl) dX4_adopt_48 ?_
  refine VW.hpe (zM_up0 (k := 15) (z := 0) rfl (by decide)) ?_
  refine VW.hpe (congrArg (zM E A h) (sc_t (k := 15) rfl)) ?_
  refine v_aload_n G 1 rfl rfl dX4_adopt_51 ?_
  refine v_lconst G (n := 0) (v0 := 0) rfl dX4_adopt_52 ?_
  refine pX4_162 G zM_0 (Nat.le_of_ble_eq_true rfl) dX4_adopt_53 ?_
  refine VW.hpe (zM_up0 (k := 16) (z := 0) rfl (by decide)) ?_
  refine VW.hpe (congrArg (zM E A h) (sc_t (k := 16) rfl)) ?_
  refine v_aload_n G 1 rfl rfl dX4_adopt_56 ?_
  refine gX4_24 G zM_0 (v := .ref (A 21)) rfl dX4_adopt_57 ?_
  refine v_bipush G rfl dX4_adopt_60 ?_
  refine v_dup2 G rfl rfl dX4_adopt_62 ?_
  refine m_lld G hA (v := τ 21 6) rfl ⟨by omega, by show _ < (9 : Int); omega⟩ rfl dX4_adopt_63 ?_
  refine v_aload_n G 1 rfl rfl dX4_adopt_64 ?_
  refine v_iconst G dX4_adopt_65 ?_
  refine kX4_259 G (As := [.int (iI 0)]) (rest := [.long (iL (τ 21 6)), .int (iI 6), .ref (A 21)]) (cs' := 0) (sl' := 0) (n_all G.fl (τ := st2 (st2 (st2 τ 19 0 (max 50 (min 200 (((τ 19 0) * (blT τ)) / 1000)))) 15 0 0) 16 0 0) (D := D2) hA (law := 0) ⟨by omega, by omega⟩ (show okLaw (adM τ) 0 from adW H) (show okA (adM τ) from adA H)) (zRcv.of G (q := (RX4, TX4, 55)) rfl zM_0) rfl rfl (Nat.le_of_ble_eq_true rfl) (zRm.ok rfl) dX4_adopt_66 (fun vq8 hq8 q8 => ?_)
  obtain ⟨_, D9, hD9, _⟩ := q8
  subst vq8 hq8
  show VW θ Q E (zM E A h (sc (st2 (st2 (st2 τ 19 0 (max 50 (min 200 (((τ 19 0) * (blT τ)) / 1000)))) 15 0 0) 16 0 0) D9)) 0 0 69 [(1, .long (iL (totT τ 0))), (0, .ref (A 0))] [.long (iL (totT (st2 (st2 (st2 τ 19 0 (max 50 (min 200 (((τ 19 0) * (blT τ)) / 1000)))) 15 0 0) 16 0 0) 0)), .long (iL (τ 21 6)), .int (iI 6), .ref (A 21)]
  refine v_lload_n G 0 rfl rfl dX4_adopt_69 ?_
  refine v_lsub G dX4_adopt_70 ?_
  refine v_lsub G dX4_adopt_71 ?_
  refine m_lst G hA rfl ⟨by omega, by show _ < (9 : Int); omega⟩ dX4_adopt_72 ?_
  refine VW.hpe (congrArg (zM E A h) (sc_t (k := 21) rfl)) ?_
  refine v_aload_n G 1 rfl rfl dX4_adopt_73 ?_
  refine gX4_17 G zM_0 (v := .ref (A 19)) rfl dX4_adopt_74 ?_
  refine v_iconst G dX4_adopt_77 ?_
  refine m_ald G hA (v := (max 50 (min 200 (((τ 19 0) * (blT τ)) / 1000)))) rfl ⟨by omega, by show _ < (3 : Int); omega⟩ (by first | exact sc_rD rfl | exact sc_rt rfl | simp (decide := true) [sc, st2, iup]) dX4_adopt_78 ?_
  have e : oAdopt τ = (0, (max 50 (min 200 (((τ 19 0) * (blT τ)) / 1000))), st2 (st2 (st2 (st2 τ 19 0 (max 50 (min 200 (((τ 19 0) * (blT τ)) / 1000)))) 15 0 0) 16 0 0) 21 6 ((τ 21 6) - ((totT (st2 (st2 (st2 τ 19 0 (max 50 (min 200 (((τ 19 0) * (blT τ)) / 1000)))) 15 0 0) 16 0 0) 0) - (totT τ 0)))) := by
    unfold oAdopt
    (repeat (first | rw [if_pos (by omega)] | rw [if_neg (by omega)]))
    all_goals rfl
  exact v_iret G hQ (by rw [e]; exact ⟨rfl, D9, ((congrFun ((hD2.trans hD9) 0 (Or.inl (by decide))) 0)), rfl⟩) (Nat.le_of_ble_eq_true rfl) (Nat.le_of_ble_eq_true rfl) dX4_adopt_79

set_option maxHeartbeats 4000000 in
theorem o_close {l : Launch} (hfl : l.stackTraces = false) {E : zEn} {h : zHp} {A : Nat → Nat} {τ D : mMem} (hA : mInj A) (H : okT τ)  : CN l E yX4_close (ws_ yX4_close cX4_close 1 (some FieldType.int)) ({ frames := 2, cells := 0, slots := 0, locals := 43 } : Room) [.ref (A 0)] (zM E A h (sc τ D)) (zOI E A h (oClose τ)) := by
  refine CN.of (by decide +kernel) hfl (Nat.le_of_ble_eq_true rfl) fun θ Q hl G hin hQ => ?_
  subst hl
  show VW θ Q E (zM E A h (sc τ D)) 0 0 0 [(0, .ref (A 0))] []
  have hm := H.many
  have hyr := H.year
  have hn := H.nums
  have hi := H.imp
  have hbt := H.bits
  refine v_aload_n G 0 rfl rfl dX4_close_0 ?_
  refine v_iconst G dX4_close_1 ?_
  refine pX4_1 G zM_0 (Nat.le_of_ble_eq_true rfl) dX4_close_2 ?_
  refine VW.hpe (zM_up0 (k := 0) (z := 0) rfl (by decide)) ?_
  refine VW.hpe (congrArg (zM E A h) (sc_D (k := 0) rfl)) ?_
  refine v_aload_n G 0 rfl rfl dX4_close_5 ?_
  refine gX4_156 G zM_0 (v := .int (iI (τ 13 0))) rfl dX4_close_6 ?_
  refine v_if_eq G 18 ⟨by omega, by omega⟩ (by decide) dX4_close_9 (fun c1 => ?_) (fun c1 => ?_)
  · refine v_aload_n G 0 rfl rfl dX4_close_18 ?_
    refine v_iconst G dX4_close_19 ?_
    refine pX4_156 G (by decide) zM_0 (Nat.le_of_ble_eq_true rfl) dX4_close_20 ?_
    refine VW.hpe (zM_up0 (k := 13) (z := 1) rfl (by decide)) ?_
    refine VW.hpe (congrArg (zM E A h) (sc_t (k := 13) rfl)) ?_
    refine v_aload_n G 0 rfl rfl dX4_close_23 ?_
    refine kX4_412 G (As := []) (rest := []) (cs' := 0) (sl' := 0) (n_live G.fl (τ := st2 τ 13 0 1) (D := st2 D 0 0 0) hA H.many (show ∀ p, 0 ≤ p → p < τ 10 0 → 0 ≤ τ 29 p ∧ τ 29 p ≤ 7 from fun p h1 h2 => by have h9 := (H.pol p h1 h2).1; simp only [okP1, okP, tP] at h9; omega)) (zRcv.of G (q := (RX4, TX4, 55)) rfl zM_0) rfl rfl (Nat.le_of_ble_eq_true rfl) (zRm.ok rfl) dX4_close_24 (fun vq2 hq2 q2 => ?_)
    obtain ⟨_, _⟩ := q2
    subst vq2 hq2
    show VW θ Q E (zM E A h (sc (st2 τ 13 0 1) (st2 D 0 0 0))) 0 0 27 [(0, .ref (A 0))] [.int (iI (liveT (st2 τ 13 0 1)))]
    have e : oClose τ = (0, (liveT (st2 τ 13 0 1)), st2 τ 13 0 1) := by
      unfold oClose
      (repeat (first | rw [if_pos (by omega)] | rw [if_neg (by omega)]))
      all_goals rfl
    exact v_iret G hQ (by rw [e]; exact ⟨rfl, st2 D 0 0 0, rfl, rfl⟩) (Nat.le_of_ble_eq_true rfl) (Nat.le_of_ble_eq_true rfl) dX4_close_27
  · refine v_aload_n G 0 rfl rfl dX4_close_12 ?_
    refine v_iconst G dX4_close_13 ?_
    refine kX4_342 G (As := [.int (iI 1)]) (rest := []) (cs' := 0) (sl' := 0) (n_fails G.fl (τ := τ) (D := st2 D 0 0 0) hA (k := 1)) (zRcv.of G (q := (RX4, TX4, 55)) rfl zM_0) rfl rfl (Nat.le_of_ble_eq_true rfl) (zRm.ok rfl) dX4_close_14 (fun vq3 hq3 q3 => ?_)
    obtain ⟨_, _⟩ := q3
    subst vq3 hq3
    show VW θ Q E (zM E A h (sc τ (st2 (st2 D 0 0 0) 0 0 1))) 0 0 17 [(0, .ref (A 0))] [.int (iI 0)]
    have e : oClose τ = (1, 0, τ) := by
      unfold oClose
      (repeat (first | rw [if_pos (by omega)] | rw [if_neg (by omega)]))
      all_goals rfl
    exact v_iret G hQ (by rw [e]; exact ⟨rfl, st2 (st2 D 0 0 0) 0 0 1, rfl, rfl⟩) (Nat.le_of_ble_eq_true rfl) (Nat.le_of_ble_eq_true rfl) dX4_close_17

