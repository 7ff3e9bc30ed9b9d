/-! WALKS: the reference: calls with loops -/
set_option maxRecDepth 100000
set_option maxHeartbeats 4000000 in
theorem o_issue {l : Launch} (hfl : l.stackTraces = false) {E : zEn} {h : zHp} {A : Nat → Nat} {τ D : mMem} (hA : mInj A) (H : okT τ) {kind : Int} (nnkind : n32 kind) {u : Int} (nnu : n32 u) {term : Int} (nnterm : n32 term) {b : Int} (nnb : n32 b) {fl : Int} (nnfl : n32 fl) {pts : Int} (nnpts : n32 pts)  : CN l E yX4_issue (ws_ yX4_issue cX4_issue 8 (some FieldType.int)) ({ frames := 4, cells := 0, slots := 0, locals := 120 } : Room) [.ref (A 0), .int (iI kind), .int (iI u), .int (iI term), .int (iI b), .int (iI fl), .int (iI pts)] (zM E A h (sc τ D)) (zOI E A h (oIssue τ kind u term b fl pts)) := by
  refine CN.of (by decide +kernel) hfl (Nat.le_of_ble_eq_true rfl) fun θ Q hl G hin hQ => ?_
  subst hl
  show VW θ Q E (zM E A h (sc τ D)) 0 0 0 [(0, .ref (A 0)), (1, .int (iI kind)), (2, .int (iI u)), (3, .int (iI term)), (4, .int (iI b)), (5, .int (iI fl)), (6, .int (iI pts))] []
  have hm := H.many
  have hyr := H.year
  have hn := H.nums
  have hi := H.imp
  have hbt := H.bits
  refine v_aload_n G 0 rfl rfl dX4_issue_0 ?_
  refine v_iconst G dX4_issue_1 ?_
  refine pX4_1 G zM_0 (Nat.le_of_ble_eq_true rfl) dX4_issue_2 ?_
  refine VW.hpe (zM_up0 (k := 0) (z := 0) rfl (by decide)) ?_
  refine VW.hpe (congrArg (zM E A h) (sc_D (k := 0) rfl)) ?_
  refine v_aload_n G 0 rfl rfl dX4_issue_5 ?_
  refine v_iload_n G 1 rfl rfl dX4_issue_6 ?_
  refine v_iload_n G 2 rfl rfl dX4_issue_7 ?_
  refine v_iload_n G 3 rfl rfl dX4_issue_8 ?_
  refine v_iload G 4 rfl dX4_issue_9 ?_
  refine v_iload G 5 rfl dX4_issue_11 ?_
  refine v_iload G 6 rfl dX4_issue_13 ?_
  refine kX4_373 G (As := [.int (iI kind), .int (iI u), .int (iI term), .int (iI b), .int (iI fl), .int (iI pts)]) (rest := []) (cs' := 0) (sl' := 0) (n_isOffer G.fl (τ := τ) (D := st2 D 0 0 0) hA H (kind := kind) (u := u) (term := term) (b := b) (fl := fl) (pts := pts) ⟨by omega, by omega⟩ ⟨by omega, by omega⟩ ⟨by omega, by omega⟩ ⟨by omega, by omega⟩ ⟨by omega, by omega⟩ ⟨by omega, by omega⟩) (zRcv.of G (q := (RX4, TX4, 55)) rfl zM_0) rfl rfl (Nat.le_of_ble_eq_true rfl) (zRm.ok rfl) dX4_issue_15 (fun vq1 hq1 q1 => ?_)
  obtain ⟨_, _⟩ := q1
  subst vq1 hq1
  refine VW.nmI (fun z2 hz2 => ?_)
  have hz2 := ite01 hz2
  show VW θ Q E (zM E A h (sc τ (st2 D 0 0 0))) 0 0 18 [(0, .ref (A 0)), (1, .int (iI kind)), (2, .int (iI u)), (3, .int (iI term)), (4, .int (iI b)), (5, .int (iI fl)), (6, .int (iI pts))] [.int (iI z2)]
  refine v_if_ne G 27 ⟨by omega, by omega⟩ (by decide) dX4_issue_18 (fun c3 => ?_) (fun c3 => ?_)
  · have gz2 := bT hz2 (by omega)
    have hof9 : ofT τ kind u term b fl pts := by assumption
    have hk9 := hof9.1
    refine v_aload_n G 0 rfl rfl dX4_issue_27 ?_
    refine gX4_146 G zM_0 (v := .int (iI (τ 10 0))) rfl dX4_issue_28 ?_
    refine v_bipush G rfl dX4_issue_31 ?_
    refine v_icmp_eq G 61 ⟨by omega, by omega⟩ ⟨by decide, by decide⟩ (by decide) dX4_issue_33 (fun c4 => ?_) (fun c4 => ?_)
    · refine v_aload_n G 0 rfl rfl dX4_issue_61 ?_
      refine v_iconst G dX4_issue_62 ?_
      refine kX4_342 G (As := [.int (iI 2)]) (rest := []) (cs' := 0) (sl' := 0) (n_fails G.fl (τ := τ) (D := st2 D 0 0 0) hA (k := 2)) (zRcv.of G (q := (RX4, TX4, 55)) rfl zM_0) rfl rfl (Nat.le_of_ble_eq_true rfl) (zRm.ok rfl) dX4_issue_63 (fun vq5 hq5 q5 => ?_)
      obtain ⟨_, _⟩ := q5
      subst vq5 hq5
      show VW θ Q E (zM E A h (sc τ (st2 (st2 D 0 0 0) 0 0 2))) 0 0 66 [(0, .ref (A 0)), (1, .int (iI kind)), (2, .int (iI u)), (3, .int (iI term)), (4, .int (iI b)), (5, .int (iI fl)), (6, .int (iI pts))] [.int (iI 0)]
      have e : oIssue τ kind u term b fl pts = (2, 0, τ) := by
        unfold oIssue
        (repeat (first | rw [if_pos (by omega)] | rw [if_neg (by omega)]))
        all_goals rfl
      exact v_iret G hQ (by rw [e]; exact ⟨rfl, st2 (st2 D 0 0 0) 0 0 2, rfl, rfl⟩) (Nat.le_of_ble_eq_true rfl) (Nat.le_of_ble_eq_true rfl) dX4_issue_66
    · refine v_aload_n G 0 rfl rfl dX4_issue_36 ?_
      refine gX4_156 G zM_0 (v := .int (iI (τ 13 0))) rfl dX4_issue_37 ?_
      refine v_if_ne G 61 ⟨by omega, by omega⟩ (by decide) dX4_issue_40 (fun c6 => ?_) (fun c6 => ?_)
      · refine v_aload_n G 0 rfl rfl dX4_issue_61 ?_
        refine v_iconst G dX4_issue_62 ?_
        refine kX4_342 G (As := [.int (iI 2)]) (rest := []) (cs' := 0) (sl' := 0) (n_fails G.fl (τ := τ) (D := st2 D 0 0 0) hA (k := 2)) (zRcv.of G (q := (RX4, TX4, 55)) rfl zM_0) rfl rfl (Nat.le_of_ble_eq_true rfl) (zRm.ok rfl) dX4_issue_63 (fun vq7 hq7 q7 => ?_)
        obtain ⟨_, _⟩ := q7
        subst vq7 hq7
        show VW θ Q E (zM E A h (sc τ (st2 (st2 D 0 0 0) 0 0 2))) 0 0 66 [(0, .ref (A 0)), (1, .int (iI kind)), (2, .int (iI u)), (3, .int (iI term)), (4, .int (iI b)), (5, .int (iI fl)), (6, .int (iI pts))] [.int (iI 0)]
        have e : oIssue τ kind u term b fl pts = (2, 0, τ) := by
          unfold oIssue
          (repeat (first | rw [if_pos (by omega)] | rw [if_neg (by omega)]))
          all_goals rfl
        exact v_iret G hQ (by rw [e]; exact ⟨rfl, st2 (st2 D 0 0 0) 0 0 2, rfl, rfl⟩) (Nat.le_of_ble_eq_true rfl) (Nat.le_of_ble_eq_true rfl) dX4_issue_66
      · refine v_iload G 6 rfl dX4_issue_43 ?_
        refine v_sipush G rfl dX4_issue_45 ?_
        refine v_icmp_gt G 61 ⟨by omega, by omega⟩ ⟨by decide, by decide⟩ (by decide) dX4_issue_48 (fun c8 => ?_) (fun c8 => ?_)
        · refine v_aload_n G 0 rfl rfl dX4_issue_61 ?_
          refine v_iconst G dX4_issue_62 ?_
          refine kX4_342 G (As := [.int (iI 2)]) (rest := []) (cs' := 0) (sl' := 0) (n_fails G.fl (τ := τ) (D := st2 D 0 0 0) hA (k := 2)) (zRcv.of G (q := (RX4, TX4, 55)) rfl zM_0) rfl rfl (Nat.le_of_ble_eq_true rfl) (zRm.ok rfl) dX4_issue_63 (fun vq9 hq9 q9 => ?_)
          obtain ⟨_, _⟩ := q9
          subst vq9 hq9
          show VW θ Q E (zM E A h (sc τ (st2 (st2 D 0 0 0) 0 0 2))) 0 0 66 [(0, .ref (A 0)), (1, .int (iI kind)), (2, .int (iI u)), (3, .int (iI term)), (4, .int (iI b)), (5, .int (iI fl)), (6, .int (iI pts))] [.int (iI 0)]
          have e : oIssue τ kind u term b fl pts = (2, 0, τ) := by
            unfold oIssue
            (repeat (first | rw [if_pos (by omega)] | rw [if_neg (by omega)]))
            all_goals rfl
          exact v_iret G hQ (by rw [e]; exact ⟨rfl, st2 (st2 D 0 0 0) 0 0 2, rfl, rfl⟩) (Nat.le_of_ble_eq_true rfl) (Nat.le_of_ble_eq_true rfl) dX4_issue_66
        · refine v_aload_n G 0 rfl rfl dX4_issue_51 ?_
          refine gX4_114 G zM_0 (v := .int (iI (τ 1 0))) rfl dX4_issue_52 ?_
          refine v_sipush G rfl dX4_issue_55 ?_
          refine v_icmp_ne G 67 ⟨by omega, by omega⟩ ⟨by decide, by decide⟩ (by decide) dX4_issue_58 (fun c10 => ?_) (fun c10 => ?_)
          · refine v_aload_n G 0 rfl rfl dX4_issue_67 ?_
            refine v_dup G rfl dX4_issue_68 ?_
            refine gX4_146 G zM_0 (v := .int (iI (τ 10 0))) rfl dX4_issue_69 ?_
            refine v_dup_x1 G rfl rfl dX4_issue_72 ?_
            refine v_iconst G dX4_issue_73 ?_
            refine v_iadd G dX4_issue_74 ?_
            refine pX4_146 G zM_0 (Nat.le_of_ble_eq_true rfl) dX4_issue_75 ?_
            refine VW.hpe (zM_up0 (k := 10) (z := ((τ 10 0) + 1)) rfl (by decide)) ?_
            refine VW.hpe (congrArg (zM E A h) (sc_t (k := 10) rfl)) ?_
            refine v_istore G (L' := [(7, .int (iI (τ 10 0))), (0, .ref (A 0)), (1, .int (iI kind)), (2, .int (iI u)), (3, .int (iI term)), (4, .int (iI b)), (5, .int (iI fl)), (6, .int (iI pts))]) (Nat.le_of_ble_eq_true rfl) rfl dX4_issue_78 ?_
            refine v_aload_n G 1 rfl rfl dX4_issue_80 ?_
            refine gX4_31 G zM_0 (v := .ref (A 23)) rfl dX4_issue_81 ?_
            refine v_iload G 0 rfl dX4_issue_84 ?_
            refine v_iload_n G 2 rfl rfl dX4_issue_86 ?_
            refine m_ast G hA rfl ⟨by omega, by show _ < (24 : Int); omega⟩ dX4_issue_87 ?_
            refine VW.hpe (congrArg (zM E A h) (sc_t (k := 23) rfl)) ?_
            refine v_aload_n G 1 rfl rfl dX4_issue_88 ?_
            refine gX4_67 G zM_0 (v := .ref (A 35)) rfl dX4_issue_89 ?_
            refine v_iload G 0 rfl dX4_issue_92 ?_
            refine v_iload_n G 3 rfl rfl dX4_issue_94 ?_
            refine v_i2l G ⟨by omega, by omega⟩ dX4_issue_95 ?_
            refine m_lst G hA rfl ⟨by omega, by show _ < (24 : Int); omega⟩ dX4_issue_96 ?_
            refine VW.hpe (congrArg (zM E A h) (sc_t (k := 35) rfl)) ?_
            refine v_aload_n G 1 rfl rfl dX4_issue_97 ?_
            refine gX4_34 G zM_0 (v := .ref (A 24)) rfl dX4_issue_98 ?_
            refine v_iload G 0 rfl dX4_issue_101 ?_
            refine v_iload G 5 rfl dX4_issue_103 ?_
            refine m_ast G hA rfl ⟨by omega, by show _ < (24 : Int); omega⟩ dX4_issue_105 ?_
            refine VW.hpe (congrArg (zM E A h) (sc_t (k := 24) rfl)) ?_
            refine v_aload_n G 1 rfl rfl dX4_issue_106 ?_
            refine gX4_37 G zM_0 (v := .ref (A 25)) rfl dX4_issue_107 ?_
            refine v_iload G 0 rfl dX4_issue_110 ?_
            refine v_iload G 6 rfl dX4_issue_112 ?_
            refine m_ast G hA rfl ⟨by omega, by show _ < (24 : Int); omega⟩ dX4_issue_114 ?_
            refine VW.hpe (congrArg (zM E A h) (sc_t (k := 25) rfl)) ?_
            refine v_aload_n G 1 rfl rfl dX4_issue_115 ?_
            refine gX4_40 G zM_0 (v := .ref (A 26)) rfl dX4_issue_116 ?_
            refine v_iload G 0 rfl dX4_issue_119 ?_
            refine v_iload G 7 rfl dX4_issue_121 ?_
            refine m_ast G hA rfl ⟨by omega, by show _ < (24 : Int); omega⟩ dX4_issue_123 ?_
            refine VW.hpe (congrArg (zM E A h) (sc_t (k := 26) rfl)) ?_
            refine v_aload_n G 1 rfl rfl dX4_issue_124 ?_
            refine gX4_43 G zM_0 (v := .ref (A 27)) rfl dX4_issue_125 ?_
            refine v_iload G 0 rfl dX4_issue_128 ?_
            refine v_aload_n G 1 rfl rfl dX4_issue_130 ?_
            refine gX4_114 G zM_0 (v := .int (iI (τ 1 0))) rfl dX4_issue_131 ?_
            refine m_ast G hA rfl ⟨by omega, by show _ < (24 : Int); omega⟩ dX4_issue_134 ?_
            refine VW.hpe (congrArg (zM E A h) (sc_t (k := 27) rfl)) ?_
            refine v_aload_n G 1 rfl rfl dX4_issue_135 ?_
            refine gX4_46 G zM_0 (v := .ref (A 28)) rfl dX4_issue_136 ?_
            refine v_iload G 0 rfl dX4_issue_139 ?_
            refine v_aload_n G 1 rfl rfl dX4_issue_141 ?_
            refine v_iload_n G 2 rfl rfl dX4_issue_142 ?_
            refine v_iload_n G 4 rfl rfl dX4_issue_143 ?_
            refine v_iload G 5 rfl dX4_issue_144 ?_
            refine kX4_370 G (As := [.int (iI kind), .int (iI term), .int (iI b)]) (rest := [.int (iI (τ 10 0)), .ref (A 28)]) (cs' := 0) (sl' := 0) (n_endOf G.fl (τ := st2 (st2 (st2 (st2 (st2 (st2 (st2 τ 10 0 ((τ 10 0) + 1)) 23 (τ 10 0) kind) 35 (τ 10 0) u) 24 (τ 10 0) b) 25 (τ 10 0) fl) 26 (τ 10 0) pts) 27 (τ 10 0) (τ 1 0)) (D := st2 D 0 0 0) hA (kind := kind) (term := term) (b := b) ⟨by omega, by omega⟩) (zRcv.of G (q := (RX4, TX4, 55)) rfl zM_0) rfl rfl (Nat.le_of_ble_eq_true rfl) (zRm.ok rfl) dX4_issue_146 (fun vq11 hq11 q11 => ?_)
            obtain ⟨_, _⟩ := q11
            subst vq11 hq11
            show VW θ Q E (zM E A h (sc (st2 (st2 (st2 (st2 (st2 (st2 (st2 τ 10 0 ((τ 10 0) + 1)) 23 (τ 10 0) kind) 35 (τ 10 0) u) 24 (τ 10 0) b) 25 (τ 10 0) fl) 26 (τ 10 0) pts) 27 (τ 10 0) (τ 1 0)) (st2 D 0 0 0))) 0 0 149 [(7, .int (iI (τ 10 0))), (0, .ref (A 0)), (1, .int (iI kind)), (2, .int (iI u)), (3, .int (iI term)), (4, .int (iI b)), (5, .int (iI fl)), (6, .int (iI pts))] [.int (iI (enT τ kind term b)), .int (iI (τ 10 0)), .ref (A 28)]
            refine m_ast G hA rfl ⟨by omega, by show _ < (24 : Int); omega⟩ dX4_issue_149 ?_
            refine VW.hpe (congrArg (zM E A h) (sc_t (k := 28) rfl)) ?_
            refine v_aload_n G 1 rfl rfl dX4_issue_150 ?_
            refine gX4_79 G zM_0 (v := .ref (A 39)) rfl dX4_issue_151 ?_
            refine v_iload G 0 rfl dX4_issue_154 ?_
            refine v_aload_n G 1 rfl rfl dX4_issue_156 ?_
            refine v_iload_n G 2 rfl rfl dX4_issue_157 ?_
            refine v_iload_n G 3 rfl rfl dX4_issue_158 ?_
            refine v_iload_n G 4 rfl rfl dX4_issue_159 ?_
            refine v_iload G 5 rfl dX4_issue_160 ?_
            refine v_iload G 6 rfl dX4_issue_162 ?_
            refine v_iload G 7 rfl dX4_issue_164 ?_
            refine kX4_377 G (As := [.int (iI kind), .int (iI u), .int (iI term), .int (iI b), .int (iI fl), .int (iI pts)]) (rest := [.int (iI (τ 10 0)), .ref (A 39)]) (cs' := 0) (sl' := 0) (n_prem G.fl (τ := st2 (st2 (st2 (st2 (st2 (st2 (st2 (st2 τ 10 0 ((τ 10 0) + 1)) 23 (τ 10 0) kind) 35 (τ 10 0) u) 24 (τ 10 0) b) 25 (τ 10 0) fl) 26 (τ 10 0) pts) 27 (τ 10 0) (τ 1 0)) 28 (τ 10 0) (enT τ kind term b)) (D := st2 D 0 0 0) hA (kind := kind) (u := u) (term := term) (b := b) (fl := fl) (pts := pts) (show okE (st2 (st2 (st2 (st2 (st2 (st2 (st2 (st2 τ 10 0 ((τ 10 0) + 1)) 23 (τ 10 0) kind) 35 (τ 10 0) u) 24 (τ 10 0) b) 25 (τ 10 0) fl) 26 (τ 10 0) pts) 27 (τ 10 0) (τ 1 0)) 28 (τ 10 0) (enT τ kind term b)) from H.E) (show ofT τ kind u term b fl pts from by assumption)) (zRcv.of G (q := (RX4, TX4, 55)) rfl zM_0) rfl rfl (Nat.le_of_ble_eq_true rfl) (zRm.ok rfl) dX4_issue_166 (fun vq12 hq12 q12 => ?_)
            obtain ⟨_, D13, hD13, _⟩ := q12
            subst vq12 hq12
            show VW θ Q E (zM E A h (sc (st2 (st2 (st2 (st2 (st2 (st2 (st2 (st2 τ 10 0 ((τ 10 0) + 1)) 23 (τ 10 0) kind) 35 (τ 10 0) u) 24 (τ 10 0) b) 25 (τ 10 0) fl) 26 (τ 10 0) pts) 27 (τ 10 0) (τ 1 0)) 28 (τ 10 0) (enT τ kind term b)) D13)) 0 0 169 [(7, .int (iI (τ 10 0))), (0, .ref (A 0)), (1, .int (iI kind)), (2, .int (iI u)), (3, .int (iI term)), (4, .int (iI b)), (5, .int (iI fl)), (6, .int (iI pts))] [.long (iL (pmT τ kind u term b fl pts)), .int (iI (τ 10 0)), .ref (A 39)]
            refine m_lst G hA rfl ⟨by omega, by show _ < (24 : Int); omega⟩ dX4_issue_169 ?_
            refine VW.hpe (congrArg (zM E A h) (sc_t (k := 39) rfl)) ?_
            refine v_aload_n G 1 rfl rfl dX4_issue_170 ?_
            refine gX4_49 G zM_0 (v := .ref (A 29)) rfl dX4_issue_171 ?_
            refine v_iload G 0 rfl dX4_issue_174 ?_
            refine v_iconst G dX4_issue_176 ?_
            refine m_ast G hA rfl ⟨by omega, by show _ < (24 : Int); omega⟩ dX4_issue_177 ?_
            refine VW.hpe (congrArg (zM E A h) (sc_t (k := 29) rfl)) ?_
            refine v_aload_n G 1 rfl rfl dX4_issue_178 ?_
            refine gX4_64 G zM_0 (v := .ref (A 34)) rfl dX4_issue_179 ?_
            refine v_iload G 0 rfl dX4_issue_182 ?_
            refine v_iconst G dX4_issue_184 ?_
            refine m_zst G hA rfl (by decide) ⟨by omega, by show _ < (24 : Int); omega⟩ dX4_issue_185 ?_
            refine VW.hpe (congrArg (zM E A h) (sc_t (k := 34) rfl)) ?_
            refine v_aload_n G 1 rfl rfl dX4_issue_186 ?_
            refine gX4_52 G zM_0 (v := .ref (A 30)) rfl dX4_issue_187 ?_
            refine v_iload G 0 rfl dX4_issue_190 ?_
            refine v_iload G 7 rfl dX4_issue_192 ?_
            refine m_ast G hA rfl ⟨by omega, by show _ < (24 : Int); omega⟩ dX4_issue_194 ?_
            refine VW.hpe (congrArg (zM E A h) (sc_t (k := 30) rfl)) ?_
            refine v_aload_n G 1 rfl rfl dX4_issue_195 ?_
            refine gX4_55 G zM_0 (v := .ref (A 31)) rfl dX4_issue_196 ?_
            refine v_iload G 0 rfl dX4_issue_199 ?_
            refine v_iconst G dX4_issue_201 ?_
            refine m_ast G hA rfl ⟨by omega, by show _ < (24 : Int); omega⟩ dX4_issue_202 ?_
            refine VW.hpe (congrArg (zM E A h) (sc_t (k := 31) rfl)) ?_
            refine v_aload_n G 1 rfl rfl dX4_issue_203 ?_
            refine gX4_58 G zM_0 (v := .ref (A 32)) rfl dX4_issue_204 ?_
            refine v_iload G 0 rfl dX4_issue_207 ?_
            refine v_iconst G dX4_issue_209 ?_
            refine m_ast G hA rfl ⟨by omega, by show _ < (24 : Int); omega⟩ dX4_issue_210 ?_
            refine VW.hpe (congrArg (zM E A h) (sc_t (k := 32) rfl)) ?_
            refine v_aload_n G 1 rfl rfl dX4_issue_211 ?_
            refine gX4_61 G zM_0 (v := .ref (A 33)) rfl dX4_issue_212 ?_
            refine v_iload G 0 rfl dX4_issue_215 ?_
            refine v_iconst G dX4_issue_217 ?_
            refine m_ast G hA rfl ⟨by omega, by show _ < (24 : Int); omega⟩ dX4_issue_218 ?_
            refine VW.hpe (congrArg (zM E A h) (sc_t (k := 33) rfl)) ?_
            refine v_aload_n G 1 rfl rfl dX4_issue_219 ?_
            refine gX4_70 G zM_0 (v := .ref (A 36)) rfl dX4_issue_220 ?_
            refine v_iload G 0 rfl dX4_issue_223 ?_
            refine v_lconst G (n := 0) (v0 := 0) rfl dX4_issue_225 ?_
            refine m_lst G hA rfl ⟨by omega, by show _ < (24 : Int); omega⟩ dX4_issue_226 ?_
            refine VW.hpe (congrArg (zM E A h) (sc_t (k := 36) rfl)) ?_
            refine v_aload_n G 1 rfl rfl dX4_issue_227 ?_
            refine gX4_73 G zM_0 (v := .ref (A 37)) rfl dX4_issue_228 ?_
            refine v_iload G 0 rfl dX4_issue_231 ?_
            refine v_lconst G (n := 0) (v0 := 0) rfl dX4_issue_233 ?_
            refine m_lst G hA rfl ⟨by omega, by show _ < (24 : Int); omega⟩ dX4_issue_234 ?_
            refine VW.hpe (congrArg (zM E A h) (sc_t (k := 37) rfl)) ?_
            refine v_aload_n G 1 rfl rfl dX4_issue_235 ?_
            refine gX4_76 G zM_0 (v := .ref (A 38)) rfl dX4_issue_236 ?_
            refine v_iload G 0 rfl dX4_issue_239 ?_
            refine v_lconst G (n := 0) (v0 := 0) rfl dX4_issue_241 ?_
            refine m_lst G hA rfl ⟨by omega, by show _ < (24 : Int); omega⟩ dX4_issue_242 ?_
            refine VW.hpe (congrArg (zM E A h) (sc_t (k := 38) rfl)) ?_
            refine v_aload_n G 1 rfl rfl dX4_issue_243 ?_
            refine gX4_82 G zM_0 (v := .ref (A 40)) rfl dX4_issue_244 ?_
            refine v_iload G 0 rfl dX4_issue_247 ?_
            refine v_lconst G (n := 0) (v0 := 0) rfl dX4_issue_249 ?_
            refine m_lst G hA rfl ⟨by omega, by show _ < (24 : Int); omega⟩ dX4_issue_250 ?_
            refine VW.hpe (congrArg (zM E A h) (sc_t (k := 40) rfl)) ?_
            refine v_aload_n G 1 rfl rfl dX4_issue_251 ?_
            refine gX4_85 G zM_0 (v := .ref (A 41)) rfl dX4_issue_252 ?_
            refine v_iload G 0 rfl dX4_issue_255 ?_
            refine v_lconst G (n := 0) (v0 := 0) rfl dX4_issue_257 ?_
            refine m_lst G hA rfl ⟨by omega, by show _ < (24 : Int); omega⟩ dX4_issue_258 ?_
            refine VW.hpe (congrArg (zM E A h) (sc_t (k := 41) rfl)) ?_
            refine v_iload G 0 rfl dX4_issue_259 ?_
            have e : oIssue τ kind u term b fl pts = (0, (τ 10 0), st2 (st2 (st2 (st2 (st2 (st2 (st2 (st2 (st2 (st2 (st2 (st2 (st2 (st2 (st2 (st2 (st2 (st2 (st2 (st2 τ 10 0 ((τ 10 0) + 1)) 23 (τ 10 0) kind) 35 (τ 10 0) u) 24 (τ 10 0) b) 25 (τ 10 0) fl) 26 (τ 10 0) pts) 27 (τ 10 0) (τ 1 0)) 28 (τ 10 0) (enT τ kind term b)) 39 (τ 10 0) (pmT τ kind u term b fl pts)) 29 (τ 10 0) 0) 34 (τ 10 0) 0) 30 (τ 10 0) pts) 31 (τ 10 0) 0) 32 (τ 10 0) 0) 33 (τ 10 0) 0) 36 (τ 10 0) 0) 37 (τ 10 0) 0) 38 (τ 10 0) 0) 40 (τ 10 0) 0) 41 (τ 10 0) 0) := by
              unfold oIssue
              (repeat (first | rw [if_pos (by omega)] | rw [if_neg (by omega)]))
              all_goals rfl
            exact v_iret G hQ (by rw [e]; exact ⟨rfl, D13, ((congrFun (hD13 0 (Or.inl (by decide))) 0)), rfl⟩) (Nat.le_of_ble_eq_true rfl) (Nat.le_of_ble_eq_true rfl) dX4_issue_261
          · refine v_aload_n G 0 rfl rfl dX4_issue_61 ?_
            refine v_iconst G dX4_issue_62 ?_
            refine kX4_342 G (As := [.int (iI 2)]) (rest := []) (cs' := 0) (sl' := 0) (n_fails G.fl (τ := τ) (D := st2 D 0 0 0) hA (k := 2)) (zRcv.of G (q := (RX4, TX4, 55)) rfl zM_0) rfl rfl (Nat.le_of_ble_eq_true rfl) (zRm.ok rfl) dX4_issue_63 (fun vq14 hq14 q14 => ?_)
            obtain ⟨_, _⟩ := q14
            subst vq14 hq14
            show VW θ Q E (zM E A h (sc τ (st2 (st2 D 0 0 0) 0 0 2))) 0 0 66 [(0, .ref (A 0)), (1, .int (iI kind)), (2, .int (iI u)), (3, .int (iI term)), (4, .int (iI b)), (5, .int (iI fl)), (6, .int (iI pts))] [.int (iI 0)]
            have e : oIssue τ kind u term b fl pts = (2, 0, τ) := by
              unfold oIssue
              (repeat (first | rw [if_pos (by omega)] | rw [if_neg (by omega)]))
              all_goals rfl
            exact v_iret G hQ (by rw [e]; exact ⟨rfl, st2 (st2 D 0 0 0) 0 0 2, rfl, rfl⟩) (Nat.le_of_ble_eq_true rfl) (Nat.le_of_ble_eq_true rfl) dX4_issue_66
  · have gz2 := bF hz2 (by omega)
    refine v_aload_n G 0 rfl rfl dX4_issue_21 ?_
    refine v_iconst G dX4_issue_22 ?_
    refine kX4_342 G (As := [.int (iI 1)]) (rest := []) (cs' := 0) (sl' := 0) (n_fails G.fl (τ := τ) (D := st2 D 0 0 0) hA (k := 1)) (zRcv.of G (q := (RX4, TX4, 55)) rfl zM_0) rfl rfl (Nat.le_of_ble_eq_true rfl) (zRm.ok rfl) dX4_issue_23 (fun vq15 hq15 q15 => ?_)
    obtain ⟨_, _⟩ := q15
    subst vq15 hq15
    show VW θ Q E (zM E A h (sc τ (st2 (st2 D 0 0 0) 0 0 1))) 0 0 26 [(0, .ref (A 0)), (1, .int (iI kind)), (2, .int (iI u)), (3, .int (iI term)), (4, .int (iI b)), (5, .int (iI fl)), (6, .int (iI pts))] [.int (iI 0)]
    have e : oIssue τ kind u term b fl pts = (1, 0, τ) := by
      unfold oIssue
      (repeat (first | rw [if_pos (by omega)] | rw [if_neg (by omega)]))
      all_goals rfl
    exact v_iret G hQ (by rw [e]; exact ⟨rfl, st2 (st2 D 0 0 0) 0 0 1, rfl, rfl⟩) (Nat.le_of_ble_eq_true rfl) (Nat.le_of_ble_eq_true rfl) dX4_issue_26

set_option maxHeartbeats 4000000 in
theorem o_err {l : Launch} (hfl : l.stackTraces = false) {E : zEn} {h : zHp} {A : Nat → Nat} {τ D : mMem} (hA : mInj A) (H : okT τ)  : CN l E yX4_errors (ws_ yX4_errors cX4_errors 1 (some FieldType.int)) ({ frames := 0, cells := 0, slots := 0, locals := 0 } : Room) [.ref (A 0)] (zM E A h (sc τ D)) (zOI E A h (oErr τ)) := by
  refine CN.of (by decide +kernel) hfl (Nat.le_of_ble_eq_true rfl) fun θ Q hl G hin hQ => ?_
  subst hl
  show VW θ Q E (zM E A h (sc τ D)) 0 0 0 [(0, .ref (A 0))] []
  have hm := H.many
  have hyr := H.year
  have hn := H.nums
  have hi := H.imp
  have hbt := H.bits
  refine v_aload_n G 0 rfl rfl dX4_errors_0 ?_
  refine v_iconst G dX4_errors_1 ?_
  refine pX4_1 G zM_0 (Nat.le_of_ble_eq_true rfl) dX4_errors_2 ?_
  refine VW.hpe (zM_up0 (k := 0) (z := 0) rfl (by decide)) ?_
  refine VW.hpe (congrArg (zM E A h) (sc_D (k := 0) rfl)) ?_
  refine v_iconst G dX4_errors_5 ?_
  have e : oErr τ = (0, 0, τ) := by
    unfold oErr
    (repeat (first | rw [if_pos (by omega)] | rw [if_neg (by omega)]))
    all_goals rfl
  exact v_iret G hQ (by rw [e]; exact ⟨rfl, st2 D 0 0 0, rfl, rfl⟩) (Nat.le_of_ble_eq_true rfl) (Nat.le_of_ble_eq_true rfl) dX4_errors_6

set_option maxHeartbeats 4000000 in
theorem o_gen {l : Launch} (hfl : l.stackTraces = false) {E : zEn} {h : zHp} {A : Nat → Nat} {τ D : mMem} (hA : mInj A) (H : okT τ) {d : Int} (nnd : n32 d) {w : Int} (nnw : n32 w)  : CN l E yX4_generation (ws_ yX4_generation cX4_generation 6 (some FieldType.long)) ({ frames := 1, cells := 0, slots := 0, locals := 25 } : Room) [.ref (A 0), .int (iI d), .int (iI w)] (zM E A h (sc τ D)) (zOL E A h (oGen τ d w)) := by
  refine CN.of (by decide +kernel) hfl (Nat.le_of_ble_eq_true rfl) fun θ Q hl G hin hQ => ?_
  subst hl
  show VW θ Q E (zM E A h (sc τ D)) 0 0 0 [(0, .ref (A 0)), (1, .int (iI d)), (2, .int (iI w))] []
  have hm := H.many
  have hyr := H.year
  have hn := H.nums
  have hi := H.imp
  have hbt := H.bits
  refine v_aload_n G 0 rfl rfl dX4_generation_0 ?_
  refine v_iconst G dX4_generation_1 ?_
  refine pX4_1 G zM_0 (Nat.le_of_ble_eq_true rfl) dX4_generation_2 ?_
  refine VW.hpe (zM_up0 (k := 0) (z := 0) rfl (by decide)) ?_
  refine VW.hpe (congrArg (zM E A h) (sc_D (k := 0) rfl)) ?_
  refine v_iload_n G 1 rfl rfl dX4_generation_5 ?_
  refine v_i2l G ⟨by omega, by omega⟩ dX4_generation_6 ?_
  refine v_ldc2 G (v := 1900) q2133 rfl dX4_generation_7 ?_
  refine v_ldc2 G (v := 2150) q2213 rfl dX4_generation_10 ?_
  refine kX4_168 G (As := [.long (iL d), .long (iL 1900), .long (iL 2150)]) (rest := []) (cs' := 0) (sl' := 0) (n_isIn G.fl (v := d) (a := 1900) (b := 2150) ⟨by omega, by omega⟩ ⟨by decide, by decide⟩ ⟨by decide, by decide⟩) rfl rfl (Nat.le_of_ble_eq_true rfl) (zRm.ok rfl) dX4_generation_13 (fun vq1 hq1 q1 => ?_)
  obtain ⟨_, _⟩ := q1
  subst vq1 hq1
  refine VW.nmI (fun z2 hz2 => ?_)
  have hz2 := ite01 hz2
  show VW θ Q E (zM E A h (sc τ (st2 D 0 0 0))) 0 0 16 [(0, .ref (A 0)), (1, .int (iI d)), (2, .int (iI w))] [.int (iI z2)]
  refine v_if_eq G 38 ⟨by omega, by omega⟩ (by decide) dX4_generation_16 (fun c3 => ?_) (fun c3 => ?_)
  · have gz2 := bF hz2 (by omega)
    refine v_aload_n G 0 rfl rfl dX4_generation_38 ?_
    refine v_iconst G dX4_generation_39 ?_
    refine kX4_342 G (As := [.int (iI 1)]) (rest := []) (cs' := 0) (sl' := 0) (n_fails G.fl (τ := τ) (D := st2 D 0 0 0) hA (k := 1)) (zRcv.of G (q := (RX4, TX4, 55)) rfl zM_0) rfl rfl (Nat.le_of_ble_eq_true rfl) (zRm.ok rfl) dX4_generation_40 (fun vq4 hq4 q4 => ?_)
    obtain ⟨_, _⟩ := q4
    subst vq4 hq4
    show VW θ Q E (zM E A h (sc τ (st2 (st2 D 0 0 0) 0 0 1))) 0 0 43 [(0, .ref (A 0)), (1, .int (iI d)), (2, .int (iI w))] [.int (iI 0)]
    refine v_i2l G ⟨by decide, by decide⟩ dX4_generation_43 ?_
    have e : oGen τ d w = (1, 0, τ) := by
      unfold oGen
      (repeat (first | rw [if_pos (by omega)] | rw [if_neg (by omega)]))
      all_goals rfl
    exact v_lret G hQ (by rw [e]; exact ⟨rfl, st2 (st2 D 0 0 0) 0 0 1, rfl, rfl⟩) (Nat.le_of_ble_eq_true rfl) (Nat.le_of_ble_eq_true rfl) dX4_generation_44
  · have gz2 := bT hz2 (by omega)
    refine v_iload_n G 1 rfl rfl dX4_generation_19 ?_
    refine v_bipush G rfl dX4_generation_20 ?_
    refine v_irem G ⟨by omega, by omega⟩ ⟨by decide, by decide⟩ dX4_generation_22 ?_
    refine v_if_ne G 38 ⟨by omega, by omega⟩ (by decide) dX4_generation_23 (fun c5 => ?_) (fun c5 => ?_)
    · refine v_aload_n G 0 rfl rfl dX4_generation_38 ?_
      refine v_iconst G dX4_generation_39 ?_
      refine kX4_342 G (As := [.int (iI 1)]) (rest := []) (cs' := 0) (sl' := 0) (n_fails G.fl (τ := τ) (D := st2 D 0 0 0) hA (k := 1)) (zRcv.of G (q := (RX4, TX4, 55)) rfl zM_0) rfl rfl (Nat.le_of_ble_eq_true rfl) (zRm.ok rfl) dX4_generation_40 (fun vq6 hq6 q6 => ?_)
      obtain ⟨_, _⟩ := q6
      subst vq6 hq6
      show VW θ Q E (zM E A h (sc τ (st2 (st2 D 0 0 0) 0 0 1))) 0 0 43 [(0, .ref (A 0)), (1, .int (iI d)), (2, .int (iI w))] [.int (iI 0)]
      refine v_i2l G ⟨by decide, by decide⟩ dX4_generation_43 ?_
      have e : oGen τ d w = (1, 0, τ) := by
        unfold oGen
        (repeat (first | rw [if_pos (by omega)] | rw [if_neg (by omega)]))
        all_goals rfl
      exact v_lret G hQ (by rw [e]; exact ⟨rfl, st2 (st2 D 0 0 0) 0 0 1, rfl, rfl⟩) (Nat.le_of_ble_eq_true rfl) (Nat.le_of_ble_eq_true rfl) dX4_generation_44
    · refine v_iload_n G 2 rfl rfl dX4_generation_26 ?_
      refine v_i2l G ⟨by omega, by omega⟩ dX4_generation_27 ?_
      refine v_lconst G (n := 0) (v0 := 0) rfl dX4_generation_28 ?_
      refine v_ldc2 G (v := 2) q2154 rfl dX4_generation_29 ?_
      refine kX4_168 G (As := [.long (iL w), .long (iL 0), .long (iL 2)]) (rest := []) (cs' := 0) (sl' := 0) (n_isIn G.fl (v := w) (a := 0) (b := 2) ⟨by omega, by omega⟩ ⟨by decide, by decide⟩ ⟨by decide, by decide⟩) rfl rfl (Nat.le_of_ble_eq_true rfl) (zRm.ok rfl) dX4_generation_32 (fun vq7 hq7 q7 => ?_)
      obtain ⟨_, _⟩ := q7
      subst vq7 hq7
      refine VW.nmI (fun z8 hz8 => ?_)
      have hz8 := ite01 hz8
      show VW θ Q E (zM E A h (sc τ (st2 D 0 0 0))) 0 0 35 [(0, .ref (A 0)), (1, .int (iI d)), (2, .int (iI w))] [.int (iI z8)]
      refine v_if_ne G 45 ⟨by omega, by omega⟩ (by decide) dX4_generation_35 (fun c9 => ?_) (fun c9 => ?_)
      · have gz8 := bT hz8 (by omega)
        refine v_lconst G (n := 0) (v0 := 0) rfl dX4_generation_45 ?_
        refine v_lstore_n G (L' := [(3, .long (iL 0)), (0, .ref (A 0)), (1, .int (iI d)), (2, .int (iI w))]) rfl (Nat.le_of_ble_eq_true rfl) rfl dX4_generation_46 ?_
        refine v_iconst G dX4_generation_47 ?_
        refine v_istore G (L' := [(5, .int (iI 0)), (3, .long (iL 0)), (0, .ref (A 0)), (1, .int (iI d)), (2, .int (iI w))]) (Nat.le_of_ble_eq_true rfl) rfl dX4_generation_48 ?_
        have P10 : ∀ (n : Nat) (p : Int) (s : Int), (0 ≤ p ∧ p ≤ τ 10 0) → (s = sumT (genV τ d w) p) → (τ 10 0 - p).toNat < n → VW θ Q E (zM E A h (sc τ (st2 D 0 0 0))) 0 0 50 [(0, .ref (A 0)), (1, .int (iI d)), (2, .int (iI w)), (3, .long (iL s)), (5, .int (iI p))] [] := by
          intro n
          induction n with
          | zero => intros; omega
          | succ n P10ih =>
            intro p s hp hs hn
            refine v_iload G 4 rfl dX4_generation_50 ?_
            refine v_aload_n G 0 rfl rfl dX4_generation_52 ?_
            refine gX4_146 G zM_0 (v := .int (iI (τ 10 0))) rfl dX4_generation_53 ?_
            refine v_icmp_ge G 123 ⟨by omega, by omega⟩ ⟨by omega, by omega⟩ (by decide) dX4_generation_56 (fun c11 => ?_) (fun c11 => ?_)
            · have hpe : p = τ 10 0 := by omega
              rw [hpe] at hs
              refine v_lload_n G 3 rfl rfl dX4_generation_123 ?_
              have e : oGen τ d w = (0, s, τ) := by
                unfold oGen
                rw [if_pos ⟨by omega, by omega, by omega⟩, hs]
              exact v_lret G hQ (by rw [e]; exact ⟨rfl, st2 D 0 0 0, rfl, rfl⟩) (Nat.le_of_ble_eq_true rfl) (Nat.le_of_ble_eq_true rfl) dX4_generation_124
            · have P9 := H.pol p (by omega) (by omega)
              have ho := P9.1
              unfold okPol at P9
              have h9 := ho
              simp only [okP1, okP, tP] at h9
              refine v_lload_n G 3 rfl rfl dX4_generation_59 ?_
              refine v_aload_n G 0 rfl rfl dX4_generation_60 ?_
              refine gX4_43 G zM_0 (v := .ref (A 27)) rfl dX4_generation_61 ?_
              refine v_iload G 4 rfl dX4_generation_64 ?_
              refine m_ald G hA (v := τ 27 p) rfl ⟨by omega, by show _ < (24 : Int); omega⟩ rfl dX4_generation_66 ?_
              refine v_i2l G ⟨by omega, by omega⟩ dX4_generation_67 ?_
              refine v_iload_n G 1 rfl rfl dX4_generation_68 ?_
              refine v_i2l G ⟨by omega, by omega⟩ dX4_generation_69 ?_
              refine v_iload_n G 1 rfl rfl dX4_generation_70 ?_
              refine v_bipush G rfl dX4_generation_71 ?_
              refine v_iadd G dX4_generation_73 ?_
              refine v_i2l G ⟨by omega, by omega⟩ dX4_generation_74 ?_
              refine kX4_168 G (As := [.long (iL (τ 27 p)), .long (iL d), .long (iL (d + 9))]) (rest := [.long (iL s)]) (cs' := 0) (sl' := 0) (n_isIn G.fl (v := (τ 27 p)) (a := d) (b := (d + 9)) ⟨by omega, by omega⟩ ⟨by omega, by omega⟩ ⟨by omega, by omega⟩) rfl rfl (Nat.le_of_ble_eq_true rfl) (zRm.ok rfl) dX4_generation_75 (fun vq12 hq12 q12 => ?_)
              obtain ⟨_, _⟩ := q12
              subst vq12 hq12
              refine VW.nmI (fun z13 hz13 => ?_)
              have hz13 := ite01 hz13
              show VW θ Q E (zM E A h (sc τ (st2 D 0 0 0))) 0 0 78 [(0, .ref (A 0)), (1, .int (iI d)), (2, .int (iI w)), (3, .long (iL s)), (5, .int (iI p))] [.int (iI z13), .long (iL s)]
              have J14 : ∀ (g : Int), (g = genV τ d w p) → VW θ Q E (zM E A h (sc τ (st2 D 0 0 0))) 0 0 115 [(0, .ref (A 0)), (1, .int (iI d)), (2, .int (iI w)), (3, .long (iL s)), (5, .int (iI p))] [.long (iL g), .long (iL s)] := by
                intro g hg9
                refine v_ladd G dX4_generation_115 ?_
                refine v_lstore_n G (L' := [(3, .long (iL (s + g))), (0, .ref (A 0)), (1, .int (iI d)), (2, .int (iI w)), (5, .int (iI p))]) rfl (Nat.le_of_ble_eq_true rfl) rfl dX4_generation_116 ?_
                refine v_iinc G (L' := [(5, .int (iI (p + 1))), (3, .long (iL (s + g))), (0, .ref (A 0)), (1, .int (iI d)), (2, .int (iI w))]) 4 rfl (Nat.le_of_ble_eq_true rfl) rfl dX4_generation_117 ?_
                refine v_goto G 50 (by decide) dX4_generation_120 ?_
                refine VW.pick (L2 := [(0, .ref (A 0)), (1, .int (iI d)), (2, .int (iI w)), (3, .long (iL (s + g))), (5, .int (iI (p + 1)))]) [2, 3, 4, 1, 0] rfl ?_
                exact P10ih (p + 1) (s + g) ⟨by omega, by omega⟩ (by rw [sumT_s hp.1, ← hs, ← hg9]) (by omega)
              refine v_if_ne G 85 ⟨by omega, by omega⟩ (by decide) dX4_generation_78 (fun c15 => ?_) (fun c15 => ?_)
              · have gz13 := bT hz13 (by omega)
                refine v_iload_n G 2 rfl rfl dX4_generation_85 ?_
                refine v_if_ne G 93 ⟨by omega, by omega⟩ (by decide) dX4_generation_86 (fun c16 => ?_) (fun c16 => ?_)
                · refine v_iload_n G 2 rfl rfl dX4_generation_93 ?_
                  refine v_iconst G dX4_generation_94 ?_
                  refine v_icmp_ne G 108 ⟨by omega, by omega⟩ ⟨by decide, by decide⟩ (by decide) dX4_generation_95 (fun c17 => ?_) (fun c17 => ?_)
                  · refine v_aload_n G 0 rfl rfl dX4_generation_108 ?_
                    refine gX4_85 G zM_0 (v := .ref (A 41)) rfl dX4_generation_109 ?_
                    refine v_iload G 4 rfl dX4_generation_112 ?_
                    refine m_lld G hA (v := τ 41 p) rfl ⟨by omega, by show _ < (24 : Int); omega⟩ rfl dX4_generation_114 ?_
                    exact J14 (τ 41 p) (by unfold genV; (repeat (first | rw [if_pos (by omega)] | rw [if_neg (by omega)])))
                  · refine v_aload_n G 0 rfl rfl dX4_generation_98 ?_
                    refine gX4_82 G zM_0 (v := .ref (A 40)) rfl dX4_generation_99 ?_
                    refine v_iload G 4 rfl dX4_generation_102 ?_
                    refine m_lld G hA (v := τ 40 p) rfl ⟨by omega, by show _ < (24 : Int); omega⟩ rfl dX4_generation_104 ?_
                    refine v_goto G 115 (by decide) dX4_generation_105 ?_
                    exact J14 (τ 40 p) (by unfold genV; (repeat (first | rw [if_pos (by omega)] | rw [if_neg (by omega)])))
                · refine v_lconst G (n := 1) (v0 := 0) rfl dX4_generation_89 ?_
                  refine v_goto G 115 (by decide) dX4_generation_90 ?_
                  exact J14 1 (by unfold genV; (repeat (first | rw [if_pos (by omega)] | rw [if_neg (by omega)])))
              · have gz13 := bF hz13 (by omega)
                refine v_lconst G (n := 0) (v0 := 0) rfl dX4_generation_81 ?_
                refine v_goto G 115 (by decide) dX4_generation_82 ?_
                exact J14 0 (by unfold genV; (repeat (first | rw [if_pos (by omega)] | rw [if_neg (by omega)])))
        refine VW.pick (L2 := [(0, .ref (A 0)), (1, .int (iI d)), (2, .int (iI w)), (3, .long (iL 0)), (5, .int (iI 0))]) [2, 3, 4, 1, 0] rfl ?_
        exact P10 _ 0 0 ⟨by omega, by omega⟩ rfl (Nat.lt_succ_self _)
      · have gz8 := bF hz8 (by omega)
        refine v_aload_n G 0 rfl rfl dX4_generation_38 ?_
        refine v_iconst G dX4_generation_39 ?_
        refine kX4_342 G (As := [.int (iI 1)]) (rest := []) (cs' := 0) (sl' := 0) (n_fails G.fl (τ := τ) (D := st2 D 0 0 0) hA (k := 1)) (zRcv.of G (q := (RX4, TX4, 55)) rfl zM_0) rfl rfl (Nat.le_of_ble_eq_true rfl) (zRm.ok rfl) dX4_generation_40 (fun vq18 hq18 q18 => ?_)
        obtain ⟨_, _⟩ := q18
        subst vq18 hq18
        show VW θ Q E (zM E A h (sc τ (st2 (st2 D 0 0 0) 0 0 1))) 0 0 43 [(0, .ref (A 0)), (1, .int (iI d)), (2, .int (iI w))] [.int (iI 0)]
        refine v_i2l G ⟨by decide, by decide⟩ dX4_generation_43 ?_
        have e : oGen τ d w = (1, 0, τ) := by
          unfold oGen
          (repeat (first | rw [if_pos (by omega)] | rw [if_neg (by omega)]))
          all_goals rfl
        exact v_lret G hQ (by rw [e]; exact ⟨rfl, st2 (st2 D 0 0 0) 0 0 1, rfl, rfl⟩) (Nat.le_of_ble_eq_true rfl) (Nat.le_of_ble_eq_true rfl) dX4_generation_44

set_option maxHeartbeats 4000000 in
theorem o_short {l : Launch} (hfl : l.stackTraces = false) {E : zEn} {h : zHp} {A : Nat → Nat} {τ D : mMem} (hA : mInj A) (H : okT τ)  : CN l E yX4_firstShort (ws_ yX4_firstShort cX4_firstShort 2 (some FieldType.int)) ({ frames := 5, cells := 0, slots := 0, locals := 134 } : Room) [.ref (A 0)] (zM E A h (sc τ D)) (zOI E A h (oShort τ)) := by
  refine CN.of (by decide +kernel) hfl (Nat.le_of_ble_eq_true rfl) fun θ Q hl G hin hQ => ?_
  subst hl
  show VW θ Q E (zM E A h (sc τ D)) 0 0 0 [(0, .ref (A 0))] []
  have hm := H.many
  have hyr := H.year
  have hn := H.nums
  have hi := H.imp
  have hbt := H.bits
  refine v_aload_n G 0 rfl rfl dX4_firstShort_0 ?_
  refine v_iconst G dX4_firstShort_1 ?_
  refine pX4_1 G zM_0 (Nat.le_of_ble_eq_true rfl) dX4_firstShort_2 ?_
  refine VW.hpe (zM_up0 (k := 0) (z := 0) rfl (by decide)) ?_
  refine VW.hpe (congrArg (zM E A h) (sc_D (k := 0) rfl)) ?_
  refine v_iconst G dX4_firstShort_5 ?_
  refine v_istore_n G (L' := [(1, .int (iI 0)), (0, .ref (A 0))]) rfl (Nat.le_of_ble_eq_true rfl) rfl dX4_firstShort_6 ?_
  have P1 : ∀ (n : Nat) (k : Int), (0 ≤ k ∧ k ≤ 41) → (∀ q, 0 ≤ q → q < k → shC τ q = false) → (41 - k).toNat < n → VW θ Q E (zM E A h (sc τ (st2 D 0 0 0))) 0 0 7 [(0, .ref (A 0)), (1, .int (iI k))] [] := by
    intro n
    induction n with
    | zero => intros; omega
    | succ n P1ih =>
      intro k hk hno hn
      refine v_iload_n G 1 rfl rfl dX4_firstShort_7 ?_
      refine v_bipush G rfl dX4_firstShort_8 ?_
      refine v_icmp_gt G 35 ⟨by omega, by omega⟩ ⟨by decide, by decide⟩ (by decide) dX4_firstShort_10 (fun c2 => ?_) (fun c2 => ?_)
      · refine v_iconst G dX4_firstShort_35 ?_
        have e : oShort τ = (0, (-1), τ) := by
          have hf := firstN_no (c := shC τ) 41 0 (fun q a b => hno q a (by omega))
          unfold oShort
          rw [hf, if_pos (by decide)]
        exact v_iret G hQ (by rw [e]; exact ⟨rfl, st2 D 0 0 0, rfl, rfl⟩) (Nat.le_of_ble_eq_true rfl) (Nat.le_of_ble_eq_true rfl) dX4_firstShort_36
      · refine v_aload_n G 0 rfl rfl dX4_firstShort_13 ?_
        refine v_iload_n G 1 rfl rfl dX4_firstShort_14 ?_
        refine kX4_406 G (As := [.int (iI k)]) (rest := []) (cs' := 0) (sl' := 0) (n_expA G.fl (τ := τ) (D := st2 D 0 0 0) hA (a := k) H ⟨by omega, by omega⟩) (zRcv.of G (q := (RX4, TX4, 55)) rfl zM_0) rfl rfl (Nat.le_of_ble_eq_true rfl) (zRm.ok rfl) dX4_firstShort_15 (fun vq3 hq3 q3 => ?_)
        obtain ⟨_, _⟩ := q3
        subst vq3 hq3
        show VW θ Q E (zM E A h (sc τ (st2 D 0 0 0))) 0 0 18 [(0, .ref (A 0)), (1, .int (iI k))] [.long (iL (exA τ k))]
        refine v_aload_n G 0 rfl rfl dX4_firstShort_18 ?_
        refine v_iload_n G 1 rfl rfl dX4_firstShort_19 ?_
        refine kX4_409 G (As := [.int (iI k)]) (rest := [.long (iL (exA τ k))]) (cs' := 0) (sl' := 0) (n_bonds G.fl (τ := τ) (D := st2 D 0 0 0) hA (a := k) H ⟨by omega, by omega⟩) (zRcv.of G (q := (RX4, TX4, 55)) rfl zM_0) rfl rfl (Nat.le_of_ble_eq_true rfl) (zRm.ok rfl) dX4_firstShort_20 (fun vq4 hq4 q4 => ?_)
        obtain ⟨_, _⟩ := q4
        subst vq4 hq4
        show VW θ Q E (zM E A h (sc τ (st2 D 0 0 0))) 0 0 23 [(0, .ref (A 0)), (1, .int (iI k))] [.long (iL (bpT τ k)), .long (iL (exA τ k))]
        refine v_lcmpW G dX4_firstShort_23 ?_
        refine v_lif_le G 29 (by decide) dX4_firstShort_24 (fun c5 => ?_) (fun c5 => ?_)
        · refine v_iinc G (L' := [(1, .int (iI (k + 1))), (0, .ref (A 0))]) 1 rfl (Nat.le_of_ble_eq_true rfl) rfl dX4_firstShort_29 ?_
          refine v_goto G 7 (by decide) dX4_firstShort_32 ?_
          refine VW.pick (L2 := [(0, .ref (A 0)), (1, .int (iI (k + 1)))]) [1, 0] rfl ?_
          exact P1ih (k + 1) ⟨by omega, by omega⟩ (fun q a b => by
                        by_cases e : q = k
                        · rw [e]; exact decide_eq_false (by omega)
                        · exact hno q a (by omega)) (by omega)
        · refine v_iload_n G 1 rfl rfl dX4_firstShort_27 ?_
          have e : oShort τ = (0, k, τ) := by
            have hf := firstN_eq (c := shC τ) (k := k) 41 0 (by omega) (by omega) hno (decide_eq_true (by omega))
            unfold oShort
            rw [hf, if_neg (by omega)]
          exact v_iret G hQ (by rw [e]; exact ⟨rfl, st2 D 0 0 0, rfl, rfl⟩) (Nat.le_of_ble_eq_true rfl) (Nat.le_of_ble_eq_true rfl) dX4_firstShort_28
  refine VW.pick (L2 := [(0, .ref (A 0)), (1, .int (iI 0))]) [1, 0] rfl ?_
  exact P1 _ 0 ⟨by omega, by omega⟩ (fun q a b => absurd b (by omega)) (Nat.lt_succ_self _)

