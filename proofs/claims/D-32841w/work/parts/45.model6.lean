/-! WALKS: the reference: expectations, offers, a new office -/
set_option maxRecDepth 100000
set_option maxHeartbeats 4000000 in
theorem n_exp {l : Launch} (hfl : l.stackTraces = false) {E : zEn} {h : zHp} {A : Nat → Nat} {τ D : mMem} (hA : mInj A) {p : Int} (hp : 0 ≤ p ∧ p < 24) (ho : okP1 τ p) (hw : okLaw τ 0) (hyr : τ 27 p ≤ τ 1 0 ∧ 1900 ≤ τ 1 0 ∧ τ 1 0 ≤ 2150) {a : Int} (ha : 0 ≤ a ∧ a ≤ 40)  : CN l E yX4_expects (ws_ yX4_expects cX4_expects 15 (some FieldType.long)) ({ frames := 3, cells := 0, slots := 0, locals := 76 } : Room) [.ref (A 0), .int (iI p), .int (iI a)] (zM E A h (sc τ D)) (zR (.long (iL (exT τ p a))) (zM E A h (sc τ D))) := by
  refine CN.of (by decide +kernel) hfl (Nat.le_of_ble_eq_true rfl) fun θ Q hl G hin hQ => ?_
  subst hl
  show VW θ Q E (zM E A h (sc τ D)) 0 0 0 [(0, .ref (A 0)), (1, .int (iI p)), (2, .int (iI a))] []
  have h9 := ho
  simp only [okP1, okP, tP] at h9
  have w9 := hw
  simp only [okLaw, okW] at w9
  have hq := fun y h1 h2 => qaT_bd (y := y) ho hw ⟨h1, h2⟩
  refine v_ldc2 G (v := 1000000) q2178 rfl dX4_expects_0 ?_
  refine v_lstore_n G (L' := [(3, .long (iL 1000000)), (0, .ref (A 0)), (1, .int (iI p)), (2, .int (iI a))]) rfl (Nat.le_of_ble_eq_true rfl) rfl dX4_expects_3 ?_
  refine v_aload_n G 1 rfl rfl dX4_expects_4 ?_
  refine gX4_67 G zM_0 (v := .ref (A 35)) rfl dX4_expects_5 ?_
  refine v_iload_n G 2 rfl rfl dX4_expects_8 ?_
  refine m_lld G hA (v := τ 35 p) rfl ⟨by omega, by show _ < (24 : Int); omega⟩ rfl dX4_expects_9 ?_
  refine v_aload_n G 1 rfl rfl dX4_expects_10 ?_
  refine gX4_70 G zM_0 (v := .ref (A 36)) rfl dX4_expects_11 ?_
  refine v_iload_n G 2 rfl rfl dX4_expects_14 ?_
  refine m_lld G hA (v := τ 36 p) rfl ⟨by omega, by show _ < (24 : Int); omega⟩ rfl dX4_expects_15 ?_
  refine v_ladd G dX4_expects_16 ?_
  refine v_lstore G (L' := [(5, .long (iL ((τ 35 p) + (τ 36 p)))), (3, .long (iL 1000000)), (0, .ref (A 0)), (1, .int (iI p)), (2, .int (iI a))]) (Nat.le_of_ble_eq_true rfl) rfl dX4_expects_17 ?_
  refine v_iconst G dX4_expects_19 ?_
  refine v_istore G (L' := [(7, .int (iI 0)), (5, .long (iL ((τ 35 p) + (τ 36 p)))), (3, .long (iL 1000000)), (0, .ref (A 0)), (1, .int (iI p)), (2, .int (iI a))]) (Nat.le_of_ble_eq_true rfl) rfl dX4_expects_20 ?_
  have P1 : ∀ (n : Nat) (t : Int) (l : Int), (0 ≤ t ∧ τ 1 0 + t ≤ max (τ 1 0) (τ 28 p) ∧ t ≤ a) → (l = lfT τ p t.toNat) → (τ 28 p - τ 1 0 - t).toNat < n → VW θ Q E (zM E A h (sc τ D)) 0 0 22 [(0, .ref (A 0)), (1, .int (iI p)), (2, .int (iI a)), (3, .long (iL l)), (5, .long (iL (τ 35 p + τ 36 p))), (7, .int (iI t))] [] := by
    intro n
    induction n with
    | zero => intros; omega
    | succ n P1ih =>
      intro t l ht hl hn
      refine v_aload_n G 0 rfl rfl dX4_expects_22 ?_
      refine gX4_114 G zM_0 (v := .int (iI (τ 1 0))) rfl dX4_expects_23 ?_
      refine v_iload G 5 rfl dX4_expects_26 ?_
      refine v_iadd G dX4_expects_28 ?_
      refine v_aload_n G 0 rfl rfl dX4_expects_29 ?_
      refine gX4_46 G zM_0 (v := .ref (A 28)) rfl dX4_expects_30 ?_
      refine v_iload_n G 1 rfl rfl dX4_expects_33 ?_
      refine m_ald G hA (v := τ 28 p) rfl ⟨by omega, by show _ < (24 : Int); omega⟩ rfl dX4_expects_34 ?_
      refine v_icmp_ge G 215 ⟨by omega, by omega⟩ ⟨by omega, by omega⟩ (by decide) dX4_expects_35 (fun c2 => ?_) (fun c2 => ?_)
      · refine v_lconst G (n := 0) (v0 := 0) rfl dX4_expects_215 ?_
        exact v_lret G hQ ⟨by unfold exT; rw [if_neg (by omega)], rfl⟩ (Nat.le_of_ble_eq_true rfl) (Nat.le_of_ble_eq_true rfl) dX4_expects_216
      · have q9 := hq (τ 1 0 + t) (by omega) (by omega)
        have lb := lfT_bd (τ := τ) (p := p) t.toNat (fun y h1 h2 => hq y (by omega) (by omega))
        rw [← hl] at lb
        have e1 := mul_bd2 (show 0 ≤ τ 39 p ∧ τ 39 p ≤ 100000000000 by omega) lb
        have e2 := mul_bd2 (show 0 ≤ τ 35 p + τ 36 p ∧ τ 35 p + τ 36 p ≤ 120000000 by omega) lb
        have e3 := mul_bd2 (show 0 ≤ (τ 35 p + τ 36 p) * l / 1000000 ∧ (τ 35 p + τ 36 p) * l / 1000000 ≤ 120000000 by omega) q9
        have e4 := mul_bd2 lb (show 0 ≤ 100000 - qaT τ 0 p (τ 1 0 + t) ∧ 100000 - qaT τ 0 p (τ 1 0 + t) ≤ 100000 by omega)
        have e5 := mul_bd2 (show 0 ≤ τ 35 p + τ 36 p ∧ τ 35 p + τ 36 p ≤ 120000000 by omega) (show 0 ≤ l * (100000 - qaT τ 0 p (τ 1 0 + t)) / 100000 ∧ l * (100000 - qaT τ 0 p (τ 1 0 + t)) / 100000 ≤ 1000000 by omega)
        have e6 := mul_bd2 (show 0 ≤ τ 35 p ∧ τ 35 p ≤ 1000000 by omega) (show 0 ≤ l * (100000 - qaT τ 0 p (τ 1 0 + t)) / 100000 ∧ l * (100000 - qaT τ 0 p (τ 1 0 + t)) / 100000 ≤ 1000000 by omega)
        refine v_aload_n G 0 rfl rfl dX4_expects_38 ?_
        refine gX4_114 G zM_0 (v := .int (iI (τ 1 0))) rfl dX4_expects_39 ?_
        refine v_iload G 5 rfl dX4_expects_42 ?_
        refine v_iadd G dX4_expects_44 ?_
        refine v_istore G (L' := [(8, .int (iI ((τ 1 0) + t))), (0, .ref (A 0)), (1, .int (iI p)), (2, .int (iI a)), (3, .long (iL l)), (5, .long (iL (τ 35 p + τ 36 p))), (7, .int (iI t))]) (Nat.le_of_ble_eq_true rfl) rfl dX4_expects_45 ?_
        refine v_lconst G (n := 0) (v0 := 0) rfl dX4_expects_47 ?_
        refine v_lstore G (L' := [(9, .long (iL 0)), (8, .int (iI ((τ 1 0) + t))), (0, .ref (A 0)), (1, .int (iI p)), (2, .int (iI a)), (3, .long (iL l)), (5, .long (iL (τ 35 p + τ 36 p))), (7, .int (iI t))]) (Nat.le_of_ble_eq_true rfl) rfl dX4_expects_48 ?_
        refine v_aload_n G 2 rfl rfl dX4_expects_50 ?_
        refine v_iload_n G 3 rfl rfl dX4_expects_51 ?_
        refine v_iload G 1 rfl dX4_expects_52 ?_
        refine v_iconst G dX4_expects_54 ?_
        refine kX4_279 G (As := [.int (iI p), .int (iI ((τ 1 0) + t)), .int (iI 0)]) (rest := []) (cs' := 0) (sl' := 0) (n_q G.fl (τ := τ) (D := D) hA (p := p) (y := ((τ 1 0) + t)) (law := 0) ⟨by omega, by omega⟩ ⟨by omega, by omega⟩ (show 0 ≤ τ 25 p ∧ τ 25 p ≤ 7 by omega) (show okQ (τ 2 0) (τ 19 0) (τ 24 p) (τ 25 p % 2) (τ 25 p / 2 % 2) ((τ 1 0) + t) (τ 26 p) from ⟨⟨by omega, by omega⟩, ⟨by omega, by omega⟩, by omega, by omega, ⟨by omega, by omega, by omega⟩, ⟨by omega, by omega⟩⟩) (show 1700 ≤ τ 27 p ∧ τ 27 p ≤ 2400 by omega)) (zRcv.of G (q := (RX4, TX4, 55)) rfl zM_0) rfl rfl (Nat.le_of_ble_eq_true rfl) (zRm.ok rfl) dX4_expects_55 (fun vq3 hq3 q3 => ?_)
        obtain ⟨_, _⟩ := q3
        subst vq3 hq3
        show VW θ Q E (zM E A h (sc τ D)) 0 0 58 [(9, .long (iL 0)), (8, .int (iI ((τ 1 0) + t))), (0, .ref (A 0)), (1, .int (iI p)), (2, .int (iI a)), (3, .long (iL l)), (5, .long (iL (τ 35 p + τ 36 p))), (7, .int (iI t))] [.long (iL (qaT τ 0 p (τ 1 0 + t)))]
        refine v_lstore G (L' := [(11, .long (iL (qaT τ 0 p (τ 1 0 + t)))), (9, .long (iL 0)), (8, .int (iI ((τ 1 0) + t))), (0, .ref (A 0)), (1, .int (iI p)), (2, .int (iI a)), (3, .long (iL l)), (5, .long (iL (τ 35 p + τ 36 p))), (7, .int (iI t))]) (Nat.le_of_ble_eq_true rfl) rfl dX4_expects_58 ?_
        refine v_aload_n G 3 rfl rfl dX4_expects_60 ?_
        refine v_iload_n G 4 rfl rfl dX4_expects_61 ?_
        refine v_iload G 2 rfl dX4_expects_62 ?_
        refine kX4_275 G (As := [.int (iI p), .int (iI ((τ 1 0) + t))]) (rest := []) (cs' := 0) (sl' := 0) (n_pays G.fl (τ := τ) (D := D) hA (p := p) (y := ((τ 1 0) + t)) ⟨by omega, by omega⟩ ho ⟨by omega, by omega⟩) (zRcv.of G (q := (RX4, TX4, 55)) rfl zM_0) rfl rfl (Nat.le_of_ble_eq_true rfl) (zRm.ok rfl) dX4_expects_64 (fun vq4 hq4 q4 => ?_)
        obtain ⟨_, _⟩ := q4
        subst vq4 hq4
        refine VW.nmI (fun z5 hz5 => ?_)
        have hz5 := ite01 hz5
        show VW θ Q E (zM E A h (sc τ D)) 0 0 67 [(11, .long (iL (qaT τ 0 p (τ 1 0 + t)))), (9, .long (iL 0)), (8, .int (iI ((τ 1 0) + t))), (0, .ref (A 0)), (1, .int (iI p)), (2, .int (iI a)), (3, .long (iL l)), (5, .long (iL (τ 35 p + τ 36 p))), (7, .int (iI t))] [.int (iI z5)]
        have J6 : ∀ (inn : Int), (inn = if pyP τ p (τ 1 0 + t) then τ 39 p * l / 1000000 else 0) → VW θ Q E (zM E A h (sc τ D)) 0 0 86 [(11, .long (iL (qaT τ 0 p (τ 1 0 + t)))), (9, .long (iL 0)), (8, .int (iI ((τ 1 0) + t))), (0, .ref (A 0)), (1, .int (iI p)), (2, .int (iI a)), (3, .long (iL l)), (5, .long (iL (τ 35 p + τ 36 p))), (7, .int (iI t))] [.long (iL inn)] := by
          intro inn hin2
          refine v_lstore G (L' := [(13, .long (iL inn)), (11, .long (iL (qaT τ 0 p (τ 1 0 + t)))), (9, .long (iL 0)), (8, .int (iI ((τ 1 0) + t))), (0, .ref (A 0)), (1, .int (iI p)), (2, .int (iI a)), (3, .long (iL l)), (5, .long (iL (τ 35 p + τ 36 p))), (7, .int (iI t))]) (Nat.le_of_ble_eq_true rfl) rfl dX4_expects_86 ?_
          have J7 : ∀ (pa : Int), (pa = if τ 23 p = 3 then 0 else (τ 35 p + τ 36 p) * l / 1000000 * qaT τ 0 p (τ 1 0 + t) / 100000) → VW θ Q E (zM E A h (sc τ D)) 0 0 118 [(13, .long (iL inn)), (11, .long (iL (qaT τ 0 p (τ 1 0 + t)))), (9, .long (iL pa)), (8, .int (iI ((τ 1 0) + t))), (0, .ref (A 0)), (1, .int (iI p)), (2, .int (iI a)), (3, .long (iL l)), (5, .long (iL (τ 35 p + τ 36 p))), (7, .int (iI t))] [] := by
            intro pa hpa
            refine v_lload_n G 7 rfl rfl dX4_expects_118 ?_
            refine v_ldc2 G (v := 100000) q2184 rfl dX4_expects_119 ?_
            refine v_lload G 1 rfl dX4_expects_122 ?_
            refine v_lsub G dX4_expects_124 ?_
            refine v_lmul G dX4_expects_125 ?_
            refine v_ldc2 G (v := 100000) q2184 rfl dX4_expects_126 ?_
            refine v_ldiv G ⟨by omega, by omega⟩ ⟨by decide, by decide⟩ dX4_expects_129 ?_
            refine v_lstore_n G (L' := [(3, .long (iL ((l * (100000 - (qaT τ 0 p (τ 1 0 + t)))) / 100000))), (13, .long (iL inn)), (11, .long (iL (qaT τ 0 p (τ 1 0 + t)))), (9, .long (iL pa)), (8, .int (iI ((τ 1 0) + t))), (0, .ref (A 0)), (1, .int (iI p)), (2, .int (iI a)), (5, .long (iL (τ 35 p + τ 36 p))), (7, .int (iI t))]) rfl (Nat.le_of_ble_eq_true rfl) rfl dX4_expects_130 ?_
            have J8 : ∀ (pb : Int), (pb = if τ 23 p = 3 then τ 35 p * (l * (100000 - qaT τ 0 p (τ 1 0 + t)) / 100000) / 1000000 else (τ 35 p + τ 36 p) * l / 1000000 * qaT τ 0 p (τ 1 0 + t) / 100000 + (if τ 1 0 + t + 1 = τ 28 p ∧ τ 23 p ≠ 2 then (τ 35 p + τ 36 p) * (l * (100000 - qaT τ 0 p (τ 1 0 + t)) / 100000) / 1000000 else 0)) → VW θ Q E (zM E A h (sc τ D)) 0 0 197 [(3, .long (iL ((l * (100000 - (qaT τ 0 p (τ 1 0 + t)))) / 100000))), (13, .long (iL inn)), (11, .long (iL (qaT τ 0 p (τ 1 0 + t)))), (9, .long (iL pb)), (8, .int (iI ((τ 1 0) + t))), (0, .ref (A 0)), (1, .int (iI p)), (2, .int (iI a)), (5, .long (iL (τ 35 p + τ 36 p))), (7, .int (iI t))] [] := by
              intro pb hpb
              refine v_iload G 9 rfl dX4_expects_197 ?_
              refine v_iload_n G 7 rfl rfl dX4_expects_199 ?_
              refine v_icmp_ne G 209 ⟨by omega, by omega⟩ ⟨by omega, by omega⟩ (by decide) dX4_expects_200 (fun c9 => ?_) (fun c9 => ?_)
              · refine v_iinc G (L' := [(7, .int (iI (t + 1))), (3, .long (iL ((l * (100000 - (qaT τ 0 p (τ 1 0 + t)))) / 100000))), (13, .long (iL inn)), (11, .long (iL (qaT τ 0 p (τ 1 0 + t)))), (9, .long (iL pb)), (8, .int (iI ((τ 1 0) + t))), (0, .ref (A 0)), (1, .int (iI p)), (2, .int (iI a)), (5, .long (iL (τ 35 p + τ 36 p)))]) 9 rfl (Nat.le_of_ble_eq_true rfl) rfl dX4_expects_209 ?_
                refine v_goto G 22 (by decide) dX4_expects_212 ?_
                refine VW.pick (L2 := [(0, .ref (A 0)), (1, .int (iI p)), (2, .int (iI a)), (3, .long (iL ((l * (100000 - (qaT τ 0 p (τ 1 0 + t)))) / 100000))), (5, .long (iL (τ 35 p + τ 36 p))), (7, .int (iI (t + 1)))]) [6, 7, 8, 1, 9, 0] rfl ?_
                exact P1ih (t + 1) ((l * (100000 - (qaT τ 0 p (τ 1 0 + t)))) / 100000) ⟨by omega, by omega, by omega⟩ (by rw [lfT_s ht.1, ← hl]) (by omega)
              · refine v_lload G 3 rfl dX4_expects_203 ?_
                refine v_lload G 1 rfl dX4_expects_205 ?_
                refine v_lsub G dX4_expects_207 ?_
                exact v_lret G hQ ⟨by unfold exT; rw [if_pos (by omega)]; unfold exP; rw [show a = t by omega, lfT_s ht.1, ← hl, hpb, hin2], rfl⟩ (Nat.le_of_ble_eq_true rfl) (Nat.le_of_ble_eq_true rfl) dX4_expects_208
            refine v_aload_n G 5 rfl rfl dX4_expects_131 ?_
            refine gX4_31 G zM_0 (v := .ref (A 23)) rfl dX4_expects_132 ?_
            refine v_iload_n G 6 rfl rfl dX4_expects_135 ?_
            refine m_ald G hA (v := τ 23 p) rfl ⟨by omega, by show _ < (24 : Int); omega⟩ rfl dX4_expects_136 ?_
            refine v_iconst G dX4_expects_137 ?_
            refine v_icmp_ne G 161 ⟨by omega, by omega⟩ ⟨by decide, by decide⟩ (by decide) dX4_expects_138 (fun c10 => ?_) (fun c10 => ?_)
            · refine v_iload G 4 rfl dX4_expects_161 ?_
              refine v_iconst G dX4_expects_163 ?_
              refine v_iadd G dX4_expects_164 ?_
              refine v_aload_n G 5 rfl rfl dX4_expects_165 ?_
              refine gX4_46 G zM_0 (v := .ref (A 28)) rfl dX4_expects_166 ?_
              refine v_iload_n G 6 rfl rfl dX4_expects_169 ?_
              refine m_ald G hA (v := τ 28 p) rfl ⟨by omega, by show _ < (24 : Int); omega⟩ rfl dX4_expects_170 ?_
              refine v_icmp_ne G 197 ⟨by omega, by omega⟩ ⟨by omega, by omega⟩ (by decide) dX4_expects_171 (fun c11 => ?_) (fun c11 => ?_)
              · exact J8 pa (by subst hpa; first | rw [if_pos (by omega), if_pos (by omega), Int.zero_add] | rw [if_neg (by omega), if_neg (by omega), if_pos (by omega)] | rw [if_neg (by omega), if_neg (by omega), if_neg (by omega), Int.add_zero])
              · refine v_aload_n G 5 rfl rfl dX4_expects_174 ?_
                refine gX4_31 G zM_0 (v := .ref (A 23)) rfl dX4_expects_175 ?_
                refine v_iload_n G 6 rfl rfl dX4_expects_178 ?_
                refine m_ald G hA (v := τ 23 p) rfl ⟨by omega, by show _ < (24 : Int); omega⟩ rfl dX4_expects_179 ?_
                refine v_iconst G dX4_expects_180 ?_
                refine v_icmp_eq G 197 ⟨by omega, by omega⟩ ⟨by decide, by decide⟩ (by decide) dX4_expects_181 (fun c12 => ?_) (fun c12 => ?_)
                · exact J8 pa (by subst hpa; first | rw [if_pos (by omega), if_pos (by omega), Int.zero_add] | rw [if_neg (by omega), if_neg (by omega), if_pos (by omega)] | rw [if_neg (by omega), if_neg (by omega), if_neg (by omega), Int.add_zero])
                · refine v_lload G 3 rfl dX4_expects_184 ?_
                  refine v_lload G 8 rfl dX4_expects_186 ?_
                  refine v_lload_n G 0 rfl rfl dX4_expects_188 ?_
                  refine v_lmul G dX4_expects_189 ?_
                  refine v_ldc2 G (v := 1000000) q2178 rfl dX4_expects_190 ?_
                  refine v_ldiv G ⟨by omega, by omega⟩ ⟨by decide, by decide⟩ dX4_expects_193 ?_
                  refine v_ladd G dX4_expects_194 ?_
                  refine v_lstore G (L' := [(9, .long (iL (pa + (((τ 35 p + τ 36 p) * ((l * (100000 - (qaT τ 0 p (τ 1 0 + t)))) / 100000)) / 1000000)))), (3, .long (iL ((l * (100000 - (qaT τ 0 p (τ 1 0 + t)))) / 100000))), (13, .long (iL inn)), (11, .long (iL (qaT τ 0 p (τ 1 0 + t)))), (8, .int (iI ((τ 1 0) + t))), (0, .ref (A 0)), (1, .int (iI p)), (2, .int (iI a)), (5, .long (iL (τ 35 p + τ 36 p))), (7, .int (iI t))]) (Nat.le_of_ble_eq_true rfl) rfl dX4_expects_195 ?_
                  refine VW.pick (L2 := [(3, .long (iL ((l * (100000 - (qaT τ 0 p (τ 1 0 + t)))) / 100000))), (13, .long (iL inn)), (11, .long (iL (qaT τ 0 p (τ 1 0 + t)))), (9, .long (iL (pa + (((τ 35 p + τ 36 p) * ((l * (100000 - (qaT τ 0 p (τ 1 0 + t)))) / 100000)) / 1000000)))), (8, .int (iI ((τ 1 0) + t))), (0, .ref (A 0)), (1, .int (iI p)), (2, .int (iI a)), (5, .long (iL (τ 35 p + τ 36 p))), (7, .int (iI t))]) [1, 2, 3, 0, 4, 5, 6, 7, 8, 9] rfl ?_
                  exact J8 (pa + (((τ 35 p + τ 36 p) * ((l * (100000 - (qaT τ 0 p (τ 1 0 + t)))) / 100000)) / 1000000)) (by subst hpa; first | rw [if_pos (by omega), if_pos (by omega), Int.zero_add] | rw [if_neg (by omega), if_neg (by omega), if_pos (by omega)] | rw [if_neg (by omega), if_neg (by omega), if_neg (by omega), Int.add_zero])
            · refine v_lload G 3 rfl dX4_expects_141 ?_
              refine v_aload_n G 5 rfl rfl dX4_expects_143 ?_
              refine gX4_67 G zM_0 (v := .ref (A 35)) rfl dX4_expects_144 ?_
              refine v_iload_n G 6 rfl rfl dX4_expects_147 ?_
              refine m_lld G hA (v := τ 35 p) rfl ⟨by omega, by show _ < (24 : Int); omega⟩ rfl dX4_expects_148 ?_
              refine v_lload_n G 0 rfl rfl dX4_expects_149 ?_
              refine v_lmul G dX4_expects_150 ?_
              refine v_ldc2 G (v := 1000000) q2178 rfl dX4_expects_151 ?_
              refine v_ldiv G ⟨by omega, by omega⟩ ⟨by decide, by decide⟩ dX4_expects_154 ?_
              refine v_ladd G dX4_expects_155 ?_
              refine v_lstore G (L' := [(9, .long (iL (pa + (((τ 35 p) * ((l * (100000 - (qaT τ 0 p (τ 1 0 + t)))) / 100000)) / 1000000)))), (3, .long (iL ((l * (100000 - (qaT τ 0 p (τ 1 0 + t)))) / 100000))), (13, .long (iL inn)), (11, .long (iL (qaT τ 0 p (τ 1 0 + t)))), (8, .int (iI ((τ 1 0) + t))), (0, .ref (A 0)), (1, .int (iI p)), (2, .int (iI a)), (5, .long (iL (τ 35 p + τ 36 p))), (7, .int (iI t))]) (Nat.le_of_ble_eq_true rfl) rfl dX4_expects_156 ?_
              refine v_goto G 197 (by decide) dX4_expects_158 ?_
              refine VW.pick (L2 := [(3, .long (iL ((l * (100000 - (qaT τ 0 p (τ 1 0 + t)))) / 100000))), (13, .long (iL inn)), (11, .long (iL (qaT τ 0 p (τ 1 0 + t)))), (9, .long (iL (pa + (((τ 35 p) * ((l * (100000 - (qaT τ 0 p (τ 1 0 + t)))) / 100000)) / 1000000)))), (8, .int (iI ((τ 1 0) + t))), (0, .ref (A 0)), (1, .int (iI p)), (2, .int (iI a)), (5, .long (iL (τ 35 p + τ 36 p))), (7, .int (iI t))]) [1, 2, 3, 0, 4, 5, 6, 7, 8, 9] rfl ?_
              exact J8 (pa + (((τ 35 p) * ((l * (100000 - (qaT τ 0 p (τ 1 0 + t)))) / 100000)) / 1000000)) (by subst hpa; first | rw [if_pos (by omega), if_pos (by omega), Int.zero_add] | rw [if_neg (by omega), if_neg (by omega), if_pos (by omega)] | rw [if_neg (by omega), if_neg (by omega), if_neg (by omega), Int.add_zero])
          refine v_aload_n G 4 rfl rfl dX4_expects_88 ?_
          refine gX4_31 G zM_0 (v := .ref (A 23)) rfl dX4_expects_89 ?_
          refine v_iload_n G 5 rfl rfl dX4_expects_92 ?_
          refine m_ald G hA (v := τ 23 p) rfl ⟨by omega, by show _ < (24 : Int); omega⟩ rfl dX4_expects_93 ?_
          refine v_iconst G dX4_expects_94 ?_
          refine v_icmp_eq G 118 ⟨by omega, by omega⟩ ⟨by decide, by decide⟩ (by decide) dX4_expects_95 (fun c13 => ?_) (fun c13 => ?_)
          · exact J7 0 (by first | rw [if_pos (by omega)] | rw [if_neg (by omega), Int.zero_add])
          · refine v_lload G 2 rfl dX4_expects_98 ?_
            refine v_lload G 8 rfl dX4_expects_100 ?_
            refine v_lload_n G 7 rfl rfl dX4_expects_102 ?_
            refine v_lmul G dX4_expects_103 ?_
            refine v_ldc2 G (v := 1000000) q2178 rfl dX4_expects_104 ?_
            refine v_ldiv G ⟨by omega, by omega⟩ ⟨by decide, by decide⟩ dX4_expects_107 ?_
            refine v_lload G 1 rfl dX4_expects_108 ?_
            refine v_lmul G dX4_expects_110 ?_
            refine v_ldc2 G (v := 100000) q2184 rfl dX4_expects_111 ?_
            refine v_ldiv G ⟨by omega, by omega⟩ ⟨by decide, by decide⟩ dX4_expects_114 ?_
            refine v_ladd G dX4_expects_115 ?_
            refine v_lstore G (L' := [(9, .long (iL (0 + (((((τ 35 p + τ 36 p) * l) / 1000000) * (qaT τ 0 p (τ 1 0 + t))) / 100000)))), (13, .long (iL inn)), (11, .long (iL (qaT τ 0 p (τ 1 0 + t)))), (8, .int (iI ((τ 1 0) + t))), (0, .ref (A 0)), (1, .int (iI p)), (2, .int (iI a)), (3, .long (iL l)), (5, .long (iL (τ 35 p + τ 36 p))), (7, .int (iI t))]) (Nat.le_of_ble_eq_true rfl) rfl dX4_expects_116 ?_
            refine VW.pick (L2 := [(13, .long (iL inn)), (11, .long (iL (qaT τ 0 p (τ 1 0 + t)))), (9, .long (iL (0 + (((((τ 35 p + τ 36 p) * l) / 1000000) * (qaT τ 0 p (τ 1 0 + t))) / 100000)))), (8, .int (iI ((τ 1 0) + t))), (0, .ref (A 0)), (1, .int (iI p)), (2, .int (iI a)), (3, .long (iL l)), (5, .long (iL (τ 35 p + τ 36 p))), (7, .int (iI t))]) [1, 2, 0, 3, 4, 5, 6, 7, 8, 9] rfl ?_
            exact J7 (0 + (((((τ 35 p + τ 36 p) * l) / 1000000) * (qaT τ 0 p (τ 1 0 + t))) / 100000)) (by first | rw [if_pos (by omega)] | rw [if_neg (by omega), Int.zero_add])
        refine v_if_eq G 85 ⟨by omega, by omega⟩ (by decide) dX4_expects_67 (fun c14 => ?_) (fun c14 => ?_)
        · have gz5 := bF hz5 (by omega)
          refine v_lconst G (n := 0) (v0 := 0) rfl dX4_expects_85 ?_
          exact J6 0 (by first | rw [if_pos (by assumption)] | rw [if_neg (by assumption)])
        · have gz5 := bT hz5 (by omega)
          refine v_aload_n G 3 rfl rfl dX4_expects_70 ?_
          refine gX4_79 G zM_0 (v := .ref (A 39)) rfl dX4_expects_71 ?_
          refine v_iload_n G 4 rfl rfl dX4_expects_74 ?_
          refine m_lld G hA (v := τ 39 p) rfl ⟨by omega, by show _ < (24 : Int); omega⟩ rfl dX4_expects_75 ?_
          refine v_lload_n G 6 rfl rfl dX4_expects_76 ?_
          refine v_lmul G dX4_expects_77 ?_
          refine v_ldc2 G (v := 1000000) q2178 rfl dX4_expects_78 ?_
          refine v_ldiv G ⟨by omega, by omega⟩ ⟨by decide, by decide⟩ dX4_expects_81 ?_
          refine v_goto G 86 (by decide) dX4_expects_82 ?_
          exact J6 (((τ 39 p) * l) / 1000000) (by first | rw [if_pos (by assumption)] | rw [if_neg (by assumption)])
  refine VW.pick (L2 := [(0, .ref (A 0)), (1, .int (iI p)), (2, .int (iI a)), (3, .long (iL 1000000)), (5, .long (iL ((τ 35 p) + (τ 36 p)))), (7, .int (iI 0))]) [3, 4, 5, 2, 1, 0] rfl ?_
  exact P1 _ 0 1000000 ⟨by omega, by omega, by omega⟩ rfl (Nat.lt_succ_self _)

set_option maxHeartbeats 4000000 in
theorem n_expA {l : Launch} (hfl : l.stackTraces = false) {E : zEn} {h : zHp} {A : Nat → Nat} {τ D : mMem} (hA : mInj A) (H : okT τ) {a : Int} (ha : 0 ≤ a ∧ a ≤ 40)  : CN l E yX4_expectsAll (ws_ yX4_expectsAll cX4_expectsAll 5 (some FieldType.long)) ({ frames := 4, cells := 0, slots := 0, locals := 110 } : Room) [.ref (A 0), .int (iI a)] (zM E A h (sc τ D)) (zR (.long (iL (exA τ a))) (zM E A h (sc τ D))) := by
  refine CN.of (by decide +kernel) hfl (Nat.le_of_ble_eq_true rfl) fun θ Q hl G hin hQ => ?_
  subst hl
  show VW θ Q E (zM E A h (sc τ D)) 0 0 0 [(0, .ref (A 0)), (1, .int (iI a))] []
  have hm := H.many
  have hyr := H.year
  have hw := H.law 0 (by omega) (by omega)
  refine v_lconst G (n := 0) (v0 := 0) rfl dX4_expectsAll_0 ?_
  refine v_lstore_n G (L' := [(2, .long (iL 0)), (0, .ref (A 0)), (1, .int (iI a))]) rfl (Nat.le_of_ble_eq_true rfl) rfl dX4_expectsAll_1 ?_
  refine v_iconst G dX4_expectsAll_2 ?_
  refine v_istore G (L' := [(4, .int (iI 0)), (2, .long (iL 0)), (0, .ref (A 0)), (1, .int (iI a))]) (Nat.le_of_ble_eq_true rfl) rfl dX4_expectsAll_3 ?_
  have P1 : ∀ (n : Nat) (p : Int) (s : Int), (0 ≤ p ∧ p ≤ τ 10 0) → (s = sumT (fun p => if τ 29 p ≤ 3 then exT τ p a else 0) p) → (τ 10 0 - p).toNat < n → VW θ Q E (zM E A h (sc τ D)) 0 0 5 [(0, .ref (A 0)), (1, .int (iI a)), (2, .long (iL s)), (4, .int (iI p))] [] := by
    intro n
    induction n with
    | zero => intros; omega
    | succ n P1ih =>
      intro p s hp hs hn
      refine v_iload G 3 rfl dX4_expectsAll_5 ?_
      refine v_aload_n G 0 rfl rfl dX4_expectsAll_7 ?_
      refine gX4_146 G zM_0 (v := .int (iI (τ 10 0))) rfl dX4_expectsAll_8 ?_
      refine v_icmp_ge G 43 ⟨by omega, by omega⟩ ⟨by omega, by omega⟩ (by decide) dX4_expectsAll_11 (fun c2 => ?_) (fun c2 => ?_)
      · obtain rfl : p = τ 10 0 := by omega
        refine v_lload_n G 2 rfl rfl dX4_expectsAll_43 ?_
        exact v_lret G hQ ⟨by rw [hs]; rfl, rfl⟩ (Nat.le_of_ble_eq_true rfl) (Nat.le_of_ble_eq_true rfl) dX4_expectsAll_44
      · have P9 := H.pol p hp.1 (by omega)
        have ho := P9.1
        unfold okPol at P9
        have h9 := ho
        simp only [okP1, okP, tP] at h9
        refine v_lload_n G 2 rfl rfl dX4_expectsAll_14 ?_
        refine v_aload_n G 0 rfl rfl dX4_expectsAll_15 ?_
        refine v_iload G 3 rfl dX4_expectsAll_16 ?_
        refine kX4_234 G (As := [.int (iI p)]) (rest := [.long (iL s)]) (cs' := 0) (sl' := 0) (n_isLiving G.fl (τ := τ) (D := D) hA (p := p) ⟨by omega, by omega⟩ (show 0 ≤ τ 29 p ∧ τ 29 p ≤ 7 by omega)) (zRcv.of G (q := (RX4, TX4, 55)) rfl zM_0) rfl rfl (Nat.le_of_ble_eq_true rfl) (zRm.ok rfl) dX4_expectsAll_18 (fun vq3 hq3 q3 => ?_)
        obtain ⟨_, _⟩ := q3
        subst vq3 hq3
        refine VW.nmI (fun z4 hz4 => ?_)
        have hz4 := (show (z4 = 1 ∧ τ 29 p ≤ 3) ∨ (z4 = 0 ∧ ¬ (τ 29 p ≤ 3)) from ite01 hz4)
        show VW θ Q E (zM E A h (sc τ D)) 0 0 21 [(0, .ref (A 0)), (1, .int (iI a)), (2, .long (iL s)), (4, .int (iI p))] [.int (iI z4), .long (iL s)]
        refine v_if_eq G 34 ⟨by omega, by omega⟩ (by decide) dX4_expectsAll_21 (fun c5 => ?_) (fun c5 => ?_)
        · have gz4 := bF hz4 (by omega)
          refine v_lconst G (n := 0) (v0 := 0) rfl dX4_expectsAll_34 ?_
          refine v_ladd G dX4_expectsAll_35 ?_
          refine v_lstore_n G (L' := [(2, .long (iL (s + 0))), (0, .ref (A 0)), (1, .int (iI a)), (4, .int (iI p))]) rfl (Nat.le_of_ble_eq_true rfl) rfl dX4_expectsAll_36 ?_
          refine v_iinc G (L' := [(4, .int (iI (p + 1))), (2, .long (iL (s + 0))), (0, .ref (A 0)), (1, .int (iI a))]) 3 rfl (Nat.le_of_ble_eq_true rfl) rfl dX4_expectsAll_37 ?_
          refine v_goto G 5 (by decide) dX4_expectsAll_40 ?_
          refine VW.pick (L2 := [(0, .ref (A 0)), (1, .int (iI a)), (2, .long (iL (s + 0))), (4, .int (iI (p + 1)))]) [2, 3, 1, 0] rfl ?_
          exact P1ih (p + 1) (s + 0) ⟨by omega, by omega⟩ (by rw [sumT_s hp.1, ← hs]; first | rw [if_pos (by assumption)] | rw [if_neg (by assumption)]) (by omega)
        · have gz4 := bT hz4 (by omega)
          refine v_aload_n G 0 rfl rfl dX4_expectsAll_24 ?_
          refine v_iload G 3 rfl dX4_expectsAll_25 ?_
          refine v_iload_n G 1 rfl rfl dX4_expectsAll_27 ?_
          refine kX4_327 G (As := [.int (iI p), .int (iI a)]) (rest := [.long (iL s)]) (cs' := 0) (sl' := 0) (n_exp G.fl (τ := τ) (D := D) hA (p := p) (a := a) ⟨by omega, by omega⟩ ho hw ⟨by omega, by omega, by omega⟩ ⟨by omega, by omega⟩) (zRcv.of G (q := (RX4, TX4, 55)) rfl zM_0) rfl rfl (Nat.le_of_ble_eq_true rfl) (zRm.ok rfl) dX4_expectsAll_28 (fun vq6 hq6 q6 => ?_)
          obtain ⟨_, _⟩ := q6
          subst vq6 hq6
          show VW θ Q E (zM E A h (sc τ D)) 0 0 31 [(0, .ref (A 0)), (1, .int (iI a)), (2, .long (iL s)), (4, .int (iI p))] [.long (iL (exT τ p a)), .long (iL s)]
          refine v_goto G 35 (by decide) dX4_expectsAll_31 ?_
          refine v_ladd G dX4_expectsAll_35 ?_
          refine v_lstore_n G (L' := [(2, .long (iL (s + (exT τ p a)))), (0, .ref (A 0)), (1, .int (iI a)), (4, .int (iI p))]) rfl (Nat.le_of_ble_eq_true rfl) rfl dX4_expectsAll_36 ?_
          refine v_iinc G (L' := [(4, .int (iI (p + 1))), (2, .long (iL (s + (exT τ p a)))), (0, .ref (A 0)), (1, .int (iI a))]) 3 rfl (Nat.le_of_ble_eq_true rfl) rfl dX4_expectsAll_37 ?_
          refine v_goto G 5 (by decide) dX4_expectsAll_40 ?_
          refine VW.pick (L2 := [(0, .ref (A 0)), (1, .int (iI a)), (2, .long (iL (s + (exT τ p a)))), (4, .int (iI (p + 1)))]) [2, 3, 1, 0] rfl ?_
          exact P1ih (p + 1) (s + (exT τ p a)) ⟨by omega, by omega⟩ (by rw [sumT_s hp.1, ← hs]; first | rw [if_pos (by assumption)] | rw [if_neg (by assumption)]) (by omega)
  refine VW.pick (L2 := [(0, .ref (A 0)), (1, .int (iI a)), (2, .long (iL 0)), (4, .int (iI 0))]) [2, 3, 1, 0] rfl ?_
  exact P1 _ 0 0 ⟨by omega, by omega⟩ rfl (Nat.lt_succ_self _)

set_option maxHeartbeats 4000000 in
theorem n_bonds {l : Launch} (hfl : l.stackTraces = false) {E : zEn} {h : zHp} {A : Nat → Nat} {τ D : mMem} (hA : mInj A) (H : okT τ) {a : Int} (ha : 0 ≤ a ∧ a ≤ 40)  : CN l E yX4_bondsPay (ws_ yX4_bondsPay cX4_bondsPay 5 (some FieldType.long)) ({ frames := 0, cells := 0, slots := 0, locals := 0 } : Room) [.ref (A 0), .int (iI a)] (zM E A h (sc τ D)) (zR (.long (iL (bpT τ a))) (zM E A h (sc τ D))) := by
  refine CN.of (by decide +kernel) hfl (Nat.le_of_ble_eq_true rfl) fun θ Q hl G hin hQ => ?_
  subst hl
  show VW θ Q E (zM E A h (sc τ D)) 0 0 0 [(0, .ref (A 0)), (1, .int (iI a))] []
  have hm := H.many
  refine v_lconst G (n := 0) (v0 := 0) rfl dX4_bondsPay_0 ?_
  refine v_lstore_n G (L' := [(2, .long (iL 0)), (0, .ref (A 0)), (1, .int (iI a))]) rfl (Nat.le_of_ble_eq_true rfl) rfl dX4_bondsPay_1 ?_
  refine v_iconst G dX4_bondsPay_2 ?_
  refine v_istore G (L' := [(4, .int (iI 0)), (2, .long (iL 0)), (0, .ref (A 0)), (1, .int (iI a))]) (Nat.le_of_ble_eq_true rfl) rfl dX4_bondsPay_3 ?_
  have P1 : ∀ (n : Nat) (b : Int) (s : Int), (0 ≤ b ∧ b ≤ τ 11 0) → (s = sumT (fun b => (if a < τ 42 b then τ 43 b * τ 44 b / 1000 else 0) + (if τ 42 b = a + 1 then τ 43 b else 0)) b) → (τ 11 0 - b).toNat < n → VW θ Q E (zM E A h (sc τ D)) 0 0 5 [(0, .ref (A 0)), (1, .int (iI a)), (2, .long (iL s)), (4, .int (iI b))] [] := by
    intro n
    induction n with
    | zero => intros; omega
    | succ n P1ih =>
      intro b s hbb hs hn
      refine v_iload G 3 rfl dX4_bondsPay_5 ?_
      refine v_aload_n G 0 rfl rfl dX4_bondsPay_7 ?_
      refine gX4_149 G zM_0 (v := .int (iI (τ 11 0))) rfl dX4_bondsPay_8 ?_
      refine v_icmp_ge G 87 ⟨by omega, by omega⟩ ⟨by omega, by omega⟩ (by decide) dX4_bondsPay_11 (fun c2 => ?_) (fun c2 => ?_)
      · obtain rfl : b = τ 11 0 := by omega
        refine v_lload_n G 2 rfl rfl dX4_bondsPay_87 ?_
        exact v_lret G hQ ⟨by rw [hs]; rfl, rfl⟩ (Nat.le_of_ble_eq_true rfl) (Nat.le_of_ble_eq_true rfl) dX4_bondsPay_88
      · have b9 := H.bnd b hbb.1 (by omega)
        unfold okBnd at b9
        have e1 := mul_bd2 b9.2.1 b9.2.2
        have J3 : ∀ (x1 : Int), (x1 = s + (if a < τ 42 b then τ 43 b * τ 44 b / 1000 else 0)) → VW θ Q E (zM E A h (sc τ D)) 0 0 53 [(0, .ref (A 0)), (1, .int (iI a)), (2, .long (iL x1)), (4, .int (iI b))] [] := by
          intro x1 hx1
          refine v_lload_n G 2 rfl rfl dX4_bondsPay_53 ?_
          have J4 : ∀ (x2 : Int), (x1 + (if τ 42 b = a + 1 then τ 43 b else 0) = x2) → VW θ Q E (zM E A h (sc τ D)) 0 0 81 [(0, .ref (A 0)), (1, .int (iI a)), (2, .long (iL x2)), (4, .int (iI b))] [] := by
            intro x2 hx2
            refine v_iinc G (L' := [(4, .int (iI (b + 1))), (0, .ref (A 0)), (1, .int (iI a)), (2, .long (iL x2))]) 3 rfl (Nat.le_of_ble_eq_true rfl) rfl dX4_bondsPay_81 ?_
            refine v_goto G 5 (by decide) dX4_bondsPay_84 ?_
            refine VW.pick (L2 := [(0, .ref (A 0)), (1, .int (iI a)), (2, .long (iL x2)), (4, .int (iI (b + 1)))]) [1, 2, 3, 0] rfl ?_
            exact P1ih (b + 1) x2 ⟨by omega, by omega⟩ (by rw [sumT_s hbb.1, ← hs, ← Int.add_assoc, ← hx1, hx2]) (by omega)
          refine v_aload_n G 0 rfl rfl dX4_bondsPay_54 ?_
          refine gX4_88 G zM_0 (v := .ref (A 42)) rfl dX4_bondsPay_55 ?_
          refine v_iload G 3 rfl dX4_bondsPay_58 ?_
          refine m_ald G hA (v := τ 42 b) rfl ⟨by omega, by show _ < (16 : Int); omega⟩ rfl dX4_bondsPay_60 ?_
          refine v_iload_n G 1 rfl rfl dX4_bondsPay_61 ?_
          refine v_iconst G dX4_bondsPay_62 ?_
          refine v_iadd G dX4_bondsPay_63 ?_
          refine v_icmp_ne G 78 ⟨by omega, by omega⟩ ⟨by omega, by omega⟩ (by decide) dX4_bondsPay_64 (fun c5 => ?_) (fun c5 => ?_)
          · refine v_lconst G (n := 0) (v0 := 0) rfl dX4_bondsPay_78 ?_
            refine v_ladd G dX4_bondsPay_79 ?_
            refine v_lstore_n G (L' := [(2, .long (iL (x1 + 0))), (0, .ref (A 0)), (1, .int (iI a)), (4, .int (iI b))]) rfl (Nat.le_of_ble_eq_true rfl) rfl dX4_bondsPay_80 ?_
            refine VW.pick (L2 := [(0, .ref (A 0)), (1, .int (iI a)), (2, .long (iL (x1 + 0))), (4, .int (iI b))]) [1, 2, 0, 3] rfl ?_
            exact J4 (x1 + 0) (by first | rw [if_pos (by omega)] | rw [if_neg (by omega)])
          · refine v_aload_n G 0 rfl rfl dX4_bondsPay_67 ?_
            refine gX4_91 G zM_0 (v := .ref (A 43)) rfl dX4_bondsPay_68 ?_
            refine v_iload G 3 rfl dX4_bondsPay_71 ?_
            refine m_ald G hA (v := τ 43 b) rfl ⟨by omega, by show _ < (16 : Int); omega⟩ rfl dX4_bondsPay_73 ?_
            refine v_i2l G ⟨by omega, by omega⟩ dX4_bondsPay_74 ?_
            refine v_goto G 79 (by decide) dX4_bondsPay_75 ?_
            refine v_ladd G dX4_bondsPay_79 ?_
            refine v_lstore_n G (L' := [(2, .long (iL (x1 + (τ 43 b)))), (0, .ref (A 0)), (1, .int (iI a)), (4, .int (iI b))]) rfl (Nat.le_of_ble_eq_true rfl) rfl dX4_bondsPay_80 ?_
            refine VW.pick (L2 := [(0, .ref (A 0)), (1, .int (iI a)), (2, .long (iL (x1 + (τ 43 b)))), (4, .int (iI b))]) [1, 2, 0, 3] rfl ?_
            exact J4 (x1 + (τ 43 b)) (by first | rw [if_pos (by omega)] | rw [if_neg (by omega)])
        refine v_lload_n G 2 rfl rfl dX4_bondsPay_14 ?_
        refine v_aload_n G 0 rfl rfl dX4_bondsPay_15 ?_
        refine gX4_88 G zM_0 (v := .ref (A 42)) rfl dX4_bondsPay_16 ?_
        refine v_iload G 3 rfl dX4_bondsPay_19 ?_
        refine m_ald G hA (v := τ 42 b) rfl ⟨by omega, by show _ < (16 : Int); omega⟩ rfl dX4_bondsPay_21 ?_
        refine v_iload_n G 1 rfl rfl dX4_bondsPay_22 ?_
        refine v_icmp_le G 50 ⟨by omega, by omega⟩ ⟨by omega, by omega⟩ (by decide) dX4_bondsPay_23 (fun c6 => ?_) (fun c6 => ?_)
        · refine v_lconst G (n := 0) (v0 := 0) rfl dX4_bondsPay_50 ?_
          refine v_ladd G dX4_bondsPay_51 ?_
          refine v_lstore_n G (L' := [(2, .long (iL (s + 0))), (0, .ref (A 0)), (1, .int (iI a)), (4, .int (iI b))]) rfl (Nat.le_of_ble_eq_true rfl) rfl dX4_bondsPay_52 ?_
          refine VW.pick (L2 := [(0, .ref (A 0)), (1, .int (iI a)), (2, .long (iL (s + 0))), (4, .int (iI b))]) [1, 2, 0, 3] rfl ?_
          exact J3 (s + 0) (by first | rw [if_pos (by omega)] | rw [if_neg (by omega)])
        · refine v_aload_n G 0 rfl rfl dX4_bondsPay_26 ?_
          refine gX4_91 G zM_0 (v := .ref (A 43)) rfl dX4_bondsPay_27 ?_
          refine v_iload G 3 rfl dX4_bondsPay_30 ?_
          refine m_ald G hA (v := τ 43 b) rfl ⟨by omega, by show _ < (16 : Int); omega⟩ rfl dX4_bondsPay_32 ?_
          refine v_i2l G ⟨by omega, by omega⟩ dX4_bondsPay_33 ?_
          refine v_aload_n G 0 rfl rfl dX4_bondsPay_34 ?_
          refine gX4_94 G zM_0 (v := .ref (A 44)) rfl dX4_bondsPay_35 ?_
          refine v_iload G 3 rfl dX4_bondsPay_38 ?_
          refine m_ald G hA (v := τ 44 b) rfl ⟨by omega, by show _ < (16 : Int); omega⟩ rfl dX4_bondsPay_40 ?_
          refine v_i2l G ⟨by omega, by omega⟩ dX4_bondsPay_41 ?_
          refine v_lmul G dX4_bondsPay_42 ?_
          refine v_ldc2 G (v := 1000) q2190 rfl dX4_bondsPay_43 ?_
          refine v_ldiv G ⟨by omega, by omega⟩ ⟨by decide, by decide⟩ dX4_bondsPay_46 ?_
          refine v_goto G 51 (by decide) dX4_bondsPay_47 ?_
          refine v_ladd G dX4_bondsPay_51 ?_
          refine v_lstore_n G (L' := [(2, .long (iL (s + (((τ 43 b) * (τ 44 b)) / 1000)))), (0, .ref (A 0)), (1, .int (iI a)), (4, .int (iI b))]) rfl (Nat.le_of_ble_eq_true rfl) rfl dX4_bondsPay_52 ?_
          refine VW.pick (L2 := [(0, .ref (A 0)), (1, .int (iI a)), (2, .long (iL (s + (((τ 43 b) * (τ 44 b)) / 1000)))), (4, .int (iI b))]) [1, 2, 0, 3] rfl ?_
          exact J3 (s + (((τ 43 b) * (τ 44 b)) / 1000)) (by first | rw [if_pos (by omega)] | rw [if_neg (by omega)])
  refine VW.pick (L2 := [(0, .ref (A 0)), (1, .int (iI a)), (2, .long (iL 0)), (4, .int (iI 0))]) [2, 3, 1, 0] rfl ?_
  exact P1 _ 0 0 ⟨by omega, by omega⟩ rfl (Nat.lt_succ_self _)

set_option maxHeartbeats 4000000 in
theorem n_endOf {l : Launch} (hfl : l.stackTraces = false) {E : zEn} {h : zHp} {A : Nat → Nat} {τ D : mMem} (hA : mInj A) {kind term b : Int} (hk : 0 ≤ kind ∧ kind ≤ 3)  : CN l E yX4_endOf (ws_ yX4_endOf cX4_endOf 4 (some FieldType.int)) ({ frames := 0, cells := 0, slots := 0, locals := 0 } : Room) [.ref (A 0), .int (iI kind), .int (iI term), .int (iI b)] (zM E A h (sc τ D)) (zR (.int (iI (enT τ kind term b))) (zM E A h (sc τ D))) := by
  refine CN.of (by decide +kernel) hfl (Nat.le_of_ble_eq_true rfl) fun θ Q hl G hin hQ => ?_
  subst hl
  show VW θ Q E (zM E A h (sc τ D)) 0 0 0 [(0, .ref (A 0)), (1, .int (iI kind)), (2, .int (iI term)), (3, .int (iI b))] []
  refine v_iload_n G 1 rfl rfl dX4_endOf_0 ?_
  refine v_iconst G dX4_endOf_1 ?_
  refine v_icmp_eq G 10 ⟨by omega, by omega⟩ ⟨by decide, by decide⟩ (by decide) dX4_endOf_2 (fun c1 => ?_) (fun c1 => ?_)
  · refine v_aload_n G 0 rfl rfl dX4_endOf_10 ?_
    refine gX4_114 G zM_0 (v := .int (iI (τ 1 0))) rfl dX4_endOf_11 ?_
    refine v_iload_n G 2 rfl rfl dX4_endOf_14 ?_
    refine v_iadd G dX4_endOf_15 ?_
    refine v_goto G 23 (by decide) dX4_endOf_16 ?_
    exact v_iret G hQ ⟨by unfold enT; first | rw [if_pos (by omega)] | rw [if_neg (by omega)], rfl⟩ (Nat.le_of_ble_eq_true rfl) (Nat.le_of_ble_eq_true rfl) dX4_endOf_23
  · refine v_iload_n G 1 rfl rfl dX4_endOf_5 ?_
    refine v_iconst G dX4_endOf_6 ?_
    refine v_icmp_ne G 19 ⟨by omega, by omega⟩ ⟨by decide, by decide⟩ (by decide) dX4_endOf_7 (fun c2 => ?_) (fun c2 => ?_)
    · refine v_iload_n G 3 rfl rfl dX4_endOf_19 ?_
      refine v_bipush G rfl dX4_endOf_20 ?_
      refine v_iadd G dX4_endOf_22 ?_
      exact v_iret G hQ ⟨by unfold enT; first | rw [if_pos (by omega)] | rw [if_neg (by omega)], rfl⟩ (Nat.le_of_ble_eq_true rfl) (Nat.le_of_ble_eq_true rfl) dX4_endOf_23
    · refine v_aload_n G 0 rfl rfl dX4_endOf_10 ?_
      refine gX4_114 G zM_0 (v := .int (iI (τ 1 0))) rfl dX4_endOf_11 ?_
      refine v_iload_n G 2 rfl rfl dX4_endOf_14 ?_
      refine v_iadd G dX4_endOf_15 ?_
      refine v_goto G 23 (by decide) dX4_endOf_16 ?_
      exact v_iret G hQ ⟨by unfold enT; first | rw [if_pos (by omega)] | rw [if_neg (by omega)], rfl⟩ (Nat.le_of_ble_eq_true rfl) (Nat.le_of_ble_eq_true rfl) dX4_endOf_23

set_option maxHeartbeats 4000000 in
theorem n_isOffer {l : Launch} (hfl : l.stackTraces = false) {E : zEn} {h : zHp} {A : Nat → Nat} {τ D : mMem} (hA : mInj A) (H : okT τ) {kind u term b fl pts : Int} (hk : n32 kind) (hu : n32 u) (ht : n32 term) (hb : n32 b) (hf : n32 fl) (hpt : n32 pts)  : CN l E yX4_isOffer (ws_ yX4_isOffer cX4_isOffer 8 (some FieldType.boolean)) ({ frames := 1, cells := 0, slots := 0, locals := 25 } : Room) [.ref (A 0), .int (iI kind), .int (iI u), .int (iI term), .int (iI b), .int (iI fl), .int (iI pts)] (zM E A h (sc τ D)) (zR (.int (iI (if ofT τ kind u term b fl pts then 1 else 0))) (zM E A h (sc τ D))) := by
  refine CN.of (by decide +kernel) hfl (Nat.le_of_ble_eq_true rfl) fun θ Q hl G hin hQ => ?_
  subst hl
  show VW θ Q E (zM E A h (sc τ D)) 0 0 0 [(0, .ref (A 0)), (1, .int (iI kind)), (2, .int (iI u)), (3, .int (iI term)), (4, .int (iI b)), (5, .int (iI fl)), (6, .int (iI pts))] []
  have hyr := H.year
  obtain ⟨MX, hMX⟩ : ∃ m : Int, m = (if kind = 1 ∨ kind = 2 then min 80 (110 - term) else 80) := ⟨_, rfl⟩
  obtain ⟨FX, hFX⟩ : ∃ m : Int, m = (if kind ≤ 1 then 7 else 3) := ⟨_, rfl⟩
  have hof : ofT τ kind u term b fl pts ↔ ((0 ≤ kind ∧ kind ≤ 3) ∧ (100 ≤ u ∧ u ≤ 1000000) ∧ (1 ≤ term ∧ term ≤ 60) ∧ (0 ≤ τ 1 0 - b ∧ τ 1 0 - b ≤ MX) ∧ (0 ≤ fl ∧ fl ≤ FX) ∧ (0 ≤ pts ∧ pts ≤ 300)) := by rw [hMX, hFX]
  have m1 : (kind = 1 ∨ kind = 2) → MX = min 80 (110 - term) := fun h => by rw [hMX, if_pos h]
  have m2 : ¬ (kind = 1 ∨ kind = 2) → MX = 80 := fun h => by rw [hMX, if_neg h]
  have f1 : kind ≤ 1 → FX = 7 := fun h => by rw [hFX, if_pos h]
  have f2 : ¬ kind ≤ 1 → FX = 3 := fun h => by rw [hFX, if_neg h]
  have J1 : ∀ (z0 : Int), ((z0 = 1 ∧ (kind = 1 ∨ kind = 2)) ∨ (z0 = 0 ∧ ¬ (kind = 1 ∨ kind = 2))) → VW θ Q E (zM E A h (sc τ D)) 0 0 15 [(0, .ref (A 0)), (1, .int (iI kind)), (2, .int (iI u)), (3, .int (iI term)), (4, .int (iI b)), (5, .int (iI fl)), (6, .int (iI pts))] [.int (iI z0)] := by
    intro z0 hz0
    refine v_istore G (L' := [(7, .int (iI z0)), (0, .ref (A 0)), (1, .int (iI kind)), (2, .int (iI u)), (3, .int (iI term)), (4, .int (iI b)), (5, .int (iI fl)), (6, .int (iI pts))]) (Nat.le_of_ble_eq_true rfl) rfl dX4_isOffer_15 ?_
    refine v_iload_n G 2 rfl rfl dX4_isOffer_17 ?_
    refine v_i2l G ⟨by omega, by omega⟩ dX4_isOffer_18 ?_
    refine v_lconst G (n := 0) (v0 := 0) rfl dX4_isOffer_19 ?_
    refine v_ldc2 G (v := 3) q2188 rfl dX4_isOffer_20 ?_
    refine kX4_168 G (As := [.long (iL kind), .long (iL 0), .long (iL 3)]) (rest := []) (cs' := 0) (sl' := 0) (n_isIn G.fl (v := kind) (a := 0) (b := 3) ⟨by omega, by omega⟩ ⟨by decide, by decide⟩ ⟨by decide, by decide⟩) rfl rfl (Nat.le_of_ble_eq_true rfl) (zRm.ok rfl) dX4_isOffer_23 (fun vq2 hq2 q2 => ?_)
    obtain ⟨_, _⟩ := q2
    subst vq2 hq2
    refine VW.nmI (fun z3 hz3 => ?_)
    have hz3 := ite01 hz3
    show VW θ Q E (zM E A h (sc τ D)) 0 0 26 [(7, .int (iI z0)), (0, .ref (A 0)), (1, .int (iI kind)), (2, .int (iI u)), (3, .int (iI term)), (4, .int (iI b)), (5, .int (iI fl)), (6, .int (iI pts))] [.int (iI z3)]
    refine v_if_eq G 92 ⟨by omega, by omega⟩ (by decide) dX4_isOffer_26 (fun c4 => ?_) (fun c4 => ?_)
    · have gz3 := bF hz3 (by omega)
      refine v_iconst G dX4_isOffer_92 ?_
      exact v_zret G hQ (by decide) ⟨by first | rw [if_pos (hof.mpr (by omega))] | rw [if_neg (fun q => absurd (hof.mp q) (by omega))], rfl⟩ (Nat.le_of_ble_eq_true rfl) (Nat.le_of_ble_eq_true rfl) dX4_isOffer_93
    · have gz3 := bT hz3 (by omega)
      refine v_iload_n G 3 rfl rfl dX4_isOffer_29 ?_
      refine v_i2l G ⟨by omega, by omega⟩ dX4_isOffer_30 ?_
      refine v_ldc2 G (v := 100) q2191 rfl dX4_isOffer_31 ?_
      refine v_ldc2 G (v := 1000000) q2178 rfl dX4_isOffer_34 ?_
      refine kX4_168 G (As := [.long (iL u), .long (iL 100), .long (iL 1000000)]) (rest := []) (cs' := 0) (sl' := 0) (n_isIn G.fl (v := u) (a := 100) (b := 1000000) ⟨by omega, by omega⟩ ⟨by decide, by decide⟩ ⟨by decide, by decide⟩) rfl rfl (Nat.le_of_ble_eq_true rfl) (zRm.ok rfl) dX4_isOffer_37 (fun vq5 hq5 q5 => ?_)
      obtain ⟨_, _⟩ := q5
      subst vq5 hq5
      refine VW.nmI (fun z6 hz6 => ?_)
      have hz6 := ite01 hz6
      show VW θ Q E (zM E A h (sc τ D)) 0 0 40 [(7, .int (iI z0)), (0, .ref (A 0)), (1, .int (iI kind)), (2, .int (iI u)), (3, .int (iI term)), (4, .int (iI b)), (5, .int (iI fl)), (6, .int (iI pts))] [.int (iI z6)]
      refine v_if_eq G 92 ⟨by omega, by omega⟩ (by decide) dX4_isOffer_40 (fun c7 => ?_) (fun c7 => ?_)
      · have gz6 := bF hz6 (by omega)
        refine v_iconst G dX4_isOffer_92 ?_
        exact v_zret G hQ (by decide) ⟨by first | rw [if_pos (hof.mpr (by omega))] | rw [if_neg (fun q => absurd (hof.mp q) (by omega))], rfl⟩ (Nat.le_of_ble_eq_true rfl) (Nat.le_of_ble_eq_true rfl) dX4_isOffer_93
      · have gz6 := bT hz6 (by omega)
        refine v_iload_n G 4 rfl rfl dX4_isOffer_43 ?_
        refine v_i2l G ⟨by omega, by omega⟩ dX4_isOffer_44 ?_
        refine v_lconst G (n := 1) (v0 := 0) rfl dX4_isOffer_45 ?_
        refine v_ldc2 G (v := 60) q2239 rfl dX4_isOffer_46 ?_
        refine kX4_168 G (As := [.long (iL term), .long (iL 1), .long (iL 60)]) (rest := []) (cs' := 0) (sl' := 0) (n_isIn G.fl (v := term) (a := 1) (b := 60) ⟨by omega, by omega⟩ ⟨by decide, by decide⟩ ⟨by decide, by decide⟩) rfl rfl (Nat.le_of_ble_eq_true rfl) (zRm.ok rfl) dX4_isOffer_49 (fun vq8 hq8 q8 => ?_)
        obtain ⟨_, _⟩ := q8
        subst vq8 hq8
        refine VW.nmI (fun z9 hz9 => ?_)
        have hz9 := ite01 hz9
        show VW θ Q E (zM E A h (sc τ D)) 0 0 52 [(7, .int (iI z0)), (0, .ref (A 0)), (1, .int (iI kind)), (2, .int (iI u)), (3, .int (iI term)), (4, .int (iI b)), (5, .int (iI fl)), (6, .int (iI pts))] [.int (iI z9)]
        refine v_if_eq G 92 ⟨by omega, by omega⟩ (by decide) dX4_isOffer_52 (fun c10 => ?_) (fun c10 => ?_)
        · have gz9 := bF hz9 (by omega)
          refine v_iconst G dX4_isOffer_92 ?_
          exact v_zret G hQ (by decide) ⟨by first | rw [if_pos (hof.mpr (by omega))] | rw [if_neg (fun q => absurd (hof.mp q) (by omega))], rfl⟩ (Nat.le_of_ble_eq_true rfl) (Nat.le_of_ble_eq_true rfl) dX4_isOffer_93
        · have gz9 := bT hz9 (by omega)
          refine v_aload_n G 1 rfl rfl dX4_isOffer_55 ?_
          refine gX4_114 G zM_0 (v := .int (iI (τ 1 0))) rfl dX4_isOffer_56 ?_
          refine v_i2l G ⟨by omega, by omega⟩ dX4_isOffer_59 ?_
          refine v_iload G 5 rfl dX4_isOffer_60 ?_
          refine v_i2l G ⟨by omega, by omega⟩ dX4_isOffer_62 ?_
          refine v_lsub G dX4_isOffer_63 ?_
          refine v_lconst G (n := 0) (v0 := 0) rfl dX4_isOffer_64 ?_
          refine v_iload G 0 rfl dX4_isOffer_65 ?_
          have J11 : ∀ (mx : Int), (mx = MX) → (30 ≤ mx ∧ mx ≤ 80) → VW θ Q E (zM E A h (sc τ D)) 0 0 86 [(7, .int (iI z0)), (0, .ref (A 0)), (1, .int (iI kind)), (2, .int (iI u)), (3, .int (iI term)), (4, .int (iI b)), (5, .int (iI fl)), (6, .int (iI pts))] [.long (iL mx), .long (iL 0), .long (iL ((τ 1 0) - b))] := by
            intro mx hmx hmx2
            refine kX4_168 G (As := [.long (iL ((τ 1 0) - b)), .long (iL 0), .long (iL mx)]) (rest := []) (cs' := 0) (sl' := 0) (n_isIn G.fl (v := ((τ 1 0) - b)) (a := 0) (b := mx) ⟨by omega, by omega⟩ ⟨by decide, by decide⟩ ⟨by omega, by omega⟩) rfl rfl (Nat.le_of_ble_eq_true rfl) (zRm.ok rfl) dX4_isOffer_86 (fun vq12 hq12 q12 => ?_)
            obtain ⟨_, _⟩ := q12
            subst vq12 hq12
            refine VW.nmI (fun z13 hz13 => ?_)
            have hz13 := ite01 hz13
            show VW θ Q E (zM E A h (sc τ D)) 0 0 89 [(7, .int (iI z0)), (0, .ref (A 0)), (1, .int (iI kind)), (2, .int (iI u)), (3, .int (iI term)), (4, .int (iI b)), (5, .int (iI fl)), (6, .int (iI pts))] [.int (iI z13)]
            refine v_if_ne G 94 ⟨by omega, by omega⟩ (by decide) dX4_isOffer_89 (fun c14 => ?_) (fun c14 => ?_)
            · have gz13 := bT hz13 (by omega)
              refine v_iload G 6 rfl dX4_isOffer_94 ?_
              refine v_i2l G ⟨by omega, by omega⟩ dX4_isOffer_96 ?_
              refine v_lconst G (n := 0) (v0 := 0) rfl dX4_isOffer_97 ?_
              have J15 : ∀ (fx : Int), (fx = FX) → (3 ≤ fx ∧ fx ≤ 7) → VW θ Q E (zM E A h (sc τ D)) 0 0 112 [(7, .int (iI z0)), (0, .ref (A 0)), (1, .int (iI kind)), (2, .int (iI u)), (3, .int (iI term)), (4, .int (iI b)), (5, .int (iI fl)), (6, .int (iI pts))] [.long (iL fx), .long (iL 0), .long (iL fl)] := by
                intro fx hfx hfx2
                refine kX4_168 G (As := [.long (iL fl), .long (iL 0), .long (iL fx)]) (rest := []) (cs' := 0) (sl' := 0) (n_isIn G.fl (v := fl) (a := 0) (b := fx) ⟨by omega, by omega⟩ ⟨by decide, by decide⟩ ⟨by omega, by omega⟩) rfl rfl (Nat.le_of_ble_eq_true rfl) (zRm.ok rfl) dX4_isOffer_112 (fun vq16 hq16 q16 => ?_)
                obtain ⟨_, _⟩ := q16
                subst vq16 hq16
                refine VW.nmI (fun z17 hz17 => ?_)
                have hz17 := ite01 hz17
                show VW θ Q E (zM E A h (sc τ D)) 0 0 115 [(7, .int (iI z0)), (0, .ref (A 0)), (1, .int (iI kind)), (2, .int (iI u)), (3, .int (iI term)), (4, .int (iI b)), (5, .int (iI fl)), (6, .int (iI pts))] [.int (iI z17)]
                refine v_if_eq G 135 ⟨by omega, by omega⟩ (by decide) dX4_isOffer_115 (fun c18 => ?_) (fun c18 => ?_)
                · have gz17 := bF hz17 (by omega)
                  refine v_iconst G dX4_isOffer_135 ?_
                  exact v_zret G hQ (by decide) ⟨by first | rw [if_pos (hof.mpr (by omega))] | rw [if_neg (fun q => absurd (hof.mp q) (by omega))], rfl⟩ (Nat.le_of_ble_eq_true rfl) (Nat.le_of_ble_eq_true rfl) dX4_isOffer_136
                · have gz17 := bT hz17 (by omega)
                  refine v_iload G 7 rfl dX4_isOffer_118 ?_
                  refine v_i2l G ⟨by omega, by omega⟩ dX4_isOffer_120 ?_
                  refine v_lconst G (n := 0) (v0 := 0) rfl dX4_isOffer_121 ?_
                  refine v_ldc2 G (v := 300) q2242 rfl dX4_isOffer_122 ?_
                  refine kX4_168 G (As := [.long (iL pts), .long (iL 0), .long (iL 300)]) (rest := []) (cs' := 0) (sl' := 0) (n_isIn G.fl (v := pts) (a := 0) (b := 300) ⟨by omega, by omega⟩ ⟨by decide, by decide⟩ ⟨by decide, by decide⟩) rfl rfl (Nat.le_of_ble_eq_true rfl) (zRm.ok rfl) dX4_isOffer_125 (fun vq19 hq19 q19 => ?_)
                  obtain ⟨_, _⟩ := q19
                  subst vq19 hq19
                  refine VW.nmI (fun z20 hz20 => ?_)
                  have hz20 := ite01 hz20
                  show VW θ Q E (zM E A h (sc τ D)) 0 0 128 [(7, .int (iI z0)), (0, .ref (A 0)), (1, .int (iI kind)), (2, .int (iI u)), (3, .int (iI term)), (4, .int (iI b)), (5, .int (iI fl)), (6, .int (iI pts))] [.int (iI z20)]
                  refine v_if_eq G 135 ⟨by omega, by omega⟩ (by decide) dX4_isOffer_128 (fun c21 => ?_) (fun c21 => ?_)
                  · have gz20 := bF hz20 (by omega)
                    refine v_iconst G dX4_isOffer_135 ?_
                    exact v_zret G hQ (by decide) ⟨by first | rw [if_pos (hof.mpr (by omega))] | rw [if_neg (fun q => absurd (hof.mp q) (by omega))], rfl⟩ (Nat.le_of_ble_eq_true rfl) (Nat.le_of_ble_eq_true rfl) dX4_isOffer_136
                  · have gz20 := bT hz20 (by omega)
                    refine v_iconst G dX4_isOffer_131 ?_
                    refine v_goto G 136 (by decide) dX4_isOffer_132 ?_
                    exact v_zret G hQ (by decide) ⟨by first | rw [if_pos (hof.mpr (by omega))] | rw [if_neg (fun q => absurd (hof.mp q) (by omega))], rfl⟩ (Nat.le_of_ble_eq_true rfl) (Nat.le_of_ble_eq_true rfl) dX4_isOffer_136
              refine v_iload_n G 2 rfl rfl dX4_isOffer_98 ?_
              refine v_iconst G dX4_isOffer_99 ?_
              refine v_icmp_gt G 109 ⟨by omega, by omega⟩ ⟨by decide, by decide⟩ (by decide) dX4_isOffer_100 (fun c22 => ?_) (fun c22 => ?_)
              · refine v_ldc2 G (v := 3) q2188 rfl dX4_isOffer_109 ?_
                exact J15 3 (by omega) ⟨by omega, by omega⟩
              · refine v_ldc2 G (v := 7) q2241 rfl dX4_isOffer_103 ?_
                refine v_goto G 112 (by decide) dX4_isOffer_106 ?_
                exact J15 7 (by omega) ⟨by omega, by omega⟩
            · have gz13 := bF hz13 (by omega)
              refine v_iconst G dX4_isOffer_92 ?_
              exact v_zret G hQ (by decide) ⟨by first | rw [if_pos (hof.mpr (by omega))] | rw [if_neg (fun q => absurd (hof.mp q) (by omega))], rfl⟩ (Nat.le_of_ble_eq_true rfl) (Nat.le_of_ble_eq_true rfl) dX4_isOffer_93
          refine v_if_eq G 83 ⟨by omega, by omega⟩ (by decide) dX4_isOffer_67 (fun c23 => ?_) (fun c23 => ?_)
          · refine v_ldc2 G (v := 80) q2240 rfl dX4_isOffer_83 ?_
            exact J11 80 (by omega) ⟨by omega, by omega⟩
          · refine v_bipush G rfl dX4_isOffer_70 ?_
            refine v_bipush G rfl dX4_isOffer_72 ?_
            refine v_iload_n G 4 rfl rfl dX4_isOffer_74 ?_
            refine v_isub G dX4_isOffer_75 ?_
            refine kX4_188 G (As := [.int (iI 80), .int (iI (110 - term))]) (rest := [.long (iL 0), .long (iL ((τ 1 0) - b))]) (cs' := 0) (sl' := 0) (m_minI G.fl (a := 80) (b := (110 - term)) ⟨by decide, by decide⟩ ⟨by omega, by omega⟩) rfl rfl (Nat.le_of_ble_eq_true rfl) (zRm.ok rfl) dX4_isOffer_76 (fun vq25 hq25 q25 => ?_)
            obtain ⟨_, _⟩ := q25
            subst vq25 hq25
            show VW θ Q E (zM E A h (sc τ D)) 0 0 79 [(7, .int (iI z0)), (0, .ref (A 0)), (1, .int (iI kind)), (2, .int (iI u)), (3, .int (iI term)), (4, .int (iI b)), (5, .int (iI fl)), (6, .int (iI pts))] [.int (iI (min 80 (110 - term))), .long (iL 0), .long (iL ((τ 1 0) - b))]
            refine v_i2l G ⟨by omega, by omega⟩ dX4_isOffer_79 ?_
            refine v_goto G 86 (by decide) dX4_isOffer_80 ?_
            exact J11 (min 80 (110 - term)) (by omega) ⟨by omega, by omega⟩
  refine v_iload_n G 1 rfl rfl dX4_isOffer_0 ?_
  refine v_iconst G dX4_isOffer_1 ?_
  refine v_icmp_eq G 10 ⟨by omega, by omega⟩ ⟨by decide, by decide⟩ (by decide) dX4_isOffer_2 (fun c26 => ?_) (fun c26 => ?_)
  · refine v_iconst G dX4_isOffer_10 ?_
    refine v_goto G 15 (by decide) dX4_isOffer_11 ?_
    exact J1 1 (by omega)
  · refine v_iload_n G 1 rfl rfl dX4_isOffer_5 ?_
    refine v_iconst G dX4_isOffer_6 ?_
    refine v_icmp_ne G 14 ⟨by omega, by omega⟩ ⟨by decide, by decide⟩ (by decide) dX4_isOffer_7 (fun c27 => ?_) (fun c27 => ?_)
    · refine v_iconst G dX4_isOffer_14 ?_
      exact J1 0 (by omega)
    · refine v_iconst G dX4_isOffer_10 ?_
      refine v_goto G 15 (by decide) dX4_isOffer_11 ?_
      exact J1 1 (by omega)

set_option maxHeartbeats 4000000 in
theorem n_prem {l : Launch} (hfl : l.stackTraces = false) {E : zEn} {h : zHp} {A : Nat → Nat} {τ D : mMem} (hA : mInj A) (H : okE τ) {kind u term b fl pts : Int} (hof : ofT τ kind u term b fl pts)  : CN l E yX4_premiumOf (ws_ yX4_premiumOf cX4_premiumOf 7 (some FieldType.long)) ({ frames := 3, cells := 0, slots := 0, locals := 94 } : Room) [.ref (A 0), .int (iI kind), .int (iI u), .int (iI term), .int (iI b), .int (iI fl), .int (iI pts)] (zM E A h (sc τ D)) (zS E A h τ (some (.long (iL (pmT τ kind u term b fl pts)))) (kp D)) := by
  refine CN.of (by decide +kernel) hfl (Nat.le_of_ble_eq_true rfl) fun θ Q hl G hin hQ => ?_
  subst hl
  show VW θ Q E (zM E A h (sc τ D)) 0 0 0 [(0, .ref (A 0)), (1, .int (iI kind)), (2, .int (iI u)), (3, .int (iI term)), (4, .int (iI b)), (5, .int (iI fl)), (6, .int (iI pts))] []
  have hM := of_M H hof
  have m9 := hM.1
  unfold okM at m9
  have o9 := hof
  have n9 := H.2.2.1
  have y9 := H.1
  refine v_aload_n G 0 rfl rfl dX4_premiumOf_0 ?_
  refine v_iload_n G 1 rfl rfl dX4_premiumOf_1 ?_
  refine v_iload G 5 rfl dX4_premiumOf_2 ?_
  refine v_iload G 4 rfl dX4_premiumOf_4 ?_
  refine v_iload G 6 rfl dX4_premiumOf_6 ?_
  refine v_aload_n G 0 rfl rfl dX4_premiumOf_8 ?_
  refine gX4_114 G zM_0 (v := .int (iI (τ 1 0))) rfl dX4_premiumOf_9 ?_
  refine v_aload_n G 0 rfl rfl dX4_premiumOf_12 ?_
  refine v_iload_n G 1 rfl rfl dX4_premiumOf_13 ?_
  refine v_iload_n G 3 rfl rfl dX4_premiumOf_14 ?_
  refine v_iload G 4 rfl dX4_premiumOf_15 ?_
  refine kX4_370 G (As := [.int (iI kind), .int (iI term), .int (iI b)]) (rest := [.int (iI (τ 1 0)), .int (iI pts), .int (iI b), .int (iI fl), .int (iI kind), .ref (A 0)]) (cs' := 0) (sl' := 0) (n_endOf G.fl (τ := τ) (D := D) hA (kind := kind) (term := term) (b := b) ⟨by omega, by omega⟩) (zRcv.of G (q := (RX4, TX4, 55)) rfl zM_0) rfl rfl (Nat.le_of_ble_eq_true rfl) (zRm.ok rfl) dX4_premiumOf_17 (fun vq1 hq1 q1 => ?_)
  obtain ⟨_, _⟩ := q1
  subst vq1 hq1
  show VW θ Q E (zM E A h (sc τ D)) 0 0 20 [(0, .ref (A 0)), (1, .int (iI kind)), (2, .int (iI u)), (3, .int (iI term)), (4, .int (iI b)), (5, .int (iI fl)), (6, .int (iI pts))] [.int (iI (enT τ kind term b)), .int (iI (τ 1 0)), .int (iI pts), .int (iI b), .int (iI fl), .int (iI kind), .ref (A 0)]
  refine v_aload_n G 0 rfl rfl dX4_premiumOf_20 ?_
  refine gX4_114 G zM_0 (v := .int (iI (τ 1 0))) rfl dX4_premiumOf_21 ?_
  refine v_iconst G dX4_premiumOf_24 ?_
  refine kX4_223 G (As := [.int (iI kind), .int (iI fl), .int (iI b), .int (iI pts), .int (iI (τ 1 0)), .int (iI (enT τ kind term b)), .int (iI (τ 1 0)), .int (iI 0)]) (rest := []) (cs' := 0) (sl' := 0) (n_runs G.fl (τ := τ) (D := D) hA (kind := kind) (fl := fl) (b := b) (pts := pts) (st := (τ 1 0)) (e := (enT τ kind term b)) (y := (τ 1 0)) (law := 0) ⟨by omega, by omega⟩ hM.1 ⟨by omega, by omega⟩) (zRcv.of G (q := (RX4, TX4, 55)) rfl zM_0) rfl rfl (Nat.le_of_ble_eq_true rfl) (zRm.ok rfl) dX4_premiumOf_25 (fun vq2 hq2 q2 => ?_)
  obtain ⟨_, D3, hD3, _⟩ := q2
  subst vq2 hq2
  show VW θ Q E (zM E A h (sc τ D3)) 0 0 28 [(0, .ref (A 0)), (1, .int (iI kind)), (2, .int (iI u)), (3, .int (iI term)), (4, .int (iI b)), (5, .int (iI fl)), (6, .int (iI pts))] []
  have hb := of_bd H hof hD3
  have k4 := hD3.2.1.1
  have k5 := hD3.2.1.2.1
  have k6 := hD3.2.1.2.2
  have nb := net_bd (kind := kind) (u := u) (by omega) hb.1 hb.2.1 hb.2.2
  refine v_aload_n G 0 rfl rfl dX4_premiumOf_28 ?_
  refine v_iload_n G 1 rfl rfl dX4_premiumOf_29 ?_
  refine v_iload_n G 2 rfl rfl dX4_premiumOf_30 ?_
  refine v_i2l G ⟨by omega, by omega⟩ dX4_premiumOf_31 ?_
  refine kX4_230 G (As := [.int (iI kind), .long (iL u)]) (rest := []) (cs' := 0) (sl' := 0) (n_netOf G.fl (τ := τ) (D := D3) hA (kind := kind) (u := u) ⟨by omega, by omega⟩ ⟨by omega, by omega⟩ ⟨by omega, by omega⟩ ⟨by omega, by omega⟩ ⟨by omega, by omega⟩) (zRcv.of G (q := (RX4, TX4, 55)) rfl zM_0) rfl rfl (Nat.le_of_ble_eq_true rfl) (zRm.ok rfl) dX4_premiumOf_32 (fun vq4 hq4 q4 => ?_)
  obtain ⟨_, _⟩ := q4
  subst vq4 hq4
  show VW θ Q E (zM E A h (sc τ D3)) 0 0 35 [(0, .ref (A 0)), (1, .int (iI kind)), (2, .int (iI u)), (3, .int (iI term)), (4, .int (iI b)), (5, .int (iI fl)), (6, .int (iI pts))] [.long (iL (netS kind u (D3 48 0) (D3 49 0) (D3 50 0)))]
  have e1 := mul_bd2 nb (show 0 ≤ 1000 + τ 3 0 ∧ 1000 + τ 3 0 ≤ 1500 by omega)
  refine v_sipush G rfl dX4_premiumOf_35 ?_
  refine v_aload_n G 0 rfl rfl dX4_premiumOf_38 ?_
  refine gX4_124 G zM_0 (v := .int (iI (τ 3 0))) rfl dX4_premiumOf_39 ?_
  refine v_iadd G dX4_premiumOf_42 ?_
  refine v_i2l G ⟨by omega, by omega⟩ dX4_premiumOf_43 ?_
  refine v_lmul G dX4_premiumOf_44 ?_
  refine v_ldc2 G (v := 1000) q2190 rfl dX4_premiumOf_45 ?_
  refine v_ldiv G ⟨by omega, by omega⟩ ⟨by decide, by decide⟩ dX4_premiumOf_48 ?_
  refine v_aload_n G 0 rfl rfl dX4_premiumOf_49 ?_
  refine gX4_127 G zM_0 (v := .int (iI (τ 4 0))) rfl dX4_premiumOf_50 ?_
  refine v_i2l G ⟨by omega, by omega⟩ dX4_premiumOf_53 ?_
  refine v_ladd G dX4_premiumOf_54 ?_
  exact v_lret G hQ ⟨by unfold pmT; rw [← k4, ← k5, ← k6], D3, hD3.2.2, rfl⟩ (Nat.le_of_ble_eq_true rfl) (Nat.le_of_ble_eq_true rfl) dX4_premiumOf_55

set_option maxHeartbeats 4000000 in
theorem n_founds {l : Launch} (hfl : l.stackTraces = false) {E : zEn} {h : zHp} {A : Nat → Nat} {τ D : mMem} (hA : mInj A) {y c : Int} (hc : n32 c)  : CN l E yX4_founds (ws_ yX4_founds cX4_founds 4 none) ({ frames := 0, cells := 0, slots := 0, locals := 0 } : Room) [.ref (A 0), .int (iI y), .int (iI c)] (zM E A h (sc τ D)) (zV (zM E A h (sc (fdS τ y c) D))) := by
  refine CN.of (by decide +kernel) hfl (Nat.le_of_ble_eq_true rfl) fun θ Q hl G hin hQ => ?_
  subst hl
  show VW θ Q E (zM E A h (sc τ D)) 0 0 0 [(0, .ref (A 0)), (1, .int (iI y)), (2, .int (iI c))] []
  refine v_aload_n G 0 rfl rfl dX4_founds_0 ?_
  refine v_iload_n G 1 rfl rfl dX4_founds_1 ?_
  refine pX4_114 G zM_0 (Nat.le_of_ble_eq_true rfl) dX4_founds_2 ?_
  refine VW.hpe (zM_up0 (k := 1) (z := y) rfl (by decide)) ?_
  refine VW.hpe (congrArg (zM E A h) (sc_t (k := 1) rfl)) ?_
  refine v_aload_n G 0 rfl rfl dX4_founds_5 ?_
  refine v_iload_n G 2 rfl rfl dX4_founds_6 ?_
  refine v_i2l G ⟨by omega, by omega⟩ dX4_founds_7 ?_
  refine pX4_117 G zM_0 (Nat.le_of_ble_eq_true rfl) dX4_founds_8 ?_
  refine VW.hpe (zM_up0 (k := 14) (z := c) rfl (by decide)) ?_
  refine VW.hpe (congrArg (zM E A h) (sc_t (k := 14) rfl)) ?_
  refine v_aload_n G 0 rfl rfl dX4_founds_11 ?_
  refine v_iconst G dX4_founds_12 ?_
  refine pX4_121 G zM_0 (Nat.le_of_ble_eq_true rfl) dX4_founds_13 ?_
  refine VW.hpe (zM_up0 (k := 2) (z := 5) rfl (by decide)) ?_
  refine VW.hpe (congrArg (zM E A h) (sc_t (k := 2) rfl)) ?_
  refine v_aload_n G 0 rfl rfl dX4_founds_16 ?_
  refine v_bipush G rfl dX4_founds_17 ?_
  refine pX4_124 G zM_0 (Nat.le_of_ble_eq_true rfl) dX4_founds_19 ?_
  refine VW.hpe (zM_up0 (k := 3) (z := 100) rfl (by decide)) ?_
  refine VW.hpe (congrArg (zM E A h) (sc_t (k := 3) rfl)) ?_
  refine v_aload_n G 0 rfl rfl dX4_founds_22 ?_
  refine v_bipush G rfl dX4_founds_23 ?_
  refine pX4_127 G zM_0 (Nat.le_of_ble_eq_true rfl) dX4_founds_25 ?_
  refine VW.hpe (zM_up0 (k := 4) (z := 10) rfl (by decide)) ?_
  refine VW.hpe (congrArg (zM E A h) (sc_t (k := 4) rfl)) ?_
  refine v_aload_n G 0 rfl rfl dX4_founds_28 ?_
  refine v_bipush G rfl dX4_founds_29 ?_
  refine pX4_130 G zM_0 (Nat.le_of_ble_eq_true rfl) dX4_founds_31 ?_
  refine VW.hpe (zM_up0 (k := 5) (z := 10) rfl (by decide)) ?_
  refine VW.hpe (congrArg (zM E A h) (sc_t (k := 5) rfl)) ?_
  refine v_aload_n G 0 rfl rfl dX4_founds_34 ?_
  refine v_iconst G dX4_founds_35 ?_
  refine pX4_133 G zM_0 (Nat.le_of_ble_eq_true rfl) dX4_founds_36 ?_
  refine VW.hpe (zM_up0 (k := 6) (z := 0) rfl (by decide)) ?_
  refine VW.hpe (congrArg (zM E A h) (sc_t (k := 6) rfl)) ?_
  refine v_aload_n G 0 rfl rfl dX4_founds_39 ?_
  refine v_iconst G dX4_founds_40 ?_
  refine pX4_136 G zM_0 (Nat.le_of_ble_eq_true rfl) dX4_founds_41 ?_
  refine VW.hpe (zM_up0 (k := 7) (z := 0) rfl (by decide)) ?_
  refine VW.hpe (congrArg (zM E A h) (sc_t (k := 7) rfl)) ?_
  refine v_aload_n G 0 rfl rfl dX4_founds_44 ?_
  refine v_ldc G (v := 100000) q1960 rfl dX4_founds_45 ?_
  refine pX4_140 G zM_0 (Nat.le_of_ble_eq_true rfl) dX4_founds_47 ?_
  refine VW.hpe (zM_up0 (k := 8) (z := 100000) rfl (by decide)) ?_
  refine VW.hpe (congrArg (zM E A h) (sc_t (k := 8) rfl)) ?_
  refine v_aload_n G 0 rfl rfl dX4_founds_50 ?_
  refine v_iconst G dX4_founds_51 ?_
  refine pX4_143 G zM_0 (Nat.le_of_ble_eq_true rfl) dX4_founds_52 ?_
  refine VW.hpe (zM_up0 (k := 9) (z := 0) rfl (by decide)) ?_
  refine VW.hpe (congrArg (zM E A h) (sc_t (k := 9) rfl)) ?_
  refine v_aload_n G 0 rfl rfl dX4_founds_55 ?_
  refine v_iconst G dX4_founds_56 ?_
  refine pX4_146 G zM_0 (Nat.le_of_ble_eq_true rfl) dX4_founds_57 ?_
  refine VW.hpe (zM_up0 (k := 10) (z := 0) rfl (by decide)) ?_
  refine VW.hpe (congrArg (zM E A h) (sc_t (k := 10) rfl)) ?_
  refine v_aload_n G 0 rfl rfl dX4_founds_60 ?_
  refine v_iconst G dX4_founds_61 ?_
  refine pX4_149 G zM_0 (Nat.le_of_ble_eq_true rfl) dX4_founds_62 ?_
  refine VW.hpe (zM_up0 (k := 11) (z := 0) rfl (by decide)) ?_
  refine VW.hpe (congrArg (zM E A h) (sc_t (k := 11) rfl)) ?_
  refine v_aload_n G 0 rfl rfl dX4_founds_65 ?_
  refine v_iconst G dX4_founds_66 ?_
  refine pX4_152 G (by decide) zM_0 (Nat.le_of_ble_eq_true rfl) dX4_founds_67 ?_
  refine VW.hpe (zM_up0 (k := 12) (z := 0) rfl (by decide)) ?_
  refine VW.hpe (congrArg (zM E A h) (sc_t (k := 12) rfl)) ?_
  refine v_aload_n G 0 rfl rfl dX4_founds_70 ?_
  refine v_iconst G dX4_founds_71 ?_
  refine pX4_156 G (by decide) zM_0 (Nat.le_of_ble_eq_true rfl) dX4_founds_72 ?_
  refine VW.hpe (zM_up0 (k := 13) (z := 0) rfl (by decide)) ?_
  refine VW.hpe (congrArg (zM E A h) (sc_t (k := 13) rfl)) ?_
  refine v_aload_n G 0 rfl rfl dX4_founds_75 ?_
  refine v_lconst G (n := 0) (v0 := 0) rfl dX4_founds_76 ?_
  refine pX4_159 G zM_0 (Nat.le_of_ble_eq_true rfl) dX4_founds_77 ?_
  refine VW.hpe (zM_up0 (k := 15) (z := 0) rfl (by decide)) ?_
  refine VW.hpe (congrArg (zM E A h) (sc_t (k := 15) rfl)) ?_
  refine v_aload_n G 0 rfl rfl dX4_founds_80 ?_
  refine v_lconst G (n := 0) (v0 := 0) rfl dX4_founds_81 ?_
  refine pX4_162 G zM_0 (Nat.le_of_ble_eq_true rfl) dX4_founds_82 ?_
  refine VW.hpe (zM_up0 (k := 16) (z := 0) rfl (by decide)) ?_
  refine VW.hpe (congrArg (zM E A h) (sc_t (k := 16) rfl)) ?_
  refine v_aload_n G 0 rfl rfl dX4_founds_85 ?_
  refine v_lconst G (n := 0) (v0 := 0) rfl dX4_founds_86 ?_
  refine pX4_165 G zM_0 (Nat.le_of_ble_eq_true rfl) dX4_founds_87 ?_
  refine VW.hpe (zM_up0 (k := 17) (z := 0) rfl (by decide)) ?_
  refine VW.hpe (congrArg (zM E A h) (sc_t (k := 17) rfl)) ?_
  refine v_iconst G dX4_founds_90 ?_
  refine v_istore_n G (L' := [(3, .int (iI 0)), (0, .ref (A 0)), (1, .int (iI y)), (2, .int (iI c))]) rfl (Nat.le_of_ble_eq_true rfl) rfl dX4_founds_91 ?_
  have P1 : ∀ (n : Nat) (k : Int) (t : mMem), (0 ≤ k ∧ k ≤ 3) → (t = fdL (fdA τ y c) k.toNat) → (3 - k).toNat < n → VW θ Q E (zM E A h (sc t D)) 0 0 92 [(0, .ref (A 0)), (3, .int (iI k))] [] := by
    intro n
    induction n with
    | zero => intros; omega
    | succ n P1ih =>
      intro k t hk ht hn
      refine v_iload_n G 1 rfl rfl dX4_founds_92 ?_
      refine v_iconst G dX4_founds_93 ?_
      refine v_icmp_ge G 144 ⟨by omega, by omega⟩ ⟨by decide, by decide⟩ (by decide) dX4_founds_94 (fun c2 => ?_) (fun c2 => ?_)
      · obtain rfl : k = 3 := by omega
        refine v_iconst G dX4_founds_144 ?_
        refine v_istore_n G (L' := [(3, .int (iI 0)), (0, .ref (A 0))]) rfl (Nat.le_of_ble_eq_true rfl) rfl dX4_founds_145 ?_
        have P3 : ∀ (n : Nat) (k : Int) (t2 : mMem), (0 ≤ k ∧ k ≤ 9) → (t2 = fdM (fdL (fdA τ y c) 3) k.toNat) → (9 - k).toNat < n → VW θ Q E (zM E A h (sc t2 D)) 0 0 146 [(0, .ref (A 0)), (3, .int (iI k))] [] := by
          intro n
          induction n with
          | zero => intros; omega
          | succ n P3ih =>
            intro k t2 hk ht2 hn
            refine v_iload_n G 1 rfl rfl dX4_founds_146 ?_
            refine v_bipush G rfl dX4_founds_147 ?_
            refine v_icmp_ge G 172 ⟨by omega, by omega⟩ ⟨by decide, by decide⟩ (by decide) dX4_founds_149 (fun c4 => ?_) (fun c4 => ?_)
            · obtain rfl : k = 9 := by omega
              exact v_vret G hQ ⟨rfl, by rw [ht2]; rfl⟩ (Nat.le_of_ble_eq_true rfl) (Nat.le_of_ble_eq_true rfl) dX4_founds_172
            · refine v_aload_n G 0 rfl rfl dX4_founds_152 ?_
              refine gX4_24 G zM_0 (v := .ref (A 21)) rfl dX4_founds_153 ?_
              refine v_iload_n G 1 rfl rfl dX4_founds_156 ?_
              refine v_lconst G (n := 0) (v0 := 0) rfl dX4_founds_157 ?_
              refine m_lst G hA rfl ⟨by omega, by show _ < (9 : Int); omega⟩ dX4_founds_158 ?_
              refine VW.hpe (congrArg (zM E A h) (sc_t (k := 21) rfl)) ?_
              refine v_aload_n G 0 rfl rfl dX4_founds_159 ?_
              refine gX4_28 G zM_0 (v := .ref (A 22)) rfl dX4_founds_160 ?_
              refine v_iload_n G 1 rfl rfl dX4_founds_163 ?_
              refine v_lconst G (n := 0) (v0 := 0) rfl dX4_founds_164 ?_
              refine m_lst G hA rfl ⟨by omega, by show _ < (9 : Int); omega⟩ dX4_founds_165 ?_
              refine VW.hpe (congrArg (zM E A h) (sc_t (k := 22) rfl)) ?_
              refine v_iinc G (L' := [(3, .int (iI (k + 1))), (0, .ref (A 0))]) 1 rfl (Nat.le_of_ble_eq_true rfl) rfl dX4_founds_166 ?_
              refine v_goto G 146 (by decide) dX4_founds_169 ?_
              refine VW.pick (L2 := [(0, .ref (A 0)), (3, .int (iI (k + 1)))]) [1, 0] rfl ?_
              exact P3ih (k + 1) (st2 (st2 t2 21 k 0) 22 k 0) ⟨by omega, by omega⟩ (by rw [fdM_s hk.1, ← ht2]) (by omega)
        refine VW.pick (L2 := [(0, .ref (A 0)), (3, .int (iI 0))]) [1, 0] rfl ?_
        exact P3 _ 0 t ⟨by omega, by omega⟩ ht (Nat.lt_succ_self _)
      · refine v_aload_n G 0 rfl rfl dX4_founds_97 ?_
        refine gX4_13 G zM_0 (v := .ref (A 18)) rfl dX4_founds_98 ?_
        refine v_iload_n G 1 rfl rfl dX4_founds_101 ?_
        refine v_bipush G rfl dX4_founds_102 ?_
        refine v_bipush G rfl dX4_founds_104 ?_
        refine v_iload_n G 1 rfl rfl dX4_founds_106 ?_
        refine v_imul G dX4_founds_107 ?_
        refine v_isub G dX4_founds_108 ?_
        refine m_ast G hA rfl ⟨by omega, by show _ < (3 : Int); omega⟩ dX4_founds_109 ?_
        refine VW.hpe (congrArg (zM E A h) (sc_t (k := 18) rfl)) ?_
        refine v_aload_n G 0 rfl rfl dX4_founds_110 ?_
        refine gX4_17 G zM_0 (v := .ref (A 19)) rfl dX4_founds_111 ?_
        refine v_iload_n G 1 rfl rfl dX4_founds_114 ?_
        refine v_bipush G rfl dX4_founds_115 ?_
        refine v_bipush G rfl dX4_founds_117 ?_
        refine v_iload_n G 1 rfl rfl dX4_founds_119 ?_
        refine v_imul G dX4_founds_120 ?_
        refine v_iadd G dX4_founds_121 ?_
        refine m_ast G hA rfl ⟨by omega, by show _ < (3 : Int); omega⟩ dX4_founds_122 ?_
        refine VW.hpe (congrArg (zM E A h) (sc_t (k := 19) rfl)) ?_
        refine v_aload_n G 0 rfl rfl dX4_founds_123 ?_
        refine gX4_20 G zM_0 (v := .ref (A 20)) rfl dX4_founds_124 ?_
        refine v_iload_n G 1 rfl rfl dX4_founds_127 ?_
        refine v_iload_n G 1 rfl rfl dX4_founds_128 ?_
        refine v_if_le G 136 ⟨by omega, by omega⟩ (by decide) dX4_founds_129 (fun c5 => ?_) (fun c5 => ?_)
        · refine v_iconst G dX4_founds_136 ?_
          refine m_zst G hA rfl (by decide) ⟨by omega, by show _ < (3 : Int); omega⟩ dX4_founds_137 ?_
          refine VW.hpe (congrArg (zM E A h) (sc_t (k := 20) rfl)) ?_
          refine v_iinc G (L' := [(3, .int (iI (k + 1))), (0, .ref (A 0))]) 1 rfl (Nat.le_of_ble_eq_true rfl) rfl dX4_founds_138 ?_
          refine v_goto G 92 (by decide) dX4_founds_141 ?_
          refine VW.pick (L2 := [(0, .ref (A 0)), (3, .int (iI (k + 1)))]) [1, 0] rfl ?_
          exact P1ih (k + 1) (st2 (st2 (st2 t 18 k (30 - (10 * k))) 19 k (100 + (10 * k))) 20 k 0) ⟨by omega, by omega⟩ (by rw [fdL_s hk.1, ← ht]; first | rw [if_pos (by omega)] | rw [if_neg (by omega)]) (by omega)
        · refine v_iconst G dX4_founds_132 ?_
          refine v_goto G 137 (by decide) dX4_founds_133 ?_
          refine m_zst G hA rfl (by decide) ⟨by omega, by show _ < (3 : Int); omega⟩ dX4_founds_137 ?_
          refine VW.hpe (congrArg (zM E A h) (sc_t (k := 20) rfl)) ?_
          refine v_iinc G (L' := [(3, .int (iI (k + 1))), (0, .ref (A 0))]) 1 rfl (Nat.le_of_ble_eq_true rfl) rfl dX4_founds_138 ?_
          refine v_goto G 92 (by decide) dX4_founds_141 ?_
          refine VW.pick (L2 := [(0, .ref (A 0)), (3, .int (iI (k + 1)))]) [1, 0] rfl ?_
          exact P1ih (k + 1) (st2 (st2 (st2 t 18 k (30 - (10 * k))) 19 k (100 + (10 * k))) 20 k 1) ⟨by omega, by omega⟩ (by rw [fdL_s hk.1, ← ht]; first | rw [if_pos (by omega)] | rw [if_neg (by omega)]) (by omega)
  refine VW.pick (L2 := [(0, .ref (A 0)), (3, .int (iI 0))]) [1, 0] rfl ?_
  exact P1 _ 0 (st2 (st2 (st2 (st2 (st2 (st2 (st2 (st2 (st2 (st2 (st2 (st2 (st2 (st2 (st2 (st2 (st2 τ 1 0 y) 14 0 c) 2 0 5) 3 0 100) 4 0 10) 5 0 10) 6 0 0) 7 0 0) 8 0 100000) 9 0 0) 10 0 0) 11 0 0) 12 0 0) 13 0 0) 15 0 0) 16 0 0) 17 0 0) ⟨by omega, by omega⟩ rfl (Nat.lt_succ_self _)

