/-! WALKS: the reference: a year -/
set_option maxRecDepth 100000
set_option maxHeartbeats 4000000 in
theorem n_begins {l : Launch} (hfl : l.stackTraces = false) {E : zEn} {h : zHp} {A : Nat → Nat} {τ D : mMem} (hA : mInj A) {p : Int} (hp : 0 ≤ p ∧ p < 24) (ho : okP1 τ p) (hw : okLaw τ 0) (hr : (0 ≤ τ 8 0 ∧ τ 8 0 ≤ 1000000) ∧ (0 ≤ τ 9 0 ∧ τ 9 0 ≤ 1000)) (hyr : τ 27 p ≤ τ 1 0 ∧ τ 1 0 < τ 28 p ∧ 1900 ≤ τ 1 0 ∧ τ 1 0 ≤ 2150) {j x : Int} (hj : 0 ≤ j ∧ j ≤ 100) (hxx : 0 ≤ x ∧ x ≤ 1000)  : CN l E yX4_begins (ws_ yX4_begins cX4_begins 12 none) ({ frames := 5, cells := 0, slots := 0, locals := 142 } : Room) [.ref (A 0), .int (iI p), .int (iI j), .int (iI x)] (zM E A h (sc τ D)) (zS E A h (bgS τ p j x) none (bgK τ p D)) := by
  refine CN.of (by decide +kernel) hfl (Nat.le_of_ble_eq_true rfl) fun θ Q hl G hin hQ => ?_
  subst hl
  show VW θ Q E (zM E A h (sc τ D)) 0 0 0 [(0, .ref (A 0)), (1, .int (iI p)), (2, .int (iI j)), (3, .int (iI x))] []
  have h9 := ho
  simp only [okP1, okP, tP] at h9
  have w9 := hw
  simp only [okLaw, okW] at w9
  refine v_aload_n G 0 rfl rfl dX4_begins_0 ?_
  refine gX4_97 G zM_0 (v := .ref (A 51)) rfl dX4_begins_1 ?_
  refine v_iload_n G 1 rfl rfl dX4_begins_4 ?_
  refine v_aload_n G 0 rfl rfl dX4_begins_5 ?_
  refine v_iload_n G 1 rfl rfl dX4_begins_6 ?_
  refine v_aload_n G 0 rfl rfl dX4_begins_7 ?_
  refine gX4_114 G zM_0 (v := .int (iI (τ 1 0))) rfl dX4_begins_8 ?_
  refine v_iconst G dX4_begins_11 ?_
  refine kX4_244 G (As := [.int (iI p), .int (iI (τ 1 0)), .int (iI 0)]) (rest := [.int (iI p), .ref (A 51)]) (cs' := 0) (sl' := 0) (n_resAt G.fl (τ := τ) (D := D) hA (p := p) (y := (τ 1 0)) (law := 0) ⟨by omega, by omega⟩ ho ⟨by omega, by omega⟩ hw ⟨by omega, fun _ => by omega, by omega⟩) (zRcv.of G (q := (RX4, TX4, 55)) rfl zM_0) rfl rfl (Nat.le_of_ble_eq_true rfl) (zRm.ok rfl) dX4_begins_12 (fun vq1 hq1 q1 => ?_)
  obtain ⟨_, D1, hD1, _⟩ := q1
  subst vq1 hq1
  show VW θ Q E (zM E A h (sc τ D1)) 0 0 15 [(0, .ref (A 0)), (1, .int (iI p)), (2, .int (iI j)), (3, .int (iI x))] [.long (iL (rsT τ 0 p (τ 1 0))), .int (iI p), .ref (A 51)]
  refine m_lst G hA rfl ⟨by omega, by show _ < (24 : Int); omega⟩ dX4_begins_15 ?_
  refine VW.hpe (congrArg (zM E A h) (sc_D (k := 51) rfl)) ?_
  refine v_aload_n G 0 rfl rfl dX4_begins_16 ?_
  refine gX4_100 G zM_0 (v := .ref (A 52)) rfl dX4_begins_17 ?_
  refine v_iload_n G 1 rfl rfl dX4_begins_20 ?_
  refine v_aload_n G 0 rfl rfl dX4_begins_21 ?_
  refine v_iload_n G 1 rfl rfl dX4_begins_22 ?_
  refine v_aload_n G 0 rfl rfl dX4_begins_23 ?_
  refine gX4_114 G zM_0 (v := .int (iI (τ 1 0))) rfl dX4_begins_24 ?_
  refine kX4_275 G (As := [.int (iI p), .int (iI (τ 1 0))]) (rest := [.int (iI p), .ref (A 52)]) (cs' := 0) (sl' := 0) (n_pays G.fl (τ := τ) (D := st2 D1 51 p (rsT τ 0 p (τ 1 0))) hA (p := p) (y := (τ 1 0)) ⟨by omega, by omega⟩ ho ⟨by omega, by omega⟩) (zRcv.of G (q := (RX4, TX4, 55)) rfl zM_0) rfl rfl (Nat.le_of_ble_eq_true rfl) (zRm.ok rfl) dX4_begins_27 (fun vq2 hq2 q2 => ?_)
  obtain ⟨_, _⟩ := q2
  subst vq2 hq2
  refine VW.nmI (fun z3 hz3 => ?_)
  have hz3 := ite01 hz3
  show VW θ Q E (zM E A h (sc τ (st2 D1 51 p (rsT τ 0 p (τ 1 0))))) 0 0 30 [(0, .ref (A 0)), (1, .int (iI p)), (2, .int (iI j)), (3, .int (iI x))] [.int (iI z3), .int (iI p), .ref (A 52)]
  have J4 : ∀ (nt : Int) (D2 : mMem), (nt = ntT τ p (τ 1 0)) → (kp (st2 D1 51 p (rsT τ 0 p (τ 1 0))) D2) → VW θ Q E (zM E A h (sc τ D2)) 0 0 43 [(0, .ref (A 0)), (1, .int (iI p)), (2, .int (iI j)), (3, .int (iI x))] [.long (iL nt), .int (iI p), .ref (A 52)] := by
    intro nt D2 hnt hk2
    refine m_lst G hA rfl ⟨by omega, by show _ < (24 : Int); omega⟩ dX4_begins_43 ?_
    refine VW.hpe (congrArg (zM E A h) (sc_D (k := 52) rfl)) ?_
    refine v_aload_n G 0 rfl rfl dX4_begins_44 ?_
    refine v_iload_n G 1 rfl rfl dX4_begins_45 ?_
    refine v_aload_n G 0 rfl rfl dX4_begins_46 ?_
    refine gX4_114 G zM_0 (v := .int (iI (τ 1 0))) rfl dX4_begins_47 ?_
    refine kX4_275 G (As := [.int (iI p), .int (iI (τ 1 0))]) (rest := []) (cs' := 0) (sl' := 0) (n_pays G.fl (τ := τ) (D := st2 D2 52 p nt) hA (p := p) (y := (τ 1 0)) ⟨by omega, by omega⟩ ho ⟨by omega, by omega⟩) (zRcv.of G (q := (RX4, TX4, 55)) rfl zM_0) rfl rfl (Nat.le_of_ble_eq_true rfl) (zRm.ok rfl) dX4_begins_50 (fun vq5 hq5 q5 => ?_)
    obtain ⟨_, _⟩ := q5
    subst vq5 hq5
    refine VW.nmI (fun z6 hz6 => ?_)
    have hz6 := ite01 hz6
    show VW θ Q E (zM E A h (sc τ (st2 D2 52 p nt))) 0 0 53 [(0, .ref (A 0)), (1, .int (iI p)), (2, .int (iI j)), (3, .int (iI x))] [.int (iI z6)]
    have J7 : ∀ (pd : Int), (pd = pdT τ p (τ 1 0)) → VW θ Q E (zM E A h (sc τ (st2 D2 52 p nt))) 0 0 66 [(0, .ref (A 0)), (1, .int (iI p)), (2, .int (iI j)), (3, .int (iI x))] [.long (iL pd)] := by
      intro pd hpd
      refine v_lstore G (L' := [(4, .long (iL pd)), (0, .ref (A 0)), (1, .int (iI p)), (2, .int (iI j)), (3, .int (iI x))]) (Nat.le_of_ble_eq_true rfl) rfl dX4_begins_66 ?_
      have J8 : ∀ (cm : Int), (cm = cmT τ p (τ 1 0)) → VW θ Q E (zM E A h (sc τ (st2 D2 52 p nt))) 0 0 122 [(4, .long (iL pd)), (0, .ref (A 0)), (1, .int (iI p)), (2, .int (iI j)), (3, .int (iI x))] [.long (iL cm)] := by
        intro cm hcm
        refine v_lstore G (L' := [(6, .long (iL cm)), (4, .long (iL pd)), (0, .ref (A 0)), (1, .int (iI p)), (2, .int (iI j)), (3, .int (iI x))]) (Nat.le_of_ble_eq_true rfl) rfl dX4_begins_122 ?_
        refine v_aload_n G 2 rfl rfl dX4_begins_124 ?_
        refine v_dup G rfl dX4_begins_125 ?_
        refine gX4_117 G zM_0 (v := .long (iL (τ 14 0))) rfl dX4_begins_126 ?_
        refine v_lload G 1 rfl dX4_begins_129 ?_
        refine v_iload_n G 5 rfl rfl dX4_begins_131 ?_
        refine v_i2l G ⟨by omega, by omega⟩ dX4_begins_132 ?_
        refine v_lsub G dX4_begins_133 ?_
        refine v_lload G 0 rfl dX4_begins_134 ?_
        refine v_lsub G dX4_begins_136 ?_
        refine v_ladd G dX4_begins_137 ?_
        refine pX4_117 G zM_0 (Nat.le_of_ble_eq_true rfl) dX4_begins_138 ?_
        refine VW.hpe (zM_up0 (k := 14) (z := ((τ 14 0) + ((pd - x) - cm))) rfl (by decide)) ?_
        refine VW.hpe (congrArg (zM E A h) (sc_t (k := 14) rfl)) ?_
        refine v_aload_n G 2 rfl rfl dX4_begins_141 ?_
        refine gX4_82 G zM_0 (v := .ref (A 40)) rfl dX4_begins_142 ?_
        refine v_iload_n G 3 rfl rfl dX4_begins_145 ?_
        refine v_dup2 G rfl rfl dX4_begins_146 ?_
        refine m_lld G hA (v := τ 40 p) rfl ⟨by omega, by show _ < (24 : Int); omega⟩ rfl dX4_begins_147 ?_
        refine v_lload G 1 rfl dX4_begins_148 ?_
        refine v_ladd G dX4_begins_150 ?_
        refine m_lst G hA rfl ⟨by omega, by show _ < (24 : Int); omega⟩ dX4_begins_151 ?_
        refine VW.hpe (congrArg (zM E A h) (sc_t (k := 40) rfl)) ?_
        refine v_aload_n G 2 rfl rfl dX4_begins_152 ?_
        refine gX4_24 G zM_0 (v := .ref (A 21)) rfl dX4_begins_153 ?_
        refine v_iconst G dX4_begins_156 ?_
        refine v_dup2 G rfl rfl dX4_begins_157 ?_
        refine m_lld G hA (v := τ 21 2) rfl ⟨by omega, by show _ < (9 : Int); omega⟩ rfl dX4_begins_158 ?_
        refine v_lload G 1 rfl dX4_begins_159 ?_
        refine v_aload_n G 2 rfl rfl dX4_begins_161 ?_
        refine gX4_100 G zM_0 (v := .ref (A 52)) rfl dX4_begins_162 ?_
        refine v_iload_n G 3 rfl rfl dX4_begins_165 ?_
        refine m_lld G hA (v := nt) rfl ⟨by omega, by show _ < (24 : Int); omega⟩ (by first | exact sc_rD rfl | exact sc_rt rfl | simp (decide := true) [sc, st2, iup]) dX4_begins_166 ?_
        refine v_lsub G dX4_begins_167 ?_
        refine v_iload_n G 5 rfl rfl dX4_begins_168 ?_
        refine v_i2l G ⟨by omega, by omega⟩ dX4_begins_169 ?_
        refine v_lsub G dX4_begins_170 ?_
        refine v_ladd G dX4_begins_171 ?_
        refine m_lst G hA rfl ⟨by omega, by show _ < (9 : Int); omega⟩ dX4_begins_172 ?_
        refine VW.hpe (congrArg (zM E A h) (sc_t (k := 21) rfl)) ?_
        refine v_aload_n G 2 rfl rfl dX4_begins_173 ?_
        refine gX4_24 G zM_0 (v := .ref (A 21)) rfl dX4_begins_174 ?_
        refine v_iconst G dX4_begins_177 ?_
        refine v_dup2 G rfl rfl dX4_begins_178 ?_
        refine m_lld G hA (v := (st2 (st2 (st2 τ 14 0 ((τ 14 0) + ((pd - x) - cm))) 40 p ((τ 40 p) + pd)) 21 2 ((τ 21 2) + ((pd - nt) - x))) 21 3) rfl ⟨by omega, by show _ < (9 : Int); omega⟩ rfl dX4_begins_179 ?_
        refine v_lload G 0 rfl dX4_begins_180 ?_
        refine v_lsub G dX4_begins_182 ?_
        refine m_lst G hA rfl ⟨by omega, by show _ < (9 : Int); omega⟩ dX4_begins_183 ?_
        refine VW.hpe (congrArg (zM E A h) (sc_t (k := 21) rfl)) ?_
        have J9 : VW θ Q E (zM E A h (sc (ad (ad (ad (ad (ad (ad (ad τ 14 0 (pd - x - cm)) 40 p pd) 21 2 (pd - nt - x)) 21 3 (- cm)) 14 0 (- riT τ p (τ 1 0))) 21 7 (- riT τ p (τ 1 0))) 16 0 (qeT τ p (τ 1 0))) (st2 D2 52 p nt))) 0 0 262 [(6, .long (iL cm)), (4, .long (iL pd)), (0, .ref (A 0)), (1, .int (iI p)), (2, .int (iI j)), (3, .int (iI x))] [] := by
          refine v_aload_n G 2 rfl rfl dX4_begins_262 ?_
          refine v_iload_n G 3 rfl rfl dX4_begins_263 ?_
          refine kX4_263 G (As := [.int (iI p)]) (rest := []) (cs' := 0) (sl' := 0) (n_hasProfits G.fl (τ := ad (ad (ad (ad (ad (ad (ad τ 14 0 (pd - x - cm)) 40 p pd) 21 2 (pd - nt - x)) 21 3 (- cm)) 14 0 (- riT τ p (τ 1 0))) 21 7 (- riT τ p (τ 1 0))) 16 0 (qeT τ p (τ 1 0))) (D := st2 D2 52 p nt) hA (p := p) ⟨by omega, by omega⟩ (show 0 ≤ τ 25 p ∧ τ 25 p ≤ 7 by omega)) (zRcv.of G (q := (RX4, TX4, 55)) rfl zM_0) rfl rfl (Nat.le_of_ble_eq_true rfl) (zRm.ok rfl) dX4_begins_264 (fun vq10 hq10 q10 => ?_)
          obtain ⟨_, _⟩ := q10
          subst vq10 hq10
          refine VW.nmI (fun z11 hz11 => ?_)
          have hz11 := (show (z11 = 1 ∧ 4 ≤ τ 25 p) ∨ (z11 = 0 ∧ ¬ (4 ≤ τ 25 p)) from ite01 hz11)
          show VW θ Q E (zM E A h (sc (ad (ad (ad (ad (ad (ad (ad τ 14 0 (pd - x - cm)) 40 p pd) 21 2 (pd - nt - x)) 21 3 (- cm)) 14 0 (- riT τ p (τ 1 0))) 21 7 (- riT τ p (τ 1 0))) 16 0 (qeT τ p (τ 1 0))) (st2 D2 52 p nt))) 0 0 267 [(6, .long (iL cm)), (4, .long (iL pd)), (0, .ref (A 0)), (1, .int (iI p)), (2, .int (iI j)), (3, .int (iI x))] [.int (iI z11)]
          refine v_if_eq G 295 ⟨by omega, by omega⟩ (by decide) dX4_begins_267 (fun c12 => ?_) (fun c12 => ?_)
          · have gz11 := bF hz11 (by omega)
            exact v_vret G hQ ⟨rfl, st2 D2 52 p nt, by subst hnt; exact bgK_of hD1 hk2, congrArg (fun t => zM E A h (sc t (st2 D2 52 p nt))) (by subst hnt hpd hcm; unfold bgS; (first | rw [if_pos (by omega)] | rw [if_neg (by omega)]) <;> rfl)⟩ (Nat.le_of_ble_eq_true rfl) (Nat.le_of_ble_eq_true rfl) dX4_begins_295
          · have gz11 := bT hz11 (by omega)
            have g1 : 0 ≤ pd ∧ pd ≤ 100000000000 := by rw [hpd]; exact pd_bd (by omega)
            have g2 : 0 ≤ cm ∧ cm ≤ 100000000000 := by rw [hcm]; exact cm_bd (by omega)
            refine v_aload_n G 2 rfl rfl dX4_begins_270 ?_
            refine gX4_73 G zM_0 (v := .ref (A 37)) rfl dX4_begins_271 ?_
            refine v_iload_n G 3 rfl rfl dX4_begins_274 ?_
            refine v_aload_n G 2 rfl rfl dX4_begins_275 ?_
            refine v_aload_n G 2 rfl rfl dX4_begins_276 ?_
            refine gX4_73 G zM_0 (v := .ref (A 37)) rfl dX4_begins_277 ?_
            refine v_iload_n G 3 rfl rfl dX4_begins_280 ?_
            refine m_lld G hA (v := τ 37 p) rfl ⟨by omega, by show _ < (24 : Int); omega⟩ rfl dX4_begins_281 ?_
            refine v_lload G 1 rfl dX4_begins_282 ?_
            refine v_iload_n G 5 rfl rfl dX4_begins_284 ?_
            refine v_i2l G ⟨by omega, by omega⟩ dX4_begins_285 ?_
            refine v_lsub G dX4_begins_286 ?_
            refine v_lload G 0 rfl dX4_begins_287 ?_
            refine v_lsub G dX4_begins_289 ?_
            refine v_iload_n G 4 rfl rfl dX4_begins_290 ?_
            refine kX4_287 G (As := [.long (iL (τ 37 p)), .long (iL ((pd - x) - cm)), .int (iI j)]) (rest := [.int (iI p), .ref (A 37)]) (cs' := 0) (sl' := 0) (n_growth G.fl (τ := ad (ad (ad (ad (ad (ad (ad τ 14 0 (pd - x - cm)) 40 p pd) 21 2 (pd - nt - x)) 21 3 (- cm)) 14 0 (- riT τ p (τ 1 0))) 21 7 (- riT τ p (τ 1 0))) 16 0 (qeT τ p (τ 1 0))) (D := st2 D2 52 p nt) hA (u := (τ 37 p)) (f := ((pd - x) - cm)) (j := j) ⟨by omega, by omega⟩ ⟨by omega, by omega⟩ ⟨by omega, by omega⟩) (zRcv.of G (q := (RX4, TX4, 55)) rfl zM_0) rfl rfl (Nat.le_of_ble_eq_true rfl) (zRm.ok rfl) dX4_begins_291 (fun vq13 hq13 q13 => ?_)
            obtain ⟨_, _⟩ := q13
            subst vq13 hq13
            show VW θ Q E (zM E A h (sc (ad (ad (ad (ad (ad (ad (ad τ 14 0 (pd - x - cm)) 40 p pd) 21 2 (pd - nt - x)) 21 3 (- cm)) 14 0 (- riT τ p (τ 1 0))) 21 7 (- riT τ p (τ 1 0))) 16 0 (qeT τ p (τ 1 0))) (st2 D2 52 p nt))) 0 0 294 [(6, .long (iL cm)), (4, .long (iL pd)), (0, .ref (A 0)), (1, .int (iI p)), (2, .int (iI j)), (3, .int (iI x))] [.long (iL (grS (τ 37 p) ((pd - x) - cm) j)), .int (iI p), .ref (A 37)]
            refine m_lst G hA rfl ⟨by omega, by show _ < (24 : Int); omega⟩ dX4_begins_294 ?_
            refine VW.hpe (congrArg (zM E A h) (sc_t (k := 37) rfl)) ?_
            exact v_vret G hQ ⟨rfl, st2 D2 52 p nt, by subst hnt; exact bgK_of hD1 hk2, congrArg (fun t => zM E A h (sc t (st2 D2 52 p nt))) (by subst hnt hpd hcm; unfold bgS; (first | rw [if_pos (by omega)] | rw [if_neg (by omega)]) <;> rfl)⟩ (Nat.le_of_ble_eq_true rfl) (Nat.le_of_ble_eq_true rfl) dX4_begins_295
        refine v_aload_n G 2 rfl rfl dX4_begins_184 ?_
        refine gX4_31 G zM_0 (v := .ref (A 23)) rfl dX4_begins_185 ?_
        refine v_iload_n G 3 rfl rfl dX4_begins_188 ?_
        refine m_ald G hA (v := τ 23 p) rfl ⟨by omega, by show _ < (24 : Int); omega⟩ rfl dX4_begins_189 ?_
        refine v_iconst G dX4_begins_190 ?_
        refine v_icmp_eq G 262 ⟨by omega, by omega⟩ ⟨by decide, by decide⟩ (by decide) dX4_begins_191 (fun c14 => ?_) (fun c14 => ?_)
        · refine VW.hpe (congrArg (fun t => zM E A h (sc t (st2 D2 52 p nt))) (show st2 (st2 (st2 (st2 τ 14 0 ((τ 14 0) + ((pd - x) - cm))) 40 p ((τ 40 p) + pd)) 21 2 ((τ 21 2) + ((pd - nt) - x))) 21 3 (((st2 (st2 (st2 τ 14 0 ((τ 14 0) + ((pd - x) - cm))) 40 p ((τ 40 p) + pd)) 21 2 ((τ 21 2) + ((pd - nt) - x))) 21 3) - cm) = ad (ad (ad (ad (ad (ad (ad τ 14 0 (pd - x - cm)) 40 p pd) 21 2 (pd - nt - x)) 21 3 (- cm)) 14 0 (- riT τ p (τ 1 0))) 21 7 (- riT τ p (τ 1 0))) 16 0 (qeT τ p (τ 1 0)) from (by first | (rw [show riT τ p (τ 1 0) = 0 from if_pos (by omega), show qeT τ p (τ 1 0) = 0 from if_pos (by omega)]; simp only [Int.neg_zero, ad_0]; rfl) | (rw [show riT τ p (τ 1 0) = cdT τ p * qaT τ 0 p (τ 1 0) / 100000 * 11 / 10 from if_neg (by omega), show qeT τ p (τ 1 0) = qaT τ 0 p (τ 1 0) from if_neg (by omega)]; rfl)))) ?_
          exact J9  
        · have q9 := qS_bd (py := τ 1 0 - τ 27 p) (show okQ (τ 2 0) (τ 19 0) (τ 24 p) (τ 25 p % 2) (τ 25 p / 2 % 2) (τ 1 0) (τ 26 p) from ⟨⟨by omega, by omega⟩, ⟨by omega, by omega⟩, by omega, by omega, ⟨by omega, by omega, by omega⟩, ⟨by omega, by omega⟩⟩)
          have q8 : 0 ≤ cdT τ p ∧ cdT τ p ≤ 2000000 := cd_bd (by omega) hr
          have q7 := mul_bd2 q8 (show 0 ≤ qaT τ 0 p (τ 1 0) ∧ qaT τ 0 p (τ 1 0) ≤ 100000 from q9)
          refine v_aload_n G 2 rfl rfl dX4_begins_194 ?_
          refine v_iload_n G 3 rfl rfl dX4_begins_195 ?_
          refine v_aload_n G 2 rfl rfl dX4_begins_196 ?_
          refine gX4_114 G zM_0 (v := .int (iI (τ 1 0))) rfl dX4_begins_197 ?_
          refine v_iconst G dX4_begins_200 ?_
          refine kX4_279 G (As := [.int (iI p), .int (iI (τ 1 0)), .int (iI 0)]) (rest := []) (cs' := 0) (sl' := 0) (n_q G.fl (τ := st2 (st2 (st2 (st2 τ 14 0 ((τ 14 0) + ((pd - x) - cm))) 40 p ((τ 40 p) + pd)) 21 2 ((τ 21 2) + ((pd - nt) - x))) 21 3 (((st2 (st2 (st2 τ 14 0 ((τ 14 0) + ((pd - x) - cm))) 40 p ((τ 40 p) + pd)) 21 2 ((τ 21 2) + ((pd - nt) - x))) 21 3) - cm)) (D := st2 D2 52 p nt) hA (p := p) (y := (τ 1 0)) (law := 0) ⟨by omega, by omega⟩ ⟨by omega, by omega⟩ (show 0 ≤ τ 25 p ∧ τ 25 p ≤ 7 by omega) (show okQ (τ 2 0) (τ 19 0) (τ 24 p) (τ 25 p % 2) (τ 25 p / 2 % 2) (τ 1 0) (τ 26 p) from ⟨⟨by omega, by omega⟩, ⟨by omega, by omega⟩, by omega, by omega, ⟨by omega, by omega, by omega⟩, ⟨by omega, by omega⟩⟩) (show 1700 ≤ τ 27 p ∧ τ 27 p ≤ 2400 by omega)) (zRcv.of G (q := (RX4, TX4, 55)) rfl zM_0) rfl rfl (Nat.le_of_ble_eq_true rfl) (zRm.ok rfl) dX4_begins_201 (fun vq15 hq15 q15 => ?_)
          obtain ⟨_, _⟩ := q15
          subst vq15 hq15
          show VW θ Q E (zM E A h (sc (st2 (st2 (st2 (st2 τ 14 0 ((τ 14 0) + ((pd - x) - cm))) 40 p ((τ 40 p) + pd)) 21 2 ((τ 21 2) + ((pd - nt) - x))) 21 3 (((st2 (st2 (st2 τ 14 0 ((τ 14 0) + ((pd - x) - cm))) 40 p ((τ 40 p) + pd)) 21 2 ((τ 21 2) + ((pd - nt) - x))) 21 3) - cm)) (st2 D2 52 p nt))) 0 0 204 [(6, .long (iL cm)), (4, .long (iL pd)), (0, .ref (A 0)), (1, .int (iI p)), (2, .int (iI j)), (3, .int (iI x))] [.long (iL (pqS (τ 2 0) (τ 19 0) (τ 24 p) (τ 25 p % 2) (τ 25 p / 2 % 2) (τ 27 p) (τ 26 p) (τ 1 0)))]
          show VW θ Q E (zM E A h (sc (st2 (st2 (st2 (st2 τ 14 0 ((τ 14 0) + ((pd - x) - cm))) 40 p ((τ 40 p) + pd)) 21 2 ((τ 21 2) + ((pd - nt) - x))) 21 3 (((st2 (st2 (st2 τ 14 0 ((τ 14 0) + ((pd - x) - cm))) 40 p ((τ 40 p) + pd)) 21 2 ((τ 21 2) + ((pd - nt) - x))) 21 3) - cm)) (st2 D2 52 p nt))) 0 0 204 [(6, .long (iL cm)), (4, .long (iL pd)), (0, .ref (A 0)), (1, .int (iI p)), (2, .int (iI j)), (3, .int (iI x))] [.long (iL (qaT τ 0 p (τ 1 0)))]
          refine v_lstore G (L' := [(8, .long (iL (qaT τ 0 p (τ 1 0)))), (6, .long (iL cm)), (4, .long (iL pd)), (0, .ref (A 0)), (1, .int (iI p)), (2, .int (iI j)), (3, .int (iI x))]) (Nat.le_of_ble_eq_true rfl) rfl dX4_begins_204 ?_
          refine v_aload_n G 3 rfl rfl dX4_begins_206 ?_
          refine v_iload_n G 4 rfl rfl dX4_begins_207 ?_
          refine kX4_282 G (As := [.int (iI p)]) (rest := []) (cs' := 0) (sl' := 0) (n_ceded G.fl (τ := st2 (st2 (st2 (st2 τ 14 0 ((τ 14 0) + ((pd - x) - cm))) 40 p ((τ 40 p) + pd)) 21 2 ((τ 21 2) + ((pd - nt) - x))) 21 3 (((st2 (st2 (st2 τ 14 0 ((τ 14 0) + ((pd - x) - cm))) 40 p ((τ 40 p) + pd)) 21 2 ((τ 21 2) + ((pd - nt) - x))) 21 3) - cm)) (D := st2 D2 52 p nt) hA (p := p) ⟨by omega, by omega⟩ ho hr) (zRcv.of G (q := (RX4, TX4, 55)) rfl zM_0) rfl rfl (Nat.le_of_ble_eq_true rfl) (zRm.ok rfl) dX4_begins_208 (fun vq16 hq16 q16 => ?_)
          obtain ⟨_, _⟩ := q16
          subst vq16 hq16
          show VW θ Q E (zM E A h (sc (st2 (st2 (st2 (st2 τ 14 0 ((τ 14 0) + ((pd - x) - cm))) 40 p ((τ 40 p) + pd)) 21 2 ((τ 21 2) + ((pd - nt) - x))) 21 3 (((st2 (st2 (st2 τ 14 0 ((τ 14 0) + ((pd - x) - cm))) 40 p ((τ 40 p) + pd)) 21 2 ((τ 21 2) + ((pd - nt) - x))) 21 3) - cm)) (st2 D2 52 p nt))) 0 0 211 [(8, .long (iL (qaT τ 0 p (τ 1 0)))), (6, .long (iL cm)), (4, .long (iL pd)), (0, .ref (A 0)), (1, .int (iI p)), (2, .int (iI j)), (3, .int (iI x))] [.long (iL (cdT (st2 (st2 (st2 (st2 τ 14 0 ((τ 14 0) + ((pd - x) - cm))) 40 p ((τ 40 p) + pd)) 21 2 ((τ 21 2) + ((pd - nt) - x))) 21 3 (((st2 (st2 (st2 τ 14 0 ((τ 14 0) + ((pd - x) - cm))) 40 p ((τ 40 p) + pd)) 21 2 ((τ 21 2) + ((pd - nt) - x))) 21 3) - cm)) p))]
          show VW θ Q E (zM E A h (sc (st2 (st2 (st2 (st2 τ 14 0 ((τ 14 0) + ((pd - x) - cm))) 40 p ((τ 40 p) + pd)) 21 2 ((τ 21 2) + ((pd - nt) - x))) 21 3 (((st2 (st2 (st2 τ 14 0 ((τ 14 0) + ((pd - x) - cm))) 40 p ((τ 40 p) + pd)) 21 2 ((τ 21 2) + ((pd - nt) - x))) 21 3) - cm)) (st2 D2 52 p nt))) 0 0 211 [(8, .long (iL (qaT τ 0 p (τ 1 0)))), (6, .long (iL cm)), (4, .long (iL pd)), (0, .ref (A 0)), (1, .int (iI p)), (2, .int (iI j)), (3, .int (iI x))] [.long (iL (cdT τ p))]
          refine v_lload G 0 rfl dX4_begins_211 ?_
          refine v_lmul G dX4_begins_213 ?_
          refine v_ldc2 G (v := 100000) q2184 rfl dX4_begins_214 ?_
          refine v_ldiv G ⟨by omega, by omega⟩ ⟨by decide, by decide⟩ dX4_begins_217 ?_
          refine v_ldc2 G (v := 11) q2417 rfl dX4_begins_218 ?_
          refine v_lmul G dX4_begins_221 ?_
          refine v_ldc2 G (v := 10) q2276 rfl dX4_begins_222 ?_
          refine v_ldiv G ⟨by omega, by omega⟩ ⟨by decide, by decide⟩ dX4_begins_225 ?_
          refine v_lstore G (L' := [(10, .long (iL (((((cdT τ p) * (qaT τ 0 p (τ 1 0))) / 100000) * 11) / 10))), (8, .long (iL (qaT τ 0 p (τ 1 0)))), (6, .long (iL cm)), (4, .long (iL pd)), (0, .ref (A 0)), (1, .int (iI p)), (2, .int (iI j)), (3, .int (iI x))]) (Nat.le_of_ble_eq_true rfl) rfl dX4_begins_226 ?_
          refine v_aload_n G 4 rfl rfl dX4_begins_228 ?_
          refine v_dup G rfl dX4_begins_229 ?_
          refine gX4_117 G zM_0 (v := .long (iL ((τ 14 0) + ((pd - x) - cm)))) rfl dX4_begins_230 ?_
          refine v_lload G 0 rfl dX4_begins_233 ?_
          refine v_lsub G dX4_begins_235 ?_
          refine pX4_117 G zM_0 (Nat.le_of_ble_eq_true rfl) dX4_begins_236 ?_
          refine VW.hpe (zM_up0 (k := 14) (z := (((τ 14 0) + ((pd - x) - cm)) - (((((cdT τ p) * (qaT τ 0 p (τ 1 0))) / 100000) * 11) / 10))) rfl (by decide)) ?_
          refine VW.hpe (congrArg (zM E A h) (sc_t (k := 14) rfl)) ?_
          refine v_aload_n G 4 rfl rfl dX4_begins_239 ?_
          refine gX4_24 G zM_0 (v := .ref (A 21)) rfl dX4_begins_240 ?_
          refine v_bipush G rfl dX4_begins_243 ?_
          refine v_dup2 G rfl rfl dX4_begins_245 ?_
          refine m_lld G hA (v := (st2 (st2 (st2 (st2 (st2 τ 14 0 ((τ 14 0) + ((pd - x) - cm))) 40 p ((τ 40 p) + pd)) 21 2 ((τ 21 2) + ((pd - nt) - x))) 21 3 (((st2 (st2 (st2 τ 14 0 ((τ 14 0) + ((pd - x) - cm))) 40 p ((τ 40 p) + pd)) 21 2 ((τ 21 2) + ((pd - nt) - x))) 21 3) - cm)) 14 0 (((τ 14 0) + ((pd - x) - cm)) - (((((cdT τ p) * (qaT τ 0 p (τ 1 0))) / 100000) * 11) / 10))) 21 7) rfl ⟨by omega, by show _ < (9 : Int); omega⟩ rfl dX4_begins_246 ?_
          refine v_lload G 0 rfl dX4_begins_247 ?_
          refine v_lsub G dX4_begins_249 ?_
          refine m_lst G hA rfl ⟨by omega, by show _ < (9 : Int); omega⟩ dX4_begins_250 ?_
          refine VW.hpe (congrArg (zM E A h) (sc_t (k := 21) rfl)) ?_
          refine v_aload_n G 4 rfl rfl dX4_begins_251 ?_
          refine v_dup G rfl dX4_begins_252 ?_
          refine gX4_162 G zM_0 (v := .long (iL (τ 16 0))) rfl dX4_begins_253 ?_
          refine v_lload G 1 rfl dX4_begins_256 ?_
          refine v_ladd G dX4_begins_258 ?_
          refine pX4_162 G zM_0 (Nat.le_of_ble_eq_true rfl) dX4_begins_259 ?_
          refine VW.hpe (zM_up0 (k := 16) (z := ((τ 16 0) + (qaT τ 0 p (τ 1 0)))) rfl (by decide)) ?_
          refine VW.hpe (congrArg (zM E A h) (sc_t (k := 16) rfl)) ?_
          refine VW.pick (L2 := [(6, .long (iL cm)), (4, .long (iL pd)), (0, .ref (A 0)), (1, .int (iI p)), (2, .int (iI j)), (3, .int (iI x))]) [2, 3, 4, 5, 6, 7] rfl ?_
          refine VW.hpe (congrArg (fun t => zM E A h (sc t (st2 D2 52 p nt))) (show st2 (st2 (st2 (st2 (st2 (st2 (st2 τ 14 0 ((τ 14 0) + ((pd - x) - cm))) 40 p ((τ 40 p) + pd)) 21 2 ((τ 21 2) + ((pd - nt) - x))) 21 3 (((st2 (st2 (st2 τ 14 0 ((τ 14 0) + ((pd - x) - cm))) 40 p ((τ 40 p) + pd)) 21 2 ((τ 21 2) + ((pd - nt) - x))) 21 3) - cm)) 14 0 (((τ 14 0) + ((pd - x) - cm)) - (((((cdT τ p) * (qaT τ 0 p (τ 1 0))) / 100000) * 11) / 10))) 21 7 (((st2 (st2 (st2 (st2 (st2 τ 14 0 ((τ 14 0) + ((pd - x) - cm))) 40 p ((τ 40 p) + pd)) 21 2 ((τ 21 2) + ((pd - nt) - x))) 21 3 (((st2 (st2 (st2 τ 14 0 ((τ 14 0) + ((pd - x) - cm))) 40 p ((τ 40 p) + pd)) 21 2 ((τ 21 2) + ((pd - nt) - x))) 21 3) - cm)) 14 0 (((τ 14 0) + ((pd - x) - cm)) - (((((cdT τ p) * (qaT τ 0 p (τ 1 0))) / 100000) * 11) / 10))) 21 7) - (((((cdT τ p) * (qaT τ 0 p (τ 1 0))) / 100000) * 11) / 10))) 16 0 ((τ 16 0) + (qaT τ 0 p (τ 1 0))) = ad (ad (ad (ad (ad (ad (ad τ 14 0 (pd - x - cm)) 40 p pd) 21 2 (pd - nt - x)) 21 3 (- cm)) 14 0 (- riT τ p (τ 1 0))) 21 7 (- riT τ p (τ 1 0))) 16 0 (qeT τ p (τ 1 0)) from (by first | (rw [show riT τ p (τ 1 0) = 0 from if_pos (by omega), show qeT τ p (τ 1 0) = 0 from if_pos (by omega)]; simp only [Int.neg_zero, ad_0]; rfl) | (rw [show riT τ p (τ 1 0) = cdT τ p * qaT τ 0 p (τ 1 0) / 100000 * 11 / 10 from if_neg (by omega), show qeT τ p (τ 1 0) = qaT τ 0 p (τ 1 0) from if_neg (by omega)]; rfl)))) ?_
          exact J9  
      refine v_aload_n G 1 rfl rfl dX4_begins_68 ?_
      refine gX4_114 G zM_0 (v := .int (iI (τ 1 0))) rfl dX4_begins_69 ?_
      refine v_aload_n G 1 rfl rfl dX4_begins_72 ?_
      refine gX4_43 G zM_0 (v := .ref (A 27)) rfl dX4_begins_73 ?_
      refine v_iload_n G 2 rfl rfl dX4_begins_76 ?_
      refine m_ald G hA (v := τ 27 p) rfl ⟨by omega, by show _ < (24 : Int); omega⟩ rfl dX4_begins_77 ?_
      refine v_icmp_le G 85 ⟨by omega, by omega⟩ ⟨by omega, by omega⟩ (by decide) dX4_begins_78 (fun c17 => ?_) (fun c17 => ?_)
      · refine v_aload_n G 1 rfl rfl dX4_begins_85 ?_
        refine gX4_31 G zM_0 (v := .ref (A 23)) rfl dX4_begins_86 ?_
        refine v_iload_n G 2 rfl rfl dX4_begins_89 ?_
        refine m_ald G hA (v := τ 23 p) rfl ⟨by omega, by show _ < (24 : Int); omega⟩ rfl dX4_begins_90 ?_
        refine v_iconst G dX4_begins_91 ?_
        refine v_icmp_ne G 112 ⟨by omega, by omega⟩ ⟨by decide, by decide⟩ (by decide) dX4_begins_92 (fun c18 => ?_) (fun c18 => ?_)
        · refine v_aload_n G 1 rfl rfl dX4_begins_112 ?_
          refine gX4_79 G zM_0 (v := .ref (A 39)) rfl dX4_begins_113 ?_
          refine v_iload_n G 2 rfl rfl dX4_begins_116 ?_
          refine m_lld G hA (v := τ 39 p) rfl ⟨by omega, by show _ < (24 : Int); omega⟩ rfl dX4_begins_117 ?_
          refine v_ldc2 G (v := 2) q2154 rfl dX4_begins_118 ?_
          refine v_ldiv G ⟨by omega, by omega⟩ ⟨by decide, by decide⟩ dX4_begins_121 ?_
          exact J8 ((τ 39 p) / 2) (by unfold cmT; first | rw [if_pos (by omega)] | rw [if_neg (by omega), if_pos (by omega)] | rw [if_neg (by omega), if_neg (by omega)])
        · refine v_aload_n G 1 rfl rfl dX4_begins_95 ?_
          refine gX4_79 G zM_0 (v := .ref (A 39)) rfl dX4_begins_96 ?_
          refine v_iload_n G 2 rfl rfl dX4_begins_99 ?_
          refine m_lld G hA (v := τ 39 p) rfl ⟨by omega, by show _ < (24 : Int); omega⟩ rfl dX4_begins_100 ?_
          refine v_ldc2 G (v := 3) q2188 rfl dX4_begins_101 ?_
          refine v_lmul G dX4_begins_104 ?_
          refine v_ldc2 G (v := 100) q2191 rfl dX4_begins_105 ?_
          refine v_ldiv G ⟨by omega, by omega⟩ ⟨by decide, by decide⟩ dX4_begins_108 ?_
          refine v_goto G 122 (by decide) dX4_begins_109 ?_
          exact J8 (((τ 39 p) * 3) / 100) (by unfold cmT; first | rw [if_pos (by omega)] | rw [if_neg (by omega), if_pos (by omega)] | rw [if_neg (by omega), if_neg (by omega)])
      · refine v_lconst G (n := 0) (v0 := 0) rfl dX4_begins_81 ?_
        refine v_goto G 122 (by decide) dX4_begins_82 ?_
        exact J8 0 (by unfold cmT; first | rw [if_pos (by omega)] | rw [if_neg (by omega), if_pos (by omega)] | rw [if_neg (by omega), if_neg (by omega)])
    refine v_if_eq G 65 ⟨by omega, by omega⟩ (by decide) dX4_begins_53 (fun c19 => ?_) (fun c19 => ?_)
    · have gz6 := bF hz6 (by omega)
      refine v_lconst G (n := 0) (v0 := 0) rfl dX4_begins_65 ?_
      exact J7 0 (by unfold pdT; first | rw [if_pos (by assumption)] | rw [if_neg (by assumption)])
    · have gz6 := bT hz6 (by omega)
      refine v_aload_n G 0 rfl rfl dX4_begins_56 ?_
      refine gX4_79 G zM_0 (v := .ref (A 39)) rfl dX4_begins_57 ?_
      refine v_iload_n G 1 rfl rfl dX4_begins_60 ?_
      refine m_lld G hA (v := τ 39 p) rfl ⟨by omega, by show _ < (24 : Int); omega⟩ rfl dX4_begins_61 ?_
      refine v_goto G 66 (by decide) dX4_begins_62 ?_
      exact J7 (τ 39 p) (by unfold pdT; first | rw [if_pos (by assumption)] | rw [if_neg (by assumption)])
  refine v_if_eq G 42 ⟨by omega, by omega⟩ (by decide) dX4_begins_30 (fun c20 => ?_) (fun c20 => ?_)
  · have gz3 := bF hz3 (by omega)
    refine v_lconst G (n := 0) (v0 := 0) rfl dX4_begins_42 ?_
    exact J4 0 (st2 D1 51 p (rsT τ 0 p (τ 1 0))) (by unfold ntT; first | rw [if_pos (by assumption)] | rw [if_neg (by assumption)]) kp.rfl
  · have gz3 := bT hz3 (by omega)
    refine v_aload_n G 0 rfl rfl dX4_begins_33 ?_
    refine v_iload_n G 1 rfl rfl dX4_begins_34 ?_
    refine v_iconst G dX4_begins_35 ?_
    refine kX4_269 G (As := [.int (iI p), .int (iI 0)]) (rest := [.int (iI p), .ref (A 52)]) (cs' := 0) (sl' := 0) (n_net G.fl (τ := τ) (D := st2 D1 51 p (rsT τ 0 p (τ 1 0))) hA (p := p) (law := 0) ⟨by omega, by omega⟩ ho ⟨by omega, by omega⟩ hw) (zRcv.of G (q := (RX4, TX4, 55)) rfl zM_0) rfl rfl (Nat.le_of_ble_eq_true rfl) (zRm.ok rfl) dX4_begins_36 (fun vq21 hq21 q21 => ?_)
    obtain ⟨_, D22, hD22, _⟩ := q21
    subst vq21 hq21
    show VW θ Q E (zM E A h (sc τ D22)) 0 0 39 [(0, .ref (A 0)), (1, .int (iI p)), (2, .int (iI j)), (3, .int (iI x))] [.long (iL (npT τ 0 p (τ 26 p))), .int (iI p), .ref (A 52)]
    refine v_goto G 43 (by decide) dX4_begins_39 ?_
    exact J4 (npT τ 0 p (τ 26 p)) D22 (by unfold ntT; first | rw [if_pos (by assumption)] | rw [if_neg (by assumption)]) hD22

set_option maxHeartbeats 4000000 in
theorem n_ends {l : Launch} (hfl : l.stackTraces = false) {E : zEn} {h : zHp} {A : Nat → Nat} {τ D : mMem} (hA : mInj A) {p its how : Int} (hp : 0 ≤ p ∧ p < 24) (hi : 0 ≤ its ∧ its ≤ 1000000000000000000) (hl : 0 ≤ τ 38 p ∧ τ 38 p ≤ 200000000) (hk : 0 ≤ τ 23 p ∧ τ 23 p ≤ 3)  : CN l E yX4_ends (ws_ yX4_ends cX4_ends 7 (some FieldType.long)) ({ frames := 1, cells := 0, slots := 0, locals := 23 } : Room) [.ref (A 0), .int (iI p), .long (iL its), .int (iI how)] (zM E A h (sc τ D)) (zR (.long (iL (max its (τ 38 p)))) (zM E A h (sc (enS τ p its how) D))) := by
  refine CN.of (by decide +kernel) hfl (Nat.le_of_ble_eq_true rfl) fun θ Q hl G hin hQ => ?_
  subst hl
  show VW θ Q E (zM E A h (sc τ D)) 0 0 0 [(0, .ref (A 0)), (1, .int (iI p)), (2, .long (iL its)), (4, .int (iI how))] []
  refine v_lload_n G 2 rfl rfl dX4_ends_0 ?_
  refine v_aload_n G 0 rfl rfl dX4_ends_1 ?_
  refine gX4_76 G zM_0 (v := .ref (A 38)) rfl dX4_ends_2 ?_
  refine v_iload_n G 1 rfl rfl dX4_ends_5 ?_
  refine m_lld G hA (v := τ 38 p) rfl ⟨by omega, by show _ < (24 : Int); omega⟩ rfl dX4_ends_6 ?_
  refine kX4_241 G (As := [.long (iL its), .long (iL (τ 38 p))]) (rest := []) (cs' := 0) (sl' := 0) (m_maxL G.fl (a := its) (b := (τ 38 p)) ⟨by omega, by omega⟩ ⟨by omega, by omega⟩) rfl rfl (Nat.le_of_ble_eq_true rfl) (zRm.ok rfl) dX4_ends_7 (fun vq2 hq2 q2 => ?_)
  obtain ⟨_, _⟩ := q2
  subst vq2 hq2
  show VW θ Q E (zM E A h (sc τ D)) 0 0 10 [(0, .ref (A 0)), (1, .int (iI p)), (2, .long (iL its)), (4, .int (iI how))] [.long (iL (max its (τ 38 p)))]
  refine v_lstore G (L' := [(5, .long (iL (max its (τ 38 p)))), (0, .ref (A 0)), (1, .int (iI p)), (2, .long (iL its)), (4, .int (iI how))]) (Nat.le_of_ble_eq_true rfl) rfl dX4_ends_10 ?_
  refine v_aload_n G 1 rfl rfl dX4_ends_12 ?_
  refine v_dup G rfl dX4_ends_13 ?_
  refine gX4_117 G zM_0 (v := .long (iL (τ 14 0))) rfl dX4_ends_14 ?_
  refine v_lconst G (n := 0) (v0 := 0) rfl dX4_ends_17 ?_
  refine v_lload_n G 3 rfl rfl dX4_ends_18 ?_
  refine v_aload_n G 1 rfl rfl dX4_ends_19 ?_
  refine gX4_76 G zM_0 (v := .ref (A 38)) rfl dX4_ends_20 ?_
  refine v_iload_n G 2 rfl rfl dX4_ends_23 ?_
  refine m_lld G hA (v := τ 38 p) rfl ⟨by omega, by show _ < (24 : Int); omega⟩ rfl dX4_ends_24 ?_
  refine v_lsub G dX4_ends_25 ?_
  refine kX4_241 G (As := [.long (iL 0), .long (iL (its - (τ 38 p)))]) (rest := [.long (iL (τ 14 0)), .ref (A 0)]) (cs' := 0) (sl' := 0) (m_maxL G.fl (a := 0) (b := (its - (τ 38 p))) ⟨by decide, by decide⟩ ⟨by omega, by omega⟩) rfl rfl (Nat.le_of_ble_eq_true rfl) (zRm.ok rfl) dX4_ends_26 (fun vq4 hq4 q4 => ?_)
  obtain ⟨_, _⟩ := q4
  subst vq4 hq4
  show VW θ Q E (zM E A h (sc τ D)) 0 0 29 [(5, .long (iL (max its (τ 38 p)))), (0, .ref (A 0)), (1, .int (iI p)), (2, .long (iL its)), (4, .int (iI how))] [.long (iL (max 0 (its - (τ 38 p)))), .long (iL (τ 14 0)), .ref (A 0)]
  refine v_lsub G dX4_ends_29 ?_
  refine pX4_117 G zM_0 (Nat.le_of_ble_eq_true rfl) dX4_ends_30 ?_
  refine VW.hpe (zM_up0 (k := 14) (z := ((τ 14 0) - (max 0 (its - (τ 38 p))))) rfl (by decide)) ?_
  refine VW.hpe (congrArg (zM E A h) (sc_t (k := 14) rfl)) ?_
  refine v_aload_n G 1 rfl rfl dX4_ends_33 ?_
  refine gX4_76 G zM_0 (v := .ref (A 38)) rfl dX4_ends_34 ?_
  refine v_iload_n G 2 rfl rfl dX4_ends_37 ?_
  refine v_lconst G (n := 0) (v0 := 0) rfl dX4_ends_38 ?_
  refine m_lst G hA rfl ⟨by omega, by show _ < (24 : Int); omega⟩ dX4_ends_39 ?_
  refine VW.hpe (congrArg (zM E A h) (sc_t (k := 38) rfl)) ?_
  refine v_aload_n G 1 rfl rfl dX4_ends_40 ?_
  refine gX4_85 G zM_0 (v := .ref (A 41)) rfl dX4_ends_41 ?_
  refine v_iload_n G 2 rfl rfl dX4_ends_44 ?_
  refine v_dup2 G rfl rfl dX4_ends_45 ?_
  refine m_lld G hA (v := τ 41 p) rfl ⟨by omega, by show _ < (24 : Int); omega⟩ rfl dX4_ends_46 ?_
  refine v_aload_n G 1 rfl rfl dX4_ends_47 ?_
  refine gX4_31 G zM_0 (v := .ref (A 23)) rfl dX4_ends_48 ?_
  refine v_iload_n G 2 rfl rfl dX4_ends_51 ?_
  refine m_ald G hA (v := τ 23 p) rfl ⟨by omega, by show _ < (24 : Int); omega⟩ rfl dX4_ends_52 ?_
  refine v_iconst G dX4_ends_53 ?_
  refine v_icmp_ne G 61 ⟨by omega, by omega⟩ ⟨by decide, by decide⟩ (by decide) dX4_ends_54 (fun c5 => ?_) (fun c5 => ?_)
  · refine v_lload_n G 3 rfl rfl dX4_ends_61 ?_
    refine v_ladd G dX4_ends_62 ?_
    refine m_lst G hA rfl ⟨by omega, by show _ < (24 : Int); omega⟩ dX4_ends_63 ?_
    refine VW.hpe (congrArg (zM E A h) (sc_t (k := 41) rfl)) ?_
    refine v_aload_n G 1 rfl rfl dX4_ends_64 ?_
    refine gX4_49 G zM_0 (v := .ref (A 29)) rfl dX4_ends_65 ?_
    refine v_iload_n G 2 rfl rfl dX4_ends_68 ?_
    refine v_iload G 4 rfl dX4_ends_69 ?_
    refine m_ast G hA rfl ⟨by omega, by show _ < (24 : Int); omega⟩ dX4_ends_71 ?_
    refine VW.hpe (congrArg (zM E A h) (sc_t (k := 29) rfl)) ?_
    refine v_lload G 0 rfl dX4_ends_72 ?_
    exact v_lret G hQ ⟨rfl, congrArg (fun t => zM E A h (sc t D)) (by unfold enS; (first | rw [if_pos (by omega)] | rw [if_neg (by omega)]) <;> rfl)⟩ (Nat.le_of_ble_eq_true rfl) (Nat.le_of_ble_eq_true rfl) dX4_ends_74
  · refine v_lconst G (n := 0) (v0 := 0) rfl dX4_ends_57 ?_
    refine v_goto G 62 (by decide) dX4_ends_58 ?_
    refine v_ladd G dX4_ends_62 ?_
    refine m_lst G hA rfl ⟨by omega, by show _ < (24 : Int); omega⟩ dX4_ends_63 ?_
    refine VW.hpe (congrArg (zM E A h) (sc_t (k := 41) rfl)) ?_
    refine v_aload_n G 1 rfl rfl dX4_ends_64 ?_
    refine gX4_49 G zM_0 (v := .ref (A 29)) rfl dX4_ends_65 ?_
    refine v_iload_n G 2 rfl rfl dX4_ends_68 ?_
    refine v_iload G 4 rfl dX4_ends_69 ?_
    refine m_ast G hA rfl ⟨by omega, by show _ < (24 : Int); omega⟩ dX4_ends_71 ?_
    refine VW.hpe (congrArg (zM E A h) (sc_t (k := 29) rfl)) ?_
    refine v_lload G 0 rfl dX4_ends_72 ?_
    exact v_lret G hQ ⟨rfl, congrArg (fun t => zM E A h (sc t D)) (by unfold enS; (first | rw [if_pos (by omega)] | rw [if_neg (by omega)]) <;> rfl)⟩ (Nat.le_of_ble_eq_true rfl) (Nat.le_of_ble_eq_true rfl) dX4_ends_74

set_option maxHeartbeats 4000000 in
theorem n_earns {l : Launch} (hfl : l.stackTraces = false) {E : zEn} {h : zHp} {A : Nat → Nat} {τ D : mMem} (hA : mInj A) (hm : (0 ≤ τ 10 0 ∧ τ 10 0 ≤ 24) ∧ (0 ≤ τ 11 0 ∧ τ 11 0 ≤ 16)) (hb : ∀ b, 0 ≤ b → b < τ 11 0 → okBnd τ b) (hpo : ∀ p, 0 ≤ p → p < τ 10 0 → (0 ≤ τ 29 p ∧ τ 29 p ≤ 7) ∧ (0 ≤ τ 38 p ∧ τ 38 p ≤ 110000000)) {j : Int} (hj : 0 ≤ j ∧ j ≤ 100)  : CN l E yX4_earns (ws_ yX4_earns cX4_earns 7 (some FieldType.long)) ({ frames := 1, cells := 0, slots := 0, locals := 21 } : Room) [.ref (A 0), .int (iI j)] (zM E A h (sc τ D)) (zR (.long (iL (eaV τ j))) (zM E A h (sc (eaS τ j) D))) := by
  refine CN.of (by decide +kernel) hfl (Nat.le_of_ble_eq_true rfl) fun θ Q hl G hin hQ => ?_
  subst hl
  show VW θ Q E (zM E A h (sc τ D)) 0 0 0 [(0, .ref (A 0)), (1, .int (iI j))] []
  have w9a : w64 0 = 0 := w64_of (by decide) (by decide)
  have w9b : w64 1000000000000 = 1000000000000 := w64_of (by decide) (by decide)
  have J1 : ∀ (a0 : Int), (a0 = if 0 < w64 (τ 14 0) ∧ w64 (τ 14 0) ≤ 1000000000000 then w64 (τ 14 0) * j / 1000 else 0) → VW θ Q E (zM E A h (sc τ D)) 0 0 35 [(0, .ref (A 0)), (1, .int (iI j))] [.long (iL a0)] := by
    intro a0 ha0
    refine v_lstore_n G (L' := [(2, .long (iL a0)), (0, .ref (A 0)), (1, .int (iI j))]) rfl (Nat.le_of_ble_eq_true rfl) rfl dX4_earns_35 ?_
    refine v_iconst G dX4_earns_36 ?_
    refine v_istore G (L' := [(4, .int (iI 0)), (2, .long (iL a0)), (0, .ref (A 0)), (1, .int (iI j))]) (Nat.le_of_ble_eq_true rfl) rfl dX4_earns_37 ?_
    have P2 : ∀ (n : Nat) (b : Int) (s : Int), (0 ≤ b ∧ b ≤ τ 11 0) → (s = a0 + bonT τ b) → (τ 11 0 - b).toNat < n → VW θ Q E (zM E A h (sc τ D)) 0 0 39 [(0, .ref (A 0)), (1, .int (iI j)), (2, .long (iL s)), (4, .int (iI b))] [] := by
      intro n
      induction n with
      | zero => intros; omega
      | succ n P2ih =>
        intro b s hbb hs hn
        refine v_iload G 3 rfl dX4_earns_39 ?_
        refine v_aload_n G 0 rfl rfl dX4_earns_41 ?_
        refine gX4_149 G zM_0 (v := .int (iI (τ 11 0))) rfl dX4_earns_42 ?_
        refine v_icmp_ge G 78 ⟨by omega, by omega⟩ ⟨by omega, by omega⟩ (by decide) dX4_earns_45 (fun c3 => ?_) (fun c3 => ?_)
        · obtain rfl : b = τ 11 0 := by omega
          have hs2 : s = eaC τ j := by unfold eaC; rw [hs, ha0]
          subst hs2
          refine v_aload_n G 0 rfl rfl dX4_earns_78 ?_
          refine v_dup G rfl dX4_earns_79 ?_
          refine gX4_117 G zM_0 (v := .long (iL (τ 14 0))) rfl dX4_earns_80 ?_
          refine v_lload_n G 2 rfl rfl dX4_earns_83 ?_
          refine v_ladd G dX4_earns_84 ?_
          refine pX4_117 G zM_0 (Nat.le_of_ble_eq_true rfl) dX4_earns_85 ?_
          refine VW.hpe (zM_up0 (k := 14) (z := ((τ 14 0) + (eaC τ j))) rfl (by decide)) ?_
          refine VW.hpe (congrArg (zM E A h) (sc_t (k := 14) rfl)) ?_
          refine v_iconst G dX4_earns_88 ?_
          refine v_istore G (L' := [(4, .int (iI 0)), (0, .ref (A 0)), (1, .int (iI j)), (2, .long (iL (eaC τ j)))]) (Nat.le_of_ble_eq_true rfl) rfl dX4_earns_89 ?_
          have P4 : ∀ (n : Nat) (p : Int) (s2 : Int) (t : mMem), (0 ≤ p ∧ p ≤ τ 10 0) → (s2 = eaC τ j + sumT (moT τ) p) → (t = eaL (ad τ 14 0 (eaC τ j)) p.toNat) → (τ 10 0 - p).toNat < n → VW θ Q E (zM E A h (sc t D)) 0 0 91 [(0, .ref (A 0)), (2, .long (iL s2)), (4, .int (iI p))] [] := by
            intro n
            induction n with
            | zero => intros; omega
            | succ n P4ih =>
              intro p s2 t hpp hs3 ht hn
              have o29 : t 29 p = τ 29 p := by rw [ht, eaL_o (by decide)]; rfl
              have o38 : t 38 p = τ 38 p := by rw [ht, eaL_38 _ (by omega)]; rfl
              have o10 : t 10 0 = τ 10 0 := by rw [ht, eaL_o (by decide)]; rfl
              refine v_iload G 2 rfl dX4_earns_91 ?_
              refine v_aload_n G 0 rfl rfl dX4_earns_93 ?_
              refine gX4_146 G zM_0 (v := .int (iI (t 10 0))) rfl dX4_earns_94 ?_
              refine v_icmp_ge G 153 ⟨by omega, by omega⟩ ⟨by omega, by omega⟩ (by decide) dX4_earns_97 (fun c5 => ?_) (fun c5 => ?_)
              · obtain rfl : p = τ 10 0 := by omega
                refine v_lload_n G 1 rfl rfl dX4_earns_153 ?_
                exact v_lret G hQ ⟨by rw [hs3]; rfl, by rw [ht]; rfl⟩ (Nat.le_of_ble_eq_true rfl) (Nat.le_of_ble_eq_true rfl) dX4_earns_154
              · have p9 := hpo p hpp.1 (by omega)
                refine v_aload_n G 0 rfl rfl dX4_earns_100 ?_
                refine v_iload G 2 rfl dX4_earns_101 ?_
                refine kX4_234 G (As := [.int (iI p)]) (rest := []) (cs' := 0) (sl' := 0) (n_isLiving G.fl (τ := t) (D := D) hA (p := p) ⟨by omega, by omega⟩ (show 0 ≤ t 29 p ∧ t 29 p ≤ 7 by omega)) (zRcv.of G (q := (RX4, TX4, 55)) rfl zM_0) rfl rfl (Nat.le_of_ble_eq_true rfl) (zRm.ok rfl) dX4_earns_103 (fun vq6 hq6 q6 => ?_)
                obtain ⟨_, _⟩ := q6
                subst vq6 hq6
                refine VW.nmI (fun z7 hz7 => ?_)
                have hz7 := (show (z7 = 1 ∧ t 29 p ≤ 3) ∨ (z7 = 0 ∧ ¬ (t 29 p ≤ 3)) from ite01 hz7)
                show VW θ Q E (zM E A h (sc t D)) 0 0 106 [(0, .ref (A 0)), (2, .long (iL s2)), (4, .int (iI p))] [.int (iI z7)]
                have J8 : ∀ (mo : Int), (mo = moT τ p) → VW θ Q E (zM E A h (sc t D)) 0 0 128 [(0, .ref (A 0)), (2, .long (iL s2)), (4, .int (iI p))] [.long (iL mo)] := by
                  intro mo hmo
                  refine v_lstore G (L' := [(5, .long (iL mo)), (0, .ref (A 0)), (2, .long (iL s2)), (4, .int (iI p))]) (Nat.le_of_ble_eq_true rfl) rfl dX4_earns_128 ?_
                  refine v_aload_n G 1 rfl rfl dX4_earns_130 ?_
                  refine gX4_76 G zM_0 (v := .ref (A 38)) rfl dX4_earns_131 ?_
                  refine v_iload G 3 rfl dX4_earns_134 ?_
                  refine v_dup2 G rfl rfl dX4_earns_136 ?_
                  refine m_lld G hA (v := t 38 p) rfl ⟨by omega, by show _ < (24 : Int); omega⟩ rfl dX4_earns_137 ?_
                  refine v_lload G 0 rfl dX4_earns_138 ?_
                  refine v_ladd G dX4_earns_140 ?_
                  refine m_lst G hA rfl ⟨by omega, by show _ < (24 : Int); omega⟩ dX4_earns_141 ?_
                  refine VW.hpe (congrArg (zM E A h) (sc_t (k := 38) rfl)) ?_
                  refine v_lload_n G 2 rfl rfl dX4_earns_142 ?_
                  refine v_lload G 0 rfl dX4_earns_143 ?_
                  refine v_ladd G dX4_earns_145 ?_
                  refine v_lstore_n G (L' := [(2, .long (iL (s2 + mo))), (5, .long (iL mo)), (0, .ref (A 0)), (4, .int (iI p))]) rfl (Nat.le_of_ble_eq_true rfl) rfl dX4_earns_146 ?_
                  refine v_iinc G (L' := [(4, .int (iI (p + 1))), (2, .long (iL (s2 + mo))), (5, .long (iL mo)), (0, .ref (A 0))]) 3 rfl (Nat.le_of_ble_eq_true rfl) rfl dX4_earns_147 ?_
                  refine v_goto G 91 (by decide) dX4_earns_150 ?_
                  refine VW.pick (L2 := [(0, .ref (A 0)), (2, .long (iL (s2 + mo))), (4, .int (iI (p + 1)))]) [3, 1, 0] rfl ?_
                  exact P4ih (p + 1) (s2 + mo) (st2 t 38 p ((t 38 p) + mo)) ⟨by omega, by omega⟩ (by rw [sumT_s hpp.1, ← Int.add_assoc, ← hs3, ← hmo]) (by rw [eaL_s hpp.1, ← ht, show moT (ad τ 14 0 (eaC τ j)) p = moT τ p from rfl, ← hmo]; rfl) (by omega)
                refine v_if_eq G 127 ⟨by omega, by omega⟩ (by decide) dX4_earns_106 (fun c9 => ?_) (fun c9 => ?_)
                · have gz7 := bF hz7 (by omega)
                  refine v_lconst G (n := 0) (v0 := 0) rfl dX4_earns_127 ?_
                  exact J8 0 (by unfold moT; rw [← o29, ← o38]; first | rw [if_pos (by assumption)] | rw [if_neg (by assumption)])
                · have gz7 := bT hz7 (by omega)
                  refine v_aload_n G 0 rfl rfl dX4_earns_109 ?_
                  refine gX4_76 G zM_0 (v := .ref (A 38)) rfl dX4_earns_110 ?_
                  refine v_iload G 2 rfl dX4_earns_113 ?_
                  refine m_lld G hA (v := t 38 p) rfl ⟨by omega, by show _ < (24 : Int); omega⟩ rfl dX4_earns_115 ?_
                  refine v_ldc2 G (v := 60) q2239 rfl dX4_earns_116 ?_
                  refine v_lmul G dX4_earns_119 ?_
                  refine v_ldc2 G (v := 1000) q2190 rfl dX4_earns_120 ?_
                  refine v_ldiv G ⟨by omega, by omega⟩ ⟨by decide, by decide⟩ dX4_earns_123 ?_
                  refine v_goto G 128 (by decide) dX4_earns_124 ?_
                  exact J8 (((t 38 p) * 60) / 1000) (by unfold moT; rw [← o29, ← o38]; first | rw [if_pos (by assumption)] | rw [if_neg (by assumption)])
          refine VW.pick (L2 := [(0, .ref (A 0)), (2, .long (iL (eaC τ j))), (4, .int (iI 0))]) [1, 3, 0] rfl ?_
          exact P4 _ 0 (eaC τ j) (st2 τ 14 0 ((τ 14 0) + (eaC τ j))) ⟨by omega, by omega⟩ (Int.add_zero _).symm rfl (Nat.lt_succ_self _)
        · have b9 := hb b hbb.1 (by omega)
          unfold okBnd at b9
          have e3 := mul_bd2 b9.2.1 b9.2.2
          refine v_lload_n G 2 rfl rfl dX4_earns_48 ?_
          refine v_aload_n G 0 rfl rfl dX4_earns_49 ?_
          refine gX4_91 G zM_0 (v := .ref (A 43)) rfl dX4_earns_50 ?_
          refine v_iload G 3 rfl dX4_earns_53 ?_
          refine m_ald G hA (v := τ 43 b) rfl ⟨by omega, by show _ < (16 : Int); omega⟩ rfl dX4_earns_55 ?_
          refine v_i2l G ⟨by omega, by omega⟩ dX4_earns_56 ?_
          refine v_aload_n G 0 rfl rfl dX4_earns_57 ?_
          refine gX4_94 G zM_0 (v := .ref (A 44)) rfl dX4_earns_58 ?_
          refine v_iload G 3 rfl dX4_earns_61 ?_
          refine m_ald G hA (v := τ 44 b) rfl ⟨by omega, by show _ < (16 : Int); omega⟩ rfl dX4_earns_63 ?_
          refine v_i2l G ⟨by omega, by omega⟩ dX4_earns_64 ?_
          refine v_lmul G dX4_earns_65 ?_
          refine v_ldc2 G (v := 1000) q2190 rfl dX4_earns_66 ?_
          refine v_ldiv G ⟨by omega, by omega⟩ ⟨by decide, by decide⟩ dX4_earns_69 ?_
          refine v_ladd G dX4_earns_70 ?_
          refine v_lstore_n G (L' := [(2, .long (iL (s + (((τ 43 b) * (τ 44 b)) / 1000)))), (0, .ref (A 0)), (1, .int (iI j)), (4, .int (iI b))]) rfl (Nat.le_of_ble_eq_true rfl) rfl dX4_earns_71 ?_
          refine v_iinc G (L' := [(4, .int (iI (b + 1))), (2, .long (iL (s + (((τ 43 b) * (τ 44 b)) / 1000)))), (0, .ref (A 0)), (1, .int (iI j))]) 3 rfl (Nat.le_of_ble_eq_true rfl) rfl dX4_earns_72 ?_
          refine v_goto G 39 (by decide) dX4_earns_75 ?_
          refine VW.pick (L2 := [(0, .ref (A 0)), (1, .int (iI j)), (2, .long (iL (s + (((τ 43 b) * (τ 44 b)) / 1000)))), (4, .int (iI (b + 1)))]) [2, 3, 1, 0] rfl ?_
          exact P2ih (b + 1) (s + (((τ 43 b) * (τ 44 b)) / 1000)) ⟨by omega, by omega⟩ (by unfold bonT; rw [sumT_s hbb.1, ← Int.add_assoc]; rw [hs]; rfl) (by omega)
    refine VW.pick (L2 := [(0, .ref (A 0)), (1, .int (iI j)), (2, .long (iL a0)), (4, .int (iI 0))]) [2, 3, 1, 0] rfl ?_
    exact P2 _ 0 a0 ⟨by omega, by omega⟩ (Int.add_zero _).symm (Nat.lt_succ_self _)
  refine v_aload_n G 0 rfl rfl dX4_earns_0 ?_
  refine gX4_117 G zM_0 (v := .long (iL (τ 14 0))) rfl dX4_earns_1 ?_
  refine v_lconst G (n := 0) (v0 := 0) rfl dX4_earns_4 ?_
  refine v_lcmpW G dX4_earns_5 ?_
  refine v_lif_le G 34 (by decide) dX4_earns_6 (fun c10 => ?_) (fun c10 => ?_)
  · refine v_lconst G (n := 0) (v0 := 0) rfl dX4_earns_34 ?_
    exact J1 0 (by first | rw [if_pos (by omega)] | rw [if_neg (by omega)])
  · refine v_aload_n G 0 rfl rfl dX4_earns_9 ?_
    refine gX4_117 G zM_0 (v := .long (iL (τ 14 0))) rfl dX4_earns_10 ?_
    refine v_ldc2 G (v := 1000000000000) q2426 rfl dX4_earns_13 ?_
    refine v_lcmpW G dX4_earns_16 ?_
    refine v_lif_gt G 34 (by decide) dX4_earns_17 (fun c11 => ?_) (fun c11 => ?_)
    · refine v_lconst G (n := 0) (v0 := 0) rfl dX4_earns_34 ?_
      exact J1 0 (by first | rw [if_pos (by omega)] | rw [if_neg (by omega)])
    · refine v_aload_n G 0 rfl rfl dX4_earns_20 ?_
      refine gX4_117 G zM_0 (v := .long (iL (τ 14 0))) rfl dX4_earns_21 ?_
      refine VW.cL (y := w64 (τ 14 0)) (iL_w (τ 14 0)).symm ?_
      have e1 := mul_bd2 (show 0 ≤ w64 (τ 14 0) ∧ w64 (τ 14 0) ≤ 1000000000000 by omega) hj
      refine v_iload_n G 1 rfl rfl dX4_earns_24 ?_
      refine v_i2l G ⟨by omega, by omega⟩ dX4_earns_25 ?_
      refine v_lmul G dX4_earns_26 ?_
      refine v_ldc2 G (v := 1000) q2190 rfl dX4_earns_27 ?_
      refine v_ldiv G ⟨by omega, by omega⟩ ⟨by decide, by decide⟩ dX4_earns_30 ?_
      refine v_goto G 35 (by decide) dX4_earns_31 ?_
      exact J1 (((w64 (τ 14 0)) * j) / 1000) (by first | rw [if_pos (by omega)] | rw [if_neg (by omega)])

set_option maxHeartbeats 4000000 in
theorem n_ages {l : Launch} (hfl : l.stackTraces = false) {E : zEn} {h : zHp} {A : Nat → Nat} {τ D : mMem} (hA : mInj A) (hm : (0 ≤ τ 10 0 ∧ τ 10 0 ≤ 24) ∧ (0 ≤ τ 11 0 ∧ τ 11 0 ≤ 16)) (hb : ∀ b, 0 ≤ b → b < τ 11 0 → okBnd τ b)  : CN l E yX4_ages (ws_ yX4_ages cX4_ages 3 none) ({ frames := 0, cells := 0, slots := 0, locals := 0 } : Room) [.ref (A 0)] (zM E A h (sc τ D)) (zV (zM E A h (sc (agS τ) D))) := by
  refine CN.of (by decide +kernel) hfl (Nat.le_of_ble_eq_true rfl) fun θ Q hl G hin hQ => ?_
  subst hl
  show VW θ Q E (zM E A h (sc τ D)) 0 0 0 [(0, .ref (A 0))] []
  refine v_iconst G dX4_ages_0 ?_
  refine v_istore_n G (L' := [(1, .int (iI 0)), (0, .ref (A 0))]) rfl (Nat.le_of_ble_eq_true rfl) rfl dX4_ages_1 ?_
  refine v_iconst G dX4_ages_2 ?_
  refine v_istore_n G (L' := [(2, .int (iI 0)), (1, .int (iI 0)), (0, .ref (A 0))]) rfl (Nat.le_of_ble_eq_true rfl) rfl dX4_ages_3 ?_
  have P1 : ∀ (n : Nat) (b : Int) (m : Int) (t : mMem), (0 ≤ b ∧ b ≤ τ 11 0) → (t = (agN τ b.toNat).1) → (m = (agN τ b.toNat).2) → (τ 11 0 - b).toNat < n → VW θ Q E (zM E A h (sc t D)) 0 0 4 [(0, .ref (A 0)), (1, .int (iI m)), (2, .int (iI b))] [] := by
    intro n
    induction n with
    | zero => intros; omega
    | succ n P1ih =>
      intro b m t hbb ht hn1 hn
      have nb := agN_n (τ := τ) b.toNat
      rw [← hn1, toNat_c hbb.1] at nb
      have o42 : t 42 b = τ 42 b := by rw [ht]; exact agN_r (by omega) _ (by omega)
      have o43 : t 43 b = τ 43 b := by rw [ht]; exact agN_r (by omega) _ (by omega)
      have o44 : t 44 b = τ 44 b := by rw [ht]; exact agN_r (by omega) _ (by omega)
      have o11 : t 11 0 = τ 11 0 := by rw [ht, agN_o (by decide) (by decide) (by decide) (by decide)]
      refine v_iload_n G 2 rfl rfl dX4_ages_4 ?_
      refine v_aload_n G 0 rfl rfl dX4_ages_5 ?_
      refine gX4_149 G zM_0 (v := .int (iI (t 11 0))) rfl dX4_ages_6 ?_
      refine v_icmp_ge G 88 ⟨by omega, by omega⟩ ⟨by omega, by omega⟩ (by decide) dX4_ages_9 (fun c2 => ?_) (fun c2 => ?_)
      · obtain rfl : b = τ 11 0 := by omega
        refine v_aload_n G 0 rfl rfl dX4_ages_88 ?_
        refine v_iload_n G 1 rfl rfl dX4_ages_89 ?_
        refine pX4_149 G zM_0 (Nat.le_of_ble_eq_true rfl) dX4_ages_90 ?_
        refine VW.hpe (zM_up0 (k := 11) (z := m) rfl (by decide)) ?_
        refine VW.hpe (congrArg (zM E A h) (sc_t (k := 11) rfl)) ?_
        exact v_vret G hQ ⟨rfl, by unfold agS; rw [← ht, ← hn1]⟩ (Nat.le_of_ble_eq_true rfl) (Nat.le_of_ble_eq_true rfl) dX4_ages_93
      · have b9 := hb b hbb.1 (by omega)
        unfold okBnd at b9
        refine v_aload_n G 0 rfl rfl dX4_ages_12 ?_
        refine gX4_88 G zM_0 (v := .ref (A 42)) rfl dX4_ages_13 ?_
        refine v_iload_n G 2 rfl rfl dX4_ages_16 ?_
        refine m_ald G hA (v := t 42 b) rfl ⟨by omega, by show _ < (16 : Int); omega⟩ rfl dX4_ages_17 ?_
        refine v_iconst G dX4_ages_18 ?_
        refine v_icmp_ne G 41 ⟨by omega, by omega⟩ ⟨by decide, by decide⟩ (by decide) dX4_ages_19 (fun c3 => ?_) (fun c3 => ?_)
        · refine v_aload_n G 0 rfl rfl dX4_ages_41 ?_
          refine gX4_88 G zM_0 (v := .ref (A 42)) rfl dX4_ages_42 ?_
          refine v_iload_n G 1 rfl rfl dX4_ages_45 ?_
          refine v_aload_n G 0 rfl rfl dX4_ages_46 ?_
          refine gX4_88 G zM_0 (v := .ref (A 42)) rfl dX4_ages_47 ?_
          refine v_iload_n G 2 rfl rfl dX4_ages_50 ?_
          refine m_ald G hA (v := t 42 b) rfl ⟨by omega, by show _ < (16 : Int); omega⟩ rfl dX4_ages_51 ?_
          refine v_iconst G dX4_ages_52 ?_
          refine v_isub G dX4_ages_53 ?_
          refine m_ast G hA rfl ⟨by omega, by show _ < (16 : Int); omega⟩ dX4_ages_54 ?_
          refine VW.hpe (congrArg (zM E A h) (sc_t (k := 42) rfl)) ?_
          refine v_aload_n G 0 rfl rfl dX4_ages_55 ?_
          refine gX4_91 G zM_0 (v := .ref (A 43)) rfl dX4_ages_56 ?_
          refine v_iload_n G 1 rfl rfl dX4_ages_59 ?_
          refine v_aload_n G 0 rfl rfl dX4_ages_60 ?_
          refine gX4_91 G zM_0 (v := .ref (A 43)) rfl dX4_ages_61 ?_
          refine v_iload_n G 2 rfl rfl dX4_ages_64 ?_
          refine m_ald G hA (v := t 43 b) rfl ⟨by omega, by show _ < (16 : Int); omega⟩ rfl dX4_ages_65 ?_
          refine m_ast G hA rfl ⟨by omega, by show _ < (16 : Int); omega⟩ dX4_ages_66 ?_
          refine VW.hpe (congrArg (zM E A h) (sc_t (k := 43) rfl)) ?_
          refine v_aload_n G 0 rfl rfl dX4_ages_67 ?_
          refine gX4_94 G zM_0 (v := .ref (A 44)) rfl dX4_ages_68 ?_
          refine v_iload_n G 1 rfl rfl dX4_ages_71 ?_
          refine v_aload_n G 0 rfl rfl dX4_ages_72 ?_
          refine gX4_94 G zM_0 (v := .ref (A 44)) rfl dX4_ages_73 ?_
          refine v_iload_n G 2 rfl rfl dX4_ages_76 ?_
          refine m_ald G hA (v := t 44 b) rfl ⟨by omega, by show _ < (16 : Int); omega⟩ rfl dX4_ages_77 ?_
          refine m_ast G hA rfl ⟨by omega, by show _ < (16 : Int); omega⟩ dX4_ages_78 ?_
          refine VW.hpe (congrArg (zM E A h) (sc_t (k := 44) rfl)) ?_
          refine v_iinc G (L' := [(1, .int (iI (m + 1))), (0, .ref (A 0)), (2, .int (iI b))]) 1 rfl (Nat.le_of_ble_eq_true rfl) rfl dX4_ages_79 ?_
          refine v_iinc G (L' := [(2, .int (iI (b + 1))), (1, .int (iI (m + 1))), (0, .ref (A 0))]) 2 rfl (Nat.le_of_ble_eq_true rfl) rfl dX4_ages_82 ?_
          refine v_goto G 4 (by decide) dX4_ages_85 ?_
          refine VW.pick (L2 := [(0, .ref (A 0)), (1, .int (iI (m + 1))), (2, .int (iI (b + 1)))]) [2, 1, 0] rfl ?_
          exact P1ih (b + 1) (m + 1) (st2 (st2 (st2 t 42 m ((t 42 b) - 1)) 43 m (t 43 b)) 44 m (t 44 b)) ⟨by omega, by omega⟩ (by rw [agN_s2 hbb.1 (by omega), ← ht, ← hn1, ← o42, ← o43, ← o44] <;> rfl) (by rw [agN_s2 hbb.1 (by omega), ← hn1]) (by omega)
        · refine v_aload_n G 0 rfl rfl dX4_ages_22 ?_
          refine v_dup G rfl dX4_ages_23 ?_
          refine gX4_117 G zM_0 (v := .long (iL (t 14 0))) rfl dX4_ages_24 ?_
          refine v_aload_n G 0 rfl rfl dX4_ages_27 ?_
          refine gX4_91 G zM_0 (v := .ref (A 43)) rfl dX4_ages_28 ?_
          refine v_iload_n G 2 rfl rfl dX4_ages_31 ?_
          refine m_ald G hA (v := t 43 b) rfl ⟨by omega, by show _ < (16 : Int); omega⟩ rfl dX4_ages_32 ?_
          refine v_i2l G ⟨by omega, by omega⟩ dX4_ages_33 ?_
          refine v_ladd G dX4_ages_34 ?_
          refine pX4_117 G zM_0 (Nat.le_of_ble_eq_true rfl) dX4_ages_35 ?_
          refine VW.hpe (zM_up0 (k := 14) (z := ((t 14 0) + (t 43 b))) rfl (by decide)) ?_
          refine VW.hpe (congrArg (zM E A h) (sc_t (k := 14) rfl)) ?_
          refine v_goto G 82 (by decide) dX4_ages_38 ?_
          refine v_iinc G (L' := [(2, .int (iI (b + 1))), (0, .ref (A 0)), (1, .int (iI m))]) 2 rfl (Nat.le_of_ble_eq_true rfl) rfl dX4_ages_82 ?_
          refine v_goto G 4 (by decide) dX4_ages_85 ?_
          refine VW.pick (L2 := [(0, .ref (A 0)), (1, .int (iI m)), (2, .int (iI (b + 1)))]) [1, 2, 0] rfl ?_
          exact P1ih (b + 1) m (st2 t 14 0 ((t 14 0) + (t 43 b))) ⟨by omega, by omega⟩ (by rw [agN_s1 hbb.1 (by omega), ← ht, ← o43]; rfl) (by rw [agN_s1 hbb.1 (by omega), ← hn1]) (by omega)
  refine VW.pick (L2 := [(0, .ref (A 0)), (1, .int (iI 0)), (2, .int (iI 0))]) [2, 1, 0] rfl ?_
  exact P1 _ 0 0 τ ⟨by omega, by omega⟩ rfl rfl (Nat.lt_succ_self _)

set_option maxHeartbeats 4000000 in
theorem n_fin {l : Launch} (hfl : l.stackTraces = false) {E : zEn} {h : zHp} {A : Nat → Nat} {τ D : mMem} (hA : mInj A) {p : Int} (hp : 0 ≤ p ∧ p < 24) (ho : okP1 τ p) (hw : okLaw τ 0) (hr : (0 ≤ τ 8 0 ∧ τ 8 0 ≤ 1000000) ∧ (0 ≤ τ 9 0 ∧ τ 9 0 ≤ 1000)) (hf : 0 ≤ τ 7 0 ∧ τ 7 0 ≤ 1000) (hyr : τ 27 p ≤ τ 1 0 ∧ (τ 29 p ≤ 3 → τ 1 0 < τ 28 p) ∧ 1900 ≤ τ 1 0 ∧ τ 1 0 < 2150) (hpay : 0 ≤ τ 31 p ∧ τ 31 p ≤ 1000) (hlive : τ 29 p ≤ 3) {w n : Int} (hwb : -120000000 ≤ w ∧ w ≤ 120000000) (hnb : 0 ≤ n ∧ n ≤ 110000000) (h51 : D 51 p = w) (h52 : D 52 p = n)  : CN l E yX4_finishes (ws_ yX4_finishes cX4_finishes 10 none) ({ frames := 6, cells := 0, slots := 0, locals := 166 } : Room) [.ref (A 0), .int (iI p)] (zM E A h (sc τ D)) (zS E A h (fnS τ p w n) none (kp D)) := by
  refine CN.of (by decide +kernel) hfl (Nat.le_of_ble_eq_true rfl) fun θ Q hl G hin hQ => ?_
  subst hl
  show VW θ Q E (zM E A h (sc τ D)) 0 0 0 [(0, .ref (A 0)), (1, .int (iI p))] []
  subst h51 h52
  have h9 := ho
  simp only [okP1, okP, tP] at h9
  have w9 := hw
  simp only [okLaw, okW] at w9
  have c9 := clT_bd ho hw hf
  have f9 := fbS_bd ho.1 hf
  have f8 : fbT τ p = fbS (tP τ p) (τ 7 0) := fbT_S
  have e9 := mul_bd3 (show -120000000 ≤ D 51 p + D 52 p ∧ D 51 p + D 52 p ≤ 230000000 by omega) w9.1
  refine v_aload_n G 0 rfl rfl dX4_finishes_0 ?_
  refine gX4_97 G zM_0 (v := .ref (A 51)) rfl dX4_finishes_1 ?_
  refine v_iload_n G 1 rfl rfl dX4_finishes_4 ?_
  refine m_lld G hA (v := D 51 p) rfl ⟨by omega, by show _ < (24 : Int); omega⟩ rfl dX4_finishes_5 ?_
  refine v_aload_n G 0 rfl rfl dX4_finishes_6 ?_
  refine gX4_100 G zM_0 (v := .ref (A 52)) rfl dX4_finishes_7 ?_
  refine v_iload_n G 1 rfl rfl dX4_finishes_10 ?_
  refine m_lld G hA (v := D 52 p) rfl ⟨by omega, by show _ < (24 : Int); omega⟩ rfl dX4_finishes_11 ?_
  refine v_ladd G dX4_finishes_12 ?_
  refine v_lstore_n G (L' := [(2, .long (iL ((D 51 p) + (D 52 p)))), (0, .ref (A 0)), (1, .int (iI p))]) rfl (Nat.le_of_ble_eq_true rfl) rfl dX4_finishes_13 ?_
  refine v_lload_n G 0 rfl rfl dX4_finishes_14 ?_
  refine v_aload_n G 1 rfl rfl dX4_finishes_15 ?_
  refine gX4_13 G zM_0 (v := .ref (A 18)) rfl dX4_finishes_16 ?_
  refine v_iconst G dX4_finishes_19 ?_
  refine m_ald G hA (v := τ 18 0) rfl ⟨by omega, by show _ < (3 : Int); omega⟩ rfl dX4_finishes_20 ?_
  refine v_i2l G ⟨by omega, by omega⟩ dX4_finishes_21 ?_
  refine v_lmul G dX4_finishes_22 ?_
  refine v_ldc2 G (v := 1000) q2190 rfl dX4_finishes_23 ?_
  refine kX4_238 G (As := [.long (iL (((D 51 p) + (D 52 p)) * (τ 18 0))), .long (iL 1000)]) (rest := []) (cs' := 0) (sl' := 0) (m_fdiv G.fl (a := (((D 51 p) + (D 52 p)) * (τ 18 0))) (b := 1000) ⟨by omega, by omega⟩ ⟨by decide, by decide⟩) rfl rfl (Nat.le_of_ble_eq_true rfl) (zRm.ok rfl) dX4_finishes_26 (fun vq2 hq2 q2 => ?_)
  obtain ⟨_, _⟩ := q2
  subst vq2 hq2
  show VW θ Q E (zM E A h (sc τ D)) 0 0 29 [(2, .long (iL ((D 51 p) + (D 52 p)))), (0, .ref (A 0)), (1, .int (iI p))] [.long (iL ((((D 51 p) + (D 52 p)) * (τ 18 0)) / 1000))]
  refine v_lstore G (L' := [(4, .long (iL ((((D 51 p) + (D 52 p)) * (τ 18 0)) / 1000))), (2, .long (iL ((D 51 p) + (D 52 p)))), (0, .ref (A 0)), (1, .int (iI p))]) (Nat.le_of_ble_eq_true rfl) rfl dX4_finishes_29 ?_
  have b9 : -100000000 ≤ (D 51 p + D 52 p) * τ 18 0 / 1000 ∧ (D 51 p + D 52 p) * τ 18 0 / 1000 ≤ 100000000 := by omega
  refine v_lload_n G 1 rfl rfl dX4_finishes_31 ?_
  refine v_lload G 0 rfl dX4_finishes_32 ?_
  refine v_ladd G dX4_finishes_34 ?_
  refine v_lstore G (L' := [(6, .long (iL (((D 51 p) + (D 52 p)) + ((((D 51 p) + (D 52 p)) * (τ 18 0)) / 1000)))), (4, .long (iL ((((D 51 p) + (D 52 p)) * (τ 18 0)) / 1000))), (2, .long (iL ((D 51 p) + (D 52 p)))), (0, .ref (A 0)), (1, .int (iI p))]) (Nat.le_of_ble_eq_true rfl) rfl dX4_finishes_35 ?_
  refine v_aload_n G 3 rfl rfl dX4_finishes_37 ?_
  refine gX4_24 G zM_0 (v := .ref (A 21)) rfl dX4_finishes_38 ?_
  refine v_iconst G dX4_finishes_41 ?_
  refine v_dup2 G rfl rfl dX4_finishes_42 ?_
  refine m_lld G hA (v := τ 21 1) rfl ⟨by omega, by show _ < (9 : Int); omega⟩ rfl dX4_finishes_43 ?_
  refine v_lload G 1 rfl dX4_finishes_44 ?_
  refine v_lsub G dX4_finishes_46 ?_
  refine m_lst G hA rfl ⟨by omega, by show _ < (9 : Int); omega⟩ dX4_finishes_47 ?_
  refine VW.hpe (congrArg (zM E A h) (sc_t (k := 21) rfl)) ?_
  refine v_aload_n G 3 rfl rfl dX4_finishes_48 ?_
  refine gX4_49 G zM_0 (v := .ref (A 29)) rfl dX4_finishes_49 ?_
  refine v_iload_n G 4 rfl rfl dX4_finishes_52 ?_
  refine m_ald G hA (v := τ 29 p) rfl ⟨by omega, by show _ < (24 : Int); omega⟩ rfl dX4_finishes_53 ?_
  refine v_iconst G dX4_finishes_54 ?_
  refine v_icmp_ne G 133 ⟨by omega, by omega⟩ ⟨by decide, by decide⟩ (by decide) dX4_finishes_55 (fun c3 => ?_) (fun c3 => ?_)
  · refine v_aload_n G 3 rfl rfl dX4_finishes_133 ?_
    refine gX4_49 G zM_0 (v := .ref (A 29)) rfl dX4_finishes_134 ?_
    refine v_iload_n G 4 rfl rfl dX4_finishes_137 ?_
    refine m_ald G hA (v := τ 29 p) rfl ⟨by omega, by show _ < (24 : Int); omega⟩ rfl dX4_finishes_138 ?_
    refine v_iconst G dX4_finishes_139 ?_
    refine v_icmp_ne G 173 ⟨by omega, by omega⟩ ⟨by decide, by decide⟩ (by decide) dX4_finishes_140 (fun c4 => ?_) (fun c4 => ?_)
    · skip
      refine v_aload_n G 3 rfl rfl dX4_finishes_173 ?_
      refine gX4_114 G zM_0 (v := .int (iI (τ 1 0))) rfl dX4_finishes_174 ?_
      refine v_iconst G dX4_finishes_177 ?_
      refine v_iadd G dX4_finishes_178 ?_
      refine v_aload_n G 3 rfl rfl dX4_finishes_179 ?_
      refine gX4_46 G zM_0 (v := .ref (A 28)) rfl dX4_finishes_180 ?_
      refine v_iload_n G 4 rfl rfl dX4_finishes_183 ?_
      refine m_ald G hA (v := τ 28 p) rfl ⟨by omega, by show _ < (24 : Int); omega⟩ rfl dX4_finishes_184 ?_
      refine v_icmp_ne G 276 ⟨by omega, by omega⟩ ⟨by omega, by omega⟩ (by decide) dX4_finishes_185 (fun c5 => ?_) (fun c5 => ?_)
      · have s9 := svT_bd ho hw (y := τ 1 0 + 1) ⟨by omega, fun _ => by omega, by omega⟩
        refine v_aload_n G 3 rfl rfl dX4_finishes_276 ?_
        refine gX4_76 G zM_0 (v := .ref (A 38)) rfl dX4_finishes_277 ?_
        refine v_iload_n G 4 rfl rfl dX4_finishes_280 ?_
        refine m_lld G hA (v := τ 38 p) rfl ⟨by omega, by show _ < (24 : Int); omega⟩ rfl dX4_finishes_281 ?_
        refine v_aload_n G 3 rfl rfl dX4_finishes_282 ?_
        refine v_iload_n G 4 rfl rfl dX4_finishes_283 ?_
        refine v_aload_n G 3 rfl rfl dX4_finishes_284 ?_
        refine gX4_114 G zM_0 (v := .int (iI (τ 1 0))) rfl dX4_finishes_285 ?_
        refine v_iconst G dX4_finishes_288 ?_
        refine v_iadd G dX4_finishes_289 ?_
        refine kX4_302 G (As := [.int (iI p), .int (iI ((τ 1 0) + 1))]) (rest := [.long (iL (τ 38 p))]) (cs' := 0) (sl' := 0) (n_surr G.fl (τ := st2 τ 21 1 ((τ 21 1) - ((((D 51 p) + (D 52 p)) * (τ 18 0)) / 1000))) (D := D) hA (p := p) (y := ((τ 1 0) + 1)) ⟨by omega, by omega⟩ ho hw (show okY τ p ((τ 1 0) + 1) from ⟨by omega, fun _ => by omega, by omega⟩)) (zRcv.of G (q := (RX4, TX4, 55)) rfl zM_0) rfl rfl (Nat.le_of_ble_eq_true rfl) (zRm.ok rfl) dX4_finishes_290 (fun vq6 hq6 q6 => ?_)
        obtain ⟨_, D7, hD7, _⟩ := q6
        subst vq6 hq6
        show VW θ Q E (zM E A h (sc (st2 τ 21 1 ((τ 21 1) - ((((D 51 p) + (D 52 p)) * (τ 18 0)) / 1000))) D7)) 0 0 293 [(6, .long (iL (((D 51 p) + (D 52 p)) + ((((D 51 p) + (D 52 p)) * (τ 18 0)) / 1000)))), (4, .long (iL ((((D 51 p) + (D 52 p)) * (τ 18 0)) / 1000))), (2, .long (iL ((D 51 p) + (D 52 p)))), (0, .ref (A 0)), (1, .int (iI p))] [.long (iL (svT τ p ((τ 1 0) + 1))), .long (iL (τ 38 p))]
        refine v_lcmp G ⟨by omega, by omega⟩ ⟨by omega, by omega⟩ dX4_finishes_293 ?_
        refine v_lif_le G 345 (by decide) dX4_finishes_294 (fun c8 => ?_) (fun c8 => ?_)
        · have J9 : ∀ (m : Int), (m = if τ 23 p = 3 then τ 35 p else 0) → VW θ Q E (zM E A h (sc (st2 τ 21 1 ((τ 21 1) - ((((D 51 p) + (D 52 p)) * (τ 18 0)) / 1000))) D7)) 0 0 365 [(6, .long (iL (((D 51 p) + (D 52 p)) + ((((D 51 p) + (D 52 p)) * (τ 18 0)) / 1000)))), (4, .long (iL ((((D 51 p) + (D 52 p)) * (τ 18 0)) / 1000))), (2, .long (iL ((D 51 p) + (D 52 p)))), (0, .ref (A 0)), (1, .int (iI p))] [.long (iL m)] := by
            intro m hmm
            refine v_lstore G (L' := [(8, .long (iL m)), (6, .long (iL (((D 51 p) + (D 52 p)) + ((((D 51 p) + (D 52 p)) * (τ 18 0)) / 1000)))), (4, .long (iL ((((D 51 p) + (D 52 p)) * (τ 18 0)) / 1000))), (2, .long (iL ((D 51 p) + (D 52 p)))), (0, .ref (A 0)), (1, .int (iI p))]) (Nat.le_of_ble_eq_true rfl) rfl dX4_finishes_365 ?_
            refine v_aload_n G 4 rfl rfl dX4_finishes_367 ?_
            refine gX4_55 G zM_0 (v := .ref (A 31)) rfl dX4_finishes_368 ?_
            refine v_iload_n G 5 rfl rfl dX4_finishes_371 ?_
            refine v_dup2 G rfl rfl dX4_finishes_372 ?_
            refine m_ald G hA (v := τ 31 p) rfl ⟨by omega, by show _ < (24 : Int); omega⟩ rfl dX4_finishes_373 ?_
            refine v_iconst G dX4_finishes_374 ?_
            refine v_iadd G dX4_finishes_375 ?_
            refine m_ast G hA rfl ⟨by omega, by show _ < (24 : Int); omega⟩ dX4_finishes_376 ?_
            refine VW.hpe (congrArg (zM E A h) (sc_t (k := 31) rfl)) ?_
            refine v_aload_n G 4 rfl rfl dX4_finishes_377 ?_
            refine v_dup G rfl dX4_finishes_378 ?_
            refine gX4_117 G zM_0 (v := .long (iL (τ 14 0))) rfl dX4_finishes_379 ?_
            refine v_lload G 0 rfl dX4_finishes_382 ?_
            refine v_lsub G dX4_finishes_384 ?_
            refine pX4_117 G zM_0 (Nat.le_of_ble_eq_true rfl) dX4_finishes_385 ?_
            refine VW.hpe (zM_up0 (k := 14) (z := ((τ 14 0) - m)) rfl (by decide)) ?_
            refine VW.hpe (congrArg (zM E A h) (sc_t (k := 14) rfl)) ?_
            refine v_aload_n G 4 rfl rfl dX4_finishes_388 ?_
            refine gX4_24 G zM_0 (v := .ref (A 21)) rfl dX4_finishes_389 ?_
            refine v_iconst G dX4_finishes_392 ?_
            refine v_dup2 G rfl rfl dX4_finishes_393 ?_
            refine m_lld G hA (v := (st2 (st2 (st2 τ 21 1 ((τ 21 1) - ((((D 51 p) + (D 52 p)) * (τ 18 0)) / 1000))) 31 p ((τ 31 p) + 1)) 14 0 ((τ 14 0) - m)) 21 0) rfl ⟨by omega, by show _ < (9 : Int); omega⟩ rfl dX4_finishes_394 ?_
            refine v_lload G 1 rfl dX4_finishes_395 ?_
            refine v_aload_n G 4 rfl rfl dX4_finishes_397 ?_
            refine v_iload_n G 5 rfl rfl dX4_finishes_398 ?_
            refine v_aload_n G 4 rfl rfl dX4_finishes_399 ?_
            refine gX4_114 G zM_0 (v := .int (iI (τ 1 0))) rfl dX4_finishes_400 ?_
            refine v_iconst G dX4_finishes_403 ?_
            refine v_iadd G dX4_finishes_404 ?_
            refine v_iconst G dX4_finishes_405 ?_
            refine kX4_244 G (As := [.int (iI p), .int (iI ((τ 1 0) + 1)), .int (iI 0)]) (rest := [.long (iL (((D 51 p) + (D 52 p)) + ((((D 51 p) + (D 52 p)) * (τ 18 0)) / 1000))), .long (iL ((st2 (st2 (st2 τ 21 1 ((τ 21 1) - ((((D 51 p) + (D 52 p)) * (τ 18 0)) / 1000))) 31 p ((τ 31 p) + 1)) 14 0 ((τ 14 0) - m)) 21 0)), .int (iI 0), .ref (A 21)]) (cs' := 0) (sl' := 0) (n_resAt G.fl (τ := st2 (st2 (st2 τ 21 1 ((τ 21 1) - ((((D 51 p) + (D 52 p)) * (τ 18 0)) / 1000))) 31 p ((τ 31 p) + 1)) 14 0 ((τ 14 0) - m)) (D := D7) hA (p := p) (y := ((τ 1 0) + 1)) (law := 0) ⟨by omega, by omega⟩ ho ⟨by omega, by omega⟩ hw (show okY τ p ((τ 1 0) + 1) from ⟨by omega, fun _ => by omega, by omega⟩)) (zRcv.of G (q := (RX4, TX4, 55)) rfl zM_0) rfl rfl (Nat.le_of_ble_eq_true rfl) (zRm.ok rfl) dX4_finishes_406 (fun vq10 hq10 q10 => ?_)
            obtain ⟨_, D11, hD11, _⟩ := q10
            subst vq10 hq10
            show VW θ Q E (zM E A h (sc (st2 (st2 (st2 τ 21 1 ((τ 21 1) - ((((D 51 p) + (D 52 p)) * (τ 18 0)) / 1000))) 31 p ((τ 31 p) + 1)) 14 0 ((τ 14 0) - m)) D11)) 0 0 409 [(8, .long (iL m)), (6, .long (iL (((D 51 p) + (D 52 p)) + ((((D 51 p) + (D 52 p)) * (τ 18 0)) / 1000)))), (4, .long (iL ((((D 51 p) + (D 52 p)) * (τ 18 0)) / 1000))), (2, .long (iL ((D 51 p) + (D 52 p)))), (0, .ref (A 0)), (1, .int (iI p))] [.long (iL (rsT τ 0 p ((τ 1 0) + 1))), .long (iL (((D 51 p) + (D 52 p)) + ((((D 51 p) + (D 52 p)) * (τ 18 0)) / 1000))), .long (iL ((st2 (st2 (st2 τ 21 1 ((τ 21 1) - ((((D 51 p) + (D 52 p)) * (τ 18 0)) / 1000))) 31 p ((τ 31 p) + 1)) 14 0 ((τ 14 0) - m)) 21 0)), .int (iI 0), .ref (A 21)]
            refine v_lsub G dX4_finishes_409 ?_
            refine v_lload G 0 rfl dX4_finishes_410 ?_
            refine v_lsub G dX4_finishes_412 ?_
            refine v_ladd G dX4_finishes_413 ?_
            refine m_lst G hA rfl ⟨by omega, by show _ < (9 : Int); omega⟩ dX4_finishes_414 ?_
            refine VW.hpe (congrArg (zM E A h) (sc_t (k := 21) rfl)) ?_
            exact v_vret G hQ ⟨rfl, D11, (hD7.trans hD11), congrArg (fun t => zM E A h (sc t D11)) (by unfold fnS; (first | rw [if_pos (by omega)] | rw [if_neg (by omega), if_pos (by omega)] | rw [if_neg (by omega), if_neg (by omega), if_pos (by omega)] | rw [if_neg (by omega), if_neg (by omega), if_neg (by omega), if_pos (by omega)] | rw [if_neg (by omega), if_neg (by omega), if_neg (by omega), if_neg (by omega)]); (try subst hmm); (first | rw [if_pos (by omega)] | rw [if_neg (by omega)] | skip); rfl)⟩ (Nat.le_of_ble_eq_true rfl) (Nat.le_of_ble_eq_true rfl) dX4_finishes_415
          refine v_aload_n G 3 rfl rfl dX4_finishes_345 ?_
          refine gX4_31 G zM_0 (v := .ref (A 23)) rfl dX4_finishes_346 ?_
          refine v_iload_n G 4 rfl rfl dX4_finishes_349 ?_
          refine m_ald G hA (v := τ 23 p) rfl ⟨by omega, by show _ < (24 : Int); omega⟩ rfl dX4_finishes_350 ?_
          refine v_iconst G dX4_finishes_351 ?_
          refine v_icmp_ne G 364 ⟨by omega, by omega⟩ ⟨by decide, by decide⟩ (by decide) dX4_finishes_352 (fun c12 => ?_) (fun c12 => ?_)
          · refine v_lconst G (n := 0) (v0 := 0) rfl dX4_finishes_364 ?_
            exact J9 0 (by first | rw [if_pos (by omega)] | rw [if_neg (by omega)])
          · refine v_aload_n G 3 rfl rfl dX4_finishes_355 ?_
            refine gX4_67 G zM_0 (v := .ref (A 35)) rfl dX4_finishes_356 ?_
            refine v_iload_n G 4 rfl rfl dX4_finishes_359 ?_
            refine m_lld G hA (v := τ 35 p) rfl ⟨by omega, by show _ < (24 : Int); omega⟩ rfl dX4_finishes_360 ?_
            refine v_goto G 365 (by decide) dX4_finishes_361 ?_
            exact J9 (τ 35 p) (by first | rw [if_pos (by omega)] | rw [if_neg (by omega)])
        · refine v_aload_n G 3 rfl rfl dX4_finishes_297 ?_
          refine gX4_24 G zM_0 (v := .ref (A 21)) rfl dX4_finishes_298 ?_
          refine v_iconst G dX4_finishes_301 ?_
          refine v_dup2 G rfl rfl dX4_finishes_302 ?_
          refine m_lld G hA (v := (st2 τ 21 1 ((τ 21 1) - ((((D 51 p) + (D 52 p)) * (τ 18 0)) / 1000))) 21 4) rfl ⟨by omega, by show _ < (9 : Int); omega⟩ rfl dX4_finishes_303 ?_
          refine v_lload G 0 rfl dX4_finishes_304 ?_
          refine v_aload_n G 3 rfl rfl dX4_finishes_306 ?_
          refine gX4_76 G zM_0 (v := .ref (A 38)) rfl dX4_finishes_307 ?_
          refine v_iload_n G 4 rfl rfl dX4_finishes_310 ?_
          refine m_lld G hA (v := τ 38 p) rfl ⟨by omega, by show _ < (24 : Int); omega⟩ rfl dX4_finishes_311 ?_
          refine v_lsub G dX4_finishes_312 ?_
          refine v_ladd G dX4_finishes_313 ?_
          refine m_lst G hA rfl ⟨by omega, by show _ < (9 : Int); omega⟩ dX4_finishes_314 ?_
          refine VW.hpe (congrArg (zM E A h) (sc_t (k := 21) rfl)) ?_
          refine v_aload_n G 3 rfl rfl dX4_finishes_315 ?_
          refine gX4_76 G zM_0 (v := .ref (A 38)) rfl dX4_finishes_316 ?_
          refine v_iload_n G 4 rfl rfl dX4_finishes_319 ?_
          refine v_lconst G (n := 0) (v0 := 0) rfl dX4_finishes_320 ?_
          refine m_lst G hA rfl ⟨by omega, by show _ < (24 : Int); omega⟩ dX4_finishes_321 ?_
          refine VW.hpe (congrArg (zM E A h) (sc_t (k := 38) rfl)) ?_
          refine v_aload_n G 3 rfl rfl dX4_finishes_322 ?_
          refine gX4_58 G zM_0 (v := .ref (A 32)) rfl dX4_finishes_323 ?_
          refine v_iload_n G 4 rfl rfl dX4_finishes_326 ?_
          refine v_aload_n G 3 rfl rfl dX4_finishes_327 ?_
          refine gX4_114 G zM_0 (v := .int (iI (τ 1 0))) rfl dX4_finishes_328 ?_
          refine v_iconst G dX4_finishes_331 ?_
          refine v_iadd G dX4_finishes_332 ?_
          refine m_ast G hA rfl ⟨by omega, by show _ < (24 : Int); omega⟩ dX4_finishes_333 ?_
          refine VW.hpe (congrArg (zM E A h) (sc_t (k := 32) rfl)) ?_
          refine v_aload_n G 3 rfl rfl dX4_finishes_334 ?_
          refine gX4_49 G zM_0 (v := .ref (A 29)) rfl dX4_finishes_335 ?_
          refine v_iload_n G 4 rfl rfl dX4_finishes_338 ?_
          refine v_bipush G rfl dX4_finishes_339 ?_
          refine m_ast G hA rfl ⟨by omega, by show _ < (24 : Int); omega⟩ dX4_finishes_341 ?_
          refine VW.hpe (congrArg (zM E A h) (sc_t (k := 29) rfl)) ?_
          refine v_goto G 415 (by decide) dX4_finishes_342 ?_
          exact v_vret G hQ ⟨rfl, D7, hD7, congrArg (fun t => zM E A h (sc t D7)) (by unfold fnS; (first | rw [if_pos (by omega)] | rw [if_neg (by omega), if_pos (by omega)] | rw [if_neg (by omega), if_neg (by omega), if_pos (by omega)] | rw [if_neg (by omega), if_neg (by omega), if_neg (by omega), if_pos (by omega)] | rw [if_neg (by omega), if_neg (by omega), if_neg (by omega), if_neg (by omega)]); (try subst hmm); (first | rw [if_pos (by omega)] | rw [if_neg (by omega)] | skip); rfl)⟩ (Nat.le_of_ble_eq_true rfl) (Nat.le_of_ble_eq_true rfl) dX4_finishes_415
      · have J13 : ∀ (m : Int), (m = if τ 23 p = 3 then τ 35 p else if τ 23 p = 2 then 0 else τ 35 p + τ 36 p + fbT τ p) → VW θ Q E (zM E A h (sc (st2 τ 21 1 ((τ 21 1) - ((((D 51 p) + (D 52 p)) * (τ 18 0)) / 1000))) D)) 0 0 240 [(6, .long (iL (((D 51 p) + (D 52 p)) + ((((D 51 p) + (D 52 p)) * (τ 18 0)) / 1000)))), (4, .long (iL ((((D 51 p) + (D 52 p)) * (τ 18 0)) / 1000))), (2, .long (iL ((D 51 p) + (D 52 p)))), (0, .ref (A 0)), (1, .int (iI p))] [.long (iL m)] := by
          intro m hmm
          have m9 : 0 ≤ m ∧ m ≤ 1200000000 := by rw [hmm]; split; omega; split <;> omega
          refine v_lstore G (L' := [(8, .long (iL m)), (6, .long (iL (((D 51 p) + (D 52 p)) + ((((D 51 p) + (D 52 p)) * (τ 18 0)) / 1000)))), (4, .long (iL ((((D 51 p) + (D 52 p)) * (τ 18 0)) / 1000))), (2, .long (iL ((D 51 p) + (D 52 p)))), (0, .ref (A 0)), (1, .int (iI p))]) (Nat.le_of_ble_eq_true rfl) rfl dX4_finishes_240 ?_
          refine v_aload_n G 4 rfl rfl dX4_finishes_242 ?_
          refine gX4_55 G zM_0 (v := .ref (A 31)) rfl dX4_finishes_243 ?_
          refine v_iload_n G 5 rfl rfl dX4_finishes_246 ?_
          refine v_dup2 G rfl rfl dX4_finishes_247 ?_
          refine m_ald G hA (v := τ 31 p) rfl ⟨by omega, by show _ < (24 : Int); omega⟩ rfl dX4_finishes_248 ?_
          refine v_iconst G dX4_finishes_249 ?_
          refine v_iadd G dX4_finishes_250 ?_
          refine m_ast G hA rfl ⟨by omega, by show _ < (24 : Int); omega⟩ dX4_finishes_251 ?_
          refine VW.hpe (congrArg (zM E A h) (sc_t (k := 31) rfl)) ?_
          refine v_aload_n G 4 rfl rfl dX4_finishes_252 ?_
          refine gX4_24 G zM_0 (v := .ref (A 21)) rfl dX4_finishes_253 ?_
          refine v_iconst G dX4_finishes_256 ?_
          refine v_dup2 G rfl rfl dX4_finishes_257 ?_
          refine m_lld G hA (v := (st2 (st2 τ 21 1 ((τ 21 1) - ((((D 51 p) + (D 52 p)) * (τ 18 0)) / 1000))) 31 p ((τ 31 p) + 1)) 21 0) rfl ⟨by omega, by show _ < (9 : Int); omega⟩ rfl dX4_finishes_258 ?_
          refine v_lload G 1 rfl dX4_finishes_259 ?_
          refine v_aload_n G 4 rfl rfl dX4_finishes_261 ?_
          refine v_iload_n G 5 rfl rfl dX4_finishes_262 ?_
          refine v_lload G 0 rfl dX4_finishes_263 ?_
          refine v_bipush G rfl dX4_finishes_265 ?_
          refine kX4_298 G (As := [.int (iI p), .long (iL m), .int (iI 6)]) (rest := [.long (iL (((D 51 p) + (D 52 p)) + ((((D 51 p) + (D 52 p)) * (τ 18 0)) / 1000))), .long (iL ((st2 (st2 τ 21 1 ((τ 21 1) - ((((D 51 p) + (D 52 p)) * (τ 18 0)) / 1000))) 31 p ((τ 31 p) + 1)) 21 0)), .int (iI 0), .ref (A 21)]) (cs' := 0) (sl' := 0) (n_ends G.fl (τ := st2 (st2 τ 21 1 ((τ 21 1) - ((((D 51 p) + (D 52 p)) * (τ 18 0)) / 1000))) 31 p ((τ 31 p) + 1)) (D := D) hA (p := p) (its := m) (how := 6) ⟨by omega, by omega⟩ ⟨by omega, by omega⟩ (show 0 ≤ τ 38 p ∧ τ 38 p ≤ 200000000 by omega) (show 0 ≤ τ 23 p ∧ τ 23 p ≤ 3 by omega)) (zRcv.of G (q := (RX4, TX4, 55)) rfl zM_0) rfl rfl (Nat.le_of_ble_eq_true rfl) (zRm.ok rfl) dX4_finishes_267 (fun vq14 hq14 q14 => ?_)
          obtain ⟨_, _⟩ := q14
          subst vq14 hq14
          show VW θ Q E (zM E A h (sc (enS (st2 (st2 τ 21 1 ((τ 21 1) - ((((D 51 p) + (D 52 p)) * (τ 18 0)) / 1000))) 31 p ((τ 31 p) + 1)) p m 6) D)) 0 0 270 [(8, .long (iL m)), (6, .long (iL (((D 51 p) + (D 52 p)) + ((((D 51 p) + (D 52 p)) * (τ 18 0)) / 1000)))), (4, .long (iL ((((D 51 p) + (D 52 p)) * (τ 18 0)) / 1000))), (2, .long (iL ((D 51 p) + (D 52 p)))), (0, .ref (A 0)), (1, .int (iI p))] [.long (iL (max m (τ 38 p))), .long (iL (((D 51 p) + (D 52 p)) + ((((D 51 p) + (D 52 p)) * (τ 18 0)) / 1000))), .long (iL ((st2 (st2 τ 21 1 ((τ 21 1) - ((((D 51 p) + (D 52 p)) * (τ 18 0)) / 1000))) 31 p ((τ 31 p) + 1)) 21 0)), .int (iI 0), .ref (A 21)]
          refine v_lsub G dX4_finishes_270 ?_
          refine v_ladd G dX4_finishes_271 ?_
          refine m_lst G hA rfl ⟨by omega, by show _ < (9 : Int); omega⟩ dX4_finishes_272 ?_
          refine VW.hpe (congrArg (zM E A h) (sc_t (k := 21) rfl)) ?_
          refine v_goto G 415 (by decide) dX4_finishes_273 ?_
          exact v_vret G hQ ⟨rfl, D, kp.rfl, congrArg (fun t => zM E A h (sc t D)) (by unfold fnS; (first | rw [if_pos (by omega)] | rw [if_neg (by omega), if_pos (by omega)] | rw [if_neg (by omega), if_neg (by omega), if_pos (by omega)] | rw [if_neg (by omega), if_neg (by omega), if_neg (by omega), if_pos (by omega)] | rw [if_neg (by omega), if_neg (by omega), if_neg (by omega), if_neg (by omega)]); (try subst hmm); (first | rw [if_pos (by omega)] | rw [if_neg (by omega)] | skip); rfl)⟩ (Nat.le_of_ble_eq_true rfl) (Nat.le_of_ble_eq_true rfl) dX4_finishes_415
        refine v_aload_n G 3 rfl rfl dX4_finishes_188 ?_
        refine gX4_31 G zM_0 (v := .ref (A 23)) rfl dX4_finishes_189 ?_
        refine v_iload_n G 4 rfl rfl dX4_finishes_192 ?_
        refine m_ald G hA (v := τ 23 p) rfl ⟨by omega, by show _ < (24 : Int); omega⟩ rfl dX4_finishes_193 ?_
        refine v_iconst G dX4_finishes_194 ?_
        refine v_icmp_ne G 207 ⟨by omega, by omega⟩ ⟨by decide, by decide⟩ (by decide) dX4_finishes_195 (fun c15 => ?_) (fun c15 => ?_)
        · refine v_aload_n G 3 rfl rfl dX4_finishes_207 ?_
          refine gX4_31 G zM_0 (v := .ref (A 23)) rfl dX4_finishes_208 ?_
          refine v_iload_n G 4 rfl rfl dX4_finishes_211 ?_
          refine m_ald G hA (v := τ 23 p) rfl ⟨by omega, by show _ < (24 : Int); omega⟩ rfl dX4_finishes_212 ?_
          refine v_iconst G dX4_finishes_213 ?_
          refine v_icmp_ne G 221 ⟨by omega, by omega⟩ ⟨by decide, by decide⟩ (by decide) dX4_finishes_214 (fun c16 => ?_) (fun c16 => ?_)
          · refine v_aload_n G 3 rfl rfl dX4_finishes_221 ?_
            refine gX4_67 G zM_0 (v := .ref (A 35)) rfl dX4_finishes_222 ?_
            refine v_iload_n G 4 rfl rfl dX4_finishes_225 ?_
            refine m_lld G hA (v := τ 35 p) rfl ⟨by omega, by show _ < (24 : Int); omega⟩ rfl dX4_finishes_226 ?_
            refine v_aload_n G 3 rfl rfl dX4_finishes_227 ?_
            refine gX4_70 G zM_0 (v := .ref (A 36)) rfl dX4_finishes_228 ?_
            refine v_iload_n G 4 rfl rfl dX4_finishes_231 ?_
            refine m_lld G hA (v := τ 36 p) rfl ⟨by omega, by show _ < (24 : Int); omega⟩ rfl dX4_finishes_232 ?_
            refine v_ladd G dX4_finishes_233 ?_
            refine v_aload_n G 3 rfl rfl dX4_finishes_234 ?_
            refine v_iload_n G 4 rfl rfl dX4_finishes_235 ?_
            refine kX4_266 G (As := [.int (iI p)]) (rest := [.long (iL ((τ 35 p) + (τ 36 p)))]) (cs' := 0) (sl' := 0) (n_final G.fl (τ := st2 τ 21 1 ((τ 21 1) - ((((D 51 p) + (D 52 p)) * (τ 18 0)) / 1000))) (D := D) hA (p := p) ⟨by omega, by omega⟩ ho hf) (zRcv.of G (q := (RX4, TX4, 55)) rfl zM_0) rfl rfl (Nat.le_of_ble_eq_true rfl) (zRm.ok rfl) dX4_finishes_236 (fun vq17 hq17 q17 => ?_)
            obtain ⟨_, _⟩ := q17
            subst vq17 hq17
            show VW θ Q E (zM E A h (sc (st2 τ 21 1 ((τ 21 1) - ((((D 51 p) + (D 52 p)) * (τ 18 0)) / 1000))) D)) 0 0 239 [(6, .long (iL (((D 51 p) + (D 52 p)) + ((((D 51 p) + (D 52 p)) * (τ 18 0)) / 1000)))), (4, .long (iL ((((D 51 p) + (D 52 p)) * (τ 18 0)) / 1000))), (2, .long (iL ((D 51 p) + (D 52 p)))), (0, .ref (A 0)), (1, .int (iI p))] [.long (iL (fbT τ p)), .long (iL ((τ 35 p) + (τ 36 p)))]
            refine v_ladd G dX4_finishes_239 ?_
            exact J13 (((τ 35 p) + (τ 36 p)) + (fbT τ p)) (by first | rw [if_pos (by omega)] | rw [if_neg (by omega), if_pos (by omega)] | rw [if_neg (by omega), if_neg (by omega)])
          · refine v_lconst G (n := 0) (v0 := 0) rfl dX4_finishes_217 ?_
            refine v_goto G 240 (by decide) dX4_finishes_218 ?_
            exact J13 0 (by first | rw [if_pos (by omega)] | rw [if_neg (by omega), if_pos (by omega)] | rw [if_neg (by omega), if_neg (by omega)])
        · refine v_aload_n G 3 rfl rfl dX4_finishes_198 ?_
          refine gX4_67 G zM_0 (v := .ref (A 35)) rfl dX4_finishes_199 ?_
          refine v_iload_n G 4 rfl rfl dX4_finishes_202 ?_
          refine m_lld G hA (v := τ 35 p) rfl ⟨by omega, by show _ < (24 : Int); omega⟩ rfl dX4_finishes_203 ?_
          refine v_goto G 240 (by decide) dX4_finishes_204 ?_
          exact J13 (τ 35 p) (by first | rw [if_pos (by omega)] | rw [if_neg (by omega), if_pos (by omega)] | rw [if_neg (by omega), if_neg (by omega)])
    · have s9 := svT_bd ho hw (y := τ 1 0) ⟨by omega, fun _ => by omega, by omega⟩
      refine v_aload_n G 3 rfl rfl dX4_finishes_143 ?_
      refine gX4_24 G zM_0 (v := .ref (A 21)) rfl dX4_finishes_144 ?_
      refine v_iconst G dX4_finishes_147 ?_
      refine v_dup2 G rfl rfl dX4_finishes_148 ?_
      refine m_lld G hA (v := (st2 τ 21 1 ((τ 21 1) - ((((D 51 p) + (D 52 p)) * (τ 18 0)) / 1000))) 21 4) rfl ⟨by omega, by show _ < (9 : Int); omega⟩ rfl dX4_finishes_149 ?_
      refine v_lload G 0 rfl dX4_finishes_150 ?_
      refine v_aload_n G 3 rfl rfl dX4_finishes_152 ?_
      refine v_iload_n G 4 rfl rfl dX4_finishes_153 ?_
      refine v_aload_n G 3 rfl rfl dX4_finishes_154 ?_
      refine v_iload_n G 4 rfl rfl dX4_finishes_155 ?_
      refine v_aload_n G 3 rfl rfl dX4_finishes_156 ?_
      refine gX4_114 G zM_0 (v := .int (iI (τ 1 0))) rfl dX4_finishes_157 ?_
      refine kX4_302 G (As := [.int (iI p), .int (iI (τ 1 0))]) (rest := [.int (iI p), .ref (A 0), .long (iL (((D 51 p) + (D 52 p)) + ((((D 51 p) + (D 52 p)) * (τ 18 0)) / 1000))), .long (iL ((st2 τ 21 1 ((τ 21 1) - ((((D 51 p) + (D 52 p)) * (τ 18 0)) / 1000))) 21 4)), .int (iI 4), .ref (A 21)]) (cs' := 0) (sl' := 0) (n_surr G.fl (τ := st2 τ 21 1 ((τ 21 1) - ((((D 51 p) + (D 52 p)) * (τ 18 0)) / 1000))) (D := D) hA (p := p) (y := (τ 1 0)) ⟨by omega, by omega⟩ ho hw (show okY τ p (τ 1 0) from ⟨by omega, fun _ => by omega, by omega⟩)) (zRcv.of G (q := (RX4, TX4, 55)) rfl zM_0) rfl rfl (Nat.le_of_ble_eq_true rfl) (zRm.ok rfl) dX4_finishes_160 (fun vq18 hq18 q18 => ?_)
      obtain ⟨_, D19, hD19, _⟩ := q18
      subst vq18 hq18
      show VW θ Q E (zM E A h (sc (st2 τ 21 1 ((τ 21 1) - ((((D 51 p) + (D 52 p)) * (τ 18 0)) / 1000))) D19)) 0 0 163 [(6, .long (iL (((D 51 p) + (D 52 p)) + ((((D 51 p) + (D 52 p)) * (τ 18 0)) / 1000)))), (4, .long (iL ((((D 51 p) + (D 52 p)) * (τ 18 0)) / 1000))), (2, .long (iL ((D 51 p) + (D 52 p)))), (0, .ref (A 0)), (1, .int (iI p))] [.long (iL (svT τ p (τ 1 0))), .int (iI p), .ref (A 0), .long (iL (((D 51 p) + (D 52 p)) + ((((D 51 p) + (D 52 p)) * (τ 18 0)) / 1000))), .long (iL ((st2 τ 21 1 ((τ 21 1) - ((((D 51 p) + (D 52 p)) * (τ 18 0)) / 1000))) 21 4)), .int (iI 4), .ref (A 21)]
      refine v_iconst G dX4_finishes_163 ?_
      refine kX4_298 G (As := [.int (iI p), .long (iL (svT τ p (τ 1 0))), .int (iI 5)]) (rest := [.long (iL (((D 51 p) + (D 52 p)) + ((((D 51 p) + (D 52 p)) * (τ 18 0)) / 1000))), .long (iL ((st2 τ 21 1 ((τ 21 1) - ((((D 51 p) + (D 52 p)) * (τ 18 0)) / 1000))) 21 4)), .int (iI 4), .ref (A 21)]) (cs' := 0) (sl' := 0) (n_ends G.fl (τ := st2 τ 21 1 ((τ 21 1) - ((((D 51 p) + (D 52 p)) * (τ 18 0)) / 1000))) (D := D19) hA (p := p) (its := (svT τ p (τ 1 0))) (how := 5) ⟨by omega, by omega⟩ ⟨by omega, by omega⟩ (show 0 ≤ τ 38 p ∧ τ 38 p ≤ 200000000 by omega) (show 0 ≤ τ 23 p ∧ τ 23 p ≤ 3 by omega)) (zRcv.of G (q := (RX4, TX4, 55)) rfl zM_0) rfl rfl (Nat.le_of_ble_eq_true rfl) (zRm.ok rfl) dX4_finishes_164 (fun vq20 hq20 q20 => ?_)
      obtain ⟨_, _⟩ := q20
      subst vq20 hq20
      show VW θ Q E (zM E A h (sc (enS (st2 τ 21 1 ((τ 21 1) - ((((D 51 p) + (D 52 p)) * (τ 18 0)) / 1000))) p (svT τ p (τ 1 0)) 5) D19)) 0 0 167 [(6, .long (iL (((D 51 p) + (D 52 p)) + ((((D 51 p) + (D 52 p)) * (τ 18 0)) / 1000)))), (4, .long (iL ((((D 51 p) + (D 52 p)) * (τ 18 0)) / 1000))), (2, .long (iL ((D 51 p) + (D 52 p)))), (0, .ref (A 0)), (1, .int (iI p))] [.long (iL (max (svT τ p (τ 1 0)) (τ 38 p))), .long (iL (((D 51 p) + (D 52 p)) + ((((D 51 p) + (D 52 p)) * (τ 18 0)) / 1000))), .long (iL ((st2 τ 21 1 ((τ 21 1) - ((((D 51 p) + (D 52 p)) * (τ 18 0)) / 1000))) 21 4)), .int (iI 4), .ref (A 21)]
      refine v_lsub G dX4_finishes_167 ?_
      refine v_ladd G dX4_finishes_168 ?_
      refine m_lst G hA rfl ⟨by omega, by show _ < (9 : Int); omega⟩ dX4_finishes_169 ?_
      refine VW.hpe (congrArg (zM E A h) (sc_t (k := 21) rfl)) ?_
      refine v_goto G 415 (by decide) dX4_finishes_170 ?_
      exact v_vret G hQ ⟨rfl, D19, hD19, congrArg (fun t => zM E A h (sc t D19)) (by unfold fnS; (first | rw [if_pos (by omega)] | rw [if_neg (by omega), if_pos (by omega)] | rw [if_neg (by omega), if_neg (by omega), if_pos (by omega)] | rw [if_neg (by omega), if_neg (by omega), if_neg (by omega), if_pos (by omega)] | rw [if_neg (by omega), if_neg (by omega), if_neg (by omega), if_neg (by omega)]); (try subst hmm); (first | rw [if_pos (by omega)] | rw [if_neg (by omega)] | skip); rfl)⟩ (Nat.le_of_ble_eq_true rfl) (Nat.le_of_ble_eq_true rfl) dX4_finishes_415
  · refine v_aload_n G 3 rfl rfl dX4_finishes_58 ?_
    refine gX4_31 G zM_0 (v := .ref (A 23)) rfl dX4_finishes_59 ?_
    refine v_iload_n G 4 rfl rfl dX4_finishes_62 ?_
    refine m_ald G hA (v := τ 23 p) rfl ⟨by omega, by show _ < (24 : Int); omega⟩ rfl dX4_finishes_63 ?_
    refine v_iconst G dX4_finishes_64 ?_
    refine v_icmp_eq G 107 ⟨by omega, by omega⟩ ⟨by decide, by decide⟩ (by decide) dX4_finishes_65 (fun c21 => ?_) (fun c21 => ?_)
    · refine v_aload_n G 3 rfl rfl dX4_finishes_107 ?_
      refine gX4_24 G zM_0 (v := .ref (A 21)) rfl dX4_finishes_108 ?_
      refine v_iconst G dX4_finishes_111 ?_
      refine v_dup2 G rfl rfl dX4_finishes_112 ?_
      refine m_lld G hA (v := (st2 τ 21 1 ((τ 21 1) - ((((D 51 p) + (D 52 p)) * (τ 18 0)) / 1000))) 21 0) rfl ⟨by omega, by show _ < (9 : Int); omega⟩ rfl dX4_finishes_113 ?_
      refine v_lload G 0 rfl dX4_finishes_114 ?_
      refine v_aload_n G 3 rfl rfl dX4_finishes_116 ?_
      refine v_iload_n G 4 rfl rfl dX4_finishes_117 ?_
      refine v_aload_n G 3 rfl rfl dX4_finishes_118 ?_
      refine v_iload_n G 4 rfl rfl dX4_finishes_119 ?_
      refine kX4_295 G (As := [.int (iI p)]) (rest := [.int (iI p), .ref (A 0), .long (iL (((D 51 p) + (D 52 p)) + ((((D 51 p) + (D 52 p)) * (τ 18 0)) / 1000))), .long (iL ((st2 τ 21 1 ((τ 21 1) - ((((D 51 p) + (D 52 p)) * (τ 18 0)) / 1000))) 21 0)), .int (iI 0), .ref (A 21)]) (cs' := 0) (sl' := 0) (n_claim G.fl (τ := st2 τ 21 1 ((τ 21 1) - ((((D 51 p) + (D 52 p)) * (τ 18 0)) / 1000))) (D := D) hA (p := p) ⟨by omega, by omega⟩ ho hw hf) (zRcv.of G (q := (RX4, TX4, 55)) rfl zM_0) rfl rfl (Nat.le_of_ble_eq_true rfl) (zRm.ok rfl) dX4_finishes_120 (fun vq22 hq22 q22 => ?_)
      obtain ⟨_, D23, hD23, _⟩ := q22
      subst vq22 hq22
      show VW θ Q E (zM E A h (sc (st2 τ 21 1 ((τ 21 1) - ((((D 51 p) + (D 52 p)) * (τ 18 0)) / 1000))) D23)) 0 0 123 [(6, .long (iL (((D 51 p) + (D 52 p)) + ((((D 51 p) + (D 52 p)) * (τ 18 0)) / 1000)))), (4, .long (iL ((((D 51 p) + (D 52 p)) * (τ 18 0)) / 1000))), (2, .long (iL ((D 51 p) + (D 52 p)))), (0, .ref (A 0)), (1, .int (iI p))] [.long (iL (clT τ p)), .int (iI p), .ref (A 0), .long (iL (((D 51 p) + (D 52 p)) + ((((D 51 p) + (D 52 p)) * (τ 18 0)) / 1000))), .long (iL ((st2 τ 21 1 ((τ 21 1) - ((((D 51 p) + (D 52 p)) * (τ 18 0)) / 1000))) 21 0)), .int (iI 0), .ref (A 21)]
      refine v_iconst G dX4_finishes_123 ?_
      refine kX4_298 G (As := [.int (iI p), .long (iL (clT τ p)), .int (iI 4)]) (rest := [.long (iL (((D 51 p) + (D 52 p)) + ((((D 51 p) + (D 52 p)) * (τ 18 0)) / 1000))), .long (iL ((st2 τ 21 1 ((τ 21 1) - ((((D 51 p) + (D 52 p)) * (τ 18 0)) / 1000))) 21 0)), .int (iI 0), .ref (A 21)]) (cs' := 0) (sl' := 0) (n_ends G.fl (τ := st2 τ 21 1 ((τ 21 1) - ((((D 51 p) + (D 52 p)) * (τ 18 0)) / 1000))) (D := D23) hA (p := p) (its := (clT τ p)) (how := 4) ⟨by omega, by omega⟩ ⟨by omega, by omega⟩ (show 0 ≤ τ 38 p ∧ τ 38 p ≤ 200000000 by omega) (show 0 ≤ τ 23 p ∧ τ 23 p ≤ 3 by omega)) (zRcv.of G (q := (RX4, TX4, 55)) rfl zM_0) rfl rfl (Nat.le_of_ble_eq_true rfl) (zRm.ok rfl) dX4_finishes_124 (fun vq24 hq24 q24 => ?_)
      obtain ⟨_, _⟩ := q24
      subst vq24 hq24
      show VW θ Q E (zM E A h (sc (enS (st2 τ 21 1 ((τ 21 1) - ((((D 51 p) + (D 52 p)) * (τ 18 0)) / 1000))) p (clT τ p) 4) D23)) 0 0 127 [(6, .long (iL (((D 51 p) + (D 52 p)) + ((((D 51 p) + (D 52 p)) * (τ 18 0)) / 1000)))), (4, .long (iL ((((D 51 p) + (D 52 p)) * (τ 18 0)) / 1000))), (2, .long (iL ((D 51 p) + (D 52 p)))), (0, .ref (A 0)), (1, .int (iI p))] [.long (iL (max (clT τ p) (τ 38 p))), .long (iL (((D 51 p) + (D 52 p)) + ((((D 51 p) + (D 52 p)) * (τ 18 0)) / 1000))), .long (iL ((st2 τ 21 1 ((τ 21 1) - ((((D 51 p) + (D 52 p)) * (τ 18 0)) / 1000))) 21 0)), .int (iI 0), .ref (A 21)]
      refine v_lsub G dX4_finishes_127 ?_
      refine v_ladd G dX4_finishes_128 ?_
      refine m_lst G hA rfl ⟨by omega, by show _ < (9 : Int); omega⟩ dX4_finishes_129 ?_
      refine VW.hpe (congrArg (zM E A h) (sc_t (k := 21) rfl)) ?_
      refine v_goto G 415 (by decide) dX4_finishes_130 ?_
      exact v_vret G hQ ⟨rfl, D23, hD23, congrArg (fun t => zM E A h (sc t D23)) (by unfold fnS; (first | rw [if_pos (by omega)] | rw [if_neg (by omega), if_pos (by omega)] | rw [if_neg (by omega), if_neg (by omega), if_pos (by omega)] | rw [if_neg (by omega), if_neg (by omega), if_neg (by omega), if_pos (by omega)] | rw [if_neg (by omega), if_neg (by omega), if_neg (by omega), if_neg (by omega)]); (try subst hmm); (first | rw [if_pos (by omega)] | rw [if_neg (by omega)] | skip); rfl)⟩ (Nat.le_of_ble_eq_true rfl) (Nat.le_of_ble_eq_true rfl) dX4_finishes_415
    · refine v_aload_n G 3 rfl rfl dX4_finishes_68 ?_
      refine v_dup G rfl dX4_finishes_69 ?_
      refine gX4_117 G zM_0 (v := .long (iL (τ 14 0))) rfl dX4_finishes_70 ?_
      refine v_aload_n G 3 rfl rfl dX4_finishes_73 ?_
      refine v_iload_n G 4 rfl rfl dX4_finishes_74 ?_
      refine kX4_282 G (As := [.int (iI p)]) (rest := [.long (iL (τ 14 0)), .ref (A 0)]) (cs' := 0) (sl' := 0) (n_ceded G.fl (τ := st2 τ 21 1 ((τ 21 1) - ((((D 51 p) + (D 52 p)) * (τ 18 0)) / 1000))) (D := D) hA (p := p) ⟨by omega, by omega⟩ ho hr) (zRcv.of G (q := (RX4, TX4, 55)) rfl zM_0) rfl rfl (Nat.le_of_ble_eq_true rfl) (zRm.ok rfl) dX4_finishes_75 (fun vq25 hq25 q25 => ?_)
      obtain ⟨_, _⟩ := q25
      subst vq25 hq25
      show VW θ Q E (zM E A h (sc (st2 τ 21 1 ((τ 21 1) - ((((D 51 p) + (D 52 p)) * (τ 18 0)) / 1000))) D)) 0 0 78 [(6, .long (iL (((D 51 p) + (D 52 p)) + ((((D 51 p) + (D 52 p)) * (τ 18 0)) / 1000)))), (4, .long (iL ((((D 51 p) + (D 52 p)) * (τ 18 0)) / 1000))), (2, .long (iL ((D 51 p) + (D 52 p)))), (0, .ref (A 0)), (1, .int (iI p))] [.long (iL (cdT τ p)), .long (iL (τ 14 0)), .ref (A 0)]
      refine v_ladd G dX4_finishes_78 ?_
      refine pX4_117 G zM_0 (Nat.le_of_ble_eq_true rfl) dX4_finishes_79 ?_
      refine VW.hpe (zM_up0 (k := 14) (z := ((τ 14 0) + (cdT τ p))) rfl (by decide)) ?_
      refine VW.hpe (congrArg (zM E A h) (sc_t (k := 14) rfl)) ?_
      refine v_aload_n G 3 rfl rfl dX4_finishes_82 ?_
      refine gX4_24 G zM_0 (v := .ref (A 21)) rfl dX4_finishes_83 ?_
      refine v_bipush G rfl dX4_finishes_86 ?_
      refine v_dup2 G rfl rfl dX4_finishes_88 ?_
      refine m_lld G hA (v := (st2 (st2 τ 21 1 ((τ 21 1) - ((((D 51 p) + (D 52 p)) * (τ 18 0)) / 1000))) 14 0 ((τ 14 0) + (cdT τ p))) 21 7) rfl ⟨by omega, by show _ < (9 : Int); omega⟩ rfl dX4_finishes_89 ?_
      refine v_aload_n G 3 rfl rfl dX4_finishes_90 ?_
      refine v_iload_n G 4 rfl rfl dX4_finishes_91 ?_
      refine kX4_282 G (As := [.int (iI p)]) (rest := [.long (iL ((st2 (st2 τ 21 1 ((τ 21 1) - ((((D 51 p) + (D 52 p)) * (τ 18 0)) / 1000))) 14 0 ((τ 14 0) + (cdT τ p))) 21 7)), .int (iI 7), .ref (A 21)]) (cs' := 0) (sl' := 0) (n_ceded G.fl (τ := st2 (st2 τ 21 1 ((τ 21 1) - ((((D 51 p) + (D 52 p)) * (τ 18 0)) / 1000))) 14 0 ((τ 14 0) + (cdT τ p))) (D := D) hA (p := p) ⟨by omega, by omega⟩ ho hr) (zRcv.of G (q := (RX4, TX4, 55)) rfl zM_0) rfl rfl (Nat.le_of_ble_eq_true rfl) (zRm.ok rfl) dX4_finishes_92 (fun vq26 hq26 q26 => ?_)
      obtain ⟨_, _⟩ := q26
      subst vq26 hq26
      show VW θ Q E (zM E A h (sc (st2 (st2 τ 21 1 ((τ 21 1) - ((((D 51 p) + (D 52 p)) * (τ 18 0)) / 1000))) 14 0 ((τ 14 0) + (cdT τ p))) D)) 0 0 95 [(6, .long (iL (((D 51 p) + (D 52 p)) + ((((D 51 p) + (D 52 p)) * (τ 18 0)) / 1000)))), (4, .long (iL ((((D 51 p) + (D 52 p)) * (τ 18 0)) / 1000))), (2, .long (iL ((D 51 p) + (D 52 p)))), (0, .ref (A 0)), (1, .int (iI p))] [.long (iL (cdT τ p)), .long (iL ((st2 (st2 τ 21 1 ((τ 21 1) - ((((D 51 p) + (D 52 p)) * (τ 18 0)) / 1000))) 14 0 ((τ 14 0) + (cdT τ p))) 21 7)), .int (iI 7), .ref (A 21)]
      refine v_ladd G dX4_finishes_95 ?_
      refine m_lst G hA rfl ⟨by omega, by show _ < (9 : Int); omega⟩ dX4_finishes_96 ?_
      refine VW.hpe (congrArg (zM E A h) (sc_t (k := 21) rfl)) ?_
      refine v_aload_n G 3 rfl rfl dX4_finishes_97 ?_
      refine v_dup G rfl dX4_finishes_98 ?_
      refine gX4_159 G zM_0 (v := .long (iL (τ 15 0))) rfl dX4_finishes_99 ?_
      refine v_lconst G (n := 1) (v0 := 0) rfl dX4_finishes_102 ?_
      refine v_ladd G dX4_finishes_103 ?_
      refine pX4_159 G zM_0 (Nat.le_of_ble_eq_true rfl) dX4_finishes_104 ?_
      refine VW.hpe (zM_up0 (k := 15) (z := ((τ 15 0) + 1)) rfl (by decide)) ?_
      refine VW.hpe (congrArg (zM E A h) (sc_t (k := 15) rfl)) ?_
      refine v_aload_n G 3 rfl rfl dX4_finishes_107 ?_
      refine gX4_24 G zM_0 (v := .ref (A 21)) rfl dX4_finishes_108 ?_
      refine v_iconst G dX4_finishes_111 ?_
      refine v_dup2 G rfl rfl dX4_finishes_112 ?_
      refine m_lld G hA (v := (st2 (st2 (st2 (st2 τ 21 1 ((τ 21 1) - ((((D 51 p) + (D 52 p)) * (τ 18 0)) / 1000))) 14 0 ((τ 14 0) + (cdT τ p))) 21 7 (((st2 (st2 τ 21 1 ((τ 21 1) - ((((D 51 p) + (D 52 p)) * (τ 18 0)) / 1000))) 14 0 ((τ 14 0) + (cdT τ p))) 21 7) + (cdT τ p))) 15 0 ((τ 15 0) + 1)) 21 0) rfl ⟨by omega, by show _ < (9 : Int); omega⟩ rfl dX4_finishes_113 ?_
      refine v_lload G 0 rfl dX4_finishes_114 ?_
      refine v_aload_n G 3 rfl rfl dX4_finishes_116 ?_
      refine v_iload_n G 4 rfl rfl dX4_finishes_117 ?_
      refine v_aload_n G 3 rfl rfl dX4_finishes_118 ?_
      refine v_iload_n G 4 rfl rfl dX4_finishes_119 ?_
      refine kX4_295 G (As := [.int (iI p)]) (rest := [.int (iI p), .ref (A 0), .long (iL (((D 51 p) + (D 52 p)) + ((((D 51 p) + (D 52 p)) * (τ 18 0)) / 1000))), .long (iL ((st2 (st2 (st2 (st2 τ 21 1 ((τ 21 1) - ((((D 51 p) + (D 52 p)) * (τ 18 0)) / 1000))) 14 0 ((τ 14 0) + (cdT τ p))) 21 7 (((st2 (st2 τ 21 1 ((τ 21 1) - ((((D 51 p) + (D 52 p)) * (τ 18 0)) / 1000))) 14 0 ((τ 14 0) + (cdT τ p))) 21 7) + (cdT τ p))) 15 0 ((τ 15 0) + 1)) 21 0)), .int (iI 0), .ref (A 21)]) (cs' := 0) (sl' := 0) (n_claim G.fl (τ := st2 (st2 (st2 (st2 τ 21 1 ((τ 21 1) - ((((D 51 p) + (D 52 p)) * (τ 18 0)) / 1000))) 14 0 ((τ 14 0) + (cdT τ p))) 21 7 (((st2 (st2 τ 21 1 ((τ 21 1) - ((((D 51 p) + (D 52 p)) * (τ 18 0)) / 1000))) 14 0 ((τ 14 0) + (cdT τ p))) 21 7) + (cdT τ p))) 15 0 ((τ 15 0) + 1)) (D := D) hA (p := p) ⟨by omega, by omega⟩ ho hw hf) (zRcv.of G (q := (RX4, TX4, 55)) rfl zM_0) rfl rfl (Nat.le_of_ble_eq_true rfl) (zRm.ok rfl) dX4_finishes_120 (fun vq27 hq27 q27 => ?_)
      obtain ⟨_, D28, hD28, _⟩ := q27
      subst vq27 hq27
      show VW θ Q E (zM E A h (sc (st2 (st2 (st2 (st2 τ 21 1 ((τ 21 1) - ((((D 51 p) + (D 52 p)) * (τ 18 0)) / 1000))) 14 0 ((τ 14 0) + (cdT τ p))) 21 7 (((st2 (st2 τ 21 1 ((τ 21 1) - ((((D 51 p) + (D 52 p)) * (τ 18 0)) / 1000))) 14 0 ((τ 14 0) + (cdT τ p))) 21 7) + (cdT τ p))) 15 0 ((τ 15 0) + 1)) D28)) 0 0 123 [(6, .long (iL (((D 51 p) + (D 52 p)) + ((((D 51 p) + (D 52 p)) * (τ 18 0)) / 1000)))), (4, .long (iL ((((D 51 p) + (D 52 p)) * (τ 18 0)) / 1000))), (2, .long (iL ((D 51 p) + (D 52 p)))), (0, .ref (A 0)), (1, .int (iI p))] [.long (iL (clT τ p)), .int (iI p), .ref (A 0), .long (iL (((D 51 p) + (D 52 p)) + ((((D 51 p) + (D 52 p)) * (τ 18 0)) / 1000))), .long (iL ((st2 (st2 (st2 (st2 τ 21 1 ((τ 21 1) - ((((D 51 p) + (D 52 p)) * (τ 18 0)) / 1000))) 14 0 ((τ 14 0) + (cdT τ p))) 21 7 (((st2 (st2 τ 21 1 ((τ 21 1) - ((((D 51 p) + (D 52 p)) * (τ 18 0)) / 1000))) 14 0 ((τ 14 0) + (cdT τ p))) 21 7) + (cdT τ p))) 15 0 ((τ 15 0) + 1)) 21 0)), .int (iI 0), .ref (A 21)]
      refine v_iconst G dX4_finishes_123 ?_
      refine kX4_298 G (As := [.int (iI p), .long (iL (clT τ p)), .int (iI 4)]) (rest := [.long (iL (((D 51 p) + (D 52 p)) + ((((D 51 p) + (D 52 p)) * (τ 18 0)) / 1000))), .long (iL ((st2 (st2 (st2 (st2 τ 21 1 ((τ 21 1) - ((((D 51 p) + (D 52 p)) * (τ 18 0)) / 1000))) 14 0 ((τ 14 0) + (cdT τ p))) 21 7 (((st2 (st2 τ 21 1 ((τ 21 1) - ((((D 51 p) + (D 52 p)) * (τ 18 0)) / 1000))) 14 0 ((τ 14 0) + (cdT τ p))) 21 7) + (cdT τ p))) 15 0 ((τ 15 0) + 1)) 21 0)), .int (iI 0), .ref (A 21)]) (cs' := 0) (sl' := 0) (n_ends G.fl (τ := st2 (st2 (st2 (st2 τ 21 1 ((τ 21 1) - ((((D 51 p) + (D 52 p)) * (τ 18 0)) / 1000))) 14 0 ((τ 14 0) + (cdT τ p))) 21 7 (((st2 (st2 τ 21 1 ((τ 21 1) - ((((D 51 p) + (D 52 p)) * (τ 18 0)) / 1000))) 14 0 ((τ 14 0) + (cdT τ p))) 21 7) + (cdT τ p))) 15 0 ((τ 15 0) + 1)) (D := D28) hA (p := p) (its := (clT τ p)) (how := 4) ⟨by omega, by omega⟩ ⟨by omega, by omega⟩ (show 0 ≤ τ 38 p ∧ τ 38 p ≤ 200000000 by omega) (show 0 ≤ τ 23 p ∧ τ 23 p ≤ 3 by omega)) (zRcv.of G (q := (RX4, TX4, 55)) rfl zM_0) rfl rfl (Nat.le_of_ble_eq_true rfl) (zRm.ok rfl) dX4_finishes_124 (fun vq29 hq29 q29 => ?_)
      obtain ⟨_, _⟩ := q29
      subst vq29 hq29
      show VW θ Q E (zM E A h (sc (enS (st2 (st2 (st2 (st2 τ 21 1 ((τ 21 1) - ((((D 51 p) + (D 52 p)) * (τ 18 0)) / 1000))) 14 0 ((τ 14 0) + (cdT τ p))) 21 7 (((st2 (st2 τ 21 1 ((τ 21 1) - ((((D 51 p) + (D 52 p)) * (τ 18 0)) / 1000))) 14 0 ((τ 14 0) + (cdT τ p))) 21 7) + (cdT τ p))) 15 0 ((τ 15 0) + 1)) p (clT τ p) 4) D28)) 0 0 127 [(6, .long (iL (((D 51 p) + (D 52 p)) + ((((D 51 p) + (D 52 p)) * (τ 18 0)) / 1000)))), (4, .long (iL ((((D 51 p) + (D 52 p)) * (τ 18 0)) / 1000))), (2, .long (iL ((D 51 p) + (D 52 p)))), (0, .ref (A 0)), (1, .int (iI p))] [.long (iL (max (clT τ p) (τ 38 p))), .long (iL (((D 51 p) + (D 52 p)) + ((((D 51 p) + (D 52 p)) * (τ 18 0)) / 1000))), .long (iL ((st2 (st2 (st2 (st2 τ 21 1 ((τ 21 1) - ((((D 51 p) + (D 52 p)) * (τ 18 0)) / 1000))) 14 0 ((τ 14 0) + (cdT τ p))) 21 7 (((st2 (st2 τ 21 1 ((τ 21 1) - ((((D 51 p) + (D 52 p)) * (τ 18 0)) / 1000))) 14 0 ((τ 14 0) + (cdT τ p))) 21 7) + (cdT τ p))) 15 0 ((τ 15 0) + 1)) 21 0)), .int (iI 0), .ref (A 21)]
      refine v_lsub G dX4_finishes_127 ?_
      refine v_ladd G dX4_finishes_128 ?_
      refine m_lst G hA rfl ⟨by omega, by show _ < (9 : Int); omega⟩ dX4_finishes_129 ?_
      refine VW.hpe (congrArg (zM E A h) (sc_t (k := 21) rfl)) ?_
      refine v_goto G 415 (by decide) dX4_finishes_130 ?_
      exact v_vret G hQ ⟨rfl, D28, hD28, congrArg (fun t => zM E A h (sc t D28)) (by unfold fnS; (first | rw [if_pos (by omega)] | rw [if_neg (by omega), if_pos (by omega)] | rw [if_neg (by omega), if_neg (by omega), if_pos (by omega)] | rw [if_neg (by omega), if_neg (by omega), if_neg (by omega), if_pos (by omega)] | rw [if_neg (by omega), if_neg (by omega), if_neg (by omega), if_neg (by omega)]); (try subst hmm); (first | rw [if_pos (by omega)] | rw [if_neg (by omega)] | skip); rfl)⟩ (Nat.le_of_ble_eq_true rfl) (Nat.le_of_ble_eq_true rfl) dX4_finishes_415

