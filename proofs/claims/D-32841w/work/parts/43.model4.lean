/-! WALKS: the reference: closes -/
set_option maxRecDepth 100000
set_option maxHeartbeats 4000000 in
theorem n_closes {l : Launch} (hfl : l.stackTraces = false) {E : zEn} {h : zHp} {A : Nat → Nat} {τ D : mMem} (hA : mInj A) (H : okT τ) (hy : τ 1 0 < 2150) {j x : Int} (hj : 0 ≤ j ∧ j ≤ 100) (hxx : 0 ≤ x ∧ x ≤ 1000)  : CN l E yX4_closes (ws_ yX4_closes cX4_closes 5 (some FieldType.long)) ({ frames := 7, cells := 0, slots := 0, locals := 195 } : Room) [.ref (A 0), .int (iI j), .int (iI x)] (zM E A h (sc τ D)) (zS E A h (closeS τ j x) (some (.long (iL (closeS τ j x 17 0)))) (fun D' => D' 0 = D 0)) := by
  refine CN.of (by decide +kernel) hfl (Nat.le_of_ble_eq_true rfl) fun θ Q hl G hin hQ => ?_
  subst hl
  show VW θ Q E (zM E A h (sc τ D)) 0 0 0 [(0, .ref (A 0)), (1, .int (iI j)), (2, .int (iI x))] []
  have hm := H.many
  have hn9 := H.nums
  have hyy := H.year
  refine v_aload_n G 0 rfl rfl dX4_closes_0 ?_
  refine gX4_103 G zM_0 (v := .ref (A 53)) rfl dX4_closes_1 ?_
  refine v_astore_n G (L' := [(3, .ref (A 53)), (0, .ref (A 0)), (1, .int (iI j)), (2, .int (iI x))]) rfl (Nat.le_of_ble_eq_true rfl) rfl dX4_closes_4 ?_
  refine v_iconst G dX4_closes_5 ?_
  refine v_istore G (L' := [(4, .int (iI 0)), (3, .ref (A 53)), (0, .ref (A 0)), (1, .int (iI j)), (2, .int (iI x))]) (Nat.le_of_ble_eq_true rfl) rfl dX4_closes_6 ?_
  have P1 : ∀ (n : Nat) (p : Int) (t : mMem) (D1 : mMem), (0 ≤ p ∧ p ≤ τ 10 0) → (t = bgN τ j x p.toNat) → (cl1 τ p D1 ∧ D1 0 = D 0) → (τ 10 0 - p).toNat < n → VW θ Q E (zM E A h (sc t D1)) 0 0 8 [(0, .ref (A 0)), (1, .int (iI j)), (2, .int (iI x)), (3, .ref (A 53)), (4, .int (iI p))] [] := by
    intro n
    induction n with
    | zero => intros; omega
    | succ n P1ih =>
      intro p t D1 hp ht hk1 hn
      have o : ∀ k, (k ≠ 14 ∧ k ≠ 40 ∧ k ≠ 21 ∧ k ≠ 16 ∧ k ≠ 37) → t k = τ k := fun k hk => by rw [ht]; exact bgN_o hk _
      have o29 : t 29 p = τ 29 p := by rw [o 29 (by decide)]
      have o10 : t 10 0 = τ 10 0 := by rw [o 10 (by decide)]
      have o1 : t 1 0 = τ 1 0 := by rw [o 1 (by decide)]
      refine v_iload G 4 rfl dX4_closes_8 ?_
      refine v_aload_n G 0 rfl rfl dX4_closes_10 ?_
      refine gX4_146 G zM_0 (v := .int (iI (t 10 0))) rfl dX4_closes_11 ?_
      refine v_icmp_ge G 48 ⟨by omega, by omega⟩ ⟨by omega, by omega⟩ (by decide) dX4_closes_14 (fun c2 => ?_) (fun c2 => ?_)
      · have hpe : p = τ 10 0 := by omega
        rw [hpe] at ht hk1
        have hB : t = clB τ j x := ht
        have hb1 : ∀ b, 0 ≤ b → b < t 11 0 → okBnd t b := fun b h1 h2 => by unfold okBnd; rw [o 42 (by decide), o 43 (by decide), o 44 (by decide)]; exact H.bnd b h1 (by rw [o 11 (by decide)] at h2; exact h2)
        have hm1 : (0 ≤ t 10 0 ∧ t 10 0 ≤ 24) ∧ (0 ≤ t 11 0 ∧ t 11 0 ≤ 16) := by rw [o 10 (by decide), o 11 (by decide)]; exact hm
        have hpo : ∀ p, 0 ≤ p → p < t 10 0 → (0 ≤ t 29 p ∧ t 29 p ≤ 7) ∧ (0 ≤ t 38 p ∧ t 38 p ≤ 110000000) := fun p h1 h2 => by
          rw [o 29 (by decide), o 38 (by decide)]
          have h9 := H.pol p h1 (by rw [o10] at h2; exact h2)
          simp only [okPol, okP1, okP, tP] at h9
          omega
        refine v_aload_n G 0 rfl rfl dX4_closes_48 ?_
        refine gX4_24 G zM_0 (v := .ref (A 21)) rfl dX4_closes_49 ?_
        refine v_iconst G dX4_closes_52 ?_
        refine v_dup2 G rfl rfl dX4_closes_53 ?_
        refine m_lld G hA (v := t 21 1) rfl ⟨by omega, by show _ < (9 : Int); omega⟩ rfl dX4_closes_54 ?_
        refine v_aload_n G 0 rfl rfl dX4_closes_55 ?_
        refine v_iload_n G 1 rfl rfl dX4_closes_56 ?_
        refine kX4_308 G (As := [.int (iI j)]) (rest := [.long (iL (t 21 1)), .int (iI 1), .ref (A 21)]) (cs' := 0) (sl' := 0) (n_earns G.fl (τ := t) (D := D1) hA (j := j) hm1 hb1 hpo hj) (zRcv.of G (q := (RX4, TX4, 55)) rfl zM_0) rfl rfl (Nat.le_of_ble_eq_true rfl) (zRm.ok rfl) dX4_closes_57 (fun vq3 hq3 q3 => ?_)
        obtain ⟨_, _⟩ := q3
        subst vq3 hq3
        show VW θ Q E (zM E A h (sc (eaS t j) D1)) 0 0 60 [(0, .ref (A 0)), (1, .int (iI j)), (2, .int (iI x)), (3, .ref (A 53)), (4, .int (iI p))] [.long (iL (eaV t j)), .long (iL (t 21 1)), .int (iI 1), .ref (A 21)]
        refine v_ladd G dX4_closes_60 ?_
        refine m_lst G hA rfl ⟨by omega, by show _ < (9 : Int); omega⟩ dX4_closes_61 ?_
        refine VW.hpe (congrArg (zM E A h) (sc_t (k := 21) rfl)) ?_
        refine VW.hpe (congrArg (fun u => zM E A h (sc u D1)) (show st2 (eaS t j) 21 1 ((t 21 1) + (eaV t j)) = ad (eaS t j) 21 1 (eaV t j) from by unfold ad; rw [eaS_o (by decide) (by decide)])) ?_
        obtain ⟨t2, ht2⟩ : ∃ t2 : mMem, t2 = ad (eaS t j) 21 1 (eaV t j) := ⟨_, rfl⟩
        rw [← ht2]
        have o2 : ∀ k, (k ≠ 14 ∧ k ≠ 38 ∧ k ≠ 21) → t2 k = t k := fun k hk => by rw [ht2]; unfold ad; rw [st2_k hk.2.2, eaS_o hk.1 hk.2.1]
        have hb2 : ∀ b, 0 ≤ b → b < t2 11 0 → okBnd t2 b := fun b h1 h2 => by unfold okBnd; rw [o2 42 (by decide), o2 43 (by decide), o2 44 (by decide)]; exact hb1 b h1 (by rw [o2 11 (by decide)] at h2; exact h2)
        have hm2 : (0 ≤ t2 10 0 ∧ t2 10 0 ≤ 24) ∧ (0 ≤ t2 11 0 ∧ t2 11 0 ≤ 16) := by rw [o2 10 (by decide), o2 11 (by decide)]; exact hm1
        refine v_aload_n G 0 rfl rfl dX4_closes_62 ?_
        refine kX4_311 G (As := []) (rest := []) (cs' := 0) (sl' := 0) (n_ages G.fl (τ := t2) (D := D1) hA hm2 hb2) (zRcv.of G (q := (RX4, TX4, 55)) rfl zM_0) rfl rfl (Nat.le_of_ble_eq_true rfl) (zRm.ok rfl) dX4_closes_63 (fun vq4 hq4 q4 => ?_)
        obtain ⟨_, _⟩ := q4
        subst vq4 hq4
        show VW θ Q E (zM E A h (sc (agS t2) D1)) 0 0 66 [(0, .ref (A 0)), (1, .int (iI j)), (2, .int (iI x)), (3, .ref (A 53)), (4, .int (iI p))] []
        have hE : agS t2 = clE τ j x := by rw [ht2, hB]; rfl
        rw [hE]
        refine v_iconst G dX4_closes_66 ?_
        refine v_istore G (L' := [(4, .int (iI 0)), (0, .ref (A 0)), (1, .int (iI j)), (2, .int (iI x)), (3, .ref (A 53))]) (Nat.le_of_ble_eq_true rfl) rfl dX4_closes_67 ?_
        have P5 : ∀ (n : Nat) (p : Int) (t : mMem) (D2 : mMem), (0 ≤ p ∧ p ≤ τ 10 0) → (t = fnN τ (clE τ j x) p.toNat) → (kp D1 D2) → (τ 10 0 - p).toNat < n → VW θ Q E (zM E A h (sc t D2)) 0 0 69 [(0, .ref (A 0)), (3, .ref (A 53)), (4, .int (iI p))] [] := by
          intro n
          induction n with
          | zero => intros; omega
          | succ n P5ih =>
            intro p t D2 hp ht hk2 hn
            have o : ∀ k, (k ≠ 14 ∧ k ≠ 15 ∧ k ≠ 21 ∧ k ≠ 29 ∧ k ≠ 31 ∧ k ≠ 32 ∧ k ≠ 38 ∧ k ≠ 41 ∧ k ≠ 40 ∧ k ≠ 16 ∧ k ≠ 37 ∧ k ≠ 11 ∧ k ≠ 42 ∧ k ≠ 43 ∧ k ≠ 44) → t k = τ k := fun k hk => by rw [ht, fnN_o (by omega)]; exact clE_o (by omega)
            have o10 : t 10 0 = τ 10 0 := by rw [o 10 (by decide)]
            have o1 : t 1 0 = τ 1 0 := by rw [o 1 (by decide)]
            refine v_iload G 2 rfl dX4_closes_69 ?_
            refine v_aload_n G 0 rfl rfl dX4_closes_71 ?_
            refine gX4_146 G zM_0 (v := .int (iI (t 10 0))) rfl dX4_closes_72 ?_
            refine v_icmp_ge G 97 ⟨by omega, by omega⟩ ⟨by omega, by omega⟩ (by decide) dX4_closes_75 (fun c6 => ?_) (fun c6 => ?_)
            · have hpe : p = τ 10 0 := by omega
              rw [hpe] at ht
              have hF : t = clF τ j x := ht
              refine v_aload_n G 0 rfl rfl dX4_closes_97 ?_
              refine v_dup G rfl dX4_closes_98 ?_
              refine gX4_114 G zM_0 (v := .int (iI (t 1 0))) rfl dX4_closes_99 ?_
              refine v_iconst G dX4_closes_102 ?_
              refine v_iadd G dX4_closes_103 ?_
              refine pX4_114 G zM_0 (Nat.le_of_ble_eq_true rfl) dX4_closes_104 ?_
              refine VW.hpe (zM_up0 (k := 1) (z := ((t 1 0) + 1)) rfl (by decide)) ?_
              refine VW.hpe (congrArg (zM E A h) (sc_t (k := 1) rfl)) ?_
              refine v_aload_n G 0 rfl rfl dX4_closes_107 ?_
              refine v_lconst G (n := 0) (v0 := 0) rfl dX4_closes_108 ?_
              refine pX4_165 G zM_0 (Nat.le_of_ble_eq_true rfl) dX4_closes_109 ?_
              refine VW.hpe (zM_up0 (k := 17) (z := 0) rfl (by decide)) ?_
              refine VW.hpe (congrArg (zM E A h) (sc_t (k := 17) rfl)) ?_
              refine v_iconst G dX4_closes_112 ?_
              refine v_istore G (L' := [(4, .int (iI 0)), (0, .ref (A 0)), (3, .ref (A 53))]) (Nat.le_of_ble_eq_true rfl) rfl dX4_closes_113 ?_
              have P7 : ∀ (n : Nat) (k : Int) (u : mMem), (0 ≤ k ∧ k ≤ 9) → (u = snN (st2 t 1 0 (t 1 0 + 1)) k.toNat) → (9 - k).toNat < n → VW θ Q E (zM E A h (sc u D2)) 0 0 115 [(0, .ref (A 0)), (4, .int (iI k))] [] := by
                intro n
                induction n with
                | zero => intros; omega
                | succ n P7ih =>
                  intro k u hkk hu hn
                  have o21 : u 21 k = t 21 k := by rw [hu, snN_21 _ (by omega)]; rfl
                  refine v_iload G 1 rfl dX4_closes_115 ?_
                  refine v_bipush G rfl dX4_closes_117 ?_
                  refine v_icmp_ge G 166 ⟨by omega, by omega⟩ ⟨by decide, by decide⟩ (by decide) dX4_closes_119 (fun c8 => ?_) (fun c8 => ?_)
                  · have hS : st2 u 12 0 0 = closeS τ j x := by rw [hu, o1, hF, show k = 9 by omega]; rfl
                    refine v_aload_n G 0 rfl rfl dX4_closes_166 ?_
                    refine v_iconst G dX4_closes_167 ?_
                    refine pX4_152 G (by decide) zM_0 (Nat.le_of_ble_eq_true rfl) dX4_closes_168 ?_
                    refine VW.hpe (zM_up0 (k := 12) (z := 0) rfl (by decide)) ?_
                    refine VW.hpe (congrArg (zM E A h) (sc_t (k := 12) rfl)) ?_
                    refine v_aload_n G 0 rfl rfl dX4_closes_171 ?_
                    refine gX4_165 G zM_0 (v := .long (iL (u 17 0))) rfl dX4_closes_172 ?_
                    exact v_lret G hQ ⟨by rw [← hS]; rfl, D2, (hk2 0 (by omega)).trans hk1.2, by rw [hS]⟩ (Nat.le_of_ble_eq_true rfl) (Nat.le_of_ble_eq_true rfl) dX4_closes_175
                  · refine v_aload_n G 0 rfl rfl dX4_closes_122 ?_
                    refine gX4_28 G zM_0 (v := .ref (A 22)) rfl dX4_closes_123 ?_
                    refine v_iload G 1 rfl dX4_closes_126 ?_
                    refine v_aload_n G 0 rfl rfl dX4_closes_128 ?_
                    refine gX4_24 G zM_0 (v := .ref (A 21)) rfl dX4_closes_129 ?_
                    refine v_iload G 1 rfl dX4_closes_132 ?_
                    refine m_lld G hA (v := u 21 k) rfl ⟨by omega, by show _ < (9 : Int); omega⟩ rfl dX4_closes_134 ?_
                    refine m_lst G hA rfl ⟨by omega, by show _ < (9 : Int); omega⟩ dX4_closes_135 ?_
                    refine VW.hpe (congrArg (zM E A h) (sc_t (k := 22) rfl)) ?_
                    refine v_aload_n G 0 rfl rfl dX4_closes_136 ?_
                    refine v_dup G rfl dX4_closes_137 ?_
                    refine gX4_165 G zM_0 (v := .long (iL (u 17 0))) rfl dX4_closes_138 ?_
                    refine v_aload_n G 0 rfl rfl dX4_closes_141 ?_
                    refine gX4_24 G zM_0 (v := .ref (A 21)) rfl dX4_closes_142 ?_
                    refine v_iload G 1 rfl dX4_closes_145 ?_
                    refine m_lld G hA (v := u 21 k) rfl ⟨by omega, by show _ < (9 : Int); omega⟩ rfl dX4_closes_147 ?_
                    refine v_ladd G dX4_closes_148 ?_
                    refine pX4_165 G zM_0 (Nat.le_of_ble_eq_true rfl) dX4_closes_149 ?_
                    refine VW.hpe (zM_up0 (k := 17) (z := ((u 17 0) + (u 21 k))) rfl (by decide)) ?_
                    refine VW.hpe (congrArg (zM E A h) (sc_t (k := 17) rfl)) ?_
                    refine v_aload_n G 0 rfl rfl dX4_closes_152 ?_
                    refine gX4_24 G zM_0 (v := .ref (A 21)) rfl dX4_closes_153 ?_
                    refine v_iload G 1 rfl dX4_closes_156 ?_
                    refine v_lconst G (n := 0) (v0 := 0) rfl dX4_closes_158 ?_
                    refine m_lst G hA rfl ⟨by omega, by show _ < (9 : Int); omega⟩ dX4_closes_159 ?_
                    refine VW.hpe (congrArg (zM E A h) (sc_t (k := 21) rfl)) ?_
                    refine v_iinc G (L' := [(4, .int (iI (k + 1))), (0, .ref (A 0))]) 1 rfl (Nat.le_of_ble_eq_true rfl) rfl dX4_closes_160 ?_
                    refine v_goto G 115 (by decide) dX4_closes_163 ?_
                    refine VW.pick (L2 := [(0, .ref (A 0)), (4, .int (iI (k + 1)))]) [1, 0] rfl ?_
                    exact P7ih (k + 1) (st2 (st2 (st2 u 22 k (u 21 k)) 17 0 ((u 17 0) + (u 21 k))) 21 k 0) ⟨by omega, by omega⟩ (by rw [snN_s hkk.1, ← hu, show (st2 t 1 0 (t 1 0 + 1)) 21 k = t 21 k from rfl, ← o21]; rfl) (by omega)
              refine VW.pick (L2 := [(0, .ref (A 0)), (4, .int (iI 0))]) [1, 0] rfl ?_
              exact P7 _ 0 (st2 (st2 t 1 0 ((t 1 0) + 1)) 17 0 0) ⟨by omega, by omega⟩ rfl (Nat.lt_succ_self _)
            · have P9 := H.pol p hp.1 (by omega)
              have h9 := P9
              simp only [okPol, okP1, okP, tP] at h9
              have oq : ∀ k, (k ≠ 14 ∧ k ≠ 15 ∧ k ≠ 21) → t k p = clE τ j x k p := fun k hk => by rw [ht]; exact fnN_p hk _ (by omega)
              have o29 : t 29 p = τ 29 p := by rw [oq 29 (by decide), clE_o (by decide)]
              have o31 : t 31 p = τ 31 p := by rw [oq 31 (by decide), clE_o (by decide)]
              have cb := clE_p (τ := τ) (j := j) (x := x) (q := p) (by omega) (by omega)
              have op : okP1 t p := okP1_of P9.1 (by have e := clE_pEq (τ := τ) (j := j) (x := x) (q := p); unfold pEq at e ⊢; rw [o29, o 2 (by decide), o 18 (by decide), o 19 (by decide), o 20 (by decide), o 23 (by decide), o 24 (by decide), o 25 (by decide), o 26 (by decide), o 27 (by decide), o 28 (by decide), o 34 (by decide), o 35 (by decide), o 36 (by decide)]; simp only [and_self]) (by rw [o 39 (by decide)]) (by rw [o 30 (by decide)]) (by rw [oq 37 (by decide)]; exact cb.1) (by rw [oq 38 (by decide)]; exact cb.2)
              have ow : okLaw t 0 := by unfold okLaw; rw [o 18 (by decide), o 19 (by decide), o 20 (by decide)]; exact H.law 0 (by omega) (by omega)
              have hcl := hk1.1 p hp.1 (by omega)
              have d53 : D2 53 p = if τ 29 p ≤ 3 then 1 else 0 := by rw [hk2 53 (by omega)]; exact hcl.1
              have d51 : D2 51 p = D1 51 p := by rw [hk2 51 (by omega)]
              have d52 : D2 52 p = D1 52 p := by rw [hk2 52 (by omega)]
              have d5 := ite01 d53
              have rb := (fun y => (⟨(rsT_bd P9.1 (H.law 0 (by omega) (by omega)) y).1, (rsT_bd P9.1 (H.law 0 (by omega) (by omega)) y).2.1⟩ : -120000000 ≤ rsT τ 0 p (τ 1 0) ∧ rsT τ 0 p (τ 1 0) ≤ 120000000)) ⟨by omega, fun _ => by omega, by omega⟩
              have nb : 0 ≤ ntT τ p (τ 1 0) ∧ ntT τ p (τ 1 0) ≤ 110000000 := by unfold ntT; split; exact npT_bd P9.1 (H.law 0 (by omega) (by omega)) (by omega); omega
              refine v_aload_n G 1 rfl rfl dX4_closes_78 ?_
              refine v_iload G 2 rfl dX4_closes_79 ?_
              refine m_zld G hA (v := D2 53 p) rfl ⟨by omega, by show _ < (24 : Int); omega⟩ rfl dX4_closes_81 ?_
              refine v_if_eq G 91 ⟨by omega, by omega⟩ (by decide) dX4_closes_82 (fun c9 => ?_) (fun c9 => ?_)
              · refine v_iinc G (L' := [(4, .int (iI (p + 1))), (0, .ref (A 0)), (3, .ref (A 53))]) 2 rfl (Nat.le_of_ble_eq_true rfl) rfl dX4_closes_91 ?_
                refine v_goto G 69 (by decide) dX4_closes_94 ?_
                refine VW.pick (L2 := [(0, .ref (A 0)), (3, .ref (A 53)), (4, .int (iI (p + 1)))]) [1, 2, 0] rfl ?_
                exact P5ih (p + 1) t D2 ⟨by omega, by omega⟩ (by rw [fnN_s hp.1, if_neg (by omega), ← ht]) hk2 (by omega)
              · refine v_aload_n G 0 rfl rfl dX4_closes_85 ?_
                refine v_iload G 2 rfl dX4_closes_86 ?_
                refine kX4_314 G (As := [.int (iI p)]) (rest := []) (cs' := 0) (sl' := 0) (n_fin G.fl (τ := t) (D := D2) hA (p := p) (w := rsT τ 0 p (τ 1 0)) (n := ntT τ p (τ 1 0)) ⟨by omega, by omega⟩ op ow (by rw [o 8 (by decide), o 9 (by decide)]; omega) (by rw [o 7 (by decide)]; omega) (by rw [o 27 (by decide), o29, o 28 (by decide), o1]; omega) (by rw [o31]; omega) (by omega) rb nb (d51.trans (hcl.2 (by omega)).1) (d52.trans (hcl.2 (by omega)).2)) (zRcv.of G (q := (RX4, TX4, 55)) rfl zM_0) rfl rfl (Nat.le_of_ble_eq_true rfl) (zRm.ok rfl) dX4_closes_88 (fun vq10 hq10 q10 => ?_)
                obtain ⟨_, D11, hD11, _⟩ := q10
                subst vq10 hq10
                show VW θ Q E (zM E A h (sc (fnS t p (rsT τ 0 p (τ 1 0)) (ntT τ p (τ 1 0))) D11)) 0 0 91 [(0, .ref (A 0)), (3, .ref (A 53)), (4, .int (iI p))] []
                refine v_iinc G (L' := [(4, .int (iI (p + 1))), (0, .ref (A 0)), (3, .ref (A 53))]) 2 rfl (Nat.le_of_ble_eq_true rfl) rfl dX4_closes_91 ?_
                refine v_goto G 69 (by decide) dX4_closes_94 ?_
                refine VW.pick (L2 := [(0, .ref (A 0)), (3, .ref (A 53)), (4, .int (iI (p + 1)))]) [1, 2, 0] rfl ?_
                exact P5ih (p + 1) (fnS t p (rsT τ 0 p (τ 1 0)) (ntT τ p (τ 1 0))) D11 ⟨by omega, by omega⟩ (by rw [fnN_s hp.1, if_pos (by omega), ← ht]) (hk2.trans hD11) (by omega)
        refine VW.pick (L2 := [(0, .ref (A 0)), (3, .ref (A 53)), (4, .int (iI 0))]) [1, 4, 0] rfl ?_
        exact P5 _ 0 (clE τ j x) D1 ⟨by omega, by omega⟩ rfl kp.rfl (Nat.lt_succ_self _)
      · have P9 := H.pol p hp.1 (by omega)
        have h9 := P9
        simp only [okPol, okP1, okP, tP] at h9
        have he : pEq τ t p := by rw [ht]; exact bgN_pEq _
        have hr := rsT_congr he 0 (τ 1 0)
        have hnt := ntT_congr he (τ 1 0)
        have o37 : t 37 p = τ 37 p := by rw [ht]; exact bgN_p (by decide) _ (by omega)
        have op : okP1 t p := okP1_of P9.1 he (by rw [o 39 (by decide)]) (by rw [o 30 (by decide)]) (by rw [o37]; omega) (by rw [o 38 (by decide)]; omega)
        have ow : okLaw t 0 := by unfold okLaw; rw [o 18 (by decide), o 19 (by decide), o 20 (by decide)]; exact H.law 0 (by omega) (by omega)
        refine v_aload_n G 3 rfl rfl dX4_closes_17 ?_
        refine v_iload G 4 rfl dX4_closes_18 ?_
        refine v_aload_n G 0 rfl rfl dX4_closes_20 ?_
        refine v_iload G 4 rfl dX4_closes_21 ?_
        refine kX4_234 G (As := [.int (iI p)]) (rest := [.int (iI p), .ref (A 53)]) (cs' := 0) (sl' := 0) (n_isLiving G.fl (τ := t) (D := D1) hA (p := p) ⟨by omega, by omega⟩ (show 0 ≤ t 29 p ∧ t 29 p ≤ 7 by omega)) (zRcv.of G (q := (RX4, TX4, 55)) rfl zM_0) rfl rfl (Nat.le_of_ble_eq_true rfl) (zRm.ok rfl) dX4_closes_23 (fun vq12 hq12 q12 => ?_)
        obtain ⟨_, _⟩ := q12
        subst vq12 hq12
        refine VW.nmI (fun z13 hz13 => ?_)
        have hz13 := (show (z13 = 1 ∧ t 29 p ≤ 3) ∨ (z13 = 0 ∧ ¬ (t 29 p ≤ 3)) from ite01 hz13)
        show VW θ Q E (zM E A h (sc t D1)) 0 0 26 [(0, .ref (A 0)), (1, .int (iI j)), (2, .int (iI x)), (3, .ref (A 53)), (4, .int (iI p))] [.int (iI z13), .int (iI p), .ref (A 53)]
        refine m_zst G hA rfl (by omega) ⟨by omega, by show _ < (24 : Int); omega⟩ dX4_closes_26 ?_
        refine VW.hpe (congrArg (zM E A h) (sc_D (k := 53) rfl)) ?_
        refine v_aload_n G 3 rfl rfl dX4_closes_27 ?_
        refine v_iload G 4 rfl dX4_closes_28 ?_
        refine m_zld G hA (v := z13) rfl ⟨by omega, by show _ < (24 : Int); omega⟩ (by first | exact sc_rD rfl | exact sc_rt rfl | simp (decide := true) [sc, st2, iup]) dX4_closes_30 ?_
        refine v_if_eq G 42 ⟨by omega, by omega⟩ (by decide) dX4_closes_31 (fun c14 => ?_) (fun c14 => ?_)
        · have gz13 := bF hz13 (by omega)
          refine v_iinc G (L' := [(4, .int (iI (p + 1))), (0, .ref (A 0)), (1, .int (iI j)), (2, .int (iI x)), (3, .ref (A 53))]) 4 rfl (Nat.le_of_ble_eq_true rfl) rfl dX4_closes_42 ?_
          refine v_goto G 8 (by decide) dX4_closes_45 ?_
          refine VW.pick (L2 := [(0, .ref (A 0)), (1, .int (iI j)), (2, .int (iI x)), (3, .ref (A 53)), (4, .int (iI (p + 1)))]) [1, 2, 3, 4, 0] rfl ?_
          exact P1ih (p + 1) t (st2 D1 53 p z13) ⟨by omega, by omega⟩ (by rw [bgN_s hp.1, if_neg (by omega), ← ht]) ⟨cl1_n hk1.1 (by omega) (by omega), hk1.2⟩ (by omega)
        · have gz13 := bT hz13 (by omega)
          refine v_aload_n G 0 rfl rfl dX4_closes_34 ?_
          refine v_iload G 4 rfl dX4_closes_35 ?_
          refine v_iload_n G 1 rfl rfl dX4_closes_37 ?_
          refine v_iload_n G 2 rfl rfl dX4_closes_38 ?_
          refine kX4_305 G (As := [.int (iI p), .int (iI j), .int (iI x)]) (rest := []) (cs' := 0) (sl' := 0) (n_begins G.fl (τ := t) (D := st2 D1 53 p z13) hA (p := p) (j := j) (x := x) ⟨by omega, by omega⟩ op ow (by rw [o 8 (by decide), o 9 (by decide)]; omega) (by rw [o 27 (by decide), o 28 (by decide), o1]; omega) hj hxx) (zRcv.of G (q := (RX4, TX4, 55)) rfl zM_0) rfl rfl (Nat.le_of_ble_eq_true rfl) (zRm.ok rfl) dX4_closes_39 (fun vq15 hq15 q15 => ?_)
          obtain ⟨_, D16, hD16, _⟩ := q15
          subst vq15 hq15
          show VW θ Q E (zM E A h (sc (bgS t p j x) D16)) 0 0 42 [(0, .ref (A 0)), (1, .int (iI j)), (2, .int (iI x)), (3, .ref (A 53)), (4, .int (iI p))] []
          refine v_iinc G (L' := [(4, .int (iI (p + 1))), (0, .ref (A 0)), (1, .int (iI j)), (2, .int (iI x)), (3, .ref (A 53))]) 4 rfl (Nat.le_of_ble_eq_true rfl) rfl dX4_closes_42 ?_
          refine v_goto G 8 (by decide) dX4_closes_45 ?_
          refine VW.pick (L2 := [(0, .ref (A 0)), (1, .int (iI j)), (2, .int (iI x)), (3, .ref (A 53)), (4, .int (iI (p + 1)))]) [1, 2, 3, 4, 0] rfl ?_
          exact P1ih (p + 1) (bgS t p j x) D16 ⟨by omega, by omega⟩ (by rw [bgN_s hp.1, if_pos (by omega), ← ht]) ⟨cl1_s hk1.1 hr hnt o1 (by omega) (by omega) hD16, (hD16.2.2 0 (by omega)).trans hk1.2⟩ (by omega)
  refine VW.pick (L2 := [(0, .ref (A 0)), (1, .int (iI j)), (2, .int (iI x)), (3, .ref (A 53)), (4, .int (iI 0))]) [2, 3, 4, 1, 0] rfl ?_
  exact P1 _ 0 τ D ⟨by omega, by omega⟩ rfl ⟨cl1_0, rfl⟩ (Nat.lt_succ_self _)

