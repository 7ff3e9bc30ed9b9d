/-! THE LAYER, 5: small rows for the printed walks -/
set_option maxRecDepth 100000
/-- answers: a value and a heap; a heap alone -/
abbrev zR (r : Value) (h2 : zHp) : Option Value → zHp → Prop := fun v h' => v = some r ∧ h' = h2
abbrev zV (h2 : zHp) : Option Value → zHp → Prop := fun v h' => v = none ∧ h' = h2
theorem up_up {h : zHp} {a : Nat} {x y : Option (Nat × va_E)} : va_up (va_up h a x) a y = va_up h a y := by
  funext b
  by_cases hb : b = a
  · rw [hb, up_s, up_s]
  · rw [up_n hb, up_n hb, up_n hb]
theorem up_c {h : zHp} {a b : Nat} {x y : Option (Nat × va_E)} (hab : a ≠ b) : va_up (va_up h a x) b y = va_up (va_up h b y) a x := by
  funext c
  by_cases hb : c = b
  · subst hb; rw [up_s, up_n (Ne.symm hab), up_s]
  · rw [up_n hb]
    by_cases ha : c = a
    · subst ha; rw [up_s, up_s]
    · rw [up_n ha, up_n ha, up_n hb]
theorem up_id {h : zHp} {a : Nat} {x : Nat × va_E} (hx : h a = some x) : va_up h a (some x) = h := by
  funext c
  by_cases ha : c = a
  · subst ha; rw [up_s, hx]
  · rw [up_n ha]
theorem tag_ne {h : zHp} {a b t t' : Nat} {e e' : va_E} (ha : h a = some (t, e)) (hb : h b = some (t', e')) (hne : t ≠ t') : a ≠ b := by
  intro z; subst z; rw [ha] at hb; cases hb; exact hne rfl
theorem new_ne {h : zHp} {a q : Nat} {x : Nat × va_E} (ha : h a = some x) (hq : h q = none) : a ≠ q := by
  intro z; subst z; rw [ha] at hq; cases hq
theorem mul_bd {a A b B : Int} (h1 : 0 ≤ a) (h2 : a ≤ A) (h3 : 0 ≤ b) (h4 : b ≤ B) : 0 ≤ a * b ∧ a * b ≤ A * B :=
  ⟨Int.mul_nonneg h1 h3, Int.le_trans (Int.mul_le_mul_of_nonneg_right h2 h3) (Int.mul_le_mul_of_nonneg_left h4 (Int.le_trans h1 h2))⟩
theorem div_bd {a A b : Int} (h1 : 0 ≤ a) (h2 : a ≤ A) (hb : 0 < b) : 0 ≤ a / b ∧ a / b ≤ A :=
  ⟨Int.ediv_nonneg h1 (Int.le_of_lt hb), Int.le_trans (Int.ediv_le_self b h1) h2⟩
section ZF
variable {θ : zTh} {Q : State → Prop} {E : zEn} {h : zHp} {cs sl pc : Nat} {L L' : List (Nat × Value)} {st st0 : List Value} {cc : ByteArray} {nL : Nat} {own : String} {rt : Option FieldType} {R : Room}
theorem VW.nmI {x : Int} (k : ∀ z : Int, z = x → VW θ Q E h cs sl pc L (.int (iI z) :: st)) : VW θ Q E h cs sl pc L (.int (iI x) :: st) := k x rfl
theorem VW.nmL {x : Int} (k : ∀ z : Int, z = x → VW θ Q E h cs sl pc L (.long (iL z) :: st)) : VW θ Q E h cs sl pc L (.long (iL x) :: st) := k x rfl
theorem VW.hpe {h2 : zHp} (he : h = h2) (k : VW θ Q E h2 cs sl pc L st) : VW θ Q E h cs sl pc L st := by rw [he]; exact k
theorem VW.hpn (k : ∀ h2 : zHp, h2 = h → VW θ Q E h2 cs sl pc L st) : VW θ Q E h cs sl pc L st := k h rfl
theorem VW.stk {st2 : List Value} (he : st = st2) (k : VW θ Q E h cs sl pc L st2) : VW θ Q E h cs sl pc L st := by rw [he]; exact k
/-- a canonical int, long -/
theorem VW.cI {x y : Int} (he : iI x = iI y) (k : VW θ Q E h cs sl pc L (.int (iI y) :: st)) : VW θ Q E h cs sl pc L (.int (iI x) :: st) := by rw [he]; exact k
theorem VW.cL {x y : Int} (he : iL x = iL y) (k : VW θ Q E h cs sl pc L (.long (iL y) :: st)) : VW θ Q E h cs sl pc L (.long (iL x) :: st) := by rw [he]; exact k
/-! a call's site: what the tables say of it is the site's own; the contract, the room and what goes on are the walk's -/
abbrev zRm (R rm : Room) (maxL cs sl cs' sl' : Nat) : Prop := (rm.frames + 1 ≤ R.frames ∧ 8 + (maxL + 11) + rm.locals ≤ R.locals) ∧ (cs + rm.cells ≤ cs' ∧ cs' ≤ R.cells) ∧ sl + rm.slots ≤ sl' ∧ sl' ≤ R.slots
theorem s_callV (G : zCtx θ E cc nL own rt R) {C : String} {b index n maxL cs' sl' : Nat} {y : MethodName} {bytes : ByteArray} {ret : Option FieldType} {rm : Room} {As rest : List Value} {post : Option Value → zHp → Prop} (hG : GoodIn lw_all (wsV own index C y (ws_ y bytes maxL ret))) (hy : y.cls = C ∧ y.cls ≠ "java/lang/invoke/MethodHandle" ∧ y.cls ≠ "java/lang/invoke/VarHandle" ∧ (parseMethodDescriptor y.desc).map (fun d => d.parameters.length) = some n)
    (hM : CN (tl θ) E y (ws_ y bytes maxL ret) rm (.ref b :: As) h post) (hrc : zRcv θ E h b C) (hn : As.length = n) (hst : st0 = As.reverse ++ .ref b :: rest) (hW : (rest.map fun v => v.category).sum ≤ 8) (hR : zRm R rm maxL cs sl cs' sl') (hd : decode cc pc = .ok (.invokevirtual index, 3))
    (k : ∀ (v : Option Value) (h' : zHp), post v h' → VW θ Q E h' cs' sl' (pc + 3) L (v.toList ++ rest)) : VW θ Q E h cs sl pc L st0 :=
  v_callV G hM hG hy hrc hn hst hW ⟨hR.1, Nat.le_trans hR.2.1.1 hR.2.1.2, Nat.le_trans hR.2.2.1 hR.2.2.2⟩ hd (fun v h' q => VW.wid hR.2.1.1 hR.2.2.1 (k v h' q))
theorem s_callS (G : zCtx θ E cc nL own rt R) {index n maxL cs' sl' : Nat} {y : MethodName} {bytes : ByteArray} {ret : Option FieldType} {rm : Room} {As rest : List Value} {post : Option Value → zHp → Prop} (hG : GoodIn lw_all (va_wsS own index y (ws_ y bytes maxL ret))) (hy : y.cls ≠ "java/lang/invoke/MethodHandle" ∧ y.cls ≠ "java/lang/invoke/VarHandle" ∧ (parseMethodDescriptor y.desc).map (fun d => d.parameters.length) = some n)
    (hM : CN (tl θ) E y (ws_ y bytes maxL ret) rm As h post) (hn : As.length = n) (hst : st0 = As.reverse ++ rest) (hW : (rest.map fun v => v.category).sum ≤ 8) (hR : zRm R rm maxL cs sl cs' sl') (hd : decode cc pc = .ok (.invokestatic index, 3))
    (k : ∀ (v : Option Value) (h' : zHp), post v h' → VW θ Q E h' cs' sl' (pc + 3) L (v.toList ++ rest)) : VW θ Q E h cs sl pc L st0 :=
  v_callS G hM hG hy hn hst hW ⟨hR.1, Nat.le_trans hR.2.1.1 hR.2.1.2, Nat.le_trans hR.2.2.1 hR.2.2.2⟩ hd (fun v h' q => VW.wid hR.2.1.1 hR.2.2.1 (k v h' q))
theorem s_callI (G : zCtx θ E cc nL own rt R) {b index n maxL cs' sl' : Nat} {y : MethodName} {bytes : ByteArray} {rm : Room} {As rest : List Value} {post : Option Value → zHp → Prop} (hcode : Cond.code y bytes maxL none ∈ lw_all) (hini : Cond.initialized y.cls ∈ lw_all) (hlk : Cond.methodLink own index y ∈ lw_all) (hinst : Cond.instanceMethod y ∈ lw_all) (hnm : y.name = "<init>") (hy : y.cls ≠ "java/lang/invoke/MethodHandle" ∧ y.cls ≠ "java/lang/invoke/VarHandle" ∧ (parseMethodDescriptor y.desc).map (fun d => d.parameters.length) = some n)
    (hM : CN (tl θ) E y (ws_ y bytes maxL none) rm (.ref b :: As) h post) (hn : As.length = n) (hst : st0 = As.reverse ++ .ref b :: rest) (hW : (rest.map fun v => v.category).sum ≤ 8) (hR : zRm R rm maxL cs sl cs' sl') (hd : decode cc pc = .ok (.invokespecial index, 3))
    (k : ∀ (v : Option Value) (h' : zHp), post v h' → VW θ Q E h' cs' sl' (pc + 3) L (v.toList ++ rest)) : VW θ Q E h cs sl pc L st0 :=
  v_callI G hM hcode hini hlk hinst hnm hy hn hst hW ⟨hR.1, Nat.le_trans hR.2.1.1 hR.2.1.2, Nat.le_trans hR.2.2.1 hR.2.2.2⟩ hd (fun v h' q => VW.wid hR.2.1.1 hR.2.2.1 (k v h' q))
/-! nest mates -/
theorem v_callSN (G : zCtx θ E cc nL own rt R) {host : String} {index n maxL cs' sl' : Nat} {y : MethodName} {bytes : ByteArray} {ret : Option FieldType} {rm : Room} {As rest : List Value} {post : Option Value → zHp → Prop} (hlk : (own, index, y, host) ∈ zNM) (hcode : Cond.code y bytes maxL ret ∈ lw_all) (hini : Cond.initialized y.cls ∈ lw_all) (hstat : Cond.static y ∈ lw_all) (hy : y.cls ≠ "java/lang/invoke/MethodHandle" ∧ y.cls ≠ "java/lang/invoke/VarHandle" ∧ (parseMethodDescriptor y.desc).map (fun d => d.parameters.length) = some n)
    (hM : CN (tl θ) E y (ws_ y bytes maxL ret) rm As h post) (hn : As.length = n) (hst : st0 = As.reverse ++ rest) (hW : (rest.map fun v => v.category).sum ≤ 8) (hR : zRm R rm maxL cs sl cs' sl') (hd : decode cc pc = .ok (.invokestatic index, 3))
    (k : ∀ (v : Option Value) (h' : zHp), post v h' → VW θ Q E h' cs' sl' (pc + 3) L (v.toList ++ rest)) : VW θ Q E h cs sl pc L st0 :=
  zcall (fun H locs ls hs hS hl => va_runSN (As := As) (rest := rest) G.fix hM ⟨va_cnB n G.hts (lw_meth hcode) rfl rfl rfl (G.kk.2.1.2.1 _ hlk) (G.hts _ hini) hy (by rw [G.room]; exact hR.1), G.hts _ hstat, trivial⟩ ⟨zPc_blind, fun U hU hW => zPre G hs hU hW⟩ rfl hn (hl.1.trans G.2.2.1) hst (lv_room hW) hd (by rw [G.room]; exact ⟨Nat.le_trans hR.2.1.1 hR.2.1.2, Nat.le_trans hR.2.2.1 hR.2.2.2⟩)) (fun v h' q => VW.wid hR.2.1.1 hR.2.2.1 (k v h' q))
theorem v_callIN (G : zCtx θ E cc nL own rt R) {host : String} {b index n maxL cs' sl' : Nat} {y : MethodName} {bytes : ByteArray} {rm : Room} {As rest : List Value} {post : Option Value → zHp → Prop} (hlk : (own, index, y, host) ∈ zNM) (hcode : Cond.code y bytes maxL none ∈ lw_all) (hini : Cond.initialized y.cls ∈ lw_all) (hinst : Cond.instanceMethod y ∈ lw_all) (hnm : y.name = "<init>") (hy : y.cls ≠ "java/lang/invoke/MethodHandle" ∧ y.cls ≠ "java/lang/invoke/VarHandle" ∧ (parseMethodDescriptor y.desc).map (fun d => d.parameters.length) = some n)
    (hM : CN (tl θ) E y (ws_ y bytes maxL none) rm (.ref b :: As) h post) (hn : As.length = n) (hst : st0 = As.reverse ++ .ref b :: rest) (hW : (rest.map fun v => v.category).sum ≤ 8) (hR : zRm R rm maxL cs sl cs' sl') (hd : decode cc pc = .ok (.invokespecial index, 3))
    (k : ∀ (v : Option Value) (h' : zHp), post v h' → VW θ Q E h' cs' sl' (pc + 3) L (v.toList ++ rest)) : VW θ Q E h cs sl pc L st0 :=
  zcall (fun H locs ls hs hS hl => va_runIN (As := As) (rest := rest) G.fix hM ⟨va_cnB n G.hts (lw_meth hcode) rfl rfl rfl (G.kk.2.1.2.1 _ hlk) (G.hts _ hini) hy (by rw [G.room]; exact hR.1), hnm, G.hts _ hinst⟩ ⟨zPc_blind, fun U hU hW => zPre G hs hU hW⟩ rfl hn (hl.1.trans G.2.2.1) hst (lv_room hW) hd (by rw [G.room]; exact ⟨Nat.le_trans hR.2.1.1 hR.2.1.2, Nat.le_trans hR.2.2.1 hR.2.2.2⟩)) (fun v h' q => VW.wid hR.2.1.1 hR.2.2.1 (k v h' q))
end ZF
