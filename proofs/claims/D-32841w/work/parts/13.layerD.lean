/-! THE LAYER, 4: contracts over the abstract heap, calls, ends -/
set_option maxRecDepth 100000
/-- a method's end: its answer and the heap behind it -/
def zQc (E : zEn) (post : Option Value → zHp → Prop) : Array Value → State → Outcome → State → Prop := fun _ st o t => (∃ (v : Option Value) (h' : zHp), o = .returned v ∧ post v h' ∧ zSim E h' t.heap) ∧ va_F (zA E) st t
def zXc (E : zEn) (postx : String → zHp → Prop) : String → State → State → Prop := fun X st t => (∃ h' : zHp, postx X h' ∧ zSim E h' t.heap) ∧ va_F (zA E) st t
def zPc (E : zEn) (args : List Value) (h : zHp) : Array Value → State → Prop := va_Pc args (fun U => zSim E h U.heap ∧ zKK E U)
/-- CONTRACT: called with args over the heap h, y returns; 'post answer heap' -/
def CN (l : Launch) (E : zEn) (y : MethodName) (ws : List Cond) (rm : Room) (args : List Value) (h : zHp) (post : Option Value → zHp → Prop) : Prop := Met l y ws rm (zPc E args h) (zQc E post) rm.cells rm.slots (zA E)
/-- CONTRACT of a method that returns or throws: 'postx class heap' -/
def CX (l : Launch) (E : zEn) (y : MethodName) (ws : List Cond) (rm : Room) (args : List Value) (h : zHp) (post : Option Value → zHp → Prop) (postx : String → zHp → Prop) : Prop := vx_Met l y ws rm (zPc E args h) (zQc E post) (zXc E postx) rm.cells rm.slots (zA E)
theorem zPc_blind {E : zEn} {args : List Value} {h : zHp} : FrameBlind (zPc E args h) := by
  intro a U g mk q
  obtain ⟨q0, q1, q2⟩ := q
  exact ⟨q0, q1, zKK.moved (u := U) (U := U.calling g mk a) (State.WarmedH.refl U) q2⟩
def zQ (θ : zTh) (E : zEn) (post : Option Value → zHp → Prop) (R : Room) : State → Prop := MQ (tb θ) (zQc E post) (ta θ) (ts θ) R.cells R.slots (zA E)
def zQx (θ : zTh) (E : zEn) (post : Option Value → zHp → Prop) (postx : String → zHp → Prop) (R : Room) : State → Prop := vx_MQ (tb θ) (zQc E post) (zXc E postx) (ta θ) (ts θ) R.cells R.slots (zA E)
/-- Q is an end for which a return does -/
def zEnd (θ : zTh) (E : zEn) (post : Option Value → zHp → Prop) (R : Room) (Q : State → Prop) : Prop := ∀ t, zQ θ E post R t → Q t
theorem zEnd_n {θ : zTh} {E : zEn} {post : Option Value → zHp → Prop} {R : Room} : zEnd θ E post R (zQ θ E post R) := fun _ h => h
theorem zEnd_x {θ : zTh} {E : zEn} {post : Option Value → zHp → Prop} {postx : String → zHp → Prop} {R : Room} : zEnd θ E post R (zQx θ E post postx R) := fun t h => by
  obtain ⟨o, b1, b2, b3, b4⟩ := h
  exact ⟨o, b1, b2, Or.inl ⟨b3, b4⟩⟩
/-! the entry of a method -/
theorem CN.of {l : Launch} {E : zEn} {y : MethodName} {cc : ByteArray} {nL : Nat} {ret : Option FieldType} {rm : Room} {args : List Value} {h : zHp} {post : Option Value → zHp → Prop} (hy : plainFor y = true) (hflag : l.stackTraces = false) (hn : (lg_sl args).length ≤ nL)
    (body : ∀ (θ : zTh) (Q : State → Prop), tl θ = l → zCtx θ E cc nL y.cls ret rm → (tM θ).name = y.name → zEnd θ E post rm Q → VW θ Q E h 0 0 0 (lv_args 0 args) []) : CN l E y (ws_ y cc nL ret) rm args h post := by
  refine va_MetF (cc := cc) (maxL := nL) (ret := ret) hy rfl ?_
  intro p e s m args' below meth c s₁ B hml hv
  obtain ⟨rfl, hsim, hkk⟩ := hv
  have hts := atoms_spec (ws := ws_ y cc nL ret) B.pre
  have hts : ∀ w ∈ lw_all, w.before args.toArray s = true := fun w h => hts w (List.mem_cons_of_mem _ h)
  have hl := lv_entry args (n := nL) hn
  rw [lg_entry_eq]
  exact body (p, l, e, _, s, m, args.toArray, below, meth, c) (zQ (p, l, e, _, s, m, args.toArray, below, meth, c) E post rm) rfl ⟨B.exec, B.bytes, hml, findClass_of_methodNamed B.named, hts, B.notSynchronized, B.returns, rfl, hkk, ⟨hsim.1, hsim.2.1⟩, hflag⟩ (name_of_methodNamed B.named B.method).1 zEnd_n s.heap [] _ hsim va_S.rf (by rw [show (tc (p, l, e, _, s, m, args.toArray, below, meth, c)).maxLocals = nL from hml]; exact hl)
theorem CX.of {l : Launch} {E : zEn} {y : MethodName} {cc : ByteArray} {nL : Nat} {ret : Option FieldType} {rm : Room} {args : List Value} {h : zHp} {post : Option Value → zHp → Prop} {postx : String → zHp → Prop} (hy : plainName y.cls = true) (hflag : l.stackTraces = false) (hn : (lg_sl args).length ≤ nL)
    (body : ∀ (θ : zTh), tl θ = l → zCtx θ E cc nL y.cls ret rm → (tM θ).name = y.name → (∀ x ∈ (tc θ).exceptionTable.toList, False) → VW θ (zQx θ E post postx rm) E h 0 0 0 (lv_args 0 args) []) : CX l E y (ws_ y cc nL ret) rm args h post postx := by
  refine vx_ofW (cc := cc) (maxL := nL) (ret := ret) hy rfl ?_
  intro p e s m args' below meth c s₁ B hml hex hv
  obtain ⟨rfl, hsim, hkk⟩ := hv
  have hts := atoms_spec (ws := ws_ y cc nL ret) B.pre
  have hts : ∀ w ∈ lw_all, w.before args.toArray s = true := fun w h => hts w (List.mem_cons_of_mem _ h)
  have hl := lv_entry args (n := nL) hn
  rw [lg_entry_eq]
  exact body (p, l, e, _, s, m, args.toArray, below, meth, c) rfl ⟨B.exec, B.bytes, hml, findClass_of_methodNamed B.named, hts, B.notSynchronized, B.returns, rfl, hkk, ⟨hsim.1, hsim.2.1⟩, hflag⟩ (name_of_methodNamed B.named B.method).1 hex s.heap [] _ hsim va_S.rf (by rw [show (tc (p, l, e, _, s, m, args.toArray, below, meth, c)).maxLocals = nL from hml]; exact hl)
theorem CN.imp {l : Launch} {E : zEn} {y : MethodName} {ws : List Cond} {rm : Room} {args : List Value} {h : zHp} {post post' : Option Value → zHp → Prop} (hM : CN l E y ws rm args h post) (hi : ∀ v h', post v h' → post' v h') : CN l E y ws rm args h post' := by
  intro p e ha hc hk s m args below hf happ hP hK
  obtain ⟨n, o, h1, h2, h3, ⟨⟨v, h', a, b, c⟩, d⟩, e⟩ := hM p e ha hc hk s m args below hf happ hP hK
  exact ⟨n, o, h1, h2, h3, ⟨⟨v, h', a, hi v h' b, c⟩, d⟩, e⟩
section ZE
variable {θ : zTh} {Q : State → Prop} {E : zEn} {h : zHp} {cs sl pc : Nat} {L L' : List (Nat × Value)} {st st0 : List Value} {cc : ByteArray} {nL : Nat} {own : String} {rt : Option FieldType} {R : Room}
/-! ends -/
theorem v_end {post : Option Value → zHp → Prop} (hQ : zEnd θ E post R Q) (k : VW θ (zQ θ E post R) E h cs sl pc L st) : VW θ Q E h cs sl pc L st := by
  intro H locs ls a b c T hT X
  obtain ⟨t, a1, b1⟩ := k H locs ls a b c T hT X
  exact ⟨t, a1, hQ t b1⟩
theorem v_lret {post : Option Value → zHp → Prop} (G : zCtx θ E cc nL own (some .long) R) (hQ : zEnd θ E post R Q) {z : Int} (hp : post (some (.long (iL z))) h) (hc : cs ≤ R.cells) (hs : sl ≤ R.slots) (hd : decode cc pc = .ok (.lreturn, 1)) : VW θ Q E h cs sl pc L [.long (iL z)] :=
  v_end hQ fun H locs ls a b _ => W.widen hc hs (W.lret G.1 G.2.1 G.2.2.2.2.2.2.1 (fun t ht _ => ⟨⟨_, h, rfl, hp, by rw [ht]; exact a⟩, b.F ht⟩) b.2.2 hd G.2.2.2.2.2.1)
theorem v_iret {post : Option Value → zHp → Prop} (G : zCtx θ E cc nL own (some .int) R) (hQ : zEnd θ E post R Q) {z : Int} (hp : post (some (.int (iI z))) h) (hc : cs ≤ R.cells) (hs : sl ≤ R.slots) (hd : decode cc pc = .ok (.ireturn, 1)) : VW θ Q E h cs sl pc L [.int (iI z)] :=
  v_end hQ fun H locs ls a b _ => W.widen hc hs (W.iret G.1 G.2.1 G.2.2.2.2.2.2.1 (fun t ht _ => ⟨⟨_, h, rfl, hp, by rw [ht]; exact a⟩, b.F ht⟩) b.2.2 hd G.2.2.2.2.2.1)
theorem v_zret {post : Option Value → zHp → Prop} (G : zCtx θ E cc nL own (some .boolean) R) (hQ : zEnd θ E post R Q) {z : Int} (hz : z = 0 ∨ z = 1) (hp : post (some (.int (iI z))) h) (hc : cs ≤ R.cells) (hs : sl ≤ R.slots) (hd : decode cc pc = .ok (.ireturn, 1)) : VW θ Q E h cs sl pc L [.int (iI z)] :=
  v_end hQ fun H locs ls a b _ => W.widen hc hs (W.zret G.1 G.2.1 G.2.2.2.2.2.2.1 (by rcases hz with rfl | rfl <;> rfl) (fun t ht _ => ⟨⟨_, h, rfl, hp, by rw [ht]; exact a⟩, b.F ht⟩) b.2.2 hd G.2.2.2.2.2.1)
theorem v_vret {post : Option Value → zHp → Prop} (G : zCtx θ E cc nL own none R) (hQ : zEnd θ E post R Q) (hp : post none h) (hc : cs ≤ R.cells) (hs : sl ≤ R.slots) (hd : decode cc pc = .ok (.return_, 1)) : VW θ Q E h cs sl pc L [] :=
  v_end hQ fun H locs ls a b _ => W.widen hc hs (W.vret G.1 G.2.1 G.2.2.2.2.2.2.1 (fun t ht _ => ⟨⟨_, h, rfl, hp, by rw [ht]; exact a⟩, b.F ht⟩) b.2.2 hd G.2.2.2.2.2.1)
theorem v_aret {post : Option Value → zHp → Prop} {rt0 : FieldType} (G : zCtx θ E cc nL own (some rt0) R) (hQ : zEnd θ E post R Q) {r : Option Nat} (hrt : (∃ n, rt0 = .object n) ∨ ∃ t, rt0 = .array t) (hp : post (some (va_rf r)) h) (hc : cs ≤ R.cells) (hs : sl ≤ R.slots) (hd : decode cc pc = .ok (.areturn, 1)) : VW θ Q E h cs sl pc L [va_rf r] :=
  v_end hQ fun H locs ls a b _ => W.widen hc hs (W.aret G.1 G.2.1 G.2.2.2.2.2.2.1 hrt (by cases r with | none => exact Or.inl rfl | some x => exact Or.inr ⟨x, rfl⟩) (fun t ht _ => ⟨⟨_, h, rfl, hp, by rw [ht]; exact a⟩, b.F ht⟩) b.2.2 hd G.2.2.2.2.2.1)
/-! calls -/
theorem zcall {post : Option Value → zHp → Prop} {a : Array Value} {rest : List Value} {mc ms : Nat} (hr : ∀ (H : Heap) (locs : List Loc) (ls : Array Slot), zSim E h H → va_S (zA E) (ts θ).heap H locs → lv_has ls (tc θ).maxLocals L → va_Run (tp θ) (tl θ) (te θ) (tR θ) (ts θ) (tm θ) (ta θ) (tb θ) (tM θ) (tc θ) H locs cs sl mc ms (F0 (tm θ) pc ls st0) rest (zQc E post a) (zA E))
    (k : ∀ (v : Option Value) (h' : zHp), post v h' → VW θ Q E h' (cs + mc) (sl + ms) (pc + 3) L (v.toList ++ rest)) : VW θ Q E h cs sl pc L st0 := by
  intro H locs ls hs hS hl T hT X
  obtain ⟨v, st₀, t, T', Lc, h0, X', hL, e1, e2, ⟨⟨v', h', hv, hp, hsim⟩, hF⟩, stp⟩ := hr H locs ls hs hS hl T hT X
  cases hv
  obtain ⟨k1, k2, k3⟩ := vx_keep h0 e1 hS (fun _ _ h => h) (fun _ h => h) hL hF
  obtain ⟨t2, a1, b1⟩ := k v h' hp T'.heap (locs ++ Lc) ls (by rw [e1]; exact hsim) k3 hl T' rfl X'
  exact ⟨t2, stp t2 a1, b1⟩
theorem zcall5 {post : Option Value → zHp → Prop} {a : Array Value} {rest : List Value} {mc ms : Nat} (hr : ∀ (H : Heap) (locs : List Loc) (ls : Array Slot), zSim E h H → va_S (zA E) (ts θ).heap H locs → lv_has ls (tc θ).maxLocals L → va_Run5 (tp θ) (tl θ) (te θ) (tR θ) (ts θ) (tm θ) (ta θ) (tb θ) (tM θ) (tc θ) H locs cs sl mc ms (F0 (tm θ) pc ls st0) rest (zQc E post a) (zA E))
    (k : ∀ (v : Option Value) (h' : zHp), post v h' → VW θ Q E h' (cs + mc) (sl + ms) (pc + 5) L (v.toList ++ rest)) : VW θ Q E h cs sl pc L st0 := by
  intro H locs ls hs hS hl T hT X
  obtain ⟨v, st₀, t, T', Lc, h0, X', hL, e1, e2, ⟨⟨v', h', hv, hp, hsim⟩, hF⟩, stp⟩ := hr H locs ls hs hS hl T hT X
  cases hv
  obtain ⟨k1, k2, k3⟩ := vx_keep h0 e1 hS (fun _ _ h => h) (fun _ h => h) hL hF
  obtain ⟨t2, a1, b1⟩ := k v h' hp T'.heap (locs ++ Lc) ls (by rw [e1]; exact hsim) k3 hl T' rfl X'
  exact ⟨t2, stp t2 a1, b1⟩
/-- the receiver is known by its cell -/
def zRcv (θ : zTh) (E : zEn) (h : zHp) (b : Nat) (C : String) : Prop := ∀ (H : Heap) (locs : List Loc), zSim E h H → va_S (zA E) (ts θ).heap H locs → ∃ cell : Cell, H[b]? = some cell ∧ cell.vm.isStatics = false ∧ (ts θ).vm.findClass C = some cell.cls
theorem zRcv.of (G : zCtx θ E cc nL own rt R) {b t ci : Nat} {fs : List Value} {q : vw_C} (hc : zCL[ci]? = some q) (hx : h b = some (t, .inr (ci, fs))) : zRcv θ E h b q.1 := fun _ _ hs _ => va_recv G.kk.1 (hs.P hx) hc (q0 := 0) rfl
theorem zPre {As : List Value} {U : State} {H : Heap} (G : zCtx θ E cc nL own rt R) (hs : zSim E h H) (hU : U.heap = H) (hW : (ts θ).WarmedH U.vm) : zPc E As h As.toArray U := ⟨rfl, by rw [hU]; exact hs, zKK.moved hW G.kk⟩
theorem v_callV (G : zCtx θ E cc nL own rt R) {C : String} {b index n maxL : Nat} {y : MethodName} {bytes : ByteArray} {ret : Option FieldType} {rm : Room} {As rest : List Value} {post : Option Value → zHp → Prop} (hM : CN (tl θ) E y (ws_ y bytes maxL ret) rm (.ref b :: As) h post) (hG : GoodIn lw_all (wsV own index C y (ws_ y bytes maxL ret))) (hy : y.cls = C ∧ y.cls ≠ "java/lang/invoke/MethodHandle" ∧ y.cls ≠ "java/lang/invoke/VarHandle" ∧ (parseMethodDescriptor y.desc).map (fun d => d.parameters.length) = some n)
    (hrc : zRcv θ E h b C) (hn : As.length = n) (hst : st0 = As.reverse ++ .ref b :: rest) (hW : (rest.map fun v => v.category).sum ≤ 8) (hR : (rm.frames + 1 ≤ R.frames ∧ 8 + (maxL + 11) + rm.locals ≤ R.locals) ∧ cs + rm.cells ≤ R.cells ∧ sl + rm.slots ≤ R.slots) (hd : decode cc pc = .ok (.invokevirtual index, 3))
    (k : ∀ (v : Option Value) (h' : zHp), post v h' → VW θ Q E h' (cs + rm.cells) (sl + rm.slots) (pc + 3) L (v.toList ++ rest)) : VW θ Q E h cs sl pc L st0 := by
  refine zcall (fun H locs ls hs hS hl => va_runV (C := C) (As := As) (rest := rest) G.fix hM (cwV n G.hts hG rfl rfl rfl hy (by rw [G.room]; exact hR.1)) ⟨zPc_blind, hrc H locs hs hS, fun U hU hW => zPre G hs hU hW⟩ rfl hn (hl.1.trans G.2.2.1) hst (lv_room hW) hd (by rw [G.room]; exact hR.2)) k
theorem v_callS (G : zCtx θ E cc nL own rt R) {index n maxL : Nat} {y : MethodName} {bytes : ByteArray} {ret : Option FieldType} {rm : Room} {As rest : List Value} {post : Option Value → zHp → Prop} (hM : CN (tl θ) E y (ws_ y bytes maxL ret) rm As h post) (hG : GoodIn lw_all (va_wsS own index y (ws_ y bytes maxL ret))) (hy : y.cls ≠ "java/lang/invoke/MethodHandle" ∧ y.cls ≠ "java/lang/invoke/VarHandle" ∧ (parseMethodDescriptor y.desc).map (fun d => d.parameters.length) = some n)
    (hn : As.length = n) (hst : st0 = As.reverse ++ rest) (hW : (rest.map fun v => v.category).sum ≤ 8) (hR : (rm.frames + 1 ≤ R.frames ∧ 8 + (maxL + 11) + rm.locals ≤ R.locals) ∧ cs + rm.cells ≤ R.cells ∧ sl + rm.slots ≤ R.slots) (hd : decode cc pc = .ok (.invokestatic index, 3))
    (k : ∀ (v : Option Value) (h' : zHp), post v h' → VW θ Q E h' (cs + rm.cells) (sl + rm.slots) (pc + 3) L (v.toList ++ rest)) : VW θ Q E h cs sl pc L st0 := by
  refine zcall (fun H locs ls hs hS hl => va_runS (As := As) (rest := rest) G.fix hM (va_cwS n G.hts hG rfl rfl rfl hy (by rw [G.room]; exact hR.1)) ⟨zPc_blind, fun U hU hW => zPre G hs hU hW⟩ rfl hn (hl.1.trans G.2.2.1) hst (lv_room hW) hd (by rw [G.room]; exact hR.2)) k
theorem v_callI (G : zCtx θ E cc nL own rt R) {b index n maxL : Nat} {y : MethodName} {bytes : ByteArray} {rm : Room} {As rest : List Value} {post : Option Value → zHp → Prop} (hM : CN (tl θ) E y (ws_ y bytes maxL none) rm (.ref b :: As) h post) (hcode : Cond.code y bytes maxL none ∈ lw_all) (hini : Cond.initialized y.cls ∈ lw_all) (hlk : Cond.methodLink own index y ∈ lw_all) (hinst : Cond.instanceMethod y ∈ lw_all) (hnm : y.name = "<init>") (hy : y.cls ≠ "java/lang/invoke/MethodHandle" ∧ y.cls ≠ "java/lang/invoke/VarHandle" ∧ (parseMethodDescriptor y.desc).map (fun d => d.parameters.length) = some n)
    (hn : As.length = n) (hst : st0 = As.reverse ++ .ref b :: rest) (hW : (rest.map fun v => v.category).sum ≤ 8) (hR : (rm.frames + 1 ≤ R.frames ∧ 8 + (maxL + 11) + rm.locals ≤ R.locals) ∧ cs + rm.cells ≤ R.cells ∧ sl + rm.slots ≤ R.slots) (hd : decode cc pc = .ok (.invokespecial index, 3))
    (k : ∀ (v : Option Value) (h' : zHp), post v h' → VW θ Q E h' (cs + rm.cells) (sl + rm.slots) (pc + 3) L (v.toList ++ rest)) : VW θ Q E h cs sl pc L st0 := by
  refine zcall (fun H locs ls hs hS hl => va_runI (As := As) (rest := rest) G.fix hM (cwI n G.hts (lw_meth hcode) rfl rfl rfl (G.hts _ hini) (G.hts _ hlk) (G.hts _ hinst) hnm hy (by rw [G.room]; exact hR.1)) ⟨zPc_blind, fun U hU hW => zPre G hs hU hW⟩ rfl hn (hl.1.trans G.2.2.1) hst (lv_room hW) hd (by rw [G.room]; exact hR.2)) k
theorem v_objInit (G : zCtx θ E cc nL own rt R) {a index : Nat} {rest : List Value} (hlk : Cond.methodLink own index objectInit ∈ lw_all) (hinst : Cond.instanceMethod objectInit ∈ lw_all) (hcode : Cond.code objectInit ⟨#[0xb1]⟩ 1 none ∈ lw_all) (hR : 1 ≤ R.frames ∧ (rest.map fun v => v.category).sum + 12 ≤ R.locals) (hd : decode cc pc = .ok (.invokespecial index, 3)) (k : VW θ Q E h cs sl (pc + 3) L rest) : VW θ Q E h cs sl pc L (.ref a :: rest) := fun H locs ls hs hS hl =>
  W.objInit G.1 G.2.1 G.own (G.hts _ hlk) (G.hts _ hinst) (G.hts _ hcode) rfl hl.1 rfl hd (by rw [G.room]; exact hR.1) (by rw [G.room]; show 2 * 0 + _ + 12 ≤ _; omega) (k H locs ls hs hS hl)
end ZE
