/-! THE LAYER, 8: a virtual call with more below its arguments: 12 places of the room for the stack instead of 8 -/
set_option maxRecDepth 100000
section ZW
variable {θ : zTh} {Q : State → Prop} {E : zEn} {h : zHp} {cs sl pc : Nat} {L L' : List (Nat × Value)} {st st0 : List Value} {cc : ByteArray} {nL : Nat} {own : String} {rt : Option FieldType} {R : Room}
theorem zrunVw {p : Program} {l : Launch} {e : Env} {R : Room} {s : State} {m : MethodId} {args : Array Value} {below : List Frame} {meth : Method} {c : Code} {H : Heap} {locs : List Loc} {cells slots : Nat} {y : MethodName} {bytes cc : ByteArray} {maxL nL mc ms n index : Nat} {ret : Option FieldType} {ws : List Cond} {rm : Room} {Pc : Array Value → State → Prop} {Qc : Array Value → State → Outcome → State → Prop} {free : Addr → Prop} {Ts : List Cond} {own C : String} {b : Addr} {As rest : List Value} {g : JFrame}
    (S : CallFix p m c cc nL s args Ts own) (hM : Met l y ws rm Pc Qc mc ms free) (cw : CallW R s args own C index y bytes maxL ret ws rm mc ms n) (hw : 12 + (maxL + 11) + rm.locals ≤ R.locals) (hp : PreV s H C b Pc As)
    (hg : g.method = m) (hn : As.length = n) (hsize : g.locals.size = nL) (hstack : g.stack = As.reverse ++ .ref b :: rest) (hW : 2 * g.monitorRoom + (rest.map fun v => v.category).sum ≤ 12) (hdg : decode cc g.pc = .ok (.invokevirtual index, 3)) (hf : cells + mc ≤ R.cells ∧ slots + ms ≤ R.slots) :
    va_Run p l e R s m args below meth c H locs cells slots mc ms g rest (Qc (Value.ref b :: As).toArray) (free) := by
  obtain ⟨⟨c1, c2, c3, _, c5, c6, hcode, hini, hy, hlen, hl⟩, hin, hse⟩ := cw
  have hK : Back l R p e below s args y 3 12 (PreOf R mc ms Pc) (PostOf Qc mc ms free) := back_of (bytes := bytes) (maxL := maxL) (ret := ret) hM hp.1 c1 c2 c3 hw c5 c6 (fun a' U hW => word_at hW (Or.inl (by first | rfl | simp [Cond.onTables, Cond.keeps, Cond.steady])) hini)
  obtain ⟨hx, hb, hml, ho, -⟩ := S
  obtain ⟨-, ⟨cellB, hcB, hoB, hclB⟩, hPc⟩ := hp
  intro T hT X
  obtain ⟨v, vm₁, ⟨U', l2, k2, s2⟩, hW₁, X', ⟨g', mk, t, L, e1, e2, hq, h1, hL, h2, h3⟩, st⟩ := callV X hx (C := C) (bytes := bytes) (maxL := maxL) (ret := ret) ho hl hin hse hcode hy hK (by rw [hT]; exact hcB) hoB hclB hg (hsize.trans hml.symm) (argsL := As) (rest := rest) (fun sig h => hn.trans (hlen sig h)) hstack hW (by rw [hb]; exact hdg)
    (fun vm₁ hW₁ => ⟨hf.1, hf.2, hPc (T.setVm vm₁) hT hW₁⟩)
  dsimp only [Pt.U, Pt.locs, Pt.cells, Pt.slots] at X' e1 e2 h1 h2 h3 st
  subst h1; subst h2; subst h3
  exact ⟨v, (T.setVm vm₁).calling g' mk (Value.ref b :: As).toArray, t, U', L, hT, X', hL, e1, e2, hq, st⟩
theorem s_callVw (G : zCtx θ E cc nL own rt R) {C : String} {b index n maxL cs' sl' : Nat} {y : MethodName} {bytes : ByteArray} {ret : Option FieldType} {rm : Room} {As rest : List Value} {post : Option Value → zHp → Prop} (hG : GoodIn lw_all (wsV own index C y (ws_ y bytes maxL ret))) (hy : y.cls = C ∧ y.cls ≠ "java/lang/invoke/MethodHandle" ∧ y.cls ≠ "java/lang/invoke/VarHandle" ∧ (parseMethodDescriptor y.desc).map (fun d => d.parameters.length) = some n)
    (hM : CN (tl θ) E y (ws_ y bytes maxL ret) rm (.ref b :: As) h post) (hrc : zRcv θ E h b C) (hn : As.length = n) (hst : st0 = As.reverse ++ .ref b :: rest) (hW : (rest.map fun v => v.category).sum ≤ 12) (hR : zRm R rm maxL cs sl cs' sl') (hw : 12 + (maxL + 11) + rm.locals ≤ R.locals) (hd : decode cc pc = .ok (.invokevirtual index, 3))
    (k : ∀ (v : Option Value) (h' : zHp), post v h' → VW θ Q E h' cs' sl' (pc + 3) L (v.toList ++ rest)) : VW θ Q E h cs sl pc L st0 :=
  zcall (fun H locs ls hs hS hl => zrunVw (C := C) (As := As) (rest := rest) G.fix hM (cwV n G.hts hG rfl rfl rfl hy (by rw [G.room]; exact hR.1)) (by rw [G.room]; exact hw) ⟨zPc_blind, hrc H locs hs hS, fun U hU hW => zPre G hs hU hW⟩ rfl hn (hl.1.trans G.2.2.1) hst (by show 2 * 0 + _ ≤ 12; omega) hd (by rw [G.room]; exact ⟨Nat.le_trans hR.2.1.1 hR.2.1.2, Nat.le_trans hR.2.2.1 hR.2.2.2⟩)) (fun v h' q => VW.wid hR.2.1.1 hR.2.2.1 (k v h' q))
end ZW
