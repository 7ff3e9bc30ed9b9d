/-! THE LAYER, 3: longs compared; fields and arrays of the abstract heap; new cells -/
set_option maxRecDepth 100000
theorem zCtx.kk {θ : zTh} {E : zEn} {cc : ByteArray} {nL : Nat} {own : String} {rt : Option FieldType} {R : Room} (G : zCtx θ E cc nL own rt R) : zKK E (ts θ) := G.2.2.2.2.2.2.2.2.1
theorem zCtx.hts {θ : zTh} {E : zEn} {cc : ByteArray} {nL : Nat} {own : String} {rt : Option FieldType} {R : Room} (G : zCtx θ E cc nL own rt R) : ∀ w ∈ lw_all, w.before (ta θ) (ts θ) = true := G.2.2.2.2.1
theorem zCtx.own {θ : zTh} {E : zEn} {cc : ByteArray} {nL : Nat} {own : String} {rt : Option FieldType} {R : Room} (G : zCtx θ E cc nL own rt R) : (ts θ).vm.findClass own = some (tm θ).cls := G.2.2.2.1
theorem zCtx.room {θ : zTh} {E : zEn} {cc : ByteArray} {nL : Nat} {own : String} {rt : Option FieldType} {R : Room} (G : zCtx θ E cc nL own rt R) : tR θ = R := G.2.2.2.2.2.2.2.1
theorem zCtx.base {θ : zTh} {E : zEn} {cc : ByteArray} {nL : Nat} {own : String} {rt : Option FieldType} {R : Room} (G : zCtx θ E cc nL own rt R) : zB E ≤ (ts θ).heap.size ∧ ∀ q : Nat, q < zB E → (ts θ).heap[q]? = E.2.1[q]? := G.2.2.2.2.2.2.2.2.2.1
theorem zCtx.fix {θ : zTh} {E : zEn} {cc : ByteArray} {nL : Nat} {own : String} {rt : Option FieldType} {R : Room} (G : zCtx θ E cc nL own rt R) : CallFix (tp θ) (tm θ) (tc θ) cc nL (ts θ) (ta θ) lw_all own := ⟨G.1, G.2.1, G.2.2.1, G.own, G.hts⟩
def zcm (x y : Int) : Int := if y < x then 1 else if x = y then 0 else -1
theorem lg_cmp_zcm {x y : Int} (h1 : n64 x) (h2 : n64 y) : lg_cmp (iL x) (iL y) = iI (zcm x y) := by
  unfold lg_cmp zcm
  by_cases a : y < x
  · rw [if_pos a, if_pos ((iL_ltB h2 h1).mpr a)]; rfl
  · rw [if_neg a, if_neg (fun z => a ((iL_ltB h2 h1).mp z))]
    by_cases b : x = y
    · rw [if_pos b, if_pos (congrArg iL b)]; rfl
    · rw [if_neg b, if_neg (fun z => b ((iL_eqB h1 h2).mp z))]; rfl
theorem zcm_n (x y : Int) : n32 (zcm x y) := by
  unfold zcm n32
  split
  · omega
  · split <;> omega
theorem zcm_eq {x y : Int} : zcm x y = 0 ↔ x = y := by unfold zcm; split <;> first | omega | (split <;> omega)
theorem zcm_lt {x y : Int} : zcm x y < 0 ↔ x < y := by unfold zcm; split <;> first | omega | (split <;> omega)
theorem zcm_ge {x y : Int} : 0 ≤ zcm x y ↔ y ≤ x := by unfold zcm; split <;> first | omega | (split <;> omega)
theorem zcm_gt {x y : Int} : 0 < zcm x y ↔ y < x := by unfold zcm; split <;> first | omega | (split <;> omega)
theorem zcm_le {x y : Int} : zcm x y ≤ 0 ↔ x ≤ y := by unfold zcm; split <;> first | omega | (split <;> omega)
section ZC
variable {θ : zTh} {Q : State → Prop} {E : zEn} {h : zHp} {cs sl pc : Nat} {L L' : List (Nat × Value)} {st : List Value} {cc : ByteArray} {nL : Nat} {own : String} {rt : Option FieldType} {R : Room}
theorem v_lcmp (G : zCtx θ E cc nL own rt R) {x y : Int} (h1 : n64 x) (h2 : n64 y) (hd : decode cc pc = .ok (.lcmp, 1)) (k : VW θ Q E h cs sl (pc + 1) L (.int (iI (zcm x y)) :: st)) : VW θ Q E h cs sl pc L (.long (iL y) :: .long (iL x) :: st) := fun H locs ls a b c => W.lcmp G.1 G.2.1 hd (by rw [lg_cmp_zcm h1 h2]; exact k H locs ls a b c)
/-- longs of any size: compared as the longs that they stand for -/
theorem v_lcmpW (G : zCtx θ E cc nL own rt R) {x y : Int} (hd : decode cc pc = .ok (.lcmp, 1)) (k : VW θ Q E h cs sl (pc + 1) L (.int (iI (zcm (w64 x) (w64 y))) :: st)) : VW θ Q E h cs sl pc L (.long (iL y) :: .long (iL x) :: st) := by
  have e1 := iL_w x
  have e2 := iL_w y
  rw [← e1, ← e2]
  exact v_lcmp G ⟨w64_lo x, w64_hi x⟩ ⟨w64_lo y, w64_hi y⟩ hd k
theorem v_lif_eq (G : zCtx θ E cc nL own rt R) {x y : Int} {off : Int} (tgt : Nat) (ht : (pc : Int) + off = (tgt : Int)) (hd : decode cc pc = .ok (.ifCond .eq off, 3)) (kt : x = y → VW θ Q E h cs sl tgt L st) (kf : ¬ x = y → VW θ Q E h cs sl (pc + 3) L st) : VW θ Q E h cs sl pc L (.int (iI (zcm x y)) :: st) := v_if_eq G tgt (zcm_n x y) ht hd (fun z => kt (zcm_eq.mp z)) (fun z => kf (fun e => z (zcm_eq.mpr e)))
theorem v_lif_ne (G : zCtx θ E cc nL own rt R) {x y : Int} {off : Int} (tgt : Nat) (ht : (pc : Int) + off = (tgt : Int)) (hd : decode cc pc = .ok (.ifCond .ne off, 3)) (kt : ¬ x = y → VW θ Q E h cs sl tgt L st) (kf : x = y → VW θ Q E h cs sl (pc + 3) L st) : VW θ Q E h cs sl pc L (.int (iI (zcm x y)) :: st) := v_if_ne G tgt (zcm_n x y) ht hd (fun z => kt (fun e => z (zcm_eq.mpr e))) (fun z => kf (zcm_eq.mp z))
theorem v_lif_lt (G : zCtx θ E cc nL own rt R) {x y : Int} {off : Int} (tgt : Nat) (ht : (pc : Int) + off = (tgt : Int)) (hd : decode cc pc = .ok (.ifCond .lt off, 3)) (kt : x < y → VW θ Q E h cs sl tgt L st) (kf : ¬ x < y → VW θ Q E h cs sl (pc + 3) L st) : VW θ Q E h cs sl pc L (.int (iI (zcm x y)) :: st) := v_if_lt G tgt (zcm_n x y) ht hd (fun z => kt (zcm_lt.mp z)) (fun z => kf (fun e => z (zcm_lt.mpr e)))
theorem v_lif_ge (G : zCtx θ E cc nL own rt R) {x y : Int} {off : Int} (tgt : Nat) (ht : (pc : Int) + off = (tgt : Int)) (hd : decode cc pc = .ok (.ifCond .ge off, 3)) (kt : y ≤ x → VW θ Q E h cs sl tgt L st) (kf : ¬ y ≤ x → VW θ Q E h cs sl (pc + 3) L st) : VW θ Q E h cs sl pc L (.int (iI (zcm x y)) :: st) := v_if_ge G tgt (zcm_n x y) ht hd (fun z => kt (zcm_ge.mp z)) (fun z => kf (fun e => z (zcm_ge.mpr e)))
theorem v_lif_gt (G : zCtx θ E cc nL own rt R) {x y : Int} {off : Int} (tgt : Nat) (ht : (pc : Int) + off = (tgt : Int)) (hd : decode cc pc = .ok (.ifCond .gt off, 3)) (kt : y < x → VW θ Q E h cs sl tgt L st) (kf : ¬ y < x → VW θ Q E h cs sl (pc + 3) L st) : VW θ Q E h cs sl pc L (.int (iI (zcm x y)) :: st) := v_if_gt G tgt (zcm_n x y) ht hd (fun z => kt (zcm_gt.mp z)) (fun z => kf (fun e => z (zcm_gt.mpr e)))
theorem v_lif_le (G : zCtx θ E cc nL own rt R) {x y : Int} {off : Int} (tgt : Nat) (ht : (pc : Int) + off = (tgt : Int)) (hd : decode cc pc = .ok (.ifCond .le off, 3)) (kt : x ≤ y → VW θ Q E h cs sl tgt L st) (kf : ¬ x ≤ y → VW θ Q E h cs sl (pc + 3) L st) : VW θ Q E h cs sl pc L (.int (iI (zcm x y)) :: st) := v_if_le G tgt (zcm_n x y) ht hd (fun z => kt (zcm_le.mp z)) (fun z => kf (fun e => z (zcm_le.mpr e)))
/-! references: null or not -/
theorem v_ifnull (G : zCtx θ E cc nL own rt R) {a : Nat} {off : Int} (hd : decode cc pc = .ok (.ifnull off, 3)) (k : VW θ Q E h cs sl (pc + 3) L st) : VW θ Q E h cs sl pc L (.ref a :: st) := fun H locs ls a b c => lv_ifnull G.1 G.2.1 hd (k H locs ls a b c)
theorem v_ifnullN (G : zCtx θ E cc nL own rt R) {off : Int} (tgt : Nat) (ht : (pc : Int) + off = (tgt : Int)) (hd : decode cc pc = .ok (.ifnull off, 3)) (k : VW θ Q E h cs sl tgt L st) : VW θ Q E h cs sl pc L (.null :: st) := fun H locs ls a b c => lv_ifnullN G.1 G.2.1 hd ht (k H locs ls a b c)
theorem v_ifnonnull (G : zCtx θ E cc nL own rt R) {a : Nat} {off : Int} (tgt : Nat) (ht : (pc : Int) + off = (tgt : Int)) (hd : decode cc pc = .ok (.ifnonnull off, 3)) (k : VW θ Q E h cs sl tgt L st) : VW θ Q E h cs sl pc L (.ref a :: st) := fun H locs ls a b c => lv_ifnonnull G.1 G.2.1 hd ht (k H locs ls a b c)
theorem v_ifnonnullN (G : zCtx θ E cc nL own rt R) {off : Int} (hd : decode cc pc = .ok (.ifnonnull off, 3)) (k : VW θ Q E h cs sl (pc + 3) L st) : VW θ Q E h cs sl pc L (.null :: st) := fun H locs ls a b c => lv_ifnonnullN G.1 G.2.1 hd (k H locs ls a b c)
theorem v_ifnullR (G : zCtx θ E cc nL own rt R) {r : Option Nat} {off : Int} (tgt : Nat) (ht : (pc : Int) + off = (tgt : Int)) (hd : decode cc pc = .ok (.ifnull off, 3)) (kt : r = none → VW θ Q E h cs sl tgt L st) (kf : ∀ a : Nat, r = some a → VW θ Q E h cs sl (pc + 3) L st) : VW θ Q E h cs sl pc L (va_rf r :: st) := by
  cases r with
  | none => exact v_ifnullN G tgt ht hd (kt rfl)
  | some a => exact v_ifnull G hd (kf a rfl)
theorem v_ifnonnullR (G : zCtx θ E cc nL own rt R) {r : Option Nat} {off : Int} (tgt : Nat) (ht : (pc : Int) + off = (tgt : Int)) (hd : decode cc pc = .ok (.ifnonnull off, 3)) (kt : ∀ a : Nat, r = some a → VW θ Q E h cs sl tgt L st) (kf : r = none → VW θ Q E h cs sl (pc + 3) L st) : VW θ Q E h cs sl pc L (va_rf r :: st) := by
  cases r with
  | none => exact v_ifnonnullN G hd (kf rfl)
  | some a => exact v_ifnonnull G tgt ht hd (kt a rfl)
theorem v_acmp_eq (G : zCtx θ E cc nL own rt R) {x y : Option Nat} {off : Int} (tgt : Nat) (ht : (pc : Int) + off = (tgt : Int)) (hd : decode cc pc = .ok (.if_acmp .eq off, 3)) (kt : x = y → VW θ Q E h cs sl tgt L st) (kf : ¬ x = y → VW θ Q E h cs sl (pc + 3) L st) : VW θ Q E h cs sl pc L (va_rf y :: va_rf x :: st) := fun H locs ls a b c => lv_acmp_eq G.1 G.2.1 hd ht (fun z => kt z H locs ls a b c) (fun z => kf z H locs ls a b c)
theorem v_acmp_ne (G : zCtx θ E cc nL own rt R) {x y : Option Nat} {off : Int} (tgt : Nat) (ht : (pc : Int) + off = (tgt : Int)) (hd : decode cc pc = .ok (.if_acmp .ne off, 3)) (kt : ¬ x = y → VW θ Q E h cs sl tgt L st) (kf : x = y → VW θ Q E h cs sl (pc + 3) L st) : VW θ Q E h cs sl pc L (va_rf y :: va_rf x :: st) := fun H locs ls a b c => lv_acmp_ne G.1 G.2.1 hd ht (fun z => kt z H locs ls a b c) (fun z => kf z H locs ls a b c)
/-! fields -/
theorem v_get (G : zCtx θ E cc nL own rt R) {ci N : Nat} {C ref : String} {T : u_T} {a t index : Nat} {fs : List Value} {v : Value} (hin : ∀ w ∈ u_ws C T N, w ∈ lw_all) (hc : zCL[ci]? = some (C, T, N)) (k : Nat) (hk : k < N) (hlink : Cond.fieldLink own index ref (T k).2.1 (T k).2.2.1 ∈ lw_all) (hsame : ∀ x, (ts θ).fieldFound? (T k).1 (T k).2.1 (T k).2.2.1 = some x → (ts θ).fieldFound? ref (T k).2.1 (T k).2.2.1 = some x)
    (hx : h a = some (t, .inr (ci, fs))) (hv : fs[k]? = some v) (hd : decode cc pc = .ok (.getfield index, 3)) (kk : VW θ Q E h cs sl (pc + 3) L (v :: st)) : VW θ Q E h cs sl pc L (.ref a :: st) := fun H locs ls b1 b2 b3 =>
  va_get G.1 G.2.1 G.hts hin G.own G.kk.1 (b1.P hx) 0 rfl hc k hk (G.hts _ hlink) hsame hv hd (kk H locs ls b1 b2 b3)
theorem v_getN (G : zCtx θ E cc nL own rt R) {ci N : Nat} {C ref host : String} {T : u_T} {a t index : Nat} {fs : List Value} {v : Value} (hin : ∀ w ∈ u_ws C T N, w ∈ lw_all) (hc : zCL[ci]? = some (C, T, N)) (k : Nat) (hk : k < N) (hlink : (own, index, ref, (T k).2.1, (T k).2.2.1, host) ∈ zNF) (hsame : ∀ x, (ts θ).fieldFound? (T k).1 (T k).2.1 (T k).2.2.1 = some x → (ts θ).fieldFound? ref (T k).2.1 (T k).2.2.1 = some x)
    (hx : h a = some (t, .inr (ci, fs))) (hv : fs[k]? = some v) (hd : decode cc pc = .ok (.getfield index, 3)) (kk : VW θ Q E h cs sl (pc + 3) L (v :: st)) : VW θ Q E h cs sl pc L (.ref a :: st) := fun H locs ls b1 b2 b3 =>
  va_getN G.1 G.2.1 G.hts hin G.own G.kk.1 (b1.P hx) 0 rfl hc k hk (va_Nw.use rfl (G.kk.2.1.1 _ hlink)) hsame hv hd (kk H locs ls b1 b2 b3)
theorem v_put (G : zCtx θ E cc nL own rt R) {ci N : Nat} {C ref : String} {T : u_T} {a t index : Nat} {fs : List Value} {v : Value} {ty : FieldType} (hin : ∀ w ∈ u_ws C T N, w ∈ lw_all) (ty0 : Nat → FieldType) (hty : ∀ k, k < N → parseFieldDescriptor (T k).2.2.1 = some (ty0 k)) (hnm : ∀ a, a < N → ∀ b, b < N → a ≠ b → (T a).2.1 ≠ (T b).2.1) (hc : zCL[ci]? = some (C, T, N)) (k : Nat) (hk : k < N) (hlink : Cond.fieldLink own index ref (T k).2.1 (T k).2.2.1 ∈ lw_all) (hsame : ∀ x, (ts θ).fieldFound? (T k).1 (T k).2.1 (T k).2.2.1 = some x → (ts θ).fieldFound? ref (T k).2.1 (T k).2.2.1 = some x) (hfin : (T k).2.2.2 = false)
    (hd' : parseFieldDescriptor (T k).2.2.1 = some ty) (hn : narrow ty v = v) (hfit : fits ty v = true) (hx : h a = some (t, .inr (ci, fs))) (hl : k < fs.length) (hd : decode cc pc = .ok (.putfield index, 3)) (kk : VW θ Q E (va_up h a (some (t, .inr (ci, fs.set k v)))) cs sl (pc + 3) L st) : VW θ Q E h cs sl pc L (v :: .ref a :: st) := by
  intro H locs ls b1 b2 b3
  have hK := G.kk.1
  have hap := va_apart (own := own) G.hts hin ty0 hty hnm hK hc
  obtain ⟨hb, r, h1, cell, q1, q2, q3, q4⟩ := b1.2.2 a t _ hx
  have hr : r = (C, T, N) := Option.some.inj (h1.symm.trans hc)
  subst hr
  obtain ⟨hS, hfc, kC, hkC, hkind⟩ := hK.1 ci _ hc
  obtain ⟨cf, kf, fi, f, hi, hsl⟩ := hS k hk
  have hlay := G.hts _ (hin _ (u_in_lay hk))
  unfold u_lay at hlay
  rw [if_neg (by rw [hfin]; decide)] at hlay
  have hst := (u_facts hfc hkC (u_lays G.hts hin hk) hi).1
  have h6 := u_store hfc hkC hkind hlay hi hd' hn hfit
  refine W.putK G.1 G.2.1 (f := f) ⟨G.own, G.hts _ hlink, ⟨_, _, _, hsame _ hi⟩, hst⟩ (by rw [q2]; exact h6) q1 q3 (by rw [hsl]; exact k2_hasslot (q4 k hk)) rfl rfl hd fun H' e1 e2 e3 => ?_
  rw [hsl] at e1 ⊢
  exact kk H' _ ls (b1.put hb (Nat.le_of_eq e2.symm) (fun q _ hq => e3 q hq) ⟨_, hc, t_OB.to (V := updV (vp_V fs) k v) ⟨_, e1, q2, q3, t_set q4 hap hk v⟩ (fun j _ => vp_updV_set hl v j)⟩) (b2.put e2 e3 hb) b3
theorem v_putF (G : zCtx θ E cc nL own rt R) {ci N : Nat} {C ref : String} {T : u_T} {a t index : Nat} {fs : List Value} {v : Value} {ty : FieldType} (hin2 : (tM θ).name = "<init>") (hin : ∀ w ∈ u_ws C T N, w ∈ lw_all) (ty0 : Nat → FieldType) (hty : ∀ k, k < N → parseFieldDescriptor (T k).2.2.1 = some (ty0 k)) (hnm : ∀ a, a < N → ∀ b, b < N → a ≠ b → (T a).2.1 ≠ (T b).2.1) (hc : zCL[ci]? = some (C, T, N)) (k : Nat) (hk : k < N) (hlink : Cond.fieldLink own index ref (T k).2.1 (T k).2.2.1 ∈ lw_all) (hsame : ∀ x, (ts θ).fieldFound? (T k).1 (T k).2.1 (T k).2.2.1 = some x → (ts θ).fieldFound? ref (T k).2.1 (T k).2.2.1 = some x) (hfin : (T k).2.2.2 = true) (hdecl : (T k).1 = own)
    (hd' : parseFieldDescriptor (T k).2.2.1 = some ty) (hn : narrow ty v = v) (hfit : fits ty v = true) (hx : h a = some (t, .inr (ci, fs))) (hl : k < fs.length) (hd : decode cc pc = .ok (.putfield index, 3)) (kk : VW θ Q E (va_up h a (some (t, .inr (ci, fs.set k v)))) cs sl (pc + 3) L st) : VW θ Q E h cs sl pc L (v :: .ref a :: st) := by
  intro H locs ls b1 b2 b3
  have hK := G.kk.1
  have hap := va_apart (own := own) G.hts hin ty0 hty hnm hK hc
  obtain ⟨hb, r, h1, cell, q1, q2, q3, q4⟩ := b1.2.2 a t _ hx
  have hr : r = (C, T, N) := Option.some.inj (h1.symm.trans hc)
  subst hr
  obtain ⟨hS, hfc, kC, hkC, hkind⟩ := hK.1 ci _ hc
  obtain ⟨cf, kf, fi, f, hi, hsl⟩ := hS k hk
  have hlay := G.hts _ (hin _ (u_in_lay hk))
  unfold u_lay at hlay
  rw [if_pos hfin] at hlay
  have hst := (u_facts hfc hkC (u_lays G.hts hin hk) hi).1
  have hcf : (tm θ).cls = cf := by
    obtain ⟨_, _, c', _, _, _, -, -, hf', -, -, -, hown2, -⟩ := Cond.laysFinal_spec hlay
    have e1 : c' = cf := by have := hi.symm.trans hf'; simp at this; exact this.1.symm
    rw [hdecl] at hown2
    rw [← e1]; exact Option.some.inj (G.own.symm.trans hown2)
  have h6 := u_fits hfc hkC hkind (Or.inr hlay) hi hd' hn hfit
  refine W.putFinK G.1 G.2.1 G.own (G.hts _ hlink) (hsame _ hi) hst hcf hin2 (by rw [q2]; exact h6) q1 q3 (by rw [hsl]; exact k2_hasslot (q4 k hk)) rfl rfl hd fun H' e1 e2 e3 => ?_
  rw [hsl] at e1 ⊢
  exact kk H' _ ls (b1.put hb (Nat.le_of_eq e2.symm) (fun q _ hq => e3 q hq) ⟨_, hc, t_OB.to (V := updV (vp_V fs) k v) ⟨_, e1, q2, q3, t_set q4 hap hk v⟩ (fun j _ => vp_updV_set hl v j)⟩) (b2.put e2 e3 hb) b3
/-! arrays -/
end ZC
/-- int, long, boolean arrays; arrays of references (3: of Objects, 4: of Laws) -/
abbrev aI (E : zEn) (n : Nat) (F : Int → Int) : va_E := .inl (E.2.2.1 0, (n, .inl (fun j => iI (F (j : Int)))))
abbrev aZ (E : zEn) (n : Nat) (F : Int → Int) : va_E := .inl (E.2.2.1 2, (n, .inl (fun j => iI (F (j : Int)))))
abbrev aL (E : zEn) (n : Nat) (F : Int → Int) : va_E := .inl (E.2.2.1 1, (n, .inr (.inl (fun j => iL (F (j : Int))))))
abbrev aQ (E : zEn) (k n : Nat) (f : Nat → Option Nat) : va_E := .inl (E.2.2.1 k, (n, .inr (.inr (.inr (.inr f)))))
def iup (F : Int → Int) (i z : Int) : Int → Int := fun j => if j = i then z else F j
theorem iup_s {F : Int → Int} {i z : Int} : iup F i z i = z := by simp [iup]
theorem iup_n {F : Int → Int} {i j z : Int} (hne : j ≠ i) : iup F i z j = F j := by simp [iup, hne]
section ZD
variable {θ : zTh} {Q : State → Prop} {E : zEn} {h : zHp} {cs sl pc : Nat} {L L' : List (Nat × Value)} {st : List Value} {cc : ByteArray} {nL : Nat} {own : String} {rt : Option FieldType} {R : Room}
theorem v_iald (G : zCtx θ E cc nL own rt R) {a t n : Nat} {F : Int → Int} {i : Int} (hx : h a = some (t, aI E n F)) (hn : n < 2147483648) (hi : 0 ≤ i ∧ i < (n : Int)) (hd : decode cc pc = .ok (.iaload, 1)) (k : VW θ Q E h cs sl (pc + 1) L (.int (iI (F i)) :: st)) : VW θ Q E h cs sl pc L (.int (iI i) :: .ref a :: st) := fun H locs ls b1 b2 b3 =>
  va_iald G.1 G.2.1 G.kk.1 (b1.P hx) 0 0 rfl rfl (iI_in hi.1 hi.2 hn) hd (by
    show W _ _ _ _ _ _ _ _ _ _ _ _ _ _ _ (F0 _ _ _ (.int (iI (F (((iI i).toNatClampNeg : Nat) : Int))) :: st))
    rw [iI_clamp hi.1 (by omega), Int.toNat_of_nonneg hi.1]; exact k H locs ls b1 b2 b3)
theorem v_zald (G : zCtx θ E cc nL own rt R) {a t n : Nat} {F : Int → Int} {i : Int} (hx : h a = some (t, aZ E n F)) (hn : n < 2147483648) (hi : 0 ≤ i ∧ i < (n : Int)) (hd : decode cc pc = .ok (.baload, 1)) (k : VW θ Q E h cs sl (pc + 1) L (.int (iI (F i)) :: st)) : VW θ Q E h cs sl pc L (.int (iI i) :: .ref a :: st) := fun H locs ls b1 b2 b3 =>
  va_zald G.1 G.2.1 G.kk.1 (b1.P hx) 0 2 rfl rfl (iI_in hi.1 hi.2 hn) hd (by
    show W _ _ _ _ _ _ _ _ _ _ _ _ _ _ _ (F0 _ _ _ (.int (iI (F (((iI i).toNatClampNeg : Nat) : Int))) :: st))
    rw [iI_clamp hi.1 (by omega), Int.toNat_of_nonneg hi.1]; exact k H locs ls b1 b2 b3)
theorem v_lald (G : zCtx θ E cc nL own rt R) {a t n : Nat} {F : Int → Int} {i : Int} (hx : h a = some (t, aL E n F)) (hn : n < 2147483648) (hi : 0 ≤ i ∧ i < (n : Int)) (hd : decode cc pc = .ok (.laload, 1)) (k : VW θ Q E h cs sl (pc + 1) L (.long (iL (F i)) :: st)) : VW θ Q E h cs sl pc L (.int (iI i) :: .ref a :: st) := fun H locs ls b1 b2 b3 =>
  va_lald G.1 G.2.1 G.kk.1 (b1.P hx) 0 1 rfl rfl (iI_in hi.1 hi.2 hn) hd (by
    show W _ _ _ _ _ _ _ _ _ _ _ _ _ _ _ (F0 _ _ _ (.long (iL (F (((iI i).toNatClampNeg : Nat) : Int))) :: st))
    rw [iI_clamp hi.1 (by omega), Int.toNat_of_nonneg hi.1]; exact k H locs ls b1 b2 b3)
theorem v_aald (G : zCtx θ E cc nL own rt R) {a t n kt : Nat} {C : String} {f : Nat → Option Nat} {r : Option Nat} {i : Int} (hx : h a = some (t, aQ E kt n f)) (ht : (zTYS E)[kt]? = some (E.2.2.1 kt, .object C)) (hn : n < 2147483648) (hi : 0 ≤ i ∧ i < (n : Int)) (hr : f i.toNat = r) (hd : decode cc pc = .ok (.aaload, 1)) (k : VW θ Q E h cs sl (pc + 1) L (va_rf r :: st)) : VW θ Q E h cs sl pc L (.int (iI i) :: .ref a :: st) := fun H locs ls b1 b2 b3 =>
  va_aldq G.1 G.2.1 G.kk.1 (b1.P hx) 0 kt rfl ht (iI_in hi.1 hi.2 hn) hd (by
    rw [iI_clamp hi.1 (by omega), hr]; exact k H locs ls b1 b2 b3)
theorem v_alen (G : zCtx θ E cc nL own rt R) {a t kt : Nat} {x : vp_A} {cA : ClassId} {ty : FieldType} (hx : h a = some (t, .inl (cA, x))) (ht : (zTYS E)[kt]? = some (cA, ty)) (hd : decode cc pc = .ok (.arraylength, 1)) (k : VW θ Q E h cs sl (pc + 1) L (.int (iI (x.1 : Int)) :: st)) : VW θ Q E h cs sl pc L (.ref a :: st) := fun H locs ls b1 b2 b3 =>
  va_alen G.1 G.2.1 G.kk.1 (b1.P hx) 0 kt rfl ht (iI_nat x.1) hd (k H locs ls b1 b2 b3)
theorem zarr (n : Nat) (f : Nat → Value) (c : ClassId) {k : Nat} {v : Value} (g : Nat → Value) (hg : ∀ j, g j = if j = k then v else f j) : (arrV c n f).setSlot k v = arrV c n g := by
  rw [arrV_store]
  congr 1
  funext j
  rw [hg j]
  by_cases hj : j = k
  · subst hj; simp [updV]
  · simp [updV, hj]
theorem v_iast (G : zCtx θ E cc nL own rt R) {a t n : Nat} {F : Int → Int} {i z : Int} (hx : h a = some (t, aI E n F)) (hn : n < 2147483648) (hi : 0 ≤ i ∧ i < (n : Int)) (hd : decode cc pc = .ok (.iastore, 1)) (k : VW θ Q E (va_up h a (some (t, aI E n (iup F i z)))) cs sl (pc + 1) L st) : VW θ Q E h cs sl pc L (.int (iI z) :: .int (iI i) :: .ref a :: st) := by
  intro H locs ls b1 b2 b3
  obtain ⟨hb, hat⟩ := b1.2.2 a t _ hx
  have hc : (iI i).toNatClampNeg = i.toNat := iI_clamp hi.1 (by omega)
  refine W.iast G.1 G.2.1 hat ((G.kk.1.2 0 _ rfl).1 n (fun j => .int (iI (F (j : Int))))) (fun q => by cases q) (by show ¬ (_ < 0 ∨ (arrV _ _ _).slots.size ≤ _); rw [arrV_size]; exact iI_in hi.1 hi.2 hn) rfl rfl hd fun H1 e z1 oq => ?_
  refine k H1 _ ls (b1.put hb (Nat.le_of_eq z1.symm) (fun q _ hq => oq q hq) ?_) (b2.put z1 oq hb) b3
  show H1[a]? = some (arrV (E.2.2.1 0) n (fun j => .int (iI (iup F i z (j : Int)))))
  rw [e]
  refine congrArg some (zarr n (fun j => .int (iI (F (j : Int)))) _ _ fun j => ?_)
  rw [hc]
  by_cases hj : j = i.toNat
  · rw [if_pos hj]; show Value.int (iI (iup F i z (j : Int))) = _; rw [hj, Int.toNat_of_nonneg hi.1, iup_s]
  · rw [if_neg hj]; show Value.int (iI (iup F i z (j : Int))) = _; rw [iup_n (by omega)]
theorem v_last (G : zCtx θ E cc nL own rt R) {a t n : Nat} {F : Int → Int} {i z : Int} (hx : h a = some (t, aL E n F)) (hn : n < 2147483648) (hi : 0 ≤ i ∧ i < (n : Int)) (hd : decode cc pc = .ok (.lastore, 1)) (k : VW θ Q E (va_up h a (some (t, aL E n (iup F i z)))) cs sl (pc + 1) L st) : VW θ Q E h cs sl pc L (.long (iL z) :: .int (iI i) :: .ref a :: st) := by
  intro H locs ls b1 b2 b3
  obtain ⟨hb, hat⟩ := b1.2.2 a t _ hx
  have hc : (iI i).toNatClampNeg = i.toNat := iI_clamp hi.1 (by omega)
  refine W.last G.1 G.2.1 hat ((G.kk.1.2 1 _ rfl).1 n (fun j => .long (iL (F (j : Int))))) (fun q => by cases q) (by show ¬ (_ < 0 ∨ (arrV _ _ _).slots.size ≤ _); rw [arrV_size]; exact iI_in hi.1 hi.2 hn) rfl rfl hd fun H1 e z1 oq => ?_
  refine k H1 _ ls (b1.put hb (Nat.le_of_eq z1.symm) (fun q _ hq => oq q hq) ?_) (b2.put z1 oq hb) b3
  show H1[a]? = some (arrV (E.2.2.1 1) n (fun j => .long (iL (iup F i z (j : Int)))))
  rw [e]
  refine congrArg some (zarr n (fun j => .long (iL (F (j : Int)))) _ _ fun j => ?_)
  rw [hc]
  by_cases hj : j = i.toNat
  · rw [if_pos hj]; show Value.long (iL (iup F i z (j : Int))) = _; rw [hj, Int.toNat_of_nonneg hi.1, iup_s]
  · rw [if_neg hj]; show Value.long (iL (iup F i z (j : Int))) = _; rw [iup_n (by omega)]
theorem v_zast (G : zCtx θ E cc nL own rt R) {a t n : Nat} {F : Int → Int} {i z : Int} (hx : h a = some (t, aZ E n F)) (hz : z = 0 ∨ z = 1) (hn : n < 2147483648) (hi : 0 ≤ i ∧ i < (n : Int)) (hd : decode cc pc = .ok (.bastore, 1)) (k : VW θ Q E (va_up h a (some (t, aZ E n (iup F i z)))) cs sl (pc + 1) L st) : VW θ Q E h cs sl pc L (.int (iI z) :: .int (iI i) :: .ref a :: st) := by
  intro H locs ls b1 b2 b3
  obtain ⟨hb, hat⟩ := b1.2.2 a t _ hx
  have hc : (iI i).toNatClampNeg = i.toNat := iI_clamp hi.1 (by omega)
  refine W.zast G.1 G.2.1 hat ((G.kk.1.2 2 _ rfl).1 n (fun j => .int (iI (F (j : Int))))) (fun q => by cases q) (by show ¬ (_ < 0 ∨ (arrV _ _ _).slots.size ≤ _); rw [arrV_size]; exact iI_in hi.1 hi.2 hn) rfl rfl hd fun H1 e z1 oq => ?_
  refine k H1 _ ls (b1.put hb (Nat.le_of_eq z1.symm) (fun q _ hq => oq q hq) ?_) (b2.put z1 oq hb) b3
  show H1[a]? = some (arrV (E.2.2.1 2) n (fun j => .int (iI (iup F i z (j : Int)))))
  rw [e]
  have hnar : narrow .boolean (.int (iI z)) = .int (iI z) := by rcases hz with rfl | rfl <;> rfl
  rw [hnar]
  refine congrArg some (zarr n (fun j => .int (iI (F (j : Int)))) _ _ fun j => ?_)
  rw [hc]
  by_cases hj : j = i.toNat
  · rw [if_pos hj]; show Value.int (iI (iup F i z (j : Int))) = _; rw [hj, Int.toNat_of_nonneg hi.1, iup_s]
  · rw [if_neg hj]; show Value.int (iI (iup F i z (j : Int))) = _; rw [iup_n (by omega)]
/-! new cells: at a fresh address, of a region of one's choice -/
theorem v_new (G : zCtx θ E cc nL own rt R) (t : Nat) {ci N : Nat} {C : String} {T : u_T} {index : Nat} {fs : List Value} (hin : ∀ w ∈ u_ws C T N, w ∈ lw_all) (ty : Nat → FieldType) (hty : ∀ k, k < N → parseFieldDescriptor (T k).2.2.1 = some (ty k)) (hc : zCL[ci]? = some (C, T, N)) (hcl : Cond.classLink own index C ∈ lw_all) (hinst : Cond.instantiable C N ∈ lw_all) (hini : Cond.initialized C ∈ lw_all) (hfs : ∀ j, j < N → defaultValue (ty j) = vp_V fs j) (hcells : cs + 1 ≤ R.cells) (hslots : sl + N ≤ R.slots) (hd : decode cc pc = .ok (.new index, 3))
    (kk : ∀ q : Nat, h q = none → VW θ Q E (va_up h q (some (t, .inr (ci, fs)))) (cs + 1) (sl + N) (pc + 3) L (.ref q :: st)) : VW θ Q E h cs sl pc L st := by
  intro H locs ls b1 b2 b3
  have hKn := G.kk.1.1 ci _ hc
  refine W.newcK G.1 G.2.1 G.own (G.hts _ hcl) (G.hts _ hinst) (G.hts _ hini) rfl hd (by rw [G.room]; exact hcells) (by rw [G.room]; exact hslots) hKn.2.1 rfl fun H1 kC hkC e1 z1 o1 => ?_
  refine kk H.size (b1.none (Nat.le_refl _)) H1 locs ls (b1.put b1.1 (by omega) (fun q hq _ => o1 q hq) ?_) ⟨Nat.le_trans b2.1 (by omega), fun x h1 h2 => (o1 x (Nat.lt_of_lt_of_le h1 b2.1)).trans (b2.2.1 x h1 h2), b2.2.2⟩ b3
  exact ⟨_, hc, (u_born ty G.hts hin hKn hkC e1 hty).to hfs⟩
theorem v_newaP (G : zCtx θ E cc nL own rt R) (t kt : Nat) {at' : ArrayType} {ty : FieldType} {i : Int} {n : Nat} {e : va_E} (hty : newarray.typeOf at' = ty) (harr : Cond.arrayClass (newarray.typeOf at') ∈ lw_all) (hk : (zTYS E)[kt]? = some (E.2.2.1 kt, ty)) (hra : ∀ c, va_RA (ts θ) c ty → (ts θ).vm.findClass ("[" ++ ty.toString) = some c) (he : ∀ H1 a, H1[a]? = some (arrV (E.2.2.1 kt) n (fun _ => defaultValue ty)) → va_at E.1 zCL (a, e) H1) (hi : i = (n : Int)) (hn : n < 2147483648) (hbytes : n * componentBytes ty ≤ 536870912) (hcells : cs + 1 ≤ R.cells) (hslots : sl + n ≤ R.slots) (hd : decode cc pc = .ok (.newarray at', 2))
    (kk : ∀ q : Nat, h q = none → VW θ Q E (va_up h q (some (t, e))) (cs + 1) (sl + n) (pc + 2) L (.ref q :: st)) : VW θ Q E h cs sl pc L (.int (iI i) :: st) := by
  subst hi; subst hty
  intro H locs ls b1 b2 b3
  have hcl : (iI (n : Int)).toNatClampNeg = n := by rw [iI_clamp (by omega) (by omega)]; rfl
  refine va_newaK G.1 G.2.1 (G.hts _ harr) rfl hd rfl (N := n) ?_ hcl hbytes (by rw [G.room]; exact hcells) (by rw [G.room]; exact hslots) rfl fun H1 cA e1 z1 o1 hAr hNm => ?_
  · rw [Int32.not_lt, iI_0, iI_le, w32_of (by omega) (by omega), w32_of (by omega) (by omega)]; omega
  have hcA : cA = E.2.2.1 kt := Option.some.inj (hNm.symm.trans (hra _ (G.kk.1.2 kt _ hk).2))
  subst hcA
  exact kk H.size (b1.none (Nat.le_refl _)) H1 locs ls (b1.put b1.1 (by omega) (fun q hq _ => o1 q hq) (he H1 _ e1)) ⟨Nat.le_trans b2.1 (by omega), fun x h1 h2 => (o1 x (Nat.lt_of_lt_of_le h1 b2.1)).trans (b2.2.1 x h1 h2), b2.2.2⟩ b3
theorem v_newaI (G : zCtx θ E cc nL own rt R) (t : Nat) {i : Int} {n : Nat} (harr : Cond.arrayClass .int ∈ lw_all) (hi : i = (n : Int)) (hn : n < 100000) (hcells : cs + 1 ≤ R.cells) (hslots : sl + n ≤ R.slots) (hd : decode cc pc = .ok (.newarray .int, 2)) (kk : ∀ q : Nat, h q = none → VW θ Q E (va_up h q (some (t, aI E n (fun _ => 0)))) (cs + 1) (sl + n) (pc + 2) L (.ref q :: st)) : VW θ Q E h cs sl pc L (.int (iI i) :: st) :=
  v_newaP G t 0 (at' := .int) (ty := .int) (e := aI E n (fun _ => 0)) rfl harr rfl (fun _ q => q) (fun H1 a q => by show H1[a]? = some (arrV (E.2.2.1 0) n (fun _ => .int (iI 0))); exact q) hi (by omega) (by show n * 4 ≤ _; omega) hcells hslots hd kk
theorem v_newaL (G : zCtx θ E cc nL own rt R) (t : Nat) {i : Int} {n : Nat} (harr : Cond.arrayClass .long ∈ lw_all) (hi : i = (n : Int)) (hn : n < 100000) (hcells : cs + 1 ≤ R.cells) (hslots : sl + n ≤ R.slots) (hd : decode cc pc = .ok (.newarray .long, 2)) (kk : ∀ q : Nat, h q = none → VW θ Q E (va_up h q (some (t, aL E n (fun _ => 0)))) (cs + 1) (sl + n) (pc + 2) L (.ref q :: st)) : VW θ Q E h cs sl pc L (.int (iI i) :: st) :=
  v_newaP G t 1 (at' := .long) (ty := .long) (e := aL E n (fun _ => 0)) rfl harr rfl (fun _ q => q) (fun H1 a q => by show H1[a]? = some (arrV (E.2.2.1 1) n (fun _ => .long (iL 0))); exact q) hi (by omega) (by show n * 8 ≤ _; omega) hcells hslots hd kk
theorem v_newaZ (G : zCtx θ E cc nL own rt R) (t : Nat) {i : Int} {n : Nat} (harr : Cond.arrayClass .boolean ∈ lw_all) (hi : i = (n : Int)) (hn : n < 100000) (hcells : cs + 1 ≤ R.cells) (hslots : sl + n ≤ R.slots) (hd : decode cc pc = .ok (.newarray .boolean, 2)) (kk : ∀ q : Nat, h q = none → VW θ Q E (va_up h q (some (t, aZ E n (fun _ => 0)))) (cs + 1) (sl + n) (pc + 2) L (.ref q :: st)) : VW θ Q E h cs sl pc L (.int (iI i) :: st) :=
  v_newaP G t 2 (at' := .boolean) (ty := .boolean) (e := aZ E n (fun _ => 0)) rfl harr rfl (fun _ q => q) (fun H1 a q => by show H1[a]? = some (arrV (E.2.2.1 2) n (fun _ => .int (iI 0))); exact q) hi (by omega) (by show n * 1 ≤ _; omega) hcells hslots hd kk
end ZD
