/-! BASE 3: contracts that may throw, in a world; sums and tests found by the receiver; methods with handlers -/
set_option maxRecDepth 100000
def bx_ {α β : Type} (o : Option ((β ⊕ Nat) × fo_St)) (k : β → fo_St → Option α) (h : Nat → fo_St → Option α) : Option α := match o with
  | none => none
  | some (.inl r, st) => k r st
  | some (.inr q, st) => h q st
theorem bx_e {α β : Type} {o : Option ((β ⊕ Nat) × fo_St)} {k : β → fo_St → Option α} {h : Nat → fo_St → Option α} {y : α} (hh : bx_ o k h = some y) : (∃ r st, o = some (.inl r, st) ∧ k r st = some y) ∨ ∃ q st, o = some (.inr q, st) ∧ h q st = some y := by
  rcases o with _ | ⟨r | q, st⟩
  · cases hh
  · exact Or.inl ⟨r, st, rfl, hh⟩
  · exact Or.inr ⟨q, st, rfl, hh⟩
/-- the cell n is of the class EE -/
def fo_TX (E : fo_E) (n : Nat) (EE : String) : Prop := ∃ (ci : Nat) (cq : vw_C), et E n = (1, ci) ∧ fo_cl[ci]? = some cq ∧ cq.1 = EE
def fo_XC {β : Type} (E : fo_E) (ρ : β ⊕ Nat) (st' : fo_St) : String → Addr → State → State → Prop := fx_X (fun (_ : Unit) => True) (fun EE q _ t => ∃ n, ρ = .inr n ∧ q = eb E + n ∧ fo_TX E n EE ∧ wd_ E st' t.heap) (eF E)
def CXl (l : Launch) (E : fo_E) (y : MethodName) (ws : List Cond) (rm : Room) (av : List Value) (st : fo_St) (ρ : Int64 ⊕ Nat) (st' : fo_St) : Prop := fx_Met l y ws rm (va_Pc av (fun U => wd_ E st U.heap ∧ fo_K E U)) (va_Ql (fun (r0 : Int64) (_ : Unit) => ρ = .inl r0) (fun _ t => wd_ E st' t.heap) (eF E)) (fo_XC E ρ st') 0 0 (eF E)
def CXi (l : Launch) (E : fo_E) (y : MethodName) (ws : List Cond) (rm : Room) (av : List Value) (st : fo_St) (ρ : Int32 ⊕ Nat) (st' : fo_St) : Prop := fx_Met l y ws rm (va_Pc av (fun U => wd_ E st U.heap ∧ fo_K E U)) (va_Qi (fun (r0 : Int32) (_ : Unit) => ρ = .inl r0) (fun _ t => wd_ E st' t.heap) (eF E)) (fo_XC E ρ st') 0 0 (eF E)
/-- ends for any goal behind: a return, a throw that leaves -/
def fo_Yl (p : Program) (l : Launch) (e : Env) (R : Room) (s : State) (m : MethodId) (args : Array Value) (below : List Frame) (meth : Method) (c : Code) (cc : ByteArray) (Q : State → Prop) (E : fo_E) (ρ : Int64 ⊕ Nat) (st' : fo_St) : Prop := ∀ (H : Heap) (locs : List Loc) (ls : Array Slot) (pc : Nat) (v : Int64), ρ = .inl v → fo_S E s st' H locs → decode cc pc = .ok (.lreturn, 1) → W p l e R s m args below meth c H locs 0 0 Q (F0 m pc ls [.long v])
def fo_Yz (p : Program) (l : Launch) (e : Env) (R : Room) (s : State) (m : MethodId) (args : Array Value) (below : List Frame) (meth : Method) (c : Code) (cc : ByteArray) (Q : State → Prop) (E : fo_E) (ρ : Int32 ⊕ Nat) (st' : fo_St) : Prop := ∀ (H : Heap) (locs : List Loc) (ls : Array Slot) (pc : Nat) (v : Int32), ρ = .inl v → fo_S E s st' H locs → narrow .boolean (.int v) = .int v → decode cc pc = .ok (.ireturn, 1) → W p l e R s m args below meth c H locs 0 0 Q (F0 m pc ls [.int v])
def fo_Yx {β : Type} (p : Program) (l : Launch) (e : Env) (R : Room) (s : State) (m : MethodId) (args : Array Value) (below : List Frame) (meth : Method) (c : Code) (Q : State → Prop) (E : fo_E) (ρ : β ⊕ Nat) (st' : fo_St) : Prop := ∀ (H : Heap) (locs : List Loc) (ls : Array Slot) (pc : Nat) (rest : List Value) (n : Nat) (EE : String), ρ = .inr n → fo_TX E n EE → fo_S E s st' H locs → fx_W p l e R s m args below meth c H locs 0 0 Q (F0 m pc ls rest) (eb E + n)
theorem fo_xent {β : Type} {l : Launch} {E : fo_E} {y : MethodName} {cc : ByteArray} {maxL n : Nat} {ret : Option FieldType} {rm : Room} {av : List Value} {st st' : fo_St} {ρ : β ⊕ Nat} {Qc : Array Value → State → Outcome → State → Prop} (hM : fo_M y n) (hn : (lg_sl av).length ≤ maxL)
    (body : ∀ (p : Program) (e : Env) (s : State) (m : MethodId) (below : List Frame) (meth : Method) (c : Code), fo_X E p m c cc maxL s av.toArray y.cls meth → meth.sig.returnType = ret → fo_Yx p l e (headSpec (ws_ y cc maxL ret) rm).room s m av.toArray below meth c (fx_MQ below Qc (fo_XC E ρ st') av.toArray s 0 0 (eF E)) E ρ st' → ∀ ls : Array Slot, lv_has ls maxL (lv_args 0 av) → fo_S E s st s.heap [] → W p l e (headSpec (ws_ y cc maxL ret) rm).room s m av.toArray below meth c s.heap [] 0 0 (fx_MQ below Qc (fo_XC E ρ st') av.toArray s 0 0 (eF E)) (F0 m 0 ls [])) : fx_Met l y (ws_ y cc maxL ret) rm (va_Pc av (fun U => wd_ E st U.heap ∧ fo_K E U)) Qc (fo_XC E ρ st') 0 0 (eF E) := by
  refine fx_ofW (cc := cc) (maxL := maxL) (ret := ret) hM.1 rfl ?_
  intro p e s m args below meth c s₁ B hml htab hv
  obtain ⟨rfl, hw, hK⟩ := hv
  have hts := atoms_spec (ws := ws_ y cc maxL ret) B.pre
  have hts : ∀ w ∈ lw_all, w.before _ s = true := fun w h => hts w (List.mem_cons_of_mem _ h)
  have hown : s.vm.findClass y.cls = some m.cls := findClass_of_methodNamed B.named
  have X : fo_X E p m c cc maxL s av.toArray y.cls meth := ⟨⟨B.exec, B.bytes, hml, hown, hts⟩, hK, B.notSynchronized⟩
  rw [lg_entry_eq]
  refine body p e s m below meth c X B.returns ?_ _ (lv_entry av hn) ⟨hw, va_S.rf⟩
  intro H locs ls pc rest q EE hρ hT hS
  obtain ⟨ci, cq, h1, h2, h3⟩ := hT
  obtain ⟨r, r1, cell, q1, q2, q3, q4⟩ := fo_ob hS h1 0 _ rfl
  refine fx_out (fun x hx => (htab x hx).elim) B.notSynchronized q1 q3 (E := EE) ?_ ?_ hS.2.2.2 (Nat.le_refl 0) (Nat.le_refl 0)
  · rw [q2, ← h3]
    exact (hK.1.1 ci cq h2).2.1
  · intro t ht hal
    exact ⟨(), trivial, ⟨q, hρ, rfl, ⟨ci, cq, h1, h2, h3⟩, by rw [ht]; exact hS.1⟩, hS.2.F ht⟩
section FT1
variable {l : Launch} {E : fo_E} {y : MethodName} {cc : ByteArray} {maxL n fr lo : Nat} {av : List Value} {st st' : fo_St}
theorem fex_l {ρ : Int64 ⊕ Nat} (hM : fo_M y n) (hn : (lg_sl av).length ≤ maxL) (body : ∀ (p : Program) (e : Env) (R : Room) (s : State) (m : MethodId) (args : Array Value) (below : List Frame) (meth : Method) (c : Code) (Q : State → Prop), R.frames = fr → R.locals = lo → fo_X E p m c cc maxL s args y.cls meth → fo_Yl p l e R s m args below meth c cc Q E ρ st' → fo_Yx p l e R s m args below meth c Q E ρ st' → ∀ ls : Array Slot, lv_has ls maxL (lv_args 0 av) → fo_S E s st s.heap [] → W p l e R s m args below meth c s.heap [] 0 0 Q (F0 m 0 ls [])) : CXl l E y (ws_ y cc maxL (some .long)) ({ frames := fr, cells := 0, slots := 0, locals := lo }) av st ρ st' :=
  fo_xent hM hn (fun p e s m below meth c X hr hxx ls hl hw => body p e _ s m _ below meth c _ rfl rfl X (fun H locs ls pc v hv hw hd => fx_ret (W.lret X.1.1 X.1.2.1 hr (fun t ht hW => ⟨⟨v, (), rfl, hv, (show wd_ E st' t.heap by rw [ht]; exact hw.1)⟩, hw.2.F ht⟩) hw.2.2.2 hd X.2.2)) hxx ls hl hw)
theorem fex_z {ρ : Int32 ⊕ Nat} (hM : fo_M y n) (hn : (lg_sl av).length ≤ maxL) (body : ∀ (p : Program) (e : Env) (R : Room) (s : State) (m : MethodId) (args : Array Value) (below : List Frame) (meth : Method) (c : Code) (Q : State → Prop), R.frames = fr → R.locals = lo → fo_X E p m c cc maxL s args y.cls meth → fo_Yz p l e R s m args below meth c cc Q E ρ st' → fo_Yx p l e R s m args below meth c Q E ρ st' → ∀ ls : Array Slot, lv_has ls maxL (lv_args 0 av) → fo_S E s st s.heap [] → W p l e R s m args below meth c s.heap [] 0 0 Q (F0 m 0 ls [])) : CXi l E y (ws_ y cc maxL (some .boolean)) ({ frames := fr, cells := 0, slots := 0, locals := lo }) av st ρ st' :=
  fo_xent hM hn (fun p e s m below meth c X hr hxx ls hl hw => body p e _ s m _ below meth c _ rfl rfl X (fun H locs ls pc v hv hw hz hd => fx_ret (W.zret X.1.1 X.1.2.1 hr hz (fun t ht hW => ⟨⟨v, (), rfl, hv, (show wd_ E st' t.heap by rw [ht]; exact hw.1)⟩, hw.2.F ht⟩) hw.2.2.2 hd X.2.2)) hxx ls hl hw)
end FT1
section FT2
variable {p : Program} {l : Launch} {e : Env} {R : Room} {s : State} {m : MethodId} {args : Array Value} {below : List Frame} {meth : Method} {c : Code} {H : Heap} {locs : List Loc} {Q : State → Prop} {cc : ByteArray} {pc : Nat} {ls : Array Slot} {E : fo_E} {st st' : fo_St} {rest : List Value}
theorem fdx_l {v : Int64} {ρ : Int64 ⊕ Nat} (h : fo_Yl p l e R s m args below meth c cc Q E ρ st') (hw : fo_S E s st H locs) (hf : some ((.inl v : Int64 ⊕ Nat), st) = some (ρ, st')) (hd : decode cc pc = .ok (.lreturn, 1)) : W p l e R s m args below meth c H locs 0 0 Q (F0 m pc ls [.long v]) := by
  cases hf; exact h H locs ls pc v rfl hw hd
theorem fdx_z {v : Int32} {ρ : Int32 ⊕ Nat} (h : fo_Yz p l e R s m args below meth c cc Q E ρ st') (hw : fo_S E s st H locs) (hz : narrow .boolean (.int v) = .int v) (hf : some ((.inl v : Int32 ⊕ Nat), st) = some (ρ, st')) (hd : decode cc pc = .ok (.ireturn, 1)) : W p l e R s m args below meth c H locs 0 0 Q (F0 m pc ls [.int v]) := by
  cases hf; exact h H locs ls pc v rfl hw hz hd
theorem fdx_x {β : Type} {n : Nat} {EE : String} {ρ : β ⊕ Nat} (h : fo_Yx p l e R s m args below meth c Q E ρ st') (hT : fo_TX E n EE) (hw : fo_S E s st H locs) (hf : some ((.inr n : β ⊕ Nat), st) = some (ρ, st')) : fx_W p l e R s m args below meth c H locs 0 0 Q (F0 m pc ls rest) (eb E + n) := by
  cases hf; exact h H locs ls pc rest n EE rfl hT hw
end FT2
/-- room by depth -/
def fo_rm (d : Nat) : Room := { frames := d + 6, cells := 0, slots := 0, locals := 60 * d + 400 }
/-- Sum.of and Test.is of the object q, by its class -/
def DSl (l : Launch) (E : fo_E) (d q : Nat) (st : fo_St) (ρ : Int64 ⊕ Nat) (st' : fo_St) : Prop :=
  (et E q = (1, 9) ∧ CXl l E yX11_of (ws_ yX11_of cX11_of 2 (some .long)) (fo_rm d) [.ref (eb E + q), .ref (eb E + 30)] st ρ st') ∨
  (et E q = (1, 10) ∧ CXl l E yX12_of (ws_ yX12_of cX12_of 2 (some .long)) (fo_rm d) [.ref (eb E + q), .ref (eb E + 30)] st ρ st') ∨
  (et E q = (1, 11) ∧ CXl l E yX13_of (ws_ yX13_of cX13_of 8 (some .long)) (fo_rm d) [.ref (eb E + q), .ref (eb E + 30)] st ρ st')
def DTi (l : Launch) (E : fo_E) (d q : Nat) (st : fo_St) (ρ : Int32 ⊕ Nat) (st' : fo_St) : Prop :=
  (et E q = (1, 12) ∧ CXi l E yX15_is (ws_ yX15_is cX15_is 6 (some .boolean)) (fo_rm d) [.ref (eb E + q), .ref (eb E + 30)] st ρ st') ∨
  (et E q = (1, 13) ∧ CXi l E yX16_is (ws_ yX16_is cX16_is 2 (some .boolean)) (fo_rm d) [.ref (eb E + q), .ref (eb E + 30)] st ρ st') ∨
  (et E q = (1, 14) ∧ CXi l E yX17_is (ws_ yX17_is cX17_is 3 (some .boolean)) (fo_rm d) [.ref (eb E + q), .ref (eb E + 30)] st ρ st')
theorem lw_U {own : String} {idx : Nat} {C owner : String} {x y : MethodName} {b : ByteArray} {L : Nat} {r : Option FieldType} (h1 : Cond.methodLink own idx x ∈ lw_all) (h2 : Cond.sameMethod x.cls owner x.name x.desc ∈ lw_all) (h3 : Cond.selects C x y ∈ lw_all) (h4 : Cond.instanceMethod y ∈ lw_all) (h5 : Cond.initialized y.cls ∈ lw_all) (h6 : Cond.code y b L r ∈ lw_all) : GoodIn lw_all (va_wsU own idx C owner x y (ws_ y b L r)) := by
  refine lw_app ?_ (lw_meth h6)
  intro w hw
  simp only [List.mem_cons, List.not_mem_nil, or_false] at hw
  rcases hw with e | e | e | e | e
  · rw [e]; exact h1
  · rw [e]; exact h2
  · rw [e]; exact h3
  · rw [e]; exact h4
  · rw [e]; exact h5
def xSum : MethodName := ⟨"ForestRooms$Sum", "of", "(LForestRooms$Setting;)J"⟩
def xTest : MethodName := ⟨"ForestRooms$Test", "is", "(LForestRooms$Setting;)Z"⟩
section FT3
variable {p : Program} {l : Launch} {e : Env} {R : Room} {s : State} {m : MethodId} {args : Array Value} {below : List Frame} {meth : Method} {c : Code} {H : Heap} {locs : List Loc} {Q : State → Prop}
variable {cc : ByteArray} {nL pc : Nat} {ls : Array Slot} {rest stk : List Value} {own : String} {E : fo_E} {st : fo_St} {α : Type} {y0 : α}
/-- one class's method, found by the receiver -/
theorem fcx_Ul (X : fo_X E p m c cc nL s args own meth) (hw : fo_S E s st H locs) {owner : String} {x y : MethodName} {bytes : ByteArray} {maxL index d q ci : Nat} {qc : vw_C} {ty : Nat → FieldType} (hG : GoodIn lw_all (va_wsU own index qc.1 owner x y (ws_ y bytes maxL (some .long)))) (hz : Cond.declares ⟨owner, x.name, x.desc⟩ ∈ fo_nest) (hd : owner ≠ "java/lang/invoke/MethodHandle" ∧ owner ≠ "java/lang/invoke/VarHandle" ∧ (parseMethodDescriptor x.desc).map (fun d => d.parameters.length) = some 1) (hR : d + 7 ≤ R.frames ∧ 8 + (maxL + 11) + (60 * d + 400) ≤ R.locals) (hc : fo_C ci qc ty) (ht : et E q = (1, ci)) {v : Value} (hsz : ls.size = nL) (hroom : (rest.map fun v => v.category).sum ≤ 8) (hdg : decode cc pc = .ok (.invokevirtual index, 3)) {ρ : Int64 ⊕ Nat} {st1 : fo_St} (hct : CXl l E y (ws_ y bytes maxL (some .long)) (fo_rm d) [.ref (eb E + q), v] st ρ st1)
    (kx : ∀ (n : Nat) (EE : String) (H1 : Heap) (locs1 : List Loc), ρ = .inr n → fo_TX E n EE → fo_S E s st1 H1 locs1 → fx_W p l e R s m args below meth c H1 locs1 0 0 Q (F0 m pc ls rest) (eb E + n))
    (kk : ∀ (r : Int64) (H1 : Heap) (locs1 : List Loc), ρ = .inl r → fo_S E s st1 H1 locs1 → W p l e R s m args below meth c H1 locs1 0 0 Q (F0 m (pc + 3) ls (.long r :: rest))) : W p l e R s m args below meth c H locs 0 0 Q (F0 m pc ls (v :: .ref (eb E + q) :: rest)) := by
  refine fx_calll (fx_runU (As := [v]) (rest := rest) X.1 hct (va_cwA 1 X.1.2.2.2.2 hG rfl rfl rfl (X.2.1.2.1 _ hz) hd hR) ⟨fo_blind, fo_rcv X hw hc ht, fo_pre X hw _⟩ rfl rfl hsz rfl (lv_room hroom) hdg fo_lim) hw.2 (fun q _ h => h) (fun q h => h) (fun q _ h => h) (fun EE ce q9 u t H1 locs1 ht _ _ hB _ _ hS _ _ _ => ?_) (fun r u t H1 locs1 ht _ hr hB _ _ hS => ?_)
  · obtain ⟨n, h1, rfl, h3, h4⟩ := hB
    exact kx n EE H1 locs1 h1 h3 (fo_back hw.2 ht h4 hS)
  · exact kk r H1 locs1 hr (fo_back hw.2 ht hB hS)
theorem fcx_Ui (X : fo_X E p m c cc nL s args own meth) (hw : fo_S E s st H locs) {owner : String} {x y : MethodName} {bytes : ByteArray} {maxL index d q ci : Nat} {qc : vw_C} {ty : Nat → FieldType} (hG : GoodIn lw_all (va_wsU own index qc.1 owner x y (ws_ y bytes maxL (some .boolean)))) (hz : Cond.declares ⟨owner, x.name, x.desc⟩ ∈ fo_nest) (hd : owner ≠ "java/lang/invoke/MethodHandle" ∧ owner ≠ "java/lang/invoke/VarHandle" ∧ (parseMethodDescriptor x.desc).map (fun d => d.parameters.length) = some 1) (hR : d + 7 ≤ R.frames ∧ 8 + (maxL + 11) + (60 * d + 400) ≤ R.locals) (hc : fo_C ci qc ty) (ht : et E q = (1, ci)) {v : Value} (hsz : ls.size = nL) (hroom : (rest.map fun v => v.category).sum ≤ 8) (hdg : decode cc pc = .ok (.invokevirtual index, 3)) {ρ : Int32 ⊕ Nat} {st1 : fo_St} (hct : CXi l E y (ws_ y bytes maxL (some .boolean)) (fo_rm d) [.ref (eb E + q), v] st ρ st1)
    (kx : ∀ (n : Nat) (EE : String) (H1 : Heap) (locs1 : List Loc), ρ = .inr n → fo_TX E n EE → fo_S E s st1 H1 locs1 → fx_W p l e R s m args below meth c H1 locs1 0 0 Q (F0 m pc ls rest) (eb E + n))
    (kk : ∀ (r : Int32) (H1 : Heap) (locs1 : List Loc), ρ = .inl r → fo_S E s st1 H1 locs1 → W p l e R s m args below meth c H1 locs1 0 0 Q (F0 m (pc + 3) ls (.int r :: rest))) : W p l e R s m args below meth c H locs 0 0 Q (F0 m pc ls (v :: .ref (eb E + q) :: rest)) := by
  refine fx_calli (fx_runU (As := [v]) (rest := rest) X.1 hct (va_cwA 1 X.1.2.2.2.2 hG rfl rfl rfl (X.2.1.2.1 _ hz) hd hR) ⟨fo_blind, fo_rcv X hw hc ht, fo_pre X hw _⟩ rfl rfl hsz rfl (lv_room hroom) hdg fo_lim) hw.2 (fun q _ h => h) (fun q h => h) (fun q _ h => h) (fun EE ce q9 u t H1 locs1 ht _ _ hB _ _ hS _ _ _ => ?_) (fun r u t H1 locs1 ht _ hr hB _ _ hS => ?_)
  · obtain ⟨n, h1, rfl, h3, h4⟩ := hB
    exact kx n EE H1 locs1 h1 h3 (fo_back hw.2 ht h4 hS)
  · exact kk r H1 locs1 hr (fo_back hw.2 ht hB hS)
/-- Sum.of(setting), Test.is(setting) of whatever object -/
theorem fc_sum (X : fo_X E p m c cc nL s args own meth) (hw : fo_S E s st H locs) {index d q : Nat} (hlink : Cond.methodLink own index xSum ∈ lw_all) (hR : d + 7 ≤ R.frames ∧ 60 * d + 460 ≤ R.locals) (hsz : ls.size = nL) (hroom : (rest.map fun v => v.category).sum ≤ 8) (hdg : decode cc pc = .ok (.invokevirtual index, 3)) {o : Option ((Int64 ⊕ Nat) × fo_St)} {kf : Int64 → fo_St → Option α} {hh : Nat → fo_St → Option α} (hct : ∀ (ρ : Int64 ⊕ Nat) (st1 : fo_St), o = some (ρ, st1) → DSl l E d q st ρ st1) (hf : bx_ o kf hh = some y0)
    (kx : ∀ (n : Nat) (EE : String) (st1 : fo_St) (H1 : Heap) (locs1 : List Loc), fo_TX E n EE → fo_S E s st1 H1 locs1 → hh n st1 = some y0 → fx_W p l e R s m args below meth c H1 locs1 0 0 Q (F0 m pc ls rest) (eb E + n))
    (kk : ∀ (r : Int64) (st1 : fo_St) (H1 : Heap) (locs1 : List Loc), fo_S E s st1 H1 locs1 → kf r st1 = some y0 → W p l e R s m args below meth c H1 locs1 0 0 Q (F0 m (pc + 3) ls (.long r :: rest))) : W p l e R s m args below meth c H locs 0 0 Q (F0 m pc ls (.ref (eb E + 30) :: .ref (eb E + q) :: rest)) := by
  obtain ⟨ρ, st1, ho, hfx, hfk⟩ : ∃ ρ st1, o = some (ρ, st1) ∧ (∀ n, ρ = .inr n → hh n st1 = some y0) ∧ ∀ r, ρ = .inl r → kf r st1 = some y0 := by
    rcases bx_e hf with ⟨r, st1, h1, h2⟩ | ⟨n, st1, h1, h2⟩
    · exact ⟨_, st1, h1, fun n h => (by cases h), fun r' h => (by cases h; exact h2)⟩
    · exact ⟨_, st1, h1, fun n' h => (by cases h; exact h2), fun r h => (by cases h)⟩
  rcases hct ρ st1 ho with ⟨ht, hc⟩ | ⟨ht, hc⟩ | ⟨ht, hc⟩
  · exact fcx_Ul (owner := "ForestRooms$Sum") (x := xSum) X hw (lw_U hlink q625 q626 q627 q133 q628) fn624 (by decide +kernel) ⟨hR.1, by have := hR.2; omega⟩ fc_X11 ht hsz hroom hdg hc (fun n EE H1 locs1 h1 h2 h3 => kx n EE st1 H1 locs1 h2 h3 (hfx n h1)) (fun r H1 locs1 h1 h2 => kk r st1 H1 locs1 h2 (hfk r h1))
  · exact fcx_Ul (owner := "ForestRooms$Sum") (x := xSum) X hw (lw_U hlink q625 q637 q633 q134 q634) fn624 (by decide +kernel) ⟨hR.1, by have := hR.2; omega⟩ fc_X12 ht hsz hroom hdg hc (fun n EE H1 locs1 h1 h2 h3 => kx n EE st1 H1 locs1 h2 h3 (hfx n h1)) (fun r H1 locs1 h1 h2 => kk r st1 H1 locs1 h2 (hfk r h1))
  · exact fcx_Ul (owner := "ForestRooms$Sum") (x := xSum) X hw (lw_U hlink q625 q629 q630 q135 q631) fn624 (by decide +kernel) ⟨hR.1, by have := hR.2; omega⟩ fc_X13 ht hsz hroom hdg hc (fun n EE H1 locs1 h1 h2 h3 => kx n EE st1 H1 locs1 h2 h3 (hfx n h1)) (fun r H1 locs1 h1 h2 => kk r st1 H1 locs1 h2 (hfk r h1))
theorem fc_test (X : fo_X E p m c cc nL s args own meth) (hw : fo_S E s st H locs) {index d q : Nat} (hlink : Cond.methodLink own index xTest ∈ lw_all) (hR : d + 7 ≤ R.frames ∧ 60 * d + 460 ≤ R.locals) (hsz : ls.size = nL) (hroom : (rest.map fun v => v.category).sum ≤ 8) (hdg : decode cc pc = .ok (.invokevirtual index, 3)) {o : Option ((Int32 ⊕ Nat) × fo_St)} {kf : Int32 → fo_St → Option α} {hh : Nat → fo_St → Option α} (hct : ∀ (ρ : Int32 ⊕ Nat) (st1 : fo_St), o = some (ρ, st1) → DTi l E d q st ρ st1) (hf : bx_ o kf hh = some y0)
    (kx : ∀ (n : Nat) (EE : String) (st1 : fo_St) (H1 : Heap) (locs1 : List Loc), fo_TX E n EE → fo_S E s st1 H1 locs1 → hh n st1 = some y0 → fx_W p l e R s m args below meth c H1 locs1 0 0 Q (F0 m pc ls rest) (eb E + n))
    (kk : ∀ (r : Int32) (st1 : fo_St) (H1 : Heap) (locs1 : List Loc), fo_S E s st1 H1 locs1 → kf r st1 = some y0 → W p l e R s m args below meth c H1 locs1 0 0 Q (F0 m (pc + 3) ls (.int r :: rest))) : W p l e R s m args below meth c H locs 0 0 Q (F0 m pc ls (.ref (eb E + 30) :: .ref (eb E + q) :: rest)) := by
  obtain ⟨ρ, st1, ho, hfx, hfk⟩ : ∃ ρ st1, o = some (ρ, st1) ∧ (∀ n, ρ = .inr n → hh n st1 = some y0) ∧ ∀ r, ρ = .inl r → kf r st1 = some y0 := by
    rcases bx_e hf with ⟨r, st1, h1, h2⟩ | ⟨n, st1, h1, h2⟩
    · exact ⟨_, st1, h1, fun n h => (by cases h), fun r' h => (by cases h; exact h2)⟩
    · exact ⟨_, st1, h1, fun n' h => (by cases h; exact h2), fun r h => (by cases h)⟩
  rcases hct ρ st1 ho with ⟨ht, hc⟩ | ⟨ht, hc⟩ | ⟨ht, hc⟩
  · exact fcx_Ui (owner := "ForestRooms$Test") (x := xTest) X hw (lw_U hlink q619 q620 q621 q137 q622) fn618 (by decide +kernel) ⟨hR.1, by have := hR.2; omega⟩ fc_X15 ht hsz hroom hdg hc (fun n EE H1 locs1 h1 h2 h3 => kx n EE st1 H1 locs1 h2 h3 (hfx n h1)) (fun r H1 locs1 h1 h2 => kk r st1 H1 locs1 h2 (hfk r h1))
  · exact fcx_Ui (owner := "ForestRooms$Test") (x := xTest) X hw (lw_U hlink q619 q638 q639 q138 q640) fn618 (by decide +kernel) ⟨hR.1, by have := hR.2; omega⟩ fc_X16 ht hsz hroom hdg hc (fun n EE H1 locs1 h1 h2 h3 => kx n EE st1 H1 locs1 h2 h3 (hfx n h1)) (fun r H1 locs1 h1 h2 => kk r st1 H1 locs1 h2 (hfk r h1))
  · exact fcx_Ui (owner := "ForestRooms$Test") (x := xTest) X hw (lw_U hlink q619 q648 q642 q139 q643) fn618 (by decide +kernel) ⟨hR.1, by have := hR.2; omega⟩ fc_X17 ht hsz hroom hdg hc (fun n EE H1 locs1 h1 h2 h3 => kx n EE st1 H1 locs1 h2 h3 (hfx n h1)) (fun r H1 locs1 h1 h2 => kk r st1 H1 locs1 h2 (hfk r h1))
end FT3
section FT4
variable {p : Program} {l : Launch} {e : Env} {R : Room} {s : State} {m : MethodId} {args : Array Value} {below : List Frame} {meth : Method} {c : Code} {H : Heap} {locs : List Loc} {cells slots : Nat} {Q : State → Prop}
variable {cc : ByteArray} {nL pc : Nat} {ls : Array Slot} {rest stk : List Value} {own : String} {E : fo_E} {st : fo_St} {α : Type} {y0 : α}
/-- a cast to Test of any test -/
theorem fo_castT (X : fo_X E p m c cc nL s args own meth) (hw : fo_S E s st H locs) {q index : Nat} (ht : et E q = (1, 12) ∨ et E q = (1, 13) ∨ et E q = (1, 14)) (hlink : Cond.classLink own index "ForestRooms$Test" ∈ lw_all) (hdg : decode cc pc = .ok (.checkcast index, 3))
    (kk : W p l e R s m args below meth c H locs cells slots Q (F0 m (pc + 3) ls (.ref (eb E + q) :: rest))) : W p l e R s m args below meth c H locs cells slots Q (F0 m pc ls (.ref (eb E + q) :: rest)) := by
  rcases ht with ht | ht | ht
  · exact va_castY X.1.1 X.1.2.1 X.1.2.2.2.1 (X.1.2.2.2.2 _ hlink) (X.2.1.2.1 _ fn2238) (fo_rcv X hw fc_X15 ht) hdg kk
  · exact va_castY X.1.1 X.1.2.1 X.1.2.2.2.1 (X.1.2.2.2.2 _ hlink) (X.2.1.2.1 _ fn2239) (fo_rcv X hw fc_X16 ht) hdg kk
  · exact va_castY X.1.1 X.1.2.1 X.1.2.2.2.1 (X.1.2.2.2.2 _ hlink) (X.2.1.2.1 _ fn2240) (fo_rcv X hw fc_X17 ht) hdg kk
/-- a reference field is read, and asked whether it is null -/
theorem fo_nul (X : fo_X E p m c cc nL s args own meth) (hw : fo_S E s st H locs) {n k ci index tgt : Nat} {off : Int} {q : vw_C} {ty : Nat → FieldType} (hc : fo_C ci q ty) (ht : et E n = (1, ci)) (hk : k < q.2.2) (hkd : (fo_sh ci).getD k 0 = 2) (hlink : Cond.fieldLink own index (q.2.1 k).1 (q.2.1 k).2.1 (q.2.1 k).2.2.1 ∈ lw_all) (hdg : decode cc pc = .ok (.getfield index, 3)) (hd2 : decode cc (pc + 3) = .ok (.ifnull off, 3)) (htg : ((pc + 3 : Nat) : Int) + off = (tgt : Int)) {t f : Option α} (hf : (if gr_ st n k = none then t else f) = some y0)
    (kt : t = some y0 → W p l e R s m args below meth c H locs cells slots Q (F0 m tgt ls rest)) (kf : f = some y0 → W p l e R s m args below meth c H locs cells slots Q (F0 m (pc + 3 + 3) ls rest)) : W p l e R s m args below meth c H locs cells slots Q (F0 m pc ls (.ref (eb E + n) :: rest)) := by
  cases hv : gr_ st n k with
  | none =>
    rw [if_pos hv] at hf
    exact fo_getv X hw hc ht hk hlink (v := .null) (by rw [hkd]; show va_rf ((gr_ st n k).map _) = _; rw [hv]; rfl) hdg (lv_ifnullN X.1.1 X.1.2.1 hd2 htg (kt hf))
  | some v =>
    rw [if_neg (by rw [hv]; exact fun h => by cases h)] at hf
    exact fo_getv X hw hc ht hk hlink (v := .ref (eb E + v)) (by rw [hkd]; show va_rf ((gr_ st n k).map _) = _; rw [hv]; rfl) hdg (lv_ifnull X.1.1 X.1.2.1 hd2 (kf hf))
theorem fo_nnul (X : fo_X E p m c cc nL s args own meth) (hw : fo_S E s st H locs) {n k ci index tgt : Nat} {off : Int} {q : vw_C} {ty : Nat → FieldType} (hc : fo_C ci q ty) (ht : et E n = (1, ci)) (hk : k < q.2.2) (hkd : (fo_sh ci).getD k 0 = 2) (hlink : Cond.fieldLink own index (q.2.1 k).1 (q.2.1 k).2.1 (q.2.1 k).2.2.1 ∈ lw_all) (hdg : decode cc pc = .ok (.getfield index, 3)) (hd2 : decode cc (pc + 3) = .ok (.ifnonnull off, 3)) (htg : ((pc + 3 : Nat) : Int) + off = (tgt : Int)) {t f : Option α} (hf : (if ¬ gr_ st n k = none then t else f) = some y0)
    (kt : t = some y0 → W p l e R s m args below meth c H locs cells slots Q (F0 m tgt ls rest)) (kf : f = some y0 → W p l e R s m args below meth c H locs cells slots Q (F0 m (pc + 3 + 3) ls rest)) : W p l e R s m args below meth c H locs cells slots Q (F0 m pc ls (.ref (eb E + n) :: rest)) := by
  cases hv : gr_ st n k with
  | none =>
    rw [if_neg (fun h => h hv)] at hf
    exact fo_getv X hw hc ht hk hlink (v := .null) (by rw [hkd]; show va_rf ((gr_ st n k).map _) = _; rw [hv]; rfl) hdg (lv_ifnonnullN X.1.1 X.1.2.1 hd2 (kf hf))
  | some v =>
    rw [if_pos (by rw [hv]; exact fun h => by cases h)] at hf
    exact fo_getv X hw hc ht hk hlink (v := .ref (eb E + v)) (by rw [hkd]; show va_rf ((gr_ st n k).map _) = _; rw [hv]; rfl) hdg (lv_ifnonnull X.1.1 X.1.2.1 hd2 htg (kt hf))
/-- what is thrown is caught here -/
theorem fh_catch (X : fo_X E p m c cc nL s args own meth) (hw : fo_S E s st H locs) {hh : List (Nat × Nat × Nat × Nat)} (htab : c.exceptionTable.toList = tableOf hh) (i : Nat) {x : Nat × Nat × Nat × Nat} (hi : hh[i]? = some x) (hpass : (hh.take i).all (fun z => !(decide (z.1 ≤ pc) && decide (pc < z.2.1))) = true) (hcov : (decide (x.1 ≤ pc) && decide (pc < x.2.1)) = true) (h0 : x.2.2.2 ≠ 0) {n ci : Nat} {q : vw_C} {ty : Nat → FieldType} (hc : fo_C ci q ty) (hlink : Cond.classLink own x.2.2.2 q.1 ∈ lw_all) (hcast : Cond.castable q.1 q.1 ∈ fo_nest) (ht : et E n = (1, ci))
    (kk : W p l e R s m args below meth c H locs cells slots Q (F0 m x.2.2.1 ls [.ref (eb E + n)])) : fx_W p l e R s m args below meth c H locs cells slots Q (F0 m pc ls rest) (eb E + n) := by
  obtain ⟨r, r1, cell, q1, q2, q3, q4⟩ := fo_ob hw ht 0 _ rfl
  have hl := List.getElem?_eq_some_iff.mp hi
  have hsplit : hh = hh.take i ++ x :: hh.drop (i + 1) := by
    have h1 : hh.drop i = x :: hh.drop (i + 1) := by rw [List.drop_eq_getElem_cons hl.1, hl.2]
    rw [← h1, List.take_append_drop]
  refine fx_catch X.1.2.2.2.1 (tableOf (hh.take i)) ⟨x.1, x.2.1, x.2.2.1, x.2.2.2⟩ (tableOf (hh.drop (i + 1))) ?_ ?_ hcov h0 (X.1.2.2.2.2 _ hlink) (va_Nw.use rfl (X.2.1.2.1 _ hcast)) q1 q3 ?_ kk
  · rw [htab]
    conv => lhs; rw [hsplit]
    unfold tableOf
    rw [List.map_append, List.map_cons]
  · intro z hz
    obtain ⟨w, hw1, rfl⟩ := List.mem_map.mp hz
    have h3 := List.all_eq_true.mp hpass w hw1
    refine Or.inl ?_
    simp only [Bool.not_eq_true', Bool.and_eq_false_iff, decide_eq_false_iff_not] at h3
    simp only [covers, Bool.and_eq_false_iff, decide_eq_false_iff_not]
    exact h3
  · rw [q2]
    exact (X.2.1.1.1 ci q hc.1).2.1
variable {y : MethodName} {bytes : ByteArray} {maxL n index : Nat} {ret : Option FieldType} {rm : Room} {hh : List (Nat × Nat × Nat × Nat)}
/-- calls of methods with handlers -/
theorem fc_VlW (X : fo_X E p m c cc nL s args own meth) (hw : fo_S E s st H locs) (hM : fo_M y n) (hG : GoodIn lw_all (wsV own index y.cls y (wsW_ y bytes maxL ret hh))) (hrm : rm.cells = 0 ∧ rm.slots = 0) (hR : rm.frames + 1 ≤ R.frames ∧ 8 + (maxL + 11) + rm.locals ≤ R.locals) {n0 ci : Nat} {q : vw_C} {ty : Nat → FieldType} (hc : fo_C ci q ty) (hq : q.1 = y.cls) (ht : et E n0 = (1, ci)) {As : List Value} (hn : As.length = n) (hstk : stk = As.reverse ++ .ref (eb E + n0) :: rest) (hsz : ls.size = nL) (hroom : (rest.map fun v => v.category).sum ≤ 8) (hdg : decode cc pc = .ok (.invokevirtual index, 3)) {o : Option (Int64 × fo_St)} {kf : Int64 → fo_St → Option α} (hct : ∀ (r : Int64) (st1 : fo_St), o = some (r, st1) → CTl l E y (wsW_ y bytes maxL ret hh) rm (.ref (eb E + n0) :: As) st r st1) (hf : bd_ o kf = some y0)
    (kk : ∀ (r : Int64) (st1 : fo_St) (H1 : Heap) (locs1 : List Loc), fo_S E s st1 H1 locs1 → kf r st1 = some y0 → W p l e R s m args below meth c H1 locs1 0 0 Q (F0 m (pc + 3) ls (.long r :: rest))) : W p l e R s m args below meth c H locs 0 0 Q (F0 m pc ls stk) := by
  obtain ⟨r1, st1, ho, hf⟩ := bd_e hf
  subst hstk
  refine va_calll (fx_runVW X.1 (hct r1 st1 ho) (fx_cwVW n X.1.2.2.2.2 hG rfl hrm.1 hrm.2 ⟨rfl, hM.2⟩ hR) ⟨fo_blind, by rw [← hq]; exact fo_rcv X hw hc ht, fo_pre X hw _⟩ rfl hn hsz rfl (lv_room hroom) hdg fo_lim) hw.2 (fun q _ h => h) (fun q h => h) (fun r u t H1 locs1 ht _ hr hB _ _ hS => ?_)
  subst hr
  exact kk r st1 H1 locs1 (fo_back hw.2 ht hB hS) hf
theorem fc_ViW (X : fo_X E p m c cc nL s args own meth) (hw : fo_S E s st H locs) (hM : fo_M y n) (hG : GoodIn lw_all (wsV own index y.cls y (wsW_ y bytes maxL ret hh))) (hrm : rm.cells = 0 ∧ rm.slots = 0) (hR : rm.frames + 1 ≤ R.frames ∧ 8 + (maxL + 11) + rm.locals ≤ R.locals) {n0 ci : Nat} {q : vw_C} {ty : Nat → FieldType} (hc : fo_C ci q ty) (hq : q.1 = y.cls) (ht : et E n0 = (1, ci)) {As : List Value} (hn : As.length = n) (hstk : stk = As.reverse ++ .ref (eb E + n0) :: rest) (hsz : ls.size = nL) (hroom : (rest.map fun v => v.category).sum ≤ 8) (hdg : decode cc pc = .ok (.invokevirtual index, 3)) {o : Option (Int32 × fo_St)} {kf : Int32 → fo_St → Option α} (hct : ∀ (r : Int32) (st1 : fo_St), o = some (r, st1) → CTi l E y (wsW_ y bytes maxL ret hh) rm (.ref (eb E + n0) :: As) st r st1) (hf : bd_ o kf = some y0)
    (kk : ∀ (r : Int32) (st1 : fo_St) (H1 : Heap) (locs1 : List Loc), fo_S E s st1 H1 locs1 → kf r st1 = some y0 → W p l e R s m args below meth c H1 locs1 0 0 Q (F0 m (pc + 3) ls (.int r :: rest))) : W p l e R s m args below meth c H locs 0 0 Q (F0 m pc ls stk) := by
  obtain ⟨r1, st1, ho, hf⟩ := bd_e hf
  subst hstk
  refine va_calli (fx_runVW X.1 (hct r1 st1 ho) (fx_cwVW n X.1.2.2.2.2 hG rfl hrm.1 hrm.2 ⟨rfl, hM.2⟩ hR) ⟨fo_blind, by rw [← hq]; exact fo_rcv X hw hc ht, fo_pre X hw _⟩ rfl hn hsz rfl (lv_room hroom) hdg fo_lim) hw.2 (fun q _ h => h) (fun q h => h) (fun r u t H1 locs1 ht _ hr hB _ _ hS => ?_)
  subst hr
  exact kk r st1 H1 locs1 (fo_back hw.2 ht hB hS) hf
theorem fc_SiW (X : fo_X E p m c cc nL s args own meth) (hw : fo_S E s st H locs) (hM : fo_M y n) (hG : GoodIn lw_all (va_wsS own index y (wsW_ y bytes maxL ret hh))) (hrm : rm.cells = 0 ∧ rm.slots = 0) (hR : rm.frames + 1 ≤ R.frames ∧ 8 + (maxL + 11) + rm.locals ≤ R.locals) {As : List Value} (hn : As.length = n) (hstk : stk = As.reverse ++ rest) (hsz : ls.size = nL) (hroom : (rest.map fun v => v.category).sum ≤ 8) (hdg : decode cc pc = .ok (.invokestatic index, 3)) {o : Option (Int32 × fo_St)} {kf : Int32 → fo_St → Option α} (hct : ∀ (r : Int32) (st1 : fo_St), o = some (r, st1) → CTi l E y (wsW_ y bytes maxL ret hh) rm As st r st1) (hf : bd_ o kf = some y0)
    (kk : ∀ (r : Int32) (st1 : fo_St) (H1 : Heap) (locs1 : List Loc), fo_S E s st1 H1 locs1 → kf r st1 = some y0 → W p l e R s m args below meth c H1 locs1 0 0 Q (F0 m (pc + 3) ls (.int r :: rest))) : W p l e R s m args below meth c H locs 0 0 Q (F0 m pc ls stk) := by
  obtain ⟨r1, st1, ho, hf⟩ := bd_e hf
  subst hstk
  refine va_calli (fx_runSW X.1 (hct r1 st1 ho) (fx_cwSW n X.1.2.2.2.2 hG rfl hrm.1 hrm.2 hM.2 hR) ⟨fo_blind, fo_pre X hw _⟩ rfl hn hsz rfl (lv_room hroom) hdg fo_lim) hw.2 (fun q _ h => h) (fun q h => h) (fun r u t H1 locs1 ht _ hr hB _ _ hS => ?_)
  subst hr
  exact kk r st1 H1 locs1 (fo_back hw.2 ht hB hS) hf
end FT4
/-- a method with handlers that itself throws nothing: its entry -/
theorem fo_entW {l : Launch} {E : fo_E} {y : MethodName} {cc : ByteArray} {maxL n : Nat} {ret : Option FieldType} {rm : Room} {hh : List (Nat × Nat × Nat × Nat)} {av : List Value} {st : fo_St} {Qc : Array Value → State → Outcome → State → Prop} (hM : fo_M y n) (hn : (lg_sl av).length ≤ maxL)
    (body : ∀ (p : Program) (e : Env) (s : State) (m : MethodId) (below : List Frame) (meth : Method) (c : Code), fo_X E p m c cc maxL s av.toArray y.cls meth → c.exceptionTable.toList = tableOf hh → meth.sig.returnType = ret → ∀ ls : Array Slot, lv_has ls maxL (lv_args 0 av) → fo_S E s st s.heap [] → W p l e (headSpec (wsW_ y cc maxL ret hh) rm).room s m av.toArray below meth c s.heap [] 0 0 (MQ below Qc av.toArray s 0 0 (eF E)) (F0 m 0 ls [])) : Met l y (wsW_ y cc maxL ret hh) rm (va_Pc av (fun U => wd_ E st U.heap ∧ fo_K E U)) Qc 0 0 (eF E) := by
  refine MetFree.of_bodyS (code := cc) (maxLocals := maxL) (ret := ret) hM.1 ?_ ?_
  · intro args s m h hn
    obtain ⟨m9, meth, c, hn9, h1, h2, h3, h4, -, h5, h6, -⟩ := Cond.codeWith_spec (atoms_spec (ws := wsW_ y cc maxL ret hh) h _ List.mem_cons_self)
    cases hn.symm.trans hn9
    exact ⟨meth, c, h1, h2, h3, h4, h5, h6⟩
  · intro p e s m args below meth c s₁ B hml hv _
    obtain ⟨rfl, hw, hK⟩ := hv
    have hh0 : s₁.heap = s.heap := by rw [B.state]; rfl
    have hts0 := atoms_spec (ws := wsW_ y cc maxL ret hh) B.pre
    have hts : ∀ w ∈ lw_all, w.before _ s = true := fun w h => hts0 w (List.mem_cons_of_mem _ h)
    have hown : s.vm.findClass y.cls = some m.cls := findClass_of_methodNamed B.named
    have htab := fx_table (x := y) (y := y) (hh := hh) B (hts0 _ List.mem_cons_self)
    have h9 := body p e s m below meth c ⟨⟨B.exec, B.bytes, hml, hown, hts⟩, hK, B.notSynchronized⟩ htab B.returns _ (lv_entry av hn) ⟨hw, va_S.rf⟩
    rw [← lg_entry_eq] at h9
    obtain ⟨t, a1, o, b1, b2, b3⟩ := h9 s₁ hh0 (Stand.of_body B)
    exact ⟨t, o, a1, b1, b2, ⟨b3.1, b3.2⟩⟩
section FT5
variable {l : Launch} {E : fo_E} {y : MethodName} {cc : ByteArray} {maxL n fr lo : Nat} {av : List Value} {st st' : fo_St} {hh : List (Nat × Nat × Nat × Nat)}
theorem feh_i {r : Int32} (hM : fo_M y n) (hn : (lg_sl av).length ≤ maxL) (body : ∀ (p : Program) (e : Env) (R : Room) (s : State) (m : MethodId) (args : Array Value) (below : List Frame) (meth : Method) (c : Code) (Q : State → Prop), R.frames = fr → R.locals = lo → fo_X E p m c cc maxL s args y.cls meth → c.exceptionTable.toList = tableOf hh → fo_Ei p l e R s m args below meth c cc Q E r st' → ∀ ls : Array Slot, lv_has ls maxL (lv_args 0 av) → fo_S E s st s.heap [] → W p l e R s m args below meth c s.heap [] 0 0 Q (F0 m 0 ls [])) : CTi l E y (wsW_ y cc maxL (some .int) hh) ({ frames := fr, cells := 0, slots := 0, locals := lo }) av st r st' :=
  fo_entW hM hn (fun p e s m below meth c X htab hr ls hl hw => body p e _ s m _ below meth c _ rfl rfl X htab (fun H locs ls pc hw hd => fr_i X hr hw rfl hd) ls hl hw)
theorem feh_z {r : Int32} (hM : fo_M y n) (hn : (lg_sl av).length ≤ maxL) (body : ∀ (p : Program) (e : Env) (R : Room) (s : State) (m : MethodId) (args : Array Value) (below : List Frame) (meth : Method) (c : Code) (Q : State → Prop), R.frames = fr → R.locals = lo → fo_X E p m c cc maxL s args y.cls meth → c.exceptionTable.toList = tableOf hh → fo_Ez p l e R s m args below meth c cc Q E r st' → ∀ ls : Array Slot, lv_has ls maxL (lv_args 0 av) → fo_S E s st s.heap [] → W p l e R s m args below meth c s.heap [] 0 0 Q (F0 m 0 ls [])) : CTi l E y (wsW_ y cc maxL (some .boolean) hh) ({ frames := fr, cells := 0, slots := 0, locals := lo }) av st r st' :=
  fo_entW hM hn (fun p e s m below meth c X htab hr ls hl hw => body p e _ s m _ below meth c _ rfl rfl X htab (fun H locs ls pc hw hz hd => fr_z X hr hw hz rfl hd) ls hl hw)
theorem feh_l {r : Int64} (hM : fo_M y n) (hn : (lg_sl av).length ≤ maxL) (body : ∀ (p : Program) (e : Env) (R : Room) (s : State) (m : MethodId) (args : Array Value) (below : List Frame) (meth : Method) (c : Code) (Q : State → Prop), R.frames = fr → R.locals = lo → fo_X E p m c cc maxL s args y.cls meth → c.exceptionTable.toList = tableOf hh → fo_El p l e R s m args below meth c cc Q E r st' → ∀ ls : Array Slot, lv_has ls maxL (lv_args 0 av) → fo_S E s st s.heap [] → W p l e R s m args below meth c s.heap [] 0 0 Q (F0 m 0 ls [])) : CTl l E y (wsW_ y cc maxL (some .long) hh) ({ frames := fr, cells := 0, slots := 0, locals := lo }) av st r st' :=
  fo_entW hM hn (fun p e s m below meth c X htab hr ls hl hw => body p e _ s m _ below meth c _ rfl rfl X htab (fun H locs ls pc hw hd => fr_l X hr hw rfl hd) ls hl hw)
end FT5
