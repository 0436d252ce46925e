/-! handlers in methods that make cells, interface calls, arrays of objects -/
set_option maxRecDepth 100000
section FJ1
variable {p : Program} {l : Launch} {e : Env} {R : Room} {s : State} {m : MethodId} {args : Array Value} {below : List Frame} {meth : Method} {c : Code} {H : Heap} {locs : List Loc} {Q : State → Prop}
variable {cc : ByteArray} {nL pc : Nat} {ls : Array Slot} {rest stk : List Value} {own : String} {E : fo_E} {st : fo_St} {α β : Type} {y0 : α} {cN cS nx ns : Nat} {tg : Nat → Nat × Nat} {a0 a1 : fo_A}
variable {y : MethodName} {bytes : ByteArray} {maxL n index fr lo : Nat} {ret : Option FieldType} {val : β → Option Value} {hh : List (Nat × Nat × Nat × Nat)}
theorem fa_VX {hb9 : List (Nat × Nat × Nat × Nat)} (X : fo_X E p m c cc nL s args own meth) (hZ : fo_Z E R s cN cS a0 tg nx ns st H locs) (hM : fo_M y n) (hG : GoodIn lw_all (wsV own index y.cls y (wsW_ y bytes maxL ret hb9))) (hR : fr + 1 ≤ R.frames ∧ 8 + (maxL + 11) + lo ≤ R.locals) {n0 ci : Nat} {q : vw_C} {ty : Nat → FieldType} (hc : fo_C ci q ty) (hq : q.1 = y.cls) (ht : tg n0 = (1, ci)) {As : List Value} (hn : As.length = n) (hstk : stk = As.reverse ++ .ref (eb E + n0) :: rest) (hsz : ls.size = nL) (hroom : (rest.map fun v => v.category).sum ≤ 8) (hdg : decode cc pc = .ok (.invokevirtual index, 3)) {o : Option ((β ⊕ Nat) × fo_A)} {kf : β → (Nat → Nat × Nat) → Nat → Nat → fo_St → Option α} {hh : Nat → (Nat → Nat × Nat) → Nat → Nat → fo_St → Option α} (hct : ∀ (ρ : β ⊕ Nat) (a1 : fo_A), o = some (ρ, a1) → CA val l E y (wsW_ y bytes maxL ret hb9) fr lo cN cS (.ref (eb E + n0) :: As) (tg, nx, ns, st) ρ a1) (hf : ba_ o kf hh = some y0)
    (kx : ∀ (n : Nat) (EE : String) (tg1 : Nat → Nat × Nat) (nx1 ns1 : Nat) (st1 : fo_St) (H1 : Heap) (locs1 : List Loc), fo_TX (eW E tg1 nx1) n EE → fo_x tg nx tg1 nx1 → fo_Z E R s cN cS a0 tg1 nx1 ns1 st1 H1 locs1 → hh n tg1 nx1 ns1 st1 = some y0 → fx_W p l e R s m args below meth c H1 locs1 (nx1 - a0.2.1) (ns1 - a0.2.2.1) Q (F0 m pc ls rest) (eb E + n))
    (kk : ∀ (r : β) (tg1 : Nat → Nat × Nat) (nx1 ns1 : Nat) (st1 : fo_St) (H1 : Heap) (locs1 : List Loc), fo_x tg nx tg1 nx1 → fo_Z E R s cN cS a0 tg1 nx1 ns1 st1 H1 locs1 → kf r tg1 nx1 ns1 st1 = some y0 → W p l e R s m args below meth c H1 locs1 (nx1 - a0.2.1) (ns1 - a0.2.2.1) Q (F0 m (pc + 3) ls ((val r).toList ++ rest))) : W p l e R s m args below meth c H locs (nx - a0.2.1) (ns - a0.2.2.1) Q (F0 m pc ls stk) := by
  obtain ⟨ρ, a1, ho, hk, hx⟩ := ba_e hf
  subst hstk
  exact fa_run hZ (gx_runVX X.1 (hct ρ a1 ho) (fx_cwVW n X.1.2.2.2.2 hG rfl rfl rfl ⟨rfl, hM.2⟩ hR) ⟨fo_blind (E := eW E tg nx), by rw [← hq]; exact fo_rcv (fo_Xw X) hZ.1 hc ht, fo_pre (fo_Xw X) hZ.1 _⟩ rfl hn hsz rfl (lv_room hroom) hdg hZ.lims) (fun n EE H1 locs1 h1 h2 h3 h4 => kx n EE _ _ _ _ H1 locs1 h2 h3 h4 (hx n h1)) (fun r H1 locs1 h1 h2 h3 => kk r _ _ _ _ H1 locs1 h2 h3 (hk r h1))
theorem fa_run5 {val : β → Option Value} {ρ : β ⊕ Nat} {av : Array Value} (hZ : fo_Z E R s cN cS a0 tg nx ns st H locs) (hr : fx_Run5 p l e R s m args below meth c H locs (nx - a0.2.1) (ns - a0.2.2.1) (a1.2.1 - nx) (a1.2.2.1 - ns) (F0 m pc ls stk) rest (fo_QA val E cN cS (tg, nx, ns, st) a1 ρ av) (fo_XA E cN cS (tg, nx, ns, st) a1 ρ) (eF E))
    (kx : ∀ (n : Nat) (EE : String) (H1 : Heap) (locs1 : List Loc), ρ = .inr n → fo_TX (eW E a1.1 a1.2.1) n EE → fo_x tg nx a1.1 a1.2.1 → fo_Z E R s cN cS a0 a1.1 a1.2.1 a1.2.2.1 a1.2.2.2 H1 locs1 → fx_W p l e R s m args below meth c H1 locs1 (a1.2.1 - a0.2.1) (a1.2.2.1 - a0.2.2.1) Q (F0 m pc ls rest) (eb E + n))
    (kk : ∀ (r : β) (H1 : Heap) (locs1 : List Loc), ρ = .inl r → fo_x tg nx a1.1 a1.2.1 → fo_Z E R s cN cS a0 a1.1 a1.2.1 a1.2.2.1 a1.2.2.2 H1 locs1 → W p l e R s m args below meth c H1 locs1 (a1.2.1 - a0.2.1) (a1.2.2.1 - a0.2.2.1) Q (F0 m (pc + 5) ls ((val r).toList ++ rest))) : W p l e R s m args below meth c H locs (nx - a0.2.1) (ns - a0.2.2.1) Q (F0 m pc ls stk) := by
  obtain ⟨b1, b2, b3, b4, b5, b6⟩ := hZ.2.2.2
  intro T hT X
  rcases hr T hT X with ⟨v, st₀, t, T', L, h0, X', hL, e1, e2, ⟨⟨r, hv, hρ, hG, hw1⟩, hF⟩, stp⟩ | ⟨q, st₀, t, T', L, EE, ce, h0, X', hL, e1, e2, ⟨⟨n, hρ, hqn, hT9, hG, hw1⟩, hF⟩, hce, hcv, hcl, stp⟩
  · have g1 : nx ≤ a1.2.1 := hG.1.1
    have g2 : ns ≤ a1.2.2.1 := hG.2.2.2.1
    have f1 : nx - a0.2.1 + (a1.2.1 - nx) = a1.2.1 - a0.2.1 := by omega
    have f2 : ns - a0.2.2.1 + (a1.2.2.1 - ns) = a1.2.2.1 - a0.2.2.1 := by omega
    rw [f1, f2] at X'
    obtain ⟨k1, k2, k3⟩ := fx_keep h0 e1 hZ.1.2 (fun q _ h => h) (fun q h => h) hL hF
    cases hv
    obtain ⟨t2, a2, b2⟩ := kk r T'.heap (locs ++ L) hρ hG.1 ⟨⟨by rw [e1]; exact hw1, k3⟩, hG.2.1, hZ.2.2.1.tr hG.1, b1, b2, Nat.le_trans b3 g1, hG.2.2.1, Nat.le_trans b5 g2, hG.2.2.2.2⟩ T' rfl X'
    exact ⟨t2, stp t2 a2, b2⟩
  · have g1 : nx ≤ a1.2.1 := hG.1.1
    have g2 : ns ≤ a1.2.2.1 := hG.2.2.2.1
    have f1 : nx - a0.2.1 + (a1.2.1 - nx) = a1.2.1 - a0.2.1 := by omega
    have f2 : ns - a0.2.2.1 + (a1.2.2.1 - ns) = a1.2.2.1 - a0.2.2.1 := by omega
    rw [f1, f2] at X'
    obtain ⟨k1, k2, k3⟩ := fx_keep h0 e1 hZ.1.2 (fun q _ h => h) (fun q h => h) hL hF
    subst hqn
    obtain ⟨t2, a2, b2⟩ := kx n EE T'.heap (locs ++ L) hρ hT9 hG.1 ⟨⟨by rw [e1]; exact hw1, k3⟩, hG.2.1, hZ.2.2.1.tr hG.1, b1, b2, Nat.le_trans b3 g1, hG.2.2.1, Nat.le_trans b5 g2, hG.2.2.2.2⟩ T' rfl X'
    exact ⟨t2, stp.trans a2, b2⟩
theorem fa_F (X : fo_X E p m c cc nL s args own meth) (hZ : fo_Z E R s cN cS a0 tg nx ns st H locs) {x : MethodName} {count : Nat} {ci n0 : Nat} {q : vw_C} {ty : Nat → FieldType} (hG : GoodIn lw_all (va_wsF own index q.1 x y (ws_ y bytes maxL ret))) (hFw : va_Fw q.1 x y s) (hd : x.cls ≠ "java/lang/invoke/MethodHandle" ∧ x.cls ≠ "java/lang/invoke/VarHandle" ∧ (parseMethodDescriptor x.desc).map (fun d => d.parameters.length) = some n) (hR : fr + 1 ≤ R.frames ∧ 8 + (maxL + 11) + lo ≤ R.locals) (hc : fo_C ci q ty) (ht : tg n0 = (1, ci)) {As : List Value} (hn : As.length = n) (hstk : stk = As.reverse ++ .ref (eb E + n0) :: rest) (hsz : ls.size = nL) (hroom : (rest.map fun v => v.category).sum ≤ 8) (hdg : decode cc pc = .ok (.invokeinterface index count, 5)) {o : Option ((β ⊕ Nat) × fo_A)} {kf : β → (Nat → Nat × Nat) → Nat → Nat → fo_St → Option α} {hh : Nat → (Nat → Nat × Nat) → Nat → Nat → fo_St → Option α} (hct : ∀ (ρ : β ⊕ Nat) (a1 : fo_A), o = some (ρ, a1) → CA val l E y (ws_ y bytes maxL ret) fr lo cN cS (.ref (eb E + n0) :: As) (tg, nx, ns, st) ρ a1) (hf : ba_ o kf hh = some y0)
    (kx : ∀ (n : Nat) (EE : String) (tg1 : Nat → Nat × Nat) (nx1 ns1 : Nat) (st1 : fo_St) (H1 : Heap) (locs1 : List Loc), fo_TX (eW E tg1 nx1) n EE → fo_x tg nx tg1 nx1 → fo_Z E R s cN cS a0 tg1 nx1 ns1 st1 H1 locs1 → hh n tg1 nx1 ns1 st1 = some y0 → fx_W p l e R s m args below meth c H1 locs1 (nx1 - a0.2.1) (ns1 - a0.2.2.1) Q (F0 m pc ls rest) (eb E + n))
    (kk : ∀ (r : β) (tg1 : Nat → Nat × Nat) (nx1 ns1 : Nat) (st1 : fo_St) (H1 : Heap) (locs1 : List Loc), fo_x tg nx tg1 nx1 → fo_Z E R s cN cS a0 tg1 nx1 ns1 st1 H1 locs1 → kf r tg1 nx1 ns1 st1 = some y0 → W p l e R s m args below meth c H1 locs1 (nx1 - a0.2.1) (ns1 - a0.2.2.1) Q (F0 m (pc + 5) ls ((val r).toList ++ rest))) : W p l e R s m args below meth c H locs (nx - a0.2.1) (ns - a0.2.2.1) Q (F0 m pc ls stk) := by
  obtain ⟨ρ, a1, ho, hk, hx⟩ := ba_e hf
  subst hstk
  exact fa_run5 hZ (gx_runF (X.2.1.1.1 ci q hc.1).2 X.1 (hct ρ a1 ho) (va_cwF n X.1.2.2.2.2 hG rfl rfl rfl hFw hd hR) ⟨fo_blind (E := eW E tg nx), fo_rcv (fo_Xw X) hZ.1 hc ht, fo_pre (fo_Xw X) hZ.1 _⟩ rfl hn hsz rfl (lv_room hroom) hdg hZ.lims) (fun n EE H1 locs1 h1 h2 h3 h4 => kx n EE _ _ _ _ H1 locs1 h2 h3 h4 (hx n h1)) (fun r H1 locs1 h1 h2 h3 => kk r _ _ _ _ H1 locs1 h2 h3 (hk r h1))
theorem fcA_ViW {cells slots : Nat} {rm : Room} (X : fo_X E p m c cc nL s args own meth) (hw : fo_S E s st H locs) (hlim : cells + 0 ≤ R.cells ∧ slots + 0 ≤ R.slots) (hM : fo_M y n) (hG : GoodIn lw_all (wsV own index y.cls y (wsW_ y bytes maxL ret hh))) (hrm : rm.cells = 0 ∧ rm.slots = 0) (hR : rm.frames + 1 ≤ R.frames ∧ 8 + (maxL + 11) + rm.locals ≤ R.locals) {n0 ci : Nat} {q : vw_C} {ty : Nat → FieldType} (hc : fo_C ci q ty) (hq : q.1 = y.cls) (ht : et E n0 = (1, ci)) {As : List Value} (hn : As.length = n) (hstk : stk = As.reverse ++ .ref (eb E + n0) :: rest) (hsz : ls.size = nL) (hroom : (rest.map fun v => v.category).sum ≤ 8) (hdg : decode cc pc = .ok (.invokevirtual index, 3)) {o : Option (Int32 × fo_St)} {kf : Int32 → fo_St → Option α} (hct : ∀ (r : Int32) (st1 : fo_St), o = some (r, st1) → CTi l E y (wsW_ y bytes maxL ret hh) rm (.ref (eb E + n0) :: As) st r st1) (hf : bd_ o kf = some y0)
    (kk : ∀ (r : Int32) (st1 : fo_St) (H1 : Heap) (locs1 : List Loc), fo_S E s st1 H1 locs1 → kf r st1 = some y0 → W p l e R s m args below meth c H1 locs1 cells slots Q (F0 m (pc + 3) ls (.int r :: rest))) : W p l e R s m args below meth c H locs cells slots Q (F0 m pc ls stk) := by
  obtain ⟨r1, st1, ho, hf⟩ := bd_e hf
  subst hstk
  refine va_calli (fx_runVW X.1 (hct r1 st1 ho) (fx_cwVW n X.1.2.2.2.2 hG rfl hrm.1 hrm.2 ⟨rfl, hM.2⟩ hR) ⟨fo_blind, by rw [← hq]; exact fo_rcv X hw hc ht, fo_pre X hw _⟩ rfl hn hsz rfl (lv_room hroom) hdg hlim) hw.2 (fun q _ h => h) (fun q h => h) (fun r u t H1 locs1 ht _ hr hB _ _ hS => ?_)
  subst hr
  exact kk r st1 H1 locs1 (fo_back hw.2 ht hB hS) hf
theorem fcA_SiW {cells slots : Nat} {rm : Room} (X : fo_X E p m c cc nL s args own meth) (hw : fo_S E s st H locs) (hlim : cells + 0 ≤ R.cells ∧ slots + 0 ≤ R.slots) (hM : fo_M y n) (hG : GoodIn lw_all (va_wsS own index y (wsW_ y bytes maxL ret hh))) (hrm : rm.cells = 0 ∧ rm.slots = 0) (hR : rm.frames + 1 ≤ R.frames ∧ 8 + (maxL + 11) + rm.locals ≤ R.locals) {As : List Value} (hn : As.length = n) (hstk : stk = As.reverse ++ rest) (hsz : ls.size = nL) (hroom : (rest.map fun v => v.category).sum ≤ 8) (hdg : decode cc pc = .ok (.invokestatic index, 3)) {o : Option (Int32 × fo_St)} {kf : Int32 → fo_St → Option α} (hct : ∀ (r : Int32) (st1 : fo_St), o = some (r, st1) → CTi l E y (wsW_ y bytes maxL ret hh) rm As st r st1) (hf : bd_ o kf = some y0)
    (kk : ∀ (r : Int32) (st1 : fo_St) (H1 : Heap) (locs1 : List Loc), fo_S E s st1 H1 locs1 → kf r st1 = some y0 → W p l e R s m args below meth c H1 locs1 cells slots Q (F0 m (pc + 3) ls (.int r :: rest))) : W p l e R s m args below meth c H locs cells slots Q (F0 m pc ls stk) := by
  obtain ⟨r1, st1, ho, hf⟩ := bd_e hf
  subst hstk
  refine va_calli (fx_runSW X.1 (hct r1 st1 ho) (fx_cwSW n X.1.2.2.2.2 hG rfl hrm.1 hrm.2 hM.2 hR) ⟨fo_blind, fo_pre X hw _⟩ rfl hn hsz rfl (lv_room hroom) hdg hlim) hw.2 (fun q _ h => h) (fun q h => h) (fun r u t H1 locs1 ht _ hr hB _ _ hS => ?_)
  subst hr
  exact kk r st1 H1 locs1 (fo_back hw.2 ht hB hS) hf
end FJ1
theorem feaW_z {l : Launch} {E : fo_E} {y : MethodName} {cc : ByteArray} {maxL n fr lo cN cS : Nat} {av : List Value} {a a' : fo_A} {hh : List (Nat × Nat × Nat × Nat)} {ρ : Int32 ⊕ Nat} (hM : fo_M y n) (hn : (lg_sl av).length ≤ maxL) (hI : fo_I E a.1 a.2.1) (hcN : a.2.1 ≤ cN) (hcS : a.2.2.1 ≤ cS)
    (body : ∀ (p : Program) (e : Env) (R : Room) (s : State) (m : MethodId) (args : Array Value) (below : List Frame) (meth : Method) (c : Code) (Q : State → Prop), R.frames = fr → R.locals = lo → fo_X E p m c cc maxL s args y.cls meth → meth.name = y.name → c.exceptionTable.toList = tableOf hh → fo_Az p l e R s m args below meth c cc Q E cN cS a ρ a' → ∀ ls : Array Slot, lv_has ls maxL (lv_args 0 av) → fo_Z E R s cN cS a a.1 a.2.1 a.2.2.1 a.2.2.2 s.heap [] → W p l e R s m args below meth c s.heap [] (a.2.1 - a.2.1) (a.2.2.1 - a.2.2.1) Q (F0 m 0 ls [])) : CA vlI l E y (wsW_ y cc maxL (some .boolean) hh) fr lo cN cS av a ρ a' := by
  refine fx_ofWH (cc := cc) (maxL := maxL) (ret := some .boolean) (hh := hh) hM.1 rfl ?_
  intro p e s m args below meth c s₁ B hml hv
  obtain ⟨rfl, hw, hK⟩ := hv
  have hts0 := atoms_spec (ws := wsW_ y cc maxL (some .boolean) hh) B.pre
  have hts : ∀ w ∈ lw_all, w.before _ s = true := fun w h => hts0 w (List.mem_cons_of_mem _ h)
  have hown : s.vm.findClass y.cls = some m.cls := findClass_of_methodNamed B.named
  have htab := fx_table (x := y) (y := y) (hh := hh) B (hts0 _ List.mem_cons_self)
  have X : fo_X E p m c cc maxL s av.toArray y.cls meth := ⟨⟨B.exec, B.bytes, hml, hown, hts⟩, hK, B.notSynchronized⟩
  rw [lg_entry_eq]
  have h9 := body p e (headSpec (wsW_ y cc maxL (some .boolean) hh) (fo_rA fr lo cN cS a)).room s m av.toArray below meth c _ rfl rfl X (name_of_methodNamed B.named B.method).1 htab (fun H locs ls pc v hρ hz hZ hd => fa_retz X B.returns hz hZ hρ hd) _ (lv_entry av hn) ⟨⟨hw, va_S.rf⟩, hI, fo_x.rf, rfl, rfl, Nat.le_refl _, hcN, Nat.le_refl _, hcS⟩
  rw [Nat.sub_self, Nat.sub_self] at h9
  exact h9
section FJ2
variable {p : Program} {l : Launch} {e : Env} {R : Room} {s : State} {m : MethodId} {args : Array Value} {below : List Frame} {meth : Method} {c : Code} {H : Heap} {locs : List Loc} {cells slots : Nat} {Q : State → Prop}
variable {cc : ByteArray} {nL pc : Nat} {ls : Array Slot} {rest stk : List Value} {own : String} {E : fo_E} {st : fo_St} {α : Type} {y y0 : α}
theorem fo_aldS (X : fo_X E p m c cc nL s args own meth) (hw : fo_S E s st H locs) {n L : Nat} (ht : et E n = (7, L)) {i : Int32} (hdg : decode cc pc = .ok (.aaload, 1)) {kf : Nat → Option α} (hf : ck_ (fo_in i L) (rn_ (gr_ st n i.toNatClampNeg) kf) = some y)
    (kk : ∀ q : Nat, kf q = some y → W p l e R s m args below meth c H locs cells slots Q (F0 m (pc + 1) ls (.ref (eb E + q) :: rest))) : W p l e R s m args below meth c H locs cells slots Q (F0 m pc ls (.int i :: .ref (eb E + n) :: rest)) := by
  obtain ⟨q, h1, h3⟩ := rn_e (ck_e hf).2
  refine va_aldq X.1.1 X.1.2.1 X.2.1.1 (fo_at hw (n := n) (x := .inl (eA E 7, L, .inr (.inr (.inr (.inr (fun j => (gr_ st n j).map (fun q => eb E + q))))))) (by rw [ht]; rfl)) 0 5 rfl rfl (fo_in_e (ck_e hf).1) hdg ?_
  rw [h1]
  exact kk q h3
/-- an element, asked whether it is one -/
theorem fo_aldSN (X : fo_X E p m c cc nL s args own meth) (hw : fo_S E s st H locs) {n L tgt : Nat} {off : Int} (ht : et E n = (7, L)) {i : Int32} (hdg : decode cc pc = .ok (.aaload, 1)) (hd2 : decode cc (pc + 1) = .ok (.ifnonnull off, 3)) (htg : ((pc + 1 : Nat) : Int) + off = (tgt : Int)) {t f : Option α} (hf : ck_ (fo_in i L) (if ¬ gr_ st n i.toNatClampNeg = none then t else f) = some y0)
    (kt : t = some y0 → W p l e R s m args below meth c H locs cells slots Q (F0 m tgt ls rest)) (kf : f = some y0 → W p l e R s m args below meth c H locs cells slots Q (F0 m (pc + 1 + 3) ls rest)) : W p l e R s m args below meth c H locs cells slots Q (F0 m pc ls (.int i :: .ref (eb E + n) :: rest)) := by
  obtain ⟨hin, hf⟩ := ck_e hf
  refine va_aldq X.1.1 X.1.2.1 X.2.1.1 (fo_at hw (n := n) (x := .inl (eA E 7, L, .inr (.inr (.inr (.inr (fun j => (gr_ st n j).map (fun q => eb E + q))))))) (by rw [ht]; rfl)) 0 5 rfl rfl (fo_in_e hin) hdg ?_
  cases hv : gr_ st n i.toNatClampNeg with
  | none =>
    rw [if_neg (fun h => h hv)] at hf
    exact lv_ifnonnullN X.1.1 X.1.2.1 hd2 (kf hf)
  | some v =>
    rw [if_pos (by rw [hv]; exact fun h => by cases h)] at hf
    exact lv_ifnonnull X.1.1 X.1.2.1 hd2 htg (kt hf)
/-- null into an array of objects -/
theorem fo_astN (X : fo_X E p m c cc nL s args own meth) (hw : fo_S E s st H locs) {n L : Nat} (ht : et E n = (6, L)) {i : Int32} (hdg : decode cc pc = .ok (.aastore, 1)) {kf : fo_St → Option α} (hf : ck_ (fo_in i L) (lt_ (sr_ st n i.toNatClampNeg none) kf) = some y)
    (kk : ∀ (st1 : fo_St) (H1 : Heap) (locs1 : List Loc), fo_S E s st1 H1 locs1 → kf st1 = some y → W p l e R s m args below meth c H1 locs1 cells slots Q (F0 m (pc + 1) ls rest)) : W p l e R s m args below meth c H locs cells slots Q (F0 m pc ls (.null :: .int i :: .ref (eb E + n) :: rest)) := by
  have hin := fo_in_e (ck_e hf).1
  have hlt : i.toNatClampNeg < L := Nat.not_le.mp fun q => hin (Or.inr q)
  have h0 : ¬ i < 0 := fun q => hin (Or.inl q)
  have x0 : fo_ce E (et E n) st n = some (.inl (eA E 6, L, .inr (.inr (.inr (.inr (fun j => (gr_ st n j).map (fun q => eb E + q))))))) := by rw [ht]; rfl
  have x1 : fo_ce E (et E n) (sr_ st n i.toNatClampNeg none) n = some (.inl (eA E 6, L, .inr (.inr (.inr (.inr (fun j => (gr_ (sr_ st n i.toNatClampNeg none) n j).map (fun q => eb E + q))))))) := by rw [ht]; rfl
  obtain ⟨kA, comp, k1, k2, k3, -⟩ := (X.2.1.1.2 4 _ rfl).2
  obtain ⟨kE, hkE, -⟩ := Vm.findClass_spec k3
  refine va_WaastN (C := "java/lang/Object") X.1.1 X.1.2.1 (fo_at hw x0 0 _ rfl) ((X.2.1.1.2 4 _ rfl).1 L (fun j => va_rf ((gr_ st n j).map (fun q => eb E + q)))) (fun h => by cases h) (by show ¬ (i < 0 ∨ (arrV _ _ _).slots.size ≤ _); rw [arrV_size]; exact hin) rfl rfl hdg fun H1 e1 e2 e3 => ?_
  refine kk _ H1 _ (fo_arr hw x0 x1 fo_sr3 ?_ e2 e3) (ck_e hf).2
  rw [e1]
  refine congrArg some ?_
  rw [vp_cell_q, vp_cell_q, arrV_store]
  congr 1
  funext j
  rw [gr_sr]
  unfold updV
  by_cases hj : j = i.toNatClampNeg
  · rw [if_pos hj, if_pos ⟨rfl, hj⟩]; rfl
  · rw [if_neg hj, if_neg (fun h => hj h.2)]
end FJ2
