/-! BASE 4: methods that make cells: the world by its tags and its next cell; budgets; contracts -/
set_option maxRecDepth 100000
/-- tags, next cell, fields and elements made so far, store -/
abbrev fo_A : Type := (Nat → Nat × Nat) × Nat × Nat × fo_St
def eW (E : fo_E) (tg : Nat → Nat × Nat) (nx : Nat) : fo_E := (eb E, eb E + nx, eD E, eA E, tg, eF E, eX E)
def tu_ (tg : Nat → Nat × Nat) (n : Nat) (t : Nat × Nat) : Nat → Nat × Nat := fun a => if a = n then t else tg a
def z0_ (st : fo_St) (n : Nat) : fo_St := (fun a b => if a = n then 0 else st.1 a b, fun a b => if a = n then 0 else st.2.1 a b, fun a b => if a = n then none else st.2.2 a b)
theorem gi_z0 (st : fo_St) (n a b : Nat) : gi_ (z0_ st n) a b = if a = n then 0 else gi_ st a b := rfl
theorem gl_z0 (st : fo_St) (n a b : Nat) : gl_ (z0_ st n) a b = if a = n then 0 else gl_ st a b := rfl
theorem gr_z0 (st : fo_St) (n a b : Nat) : gr_ (z0_ st n) a b = if a = n then none else gr_ st a b := rfl
def aw_ {α : Type} (a : fo_A) (k : (Nat → Nat × Nat) → Nat → Nat → fo_St → Option α) : Option α := k a.1 a.2.1 a.2.2.1 a.2.2.2
def ba_ {α β : Type} (o : Option ((β ⊕ Nat) × fo_A)) (k : β → (Nat → Nat × Nat) → Nat → Nat → fo_St → Option α) (h : Nat → (Nat → Nat × Nat) → Nat → Nat → fo_St → Option α) : Option α := match o with
  | none => none
  | some (.inl r, a) => k r a.1 a.2.1 a.2.2.1 a.2.2.2
  | some (.inr q, a) => h q a.1 a.2.1 a.2.2.1 a.2.2.2
theorem ba_e {α β : Type} {o : Option ((β ⊕ Nat) × fo_A)} {k : β → (Nat → Nat × Nat) → Nat → Nat → fo_St → Option α} {h : Nat → (Nat → Nat × Nat) → Nat → Nat → fo_St → Option α} {y : α} (hh : ba_ o k h = some y) : ∃ ρ a, o = some (ρ, a) ∧ (∀ r, ρ = .inl r → k r a.1 a.2.1 a.2.2.1 a.2.2.2 = some y) ∧ ∀ q, ρ = .inr q → h q a.1 a.2.1 a.2.2.1 a.2.2.2 = some y := by
  rcases o with _ | ⟨r | q, a⟩
  · cases hh
  · exact ⟨.inl r, a, rfl, fun r' e => (by cases e; exact hh), fun q e => (by cases e)⟩
  · exact ⟨.inr q, a, rfl, fun r e => (by cases e), fun q' e => (by cases e; exact hh)⟩
/-- what holds of tags and next cell all along -/
def fo_I (E : fo_E) (tg : Nat → Nat × Nat) (nx : Nat) : Prop := (∀ n, nx ≤ n → eF E (eb E + n)) ∧ (∀ n : Nat, (et E n).1 ≠ 0 → n < nx ∧ tg n = et E n) ∧ True ∧ ∀ n, nx ≤ n → (tg n).1 = 0
theorem fo_I.hx {E : fo_E} {tg : Nat → Nat × Nat} {nx : Nat} (hI : fo_I E tg nx) (hX : fo_HX E) : fo_HX (eW E tg nx) := fun n q hq h0 => by
  have h := hX n q hq h0
  show tg n = q
  rw [← h]
  exact (hI.2.1 n (by rw [h]; exact h0)).2
/-- later: more cells, the old tags -/
def fo_x (tg : Nat → Nat × Nat) (nx : Nat) (tg' : Nat → Nat × Nat) (nx' : Nat) : Prop := nx ≤ nx' ∧ ∀ n, n < nx → tg' n = tg n
theorem fo_x.rf {tg : Nat → Nat × Nat} {nx : Nat} : fo_x tg nx tg nx := ⟨Nat.le_refl _, fun _ _ => rfl⟩
theorem fo_x.tr {t1 t2 t3 : Nat → Nat × Nat} {n1 n2 n3 : Nat} (h : fo_x t1 n1 t2 n2) (h2 : fo_x t2 n2 t3 n3) : fo_x t1 n1 t3 n3 := ⟨Nat.le_trans h.1 h2.1, fun n q => (h2.2 n (Nat.lt_of_lt_of_le q h.1)).trans (h.2 n q)⟩
theorem fo_x.t {E : fo_E} {t1 t2 : Nat → Nat × Nat} {n1 n2 : Nat} (h : fo_x t1 n1 t2 n2) (hI : fo_I E t1 n1) {q k c : Nat} (ht : t1 q = (k + 1, c)) : t2 q = (k + 1, c) := by
  have hq : q < n1 := Nat.not_le.mp fun w => by
    have := hI.2.2.2 q w
    rw [ht] at this
    cases this
  rw [h.2 q hq, ht]
theorem fo_I.new {E : fo_E} {tg : Nat → Nat × Nat} {nx : Nat} (hI : fo_I E tg nx) (t : Nat × Nat) : fo_I E (tu_ tg nx t) (nx + 1) ∧ fo_x tg nx (tu_ tg nx t) (nx + 1) := by
  obtain ⟨h1, h2, h3, h4⟩ := hI
  refine ⟨⟨fun n hn => h1 n (by omega), fun n h0 => ?_, trivial, fun n hn => ?_⟩, ⟨by omega, fun n hn => ?_⟩⟩
  · obtain ⟨g1, g2⟩ := h2 n h0
    refine ⟨by omega, ?_⟩
    unfold tu_
    rw [if_neg (by omega)]
    exact g2
  · unfold tu_
    rw [if_neg (by omega)]
    exact h4 n (by omega)
  · unfold tu_
    rw [if_neg (by omega)]
/-- budgets: the caps, where the method began, where it is -/
def fo_B (R : Room) (cN cS nx0 ns0 nx ns : Nat) : Prop := R.cells = cN - nx0 ∧ R.slots = cS - ns0 ∧ nx0 ≤ nx ∧ nx ≤ cN ∧ ns0 ≤ ns ∧ ns ≤ cS
def fo_Z (E : fo_E) (R : Room) (s : State) (cN cS : Nat) (a0 : fo_A) (tg : Nat → Nat × Nat) (nx ns : Nat) (st : fo_St) (H : Heap) (locs : List Loc) : Prop := fo_S (eW E tg nx) s st H locs ∧ fo_I E tg nx ∧ fo_x a0.1 a0.2.1 tg nx ∧ fo_B R cN cS a0.2.1 a0.2.2.1 nx ns
theorem fo_Z.s {E : fo_E} {R : Room} {s : State} {cN cS : Nat} {a0 : fo_A} {tg : Nat → Nat × Nat} {nx ns : Nat} {st st1 : fo_St} {H H1 : Heap} {locs locs1 : List Loc} (h : fo_Z E R s cN cS a0 tg nx ns st H locs) (hw : fo_S (eW E tg nx) s st1 H1 locs1) : fo_Z E R s cN cS a0 tg nx ns st1 H1 locs1 := ⟨hw, h.2⟩
/-- what a method that makes cells says of tags and budgets behind it -/
def fo_G (E : fo_E) (cN cS : Nat) (a a' : fo_A) : Prop := fo_x a.1 a.2.1 a'.1 a'.2.1 ∧ fo_I E a'.1 a'.2.1 ∧ a'.2.1 ≤ cN ∧ a.2.2.1 ≤ a'.2.2.1 ∧ a'.2.2.1 ≤ cS
def fo_QA {β : Type} (val : β → Option Value) (E : fo_E) (cN cS : Nat) (a a' : fo_A) (ρ : β ⊕ Nat) : Array Value → State → Outcome → State → Prop := fun _ st oc t => (∃ r : β, oc = .returned (val r) ∧ ρ = .inl r ∧ fo_G E cN cS a a' ∧ wd_ (eW E a'.1 a'.2.1) a'.2.2.2 t.heap) ∧ va_F (eF E) st t
def fo_XA {β : Type} (E : fo_E) (cN cS : Nat) (a a' : fo_A) (ρ : β ⊕ Nat) : String → Addr → State → State → Prop := fun EE q st t => (∃ n, ρ = .inr n ∧ q = eb E + n ∧ fo_TX (eW E a'.1 a'.2.1) n EE ∧ fo_G E cN cS a a' ∧ wd_ (eW E a'.1 a'.2.1) a'.2.2.2 t.heap) ∧ va_F (eF E) st t
def fo_rA (fr lo cN cS : Nat) (a : fo_A) : Room := { frames := fr, cells := cN - a.2.1, slots := cS - a.2.2.1, locals := lo }
/-- the contract of a method that makes cells, and may throw -/
def CA {β : Type} (val : β → Option Value) (l : Launch) (E : fo_E) (y : MethodName) (ws : List Cond) (fr lo cN cS : Nat) (av : List Value) (a : fo_A) (ρ : β ⊕ Nat) (a' : fo_A) : Prop := fx_Met l y ws (fo_rA fr lo cN cS a) (va_Pc av (fun U => wd_ (eW E a.1 a.2.1) a.2.2.2 U.heap ∧ fo_K E U)) (fo_QA val E cN cS a a' ρ) (fo_XA E cN cS a a' ρ) (a'.2.1 - a.2.1) (a'.2.2.1 - a.2.2.1) (eF E)
def vlI (r : Int32) : Option Value := some (.int r)
def vlV (_ : Unit) : Option Value := none
def vlR (b : Nat) (r : Nat) : Option Value := some (.ref (b + r))
section FA1
variable {p : Program} {l : Launch} {e : Env} {R : Room} {s : State} {m : MethodId} {args : Array Value} {below : List Frame} {meth : Method} {c : Code} {H : Heap} {locs : List Loc} {cells slots : Nat} {Q : State → Prop}
variable {cc : ByteArray} {nL pc : Nat} {ls : Array Slot} {rest stk : List Value} {own : String} {E : fo_E} {st : fo_St} {α : Type} {y0 : α} {cN cS nx ns : Nat} {tg : Nat → Nat × Nat} {a0 : fo_A}
theorem fo_Xw (X : fo_X E p m c cc nL s args own meth) : fo_X (eW E tg nx) p m c cc nL s args own meth := X
theorem fo_Xu (X : fo_X (eW E tg nx) p m c cc nL s args own meth) : fo_X E p m c cc nL s args own meth := X
/-- a cell is made -/
theorem fo_made (hZ : fo_Z E R s cN cS a0 tg nx ns st H locs) {k : Nat} (h1 : nx + 1 ≤ cN) (h2 : ns + k ≤ cS) {t : Nat × Nat} {H1 : Heap} (z1 : H1.size = H.size + 1) (o1 : ∀ q, q < H.size → H1[q]? = H[q]?) (hx : ∀ x, fo_ce (eW E (tu_ tg nx t) (nx + 1)) t (z0_ st nx) nx = some x → va_at (eD E) fo_cl (eb E + nx, x) H1) : fo_Z E R s cN cS a0 (tu_ tg nx t) (nx + 1) (ns + k) (z0_ st nx) H1 locs := by
  obtain ⟨hw, hI, hX, hB1, hB2, hB3, hB4, hB5, hB6⟩ := hZ
  have hn := hI.new t
  have hs : H.size = eb E + nx := hw.1.1
  refine ⟨⟨⟨?_, fun n x hq => ?_⟩, ⟨Nat.le_trans hw.2.1 (by omega), fun q h3 h4 => ?_, hw.2.2.2⟩⟩, hn.1, hX.tr hn.2, hB1, hB2, by omega, h1, by omega, h2⟩
  · show H1.size = eb E + (nx + 1)
    omega
  · change fo_ce (eW E (tu_ tg nx t) (nx + 1)) (tu_ tg nx t n) (z0_ st nx) n = some x at hq
    by_cases hnn : n = nx
    · subst hnn
      have ht : tu_ tg n t n = t := by unfold tu_; rw [if_pos rfl]
      rw [ht] at hq
      exact ⟨hx x hq, hI.1 n (Nat.le_refl _)⟩
    · have ht : tu_ tg nx t n = tg n := by unfold tu_; rw [if_neg hnn]
      rw [ht, fo_ce_of (st1 := z0_ st nx) (st := st) (fun j => by rw [gi_z0, if_neg hnn]) (fun j => by rw [gl_z0, if_neg hnn]) (fun j => by rw [gr_z0, if_neg hnn])] at hq
      have h9 := hw.1.2 n x hq
      exact ⟨h9.1.kept (o1 _ h9.1.lt), h9.2⟩
  · rw [o1 q (Nat.lt_of_lt_of_le h3 hw.2.1)]
    exact hw.2.2.1 q h3 h4
def fo_bg (nx ns k cN cS : Nat) : Bool := decide (nx + 1 ≤ cN ∧ ns + k ≤ cS)
/-- new C -/
theorem fa_new (X : fo_X E p m c cc nL s args own meth) (hZ : fo_Z E R s cN cS a0 tg nx ns st H locs) {ci index : Nat} {q : vw_C} {ty : Nat → FieldType} (hc : fo_C ci q ty) (hd : ∀ (b : Nat) (st : fo_St) (n j : Nat), j < q.2.2 → defaultValue (ty j) = fo_fv b (z0_ st n) n j ((fo_sh ci).getD j 0)) (hcl : Cond.classLink own index q.1 ∈ lw_all) (hinst : Cond.instantiable q.1 q.2.2 ∈ lw_all) (hini : Cond.initialized q.1 ∈ lw_all) (hdg : decode cc pc = .ok (.new index, 3)) {kf : (Nat → Nat × Nat) → Nat → Nat → fo_St → Option α} (hf : ck_ (fo_bg nx ns q.2.2 cN cS) (aw_ (tu_ tg nx (1, ci), nx + 1, ns + q.2.2, z0_ st nx) kf) = some y0)
    (kk : ∀ (tg1 : Nat → Nat × Nat) (nx1 ns1 : Nat) (st1 : fo_St) (H1 : Heap), fo_x tg nx tg1 nx1 → tg1 nx = (1, ci) → fo_Z E R s cN cS a0 tg1 nx1 ns1 st1 H1 locs → kf tg1 nx1 ns1 st1 = some y0 → W p l e R s m args below meth c H1 locs (nx1 - a0.2.1) (ns1 - a0.2.2.1) Q (F0 m (pc + 3) ls (.ref (eb E + nx) :: rest))) : W p l e R s m args below meth c H locs (nx - a0.2.1) (ns - a0.2.2.1) Q (F0 m pc ls rest) := by
  obtain ⟨hb1, hf⟩ := ck_e hf
  obtain ⟨g1, g2⟩ := of_decide_eq_true hb1
  have hI := hZ.2.1
  obtain ⟨hB1, hB2, hB3, hB4, hB5, hB6⟩ := hZ.2.2.2
  obtain ⟨⟨hx, hb, hml, hown, hts⟩, hK, hlo⟩ := X
  obtain ⟨c1, c2, c3, c4, c5⟩ := hc
  have hKn := hK.1.1 ci q c1
  obtain ⟨C, T, N⟩ := q
  refine W.newcK hx hb hown (hts _ hcl) (hts _ hinst) (hts _ hini) rfl hdg (by rw [hB1]; omega) (by rw [hB2]; show _ + N ≤ _; change ns + N ≤ cS at g2; omega) hKn.2.1 hZ.1.1.1 fun H1 kC hkC e1 z1 o1 => ?_
  have hsz : H.size = eb E + nx := hZ.1.1.1
  have e9 : nx - a0.2.1 + 1 = nx + 1 - a0.2.1 := by omega
  have e8 : ns - a0.2.2.1 + N = ns + N - a0.2.2.1 := by omega
  rw [e9, e8]
  refine kk _ _ _ _ H1 (hI.new (1, ci)).2 (by unfold tu_; rw [if_pos rfl]) (fo_made hZ g1 g2 (by rw [hsz]; exact z1) (fun q hq => o1 q (by show q < eb E + nx; omega)) fun x hxx => ?_) hf
  cases hxx
  refine ⟨(C, T, N), c1, ?_⟩
  refine (u_born ty hts c2 hKn hkC e1 c4).to (fun j hj => ?_)
  show defaultValue (ty j) = vp_V (fo_fl (eb E) (z0_ st nx) nx (fo_sh ci)) j
  unfold vp_V
  rw [List.getD_eq_getElem?_getD, fo_fl_get (by rw [c3]; exact hj)]
  exact hd (eb E) st nx j hj
/-- new Object[n] -/
theorem fa_newo (X : fo_X E p m c cc nL s args own meth) (hAO : va_AO "java/lang/Object" s) (hZ : fo_Z E R s cN cS a0 tg nx ns st H locs) {index : Nat} (hcl : Cond.classLink own index "java/lang/Object" ∈ lw_all) {n : Int32} {L : Nat} (hn0 : ¬ n < 0) (hN : n.toNatClampNeg = L) (hL : L < 2 ^ 20) (hdg : decode cc pc = .ok (.anewarray index, 3)) {kf : (Nat → Nat × Nat) → Nat → Nat → fo_St → Option α} (hf : ck_ (fo_bg nx ns L cN cS) (aw_ (tu_ tg nx (6, L), nx + 1, ns + L, z0_ st nx) kf) = some y0)
    (kk : ∀ (tg1 : Nat → Nat × Nat) (nx1 ns1 : Nat) (st1 : fo_St) (H1 : Heap), fo_x tg nx tg1 nx1 → tg1 nx = (6, L) → fo_Z E R s cN cS a0 tg1 nx1 ns1 st1 H1 locs → kf tg1 nx1 ns1 st1 = some y0 → W p l e R s m args below meth c H1 locs (nx1 - a0.2.1) (ns1 - a0.2.2.1) Q (F0 m (pc + 3) ls (.ref (eb E + nx) :: rest))) : W p l e R s m args below meth c H locs (nx - a0.2.1) (ns - a0.2.2.1) Q (F0 m pc ls (.int n :: rest)) := by
  obtain ⟨hb1, hf⟩ := ck_e hf
  obtain ⟨g1, g2⟩ := of_decide_eq_true hb1
  have hI := hZ.2.1
  obtain ⟨hB1, hB2, hB3, hB4, hB5, hB6⟩ := hZ.2.2.2
  obtain ⟨⟨hx, hb, hml, hown, hts⟩, hK, hlo⟩ := X
  have hsz : H.size = eb E + nx := hZ.1.1.1
  subst hN
  refine W.anew hx hb hown (hts _ hcl) (va_AO.use hAO) rfl hdg rfl hn0 (by omega) (by rw [hB1]; omega) (by rw [hB2]; omega) fun cA kA comp f1 f2 f3 f4 => ?_
  obtain ⟨kA', comp', i1, i2, i3, i4⟩ := (hK.1.2 4 _ rfl).2
  have hcA : cA = eA E 6 := Option.some.inj (f1.symm.trans i4)
  subst hcA
  generalize hH1 : H.push ({ cls := eA E 6, slots := Array.replicate n.toNatClampNeg .null, vm := .none } : Cell) = H1
  have z1 : H1.size = H.size + 1 := by rw [← hH1, Array.size_push]
  have e1 : H1[H.size]? = some (arrV (eA E 6) n.toNatClampNeg (fun _ => .null)) := by rw [← hH1, Array.getElem?_push_size, ← arrV_new]
  have o1 : ∀ q : Nat, q < H.size → H1[q]? = H[q]? := fun q hq => by rw [← hH1, Array.getElem?_push, if_neg (Nat.ne_of_lt hq)]
  have e9 : nx - a0.2.1 + 1 = nx + 1 - a0.2.1 := by omega
  have e8 : ns - a0.2.2.1 + n.toNatClampNeg = ns + n.toNatClampNeg - a0.2.2.1 := by omega
  rw [e9, e8, hsz]
  refine kk _ _ _ _ H1 (hI.new (6, n.toNatClampNeg)).2 (by unfold tu_; rw [if_pos rfl]) (fo_made hZ g1 g2 z1 o1 fun x hxx => ?_) hf
  cases hxx
  show H1[eb E + nx]? = some (vp_cell _ _)
  rw [← hsz, e1, vp_cell_q]
  congr 2
  funext j
  rw [gr_z0, if_pos rfl]
  rfl
end FA1
/-- behind a call of a method that makes cells -/
theorem fo_Z.lims {E : fo_E} {R : Room} {s : State} {cN cS : Nat} {a0 : fo_A} {tg : Nat → Nat × Nat} {nx ns : Nat} {st : fo_St} {H : Heap} {locs : List Loc} (h : fo_Z E R s cN cS a0 tg nx ns st H locs) {fr lo : Nat} : (nx - a0.2.1) + (fo_rA fr lo cN cS (tg, nx, ns, st)).cells ≤ R.cells ∧ (ns - a0.2.2.1) + (fo_rA fr lo cN cS (tg, nx, ns, st)).slots ≤ R.slots := by
  obtain ⟨h1, h2, h3, h4, h5, h6⟩ := h.2.2.2
  rw [h1, h2]
  show (nx - a0.2.1) + (cN - nx) ≤ _ ∧ (ns - a0.2.2.1) + (cS - ns) ≤ _
  omega
theorem fo_Z.lim0 {E : fo_E} {R : Room} {s : State} {cN cS : Nat} {a0 : fo_A} {tg : Nat → Nat × Nat} {nx ns : Nat} {st : fo_St} {H : Heap} {locs : List Loc} (h : fo_Z E R s cN cS a0 tg nx ns st H locs) : (nx - a0.2.1) + 0 ≤ R.cells ∧ (ns - a0.2.2.1) + 0 ≤ R.slots := by
  obtain ⟨h1, h2, h3, h4, h5, h6⟩ := h.2.2.2
  rw [h1, h2]
  omega
theorem fo_Z.G {E : fo_E} {R : Room} {s : State} {cN cS : Nat} {a0 : fo_A} {tg : Nat → Nat × Nat} {nx ns : Nat} {st : fo_St} {H : Heap} {locs : List Loc} (h : fo_Z E R s cN cS a0 tg nx ns st H locs) : fo_G E cN cS a0 (tg, nx, ns, st) := ⟨h.2.2.1, h.2.1, h.2.2.2.2.2.2.1, h.2.2.2.2.2.2.2.1, h.2.2.2.2.2.2.2.2⟩
section FA2
variable {p : Program} {l : Launch} {e : Env} {R : Room} {s : State} {m : MethodId} {args : Array Value} {below : List Frame} {meth : Method} {c : Code} {H : Heap} {locs : List Loc} {Q : State → Prop}
variable {cc : ByteArray} {nL pc : Nat} {ls : Array Slot} {rest stk : List Value} {own : String} {E : fo_E} {st : fo_St} {α β : Type} {y0 : α} {cN cS nx ns : Nat} {tg : Nat → Nat × Nat} {a0 a1 : fo_A}
theorem fa_run {val : β → Option Value} {ρ : β ⊕ Nat} {av : Array Value} (hZ : fo_Z E R s cN cS a0 tg nx ns st H locs) (hr : fx_Run p l e R s m args below meth c H locs (nx - a0.2.1) (ns - a0.2.2.1) (a1.2.1 - nx) (a1.2.2.1 - ns) (F0 m pc ls stk) rest (fo_QA val E cN cS (tg, nx, ns, st) a1 ρ av) (fo_XA E cN cS (tg, nx, ns, st) a1 ρ) (eF E))
    (kx : ∀ (n : Nat) (EE : String) (H1 : Heap) (locs1 : List Loc), ρ = .inr n → fo_TX (eW E a1.1 a1.2.1) n EE → fo_x tg nx a1.1 a1.2.1 → fo_Z E R s cN cS a0 a1.1 a1.2.1 a1.2.2.1 a1.2.2.2 H1 locs1 → fx_W p l e R s m args below meth c H1 locs1 (a1.2.1 - a0.2.1) (a1.2.2.1 - a0.2.2.1) Q (F0 m pc ls rest) (eb E + n))
    (kk : ∀ (r : β) (H1 : Heap) (locs1 : List Loc), ρ = .inl r → fo_x tg nx a1.1 a1.2.1 → fo_Z E R s cN cS a0 a1.1 a1.2.1 a1.2.2.1 a1.2.2.2 H1 locs1 → W p l e R s m args below meth c H1 locs1 (a1.2.1 - a0.2.1) (a1.2.2.1 - a0.2.2.1) Q (F0 m (pc + 3) ls ((val r).toList ++ rest))) : W p l e R s m args below meth c H locs (nx - a0.2.1) (ns - a0.2.2.1) Q (F0 m pc ls stk) := by
  obtain ⟨b1, b2, b3, b4, b5, b6⟩ := hZ.2.2.2
  intro T hT X
  rcases hr T hT X with ⟨v, st₀, t, T', L, h0, X', hL, e1, e2, ⟨⟨r, hv, hρ, hG, hw1⟩, hF⟩, stp⟩ | ⟨q, st₀, t, T', L, EE, ce, h0, X', hL, e1, e2, ⟨⟨n, hρ, hqn, hT9, hG, hw1⟩, hF⟩, hce, hcv, hcl, stp⟩
  · have g1 : nx ≤ a1.2.1 := hG.1.1
    have g2 : ns ≤ a1.2.2.1 := hG.2.2.2.1
    have f1 : nx - a0.2.1 + (a1.2.1 - nx) = a1.2.1 - a0.2.1 := by omega
    have f2 : ns - a0.2.2.1 + (a1.2.2.1 - ns) = a1.2.2.1 - a0.2.2.1 := by omega
    rw [f1, f2] at X'
    obtain ⟨k1, k2, k3⟩ := fx_keep h0 e1 hZ.1.2 (fun q _ h => h) (fun q h => h) hL hF
    cases hv
    obtain ⟨t2, a2, b2⟩ := kk r T'.heap (locs ++ L) hρ hG.1 ⟨⟨by rw [e1]; exact hw1, k3⟩, hG.2.1, hZ.2.2.1.tr hG.1, b1, b2, Nat.le_trans b3 g1, hG.2.2.1, Nat.le_trans b5 g2, hG.2.2.2.2⟩ T' rfl X'
    exact ⟨t2, stp t2 a2, b2⟩
  · have g1 : nx ≤ a1.2.1 := hG.1.1
    have g2 : ns ≤ a1.2.2.1 := hG.2.2.2.1
    have f1 : nx - a0.2.1 + (a1.2.1 - nx) = a1.2.1 - a0.2.1 := by omega
    have f2 : ns - a0.2.2.1 + (a1.2.2.1 - ns) = a1.2.2.1 - a0.2.2.1 := by omega
    rw [f1, f2] at X'
    obtain ⟨k1, k2, k3⟩ := fx_keep h0 e1 hZ.1.2 (fun q _ h => h) (fun q h => h) hL hF
    subst hqn
    obtain ⟨t2, a2, b2⟩ := kx n EE T'.heap (locs ++ L) hρ hT9 hG.1 ⟨⟨by rw [e1]; exact hw1, k3⟩, hG.2.1, hZ.2.2.1.tr hG.1, b1, b2, Nat.le_trans b3 g1, hG.2.2.1, Nat.le_trans b5 g2, hG.2.2.2.2⟩ T' rfl X'
    exact ⟨t2, stp.trans a2, b2⟩
variable {y : MethodName} {bytes : ByteArray} {maxL n index fr lo : Nat} {ret : Option FieldType} {val : β → Option Value}
/-- calls: by a class's own method; static; a constructor; a constructor of a nest mate; found by the receiver -/
theorem fa_V (X : fo_X E p m c cc nL s args own meth) (hZ : fo_Z E R s cN cS a0 tg nx ns st H locs) (hM : fo_M y n) (hG : GoodIn lw_all (wsV own index y.cls y (ws_ y bytes maxL ret))) (hR : fr + 1 ≤ R.frames ∧ 8 + (maxL + 11) + lo ≤ R.locals) {n0 ci : Nat} {q : vw_C} {ty : Nat → FieldType} (hc : fo_C ci q ty) (hq : q.1 = y.cls) (ht : tg n0 = (1, ci)) {As : List Value} (hn : As.length = n) (hstk : stk = As.reverse ++ .ref (eb E + n0) :: rest) (hsz : ls.size = nL) (hroom : (rest.map fun v => v.category).sum ≤ 8) (hdg : decode cc pc = .ok (.invokevirtual index, 3)) {o : Option ((β ⊕ Nat) × fo_A)} {kf : β → (Nat → Nat × Nat) → Nat → Nat → fo_St → Option α} {hh : Nat → (Nat → Nat × Nat) → Nat → Nat → fo_St → Option α} (hct : ∀ (ρ : β ⊕ Nat) (a1 : fo_A), o = some (ρ, a1) → CA val l E y (ws_ y bytes maxL ret) fr lo cN cS (.ref (eb E + n0) :: As) (tg, nx, ns, st) ρ a1) (hf : ba_ o kf hh = some y0)
    (kx : ∀ (n : Nat) (EE : String) (tg1 : Nat → Nat × Nat) (nx1 ns1 : Nat) (st1 : fo_St) (H1 : Heap) (locs1 : List Loc), fo_TX (eW E tg1 nx1) n EE → fo_x tg nx tg1 nx1 → fo_Z E R s cN cS a0 tg1 nx1 ns1 st1 H1 locs1 → hh n tg1 nx1 ns1 st1 = some y0 → fx_W p l e R s m args below meth c H1 locs1 (nx1 - a0.2.1) (ns1 - a0.2.2.1) Q (F0 m pc ls rest) (eb E + n))
    (kk : ∀ (r : β) (tg1 : Nat → Nat × Nat) (nx1 ns1 : Nat) (st1 : fo_St) (H1 : Heap) (locs1 : List Loc), fo_x tg nx tg1 nx1 → fo_Z E R s cN cS a0 tg1 nx1 ns1 st1 H1 locs1 → kf r tg1 nx1 ns1 st1 = some y0 → W p l e R s m args below meth c H1 locs1 (nx1 - a0.2.1) (ns1 - a0.2.2.1) Q (F0 m (pc + 3) ls ((val r).toList ++ rest))) : W p l e R s m args below meth c H locs (nx - a0.2.1) (ns - a0.2.2.1) Q (F0 m pc ls stk) := by
  obtain ⟨ρ, a1, ho, hk, hx⟩ := ba_e hf
  subst hstk
  exact fa_run hZ (gx_runV X.1 (hct ρ a1 ho) (cwV n X.1.2.2.2.2 hG rfl rfl rfl ⟨rfl, hM.2⟩ hR) ⟨fo_blind (E := eW E tg nx), by rw [← hq]; exact fo_rcv (fo_Xw X) hZ.1 hc ht, fo_pre (fo_Xw X) hZ.1 _⟩ rfl hn hsz rfl (lv_room hroom) hdg hZ.lims) (fun n EE H1 locs1 h1 h2 h3 h4 => kx n EE _ _ _ _ H1 locs1 h2 h3 h4 (hx n h1)) (fun r H1 locs1 h1 h2 h3 => kk r _ _ _ _ H1 locs1 h2 h3 (hk r h1))
theorem fa_S (X : fo_X E p m c cc nL s args own meth) (hZ : fo_Z E R s cN cS a0 tg nx ns st H locs) (hM : fo_M y n) (hG : GoodIn lw_all (va_wsS own index y (ws_ y bytes maxL ret))) (hR : fr + 1 ≤ R.frames ∧ 8 + (maxL + 11) + lo ≤ R.locals) {As : List Value} (hn : As.length = n) (hstk : stk = As.reverse ++ rest) (hsz : ls.size = nL) (hroom : (rest.map fun v => v.category).sum ≤ 8) (hdg : decode cc pc = .ok (.invokestatic index, 3)) {o : Option ((β ⊕ Nat) × fo_A)} {kf : β → (Nat → Nat × Nat) → Nat → Nat → fo_St → Option α} {hh : Nat → (Nat → Nat × Nat) → Nat → Nat → fo_St → Option α} (hct : ∀ (ρ : β ⊕ Nat) (a1 : fo_A), o = some (ρ, a1) → CA val l E y (ws_ y bytes maxL ret) fr lo cN cS As (tg, nx, ns, st) ρ a1) (hf : ba_ o kf hh = some y0)
    (kx : ∀ (n : Nat) (EE : String) (tg1 : Nat → Nat × Nat) (nx1 ns1 : Nat) (st1 : fo_St) (H1 : Heap) (locs1 : List Loc), fo_TX (eW E tg1 nx1) n EE → fo_x tg nx tg1 nx1 → fo_Z E R s cN cS a0 tg1 nx1 ns1 st1 H1 locs1 → hh n tg1 nx1 ns1 st1 = some y0 → fx_W p l e R s m args below meth c H1 locs1 (nx1 - a0.2.1) (ns1 - a0.2.2.1) Q (F0 m pc ls rest) (eb E + n))
    (kk : ∀ (r : β) (tg1 : Nat → Nat × Nat) (nx1 ns1 : Nat) (st1 : fo_St) (H1 : Heap) (locs1 : List Loc), fo_x tg nx tg1 nx1 → fo_Z E R s cN cS a0 tg1 nx1 ns1 st1 H1 locs1 → kf r tg1 nx1 ns1 st1 = some y0 → W p l e R s m args below meth c H1 locs1 (nx1 - a0.2.1) (ns1 - a0.2.2.1) Q (F0 m (pc + 3) ls ((val r).toList ++ rest))) : W p l e R s m args below meth c H locs (nx - a0.2.1) (ns - a0.2.2.1) Q (F0 m pc ls stk) := by
  obtain ⟨ρ, a1, ho, hk, hx⟩ := ba_e hf
  subst hstk
  exact fa_run hZ (gx_runS X.1 (hct ρ a1 ho) (va_cwS n X.1.2.2.2.2 hG rfl rfl rfl hM.2 hR) ⟨fo_blind (E := eW E tg nx), fo_pre (fo_Xw X) hZ.1 _⟩ rfl hn hsz rfl (lv_room hroom) hdg hZ.lims) (fun n EE H1 locs1 h1 h2 h3 h4 => kx n EE _ _ _ _ H1 locs1 h2 h3 h4 (hx n h1)) (fun r H1 locs1 h1 h2 h3 => kk r _ _ _ _ H1 locs1 h2 h3 (hk r h1))
theorem fa_I (X : fo_X E p m c cc nL s args own meth) (hZ : fo_Z E R s cN cS a0 tg nx ns st H locs) (hM : fo_M y n) (hcode : Cond.code y bytes maxL none ∈ lw_all) (hini : Cond.initialized y.cls ∈ lw_all) (hlink : Cond.methodLink own index y ∈ lw_all) (hinst : Cond.instanceMethod y ∈ lw_all) (hy1 : y.name = "<init>") (hR : fr + 1 ≤ R.frames ∧ 8 + (maxL + 11) + lo ≤ R.locals) {n0 : Nat} {As : List Value} (hn : As.length = n) (hstk : stk = As.reverse ++ .ref (eb E + n0) :: rest) (hsz : ls.size = nL) (hroom : (rest.map fun v => v.category).sum ≤ 8) (hdg : decode cc pc = .ok (.invokespecial index, 3)) {o : Option ((β ⊕ Nat) × fo_A)} {kf : β → (Nat → Nat × Nat) → Nat → Nat → fo_St → Option α} {hh : Nat → (Nat → Nat × Nat) → Nat → Nat → fo_St → Option α} (hct : ∀ (ρ : β ⊕ Nat) (a1 : fo_A), o = some (ρ, a1) → CA val l E y (ws_ y bytes maxL none) fr lo cN cS (.ref (eb E + n0) :: As) (tg, nx, ns, st) ρ a1) (hf : ba_ o kf hh = some y0)
    (kx : ∀ (n : Nat) (EE : String) (tg1 : Nat → Nat × Nat) (nx1 ns1 : Nat) (st1 : fo_St) (H1 : Heap) (locs1 : List Loc), fo_TX (eW E tg1 nx1) n EE → fo_x tg nx tg1 nx1 → fo_Z E R s cN cS a0 tg1 nx1 ns1 st1 H1 locs1 → hh n tg1 nx1 ns1 st1 = some y0 → fx_W p l e R s m args below meth c H1 locs1 (nx1 - a0.2.1) (ns1 - a0.2.2.1) Q (F0 m pc ls rest) (eb E + n))
    (kk : ∀ (r : β) (tg1 : Nat → Nat × Nat) (nx1 ns1 : Nat) (st1 : fo_St) (H1 : Heap) (locs1 : List Loc), fo_x tg nx tg1 nx1 → fo_Z E R s cN cS a0 tg1 nx1 ns1 st1 H1 locs1 → kf r tg1 nx1 ns1 st1 = some y0 → W p l e R s m args below meth c H1 locs1 (nx1 - a0.2.1) (ns1 - a0.2.2.1) Q (F0 m (pc + 3) ls ((val r).toList ++ rest))) : W p l e R s m args below meth c H locs (nx - a0.2.1) (ns - a0.2.2.1) Q (F0 m pc ls stk) := by
  obtain ⟨ρ, a1, ho, hk, hx⟩ := ba_e hf
  subst hstk
  exact fa_run hZ (gx_runI X.1 (hct ρ a1 ho) (cwI n X.1.2.2.2.2 (lw_meth hcode) rfl rfl rfl (X.1.2.2.2.2 _ hini) (X.1.2.2.2.2 _ hlink) (X.1.2.2.2.2 _ hinst) hy1 hM.2 hR) ⟨fo_blind (E := eW E tg nx), fo_pre (fo_Xw X) hZ.1 _⟩ rfl hn hsz rfl (lv_room hroom) hdg hZ.lims) (fun n EE H1 locs1 h1 h2 h3 h4 => kx n EE _ _ _ _ H1 locs1 h2 h3 h4 (hx n h1)) (fun r H1 locs1 h1 h2 h3 => kk r _ _ _ _ H1 locs1 h2 h3 (hk r h1))
theorem fa_U (X : fo_X E p m c cc nL s args own meth) (hZ : fo_Z E R s cN cS a0 tg nx ns st H locs) {owner : String} {x : MethodName} {ci n0 : Nat} {q : vw_C} {ty : Nat → FieldType} (hG : GoodIn lw_all (va_wsU own index q.1 owner x y (ws_ y bytes maxL ret))) (hz : Cond.declares ⟨owner, x.name, x.desc⟩ ∈ fo_nest) (hd : owner ≠ "java/lang/invoke/MethodHandle" ∧ owner ≠ "java/lang/invoke/VarHandle" ∧ (parseMethodDescriptor x.desc).map (fun d => d.parameters.length) = some n) (hR : fr + 1 ≤ R.frames ∧ 8 + (maxL + 11) + lo ≤ R.locals) (hc : fo_C ci q ty) (ht : tg n0 = (1, ci)) {As : List Value} (hn : As.length = n) (hstk : stk = As.reverse ++ .ref (eb E + n0) :: rest) (hsz : ls.size = nL) (hroom : (rest.map fun v => v.category).sum ≤ 8) (hdg : decode cc pc = .ok (.invokevirtual index, 3)) {o : Option ((β ⊕ Nat) × fo_A)} {kf : β → (Nat → Nat × Nat) → Nat → Nat → fo_St → Option α} {hh : Nat → (Nat → Nat × Nat) → Nat → Nat → fo_St → Option α} (hct : ∀ (ρ : β ⊕ Nat) (a1 : fo_A), o = some (ρ, a1) → CA val l E y (ws_ y bytes maxL ret) fr lo cN cS (.ref (eb E + n0) :: As) (tg, nx, ns, st) ρ a1) (hf : ba_ o kf hh = some y0)
    (kx : ∀ (n : Nat) (EE : String) (tg1 : Nat → Nat × Nat) (nx1 ns1 : Nat) (st1 : fo_St) (H1 : Heap) (locs1 : List Loc), fo_TX (eW E tg1 nx1) n EE → fo_x tg nx tg1 nx1 → fo_Z E R s cN cS a0 tg1 nx1 ns1 st1 H1 locs1 → hh n tg1 nx1 ns1 st1 = some y0 → fx_W p l e R s m args below meth c H1 locs1 (nx1 - a0.2.1) (ns1 - a0.2.2.1) Q (F0 m pc ls rest) (eb E + n))
    (kk : ∀ (r : β) (tg1 : Nat → Nat × Nat) (nx1 ns1 : Nat) (st1 : fo_St) (H1 : Heap) (locs1 : List Loc), fo_x tg nx tg1 nx1 → fo_Z E R s cN cS a0 tg1 nx1 ns1 st1 H1 locs1 → kf r tg1 nx1 ns1 st1 = some y0 → W p l e R s m args below meth c H1 locs1 (nx1 - a0.2.1) (ns1 - a0.2.2.1) Q (F0 m (pc + 3) ls ((val r).toList ++ rest))) : W p l e R s m args below meth c H locs (nx - a0.2.1) (ns - a0.2.2.1) Q (F0 m pc ls stk) := by
  obtain ⟨ρ, a1, ho, hk, hx⟩ := ba_e hf
  subst hstk
  exact fa_run hZ (gx_runU X.1 (hct ρ a1 ho) (va_cwA n X.1.2.2.2.2 hG rfl rfl rfl (X.2.1.2.1 _ hz) hd hR) ⟨fo_blind (E := eW E tg nx), fo_rcv (fo_Xw X) hZ.1 hc ht, fo_pre (fo_Xw X) hZ.1 _⟩ rfl hn hsz rfl (lv_room hroom) hdg hZ.lims) (fun n EE H1 locs1 h1 h2 h3 h4 => kx n EE _ _ _ _ H1 locs1 h2 h3 h4 (hx n h1)) (fun r H1 locs1 h1 h2 h3 => kk r _ _ _ _ H1 locs1 h2 h3 (hk r h1))
end FA2
/-- ends, for any goal behind -/
def fo_AE {β : Type} (p : Program) (l : Launch) (e : Env) (R : Room) (s : State) (m : MethodId) (args : Array Value) (below : List Frame) (meth : Method) (c : Code) (Q : State → Prop) (val : β → Option Value) (ok : β → FieldType → Prop) (ret : Option FieldType) (cc : ByteArray) (ins : Instr) (E : fo_E) (cN cS : Nat) (a : fo_A) (ρ : β ⊕ Nat) (a' : fo_A) : Prop := ∀ (H : Heap) (locs : List Loc) (ls : Array Slot) (pc : Nat) (r : β), ρ = .inl r → (∀ t, ret = some t → ok r t) → fo_Z E R s cN cS a a'.1 a'.2.1 a'.2.2.1 a'.2.2.2 H locs → decode cc pc = .ok (ins, 1) → W p l e R s m args below meth c H locs (a'.2.1 - a.2.1) (a'.2.2.1 - a.2.2.1) Q (F0 m pc ls (val r).toList)
def fo_AX {β : Type} (p : Program) (l : Launch) (e : Env) (R : Room) (s : State) (m : MethodId) (args : Array Value) (below : List Frame) (meth : Method) (c : Code) (Q : State → Prop) (E : fo_E) (cN cS : Nat) (a : fo_A) (ρ : β ⊕ Nat) (a' : fo_A) : Prop := ∀ (H : Heap) (locs : List Loc) (ls : Array Slot) (pc : Nat) (rest : List Value) (n : Nat) (EE : String), ρ = .inr n → fo_TX (eW E a'.1 a'.2.1) n EE → fo_Z E R s cN cS a a'.1 a'.2.1 a'.2.2.1 a'.2.2.2 H locs → fx_W p l e R s m args below meth c H locs (a'.2.1 - a.2.1) (a'.2.2.1 - a.2.2.1) Q (F0 m pc ls rest) (eb E + n)
/-- a method that makes cells and throws or returns: its entry -/
theorem fa_ent {β : Type} {val : β → Option Value} {l : Launch} {E : fo_E} {y : MethodName} {cc : ByteArray} {maxL n fr lo cN cS : Nat} {ret : Option FieldType} {av : List Value} {a a' : fo_A} {ρ : β ⊕ Nat} (hM : fo_M y n) (hn : (lg_sl av).length ≤ maxL) (hI : fo_I E a.1 a.2.1) (hcN : a.2.1 ≤ cN) (hcS : a.2.2.1 ≤ cS)
    (body : ∀ (p : Program) (e : Env) (R : Room) (s : State) (m : MethodId) (args : Array Value) (below : List Frame) (meth : Method) (c : Code), R = fo_rA fr lo cN cS a → args = av.toArray → fo_X E p m c cc maxL s args y.cls meth → meth.name = y.name → meth.sig.returnType = ret → fo_AX p l e R s m args below meth c (fx_MQ below (fo_QA val E cN cS a a' ρ) (fo_XA E cN cS a a' ρ) args s (a'.2.1 - a.2.1) (a'.2.2.1 - a.2.2.1) (eF E)) E cN cS a ρ a' → ∀ ls : Array Slot, lv_has ls maxL (lv_args 0 av) → fo_Z E R s cN cS a a.1 a.2.1 a.2.2.1 a.2.2.2 s.heap [] → W p l e R s m args below meth c s.heap [] (a.2.1 - a.2.1) (a.2.2.1 - a.2.2.1) (fx_MQ below (fo_QA val E cN cS a a' ρ) (fo_XA E cN cS a a' ρ) args s (a'.2.1 - a.2.1) (a'.2.2.1 - a.2.2.1) (eF E)) (F0 m 0 ls [])) : CA val l E y (ws_ y cc maxL ret) fr lo cN cS av a ρ a' := by
  refine fx_ofW (cc := cc) (maxL := maxL) (ret := ret) hM.1 rfl ?_
  intro p e s m args below meth c s₁ B hml htab hv
  obtain ⟨rfl, hw, hK⟩ := hv
  have hts := atoms_spec (ws := ws_ y cc maxL ret) B.pre
  have hts : ∀ w ∈ lw_all, w.before _ s = true := fun w h => hts w (List.mem_cons_of_mem _ h)
  have hown : s.vm.findClass y.cls = some m.cls := findClass_of_methodNamed B.named
  have X : fo_X E p m c cc maxL s av.toArray y.cls meth := ⟨⟨B.exec, B.bytes, hml, hown, hts⟩, hK, B.notSynchronized⟩
  rw [lg_entry_eq]
  have h9 := body p e (headSpec (ws_ y cc maxL ret) (fo_rA fr lo cN cS a)).room s m av.toArray below meth c rfl rfl X (name_of_methodNamed B.named B.method).1 B.returns ?_ _ (lv_entry av hn) ⟨⟨hw, va_S.rf⟩, hI, fo_x.rf, rfl, rfl, Nat.le_refl _, hcN, Nat.le_refl _, hcS⟩
  · rw [Nat.sub_self, Nat.sub_self] at h9
    exact h9
  intro H locs ls pc rest q EE hρ hT hZ
  have hT0 := hT
  obtain ⟨ci, cq, h1, h2, h3⟩ := hT
  obtain ⟨r, r1, cell, q1, q2, q3, q4⟩ := fo_ob hZ.1 h1 0 _ rfl
  refine fx_out (fun x hx => (htab x hx).elim) B.notSynchronized q1 q3 (E := EE) ?_ ?_ hZ.1.2.2.2 (Nat.le_refl _) (Nat.le_refl _)
  · rw [q2, ← h3]
    exact (hK.1.1 ci cq h2).2.1
  · intro t ht hal
    exact ⟨⟨q, hρ, rfl, hT0, hZ.G, by rw [ht]; exact hZ.1.1⟩, hZ.1.2.F ht⟩
section FA3
variable {p : Program} {l : Launch} {e : Env} {R : Room} {s : State} {m : MethodId} {args : Array Value} {below : List Frame} {meth : Method} {c : Code} {H : Heap} {locs : List Loc} {cc : ByteArray} {nL pc : Nat} {ls : Array Slot} {own : String} {E : fo_E} {cN cS : Nat} {a a' : fo_A}
theorem fa_retv {ρ : Unit ⊕ Nat} (X : fo_X E p m c cc nL s args own meth) (hr : meth.sig.returnType = none) (hZ : fo_Z E R s cN cS a a'.1 a'.2.1 a'.2.2.1 a'.2.2.2 H locs) (hρ : ρ = .inl ()) (hd : decode cc pc = .ok (.return_, 1)) : W p l e R s m args below meth c H locs (a'.2.1 - a.2.1) (a'.2.2.1 - a.2.2.1) (fx_MQ below (fo_QA vlV E cN cS a a' ρ) (fo_XA E cN cS a a' ρ) args s (a'.2.1 - a.2.1) (a'.2.2.1 - a.2.2.1) (eF E)) (F0 m pc ls []) :=
  fx_ret (W.vret X.1.1 X.1.2.1 hr (fun t ht hW => ⟨⟨(), rfl, hρ, hZ.G, (by rw [ht]; exact hZ.1.1)⟩, hZ.1.2.F ht⟩) hZ.1.2.2.2 hd X.2.2)
theorem fa_reti {ρ : Int32 ⊕ Nat} {v : Int32} (X : fo_X E p m c cc nL s args own meth) (hr : meth.sig.returnType = some .int) (hZ : fo_Z E R s cN cS a a'.1 a'.2.1 a'.2.2.1 a'.2.2.2 H locs) (hρ : ρ = .inl v) (hd : decode cc pc = .ok (.ireturn, 1)) : W p l e R s m args below meth c H locs (a'.2.1 - a.2.1) (a'.2.2.1 - a.2.2.1) (fx_MQ below (fo_QA vlI E cN cS a a' ρ) (fo_XA E cN cS a a' ρ) args s (a'.2.1 - a.2.1) (a'.2.2.1 - a.2.2.1) (eF E)) (F0 m pc ls [.int v]) :=
  fx_ret (W.iret X.1.1 X.1.2.1 hr (fun t ht hW => ⟨⟨v, rfl, hρ, hZ.G, (by rw [ht]; exact hZ.1.1)⟩, hZ.1.2.F ht⟩) hZ.1.2.2.2 hd X.2.2)
theorem fa_retz {ρ : Int32 ⊕ Nat} {v : Int32} (X : fo_X E p m c cc nL s args own meth) (hr : meth.sig.returnType = some .boolean) (hz : narrow .boolean (.int v) = .int v) (hZ : fo_Z E R s cN cS a a'.1 a'.2.1 a'.2.2.1 a'.2.2.2 H locs) (hρ : ρ = .inl v) (hd : decode cc pc = .ok (.ireturn, 1)) : W p l e R s m args below meth c H locs (a'.2.1 - a.2.1) (a'.2.2.1 - a.2.2.1) (fx_MQ below (fo_QA vlI E cN cS a a' ρ) (fo_XA E cN cS a a' ρ) args s (a'.2.1 - a.2.1) (a'.2.2.1 - a.2.2.1) (eF E)) (F0 m pc ls [.int v]) :=
  fx_ret (W.zret X.1.1 X.1.2.1 hr hz (fun t ht hW => ⟨⟨v, rfl, hρ, hZ.G, (by rw [ht]; exact hZ.1.1)⟩, hZ.1.2.F ht⟩) hZ.1.2.2.2 hd X.2.2)
theorem fa_retr {ρ : Nat ⊕ Nat} {v : Nat} {rt : FieldType} (X : fo_X E p m c cc nL s args own meth) (hr : meth.sig.returnType = some rt) (hrt : (∃ n, rt = .object n) ∨ ∃ t, rt = .array t) (hZ : fo_Z E R s cN cS a a'.1 a'.2.1 a'.2.2.1 a'.2.2.2 H locs) (hρ : ρ = .inl v) (hd : decode cc pc = .ok (.areturn, 1)) : W p l e R s m args below meth c H locs (a'.2.1 - a.2.1) (a'.2.2.1 - a.2.2.1) (fx_MQ below (fo_QA (vlR (eb E)) E cN cS a a' ρ) (fo_XA E cN cS a a' ρ) args s (a'.2.1 - a.2.1) (a'.2.2.1 - a.2.2.1) (eF E)) (F0 m pc ls [.ref (eb E + v)]) :=
  fx_ret (W.aret X.1.1 X.1.2.1 hr hrt (Or.inr ⟨_, rfl⟩) (fun t ht hW => ⟨⟨v, rfl, hρ, hZ.G, (by rw [ht]; exact hZ.1.1)⟩, hZ.1.2.F ht⟩) hZ.1.2.2.2 hd X.2.2)
end FA3
/-- the generic ends, by the answer's kind -/
def fo_Av (p : Program) (l : Launch) (e : Env) (R : Room) (s : State) (m : MethodId) (args : Array Value) (below : List Frame) (meth : Method) (c : Code) (cc : ByteArray) (Q : State → Prop) (E : fo_E) (cN cS : Nat) (a : fo_A) (ρ : Unit ⊕ Nat) (a' : fo_A) : Prop := ∀ (H : Heap) (locs : List Loc) (ls : Array Slot) (pc : Nat), ρ = .inl () → fo_Z E R s cN cS a a'.1 a'.2.1 a'.2.2.1 a'.2.2.2 H locs → decode cc pc = .ok (.return_, 1) → W p l e R s m args below meth c H locs (a'.2.1 - a.2.1) (a'.2.2.1 - a.2.2.1) Q (F0 m pc ls [])
def fo_Ai (p : Program) (l : Launch) (e : Env) (R : Room) (s : State) (m : MethodId) (args : Array Value) (below : List Frame) (meth : Method) (c : Code) (cc : ByteArray) (Q : State → Prop) (E : fo_E) (cN cS : Nat) (a : fo_A) (ρ : Int32 ⊕ Nat) (a' : fo_A) : Prop := ∀ (H : Heap) (locs : List Loc) (ls : Array Slot) (pc : Nat) (v : Int32), ρ = .inl v → fo_Z E R s cN cS a a'.1 a'.2.1 a'.2.2.1 a'.2.2.2 H locs → decode cc pc = .ok (.ireturn, 1) → W p l e R s m args below meth c H locs (a'.2.1 - a.2.1) (a'.2.2.1 - a.2.2.1) Q (F0 m pc ls [.int v])
def fo_Az (p : Program) (l : Launch) (e : Env) (R : Room) (s : State) (m : MethodId) (args : Array Value) (below : List Frame) (meth : Method) (c : Code) (cc : ByteArray) (Q : State → Prop) (E : fo_E) (cN cS : Nat) (a : fo_A) (ρ : Int32 ⊕ Nat) (a' : fo_A) : Prop := ∀ (H : Heap) (locs : List Loc) (ls : Array Slot) (pc : Nat) (v : Int32), ρ = .inl v → narrow .boolean (.int v) = .int v → fo_Z E R s cN cS a a'.1 a'.2.1 a'.2.2.1 a'.2.2.2 H locs → decode cc pc = .ok (.ireturn, 1) → W p l e R s m args below meth c H locs (a'.2.1 - a.2.1) (a'.2.2.1 - a.2.2.1) Q (F0 m pc ls [.int v])
def fo_Ar (p : Program) (l : Launch) (e : Env) (R : Room) (s : State) (m : MethodId) (args : Array Value) (below : List Frame) (meth : Method) (c : Code) (cc : ByteArray) (Q : State → Prop) (E : fo_E) (cN cS : Nat) (a : fo_A) (ρ : Nat ⊕ Nat) (a' : fo_A) : Prop := ∀ (H : Heap) (locs : List Loc) (ls : Array Slot) (pc : Nat) (v : Nat), ρ = .inl v → fo_Z E R s cN cS a a'.1 a'.2.1 a'.2.2.1 a'.2.2.2 H locs → decode cc pc = .ok (.areturn, 1) → W p l e R s m args below meth c H locs (a'.2.1 - a.2.1) (a'.2.2.1 - a.2.2.1) Q (F0 m pc ls [.ref (eb E + v)])
section FA4
variable {l : Launch} {E : fo_E} {y : MethodName} {cc : ByteArray} {maxL n fr lo cN cS : Nat} {av : List Value} {a a' : fo_A}
theorem fea_v {ρ : Unit ⊕ Nat} (hM : fo_M y n) (hn : (lg_sl av).length ≤ maxL) (hI : fo_I E a.1 a.2.1) (hcN : a.2.1 ≤ cN) (hcS : a.2.2.1 ≤ cS) (body : ∀ (p : Program) (e : Env) (R : Room) (s : State) (m : MethodId) (args : Array Value) (below : List Frame) (meth : Method) (c : Code) (Q : State → Prop), R.frames = fr → R.locals = lo → fo_X E p m c cc maxL s args y.cls meth → meth.name = y.name → fo_Av p l e R s m args below meth c cc Q E cN cS a ρ a' → fo_AX p l e R s m args below meth c Q E cN cS a ρ a' → ∀ ls : Array Slot, lv_has ls maxL (lv_args 0 av) → fo_Z E R s cN cS a a.1 a.2.1 a.2.2.1 a.2.2.2 s.heap [] → W p l e R s m args below meth c s.heap [] (a.2.1 - a.2.1) (a.2.2.1 - a.2.2.1) Q (F0 m 0 ls [])) : CA vlV l E y (ws_ y cc maxL none) fr lo cN cS av a ρ a' :=
  fa_ent hM hn hI hcN hcS (fun p e R s m args below meth c hR hargs X hnm hr hx ls hl hZ => body p e R s m args below meth c _ (by rw [hR]; rfl) (by rw [hR]; rfl) X hnm (fun H locs ls pc hρ hZ hd => fa_retv X hr hZ hρ hd) hx ls hl hZ)
theorem fea_i {ρ : Int32 ⊕ Nat} (hM : fo_M y n) (hn : (lg_sl av).length ≤ maxL) (hI : fo_I E a.1 a.2.1) (hcN : a.2.1 ≤ cN) (hcS : a.2.2.1 ≤ cS) (body : ∀ (p : Program) (e : Env) (R : Room) (s : State) (m : MethodId) (args : Array Value) (below : List Frame) (meth : Method) (c : Code) (Q : State → Prop), R.frames = fr → R.locals = lo → fo_X E p m c cc maxL s args y.cls meth → meth.name = y.name → fo_Ai p l e R s m args below meth c cc Q E cN cS a ρ a' → fo_AX p l e R s m args below meth c Q E cN cS a ρ a' → ∀ ls : Array Slot, lv_has ls maxL (lv_args 0 av) → fo_Z E R s cN cS a a.1 a.2.1 a.2.2.1 a.2.2.2 s.heap [] → W p l e R s m args below meth c s.heap [] (a.2.1 - a.2.1) (a.2.2.1 - a.2.2.1) Q (F0 m 0 ls [])) : CA vlI l E y (ws_ y cc maxL (some .int)) fr lo cN cS av a ρ a' :=
  fa_ent hM hn hI hcN hcS (fun p e R s m args below meth c hR hargs X hnm hr hx ls hl hZ => body p e R s m args below meth c _ (by rw [hR]; rfl) (by rw [hR]; rfl) X hnm (fun H locs ls pc v hρ hZ hd => fa_reti X hr hZ hρ hd) hx ls hl hZ)
theorem fea_z {ρ : Int32 ⊕ Nat} (hM : fo_M y n) (hn : (lg_sl av).length ≤ maxL) (hI : fo_I E a.1 a.2.1) (hcN : a.2.1 ≤ cN) (hcS : a.2.2.1 ≤ cS) (body : ∀ (p : Program) (e : Env) (R : Room) (s : State) (m : MethodId) (args : Array Value) (below : List Frame) (meth : Method) (c : Code) (Q : State → Prop), R.frames = fr → R.locals = lo → fo_X E p m c cc maxL s args y.cls meth → meth.name = y.name → fo_Az p l e R s m args below meth c cc Q E cN cS a ρ a' → fo_AX p l e R s m args below meth c Q E cN cS a ρ a' → ∀ ls : Array Slot, lv_has ls maxL (lv_args 0 av) → fo_Z E R s cN cS a a.1 a.2.1 a.2.2.1 a.2.2.2 s.heap [] → W p l e R s m args below meth c s.heap [] (a.2.1 - a.2.1) (a.2.2.1 - a.2.2.1) Q (F0 m 0 ls [])) : CA vlI l E y (ws_ y cc maxL (some .boolean)) fr lo cN cS av a ρ a' :=
  fa_ent hM hn hI hcN hcS (fun p e R s m args below meth c hR hargs X hnm hr hx ls hl hZ => body p e R s m args below meth c _ (by rw [hR]; rfl) (by rw [hR]; rfl) X hnm (fun H locs ls pc v hρ hz hZ hd => fa_retz X hr hz hZ hρ hd) hx ls hl hZ)
theorem fea_r {rt : FieldType} (hrt : (∃ n, rt = .object n) ∨ ∃ t, rt = .array t) {ρ : Nat ⊕ Nat} (hM : fo_M y n) (hn : (lg_sl av).length ≤ maxL) (hI : fo_I E a.1 a.2.1) (hcN : a.2.1 ≤ cN) (hcS : a.2.2.1 ≤ cS) (body : ∀ (p : Program) (e : Env) (R : Room) (s : State) (m : MethodId) (args : Array Value) (below : List Frame) (meth : Method) (c : Code) (Q : State → Prop), R.frames = fr → R.locals = lo → fo_X E p m c cc maxL s args y.cls meth → meth.name = y.name → fo_Ar p l e R s m args below meth c cc Q E cN cS a ρ a' → fo_AX p l e R s m args below meth c Q E cN cS a ρ a' → ∀ ls : Array Slot, lv_has ls maxL (lv_args 0 av) → fo_Z E R s cN cS a a.1 a.2.1 a.2.2.1 a.2.2.2 s.heap [] → W p l e R s m args below meth c s.heap [] (a.2.1 - a.2.1) (a.2.2.1 - a.2.2.1) Q (F0 m 0 ls [])) : CA (vlR (eb E)) l E y (ws_ y cc maxL (some rt)) fr lo cN cS av a ρ a' :=
  fa_ent hM hn hI hcN hcS (fun p e R s m args below meth c hR hargs X hnm hr hx ls hl hZ => body p e R s m args below meth c _ (by rw [hR]; rfl) (by rw [hR]; rfl) X hnm (fun H locs ls pc v hρ hZ hd => fa_retr X hr hrt hZ hρ hd) hx ls hl hZ)
end FA4
section FA5
variable {p : Program} {l : Launch} {e : Env} {R : Room} {s : State} {m : MethodId} {args : Array Value} {below : List Frame} {meth : Method} {c : Code} {H : Heap} {locs : List Loc} {Q : State → Prop} {cc : ByteArray} {pc : Nat} {ls : Array Slot} {rest : List Value} {E : fo_E} {cN cS nx ns : Nat} {tg : Nat → Nat × Nat} {st : fo_St} {a a' : fo_A}
theorem fda_v {ρ : Unit ⊕ Nat} (h : fo_Av p l e R s m args below meth c cc Q E cN cS a ρ a') (hZ : fo_Z E R s cN cS a tg nx ns st H locs) (hf : some ((.inl () : Unit ⊕ Nat), ((tg, nx, ns, st) : fo_A)) = some (ρ, a')) (hd : decode cc pc = .ok (.return_, 1)) : W p l e R s m args below meth c H locs (nx - a.2.1) (ns - a.2.2.1) Q (F0 m pc ls []) := by
  cases hf; exact h H locs ls pc rfl hZ hd
theorem fda_i {ρ : Int32 ⊕ Nat} {v : Int32} (h : fo_Ai p l e R s m args below meth c cc Q E cN cS a ρ a') (hZ : fo_Z E R s cN cS a tg nx ns st H locs) (hf : some ((.inl v : Int32 ⊕ Nat), ((tg, nx, ns, st) : fo_A)) = some (ρ, a')) (hd : decode cc pc = .ok (.ireturn, 1)) : W p l e R s m args below meth c H locs (nx - a.2.1) (ns - a.2.2.1) Q (F0 m pc ls [.int v]) := by
  cases hf; exact h H locs ls pc v rfl hZ hd
theorem fda_z {ρ : Int32 ⊕ Nat} {v : Int32} (h : fo_Az p l e R s m args below meth c cc Q E cN cS a ρ a') (hz : narrow .boolean (.int v) = .int v) (hZ : fo_Z E R s cN cS a tg nx ns st H locs) (hf : some ((.inl v : Int32 ⊕ Nat), ((tg, nx, ns, st) : fo_A)) = some (ρ, a')) (hd : decode cc pc = .ok (.ireturn, 1)) : W p l e R s m args below meth c H locs (nx - a.2.1) (ns - a.2.2.1) Q (F0 m pc ls [.int v]) := by
  cases hf; exact h H locs ls pc v rfl hz hZ hd
theorem fda_r {ρ : Nat ⊕ Nat} {v : Nat} (h : fo_Ar p l e R s m args below meth c cc Q E cN cS a ρ a') (hZ : fo_Z E R s cN cS a tg nx ns st H locs) (hf : some ((.inl v : Nat ⊕ Nat), ((tg, nx, ns, st) : fo_A)) = some (ρ, a')) (hd : decode cc pc = .ok (.areturn, 1)) : W p l e R s m args below meth c H locs (nx - a.2.1) (ns - a.2.2.1) Q (F0 m pc ls [.ref (eb E + v)]) := by
  cases hf; exact h H locs ls pc v rfl hZ hd
theorem fda_x {β : Type} {n : Nat} {EE : String} {ρ : β ⊕ Nat} (h : fo_AX p l e R s m args below meth c Q E cN cS a ρ a') (hT : fo_TX (eW E tg nx) n EE) (hZ : fo_Z E R s cN cS a tg nx ns st H locs) (hf : some ((.inr n : β ⊕ Nat), ((tg, nx, ns, st) : fo_A)) = some (ρ, a')) : fx_W p l e R s m args below meth c H locs (nx - a.2.1) (ns - a.2.2.1) Q (F0 m pc ls rest) (eb E + n) := by
  cases hf; exact h H locs ls pc rest n EE rfl hT hZ
end FA5
section FA6
variable {p : Program} {l : Launch} {e : Env} {R : Room} {s : State} {m : MethodId} {args : Array Value} {below : List Frame} {meth : Method} {c : Code} {H : Heap} {locs : List Loc} {cells slots : Nat} {Q : State → Prop}
variable {cc : ByteArray} {nL pc : Nat} {ls : Array Slot} {rest stk : List Value} {own : String} {E : fo_E} {st : fo_St} {α : Type} {y0 : α}
variable {y : MethodName} {bytes : ByteArray} {maxL n index : Nat} {ret : Option FieldType} {rm : Room}
theorem fcA_Vi (X : fo_X E p m c cc nL s args own meth) (hw : fo_S E s st H locs) (hlim : cells + 0 ≤ R.cells ∧ slots + 0 ≤ R.slots) (hM : fo_M y n) (hG : GoodIn lw_all (wsV own index y.cls y (ws_ y bytes maxL ret))) (hrm : rm.cells = 0 ∧ rm.slots = 0) (hR : rm.frames + 1 ≤ R.frames ∧ 8 + (maxL + 11) + rm.locals ≤ R.locals) {n0 ci : Nat} {q : vw_C} {ty : Nat → FieldType} (hc : fo_C ci q ty) (hq : q.1 = y.cls) (ht : et E n0 = (1, ci)) {As : List Value} (hn : As.length = n) (hstk : stk = As.reverse ++ .ref (eb E + n0) :: rest) (hsz : ls.size = nL) (hroom : (rest.map fun v => v.category).sum ≤ 8) (hdg : decode cc pc = .ok (.invokevirtual index, 3)) {o : Option (Int32 × fo_St)} {kf : Int32 → fo_St → Option α} (hct : ∀ (r : Int32) (st1 : fo_St), o = some (r, st1) → CTi l E y (ws_ y bytes maxL ret) rm (.ref (eb E + n0) :: As) st r st1) (hf : bd_ o kf = some y0)
    (kk : ∀ (r : Int32) (st1 : fo_St) (H1 : Heap) (locs1 : List Loc), fo_S E s st1 H1 locs1 → kf r st1 = some y0 → W p l e R s m args below meth c H1 locs1 cells slots Q (F0 m (pc + 3) ls (.int r :: rest))) : W p l e R s m args below meth c H locs cells slots Q (F0 m pc ls stk) := by
  obtain ⟨r1, st1, ho, hf⟩ := bd_e hf
  subst hstk
  refine va_calli (va_runV X.1 (hct r1 st1 ho) (cwV n X.1.2.2.2.2 hG rfl hrm.1 hrm.2 ⟨rfl, hM.2⟩ hR) ⟨fo_blind, by rw [← hq]; exact fo_rcv X hw hc ht, fo_pre X hw _⟩ rfl hn hsz rfl (lv_room hroom) hdg hlim) hw.2 (fun q _ h => h) (fun q h => h) (fun r u t H1 locs1 ht _ hr hB _ _ hS => ?_)
  subst hr
  exact kk r st1 H1 locs1 (fo_back hw.2 ht hB hS) hf
theorem fcA_Vl (X : fo_X E p m c cc nL s args own meth) (hw : fo_S E s st H locs) (hlim : cells + 0 ≤ R.cells ∧ slots + 0 ≤ R.slots) (hM : fo_M y n) (hG : GoodIn lw_all (wsV own index y.cls y (ws_ y bytes maxL ret))) (hrm : rm.cells = 0 ∧ rm.slots = 0) (hR : rm.frames + 1 ≤ R.frames ∧ 8 + (maxL + 11) + rm.locals ≤ R.locals) {n0 ci : Nat} {q : vw_C} {ty : Nat → FieldType} (hc : fo_C ci q ty) (hq : q.1 = y.cls) (ht : et E n0 = (1, ci)) {As : List Value} (hn : As.length = n) (hstk : stk = As.reverse ++ .ref (eb E + n0) :: rest) (hsz : ls.size = nL) (hroom : (rest.map fun v => v.category).sum ≤ 8) (hdg : decode cc pc = .ok (.invokevirtual index, 3)) {o : Option (Int64 × fo_St)} {kf : Int64 → fo_St → Option α} (hct : ∀ (r : Int64) (st1 : fo_St), o = some (r, st1) → CTl l E y (ws_ y bytes maxL ret) rm (.ref (eb E + n0) :: As) st r st1) (hf : bd_ o kf = some y0)
    (kk : ∀ (r : Int64) (st1 : fo_St) (H1 : Heap) (locs1 : List Loc), fo_S E s st1 H1 locs1 → kf r st1 = some y0 → W p l e R s m args below meth c H1 locs1 cells slots Q (F0 m (pc + 3) ls (.long r :: rest))) : W p l e R s m args below meth c H locs cells slots Q (F0 m pc ls stk) := by
  obtain ⟨r1, st1, ho, hf⟩ := bd_e hf
  subst hstk
  refine va_calll (va_runV X.1 (hct r1 st1 ho) (cwV n X.1.2.2.2.2 hG rfl hrm.1 hrm.2 ⟨rfl, hM.2⟩ hR) ⟨fo_blind, by rw [← hq]; exact fo_rcv X hw hc ht, fo_pre X hw _⟩ rfl hn hsz rfl (lv_room hroom) hdg hlim) hw.2 (fun q _ h => h) (fun q h => h) (fun r u t H1 locs1 ht _ hr hB _ _ hS => ?_)
  subst hr
  exact kk r st1 H1 locs1 (fo_back hw.2 ht hB hS) hf
theorem fcA_Vr (X : fo_X E p m c cc nL s args own meth) (hw : fo_S E s st H locs) (hlim : cells + 0 ≤ R.cells ∧ slots + 0 ≤ R.slots) (hM : fo_M y n) (hG : GoodIn lw_all (wsV own index y.cls y (ws_ y bytes maxL ret))) (hrm : rm.cells = 0 ∧ rm.slots = 0) (hR : rm.frames + 1 ≤ R.frames ∧ 8 + (maxL + 11) + rm.locals ≤ R.locals) {n0 ci : Nat} {q : vw_C} {ty : Nat → FieldType} (hc : fo_C ci q ty) (hq : q.1 = y.cls) (ht : et E n0 = (1, ci)) {As : List Value} (hn : As.length = n) (hstk : stk = As.reverse ++ .ref (eb E + n0) :: rest) (hsz : ls.size = nL) (hroom : (rest.map fun v => v.category).sum ≤ 8) (hdg : decode cc pc = .ok (.invokevirtual index, 3)) {o : Option (Nat × fo_St)} {kf : Nat → fo_St → Option α} (hct : ∀ (r : Nat) (st1 : fo_St), o = some (r, st1) → CTr l E y (ws_ y bytes maxL ret) rm (.ref (eb E + n0) :: As) st r st1) (hf : bd_ o kf = some y0)
    (kk : ∀ (r : Nat) (st1 : fo_St) (H1 : Heap) (locs1 : List Loc), fo_S E s st1 H1 locs1 → kf r st1 = some y0 → W p l e R s m args below meth c H1 locs1 cells slots Q (F0 m (pc + 3) ls (.ref (eb E + r) :: rest))) : W p l e R s m args below meth c H locs cells slots Q (F0 m pc ls stk) := by
  obtain ⟨r1, st1, ho, hf⟩ := bd_e hf
  subst hstk
  refine va_callr (va_runV X.1 (hct r1 st1 ho) (cwV n X.1.2.2.2.2 hG rfl hrm.1 hrm.2 ⟨rfl, hM.2⟩ hR) ⟨fo_blind, by rw [← hq]; exact fo_rcv X hw hc ht, fo_pre X hw _⟩ rfl hn hsz rfl (lv_room hroom) hdg hlim) hw.2 (fun q _ h => h) (fun q h => h) (fun u a t H1 locs1 ht _ _ hB _ _ hS => ?_)
  obtain ⟨rfl, hB⟩ := hB
  exact kk r1 st1 H1 locs1 (fo_back hw.2 ht hB hS) hf
theorem fcA_Vv (X : fo_X E p m c cc nL s args own meth) (hw : fo_S E s st H locs) (hlim : cells + 0 ≤ R.cells ∧ slots + 0 ≤ R.slots) (hM : fo_M y n) (hG : GoodIn lw_all (wsV own index y.cls y (ws_ y bytes maxL ret))) (hrm : rm.cells = 0 ∧ rm.slots = 0) (hR : rm.frames + 1 ≤ R.frames ∧ 8 + (maxL + 11) + rm.locals ≤ R.locals) {n0 ci : Nat} {q : vw_C} {ty : Nat → FieldType} (hc : fo_C ci q ty) (hq : q.1 = y.cls) (ht : et E n0 = (1, ci)) {As : List Value} (hn : As.length = n) (hstk : stk = As.reverse ++ .ref (eb E + n0) :: rest) (hsz : ls.size = nL) (hroom : (rest.map fun v => v.category).sum ≤ 8) (hdg : decode cc pc = .ok (.invokevirtual index, 3)) {o : Option fo_St} {kf : fo_St → Option α} (hct : ∀ (st1 : fo_St), o = some st1 → CTv l E y (ws_ y bytes maxL ret) rm (.ref (eb E + n0) :: As) st st1) (hf : bv_ o kf = some y0)
    (kk : ∀ (st1 : fo_St) (H1 : Heap) (locs1 : List Loc), fo_S E s st1 H1 locs1 → kf st1 = some y0 → W p l e R s m args below meth c H1 locs1 cells slots Q (F0 m (pc + 3) ls rest)) : W p l e R s m args below meth c H locs cells slots Q (F0 m pc ls stk) := by
  obtain ⟨st1, ho, hf⟩ := bv_e hf
  subst hstk
  refine va_callv (va_runV X.1 (hct st1 ho) (cwV n X.1.2.2.2.2 hG rfl hrm.1 hrm.2 ⟨rfl, hM.2⟩ hR) ⟨fo_blind, by rw [← hq]; exact fo_rcv X hw hc ht, fo_pre X hw _⟩ rfl hn hsz rfl (lv_room hroom) hdg hlim) hw.2 (fun q _ h => h) (fun q h => h) (fun u t H1 locs1 ht _ _ hB _ _ hS => ?_)
  exact kk st1 H1 locs1 (fo_back hw.2 ht hB hS) hf
theorem fcA_Si (X : fo_X E p m c cc nL s args own meth) (hw : fo_S E s st H locs) (hlim : cells + 0 ≤ R.cells ∧ slots + 0 ≤ R.slots) (hM : fo_M y n) (hG : GoodIn lw_all (va_wsS own index y (ws_ y bytes maxL ret))) (hrm : rm.cells = 0 ∧ rm.slots = 0) (hR : rm.frames + 1 ≤ R.frames ∧ 8 + (maxL + 11) + rm.locals ≤ R.locals) {As : List Value} (hn : As.length = n) (hstk : stk = As.reverse ++ rest) (hsz : ls.size = nL) (hroom : (rest.map fun v => v.category).sum ≤ 8) (hdg : decode cc pc = .ok (.invokestatic index, 3)) {o : Option (Int32 × fo_St)} {kf : Int32 → fo_St → Option α} (hct : ∀ (r : Int32) (st1 : fo_St), o = some (r, st1) → CTi l E y (ws_ y bytes maxL ret) rm As st r st1) (hf : bd_ o kf = some y0)
    (kk : ∀ (r : Int32) (st1 : fo_St) (H1 : Heap) (locs1 : List Loc), fo_S E s st1 H1 locs1 → kf r st1 = some y0 → W p l e R s m args below meth c H1 locs1 cells slots Q (F0 m (pc + 3) ls (.int r :: rest))) : W p l e R s m args below meth c H locs cells slots Q (F0 m pc ls stk) := by
  obtain ⟨r1, st1, ho, hf⟩ := bd_e hf
  subst hstk
  refine va_calli (va_runS X.1 (hct r1 st1 ho) (va_cwS n X.1.2.2.2.2 hG rfl hrm.1 hrm.2 hM.2 hR) ⟨fo_blind, fo_pre X hw _⟩ rfl hn hsz rfl (lv_room hroom) hdg hlim) hw.2 (fun q _ h => h) (fun q h => h) (fun r u t H1 locs1 ht _ hr hB _ _ hS => ?_)
  subst hr
  exact kk r st1 H1 locs1 (fo_back hw.2 ht hB hS) hf
theorem fcA_Sl (X : fo_X E p m c cc nL s args own meth) (hw : fo_S E s st H locs) (hlim : cells + 0 ≤ R.cells ∧ slots + 0 ≤ R.slots) (hM : fo_M y n) (hG : GoodIn lw_all (va_wsS own index y (ws_ y bytes maxL ret))) (hrm : rm.cells = 0 ∧ rm.slots = 0) (hR : rm.frames + 1 ≤ R.frames ∧ 8 + (maxL + 11) + rm.locals ≤ R.locals) {As : List Value} (hn : As.length = n) (hstk : stk = As.reverse ++ rest) (hsz : ls.size = nL) (hroom : (rest.map fun v => v.category).sum ≤ 8) (hdg : decode cc pc = .ok (.invokestatic index, 3)) {o : Option (Int64 × fo_St)} {kf : Int64 → fo_St → Option α} (hct : ∀ (r : Int64) (st1 : fo_St), o = some (r, st1) → CTl l E y (ws_ y bytes maxL ret) rm As st r st1) (hf : bd_ o kf = some y0)
    (kk : ∀ (r : Int64) (st1 : fo_St) (H1 : Heap) (locs1 : List Loc), fo_S E s st1 H1 locs1 → kf r st1 = some y0 → W p l e R s m args below meth c H1 locs1 cells slots Q (F0 m (pc + 3) ls (.long r :: rest))) : W p l e R s m args below meth c H locs cells slots Q (F0 m pc ls stk) := by
  obtain ⟨r1, st1, ho, hf⟩ := bd_e hf
  subst hstk
  refine va_calll (va_runS X.1 (hct r1 st1 ho) (va_cwS n X.1.2.2.2.2 hG rfl hrm.1 hrm.2 hM.2 hR) ⟨fo_blind, fo_pre X hw _⟩ rfl hn hsz rfl (lv_room hroom) hdg hlim) hw.2 (fun q _ h => h) (fun q h => h) (fun r u t H1 locs1 ht _ hr hB _ _ hS => ?_)
  subst hr
  exact kk r st1 H1 locs1 (fo_back hw.2 ht hB hS) hf
theorem fcA_Sv (X : fo_X E p m c cc nL s args own meth) (hw : fo_S E s st H locs) (hlim : cells + 0 ≤ R.cells ∧ slots + 0 ≤ R.slots) (hM : fo_M y n) (hG : GoodIn lw_all (va_wsS own index y (ws_ y bytes maxL ret))) (hrm : rm.cells = 0 ∧ rm.slots = 0) (hR : rm.frames + 1 ≤ R.frames ∧ 8 + (maxL + 11) + rm.locals ≤ R.locals) {As : List Value} (hn : As.length = n) (hstk : stk = As.reverse ++ rest) (hsz : ls.size = nL) (hroom : (rest.map fun v => v.category).sum ≤ 8) (hdg : decode cc pc = .ok (.invokestatic index, 3)) {o : Option fo_St} {kf : fo_St → Option α} (hct : ∀ (st1 : fo_St), o = some st1 → CTv l E y (ws_ y bytes maxL ret) rm As st st1) (hf : bv_ o kf = some y0)
    (kk : ∀ (st1 : fo_St) (H1 : Heap) (locs1 : List Loc), fo_S E s st1 H1 locs1 → kf st1 = some y0 → W p l e R s m args below meth c H1 locs1 cells slots Q (F0 m (pc + 3) ls rest)) : W p l e R s m args below meth c H locs cells slots Q (F0 m pc ls stk) := by
  obtain ⟨st1, ho, hf⟩ := bv_e hf
  subst hstk
  refine va_callv (va_runS X.1 (hct st1 ho) (va_cwS n X.1.2.2.2.2 hG rfl hrm.1 hrm.2 hM.2 hR) ⟨fo_blind, fo_pre X hw _⟩ rfl hn hsz rfl (lv_room hroom) hdg hlim) hw.2 (fun q _ h => h) (fun q h => h) (fun u t H1 locs1 ht _ _ hB _ _ hS => ?_)
  exact kk st1 H1 locs1 (fo_back hw.2 ht hB hS) hf
end FA6
