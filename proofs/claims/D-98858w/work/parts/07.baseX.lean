def iushr_ (x z : Int32) : Int32 := (x.toUInt32 >>> (z.toUInt32 &&& Int32.toUInt32 31)).toInt32
def mxI_ (x z : Int32) : Int32 := if x < z then z else x
def mnI_ (x z : Int32) : Int32 := if z < x then z else x
def mxL_ (x z : Int64) : Int64 := if z < x then x else z
def mnL_ (x z : Int64) : Int64 := if z < x then z else x
/-! BASE 2: the component's fixed cells, tables by their number, copies of arrays, arrays of tables -/
set_option maxRecDepth 100000
def fo_HX (E : fo_E) : Prop := ∀ (n : Nat) (q : Nat × Nat), tX_l[n]? = some q → q.1 ≠ 0 → et E n = q
/-- a table's four cells -/
def fo_tabB (tg : Nat → Nat × Nat) (t : Nat) : Bool := decide (tg t = (1, 2)) && (decide (tg (t + 1) = (2, 16)) && (decide (tg (t + 2) = (2, 16)) && decide (tg (t + 3) = (2, 16))))
def fo_tab (E : fo_E) (t : Nat) : Prop := et E t = (1, 2) ∧ et E (t + 1) = (2, 16) ∧ et E (t + 2) = (2, 16) ∧ et E (t + 3) = (2, 16)
theorem fo_tab_of {E : fo_E} {t : Nat} (h : fo_tabB (et E) t = true) : fo_tab E t := by
  simp only [fo_tabB, Bool.and_eq_true, decide_eq_true_eq] at h
  exact h
/-- a reference that must be a table -/
def rt_ {α : Type} (tg : Nat → Nat × Nat) (o : Option Nat) (k : Nat → Option α) : Option α := match o with
  | none => none
  | some q => ck_ (fo_tabB tg q) (k q)
theorem rt_e {α : Type} {E : fo_E} {o : Option Nat} {k : Nat → Option α} {y : α} (h : rt_ (et E) o k = some y) : ∃ q, o = some q ∧ fo_tab E q ∧ k q = some y := by
  cases o with
  | none => cases h
  | some q => exact ⟨q, rfl, fo_tab_of (ck_e h).1, (ck_e h).2⟩
/-- a stretch of ints copied -/
def sc_ (st : fo_St) (src dst sp dp n : Nat) : fo_St := (fun a k => if a = dst ∧ dp ≤ k ∧ k < dp + n then st.1 src (sp + (k - dp)) else st.1 a k, st.2)
theorem gi_sc (st : fo_St) (src dst sp dp n a k : Nat) : gi_ (sc_ st src dst sp dp n) a k = if a = dst ∧ dp ≤ k ∧ k < dp + n then gi_ st src (sp + (k - dp)) else gi_ st a k := rfl
theorem gl_sc (st : fo_St) (src dst sp dp n a k : Nat) : gl_ (sc_ st src dst sp dp n) a k = gl_ st a k := rfl
theorem gr_sc (st : fo_St) (src dst sp dp n a k : Nat) : gr_ (sc_ st src dst sp dp n) a k = gr_ st a k := rfl
def fo_cpB (sp dp n : Int32) (L0 L1 : Nat) : Bool := decide (¬ sp < 0 ∧ ¬ dp < 0 ∧ ¬ n < 0 ∧ sp.toNatClampNeg + n.toNatClampNeg ≤ L0 ∧ dp.toNatClampNeg + n.toNatClampNeg ≤ L1)
section FX1
variable {p : Program} {l : Launch} {e : Env} {R : Room} {s : State} {m : MethodId} {args : Array Value} {below : List Frame} {meth : Method} {c : Code} {H : Heap} {locs : List Loc} {cells slots : Nat} {Q : State → Prop}
variable {cc : ByteArray} {nL pc : Nat} {ls : Array Slot} {rest : List Value} {own : String} {E : fo_E} {st : fo_St} {α : Type} {y : α}
theorem fo_copy (X : fo_X E p m c cc nL s args own meth) (hw : fo_S E s st H locs) {n0 n1 L0 L1 index : Nat} (ht0 : et E n0 = (2, L0)) (ht1 : et E n1 = (2, L1)) (hsz : ls.size = nL) (hlink : Cond.methodLink own index arraycopyName ∈ lw_all) (hnat : Cond.native arraycopyName ∈ lw_all) (hstat : Cond.static arraycopyName ∈ lw_all) (hini : Cond.initialized "java/lang/System" ∈ lw_all) {sp dp n : Int32} (hB : fo_cpB sp dp n L0 L1 = true) (hframes : 1 ≤ R.frames) (hlocals : (rest.map fun v => v.category).sum + 18 ≤ R.locals) (hdg : decode cc pc = .ok (.invokestatic index, 3)) {kf : fo_St → Option α} (hf : lt_ (sc_ st n0 n1 sp.toNatClampNeg dp.toNatClampNeg n.toNatClampNeg) kf = some y)
    (kk : ∀ (st1 : fo_St) (H1 : Heap) (locs1 : List Loc), fo_S E s st1 H1 locs1 → kf st1 = some y → W p l e R s m args below meth c H1 locs1 cells slots Q (F0 m (pc + 3) ls rest)) : W p l e R s m args below meth c H locs cells slots Q (F0 m pc ls (.int n :: .int dp :: .ref (eb E + n1) :: .int sp :: .ref (eb E + n0) :: rest)) := by
  obtain ⟨h1, h2, h3, h4, h5⟩ := of_decide_eq_true hB
  obtain ⟨⟨hx, hb, hml, hown, hts⟩, hK, hlo⟩ := X
  have nn : ∀ z : Int32, ¬ z < 0 → z.toInt = (z.toNatClampNeg : Int) := by
    intro z hz
    have hz0 : (0 : Int) ≤ z.toInt := by
      have := Int32.not_lt.mp hz
      simpa using Int32.le_iff_toInt_le.mp this
    show z.toInt = ((z.toInt.toNat : Nat) : Int)
    omega
  have x0 : fo_ce E (et E n0) st n0 = some (.inl (eA E 2, L0, .inl (gi_ st n0))) := by rw [ht0]; rfl
  have x1 : fo_ce E (et E n1) st n1 = some (.inl (eA E 2, L1, .inl (gi_ st n1))) := by rw [ht1]; rfl
  have x2 : fo_ce E (et E n1) (sc_ st n0 n1 sp.toNatClampNeg dp.toNatClampNeg n.toNatClampNeg) n1 = some (.inl (eA E 2, L1, .inl (gi_ (sc_ st n0 n1 sp.toNatClampNeg dp.toNatClampNeg n.toNatClampNeg) n1))) := by rw [ht1]; rfl
  have hA := (hw.1.2 n1 _ x1).2
  have hc0 : H[eb E + n0]? = some (vp_cell (eA E 2) (L0, .inl (gi_ st n0))) := fo_at hw x0 0 _ rfl
  have hc1 : H[eb E + n1]? = some (vp_cell (eA E 2) (L1, .inl (gi_ st n1))) := fo_at hw x1 0 _ rfl
  obtain ⟨-, k0, hk0, cm0, hkk0⟩ := (hK.1.2 0 _ rfl).1 L0 (fun j => .int (gi_ st n0 j))
  obtain ⟨-, k1, hk1, cm1, hkk1⟩ := (hK.1.2 0 _ rfl).1 L1 (fun j => .int (gi_ st n1 j))
  have ecp : copied (vp_cell (eA E 2) (L0, .inl (gi_ st n0))) (vp_cell (eA E 2) (L1, .inl (gi_ st n1))) sp dp n = vp_cell (eA E 2) (L1, .inl (gi_ (sc_ st n0 n1 sp.toNatClampNeg dp.toNatClampNeg n.toNatClampNeg) n1)) := by
    refine (va_copied (fun z => Value.int z) (eA E 2) (eA E 2) (gi_ st n0) (gi_ st n1) h4).trans ?_
    show vp_cell (eA E 2) (L1, .inl (va_cpy (gi_ st n0) (gi_ st n1) sp.toNatClampNeg dp.toNatClampNeg n.toNatClampNeg)) = _
    congr 3
    funext k
    rw [gi_sc]
    unfold va_cpy
    by_cases hk : dp.toNatClampNeg ≤ k ∧ k < dp.toNatClampNeg + n.toNatClampNeg
    · rw [if_pos hk, if_pos ⟨rfl, hk⟩]
    · rw [if_neg hk, if_neg (fun h => hk h.2)]
  have e9 : nativeFrameWords "java/lang/System" "arraycopy" 5 = 7 := by decide +kernel
  have h18 : 2 * 0 + (rest.map fun v => v.category).sum + (nativeFrameWords "java/lang/System" "arraycopy" 5 + 11) ≤ R.locals := by rw [e9]; omega
  intro T hT X0
  obtain ⟨vm', X', step⟩ := X0.arraycopy hx hown (hts _ hlink) (hts _ hnat) (hts _ hstat) (hts _ hini) (src := eb E + n0) (dst := eb E + n1) (cs := vp_cell (eA E 2) (L0, .inl (gi_ st n0))) (cd := vp_cell (eA E 2) (L1, .inl (gi_ st n1))) (srcPos := sp) (destPos := dp) (n := n) (by rw [hT]; exact hc0) (by rw [hT]; exact hc1)
    (fun _ h => by cases h) (fun _ h => by cases h) (fun h => by cases h) (fun h => by cases h) hk0 hk1 hkk0 hkk1 rfl h1 h2 h3
    (by rw [nn sp h1, nn n h3]; show ¬ _ > ((arrV (eA E 2) L0 (fun j => .int (gi_ st n0 j))).slots.size : Int); rw [arrV_size]; omega)
    (by rw [nn dp h2, nn n h3]; show ¬ _ > ((arrV (eA E 2) L1 (fun j => .int (gi_ st n1 j))).slots.size : Int); rw [arrV_size]; omega)
    (fun vm₁ _ i hi => by
      have e0 : (vp_cell (eA E 2) (L0, .inl (gi_ st n0))).slots.getD (sp.toNatClampNeg + i) .null = .int (gi_ st n0 (sp.toNatClampNeg + i)) := by
        show (arrV (eA E 2) L0 (fun j => .int (gi_ st n0 j))).slots.getD _ _ = _
        rw [Array.getD_eq_getD_getElem?, arrV_read _ _ (by omega)]
        rfl
      exact ⟨by rw [e0]; rfl, by rw [e0]; exact trivial⟩)
    (g := F0 m pc ls (.int n :: .int dp :: .ref (eb E + n1) :: .int sp :: .ref (eb E + n0) :: rest)) rfl (by show ls.size = c.maxLocals; rw [hml]; exact hsz) (rest := rest) rfl (by rw [hb]; exact hdg) hframes h18
  rw [ecp] at X' step
  have hl : eb E + n1 < H.size := (Array.getElem?_eq_some_iff.mp hc1).1
  generalize hcell : vp_cell (eA E 2) (L1, .inl (gi_ (sc_ st n0 n1 sp.toNatClampNeg dp.toNatClampNeg n.toNatClampNeg) n1)) = cN at X' step
  have hheap : ((T.setVm vm').setCell (eb E + n1) cN).heap = H.setIfInBounds (eb E + n1) cN := by rw [← hT]; rfl
  have oq : ∀ q : Nat, q ≠ eb E + n1 → (H.setIfInBounds (eb E + n1) cN)[q]? = H[q]? := fun q hq => by simp [Array.getElem?_setIfInBounds, Ne.symm hq]
  have h9 : ∀ a, a ≠ n1 → ∀ j, gi_ (sc_ st n0 n1 sp.toNatClampNeg dp.toNatClampNeg n.toNatClampNeg) a j = gi_ st a j ∧ gl_ (sc_ st n0 n1 sp.toNatClampNeg dp.toNatClampNeg n.toNatClampNeg) a j = gl_ st a j ∧ gr_ (sc_ st n0 n1 sp.toNatClampNeg dp.toNatClampNeg n.toNatClampNeg) a j = gr_ st a j := fun a ha j => ⟨by rw [gi_sc, if_neg (fun h => ha h.1)], rfl, rfl⟩
  obtain ⟨t, a1, b1⟩ := kk _ _ _ ⟨⟨by rw [Array.size_setIfInBounds]; exact hw.1.1, fun a x hx => by
      by_cases ha : a = n1
      · subst ha
        cases x2.symm.trans hx
        refine ⟨?_, hA⟩
        show (H.setIfInBounds (eb E + a) cN)[eb E + a]? = some _
        rw [← hcell]
        simp [Array.getElem?_setIfInBounds, hl]
      · have h8 := h9 a ha
        rw [fo_ce_of (fun j => (h8 j).1) (fun j => (h8 j).2.1) (fun j => (h8 j).2.2)] at hx
        have h7 := hw.1.2 a x hx
        exact ⟨h7.1.kept (oq _ (show eb E + a ≠ eb E + n1 by omega)), h7.2⟩⟩, ⟨by simp; exact hw.2.1, fun q g1 g2 => by
      rw [oq q (fun e => g2 (by rw [e]; exact hA))]
      exact hw.2.2.1 q g1 g2, fun q hq => by
      rcases List.mem_append.mp hq with h | h
      · exact hw.2.2.2 q h
      · obtain ⟨z, -, hz⟩ := List.mem_map.mp h
        rw [← hz]
        exact hA⟩⟩ hf _ hheap X'
  exact ⟨t, step t a1, b1⟩
/-- arrays of tables -/
theorem fo_aldt (X : fo_X E p m c cc nL s args own meth) (hw : fo_S E s st H locs) {n L : Nat} (ht : et E n = (8, L)) {i : Int32} (hdg : decode cc pc = .ok (.aaload, 1)) {kf : Nat → Option α} (hf : ck_ (fo_in i L) (rt_ (et E) (gr_ st n i.toNatClampNeg) kf) = some y)
    (kk : ∀ q : Nat, fo_tab E q → kf q = some y → W p l e R s m args below meth c H locs cells slots Q (F0 m (pc + 1) ls (.ref (eb E + q) :: rest))) : W p l e R s m args below meth c H locs cells slots Q (F0 m pc ls (.int i :: .ref (eb E + n) :: rest)) := by
  obtain ⟨q, h1, h2, h3⟩ := rt_e (ck_e hf).2
  refine va_aldq X.1.1 X.1.2.1 X.2.1.1 (fo_at hw (n := n) (x := .inl (eA E 8, L, .inr (.inr (.inr (.inr (fun j => (gr_ st n j).map (fun q => eb E + q))))))) (by rw [ht]; rfl)) 0 6 rfl rfl (fo_in_e (ck_e hf).1) hdg ?_
  rw [h1]
  exact kk q h2 h3
theorem fo_astt (X : fo_X E p m c cc nL s args own meth) (hw : fo_S E s st H locs) {n L v : Nat} (ht : et E n = (8, L)) (hv : fo_tab E v) {i : Int32} (hdg : decode cc pc = .ok (.aastore, 1)) {kf : fo_St → Option α} (hf : ck_ (fo_in i L) (lt_ (sr_ st n i.toNatClampNeg (some v)) kf) = some y)
    (kk : ∀ (st1 : fo_St) (H1 : Heap) (locs1 : List Loc), fo_S E s st1 H1 locs1 → kf st1 = some y → W p l e R s m args below meth c H1 locs1 cells slots Q (F0 m (pc + 1) ls rest)) : W p l e R s m args below meth c H locs cells slots Q (F0 m pc ls (.ref (eb E + v) :: .int i :: .ref (eb E + n) :: rest)) := by
  have hin := fo_in_e (ck_e hf).1
  have hlt : i.toNatClampNeg < L := Nat.not_le.mp fun q => hin (Or.inr q)
  have h0 : ¬ i < 0 := fun q => hin (Or.inl q)
  have x0 : fo_ce E (et E n) st n = some (.inl (eA E 8, L, .inr (.inr (.inr (.inr (fun j => (gr_ st n j).map (fun q => eb E + q))))))) := by rw [ht]; rfl
  have x1 : fo_ce E (et E n) (sr_ st n i.toNatClampNeg (some v)) n = some (.inl (eA E 8, L, .inr (.inr (.inr (.inr (fun j => (gr_ (sr_ st n i.toNatClampNeg (some v)) n j).map (fun q => eb E + q))))))) := by rw [ht]; rfl
  obtain ⟨r', hr', cellV, g1, g2, g3, -⟩ := fo_ob hw hv.1 0 _ rfl
  have hcls := (X.2.1.1.1 2 _ fc_X2.1).2
  obtain ⟨kA, comp, k1, k2, k3, -⟩ := (X.2.1.1.2 6 _ rfl).2
  have hcomp : comp = (eD E).1 2 := Option.some.inj (k3.symm.trans hcls.1)
  subst hcomp
  obtain ⟨kC, hkC, -⟩ := hcls.2
  refine W.aast X.1.1 X.1.2.1 (fo_at hw x0 0 _ rfl) (fun q h => by cases h) (fun h => by cases h) k1 k2 rfl hkC ⟨h0, by show _ < (arrV _ _ _).slots.size; rw [arrV_size]; exact hlt⟩ g1 (fun q h => by rw [g3] at h; cases h) (by rw [g2]; exact hkC) (by rw [g2]; exact va_assign hcls) rfl rfl hdg fun H1 e1 e2 e3 => ?_
  refine kk _ H1 _ (fo_arr hw x0 x1 fo_sr3 ?_ e2 e3) (ck_e hf).2
  rw [e1]
  refine congrArg some ?_
  rw [vp_cell_q, vp_cell_q, arrV_store]
  congr 1
  funext j
  rw [gr_sr]
  unfold updV
  by_cases hj : j = i.toNatClampNeg
  · rw [if_pos hj, if_pos ⟨rfl, hj⟩]; rfl
  · rw [if_neg hj, if_neg (fun h => hj h.2)]
end FX1
/-- a reference that isn't null -/
def rn_ {α : Type} (o : Option Nat) (k : Nat → Option α) : Option α := match o with
  | none => none
  | some q => k q
theorem rn_e {α : Type} {o : Option Nat} {k : Nat → Option α} {y : α} (h : rn_ o k = some y) : ∃ q, o = some q ∧ k q = some y := by
  cases o with
  | none => cases h
  | some q => exact ⟨q, rfl, h⟩
theorem fo_tag6 {E : fo_E} {q k : Nat} (h : decide ((et E q).1 = k) = true) : et E q = (k, (et E q).2) := by
  have h := of_decide_eq_true h
  rw [← h]
section FX2
variable {p : Program} {l : Launch} {e : Env} {R : Room} {s : State} {m : MethodId} {args : Array Value} {below : List Frame} {meth : Method} {c : Code} {H : Heap} {locs : List Loc} {cells slots : Nat} {Q : State → Prop}
variable {cc : ByteArray} {nL pc : Nat} {ls : Array Slot} {rest : List Value} {own : String} {E : fo_E} {st : fo_St} {α : Type} {y : α}
theorem fo_getr (X : fo_X E p m c cc nL s args own meth) (hw : fo_S E s st H locs) {n k ci index : Nat} {q : vw_C} {ty : Nat → FieldType} (hc : fo_C ci q ty) (ht : et E n = (1, ci)) (hk : k < q.2.2) (hkd : (fo_sh ci).getD k 0 = 2) (hlink : Cond.fieldLink own index (q.2.1 k).1 (q.2.1 k).2.1 (q.2.1 k).2.2.1 ∈ lw_all) (hdg : decode cc pc = .ok (.getfield index, 3)) {kf : Nat → Option α} (hf : rn_ (gr_ st n k) kf = some y)
    (kk : ∀ v : Nat, kf v = some y → W p l e R s m args below meth c H locs cells slots Q (F0 m (pc + 3) ls (.ref (eb E + v) :: rest))) : W p l e R s m args below meth c H locs cells slots Q (F0 m pc ls (.ref (eb E + n) :: rest)) := by
  obtain ⟨v, h1, h2⟩ := rn_e hf
  exact fo_getv X hw hc ht hk hlink (by rw [hkd]; show va_rf ((gr_ st n k).map _) = _; rw [h1]; rfl) hdg (kk v h2)
theorem fo_getrN (X : fo_X E p m c cc nL s args own meth) (hw : fo_S E s st H locs) {n k ci index : Nat} {host : String} {q : vw_C} {ty : Nat → FieldType} (hc : fo_C ci q ty) (ht : et E n = (1, ci)) (hk : k < q.2.2) (hkd : (fo_sh ci).getD k 0 = 2) (hlink : Cond.fieldLinkNest own index (q.2.1 k).1 (q.2.1 k).2.1 (q.2.1 k).2.2.1 host ∈ fo_nest) (hdg : decode cc pc = .ok (.getfield index, 3)) {kf : Nat → Option α} (hf : rn_ (gr_ st n k) kf = some y)
    (kk : ∀ v : Nat, kf v = some y → W p l e R s m args below meth c H locs cells slots Q (F0 m (pc + 3) ls (.ref (eb E + v) :: rest))) : W p l e R s m args below meth c H locs cells slots Q (F0 m pc ls (.ref (eb E + n) :: rest)) := by
  obtain ⟨v, h1, h2⟩ := rn_e hf
  exact fo_getvN X hw hc ht hk hlink (by rw [hkd]; show va_rf ((gr_ st n k).map _) = _; rw [h1]; rfl) hdg (kk v h2)
theorem fo_putr (X : fo_X E p m c cc nL s args own meth) (hw : fo_S E s st H locs) {n k ci index : Nat} {q : vw_C} {ty : Nat → FieldType} (hc : fo_C ci q ty) (ht : et E n = (1, ci)) (hk : k < q.2.2) (hkd : (fo_sh ci).getD k 0 = 2) (hfin : (q.2.1 k).2.2.2 = false) (hlink : Cond.fieldLink own index (q.2.1 k).1 (q.2.1 k).2.1 (q.2.1 k).2.2.1 ∈ lw_all) {v : Nat} (hn : ∀ a : Nat, narrow (ty k) (.ref a) = .ref a ∧ fits (ty k) (.ref a) = true) (hdg : decode cc pc = .ok (.putfield index, 3)) {kf : fo_St → Option α} (hf : lt_ (sr_ st n k (some v)) kf = some y)
    (kk : ∀ (st1 : fo_St) (H1 : Heap) (locs1 : List Loc), fo_S E s st1 H1 locs1 → kf st1 = some y → W p l e R s m args below meth c H1 locs1 cells slots Q (F0 m (pc + 3) ls rest)) : W p l e R s m args below meth c H locs cells slots Q (F0 m pc ls (.ref (eb E + v) :: .ref (eb E + n) :: rest)) :=
  fo_putv (v := .ref (eb E + v)) X hw hc ht hk hfin hlink (hn _).1 (hn _).2 (by rw [hkd]; exact fo_fvR) fo_sr2 fo_sr3 hdg (fun H1 locs1 h => kk _ H1 locs1 h hf)
/-- arrays of objects -/
theorem fo_aldo (X : fo_X E p m c cc nL s args own meth) (hw : fo_S E s st H locs) {n L : Nat} (ht : et E n = (6, L)) {i : Int32} (hdg : decode cc pc = .ok (.aaload, 1)) {kf : Nat → Option α} (hf : ck_ (fo_in i L) (rn_ (gr_ st n i.toNatClampNeg) kf) = some y)
    (kk : ∀ q : Nat, kf q = some y → W p l e R s m args below meth c H locs cells slots Q (F0 m (pc + 1) ls (.ref (eb E + q) :: rest))) : W p l e R s m args below meth c H locs cells slots Q (F0 m pc ls (.int i :: .ref (eb E + n) :: rest)) := by
  obtain ⟨q, h1, h3⟩ := rn_e (ck_e hf).2
  refine va_aldq X.1.1 X.1.2.1 X.2.1.1 (fo_at hw (n := n) (x := .inl (eA E 6, L, .inr (.inr (.inr (.inr (fun j => (gr_ st n j).map (fun q => eb E + q))))))) (by rw [ht]; rfl)) 0 4 rfl rfl (fo_in_e (ck_e hf).1) hdg ?_
  rw [h1]
  exact kk q h3
theorem fo_cast (X : fo_X E p m c cc nL s args own meth) (hw : fo_S E s st H locs) {n ci index : Nat} {q : vw_C} {ty : Nat → FieldType} (hc : fo_C ci q ty) (ht : et E n = (1, ci)) (hlink : Cond.classLink own index q.1 ∈ lw_all) (hdg : decode cc pc = .ok (.checkcast index, 3))
    (kk : W p l e R s m args below meth c H locs cells slots Q (F0 m (pc + 3) ls (.ref (eb E + n) :: rest))) : W p l e R s m args below meth c H locs cells slots Q (F0 m pc ls (.ref (eb E + n) :: rest)) :=
  va_castS X.1.1 X.1.2.1 X.1.2.2.2.1 (X.1.2.2.2.2 _ hlink) (X.2.1.1.1 ci q hc.1).2 (fo_rcv X hw hc ht) hdg kk
theorem fo_mxI (X : fo_X E p m c cc nL s args own meth) (hsz : ls.size = nL) {index : Nat} (hlink : Cond.methodLink own index Lib.Math.max.name ∈ lw_all) (hstat : Cond.static Lib.Math.max.name ∈ lw_all) (hini : Cond.initialized "java/lang/Math" ∈ lw_all) (hcode : Cond.code Lib.Math.max.name Lib.Math.max.code 2 (some .int) ∈ lw_all) (hframes : 1 ≤ R.frames) (hlocals : (rest.map fun v => v.category).sum + 13 ≤ R.locals) {x z : Int32} (hdg : decode cc pc = .ok (.invokestatic index, 3))
    (kk : W p l e R s m args below meth c H locs 0 0 Q (F0 m (pc + 3) ls (.int (mxI_ x z) :: rest))) : W p l e R s m args below meth c H locs 0 0 Q (F0 m pc ls (.int z :: .int x :: rest)) :=
  va_mmax X.1.1 X.1.2.1 (X.1.2.2.1.trans hsz.symm) X.1.2.2.2.1 (X.1.2.2.2.2 _ hlink) (X.1.2.2.2.2 _ hstat) (X.1.2.2.2.2 _ hini) (X.1.2.2.2.2 _ hcode) hframes hlocals (Nat.zero_le _) (Nat.zero_le _) hdg kk
theorem fo_mnI (X : fo_X E p m c cc nL s args own meth) (hsz : ls.size = nL) {index : Nat} (hlink : Cond.methodLink own index Lib.Math.min.name ∈ lw_all) (hstat : Cond.static Lib.Math.min.name ∈ lw_all) (hini : Cond.initialized "java/lang/Math" ∈ lw_all) (hcode : Cond.code Lib.Math.min.name Lib.Math.min.code 2 (some .int) ∈ lw_all) (hframes : 1 ≤ R.frames) (hlocals : (rest.map fun v => v.category).sum + 13 ≤ R.locals) {x z : Int32} (hdg : decode cc pc = .ok (.invokestatic index, 3))
    (kk : W p l e R s m args below meth c H locs 0 0 Q (F0 m (pc + 3) ls (.int (mnI_ x z) :: rest))) : W p l e R s m args below meth c H locs 0 0 Q (F0 m pc ls (.int z :: .int x :: rest)) :=
  va_mmin X.1.1 X.1.2.1 (X.1.2.2.1.trans hsz.symm) X.1.2.2.2.1 (X.1.2.2.2.2 _ hlink) (X.1.2.2.2.2 _ hstat) (X.1.2.2.2.2 _ hini) (X.1.2.2.2.2 _ hcode) hframes hlocals (Nat.zero_le _) (Nat.zero_le _) hdg kk
theorem fo_mxL (X : fo_X E p m c cc nL s args own meth) (hsz : ls.size = nL) {index : Nat} (hlink : Cond.methodLink own index Lib.MathLoose.max_long.x ∈ lw_all) (hstat : Cond.static Lib.MathLoose.max_long.x ∈ lw_all) (hini : Cond.initialized "java/lang/Math" ∈ lw_all) (hcode : Cond.code Lib.MathLoose.max_long.x Lib.MathLoose.max_long.code 4 (some .long) ∈ lw_all) (hframes : 1 ≤ R.frames) (hlocals : (rest.map fun v => v.category).sum + 15 ≤ R.locals) {x z : Int64} (hdg : decode cc pc = .ok (.invokestatic index, 3))
    (kk : W p l e R s m args below meth c H locs 0 0 Q (F0 m (pc + 3) ls (.long (mxL_ x z) :: rest))) : W p l e R s m args below meth c H locs 0 0 Q (F0 m pc ls (.long z :: .long x :: rest)) :=
  va_mmax_long X.1.1 X.1.2.1 (X.1.2.2.1.trans hsz.symm) X.1.2.2.2.1 (X.1.2.2.2.2 _ hlink) (X.1.2.2.2.2 _ hstat) (X.1.2.2.2.2 _ hini) (X.1.2.2.2.2 _ hcode) hframes hlocals (Nat.zero_le _) (Nat.zero_le _) hdg kk
theorem fo_mnL (X : fo_X E p m c cc nL s args own meth) (hsz : ls.size = nL) {index : Nat} (hlink : Cond.methodLink own index Lib.MathLoose.min_long.x ∈ lw_all) (hstat : Cond.static Lib.MathLoose.min_long.x ∈ lw_all) (hini : Cond.initialized "java/lang/Math" ∈ lw_all) (hcode : Cond.code Lib.MathLoose.min_long.x Lib.MathLoose.min_long.code 4 (some .long) ∈ lw_all) (hframes : 1 ≤ R.frames) (hlocals : (rest.map fun v => v.category).sum + 15 ≤ R.locals) {x z : Int64} (hdg : decode cc pc = .ok (.invokestatic index, 3))
    (kk : W p l e R s m args below meth c H locs 0 0 Q (F0 m (pc + 3) ls (.long (mnL_ x z) :: rest))) : W p l e R s m args below meth c H locs 0 0 Q (F0 m pc ls (.long z :: .long x :: rest)) :=
  va_mmin_long X.1.1 X.1.2.1 (X.1.2.2.1.trans hsz.symm) X.1.2.2.2.1 (X.1.2.2.2.2 _ hlink) (X.1.2.2.2.2 _ hstat) (X.1.2.2.2.2 _ hini) (X.1.2.2.2.2 _ hcode) hframes hlocals (Nat.zero_le _) (Nat.zero_le _) hdg kk
end FX2
theorem hx0 {E : fo_E} (hX : fo_HX E) : et E 0 = (1, 0) := hX 0 _ rfl (by decide)
theorem hx1 {E : fo_E} (hX : fo_HX E) : et E 1 = (2, 7) := hX 1 _ rfl (by decide)
theorem hx2 {E : fo_E} (hX : fo_HX E) : et E 2 = (1, 1) := hX 2 _ rfl (by decide)
theorem hx3 {E : fo_E} (hX : fo_HX E) : et E 3 = (1, 2) := hX 3 _ rfl (by decide)
theorem hx4 {E : fo_E} (hX : fo_HX E) : et E 4 = (2, 16) := hX 4 _ rfl (by decide)
theorem hx5 {E : fo_E} (hX : fo_HX E) : et E 5 = (2, 16) := hX 5 _ rfl (by decide)
theorem hx6 {E : fo_E} (hX : fo_HX E) : et E 6 = (2, 16) := hX 6 _ rfl (by decide)
theorem hx7 {E : fo_E} (hX : fo_HX E) : et E 7 = (2, 16) := hX 7 _ rfl (by decide)
theorem hx8 {E : fo_E} (hX : fo_HX E) : et E 8 = (2, 16) := hX 8 _ rfl (by decide)
theorem hx9 {E : fo_E} (hX : fo_HX E) : et E 9 = (2, 16) := hX 9 _ rfl (by decide)
theorem hx10 {E : fo_E} (hX : fo_HX E) : et E 10 = (2, 6) := hX 10 _ rfl (by decide)
theorem hx11 {E : fo_E} (hX : fo_HX E) : et E 11 = (2, 6) := hX 11 _ rfl (by decide)
theorem hx12 {E : fo_E} (hX : fo_HX E) : et E 12 = (2, 24) := hX 12 _ rfl (by decide)
theorem hx13 {E : fo_E} (hX : fo_HX E) : et E 13 = (2, 5) := hX 13 _ rfl (by decide)
theorem hx14 {E : fo_E} (hX : fo_HX E) : et E 14 = (1, 18) := hX 14 _ rfl (by decide)
theorem hx16 {E : fo_E} (hX : fo_HX E) : et E 16 = (7, 2) := hX 16 _ rfl (by decide)
theorem hx17 {E : fo_E} (hX : fo_HX E) : et E 17 = (8, 16) := hX 17 _ rfl (by decide)
theorem hx18 {E : fo_E} (hX : fo_HX E) : et E 18 = (8, 16) := hX 18 _ rfl (by decide)
theorem hx19 {E : fo_E} (hX : fo_HX E) : et E 19 = (2, 16) := hX 19 _ rfl (by decide)
theorem hx20 {E : fo_E} (hX : fo_HX E) : et E 20 = (2, 16) := hX 20 _ rfl (by decide)
theorem hx21 {E : fo_E} (hX : fo_HX E) : et E 21 = (1, 2) := hX 21 _ rfl (by decide)
theorem hx22 {E : fo_E} (hX : fo_HX E) : et E 22 = (2, 16) := hX 22 _ rfl (by decide)
theorem hx23 {E : fo_E} (hX : fo_HX E) : et E 23 = (2, 16) := hX 23 _ rfl (by decide)
theorem hx24 {E : fo_E} (hX : fo_HX E) : et E 24 = (2, 16) := hX 24 _ rfl (by decide)
theorem hx25 {E : fo_E} (hX : fo_HX E) : et E 25 = (1, 2) := hX 25 _ rfl (by decide)
theorem hx26 {E : fo_E} (hX : fo_HX E) : et E 26 = (2, 16) := hX 26 _ rfl (by decide)
theorem hx27 {E : fo_E} (hX : fo_HX E) : et E 27 = (2, 16) := hX 27 _ rfl (by decide)
theorem hx28 {E : fo_E} (hX : fo_HX E) : et E 28 = (2, 16) := hX 28 _ rfl (by decide)
theorem hx29 {E : fo_E} (hX : fo_HX E) : et E 29 = (3, 400) := hX 29 _ rfl (by decide)
theorem hx30 {E : fo_E} (hX : fo_HX E) : et E 30 = (1, 3) := hX 30 _ rfl (by decide)
theorem hx31 {E : fo_E} (hX : fo_HX E) : et E 31 = (1, 4) := hX 31 _ rfl (by decide)
theorem hx32 {E : fo_E} (hX : fo_HX E) : et E 32 = (5, 52) := hX 32 _ rfl (by decide)
theorem hx33 {E : fo_E} (hX : fo_HX E) : et E 33 = (2, 16) := hX 33 _ rfl (by decide)
theorem hx34 {E : fo_E} (hX : fo_HX E) : et E 34 = (2, 16) := hX 34 _ rfl (by decide)
theorem hx35 {E : fo_E} (hX : fo_HX E) : et E 35 = (2, 96) := hX 35 _ rfl (by decide)
theorem hx36 {E : fo_E} (hX : fo_HX E) : et E 36 = (2, 64) := hX 36 _ rfl (by decide)
theorem hx37 {E : fo_E} (hX : fo_HX E) : et E 37 = (2, 64) := hX 37 _ rfl (by decide)
theorem hx38 {E : fo_E} (hX : fo_HX E) : et E 38 = (2, 96) := hX 38 _ rfl (by decide)
theorem hx39 {E : fo_E} (hX : fo_HX E) : et E 39 = (2, 112) := hX 39 _ rfl (by decide)
theorem hx40 {E : fo_E} (hX : fo_HX E) : et E 40 = (2, 16) := hX 40 _ rfl (by decide)
theorem hx41 {E : fo_E} (hX : fo_HX E) : et E 41 = (5, 16) := hX 41 _ rfl (by decide)
theorem hx42 {E : fo_E} (hX : fo_HX E) : et E 42 = (1, 2) := hX 42 _ rfl (by decide)
theorem hx43 {E : fo_E} (hX : fo_HX E) : et E 43 = (2, 16) := hX 43 _ rfl (by decide)
theorem hx44 {E : fo_E} (hX : fo_HX E) : et E 44 = (2, 16) := hX 44 _ rfl (by decide)
theorem hx45 {E : fo_E} (hX : fo_HX E) : et E 45 = (2, 16) := hX 45 _ rfl (by decide)
theorem hx46 {E : fo_E} (hX : fo_HX E) : et E 46 = (1, 2) := hX 46 _ rfl (by decide)
theorem hx47 {E : fo_E} (hX : fo_HX E) : et E 47 = (2, 16) := hX 47 _ rfl (by decide)
theorem hx48 {E : fo_E} (hX : fo_HX E) : et E 48 = (2, 16) := hX 48 _ rfl (by decide)
theorem hx49 {E : fo_E} (hX : fo_HX E) : et E 49 = (2, 16) := hX 49 _ rfl (by decide)
theorem hx50 {E : fo_E} (hX : fo_HX E) : et E 50 = (1, 2) := hX 50 _ rfl (by decide)
theorem hx51 {E : fo_E} (hX : fo_HX E) : et E 51 = (2, 16) := hX 51 _ rfl (by decide)
theorem hx52 {E : fo_E} (hX : fo_HX E) : et E 52 = (2, 16) := hX 52 _ rfl (by decide)
theorem hx53 {E : fo_E} (hX : fo_HX E) : et E 53 = (2, 16) := hX 53 _ rfl (by decide)
theorem hx54 {E : fo_E} (hX : fo_HX E) : et E 54 = (1, 2) := hX 54 _ rfl (by decide)
theorem hx55 {E : fo_E} (hX : fo_HX E) : et E 55 = (2, 16) := hX 55 _ rfl (by decide)
theorem hx56 {E : fo_E} (hX : fo_HX E) : et E 56 = (2, 16) := hX 56 _ rfl (by decide)
theorem hx57 {E : fo_E} (hX : fo_HX E) : et E 57 = (2, 16) := hX 57 _ rfl (by decide)
theorem hx58 {E : fo_E} (hX : fo_HX E) : et E 58 = (1, 2) := hX 58 _ rfl (by decide)
theorem hx59 {E : fo_E} (hX : fo_HX E) : et E 59 = (2, 16) := hX 59 _ rfl (by decide)
theorem hx60 {E : fo_E} (hX : fo_HX E) : et E 60 = (2, 16) := hX 60 _ rfl (by decide)
theorem hx61 {E : fo_E} (hX : fo_HX E) : et E 61 = (2, 16) := hX 61 _ rfl (by decide)
theorem hx62 {E : fo_E} (hX : fo_HX E) : et E 62 = (1, 2) := hX 62 _ rfl (by decide)
theorem hx63 {E : fo_E} (hX : fo_HX E) : et E 63 = (2, 16) := hX 63 _ rfl (by decide)
theorem hx64 {E : fo_E} (hX : fo_HX E) : et E 64 = (2, 16) := hX 64 _ rfl (by decide)
theorem hx65 {E : fo_E} (hX : fo_HX E) : et E 65 = (2, 16) := hX 65 _ rfl (by decide)
theorem hx66 {E : fo_E} (hX : fo_HX E) : et E 66 = (1, 2) := hX 66 _ rfl (by decide)
theorem hx67 {E : fo_E} (hX : fo_HX E) : et E 67 = (2, 16) := hX 67 _ rfl (by decide)
theorem hx68 {E : fo_E} (hX : fo_HX E) : et E 68 = (2, 16) := hX 68 _ rfl (by decide)
theorem hx69 {E : fo_E} (hX : fo_HX E) : et E 69 = (2, 16) := hX 69 _ rfl (by decide)
theorem hx70 {E : fo_E} (hX : fo_HX E) : et E 70 = (1, 2) := hX 70 _ rfl (by decide)
theorem hx71 {E : fo_E} (hX : fo_HX E) : et E 71 = (2, 16) := hX 71 _ rfl (by decide)
theorem hx72 {E : fo_E} (hX : fo_HX E) : et E 72 = (2, 16) := hX 72 _ rfl (by decide)
theorem hx73 {E : fo_E} (hX : fo_HX E) : et E 73 = (2, 16) := hX 73 _ rfl (by decide)
theorem hx74 {E : fo_E} (hX : fo_HX E) : et E 74 = (1, 2) := hX 74 _ rfl (by decide)
theorem hx75 {E : fo_E} (hX : fo_HX E) : et E 75 = (2, 16) := hX 75 _ rfl (by decide)
theorem hx76 {E : fo_E} (hX : fo_HX E) : et E 76 = (2, 16) := hX 76 _ rfl (by decide)
theorem hx77 {E : fo_E} (hX : fo_HX E) : et E 77 = (2, 16) := hX 77 _ rfl (by decide)
theorem hx78 {E : fo_E} (hX : fo_HX E) : et E 78 = (1, 2) := hX 78 _ rfl (by decide)
theorem hx79 {E : fo_E} (hX : fo_HX E) : et E 79 = (2, 16) := hX 79 _ rfl (by decide)
theorem hx80 {E : fo_E} (hX : fo_HX E) : et E 80 = (2, 16) := hX 80 _ rfl (by decide)
theorem hx81 {E : fo_E} (hX : fo_HX E) : et E 81 = (2, 16) := hX 81 _ rfl (by decide)
theorem hx82 {E : fo_E} (hX : fo_HX E) : et E 82 = (1, 2) := hX 82 _ rfl (by decide)
theorem hx83 {E : fo_E} (hX : fo_HX E) : et E 83 = (2, 16) := hX 83 _ rfl (by decide)
theorem hx84 {E : fo_E} (hX : fo_HX E) : et E 84 = (2, 16) := hX 84 _ rfl (by decide)
theorem hx85 {E : fo_E} (hX : fo_HX E) : et E 85 = (2, 16) := hX 85 _ rfl (by decide)
theorem hx86 {E : fo_E} (hX : fo_HX E) : et E 86 = (1, 2) := hX 86 _ rfl (by decide)
theorem hx87 {E : fo_E} (hX : fo_HX E) : et E 87 = (2, 16) := hX 87 _ rfl (by decide)
theorem hx88 {E : fo_E} (hX : fo_HX E) : et E 88 = (2, 16) := hX 88 _ rfl (by decide)
theorem hx89 {E : fo_E} (hX : fo_HX E) : et E 89 = (2, 16) := hX 89 _ rfl (by decide)
theorem hx90 {E : fo_E} (hX : fo_HX E) : et E 90 = (1, 2) := hX 90 _ rfl (by decide)
theorem hx91 {E : fo_E} (hX : fo_HX E) : et E 91 = (2, 16) := hX 91 _ rfl (by decide)
theorem hx92 {E : fo_E} (hX : fo_HX E) : et E 92 = (2, 16) := hX 92 _ rfl (by decide)
theorem hx93 {E : fo_E} (hX : fo_HX E) : et E 93 = (2, 16) := hX 93 _ rfl (by decide)
theorem hx94 {E : fo_E} (hX : fo_HX E) : et E 94 = (1, 2) := hX 94 _ rfl (by decide)
theorem hx95 {E : fo_E} (hX : fo_HX E) : et E 95 = (2, 16) := hX 95 _ rfl (by decide)
theorem hx96 {E : fo_E} (hX : fo_HX E) : et E 96 = (2, 16) := hX 96 _ rfl (by decide)
theorem hx97 {E : fo_E} (hX : fo_HX E) : et E 97 = (2, 16) := hX 97 _ rfl (by decide)
theorem hx98 {E : fo_E} (hX : fo_HX E) : et E 98 = (1, 2) := hX 98 _ rfl (by decide)
theorem hx99 {E : fo_E} (hX : fo_HX E) : et E 99 = (2, 16) := hX 99 _ rfl (by decide)
theorem hx100 {E : fo_E} (hX : fo_HX E) : et E 100 = (2, 16) := hX 100 _ rfl (by decide)
theorem hx101 {E : fo_E} (hX : fo_HX E) : et E 101 = (2, 16) := hX 101 _ rfl (by decide)
theorem hx102 {E : fo_E} (hX : fo_HX E) : et E 102 = (1, 2) := hX 102 _ rfl (by decide)
theorem hx103 {E : fo_E} (hX : fo_HX E) : et E 103 = (2, 16) := hX 103 _ rfl (by decide)
theorem hx104 {E : fo_E} (hX : fo_HX E) : et E 104 = (2, 16) := hX 104 _ rfl (by decide)
theorem hx105 {E : fo_E} (hX : fo_HX E) : et E 105 = (2, 16) := hX 105 _ rfl (by decide)
theorem hx106 {E : fo_E} (hX : fo_HX E) : et E 106 = (1, 2) := hX 106 _ rfl (by decide)
theorem hx107 {E : fo_E} (hX : fo_HX E) : et E 107 = (2, 16) := hX 107 _ rfl (by decide)
theorem hx108 {E : fo_E} (hX : fo_HX E) : et E 108 = (2, 16) := hX 108 _ rfl (by decide)
theorem hx109 {E : fo_E} (hX : fo_HX E) : et E 109 = (2, 16) := hX 109 _ rfl (by decide)
theorem hx110 {E : fo_E} (hX : fo_HX E) : et E 110 = (1, 2) := hX 110 _ rfl (by decide)
theorem hx111 {E : fo_E} (hX : fo_HX E) : et E 111 = (2, 16) := hX 111 _ rfl (by decide)
theorem hx112 {E : fo_E} (hX : fo_HX E) : et E 112 = (2, 16) := hX 112 _ rfl (by decide)
theorem hx113 {E : fo_E} (hX : fo_HX E) : et E 113 = (2, 16) := hX 113 _ rfl (by decide)
theorem hx114 {E : fo_E} (hX : fo_HX E) : et E 114 = (1, 2) := hX 114 _ rfl (by decide)
theorem hx115 {E : fo_E} (hX : fo_HX E) : et E 115 = (2, 16) := hX 115 _ rfl (by decide)
theorem hx116 {E : fo_E} (hX : fo_HX E) : et E 116 = (2, 16) := hX 116 _ rfl (by decide)
theorem hx117 {E : fo_E} (hX : fo_HX E) : et E 117 = (2, 16) := hX 117 _ rfl (by decide)
theorem hx118 {E : fo_E} (hX : fo_HX E) : et E 118 = (1, 2) := hX 118 _ rfl (by decide)
theorem hx119 {E : fo_E} (hX : fo_HX E) : et E 119 = (2, 16) := hX 119 _ rfl (by decide)
theorem hx120 {E : fo_E} (hX : fo_HX E) : et E 120 = (2, 16) := hX 120 _ rfl (by decide)
theorem hx121 {E : fo_E} (hX : fo_HX E) : et E 121 = (2, 16) := hX 121 _ rfl (by decide)
theorem hx122 {E : fo_E} (hX : fo_HX E) : et E 122 = (1, 2) := hX 122 _ rfl (by decide)
theorem hx123 {E : fo_E} (hX : fo_HX E) : et E 123 = (2, 16) := hX 123 _ rfl (by decide)
theorem hx124 {E : fo_E} (hX : fo_HX E) : et E 124 = (2, 16) := hX 124 _ rfl (by decide)
theorem hx125 {E : fo_E} (hX : fo_HX E) : et E 125 = (2, 16) := hX 125 _ rfl (by decide)
theorem hx126 {E : fo_E} (hX : fo_HX E) : et E 126 = (1, 2) := hX 126 _ rfl (by decide)
theorem hx127 {E : fo_E} (hX : fo_HX E) : et E 127 = (2, 16) := hX 127 _ rfl (by decide)
theorem hx128 {E : fo_E} (hX : fo_HX E) : et E 128 = (2, 16) := hX 128 _ rfl (by decide)
theorem hx129 {E : fo_E} (hX : fo_HX E) : et E 129 = (2, 16) := hX 129 _ rfl (by decide)
theorem hx130 {E : fo_E} (hX : fo_HX E) : et E 130 = (1, 2) := hX 130 _ rfl (by decide)
theorem hx131 {E : fo_E} (hX : fo_HX E) : et E 131 = (2, 16) := hX 131 _ rfl (by decide)
theorem hx132 {E : fo_E} (hX : fo_HX E) : et E 132 = (2, 16) := hX 132 _ rfl (by decide)
theorem hx133 {E : fo_E} (hX : fo_HX E) : et E 133 = (2, 16) := hX 133 _ rfl (by decide)
theorem hx134 {E : fo_E} (hX : fo_HX E) : et E 134 = (1, 2) := hX 134 _ rfl (by decide)
theorem hx135 {E : fo_E} (hX : fo_HX E) : et E 135 = (2, 16) := hX 135 _ rfl (by decide)
theorem hx136 {E : fo_E} (hX : fo_HX E) : et E 136 = (2, 16) := hX 136 _ rfl (by decide)
theorem hx137 {E : fo_E} (hX : fo_HX E) : et E 137 = (2, 16) := hX 137 _ rfl (by decide)
theorem hx138 {E : fo_E} (hX : fo_HX E) : et E 138 = (1, 2) := hX 138 _ rfl (by decide)
theorem hx139 {E : fo_E} (hX : fo_HX E) : et E 139 = (2, 16) := hX 139 _ rfl (by decide)
theorem hx140 {E : fo_E} (hX : fo_HX E) : et E 140 = (2, 16) := hX 140 _ rfl (by decide)
theorem hx141 {E : fo_E} (hX : fo_HX E) : et E 141 = (2, 16) := hX 141 _ rfl (by decide)
theorem hx142 {E : fo_E} (hX : fo_HX E) : et E 142 = (1, 2) := hX 142 _ rfl (by decide)
theorem hx143 {E : fo_E} (hX : fo_HX E) : et E 143 = (2, 16) := hX 143 _ rfl (by decide)
theorem hx144 {E : fo_E} (hX : fo_HX E) : et E 144 = (2, 16) := hX 144 _ rfl (by decide)
theorem hx145 {E : fo_E} (hX : fo_HX E) : et E 145 = (2, 16) := hX 145 _ rfl (by decide)
theorem hx146 {E : fo_E} (hX : fo_HX E) : et E 146 = (1, 2) := hX 146 _ rfl (by decide)
theorem hx147 {E : fo_E} (hX : fo_HX E) : et E 147 = (2, 16) := hX 147 _ rfl (by decide)
theorem hx148 {E : fo_E} (hX : fo_HX E) : et E 148 = (2, 16) := hX 148 _ rfl (by decide)
theorem hx149 {E : fo_E} (hX : fo_HX E) : et E 149 = (2, 16) := hX 149 _ rfl (by decide)
theorem hx150 {E : fo_E} (hX : fo_HX E) : et E 150 = (1, 2) := hX 150 _ rfl (by decide)
theorem hx151 {E : fo_E} (hX : fo_HX E) : et E 151 = (2, 16) := hX 151 _ rfl (by decide)
theorem hx152 {E : fo_E} (hX : fo_HX E) : et E 152 = (2, 16) := hX 152 _ rfl (by decide)
theorem hx153 {E : fo_E} (hX : fo_HX E) : et E 153 = (2, 16) := hX 153 _ rfl (by decide)
theorem hx154 {E : fo_E} (hX : fo_HX E) : et E 154 = (1, 2) := hX 154 _ rfl (by decide)
theorem hx155 {E : fo_E} (hX : fo_HX E) : et E 155 = (2, 16) := hX 155 _ rfl (by decide)
theorem hx156 {E : fo_E} (hX : fo_HX E) : et E 156 = (2, 16) := hX 156 _ rfl (by decide)
theorem hx157 {E : fo_E} (hX : fo_HX E) : et E 157 = (2, 16) := hX 157 _ rfl (by decide)
theorem hx158 {E : fo_E} (hX : fo_HX E) : et E 158 = (1, 2) := hX 158 _ rfl (by decide)
theorem hx159 {E : fo_E} (hX : fo_HX E) : et E 159 = (2, 16) := hX 159 _ rfl (by decide)
theorem hx160 {E : fo_E} (hX : fo_HX E) : et E 160 = (2, 16) := hX 160 _ rfl (by decide)
theorem hx161 {E : fo_E} (hX : fo_HX E) : et E 161 = (2, 16) := hX 161 _ rfl (by decide)
theorem hx162 {E : fo_E} (hX : fo_HX E) : et E 162 = (1, 2) := hX 162 _ rfl (by decide)
theorem hx163 {E : fo_E} (hX : fo_HX E) : et E 163 = (2, 16) := hX 163 _ rfl (by decide)
theorem hx164 {E : fo_E} (hX : fo_HX E) : et E 164 = (2, 16) := hX 164 _ rfl (by decide)
theorem hx165 {E : fo_E} (hX : fo_HX E) : et E 165 = (2, 16) := hX 165 _ rfl (by decide)
theorem hx166 {E : fo_E} (hX : fo_HX E) : et E 166 = (1, 2) := hX 166 _ rfl (by decide)
theorem hx167 {E : fo_E} (hX : fo_HX E) : et E 167 = (2, 16) := hX 167 _ rfl (by decide)
theorem hx168 {E : fo_E} (hX : fo_HX E) : et E 168 = (2, 16) := hX 168 _ rfl (by decide)
theorem hx169 {E : fo_E} (hX : fo_HX E) : et E 169 = (2, 16) := hX 169 _ rfl (by decide)
theorem hx170 {E : fo_E} (hX : fo_HX E) : et E 170 = (1, 2) := hX 170 _ rfl (by decide)
theorem hx171 {E : fo_E} (hX : fo_HX E) : et E 171 = (2, 16) := hX 171 _ rfl (by decide)
theorem hx172 {E : fo_E} (hX : fo_HX E) : et E 172 = (2, 16) := hX 172 _ rfl (by decide)
theorem hx173 {E : fo_E} (hX : fo_HX E) : et E 173 = (2, 16) := hX 173 _ rfl (by decide)
theorem hxT3 {E : fo_E} (hX : fo_HX E) : fo_tab E 3 := ⟨hx3 hX, hx4 hX, hx5 hX, hx6 hX⟩
theorem hxT21 {E : fo_E} (hX : fo_HX E) : fo_tab E 21 := ⟨hx21 hX, hx22 hX, hx23 hX, hx24 hX⟩
theorem hxT25 {E : fo_E} (hX : fo_HX E) : fo_tab E 25 := ⟨hx25 hX, hx26 hX, hx27 hX, hx28 hX⟩
theorem hxT42 {E : fo_E} (hX : fo_HX E) : fo_tab E 42 := ⟨hx42 hX, hx43 hX, hx44 hX, hx45 hX⟩
