/-! copies of references, an object whose references lead out of the world, Throwable's constructor, Arrays.copyOf -/
set_option maxRecDepth 100000
def rr_ (b : Nat) (st : fo_St) (n : Nat) : Nat → Option Nat := fun j => (gr_ st n j).map (fun q => b + q)
def rc_ (st : fo_St) (src dst sp dp n : Nat) : fo_St := (st.1, st.2.1, fun a k => if a = dst ∧ dp ≤ k ∧ k < dp + n then st.2.2 src (sp + (k - dp)) else st.2.2 a k)
theorem gi_rc (st : fo_St) (src dst sp dp n a k : Nat) : gi_ (rc_ st src dst sp dp n) a k = gi_ st a k := rfl
theorem gl_rc (st : fo_St) (src dst sp dp n a k : Nat) : gl_ (rc_ st src dst sp dp n) a k = gl_ st a k := rfl
theorem gr_rc (st : fo_St) (src dst sp dp n a k : Nat) : gr_ (rc_ st src dst sp dp n) a k = if a = dst ∧ dp ≤ k ∧ k < dp + n then gr_ st src (sp + (k - dp)) else gr_ st a k := rfl
/-- an element is an object of the world's classes, or none -/
def fo_ob1 (tg : Nat → Nat × Nat) (o : Option Nat) : Bool := match o with
  | none => true
  | some q => decide ((tg q).1 = 1 ∧ (tg q).2 < 24)
def fo_obs (tg : Nat → Nat × Nat) (st : fo_St) (n0 sp n : Nat) : Bool := (List.range n).all (fun i => fo_ob1 tg (gr_ st n0 (sp + i)))
theorem fo_obs_at {tg : Nat → Nat × Nat} {st : fo_St} {n0 sp n i q : Nat} (h : fo_obs tg st n0 sp n = true) (hi : i < n) (hq : gr_ st n0 (sp + i) = some q) : (tg q).1 = 1 ∧ (tg q).2 < 24 := by
  have h1 := List.all_eq_true.mp h i (List.mem_range.mpr hi)
  rw [hq] at h1
  exact of_decide_eq_true h1
section FI1
variable {p : Program} {l : Launch} {e : Env} {R : Room} {s : State} {m : MethodId} {args : Array Value} {below : List Frame} {meth : Method} {c : Code} {H : Heap} {locs : List Loc} {cells slots : Nat} {Q : State → Prop}
variable {cc : ByteArray} {nL pc : Nat} {ls : Array Slot} {rest stk : List Value} {own : String} {E : fo_E} {st : fo_St} {α β : Type} {y : α} {cN cS nx ns : Nat} {tg : Nat → Nat × Nat} {a0 a1 : fo_A}
/-- a copy of references -/
theorem fo_copyR (X : fo_X E p m c cc nL s args own meth) (hw : fo_S E s st H locs) {n0 n1 L0 L1 index : Nat} (ht0 : et E n0 = (6, L0)) (ht1 : et E n1 = (6, L1)) (hsz : ls.size = nL) (hlink : Cond.methodLink own index arraycopyName ∈ lw_all) (hnat : Cond.native arraycopyName ∈ lw_all) (hstat : Cond.static arraycopyName ∈ lw_all) (hini : Cond.initialized "java/lang/System" ∈ lw_all) {sp dp n : Int32} (hob : fo_obs (et E) st n0 sp.toNatClampNeg n.toNatClampNeg = true) (hB : fo_cpB sp dp n L0 L1 = true) (hframes : 1 ≤ R.frames) (hlocals : (rest.map fun v => v.category).sum + 18 ≤ R.locals) (hdg : decode cc pc = .ok (.invokestatic index, 3)) {kf : fo_St → Option α} (hf : lt_ (rc_ st n0 n1 sp.toNatClampNeg dp.toNatClampNeg n.toNatClampNeg) kf = some y)
    (kk : ∀ (st1 : fo_St) (H1 : Heap) (locs1 : List Loc), fo_S E s st1 H1 locs1 → kf st1 = some y → W p l e R s m args below meth c H1 locs1 cells slots Q (F0 m (pc + 3) ls rest)) : W p l e R s m args below meth c H locs cells slots Q (F0 m pc ls (.int n :: .int dp :: .ref (eb E + n1) :: .int sp :: .ref (eb E + n0) :: rest)) := by
  obtain ⟨h1, h2, h3, h4, h5⟩ := of_decide_eq_true hB
  obtain ⟨⟨hx, hb, hml, hown, hts⟩, hK, hlo⟩ := X
  have nn : ∀ z : Int32, ¬ z < 0 → z.toInt = (z.toNatClampNeg : Int) := by
    intro z hz
    have hz0 : (0 : Int) ≤ z.toInt := by
      have := Int32.not_lt.mp hz
      simpa using Int32.le_iff_toInt_le.mp this
    show z.toInt = ((z.toInt.toNat : Nat) : Int)
    omega
  have x0 : fo_ce E (et E n0) st n0 = some (.inl (eA E 6, L0, .inr (.inr (.inr (.inr (rr_ (eb E) st n0)))))) := by rw [ht0]; rfl
  have x1 : fo_ce E (et E n1) st n1 = some (.inl (eA E 6, L1, .inr (.inr (.inr (.inr (rr_ (eb E) st n1)))))) := by rw [ht1]; rfl
  have x2 : fo_ce E (et E n1) (rc_ st n0 n1 sp.toNatClampNeg dp.toNatClampNeg n.toNatClampNeg) n1 = some (.inl (eA E 6, L1, .inr (.inr (.inr (.inr (rr_ (eb E) (rc_ st n0 n1 sp.toNatClampNeg dp.toNatClampNeg n.toNatClampNeg) n1)))))) := by rw [ht1]; rfl
  have hA := (hw.1.2 n1 _ x1).2
  have hc0 : H[eb E + n0]? = some (vp_cell (eA E 6) (L0, .inr (.inr (.inr (.inr (rr_ (eb E) st n0)))))) := fo_at hw x0 0 _ rfl
  have hc1 : H[eb E + n1]? = some (vp_cell (eA E 6) (L1, .inr (.inr (.inr (.inr (rr_ (eb E) st n1)))))) := fo_at hw x1 0 _ rfl
  obtain ⟨-, k0, hk0, cm0, hkk0⟩ := (hK.1.2 4 _ rfl).1 L0 (fun j => va_rf (rr_ (eb E) st n0 j))
  obtain ⟨-, k1, hk1, cm1, hkk1⟩ := (hK.1.2 4 _ rfl).1 L1 (fun j => va_rf (rr_ (eb E) st n1 j))
  have ecp : copied (vp_cell (eA E 6) (L0, .inr (.inr (.inr (.inr (rr_ (eb E) st n0)))))) (vp_cell (eA E 6) (L1, .inr (.inr (.inr (.inr (rr_ (eb E) st n1)))))) sp dp n = vp_cell (eA E 6) (L1, .inr (.inr (.inr (.inr (rr_ (eb E) (rc_ st n0 n1 sp.toNatClampNeg dp.toNatClampNeg n.toNatClampNeg) n1))))) := by
    rw [vp_cell_q, vp_cell_q, vp_cell_q]
    refine (va_copied (fun z => va_rf z) (eA E 6) (eA E 6) (rr_ (eb E) st n0) (rr_ (eb E) st n1) h4).trans ?_
    congr 1
    funext k
    unfold rr_
    rw [gr_rc]
    unfold va_cpy
    by_cases hk : dp.toNatClampNeg ≤ k ∧ k < dp.toNatClampNeg + n.toNatClampNeg
    · rw [if_pos hk, if_pos ⟨rfl, hk⟩]
    · rw [if_neg hk, if_neg (fun h => hk h.2)]
  have e9 : nativeFrameWords "java/lang/System" "arraycopy" 5 = 7 := by decide +kernel
  have h18 : 2 * 0 + (rest.map fun v => v.category).sum + (nativeFrameWords "java/lang/System" "arraycopy" 5 + 11) ≤ R.locals := by rw [e9]; omega
  intro T hT X0
  obtain ⟨vm', X', step⟩ := X0.arraycopy hx hown (hts _ hlink) (hts _ hnat) (hts _ hstat) (hts _ hini) (src := eb E + n0) (dst := eb E + n1) (cs := vp_cell (eA E 6) (L0, .inr (.inr (.inr (.inr (rr_ (eb E) st n0)))))) (cd := vp_cell (eA E 6) (L1, .inr (.inr (.inr (.inr (rr_ (eb E) st n1)))))) (srcPos := sp) (destPos := dp) (n := n) (by rw [hT]; exact hc0) (by rw [hT]; exact hc1)
    (fun _ h => by cases h) (fun _ h => by cases h) (fun h => by cases h) (fun h => by cases h) hk0 hk1 hkk0 hkk1 rfl h1 h2 h3
    (by rw [nn sp h1, nn n h3]; show ¬ _ > ((arrV (eA E 6) L0 (fun j => va_rf (rr_ (eb E) st n0 j))).slots.size : Int); rw [arrV_size]; omega)
    (by rw [nn dp h2, nn n h3]; show ¬ _ > ((arrV (eA E 6) L1 (fun j => va_rf (rr_ (eb E) st n1 j))).slots.size : Int); rw [arrV_size]; omega)
    (fun vm₁ hal i hi => by
      have e0 : (vp_cell (eA E 6) (L0, .inr (.inr (.inr (.inr (rr_ (eb E) st n0)))))).slots.getD (sp.toNatClampNeg + i) .null = va_rf (rr_ (eb E) st n0 (sp.toNatClampNeg + i)) := by
        show (arrV (eA E 6) L0 (fun j => va_rf (rr_ (eb E) st n0 j))).slots.getD _ _ = _
        rw [Array.getD_eq_getD_getElem?, arrV_read _ _ (by omega)]
        rfl
      rw [e0]
      unfold rr_
      cases hy : gr_ st n0 (sp.toNatClampNeg + i) with
      | none => exact ⟨rfl, trivial⟩
      | some v =>
        obtain ⟨hv1, hv2⟩ := fo_obs_at hob hi hy
        have hlv : (et E v).2 < fo_cl.length := hv2
        have hcv : fo_cl[(et E v).2]? = some fo_cl[(et E v).2] := List.getElem?_eq_getElem hlv
        have hv : et E v = (1, (et E v).2) := Prod.ext hv1 rfl
        obtain ⟨r', hr', cellV, g1, g2, g3, -⟩ := fo_ob hw hv 0 _ rfl
        have hcls := (hK.1.1 _ _ hcv).2
        obtain ⟨kA, comp, r1, r2, r3, -⟩ := (hK.1.2 4 _ rfl).2
        cases hk1.symm.trans r1
        cases hkk1.symm.trans r2
        obtain ⟨kC, hkC, -⟩ := hcls.2
        obtain ⟨kE, hkE, -⟩ := Vm.findClass_spec r3
        obtain ⟨kC', hkC', -⟩ := hal.2.2 _ _ hkC
        obtain ⟨kE', hkE', -⟩ := hal.2.2 _ _ hkE
        refine ⟨rfl, cellV, (show T.heap[eb E + v]? = some cellV by rw [hT]; exact g1), (fun q h => by rw [g3] at h; cases h), ⟨kC', by rw [g2]; exact hkC'⟩, ⟨kE', hkE'⟩, ?_⟩
        show vm₁.assignable _ _ = true
        rw [hal.assignable, g2]
        exact vb_asgC (hK.2.1 _ (fo_obj _ _ hcv)) _ _ r3 hcls.1)
    (g := F0 m pc ls (.int n :: .int dp :: .ref (eb E + n1) :: .int sp :: .ref (eb E + n0) :: rest)) rfl (by show ls.size = c.maxLocals; rw [hml]; exact hsz) (rest := rest) rfl (by rw [hb]; exact hdg) hframes h18
  rw [ecp] at X' step
  have hl : eb E + n1 < H.size := (Array.getElem?_eq_some_iff.mp hc1).1
  generalize hcell : vp_cell (eA E 6) (L1, .inr (.inr (.inr (.inr (rr_ (eb E) (rc_ st n0 n1 sp.toNatClampNeg dp.toNatClampNeg n.toNatClampNeg) n1))))) = cN at X' step
  have hheap : ((T.setVm vm').setCell (eb E + n1) cN).heap = H.setIfInBounds (eb E + n1) cN := by rw [← hT]; rfl
  have oq : ∀ q : Nat, q ≠ eb E + n1 → (H.setIfInBounds (eb E + n1) cN)[q]? = H[q]? := fun q hq => by simp [Array.getElem?_setIfInBounds, Ne.symm hq]
  have h9 : ∀ a, a ≠ n1 → ∀ j, gi_ (rc_ st n0 n1 sp.toNatClampNeg dp.toNatClampNeg n.toNatClampNeg) a j = gi_ st a j ∧ gl_ (rc_ st n0 n1 sp.toNatClampNeg dp.toNatClampNeg n.toNatClampNeg) a j = gl_ st a j ∧ gr_ (rc_ st n0 n1 sp.toNatClampNeg dp.toNatClampNeg n.toNatClampNeg) a j = gr_ st a j := fun a ha j => ⟨rfl, rfl, by rw [gr_rc, if_neg (fun h => ha h.1)]⟩
  obtain ⟨t, a1, b1⟩ := kk _ _ _ ⟨⟨by rw [Array.size_setIfInBounds]; exact hw.1.1, fun a x hx => by
      by_cases ha : a = n1
      · subst ha
        cases x2.symm.trans hx
        refine ⟨?_, hA⟩
        show (H.setIfInBounds (eb E + a) cN)[eb E + a]? = some _
        rw [← hcell]
        simp [Array.getElem?_setIfInBounds, hl]
      · have h8 := h9 a ha
        rw [fo_ce_of (fun j => (h8 j).1) (fun j => (h8 j).2.1) (fun j => (h8 j).2.2)] at hx
        have h7 := hw.1.2 a x hx
        exact ⟨h7.1.kept (oq _ (show eb E + a ≠ eb E + n1 by omega)), h7.2⟩⟩, ⟨by simp; exact hw.2.1, fun q g1 g2 => by
      rw [oq q (fun e => g2 (by rw [e]; exact hA))]
      exact hw.2.2.1 q g1 g2, fun q hq => by
      rcases List.mem_append.mp hq with h | h
      · exact hw.2.2.2 q h
      · obtain ⟨z, -, hz⟩ := List.mem_map.mp h
        rw [← hz]
        exact hA⟩⟩ hf _ hheap X'
  exact ⟨t, step t a1, b1⟩
end FI1
/-- a world, one of whose objects holds what leads out of it -/
def fo_Sy (E : fo_E) (s : State) (st : fo_St) (H : Heap) (locs : List Loc) (n ci : Nat) (fs : List Value) : Prop := (H.size = ez E ∧ ∀ (a : Nat) (x : va_E), a ≠ n → fo_ce E (et E a) st a = some x → va_at (eD E) fo_cl (eb E + a, x) H ∧ eF E (eb E + a)) ∧ va_at (eD E) fo_cl (eb E + n, .inr (ci, fs)) H ∧ eF E (eb E + n) ∧ va_S (eF E) s.heap H locs
theorem fo_Sy.of {E : fo_E} {s : State} {st : fo_St} {H : Heap} {locs : List Loc} {n ci : Nat} (hw : fo_S E s st H locs) (ht : et E n = (1, ci)) : fo_Sy E s st H locs n ci (fo_fl (eb E) st n (fo_sh ci)) := by
  have h := hw.1.2 n (.inr (ci, fo_fl (eb E) st n (fo_sh ci))) (by rw [ht]; rfl)
  exact ⟨⟨hw.1.1, fun a x _ hx => hw.1.2 a x hx⟩, h.1, h.2, hw.2⟩
theorem fo_Sy.to {E : fo_E} {s : State} {st : fo_St} {H : Heap} {locs : List Loc} {n ci : Nat} (h : fo_Sy E s st H locs n ci (fo_fl (eb E) st n (fo_sh ci))) (ht : et E n = (1, ci)) : fo_S E s st H locs := by
  refine ⟨⟨h.1.1, fun a x hx => ?_⟩, h.2.2.2⟩
  by_cases ha : a = n
  · subst ha
    rw [ht] at hx
    cases hx
    exact ⟨h.2.1, h.2.2.1⟩
  · exact h.1.2 a x ha hx
section FI2
variable {p : Program} {l : Launch} {e : Env} {R : Room} {s : State} {m : MethodId} {args : Array Value} {below : List Frame} {meth : Method} {c : Code} {H : Heap} {locs : List Loc} {cells slots : Nat} {Q : State → Prop}
variable {cc : ByteArray} {nL pc : Nat} {ls : Array Slot} {rest stk : List Value} {own : String} {E : fo_E} {st : fo_St} {α β : Type} {y : α} {cN cS nx ns : Nat} {tg : Nat → Nat × Nat} {a0 a1 : fo_A}
theorem fo_puty (X : fo_X E p m c cc nL s args own meth) {n k ci index : Nat} {q : vw_C} {ty : Nat → FieldType} {fs : List Value} (hw : fo_Sy E s st H locs n ci fs) (hc : fo_C ci q ty) (hlen : k < fs.length) (hk : k < q.2.2) (hfin : (q.2.1 k).2.2.2 = false) (hlink : Cond.fieldLink own index (q.2.1 k).1 (q.2.1 k).2.1 (q.2.1 k).2.2.1 ∈ lw_all) {v : Value} (hn : narrow (ty k) v = v) (hfit : fits (ty k) v = true) (hdg : decode cc pc = .ok (.putfield index, 3))
    (kk : ∀ (H1 : Heap) (locs1 : List Loc), fo_Sy E s st H1 locs1 n ci (fs.set k v) → W p l e R s m args below meth c H1 locs1 cells slots Q (F0 m (pc + 3) ls rest)) : W p l e R s m args below meth c H locs cells slots Q (F0 m pc ls (v :: .ref (eb E + n) :: rest)) := by
  obtain ⟨⟨hx, hb, hml, hown, hts⟩, hK, hlo⟩ := X
  have hC := hc
  obtain ⟨g1, g2, g3, g4, g5⟩ := hc
  obtain ⟨hW1, ⟨r, r1, cell, q1, q2, q3, q4⟩, hA, hS9⟩ := hw
  have hr : r = q := Option.some.inj (r1.symm.trans g1)
  subst hr
  obtain ⟨hS, hfc, kC, hkC, hkind⟩ := hK.1.1 ci _ g1
  obtain ⟨cf, kf, fi, f, hi, hsl⟩ := hS k hk
  have hlay := hts _ (g2 _ (u_in_lay hk))
  unfold u_lay at hlay
  rw [if_neg (by rw [hfin]; decide)] at hlay
  have hst := (u_facts hfc hkC (u_lays hts g2 hk) hi).1
  have h6 := u_store hfc hkC hkind hlay hi (g4 k hk) hn hfit
  have hap := va_apart (own := r.1) hts g2 ty g4 g5 hK.1 g1
  refine W.putK hx hb (f := f) ⟨hown, hts _ hlink, ⟨_, _, _, hi⟩, hst⟩ (by rw [q2]; exact h6) q1 q3 (by rw [hsl]; exact k2_hasslot (q4 k hk)) rfl rfl hdg fun H' e1 e2 e3 => ?_
  rw [hsl] at e1 ⊢
  refine kk H' _ ⟨⟨by rw [e2]; exact hW1.1, fun a x ha hx9 => ?_⟩, ⟨r, g1, ?_⟩, hA, hS9.put e2 e3 hA⟩
  · have h8 := hW1.2 a x ha hx9
    exact ⟨h8.1.kept (e3 _ (show eb E + a ≠ eb E + n by omega)), h8.2⟩
  · exact t_OB.to (V := updV (vp_V fs) k v) ⟨_, e1, q2, q3, t_set q4 hap hk v⟩ (fun j _ => by rw [vp_updV_set hlen v j])
end FI2
section FI3
variable {p : Program} {l : Launch} {e : Env} {R : Room} {s : State} {m : MethodId} {args : Array Value} {below : List Frame} {meth : Method} {c : Code} {H : Heap} {locs : List Loc} {cells slots : Nat} {Q : State → Prop}
variable {cc : ByteArray} {nL pc : Nat} {ls : Array Slot} {rest stk : List Value} {own : String} {E : fo_E} {st : fo_St} {α β : Type} {y : α} {cN cS nx ns : Nat} {tg : Nat → Nat × Nat} {a0 a1 : fo_A}
theorem fo_getiS (X : fo_X E p m c cc nL s args own meth) (hw : fo_S E s st H locs) {n k ci index : Nat} {ref : String} {q : vw_C} {ty : Nat → FieldType} (hc : fo_C ci q ty) (ht : et E n = (1, ci)) (hk : k < q.2.2) (hkd : (fo_sh ci).getD k 0 = 0) (hlink : Cond.fieldLink own index ref (q.2.1 k).2.1 (q.2.1 k).2.2.1 ∈ lw_all) (hsm : Cond.sameField ref (q.2.1 k).1 (q.2.1 k).2.1 (q.2.1 k).2.2.1 ∈ lw_all) (hdg : decode cc pc = .ok (.getfield index, 3))
    (kk : W p l e R s m args below meth c H locs cells slots Q (F0 m (pc + 3) ls (.int (gi_ st n k) :: rest))) : W p l e R s m args below meth c H locs cells slots Q (F0 m pc ls (.ref (eb E + n) :: rest)) := by
  obtain ⟨⟨hx, hb, hml, hown, hts⟩, hK, hlo⟩ := X
  obtain ⟨h1, h2, h3, h4, h5⟩ := hc
  obtain ⟨C, T, N⟩ := q
  have hv : fo_fv (eb E) st n k ((fo_sh ci).getD k 0) = .int (gi_ st n k) := by rw [hkd]; rfl
  exact va_get hx hb hts h2 hown hK.1 (fo_ob hw ht) 0 rfl h1 k hk (hts _ hlink) (fun x9 h9 => u_same (hts _ hsm) x9 h9) (by rw [← hv]; exact fo_fl_get (by rw [h3]; exact hk)) hdg kk
theorem fo_putiS (X : fo_X E p m c cc nL s args own meth) (hw : fo_S E s st H locs) {n k ci index : Nat} {ref : String} {q : vw_C} {ty : Nat → FieldType} (hc : fo_C ci q ty) (ht : et E n = (1, ci)) (hk : k < q.2.2) (hkd : (fo_sh ci).getD k 0 = 0) (hfin : (q.2.1 k).2.2.2 = false) (hlink : Cond.fieldLink own index ref (q.2.1 k).2.1 (q.2.1 k).2.2.1 ∈ lw_all) (hsm : Cond.sameField ref (q.2.1 k).1 (q.2.1 k).2.1 (q.2.1 k).2.2.1 ∈ lw_all) {v : Int32} (hn : narrow (ty k) (.int v) = .int v ∧ fits (ty k) (.int v) = true) (hdg : decode cc pc = .ok (.putfield index, 3)) {kf : fo_St → Option α} (hf : lt_ (si_ st n k v) kf = some y)
    (kk : ∀ (st1 : fo_St) (H1 : Heap) (locs1 : List Loc), fo_S E s st1 H1 locs1 → kf st1 = some y → W p l e R s m args below meth c H1 locs1 cells slots Q (F0 m (pc + 3) ls rest)) : W p l e R s m args below meth c H locs cells slots Q (F0 m pc ls (.int v :: .ref (eb E + n) :: rest)) := by
  obtain ⟨⟨hx, hb, hml, hown, hts⟩, hK, hlo⟩ := X
  have hC := hc
  obtain ⟨g1, g2, g3, g4, g5⟩ := hc
  have hP := fo_ob hw ht
  obtain ⟨r, r1, cell, q1, q2, q3, q4⟩ := hP 0 _ rfl
  have hr : r = q := Option.some.inj (r1.symm.trans g1)
  subst hr
  obtain ⟨hS, hfc, kC, hkC, hkind⟩ := hK.1.1 ci _ g1
  obtain ⟨cf, kf9, fi, f, hi, hsl⟩ := hS k hk
  have hlay := hts _ (g2 _ (u_in_lay hk))
  unfold u_lay at hlay
  rw [if_neg (by rw [hfin]; decide)] at hlay
  have hst := (u_facts hfc hkC (u_lays hts g2 hk) hi).1
  have h6 := u_store hfc hkC hkind hlay hi (g4 k hk) hn.1 hn.2
  refine W.putK hx hb (f := f) ⟨hown, hts _ hlink, ⟨_, _, _, u_same (hts _ hsm) _ hi⟩, hst⟩ (by rw [q2]; exact h6) q1 q3 (by rw [hsl]; exact k2_hasslot (q4 k hk)) rfl rfl hdg fun H' e1 e2 e3 => ?_
  rw [hsl] at e1 ⊢
  exact kk _ H' _ (fo_set hw hC ht hk hK.1 hts q1 q2 q3 q4 (by rw [hkd]; exact fo_fvI) fo_si2 fo_si3 e1 e2 e3) hf
end FI3
def fJ3_init_2 (cN cS : Nat) (o : Nat) (tg0 : Nat → Nat × Nat) (nx0 ns0 : Nat) (st0 : fo_St) : Option ((Unit ⊕ Nat) × fo_A) := ck_ (decide (gr_ st0 o 0 = none ∧ gr_ st0 o 1 = none ∧ gr_ st0 o 2 = none ∧ gr_ st0 o 3 = none)) (some (.inl (), (tg0, nx0, ns0, st0)))
def fJ4_init (cN cS : Nat) (o : Nat) (tg0 : Nat → Nat × Nat) (nx0 ns0 : Nat) (st0 : fo_St) : Option ((Unit ⊕ Nat) × fo_A) := ba_ (fJ3_init_2 cN cS o tg0 nx0 ns0 st0) (fun x1 tg2 nx2 ns2 sa2 => some (.inl (), (tg2, nx2, ns2, sa2))) (fun nX tgX nxX nsX stX => some (.inr nX, (tgX, nxX, nsX, stX)))
theorem hm_J3_init_2 : fo_M yJ3_init_2 4 := ⟨by decide +kernel, by decide +kernel, by decide +kernel, by decide +kernel⟩
theorem hm_J4_init : fo_M yJ4_init 4 := ⟨by decide +kernel, by decide +kernel, by decide +kernel, by decide +kernel⟩
set_option maxHeartbeats 4000000 in
theorem wJ3_init_2_4 (l : Launch) (E : fo_E) (K V : Nat → Nat) (mi : Nat) (hSX : fo_SX E K V mi) (o : Nat) (fr lo : Nat) (hfr : 2 ≤ fr) (hlo : 60 ≤ lo) (cN cS : Nat) (tg0 : Nat → Nat × Nat) (nx0 ns0 : Nat) (hO : tg0 o = (1, 4)) (st0 : fo_St) (hI : fo_I E tg0 nx0) (hcN : nx0 ≤ cN) (hcS : ns0 ≤ cS) (ρZ : Unit ⊕ Nat) (aZ : fo_A) (hf : fJ3_init_2 cN cS o tg0 nx0 ns0 st0 = some (ρZ, aZ)) : CA vlV l E yJ3_init_2 (ws_ yJ3_init_2 cJ3_init_2 5 none) fr lo cN cS [.ref (eb E + o), .null, .null, .int 0, .int 0] (tg0, nx0, ns0, st0) ρZ aZ := by
  refine fea_v (a := (tg0, nx0, ns0, st0)) hm_J3_init_2 (Nat.le_of_ble_eq_true rfl) hI hcN hcS (fun p e R s m args below meth c Q hRf hRl X hnm hend hxx ls hl hz => ?_)
  replace hRf : 2 ≤ R.frames := by rw [hRf]; exact hfr
  replace hRl : 60 ≤ R.locals := by rw [hRl]; exact hlo
  have hx := X.1.1
  have hb := X.1.2.1
  have hown := X.1.2.2.2.1
  have hts := X.1.2.2.2.2
  have hl : lv_has ls 5 [(0, .ref (eb E + o)), (1, .null), (2, .null), (3, .int 0), (4, .int 0)] := hl
  have hz : fo_Z E R s cN cS (tg0, nx0, ns0, st0) tg0 nx0 ns0 st0 s.heap [] := hz
  have hw := hz.1
  show W p l e R s m args below meth c s.heap [] (nx0 - nx0) (ns0 - ns0) Q (F0 m 0 ls [])
  unfold fJ3_init_2 at hf
  obtain ⟨h0, hf⟩ := ck_e hf
  obtain ⟨h0, h1, h2, h3⟩ := of_decide_eq_true h0
  obtain ⟨-, -, -, -, -, ⟨tA, hA⟩, ⟨tB, hB⟩, -⟩ := hSX s s.heap X.2.1.2.2.1
  have e0 : fo_fl (eb (eW E tg0 nx0)) st0 o (fo_sh 4) = [.null, .null, .null, .null, va_rf ((gr_ st0 o 4).map (fun q => eb E + q)), .int (gi_ st0 o 5)] := by
    have : fo_fl (eb (eW E tg0 nx0)) st0 o (fo_sh 4) = [va_rf ((gr_ st0 o 0).map (fun q => eb E + q)), va_rf ((gr_ st0 o 1).map (fun q => eb E + q)), va_rf ((gr_ st0 o 2).map (fun q => eb E + q)), va_rf ((gr_ st0 o 3).map (fun q => eb E + q)), va_rf ((gr_ st0 o 4).map (fun q => eb E + q)), .int (gi_ st0 o 5)] := rfl
    rw [this, h0, h1, h2, h3]
    rfl
  have hy := fo_Sy.of (n := o) (ci := 4) hw hO
  rw [e0] at hy
  replace X : fo_X (eW E tg0 nx0) p m c cJ3_init_2 5 s args yJ3_init_2.cls meth := X
  generalize hHH : s.heap = H at hz hw hy ⊢
  generalize ([] : List Loc) = locs at hz hw hy ⊢
  refine lv_aload_n hx hb dJ3_init_2_0 rfl (lv_at hl 0 rfl) ?_
  refine W.objInit hx hb X.1.2.2.2.1 (X.1.2.2.2.2 _ q296) (X.1.2.2.2.2 _ q153) (X.1.2.2.2.2 _ q154) rfl (by rw [X.1.2.2.1]; exact hl.1) rfl dJ3_init_2_1 (Nat.le_trans (Nat.le_of_ble_eq_true rfl) hRf) (Nat.le_trans (Nat.le_of_ble_eq_true rfl) hRl) ?_
  show W p l e R s m args below meth c H locs (nx0 - nx0) (ns0 - ns0) Q (F0 m 4 ls [])
  refine lv_aload_n hx hb dJ3_init_2_4 rfl (lv_at hl 0 rfl) ?_
  refine lv_aload_n hx hb dJ3_init_2_5 rfl (lv_at hl 0 rfl) ?_
  refine fo_puty X hy fc_X4 (k := 0) (Nat.le_of_ble_eq_true rfl) (by decide) rfl q322 rfl rfl dJ3_init_2_6 (fun H locs hy => ?_)
  refine lv_aload_n hx hb dJ3_init_2_9 rfl (lv_at hl 0 rfl) ?_
  rcases tA with _ | tA <;> rcases tB with _ | tB
  · replace hA : va_Z "java/lang/Throwable" "UNASSIGNED_STACK" "[Ljava/lang/StackTraceElement;" .null (eF E) s s.heap := hA
    replace hB : va_Z "java/lang/Throwable" "SUPPRESSED_SENTINEL" "Ljava/util/List;" .null (eF E) s s.heap := hB
    refine va_gets hx hb hA hy.2.2.2 hown (hts _ q297) (fun _ h => h) dJ3_init_2_10 ?_
    refine fo_puty X hy fc_X4 (k := 1) (Nat.le_of_ble_eq_true rfl) (by decide) rfl q323 rfl rfl dJ3_init_2_13 (fun H locs hy => ?_)
    refine lv_aload_n hx hb dJ3_init_2_16 rfl (lv_at hl 0 rfl) ?_
    refine va_gets hx hb hB hy.2.2.2 hown (hts _ q299) (fun _ h => h) dJ3_init_2_17 ?_
    refine fo_puty X hy fc_X4 (k := 2) (Nat.le_of_ble_eq_true rfl) (by decide) rfl q324 rfl rfl dJ3_init_2_20 (fun H locs hy => ?_)
    refine lv_iload hx hb dJ3_init_2_23 (lv_at hl 4 rfl) ?_
    refine fb_zeq (tgt := 36) hx hb dJ3_init_2_25 (by decide) (t := some ()) (f := none) (y := ()) (by rw [if_pos rfl]) (fun _ => ?_) (fun h => by cases h)
    refine lv_aload_n hx hb dJ3_init_2_36 rfl (lv_at hl 0 rfl) ?_
    refine lv_null hx hb dJ3_init_2_37 ?_
    refine fo_puty X hy fc_X4 (k := 1) (Nat.le_of_ble_eq_true rfl) (by decide) rfl q323 rfl rfl dJ3_init_2_38 (fun H locs hy => ?_)
    refine lv_aload_n hx hb dJ3_init_2_41 rfl (lv_at hl 0 rfl) ?_
    refine lv_aload_nN hx hb dJ3_init_2_42 rfl (lv_at hl 1 rfl) ?_
    refine fo_puty X hy fc_X4 (k := 3) (Nat.le_of_ble_eq_true rfl) (by decide) rfl q321 rfl rfl dJ3_init_2_43 (fun H locs hy => ?_)
    refine lv_aload_n hx hb dJ3_init_2_46 rfl (lv_at hl 0 rfl) ?_
    refine lv_aload_nN hx hb dJ3_init_2_47 rfl (lv_at hl 2 rfl) ?_
    refine fo_puty X hy fc_X4 (k := 0) (Nat.le_of_ble_eq_true rfl) (by decide) rfl q322 rfl rfl dJ3_init_2_48 (fun H locs hy => ?_)
    refine lv_iload_n hx hb dJ3_init_2_51 rfl (lv_at hl 3 rfl) ?_
    refine fb_zne (tgt := 60) hx hb dJ3_init_2_52 (by decide) (t := none) (f := some ()) (y := ()) (by rw [if_neg (by decide)]) (fun h => by cases h) (fun _ => ?_)
    refine lv_aload_n hx hb dJ3_init_2_55 rfl (lv_at hl 0 rfl) ?_
    refine lv_null hx hb dJ3_init_2_56 ?_
    refine fo_puty X hy fc_X4 (k := 2) (Nat.le_of_ble_eq_true rfl) (by decide) rfl q324 rfl rfl dJ3_init_2_57 (fun H locs hy => ?_)
    have hw2 : fo_S (eW E tg0 nx0) s st0 H locs := fo_Sy.to (n := o) (ci := 4) (by rw [e0]; exact hy) hO
    exact fda_v hend (hz.s hw2) hf dJ3_init_2_60
  · replace hA : va_Z "java/lang/Throwable" "UNASSIGNED_STACK" "[Ljava/lang/StackTraceElement;" .null (eF E) s s.heap := hA
    replace hB : va_Z "java/lang/Throwable" "SUPPRESSED_SENTINEL" "Ljava/util/List;" (.ref tB) (eF E) s s.heap := hB
    refine va_gets hx hb hA hy.2.2.2 hown (hts _ q297) (fun _ h => h) dJ3_init_2_10 ?_
    refine fo_puty X hy fc_X4 (k := 1) (Nat.le_of_ble_eq_true rfl) (by decide) rfl q323 rfl rfl dJ3_init_2_13 (fun H locs hy => ?_)
    refine lv_aload_n hx hb dJ3_init_2_16 rfl (lv_at hl 0 rfl) ?_
    refine va_gets hx hb hB hy.2.2.2 hown (hts _ q299) (fun _ h => h) dJ3_init_2_17 ?_
    refine fo_puty X hy fc_X4 (k := 2) (Nat.le_of_ble_eq_true rfl) (by decide) rfl q324 rfl rfl dJ3_init_2_20 (fun H locs hy => ?_)
    refine lv_iload hx hb dJ3_init_2_23 (lv_at hl 4 rfl) ?_
    refine fb_zeq (tgt := 36) hx hb dJ3_init_2_25 (by decide) (t := some ()) (f := none) (y := ()) (by rw [if_pos rfl]) (fun _ => ?_) (fun h => by cases h)
    refine lv_aload_n hx hb dJ3_init_2_36 rfl (lv_at hl 0 rfl) ?_
    refine lv_null hx hb dJ3_init_2_37 ?_
    refine fo_puty X hy fc_X4 (k := 1) (Nat.le_of_ble_eq_true rfl) (by decide) rfl q323 rfl rfl dJ3_init_2_38 (fun H locs hy => ?_)
    refine lv_aload_n hx hb dJ3_init_2_41 rfl (lv_at hl 0 rfl) ?_
    refine lv_aload_nN hx hb dJ3_init_2_42 rfl (lv_at hl 1 rfl) ?_
    refine fo_puty X hy fc_X4 (k := 3) (Nat.le_of_ble_eq_true rfl) (by decide) rfl q321 rfl rfl dJ3_init_2_43 (fun H locs hy => ?_)
    refine lv_aload_n hx hb dJ3_init_2_46 rfl (lv_at hl 0 rfl) ?_
    refine lv_aload_nN hx hb dJ3_init_2_47 rfl (lv_at hl 2 rfl) ?_
    refine fo_puty X hy fc_X4 (k := 0) (Nat.le_of_ble_eq_true rfl) (by decide) rfl q322 rfl rfl dJ3_init_2_48 (fun H locs hy => ?_)
    refine lv_iload_n hx hb dJ3_init_2_51 rfl (lv_at hl 3 rfl) ?_
    refine fb_zne (tgt := 60) hx hb dJ3_init_2_52 (by decide) (t := none) (f := some ()) (y := ()) (by rw [if_neg (by decide)]) (fun h => by cases h) (fun _ => ?_)
    refine lv_aload_n hx hb dJ3_init_2_55 rfl (lv_at hl 0 rfl) ?_
    refine lv_null hx hb dJ3_init_2_56 ?_
    refine fo_puty X hy fc_X4 (k := 2) (Nat.le_of_ble_eq_true rfl) (by decide) rfl q324 rfl rfl dJ3_init_2_57 (fun H locs hy => ?_)
    have hw2 : fo_S (eW E tg0 nx0) s st0 H locs := fo_Sy.to (n := o) (ci := 4) (by rw [e0]; exact hy) hO
    exact fda_v hend (hz.s hw2) hf dJ3_init_2_60
  · replace hA : va_Z "java/lang/Throwable" "UNASSIGNED_STACK" "[Ljava/lang/StackTraceElement;" (.ref tA) (eF E) s s.heap := hA
    replace hB : va_Z "java/lang/Throwable" "SUPPRESSED_SENTINEL" "Ljava/util/List;" .null (eF E) s s.heap := hB
    refine va_gets hx hb hA hy.2.2.2 hown (hts _ q297) (fun _ h => h) dJ3_init_2_10 ?_
    refine fo_puty X hy fc_X4 (k := 1) (Nat.le_of_ble_eq_true rfl) (by decide) rfl q323 rfl rfl dJ3_init_2_13 (fun H locs hy => ?_)
    refine lv_aload_n hx hb dJ3_init_2_16 rfl (lv_at hl 0 rfl) ?_
    refine va_gets hx hb hB hy.2.2.2 hown (hts _ q299) (fun _ h => h) dJ3_init_2_17 ?_
    refine fo_puty X hy fc_X4 (k := 2) (Nat.le_of_ble_eq_true rfl) (by decide) rfl q324 rfl rfl dJ3_init_2_20 (fun H locs hy => ?_)
    refine lv_iload hx hb dJ3_init_2_23 (lv_at hl 4 rfl) ?_
    refine fb_zeq (tgt := 36) hx hb dJ3_init_2_25 (by decide) (t := some ()) (f := none) (y := ()) (by rw [if_pos rfl]) (fun _ => ?_) (fun h => by cases h)
    refine lv_aload_n hx hb dJ3_init_2_36 rfl (lv_at hl 0 rfl) ?_
    refine lv_null hx hb dJ3_init_2_37 ?_
    refine fo_puty X hy fc_X4 (k := 1) (Nat.le_of_ble_eq_true rfl) (by decide) rfl q323 rfl rfl dJ3_init_2_38 (fun H locs hy => ?_)
    refine lv_aload_n hx hb dJ3_init_2_41 rfl (lv_at hl 0 rfl) ?_
    refine lv_aload_nN hx hb dJ3_init_2_42 rfl (lv_at hl 1 rfl) ?_
    refine fo_puty X hy fc_X4 (k := 3) (Nat.le_of_ble_eq_true rfl) (by decide) rfl q321 rfl rfl dJ3_init_2_43 (fun H locs hy => ?_)
    refine lv_aload_n hx hb dJ3_init_2_46 rfl (lv_at hl 0 rfl) ?_
    refine lv_aload_nN hx hb dJ3_init_2_47 rfl (lv_at hl 2 rfl) ?_
    refine fo_puty X hy fc_X4 (k := 0) (Nat.le_of_ble_eq_true rfl) (by decide) rfl q322 rfl rfl dJ3_init_2_48 (fun H locs hy => ?_)
    refine lv_iload_n hx hb dJ3_init_2_51 rfl (lv_at hl 3 rfl) ?_
    refine fb_zne (tgt := 60) hx hb dJ3_init_2_52 (by decide) (t := none) (f := some ()) (y := ()) (by rw [if_neg (by decide)]) (fun h => by cases h) (fun _ => ?_)
    refine lv_aload_n hx hb dJ3_init_2_55 rfl (lv_at hl 0 rfl) ?_
    refine lv_null hx hb dJ3_init_2_56 ?_
    refine fo_puty X hy fc_X4 (k := 2) (Nat.le_of_ble_eq_true rfl) (by decide) rfl q324 rfl rfl dJ3_init_2_57 (fun H locs hy => ?_)
    have hw2 : fo_S (eW E tg0 nx0) s st0 H locs := fo_Sy.to (n := o) (ci := 4) (by rw [e0]; exact hy) hO
    exact fda_v hend (hz.s hw2) hf dJ3_init_2_60
  · replace hA : va_Z "java/lang/Throwable" "UNASSIGNED_STACK" "[Ljava/lang/StackTraceElement;" (.ref tA) (eF E) s s.heap := hA
    replace hB : va_Z "java/lang/Throwable" "SUPPRESSED_SENTINEL" "Ljava/util/List;" (.ref tB) (eF E) s s.heap := hB
    refine va_gets hx hb hA hy.2.2.2 hown (hts _ q297) (fun _ h => h) dJ3_init_2_10 ?_
    refine fo_puty X hy fc_X4 (k := 1) (Nat.le_of_ble_eq_true rfl) (by decide) rfl q323 rfl rfl dJ3_init_2_13 (fun H locs hy => ?_)
    refine lv_aload_n hx hb dJ3_init_2_16 rfl (lv_at hl 0 rfl) ?_
    refine va_gets hx hb hB hy.2.2.2 hown (hts _ q299) (fun _ h => h) dJ3_init_2_17 ?_
    refine fo_puty X hy fc_X4 (k := 2) (Nat.le_of_ble_eq_true rfl) (by decide) rfl q324 rfl rfl dJ3_init_2_20 (fun H locs hy => ?_)
    refine lv_iload hx hb dJ3_init_2_23 (lv_at hl 4 rfl) ?_
    refine fb_zeq (tgt := 36) hx hb dJ3_init_2_25 (by decide) (t := some ()) (f := none) (y := ()) (by rw [if_pos rfl]) (fun _ => ?_) (fun h => by cases h)
    refine lv_aload_n hx hb dJ3_init_2_36 rfl (lv_at hl 0 rfl) ?_
    refine lv_null hx hb dJ3_init_2_37 ?_
    refine fo_puty X hy fc_X4 (k := 1) (Nat.le_of_ble_eq_true rfl) (by decide) rfl q323 rfl rfl dJ3_init_2_38 (fun H locs hy => ?_)
    refine lv_aload_n hx hb dJ3_init_2_41 rfl (lv_at hl 0 rfl) ?_
    refine lv_aload_nN hx hb dJ3_init_2_42 rfl (lv_at hl 1 rfl) ?_
    refine fo_puty X hy fc_X4 (k := 3) (Nat.le_of_ble_eq_true rfl) (by decide) rfl q321 rfl rfl dJ3_init_2_43 (fun H locs hy => ?_)
    refine lv_aload_n hx hb dJ3_init_2_46 rfl (lv_at hl 0 rfl) ?_
    refine lv_aload_nN hx hb dJ3_init_2_47 rfl (lv_at hl 2 rfl) ?_
    refine fo_puty X hy fc_X4 (k := 0) (Nat.le_of_ble_eq_true rfl) (by decide) rfl q322 rfl rfl dJ3_init_2_48 (fun H locs hy => ?_)
    refine lv_iload_n hx hb dJ3_init_2_51 rfl (lv_at hl 3 rfl) ?_
    refine fb_zne (tgt := 60) hx hb dJ3_init_2_52 (by decide) (t := none) (f := some ()) (y := ()) (by rw [if_neg (by decide)]) (fun h => by cases h) (fun _ => ?_)
    refine lv_aload_n hx hb dJ3_init_2_55 rfl (lv_at hl 0 rfl) ?_
    refine lv_null hx hb dJ3_init_2_56 ?_
    refine fo_puty X hy fc_X4 (k := 2) (Nat.le_of_ble_eq_true rfl) (by decide) rfl q324 rfl rfl dJ3_init_2_57 (fun H locs hy => ?_)
    have hw2 : fo_S (eW E tg0 nx0) s st0 H locs := fo_Sy.to (n := o) (ci := 4) (by rw [e0]; exact hy) hO
    exact fda_v hend (hz.s hw2) hf dJ3_init_2_60
set_option maxHeartbeats 4000000 in
theorem wJ4_init_4 (l : Launch) (E : fo_E) (K V : Nat → Nat) (mi : Nat) (hSX : fo_SX E K V mi) (o : Nat) (fr lo : Nat) (hfr : 3 ≤ fr) (hlo : 90 ≤ lo) (cN cS : Nat) (tg0 : Nat → Nat × Nat) (nx0 ns0 : Nat) (hO : tg0 o = (1, 4)) (st0 : fo_St) (hI : fo_I E tg0 nx0) (hcN : nx0 ≤ cN) (hcS : ns0 ≤ cS) (ρZ : Unit ⊕ Nat) (aZ : fo_A) (hf : fJ4_init cN cS o tg0 nx0 ns0 st0 = some (ρZ, aZ)) : CA vlV l E yJ4_init (ws_ yJ4_init cJ4_init 5 none) fr lo cN cS [.ref (eb E + o), .null, .null, .int 0, .int 0] (tg0, nx0, ns0, st0) ρZ aZ := by
  refine fea_v (a := (tg0, nx0, ns0, st0)) hm_J4_init (Nat.le_of_ble_eq_true rfl) hI hcN hcS (fun p e R s m args below meth c Q hRf hRl X hnm hend hxx ls hl hz => ?_)
  replace hRf : 3 ≤ R.frames := by rw [hRf]; exact hfr
  replace hRl : 90 ≤ R.locals := by rw [hRl]; exact hlo
  have hx := X.1.1
  have hb := X.1.2.1
  have hl : lv_has ls 5 [(0, .ref (eb E + o)), (1, .null), (2, .null), (3, .int 0), (4, .int 0)] := hl
  have hz : fo_Z E R s cN cS (tg0, nx0, ns0, st0) tg0 nx0 ns0 st0 s.heap [] := hz
  have hw := hz.1
  show W p l e R s m args below meth c s.heap [] (nx0 - nx0) (ns0 - ns0) Q (F0 m 0 ls [])
  unfold fJ4_init at hf
  generalize s.heap = H at hz hw ⊢
  generalize ([] : List Loc) = locs at hz hw ⊢
  refine lv_aload_n hx hb dJ4_init_0 rfl (lv_at hl 0 rfl) ?_
  refine lv_aload_nN hx hb dJ4_init_1 rfl (lv_at hl 1 rfl) ?_
  refine lv_aload_nN hx hb dJ4_init_2 rfl (lv_at hl 2 rfl) ?_
  refine lv_iload_n hx hb dJ4_init_3 rfl (lv_at hl 3 rfl) ?_
  refine lv_iload hx hb dJ4_init_4 (lv_at hl 4 rfl) ?_
  refine fa_I (fr := 2) (lo := 60) (val := vlV) (rest := []) (As := [.null, .null, .int 0, .int 0]) X hz hm_J3_init_2 q319 q118 q317 q318 rfl ⟨by omega, by omega⟩ rfl rfl hl.1 (Nat.le_of_ble_eq_true rfl) dJ4_init_6 (fun rQ aQ hQ => wJ3_init_2_4 l E K V mi hSX o (2) (60) (Nat.le_refl _) (Nat.le_refl _) cN cS tg0 nx0 ns0 hO st0 hI hz.2.2.2.2.2.2.1 hz.2.2.2.2.2.2.2.2 rQ aQ hQ) hf (fun nX EX tgX nxX nsX stX H locs hTX hxX hz2 hf => ?_) (fun x1 tg2 nx2 ns2 sa2 H locs hext hz2 hf => ?_)
  · exact fda_x hxx hTX hz2 hf
  exact fda_v hend hz2 hf dJ4_init_9

set_option maxHeartbeats 4000000 in
theorem wJ3_init_2_7 (l : Launch) (E : fo_E) (K V : Nat → Nat) (mi : Nat) (hSX : fo_SX E K V mi) (o : Nat) (fr lo : Nat) (hfr : 2 ≤ fr) (hlo : 60 ≤ lo) (cN cS : Nat) (tg0 : Nat → Nat × Nat) (nx0 ns0 : Nat) (hO : tg0 o = (1, 7)) (st0 : fo_St) (hI : fo_I E tg0 nx0) (hcN : nx0 ≤ cN) (hcS : ns0 ≤ cS) (ρZ : Unit ⊕ Nat) (aZ : fo_A) (hf : fJ3_init_2 cN cS o tg0 nx0 ns0 st0 = some (ρZ, aZ)) : CA vlV l E yJ3_init_2 (ws_ yJ3_init_2 cJ3_init_2 5 none) fr lo cN cS [.ref (eb E + o), .null, .null, .int 0, .int 0] (tg0, nx0, ns0, st0) ρZ aZ := by
  refine fea_v (a := (tg0, nx0, ns0, st0)) hm_J3_init_2 (Nat.le_of_ble_eq_true rfl) hI hcN hcS (fun p e R s m args below meth c Q hRf hRl X hnm hend hxx ls hl hz => ?_)
  replace hRf : 2 ≤ R.frames := by rw [hRf]; exact hfr
  replace hRl : 60 ≤ R.locals := by rw [hRl]; exact hlo
  have hx := X.1.1
  have hb := X.1.2.1
  have hown := X.1.2.2.2.1
  have hts := X.1.2.2.2.2
  have hl : lv_has ls 5 [(0, .ref (eb E + o)), (1, .null), (2, .null), (3, .int 0), (4, .int 0)] := hl
  have hz : fo_Z E R s cN cS (tg0, nx0, ns0, st0) tg0 nx0 ns0 st0 s.heap [] := hz
  have hw := hz.1
  show W p l e R s m args below meth c s.heap [] (nx0 - nx0) (ns0 - ns0) Q (F0 m 0 ls [])
  unfold fJ3_init_2 at hf
  obtain ⟨h0, hf⟩ := ck_e hf
  obtain ⟨h0, h1, h2, h3⟩ := of_decide_eq_true h0
  obtain ⟨-, -, -, -, -, ⟨tA, hA⟩, ⟨tB, hB⟩, -⟩ := hSX s s.heap X.2.1.2.2.1
  have e0 : fo_fl (eb (eW E tg0 nx0)) st0 o (fo_sh 7) = [.null, .null, .null, .null, va_rf ((gr_ st0 o 4).map (fun q => eb E + q)), .int (gi_ st0 o 5), .int (gi_ st0 o 6)] := by
    have : fo_fl (eb (eW E tg0 nx0)) st0 o (fo_sh 7) = [va_rf ((gr_ st0 o 0).map (fun q => eb E + q)), va_rf ((gr_ st0 o 1).map (fun q => eb E + q)), va_rf ((gr_ st0 o 2).map (fun q => eb E + q)), va_rf ((gr_ st0 o 3).map (fun q => eb E + q)), va_rf ((gr_ st0 o 4).map (fun q => eb E + q)), .int (gi_ st0 o 5), .int (gi_ st0 o 6)] := rfl
    rw [this, h0, h1, h2, h3]
    rfl
  have hy := fo_Sy.of (n := o) (ci := 7) hw hO
  rw [e0] at hy
  replace X : fo_X (eW E tg0 nx0) p m c cJ3_init_2 5 s args yJ3_init_2.cls meth := X
  generalize hHH : s.heap = H at hz hw hy ⊢
  generalize ([] : List Loc) = locs at hz hw hy ⊢
  refine lv_aload_n hx hb dJ3_init_2_0 rfl (lv_at hl 0 rfl) ?_
  refine W.objInit hx hb X.1.2.2.2.1 (X.1.2.2.2.2 _ q296) (X.1.2.2.2.2 _ q153) (X.1.2.2.2.2 _ q154) rfl (by rw [X.1.2.2.1]; exact hl.1) rfl dJ3_init_2_1 (Nat.le_trans (Nat.le_of_ble_eq_true rfl) hRf) (Nat.le_trans (Nat.le_of_ble_eq_true rfl) hRl) ?_
  show W p l e R s m args below meth c H locs (nx0 - nx0) (ns0 - ns0) Q (F0 m 4 ls [])
  refine lv_aload_n hx hb dJ3_init_2_4 rfl (lv_at hl 0 rfl) ?_
  refine lv_aload_n hx hb dJ3_init_2_5 rfl (lv_at hl 0 rfl) ?_
  refine fo_puty X hy fc_X8 (k := 0) (Nat.le_of_ble_eq_true rfl) (by decide) rfl q322 rfl rfl dJ3_init_2_6 (fun H locs hy => ?_)
  refine lv_aload_n hx hb dJ3_init_2_9 rfl (lv_at hl 0 rfl) ?_
  rcases tA with _ | tA <;> rcases tB with _ | tB
  · replace hA : va_Z "java/lang/Throwable" "UNASSIGNED_STACK" "[Ljava/lang/StackTraceElement;" .null (eF E) s s.heap := hA
    replace hB : va_Z "java/lang/Throwable" "SUPPRESSED_SENTINEL" "Ljava/util/List;" .null (eF E) s s.heap := hB
    refine va_gets hx hb hA hy.2.2.2 hown (hts _ q297) (fun _ h => h) dJ3_init_2_10 ?_
    refine fo_puty X hy fc_X8 (k := 1) (Nat.le_of_ble_eq_true rfl) (by decide) rfl q323 rfl rfl dJ3_init_2_13 (fun H locs hy => ?_)
    refine lv_aload_n hx hb dJ3_init_2_16 rfl (lv_at hl 0 rfl) ?_
    refine va_gets hx hb hB hy.2.2.2 hown (hts _ q299) (fun _ h => h) dJ3_init_2_17 ?_
    refine fo_puty X hy fc_X8 (k := 2) (Nat.le_of_ble_eq_true rfl) (by decide) rfl q324 rfl rfl dJ3_init_2_20 (fun H locs hy => ?_)
    refine lv_iload hx hb dJ3_init_2_23 (lv_at hl 4 rfl) ?_
    refine fb_zeq (tgt := 36) hx hb dJ3_init_2_25 (by decide) (t := some ()) (f := none) (y := ()) (by rw [if_pos rfl]) (fun _ => ?_) (fun h => by cases h)
    refine lv_aload_n hx hb dJ3_init_2_36 rfl (lv_at hl 0 rfl) ?_
    refine lv_null hx hb dJ3_init_2_37 ?_
    refine fo_puty X hy fc_X8 (k := 1) (Nat.le_of_ble_eq_true rfl) (by decide) rfl q323 rfl rfl dJ3_init_2_38 (fun H locs hy => ?_)
    refine lv_aload_n hx hb dJ3_init_2_41 rfl (lv_at hl 0 rfl) ?_
    refine lv_aload_nN hx hb dJ3_init_2_42 rfl (lv_at hl 1 rfl) ?_
    refine fo_puty X hy fc_X8 (k := 3) (Nat.le_of_ble_eq_true rfl) (by decide) rfl q321 rfl rfl dJ3_init_2_43 (fun H locs hy => ?_)
    refine lv_aload_n hx hb dJ3_init_2_46 rfl (lv_at hl 0 rfl) ?_
    refine lv_aload_nN hx hb dJ3_init_2_47 rfl (lv_at hl 2 rfl) ?_
    refine fo_puty X hy fc_X8 (k := 0) (Nat.le_of_ble_eq_true rfl) (by decide) rfl q322 rfl rfl dJ3_init_2_48 (fun H locs hy => ?_)
    refine lv_iload_n hx hb dJ3_init_2_51 rfl (lv_at hl 3 rfl) ?_
    refine fb_zne (tgt := 60) hx hb dJ3_init_2_52 (by decide) (t := none) (f := some ()) (y := ()) (by rw [if_neg (by decide)]) (fun h => by cases h) (fun _ => ?_)
    refine lv_aload_n hx hb dJ3_init_2_55 rfl (lv_at hl 0 rfl) ?_
    refine lv_null hx hb dJ3_init_2_56 ?_
    refine fo_puty X hy fc_X8 (k := 2) (Nat.le_of_ble_eq_true rfl) (by decide) rfl q324 rfl rfl dJ3_init_2_57 (fun H locs hy => ?_)
    have hw2 : fo_S (eW E tg0 nx0) s st0 H locs := fo_Sy.to (n := o) (ci := 7) (by rw [e0]; exact hy) hO
    exact fda_v hend (hz.s hw2) hf dJ3_init_2_60
  · replace hA : va_Z "java/lang/Throwable" "UNASSIGNED_STACK" "[Ljava/lang/StackTraceElement;" .null (eF E) s s.heap := hA
    replace hB : va_Z "java/lang/Throwable" "SUPPRESSED_SENTINEL" "Ljava/util/List;" (.ref tB) (eF E) s s.heap := hB
    refine va_gets hx hb hA hy.2.2.2 hown (hts _ q297) (fun _ h => h) dJ3_init_2_10 ?_
    refine fo_puty X hy fc_X8 (k := 1) (Nat.le_of_ble_eq_true rfl) (by decide) rfl q323 rfl rfl dJ3_init_2_13 (fun H locs hy => ?_)
    refine lv_aload_n hx hb dJ3_init_2_16 rfl (lv_at hl 0 rfl) ?_
    refine va_gets hx hb hB hy.2.2.2 hown (hts _ q299) (fun _ h => h) dJ3_init_2_17 ?_
    refine fo_puty X hy fc_X8 (k := 2) (Nat.le_of_ble_eq_true rfl) (by decide) rfl q324 rfl rfl dJ3_init_2_20 (fun H locs hy => ?_)
    refine lv_iload hx hb dJ3_init_2_23 (lv_at hl 4 rfl) ?_
    refine fb_zeq (tgt := 36) hx hb dJ3_init_2_25 (by decide) (t := some ()) (f := none) (y := ()) (by rw [if_pos rfl]) (fun _ => ?_) (fun h => by cases h)
    refine lv_aload_n hx hb dJ3_init_2_36 rfl (lv_at hl 0 rfl) ?_
    refine lv_null hx hb dJ3_init_2_37 ?_
    refine fo_puty X hy fc_X8 (k := 1) (Nat.le_of_ble_eq_true rfl) (by decide) rfl q323 rfl rfl dJ3_init_2_38 (fun H locs hy => ?_)
    refine lv_aload_n hx hb dJ3_init_2_41 rfl (lv_at hl 0 rfl) ?_
    refine lv_aload_nN hx hb dJ3_init_2_42 rfl (lv_at hl 1 rfl) ?_
    refine fo_puty X hy fc_X8 (k := 3) (Nat.le_of_ble_eq_true rfl) (by decide) rfl q321 rfl rfl dJ3_init_2_43 (fun H locs hy => ?_)
    refine lv_aload_n hx hb dJ3_init_2_46 rfl (lv_at hl 0 rfl) ?_
    refine lv_aload_nN hx hb dJ3_init_2_47 rfl (lv_at hl 2 rfl) ?_
    refine fo_puty X hy fc_X8 (k := 0) (Nat.le_of_ble_eq_true rfl) (by decide) rfl q322 rfl rfl dJ3_init_2_48 (fun H locs hy => ?_)
    refine lv_iload_n hx hb dJ3_init_2_51 rfl (lv_at hl 3 rfl) ?_
    refine fb_zne (tgt := 60) hx hb dJ3_init_2_52 (by decide) (t := none) (f := some ()) (y := ()) (by rw [if_neg (by decide)]) (fun h => by cases h) (fun _ => ?_)
    refine lv_aload_n hx hb dJ3_init_2_55 rfl (lv_at hl 0 rfl) ?_
    refine lv_null hx hb dJ3_init_2_56 ?_
    refine fo_puty X hy fc_X8 (k := 2) (Nat.le_of_ble_eq_true rfl) (by decide) rfl q324 rfl rfl dJ3_init_2_57 (fun H locs hy => ?_)
    have hw2 : fo_S (eW E tg0 nx0) s st0 H locs := fo_Sy.to (n := o) (ci := 7) (by rw [e0]; exact hy) hO
    exact fda_v hend (hz.s hw2) hf dJ3_init_2_60
  · replace hA : va_Z "java/lang/Throwable" "UNASSIGNED_STACK" "[Ljava/lang/StackTraceElement;" (.ref tA) (eF E) s s.heap := hA
    replace hB : va_Z "java/lang/Throwable" "SUPPRESSED_SENTINEL" "Ljava/util/List;" .null (eF E) s s.heap := hB
    refine va_gets hx hb hA hy.2.2.2 hown (hts _ q297) (fun _ h => h) dJ3_init_2_10 ?_
    refine fo_puty X hy fc_X8 (k := 1) (Nat.le_of_ble_eq_true rfl) (by decide) rfl q323 rfl rfl dJ3_init_2_13 (fun H locs hy => ?_)
    refine lv_aload_n hx hb dJ3_init_2_16 rfl (lv_at hl 0 rfl) ?_
    refine va_gets hx hb hB hy.2.2.2 hown (hts _ q299) (fun _ h => h) dJ3_init_2_17 ?_
    refine fo_puty X hy fc_X8 (k := 2) (Nat.le_of_ble_eq_true rfl) (by decide) rfl q324 rfl rfl dJ3_init_2_20 (fun H locs hy => ?_)
    refine lv_iload hx hb dJ3_init_2_23 (lv_at hl 4 rfl) ?_
    refine fb_zeq (tgt := 36) hx hb dJ3_init_2_25 (by decide) (t := some ()) (f := none) (y := ()) (by rw [if_pos rfl]) (fun _ => ?_) (fun h => by cases h)
    refine lv_aload_n hx hb dJ3_init_2_36 rfl (lv_at hl 0 rfl) ?_
    refine lv_null hx hb dJ3_init_2_37 ?_
    refine fo_puty X hy fc_X8 (k := 1) (Nat.le_of_ble_eq_true rfl) (by decide) rfl q323 rfl rfl dJ3_init_2_38 (fun H locs hy => ?_)
    refine lv_aload_n hx hb dJ3_init_2_41 rfl (lv_at hl 0 rfl) ?_
    refine lv_aload_nN hx hb dJ3_init_2_42 rfl (lv_at hl 1 rfl) ?_
    refine fo_puty X hy fc_X8 (k := 3) (Nat.le_of_ble_eq_true rfl) (by decide) rfl q321 rfl rfl dJ3_init_2_43 (fun H locs hy => ?_)
    refine lv_aload_n hx hb dJ3_init_2_46 rfl (lv_at hl 0 rfl) ?_
    refine lv_aload_nN hx hb dJ3_init_2_47 rfl (lv_at hl 2 rfl) ?_
    refine fo_puty X hy fc_X8 (k := 0) (Nat.le_of_ble_eq_true rfl) (by decide) rfl q322 rfl rfl dJ3_init_2_48 (fun H locs hy => ?_)
    refine lv_iload_n hx hb dJ3_init_2_51 rfl (lv_at hl 3 rfl) ?_
    refine fb_zne (tgt := 60) hx hb dJ3_init_2_52 (by decide) (t := none) (f := some ()) (y := ()) (by rw [if_neg (by decide)]) (fun h => by cases h) (fun _ => ?_)
    refine lv_aload_n hx hb dJ3_init_2_55 rfl (lv_at hl 0 rfl) ?_
    refine lv_null hx hb dJ3_init_2_56 ?_
    refine fo_puty X hy fc_X8 (k := 2) (Nat.le_of_ble_eq_true rfl) (by decide) rfl q324 rfl rfl dJ3_init_2_57 (fun H locs hy => ?_)
    have hw2 : fo_S (eW E tg0 nx0) s st0 H locs := fo_Sy.to (n := o) (ci := 7) (by rw [e0]; exact hy) hO
    exact fda_v hend (hz.s hw2) hf dJ3_init_2_60
  · replace hA : va_Z "java/lang/Throwable" "UNASSIGNED_STACK" "[Ljava/lang/StackTraceElement;" (.ref tA) (eF E) s s.heap := hA
    replace hB : va_Z "java/lang/Throwable" "SUPPRESSED_SENTINEL" "Ljava/util/List;" (.ref tB) (eF E) s s.heap := hB
    refine va_gets hx hb hA hy.2.2.2 hown (hts _ q297) (fun _ h => h) dJ3_init_2_10 ?_
    refine fo_puty X hy fc_X8 (k := 1) (Nat.le_of_ble_eq_true rfl) (by decide) rfl q323 rfl rfl dJ3_init_2_13 (fun H locs hy => ?_)
    refine lv_aload_n hx hb dJ3_init_2_16 rfl (lv_at hl 0 rfl) ?_
    refine va_gets hx hb hB hy.2.2.2 hown (hts _ q299) (fun _ h => h) dJ3_init_2_17 ?_
    refine fo_puty X hy fc_X8 (k := 2) (Nat.le_of_ble_eq_true rfl) (by decide) rfl q324 rfl rfl dJ3_init_2_20 (fun H locs hy => ?_)
    refine lv_iload hx hb dJ3_init_2_23 (lv_at hl 4 rfl) ?_
    refine fb_zeq (tgt := 36) hx hb dJ3_init_2_25 (by decide) (t := some ()) (f := none) (y := ()) (by rw [if_pos rfl]) (fun _ => ?_) (fun h => by cases h)
    refine lv_aload_n hx hb dJ3_init_2_36 rfl (lv_at hl 0 rfl) ?_
    refine lv_null hx hb dJ3_init_2_37 ?_
    refine fo_puty X hy fc_X8 (k := 1) (Nat.le_of_ble_eq_true rfl) (by decide) rfl q323 rfl rfl dJ3_init_2_38 (fun H locs hy => ?_)
    refine lv_aload_n hx hb dJ3_init_2_41 rfl (lv_at hl 0 rfl) ?_
    refine lv_aload_nN hx hb dJ3_init_2_42 rfl (lv_at hl 1 rfl) ?_
    refine fo_puty X hy fc_X8 (k := 3) (Nat.le_of_ble_eq_true rfl) (by decide) rfl q321 rfl rfl dJ3_init_2_43 (fun H locs hy => ?_)
    refine lv_aload_n hx hb dJ3_init_2_46 rfl (lv_at hl 0 rfl) ?_
    refine lv_aload_nN hx hb dJ3_init_2_47 rfl (lv_at hl 2 rfl) ?_
    refine fo_puty X hy fc_X8 (k := 0) (Nat.le_of_ble_eq_true rfl) (by decide) rfl q322 rfl rfl dJ3_init_2_48 (fun H locs hy => ?_)
    refine lv_iload_n hx hb dJ3_init_2_51 rfl (lv_at hl 3 rfl) ?_
    refine fb_zne (tgt := 60) hx hb dJ3_init_2_52 (by decide) (t := none) (f := some ()) (y := ()) (by rw [if_neg (by decide)]) (fun h => by cases h) (fun _ => ?_)
    refine lv_aload_n hx hb dJ3_init_2_55 rfl (lv_at hl 0 rfl) ?_
    refine lv_null hx hb dJ3_init_2_56 ?_
    refine fo_puty X hy fc_X8 (k := 2) (Nat.le_of_ble_eq_true rfl) (by decide) rfl q324 rfl rfl dJ3_init_2_57 (fun H locs hy => ?_)
    have hw2 : fo_S (eW E tg0 nx0) s st0 H locs := fo_Sy.to (n := o) (ci := 7) (by rw [e0]; exact hy) hO
    exact fda_v hend (hz.s hw2) hf dJ3_init_2_60
set_option maxHeartbeats 4000000 in
theorem wJ4_init_7 (l : Launch) (E : fo_E) (K V : Nat → Nat) (mi : Nat) (hSX : fo_SX E K V mi) (o : Nat) (fr lo : Nat) (hfr : 3 ≤ fr) (hlo : 90 ≤ lo) (cN cS : Nat) (tg0 : Nat → Nat × Nat) (nx0 ns0 : Nat) (hO : tg0 o = (1, 7)) (st0 : fo_St) (hI : fo_I E tg0 nx0) (hcN : nx0 ≤ cN) (hcS : ns0 ≤ cS) (ρZ : Unit ⊕ Nat) (aZ : fo_A) (hf : fJ4_init cN cS o tg0 nx0 ns0 st0 = some (ρZ, aZ)) : CA vlV l E yJ4_init (ws_ yJ4_init cJ4_init 5 none) fr lo cN cS [.ref (eb E + o), .null, .null, .int 0, .int 0] (tg0, nx0, ns0, st0) ρZ aZ := by
  refine fea_v (a := (tg0, nx0, ns0, st0)) hm_J4_init (Nat.le_of_ble_eq_true rfl) hI hcN hcS (fun p e R s m args below meth c Q hRf hRl X hnm hend hxx ls hl hz => ?_)
  replace hRf : 3 ≤ R.frames := by rw [hRf]; exact hfr
  replace hRl : 90 ≤ R.locals := by rw [hRl]; exact hlo
  have hx := X.1.1
  have hb := X.1.2.1
  have hl : lv_has ls 5 [(0, .ref (eb E + o)), (1, .null), (2, .null), (3, .int 0), (4, .int 0)] := hl
  have hz : fo_Z E R s cN cS (tg0, nx0, ns0, st0) tg0 nx0 ns0 st0 s.heap [] := hz
  have hw := hz.1
  show W p l e R s m args below meth c s.heap [] (nx0 - nx0) (ns0 - ns0) Q (F0 m 0 ls [])
  unfold fJ4_init at hf
  generalize s.heap = H at hz hw ⊢
  generalize ([] : List Loc) = locs at hz hw ⊢
  refine lv_aload_n hx hb dJ4_init_0 rfl (lv_at hl 0 rfl) ?_
  refine lv_aload_nN hx hb dJ4_init_1 rfl (lv_at hl 1 rfl) ?_
  refine lv_aload_nN hx hb dJ4_init_2 rfl (lv_at hl 2 rfl) ?_
  refine lv_iload_n hx hb dJ4_init_3 rfl (lv_at hl 3 rfl) ?_
  refine lv_iload hx hb dJ4_init_4 (lv_at hl 4 rfl) ?_
  refine fa_I (fr := 2) (lo := 60) (val := vlV) (rest := []) (As := [.null, .null, .int 0, .int 0]) X hz hm_J3_init_2 q319 q118 q317 q318 rfl ⟨by omega, by omega⟩ rfl rfl hl.1 (Nat.le_of_ble_eq_true rfl) dJ4_init_6 (fun rQ aQ hQ => wJ3_init_2_7 l E K V mi hSX o (2) (60) (Nat.le_refl _) (Nat.le_refl _) cN cS tg0 nx0 ns0 hO st0 hI hz.2.2.2.2.2.2.1 hz.2.2.2.2.2.2.2.2 rQ aQ hQ) hf (fun nX EX tgX nxX nsX stX H locs hTX hxX hz2 hf => ?_) (fun x1 tg2 nx2 ns2 sa2 H locs hext hz2 hf => ?_)
  · exact fda_x hxx hTX hz2 hf
  exact fda_v hend hz2 hf dJ4_init_9

/-- Arrays.copyOf of an array of objects -/
def fJ12_copyOf_2 (cN cS : Nat) (p1 : Nat) (p2 : Int32) (tg0 : Nat → Nat × Nat) (nx0 ns0 : Nat) (st0 : fo_St) : Option ((Nat ⊕ Nat) × fo_A) := ck_ (decide ((tg0 p1).1 = 6 ∧ p1 < nx0)) (ck_ (decide (¬ p2 < 0 ∧ p2.toNatClampNeg < 2 ^ 20)) (ck_ (fo_bg nx0 ns0 p2.toNatClampNeg cN cS) (aw_ (tu_ tg0 nx0 (6, p2.toNatClampNeg), nx0 + 1, ns0 + p2.toNatClampNeg, z0_ st0 nx0) (fun tg1 nx1 ns1 st1 => ck_ (decide ((tg0 p1).2 < 2 ^ 31)) (ck_ (fo_cpB 0 0 (mnI_ (nI (tg0 p1).2) p2) (tg0 p1).2 p2.toNatClampNeg) (ck_ (fo_obs tg1 st1 p1 0 (mnI_ (nI (tg0 p1).2) p2).toNatClampNeg) (lt_ (rc_ st1 p1 nx0 0 0 (mnI_ (nI (tg0 p1).2) p2).toNatClampNeg) (fun st2 => some (.inl nx0, (tg1, nx1, ns1, st2))))))))))
def fJ12_copyOf (cN cS : Nat) (p1 : Nat) (p2 : Int32) (tg0 : Nat → Nat × Nat) (nx0 ns0 : Nat) (st0 : fo_St) : Option ((Nat ⊕ Nat) × fo_A) := ck_ (decide ((tg0 p1).1 = 6)) (ba_ (fJ12_copyOf_2 cN cS p1 p2 tg0 nx0 ns0 st0) (fun x1 tg2 nx2 ns2 sa2 => some (.inl x1, (tg2, nx2, ns2, sa2))) (fun nX tgX nxX nsX stX => some (.inr nX, (tgX, nxX, nsX, stX))))
theorem hm_J12_copyOf_2 : fo_M yJ12_copyOf_2 3 := ⟨by decide +kernel, by decide +kernel, by decide +kernel, by decide +kernel⟩
theorem hm_J12_copyOf : fo_M yJ12_copyOf 2 := ⟨by decide +kernel, by decide +kernel, by decide +kernel, by decide +kernel⟩
theorem fo_tag6' {tg : Nat → Nat × Nat} {q : Nat} (h : (tg q).1 = 6) : tg q = (6, (tg q).2) := Prod.ext h rfl
set_option maxHeartbeats 4000000 in
theorem wJ12_copyOf_2 (l : Launch) (E : fo_E) (K V : Nat → Nat) (mi : Nat) (hSX : fo_SX E K V mi) (p1 : Nat) (p2 : Int32) (fr lo : Nat) (hfr : 2 ≤ fr) (hlo : 60 ≤ lo) (cN cS : Nat) (tg0 : Nat → Nat × Nat) (nx0 ns0 : Nat) (st0 : fo_St) (hI : fo_I E tg0 nx0) (hcN : nx0 ≤ cN) (hcS : ns0 ≤ cS) (ρZ : Nat ⊕ Nat) (aZ : fo_A) (hf : fJ12_copyOf_2 cN cS p1 p2 tg0 nx0 ns0 st0 = some (ρZ, aZ)) : CA (vlR (eb E)) l E yJ12_copyOf_2 (ws_ yJ12_copyOf_2 cJ12_copyOf_2 4 (some (.array (.object "java/lang/Object")))) fr lo cN cS [.ref (eb E + p1), .int p2, .ref mi] (tg0, nx0, ns0, st0) ρZ aZ := by
  refine fea_r (a := (tg0, nx0, ns0, st0)) (Or.inr ⟨_, rfl⟩) hm_J12_copyOf_2 (Nat.le_of_ble_eq_true rfl) hI hcN hcS (fun p e R s m args below meth c Q hRf hRl X hnm hend hxx ls hl hz => ?_)
  replace hRf : 2 ≤ R.frames := by rw [hRf]; exact hfr
  replace hRl : 60 ≤ R.locals := by rw [hRl]; exact hlo
  have hx := X.1.1
  have hb := X.1.2.1
  have hl : lv_has ls 4 [(0, .ref (eb E + p1)), (1, .int p2), (2, .ref mi)] := hl
  have hz : fo_Z E R s cN cS (tg0, nx0, ns0, st0) tg0 nx0 ns0 st0 s.heap [] := hz
  have hw := hz.1
  show W p l e R s m args below meth c s.heap [] (nx0 - nx0) (ns0 - ns0) Q (F0 m 0 ls [])
  unfold fJ12_copyOf_2 at hf
  obtain ⟨hc6, hf⟩ := ck_e hf
  obtain ⟨hc6, hlt⟩ := of_decide_eq_true hc6
  have hq1 : tg0 p1 = (6, (tg0 p1).2) := fo_tag6' hc6
  generalize (tg0 p1).2 = L at hf hq1
  have hMi := (hSX s s.heap X.2.1.2.2.1).2.2.1
  generalize s.heap = H at hz hw ⊢
  generalize ([] : List Loc) = locs at hz hw ⊢
  refine lv_aload_n hx hb dJ12_copyOf_2_0 rfl (lv_at hl 2 rfl) ?_
  refine va_ldcM hx hb X.1.2.2.2.1 (X.1.2.2.2.2 _ q506) hMi dJ12_copyOf_2_1 ?_
  refine lv_acmp_ne (rx := some mi) (ry := some mi) (tgt := 13) hx hb dJ12_copyOf_2_3 (by decide) (fun h => absurd rfl h) (fun _ => ?_)
  refine lv_iload_n hx hb dJ12_copyOf_2_6 rfl (lv_at hl 1 rfl) ?_
  obtain ⟨hc, hf⟩ := ck_e hf
  obtain ⟨hc1, hc2⟩ := of_decide_eq_true hc
  refine fa_newo X (hSX s s.heap X.2.1.2.2.1).2.2.2.2.2.2.2.2.1 hz q507 (L := p2.toNatClampNeg) hc1 rfl hc2 dJ12_copyOf_2_7 hf (fun tg1 nx1 ns1 st1 H hext hq2 hz2 hf => ?_)
  have hq1 := hext.t hI hq1
  have hz := hz2
  have hw := hz.1
  have hI := hz.2.1
  clear hz2 hext
  refine lv_goto (tgt := 24) hx hb dJ12_copyOf_2_10 (by decide) ?_
  refine lv_astore_n (lv' := [(3, .ref (eb E + nx0)), (0, .ref (eb E + p1)), (1, .int p2), (2, .ref mi)]) hx hb dJ12_copyOf_2_24 rfl hl (by decide) rfl (fun ls hl => ?_)
  refine lv_aload_n hx hb dJ12_copyOf_2_25 rfl (lv_at hl 1 rfl) ?_
  refine lv_iconst (v := (0 : Int32)) hx hb dJ12_copyOf_2_26 (by decide) ?_
  refine lv_aload_n hx hb dJ12_copyOf_2_27 rfl (lv_at hl 0 rfl) ?_
  refine lv_iconst (v := (0 : Int32)) hx hb dJ12_copyOf_2_28 (by decide) ?_
  refine lv_aload_n hx hb dJ12_copyOf_2_29 rfl (lv_at hl 1 rfl) ?_
  refine fo_alen6 (fo_Xw X) hw hq1 dJ12_copyOf_2_30 ?_
  refine lv_iload_n hx hb dJ12_copyOf_2_31 rfl (lv_at hl 2 rfl) ?_
  refine fo_mnIA X hz.lim0 hl.1 q508 q509 q124 q510 (Nat.le_trans (Nat.le_of_ble_eq_true rfl) hRf) (Nat.le_trans (Nat.le_of_ble_eq_true rfl) hRl) dJ12_copyOf_2_32 ?_
  obtain ⟨hlt9, hf⟩ := ck_e hf
  obtain ⟨hcp, hf⟩ := ck_e hf
  obtain ⟨hob, hf⟩ := ck_e hf
  refine fo_copyR (fo_Xw X) hw hq1 hq2 hl.1 q511 q457 q456 q142 hob hcp (Nat.le_trans (Nat.le_of_ble_eq_true rfl) hRf) (Nat.le_trans (Nat.le_of_ble_eq_true rfl) hRl) dJ12_copyOf_2_35 hf (fun st2 H locs hw hf => ?_)
  have hz := hz.s hw
  refine lv_aload_n hx hb dJ12_copyOf_2_38 rfl (lv_at hl 0 rfl) ?_
  exact fda_r hend hz hf dJ12_copyOf_2_39
set_option maxHeartbeats 4000000 in
theorem wJ12_copyOf (l : Launch) (E : fo_E) (K V : Nat → Nat) (mi : Nat) (hSX : fo_SX E K V mi) (p1 : Nat) (p2 : Int32) (fr lo : Nat) (hfr : 3 ≤ fr) (hlo : 90 ≤ lo) (cN cS : Nat) (tg0 : Nat → Nat × Nat) (nx0 ns0 : Nat) (st0 : fo_St) (hI : fo_I E tg0 nx0) (hcN : nx0 ≤ cN) (hcS : ns0 ≤ cS) (ρZ : Nat ⊕ Nat) (aZ : fo_A) (hf : fJ12_copyOf cN cS p1 p2 tg0 nx0 ns0 st0 = some (ρZ, aZ)) : CA (vlR (eb E)) l E yJ12_copyOf (ws_ yJ12_copyOf cJ12_copyOf 2 (some (.array (.object "java/lang/Object")))) fr lo cN cS [.ref (eb E + p1), .int p2] (tg0, nx0, ns0, st0) ρZ aZ := by
  refine fea_r (a := (tg0, nx0, ns0, st0)) (Or.inr ⟨_, rfl⟩) hm_J12_copyOf (Nat.le_of_ble_eq_true rfl) hI hcN hcS (fun p e R s m args below meth c Q hRf hRl X hnm hend hxx ls hl hz => ?_)
  replace hRf : 3 ≤ R.frames := by rw [hRf]; exact hfr
  replace hRl : 90 ≤ R.locals := by rw [hRl]; exact hlo
  have hx := X.1.1
  have hb := X.1.2.1
  have hl : lv_has ls 2 [(0, .ref (eb E + p1)), (1, .int p2)] := hl
  have hz : fo_Z E R s cN cS (tg0, nx0, ns0, st0) tg0 nx0 ns0 st0 s.heap [] := hz
  have hw := hz.1
  show W p l e R s m args below meth c s.heap [] (nx0 - nx0) (ns0 - ns0) Q (F0 m 0 ls [])
  unfold fJ12_copyOf at hf
  obtain ⟨hc6, hf⟩ := ck_e hf
  have hq1 : tg0 p1 = (6, (tg0 p1).2) := fo_tag6' (of_decide_eq_true hc6)
  have hMi := (hSX s s.heap X.2.1.2.2.1).2.2.1
  generalize s.heap = H at hz hw ⊢
  generalize ([] : List Loc) = locs at hz hw ⊢
  refine lv_aload_n hx hb dJ12_copyOf_0 rfl (lv_at hl 0 rfl) ?_
  refine lv_iload_n hx hb dJ12_copyOf_1 rfl (lv_at hl 1 rfl) ?_
  refine lv_aload_n hx hb dJ12_copyOf_2 rfl (lv_at hl 0 rfl) ?_
  have hr9 : ∃ cell : Cell, H[eb E + p1]? = some cell ∧ cell.vm.isStatics = false ∧ s.vm.findClass "[Ljava/lang/Object;" = some cell.cls := by
    have h1 := fo_at hw (n := p1) (x := .inl (eA E 6, (tg0 p1).2, .inr (.inr (.inr (.inr (rr_ (eb E) st0 p1)))))) (by show fo_ce (eW E tg0 nx0) (tg0 p1) st0 p1 = _; rw [hq1]; rfl) 0 _ rfl
    obtain ⟨kA, comp, k1, k2, k3, k4⟩ := (X.2.1.1.2 4 _ rfl).2
    exact ⟨_, h1, rfl, k4⟩
  refine va_getC hx hb (X.1.2.2.1.trans hl.1.symm) X.1.2.2.2.1 (X.1.2.2.2.2 _ q480) (va_Nw.use rfl (X.2.1.2.1 _ fn2264)) (X.1.2.2.2.2 _ q2263) (X.1.2.2.2.2 _ q481) (X.1.2.2.2.2 _ q502) hMi hr9 (Nat.le_trans (Nat.le_of_ble_eq_true rfl) hRf) (Nat.le_trans (Nat.le_of_ble_eq_true rfl) hRl) dJ12_copyOf_3 ?_
  refine fa_S (fr := 2) (lo := 60) (val := (vlR (eb E))) (rest := []) (As := [.ref (eb E + p1), .int p2, .ref mi]) X hz hm_J12_copyOf_2 (lw_S q503 q504 q141 q505) ⟨by omega, by omega⟩ rfl rfl hl.1 (Nat.le_of_ble_eq_true rfl) dJ12_copyOf_6 (fun rQ aQ hQ => wJ12_copyOf_2 l E K V mi hSX p1 p2 (2) (60) (Nat.le_refl _) (Nat.le_refl _) cN cS tg0 nx0 ns0 st0 hI hz.2.2.2.2.2.2.1 hz.2.2.2.2.2.2.2.2 rQ aQ hQ) hf (fun nX EX tgX nxX nsX stX H locs hTX hxX hz2 hf => ?_) (fun x1 tg2 nx2 ns2 sa2 H locs hext hz2 hf => ?_)
  · exact fda_x hxx hTX hz2 hf
  exact fda_r hend hz2 hf dJ12_copyOf_9

