/-! rows for methods that make cells: final fields, new arrays, stores of references -/
set_option maxRecDepth 100000
section FB1
variable {p : Program} {l : Launch} {e : Env} {R : Room} {s : State} {m : MethodId} {args : Array Value} {below : List Frame} {meth : Method} {c : Code} {H : Heap} {locs : List Loc} {cells slots : Nat} {Q : State → Prop}
variable {cc : ByteArray} {nL pc : Nat} {ls : Array Slot} {rest stk : List Value} {own : String} {E : fo_E} {st : fo_St} {α β : Type} {y : α} {cN cS nx ns : Nat} {tg : Nat → Nat × Nat} {a0 a1 : fo_A}
theorem fo_putvF (X : fo_X E p m c cc nL s args own meth) (hin2 : meth.name = "<init>") (hw : fo_S E s st H locs) {n k ci index : Nat} {q : vw_C} {ty : Nat → FieldType} (hc : fo_C ci q ty) (ht : et E n = (1, ci)) (hk : k < q.2.2) (hfin : (q.2.1 k).2.2.2 = true) (hdecl : (q.2.1 k).1 = own) (hlink : Cond.fieldLink own index (q.2.1 k).1 (q.2.1 k).2.1 (q.2.1 k).2.2.1 ∈ lw_all) {st1 : fo_St} {v : Value} (hn : narrow (ty k) v = v) (hfit : fits (ty k) v = true) (h1 : fo_fv (eb E) st1 n k ((fo_sh ci).getD k 0) = v) (h2 : ∀ j, j ≠ k → ∀ kd, fo_fv (eb E) st1 n j kd = fo_fv (eb E) st n j kd) (h3 : ∀ a, a ≠ n → ∀ j, gi_ st1 a j = gi_ st a j ∧ gl_ st1 a j = gl_ st a j ∧ gr_ st1 a j = gr_ st a j) (hdg : decode cc pc = .ok (.putfield index, 3))
    (kk : ∀ (H1 : Heap) (locs1 : List Loc), fo_S E s st1 H1 locs1 → W p l e R s m args below meth c H1 locs1 cells slots Q (F0 m (pc + 3) ls rest)) : W p l e R s m args below meth c H locs cells slots Q (F0 m pc ls (v :: .ref (eb E + n) :: rest)) := by
  obtain ⟨⟨hx, hb, hml, hown, hts⟩, hK, hlo⟩ := X
  have hC := hc
  obtain ⟨g1, g2, g3, g4, g5⟩ := hc
  have hP := fo_ob hw ht
  obtain ⟨r, r1, cell, q1, q2, q3, q4⟩ := hP 0 _ rfl
  have hr : r = q := Option.some.inj (r1.symm.trans g1)
  subst hr
  obtain ⟨hS, hfc, kC, hkC, hkind⟩ := hK.1.1 ci _ g1
  obtain ⟨cf, kf, fi, f, hi, hsl⟩ := hS k hk
  have hlay := hts _ (g2 _ (u_in_lay hk))
  unfold u_lay at hlay
  rw [if_pos hfin] at hlay
  have hst := (u_facts hfc hkC (u_lays hts g2 hk) hi).1
  have hcf : m.cls = cf := by
    obtain ⟨_, _, c', _, _, _, -, -, hf', -, -, -, hown2, -⟩ := Cond.laysFinal_spec hlay
    have e1 : c' = cf := by have := hi.symm.trans hf'; simp at this; exact this.1.symm
    rw [hdecl] at hown2
    rw [← e1]; exact Option.some.inj (hown.symm.trans hown2)
  have h6 := u_fits hfc hkC hkind (Or.inr hlay) hi (g4 k hk) hn hfit
  refine W.putFinK hx hb hown (hts _ hlink) hi hst hcf hin2 (by rw [q2]; exact h6) q1 q3 (by rw [hsl]; exact k2_hasslot (q4 k hk)) rfl rfl hdg fun H' e1 e2 e3 => ?_
  rw [hsl] at e1 ⊢
  exact kk H' _ (fo_set hw hC ht hk hK.1 hts q1 q2 q3 q4 h1 h2 h3 e1 e2 e3)
theorem fo_putiF (X : fo_X E p m c cc nL s args own meth) (hin2 : meth.name = "<init>") (hw : fo_S E s st H locs) {n k ci index : Nat} {q : vw_C} {ty : Nat → FieldType} (hc : fo_C ci q ty) (ht : et E n = (1, ci)) (hk : k < q.2.2) (hkd : (fo_sh ci).getD k 0 = 0) (hfin : (q.2.1 k).2.2.2 = true) (hdecl : (q.2.1 k).1 = own) (hlink : Cond.fieldLink own index (q.2.1 k).1 (q.2.1 k).2.1 (q.2.1 k).2.2.1 ∈ lw_all) {v : Int32} (hn : narrow (ty k) (.int v) = .int v ∧ fits (ty k) (.int v) = true) (hdg : decode cc pc = .ok (.putfield index, 3)) {kf : fo_St → Option α} (hf : lt_ (si_ st n k v) kf = some y)
    (kk : ∀ (st1 : fo_St) (H1 : Heap) (locs1 : List Loc), fo_S E s st1 H1 locs1 → kf st1 = some y → W p l e R s m args below meth c H1 locs1 cells slots Q (F0 m (pc + 3) ls rest)) : W p l e R s m args below meth c H locs cells slots Q (F0 m pc ls (.int v :: .ref (eb E + n) :: rest)) :=
  fo_putvF (v := .int v) X hin2 hw hc ht hk hfin hdecl hlink hn.1 hn.2 (by rw [hkd]; exact fo_fvI) fo_si2 fo_si3 hdg (fun H1 locs1 h => kk _ H1 locs1 h hf)
theorem fo_putrF (X : fo_X E p m c cc nL s args own meth) (hin2 : meth.name = "<init>") (hw : fo_S E s st H locs) {n k ci index : Nat} {q : vw_C} {ty : Nat → FieldType} (hc : fo_C ci q ty) (ht : et E n = (1, ci)) (hk : k < q.2.2) (hkd : (fo_sh ci).getD k 0 = 2) (hfin : (q.2.1 k).2.2.2 = true) (hdecl : (q.2.1 k).1 = own) (hlink : Cond.fieldLink own index (q.2.1 k).1 (q.2.1 k).2.1 (q.2.1 k).2.2.1 ∈ lw_all) {v : Nat} (hn : ∀ a : Nat, narrow (ty k) (.ref a) = .ref a ∧ fits (ty k) (.ref a) = true) (hdg : decode cc pc = .ok (.putfield index, 3)) {kf : fo_St → Option α} (hf : lt_ (sr_ st n k (some v)) kf = some y)
    (kk : ∀ (st1 : fo_St) (H1 : Heap) (locs1 : List Loc), fo_S E s st1 H1 locs1 → kf st1 = some y → W p l e R s m args below meth c H1 locs1 cells slots Q (F0 m (pc + 3) ls rest)) : W p l e R s m args below meth c H locs cells slots Q (F0 m pc ls (.ref (eb E + v) :: .ref (eb E + n) :: rest)) :=
  fo_putvF (v := .ref (eb E + v)) X hin2 hw hc ht hk hfin hdecl hlink (hn _).1 (hn _).2 (by rw [hkd]; exact fo_fvR) fo_sr2 fo_sr3 hdg (fun H1 locs1 h => kk _ H1 locs1 h hf)
/-- a char's low bits -/
def chr_ (v : Int32) : Int32 := (v.toUInt32 % 65536).toInt32
theorem chr_n {v : Int32} (h : chr_ v = v) : narrow .char (.int v) = .int v ∧ fits .char (.int v) = true := by
  have h1 : narrow .char (.int v) = .int (chr_ v) := rfl
  rw [h] at h1
  refine ⟨h1, ?_⟩
  have h2 := pk_fc v
  rw [show (v.toUInt32 % 65536).toInt32 = v from h] at h2
  exact h2
end FB1
section FB2
variable {p : Program} {l : Launch} {e : Env} {R : Room} {s : State} {m : MethodId} {args : Array Value} {below : List Frame} {meth : Method} {c : Code} {H : Heap} {locs : List Loc} {cells slots : Nat} {Q : State → Prop}
variable {cc : ByteArray} {nL pc : Nat} {ls : Array Slot} {rest stk : List Value} {own : String} {E : fo_E} {st : fo_St} {α β : Type} {y0 : α} {cN cS nx ns : Nat} {tg : Nat → Nat × Nat} {a0 a1 : fo_A}
theorem fa_newi (X : fo_X E p m c cc nL s args own meth) (hZ : fo_Z E R s cN cS a0 tg nx ns st H locs) (hac : Cond.arrayClass .int ∈ lw_all) {n : Int32} {L : Nat} (hn0 : ¬ n < 0) (hN : n.toNatClampNeg = L) (hL : L < 2 ^ 20) (hdg : decode cc pc = .ok (.newarray .int, 2)) {kf : (Nat → Nat × Nat) → Nat → Nat → fo_St → Option α} (hf : ck_ (fo_bg nx ns L cN cS) (aw_ (tu_ tg nx (2, L), nx + 1, ns + L, z0_ st nx) kf) = some y0)
    (kk : ∀ (tg1 : Nat → Nat × Nat) (nx1 ns1 : Nat) (st1 : fo_St) (H1 : Heap), fo_x tg nx tg1 nx1 → tg1 nx = (2, L) → fo_Z E R s cN cS a0 tg1 nx1 ns1 st1 H1 locs → kf tg1 nx1 ns1 st1 = some y0 → W p l e R s m args below meth c H1 locs (nx1 - a0.2.1) (ns1 - a0.2.2.1) Q (F0 m (pc + 2) ls (.ref (eb E + nx) :: rest))) : W p l e R s m args below meth c H locs (nx - a0.2.1) (ns - a0.2.2.1) Q (F0 m pc ls (.int n :: rest)) := by
  obtain ⟨hb1, hf⟩ := ck_e hf
  obtain ⟨g1, g2⟩ := of_decide_eq_true hb1
  have hI := hZ.2.1
  obtain ⟨hB1, hB2, hB3, hB4, hB5, hB6⟩ := hZ.2.2.2
  obtain ⟨⟨hx, hb, hml, hown, hts⟩, hK, hlo⟩ := X
  have hsz : H.size = eb E + nx := hZ.1.1.1
  refine va_newaK (atype := .int) hx hb (hts _ hac) rfl hdg rfl hn0 hN (by show L * _ ≤ _; have h8 : componentBytes (newarray.typeOf .int) ≤ 8 := (by decide); have := Nat.mul_le_mul_left L h8; omega) (by rw [hB1]; omega) (by rw [hB2]; omega) hsz fun H1 cA e1 z1 o1 hAr hNm => ?_
  have hcA : cA = eA E 2 := Option.some.inj (hNm.symm.trans (hK.1.2 0 _ rfl).2)
  subst hcA
  have e9 : nx - a0.2.1 + 1 = nx + 1 - a0.2.1 := by omega
  have e8 : ns - a0.2.2.1 + L = ns + L - a0.2.2.1 := by omega
  rw [e9, e8]
  refine kk _ _ _ _ H1 (hI.new (2, L)).2 (by unfold tu_; rw [if_pos rfl]) (fo_made hZ g1 g2 (by rw [hsz]; exact z1) (fun q hq => o1 q (by omega)) fun x hxx => ?_) hf
  cases hxx
  show H1[eb E + nx]? = some (vp_cell (eA E 2) (L, .inl (gi_ (z0_ st nx) nx)))
  rw [e1]
  refine congrArg some ?_
  show (arrV (eA E 2) L fun _ => defaultValue (newarray.typeOf .int)) = arrV (eA E 2) L (fun j => .int (gi_ (z0_ st nx) nx j))
  congr 1
  funext j
  rw [gi_z0, if_pos rfl]
  rfl
theorem fa_newb (X : fo_X E p m c cc nL s args own meth) (hZ : fo_Z E R s cN cS a0 tg nx ns st H locs) (hac : Cond.arrayClass .byte ∈ lw_all) {n : Int32} {L : Nat} (hn0 : ¬ n < 0) (hN : n.toNatClampNeg = L) (hL : L < 2 ^ 20) (hdg : decode cc pc = .ok (.newarray .byte, 2)) {kf : (Nat → Nat × Nat) → Nat → Nat → fo_St → Option α} (hf : ck_ (fo_bg nx ns L cN cS) (aw_ (tu_ tg nx (3, L), nx + 1, ns + L, z0_ st nx) kf) = some y0)
    (kk : ∀ (tg1 : Nat → Nat × Nat) (nx1 ns1 : Nat) (st1 : fo_St) (H1 : Heap), fo_x tg nx tg1 nx1 → tg1 nx = (3, L) → fo_Z E R s cN cS a0 tg1 nx1 ns1 st1 H1 locs → kf tg1 nx1 ns1 st1 = some y0 → W p l e R s m args below meth c H1 locs (nx1 - a0.2.1) (ns1 - a0.2.2.1) Q (F0 m (pc + 2) ls (.ref (eb E + nx) :: rest))) : W p l e R s m args below meth c H locs (nx - a0.2.1) (ns - a0.2.2.1) Q (F0 m pc ls (.int n :: rest)) := by
  obtain ⟨hb1, hf⟩ := ck_e hf
  obtain ⟨g1, g2⟩ := of_decide_eq_true hb1
  have hI := hZ.2.1
  obtain ⟨hB1, hB2, hB3, hB4, hB5, hB6⟩ := hZ.2.2.2
  obtain ⟨⟨hx, hb, hml, hown, hts⟩, hK, hlo⟩ := X
  have hsz : H.size = eb E + nx := hZ.1.1.1
  refine va_newaK (atype := .byte) hx hb (hts _ hac) rfl hdg rfl hn0 hN (by show L * _ ≤ _; have h8 : componentBytes (newarray.typeOf .byte) ≤ 8 := (by decide); have := Nat.mul_le_mul_left L h8; omega) (by rw [hB1]; omega) (by rw [hB2]; omega) hsz fun H1 cA e1 z1 o1 hAr hNm => ?_
  have hcA : cA = eA E 3 := Option.some.inj (hNm.symm.trans (hK.1.2 1 _ rfl).2)
  subst hcA
  have e9 : nx - a0.2.1 + 1 = nx + 1 - a0.2.1 := by omega
  have e8 : ns - a0.2.2.1 + L = ns + L - a0.2.2.1 := by omega
  rw [e9, e8]
  refine kk _ _ _ _ H1 (hI.new (3, L)).2 (by unfold tu_; rw [if_pos rfl]) (fo_made hZ g1 g2 (by rw [hsz]; exact z1) (fun q hq => o1 q (by omega)) fun x hxx => ?_) hf
  cases hxx
  show H1[eb E + nx]? = some (vp_cell (eA E 3) (L, .inl (gi_ (z0_ st nx) nx)))
  rw [e1]
  refine congrArg some ?_
  show (arrV (eA E 3) L fun _ => defaultValue (newarray.typeOf .byte)) = arrV (eA E 3) L (fun j => .int (gi_ (z0_ st nx) nx j))
  congr 1
  funext j
  rw [gi_z0, if_pos rfl]
  rfl
theorem fa_newz (X : fo_X E p m c cc nL s args own meth) (hZ : fo_Z E R s cN cS a0 tg nx ns st H locs) (hac : Cond.arrayClass .boolean ∈ lw_all) {n : Int32} {L : Nat} (hn0 : ¬ n < 0) (hN : n.toNatClampNeg = L) (hL : L < 2 ^ 20) (hdg : decode cc pc = .ok (.newarray .boolean, 2)) {kf : (Nat → Nat × Nat) → Nat → Nat → fo_St → Option α} (hf : ck_ (fo_bg nx ns L cN cS) (aw_ (tu_ tg nx (4, L), nx + 1, ns + L, z0_ st nx) kf) = some y0)
    (kk : ∀ (tg1 : Nat → Nat × Nat) (nx1 ns1 : Nat) (st1 : fo_St) (H1 : Heap), fo_x tg nx tg1 nx1 → tg1 nx = (4, L) → fo_Z E R s cN cS a0 tg1 nx1 ns1 st1 H1 locs → kf tg1 nx1 ns1 st1 = some y0 → W p l e R s m args below meth c H1 locs (nx1 - a0.2.1) (ns1 - a0.2.2.1) Q (F0 m (pc + 2) ls (.ref (eb E + nx) :: rest))) : W p l e R s m args below meth c H locs (nx - a0.2.1) (ns - a0.2.2.1) Q (F0 m pc ls (.int n :: rest)) := by
  obtain ⟨hb1, hf⟩ := ck_e hf
  obtain ⟨g1, g2⟩ := of_decide_eq_true hb1
  have hI := hZ.2.1
  obtain ⟨hB1, hB2, hB3, hB4, hB5, hB6⟩ := hZ.2.2.2
  obtain ⟨⟨hx, hb, hml, hown, hts⟩, hK, hlo⟩ := X
  have hsz : H.size = eb E + nx := hZ.1.1.1
  refine va_newaK (atype := .boolean) hx hb (hts _ hac) rfl hdg rfl hn0 hN (by show L * _ ≤ _; have h8 : componentBytes (newarray.typeOf .boolean) ≤ 8 := (by decide); have := Nat.mul_le_mul_left L h8; omega) (by rw [hB1]; omega) (by rw [hB2]; omega) hsz fun H1 cA e1 z1 o1 hAr hNm => ?_
  have hcA : cA = eA E 4 := Option.some.inj (hNm.symm.trans (hK.1.2 2 _ rfl).2)
  subst hcA
  have e9 : nx - a0.2.1 + 1 = nx + 1 - a0.2.1 := by omega
  have e8 : ns - a0.2.2.1 + L = ns + L - a0.2.2.1 := by omega
  rw [e9, e8]
  refine kk _ _ _ _ H1 (hI.new (4, L)).2 (by unfold tu_; rw [if_pos rfl]) (fo_made hZ g1 g2 (by rw [hsz]; exact z1) (fun q hq => o1 q (by omega)) fun x hxx => ?_) hf
  cases hxx
  show H1[eb E + nx]? = some (vp_cell (eA E 4) (L, .inl (gi_ (z0_ st nx) nx)))
  rw [e1]
  refine congrArg some ?_
  show (arrV (eA E 4) L fun _ => defaultValue (newarray.typeOf .boolean)) = arrV (eA E 4) L (fun j => .int (gi_ (z0_ st nx) nx j))
  congr 1
  funext j
  rw [gi_z0, if_pos rfl]
  rfl
theorem fa_newl (X : fo_X E p m c cc nL s args own meth) (hZ : fo_Z E R s cN cS a0 tg nx ns st H locs) (hac : Cond.arrayClass .long ∈ lw_all) {n : Int32} {L : Nat} (hn0 : ¬ n < 0) (hN : n.toNatClampNeg = L) (hL : L < 2 ^ 20) (hdg : decode cc pc = .ok (.newarray .long, 2)) {kf : (Nat → Nat × Nat) → Nat → Nat → fo_St → Option α} (hf : ck_ (fo_bg nx ns L cN cS) (aw_ (tu_ tg nx (5, L), nx + 1, ns + L, z0_ st nx) kf) = some y0)
    (kk : ∀ (tg1 : Nat → Nat × Nat) (nx1 ns1 : Nat) (st1 : fo_St) (H1 : Heap), fo_x tg nx tg1 nx1 → tg1 nx = (5, L) → fo_Z E R s cN cS a0 tg1 nx1 ns1 st1 H1 locs → kf tg1 nx1 ns1 st1 = some y0 → W p l e R s m args below meth c H1 locs (nx1 - a0.2.1) (ns1 - a0.2.2.1) Q (F0 m (pc + 2) ls (.ref (eb E + nx) :: rest))) : W p l e R s m args below meth c H locs (nx - a0.2.1) (ns - a0.2.2.1) Q (F0 m pc ls (.int n :: rest)) := by
  obtain ⟨hb1, hf⟩ := ck_e hf
  obtain ⟨g1, g2⟩ := of_decide_eq_true hb1
  have hI := hZ.2.1
  obtain ⟨hB1, hB2, hB3, hB4, hB5, hB6⟩ := hZ.2.2.2
  obtain ⟨⟨hx, hb, hml, hown, hts⟩, hK, hlo⟩ := X
  have hsz : H.size = eb E + nx := hZ.1.1.1
  refine va_newaK (atype := .long) hx hb (hts _ hac) rfl hdg rfl hn0 hN (by show L * _ ≤ _; have h8 : componentBytes (newarray.typeOf .long) ≤ 8 := (by decide); have := Nat.mul_le_mul_left L h8; omega) (by rw [hB1]; omega) (by rw [hB2]; omega) hsz fun H1 cA e1 z1 o1 hAr hNm => ?_
  have hcA : cA = eA E 5 := Option.some.inj (hNm.symm.trans (hK.1.2 3 _ rfl).2)
  subst hcA
  have e9 : nx - a0.2.1 + 1 = nx + 1 - a0.2.1 := by omega
  have e8 : ns - a0.2.2.1 + L = ns + L - a0.2.2.1 := by omega
  rw [e9, e8]
  refine kk _ _ _ _ H1 (hI.new (5, L)).2 (by unfold tu_; rw [if_pos rfl]) (fo_made hZ g1 g2 (by rw [hsz]; exact z1) (fun q hq => o1 q (by omega)) fun x hxx => ?_) hf
  cases hxx
  show H1[eb E + nx]? = some (vp_cell (eA E 5) (L, .inr (.inl (gl_ (z0_ st nx) nx))))
  rw [e1]
  refine congrArg some ?_
  show (arrV (eA E 5) L fun _ => defaultValue (newarray.typeOf .long)) = arrV (eA E 5) L (fun j => .long (gl_ (z0_ st nx) nx j))
  congr 1
  funext j
  rw [gl_z0, if_pos rfl]
  rfl
theorem fa_newoS (X : fo_X E p m c cc nL s args own meth) (hZ : fo_Z E R s cN cS a0 tg nx ns st H locs) {index : Nat} (hcl : Cond.classLink own index "ForestRooms$State" ∈ lw_all) (hao : va_AO "ForestRooms$State" s) {n : Int32} {L : Nat} (hn0 : ¬ n < 0) (hN : n.toNatClampNeg = L) (hL : L < 2 ^ 20) (hdg : decode cc pc = .ok (.anewarray index, 3)) {kf : (Nat → Nat × Nat) → Nat → Nat → fo_St → Option α} (hf : ck_ (fo_bg nx ns L cN cS) (aw_ (tu_ tg nx (7, L), nx + 1, ns + L, z0_ st nx) kf) = some y0)
    (kk : ∀ (tg1 : Nat → Nat × Nat) (nx1 ns1 : Nat) (st1 : fo_St) (H1 : Heap), fo_x tg nx tg1 nx1 → tg1 nx = (7, L) → fo_Z E R s cN cS a0 tg1 nx1 ns1 st1 H1 locs → kf tg1 nx1 ns1 st1 = some y0 → W p l e R s m args below meth c H1 locs (nx1 - a0.2.1) (ns1 - a0.2.2.1) Q (F0 m (pc + 3) ls (.ref (eb E + nx) :: rest))) : W p l e R s m args below meth c H locs (nx - a0.2.1) (ns - a0.2.2.1) Q (F0 m pc ls (.int n :: rest)) := by
  obtain ⟨hb1, hf⟩ := ck_e hf
  obtain ⟨g1, g2⟩ := of_decide_eq_true hb1
  have hI := hZ.2.1
  obtain ⟨hB1, hB2, hB3, hB4, hB5, hB6⟩ := hZ.2.2.2
  obtain ⟨⟨hx, hb, hml, hown, hts⟩, hK, hlo⟩ := X
  have hsz : H.size = eb E + nx := hZ.1.1.1
  subst hN
  refine W.anew hx hb hown (hts _ hcl) (va_AO.use hao) rfl hdg rfl hn0 (by omega) (by rw [hB1]; omega) (by rw [hB2]; omega) fun cA kA comp f1 f2 f3 f4 => ?_
  obtain ⟨kA', comp', i1, i2, i3, i4⟩ := (hK.1.2 5 _ rfl).2
  have hcA : cA = eA E 7 := Option.some.inj (f1.symm.trans i4)
  subst hcA
  generalize hH1 : H.push ({ cls := eA E 7, slots := Array.replicate n.toNatClampNeg .null, vm := .none } : Cell) = H1
  have z1 : H1.size = H.size + 1 := by rw [← hH1, Array.size_push]
  have e1 : H1[H.size]? = some (arrV (eA E 7) n.toNatClampNeg (fun _ => .null)) := by rw [← hH1, Array.getElem?_push_size, ← arrV_new]
  have o1 : ∀ q : Nat, q < H.size → H1[q]? = H[q]? := fun q hq => by rw [← hH1, Array.getElem?_push, if_neg (Nat.ne_of_lt hq)]
  have e9 : nx - a0.2.1 + 1 = nx + 1 - a0.2.1 := by omega
  have e8 : ns - a0.2.2.1 + n.toNatClampNeg = ns + n.toNatClampNeg - a0.2.2.1 := by omega
  rw [e9, e8, hsz]
  refine kk _ _ _ _ H1 (hI.new (7, n.toNatClampNeg)).2 (by unfold tu_; rw [if_pos rfl]) (fo_made hZ g1 g2 z1 o1 fun x hxx => ?_) hf
  cases hxx
  show H1[eb E + nx]? = some (vp_cell _ _)
  rw [← hsz, e1, vp_cell_q]
  congr 2
  funext j
  rw [gr_z0, if_pos rfl]
  rfl
theorem fa_newoT (X : fo_X E p m c cc nL s args own meth) (hZ : fo_Z E R s cN cS a0 tg nx ns st H locs) {index : Nat} (hcl : Cond.classLink own index "ForestRooms$Table" ∈ lw_all) (hao : va_AO "ForestRooms$Table" s) {n : Int32} {L : Nat} (hn0 : ¬ n < 0) (hN : n.toNatClampNeg = L) (hL : L < 2 ^ 20) (hdg : decode cc pc = .ok (.anewarray index, 3)) {kf : (Nat → Nat × Nat) → Nat → Nat → fo_St → Option α} (hf : ck_ (fo_bg nx ns L cN cS) (aw_ (tu_ tg nx (8, L), nx + 1, ns + L, z0_ st nx) kf) = some y0)
    (kk : ∀ (tg1 : Nat → Nat × Nat) (nx1 ns1 : Nat) (st1 : fo_St) (H1 : Heap), fo_x tg nx tg1 nx1 → tg1 nx = (8, L) → fo_Z E R s cN cS a0 tg1 nx1 ns1 st1 H1 locs → kf tg1 nx1 ns1 st1 = some y0 → W p l e R s m args below meth c H1 locs (nx1 - a0.2.1) (ns1 - a0.2.2.1) Q (F0 m (pc + 3) ls (.ref (eb E + nx) :: rest))) : W p l e R s m args below meth c H locs (nx - a0.2.1) (ns - a0.2.2.1) Q (F0 m pc ls (.int n :: rest)) := by
  obtain ⟨hb1, hf⟩ := ck_e hf
  obtain ⟨g1, g2⟩ := of_decide_eq_true hb1
  have hI := hZ.2.1
  obtain ⟨hB1, hB2, hB3, hB4, hB5, hB6⟩ := hZ.2.2.2
  obtain ⟨⟨hx, hb, hml, hown, hts⟩, hK, hlo⟩ := X
  have hsz : H.size = eb E + nx := hZ.1.1.1
  subst hN
  refine W.anew hx hb hown (hts _ hcl) (va_AO.use hao) rfl hdg rfl hn0 (by omega) (by rw [hB1]; omega) (by rw [hB2]; omega) fun cA kA comp f1 f2 f3 f4 => ?_
  obtain ⟨kA', comp', i1, i2, i3, i4⟩ := (hK.1.2 6 _ rfl).2
  have hcA : cA = eA E 8 := Option.some.inj (f1.symm.trans i4)
  subst hcA
  generalize hH1 : H.push ({ cls := eA E 8, slots := Array.replicate n.toNatClampNeg .null, vm := .none } : Cell) = H1
  have z1 : H1.size = H.size + 1 := by rw [← hH1, Array.size_push]
  have e1 : H1[H.size]? = some (arrV (eA E 8) n.toNatClampNeg (fun _ => .null)) := by rw [← hH1, Array.getElem?_push_size, ← arrV_new]
  have o1 : ∀ q : Nat, q < H.size → H1[q]? = H[q]? := fun q hq => by rw [← hH1, Array.getElem?_push, if_neg (Nat.ne_of_lt hq)]
  have e9 : nx - a0.2.1 + 1 = nx + 1 - a0.2.1 := by omega
  have e8 : ns - a0.2.2.1 + n.toNatClampNeg = ns + n.toNatClampNeg - a0.2.2.1 := by omega
  rw [e9, e8, hsz]
  refine kk _ _ _ _ H1 (hI.new (8, n.toNatClampNeg)).2 (by unfold tu_; rw [if_pos rfl]) (fo_made hZ g1 g2 z1 o1 fun x hxx => ?_) hf
  cases hxx
  show H1[eb E + nx]? = some (vp_cell _ _)
  rw [← hsz, e1, vp_cell_q]
  congr 2
  funext j
  rw [gr_z0, if_pos rfl]
  rfl
end FB2
section FB3
variable {p : Program} {l : Launch} {e : Env} {R : Room} {s : State} {m : MethodId} {args : Array Value} {below : List Frame} {meth : Method} {c : Code} {H : Heap} {locs : List Loc} {cells slots : Nat} {Q : State → Prop}
variable {cc : ByteArray} {nL pc : Nat} {ls : Array Slot} {rest stk : List Value} {own : String} {E : fo_E} {st : fo_St} {α β : Type} {y : α} {cN cS nx ns : Nat} {tg : Nat → Nat × Nat} {a0 a1 : fo_A}
/-- a reference into an array of references: the element's class by its tag -/
theorem fo_astk (X : fo_X E p m c cc nL s args own meth) (hw : fo_S E s st H locs) {n L v kd ti ci : Nat} {C : String} {q : vw_C} {ty : Nat → FieldType} (hty : (fo_tys E)[ti]? = some (eA E (kd + 6), .object C)) (ht : et E n = (kd + 6, L)) (hc : fo_C ci q ty) (hv : et E v = (1, ci)) (hasg : ∀ comp c0 : ClassId, s.vm.findClass C = some comp → s.vm.findClass q.1 = some c0 → s.vm.assignable c0 comp = true) {i : Int32} (hdg : decode cc pc = .ok (.aastore, 1)) {kf : fo_St → Option α} (hf : ck_ (fo_in i L) (lt_ (sr_ st n i.toNatClampNeg (some v)) kf) = some y)
    (kk : ∀ (st1 : fo_St) (H1 : Heap) (locs1 : List Loc), fo_S E s st1 H1 locs1 → kf st1 = some y → W p l e R s m args below meth c H1 locs1 cells slots Q (F0 m (pc + 1) ls rest)) : W p l e R s m args below meth c H locs cells slots Q (F0 m pc ls (.ref (eb E + v) :: .int i :: .ref (eb E + n) :: rest)) := by
  have hin := fo_in_e (ck_e hf).1
  have hlt : i.toNatClampNeg < L := Nat.not_le.mp fun q => hin (Or.inr q)
  have h0 : ¬ i < 0 := fun q => hin (Or.inl q)
  have x0 : fo_ce E (et E n) st n = some (.inl (eA E (kd + 6), L, .inr (.inr (.inr (.inr (fun j => (gr_ st n j).map (fun q => eb E + q))))))) := by rw [ht]; rfl
  have x1 : fo_ce E (et E n) (sr_ st n i.toNatClampNeg (some v)) n = some (.inl (eA E (kd + 6), L, .inr (.inr (.inr (.inr (fun j => (gr_ (sr_ st n i.toNatClampNeg (some v)) n j).map (fun q => eb E + q))))))) := by rw [ht]; rfl
  obtain ⟨r', hr', cellV, g1, g2, g3, -⟩ := fo_ob hw hv 0 _ rfl
  have hcls := (X.2.1.1.1 ci _ hc.1).2
  obtain ⟨kA, comp, k1, k2, k3, -⟩ := (X.2.1.1.2 ti _ hty).2
  obtain ⟨kC, hkC, -⟩ := hcls.2
  obtain ⟨kE, hkE, -⟩ := Vm.findClass_spec k3
  refine W.aast X.1.1 X.1.2.1 (fo_at hw x0 0 _ rfl) (fun q h => by cases h) (fun h => by cases h) k1 k2 rfl hkE ⟨h0, by show _ < (arrV _ _ _).slots.size; rw [arrV_size]; exact hlt⟩ g1 (fun q h => by rw [g3] at h; cases h) (by rw [g2]; exact hkC) (by rw [g2]; exact hasg _ _ k3 hcls.1) rfl rfl hdg fun H1 e1 e2 e3 => ?_
  refine kk _ H1 _ (fo_arr hw x0 x1 fo_sr3 ?_ e2 e3) (ck_e hf).2
  rw [e1]
  refine congrArg some ?_
  rw [vp_cell_q, vp_cell_q, arrV_store]
  congr 1
  funext j
  rw [gr_sr]
  unfold updV
  by_cases hj : j = i.toNatClampNeg
  · rw [if_pos hj, if_pos ⟨rfl, hj⟩]; rfl
  · rw [if_neg hj, if_neg (fun h => hj h.2)]
end FB3
theorem lw_O {own : String} {idx : Nat} {C owner : String} {x y : MethodName} {b : ByteArray} {L : Nat} {r : Option FieldType} (h1 : Cond.methodLink own idx x ∈ lw_all) (h2 : Cond.sameMethod x.cls owner x.name x.desc ∈ lw_all) (h0 : Cond.instanceMethod ⟨owner, x.name, x.desc⟩ ∈ lw_all) (h3 : Cond.selects C x y ∈ lw_all) (h4 : Cond.instanceMethod y ∈ lw_all) (h5 : Cond.initialized y.cls ∈ lw_all) (h6 : Cond.code y b L r ∈ lw_all) : GoodIn lw_all (va_wsO own idx C owner x y (ws_ y b L r)) := by
  refine lw_app ?_ (lw_meth h6)
  intro w hw
  simp only [List.mem_cons, List.not_mem_nil, or_false] at hw
  rcases hw with e | e | e | e | e | e
  · rw [e]; exact h1
  · rw [e]; exact h2
  · rw [e]; exact h0
  · rw [e]; exact h3
  · rw [e]; exact h4
  · rw [e]; exact h5
theorem lw_F {own : String} {idx : Nat} {C : String} {x y : MethodName} {b : ByteArray} {L : Nat} {r : Option FieldType} (h1 : Cond.methodLink own idx x ∈ lw_all) (h3 : Cond.selects C x y ∈ lw_all) (h4 : Cond.instanceMethod y ∈ lw_all) (h5 : Cond.initialized y.cls ∈ lw_all) (h6 : Cond.code y b L r ∈ lw_all) : GoodIn lw_all (va_wsF own idx C x y (ws_ y b L r)) := by
  refine lw_app ?_ (lw_meth h6)
  intro w hw
  simp only [List.mem_cons, List.not_mem_nil, or_false] at hw
  rcases hw with e | e | e | e
  · rw [e]; exact h1
  · rw [e]; exact h3
  · rw [e]; exact h4
  · rw [e]; exact h5
section FB4
variable {p : Program} {l : Launch} {e : Env} {R : Room} {s : State} {m : MethodId} {args : Array Value} {below : List Frame} {meth : Method} {c : Code} {H : Heap} {locs : List Loc} {Q : State → Prop}
variable {cc : ByteArray} {nL pc : Nat} {ls : Array Slot} {rest stk : List Value} {own : String} {E : fo_E} {st : fo_St} {α β : Type} {y0 : α} {cN cS nx ns : Nat} {tg : Nat → Nat × Nat} {a0 a1 : fo_A}
variable {y : MethodName} {bytes : ByteArray} {maxL n index fr lo : Nat} {ret : Option FieldType} {val : β → Option Value}
/-- an inherited method, found by the receiver -/
theorem fa_O (X : fo_X E p m c cc nL s args own meth) (hZ : fo_Z E R s cN cS a0 tg nx ns st H locs) {owner : String} {x : MethodName} {ci n0 : Nat} {q : vw_C} {ty : Nat → FieldType} (hG : GoodIn lw_all (va_wsO own index q.1 owner x y (ws_ y bytes maxL ret))) {b0 : ByteArray} {m0 : Nat} {r0 : Option FieldType} (h0 : Cond.code ⟨owner, x.name, x.desc⟩ b0 m0 r0 ∈ lw_all) (hd : owner ≠ "java/lang/invoke/MethodHandle" ∧ owner ≠ "java/lang/invoke/VarHandle" ∧ (parseMethodDescriptor x.desc).map (fun d => d.parameters.length) = some n) (hR : fr + 1 ≤ R.frames ∧ 8 + (maxL + 11) + lo ≤ R.locals) (hc : fo_C ci q ty) (ht : tg n0 = (1, ci)) {As : List Value} (hn : As.length = n) (hstk : stk = As.reverse ++ .ref (eb E + n0) :: rest) (hsz : ls.size = nL) (hroom : (rest.map fun v => v.category).sum ≤ 8) (hdg : decode cc pc = .ok (.invokevirtual index, 3)) {o : Option ((β ⊕ Nat) × fo_A)} {kf : β → (Nat → Nat × Nat) → Nat → Nat → fo_St → Option α} {hh : Nat → (Nat → Nat × Nat) → Nat → Nat → fo_St → Option α} (hct : ∀ (ρ : β ⊕ Nat) (a1 : fo_A), o = some (ρ, a1) → CA val l E y (ws_ y bytes maxL ret) fr lo cN cS (.ref (eb E + n0) :: As) (tg, nx, ns, st) ρ a1) (hf : ba_ o kf hh = some y0)
    (kx : ∀ (n : Nat) (EE : String) (tg1 : Nat → Nat × Nat) (nx1 ns1 : Nat) (st1 : fo_St) (H1 : Heap) (locs1 : List Loc), fo_TX (eW E tg1 nx1) n EE → fo_x tg nx tg1 nx1 → fo_Z E R s cN cS a0 tg1 nx1 ns1 st1 H1 locs1 → hh n tg1 nx1 ns1 st1 = some y0 → fx_W p l e R s m args below meth c H1 locs1 (nx1 - a0.2.1) (ns1 - a0.2.2.1) Q (F0 m pc ls rest) (eb E + n))
    (kk : ∀ (r : β) (tg1 : Nat → Nat × Nat) (nx1 ns1 : Nat) (st1 : fo_St) (H1 : Heap) (locs1 : List Loc), fo_x tg nx tg1 nx1 → fo_Z E R s cN cS a0 tg1 nx1 ns1 st1 H1 locs1 → kf r tg1 nx1 ns1 st1 = some y0 → W p l e R s m args below meth c H1 locs1 (nx1 - a0.2.1) (ns1 - a0.2.2.1) Q (F0 m (pc + 3) ls ((val r).toList ++ rest))) : W p l e R s m args below meth c H locs (nx - a0.2.1) (ns - a0.2.2.1) Q (F0 m pc ls stk) := by
  obtain ⟨ρ, a1, ho, hk, hx⟩ := ba_e hf
  subst hstk
  exact fa_run hZ (gx_runU X.1 (hct ρ a1 ho) (va_cwO n X.1.2.2.2.2 hG rfl rfl rfl h0 hd hR) ⟨fo_blind (E := eW E tg nx), fo_rcv (fo_Xw X) hZ.1 hc ht, fo_pre (fo_Xw X) hZ.1 _⟩ rfl hn hsz rfl (lv_room hroom) hdg hZ.lims) (fun n EE H1 locs1 h1 h2 h3 h4 => kx n EE _ _ _ _ H1 locs1 h2 h3 h4 (hx n h1)) (fun r H1 locs1 h1 h2 h3 => kk r _ _ _ _ H1 locs1 h2 h3 (hk r h1))

/-- a constructor of a nest mate -/
theorem fa_IN (X : fo_X E p m c cc nL s args own meth) (hZ : fo_Z E R s cN cS a0 tg nx ns st H locs) (hM : fo_M y n) (hcode : Cond.code y bytes maxL none ∈ lw_all) (hini : Cond.initialized y.cls ∈ lw_all) {host : String} (hlink : Cond.methodLinkNest own index y host ∈ fo_nest) (hinst : Cond.instanceMethod y ∈ lw_all) (hy1 : y.name = "<init>") (hR : fr + 1 ≤ R.frames ∧ 8 + (maxL + 11) + lo ≤ R.locals) {n0 : Nat} {As : List Value} (hn : As.length = n) (hstk : stk = As.reverse ++ .ref (eb E + n0) :: rest) (hsz : ls.size = nL) (hroom : (rest.map fun v => v.category).sum ≤ 8) (hdg : decode cc pc = .ok (.invokespecial index, 3)) {o : Option ((β ⊕ Nat) × fo_A)} {kf : β → (Nat → Nat × Nat) → Nat → Nat → fo_St → Option α} {hh : Nat → (Nat → Nat × Nat) → Nat → Nat → fo_St → Option α} (hct : ∀ (ρ : β ⊕ Nat) (a1 : fo_A), o = some (ρ, a1) → CA val l E y (ws_ y bytes maxL none) fr lo cN cS (.ref (eb E + n0) :: As) (tg, nx, ns, st) ρ a1) (hf : ba_ o kf hh = some y0)
    (kx : ∀ (n : Nat) (EE : String) (tg1 : Nat → Nat × Nat) (nx1 ns1 : Nat) (st1 : fo_St) (H1 : Heap) (locs1 : List Loc), fo_TX (eW E tg1 nx1) n EE → fo_x tg nx tg1 nx1 → fo_Z E R s cN cS a0 tg1 nx1 ns1 st1 H1 locs1 → hh n tg1 nx1 ns1 st1 = some y0 → fx_W p l e R s m args below meth c H1 locs1 (nx1 - a0.2.1) (ns1 - a0.2.2.1) Q (F0 m pc ls rest) (eb E + n))
    (kk : ∀ (r : β) (tg1 : Nat → Nat × Nat) (nx1 ns1 : Nat) (st1 : fo_St) (H1 : Heap) (locs1 : List Loc), fo_x tg nx tg1 nx1 → fo_Z E R s cN cS a0 tg1 nx1 ns1 st1 H1 locs1 → kf r tg1 nx1 ns1 st1 = some y0 → W p l e R s m args below meth c H1 locs1 (nx1 - a0.2.1) (ns1 - a0.2.2.1) Q (F0 m (pc + 3) ls ((val r).toList ++ rest))) : W p l e R s m args below meth c H locs (nx - a0.2.1) (ns - a0.2.2.1) Q (F0 m pc ls stk) := by
  obtain ⟨ρ, a1, ho, hk, hx⟩ := ba_e hf
  subst hstk
  exact fa_run hZ (gx_runIN X.1 (hct ρ a1 ho) ⟨va_cnB n X.1.2.2.2.2 (lw_meth hcode) rfl rfl rfl (X.2.1.2.1 _ hlink) (X.1.2.2.2.2 _ hini) hM.2 hR, hy1, X.1.2.2.2.2 _ hinst⟩ ⟨fo_blind (E := eW E tg nx), fo_pre (fo_Xw X) hZ.1 _⟩ rfl hn hsz rfl (lv_room hroom) hdg hZ.lims) (fun n EE H1 locs1 h1 h2 h3 h4 => kx n EE _ _ _ _ H1 locs1 h2 h3 h4 (hx n h1)) (fun r H1 locs1 h1 h2 h3 => kk r _ _ _ _ H1 locs1 h2 h3 (hk r h1))

end FB4
