/-! walks of methods that make cells or throw, printed by genA.py -/
set_option maxRecDepth 100000
theorem aw_u {α : Type} {t : Nat → Nat × Nat} {n m : Nat} {s : fo_St} {k : (Nat → Nat × Nat) → Nat → Nat → fo_St → Option α} {y : α} (h : aw_ (t, n, m, s) k = some y) : k t n m s = some y := h
theorem fo_tagA {tg : Nat → Nat × Nat} {q k : Nat} (h : decide ((tg q).1 = k) = true) : tg q = (k, (tg q).2) := Prod.ext (of_decide_eq_true h) rfl
theorem fo_self {E : fo_E} {p : Program} {m : MethodId} {c : Code} {cc : ByteArray} {nL : Nat} {s : State} {args : Array Value} {own : String} {meth : Method} {ci : Nat} {q : vw_C} {ty : Nat → FieldType} (X : fo_X E p m c cc nL s args own meth) (hc : fo_C ci q ty) : ∀ comp c0 : ClassId, s.vm.findClass q.1 = some comp → s.vm.findClass q.1 = some c0 → s.vm.assignable c0 comp = true := fun comp c0 h1 h2 => by
  have hcls := (X.2.1.1.1 ci _ hc.1).2
  cases hcls.1.symm.trans h1
  cases hcls.1.symm.trans h2
  exact va_assign hcls
/-- ForestRooms$Sum.<init> -/
def fX10_init (cN cS : Nat) (o : Nat) (tg0 : Nat → Nat × Nat) (nx0 ns0 : Nat) (st0 : fo_St) : Option ((Unit ⊕ Nat) × fo_A) := some (.inl (), (tg0, nx0, ns0, st0))
theorem hm_X10_init : fo_M yX10_init 0 := ⟨by decide +kernel, by decide +kernel, by decide +kernel, by decide +kernel⟩
set_option maxHeartbeats 1000000 in
theorem wX10_init (l : Launch) (E : fo_E) (o : Nat) (fr lo : Nat) (hfr : 2 ≤ fr) (hlo : 60 ≤ lo) (cN cS : Nat) (tg0 : Nat → Nat × Nat) (nx0 ns0 : Nat) (st0 : fo_St) (hI : fo_I E tg0 nx0) (hcN : nx0 ≤ cN) (hcS : ns0 ≤ cS) (ρZ : Unit ⊕ Nat) (aZ : fo_A) (hf : fX10_init cN cS o tg0 nx0 ns0 st0 = some (ρZ, aZ)) : CA vlV l E yX10_init (ws_ yX10_init cX10_init 1 none) fr lo cN cS [.ref (eb E + o)] (tg0, nx0, ns0, st0) ρZ aZ := by
  refine fea_v (a := (tg0, nx0, ns0, st0)) hm_X10_init (Nat.le_of_ble_eq_true rfl) hI hcN hcS (fun p e R s m args below meth c Q hRf hRl X hnm hend hxx ls hl hz => ?_)
  have hin2 : meth.name = "<init>" := hnm
  replace hRf : 2 ≤ R.frames := by rw [hRf]; exact hfr
  replace hRl : 60 ≤ R.locals := by rw [hRl]; exact hlo
  have hx := X.1.1
  have hb := X.1.2.1
  have hl : lv_has ls 1 [(0, .ref (eb E + o))] := hl
  have hz : fo_Z E R s cN cS (tg0, nx0, ns0, st0) tg0 nx0 ns0 st0 s.heap [] := hz
  have hw := hz.1
  show W p l e R s m args below meth c s.heap [] (nx0 - nx0) (ns0 - ns0) Q (F0 m 0 ls [])
  unfold fX10_init at hf
  generalize s.heap = H at hz hw ⊢
  generalize ([] : List Loc) = locs at hz hw ⊢
  refine lv_aload_n hx hb dX10_init_0 rfl (lv_at hl 0 rfl) ?_
  refine W.objInit hx hb X.1.2.2.2.1 (X.1.2.2.2.2 _ q945) (X.1.2.2.2.2 _ q153) (X.1.2.2.2.2 _ q154) rfl (by rw [X.1.2.2.1]; exact hl.1) rfl dX10_init_1 (Nat.le_trans (Nat.le_of_ble_eq_true rfl) hRf) (Nat.le_trans (Nat.le_of_ble_eq_true rfl) hRl) ?_
  exact fda_v hend hz hf dX10_init_4

/-- ForestRooms$Test.<init> -/
def fX14_init (cN cS : Nat) (o : Nat) (tg0 : Nat → Nat × Nat) (nx0 ns0 : Nat) (st0 : fo_St) : Option ((Unit ⊕ Nat) × fo_A) := some (.inl (), (tg0, nx0, ns0, st0))
theorem hm_X14_init : fo_M yX14_init 0 := ⟨by decide +kernel, by decide +kernel, by decide +kernel, by decide +kernel⟩
set_option maxHeartbeats 1000000 in
theorem wX14_init (l : Launch) (E : fo_E) (o : Nat) (fr lo : Nat) (hfr : 2 ≤ fr) (hlo : 60 ≤ lo) (cN cS : Nat) (tg0 : Nat → Nat × Nat) (nx0 ns0 : Nat) (st0 : fo_St) (hI : fo_I E tg0 nx0) (hcN : nx0 ≤ cN) (hcS : ns0 ≤ cS) (ρZ : Unit ⊕ Nat) (aZ : fo_A) (hf : fX14_init cN cS o tg0 nx0 ns0 st0 = some (ρZ, aZ)) : CA vlV l E yX14_init (ws_ yX14_init cX14_init 1 none) fr lo cN cS [.ref (eb E + o)] (tg0, nx0, ns0, st0) ρZ aZ := by
  refine fea_v (a := (tg0, nx0, ns0, st0)) hm_X14_init (Nat.le_of_ble_eq_true rfl) hI hcN hcS (fun p e R s m args below meth c Q hRf hRl X hnm hend hxx ls hl hz => ?_)
  have hin2 : meth.name = "<init>" := hnm
  replace hRf : 2 ≤ R.frames := by rw [hRf]; exact hfr
  replace hRl : 60 ≤ R.locals := by rw [hRl]; exact hlo
  have hx := X.1.1
  have hb := X.1.2.1
  have hl : lv_has ls 1 [(0, .ref (eb E + o))] := hl
  have hz : fo_Z E R s cN cS (tg0, nx0, ns0, st0) tg0 nx0 ns0 st0 s.heap [] := hz
  have hw := hz.1
  show W p l e R s m args below meth c s.heap [] (nx0 - nx0) (ns0 - ns0) Q (F0 m 0 ls [])
  unfold fX14_init at hf
  generalize s.heap = H at hz hw ⊢
  generalize ([] : List Loc) = locs at hz hw ⊢
  refine lv_aload_n hx hb dX14_init_0 rfl (lv_at hl 0 rfl) ?_
  refine W.objInit hx hb X.1.2.2.2.1 (X.1.2.2.2.2 _ q1065) (X.1.2.2.2.2 _ q153) (X.1.2.2.2.2 _ q154) rfl (by rw [X.1.2.2.1]; exact hl.1) rfl dX14_init_1 (Nat.le_trans (Nat.le_of_ble_eq_true rfl) hRf) (Nat.le_trans (Nat.le_of_ble_eq_true rfl) hRl) ?_
  exact fda_v hend hz hf dX14_init_4

/-- java/util/AbstractCollection.<init> -/
def fJ0_init (cN cS : Nat) (o : Nat) (tg0 : Nat → Nat × Nat) (nx0 ns0 : Nat) (st0 : fo_St) : Option ((Unit ⊕ Nat) × fo_A) := some (.inl (), (tg0, nx0, ns0, st0))
theorem hm_J0_init : fo_M yJ0_init 0 := ⟨by decide +kernel, by decide +kernel, by decide +kernel, by decide +kernel⟩
set_option maxHeartbeats 1000000 in
theorem wJ0_init (l : Launch) (E : fo_E) (o : Nat) (fr lo : Nat) (hfr : 2 ≤ fr) (hlo : 60 ≤ lo) (cN cS : Nat) (tg0 : Nat → Nat × Nat) (nx0 ns0 : Nat) (st0 : fo_St) (hI : fo_I E tg0 nx0) (hcN : nx0 ≤ cN) (hcS : ns0 ≤ cS) (ρZ : Unit ⊕ Nat) (aZ : fo_A) (hf : fJ0_init cN cS o tg0 nx0 ns0 st0 = some (ρZ, aZ)) : CA vlV l E yJ0_init (ws_ yJ0_init cJ0_init 1 none) fr lo cN cS [.ref (eb E + o)] (tg0, nx0, ns0, st0) ρZ aZ := by
  refine fea_v (a := (tg0, nx0, ns0, st0)) hm_J0_init (Nat.le_of_ble_eq_true rfl) hI hcN hcS (fun p e R s m args below meth c Q hRf hRl X hnm hend hxx ls hl hz => ?_)
  have hin2 : meth.name = "<init>" := hnm
  replace hRf : 2 ≤ R.frames := by rw [hRf]; exact hfr
  replace hRl : 60 ≤ R.locals := by rw [hRl]; exact hlo
  have hx := X.1.1
  have hb := X.1.2.1
  have hl : lv_has ls 1 [(0, .ref (eb E + o))] := hl
  have hz : fo_Z E R s cN cS (tg0, nx0, ns0, st0) tg0 nx0 ns0 st0 s.heap [] := hz
  have hw := hz.1
  show W p l e R s m args below meth c s.heap [] (nx0 - nx0) (ns0 - ns0) Q (F0 m 0 ls [])
  unfold fJ0_init at hf
  generalize s.heap = H at hz hw ⊢
  generalize ([] : List Loc) = locs at hz hw ⊢
  refine lv_aload_n hx hb dJ0_init_0 rfl (lv_at hl 0 rfl) ?_
  refine W.objInit hx hb X.1.2.2.2.1 (X.1.2.2.2.2 _ q197) (X.1.2.2.2.2 _ q153) (X.1.2.2.2.2 _ q154) rfl (by rw [X.1.2.2.1]; exact hl.1) rfl dJ0_init_1 (Nat.le_trans (Nat.le_of_ble_eq_true rfl) hRf) (Nat.le_trans (Nat.le_of_ble_eq_true rfl) hRl) ?_
  exact fda_v hend hz hf dJ0_init_4

/-- java/util/AbstractList.<init> -/
def fJ1_init (cN cS : Nat) (o : Nat) (tg0 : Nat → Nat × Nat) (nx0 ns0 : Nat) (st0 : fo_St) : Option ((Unit ⊕ Nat) × fo_A) := ba_ (fJ0_init cN cS o tg0 nx0 ns0 st0) (fun x1 tg2 nx2 ns2 sa2 => lt_ (si_ sa2 o 0 (0 : Int32)) (fun st3 => some (.inl (), (tg2, nx2, ns2, st3)))) (fun nX tgX nxX nsX stX => some (.inr nX, (tgX, nxX, nsX, stX)))
theorem hm_J1_init : fo_M yJ1_init 0 := ⟨by decide +kernel, by decide +kernel, by decide +kernel, by decide +kernel⟩
set_option maxHeartbeats 1000000 in
theorem wJ1_init_18 (l : Launch) (E : fo_E) (o : Nat) (fr lo : Nat) (hfr : 3 ≤ fr) (hlo : 80 ≤ lo) (cN cS : Nat) (tg0 : Nat → Nat × Nat) (nx0 ns0 : Nat) (hO : tg0 o = (1, 18)) (st0 : fo_St) (hI : fo_I E tg0 nx0) (hcN : nx0 ≤ cN) (hcS : ns0 ≤ cS) (ρZ : Unit ⊕ Nat) (aZ : fo_A) (hf : fJ1_init cN cS o tg0 nx0 ns0 st0 = some (ρZ, aZ)) : CA vlV l E yJ1_init (ws_ yJ1_init cJ1_init 1 none) fr lo cN cS [.ref (eb E + o)] (tg0, nx0, ns0, st0) ρZ aZ := by
  refine fea_v (a := (tg0, nx0, ns0, st0)) hm_J1_init (Nat.le_of_ble_eq_true rfl) hI hcN hcS (fun p e R s m args below meth c Q hRf hRl X hnm hend hxx ls hl hz => ?_)
  have hin2 : meth.name = "<init>" := hnm
  replace hRf : 3 ≤ R.frames := by rw [hRf]; exact hfr
  replace hRl : 80 ≤ R.locals := by rw [hRl]; exact hlo
  have hR0 : 2 + 1 ≤ R.frames ∧ 8 + (1 + 11) + (60) ≤ R.locals := ⟨by omega, by omega⟩
  have hx := X.1.1
  have hb := X.1.2.1
  have hl : lv_has ls 1 [(0, .ref (eb E + o))] := hl
  have hz : fo_Z E R s cN cS (tg0, nx0, ns0, st0) tg0 nx0 ns0 st0 s.heap [] := hz
  have hw := hz.1
  show W p l e R s m args below meth c s.heap [] (nx0 - nx0) (ns0 - ns0) Q (F0 m 0 ls [])
  unfold fJ1_init at hf
  generalize s.heap = H at hz hw ⊢
  generalize ([] : List Loc) = locs at hz hw ⊢
  refine lv_aload_n hx hb dJ1_init_0 rfl (lv_at hl 0 rfl) ?_
  have hf0 := hf
  clear hf
  refine fa_I (fr := 2) (lo := 60) (val := vlV) (rest := []) (As := []) X hz hm_J0_init q196 q114 q194 q195 rfl hR0 rfl rfl hl.1 (Nat.le_of_ble_eq_true rfl) dJ1_init_1 (fun rQ aQ hQ => wJ0_init l E o (2) (60) (Nat.le_refl _) (Nat.le_refl _) cN cS tg0 nx0 ns0 st0 hI hz.2.2.2.2.2.2.1 hz.2.2.2.2.2.2.2.2 rQ aQ hQ) hf0 (fun nX EX tgX nxX nsX stX H locs hTX hxX hz2 hf => ?_) (fun x1 tg2 nx2 ns2 sa2 H locs hext hz2 hf => ?_)
  · exact fda_x hxx hTX hz2 hf
  clear hf0
  have hO := hext.t hI hO
  have hz := hz2
  have hw := hz.1
  have hI := hz.2.1
  clear hz2 hext
  refine lv_aload_n hx hb dJ1_init_4 rfl (lv_at hl 0 rfl) ?_
  refine lv_iconst (v := (0 : Int32)) hx hb dJ1_init_5 (by decide) ?_
  have hf0 := hf
  clear hf
  refine fo_puti (fo_Xw X) hw fc_J2 hO (k := 0) (by decide) rfl rfl q204 ⟨rfl, rfl⟩ dJ1_init_6 hf0 (fun st3 H locs hw hf => ?_)
  clear hf0
  have hz := hz.s hw
  exact fda_v hend hz hf dJ1_init_9

/-- java/util/ArrayList.<init> -/
def fJ2_init (cN cS : Nat) (o : Nat) (p1 : Int32) (tg0 : Nat → Nat × Nat) (nx0 ns0 : Nat) (st0 : fo_St) : Option ((Unit ⊕ Nat) × fo_A) := ba_ (fJ1_init cN cS o tg0 nx0 ns0 st0) (fun x1 tg2 nx2 ns2 sa2 => if p1 ≤ 0 then none else ck_ (decide (¬ p1 < 0 ∧ p1.toNatClampNeg < 2 ^ 20)) (ck_ (fo_bg nx2 ns2 (p1.toNatClampNeg) cN cS) (aw_ (tu_ tg2 nx2 (6, p1.toNatClampNeg), nx2 + 1, ns2 + (p1.toNatClampNeg), z0_ sa2 nx2) (fun tg3 nx3 ns3 sa3 => lt_ (sr_ sa3 o 1 (some nx2)) (fun st5 => some (.inl (), (tg3, nx3, ns3, st5))))))) (fun nX tgX nxX nsX stX => some (.inr nX, (tgX, nxX, nsX, stX)))
theorem hm_J2_init : fo_M yJ2_init 1 := ⟨by decide +kernel, by decide +kernel, by decide +kernel, by decide +kernel⟩
set_option maxHeartbeats 1000000 in
theorem wJ2_init_18 (l : Launch) (E : fo_E) (K V : Nat → Nat) (mi : Nat) (hSX : fo_SX E K V mi) (o : Nat) (p1 : Int32) (fr lo : Nat) (hfr : 4 ≤ fr) (hlo : 100 ≤ lo) (cN cS : Nat) (tg0 : Nat → Nat × Nat) (nx0 ns0 : Nat) (hO : tg0 o = (1, 18)) (st0 : fo_St) (hI : fo_I E tg0 nx0) (hcN : nx0 ≤ cN) (hcS : ns0 ≤ cS) (ρZ : Unit ⊕ Nat) (aZ : fo_A) (hf : fJ2_init cN cS o p1 tg0 nx0 ns0 st0 = some (ρZ, aZ)) : CA vlV l E yJ2_init (ws_ yJ2_init cJ2_init 2 none) fr lo cN cS [.ref (eb E + o), .int p1] (tg0, nx0, ns0, st0) ρZ aZ := by
  refine fea_v (a := (tg0, nx0, ns0, st0)) hm_J2_init (Nat.le_of_ble_eq_true rfl) hI hcN hcS (fun p e R s m args below meth c Q hRf hRl X hnm hend hxx ls hl hz => ?_)
  have hin2 : meth.name = "<init>" := hnm
  replace hRf : 4 ≤ R.frames := by rw [hRf]; exact hfr
  replace hRl : 100 ≤ R.locals := by rw [hRl]; exact hlo
  have hR0 : 3 + 1 ≤ R.frames ∧ 8 + (1 + 11) + (80) ≤ R.locals := ⟨by omega, by omega⟩
  have hx := X.1.1
  have hb := X.1.2.1
  have hl : lv_has ls 2 [(0, .ref (eb E + o)), (1, .int p1)] := hl
  have hz : fo_Z E R s cN cS (tg0, nx0, ns0, st0) tg0 nx0 ns0 st0 s.heap [] := hz
  have hw := hz.1
  show W p l e R s m args below meth c s.heap [] (nx0 - nx0) (ns0 - ns0) Q (F0 m 0 ls [])
  unfold fJ2_init at hf
  generalize s.heap = H at hz hw ⊢
  generalize ([] : List Loc) = locs at hz hw ⊢
  refine lv_aload_n hx hb dJ2_init_0 rfl (lv_at hl 0 rfl) ?_
  have hf0 := hf
  clear hf
  refine fa_I (fr := 3) (lo := 80) (val := vlV) (rest := []) (As := []) X hz hm_J1_init q193 q115 q191 q192 rfl hR0 rfl rfl hl.1 (Nat.le_of_ble_eq_true rfl) dJ2_init_1 (fun rQ aQ hQ => wJ1_init_18 l E o (3) (80) (Nat.le_refl _) (Nat.le_refl _) cN cS tg0 nx0 ns0 hO st0 hI hz.2.2.2.2.2.2.1 hz.2.2.2.2.2.2.2.2 rQ aQ hQ) hf0 (fun nX EX tgX nxX nsX stX H locs hTX hxX hz2 hf => ?_) (fun x1 tg2 nx2 ns2 sa2 H locs hext hz2 hf => ?_)
  · exact fda_x hxx hTX hz2 hf
  clear hf0
  have hO := hext.t hI hO
  have hz := hz2
  have hw := hz.1
  have hI := hz.2.1
  clear hz2 hext
  refine lv_iload_n hx hb dJ2_init_4 rfl (lv_at hl 1 rfl) ?_
  have hf0 := hf
  clear hf
  refine fb_zle (tgt := 19) hx hb dJ2_init_5 (by decide) hf0 (fun hf => ?_) (fun hf => ?_)
  · clear hf0
    cases hf
  clear hf0
  refine lv_aload_n hx hb dJ2_init_8 rfl (lv_at hl 0 rfl) ?_
  refine lv_iload_n hx hb dJ2_init_9 rfl (lv_at hl 1 rfl) ?_
  have hf0 := ck_e hf
  clear hf
  obtain ⟨hc, hf⟩ := hf0
  obtain ⟨hc1, hc2⟩ := of_decide_eq_true hc
  have hf0 := hf
  clear hf
  refine fa_newo X (hSX s s.heap X.2.1.2.2.1).2.2.2.2.2.2.2.2.1 hz q198 (L := p1.toNatClampNeg) hc1 rfl hc2 dJ2_init_10 hf0 (fun tg3 nx3 ns3 sa3 H hext hq4 hz2 hf => ?_)
  clear hf0
  have hO := hext.t hI hO
  have hz := hz2
  have hw := hz.1
  have hI := hz.2.1
  clear hz2 hext
  have hf0 := hf
  clear hf
  refine fo_putr (fo_Xw X) hw fc_J2 hO (k := 1) (by decide) rfl rfl q202 (fun _ => ⟨rfl, rfl⟩) dJ2_init_13 hf0 (fun st5 H locs hw hf => ?_)
  clear hf0
  have hz := hz.s hw
  refine lv_goto (tgt := 60) hx hb dJ2_init_16 (by decide) ?_
  exact fda_v hend hz hf dJ2_init_60

/-- ForestRooms$Clause.<init> -/
def fX9_init (cN cS : Nat) (o : Nat) (p1 : Int32) (tg0 : Nat → Nat × Nat) (nx0 ns0 : Nat) (st0 : fo_St) : Option ((Unit ⊕ Nat) × fo_A) := lt_ (si_ st0 o 0 p1) (fun st1 => some (.inl (), (tg0, nx0, ns0, st1)))
theorem hm_X9_init : fo_M yX9_init 1 := ⟨by decide +kernel, by decide +kernel, by decide +kernel, by decide +kernel⟩
set_option maxHeartbeats 1000000 in
theorem wX9_init_8 (l : Launch) (E : fo_E) (o : Nat) (p1 : Int32) (fr lo : Nat) (hfr : 2 ≤ fr) (hlo : 60 ≤ lo) (cN cS : Nat) (tg0 : Nat → Nat × Nat) (nx0 ns0 : Nat) (hO : tg0 o = (1, 8)) (st0 : fo_St) (hI : fo_I E tg0 nx0) (hcN : nx0 ≤ cN) (hcS : ns0 ≤ cS) (ρZ : Unit ⊕ Nat) (aZ : fo_A) (hf : fX9_init cN cS o p1 tg0 nx0 ns0 st0 = some (ρZ, aZ)) : CA vlV l E yX9_init (ws_ yX9_init cX9_init 2 none) fr lo cN cS [.ref (eb E + o), .int p1] (tg0, nx0, ns0, st0) ρZ aZ := by
  refine fea_v (a := (tg0, nx0, ns0, st0)) hm_X9_init (Nat.le_of_ble_eq_true rfl) hI hcN hcS (fun p e R s m args below meth c Q hRf hRl X hnm hend hxx ls hl hz => ?_)
  have hin2 : meth.name = "<init>" := hnm
  replace hRf : 2 ≤ R.frames := by rw [hRf]; exact hfr
  replace hRl : 60 ≤ R.locals := by rw [hRl]; exact hlo
  have hx := X.1.1
  have hb := X.1.2.1
  have hl : lv_has ls 2 [(0, .ref (eb E + o)), (1, .int p1)] := hl
  have hz : fo_Z E R s cN cS (tg0, nx0, ns0, st0) tg0 nx0 ns0 st0 s.heap [] := hz
  have hw := hz.1
  show W p l e R s m args below meth c s.heap [] (nx0 - nx0) (ns0 - ns0) Q (F0 m 0 ls [])
  unfold fX9_init at hf
  generalize s.heap = H at hz hw ⊢
  generalize ([] : List Loc) = locs at hz hw ⊢
  refine lv_aload_n hx hb dX9_init_0 rfl (lv_at hl 0 rfl) ?_
  refine W.objInit hx hb X.1.2.2.2.1 (X.1.2.2.2.2 _ q871) (X.1.2.2.2.2 _ q153) (X.1.2.2.2.2 _ q154) rfl (by rw [X.1.2.2.1]; exact hl.1) rfl dX9_init_1 (Nat.le_trans (Nat.le_of_ble_eq_true rfl) hRf) (Nat.le_trans (Nat.le_of_ble_eq_true rfl) hRl) ?_
  refine lv_aload_n hx hb dX9_init_4 rfl (lv_at hl 0 rfl) ?_
  refine lv_iload_n hx hb dX9_init_5 rfl (lv_at hl 1 rfl) ?_
  have hf0 := hf
  clear hf
  refine fo_putiF (fo_Xw X) hin2 hw fc_X9 hO (k := 0) (by decide) rfl rfl rfl q872 ⟨rfl, rfl⟩ dX9_init_6 hf0 (fun st1 H locs hw hf => ?_)
  clear hf0
  have hz := hz.s hw
  exact fda_v hend hz hf dX9_init_9

/-- ForestRooms$Number.<init> -/
def fX11_init (cN cS : Nat) (o : Nat) (p1 : Int32) (tg0 : Nat → Nat × Nat) (nx0 ns0 : Nat) (st0 : fo_St) : Option ((Unit ⊕ Nat) × fo_A) := ba_ (fX10_init cN cS o tg0 nx0 ns0 st0) (fun x1 tg2 nx2 ns2 sa2 => lt_ (si_ sa2 o 0 p1) (fun st3 => some (.inl (), (tg2, nx2, ns2, st3)))) (fun nX tgX nxX nsX stX => some (.inr nX, (tgX, nxX, nsX, stX)))
theorem hm_X11_init : fo_M yX11_init 1 := ⟨by decide +kernel, by decide +kernel, by decide +kernel, by decide +kernel⟩
set_option maxHeartbeats 1000000 in
theorem wX11_init_9 (l : Launch) (E : fo_E) (o : Nat) (p1 : Int32) (fr lo : Nat) (hfr : 3 ≤ fr) (hlo : 80 ≤ lo) (cN cS : Nat) (tg0 : Nat → Nat × Nat) (nx0 ns0 : Nat) (hO : tg0 o = (1, 9)) (st0 : fo_St) (hI : fo_I E tg0 nx0) (hcN : nx0 ≤ cN) (hcS : ns0 ≤ cS) (ρZ : Unit ⊕ Nat) (aZ : fo_A) (hf : fX11_init cN cS o p1 tg0 nx0 ns0 st0 = some (ρZ, aZ)) : CA vlV l E yX11_init (ws_ yX11_init cX11_init 2 none) fr lo cN cS [.ref (eb E + o), .int p1] (tg0, nx0, ns0, st0) ρZ aZ := by
  refine fea_v (a := (tg0, nx0, ns0, st0)) hm_X11_init (Nat.le_of_ble_eq_true rfl) hI hcN hcS (fun p e R s m args below meth c Q hRf hRl X hnm hend hxx ls hl hz => ?_)
  have hin2 : meth.name = "<init>" := hnm
  replace hRf : 3 ≤ R.frames := by rw [hRf]; exact hfr
  replace hRl : 80 ≤ R.locals := by rw [hRl]; exact hlo
  have hR0 : 2 + 1 ≤ R.frames ∧ 8 + (1 + 11) + (60) ≤ R.locals := ⟨by omega, by omega⟩
  have hx := X.1.1
  have hb := X.1.2.1
  have hl : lv_has ls 2 [(0, .ref (eb E + o)), (1, .int p1)] := hl
  have hz : fo_Z E R s cN cS (tg0, nx0, ns0, st0) tg0 nx0 ns0 st0 s.heap [] := hz
  have hw := hz.1
  show W p l e R s m args below meth c s.heap [] (nx0 - nx0) (ns0 - ns0) Q (F0 m 0 ls [])
  unfold fX11_init at hf
  generalize s.heap = H at hz hw ⊢
  generalize ([] : List Loc) = locs at hz hw ⊢
  refine lv_aload_n hx hb dX11_init_0 rfl (lv_at hl 0 rfl) ?_
  have hf0 := hf
  clear hf
  refine fa_IN (fr := 2) (lo := 60) (val := vlV) (rest := []) (As := []) X hz hm_X10_init q944 q132 fn942 q943 rfl hR0 rfl rfl hl.1 (Nat.le_of_ble_eq_true rfl) dX11_init_1 (fun rQ aQ hQ => wX10_init l E o (2) (60) (Nat.le_refl _) (Nat.le_refl _) cN cS tg0 nx0 ns0 st0 hI hz.2.2.2.2.2.2.1 hz.2.2.2.2.2.2.2.2 rQ aQ hQ) hf0 (fun nX EX tgX nxX nsX stX H locs hTX hxX hz2 hf => ?_) (fun x1 tg2 nx2 ns2 sa2 H locs hext hz2 hf => ?_)
  · exact fda_x hxx hTX hz2 hf
  clear hf0
  have hO := hext.t hI hO
  have hz := hz2
  have hw := hz.1
  have hI := hz.2.1
  clear hz2 hext
  refine lv_aload_n hx hb dX11_init_4 rfl (lv_at hl 0 rfl) ?_
  refine lv_iload_n hx hb dX11_init_5 rfl (lv_at hl 1 rfl) ?_
  have hf0 := hf
  clear hf
  refine fo_putiF (fo_Xw X) hin2 hw fc_X11 hO (k := 0) (by decide) rfl rfl rfl q946 ⟨rfl, rfl⟩ dX11_init_6 hf0 (fun st3 H locs hw hf => ?_)
  clear hf0
  have hz := hz.s hw
  exact fda_v hend hz hf dX11_init_9

/-- ForestRooms$Value.<init> -/
def fX12_init (cN cS : Nat) (o : Nat) (p1 : Int32) (tg0 : Nat → Nat × Nat) (nx0 ns0 : Nat) (st0 : fo_St) : Option ((Unit ⊕ Nat) × fo_A) := ba_ (fX10_init cN cS o tg0 nx0 ns0 st0) (fun x1 tg2 nx2 ns2 sa2 => lt_ (si_ sa2 o 0 p1) (fun st3 => some (.inl (), (tg2, nx2, ns2, st3)))) (fun nX tgX nxX nsX stX => some (.inr nX, (tgX, nxX, nsX, stX)))
theorem hm_X12_init : fo_M yX12_init 1 := ⟨by decide +kernel, by decide +kernel, by decide +kernel, by decide +kernel⟩
set_option maxHeartbeats 1000000 in
theorem wX12_init_10 (l : Launch) (E : fo_E) (o : Nat) (p1 : Int32) (fr lo : Nat) (hfr : 3 ≤ fr) (hlo : 80 ≤ lo) (cN cS : Nat) (tg0 : Nat → Nat × Nat) (nx0 ns0 : Nat) (hO : tg0 o = (1, 10)) (st0 : fo_St) (hI : fo_I E tg0 nx0) (hcN : nx0 ≤ cN) (hcS : ns0 ≤ cS) (ρZ : Unit ⊕ Nat) (aZ : fo_A) (hf : fX12_init cN cS o p1 tg0 nx0 ns0 st0 = some (ρZ, aZ)) : CA vlV l E yX12_init (ws_ yX12_init cX12_init 2 none) fr lo cN cS [.ref (eb E + o), .int p1] (tg0, nx0, ns0, st0) ρZ aZ := by
  refine fea_v (a := (tg0, nx0, ns0, st0)) hm_X12_init (Nat.le_of_ble_eq_true rfl) hI hcN hcS (fun p e R s m args below meth c Q hRf hRl X hnm hend hxx ls hl hz => ?_)
  have hin2 : meth.name = "<init>" := hnm
  replace hRf : 3 ≤ R.frames := by rw [hRf]; exact hfr
  replace hRl : 80 ≤ R.locals := by rw [hRl]; exact hlo
  have hR0 : 2 + 1 ≤ R.frames ∧ 8 + (1 + 11) + (60) ≤ R.locals := ⟨by omega, by omega⟩
  have hx := X.1.1
  have hb := X.1.2.1
  have hl : lv_has ls 2 [(0, .ref (eb E + o)), (1, .int p1)] := hl
  have hz : fo_Z E R s cN cS (tg0, nx0, ns0, st0) tg0 nx0 ns0 st0 s.heap [] := hz
  have hw := hz.1
  show W p l e R s m args below meth c s.heap [] (nx0 - nx0) (ns0 - ns0) Q (F0 m 0 ls [])
  unfold fX12_init at hf
  generalize s.heap = H at hz hw ⊢
  generalize ([] : List Loc) = locs at hz hw ⊢
  refine lv_aload_n hx hb dX12_init_0 rfl (lv_at hl 0 rfl) ?_
  have hf0 := hf
  clear hf
  refine fa_IN (fr := 2) (lo := 60) (val := vlV) (rest := []) (As := []) X hz hm_X10_init q944 q132 fn995 q943 rfl hR0 rfl rfl hl.1 (Nat.le_of_ble_eq_true rfl) dX12_init_1 (fun rQ aQ hQ => wX10_init l E o (2) (60) (Nat.le_refl _) (Nat.le_refl _) cN cS tg0 nx0 ns0 st0 hI hz.2.2.2.2.2.2.1 hz.2.2.2.2.2.2.2.2 rQ aQ hQ) hf0 (fun nX EX tgX nxX nsX stX H locs hTX hxX hz2 hf => ?_) (fun x1 tg2 nx2 ns2 sa2 H locs hext hz2 hf => ?_)
  · exact fda_x hxx hTX hz2 hf
  clear hf0
  have hO := hext.t hI hO
  have hz := hz2
  have hw := hz.1
  have hI := hz.2.1
  clear hz2 hext
  refine lv_aload_n hx hb dX12_init_4 rfl (lv_at hl 0 rfl) ?_
  refine lv_iload_n hx hb dX12_init_5 rfl (lv_at hl 1 rfl) ?_
  have hf0 := hf
  clear hf
  refine fo_putiF (fo_Xw X) hin2 hw fc_X12 hO (k := 0) (by decide) rfl rfl rfl q996 ⟨rfl, rfl⟩ dX12_init_6 hf0 (fun st3 H locs hw hf => ?_)
  clear hf0
  have hz := hz.s hw
  exact fda_v hend hz hf dX12_init_9

/-- ForestRooms$Two.<init> -/
def fX13_init (cN cS : Nat) (o : Nat) (p1 : Int32) (p2 : Nat) (p3 : Nat) (tg0 : Nat → Nat × Nat) (nx0 ns0 : Nat) (st0 : fo_St) : Option ((Unit ⊕ Nat) × fo_A) := ba_ (fX10_init cN cS o tg0 nx0 ns0 st0) (fun x1 tg2 nx2 ns2 sa2 => ck_ (decide (chr_ p1 = p1)) (lt_ (si_ sa2 o 0 p1) (fun st3 => lt_ (sr_ st3 o 1 (some p2)) (fun st4 => lt_ (sr_ st4 o 2 (some p3)) (fun st5 => some (.inl (), (tg2, nx2, ns2, st5))))))) (fun nX tgX nxX nsX stX => some (.inr nX, (tgX, nxX, nsX, stX)))
theorem hm_X13_init : fo_M yX13_init 3 := ⟨by decide +kernel, by decide +kernel, by decide +kernel, by decide +kernel⟩
set_option maxHeartbeats 1000000 in
theorem wX13_init_11 (l : Launch) (E : fo_E) (o : Nat) (p1 : Int32) (p2 : Nat) (p3 : Nat) (fr lo : Nat) (hfr : 3 ≤ fr) (hlo : 80 ≤ lo) (cN cS : Nat) (tg0 : Nat → Nat × Nat) (nx0 ns0 : Nat) (hO : tg0 o = (1, 11)) (st0 : fo_St) (hI : fo_I E tg0 nx0) (hcN : nx0 ≤ cN) (hcS : ns0 ≤ cS) (ρZ : Unit ⊕ Nat) (aZ : fo_A) (hf : fX13_init cN cS o p1 p2 p3 tg0 nx0 ns0 st0 = some (ρZ, aZ)) : CA vlV l E yX13_init (ws_ yX13_init cX13_init 4 none) fr lo cN cS [.ref (eb E + o), .int p1, .ref (eb E + p2), .ref (eb E + p3)] (tg0, nx0, ns0, st0) ρZ aZ := by
  refine fea_v (a := (tg0, nx0, ns0, st0)) hm_X13_init (Nat.le_of_ble_eq_true rfl) hI hcN hcS (fun p e R s m args below meth c Q hRf hRl X hnm hend hxx ls hl hz => ?_)
  have hin2 : meth.name = "<init>" := hnm
  replace hRf : 3 ≤ R.frames := by rw [hRf]; exact hfr
  replace hRl : 80 ≤ R.locals := by rw [hRl]; exact hlo
  have hR0 : 2 + 1 ≤ R.frames ∧ 8 + (1 + 11) + (60) ≤ R.locals := ⟨by omega, by omega⟩
  have hx := X.1.1
  have hb := X.1.2.1
  have hl : lv_has ls 4 [(0, .ref (eb E + o)), (1, .int p1), (2, .ref (eb E + p2)), (3, .ref (eb E + p3))] := hl
  have hz : fo_Z E R s cN cS (tg0, nx0, ns0, st0) tg0 nx0 ns0 st0 s.heap [] := hz
  have hw := hz.1
  show W p l e R s m args below meth c s.heap [] (nx0 - nx0) (ns0 - ns0) Q (F0 m 0 ls [])
  unfold fX13_init at hf
  generalize s.heap = H at hz hw ⊢
  generalize ([] : List Loc) = locs at hz hw ⊢
  refine lv_aload_n hx hb dX13_init_0 rfl (lv_at hl 0 rfl) ?_
  have hf0 := hf
  clear hf
  refine fa_IN (fr := 2) (lo := 60) (val := vlV) (rest := []) (As := []) X hz hm_X10_init q944 q132 fn1008 q943 rfl hR0 rfl rfl hl.1 (Nat.le_of_ble_eq_true rfl) dX13_init_1 (fun rQ aQ hQ => wX10_init l E o (2) (60) (Nat.le_refl _) (Nat.le_refl _) cN cS tg0 nx0 ns0 st0 hI hz.2.2.2.2.2.2.1 hz.2.2.2.2.2.2.2.2 rQ aQ hQ) hf0 (fun nX EX tgX nxX nsX stX H locs hTX hxX hz2 hf => ?_) (fun x1 tg2 nx2 ns2 sa2 H locs hext hz2 hf => ?_)
  · exact fda_x hxx hTX hz2 hf
  clear hf0
  have hO := hext.t hI hO
  have hz := hz2
  have hw := hz.1
  have hI := hz.2.1
  clear hz2 hext
  refine lv_aload_n hx hb dX13_init_4 rfl (lv_at hl 0 rfl) ?_
  refine lv_iload_n hx hb dX13_init_5 rfl (lv_at hl 1 rfl) ?_
  have hf0 := ck_e hf
  clear hf
  obtain ⟨hzb, hf⟩ := hf0
  have hf0 := hf
  clear hf
  refine fo_putiF (fo_Xw X) hin2 hw fc_X13 hO (k := 0) (by decide) rfl rfl rfl q1009 (chr_n (of_decide_eq_true hzb)) dX13_init_6 hf0 (fun st3 H locs hw hf => ?_)
  clear hf0
  have hz := hz.s hw
  refine lv_aload_n hx hb dX13_init_9 rfl (lv_at hl 0 rfl) ?_
  refine lv_aload_n hx hb dX13_init_10 rfl (lv_at hl 2 rfl) ?_
  have hf0 := hf
  clear hf
  refine fo_putrF (fo_Xw X) hin2 hw fc_X13 hO (k := 1) (by decide) rfl rfl rfl q1010 (fun _ => ⟨rfl, rfl⟩) dX13_init_11 hf0 (fun st4 H locs hw hf => ?_)
  clear hf0
  have hz := hz.s hw
  refine lv_aload_n hx hb dX13_init_14 rfl (lv_at hl 0 rfl) ?_
  refine lv_aload_n hx hb dX13_init_15 rfl (lv_at hl 3 rfl) ?_
  have hf0 := hf
  clear hf
  refine fo_putrF (fo_Xw X) hin2 hw fc_X13 hO (k := 2) (by decide) rfl rfl rfl q1011 (fun _ => ⟨rfl, rfl⟩) dX13_init_16 hf0 (fun st5 H locs hw hf => ?_)
  clear hf0
  have hz := hz.s hw
  exact fda_v hend hz hf dX13_init_19

/-- ForestRooms$Compare.<init> -/
def fX15_init (cN cS : Nat) (o : Nat) (p1 : Int32) (p2 : Nat) (p3 : Nat) (tg0 : Nat → Nat × Nat) (nx0 ns0 : Nat) (st0 : fo_St) : Option ((Unit ⊕ Nat) × fo_A) := ba_ (fX14_init cN cS o tg0 nx0 ns0 st0) (fun x1 tg2 nx2 ns2 sa2 => ck_ (decide (chr_ p1 = p1)) (lt_ (si_ sa2 o 0 p1) (fun st3 => lt_ (sr_ st3 o 1 (some p2)) (fun st4 => lt_ (sr_ st4 o 2 (some p3)) (fun st5 => some (.inl (), (tg2, nx2, ns2, st5))))))) (fun nX tgX nxX nsX stX => some (.inr nX, (tgX, nxX, nsX, stX)))
theorem hm_X15_init : fo_M yX15_init 3 := ⟨by decide +kernel, by decide +kernel, by decide +kernel, by decide +kernel⟩
set_option maxHeartbeats 1000000 in
theorem wX15_init_12 (l : Launch) (E : fo_E) (o : Nat) (p1 : Int32) (p2 : Nat) (p3 : Nat) (fr lo : Nat) (hfr : 3 ≤ fr) (hlo : 80 ≤ lo) (cN cS : Nat) (tg0 : Nat → Nat × Nat) (nx0 ns0 : Nat) (hO : tg0 o = (1, 12)) (st0 : fo_St) (hI : fo_I E tg0 nx0) (hcN : nx0 ≤ cN) (hcS : ns0 ≤ cS) (ρZ : Unit ⊕ Nat) (aZ : fo_A) (hf : fX15_init cN cS o p1 p2 p3 tg0 nx0 ns0 st0 = some (ρZ, aZ)) : CA vlV l E yX15_init (ws_ yX15_init cX15_init 4 none) fr lo cN cS [.ref (eb E + o), .int p1, .ref (eb E + p2), .ref (eb E + p3)] (tg0, nx0, ns0, st0) ρZ aZ := by
  refine fea_v (a := (tg0, nx0, ns0, st0)) hm_X15_init (Nat.le_of_ble_eq_true rfl) hI hcN hcS (fun p e R s m args below meth c Q hRf hRl X hnm hend hxx ls hl hz => ?_)
  have hin2 : meth.name = "<init>" := hnm
  replace hRf : 3 ≤ R.frames := by rw [hRf]; exact hfr
  replace hRl : 80 ≤ R.locals := by rw [hRl]; exact hlo
  have hR0 : 2 + 1 ≤ R.frames ∧ 8 + (1 + 11) + (60) ≤ R.locals := ⟨by omega, by omega⟩
  have hx := X.1.1
  have hb := X.1.2.1
  have hl : lv_has ls 4 [(0, .ref (eb E + o)), (1, .int p1), (2, .ref (eb E + p2)), (3, .ref (eb E + p3))] := hl
  have hz : fo_Z E R s cN cS (tg0, nx0, ns0, st0) tg0 nx0 ns0 st0 s.heap [] := hz
  have hw := hz.1
  show W p l e R s m args below meth c s.heap [] (nx0 - nx0) (ns0 - ns0) Q (F0 m 0 ls [])
  unfold fX15_init at hf
  generalize s.heap = H at hz hw ⊢
  generalize ([] : List Loc) = locs at hz hw ⊢
  refine lv_aload_n hx hb dX15_init_0 rfl (lv_at hl 0 rfl) ?_
  have hf0 := hf
  clear hf
  refine fa_IN (fr := 2) (lo := 60) (val := vlV) (rest := []) (As := []) X hz hm_X14_init q1064 q136 fn1062 q1063 rfl hR0 rfl rfl hl.1 (Nat.le_of_ble_eq_true rfl) dX15_init_1 (fun rQ aQ hQ => wX14_init l E o (2) (60) (Nat.le_refl _) (Nat.le_refl _) cN cS tg0 nx0 ns0 st0 hI hz.2.2.2.2.2.2.1 hz.2.2.2.2.2.2.2.2 rQ aQ hQ) hf0 (fun nX EX tgX nxX nsX stX H locs hTX hxX hz2 hf => ?_) (fun x1 tg2 nx2 ns2 sa2 H locs hext hz2 hf => ?_)
  · exact fda_x hxx hTX hz2 hf
  clear hf0
  have hO := hext.t hI hO
  have hz := hz2
  have hw := hz.1
  have hI := hz.2.1
  clear hz2 hext
  refine lv_aload_n hx hb dX15_init_4 rfl (lv_at hl 0 rfl) ?_
  refine lv_iload_n hx hb dX15_init_5 rfl (lv_at hl 1 rfl) ?_
  have hf0 := ck_e hf
  clear hf
  obtain ⟨hzb, hf⟩ := hf0
  have hf0 := hf
  clear hf
  refine fo_putiF (fo_Xw X) hin2 hw fc_X15 hO (k := 0) (by decide) rfl rfl rfl q1066 (chr_n (of_decide_eq_true hzb)) dX15_init_6 hf0 (fun st3 H locs hw hf => ?_)
  clear hf0
  have hz := hz.s hw
  refine lv_aload_n hx hb dX15_init_9 rfl (lv_at hl 0 rfl) ?_
  refine lv_aload_n hx hb dX15_init_10 rfl (lv_at hl 2 rfl) ?_
  have hf0 := hf
  clear hf
  refine fo_putrF (fo_Xw X) hin2 hw fc_X15 hO (k := 1) (by decide) rfl rfl rfl q1067 (fun _ => ⟨rfl, rfl⟩) dX15_init_11 hf0 (fun st4 H locs hw hf => ?_)
  clear hf0
  have hz := hz.s hw
  refine lv_aload_n hx hb dX15_init_14 rfl (lv_at hl 0 rfl) ?_
  refine lv_aload_n hx hb dX15_init_15 rfl (lv_at hl 3 rfl) ?_
  have hf0 := hf
  clear hf
  refine fo_putrF (fo_Xw X) hin2 hw fc_X15 hO (k := 2) (by decide) rfl rfl rfl q1068 (fun _ => ⟨rfl, rfl⟩) dX15_init_16 hf0 (fun st5 H locs hw hf => ?_)
  clear hf0
  have hz := hz.s hw
  exact fda_v hend hz hf dX15_init_19

/-- ForestRooms$Not.<init> -/
def fX16_init (cN cS : Nat) (o : Nat) (p1 : Nat) (tg0 : Nat → Nat × Nat) (nx0 ns0 : Nat) (st0 : fo_St) : Option ((Unit ⊕ Nat) × fo_A) := ba_ (fX14_init cN cS o tg0 nx0 ns0 st0) (fun x1 tg2 nx2 ns2 sa2 => lt_ (sr_ sa2 o 0 (some p1)) (fun st3 => some (.inl (), (tg2, nx2, ns2, st3)))) (fun nX tgX nxX nsX stX => some (.inr nX, (tgX, nxX, nsX, stX)))
theorem hm_X16_init : fo_M yX16_init 1 := ⟨by decide +kernel, by decide +kernel, by decide +kernel, by decide +kernel⟩
set_option maxHeartbeats 1000000 in
theorem wX16_init_13 (l : Launch) (E : fo_E) (o : Nat) (p1 : Nat) (fr lo : Nat) (hfr : 3 ≤ fr) (hlo : 80 ≤ lo) (cN cS : Nat) (tg0 : Nat → Nat × Nat) (nx0 ns0 : Nat) (hO : tg0 o = (1, 13)) (st0 : fo_St) (hI : fo_I E tg0 nx0) (hcN : nx0 ≤ cN) (hcS : ns0 ≤ cS) (ρZ : Unit ⊕ Nat) (aZ : fo_A) (hf : fX16_init cN cS o p1 tg0 nx0 ns0 st0 = some (ρZ, aZ)) : CA vlV l E yX16_init (ws_ yX16_init cX16_init 2 none) fr lo cN cS [.ref (eb E + o), .ref (eb E + p1)] (tg0, nx0, ns0, st0) ρZ aZ := by
  refine fea_v (a := (tg0, nx0, ns0, st0)) hm_X16_init (Nat.le_of_ble_eq_true rfl) hI hcN hcS (fun p e R s m args below meth c Q hRf hRl X hnm hend hxx ls hl hz => ?_)
  have hin2 : meth.name = "<init>" := hnm
  replace hRf : 3 ≤ R.frames := by rw [hRf]; exact hfr
  replace hRl : 80 ≤ R.locals := by rw [hRl]; exact hlo
  have hR0 : 2 + 1 ≤ R.frames ∧ 8 + (1 + 11) + (60) ≤ R.locals := ⟨by omega, by omega⟩
  have hx := X.1.1
  have hb := X.1.2.1
  have hl : lv_has ls 2 [(0, .ref (eb E + o)), (1, .ref (eb E + p1))] := hl
  have hz : fo_Z E R s cN cS (tg0, nx0, ns0, st0) tg0 nx0 ns0 st0 s.heap [] := hz
  have hw := hz.1
  show W p l e R s m args below meth c s.heap [] (nx0 - nx0) (ns0 - ns0) Q (F0 m 0 ls [])
  unfold fX16_init at hf
  generalize s.heap = H at hz hw ⊢
  generalize ([] : List Loc) = locs at hz hw ⊢
  refine lv_aload_n hx hb dX16_init_0 rfl (lv_at hl 0 rfl) ?_
  have hf0 := hf
  clear hf
  refine fa_IN (fr := 2) (lo := 60) (val := vlV) (rest := []) (As := []) X hz hm_X14_init q1064 q136 fn1081 q1063 rfl hR0 rfl rfl hl.1 (Nat.le_of_ble_eq_true rfl) dX16_init_1 (fun rQ aQ hQ => wX14_init l E o (2) (60) (Nat.le_refl _) (Nat.le_refl _) cN cS tg0 nx0 ns0 st0 hI hz.2.2.2.2.2.2.1 hz.2.2.2.2.2.2.2.2 rQ aQ hQ) hf0 (fun nX EX tgX nxX nsX stX H locs hTX hxX hz2 hf => ?_) (fun x1 tg2 nx2 ns2 sa2 H locs hext hz2 hf => ?_)
  · exact fda_x hxx hTX hz2 hf
  clear hf0
  have hO := hext.t hI hO
  have hz := hz2
  have hw := hz.1
  have hI := hz.2.1
  clear hz2 hext
  refine lv_aload_n hx hb dX16_init_4 rfl (lv_at hl 0 rfl) ?_
  refine lv_aload_n hx hb dX16_init_5 rfl (lv_at hl 1 rfl) ?_
  have hf0 := hf
  clear hf
  refine fo_putrF (fo_Xw X) hin2 hw fc_X16 hO (k := 0) (by decide) rfl rfl rfl q1082 (fun _ => ⟨rfl, rfl⟩) dX16_init_6 hf0 (fun st3 H locs hw hf => ?_)
  clear hf0
  have hz := hz.s hw
  exact fda_v hend hz hf dX16_init_9

/-- ForestRooms$Several.<init> -/
def fX17_init (cN cS : Nat) (o : Nat) (p1 : Int32) (tg0 : Nat → Nat × Nat) (nx0 ns0 : Nat) (st0 : fo_St) : Option ((Unit ⊕ Nat) × fo_A) := ba_ (fX14_init cN cS o tg0 nx0 ns0 st0) (fun x1 tg2 nx2 ns2 sa2 => ck_ (fo_bg nx2 ns2 3 cN cS) (aw_ (tu_ tg2 nx2 (1, 18), nx2 + 1, ns2 + 3, z0_ sa2 nx2) (fun tg3 nx3 ns3 sa3 => ba_ (fJ2_init cN cS nx2 (2 : Int32) tg3 nx3 ns3 sa3) (fun x5 tg6 nx6 ns6 sa6 => lt_ (sr_ sa6 o 1 (some nx2)) (fun st7 => ck_ (decide (p1 = 0 ∨ p1 = 1)) (lt_ (si_ st7 o 0 p1) (fun st8 => some (.inl (), (tg6, nx6, ns6, st8)))))) (fun nX tgX nxX nsX stX => some (.inr nX, (tgX, nxX, nsX, stX)))))) (fun nX tgX nxX nsX stX => some (.inr nX, (tgX, nxX, nsX, stX)))
theorem hm_X17_init : fo_M yX17_init 1 := ⟨by decide +kernel, by decide +kernel, by decide +kernel, by decide +kernel⟩
set_option maxHeartbeats 1000000 in
theorem wX17_init_14 (l : Launch) (E : fo_E) (K V : Nat → Nat) (mi : Nat) (hSX : fo_SX E K V mi) (o : Nat) (p1 : Int32) (fr lo : Nat) (hfr : 5 ≤ fr) (hlo : 121 ≤ lo) (cN cS : Nat) (tg0 : Nat → Nat × Nat) (nx0 ns0 : Nat) (hO : tg0 o = (1, 14)) (st0 : fo_St) (hI : fo_I E tg0 nx0) (hcN : nx0 ≤ cN) (hcS : ns0 ≤ cS) (ρZ : Unit ⊕ Nat) (aZ : fo_A) (hf : fX17_init cN cS o p1 tg0 nx0 ns0 st0 = some (ρZ, aZ)) : CA vlV l E yX17_init (ws_ yX17_init cX17_init 2 none) fr lo cN cS [.ref (eb E + o), .int p1] (tg0, nx0, ns0, st0) ρZ aZ := by
  refine fea_v (a := (tg0, nx0, ns0, st0)) hm_X17_init (Nat.le_of_ble_eq_true rfl) hI hcN hcS (fun p e R s m args below meth c Q hRf hRl X hnm hend hxx ls hl hz => ?_)
  have hin2 : meth.name = "<init>" := hnm
  replace hRf : 5 ≤ R.frames := by rw [hRf]; exact hfr
  replace hRl : 121 ≤ R.locals := by rw [hRl]; exact hlo
  have hR0 : 2 + 1 ≤ R.frames ∧ 8 + (1 + 11) + (60) ≤ R.locals := ⟨by omega, by omega⟩
  have hR1 : 4 + 1 ≤ R.frames ∧ 8 + (2 + 11) + (100) ≤ R.locals := ⟨by omega, by omega⟩
  have hx := X.1.1
  have hb := X.1.2.1
  have hl : lv_has ls 2 [(0, .ref (eb E + o)), (1, .int p1)] := hl
  have hz : fo_Z E R s cN cS (tg0, nx0, ns0, st0) tg0 nx0 ns0 st0 s.heap [] := hz
  have hw := hz.1
  show W p l e R s m args below meth c s.heap [] (nx0 - nx0) (ns0 - ns0) Q (F0 m 0 ls [])
  unfold fX17_init at hf
  generalize s.heap = H at hz hw ⊢
  generalize ([] : List Loc) = locs at hz hw ⊢
  refine lv_aload_n hx hb dX17_init_0 rfl (lv_at hl 0 rfl) ?_
  have hf0 := hf
  clear hf
  refine fa_IN (fr := 2) (lo := 60) (val := vlV) (rest := []) (As := []) X hz hm_X14_init q1064 q136 fn1092 q1063 rfl hR0 rfl rfl hl.1 (Nat.le_of_ble_eq_true rfl) dX17_init_1 (fun rQ aQ hQ => wX14_init l E o (2) (60) (Nat.le_refl _) (Nat.le_refl _) cN cS tg0 nx0 ns0 st0 hI hz.2.2.2.2.2.2.1 hz.2.2.2.2.2.2.2.2 rQ aQ hQ) hf0 (fun nX EX tgX nxX nsX stX H locs hTX hxX hz2 hf => ?_) (fun x1 tg2 nx2 ns2 sa2 H locs hext hz2 hf => ?_)
  · exact fda_x hxx hTX hz2 hf
  clear hf0
  have hO := hext.t hI hO
  have hz := hz2
  have hw := hz.1
  have hI := hz.2.1
  clear hz2 hext
  refine lv_aload_n hx hb dX17_init_4 rfl (lv_at hl 0 rfl) ?_
  have hf0 := hf
  clear hf
  refine fa_new X hz fc_J2 fd_J2 q1093 q187 q116 dX17_init_5 hf0 (fun tg3 nx3 ns3 sa3 H hext hq4 hz2 hf => ?_)
  clear hf0
  have hO := hext.t hI hO
  have hz := hz2
  have hw := hz.1
  have hI := hz.2.1
  clear hz2 hext
  refine lv_dup hx hb dX17_init_8 rfl ?_
  refine lv_iconst (v := (2 : Int32)) hx hb dX17_init_9 (by decide) ?_
  have hf0 := hf
  clear hf
  refine fa_I (fr := 4) (lo := 100) (val := vlV) (rest := [.ref (eb E + nx2), .ref (eb E + o)]) (As := [.int (2 : Int32)]) X hz hm_J2_init q190 q116 q1094 q189 rfl hR1 rfl rfl hl.1 (Nat.le_of_ble_eq_true rfl) dX17_init_10 (fun rQ aQ hQ => wJ2_init_18 l E K V mi hSX nx2 (2 : Int32) (4) (100) (Nat.le_refl _) (Nat.le_refl _) cN cS tg3 nx3 ns3 hq4 sa3 hI hz.2.2.2.2.2.2.1 hz.2.2.2.2.2.2.2.2 rQ aQ hQ) hf0 (fun nX EX tgX nxX nsX stX H locs hTX hxX hz2 hf => ?_) (fun x5 tg6 nx6 ns6 sa6 H locs hext hz2 hf => ?_)
  · exact fda_x hxx hTX hz2 hf
  clear hf0
  have hO := hext.t hI hO
  have hq4 := hext.t hI hq4
  have hz := hz2
  have hw := hz.1
  have hI := hz.2.1
  clear hz2 hext
  have hf0 := hf
  clear hf
  refine fo_putrF (fo_Xw X) hin2 hw fc_X17 hO (k := 1) (by decide) rfl rfl rfl q1096 (fun _ => ⟨rfl, rfl⟩) dX17_init_13 hf0 (fun st7 H locs hw hf => ?_)
  clear hf0
  have hz := hz.s hw
  refine lv_aload_n hx hb dX17_init_16 rfl (lv_at hl 0 rfl) ?_
  refine lv_iload_n hx hb dX17_init_17 rfl (lv_at hl 1 rfl) ?_
  have hf0 := ck_e hf
  clear hf
  obtain ⟨hzb, hf⟩ := hf0
  have hf0 := hf
  clear hf
  refine fo_putiF (fo_Xw X) hin2 hw fc_X17 hO (k := 0) (by decide) rfl rfl rfl q1095 (fo_z hzb) dX17_init_18 hf0 (fun st8 H locs hw hf => ?_)
  clear hf0
  have hz := hz.s hw
  exact fda_v hend hz hf dX17_init_21

/-- ForestRooms$Order.<init> -/
def fX18_init (cN cS : Nat) (o : Nat) (p1 : Int32) (tg0 : Nat → Nat × Nat) (nx0 ns0 : Nat) (st0 : fo_St) : Option ((Unit ⊕ Nat) × fo_A) := lt_ (si_ st0 o 3 (1 : Int32)) (fun st1 => lt_ (si_ st1 o 0 p1) (fun st2 => some (.inl (), (tg0, nx0, ns0, st2))))
theorem hm_X18_init : fo_M yX18_init 1 := ⟨by decide +kernel, by decide +kernel, by decide +kernel, by decide +kernel⟩
set_option maxHeartbeats 1000000 in
theorem wX18_init_15 (l : Launch) (E : fo_E) (o : Nat) (p1 : Int32) (fr lo : Nat) (hfr : 2 ≤ fr) (hlo : 60 ≤ lo) (cN cS : Nat) (tg0 : Nat → Nat × Nat) (nx0 ns0 : Nat) (hO : tg0 o = (1, 15)) (st0 : fo_St) (hI : fo_I E tg0 nx0) (hcN : nx0 ≤ cN) (hcS : ns0 ≤ cS) (ρZ : Unit ⊕ Nat) (aZ : fo_A) (hf : fX18_init cN cS o p1 tg0 nx0 ns0 st0 = some (ρZ, aZ)) : CA vlV l E yX18_init (ws_ yX18_init cX18_init 2 none) fr lo cN cS [.ref (eb E + o), .int p1] (tg0, nx0, ns0, st0) ρZ aZ := by
  refine fea_v (a := (tg0, nx0, ns0, st0)) hm_X18_init (Nat.le_of_ble_eq_true rfl) hI hcN hcS (fun p e R s m args below meth c Q hRf hRl X hnm hend hxx ls hl hz => ?_)
  have hin2 : meth.name = "<init>" := hnm
  replace hRf : 2 ≤ R.frames := by rw [hRf]; exact hfr
  replace hRl : 60 ≤ R.locals := by rw [hRl]; exact hlo
  have hx := X.1.1
  have hb := X.1.2.1
  have hl : lv_has ls 2 [(0, .ref (eb E + o)), (1, .int p1)] := hl
  have hz : fo_Z E R s cN cS (tg0, nx0, ns0, st0) tg0 nx0 ns0 st0 s.heap [] := hz
  have hw := hz.1
  show W p l e R s m args below meth c s.heap [] (nx0 - nx0) (ns0 - ns0) Q (F0 m 0 ls [])
  unfold fX18_init at hf
  generalize s.heap = H at hz hw ⊢
  generalize ([] : List Loc) = locs at hz hw ⊢
  refine lv_aload_n hx hb dX18_init_0 rfl (lv_at hl 0 rfl) ?_
  refine W.objInit hx hb X.1.2.2.2.1 (X.1.2.2.2.2 _ q1139) (X.1.2.2.2.2 _ q153) (X.1.2.2.2.2 _ q154) rfl (by rw [X.1.2.2.1]; exact hl.1) rfl dX18_init_1 (Nat.le_trans (Nat.le_of_ble_eq_true rfl) hRf) (Nat.le_trans (Nat.le_of_ble_eq_true rfl) hRl) ?_
  refine lv_aload_n hx hb dX18_init_4 rfl (lv_at hl 0 rfl) ?_
  refine lv_iconst (v := (1 : Int32)) hx hb dX18_init_5 (by decide) ?_
  have hf0 := hf
  clear hf
  refine fo_puti (fo_Xw X) hw fc_X18 hO (k := 3) (by decide) rfl rfl q1146 ⟨rfl, rfl⟩ dX18_init_6 hf0 (fun st1 H locs hw hf => ?_)
  clear hf0
  have hz := hz.s hw
  refine lv_aload_n hx hb dX18_init_9 rfl (lv_at hl 0 rfl) ?_
  refine lv_iload_n hx hb dX18_init_10 rfl (lv_at hl 1 rfl) ?_
  have hf0 := hf
  clear hf
  refine fo_putiF (fo_Xw X) hin2 hw fc_X18 hO (k := 0) (by decide) rfl rfl rfl q1140 ⟨rfl, rfl⟩ dX18_init_11 hf0 (fun st2 H locs hw hf => ?_)
  clear hf0
  have hz := hz.s hw
  exact fda_v hend hz hf dX18_init_14

/-- ForestRooms$Law.<init> -/
def fX19_init (cN cS : Nat) (o : Nat) (p1 : Nat) (tg0 : Nat → Nat × Nat) (nx0 ns0 : Nat) (st0 : fo_St) : Option ((Unit ⊕ Nat) × fo_A) := lt_ (sr_ st0 o 0 (some p1)) (fun st1 => some (.inl (), (tg0, nx0, ns0, st1)))
theorem hm_X19_init : fo_M yX19_init 1 := ⟨by decide +kernel, by decide +kernel, by decide +kernel, by decide +kernel⟩
set_option maxHeartbeats 1000000 in
theorem wX19_init_16 (l : Launch) (E : fo_E) (o : Nat) (p1 : Nat) (fr lo : Nat) (hfr : 2 ≤ fr) (hlo : 60 ≤ lo) (cN cS : Nat) (tg0 : Nat → Nat × Nat) (nx0 ns0 : Nat) (hO : tg0 o = (1, 16)) (st0 : fo_St) (hI : fo_I E tg0 nx0) (hcN : nx0 ≤ cN) (hcS : ns0 ≤ cS) (ρZ : Unit ⊕ Nat) (aZ : fo_A) (hf : fX19_init cN cS o p1 tg0 nx0 ns0 st0 = some (ρZ, aZ)) : CA vlV l E yX19_init (ws_ yX19_init cX19_init 2 none) fr lo cN cS [.ref (eb E + o), .ref (eb E + p1)] (tg0, nx0, ns0, st0) ρZ aZ := by
  refine fea_v (a := (tg0, nx0, ns0, st0)) hm_X19_init (Nat.le_of_ble_eq_true rfl) hI hcN hcS (fun p e R s m args below meth c Q hRf hRl X hnm hend hxx ls hl hz => ?_)
  have hin2 : meth.name = "<init>" := hnm
  replace hRf : 2 ≤ R.frames := by rw [hRf]; exact hfr
  replace hRl : 60 ≤ R.locals := by rw [hRl]; exact hlo
  have hx := X.1.1
  have hb := X.1.2.1
  have hl : lv_has ls 2 [(0, .ref (eb E + o)), (1, .ref (eb E + p1))] := hl
  have hz : fo_Z E R s cN cS (tg0, nx0, ns0, st0) tg0 nx0 ns0 st0 s.heap [] := hz
  have hw := hz.1
  show W p l e R s m args below meth c s.heap [] (nx0 - nx0) (ns0 - ns0) Q (F0 m 0 ls [])
  unfold fX19_init at hf
  generalize s.heap = H at hz hw ⊢
  generalize ([] : List Loc) = locs at hz hw ⊢
  refine lv_aload_n hx hb dX19_init_0 rfl (lv_at hl 0 rfl) ?_
  refine W.objInit hx hb X.1.2.2.2.1 (X.1.2.2.2.2 _ q1186) (X.1.2.2.2.2 _ q153) (X.1.2.2.2.2 _ q154) rfl (by rw [X.1.2.2.1]; exact hl.1) rfl dX19_init_1 (Nat.le_trans (Nat.le_of_ble_eq_true rfl) hRf) (Nat.le_trans (Nat.le_of_ble_eq_true rfl) hRl) ?_
  refine lv_aload_n hx hb dX19_init_4 rfl (lv_at hl 0 rfl) ?_
  refine lv_aload_n hx hb dX19_init_5 rfl (lv_at hl 1 rfl) ?_
  have hf0 := hf
  clear hf
  refine fo_putrF (fo_Xw X) hin2 hw fc_X19 hO (k := 0) (by decide) rfl rfl rfl q1187 (fun _ => ⟨rfl, rfl⟩) dX19_init_6 hf0 (fun st1 H locs hw hf => ?_)
  clear hf0
  have hz := hz.s hw
  exact fda_v hend hz hf dX19_init_9

/-- jdk/internal/util/ArraysSupport.newLength -/
def fJ11_newLength (cN cS : Nat) (p1 : Int32) (p2 : Int32) (p3 : Int32) (tg0 : Nat → Nat × Nat) (nx0 ns0 : Nat) (st0 : fo_St) : Option ((Int32 ⊕ Nat) × fo_A) := lI_ (p1 + (mxI_ p2 p3)) (fun x1 => if x1 ≤ (0 : Int32) then none else if (2147483639 : Int32) < x1 then none else some (.inl x1, (tg0, nx0, ns0, st0)))
theorem hm_J11_newLength : fo_M yJ11_newLength 3 := ⟨by decide +kernel, by decide +kernel, by decide +kernel, by decide +kernel⟩
set_option maxHeartbeats 1000000 in
theorem wJ11_newLength (l : Launch) (E : fo_E) (p1 : Int32) (p2 : Int32) (p3 : Int32) (fr lo : Nat) (hfr : 1 ≤ fr) (hlo : 30 ≤ lo) (cN cS : Nat) (tg0 : Nat → Nat × Nat) (nx0 ns0 : Nat) (st0 : fo_St) (hI : fo_I E tg0 nx0) (hcN : nx0 ≤ cN) (hcS : ns0 ≤ cS) (ρZ : Int32 ⊕ Nat) (aZ : fo_A) (hf : fJ11_newLength cN cS p1 p2 p3 tg0 nx0 ns0 st0 = some (ρZ, aZ)) : CA vlI l E yJ11_newLength (ws_ yJ11_newLength cJ11_newLength 4 (some .int)) fr lo cN cS [.int p1, .int p2, .int p3] (tg0, nx0, ns0, st0) ρZ aZ := by
  refine fea_i (a := (tg0, nx0, ns0, st0)) hm_J11_newLength (Nat.le_of_ble_eq_true rfl) hI hcN hcS (fun p e R s m args below meth c Q hRf hRl X hnm hend hxx ls hl hz => ?_)
  replace hRf : 1 ≤ R.frames := by rw [hRf]; exact hfr
  replace hRl : 30 ≤ R.locals := by rw [hRl]; exact hlo
  have hx := X.1.1
  have hb := X.1.2.1
  have hl : lv_has ls 4 [(0, .int p1), (1, .int p2), (2, .int p3)] := hl
  have hz : fo_Z E R s cN cS (tg0, nx0, ns0, st0) tg0 nx0 ns0 st0 s.heap [] := hz
  have hw := hz.1
  show W p l e R s m args below meth c s.heap [] (nx0 - nx0) (ns0 - ns0) Q (F0 m 0 ls [])
  unfold fJ11_newLength at hf
  generalize s.heap = H at hz hw ⊢
  generalize ([] : List Loc) = locs at hz hw ⊢
  refine lv_iload_n hx hb dJ11_newLength_0 rfl (lv_at hl 0 rfl) ?_
  refine lv_iload_n hx hb dJ11_newLength_1 rfl (lv_at hl 1 rfl) ?_
  refine lv_iload_n hx hb dJ11_newLength_2 rfl (lv_at hl 2 rfl) ?_
  refine fo_mxIA (rest := [.int p1]) X hz.lim0 hl.1 q521 q522 q124 q523 (by exact Nat.le_trans (Nat.le_of_ble_eq_true rfl) hRf) (by exact Nat.le_trans (Nat.le_of_ble_eq_true rfl) hRl) dJ11_newLength_3 ?_
  refine lv_iadd hx hb dJ11_newLength_6 ?_
  have hf0 := hf
  clear hf
  refine fo_tI hf0 (fun x1 hf => ?_)
  clear hf0
  refine lv_istore_n (lv' := [(3, .int x1), (0, .int p1), (1, .int p2), (2, .int p3)]) hx hb dJ11_newLength_7 rfl hl (by decide) rfl (fun ls hl => ?_)
  refine lv_iconst (v := (0 : Int32)) hx hb dJ11_newLength_8 (by decide) ?_
  refine lv_iload_n hx hb dJ11_newLength_9 rfl (lv_at hl 0 rfl) ?_
  have hf0 := hf
  clear hf
  refine fb_ige (tgt := 21) hx hb dJ11_newLength_10 (by decide) hf0 (fun hf => ?_) (fun hf => ?_)
  · clear hf0
    cases hf
  clear hf0
  refine lv_iload_n hx hb dJ11_newLength_13 rfl (lv_at hl 0 rfl) ?_
  refine lv_ldc (v := (2147483639 : Int32)) hx hb X.1.2.2.2.1 (X.1.2.2.2.2 _ q524) dJ11_newLength_14 ?_
  have hf0 := hf
  clear hf
  refine fb_igt (tgt := 21) hx hb dJ11_newLength_16 (by decide) hf0 (fun hf => ?_) (fun hf => ?_)
  · clear hf0
    cases hf
  clear hf0
  refine lv_iload_n hx hb dJ11_newLength_19 rfl (lv_at hl 0 rfl) ?_
  exact fda_i hend hz hf dJ11_newLength_20

/-- ForestRooms$Reader.<init> -/
def fX6_init (cN cS : Nat) (o : Nat) (p1 : Nat) (p2 : Int32) (tg0 : Nat → Nat × Nat) (nx0 ns0 : Nat) (st0 : fo_St) : Option ((Unit ⊕ Nat) × fo_A) := lt_ (sr_ st0 o 0 (some p1)) (fun st1 => lt_ (si_ st1 o 1 p2) (fun st2 => some (.inl (), (tg0, nx0, ns0, st2))))
theorem hm_X6_init : fo_M yX6_init 2 := ⟨by decide +kernel, by decide +kernel, by decide +kernel, by decide +kernel⟩
set_option maxHeartbeats 1000000 in
theorem wX6_init_6 (l : Launch) (E : fo_E) (o : Nat) (p1 : Nat) (p2 : Int32) (fr lo : Nat) (hfr : 2 ≤ fr) (hlo : 60 ≤ lo) (cN cS : Nat) (tg0 : Nat → Nat × Nat) (nx0 ns0 : Nat) (hO : tg0 o = (1, 6)) (st0 : fo_St) (hI : fo_I E tg0 nx0) (hcN : nx0 ≤ cN) (hcS : ns0 ≤ cS) (ρZ : Unit ⊕ Nat) (aZ : fo_A) (hf : fX6_init cN cS o p1 p2 tg0 nx0 ns0 st0 = some (ρZ, aZ)) : CA vlV l E yX6_init (ws_ yX6_init cX6_init 3 none) fr lo cN cS [.ref (eb E + o), .ref (eb E + p1), .int p2] (tg0, nx0, ns0, st0) ρZ aZ := by
  refine fea_v (a := (tg0, nx0, ns0, st0)) hm_X6_init (Nat.le_of_ble_eq_true rfl) hI hcN hcS (fun p e R s m args below meth c Q hRf hRl X hnm hend hxx ls hl hz => ?_)
  have hin2 : meth.name = "<init>" := hnm
  replace hRf : 2 ≤ R.frames := by rw [hRf]; exact hfr
  replace hRl : 60 ≤ R.locals := by rw [hRl]; exact hlo
  have hx := X.1.1
  have hb := X.1.2.1
  have hl : lv_has ls 3 [(0, .ref (eb E + o)), (1, .ref (eb E + p1)), (2, .int p2)] := hl
  have hz : fo_Z E R s cN cS (tg0, nx0, ns0, st0) tg0 nx0 ns0 st0 s.heap [] := hz
  have hw := hz.1
  show W p l e R s m args below meth c s.heap [] (nx0 - nx0) (ns0 - ns0) Q (F0 m 0 ls [])
  unfold fX6_init at hf
  generalize s.heap = H at hz hw ⊢
  generalize ([] : List Loc) = locs at hz hw ⊢
  refine lv_aload_n hx hb dX6_init_0 rfl (lv_at hl 0 rfl) ?_
  refine W.objInit hx hb X.1.2.2.2.1 (X.1.2.2.2.2 _ q718) (X.1.2.2.2.2 _ q153) (X.1.2.2.2.2 _ q154) rfl (by rw [X.1.2.2.1]; exact hl.1) rfl dX6_init_1 (Nat.le_trans (Nat.le_of_ble_eq_true rfl) hRf) (Nat.le_trans (Nat.le_of_ble_eq_true rfl) hRl) ?_
  refine lv_aload_n hx hb dX6_init_4 rfl (lv_at hl 0 rfl) ?_
  refine lv_aload_n hx hb dX6_init_5 rfl (lv_at hl 1 rfl) ?_
  have hf0 := hf
  clear hf
  refine fo_putrF (fo_Xw X) hin2 hw fc_X7 hO (k := 0) (by decide) rfl rfl rfl q725 (fun _ => ⟨rfl, rfl⟩) dX6_init_6 hf0 (fun st1 H locs hw hf => ?_)
  clear hf0
  have hz := hz.s hw
  refine lv_aload_n hx hb dX6_init_9 rfl (lv_at hl 0 rfl) ?_
  refine lv_iload_n hx hb dX6_init_10 rfl (lv_at hl 2 rfl) ?_
  have hf0 := hf
  clear hf
  refine fo_putiF (fo_Xw X) hin2 hw fc_X7 hO (k := 1) (by decide) rfl rfl rfl q726 ⟨rfl, rfl⟩ dX6_init_11 hf0 (fun st2 H locs hw hf => ?_)
  clear hf0
  have hz := hz.s hw
  exact fda_v hend hz hf dX6_init_14

/-- ForestRooms$Reader.isIn -/
def fX6_isIn (cN cS : Nat) (o : Nat) (p1 : Int32) (p2 : Int32) (p3 : Int32) (tg0 : Nat → Nat × Nat) (nx0 ns0 : Nat) (st0 : fo_St) : Option ((Int32 ⊕ Nat) × fo_A) := if (gi_ st0 o 1) ≤ p1 then some (.inl (0 : Int32), (tg0, nx0, ns0, st0)) else rn_ (gr_ st0 o 0) (fun q1 => ck_ (decide (tg0 q1 = (3, 400))) (ck_ (fo_in p1 400) (if (gi_ st0 q1 p1.toNatClampNeg) < p2 then some (.inl (0 : Int32), (tg0, nx0, ns0, st0)) else rn_ (gr_ st0 o 0) (fun q3 => ck_ (decide (tg0 q3 = (3, 400))) (ck_ (fo_in p1 400) (if p3 < (gi_ st0 q3 p1.toNatClampNeg) then some (.inl (0 : Int32), (tg0, nx0, ns0, st0)) else some (.inl (1 : Int32), (tg0, nx0, ns0, st0))))))))
theorem hm_X6_isIn : fo_M yX6_isIn 3 := ⟨by decide +kernel, by decide +kernel, by decide +kernel, by decide +kernel⟩
set_option maxHeartbeats 1000000 in
theorem wX6_isIn_6 (l : Launch) (E : fo_E) (o : Nat) (p1 : Int32) (p2 : Int32) (p3 : Int32) (fr lo : Nat) (hfr : 0 ≤ fr) (hlo : 0 ≤ lo) (cN cS : Nat) (tg0 : Nat → Nat × Nat) (nx0 ns0 : Nat) (hO : tg0 o = (1, 6)) (st0 : fo_St) (hI : fo_I E tg0 nx0) (hcN : nx0 ≤ cN) (hcS : ns0 ≤ cS) (ρZ : Int32 ⊕ Nat) (aZ : fo_A) (hf : fX6_isIn cN cS o p1 p2 p3 tg0 nx0 ns0 st0 = some (ρZ, aZ)) : CA vlI l E yX6_isIn (ws_ yX6_isIn cX6_isIn 4 (some .boolean)) fr lo cN cS [.ref (eb E + o), .int p1, .int p2, .int p3] (tg0, nx0, ns0, st0) ρZ aZ := by
  refine fea_z (a := (tg0, nx0, ns0, st0)) hm_X6_isIn (Nat.le_of_ble_eq_true rfl) hI hcN hcS (fun p e R s m args below meth c Q hRf hRl X hnm hend hxx ls hl hz => ?_)
  replace hRf : 0 ≤ R.frames := by rw [hRf]; exact hfr
  replace hRl : 0 ≤ R.locals := by rw [hRl]; exact hlo
  have hx := X.1.1
  have hb := X.1.2.1
  have hl : lv_has ls 4 [(0, .ref (eb E + o)), (1, .int p1), (2, .int p2), (3, .int p3)] := hl
  have hz : fo_Z E R s cN cS (tg0, nx0, ns0, st0) tg0 nx0 ns0 st0 s.heap [] := hz
  have hw := hz.1
  show W p l e R s m args below meth c s.heap [] (nx0 - nx0) (ns0 - ns0) Q (F0 m 0 ls [])
  unfold fX6_isIn at hf
  generalize s.heap = H at hz hw ⊢
  generalize ([] : List Loc) = locs at hz hw ⊢
  refine lv_iload_n hx hb dX6_isIn_0 rfl (lv_at hl 1 rfl) ?_
  refine lv_aload_n hx hb dX6_isIn_1 rfl (lv_at hl 0 rfl) ?_
  refine fo_geti (fo_Xw X) hw fc_X7 hO (k := 1) (by decide) rfl q726 dX6_isIn_2 ?_
  have hf0 := hf
  clear hf
  refine fb_ige (tgt := 32) hx hb dX6_isIn_5 (by decide) hf0 (fun hf => ?_) (fun hf => ?_)
  · clear hf0
    refine lv_iconst (v := (0 : Int32)) hx hb dX6_isIn_32 (by decide) ?_
    exact fda_z hend rfl hz hf dX6_isIn_33
  clear hf0
  refine lv_aload_n hx hb dX6_isIn_8 rfl (lv_at hl 0 rfl) ?_
  have hf0 := hf
  clear hf
  refine fo_getr (fo_Xw X) hw fc_X7 hO (k := 0) (by decide) rfl q725 dX6_isIn_9 hf0 (fun q1 hf => ?_)
  clear hf0
  refine lv_iload_n hx hb dX6_isIn_12 rfl (lv_at hl 1 rfl) ?_
  have hf0 := ck_e hf
  clear hf
  obtain ⟨hq2, hf⟩ := hf0
  have hq2 := of_decide_eq_true hq2
  have hf0 := hf
  clear hf
  refine fo_bald (fo_Xw X) hw hq2 dX6_isIn_13 hf0 (fun hf => ?_)
  clear hf0
  refine lv_iload_n hx hb dX6_isIn_14 rfl (lv_at hl 2 rfl) ?_
  have hf0 := hf
  clear hf
  refine fb_ilt (tgt := 32) hx hb dX6_isIn_15 (by decide) hf0 (fun hf => ?_) (fun hf => ?_)
  · clear hf0
    refine lv_iconst (v := (0 : Int32)) hx hb dX6_isIn_32 (by decide) ?_
    exact fda_z hend rfl hz hf dX6_isIn_33
  clear hf0
  refine lv_aload_n hx hb dX6_isIn_18 rfl (lv_at hl 0 rfl) ?_
  have hf0 := hf
  clear hf
  refine fo_getr (fo_Xw X) hw fc_X7 hO (k := 0) (by decide) rfl q725 dX6_isIn_19 hf0 (fun q3 hf => ?_)
  clear hf0
  refine lv_iload_n hx hb dX6_isIn_22 rfl (lv_at hl 1 rfl) ?_
  have hf0 := ck_e hf
  clear hf
  obtain ⟨hq4, hf⟩ := hf0
  have hq4 := of_decide_eq_true hq4
  have hf0 := hf
  clear hf
  refine fo_bald (fo_Xw X) hw hq4 dX6_isIn_23 hf0 (fun hf => ?_)
  clear hf0
  refine lv_iload_n hx hb dX6_isIn_24 rfl (lv_at hl 3 rfl) ?_
  have hf0 := hf
  clear hf
  refine fb_igt (tgt := 32) hx hb dX6_isIn_25 (by decide) hf0 (fun hf => ?_) (fun hf => ?_)
  · clear hf0
    refine lv_iconst (v := (0 : Int32)) hx hb dX6_isIn_32 (by decide) ?_
    exact fda_z hend rfl hz hf dX6_isIn_33
  clear hf0
  refine lv_iconst (v := (1 : Int32)) hx hb dX6_isIn_28 (by decide) ?_
  refine lv_goto (tgt := 33) hx hb dX6_isIn_29 (by decide) ?_
  exact fda_z hend rfl hz hf dX6_isIn_33

/-- ForestRooms$Reader.next -/
def fX6_next (cN cS : Nat) (G : Nat) (o : Nat) (tg0 : Nat → Nat × Nat) (nx0 ns0 : Nat) (st0 : fo_St) : Option ((Unit ⊕ Nat) × fo_A) := lt_ (si_ st0 o 3 (gi_ st0 o 4)) (fun st1 => lp1_ (fun rec3 (a2 : fo_A) => aw_ a2 (fun tg2 nx2 ns2 sa2 => ba_ (fX6_isIn cN cS o (gi_ sa2 o 3) (32 : Int32) (32 : Int32) tg2 nx2 ns2 sa2) (fun x4 tg5 nx5 ns5 sa5 => if x4 = 0 then lt_ (si_ sa5 o 4 (gi_ sa5 o 3)) (fun st6 => ba_ (fX6_isIn cN cS o (gi_ st6 o 3) (97 : Int32) (122 : Int32) tg5 nx5 ns5 st6) (fun x7 tg8 nx8 ns8 sa8 => if x7 = 0 then ba_ (fX6_isIn cN cS o (gi_ sa8 o 3) (48 : Int32) (57 : Int32) tg8 nx8 ns8 sa8) (fun x9 tg10 nx10 ns10 sa10 => if x9 = 0 then if (gi_ sa10 o 1) ≤ (gi_ sa10 o 3) then some (.inl (), (tg10, nx10, ns10, sa10)) else lt_ (si_ sa10 o 4 ((gi_ sa10 o 4) + (1 : Int32))) (fun st11 => some (.inl (), (tg10, nx10, ns10, st11))) else lp1_ (fun rec13 (a12 : fo_A) => aw_ a12 (fun tg12 nx12 ns12 sa12 => ba_ (fX6_isIn cN cS o (gi_ sa12 o 4) (48 : Int32) (57 : Int32) tg12 nx12 ns12 sa12) (fun x14 tg15 nx15 ns15 sa15 => if x14 = 0 then some (.inl (), (tg15, nx15, ns15, sa15)) else lt_ (si_ sa15 o 4 ((gi_ sa15 o 4) + (1 : Int32))) (fun st16 => rec13  (tg15, nx15, ns15, st16))) (fun nX tgX nxX nsX stX => some (.inr nX, (tgX, nxX, nsX, stX))))) G (tg10, nx10, ns10, sa10)) (fun nX tgX nxX nsX stX => some (.inr nX, (tgX, nxX, nsX, stX))) else lp1_ (fun rec18 (a17 : fo_A) => aw_ a17 (fun tg17 nx17 ns17 sa17 => ba_ (fX6_isIn cN cS o (gi_ sa17 o 4) (97 : Int32) (122 : Int32) tg17 nx17 ns17 sa17) (fun x19 tg20 nx20 ns20 sa20 => if x19 = 0 then some (.inl (), (tg20, nx20, ns20, sa20)) else lt_ (si_ sa20 o 4 ((gi_ sa20 o 4) + (1 : Int32))) (fun st21 => rec18  (tg20, nx20, ns20, st21))) (fun nX tgX nxX nsX stX => some (.inr nX, (tgX, nxX, nsX, stX))))) G (tg8, nx8, ns8, sa8)) (fun nX tgX nxX nsX stX => some (.inr nX, (tgX, nxX, nsX, stX)))) else lt_ (si_ sa5 o 3 ((gi_ sa5 o 3) + (1 : Int32))) (fun st22 => rec3  (tg5, nx5, ns5, st22))) (fun nX tgX nxX nsX stX => some (.inr nX, (tgX, nxX, nsX, stX))))) G (tg0, nx0, ns0, st1))
theorem hm_X6_next : fo_M yX6_next 0 := ⟨by decide +kernel, by decide +kernel, by decide +kernel, by decide +kernel⟩
set_option maxHeartbeats 1000000 in
theorem wX6_next_6 (l : Launch) (E : fo_E) (G : Nat) (o : Nat) (fr lo : Nat) (hfr : 1 ≤ fr) (hlo : 23 ≤ lo) (cN cS : Nat) (tg0 : Nat → Nat × Nat) (nx0 ns0 : Nat) (hO : tg0 o = (1, 6)) (st0 : fo_St) (hI : fo_I E tg0 nx0) (hcN : nx0 ≤ cN) (hcS : ns0 ≤ cS) (ρZ : Unit ⊕ Nat) (aZ : fo_A) (hf : fX6_next cN cS G o tg0 nx0 ns0 st0 = some (ρZ, aZ)) : CA vlV l E yX6_next (ws_ yX6_next cX6_next 1 none) fr lo cN cS [.ref (eb E + o)] (tg0, nx0, ns0, st0) ρZ aZ := by
  refine fea_v (a := (tg0, nx0, ns0, st0)) hm_X6_next (Nat.le_of_ble_eq_true rfl) hI hcN hcS (fun p e R s m args below meth c Q hRf hRl X hnm hend hxx ls hl hz => ?_)
  replace hRf : 1 ≤ R.frames := by rw [hRf]; exact hfr
  replace hRl : 23 ≤ R.locals := by rw [hRl]; exact hlo
  have hR0 : 0 + 1 ≤ R.frames ∧ 8 + (4 + 11) + (0) ≤ R.locals := ⟨by omega, by omega⟩
  have hx := X.1.1
  have hb := X.1.2.1
  have hl : lv_has ls 1 [(0, .ref (eb E + o))] := hl
  have hz : fo_Z E R s cN cS (tg0, nx0, ns0, st0) tg0 nx0 ns0 st0 s.heap [] := hz
  have hw := hz.1
  show W p l e R s m args below meth c s.heap [] (nx0 - nx0) (ns0 - ns0) Q (F0 m 0 ls [])
  unfold fX6_next at hf
  generalize s.heap = H at hz hw ⊢
  generalize ([] : List Loc) = locs at hz hw ⊢
  refine lv_aload_n hx hb dX6_next_0 rfl (lv_at hl 0 rfl) ?_
  refine lv_aload_n hx hb dX6_next_1 rfl (lv_at hl 0 rfl) ?_
  refine fo_geti (fo_Xw X) hw fc_X7 hO (k := 4) (by decide) rfl q729 dX6_next_2 ?_
  have hf0 := hf
  clear hf
  refine fo_puti (fo_Xw X) hw fc_X7 hO (k := 3) (by decide) rfl rfl q728 ⟨rfl, rfl⟩ dX6_next_5 hf0 (fun st1 H locs hw hf => ?_)
  clear hf0
  have hz := hz.s hw
  refine lp1_e (P := fun a2 => ∀ (H : Heap) (locs : List Loc) (ls : Array Slot), a2.1 o = (1, 6) → lv_has ls 1 [(0, .ref (eb E + o))] → fo_Z E R s cN cS (tg0, nx0, ns0, st0) a2.1 a2.2.1 a2.2.2.1 a2.2.2.2 H locs → W p l e R s m args below meth c H locs (a2.2.1 - nx0) (a2.2.2.1 - ns0) Q (F0 m 8 ls [])) (fun rec3 hrec3 a2 hf => ?_) G _ hf H locs ls hO (lv_sub hl [0] rfl) hz
  obtain ⟨tg2, nx2, ns2, sa2⟩ := a2
  intro H locs ls hO hl hz
  have hO : tg2 o = (1, 6) := hO
  have hz : fo_Z E R s cN cS (tg0, nx0, ns0, st0) tg2 nx2 ns2 sa2 H locs := hz
  show W p l e R s m args below meth c H locs (nx2 - nx0) (ns2 - ns0) Q (F0 m 8 ls [])
  replace hf := aw_u hf
  have hw := hz.1
  have hI := hz.2.1
  refine lv_aload_n hx hb dX6_next_8 rfl (lv_at hl 0 rfl) ?_
  refine lv_aload_n hx hb dX6_next_9 rfl (lv_at hl 0 rfl) ?_
  refine fo_geti (fo_Xw X) hw fc_X7 hO (k := 3) (by decide) rfl q728 dX6_next_10 ?_
  refine lv_bipush (v := (32 : Int32)) hx hb dX6_next_13 (by decide) ?_
  refine lv_bipush (v := (32 : Int32)) hx hb dX6_next_15 (by decide) ?_
  have hf0 := hf
  clear hf
  refine fa_O (n := 3) (fr := 0) (lo := 0) (val := vlI) (rest := []) (As := [.int (gi_ sa2 o 3), .int (32 : Int32), .int (32 : Int32)]) X hz (lw_O q768 q770 q769 q771 q769 q125 q773) q773 ⟨by decide, by decide, by decide +kernel⟩ hR0 fc_X7 hO rfl rfl hl.1 (Nat.le_of_ble_eq_true rfl) dX6_next_17 (fun rQ aQ hQ => wX6_isIn_6 l E o (gi_ sa2 o 3) (32 : Int32) (32 : Int32) (0) (0) (Nat.le_refl _) (Nat.le_refl _) cN cS tg2 nx2 ns2 hO sa2 hI hz.2.2.2.2.2.2.1 hz.2.2.2.2.2.2.2.2 rQ aQ hQ) hf0 (fun nX EX tgX nxX nsX stX H locs hTX hxX hz2 hf => ?_) (fun x4 tg5 nx5 ns5 sa5 H locs hext hz2 hf => ?_)
  · exact fda_x hxx hTX hz2 hf
  clear hf0
  have hO := hext.t hI hO
  have hz := hz2
  have hw := hz.1
  have hI := hz.2.1
  clear hz2 hext
  have hf0 := hf
  clear hf
  refine fb_zeq (tgt := 36) hx hb dX6_next_20 (by decide) hf0 (fun hf => ?_) (fun hf => ?_)
  · clear hf0
    refine lv_aload_n hx hb dX6_next_36 rfl (lv_at hl 0 rfl) ?_
    refine lv_aload_n hx hb dX6_next_37 rfl (lv_at hl 0 rfl) ?_
    refine fo_geti (fo_Xw X) hw fc_X7 hO (k := 3) (by decide) rfl q728 dX6_next_38 ?_
    have hf0 := hf
    clear hf
    refine fo_puti (fo_Xw X) hw fc_X7 hO (k := 4) (by decide) rfl rfl q729 ⟨rfl, rfl⟩ dX6_next_41 hf0 (fun st6 H locs hw hf => ?_)
    clear hf0
    have hz := hz.s hw
    refine lv_aload_n hx hb dX6_next_44 rfl (lv_at hl 0 rfl) ?_
    refine lv_aload_n hx hb dX6_next_45 rfl (lv_at hl 0 rfl) ?_
    refine fo_geti (fo_Xw X) hw fc_X7 hO (k := 3) (by decide) rfl q728 dX6_next_46 ?_
    refine lv_bipush (v := (97 : Int32)) hx hb dX6_next_49 (by decide) ?_
    refine lv_bipush (v := (122 : Int32)) hx hb dX6_next_51 (by decide) ?_
    have hf0 := hf
    clear hf
    refine fa_O (n := 3) (fr := 0) (lo := 0) (val := vlI) (rest := []) (As := [.int (gi_ st6 o 3), .int (97 : Int32), .int (122 : Int32)]) X hz (lw_O q768 q770 q769 q771 q769 q125 q773) q773 ⟨by decide, by decide, by decide +kernel⟩ hR0 fc_X7 hO rfl rfl hl.1 (Nat.le_of_ble_eq_true rfl) dX6_next_53 (fun rQ aQ hQ => wX6_isIn_6 l E o (gi_ st6 o 3) (97 : Int32) (122 : Int32) (0) (0) (Nat.le_refl _) (Nat.le_refl _) cN cS tg5 nx5 ns5 hO st6 hI hz.2.2.2.2.2.2.1 hz.2.2.2.2.2.2.2.2 rQ aQ hQ) hf0 (fun nX EX tgX nxX nsX stX H locs hTX hxX hz2 hf => ?_) (fun x7 tg8 nx8 ns8 sa8 H locs hext hz2 hf => ?_)
    · exact fda_x hxx hTX hz2 hf
    clear hf0
    have hO := hext.t hI hO
    have hz := hz2
    have hw := hz.1
    have hI := hz.2.1
    clear hz2 hext
    have hf0 := hf
    clear hf
    refine fb_zeq (tgt := 87) hx hb dX6_next_56 (by decide) hf0 (fun hf => ?_) (fun hf => ?_)
    · clear hf0
      refine lv_aload_n hx hb dX6_next_87 rfl (lv_at hl 0 rfl) ?_
      refine lv_aload_n hx hb dX6_next_88 rfl (lv_at hl 0 rfl) ?_
      refine fo_geti (fo_Xw X) hw fc_X7 hO (k := 3) (by decide) rfl q728 dX6_next_89 ?_
      refine lv_bipush (v := (48 : Int32)) hx hb dX6_next_92 (by decide) ?_
      refine lv_bipush (v := (57 : Int32)) hx hb dX6_next_94 (by decide) ?_
      have hf0 := hf
      clear hf
      refine fa_O (n := 3) (fr := 0) (lo := 0) (val := vlI) (rest := []) (As := [.int (gi_ sa8 o 3), .int (48 : Int32), .int (57 : Int32)]) X hz (lw_O q768 q770 q769 q771 q769 q125 q773) q773 ⟨by decide, by decide, by decide +kernel⟩ hR0 fc_X7 hO rfl rfl hl.1 (Nat.le_of_ble_eq_true rfl) dX6_next_96 (fun rQ aQ hQ => wX6_isIn_6 l E o (gi_ sa8 o 3) (48 : Int32) (57 : Int32) (0) (0) (Nat.le_refl _) (Nat.le_refl _) cN cS tg8 nx8 ns8 hO sa8 hI hz.2.2.2.2.2.2.1 hz.2.2.2.2.2.2.2.2 rQ aQ hQ) hf0 (fun nX EX tgX nxX nsX stX H locs hTX hxX hz2 hf => ?_) (fun x9 tg10 nx10 ns10 sa10 H locs hext hz2 hf => ?_)
      · exact fda_x hxx hTX hz2 hf
      clear hf0
      have hO := hext.t hI hO
      have hz := hz2
      have hw := hz.1
      have hI := hz.2.1
      clear hz2 hext
      have hf0 := hf
      clear hf
      refine fb_zeq (tgt := 130) hx hb dX6_next_99 (by decide) hf0 (fun hf => ?_) (fun hf => ?_)
      · clear hf0
        refine lv_aload_n hx hb dX6_next_130 rfl (lv_at hl 0 rfl) ?_
        refine fo_geti (fo_Xw X) hw fc_X7 hO (k := 3) (by decide) rfl q728 dX6_next_131 ?_
        refine lv_aload_n hx hb dX6_next_134 rfl (lv_at hl 0 rfl) ?_
        refine fo_geti (fo_Xw X) hw fc_X7 hO (k := 1) (by decide) rfl q726 dX6_next_135 ?_
        have hf0 := hf
        clear hf
        refine fb_ige (tgt := 151) hx hb dX6_next_138 (by decide) hf0 (fun hf => ?_) (fun hf => ?_)
        · clear hf0
          exact fda_v hend hz hf dX6_next_151
        clear hf0
        refine lv_aload_n hx hb dX6_next_141 rfl (lv_at hl 0 rfl) ?_
        refine lv_dup hx hb dX6_next_142 rfl ?_
        refine fo_geti (fo_Xw X) hw fc_X7 hO (k := 4) (by decide) rfl q729 dX6_next_143 ?_
        refine lv_iconst (v := (1 : Int32)) hx hb dX6_next_146 (by decide) ?_
        refine lv_iadd hx hb dX6_next_147 ?_
        have hf0 := hf
        clear hf
        refine fo_puti (fo_Xw X) hw fc_X7 hO (k := 4) (by decide) rfl rfl q729 ⟨rfl, rfl⟩ dX6_next_148 hf0 (fun st11 H locs hw hf => ?_)
        clear hf0
        have hz := hz.s hw
        exact fda_v hend hz hf dX6_next_151
      clear hf0
      refine lp1_e (P := fun a12 => ∀ (H : Heap) (locs : List Loc) (ls : Array Slot), a12.1 o = (1, 6) → lv_has ls 1 [(0, .ref (eb E + o))] → fo_Z E R s cN cS (tg0, nx0, ns0, st0) a12.1 a12.2.1 a12.2.2.1 a12.2.2.2 H locs → W p l e R s m args below meth c H locs (a12.2.1 - nx0) (a12.2.2.1 - ns0) Q (F0 m 102 ls [])) (fun rec13 hrec13 a12 hf => ?_) G _ hf H locs ls hO (lv_sub hl [0] rfl) hz
      obtain ⟨tg12, nx12, ns12, sa12⟩ := a12
      intro H locs ls hO hl hz
      have hO : tg12 o = (1, 6) := hO
      have hz : fo_Z E R s cN cS (tg0, nx0, ns0, st0) tg12 nx12 ns12 sa12 H locs := hz
      show W p l e R s m args below meth c H locs (nx12 - nx0) (ns12 - ns0) Q (F0 m 102 ls [])
      replace hf := aw_u hf
      have hw := hz.1
      have hI := hz.2.1
      refine lv_aload_n hx hb dX6_next_102 rfl (lv_at hl 0 rfl) ?_
      refine lv_aload_n hx hb dX6_next_103 rfl (lv_at hl 0 rfl) ?_
      refine fo_geti (fo_Xw X) hw fc_X7 hO (k := 4) (by decide) rfl q729 dX6_next_104 ?_
      refine lv_bipush (v := (48 : Int32)) hx hb dX6_next_107 (by decide) ?_
      refine lv_bipush (v := (57 : Int32)) hx hb dX6_next_109 (by decide) ?_
      have hf0 := hf
      clear hf
      refine fa_O (n := 3) (fr := 0) (lo := 0) (val := vlI) (rest := []) (As := [.int (gi_ sa12 o 4), .int (48 : Int32), .int (57 : Int32)]) X hz (lw_O q768 q770 q769 q771 q769 q125 q773) q773 ⟨by decide, by decide, by decide +kernel⟩ hR0 fc_X7 hO rfl rfl hl.1 (Nat.le_of_ble_eq_true rfl) dX6_next_111 (fun rQ aQ hQ => wX6_isIn_6 l E o (gi_ sa12 o 4) (48 : Int32) (57 : Int32) (0) (0) (Nat.le_refl _) (Nat.le_refl _) cN cS tg12 nx12 ns12 hO sa12 hI hz.2.2.2.2.2.2.1 hz.2.2.2.2.2.2.2.2 rQ aQ hQ) hf0 (fun nX EX tgX nxX nsX stX H locs hTX hxX hz2 hf => ?_) (fun x14 tg15 nx15 ns15 sa15 H locs hext hz2 hf => ?_)
      · exact fda_x hxx hTX hz2 hf
      clear hf0
      have hO := hext.t hI hO
      have hz := hz2
      have hw := hz.1
      have hI := hz.2.1
      clear hz2 hext
      have hf0 := hf
      clear hf
      refine fb_zeq (tgt := 151) hx hb dX6_next_114 (by decide) hf0 (fun hf => ?_) (fun hf => ?_)
      · clear hf0
        exact fda_v hend hz hf dX6_next_151
      clear hf0
      refine lv_aload_n hx hb dX6_next_117 rfl (lv_at hl 0 rfl) ?_
      refine lv_dup hx hb dX6_next_118 rfl ?_
      refine fo_geti (fo_Xw X) hw fc_X7 hO (k := 4) (by decide) rfl q729 dX6_next_119 ?_
      refine lv_iconst (v := (1 : Int32)) hx hb dX6_next_122 (by decide) ?_
      refine lv_iadd hx hb dX6_next_123 ?_
      have hf0 := hf
      clear hf
      refine fo_puti (fo_Xw X) hw fc_X7 hO (k := 4) (by decide) rfl rfl q729 ⟨rfl, rfl⟩ dX6_next_124 hf0 (fun st16 H locs hw hf => ?_)
      clear hf0
      have hz := hz.s hw
      refine lv_goto (tgt := 102) hx hb dX6_next_127 (by decide) ?_
      exact hrec13 _ hf _ _ _ hO (lv_sub hl [0] rfl) hz
    clear hf0
    refine lp1_e (P := fun a17 => ∀ (H : Heap) (locs : List Loc) (ls : Array Slot), a17.1 o = (1, 6) → lv_has ls 1 [(0, .ref (eb E + o))] → fo_Z E R s cN cS (tg0, nx0, ns0, st0) a17.1 a17.2.1 a17.2.2.1 a17.2.2.2 H locs → W p l e R s m args below meth c H locs (a17.2.1 - nx0) (a17.2.2.1 - ns0) Q (F0 m 59 ls [])) (fun rec18 hrec18 a17 hf => ?_) G _ hf H locs ls hO (lv_sub hl [0] rfl) hz
    obtain ⟨tg17, nx17, ns17, sa17⟩ := a17
    intro H locs ls hO hl hz
    have hO : tg17 o = (1, 6) := hO
    have hz : fo_Z E R s cN cS (tg0, nx0, ns0, st0) tg17 nx17 ns17 sa17 H locs := hz
    show W p l e R s m args below meth c H locs (nx17 - nx0) (ns17 - ns0) Q (F0 m 59 ls [])
    replace hf := aw_u hf
    have hw := hz.1
    have hI := hz.2.1
    refine lv_aload_n hx hb dX6_next_59 rfl (lv_at hl 0 rfl) ?_
    refine lv_aload_n hx hb dX6_next_60 rfl (lv_at hl 0 rfl) ?_
    refine fo_geti (fo_Xw X) hw fc_X7 hO (k := 4) (by decide) rfl q729 dX6_next_61 ?_
    refine lv_bipush (v := (97 : Int32)) hx hb dX6_next_64 (by decide) ?_
    refine lv_bipush (v := (122 : Int32)) hx hb dX6_next_66 (by decide) ?_
    have hf0 := hf
    clear hf
    refine fa_O (n := 3) (fr := 0) (lo := 0) (val := vlI) (rest := []) (As := [.int (gi_ sa17 o 4), .int (97 : Int32), .int (122 : Int32)]) X hz (lw_O q768 q770 q769 q771 q769 q125 q773) q773 ⟨by decide, by decide, by decide +kernel⟩ hR0 fc_X7 hO rfl rfl hl.1 (Nat.le_of_ble_eq_true rfl) dX6_next_68 (fun rQ aQ hQ => wX6_isIn_6 l E o (gi_ sa17 o 4) (97 : Int32) (122 : Int32) (0) (0) (Nat.le_refl _) (Nat.le_refl _) cN cS tg17 nx17 ns17 hO sa17 hI hz.2.2.2.2.2.2.1 hz.2.2.2.2.2.2.2.2 rQ aQ hQ) hf0 (fun nX EX tgX nxX nsX stX H locs hTX hxX hz2 hf => ?_) (fun x19 tg20 nx20 ns20 sa20 H locs hext hz2 hf => ?_)
    · exact fda_x hxx hTX hz2 hf
    clear hf0
    have hO := hext.t hI hO
    have hz := hz2
    have hw := hz.1
    have hI := hz.2.1
    clear hz2 hext
    have hf0 := hf
    clear hf
    refine fb_zeq (tgt := 151) hx hb dX6_next_71 (by decide) hf0 (fun hf => ?_) (fun hf => ?_)
    · clear hf0
      exact fda_v hend hz hf dX6_next_151
    clear hf0
    refine lv_aload_n hx hb dX6_next_74 rfl (lv_at hl 0 rfl) ?_
    refine lv_dup hx hb dX6_next_75 rfl ?_
    refine fo_geti (fo_Xw X) hw fc_X7 hO (k := 4) (by decide) rfl q729 dX6_next_76 ?_
    refine lv_iconst (v := (1 : Int32)) hx hb dX6_next_79 (by decide) ?_
    refine lv_iadd hx hb dX6_next_80 ?_
    have hf0 := hf
    clear hf
    refine fo_puti (fo_Xw X) hw fc_X7 hO (k := 4) (by decide) rfl rfl q729 ⟨rfl, rfl⟩ dX6_next_81 hf0 (fun st21 H locs hw hf => ?_)
    clear hf0
    have hz := hz.s hw
    refine lv_goto (tgt := 59) hx hb dX6_next_84 (by decide) ?_
    exact hrec18 _ hf _ _ _ hO (lv_sub hl [0] rfl) hz
  clear hf0
  refine lv_aload_n hx hb dX6_next_23 rfl (lv_at hl 0 rfl) ?_
  refine lv_dup hx hb dX6_next_24 rfl ?_
  refine fo_geti (fo_Xw X) hw fc_X7 hO (k := 3) (by decide) rfl q728 dX6_next_25 ?_
  refine lv_iconst (v := (1 : Int32)) hx hb dX6_next_28 (by decide) ?_
  refine lv_iadd hx hb dX6_next_29 ?_
  have hf0 := hf
  clear hf
  refine fo_puti (fo_Xw X) hw fc_X7 hO (k := 3) (by decide) rfl rfl q728 ⟨rfl, rfl⟩ dX6_next_30 hf0 (fun st22 H locs hw hf => ?_)
  clear hf0
  have hz := hz.s hw
  refine lv_goto (tgt := 8) hx hb dX6_next_33 (by decide) ?_
  exact hrec3 _ hf _ _ _ hO (lv_sub hl [0] rfl) hz

/-- ForestRooms$Reader.is -/
def fX6_is (cN cS : Nat) (G : Nat) (o : Nat) (p1 : Nat) (tg0 : Nat → Nat × Nat) (nx0 ns0 : Nat) (st0 : fo_St) : Option ((Int32 ⊕ Nat) × fo_A) := if ((gi_ st0 o 4) - (gi_ st0 o 3)) = (nI (lit_ p1).length) then lp2_ (fun rec3 (x1 : Int32) (a2 : fo_A) => aw_ a2 (fun tg2 nx2 ns2 sa2 => if (nI (lit_ p1).length) ≤ x1 then some (.inl (1 : Int32), (tg2, nx2, ns2, sa2)) else rn_ (gr_ sa2 o 0) (fun q4 => ck_ (decide (tg2 q4 = (3, 400))) (ck_ (fo_in ((gi_ sa2 o 3) + x1) 400) (ck_ (decide (¬ x1 < 0 ∧ x1.toNatClampNeg < (lit_ p1).length)) (if (gi_ sa2 q4 ((gi_ sa2 o 3) + x1).toNatClampNeg) = ((lit_ p1).getD x1.toNatClampNeg 0) then rec3 (x1 + (1 : Int32)) (tg2, nx2, ns2, sa2) else some (.inl (0 : Int32), (tg2, nx2, ns2, sa2)))))))) G (0 : Int32) (tg0, nx0, ns0, st0) else some (.inl (0 : Int32), (tg0, nx0, ns0, st0))
theorem hm_X6_is : fo_M yX6_is 1 := ⟨by decide +kernel, by decide +kernel, by decide +kernel, by decide +kernel⟩
set_option maxHeartbeats 1000000 in
theorem wX6_is_6 (l : Launch) (E : fo_E) (K V : Nat → Nat) (mi : Nat) (hSX : fo_SX E K V mi) (G : Nat) (o : Nat) (p1 : Nat) (fr lo : Nat) (hfr : 10 ≤ fr) (hlo : 200 ≤ lo) (cN cS : Nat) (tg0 : Nat → Nat × Nat) (nx0 ns0 : Nat) (hO : tg0 o = (1, 6)) (hs_p1 : p1 < 50) (st0 : fo_St) (hI : fo_I E tg0 nx0) (hcN : nx0 ≤ cN) (hcS : ns0 ≤ cS) (ρZ : Int32 ⊕ Nat) (aZ : fo_A) (hf : fX6_is cN cS G o p1 tg0 nx0 ns0 st0 = some (ρZ, aZ)) : CA vlI l E yX6_is (ws_ yX6_is cX6_is 3 (some .boolean)) fr lo cN cS [.ref (eb E + o), .ref (K p1)] (tg0, nx0, ns0, st0) ρZ aZ := by
  refine fea_z (a := (tg0, nx0, ns0, st0)) hm_X6_is (Nat.le_of_ble_eq_true rfl) hI hcN hcS (fun p e R s m args below meth c Q hRf hRl X hnm hend hxx ls hl hz => ?_)
  replace hRf : 10 ≤ R.frames := by rw [hRf]; exact hfr
  replace hRl : 200 ≤ R.locals := by rw [hRl]; exact hlo
  have hx := X.1.1
  have hb := X.1.2.1
  have hl : lv_has ls 3 [(0, .ref (eb E + o)), (1, .ref (K p1))] := hl
  have hz : fo_Z E R s cN cS (tg0, nx0, ns0, st0) tg0 nx0 ns0 st0 s.heap [] := hz
  have hw := hz.1
  show W p l e R s m args below meth c s.heap [] (nx0 - nx0) (ns0 - ns0) Q (F0 m 0 ls [])
  unfold fX6_is at hf
  generalize s.heap = H at hz hw ⊢
  generalize ([] : List Loc) = locs at hz hw ⊢
  refine lv_aload_n hx hb dX6_is_0 rfl (lv_at hl 0 rfl) ?_
  refine fo_geti (fo_Xw X) hw fc_X7 hO (k := 4) (by decide) rfl q729 dX6_is_1 ?_
  refine lv_aload_n hx hb dX6_is_4 rfl (lv_at hl 0 rfl) ?_
  refine fo_geti (fo_Xw X) hw fc_X7 hO (k := 3) (by decide) rfl q728 dX6_is_5 ?_
  refine lv_isub hx hb dX6_is_8 ?_
  refine lv_aload_n hx hb dX6_is_9 rfl (lv_at hl 1 rfl) ?_
  refine fo_slen (E := eW E tg0 nx0) (fo_Xw X) hSX hw hz.lim0 ⟨Nat.le_trans (Nat.le_of_ble_eq_true rfl) hRf, Nat.le_trans (Nat.le_of_ble_eq_true rfl) hRl⟩ (i := p1) hs_p1 hl.1 (Nat.le_of_ble_eq_true rfl) dX6_is_10 (fun H locs hw => ?_)
  have hz := hz.s hw
  have hf0 := hf
  clear hf
  refine fb_ieq (tgt := 18) hx hb dX6_is_13 (by decide) hf0 (fun hf => ?_) (fun hf => ?_)
  · clear hf0
    refine lv_iconst (v := (0 : Int32)) hx hb dX6_is_18 (by decide) ?_
    refine lv_istore_n (lv' := [(2, .int (0 : Int32)), (0, .ref (eb E + o)), (1, .ref (K p1))]) hx hb dX6_is_19 rfl hl (by decide) rfl (fun ls hl => ?_)
    refine lp2_e (P := fun x1 a2 => ∀ (H : Heap) (locs : List Loc) (ls : Array Slot), a2.1 o = (1, 6) → lv_has ls 3 [(2, .int x1), (0, .ref (eb E + o)), (1, .ref (K p1))] → fo_Z E R s cN cS (tg0, nx0, ns0, st0) a2.1 a2.2.1 a2.2.2.1 a2.2.2.2 H locs → W p l e R s m args below meth c H locs (a2.2.1 - nx0) (a2.2.2.1 - ns0) Q (F0 m 20 ls [])) (fun rec3 hrec3 x1 a2 hf => ?_) G _ _ hf H locs ls hO (lv_sub hl [0, 1, 2] rfl) hz
    obtain ⟨tg2, nx2, ns2, sa2⟩ := a2
    intro H locs ls hO hl hz
    have hO : tg2 o = (1, 6) := hO
    have hz : fo_Z E R s cN cS (tg0, nx0, ns0, st0) tg2 nx2 ns2 sa2 H locs := hz
    show W p l e R s m args below meth c H locs (nx2 - nx0) (ns2 - ns0) Q (F0 m 20 ls [])
    replace hf := aw_u hf
    have hw := hz.1
    have hI := hz.2.1
    refine lv_iload_n hx hb dX6_is_20 rfl (lv_at hl 0 rfl) ?_
    refine lv_aload_n hx hb dX6_is_21 rfl (lv_at hl 2 rfl) ?_
    refine fo_slen (E := eW E tg2 nx2) (fo_Xw X) hSX hw hz.lim0 ⟨Nat.le_trans (Nat.le_of_ble_eq_true rfl) hRf, Nat.le_trans (Nat.le_of_ble_eq_true rfl) hRl⟩ (i := p1) hs_p1 hl.1 (Nat.le_of_ble_eq_true rfl) dX6_is_22 (fun H locs hw => ?_)
    have hz := hz.s hw
    have hf0 := hf
    clear hf
    refine fb_ige (tgt := 55) hx hb dX6_is_25 (by decide) hf0 (fun hf => ?_) (fun hf => ?_)
    · clear hf0
      refine lv_iconst (v := (1 : Int32)) hx hb dX6_is_55 (by decide) ?_
      exact fda_z hend rfl hz hf dX6_is_56
    clear hf0
    refine lv_aload_n hx hb dX6_is_28 rfl (lv_at hl 1 rfl) ?_
    have hf0 := hf
    clear hf
    refine fo_getr (fo_Xw X) hw fc_X7 hO (k := 0) (by decide) rfl q725 dX6_is_29 hf0 (fun q4 hf => ?_)
    clear hf0
    refine lv_aload_n hx hb dX6_is_32 rfl (lv_at hl 1 rfl) ?_
    refine fo_geti (fo_Xw X) hw fc_X7 hO (k := 3) (by decide) rfl q728 dX6_is_33 ?_
    refine lv_iload_n hx hb dX6_is_36 rfl (lv_at hl 0 rfl) ?_
    refine lv_iadd hx hb dX6_is_37 ?_
    have hf0 := ck_e hf
    clear hf
    obtain ⟨hq5, hf⟩ := hf0
    have hq5 := of_decide_eq_true hq5
    have hf0 := hf
    clear hf
    refine fo_bald (fo_Xw X) hw hq5 dX6_is_38 hf0 (fun hf => ?_)
    clear hf0
    refine lv_aload_n hx hb dX6_is_39 rfl (lv_at hl 2 rfl) ?_
    refine lv_iload_n hx hb dX6_is_40 rfl (lv_at hl 0 rfl) ?_
    have hf0 := ck_e hf
    clear hf
    obtain ⟨hc, hf⟩ := hf0
    refine fo_schar (E := eW E tg2 nx2) (fo_Xw X) hSX hw hz.lim0 ⟨Nat.le_trans (Nat.le_of_ble_eq_true rfl) hRf, Nat.le_trans (Nat.le_of_ble_eq_true rfl) hRl⟩ (i := p1) hs_p1 (of_decide_eq_true hc) hl.1 (Nat.le_of_ble_eq_true rfl) dX6_is_41 (fun H locs hw => ?_)
    have hz := hz.s hw
    have hf0 := hf
    clear hf
    refine fb_ieq (tgt := 49) hx hb dX6_is_44 (by decide) hf0 (fun hf => ?_) (fun hf => ?_)
    · clear hf0
      refine fb_iinc (v := (1 : Int32)) (lv' := [(2, .int (x1 + (1 : Int32))), (0, .ref (eb E + o)), (1, .ref (K p1))]) hx hb dX6_is_49 hl (k := 0) rfl (by decide) (by decide) rfl (fun ls hl => ?_)
      refine lv_goto (tgt := 20) hx hb dX6_is_52 (by decide) ?_
      exact hrec3 _ _ hf _ _ _ hO (lv_sub hl [0, 1, 2] rfl) hz
    clear hf0
    refine lv_iconst (v := (0 : Int32)) hx hb dX6_is_47 (by decide) ?_
    exact fda_z hend rfl hz hf dX6_is_48
  clear hf0
  refine lv_iconst (v := (0 : Int32)) hx hb dX6_is_16 (by decide) ?_
  exact fda_z hend rfl hz hf dX6_is_17

/-- ForestRooms$Reader.takes -/
def fX6_takes (cN cS : Nat) (G : Nat) (o : Nat) (p1 : Nat) (tg0 : Nat → Nat × Nat) (nx0 ns0 : Nat) (st0 : fo_St) : Option ((Int32 ⊕ Nat) × fo_A) := ba_ (fX6_is cN cS G o p1 tg0 nx0 ns0 st0) (fun x1 tg2 nx2 ns2 sa2 => if x1 = 0 then ck_ (decide (x1 = 0 ∨ x1 = 1)) (some (.inl x1, (tg2, nx2, ns2, sa2))) else ba_ (fX6_next cN cS G o tg2 nx2 ns2 sa2) (fun x3 tg4 nx4 ns4 sa4 => ck_ (decide (x1 = 0 ∨ x1 = 1)) (some (.inl x1, (tg4, nx4, ns4, sa4)))) (fun nX tgX nxX nsX stX => some (.inr nX, (tgX, nxX, nsX, stX)))) (fun nX tgX nxX nsX stX => some (.inr nX, (tgX, nxX, nsX, stX)))
theorem hm_X6_takes : fo_M yX6_takes 1 := ⟨by decide +kernel, by decide +kernel, by decide +kernel, by decide +kernel⟩
set_option maxHeartbeats 1000000 in
theorem wX6_takes_6 (l : Launch) (E : fo_E) (K V : Nat → Nat) (mi : Nat) (hSX : fo_SX E K V mi) (G : Nat) (o : Nat) (p1 : Nat) (fr lo : Nat) (hfr : 11 ≤ fr) (hlo : 222 ≤ lo) (cN cS : Nat) (tg0 : Nat → Nat × Nat) (nx0 ns0 : Nat) (hO : tg0 o = (1, 6)) (hs_p1 : p1 < 50) (st0 : fo_St) (hI : fo_I E tg0 nx0) (hcN : nx0 ≤ cN) (hcS : ns0 ≤ cS) (ρZ : Int32 ⊕ Nat) (aZ : fo_A) (hf : fX6_takes cN cS G o p1 tg0 nx0 ns0 st0 = some (ρZ, aZ)) : CA vlI l E yX6_takes (ws_ yX6_takes cX6_takes 3 (some .boolean)) fr lo cN cS [.ref (eb E + o), .ref (K p1)] (tg0, nx0, ns0, st0) ρZ aZ := by
  refine fea_z (a := (tg0, nx0, ns0, st0)) hm_X6_takes (Nat.le_of_ble_eq_true rfl) hI hcN hcS (fun p e R s m args below meth c Q hRf hRl X hnm hend hxx ls hl hz => ?_)
  replace hRf : 11 ≤ R.frames := by rw [hRf]; exact hfr
  replace hRl : 222 ≤ R.locals := by rw [hRl]; exact hlo
  have hR0 : 10 + 1 ≤ R.frames ∧ 8 + (3 + 11) + (200) ≤ R.locals := ⟨by omega, by omega⟩
  have hR1 : 1 + 1 ≤ R.frames ∧ 8 + (1 + 11) + (23) ≤ R.locals := ⟨by omega, by omega⟩
  have hx := X.1.1
  have hb := X.1.2.1
  have hl : lv_has ls 3 [(0, .ref (eb E + o)), (1, .ref (K p1))] := hl
  have hz : fo_Z E R s cN cS (tg0, nx0, ns0, st0) tg0 nx0 ns0 st0 s.heap [] := hz
  have hw := hz.1
  show W p l e R s m args below meth c s.heap [] (nx0 - nx0) (ns0 - ns0) Q (F0 m 0 ls [])
  unfold fX6_takes at hf
  generalize s.heap = H at hz hw ⊢
  generalize ([] : List Loc) = locs at hz hw ⊢
  refine lv_aload_n hx hb dX6_takes_0 rfl (lv_at hl 0 rfl) ?_
  refine lv_aload_n hx hb dX6_takes_1 rfl (lv_at hl 1 rfl) ?_
  have hf0 := hf
  clear hf
  refine fa_O (n := 1) (fr := 10) (lo := 200) (val := vlI) (rest := []) (As := [.ref (K p1)]) X hz (lw_O q904 q2228 q785 q2229 q785 q125 q786) q786 ⟨by decide, by decide, by decide +kernel⟩ hR0 fc_X7 hO rfl rfl hl.1 (Nat.le_of_ble_eq_true rfl) dX6_takes_2 (fun rQ aQ hQ => wX6_is_6 l E K V mi hSX G o p1 (10) (200) (Nat.le_refl _) (Nat.le_refl _) cN cS tg0 nx0 ns0 hO hs_p1 st0 hI hz.2.2.2.2.2.2.1 hz.2.2.2.2.2.2.2.2 rQ aQ hQ) hf0 (fun nX EX tgX nxX nsX stX H locs hTX hxX hz2 hf => ?_) (fun x1 tg2 nx2 ns2 sa2 H locs hext hz2 hf => ?_)
  · exact fda_x hxx hTX hz2 hf
  clear hf0
  have hO := hext.t hI hO
  have hz := hz2
  have hw := hz.1
  have hI := hz.2.1
  clear hz2 hext
  refine lv_istore_n (lv' := [(2, .int x1), (0, .ref (eb E + o)), (1, .ref (K p1))]) hx hb dX6_takes_5 rfl hl (by decide) rfl (fun ls hl => ?_)
  refine lv_iload_n hx hb dX6_takes_6 rfl (lv_at hl 0 rfl) ?_
  have hf0 := hf
  clear hf
  refine fb_zeq (tgt := 14) hx hb dX6_takes_7 (by decide) hf0 (fun hf => ?_) (fun hf => ?_)
  · clear hf0
    refine lv_iload_n hx hb dX6_takes_14 rfl (lv_at hl 0 rfl) ?_
    have hf0 := ck_e hf
    clear hf
    obtain ⟨hzb, hf⟩ := hf0
    exact fda_z hend (fo_z hzb).1 hz hf dX6_takes_15
  clear hf0
  refine lv_aload_n hx hb dX6_takes_10 rfl (lv_at hl 1 rfl) ?_
  have hf0 := hf
  clear hf
  refine fa_O (n := 0) (fr := 1) (lo := 23) (val := vlV) (rest := []) (As := []) X hz (lw_O q762 q764 q763 q765 q763 q125 q767) q767 ⟨by decide, by decide, by decide +kernel⟩ hR1 fc_X7 hO rfl rfl hl.1 (Nat.le_of_ble_eq_true rfl) dX6_takes_11 (fun rQ aQ hQ => wX6_next_6 l E G o (1) (23) (Nat.le_refl _) (Nat.le_refl _) cN cS tg2 nx2 ns2 hO sa2 hI hz.2.2.2.2.2.2.1 hz.2.2.2.2.2.2.2.2 rQ aQ hQ) hf0 (fun nX EX tgX nxX nsX stX H locs hTX hxX hz2 hf => ?_) (fun x3 tg4 nx4 ns4 sa4 H locs hext hz2 hf => ?_)
  · exact fda_x hxx hTX hz2 hf
  clear hf0
  have hO := hext.t hI hO
  have hz := hz2
  have hw := hz.1
  have hI := hz.2.1
  clear hz2 hext
  refine lv_iload_n hx hb dX6_takes_14 rfl (lv_at hl 0 rfl) ?_
  have hf0 := ck_e hf
  clear hf
  obtain ⟨hzb, hf⟩ := hf0
  exact fda_z hend (fo_z hzb).1 hz hf dX6_takes_15

set_option maxHeartbeats 1000000 in
theorem wX6_init_17 (l : Launch) (E : fo_E) (o : Nat) (p1 : Nat) (p2 : Int32) (fr lo : Nat) (hfr : 2 ≤ fr) (hlo : 60 ≤ lo) (cN cS : Nat) (tg0 : Nat → Nat × Nat) (nx0 ns0 : Nat) (hO : tg0 o = (1, 17)) (st0 : fo_St) (hI : fo_I E tg0 nx0) (hcN : nx0 ≤ cN) (hcS : ns0 ≤ cS) (ρZ : Unit ⊕ Nat) (aZ : fo_A) (hf : fX6_init cN cS o p1 p2 tg0 nx0 ns0 st0 = some (ρZ, aZ)) : CA vlV l E yX6_init (ws_ yX6_init cX6_init 3 none) fr lo cN cS [.ref (eb E + o), .ref (eb E + p1), .int p2] (tg0, nx0, ns0, st0) ρZ aZ := by
  refine fea_v (a := (tg0, nx0, ns0, st0)) hm_X6_init (Nat.le_of_ble_eq_true rfl) hI hcN hcS (fun p e R s m args below meth c Q hRf hRl X hnm hend hxx ls hl hz => ?_)
  have hin2 : meth.name = "<init>" := hnm
  replace hRf : 2 ≤ R.frames := by rw [hRf]; exact hfr
  replace hRl : 60 ≤ R.locals := by rw [hRl]; exact hlo
  have hx := X.1.1
  have hb := X.1.2.1
  have hl : lv_has ls 3 [(0, .ref (eb E + o)), (1, .ref (eb E + p1)), (2, .int p2)] := hl
  have hz : fo_Z E R s cN cS (tg0, nx0, ns0, st0) tg0 nx0 ns0 st0 s.heap [] := hz
  have hw := hz.1
  show W p l e R s m args below meth c s.heap [] (nx0 - nx0) (ns0 - ns0) Q (F0 m 0 ls [])
  unfold fX6_init at hf
  generalize s.heap = H at hz hw ⊢
  generalize ([] : List Loc) = locs at hz hw ⊢
  refine lv_aload_n hx hb dX6_init_0 rfl (lv_at hl 0 rfl) ?_
  refine W.objInit hx hb X.1.2.2.2.1 (X.1.2.2.2.2 _ q718) (X.1.2.2.2.2 _ q153) (X.1.2.2.2.2 _ q154) rfl (by rw [X.1.2.2.1]; exact hl.1) rfl dX6_init_1 (Nat.le_trans (Nat.le_of_ble_eq_true rfl) hRf) (Nat.le_trans (Nat.le_of_ble_eq_true rfl) hRl) ?_
  refine lv_aload_n hx hb dX6_init_4 rfl (lv_at hl 0 rfl) ?_
  refine lv_aload_n hx hb dX6_init_5 rfl (lv_at hl 1 rfl) ?_
  have hf0 := hf
  clear hf
  refine fo_putrF (fo_Xw X) hin2 hw fc_X20 hO (k := 0) (by decide) rfl rfl rfl q725 (fun _ => ⟨rfl, rfl⟩) dX6_init_6 hf0 (fun st1 H locs hw hf => ?_)
  clear hf0
  have hz := hz.s hw
  refine lv_aload_n hx hb dX6_init_9 rfl (lv_at hl 0 rfl) ?_
  refine lv_iload_n hx hb dX6_init_10 rfl (lv_at hl 2 rfl) ?_
  have hf0 := hf
  clear hf
  refine fo_putiF (fo_Xw X) hin2 hw fc_X20 hO (k := 1) (by decide) rfl rfl rfl q726 ⟨rfl, rfl⟩ dX6_init_11 hf0 (fun st2 H locs hw hf => ?_)
  clear hf0
  have hz := hz.s hw
  exact fda_v hend hz hf dX6_init_14

set_option maxHeartbeats 1000000 in
theorem wX6_isIn_17 (l : Launch) (E : fo_E) (o : Nat) (p1 : Int32) (p2 : Int32) (p3 : Int32) (fr lo : Nat) (hfr : 0 ≤ fr) (hlo : 0 ≤ lo) (cN cS : Nat) (tg0 : Nat → Nat × Nat) (nx0 ns0 : Nat) (hO : tg0 o = (1, 17)) (st0 : fo_St) (hI : fo_I E tg0 nx0) (hcN : nx0 ≤ cN) (hcS : ns0 ≤ cS) (ρZ : Int32 ⊕ Nat) (aZ : fo_A) (hf : fX6_isIn cN cS o p1 p2 p3 tg0 nx0 ns0 st0 = some (ρZ, aZ)) : CA vlI l E yX6_isIn (ws_ yX6_isIn cX6_isIn 4 (some .boolean)) fr lo cN cS [.ref (eb E + o), .int p1, .int p2, .int p3] (tg0, nx0, ns0, st0) ρZ aZ := by
  refine fea_z (a := (tg0, nx0, ns0, st0)) hm_X6_isIn (Nat.le_of_ble_eq_true rfl) hI hcN hcS (fun p e R s m args below meth c Q hRf hRl X hnm hend hxx ls hl hz => ?_)
  replace hRf : 0 ≤ R.frames := by rw [hRf]; exact hfr
  replace hRl : 0 ≤ R.locals := by rw [hRl]; exact hlo
  have hx := X.1.1
  have hb := X.1.2.1
  have hl : lv_has ls 4 [(0, .ref (eb E + o)), (1, .int p1), (2, .int p2), (3, .int p3)] := hl
  have hz : fo_Z E R s cN cS (tg0, nx0, ns0, st0) tg0 nx0 ns0 st0 s.heap [] := hz
  have hw := hz.1
  show W p l e R s m args below meth c s.heap [] (nx0 - nx0) (ns0 - ns0) Q (F0 m 0 ls [])
  unfold fX6_isIn at hf
  generalize s.heap = H at hz hw ⊢
  generalize ([] : List Loc) = locs at hz hw ⊢
  refine lv_iload_n hx hb dX6_isIn_0 rfl (lv_at hl 1 rfl) ?_
  refine lv_aload_n hx hb dX6_isIn_1 rfl (lv_at hl 0 rfl) ?_
  refine fo_geti (fo_Xw X) hw fc_X20 hO (k := 1) (by decide) rfl q726 dX6_isIn_2 ?_
  have hf0 := hf
  clear hf
  refine fb_ige (tgt := 32) hx hb dX6_isIn_5 (by decide) hf0 (fun hf => ?_) (fun hf => ?_)
  · clear hf0
    refine lv_iconst (v := (0 : Int32)) hx hb dX6_isIn_32 (by decide) ?_
    exact fda_z hend rfl hz hf dX6_isIn_33
  clear hf0
  refine lv_aload_n hx hb dX6_isIn_8 rfl (lv_at hl 0 rfl) ?_
  have hf0 := hf
  clear hf
  refine fo_getr (fo_Xw X) hw fc_X20 hO (k := 0) (by decide) rfl q725 dX6_isIn_9 hf0 (fun q1 hf => ?_)
  clear hf0
  refine lv_iload_n hx hb dX6_isIn_12 rfl (lv_at hl 1 rfl) ?_
  have hf0 := ck_e hf
  clear hf
  obtain ⟨hq2, hf⟩ := hf0
  have hq2 := of_decide_eq_true hq2
  have hf0 := hf
  clear hf
  refine fo_bald (fo_Xw X) hw hq2 dX6_isIn_13 hf0 (fun hf => ?_)
  clear hf0
  refine lv_iload_n hx hb dX6_isIn_14 rfl (lv_at hl 2 rfl) ?_
  have hf0 := hf
  clear hf
  refine fb_ilt (tgt := 32) hx hb dX6_isIn_15 (by decide) hf0 (fun hf => ?_) (fun hf => ?_)
  · clear hf0
    refine lv_iconst (v := (0 : Int32)) hx hb dX6_isIn_32 (by decide) ?_
    exact fda_z hend rfl hz hf dX6_isIn_33
  clear hf0
  refine lv_aload_n hx hb dX6_isIn_18 rfl (lv_at hl 0 rfl) ?_
  have hf0 := hf
  clear hf
  refine fo_getr (fo_Xw X) hw fc_X20 hO (k := 0) (by decide) rfl q725 dX6_isIn_19 hf0 (fun q3 hf => ?_)
  clear hf0
  refine lv_iload_n hx hb dX6_isIn_22 rfl (lv_at hl 1 rfl) ?_
  have hf0 := ck_e hf
  clear hf
  obtain ⟨hq4, hf⟩ := hf0
  have hq4 := of_decide_eq_true hq4
  have hf0 := hf
  clear hf
  refine fo_bald (fo_Xw X) hw hq4 dX6_isIn_23 hf0 (fun hf => ?_)
  clear hf0
  refine lv_iload_n hx hb dX6_isIn_24 rfl (lv_at hl 3 rfl) ?_
  have hf0 := hf
  clear hf
  refine fb_igt (tgt := 32) hx hb dX6_isIn_25 (by decide) hf0 (fun hf => ?_) (fun hf => ?_)
  · clear hf0
    refine lv_iconst (v := (0 : Int32)) hx hb dX6_isIn_32 (by decide) ?_
    exact fda_z hend rfl hz hf dX6_isIn_33
  clear hf0
  refine lv_iconst (v := (1 : Int32)) hx hb dX6_isIn_28 (by decide) ?_
  refine lv_goto (tgt := 33) hx hb dX6_isIn_29 (by decide) ?_
  exact fda_z hend rfl hz hf dX6_isIn_33

set_option maxHeartbeats 1000000 in
theorem wX6_next_17 (l : Launch) (E : fo_E) (G : Nat) (o : Nat) (fr lo : Nat) (hfr : 1 ≤ fr) (hlo : 23 ≤ lo) (cN cS : Nat) (tg0 : Nat → Nat × Nat) (nx0 ns0 : Nat) (hO : tg0 o = (1, 17)) (st0 : fo_St) (hI : fo_I E tg0 nx0) (hcN : nx0 ≤ cN) (hcS : ns0 ≤ cS) (ρZ : Unit ⊕ Nat) (aZ : fo_A) (hf : fX6_next cN cS G o tg0 nx0 ns0 st0 = some (ρZ, aZ)) : CA vlV l E yX6_next (ws_ yX6_next cX6_next 1 none) fr lo cN cS [.ref (eb E + o)] (tg0, nx0, ns0, st0) ρZ aZ := by
  refine fea_v (a := (tg0, nx0, ns0, st0)) hm_X6_next (Nat.le_of_ble_eq_true rfl) hI hcN hcS (fun p e R s m args below meth c Q hRf hRl X hnm hend hxx ls hl hz => ?_)
  replace hRf : 1 ≤ R.frames := by rw [hRf]; exact hfr
  replace hRl : 23 ≤ R.locals := by rw [hRl]; exact hlo
  have hR0 : 0 + 1 ≤ R.frames ∧ 8 + (4 + 11) + (0) ≤ R.locals := ⟨by omega, by omega⟩
  have hx := X.1.1
  have hb := X.1.2.1
  have hl : lv_has ls 1 [(0, .ref (eb E + o))] := hl
  have hz : fo_Z E R s cN cS (tg0, nx0, ns0, st0) tg0 nx0 ns0 st0 s.heap [] := hz
  have hw := hz.1
  show W p l e R s m args below meth c s.heap [] (nx0 - nx0) (ns0 - ns0) Q (F0 m 0 ls [])
  unfold fX6_next at hf
  generalize s.heap = H at hz hw ⊢
  generalize ([] : List Loc) = locs at hz hw ⊢
  refine lv_aload_n hx hb dX6_next_0 rfl (lv_at hl 0 rfl) ?_
  refine lv_aload_n hx hb dX6_next_1 rfl (lv_at hl 0 rfl) ?_
  refine fo_geti (fo_Xw X) hw fc_X20 hO (k := 4) (by decide) rfl q729 dX6_next_2 ?_
  have hf0 := hf
  clear hf
  refine fo_puti (fo_Xw X) hw fc_X20 hO (k := 3) (by decide) rfl rfl q728 ⟨rfl, rfl⟩ dX6_next_5 hf0 (fun st1 H locs hw hf => ?_)
  clear hf0
  have hz := hz.s hw
  refine lp1_e (P := fun a2 => ∀ (H : Heap) (locs : List Loc) (ls : Array Slot), a2.1 o = (1, 17) → lv_has ls 1 [(0, .ref (eb E + o))] → fo_Z E R s cN cS (tg0, nx0, ns0, st0) a2.1 a2.2.1 a2.2.2.1 a2.2.2.2 H locs → W p l e R s m args below meth c H locs (a2.2.1 - nx0) (a2.2.2.1 - ns0) Q (F0 m 8 ls [])) (fun rec3 hrec3 a2 hf => ?_) G _ hf H locs ls hO (lv_sub hl [0] rfl) hz
  obtain ⟨tg2, nx2, ns2, sa2⟩ := a2
  intro H locs ls hO hl hz
  have hO : tg2 o = (1, 17) := hO
  have hz : fo_Z E R s cN cS (tg0, nx0, ns0, st0) tg2 nx2 ns2 sa2 H locs := hz
  show W p l e R s m args below meth c H locs (nx2 - nx0) (ns2 - ns0) Q (F0 m 8 ls [])
  replace hf := aw_u hf
  have hw := hz.1
  have hI := hz.2.1
  refine lv_aload_n hx hb dX6_next_8 rfl (lv_at hl 0 rfl) ?_
  refine lv_aload_n hx hb dX6_next_9 rfl (lv_at hl 0 rfl) ?_
  refine fo_geti (fo_Xw X) hw fc_X20 hO (k := 3) (by decide) rfl q728 dX6_next_10 ?_
  refine lv_bipush (v := (32 : Int32)) hx hb dX6_next_13 (by decide) ?_
  refine lv_bipush (v := (32 : Int32)) hx hb dX6_next_15 (by decide) ?_
  have hf0 := hf
  clear hf
  refine fa_O (n := 3) (fr := 0) (lo := 0) (val := vlI) (rest := []) (As := [.int (gi_ sa2 o 3), .int (32 : Int32), .int (32 : Int32)]) X hz (lw_O q768 q770 q769 q772 q769 q125 q773) q773 ⟨by decide, by decide, by decide +kernel⟩ hR0 fc_X20 hO rfl rfl hl.1 (Nat.le_of_ble_eq_true rfl) dX6_next_17 (fun rQ aQ hQ => wX6_isIn_17 l E o (gi_ sa2 o 3) (32 : Int32) (32 : Int32) (0) (0) (Nat.le_refl _) (Nat.le_refl _) cN cS tg2 nx2 ns2 hO sa2 hI hz.2.2.2.2.2.2.1 hz.2.2.2.2.2.2.2.2 rQ aQ hQ) hf0 (fun nX EX tgX nxX nsX stX H locs hTX hxX hz2 hf => ?_) (fun x4 tg5 nx5 ns5 sa5 H locs hext hz2 hf => ?_)
  · exact fda_x hxx hTX hz2 hf
  clear hf0
  have hO := hext.t hI hO
  have hz := hz2
  have hw := hz.1
  have hI := hz.2.1
  clear hz2 hext
  have hf0 := hf
  clear hf
  refine fb_zeq (tgt := 36) hx hb dX6_next_20 (by decide) hf0 (fun hf => ?_) (fun hf => ?_)
  · clear hf0
    refine lv_aload_n hx hb dX6_next_36 rfl (lv_at hl 0 rfl) ?_
    refine lv_aload_n hx hb dX6_next_37 rfl (lv_at hl 0 rfl) ?_
    refine fo_geti (fo_Xw X) hw fc_X20 hO (k := 3) (by decide) rfl q728 dX6_next_38 ?_
    have hf0 := hf
    clear hf
    refine fo_puti (fo_Xw X) hw fc_X20 hO (k := 4) (by decide) rfl rfl q729 ⟨rfl, rfl⟩ dX6_next_41 hf0 (fun st6 H locs hw hf => ?_)
    clear hf0
    have hz := hz.s hw
    refine lv_aload_n hx hb dX6_next_44 rfl (lv_at hl 0 rfl) ?_
    refine lv_aload_n hx hb dX6_next_45 rfl (lv_at hl 0 rfl) ?_
    refine fo_geti (fo_Xw X) hw fc_X20 hO (k := 3) (by decide) rfl q728 dX6_next_46 ?_
    refine lv_bipush (v := (97 : Int32)) hx hb dX6_next_49 (by decide) ?_
    refine lv_bipush (v := (122 : Int32)) hx hb dX6_next_51 (by decide) ?_
    have hf0 := hf
    clear hf
    refine fa_O (n := 3) (fr := 0) (lo := 0) (val := vlI) (rest := []) (As := [.int (gi_ st6 o 3), .int (97 : Int32), .int (122 : Int32)]) X hz (lw_O q768 q770 q769 q772 q769 q125 q773) q773 ⟨by decide, by decide, by decide +kernel⟩ hR0 fc_X20 hO rfl rfl hl.1 (Nat.le_of_ble_eq_true rfl) dX6_next_53 (fun rQ aQ hQ => wX6_isIn_17 l E o (gi_ st6 o 3) (97 : Int32) (122 : Int32) (0) (0) (Nat.le_refl _) (Nat.le_refl _) cN cS tg5 nx5 ns5 hO st6 hI hz.2.2.2.2.2.2.1 hz.2.2.2.2.2.2.2.2 rQ aQ hQ) hf0 (fun nX EX tgX nxX nsX stX H locs hTX hxX hz2 hf => ?_) (fun x7 tg8 nx8 ns8 sa8 H locs hext hz2 hf => ?_)
    · exact fda_x hxx hTX hz2 hf
    clear hf0
    have hO := hext.t hI hO
    have hz := hz2
    have hw := hz.1
    have hI := hz.2.1
    clear hz2 hext
    have hf0 := hf
    clear hf
    refine fb_zeq (tgt := 87) hx hb dX6_next_56 (by decide) hf0 (fun hf => ?_) (fun hf => ?_)
    · clear hf0
      refine lv_aload_n hx hb dX6_next_87 rfl (lv_at hl 0 rfl) ?_
      refine lv_aload_n hx hb dX6_next_88 rfl (lv_at hl 0 rfl) ?_
      refine fo_geti (fo_Xw X) hw fc_X20 hO (k := 3) (by decide) rfl q728 dX6_next_89 ?_
      refine lv_bipush (v := (48 : Int32)) hx hb dX6_next_92 (by decide) ?_
      refine lv_bipush (v := (57 : Int32)) hx hb dX6_next_94 (by decide) ?_
      have hf0 := hf
      clear hf
      refine fa_O (n := 3) (fr := 0) (lo := 0) (val := vlI) (rest := []) (As := [.int (gi_ sa8 o 3), .int (48 : Int32), .int (57 : Int32)]) X hz (lw_O q768 q770 q769 q772 q769 q125 q773) q773 ⟨by decide, by decide, by decide +kernel⟩ hR0 fc_X20 hO rfl rfl hl.1 (Nat.le_of_ble_eq_true rfl) dX6_next_96 (fun rQ aQ hQ => wX6_isIn_17 l E o (gi_ sa8 o 3) (48 : Int32) (57 : Int32) (0) (0) (Nat.le_refl _) (Nat.le_refl _) cN cS tg8 nx8 ns8 hO sa8 hI hz.2.2.2.2.2.2.1 hz.2.2.2.2.2.2.2.2 rQ aQ hQ) hf0 (fun nX EX tgX nxX nsX stX H locs hTX hxX hz2 hf => ?_) (fun x9 tg10 nx10 ns10 sa10 H locs hext hz2 hf => ?_)
      · exact fda_x hxx hTX hz2 hf
      clear hf0
      have hO := hext.t hI hO
      have hz := hz2
      have hw := hz.1
      have hI := hz.2.1
      clear hz2 hext
      have hf0 := hf
      clear hf
      refine fb_zeq (tgt := 130) hx hb dX6_next_99 (by decide) hf0 (fun hf => ?_) (fun hf => ?_)
      · clear hf0
        refine lv_aload_n hx hb dX6_next_130 rfl (lv_at hl 0 rfl) ?_
        refine fo_geti (fo_Xw X) hw fc_X20 hO (k := 3) (by decide) rfl q728 dX6_next_131 ?_
        refine lv_aload_n hx hb dX6_next_134 rfl (lv_at hl 0 rfl) ?_
        refine fo_geti (fo_Xw X) hw fc_X20 hO (k := 1) (by decide) rfl q726 dX6_next_135 ?_
        have hf0 := hf
        clear hf
        refine fb_ige (tgt := 151) hx hb dX6_next_138 (by decide) hf0 (fun hf => ?_) (fun hf => ?_)
        · clear hf0
          exact fda_v hend hz hf dX6_next_151
        clear hf0
        refine lv_aload_n hx hb dX6_next_141 rfl (lv_at hl 0 rfl) ?_
        refine lv_dup hx hb dX6_next_142 rfl ?_
        refine fo_geti (fo_Xw X) hw fc_X20 hO (k := 4) (by decide) rfl q729 dX6_next_143 ?_
        refine lv_iconst (v := (1 : Int32)) hx hb dX6_next_146 (by decide) ?_
        refine lv_iadd hx hb dX6_next_147 ?_
        have hf0 := hf
        clear hf
        refine fo_puti (fo_Xw X) hw fc_X20 hO (k := 4) (by decide) rfl rfl q729 ⟨rfl, rfl⟩ dX6_next_148 hf0 (fun st11 H locs hw hf => ?_)
        clear hf0
        have hz := hz.s hw
        exact fda_v hend hz hf dX6_next_151
      clear hf0
      refine lp1_e (P := fun a12 => ∀ (H : Heap) (locs : List Loc) (ls : Array Slot), a12.1 o = (1, 17) → lv_has ls 1 [(0, .ref (eb E + o))] → fo_Z E R s cN cS (tg0, nx0, ns0, st0) a12.1 a12.2.1 a12.2.2.1 a12.2.2.2 H locs → W p l e R s m args below meth c H locs (a12.2.1 - nx0) (a12.2.2.1 - ns0) Q (F0 m 102 ls [])) (fun rec13 hrec13 a12 hf => ?_) G _ hf H locs ls hO (lv_sub hl [0] rfl) hz
      obtain ⟨tg12, nx12, ns12, sa12⟩ := a12
      intro H locs ls hO hl hz
      have hO : tg12 o = (1, 17) := hO
      have hz : fo_Z E R s cN cS (tg0, nx0, ns0, st0) tg12 nx12 ns12 sa12 H locs := hz
      show W p l e R s m args below meth c H locs (nx12 - nx0) (ns12 - ns0) Q (F0 m 102 ls [])
      replace hf := aw_u hf
      have hw := hz.1
      have hI := hz.2.1
      refine lv_aload_n hx hb dX6_next_102 rfl (lv_at hl 0 rfl) ?_
      refine lv_aload_n hx hb dX6_next_103 rfl (lv_at hl 0 rfl) ?_
      refine fo_geti (fo_Xw X) hw fc_X20 hO (k := 4) (by decide) rfl q729 dX6_next_104 ?_
      refine lv_bipush (v := (48 : Int32)) hx hb dX6_next_107 (by decide) ?_
      refine lv_bipush (v := (57 : Int32)) hx hb dX6_next_109 (by decide) ?_
      have hf0 := hf
      clear hf
      refine fa_O (n := 3) (fr := 0) (lo := 0) (val := vlI) (rest := []) (As := [.int (gi_ sa12 o 4), .int (48 : Int32), .int (57 : Int32)]) X hz (lw_O q768 q770 q769 q772 q769 q125 q773) q773 ⟨by decide, by decide, by decide +kernel⟩ hR0 fc_X20 hO rfl rfl hl.1 (Nat.le_of_ble_eq_true rfl) dX6_next_111 (fun rQ aQ hQ => wX6_isIn_17 l E o (gi_ sa12 o 4) (48 : Int32) (57 : Int32) (0) (0) (Nat.le_refl _) (Nat.le_refl _) cN cS tg12 nx12 ns12 hO sa12 hI hz.2.2.2.2.2.2.1 hz.2.2.2.2.2.2.2.2 rQ aQ hQ) hf0 (fun nX EX tgX nxX nsX stX H locs hTX hxX hz2 hf => ?_) (fun x14 tg15 nx15 ns15 sa15 H locs hext hz2 hf => ?_)
      · exact fda_x hxx hTX hz2 hf
      clear hf0
      have hO := hext.t hI hO
      have hz := hz2
      have hw := hz.1
      have hI := hz.2.1
      clear hz2 hext
      have hf0 := hf
      clear hf
      refine fb_zeq (tgt := 151) hx hb dX6_next_114 (by decide) hf0 (fun hf => ?_) (fun hf => ?_)
      · clear hf0
        exact fda_v hend hz hf dX6_next_151
      clear hf0
      refine lv_aload_n hx hb dX6_next_117 rfl (lv_at hl 0 rfl) ?_
      refine lv_dup hx hb dX6_next_118 rfl ?_
      refine fo_geti (fo_Xw X) hw fc_X20 hO (k := 4) (by decide) rfl q729 dX6_next_119 ?_
      refine lv_iconst (v := (1 : Int32)) hx hb dX6_next_122 (by decide) ?_
      refine lv_iadd hx hb dX6_next_123 ?_
      have hf0 := hf
      clear hf
      refine fo_puti (fo_Xw X) hw fc_X20 hO (k := 4) (by decide) rfl rfl q729 ⟨rfl, rfl⟩ dX6_next_124 hf0 (fun st16 H locs hw hf => ?_)
      clear hf0
      have hz := hz.s hw
      refine lv_goto (tgt := 102) hx hb dX6_next_127 (by decide) ?_
      exact hrec13 _ hf _ _ _ hO (lv_sub hl [0] rfl) hz
    clear hf0
    refine lp1_e (P := fun a17 => ∀ (H : Heap) (locs : List Loc) (ls : Array Slot), a17.1 o = (1, 17) → lv_has ls 1 [(0, .ref (eb E + o))] → fo_Z E R s cN cS (tg0, nx0, ns0, st0) a17.1 a17.2.1 a17.2.2.1 a17.2.2.2 H locs → W p l e R s m args below meth c H locs (a17.2.1 - nx0) (a17.2.2.1 - ns0) Q (F0 m 59 ls [])) (fun rec18 hrec18 a17 hf => ?_) G _ hf H locs ls hO (lv_sub hl [0] rfl) hz
    obtain ⟨tg17, nx17, ns17, sa17⟩ := a17
    intro H locs ls hO hl hz
    have hO : tg17 o = (1, 17) := hO
    have hz : fo_Z E R s cN cS (tg0, nx0, ns0, st0) tg17 nx17 ns17 sa17 H locs := hz
    show W p l e R s m args below meth c H locs (nx17 - nx0) (ns17 - ns0) Q (F0 m 59 ls [])
    replace hf := aw_u hf
    have hw := hz.1
    have hI := hz.2.1
    refine lv_aload_n hx hb dX6_next_59 rfl (lv_at hl 0 rfl) ?_
    refine lv_aload_n hx hb dX6_next_60 rfl (lv_at hl 0 rfl) ?_
    refine fo_geti (fo_Xw X) hw fc_X20 hO (k := 4) (by decide) rfl q729 dX6_next_61 ?_
    refine lv_bipush (v := (97 : Int32)) hx hb dX6_next_64 (by decide) ?_
    refine lv_bipush (v := (122 : Int32)) hx hb dX6_next_66 (by decide) ?_
    have hf0 := hf
    clear hf
    refine fa_O (n := 3) (fr := 0) (lo := 0) (val := vlI) (rest := []) (As := [.int (gi_ sa17 o 4), .int (97 : Int32), .int (122 : Int32)]) X hz (lw_O q768 q770 q769 q772 q769 q125 q773) q773 ⟨by decide, by decide, by decide +kernel⟩ hR0 fc_X20 hO rfl rfl hl.1 (Nat.le_of_ble_eq_true rfl) dX6_next_68 (fun rQ aQ hQ => wX6_isIn_17 l E o (gi_ sa17 o 4) (97 : Int32) (122 : Int32) (0) (0) (Nat.le_refl _) (Nat.le_refl _) cN cS tg17 nx17 ns17 hO sa17 hI hz.2.2.2.2.2.2.1 hz.2.2.2.2.2.2.2.2 rQ aQ hQ) hf0 (fun nX EX tgX nxX nsX stX H locs hTX hxX hz2 hf => ?_) (fun x19 tg20 nx20 ns20 sa20 H locs hext hz2 hf => ?_)
    · exact fda_x hxx hTX hz2 hf
    clear hf0
    have hO := hext.t hI hO
    have hz := hz2
    have hw := hz.1
    have hI := hz.2.1
    clear hz2 hext
    have hf0 := hf
    clear hf
    refine fb_zeq (tgt := 151) hx hb dX6_next_71 (by decide) hf0 (fun hf => ?_) (fun hf => ?_)
    · clear hf0
      exact fda_v hend hz hf dX6_next_151
    clear hf0
    refine lv_aload_n hx hb dX6_next_74 rfl (lv_at hl 0 rfl) ?_
    refine lv_dup hx hb dX6_next_75 rfl ?_
    refine fo_geti (fo_Xw X) hw fc_X20 hO (k := 4) (by decide) rfl q729 dX6_next_76 ?_
    refine lv_iconst (v := (1 : Int32)) hx hb dX6_next_79 (by decide) ?_
    refine lv_iadd hx hb dX6_next_80 ?_
    have hf0 := hf
    clear hf
    refine fo_puti (fo_Xw X) hw fc_X20 hO (k := 4) (by decide) rfl rfl q729 ⟨rfl, rfl⟩ dX6_next_81 hf0 (fun st21 H locs hw hf => ?_)
    clear hf0
    have hz := hz.s hw
    refine lv_goto (tgt := 59) hx hb dX6_next_84 (by decide) ?_
    exact hrec18 _ hf _ _ _ hO (lv_sub hl [0] rfl) hz
  clear hf0
  refine lv_aload_n hx hb dX6_next_23 rfl (lv_at hl 0 rfl) ?_
  refine lv_dup hx hb dX6_next_24 rfl ?_
  refine fo_geti (fo_Xw X) hw fc_X20 hO (k := 3) (by decide) rfl q728 dX6_next_25 ?_
  refine lv_iconst (v := (1 : Int32)) hx hb dX6_next_28 (by decide) ?_
  refine lv_iadd hx hb dX6_next_29 ?_
  have hf0 := hf
  clear hf
  refine fo_puti (fo_Xw X) hw fc_X20 hO (k := 3) (by decide) rfl rfl q728 ⟨rfl, rfl⟩ dX6_next_30 hf0 (fun st22 H locs hw hf => ?_)
  clear hf0
  have hz := hz.s hw
  refine lv_goto (tgt := 8) hx hb dX6_next_33 (by decide) ?_
  exact hrec3 _ hf _ _ _ hO (lv_sub hl [0] rfl) hz

set_option maxHeartbeats 1000000 in
theorem wX6_is_17 (l : Launch) (E : fo_E) (K V : Nat → Nat) (mi : Nat) (hSX : fo_SX E K V mi) (G : Nat) (o : Nat) (p1 : Nat) (fr lo : Nat) (hfr : 10 ≤ fr) (hlo : 200 ≤ lo) (cN cS : Nat) (tg0 : Nat → Nat × Nat) (nx0 ns0 : Nat) (hO : tg0 o = (1, 17)) (hs_p1 : p1 < 50) (st0 : fo_St) (hI : fo_I E tg0 nx0) (hcN : nx0 ≤ cN) (hcS : ns0 ≤ cS) (ρZ : Int32 ⊕ Nat) (aZ : fo_A) (hf : fX6_is cN cS G o p1 tg0 nx0 ns0 st0 = some (ρZ, aZ)) : CA vlI l E yX6_is (ws_ yX6_is cX6_is 3 (some .boolean)) fr lo cN cS [.ref (eb E + o), .ref (K p1)] (tg0, nx0, ns0, st0) ρZ aZ := by
  refine fea_z (a := (tg0, nx0, ns0, st0)) hm_X6_is (Nat.le_of_ble_eq_true rfl) hI hcN hcS (fun p e R s m args below meth c Q hRf hRl X hnm hend hxx ls hl hz => ?_)
  replace hRf : 10 ≤ R.frames := by rw [hRf]; exact hfr
  replace hRl : 200 ≤ R.locals := by rw [hRl]; exact hlo
  have hx := X.1.1
  have hb := X.1.2.1
  have hl : lv_has ls 3 [(0, .ref (eb E + o)), (1, .ref (K p1))] := hl
  have hz : fo_Z E R s cN cS (tg0, nx0, ns0, st0) tg0 nx0 ns0 st0 s.heap [] := hz
  have hw := hz.1
  show W p l e R s m args below meth c s.heap [] (nx0 - nx0) (ns0 - ns0) Q (F0 m 0 ls [])
  unfold fX6_is at hf
  generalize s.heap = H at hz hw ⊢
  generalize ([] : List Loc) = locs at hz hw ⊢
  refine lv_aload_n hx hb dX6_is_0 rfl (lv_at hl 0 rfl) ?_
  refine fo_geti (fo_Xw X) hw fc_X20 hO (k := 4) (by decide) rfl q729 dX6_is_1 ?_
  refine lv_aload_n hx hb dX6_is_4 rfl (lv_at hl 0 rfl) ?_
  refine fo_geti (fo_Xw X) hw fc_X20 hO (k := 3) (by decide) rfl q728 dX6_is_5 ?_
  refine lv_isub hx hb dX6_is_8 ?_
  refine lv_aload_n hx hb dX6_is_9 rfl (lv_at hl 1 rfl) ?_
  refine fo_slen (E := eW E tg0 nx0) (fo_Xw X) hSX hw hz.lim0 ⟨Nat.le_trans (Nat.le_of_ble_eq_true rfl) hRf, Nat.le_trans (Nat.le_of_ble_eq_true rfl) hRl⟩ (i := p1) hs_p1 hl.1 (Nat.le_of_ble_eq_true rfl) dX6_is_10 (fun H locs hw => ?_)
  have hz := hz.s hw
  have hf0 := hf
  clear hf
  refine fb_ieq (tgt := 18) hx hb dX6_is_13 (by decide) hf0 (fun hf => ?_) (fun hf => ?_)
  · clear hf0
    refine lv_iconst (v := (0 : Int32)) hx hb dX6_is_18 (by decide) ?_
    refine lv_istore_n (lv' := [(2, .int (0 : Int32)), (0, .ref (eb E + o)), (1, .ref (K p1))]) hx hb dX6_is_19 rfl hl (by decide) rfl (fun ls hl => ?_)
    refine lp2_e (P := fun x1 a2 => ∀ (H : Heap) (locs : List Loc) (ls : Array Slot), a2.1 o = (1, 17) → lv_has ls 3 [(2, .int x1), (0, .ref (eb E + o)), (1, .ref (K p1))] → fo_Z E R s cN cS (tg0, nx0, ns0, st0) a2.1 a2.2.1 a2.2.2.1 a2.2.2.2 H locs → W p l e R s m args below meth c H locs (a2.2.1 - nx0) (a2.2.2.1 - ns0) Q (F0 m 20 ls [])) (fun rec3 hrec3 x1 a2 hf => ?_) G _ _ hf H locs ls hO (lv_sub hl [0, 1, 2] rfl) hz
    obtain ⟨tg2, nx2, ns2, sa2⟩ := a2
    intro H locs ls hO hl hz
    have hO : tg2 o = (1, 17) := hO
    have hz : fo_Z E R s cN cS (tg0, nx0, ns0, st0) tg2 nx2 ns2 sa2 H locs := hz
    show W p l e R s m args below meth c H locs (nx2 - nx0) (ns2 - ns0) Q (F0 m 20 ls [])
    replace hf := aw_u hf
    have hw := hz.1
    have hI := hz.2.1
    refine lv_iload_n hx hb dX6_is_20 rfl (lv_at hl 0 rfl) ?_
    refine lv_aload_n hx hb dX6_is_21 rfl (lv_at hl 2 rfl) ?_
    refine fo_slen (E := eW E tg2 nx2) (fo_Xw X) hSX hw hz.lim0 ⟨Nat.le_trans (Nat.le_of_ble_eq_true rfl) hRf, Nat.le_trans (Nat.le_of_ble_eq_true rfl) hRl⟩ (i := p1) hs_p1 hl.1 (Nat.le_of_ble_eq_true rfl) dX6_is_22 (fun H locs hw => ?_)
    have hz := hz.s hw
    have hf0 := hf
    clear hf
    refine fb_ige (tgt := 55) hx hb dX6_is_25 (by decide) hf0 (fun hf => ?_) (fun hf => ?_)
    · clear hf0
      refine lv_iconst (v := (1 : Int32)) hx hb dX6_is_55 (by decide) ?_
      exact fda_z hend rfl hz hf dX6_is_56
    clear hf0
    refine lv_aload_n hx hb dX6_is_28 rfl (lv_at hl 1 rfl) ?_
    have hf0 := hf
    clear hf
    refine fo_getr (fo_Xw X) hw fc_X20 hO (k := 0) (by decide) rfl q725 dX6_is_29 hf0 (fun q4 hf => ?_)
    clear hf0
    refine lv_aload_n hx hb dX6_is_32 rfl (lv_at hl 1 rfl) ?_
    refine fo_geti (fo_Xw X) hw fc_X20 hO (k := 3) (by decide) rfl q728 dX6_is_33 ?_
    refine lv_iload_n hx hb dX6_is_36 rfl (lv_at hl 0 rfl) ?_
    refine lv_iadd hx hb dX6_is_37 ?_
    have hf0 := ck_e hf
    clear hf
    obtain ⟨hq5, hf⟩ := hf0
    have hq5 := of_decide_eq_true hq5
    have hf0 := hf
    clear hf
    refine fo_bald (fo_Xw X) hw hq5 dX6_is_38 hf0 (fun hf => ?_)
    clear hf0
    refine lv_aload_n hx hb dX6_is_39 rfl (lv_at hl 2 rfl) ?_
    refine lv_iload_n hx hb dX6_is_40 rfl (lv_at hl 0 rfl) ?_
    have hf0 := ck_e hf
    clear hf
    obtain ⟨hc, hf⟩ := hf0
    refine fo_schar (E := eW E tg2 nx2) (fo_Xw X) hSX hw hz.lim0 ⟨Nat.le_trans (Nat.le_of_ble_eq_true rfl) hRf, Nat.le_trans (Nat.le_of_ble_eq_true rfl) hRl⟩ (i := p1) hs_p1 (of_decide_eq_true hc) hl.1 (Nat.le_of_ble_eq_true rfl) dX6_is_41 (fun H locs hw => ?_)
    have hz := hz.s hw
    have hf0 := hf
    clear hf
    refine fb_ieq (tgt := 49) hx hb dX6_is_44 (by decide) hf0 (fun hf => ?_) (fun hf => ?_)
    · clear hf0
      refine fb_iinc (v := (1 : Int32)) (lv' := [(2, .int (x1 + (1 : Int32))), (0, .ref (eb E + o)), (1, .ref (K p1))]) hx hb dX6_is_49 hl (k := 0) rfl (by decide) (by decide) rfl (fun ls hl => ?_)
      refine lv_goto (tgt := 20) hx hb dX6_is_52 (by decide) ?_
      exact hrec3 _ _ hf _ _ _ hO (lv_sub hl [0, 1, 2] rfl) hz
    clear hf0
    refine lv_iconst (v := (0 : Int32)) hx hb dX6_is_47 (by decide) ?_
    exact fda_z hend rfl hz hf dX6_is_48
  clear hf0
  refine lv_iconst (v := (0 : Int32)) hx hb dX6_is_16 (by decide) ?_
  exact fda_z hend rfl hz hf dX6_is_17

set_option maxHeartbeats 1000000 in
theorem wX6_takes_17 (l : Launch) (E : fo_E) (K V : Nat → Nat) (mi : Nat) (hSX : fo_SX E K V mi) (G : Nat) (o : Nat) (p1 : Nat) (fr lo : Nat) (hfr : 11 ≤ fr) (hlo : 222 ≤ lo) (cN cS : Nat) (tg0 : Nat → Nat × Nat) (nx0 ns0 : Nat) (hO : tg0 o = (1, 17)) (hs_p1 : p1 < 50) (st0 : fo_St) (hI : fo_I E tg0 nx0) (hcN : nx0 ≤ cN) (hcS : ns0 ≤ cS) (ρZ : Int32 ⊕ Nat) (aZ : fo_A) (hf : fX6_takes cN cS G o p1 tg0 nx0 ns0 st0 = some (ρZ, aZ)) : CA vlI l E yX6_takes (ws_ yX6_takes cX6_takes 3 (some .boolean)) fr lo cN cS [.ref (eb E + o), .ref (K p1)] (tg0, nx0, ns0, st0) ρZ aZ := by
  refine fea_z (a := (tg0, nx0, ns0, st0)) hm_X6_takes (Nat.le_of_ble_eq_true rfl) hI hcN hcS (fun p e R s m args below meth c Q hRf hRl X hnm hend hxx ls hl hz => ?_)
  replace hRf : 11 ≤ R.frames := by rw [hRf]; exact hfr
  replace hRl : 222 ≤ R.locals := by rw [hRl]; exact hlo
  have hR0 : 10 + 1 ≤ R.frames ∧ 8 + (3 + 11) + (200) ≤ R.locals := ⟨by omega, by omega⟩
  have hR1 : 1 + 1 ≤ R.frames ∧ 8 + (1 + 11) + (23) ≤ R.locals := ⟨by omega, by omega⟩
  have hx := X.1.1
  have hb := X.1.2.1
  have hl : lv_has ls 3 [(0, .ref (eb E + o)), (1, .ref (K p1))] := hl
  have hz : fo_Z E R s cN cS (tg0, nx0, ns0, st0) tg0 nx0 ns0 st0 s.heap [] := hz
  have hw := hz.1
  show W p l e R s m args below meth c s.heap [] (nx0 - nx0) (ns0 - ns0) Q (F0 m 0 ls [])
  unfold fX6_takes at hf
  generalize s.heap = H at hz hw ⊢
  generalize ([] : List Loc) = locs at hz hw ⊢
  refine lv_aload_n hx hb dX6_takes_0 rfl (lv_at hl 0 rfl) ?_
  refine lv_aload_n hx hb dX6_takes_1 rfl (lv_at hl 1 rfl) ?_
  have hf0 := hf
  clear hf
  refine fa_O (n := 1) (fr := 10) (lo := 200) (val := vlI) (rest := []) (As := [.ref (K p1)]) X hz (lw_O q904 q2228 q785 q2230 q785 q125 q786) q786 ⟨by decide, by decide, by decide +kernel⟩ hR0 fc_X20 hO rfl rfl hl.1 (Nat.le_of_ble_eq_true rfl) dX6_takes_2 (fun rQ aQ hQ => wX6_is_17 l E K V mi hSX G o p1 (10) (200) (Nat.le_refl _) (Nat.le_refl _) cN cS tg0 nx0 ns0 hO hs_p1 st0 hI hz.2.2.2.2.2.2.1 hz.2.2.2.2.2.2.2.2 rQ aQ hQ) hf0 (fun nX EX tgX nxX nsX stX H locs hTX hxX hz2 hf => ?_) (fun x1 tg2 nx2 ns2 sa2 H locs hext hz2 hf => ?_)
  · exact fda_x hxx hTX hz2 hf
  clear hf0
  have hO := hext.t hI hO
  have hz := hz2
  have hw := hz.1
  have hI := hz.2.1
  clear hz2 hext
  refine lv_istore_n (lv' := [(2, .int x1), (0, .ref (eb E + o)), (1, .ref (K p1))]) hx hb dX6_takes_5 rfl hl (by decide) rfl (fun ls hl => ?_)
  refine lv_iload_n hx hb dX6_takes_6 rfl (lv_at hl 0 rfl) ?_
  have hf0 := hf
  clear hf
  refine fb_zeq (tgt := 14) hx hb dX6_takes_7 (by decide) hf0 (fun hf => ?_) (fun hf => ?_)
  · clear hf0
    refine lv_iload_n hx hb dX6_takes_14 rfl (lv_at hl 0 rfl) ?_
    have hf0 := ck_e hf
    clear hf
    obtain ⟨hzb, hf⟩ := hf0
    exact fda_z hend (fo_z hzb).1 hz hf dX6_takes_15
  clear hf0
  refine lv_aload_n hx hb dX6_takes_10 rfl (lv_at hl 1 rfl) ?_
  have hf0 := hf
  clear hf
  refine fa_O (n := 0) (fr := 1) (lo := 23) (val := vlV) (rest := []) (As := []) X hz (lw_O q762 q764 q763 q766 q763 q125 q767) q767 ⟨by decide, by decide, by decide +kernel⟩ hR1 fc_X20 hO rfl rfl hl.1 (Nat.le_of_ble_eq_true rfl) dX6_takes_11 (fun rQ aQ hQ => wX6_next_17 l E G o (1) (23) (Nat.le_refl _) (Nat.le_refl _) cN cS tg2 nx2 ns2 hO sa2 hI hz.2.2.2.2.2.2.1 hz.2.2.2.2.2.2.2.2 rQ aQ hQ) hf0 (fun nX EX tgX nxX nsX stX H locs hTX hxX hz2 hf => ?_) (fun x3 tg4 nx4 ns4 sa4 H locs hext hz2 hf => ?_)
  · exact fda_x hxx hTX hz2 hf
  clear hf0
  have hO := hext.t hI hO
  have hz := hz2
  have hw := hz.1
  have hI := hz.2.1
  clear hz2 hext
  refine lv_iload_n hx hb dX6_takes_14 rfl (lv_at hl 0 rfl) ?_
  have hf0 := ck_e hf
  clear hf
  obtain ⟨hzb, hf⟩ := hf0
  exact fda_z hend (fo_z hzb).1 hz hf dX6_takes_15

