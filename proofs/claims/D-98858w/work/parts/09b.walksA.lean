/-! walks of methods that make cells or throw, printed by genA.py -/
set_option maxRecDepth 100000
/-- ForestRooms$Broken.<init> -/
def fX4_init (cN cS : Nat) (o : Nat) (tg0 : Nat → Nat × Nat) (nx0 ns0 : Nat) (st0 : fo_St) : Option ((Unit ⊕ Nat) × fo_A) := ba_ (fJ4_init cN cS o tg0 nx0 ns0 st0) (fun x1 tg2 nx2 ns2 sa2 => some (.inl (), (tg2, nx2, ns2, sa2))) (fun nX tgX nxX nsX stX => some (.inr nX, (tgX, nxX, nsX, stX)))
theorem hm_X4_init : fo_M yX4_init 0 := ⟨by decide +kernel, by decide +kernel, by decide +kernel, by decide +kernel⟩
set_option maxHeartbeats 1000000 in
theorem wX4_init_4 (l : Launch) (E : fo_E) (K V : Nat → Nat) (mi : Nat) (hSX : fo_SX E K V mi) (o : Nat) (fr lo : Nat) (hfr : 4 ≤ fr) (hlo : 114 ≤ lo) (cN cS : Nat) (tg0 : Nat → Nat × Nat) (nx0 ns0 : Nat) (hO : tg0 o = (1, 4)) (st0 : fo_St) (hI : fo_I E tg0 nx0) (hcN : nx0 ≤ cN) (hcS : ns0 ≤ cS) (ρZ : Unit ⊕ Nat) (aZ : fo_A) (hf : fX4_init cN cS o tg0 nx0 ns0 st0 = some (ρZ, aZ)) : CA vlV l E yX4_init (ws_ yX4_init cX4_init 1 none) fr lo cN cS [.ref (eb E + o)] (tg0, nx0, ns0, st0) ρZ aZ := by
  refine fea_v (a := (tg0, nx0, ns0, st0)) hm_X4_init (Nat.le_of_ble_eq_true rfl) hI hcN hcS (fun p e R s m args below meth c Q hRf hRl X hnm hend hxx ls hl hz => ?_)
  have hin2 : meth.name = "<init>" := hnm
  replace hRf : 4 ≤ R.frames := by rw [hRf]; exact hfr
  replace hRl : 114 ≤ R.locals := by rw [hRl]; exact hlo
  have hR0 : 3 + 1 ≤ R.frames ∧ 8 + (5 + 11) + (90) ≤ R.locals := ⟨by omega, by omega⟩
  have hx := X.1.1
  have hb := X.1.2.1
  have hl : lv_has ls 1 [(0, .ref (eb E + o))] := hl
  have hz : fo_Z E R s cN cS (tg0, nx0, ns0, st0) tg0 nx0 ns0 st0 s.heap [] := hz
  have hw := hz.1
  show W p l e R s m args below meth c s.heap [] (nx0 - nx0) (ns0 - ns0) Q (F0 m 0 ls [])
  unfold fX4_init at hf
  generalize s.heap = H at hz hw ⊢
  generalize ([] : List Loc) = locs at hz hw ⊢
  refine lv_aload_n hx hb dX4_init_0 rfl (lv_at hl 0 rfl) ?_
  refine lv_null hx hb dX4_init_1 ?_
  refine lv_null hx hb dX4_init_2 ?_
  refine lv_iconst (v := (0 : Int32)) hx hb dX4_init_3 (by decide) ?_
  refine lv_iconst (v := (0 : Int32)) hx hb dX4_init_4 (by decide) ?_
  have hf0 := hf
  clear hf
  refine fa_I (fr := 3) (lo := 90) (val := vlV) (rest := []) (As := [.null, .null, .int (0 : Int32), .int (0 : Int32)]) X hz hm_J4_init q316 q119 q314 q315 rfl hR0 rfl rfl hl.1 (Nat.le_of_ble_eq_true rfl) dX4_init_5 (fun rQ aQ hQ => wJ4_init_4 l E K V mi hSX o (3) (90) (Nat.le_refl _) (Nat.le_refl _) cN cS tg0 nx0 ns0 hO st0 hI hz.2.2.2.2.2.2.1 hz.2.2.2.2.2.2.2.2 rQ aQ hQ) hf0 (fun nX EX tgX nxX nsX stX H locs hTX hxX hz2 hf => ?_) (fun x1 tg2 nx2 ns2 sa2 H locs hext hz2 hf => ?_)
  · exact fda_x hxx hTX hz2 hf
  clear hf0
  have hO := hext.t hI hO
  have hz := hz2
  have hw := hz.1
  have hI := hz.2.1
  clear hz2 hext
  exact fda_v hend hz hf dX4_init_8

/-- ForestRooms$Fault.<init> -/
def fX8_init (cN cS : Nat) (o : Nat) (p1 : Int32) (tg0 : Nat → Nat × Nat) (nx0 ns0 : Nat) (st0 : fo_St) : Option ((Unit ⊕ Nat) × fo_A) := ba_ (fJ4_init cN cS o tg0 nx0 ns0 st0) (fun x1 tg2 nx2 ns2 sa2 => lt_ (si_ sa2 o 6 p1) (fun st3 => some (.inl (), (tg2, nx2, ns2, st3)))) (fun nX tgX nxX nsX stX => some (.inr nX, (tgX, nxX, nsX, stX)))
theorem hm_X8_init : fo_M yX8_init 1 := ⟨by decide +kernel, by decide +kernel, by decide +kernel, by decide +kernel⟩
set_option maxHeartbeats 1000000 in
theorem wX8_init_7 (l : Launch) (E : fo_E) (K V : Nat → Nat) (mi : Nat) (hSX : fo_SX E K V mi) (o : Nat) (p1 : Int32) (fr lo : Nat) (hfr : 4 ≤ fr) (hlo : 114 ≤ lo) (cN cS : Nat) (tg0 : Nat → Nat × Nat) (nx0 ns0 : Nat) (hO : tg0 o = (1, 7)) (st0 : fo_St) (hI : fo_I E tg0 nx0) (hcN : nx0 ≤ cN) (hcS : ns0 ≤ cS) (ρZ : Unit ⊕ Nat) (aZ : fo_A) (hf : fX8_init cN cS o p1 tg0 nx0 ns0 st0 = some (ρZ, aZ)) : CA vlV l E yX8_init (ws_ yX8_init cX8_init 2 none) fr lo cN cS [.ref (eb E + o), .int p1] (tg0, nx0, ns0, st0) ρZ aZ := by
  refine fea_v (a := (tg0, nx0, ns0, st0)) hm_X8_init (Nat.le_of_ble_eq_true rfl) hI hcN hcS (fun p e R s m args below meth c Q hRf hRl X hnm hend hxx ls hl hz => ?_)
  have hin2 : meth.name = "<init>" := hnm
  replace hRf : 4 ≤ R.frames := by rw [hRf]; exact hfr
  replace hRl : 114 ≤ R.locals := by rw [hRl]; exact hlo
  have hR0 : 3 + 1 ≤ R.frames ∧ 8 + (5 + 11) + (90) ≤ R.locals := ⟨by omega, by omega⟩
  have hx := X.1.1
  have hb := X.1.2.1
  have hl : lv_has ls 2 [(0, .ref (eb E + o)), (1, .int p1)] := hl
  have hz : fo_Z E R s cN cS (tg0, nx0, ns0, st0) tg0 nx0 ns0 st0 s.heap [] := hz
  have hw := hz.1
  show W p l e R s m args below meth c s.heap [] (nx0 - nx0) (ns0 - ns0) Q (F0 m 0 ls [])
  unfold fX8_init at hf
  generalize s.heap = H at hz hw ⊢
  generalize ([] : List Loc) = locs at hz hw ⊢
  refine lv_aload_n hx hb dX8_init_0 rfl (lv_at hl 0 rfl) ?_
  refine lv_null hx hb dX8_init_1 ?_
  refine lv_null hx hb dX8_init_2 ?_
  refine lv_iconst (v := (0 : Int32)) hx hb dX8_init_3 (by decide) ?_
  refine lv_iconst (v := (0 : Int32)) hx hb dX8_init_4 (by decide) ?_
  have hf0 := hf
  clear hf
  refine fa_I (fr := 3) (lo := 90) (val := vlV) (rest := []) (As := [.null, .null, .int (0 : Int32), .int (0 : Int32)]) X hz hm_J4_init q316 q119 q855 q315 rfl hR0 rfl rfl hl.1 (Nat.le_of_ble_eq_true rfl) dX8_init_5 (fun rQ aQ hQ => wJ4_init_7 l E K V mi hSX o (3) (90) (Nat.le_refl _) (Nat.le_refl _) cN cS tg0 nx0 ns0 hO st0 hI hz.2.2.2.2.2.2.1 hz.2.2.2.2.2.2.2.2 rQ aQ hQ) hf0 (fun nX EX tgX nxX nsX stX H locs hTX hxX hz2 hf => ?_) (fun x1 tg2 nx2 ns2 sa2 H locs hext hz2 hf => ?_)
  · exact fda_x hxx hTX hz2 hf
  clear hf0
  have hO := hext.t hI hO
  have hz := hz2
  have hw := hz.1
  have hI := hz.2.1
  clear hz2 hext
  refine lv_aload_n hx hb dX8_init_8 rfl (lv_at hl 0 rfl) ?_
  refine lv_iload_n hx hb dX8_init_9 rfl (lv_at hl 1 rfl) ?_
  have hf0 := hf
  clear hf
  refine fo_putiF (fo_Xw X) hin2 hw fc_X8 hO (k := 6) (by decide) rfl rfl rfl q856 ⟨rfl, rfl⟩ dX8_init_10 hf0 (fun st3 H locs hw hf => ?_)
  clear hf0
  have hz := hz.s hw
  exact fda_v hend hz hf dX8_init_13

/-- java/util/ArrayList.grow -/
def fJ2_grow (cN cS : Nat) (o : Nat) (p1 : Int32) (tg0 : Nat → Nat × Nat) (nx0 ns0 : Nat) (st0 : fo_St) : Option ((Nat ⊕ Nat) × fo_A) := rn_ (gr_ st0 o 1) (fun q1 => ck_ (decide ((tg0 q1).1 = 6)) (lI_ (nI ((tg0 q1).2)) (fun x3 => if 0 < x3 then ba_ (fJ11_newLength cN cS x3 (p1 - x3) (x3 >>> ((1 : Int32) &&& 31)) tg0 nx0 ns0 st0) (fun x4 tg5 nx5 ns5 sa5 => rn_ (gr_ sa5 o 1) (fun q6 => ba_ (fJ12_copyOf cN cS q6 x4 tg5 nx5 ns5 sa5) (fun x7 tg8 nx8 ns8 sa8 => lt_ (sr_ sa8 o 1 (some x7)) (fun st9 => some (.inl x7, (tg8, nx8, ns8, st9)))) (fun nX tgX nxX nsX stX => some (.inr nX, (tgX, nxX, nsX, stX))))) (fun nX tgX nxX nsX stX => some (.inr nX, (tgX, nxX, nsX, stX))) else none)))
theorem hm_J2_grow : fo_M yJ2_grow 1 := ⟨by decide +kernel, by decide +kernel, by decide +kernel, by decide +kernel⟩
set_option maxHeartbeats 1000000 in
theorem wJ2_grow_18 (l : Launch) (E : fo_E) (K V : Nat → Nat) (mi : Nat) (hSX : fo_SX E K V mi) (o : Nat) (p1 : Int32) (fr lo : Nat) (hfr : 4 ≤ fr) (hlo : 111 ≤ lo) (cN cS : Nat) (tg0 : Nat → Nat × Nat) (nx0 ns0 : Nat) (hO : tg0 o = (1, 18)) (st0 : fo_St) (hI : fo_I E tg0 nx0) (hcN : nx0 ≤ cN) (hcS : ns0 ≤ cS) (ρZ : Nat ⊕ Nat) (aZ : fo_A) (hf : fJ2_grow cN cS o p1 tg0 nx0 ns0 st0 = some (ρZ, aZ)) : CA (vlR (eb E)) l E yJ2_grow (ws_ yJ2_grow cJ2_grow 4 (some (.array (.object "java/lang/Object")))) fr lo cN cS [.ref (eb E + o), .int p1] (tg0, nx0, ns0, st0) ρZ aZ := by
  refine fea_r (a := (tg0, nx0, ns0, st0)) (Or.inr ⟨_, rfl⟩) hm_J2_grow (Nat.le_of_ble_eq_true rfl) hI hcN hcS (fun p e R s m args below meth c Q hRf hRl X hnm hend hxx ls hl hz => ?_)
  replace hRf : 4 ≤ R.frames := by rw [hRf]; exact hfr
  replace hRl : 111 ≤ R.locals := by rw [hRl]; exact hlo
  have hR0 : 1 + 1 ≤ R.frames ∧ 8 + (4 + 11) + (30) ≤ R.locals := ⟨by omega, by omega⟩
  have hR1 : 3 + 1 ≤ R.frames ∧ 8 + (2 + 11) + (90) ≤ R.locals := ⟨by omega, by omega⟩
  have hx := X.1.1
  have hb := X.1.2.1
  have hl : lv_has ls 4 [(0, .ref (eb E + o)), (1, .int p1)] := hl
  have hz : fo_Z E R s cN cS (tg0, nx0, ns0, st0) tg0 nx0 ns0 st0 s.heap [] := hz
  have hw := hz.1
  show W p l e R s m args below meth c s.heap [] (nx0 - nx0) (ns0 - ns0) Q (F0 m 0 ls [])
  unfold fJ2_grow at hf
  generalize s.heap = H at hz hw ⊢
  generalize ([] : List Loc) = locs at hz hw ⊢
  refine lv_aload_n hx hb dJ2_grow_0 rfl (lv_at hl 0 rfl) ?_
  have hf0 := hf
  clear hf
  refine fo_getr (fo_Xw X) hw fc_J2 hO (k := 1) (by decide) rfl q202 dJ2_grow_1 hf0 (fun q1 hf => ?_)
  clear hf0
  have hf0 := ck_e hf
  clear hf
  obtain ⟨hq2, hf⟩ := hf0
  have hq2 := fo_tagA hq2
  refine fo_alen6 (fo_Xw X) hw hq2 dJ2_grow_4 ?_
  have hf0 := hf
  clear hf
  refine fo_tI hf0 (fun x3 hf => ?_)
  clear hf0
  refine lv_istore_n (lv' := [(2, .int x3), (0, .ref (eb E + o)), (1, .int p1)]) hx hb dJ2_grow_5 rfl hl (by decide) rfl (fun ls hl => ?_)
  refine lv_iload_n hx hb dJ2_grow_6 rfl (lv_at hl 0 rfl) ?_
  have hf0 := hf
  clear hf
  refine fb_zgt (tgt := 20) hx hb dJ2_grow_7 (by decide) hf0 (fun hf => ?_) (fun hf => ?_)
  · clear hf0
    refine lv_iload_n hx hb dJ2_grow_20 rfl (lv_at hl 0 rfl) ?_
    refine lv_iload_n hx hb dJ2_grow_21 rfl (lv_at hl 2 rfl) ?_
    refine lv_iload_n hx hb dJ2_grow_22 rfl (lv_at hl 0 rfl) ?_
    refine lv_isub hx hb dJ2_grow_23 ?_
    refine lv_iload_n hx hb dJ2_grow_24 rfl (lv_at hl 0 rfl) ?_
    refine lv_iconst (v := (1 : Int32)) hx hb dJ2_grow_25 (by decide) ?_
    refine lv_ishr hx hb dJ2_grow_26 ?_
    have hf0 := hf
    clear hf
    refine fa_S (fr := 1) (lo := 30) (val := vlI) (rest := []) (As := [.int x3, .int (p1 - x3), .int (x3 >>> ((1 : Int32) &&& 31))]) X hz hm_J11_newLength (lw_S q518 q519 q140 q520) hR0 rfl rfl hl.1 (Nat.le_of_ble_eq_true rfl) dJ2_grow_27 (fun rQ aQ hQ => wJ11_newLength l E x3 (p1 - x3) (x3 >>> ((1 : Int32) &&& 31)) (1) (30) (Nat.le_refl _) (Nat.le_refl _) cN cS tg0 nx0 ns0 st0 hI hz.2.2.2.2.2.2.1 hz.2.2.2.2.2.2.2.2 rQ aQ hQ) hf0 (fun nX EX tgX nxX nsX stX H locs hTX hxX hz2 hf => ?_) (fun x4 tg5 nx5 ns5 sa5 H locs hext hz2 hf => ?_)
    · exact fda_x hxx hTX hz2 hf
    clear hf0
    have hO := hext.t hI hO
    have hq2 := hext.t hI hq2
    have hz := hz2
    have hw := hz.1
    have hI := hz.2.1
    clear hz2 hext
    refine lv_istore_n (lv' := [(3, .int x4), (2, .int x3), (0, .ref (eb E + o)), (1, .int p1)]) hx hb dJ2_grow_30 rfl hl (by decide) rfl (fun ls hl => ?_)
    refine lv_aload_n hx hb dJ2_grow_31 rfl (lv_at hl 2 rfl) ?_
    refine lv_aload_n hx hb dJ2_grow_32 rfl (lv_at hl 2 rfl) ?_
    have hf0 := hf
    clear hf
    refine fo_getr (fo_Xw X) hw fc_J2 hO (k := 1) (by decide) rfl q202 dJ2_grow_33 hf0 (fun q6 hf => ?_)
    clear hf0
    refine lv_iload_n hx hb dJ2_grow_36 rfl (lv_at hl 0 rfl) ?_
    have hf0 := hf
    clear hf
    refine fa_S (fr := 3) (lo := 90) (val := (vlR (eb E))) (rest := [.ref (eb E + o)]) (As := [.ref (eb E + q6), .int x4]) X hz hm_J12_copyOf (lw_S q477 q478 q141 q479) hR1 rfl rfl hl.1 (Nat.le_of_ble_eq_true rfl) dJ2_grow_37 (fun rQ aQ hQ => wJ12_copyOf l E K V mi hSX q6 x4 (3) (90) (Nat.le_refl _) (Nat.le_refl _) cN cS tg5 nx5 ns5 sa5 hI hz.2.2.2.2.2.2.1 hz.2.2.2.2.2.2.2.2 rQ aQ hQ) hf0 (fun nX EX tgX nxX nsX stX H locs hTX hxX hz2 hf => ?_) (fun x7 tg8 nx8 ns8 sa8 H locs hext hz2 hf => ?_)
    · exact fda_x hxx hTX hz2 hf
    clear hf0
    have hO := hext.t hI hO
    have hq2 := hext.t hI hq2
    have hz := hz2
    have hw := hz.1
    have hI := hz.2.1
    clear hz2 hext
    refine lv_dup_x1 hx hb dJ2_grow_40 rfl rfl ?_
    have hf0 := hf
    clear hf
    refine fo_putr (fo_Xw X) hw fc_J2 hO (k := 1) (by decide) rfl rfl q202 (fun _ => ⟨rfl, rfl⟩) dJ2_grow_41 hf0 (fun st9 H locs hw hf => ?_)
    clear hf0
    have hz := hz.s hw
    exact fda_r hend hz hf dJ2_grow_44
  clear hf0
  cases hf

/-- java/util/ArrayList.grow -/
def fJ2_grow_2 (cN cS : Nat) (o : Nat) (tg0 : Nat → Nat × Nat) (nx0 ns0 : Nat) (st0 : fo_St) : Option ((Nat ⊕ Nat) × fo_A) := ba_ (fJ2_grow cN cS o ((gi_ st0 o 2) + (1 : Int32)) tg0 nx0 ns0 st0) (fun x1 tg2 nx2 ns2 sa2 => some (.inl x1, (tg2, nx2, ns2, sa2))) (fun nX tgX nxX nsX stX => some (.inr nX, (tgX, nxX, nsX, stX)))
theorem hm_J2_grow_2 : fo_M yJ2_grow_2 0 := ⟨by decide +kernel, by decide +kernel, by decide +kernel, by decide +kernel⟩
set_option maxHeartbeats 1000000 in
theorem wJ2_grow_2_18 (l : Launch) (E : fo_E) (K V : Nat → Nat) (mi : Nat) (hSX : fo_SX E K V mi) (o : Nat) (fr lo : Nat) (hfr : 5 ≤ fr) (hlo : 134 ≤ lo) (cN cS : Nat) (tg0 : Nat → Nat × Nat) (nx0 ns0 : Nat) (hO : tg0 o = (1, 18)) (st0 : fo_St) (hI : fo_I E tg0 nx0) (hcN : nx0 ≤ cN) (hcS : ns0 ≤ cS) (ρZ : Nat ⊕ Nat) (aZ : fo_A) (hf : fJ2_grow_2 cN cS o tg0 nx0 ns0 st0 = some (ρZ, aZ)) : CA (vlR (eb E)) l E yJ2_grow_2 (ws_ yJ2_grow_2 cJ2_grow_2 1 (some (.array (.object "java/lang/Object")))) fr lo cN cS [.ref (eb E + o)] (tg0, nx0, ns0, st0) ρZ aZ := by
  refine fea_r (a := (tg0, nx0, ns0, st0)) (Or.inr ⟨_, rfl⟩) hm_J2_grow_2 (Nat.le_of_ble_eq_true rfl) hI hcN hcS (fun p e R s m args below meth c Q hRf hRl X hnm hend hxx ls hl hz => ?_)
  replace hRf : 5 ≤ R.frames := by rw [hRf]; exact hfr
  replace hRl : 134 ≤ R.locals := by rw [hRl]; exact hlo
  have hR0 : 4 + 1 ≤ R.frames ∧ 8 + (4 + 11) + (111) ≤ R.locals := ⟨by omega, by omega⟩
  have hx := X.1.1
  have hb := X.1.2.1
  have hl : lv_has ls 1 [(0, .ref (eb E + o))] := hl
  have hz : fo_Z E R s cN cS (tg0, nx0, ns0, st0) tg0 nx0 ns0 st0 s.heap [] := hz
  have hw := hz.1
  show W p l e R s m args below meth c s.heap [] (nx0 - nx0) (ns0 - ns0) Q (F0 m 0 ls [])
  unfold fJ2_grow_2 at hf
  generalize s.heap = H at hz hw ⊢
  generalize ([] : List Loc) = locs at hz hw ⊢
  refine lv_aload_n hx hb dJ2_grow_2_0 rfl (lv_at hl 0 rfl) ?_
  refine lv_aload_n hx hb dJ2_grow_2_1 rfl (lv_at hl 0 rfl) ?_
  refine fo_geti (fo_Xw X) hw fc_J2 hO (k := 2) (by decide) rfl q203 dJ2_grow_2_2 ?_
  refine lv_iconst (v := (1 : Int32)) hx hb dJ2_grow_2_5 (by decide) ?_
  refine lv_iadd hx hb dJ2_grow_2_6 ?_
  have hf0 := hf
  clear hf
  refine fa_V (fr := 4) (lo := 111) (val := (vlR (eb E))) (rest := []) (As := [.int ((gi_ st0 o 2) + (1 : Int32))]) X hz hm_J2_grow (lw_V q512 q514 qs2 q116 q515) hR0 fc_J2 rfl hO rfl rfl hl.1 (Nat.le_of_ble_eq_true rfl) dJ2_grow_2_7 (fun rQ aQ hQ => wJ2_grow_18 l E K V mi hSX o ((gi_ st0 o 2) + (1 : Int32)) (4) (111) (Nat.le_refl _) (Nat.le_refl _) cN cS tg0 nx0 ns0 hO st0 hI hz.2.2.2.2.2.2.1 hz.2.2.2.2.2.2.2.2 rQ aQ hQ) hf0 (fun nX EX tgX nxX nsX stX H locs hTX hxX hz2 hf => ?_) (fun x1 tg2 nx2 ns2 sa2 H locs hext hz2 hf => ?_)
  · exact fda_x hxx hTX hz2 hf
  clear hf0
  have hO := hext.t hI hO
  have hz := hz2
  have hw := hz.1
  have hI := hz.2.1
  clear hz2 hext
  exact fda_r hend hz hf dJ2_grow_2_10

/-- java/util/ArrayList.add -/
def fJ2_add_2 (cN cS : Nat) (o : Nat) (p1 : Nat) (p2 : Nat) (p3 : Int32) (tg0 : Nat → Nat × Nat) (nx0 ns0 : Nat) (st0 : fo_St) : Option ((Unit ⊕ Nat) × fo_A) := ck_ (decide ((tg0 p2).1 = 6)) (jn_ (fun (x2 : Nat) (a3 : fo_A) => aw_ a3 (fun tg3 nx3 ns3 sa3 => ck_ (decide ((tg3 x2).1 = 6)) (ck_ (decide ((tg3 p1).1 = 1 ∧ (tg3 p1).2 < 24)) (ck_ (fo_in p3 ((tg3 x2).2)) (lt_ (sr_ sa3 x2 p3.toNatClampNeg (some p1)) (fun st5 => lt_ (si_ st5 o 2 (p3 + (1 : Int32))) (fun st7 => some (.inl (), (tg3, nx3, ns3, st7))))))))) (fun k4 => if ¬ p3 = (nI ((tg0 p2).2)) then k4 p2 (tg0, nx0, ns0, st0) else ba_ (fJ2_grow_2 cN cS o tg0 nx0 ns0 st0) (fun x8 tg9 nx9 ns9 sa9 => k4 x8 (tg9, nx9, ns9, sa9)) (fun nX tgX nxX nsX stX => some (.inr nX, (tgX, nxX, nsX, stX)))))
theorem hm_J2_add_2 : fo_M yJ2_add_2 3 := ⟨by decide +kernel, by decide +kernel, by decide +kernel, by decide +kernel⟩
set_option maxHeartbeats 1000000 in
theorem wJ2_add_2_18 (l : Launch) (E : fo_E) (K V : Nat → Nat) (mi : Nat) (hSX : fo_SX E K V mi) (o : Nat) (p1 : Nat) (p2 : Nat) (p3 : Int32) (fr lo : Nat) (hfr : 6 ≤ fr) (hlo : 154 ≤ lo) (cN cS : Nat) (tg0 : Nat → Nat × Nat) (nx0 ns0 : Nat) (hO : tg0 o = (1, 18)) (st0 : fo_St) (hI : fo_I E tg0 nx0) (hcN : nx0 ≤ cN) (hcS : ns0 ≤ cS) (ρZ : Unit ⊕ Nat) (aZ : fo_A) (hf : fJ2_add_2 cN cS o p1 p2 p3 tg0 nx0 ns0 st0 = some (ρZ, aZ)) : CA vlV l E yJ2_add_2 (ws_ yJ2_add_2 cJ2_add_2 4 none) fr lo cN cS [.ref (eb E + o), .ref (eb E + p1), .ref (eb E + p2), .int p3] (tg0, nx0, ns0, st0) ρZ aZ := by
  refine fea_v (a := (tg0, nx0, ns0, st0)) hm_J2_add_2 (Nat.le_of_ble_eq_true rfl) hI hcN hcS (fun p e R s m args below meth c Q hRf hRl X hnm hend hxx ls hl hz => ?_)
  replace hRf : 6 ≤ R.frames := by rw [hRf]; exact hfr
  replace hRl : 154 ≤ R.locals := by rw [hRl]; exact hlo
  have hR0 : 5 + 1 ≤ R.frames ∧ 8 + (1 + 11) + (134) ≤ R.locals := ⟨by omega, by omega⟩
  have hx := X.1.1
  have hb := X.1.2.1
  have hl : lv_has ls 4 [(0, .ref (eb E + o)), (1, .ref (eb E + p1)), (2, .ref (eb E + p2)), (3, .int p3)] := hl
  have hz : fo_Z E R s cN cS (tg0, nx0, ns0, st0) tg0 nx0 ns0 st0 s.heap [] := hz
  have hw := hz.1
  show W p l e R s m args below meth c s.heap [] (nx0 - nx0) (ns0 - ns0) Q (F0 m 0 ls [])
  unfold fJ2_add_2 at hf
  generalize s.heap = H at hz hw ⊢
  generalize ([] : List Loc) = locs at hz hw ⊢
  refine lv_iload_n hx hb dJ2_add_2_0 rfl (lv_at hl 3 rfl) ?_
  refine lv_aload_n hx hb dJ2_add_2_1 rfl (lv_at hl 2 rfl) ?_
  have hf0 := ck_e hf
  clear hf
  obtain ⟨hq1, hf⟩ := hf0
  have hq1 := fo_tagA hq1
  refine fo_alen6 (fo_Xw X) hw hq1 dJ2_add_2_2 ?_
  refine jn_e hf (fun k4 ek hf => ?_)
  have hk4 : ∀ (x2 : Nat) (tg3 : Nat → Nat × Nat) (nx3 ns3 : Nat) (sa3 : fo_St) (H : Heap) (locs : List Loc) (ls : Array Slot), tg3 o = (1, 18) → tg3 p2 = (6, (tg0 p2).2) → lv_has ls 4 [(0, .ref (eb E + o)), (1, .ref (eb E + p1)), (2, .ref (eb E + x2)), (3, .int p3)] → fo_Z E R s cN cS (tg0, nx0, ns0, st0) tg3 nx3 ns3 sa3 H locs → k4 x2 (tg3, nx3, ns3, sa3) = some (ρZ, aZ) → W p l e R s m args below meth c H locs (nx3 - nx0) (ns3 - ns0) Q (F0 m 11 ls []) := by
    intro x2 tg3 nx3 ns3 sa3 H locs ls hO hq1 hl hz hf
    rw [ek] at hf
    replace hf := aw_u hf
    have hw := hz.1
    have hI := hz.2.1
    refine lv_aload_n hx hb dJ2_add_2_11 rfl (lv_at hl 2 rfl) ?_
    refine lv_iload_n hx hb dJ2_add_2_12 rfl (lv_at hl 3 rfl) ?_
    refine lv_aload_n hx hb dJ2_add_2_13 rfl (lv_at hl 1 rfl) ?_
    have hf0 := ck_e hf
    clear hf
    obtain ⟨hq6, hf⟩ := hf0
    have hq6 := fo_tagA hq6
    have hf0 := hf
    clear hf
    refine fo_astO (fo_Xw X) hw hq6 dJ2_add_2_14 hf0 (fun st5 H locs hw hf => ?_)
    clear hf0
    have hz := hz.s hw
    refine lv_aload_n hx hb dJ2_add_2_15 rfl (lv_at hl 0 rfl) ?_
    refine lv_iload_n hx hb dJ2_add_2_16 rfl (lv_at hl 3 rfl) ?_
    refine lv_iconst (v := (1 : Int32)) hx hb dJ2_add_2_17 (by decide) ?_
    refine lv_iadd hx hb dJ2_add_2_18 ?_
    have hf0 := hf
    clear hf
    refine fo_puti (fo_Xw X) hw fc_J2 hO (k := 2) (by decide) rfl rfl q203 ⟨rfl, rfl⟩ dJ2_add_2_19 hf0 (fun st7 H locs hw hf => ?_)
    clear hf0
    have hz := hz.s hw
    exact fda_v hend hz hf dJ2_add_2_22
  clear ek
  have hf0 := hf
  clear hf
  refine fb_ine (tgt := 11) hx hb dJ2_add_2_3 (by decide) hf0 (fun hf => ?_) (fun hf => ?_)
  · clear hf0
    exact hk4 _ _ _ _ _ _ _ _ hO hq1 (lv_sub hl [0, 1, 2, 3] rfl) hz hf
  clear hf0
  refine lv_aload_n hx hb dJ2_add_2_6 rfl (lv_at hl 0 rfl) ?_
  have hf0 := hf
  clear hf
  refine fa_V (fr := 5) (lo := 134) (val := (vlR (eb E))) (rest := []) (As := []) X hz hm_J2_grow_2 (lw_V q1111 q1113 qs14 q116 q1114) hR0 fc_J2 rfl hO rfl rfl hl.1 (Nat.le_of_ble_eq_true rfl) dJ2_add_2_7 (fun rQ aQ hQ => wJ2_grow_2_18 l E K V mi hSX o (5) (134) (Nat.le_refl _) (Nat.le_refl _) cN cS tg0 nx0 ns0 hO st0 hI hz.2.2.2.2.2.2.1 hz.2.2.2.2.2.2.2.2 rQ aQ hQ) hf0 (fun nX EX tgX nxX nsX stX H locs hTX hxX hz2 hf => ?_) (fun x8 tg9 nx9 ns9 sa9 H locs hext hz2 hf => ?_)
  · exact fda_x hxx hTX hz2 hf
  clear hf0
  have hO := hext.t hI hO
  have hq1 := hext.t hI hq1
  have hz := hz2
  have hw := hz.1
  have hI := hz.2.1
  clear hz2 hext
  refine lv_astore_n (lv' := [(2, .ref (eb E + x8)), (0, .ref (eb E + o)), (1, .ref (eb E + p1)), (3, .int p3)]) hx hb dJ2_add_2_10 rfl hl (by decide) rfl (fun ls hl => ?_)
  exact hk4 _ _ _ _ _ _ _ _ hO hq1 (lv_sub hl [1, 2, 0, 3] rfl) hz hf

/-- java/util/ArrayList.add -/
def fJ2_add (cN cS : Nat) (o : Nat) (p1 : Nat) (tg0 : Nat → Nat × Nat) (nx0 ns0 : Nat) (st0 : fo_St) : Option ((Int32 ⊕ Nat) × fo_A) := lt_ (si_ st0 o 0 ((gi_ st0 o 0) + (1 : Int32))) (fun st1 => rn_ (gr_ st1 o 1) (fun q2 => ba_ (fJ2_add_2 cN cS o p1 q2 (gi_ st1 o 2) tg0 nx0 ns0 st1) (fun x3 tg4 nx4 ns4 sa4 => some (.inl (1 : Int32), (tg4, nx4, ns4, sa4))) (fun nX tgX nxX nsX stX => some (.inr nX, (tgX, nxX, nsX, stX)))))
theorem hm_J2_add : fo_M yJ2_add 1 := ⟨by decide +kernel, by decide +kernel, by decide +kernel, by decide +kernel⟩
set_option maxHeartbeats 1000000 in
theorem wJ2_add_18 (l : Launch) (E : fo_E) (K V : Nat → Nat) (mi : Nat) (hSX : fo_SX E K V mi) (o : Nat) (p1 : Nat) (fr lo : Nat) (hfr : 7 ≤ fr) (hlo : 177 ≤ lo) (cN cS : Nat) (tg0 : Nat → Nat × Nat) (nx0 ns0 : Nat) (hO : tg0 o = (1, 18)) (st0 : fo_St) (hI : fo_I E tg0 nx0) (hcN : nx0 ≤ cN) (hcS : ns0 ≤ cS) (ρZ : Int32 ⊕ Nat) (aZ : fo_A) (hf : fJ2_add cN cS o p1 tg0 nx0 ns0 st0 = some (ρZ, aZ)) : CA vlI l E yJ2_add (ws_ yJ2_add cJ2_add 2 (some .boolean)) fr lo cN cS [.ref (eb E + o), .ref (eb E + p1)] (tg0, nx0, ns0, st0) ρZ aZ := by
  refine fea_z (a := (tg0, nx0, ns0, st0)) hm_J2_add (Nat.le_of_ble_eq_true rfl) hI hcN hcS (fun p e R s m args below meth c Q hRf hRl X hnm hend hxx ls hl hz => ?_)
  replace hRf : 7 ≤ R.frames := by rw [hRf]; exact hfr
  replace hRl : 177 ≤ R.locals := by rw [hRl]; exact hlo
  have hR0 : 6 + 1 ≤ R.frames ∧ 8 + (4 + 11) + (154) ≤ R.locals := ⟨by omega, by omega⟩
  have hx := X.1.1
  have hb := X.1.2.1
  have hl : lv_has ls 2 [(0, .ref (eb E + o)), (1, .ref (eb E + p1))] := hl
  have hz : fo_Z E R s cN cS (tg0, nx0, ns0, st0) tg0 nx0 ns0 st0 s.heap [] := hz
  have hw := hz.1
  show W p l e R s m args below meth c s.heap [] (nx0 - nx0) (ns0 - ns0) Q (F0 m 0 ls [])
  unfold fJ2_add at hf
  generalize s.heap = H at hz hw ⊢
  generalize ([] : List Loc) = locs at hz hw ⊢
  refine lv_aload_n hx hb dJ2_add_0 rfl (lv_at hl 0 rfl) ?_
  refine lv_dup hx hb dJ2_add_1 rfl ?_
  refine fo_getiS (fo_Xw X) hw fc_J2 hO (k := 0) (by decide) rfl q205 q206 dJ2_add_2 ?_
  refine lv_iconst (v := (1 : Int32)) hx hb dJ2_add_5 (by decide) ?_
  refine lv_iadd hx hb dJ2_add_6 ?_
  have hf0 := hf
  clear hf
  refine fo_putiS (fo_Xw X) hw fc_J2 hO (k := 0) (by decide) rfl rfl q205 q206 ⟨rfl, rfl⟩ dJ2_add_7 hf0 (fun st1 H locs hw hf => ?_)
  clear hf0
  have hz := hz.s hw
  refine lv_aload_n hx hb dJ2_add_10 rfl (lv_at hl 0 rfl) ?_
  refine lv_aload_n hx hb dJ2_add_11 rfl (lv_at hl 1 rfl) ?_
  refine lv_aload_n hx hb dJ2_add_12 rfl (lv_at hl 0 rfl) ?_
  have hf0 := hf
  clear hf
  refine fo_getr (fo_Xw X) hw fc_J2 hO (k := 1) (by decide) rfl q202 dJ2_add_13 hf0 (fun q2 hf => ?_)
  clear hf0
  refine lv_aload_n hx hb dJ2_add_16 rfl (lv_at hl 0 rfl) ?_
  refine fo_geti (fo_Xw X) hw fc_J2 hO (k := 2) (by decide) rfl q203 dJ2_add_17 ?_
  have hf0 := hf
  clear hf
  refine fa_V (fr := 6) (lo := 154) (val := vlV) (rest := []) (As := [.ref (eb E + p1), .ref (eb E + q2), .int (gi_ st1 o 2)]) X hz hm_J2_add_2 (lw_V q1107 q1109 qs13 q116 q1110) hR0 fc_J2 rfl hO rfl rfl hl.1 (Nat.le_of_ble_eq_true rfl) dJ2_add_20 (fun rQ aQ hQ => wJ2_add_2_18 l E K V mi hSX o p1 q2 (gi_ st1 o 2) (6) (154) (Nat.le_refl _) (Nat.le_refl _) cN cS tg0 nx0 ns0 hO st1 hI hz.2.2.2.2.2.2.1 hz.2.2.2.2.2.2.2.2 rQ aQ hQ) hf0 (fun nX EX tgX nxX nsX stX H locs hTX hxX hz2 hf => ?_) (fun x3 tg4 nx4 ns4 sa4 H locs hext hz2 hf => ?_)
  · exact fda_x hxx hTX hz2 hf
  clear hf0
  have hO := hext.t hI hO
  have hz := hz2
  have hw := hz.1
  have hI := hz.2.1
  clear hz2 hext
  refine lv_iconst (v := (1 : Int32)) hx hb dJ2_add_23 (by decide) ?_
  exact fda_z hend rfl hz hf dJ2_add_24

/-- ForestRooms$Reader.need -/
def fX6_need (cN cS : Nat) (G : Nat) (o : Nat) (p1 : Nat) (tg0 : Nat → Nat × Nat) (nx0 ns0 : Nat) (st0 : fo_St) : Option ((Unit ⊕ Nat) × fo_A) := ba_ (fX6_takes cN cS G o p1 tg0 nx0 ns0 st0) (fun x1 tg2 nx2 ns2 sa2 => if ¬ x1 = 0 then some (.inl (), (tg2, nx2, ns2, sa2)) else ck_ (fo_bg nx2 ns2 7 cN cS) (aw_ (tu_ tg2 nx2 (1, 7), nx2 + 1, ns2 + 7, z0_ sa2 nx2) (fun tg3 nx3 ns3 sa3 => ba_ (fX8_init cN cS nx2 (gi_ sa3 o 3) tg3 nx3 ns3 sa3) (fun x5 tg6 nx6 ns6 sa6 => some (.inr nx2, (tg6, nx6, ns6, sa6))) (fun nX tgX nxX nsX stX => some (.inr nX, (tgX, nxX, nsX, stX)))))) (fun nX tgX nxX nsX stX => some (.inr nX, (tgX, nxX, nsX, stX)))
theorem hm_X6_need : fo_M yX6_need 1 := ⟨by decide +kernel, by decide +kernel, by decide +kernel, by decide +kernel⟩
set_option maxHeartbeats 1000000 in
theorem wX6_need_6 (l : Launch) (E : fo_E) (K V : Nat → Nat) (mi : Nat) (hSX : fo_SX E K V mi) (G : Nat) (o : Nat) (p1 : Nat) (fr lo : Nat) (hfr : 12 ≤ fr) (hlo : 244 ≤ lo) (cN cS : Nat) (tg0 : Nat → Nat × Nat) (nx0 ns0 : Nat) (hO : tg0 o = (1, 6)) (hs_p1 : p1 < 50) (st0 : fo_St) (hI : fo_I E tg0 nx0) (hcN : nx0 ≤ cN) (hcS : ns0 ≤ cS) (ρZ : Unit ⊕ Nat) (aZ : fo_A) (hf : fX6_need cN cS G o p1 tg0 nx0 ns0 st0 = some (ρZ, aZ)) : CA vlV l E yX6_need (ws_ yX6_need cX6_need 2 none) fr lo cN cS [.ref (eb E + o), .ref (K p1)] (tg0, nx0, ns0, st0) ρZ aZ := by
  refine fea_v (a := (tg0, nx0, ns0, st0)) hm_X6_need (Nat.le_of_ble_eq_true rfl) hI hcN hcS (fun p e R s m args below meth c Q hRf hRl X hnm hend hxx ls hl hz => ?_)
  replace hRf : 12 ≤ R.frames := by rw [hRf]; exact hfr
  replace hRl : 244 ≤ R.locals := by rw [hRl]; exact hlo
  have hR0 : 11 + 1 ≤ R.frames ∧ 8 + (3 + 11) + (222) ≤ R.locals := ⟨by omega, by omega⟩
  have hR1 : 4 + 1 ≤ R.frames ∧ 8 + (2 + 11) + (114) ≤ R.locals := ⟨by omega, by omega⟩
  have hx := X.1.1
  have hb := X.1.2.1
  have hl : lv_has ls 2 [(0, .ref (eb E + o)), (1, .ref (K p1))] := hl
  have hz : fo_Z E R s cN cS (tg0, nx0, ns0, st0) tg0 nx0 ns0 st0 s.heap [] := hz
  have hw := hz.1
  show W p l e R s m args below meth c s.heap [] (nx0 - nx0) (ns0 - ns0) Q (F0 m 0 ls [])
  unfold fX6_need at hf
  generalize s.heap = H at hz hw ⊢
  generalize ([] : List Loc) = locs at hz hw ⊢
  refine lv_aload_n hx hb dX6_need_0 rfl (lv_at hl 0 rfl) ?_
  refine lv_aload_n hx hb dX6_need_1 rfl (lv_at hl 1 rfl) ?_
  have hf0 := hf
  clear hf
  refine fa_O (n := 1) (fr := 11) (lo := 222) (val := vlI) (rest := []) (As := [.ref (K p1)]) X hz (lw_O q919 q921 q920 q922 q920 q125 q924) q924 ⟨by decide, by decide, by decide +kernel⟩ hR0 fc_X7 hO rfl rfl hl.1 (Nat.le_of_ble_eq_true rfl) dX6_need_2 (fun rQ aQ hQ => wX6_takes_6 l E K V mi hSX G o p1 (11) (222) (Nat.le_refl _) (Nat.le_refl _) cN cS tg0 nx0 ns0 hO hs_p1 st0 hI hz.2.2.2.2.2.2.1 hz.2.2.2.2.2.2.2.2 rQ aQ hQ) hf0 (fun nX EX tgX nxX nsX stX H locs hTX hxX hz2 hf => ?_) (fun x1 tg2 nx2 ns2 sa2 H locs hext hz2 hf => ?_)
  · exact fda_x hxx hTX hz2 hf
  clear hf0
  have hO := hext.t hI hO
  have hz := hz2
  have hw := hz.1
  have hI := hz.2.1
  clear hz2 hext
  have hf0 := hf
  clear hf
  refine fb_zne (tgt := 20) hx hb dX6_need_5 (by decide) hf0 (fun hf => ?_) (fun hf => ?_)
  · clear hf0
    exact fda_v hend hz hf dX6_need_20
  clear hf0
  have hf0 := hf
  clear hf
  refine fa_new X hz fc_X8 fd_X8 q843 q844 q130 dX6_need_8 hf0 (fun tg3 nx3 ns3 sa3 H hext hq4 hz2 hf => ?_)
  clear hf0
  have hO := hext.t hI hO
  have hz := hz2
  have hw := hz.1
  have hI := hz.2.1
  clear hz2 hext
  refine lv_dup hx hb dX6_need_11 rfl ?_
  refine lv_aload_n hx hb dX6_need_12 rfl (lv_at hl 0 rfl) ?_
  refine fo_geti (fo_Xw X) hw fc_X7 hO (k := 3) (by decide) rfl q728 dX6_need_13 ?_
  have hf0 := hf
  clear hf
  refine fa_I (fr := 4) (lo := 114) (val := vlV) (rest := [.ref (eb E + nx2)]) (As := [.int (gi_ sa3 o 3)]) X hz hm_X8_init q854 q130 q852 q853 rfl hR1 rfl rfl hl.1 (Nat.le_of_ble_eq_true rfl) dX6_need_16 (fun rQ aQ hQ => wX8_init_7 l E K V mi hSX nx2 (gi_ sa3 o 3) (4) (114) (Nat.le_refl _) (Nat.le_refl _) cN cS tg3 nx3 ns3 hq4 sa3 hI hz.2.2.2.2.2.2.1 hz.2.2.2.2.2.2.2.2 rQ aQ hQ) hf0 (fun nX EX tgX nxX nsX stX H locs hTX hxX hz2 hf => ?_) (fun x5 tg6 nx6 ns6 sa6 H locs hext hz2 hf => ?_)
  · exact fda_x hxx hTX hz2 hf
  clear hf0
  have hO := hext.t hI hO
  have hq4 := hext.t hI hq4
  have hz := hz2
  have hw := hz.1
  have hI := hz.2.1
  clear hz2 hext
  exact fx_athrow hx hb dX6_need_19 (fda_x hxx ⟨7, _, hq4, fc_X8.1, rfl⟩ hz hf)

/-- ForestRooms$Reader.number -/
def fX6_number (cN cS : Nat) (G : Nat) (o : Nat) (p1 : Int32) (p2 : Int32) (tg0 : Nat → Nat × Nat) (nx0 ns0 : Nat) (st0 : fo_St) : Option ((Int32 ⊕ Nat) × fo_A) := ba_ (fX6_isIn cN cS o (gi_ st0 o 3) (48 : Int32) (57 : Int32) tg0 nx0 ns0 st0) (fun x1 tg2 nx2 ns2 sa2 => if ¬ x1 = 0 then lI_ (gi_ sa2 o 3) (fun x3 => jn_ (fun (x4 : Int32) (a5 : fo_A) => aw_ a5 (fun tg5 nx5 ns5 sa5 => if x4 < p1 then ck_ (fo_bg nx5 ns5 7 cN cS) (aw_ (tu_ tg5 nx5 (1, 7), nx5 + 1, ns5 + 7, z0_ sa5 nx5) (fun tg7 nx7 ns7 sa7 => ba_ (fX8_init cN cS nx5 (gi_ sa7 o 3) tg7 nx7 ns7 sa7) (fun x9 tg10 nx10 ns10 sa10 => some (.inr nx5, (tg10, nx10, ns10, sa10))) (fun nX tgX nxX nsX stX => some (.inr nX, (tgX, nxX, nsX, stX))))) else if x4 ≤ p2 then ba_ (fX6_next cN cS G o tg5 nx5 ns5 sa5) (fun x11 tg12 nx12 ns12 sa12 => some (.inl x4, (tg12, nx12, ns12, sa12))) (fun nX tgX nxX nsX stX => some (.inr nX, (tgX, nxX, nsX, stX))) else ck_ (fo_bg nx5 ns5 7 cN cS) (aw_ (tu_ tg5 nx5 (1, 7), nx5 + 1, ns5 + 7, z0_ sa5 nx5) (fun tg13 nx13 ns13 sa13 => ba_ (fX8_init cN cS nx5 (gi_ sa13 o 3) tg13 nx13 ns13 sa13) (fun x15 tg16 nx16 ns16 sa16 => some (.inr nx5, (tg16, nx16, ns16, sa16))) (fun nX tgX nxX nsX stX => some (.inr nX, (tgX, nxX, nsX, stX))))))) (fun k6 => lp3_ (fun rec20 (x17 : Int32) (x18 : Int32) (a19 : fo_A) => aw_ a19 (fun tg19 nx19 ns19 sa19 => if (gi_ sa19 o 4) ≤ x17 then k6 x18 (tg19, nx19, ns19, sa19) else if p2 < x18 then k6 x18 (tg19, nx19, ns19, sa19) else rn_ (gr_ sa19 o 0) (fun q21 => ck_ (decide (tg19 q21 = (3, 400))) (ck_ (fo_in x17 400) (lI_ ((((10 : Int32) * x18) + (gi_ sa19 q21 x17.toNatClampNeg)) - (48 : Int32)) (fun x23 => rec20 (x17 + (1 : Int32)) x23 (tg19, nx19, ns19, sa19))))))) G x3 (0 : Int32) (tg2, nx2, ns2, sa2))) else ck_ (fo_bg nx2 ns2 7 cN cS) (aw_ (tu_ tg2 nx2 (1, 7), nx2 + 1, ns2 + 7, z0_ sa2 nx2) (fun tg24 nx24 ns24 sa24 => ba_ (fX8_init cN cS nx2 (gi_ sa24 o 3) tg24 nx24 ns24 sa24) (fun x26 tg27 nx27 ns27 sa27 => some (.inr nx2, (tg27, nx27, ns27, sa27))) (fun nX tgX nxX nsX stX => some (.inr nX, (tgX, nxX, nsX, stX)))))) (fun nX tgX nxX nsX stX => some (.inr nX, (tgX, nxX, nsX, stX)))
theorem hm_X6_number : fo_M yX6_number 2 := ⟨by decide +kernel, by decide +kernel, by decide +kernel, by decide +kernel⟩
set_option maxHeartbeats 1000000 in
theorem wX6_number_6 (l : Launch) (E : fo_E) (K V : Nat → Nat) (mi : Nat) (hSX : fo_SX E K V mi) (G : Nat) (o : Nat) (p1 : Int32) (p2 : Int32) (fr lo : Nat) (hfr : 5 ≤ fr) (hlo : 135 ≤ lo) (cN cS : Nat) (tg0 : Nat → Nat × Nat) (nx0 ns0 : Nat) (hO : tg0 o = (1, 6)) (st0 : fo_St) (hI : fo_I E tg0 nx0) (hcN : nx0 ≤ cN) (hcS : ns0 ≤ cS) (ρZ : Int32 ⊕ Nat) (aZ : fo_A) (hf : fX6_number cN cS G o p1 p2 tg0 nx0 ns0 st0 = some (ρZ, aZ)) : CA vlI l E yX6_number (ws_ yX6_number cX6_number 5 (some .int)) fr lo cN cS [.ref (eb E + o), .int p1, .int p2] (tg0, nx0, ns0, st0) ρZ aZ := by
  refine fea_i (a := (tg0, nx0, ns0, st0)) hm_X6_number (Nat.le_of_ble_eq_true rfl) hI hcN hcS (fun p e R s m args below meth c Q hRf hRl X hnm hend hxx ls hl hz => ?_)
  replace hRf : 5 ≤ R.frames := by rw [hRf]; exact hfr
  replace hRl : 135 ≤ R.locals := by rw [hRl]; exact hlo
  have hR0 : 0 + 1 ≤ R.frames ∧ 8 + (4 + 11) + (0) ≤ R.locals := ⟨by omega, by omega⟩
  have hR1 : 4 + 1 ≤ R.frames ∧ 8 + (2 + 11) + (114) ≤ R.locals := ⟨by omega, by omega⟩
  have hR2 : 1 + 1 ≤ R.frames ∧ 8 + (1 + 11) + (23) ≤ R.locals := ⟨by omega, by omega⟩
  have hx := X.1.1
  have hb := X.1.2.1
  have hl : lv_has ls 5 [(0, .ref (eb E + o)), (1, .int p1), (2, .int p2)] := hl
  have hz : fo_Z E R s cN cS (tg0, nx0, ns0, st0) tg0 nx0 ns0 st0 s.heap [] := hz
  have hw := hz.1
  show W p l e R s m args below meth c s.heap [] (nx0 - nx0) (ns0 - ns0) Q (F0 m 0 ls [])
  unfold fX6_number at hf
  generalize s.heap = H at hz hw ⊢
  generalize ([] : List Loc) = locs at hz hw ⊢
  refine lv_aload_n hx hb dX6_number_0 rfl (lv_at hl 0 rfl) ?_
  refine lv_aload_n hx hb dX6_number_1 rfl (lv_at hl 0 rfl) ?_
  refine fo_geti (fo_Xw X) hw fc_X7 hO (k := 3) (by decide) rfl q728 dX6_number_2 ?_
  refine lv_bipush (v := (48 : Int32)) hx hb dX6_number_5 (by decide) ?_
  refine lv_bipush (v := (57 : Int32)) hx hb dX6_number_7 (by decide) ?_
  have hf0 := hf
  clear hf
  refine fa_O (n := 3) (fr := 0) (lo := 0) (val := vlI) (rest := []) (As := [.int (gi_ st0 o 3), .int (48 : Int32), .int (57 : Int32)]) X hz (lw_O q768 q770 q769 q771 q769 q125 q773) q773 ⟨by decide, by decide, by decide +kernel⟩ hR0 fc_X7 hO rfl rfl hl.1 (Nat.le_of_ble_eq_true rfl) dX6_number_9 (fun rQ aQ hQ => wX6_isIn_6 l E o (gi_ st0 o 3) (48 : Int32) (57 : Int32) (0) (0) (Nat.le_refl _) (Nat.le_refl _) cN cS tg0 nx0 ns0 hO st0 hI hz.2.2.2.2.2.2.1 hz.2.2.2.2.2.2.2.2 rQ aQ hQ) hf0 (fun nX EX tgX nxX nsX stX H locs hTX hxX hz2 hf => ?_) (fun x1 tg2 nx2 ns2 sa2 H locs hext hz2 hf => ?_)
  · exact fda_x hxx hTX hz2 hf
  clear hf0
  have hO := hext.t hI hO
  have hz := hz2
  have hw := hz.1
  have hI := hz.2.1
  clear hz2 hext
  have hf0 := hf
  clear hf
  refine fb_zne (tgt := 27) hx hb dX6_number_12 (by decide) hf0 (fun hf => ?_) (fun hf => ?_)
  · clear hf0
    refine lv_iconst (v := (0 : Int32)) hx hb dX6_number_27 (by decide) ?_
    refine lv_istore_n (lv' := [(3, .int (0 : Int32)), (0, .ref (eb E + o)), (1, .int p1), (2, .int p2)]) hx hb dX6_number_28 rfl hl (by decide) rfl (fun ls hl => ?_)
    refine lv_aload_n hx hb dX6_number_29 rfl (lv_at hl 1 rfl) ?_
    refine fo_geti (fo_Xw X) hw fc_X7 hO (k := 3) (by decide) rfl q728 dX6_number_30 ?_
    have hf0 := hf
    clear hf
    refine fo_tI hf0 (fun x3 hf => ?_)
    clear hf0
    refine lv_istore (lv' := [(4, .int x3), (3, .int (0 : Int32)), (0, .ref (eb E + o)), (1, .int p1), (2, .int p2)]) hx hb dX6_number_33 hl (by decide) rfl (fun ls hl => ?_)
    refine jn_e hf (fun k6 ek hf => ?_)
    have hk6 : ∀ (x4 : Int32) (tg5 : Nat → Nat × Nat) (nx5 ns5 : Nat) (sa5 : fo_St) (H : Heap) (locs : List Loc) (ls : Array Slot), tg5 o = (1, 6) → lv_has ls 5 [(3, .int x4), (0, .ref (eb E + o)), (1, .int p1), (2, .int p2)] → fo_Z E R s cN cS (tg0, nx0, ns0, st0) tg5 nx5 ns5 sa5 H locs → k6 x4 (tg5, nx5, ns5, sa5) = some (ρZ, aZ) → W p l e R s m args below meth c H locs (nx5 - nx0) (ns5 - ns0) Q (F0 m 71 ls []) := by
      intro x4 tg5 nx5 ns5 sa5 H locs ls hO hl hz hf
      rw [ek] at hf
      replace hf := aw_u hf
      have hw := hz.1
      have hI := hz.2.1
      refine lv_iload_n hx hb dX6_number_71 rfl (lv_at hl 0 rfl) ?_
      refine lv_iload_n hx hb dX6_number_72 rfl (lv_at hl 2 rfl) ?_
      have hf0 := hf
      clear hf
      refine fb_ilt (tgt := 81) hx hb dX6_number_73 (by decide) hf0 (fun hf => ?_) (fun hf => ?_)
      · clear hf0
        have hf0 := hf
        clear hf
        refine fa_new X hz fc_X8 fd_X8 q843 q844 q130 dX6_number_81 hf0 (fun tg7 nx7 ns7 sa7 H hext hq8 hz2 hf => ?_)
        clear hf0
        have hO := hext.t hI hO
        have hz := hz2
        have hw := hz.1
        have hI := hz.2.1
        clear hz2 hext
        refine lv_dup hx hb dX6_number_84 rfl ?_
        refine lv_aload_n hx hb dX6_number_85 rfl (lv_at hl 1 rfl) ?_
        refine fo_geti (fo_Xw X) hw fc_X7 hO (k := 3) (by decide) rfl q728 dX6_number_86 ?_
        have hf0 := hf
        clear hf
        refine fa_I (fr := 4) (lo := 114) (val := vlV) (rest := [.ref (eb E + nx5)]) (As := [.int (gi_ sa7 o 3)]) X hz hm_X8_init q854 q130 q852 q853 rfl hR1 rfl rfl hl.1 (Nat.le_of_ble_eq_true rfl) dX6_number_89 (fun rQ aQ hQ => wX8_init_7 l E K V mi hSX nx5 (gi_ sa7 o 3) (4) (114) (Nat.le_refl _) (Nat.le_refl _) cN cS tg7 nx7 ns7 hq8 sa7 hI hz.2.2.2.2.2.2.1 hz.2.2.2.2.2.2.2.2 rQ aQ hQ) hf0 (fun nX EX tgX nxX nsX stX H locs hTX hxX hz2 hf => ?_) (fun x9 tg10 nx10 ns10 sa10 H locs hext hz2 hf => ?_)
        · exact fda_x hxx hTX hz2 hf
        clear hf0
        have hO := hext.t hI hO
        have hq8 := hext.t hI hq8
        have hz := hz2
        have hw := hz.1
        have hI := hz.2.1
        clear hz2 hext
        exact fx_athrow hx hb dX6_number_92 (fda_x hxx ⟨7, _, hq8, fc_X8.1, rfl⟩ hz hf)
      clear hf0
      refine lv_iload_n hx hb dX6_number_76 rfl (lv_at hl 0 rfl) ?_
      refine lv_iload_n hx hb dX6_number_77 rfl (lv_at hl 3 rfl) ?_
      have hf0 := hf
      clear hf
      refine fb_ile (tgt := 93) hx hb dX6_number_78 (by decide) hf0 (fun hf => ?_) (fun hf => ?_)
      · clear hf0
        refine lv_aload_n hx hb dX6_number_93 rfl (lv_at hl 1 rfl) ?_
        have hf0 := hf
        clear hf
        refine fa_O (n := 0) (fr := 1) (lo := 23) (val := vlV) (rest := []) (As := []) X hz (lw_O q762 q764 q763 q765 q763 q125 q767) q767 ⟨by decide, by decide, by decide +kernel⟩ hR2 fc_X7 hO rfl rfl hl.1 (Nat.le_of_ble_eq_true rfl) dX6_number_94 (fun rQ aQ hQ => wX6_next_6 l E G o (1) (23) (Nat.le_refl _) (Nat.le_refl _) cN cS tg5 nx5 ns5 hO sa5 hI hz.2.2.2.2.2.2.1 hz.2.2.2.2.2.2.2.2 rQ aQ hQ) hf0 (fun nX EX tgX nxX nsX stX H locs hTX hxX hz2 hf => ?_) (fun x11 tg12 nx12 ns12 sa12 H locs hext hz2 hf => ?_)
        · exact fda_x hxx hTX hz2 hf
        clear hf0
        have hO := hext.t hI hO
        have hz := hz2
        have hw := hz.1
        have hI := hz.2.1
        clear hz2 hext
        refine lv_iload_n hx hb dX6_number_97 rfl (lv_at hl 0 rfl) ?_
        exact fda_i hend hz hf dX6_number_98
      clear hf0
      have hf0 := hf
      clear hf
      refine fa_new X hz fc_X8 fd_X8 q843 q844 q130 dX6_number_81 hf0 (fun tg13 nx13 ns13 sa13 H hext hq14 hz2 hf => ?_)
      clear hf0
      have hO := hext.t hI hO
      have hz := hz2
      have hw := hz.1
      have hI := hz.2.1
      clear hz2 hext
      refine lv_dup hx hb dX6_number_84 rfl ?_
      refine lv_aload_n hx hb dX6_number_85 rfl (lv_at hl 1 rfl) ?_
      refine fo_geti (fo_Xw X) hw fc_X7 hO (k := 3) (by decide) rfl q728 dX6_number_86 ?_
      have hf0 := hf
      clear hf
      refine fa_I (fr := 4) (lo := 114) (val := vlV) (rest := [.ref (eb E + nx5)]) (As := [.int (gi_ sa13 o 3)]) X hz hm_X8_init q854 q130 q852 q853 rfl hR1 rfl rfl hl.1 (Nat.le_of_ble_eq_true rfl) dX6_number_89 (fun rQ aQ hQ => wX8_init_7 l E K V mi hSX nx5 (gi_ sa13 o 3) (4) (114) (Nat.le_refl _) (Nat.le_refl _) cN cS tg13 nx13 ns13 hq14 sa13 hI hz.2.2.2.2.2.2.1 hz.2.2.2.2.2.2.2.2 rQ aQ hQ) hf0 (fun nX EX tgX nxX nsX stX H locs hTX hxX hz2 hf => ?_) (fun x15 tg16 nx16 ns16 sa16 H locs hext hz2 hf => ?_)
      · exact fda_x hxx hTX hz2 hf
      clear hf0
      have hO := hext.t hI hO
      have hq14 := hext.t hI hq14
      have hz := hz2
      have hw := hz.1
      have hI := hz.2.1
      clear hz2 hext
      exact fx_athrow hx hb dX6_number_92 (fda_x hxx ⟨7, _, hq14, fc_X8.1, rfl⟩ hz hf)
    clear ek
    refine lp3_e (P := fun x17 x18 a19 => ∀ (H : Heap) (locs : List Loc) (ls : Array Slot), a19.1 o = (1, 6) → lv_has ls 5 [(4, .int x17), (3, .int x18), (0, .ref (eb E + o)), (1, .int p1), (2, .int p2)] → fo_Z E R s cN cS (tg0, nx0, ns0, st0) a19.1 a19.2.1 a19.2.2.1 a19.2.2.2 H locs → W p l e R s m args below meth c H locs (a19.2.1 - nx0) (a19.2.2.1 - ns0) Q (F0 m 35 ls [])) (fun rec20 hrec20 x17 x18 a19 hf => ?_) G _ _ _ hf H locs ls hO (lv_sub hl [0, 1, 2, 3, 4] rfl) hz
    obtain ⟨tg19, nx19, ns19, sa19⟩ := a19
    intro H locs ls hO hl hz
    have hO : tg19 o = (1, 6) := hO
    have hz : fo_Z E R s cN cS (tg0, nx0, ns0, st0) tg19 nx19 ns19 sa19 H locs := hz
    show W p l e R s m args below meth c H locs (nx19 - nx0) (ns19 - ns0) Q (F0 m 35 ls [])
    replace hf := aw_u hf
    have hw := hz.1
    have hI := hz.2.1
    refine lv_iload hx hb dX6_number_35 (lv_at hl 0 rfl) ?_
    refine lv_aload_n hx hb dX6_number_37 rfl (lv_at hl 2 rfl) ?_
    refine fo_geti (fo_Xw X) hw fc_X7 hO (k := 4) (by decide) rfl q729 dX6_number_38 ?_
    have hf0 := hf
    clear hf
    refine fb_ige (tgt := 71) hx hb dX6_number_41 (by decide) hf0 (fun hf => ?_) (fun hf => ?_)
    · clear hf0
      exact hk6 _ _ _ _ _ _ _ _ hO (lv_sub hl [1, 2, 3, 4] rfl) hz hf
    clear hf0
    refine lv_iload_n hx hb dX6_number_44 rfl (lv_at hl 1 rfl) ?_
    refine lv_iload_n hx hb dX6_number_45 rfl (lv_at hl 4 rfl) ?_
    have hf0 := hf
    clear hf
    refine fb_igt (tgt := 71) hx hb dX6_number_46 (by decide) hf0 (fun hf => ?_) (fun hf => ?_)
    · clear hf0
      exact hk6 _ _ _ _ _ _ _ _ hO (lv_sub hl [1, 2, 3, 4] rfl) hz hf
    clear hf0
    refine lv_bipush (v := (10 : Int32)) hx hb dX6_number_49 (by decide) ?_
    refine lv_iload_n hx hb dX6_number_51 rfl (lv_at hl 1 rfl) ?_
    refine lv_imul hx hb dX6_number_52 ?_
    refine lv_aload_n hx hb dX6_number_53 rfl (lv_at hl 2 rfl) ?_
    have hf0 := hf
    clear hf
    refine fo_getr (fo_Xw X) hw fc_X7 hO (k := 0) (by decide) rfl q725 dX6_number_54 hf0 (fun q21 hf => ?_)
    clear hf0
    refine lv_iload hx hb dX6_number_57 (lv_at hl 0 rfl) ?_
    have hf0 := ck_e hf
    clear hf
    obtain ⟨hq22, hf⟩ := hf0
    have hq22 := of_decide_eq_true hq22
    have hf0 := hf
    clear hf
    refine fo_bald (fo_Xw X) hw hq22 dX6_number_59 hf0 (fun hf => ?_)
    clear hf0
    refine lv_iadd hx hb dX6_number_60 ?_
    refine lv_bipush (v := (48 : Int32)) hx hb dX6_number_61 (by decide) ?_
    refine lv_isub hx hb dX6_number_63 ?_
    have hf0 := hf
    clear hf
    refine fo_tI hf0 (fun x23 hf => ?_)
    clear hf0
    refine lv_istore_n (lv' := [(3, .int x23), (4, .int x17), (0, .ref (eb E + o)), (1, .int p1), (2, .int p2)]) hx hb dX6_number_64 rfl hl (by decide) rfl (fun ls hl => ?_)
    refine fb_iinc (v := (1 : Int32)) (lv' := [(4, .int (x17 + (1 : Int32))), (3, .int x23), (0, .ref (eb E + o)), (1, .int p1), (2, .int p2)]) hx hb dX6_number_65 hl (k := 1) rfl (by decide) (by decide) rfl (fun ls hl => ?_)
    refine lv_goto (tgt := 35) hx hb dX6_number_68 (by decide) ?_
    exact hrec20 _ _ _ hf _ _ _ hO (lv_sub hl [0, 1, 2, 3, 4] rfl) hz
  clear hf0
  have hf0 := hf
  clear hf
  refine fa_new X hz fc_X8 fd_X8 q843 q844 q130 dX6_number_15 hf0 (fun tg24 nx24 ns24 sa24 H hext hq25 hz2 hf => ?_)
  clear hf0
  have hO := hext.t hI hO
  have hz := hz2
  have hw := hz.1
  have hI := hz.2.1
  clear hz2 hext
  refine lv_dup hx hb dX6_number_18 rfl ?_
  refine lv_aload_n hx hb dX6_number_19 rfl (lv_at hl 0 rfl) ?_
  refine fo_geti (fo_Xw X) hw fc_X7 hO (k := 3) (by decide) rfl q728 dX6_number_20 ?_
  have hf0 := hf
  clear hf
  refine fa_I (fr := 4) (lo := 114) (val := vlV) (rest := [.ref (eb E + nx2)]) (As := [.int (gi_ sa24 o 3)]) X hz hm_X8_init q854 q130 q852 q853 rfl hR1 rfl rfl hl.1 (Nat.le_of_ble_eq_true rfl) dX6_number_23 (fun rQ aQ hQ => wX8_init_7 l E K V mi hSX nx2 (gi_ sa24 o 3) (4) (114) (Nat.le_refl _) (Nat.le_refl _) cN cS tg24 nx24 ns24 hq25 sa24 hI hz.2.2.2.2.2.2.1 hz.2.2.2.2.2.2.2.2 rQ aQ hQ) hf0 (fun nX EX tgX nxX nsX stX H locs hTX hxX hz2 hf => ?_) (fun x26 tg27 nx27 ns27 sa27 H locs hext hz2 hf => ?_)
  · exact fda_x hxx hTX hz2 hf
  clear hf0
  have hO := hext.t hI hO
  have hq25 := hext.t hI hq25
  have hz := hz2
  have hw := hz.1
  have hI := hz.2.1
  clear hz2 hext
  exact fx_athrow hx hb dX6_number_26 (fda_x hxx ⟨7, _, hq25, fc_X8.1, rfl⟩ hz hf)

/-- ForestRooms$Reader.begins -/
def fX6_begins (cN cS : Nat) (o : Nat) (p1 : Int32) (tg0 : Nat → Nat × Nat) (nx0 ns0 : Nat) (st0 : fo_St) : Option ((Unit ⊕ Nat) × fo_A) := if (gi_ st0 o 2) = (12 : Int32) then ck_ (fo_bg nx0 ns0 7 cN cS) (aw_ (tu_ tg0 nx0 (1, 7), nx0 + 1, ns0 + 7, z0_ st0 nx0) (fun tg1 nx1 ns1 sa1 => ba_ (fX8_init cN cS nx0 (gi_ sa1 o 3) tg1 nx1 ns1 sa1) (fun x3 tg4 nx4 ns4 sa4 => some (.inr nx0, (tg4, nx4, ns4, sa4))) (fun nX tgX nxX nsX stX => some (.inr nX, (tgX, nxX, nsX, stX))))) else if ¬ p1 = 0 then lt_ (si_ st0 o 2 ((gi_ st0 o 2) + (1 : Int32))) (fun st5 => some (.inl (), (tg0, nx0, ns0, st5))) else ck_ (fo_bg nx0 ns0 7 cN cS) (aw_ (tu_ tg0 nx0 (1, 7), nx0 + 1, ns0 + 7, z0_ st0 nx0) (fun tg6 nx6 ns6 sa6 => ba_ (fX8_init cN cS nx0 (gi_ sa6 o 3) tg6 nx6 ns6 sa6) (fun x8 tg9 nx9 ns9 sa9 => some (.inr nx0, (tg9, nx9, ns9, sa9))) (fun nX tgX nxX nsX stX => some (.inr nX, (tgX, nxX, nsX, stX)))))
theorem hm_X6_begins : fo_M yX6_begins 1 := ⟨by decide +kernel, by decide +kernel, by decide +kernel, by decide +kernel⟩
set_option maxHeartbeats 1000000 in
theorem wX6_begins_6 (l : Launch) (E : fo_E) (K V : Nat → Nat) (mi : Nat) (hSX : fo_SX E K V mi) (o : Nat) (p1 : Int32) (fr lo : Nat) (hfr : 5 ≤ fr) (hlo : 135 ≤ lo) (cN cS : Nat) (tg0 : Nat → Nat × Nat) (nx0 ns0 : Nat) (hO : tg0 o = (1, 6)) (st0 : fo_St) (hI : fo_I E tg0 nx0) (hcN : nx0 ≤ cN) (hcS : ns0 ≤ cS) (ρZ : Unit ⊕ Nat) (aZ : fo_A) (hf : fX6_begins cN cS o p1 tg0 nx0 ns0 st0 = some (ρZ, aZ)) : CA vlV l E yX6_begins (ws_ yX6_begins cX6_begins 2 none) fr lo cN cS [.ref (eb E + o), .int p1] (tg0, nx0, ns0, st0) ρZ aZ := by
  refine fea_v (a := (tg0, nx0, ns0, st0)) hm_X6_begins (Nat.le_of_ble_eq_true rfl) hI hcN hcS (fun p e R s m args below meth c Q hRf hRl X hnm hend hxx ls hl hz => ?_)
  replace hRf : 5 ≤ R.frames := by rw [hRf]; exact hfr
  replace hRl : 135 ≤ R.locals := by rw [hRl]; exact hlo
  have hR0 : 4 + 1 ≤ R.frames ∧ 8 + (2 + 11) + (114) ≤ R.locals := ⟨by omega, by omega⟩
  have hx := X.1.1
  have hb := X.1.2.1
  have hl : lv_has ls 2 [(0, .ref (eb E + o)), (1, .int p1)] := hl
  have hz : fo_Z E R s cN cS (tg0, nx0, ns0, st0) tg0 nx0 ns0 st0 s.heap [] := hz
  have hw := hz.1
  show W p l e R s m args below meth c s.heap [] (nx0 - nx0) (ns0 - ns0) Q (F0 m 0 ls [])
  unfold fX6_begins at hf
  generalize s.heap = H at hz hw ⊢
  generalize ([] : List Loc) = locs at hz hw ⊢
  refine lv_aload_n hx hb dX6_begins_0 rfl (lv_at hl 0 rfl) ?_
  refine fo_geti (fo_Xw X) hw fc_X7 hO (k := 2) (by decide) rfl q727 dX6_begins_1 ?_
  refine lv_bipush (v := (12 : Int32)) hx hb dX6_begins_4 (by decide) ?_
  have hf0 := hf
  clear hf
  refine fb_ieq (tgt := 13) hx hb dX6_begins_6 (by decide) hf0 (fun hf => ?_) (fun hf => ?_)
  · clear hf0
    have hf0 := hf
    clear hf
    refine fa_new X hz fc_X8 fd_X8 q843 q844 q130 dX6_begins_13 hf0 (fun tg1 nx1 ns1 sa1 H hext hq2 hz2 hf => ?_)
    clear hf0
    have hO := hext.t hI hO
    have hz := hz2
    have hw := hz.1
    have hI := hz.2.1
    clear hz2 hext
    refine lv_dup hx hb dX6_begins_16 rfl ?_
    refine lv_aload_n hx hb dX6_begins_17 rfl (lv_at hl 0 rfl) ?_
    refine fo_geti (fo_Xw X) hw fc_X7 hO (k := 3) (by decide) rfl q728 dX6_begins_18 ?_
    have hf0 := hf
    clear hf
    refine fa_I (fr := 4) (lo := 114) (val := vlV) (rest := [.ref (eb E + nx0)]) (As := [.int (gi_ sa1 o 3)]) X hz hm_X8_init q854 q130 q852 q853 rfl hR0 rfl rfl hl.1 (Nat.le_of_ble_eq_true rfl) dX6_begins_21 (fun rQ aQ hQ => wX8_init_7 l E K V mi hSX nx0 (gi_ sa1 o 3) (4) (114) (Nat.le_refl _) (Nat.le_refl _) cN cS tg1 nx1 ns1 hq2 sa1 hI hz.2.2.2.2.2.2.1 hz.2.2.2.2.2.2.2.2 rQ aQ hQ) hf0 (fun nX EX tgX nxX nsX stX H locs hTX hxX hz2 hf => ?_) (fun x3 tg4 nx4 ns4 sa4 H locs hext hz2 hf => ?_)
    · exact fda_x hxx hTX hz2 hf
    clear hf0
    have hO := hext.t hI hO
    have hq2 := hext.t hI hq2
    have hz := hz2
    have hw := hz.1
    have hI := hz.2.1
    clear hz2 hext
    exact fx_athrow hx hb dX6_begins_24 (fda_x hxx ⟨7, _, hq2, fc_X8.1, rfl⟩ hz hf)
  clear hf0
  refine lv_iload_n hx hb dX6_begins_9 rfl (lv_at hl 1 rfl) ?_
  have hf0 := hf
  clear hf
  refine fb_zne (tgt := 25) hx hb dX6_begins_10 (by decide) hf0 (fun hf => ?_) (fun hf => ?_)
  · clear hf0
    refine lv_aload_n hx hb dX6_begins_25 rfl (lv_at hl 0 rfl) ?_
    refine lv_dup hx hb dX6_begins_26 rfl ?_
    refine fo_geti (fo_Xw X) hw fc_X7 hO (k := 2) (by decide) rfl q727 dX6_begins_27 ?_
    refine lv_iconst (v := (1 : Int32)) hx hb dX6_begins_30 (by decide) ?_
    refine lv_iadd hx hb dX6_begins_31 ?_
    have hf0 := hf
    clear hf
    refine fo_puti (fo_Xw X) hw fc_X7 hO (k := 2) (by decide) rfl rfl q727 ⟨rfl, rfl⟩ dX6_begins_32 hf0 (fun st5 H locs hw hf => ?_)
    clear hf0
    have hz := hz.s hw
    exact fda_v hend hz hf dX6_begins_35
  clear hf0
  have hf0 := hf
  clear hf
  refine fa_new X hz fc_X8 fd_X8 q843 q844 q130 dX6_begins_13 hf0 (fun tg6 nx6 ns6 sa6 H hext hq7 hz2 hf => ?_)
  clear hf0
  have hO := hext.t hI hO
  have hz := hz2
  have hw := hz.1
  have hI := hz.2.1
  clear hz2 hext
  refine lv_dup hx hb dX6_begins_16 rfl ?_
  refine lv_aload_n hx hb dX6_begins_17 rfl (lv_at hl 0 rfl) ?_
  refine fo_geti (fo_Xw X) hw fc_X7 hO (k := 3) (by decide) rfl q728 dX6_begins_18 ?_
  have hf0 := hf
  clear hf
  refine fa_I (fr := 4) (lo := 114) (val := vlV) (rest := [.ref (eb E + nx0)]) (As := [.int (gi_ sa6 o 3)]) X hz hm_X8_init q854 q130 q852 q853 rfl hR0 rfl rfl hl.1 (Nat.le_of_ble_eq_true rfl) dX6_begins_21 (fun rQ aQ hQ => wX8_init_7 l E K V mi hSX nx0 (gi_ sa6 o 3) (4) (114) (Nat.le_refl _) (Nat.le_refl _) cN cS tg6 nx6 ns6 hq7 sa6 hI hz.2.2.2.2.2.2.1 hz.2.2.2.2.2.2.2.2 rQ aQ hQ) hf0 (fun nX EX tgX nxX nsX stX H locs hTX hxX hz2 hf => ?_) (fun x8 tg9 nx9 ns9 sa9 H locs hext hz2 hf => ?_)
  · exact fda_x hxx hTX hz2 hf
  clear hf0
  have hO := hext.t hI hO
  have hq7 := hext.t hI hq7
  have hz := hz2
  have hw := hz.1
  have hI := hz.2.1
  clear hz2 hext
  exact fx_athrow hx hb dX6_begins_24 (fda_x hxx ⟨7, _, hq7, fc_X8.1, rfl⟩ hz hf)

/-- ForestRooms$Reader.opens -/
def fX6_opens (cN cS : Nat) (G : Nat) (o : Nat) (tg0 : Nat → Nat × Nat) (nx0 ns0 : Nat) (st0 : fo_St) : Option ((Unit ⊕ Nat) × fo_A) := if ¬ (gi_ st0 o 6) = (8 : Int32) then lt_ (si_ st0 o 6 ((gi_ st0 o 6) + (1 : Int32))) (fun st1 => ba_ (fX6_next cN cS G o tg0 nx0 ns0 st1) (fun x2 tg3 nx3 ns3 sa3 => some (.inl (), (tg3, nx3, ns3, sa3))) (fun nX tgX nxX nsX stX => some (.inr nX, (tgX, nxX, nsX, stX)))) else ck_ (fo_bg nx0 ns0 7 cN cS) (aw_ (tu_ tg0 nx0 (1, 7), nx0 + 1, ns0 + 7, z0_ st0 nx0) (fun tg4 nx4 ns4 sa4 => ba_ (fX8_init cN cS nx0 (gi_ sa4 o 3) tg4 nx4 ns4 sa4) (fun x6 tg7 nx7 ns7 sa7 => some (.inr nx0, (tg7, nx7, ns7, sa7))) (fun nX tgX nxX nsX stX => some (.inr nX, (tgX, nxX, nsX, stX)))))
theorem hm_X6_opens : fo_M yX6_opens 0 := ⟨by decide +kernel, by decide +kernel, by decide +kernel, by decide +kernel⟩
set_option maxHeartbeats 1000000 in
theorem wX6_opens_6 (l : Launch) (E : fo_E) (K V : Nat → Nat) (mi : Nat) (hSX : fo_SX E K V mi) (G : Nat) (o : Nat) (fr lo : Nat) (hfr : 5 ≤ fr) (hlo : 135 ≤ lo) (cN cS : Nat) (tg0 : Nat → Nat × Nat) (nx0 ns0 : Nat) (hO : tg0 o = (1, 6)) (st0 : fo_St) (hI : fo_I E tg0 nx0) (hcN : nx0 ≤ cN) (hcS : ns0 ≤ cS) (ρZ : Unit ⊕ Nat) (aZ : fo_A) (hf : fX6_opens cN cS G o tg0 nx0 ns0 st0 = some (ρZ, aZ)) : CA vlV l E yX6_opens (ws_ yX6_opens cX6_opens 1 none) fr lo cN cS [.ref (eb E + o)] (tg0, nx0, ns0, st0) ρZ aZ := by
  refine fea_v (a := (tg0, nx0, ns0, st0)) hm_X6_opens (Nat.le_of_ble_eq_true rfl) hI hcN hcS (fun p e R s m args below meth c Q hRf hRl X hnm hend hxx ls hl hz => ?_)
  replace hRf : 5 ≤ R.frames := by rw [hRf]; exact hfr
  replace hRl : 135 ≤ R.locals := by rw [hRl]; exact hlo
  have hR0 : 1 + 1 ≤ R.frames ∧ 8 + (1 + 11) + (23) ≤ R.locals := ⟨by omega, by omega⟩
  have hR1 : 4 + 1 ≤ R.frames ∧ 8 + (2 + 11) + (114) ≤ R.locals := ⟨by omega, by omega⟩
  have hx := X.1.1
  have hb := X.1.2.1
  have hl : lv_has ls 1 [(0, .ref (eb E + o))] := hl
  have hz : fo_Z E R s cN cS (tg0, nx0, ns0, st0) tg0 nx0 ns0 st0 s.heap [] := hz
  have hw := hz.1
  show W p l e R s m args below meth c s.heap [] (nx0 - nx0) (ns0 - ns0) Q (F0 m 0 ls [])
  unfold fX6_opens at hf
  generalize s.heap = H at hz hw ⊢
  generalize ([] : List Loc) = locs at hz hw ⊢
  refine lv_aload_n hx hb dX6_opens_0 rfl (lv_at hl 0 rfl) ?_
  refine fo_geti (fo_Xw X) hw fc_X7 hO (k := 6) (by decide) rfl q731 dX6_opens_1 ?_
  refine lv_bipush (v := (8 : Int32)) hx hb dX6_opens_4 (by decide) ?_
  have hf0 := hf
  clear hf
  refine fb_ine (tgt := 21) hx hb dX6_opens_6 (by decide) hf0 (fun hf => ?_) (fun hf => ?_)
  · clear hf0
    refine lv_aload_n hx hb dX6_opens_21 rfl (lv_at hl 0 rfl) ?_
    refine lv_dup hx hb dX6_opens_22 rfl ?_
    refine fo_geti (fo_Xw X) hw fc_X7 hO (k := 6) (by decide) rfl q731 dX6_opens_23 ?_
    refine lv_iconst (v := (1 : Int32)) hx hb dX6_opens_26 (by decide) ?_
    refine lv_iadd hx hb dX6_opens_27 ?_
    have hf0 := hf
    clear hf
    refine fo_puti (fo_Xw X) hw fc_X7 hO (k := 6) (by decide) rfl rfl q731 ⟨rfl, rfl⟩ dX6_opens_28 hf0 (fun st1 H locs hw hf => ?_)
    clear hf0
    have hz := hz.s hw
    refine lv_aload_n hx hb dX6_opens_31 rfl (lv_at hl 0 rfl) ?_
    have hf0 := hf
    clear hf
    refine fa_O (n := 0) (fr := 1) (lo := 23) (val := vlV) (rest := []) (As := []) X hz (lw_O q762 q764 q763 q765 q763 q125 q767) q767 ⟨by decide, by decide, by decide +kernel⟩ hR0 fc_X7 hO rfl rfl hl.1 (Nat.le_of_ble_eq_true rfl) dX6_opens_32 (fun rQ aQ hQ => wX6_next_6 l E G o (1) (23) (Nat.le_refl _) (Nat.le_refl _) cN cS tg0 nx0 ns0 hO st1 hI hz.2.2.2.2.2.2.1 hz.2.2.2.2.2.2.2.2 rQ aQ hQ) hf0 (fun nX EX tgX nxX nsX stX H locs hTX hxX hz2 hf => ?_) (fun x2 tg3 nx3 ns3 sa3 H locs hext hz2 hf => ?_)
    · exact fda_x hxx hTX hz2 hf
    clear hf0
    have hO := hext.t hI hO
    have hz := hz2
    have hw := hz.1
    have hI := hz.2.1
    clear hz2 hext
    exact fda_v hend hz hf dX6_opens_35
  clear hf0
  have hf0 := hf
  clear hf
  refine fa_new X hz fc_X8 fd_X8 q843 q844 q130 dX6_opens_9 hf0 (fun tg4 nx4 ns4 sa4 H hext hq5 hz2 hf => ?_)
  clear hf0
  have hO := hext.t hI hO
  have hz := hz2
  have hw := hz.1
  have hI := hz.2.1
  clear hz2 hext
  refine lv_dup hx hb dX6_opens_12 rfl ?_
  refine lv_aload_n hx hb dX6_opens_13 rfl (lv_at hl 0 rfl) ?_
  refine fo_geti (fo_Xw X) hw fc_X7 hO (k := 3) (by decide) rfl q728 dX6_opens_14 ?_
  have hf0 := hf
  clear hf
  refine fa_I (fr := 4) (lo := 114) (val := vlV) (rest := [.ref (eb E + nx0)]) (As := [.int (gi_ sa4 o 3)]) X hz hm_X8_init q854 q130 q852 q853 rfl hR1 rfl rfl hl.1 (Nat.le_of_ble_eq_true rfl) dX6_opens_17 (fun rQ aQ hQ => wX8_init_7 l E K V mi hSX nx0 (gi_ sa4 o 3) (4) (114) (Nat.le_refl _) (Nat.le_refl _) cN cS tg4 nx4 ns4 hq5 sa4 hI hz.2.2.2.2.2.2.1 hz.2.2.2.2.2.2.2.2 rQ aQ hQ) hf0 (fun nX EX tgX nxX nsX stX H locs hTX hxX hz2 hf => ?_) (fun x6 tg7 nx7 ns7 sa7 H locs hext hz2 hf => ?_)
  · exact fda_x hxx hTX hz2 hf
  clear hf0
  have hO := hext.t hI hO
  have hq5 := hext.t hI hq5
  have hz := hz2
  have hw := hz.1
  have hI := hz.2.1
  clear hz2 hext
  exact fx_athrow hx hb dX6_opens_20 (fda_x hxx ⟨7, _, hq5, fc_X8.1, rfl⟩ hz hf)

/-- ForestRooms$Reader.leaf -/
def fX6_leaf (cN cS : Nat) (o : Nat) (tg0 : Nat → Nat × Nat) (nx0 ns0 : Nat) (st0 : fo_St) : Option ((Unit ⊕ Nat) × fo_A) := if ¬ (gi_ st0 o 5) = (50 : Int32) then lt_ (si_ st0 o 5 ((gi_ st0 o 5) + (1 : Int32))) (fun st1 => some (.inl (), (tg0, nx0, ns0, st1))) else ck_ (fo_bg nx0 ns0 7 cN cS) (aw_ (tu_ tg0 nx0 (1, 7), nx0 + 1, ns0 + 7, z0_ st0 nx0) (fun tg2 nx2 ns2 sa2 => ba_ (fX8_init cN cS nx0 (gi_ sa2 o 3) tg2 nx2 ns2 sa2) (fun x4 tg5 nx5 ns5 sa5 => some (.inr nx0, (tg5, nx5, ns5, sa5))) (fun nX tgX nxX nsX stX => some (.inr nX, (tgX, nxX, nsX, stX)))))
theorem hm_X6_leaf : fo_M yX6_leaf 0 := ⟨by decide +kernel, by decide +kernel, by decide +kernel, by decide +kernel⟩
set_option maxHeartbeats 1000000 in
theorem wX6_leaf_6 (l : Launch) (E : fo_E) (K V : Nat → Nat) (mi : Nat) (hSX : fo_SX E K V mi) (o : Nat) (fr lo : Nat) (hfr : 5 ≤ fr) (hlo : 135 ≤ lo) (cN cS : Nat) (tg0 : Nat → Nat × Nat) (nx0 ns0 : Nat) (hO : tg0 o = (1, 6)) (st0 : fo_St) (hI : fo_I E tg0 nx0) (hcN : nx0 ≤ cN) (hcS : ns0 ≤ cS) (ρZ : Unit ⊕ Nat) (aZ : fo_A) (hf : fX6_leaf cN cS o tg0 nx0 ns0 st0 = some (ρZ, aZ)) : CA vlV l E yX6_leaf (ws_ yX6_leaf cX6_leaf 1 none) fr lo cN cS [.ref (eb E + o)] (tg0, nx0, ns0, st0) ρZ aZ := by
  refine fea_v (a := (tg0, nx0, ns0, st0)) hm_X6_leaf (Nat.le_of_ble_eq_true rfl) hI hcN hcS (fun p e R s m args below meth c Q hRf hRl X hnm hend hxx ls hl hz => ?_)
  replace hRf : 5 ≤ R.frames := by rw [hRf]; exact hfr
  replace hRl : 135 ≤ R.locals := by rw [hRl]; exact hlo
  have hR0 : 4 + 1 ≤ R.frames ∧ 8 + (2 + 11) + (114) ≤ R.locals := ⟨by omega, by omega⟩
  have hx := X.1.1
  have hb := X.1.2.1
  have hl : lv_has ls 1 [(0, .ref (eb E + o))] := hl
  have hz : fo_Z E R s cN cS (tg0, nx0, ns0, st0) tg0 nx0 ns0 st0 s.heap [] := hz
  have hw := hz.1
  show W p l e R s m args below meth c s.heap [] (nx0 - nx0) (ns0 - ns0) Q (F0 m 0 ls [])
  unfold fX6_leaf at hf
  generalize s.heap = H at hz hw ⊢
  generalize ([] : List Loc) = locs at hz hw ⊢
  refine lv_aload_n hx hb dX6_leaf_0 rfl (lv_at hl 0 rfl) ?_
  refine fo_geti (fo_Xw X) hw fc_X7 hO (k := 5) (by decide) rfl q730 dX6_leaf_1 ?_
  refine lv_bipush (v := (50 : Int32)) hx hb dX6_leaf_4 (by decide) ?_
  have hf0 := hf
  clear hf
  refine fb_ine (tgt := 21) hx hb dX6_leaf_6 (by decide) hf0 (fun hf => ?_) (fun hf => ?_)
  · clear hf0
    refine lv_aload_n hx hb dX6_leaf_21 rfl (lv_at hl 0 rfl) ?_
    refine lv_dup hx hb dX6_leaf_22 rfl ?_
    refine fo_geti (fo_Xw X) hw fc_X7 hO (k := 5) (by decide) rfl q730 dX6_leaf_23 ?_
    refine lv_iconst (v := (1 : Int32)) hx hb dX6_leaf_26 (by decide) ?_
    refine lv_iadd hx hb dX6_leaf_27 ?_
    have hf0 := hf
    clear hf
    refine fo_puti (fo_Xw X) hw fc_X7 hO (k := 5) (by decide) rfl rfl q730 ⟨rfl, rfl⟩ dX6_leaf_28 hf0 (fun st1 H locs hw hf => ?_)
    clear hf0
    have hz := hz.s hw
    exact fda_v hend hz hf dX6_leaf_31
  clear hf0
  have hf0 := hf
  clear hf
  refine fa_new X hz fc_X8 fd_X8 q843 q844 q130 dX6_leaf_9 hf0 (fun tg2 nx2 ns2 sa2 H hext hq3 hz2 hf => ?_)
  clear hf0
  have hO := hext.t hI hO
  have hz := hz2
  have hw := hz.1
  have hI := hz.2.1
  clear hz2 hext
  refine lv_dup hx hb dX6_leaf_12 rfl ?_
  refine lv_aload_n hx hb dX6_leaf_13 rfl (lv_at hl 0 rfl) ?_
  refine fo_geti (fo_Xw X) hw fc_X7 hO (k := 3) (by decide) rfl q728 dX6_leaf_14 ?_
  have hf0 := hf
  clear hf
  refine fa_I (fr := 4) (lo := 114) (val := vlV) (rest := [.ref (eb E + nx0)]) (As := [.int (gi_ sa2 o 3)]) X hz hm_X8_init q854 q130 q852 q853 rfl hR0 rfl rfl hl.1 (Nat.le_of_ble_eq_true rfl) dX6_leaf_17 (fun rQ aQ hQ => wX8_init_7 l E K V mi hSX nx0 (gi_ sa2 o 3) (4) (114) (Nat.le_refl _) (Nat.le_refl _) cN cS tg2 nx2 ns2 hq3 sa2 hI hz.2.2.2.2.2.2.1 hz.2.2.2.2.2.2.2.2 rQ aQ hQ) hf0 (fun nX EX tgX nxX nsX stX H locs hTX hxX hz2 hf => ?_) (fun x4 tg5 nx5 ns5 sa5 H locs hext hz2 hf => ?_)
  · exact fda_x hxx hTX hz2 hf
  clear hf0
  have hO := hext.t hI hO
  have hq3 := hext.t hI hq3
  have hz := hz2
  have hw := hz.1
  have hI := hz.2.1
  clear hz2 hext
  exact fx_athrow hx hb dX6_leaf_20 (fda_x hxx ⟨7, _, hq3, fc_X8.1, rfl⟩ hz hf)

/-- ForestRooms$Reader.isValue -/
def fX6_isValue (cN cS : Nat) (G : Nat) (o : Nat) (p1 : Nat) (tg0 : Nat → Nat × Nat) (nx0 ns0 : Nat) (st0 : fo_St) : Option ((Int32 ⊕ Nat) × fo_A) := ba_ (fX6_is cN cS G o p1 tg0 nx0 ns0 st0) (fun x1 tg2 nx2 ns2 sa2 => if ¬ x1 = 0 then ba_ (fX6_leaf cN cS o tg2 nx2 ns2 sa2) (fun x3 tg4 nx4 ns4 sa4 => ba_ (fX6_next cN cS G o tg4 nx4 ns4 sa4) (fun x5 tg6 nx6 ns6 sa6 => some (.inl (1 : Int32), (tg6, nx6, ns6, sa6))) (fun nX tgX nxX nsX stX => some (.inr nX, (tgX, nxX, nsX, stX)))) (fun nX tgX nxX nsX stX => some (.inr nX, (tgX, nxX, nsX, stX))) else some (.inl (0 : Int32), (tg2, nx2, ns2, sa2))) (fun nX tgX nxX nsX stX => some (.inr nX, (tgX, nxX, nsX, stX)))
theorem hm_X6_isValue : fo_M yX6_isValue 1 := ⟨by decide +kernel, by decide +kernel, by decide +kernel, by decide +kernel⟩
set_option maxHeartbeats 1000000 in
theorem wX6_isValue_6 (l : Launch) (E : fo_E) (K V : Nat → Nat) (mi : Nat) (hSX : fo_SX E K V mi) (G : Nat) (o : Nat) (p1 : Nat) (fr lo : Nat) (hfr : 11 ≤ fr) (hlo : 222 ≤ lo) (cN cS : Nat) (tg0 : Nat → Nat × Nat) (nx0 ns0 : Nat) (hO : tg0 o = (1, 6)) (hs_p1 : p1 < 50) (st0 : fo_St) (hI : fo_I E tg0 nx0) (hcN : nx0 ≤ cN) (hcS : ns0 ≤ cS) (ρZ : Int32 ⊕ Nat) (aZ : fo_A) (hf : fX6_isValue cN cS G o p1 tg0 nx0 ns0 st0 = some (ρZ, aZ)) : CA vlI l E yX6_isValue (ws_ yX6_isValue cX6_isValue 2 (some .boolean)) fr lo cN cS [.ref (eb E + o), .ref (K p1)] (tg0, nx0, ns0, st0) ρZ aZ := by
  refine fea_z (a := (tg0, nx0, ns0, st0)) hm_X6_isValue (Nat.le_of_ble_eq_true rfl) hI hcN hcS (fun p e R s m args below meth c Q hRf hRl X hnm hend hxx ls hl hz => ?_)
  replace hRf : 11 ≤ R.frames := by rw [hRf]; exact hfr
  replace hRl : 222 ≤ R.locals := by rw [hRl]; exact hlo
  have hR0 : 10 + 1 ≤ R.frames ∧ 8 + (3 + 11) + (200) ≤ R.locals := ⟨by omega, by omega⟩
  have hR1 : 5 + 1 ≤ R.frames ∧ 8 + (1 + 11) + (135) ≤ R.locals := ⟨by omega, by omega⟩
  have hR2 : 1 + 1 ≤ R.frames ∧ 8 + (1 + 11) + (23) ≤ R.locals := ⟨by omega, by omega⟩
  have hx := X.1.1
  have hb := X.1.2.1
  have hl : lv_has ls 2 [(0, .ref (eb E + o)), (1, .ref (K p1))] := hl
  have hz : fo_Z E R s cN cS (tg0, nx0, ns0, st0) tg0 nx0 ns0 st0 s.heap [] := hz
  have hw := hz.1
  show W p l e R s m args below meth c s.heap [] (nx0 - nx0) (ns0 - ns0) Q (F0 m 0 ls [])
  unfold fX6_isValue at hf
  generalize s.heap = H at hz hw ⊢
  generalize ([] : List Loc) = locs at hz hw ⊢
  refine lv_aload_n hx hb dX6_isValue_0 rfl (lv_at hl 0 rfl) ?_
  refine lv_aload_n hx hb dX6_isValue_1 rfl (lv_at hl 1 rfl) ?_
  have hf0 := hf
  clear hf
  refine fa_O (n := 1) (fr := 10) (lo := 200) (val := vlI) (rest := []) (As := [.ref (K p1)]) X hz (lw_O q904 q2228 q785 q2229 q785 q125 q786) q786 ⟨by decide, by decide, by decide +kernel⟩ hR0 fc_X7 hO rfl rfl hl.1 (Nat.le_of_ble_eq_true rfl) dX6_isValue_2 (fun rQ aQ hQ => wX6_is_6 l E K V mi hSX G o p1 (10) (200) (Nat.le_refl _) (Nat.le_refl _) cN cS tg0 nx0 ns0 hO hs_p1 st0 hI hz.2.2.2.2.2.2.1 hz.2.2.2.2.2.2.2.2 rQ aQ hQ) hf0 (fun nX EX tgX nxX nsX stX H locs hTX hxX hz2 hf => ?_) (fun x1 tg2 nx2 ns2 sa2 H locs hext hz2 hf => ?_)
  · exact fda_x hxx hTX hz2 hf
  clear hf0
  have hO := hext.t hI hO
  have hz := hz2
  have hw := hz.1
  have hI := hz.2.1
  clear hz2 hext
  have hf0 := hf
  clear hf
  refine fb_zne (tgt := 10) hx hb dX6_isValue_5 (by decide) hf0 (fun hf => ?_) (fun hf => ?_)
  · clear hf0
    refine lv_aload_n hx hb dX6_isValue_10 rfl (lv_at hl 0 rfl) ?_
    have hf0 := hf
    clear hf
    refine fa_O (n := 0) (fr := 5) (lo := 135) (val := vlV) (rest := []) (As := []) X hz (lw_O q925 q927 q926 q928 q926 q125 q930) q930 ⟨by decide, by decide, by decide +kernel⟩ hR1 fc_X7 hO rfl rfl hl.1 (Nat.le_of_ble_eq_true rfl) dX6_isValue_11 (fun rQ aQ hQ => wX6_leaf_6 l E K V mi hSX o (5) (135) (Nat.le_refl _) (Nat.le_refl _) cN cS tg2 nx2 ns2 hO sa2 hI hz.2.2.2.2.2.2.1 hz.2.2.2.2.2.2.2.2 rQ aQ hQ) hf0 (fun nX EX tgX nxX nsX stX H locs hTX hxX hz2 hf => ?_) (fun x3 tg4 nx4 ns4 sa4 H locs hext hz2 hf => ?_)
    · exact fda_x hxx hTX hz2 hf
    clear hf0
    have hO := hext.t hI hO
    have hz := hz2
    have hw := hz.1
    have hI := hz.2.1
    clear hz2 hext
    refine lv_aload_n hx hb dX6_isValue_14 rfl (lv_at hl 0 rfl) ?_
    have hf0 := hf
    clear hf
    refine fa_O (n := 0) (fr := 1) (lo := 23) (val := vlV) (rest := []) (As := []) X hz (lw_O q762 q764 q763 q765 q763 q125 q767) q767 ⟨by decide, by decide, by decide +kernel⟩ hR2 fc_X7 hO rfl rfl hl.1 (Nat.le_of_ble_eq_true rfl) dX6_isValue_15 (fun rQ aQ hQ => wX6_next_6 l E G o (1) (23) (Nat.le_refl _) (Nat.le_refl _) cN cS tg4 nx4 ns4 hO sa4 hI hz.2.2.2.2.2.2.1 hz.2.2.2.2.2.2.2.2 rQ aQ hQ) hf0 (fun nX EX tgX nxX nsX stX H locs hTX hxX hz2 hf => ?_) (fun x5 tg6 nx6 ns6 sa6 H locs hext hz2 hf => ?_)
    · exact fda_x hxx hTX hz2 hf
    clear hf0
    have hO := hext.t hI hO
    have hz := hz2
    have hw := hz.1
    have hI := hz.2.1
    clear hz2 hext
    refine lv_iconst (v := (1 : Int32)) hx hb dX6_isValue_18 (by decide) ?_
    exact fda_z hend rfl hz hf dX6_isValue_19
  clear hf0
  refine lv_iconst (v := (0 : Int32)) hx hb dX6_isValue_8 (by decide) ?_
  exact fda_z hend rfl hz hf dX6_isValue_9

set_option maxHeartbeats 1000000 in
theorem wX6_need_17 (l : Launch) (E : fo_E) (K V : Nat → Nat) (mi : Nat) (hSX : fo_SX E K V mi) (G : Nat) (o : Nat) (p1 : Nat) (fr lo : Nat) (hfr : 12 ≤ fr) (hlo : 244 ≤ lo) (cN cS : Nat) (tg0 : Nat → Nat × Nat) (nx0 ns0 : Nat) (hO : tg0 o = (1, 17)) (hs_p1 : p1 < 50) (st0 : fo_St) (hI : fo_I E tg0 nx0) (hcN : nx0 ≤ cN) (hcS : ns0 ≤ cS) (ρZ : Unit ⊕ Nat) (aZ : fo_A) (hf : fX6_need cN cS G o p1 tg0 nx0 ns0 st0 = some (ρZ, aZ)) : CA vlV l E yX6_need (ws_ yX6_need cX6_need 2 none) fr lo cN cS [.ref (eb E + o), .ref (K p1)] (tg0, nx0, ns0, st0) ρZ aZ := by
  refine fea_v (a := (tg0, nx0, ns0, st0)) hm_X6_need (Nat.le_of_ble_eq_true rfl) hI hcN hcS (fun p e R s m args below meth c Q hRf hRl X hnm hend hxx ls hl hz => ?_)
  replace hRf : 12 ≤ R.frames := by rw [hRf]; exact hfr
  replace hRl : 244 ≤ R.locals := by rw [hRl]; exact hlo
  have hR0 : 11 + 1 ≤ R.frames ∧ 8 + (3 + 11) + (222) ≤ R.locals := ⟨by omega, by omega⟩
  have hR1 : 4 + 1 ≤ R.frames ∧ 8 + (2 + 11) + (114) ≤ R.locals := ⟨by omega, by omega⟩
  have hx := X.1.1
  have hb := X.1.2.1
  have hl : lv_has ls 2 [(0, .ref (eb E + o)), (1, .ref (K p1))] := hl
  have hz : fo_Z E R s cN cS (tg0, nx0, ns0, st0) tg0 nx0 ns0 st0 s.heap [] := hz
  have hw := hz.1
  show W p l e R s m args below meth c s.heap [] (nx0 - nx0) (ns0 - ns0) Q (F0 m 0 ls [])
  unfold fX6_need at hf
  generalize s.heap = H at hz hw ⊢
  generalize ([] : List Loc) = locs at hz hw ⊢
  refine lv_aload_n hx hb dX6_need_0 rfl (lv_at hl 0 rfl) ?_
  refine lv_aload_n hx hb dX6_need_1 rfl (lv_at hl 1 rfl) ?_
  have hf0 := hf
  clear hf
  refine fa_O (n := 1) (fr := 11) (lo := 222) (val := vlI) (rest := []) (As := [.ref (K p1)]) X hz (lw_O q919 q921 q920 q923 q920 q125 q924) q924 ⟨by decide, by decide, by decide +kernel⟩ hR0 fc_X20 hO rfl rfl hl.1 (Nat.le_of_ble_eq_true rfl) dX6_need_2 (fun rQ aQ hQ => wX6_takes_17 l E K V mi hSX G o p1 (11) (222) (Nat.le_refl _) (Nat.le_refl _) cN cS tg0 nx0 ns0 hO hs_p1 st0 hI hz.2.2.2.2.2.2.1 hz.2.2.2.2.2.2.2.2 rQ aQ hQ) hf0 (fun nX EX tgX nxX nsX stX H locs hTX hxX hz2 hf => ?_) (fun x1 tg2 nx2 ns2 sa2 H locs hext hz2 hf => ?_)
  · exact fda_x hxx hTX hz2 hf
  clear hf0
  have hO := hext.t hI hO
  have hz := hz2
  have hw := hz.1
  have hI := hz.2.1
  clear hz2 hext
  have hf0 := hf
  clear hf
  refine fb_zne (tgt := 20) hx hb dX6_need_5 (by decide) hf0 (fun hf => ?_) (fun hf => ?_)
  · clear hf0
    exact fda_v hend hz hf dX6_need_20
  clear hf0
  have hf0 := hf
  clear hf
  refine fa_new X hz fc_X8 fd_X8 q843 q844 q130 dX6_need_8 hf0 (fun tg3 nx3 ns3 sa3 H hext hq4 hz2 hf => ?_)
  clear hf0
  have hO := hext.t hI hO
  have hz := hz2
  have hw := hz.1
  have hI := hz.2.1
  clear hz2 hext
  refine lv_dup hx hb dX6_need_11 rfl ?_
  refine lv_aload_n hx hb dX6_need_12 rfl (lv_at hl 0 rfl) ?_
  refine fo_geti (fo_Xw X) hw fc_X20 hO (k := 3) (by decide) rfl q728 dX6_need_13 ?_
  have hf0 := hf
  clear hf
  refine fa_I (fr := 4) (lo := 114) (val := vlV) (rest := [.ref (eb E + nx2)]) (As := [.int (gi_ sa3 o 3)]) X hz hm_X8_init q854 q130 q852 q853 rfl hR1 rfl rfl hl.1 (Nat.le_of_ble_eq_true rfl) dX6_need_16 (fun rQ aQ hQ => wX8_init_7 l E K V mi hSX nx2 (gi_ sa3 o 3) (4) (114) (Nat.le_refl _) (Nat.le_refl _) cN cS tg3 nx3 ns3 hq4 sa3 hI hz.2.2.2.2.2.2.1 hz.2.2.2.2.2.2.2.2 rQ aQ hQ) hf0 (fun nX EX tgX nxX nsX stX H locs hTX hxX hz2 hf => ?_) (fun x5 tg6 nx6 ns6 sa6 H locs hext hz2 hf => ?_)
  · exact fda_x hxx hTX hz2 hf
  clear hf0
  have hO := hext.t hI hO
  have hq4 := hext.t hI hq4
  have hz := hz2
  have hw := hz.1
  have hI := hz.2.1
  clear hz2 hext
  exact fx_athrow hx hb dX6_need_19 (fda_x hxx ⟨7, _, hq4, fc_X8.1, rfl⟩ hz hf)

set_option maxHeartbeats 1000000 in
theorem wX6_number_17 (l : Launch) (E : fo_E) (K V : Nat → Nat) (mi : Nat) (hSX : fo_SX E K V mi) (G : Nat) (o : Nat) (p1 : Int32) (p2 : Int32) (fr lo : Nat) (hfr : 5 ≤ fr) (hlo : 135 ≤ lo) (cN cS : Nat) (tg0 : Nat → Nat × Nat) (nx0 ns0 : Nat) (hO : tg0 o = (1, 17)) (st0 : fo_St) (hI : fo_I E tg0 nx0) (hcN : nx0 ≤ cN) (hcS : ns0 ≤ cS) (ρZ : Int32 ⊕ Nat) (aZ : fo_A) (hf : fX6_number cN cS G o p1 p2 tg0 nx0 ns0 st0 = some (ρZ, aZ)) : CA vlI l E yX6_number (ws_ yX6_number cX6_number 5 (some .int)) fr lo cN cS [.ref (eb E + o), .int p1, .int p2] (tg0, nx0, ns0, st0) ρZ aZ := by
  refine fea_i (a := (tg0, nx0, ns0, st0)) hm_X6_number (Nat.le_of_ble_eq_true rfl) hI hcN hcS (fun p e R s m args below meth c Q hRf hRl X hnm hend hxx ls hl hz => ?_)
  replace hRf : 5 ≤ R.frames := by rw [hRf]; exact hfr
  replace hRl : 135 ≤ R.locals := by rw [hRl]; exact hlo
  have hR0 : 0 + 1 ≤ R.frames ∧ 8 + (4 + 11) + (0) ≤ R.locals := ⟨by omega, by omega⟩
  have hR1 : 4 + 1 ≤ R.frames ∧ 8 + (2 + 11) + (114) ≤ R.locals := ⟨by omega, by omega⟩
  have hR2 : 1 + 1 ≤ R.frames ∧ 8 + (1 + 11) + (23) ≤ R.locals := ⟨by omega, by omega⟩
  have hx := X.1.1
  have hb := X.1.2.1
  have hl : lv_has ls 5 [(0, .ref (eb E + o)), (1, .int p1), (2, .int p2)] := hl
  have hz : fo_Z E R s cN cS (tg0, nx0, ns0, st0) tg0 nx0 ns0 st0 s.heap [] := hz
  have hw := hz.1
  show W p l e R s m args below meth c s.heap [] (nx0 - nx0) (ns0 - ns0) Q (F0 m 0 ls [])
  unfold fX6_number at hf
  generalize s.heap = H at hz hw ⊢
  generalize ([] : List Loc) = locs at hz hw ⊢
  refine lv_aload_n hx hb dX6_number_0 rfl (lv_at hl 0 rfl) ?_
  refine lv_aload_n hx hb dX6_number_1 rfl (lv_at hl 0 rfl) ?_
  refine fo_geti (fo_Xw X) hw fc_X20 hO (k := 3) (by decide) rfl q728 dX6_number_2 ?_
  refine lv_bipush (v := (48 : Int32)) hx hb dX6_number_5 (by decide) ?_
  refine lv_bipush (v := (57 : Int32)) hx hb dX6_number_7 (by decide) ?_
  have hf0 := hf
  clear hf
  refine fa_O (n := 3) (fr := 0) (lo := 0) (val := vlI) (rest := []) (As := [.int (gi_ st0 o 3), .int (48 : Int32), .int (57 : Int32)]) X hz (lw_O q768 q770 q769 q772 q769 q125 q773) q773 ⟨by decide, by decide, by decide +kernel⟩ hR0 fc_X20 hO rfl rfl hl.1 (Nat.le_of_ble_eq_true rfl) dX6_number_9 (fun rQ aQ hQ => wX6_isIn_17 l E o (gi_ st0 o 3) (48 : Int32) (57 : Int32) (0) (0) (Nat.le_refl _) (Nat.le_refl _) cN cS tg0 nx0 ns0 hO st0 hI hz.2.2.2.2.2.2.1 hz.2.2.2.2.2.2.2.2 rQ aQ hQ) hf0 (fun nX EX tgX nxX nsX stX H locs hTX hxX hz2 hf => ?_) (fun x1 tg2 nx2 ns2 sa2 H locs hext hz2 hf => ?_)
  · exact fda_x hxx hTX hz2 hf
  clear hf0
  have hO := hext.t hI hO
  have hz := hz2
  have hw := hz.1
  have hI := hz.2.1
  clear hz2 hext
  have hf0 := hf
  clear hf
  refine fb_zne (tgt := 27) hx hb dX6_number_12 (by decide) hf0 (fun hf => ?_) (fun hf => ?_)
  · clear hf0
    refine lv_iconst (v := (0 : Int32)) hx hb dX6_number_27 (by decide) ?_
    refine lv_istore_n (lv' := [(3, .int (0 : Int32)), (0, .ref (eb E + o)), (1, .int p1), (2, .int p2)]) hx hb dX6_number_28 rfl hl (by decide) rfl (fun ls hl => ?_)
    refine lv_aload_n hx hb dX6_number_29 rfl (lv_at hl 1 rfl) ?_
    refine fo_geti (fo_Xw X) hw fc_X20 hO (k := 3) (by decide) rfl q728 dX6_number_30 ?_
    have hf0 := hf
    clear hf
    refine fo_tI hf0 (fun x3 hf => ?_)
    clear hf0
    refine lv_istore (lv' := [(4, .int x3), (3, .int (0 : Int32)), (0, .ref (eb E + o)), (1, .int p1), (2, .int p2)]) hx hb dX6_number_33 hl (by decide) rfl (fun ls hl => ?_)
    refine jn_e hf (fun k6 ek hf => ?_)
    have hk6 : ∀ (x4 : Int32) (tg5 : Nat → Nat × Nat) (nx5 ns5 : Nat) (sa5 : fo_St) (H : Heap) (locs : List Loc) (ls : Array Slot), tg5 o = (1, 17) → lv_has ls 5 [(3, .int x4), (0, .ref (eb E + o)), (1, .int p1), (2, .int p2)] → fo_Z E R s cN cS (tg0, nx0, ns0, st0) tg5 nx5 ns5 sa5 H locs → k6 x4 (tg5, nx5, ns5, sa5) = some (ρZ, aZ) → W p l e R s m args below meth c H locs (nx5 - nx0) (ns5 - ns0) Q (F0 m 71 ls []) := by
      intro x4 tg5 nx5 ns5 sa5 H locs ls hO hl hz hf
      rw [ek] at hf
      replace hf := aw_u hf
      have hw := hz.1
      have hI := hz.2.1
      refine lv_iload_n hx hb dX6_number_71 rfl (lv_at hl 0 rfl) ?_
      refine lv_iload_n hx hb dX6_number_72 rfl (lv_at hl 2 rfl) ?_
      have hf0 := hf
      clear hf
      refine fb_ilt (tgt := 81) hx hb dX6_number_73 (by decide) hf0 (fun hf => ?_) (fun hf => ?_)
      · clear hf0
        have hf0 := hf
        clear hf
        refine fa_new X hz fc_X8 fd_X8 q843 q844 q130 dX6_number_81 hf0 (fun tg7 nx7 ns7 sa7 H hext hq8 hz2 hf => ?_)
        clear hf0
        have hO := hext.t hI hO
        have hz := hz2
        have hw := hz.1
        have hI := hz.2.1
        clear hz2 hext
        refine lv_dup hx hb dX6_number_84 rfl ?_
        refine lv_aload_n hx hb dX6_number_85 rfl (lv_at hl 1 rfl) ?_
        refine fo_geti (fo_Xw X) hw fc_X20 hO (k := 3) (by decide) rfl q728 dX6_number_86 ?_
        have hf0 := hf
        clear hf
        refine fa_I (fr := 4) (lo := 114) (val := vlV) (rest := [.ref (eb E + nx5)]) (As := [.int (gi_ sa7 o 3)]) X hz hm_X8_init q854 q130 q852 q853 rfl hR1 rfl rfl hl.1 (Nat.le_of_ble_eq_true rfl) dX6_number_89 (fun rQ aQ hQ => wX8_init_7 l E K V mi hSX nx5 (gi_ sa7 o 3) (4) (114) (Nat.le_refl _) (Nat.le_refl _) cN cS tg7 nx7 ns7 hq8 sa7 hI hz.2.2.2.2.2.2.1 hz.2.2.2.2.2.2.2.2 rQ aQ hQ) hf0 (fun nX EX tgX nxX nsX stX H locs hTX hxX hz2 hf => ?_) (fun x9 tg10 nx10 ns10 sa10 H locs hext hz2 hf => ?_)
        · exact fda_x hxx hTX hz2 hf
        clear hf0
        have hO := hext.t hI hO
        have hq8 := hext.t hI hq8
        have hz := hz2
        have hw := hz.1
        have hI := hz.2.1
        clear hz2 hext
        exact fx_athrow hx hb dX6_number_92 (fda_x hxx ⟨7, _, hq8, fc_X8.1, rfl⟩ hz hf)
      clear hf0
      refine lv_iload_n hx hb dX6_number_76 rfl (lv_at hl 0 rfl) ?_
      refine lv_iload_n hx hb dX6_number_77 rfl (lv_at hl 3 rfl) ?_
      have hf0 := hf
      clear hf
      refine fb_ile (tgt := 93) hx hb dX6_number_78 (by decide) hf0 (fun hf => ?_) (fun hf => ?_)
      · clear hf0
        refine lv_aload_n hx hb dX6_number_93 rfl (lv_at hl 1 rfl) ?_
        have hf0 := hf
        clear hf
        refine fa_O (n := 0) (fr := 1) (lo := 23) (val := vlV) (rest := []) (As := []) X hz (lw_O q762 q764 q763 q766 q763 q125 q767) q767 ⟨by decide, by decide, by decide +kernel⟩ hR2 fc_X20 hO rfl rfl hl.1 (Nat.le_of_ble_eq_true rfl) dX6_number_94 (fun rQ aQ hQ => wX6_next_17 l E G o (1) (23) (Nat.le_refl _) (Nat.le_refl _) cN cS tg5 nx5 ns5 hO sa5 hI hz.2.2.2.2.2.2.1 hz.2.2.2.2.2.2.2.2 rQ aQ hQ) hf0 (fun nX EX tgX nxX nsX stX H locs hTX hxX hz2 hf => ?_) (fun x11 tg12 nx12 ns12 sa12 H locs hext hz2 hf => ?_)
        · exact fda_x hxx hTX hz2 hf
        clear hf0
        have hO := hext.t hI hO
        have hz := hz2
        have hw := hz.1
        have hI := hz.2.1
        clear hz2 hext
        refine lv_iload_n hx hb dX6_number_97 rfl (lv_at hl 0 rfl) ?_
        exact fda_i hend hz hf dX6_number_98
      clear hf0
      have hf0 := hf
      clear hf
      refine fa_new X hz fc_X8 fd_X8 q843 q844 q130 dX6_number_81 hf0 (fun tg13 nx13 ns13 sa13 H hext hq14 hz2 hf => ?_)
      clear hf0
      have hO := hext.t hI hO
      have hz := hz2
      have hw := hz.1
      have hI := hz.2.1
      clear hz2 hext
      refine lv_dup hx hb dX6_number_84 rfl ?_
      refine lv_aload_n hx hb dX6_number_85 rfl (lv_at hl 1 rfl) ?_
      refine fo_geti (fo_Xw X) hw fc_X20 hO (k := 3) (by decide) rfl q728 dX6_number_86 ?_
      have hf0 := hf
      clear hf
      refine fa_I (fr := 4) (lo := 114) (val := vlV) (rest := [.ref (eb E + nx5)]) (As := [.int (gi_ sa13 o 3)]) X hz hm_X8_init q854 q130 q852 q853 rfl hR1 rfl rfl hl.1 (Nat.le_of_ble_eq_true rfl) dX6_number_89 (fun rQ aQ hQ => wX8_init_7 l E K V mi hSX nx5 (gi_ sa13 o 3) (4) (114) (Nat.le_refl _) (Nat.le_refl _) cN cS tg13 nx13 ns13 hq14 sa13 hI hz.2.2.2.2.2.2.1 hz.2.2.2.2.2.2.2.2 rQ aQ hQ) hf0 (fun nX EX tgX nxX nsX stX H locs hTX hxX hz2 hf => ?_) (fun x15 tg16 nx16 ns16 sa16 H locs hext hz2 hf => ?_)
      · exact fda_x hxx hTX hz2 hf
      clear hf0
      have hO := hext.t hI hO
      have hq14 := hext.t hI hq14
      have hz := hz2
      have hw := hz.1
      have hI := hz.2.1
      clear hz2 hext
      exact fx_athrow hx hb dX6_number_92 (fda_x hxx ⟨7, _, hq14, fc_X8.1, rfl⟩ hz hf)
    clear ek
    refine lp3_e (P := fun x17 x18 a19 => ∀ (H : Heap) (locs : List Loc) (ls : Array Slot), a19.1 o = (1, 17) → lv_has ls 5 [(4, .int x17), (3, .int x18), (0, .ref (eb E + o)), (1, .int p1), (2, .int p2)] → fo_Z E R s cN cS (tg0, nx0, ns0, st0) a19.1 a19.2.1 a19.2.2.1 a19.2.2.2 H locs → W p l e R s m args below meth c H locs (a19.2.1 - nx0) (a19.2.2.1 - ns0) Q (F0 m 35 ls [])) (fun rec20 hrec20 x17 x18 a19 hf => ?_) G _ _ _ hf H locs ls hO (lv_sub hl [0, 1, 2, 3, 4] rfl) hz
    obtain ⟨tg19, nx19, ns19, sa19⟩ := a19
    intro H locs ls hO hl hz
    have hO : tg19 o = (1, 17) := hO
    have hz : fo_Z E R s cN cS (tg0, nx0, ns0, st0) tg19 nx19 ns19 sa19 H locs := hz
    show W p l e R s m args below meth c H locs (nx19 - nx0) (ns19 - ns0) Q (F0 m 35 ls [])
    replace hf := aw_u hf
    have hw := hz.1
    have hI := hz.2.1
    refine lv_iload hx hb dX6_number_35 (lv_at hl 0 rfl) ?_
    refine lv_aload_n hx hb dX6_number_37 rfl (lv_at hl 2 rfl) ?_
    refine fo_geti (fo_Xw X) hw fc_X20 hO (k := 4) (by decide) rfl q729 dX6_number_38 ?_
    have hf0 := hf
    clear hf
    refine fb_ige (tgt := 71) hx hb dX6_number_41 (by decide) hf0 (fun hf => ?_) (fun hf => ?_)
    · clear hf0
      exact hk6 _ _ _ _ _ _ _ _ hO (lv_sub hl [1, 2, 3, 4] rfl) hz hf
    clear hf0
    refine lv_iload_n hx hb dX6_number_44 rfl (lv_at hl 1 rfl) ?_
    refine lv_iload_n hx hb dX6_number_45 rfl (lv_at hl 4 rfl) ?_
    have hf0 := hf
    clear hf
    refine fb_igt (tgt := 71) hx hb dX6_number_46 (by decide) hf0 (fun hf => ?_) (fun hf => ?_)
    · clear hf0
      exact hk6 _ _ _ _ _ _ _ _ hO (lv_sub hl [1, 2, 3, 4] rfl) hz hf
    clear hf0
    refine lv_bipush (v := (10 : Int32)) hx hb dX6_number_49 (by decide) ?_
    refine lv_iload_n hx hb dX6_number_51 rfl (lv_at hl 1 rfl) ?_
    refine lv_imul hx hb dX6_number_52 ?_
    refine lv_aload_n hx hb dX6_number_53 rfl (lv_at hl 2 rfl) ?_
    have hf0 := hf
    clear hf
    refine fo_getr (fo_Xw X) hw fc_X20 hO (k := 0) (by decide) rfl q725 dX6_number_54 hf0 (fun q21 hf => ?_)
    clear hf0
    refine lv_iload hx hb dX6_number_57 (lv_at hl 0 rfl) ?_
    have hf0 := ck_e hf
    clear hf
    obtain ⟨hq22, hf⟩ := hf0
    have hq22 := of_decide_eq_true hq22
    have hf0 := hf
    clear hf
    refine fo_bald (fo_Xw X) hw hq22 dX6_number_59 hf0 (fun hf => ?_)
    clear hf0
    refine lv_iadd hx hb dX6_number_60 ?_
    refine lv_bipush (v := (48 : Int32)) hx hb dX6_number_61 (by decide) ?_
    refine lv_isub hx hb dX6_number_63 ?_
    have hf0 := hf
    clear hf
    refine fo_tI hf0 (fun x23 hf => ?_)
    clear hf0
    refine lv_istore_n (lv' := [(3, .int x23), (4, .int x17), (0, .ref (eb E + o)), (1, .int p1), (2, .int p2)]) hx hb dX6_number_64 rfl hl (by decide) rfl (fun ls hl => ?_)
    refine fb_iinc (v := (1 : Int32)) (lv' := [(4, .int (x17 + (1 : Int32))), (3, .int x23), (0, .ref (eb E + o)), (1, .int p1), (2, .int p2)]) hx hb dX6_number_65 hl (k := 1) rfl (by decide) (by decide) rfl (fun ls hl => ?_)
    refine lv_goto (tgt := 35) hx hb dX6_number_68 (by decide) ?_
    exact hrec20 _ _ _ hf _ _ _ hO (lv_sub hl [0, 1, 2, 3, 4] rfl) hz
  clear hf0
  have hf0 := hf
  clear hf
  refine fa_new X hz fc_X8 fd_X8 q843 q844 q130 dX6_number_15 hf0 (fun tg24 nx24 ns24 sa24 H hext hq25 hz2 hf => ?_)
  clear hf0
  have hO := hext.t hI hO
  have hz := hz2
  have hw := hz.1
  have hI := hz.2.1
  clear hz2 hext
  refine lv_dup hx hb dX6_number_18 rfl ?_
  refine lv_aload_n hx hb dX6_number_19 rfl (lv_at hl 0 rfl) ?_
  refine fo_geti (fo_Xw X) hw fc_X20 hO (k := 3) (by decide) rfl q728 dX6_number_20 ?_
  have hf0 := hf
  clear hf
  refine fa_I (fr := 4) (lo := 114) (val := vlV) (rest := [.ref (eb E + nx2)]) (As := [.int (gi_ sa24 o 3)]) X hz hm_X8_init q854 q130 q852 q853 rfl hR1 rfl rfl hl.1 (Nat.le_of_ble_eq_true rfl) dX6_number_23 (fun rQ aQ hQ => wX8_init_7 l E K V mi hSX nx2 (gi_ sa24 o 3) (4) (114) (Nat.le_refl _) (Nat.le_refl _) cN cS tg24 nx24 ns24 hq25 sa24 hI hz.2.2.2.2.2.2.1 hz.2.2.2.2.2.2.2.2 rQ aQ hQ) hf0 (fun nX EX tgX nxX nsX stX H locs hTX hxX hz2 hf => ?_) (fun x26 tg27 nx27 ns27 sa27 H locs hext hz2 hf => ?_)
  · exact fda_x hxx hTX hz2 hf
  clear hf0
  have hO := hext.t hI hO
  have hq25 := hext.t hI hq25
  have hz := hz2
  have hw := hz.1
  have hI := hz.2.1
  clear hz2 hext
  exact fx_athrow hx hb dX6_number_26 (fda_x hxx ⟨7, _, hq25, fc_X8.1, rfl⟩ hz hf)

set_option maxHeartbeats 1000000 in
theorem wX6_begins_17 (l : Launch) (E : fo_E) (K V : Nat → Nat) (mi : Nat) (hSX : fo_SX E K V mi) (o : Nat) (p1 : Int32) (fr lo : Nat) (hfr : 5 ≤ fr) (hlo : 135 ≤ lo) (cN cS : Nat) (tg0 : Nat → Nat × Nat) (nx0 ns0 : Nat) (hO : tg0 o = (1, 17)) (st0 : fo_St) (hI : fo_I E tg0 nx0) (hcN : nx0 ≤ cN) (hcS : ns0 ≤ cS) (ρZ : Unit ⊕ Nat) (aZ : fo_A) (hf : fX6_begins cN cS o p1 tg0 nx0 ns0 st0 = some (ρZ, aZ)) : CA vlV l E yX6_begins (ws_ yX6_begins cX6_begins 2 none) fr lo cN cS [.ref (eb E + o), .int p1] (tg0, nx0, ns0, st0) ρZ aZ := by
  refine fea_v (a := (tg0, nx0, ns0, st0)) hm_X6_begins (Nat.le_of_ble_eq_true rfl) hI hcN hcS (fun p e R s m args below meth c Q hRf hRl X hnm hend hxx ls hl hz => ?_)
  replace hRf : 5 ≤ R.frames := by rw [hRf]; exact hfr
  replace hRl : 135 ≤ R.locals := by rw [hRl]; exact hlo
  have hR0 : 4 + 1 ≤ R.frames ∧ 8 + (2 + 11) + (114) ≤ R.locals := ⟨by omega, by omega⟩
  have hx := X.1.1
  have hb := X.1.2.1
  have hl : lv_has ls 2 [(0, .ref (eb E + o)), (1, .int p1)] := hl
  have hz : fo_Z E R s cN cS (tg0, nx0, ns0, st0) tg0 nx0 ns0 st0 s.heap [] := hz
  have hw := hz.1
  show W p l e R s m args below meth c s.heap [] (nx0 - nx0) (ns0 - ns0) Q (F0 m 0 ls [])
  unfold fX6_begins at hf
  generalize s.heap = H at hz hw ⊢
  generalize ([] : List Loc) = locs at hz hw ⊢
  refine lv_aload_n hx hb dX6_begins_0 rfl (lv_at hl 0 rfl) ?_
  refine fo_geti (fo_Xw X) hw fc_X20 hO (k := 2) (by decide) rfl q727 dX6_begins_1 ?_
  refine lv_bipush (v := (12 : Int32)) hx hb dX6_begins_4 (by decide) ?_
  have hf0 := hf
  clear hf
  refine fb_ieq (tgt := 13) hx hb dX6_begins_6 (by decide) hf0 (fun hf => ?_) (fun hf => ?_)
  · clear hf0
    have hf0 := hf
    clear hf
    refine fa_new X hz fc_X8 fd_X8 q843 q844 q130 dX6_begins_13 hf0 (fun tg1 nx1 ns1 sa1 H hext hq2 hz2 hf => ?_)
    clear hf0
    have hO := hext.t hI hO
    have hz := hz2
    have hw := hz.1
    have hI := hz.2.1
    clear hz2 hext
    refine lv_dup hx hb dX6_begins_16 rfl ?_
    refine lv_aload_n hx hb dX6_begins_17 rfl (lv_at hl 0 rfl) ?_
    refine fo_geti (fo_Xw X) hw fc_X20 hO (k := 3) (by decide) rfl q728 dX6_begins_18 ?_
    have hf0 := hf
    clear hf
    refine fa_I (fr := 4) (lo := 114) (val := vlV) (rest := [.ref (eb E + nx0)]) (As := [.int (gi_ sa1 o 3)]) X hz hm_X8_init q854 q130 q852 q853 rfl hR0 rfl rfl hl.1 (Nat.le_of_ble_eq_true rfl) dX6_begins_21 (fun rQ aQ hQ => wX8_init_7 l E K V mi hSX nx0 (gi_ sa1 o 3) (4) (114) (Nat.le_refl _) (Nat.le_refl _) cN cS tg1 nx1 ns1 hq2 sa1 hI hz.2.2.2.2.2.2.1 hz.2.2.2.2.2.2.2.2 rQ aQ hQ) hf0 (fun nX EX tgX nxX nsX stX H locs hTX hxX hz2 hf => ?_) (fun x3 tg4 nx4 ns4 sa4 H locs hext hz2 hf => ?_)
    · exact fda_x hxx hTX hz2 hf
    clear hf0
    have hO := hext.t hI hO
    have hq2 := hext.t hI hq2
    have hz := hz2
    have hw := hz.1
    have hI := hz.2.1
    clear hz2 hext
    exact fx_athrow hx hb dX6_begins_24 (fda_x hxx ⟨7, _, hq2, fc_X8.1, rfl⟩ hz hf)
  clear hf0
  refine lv_iload_n hx hb dX6_begins_9 rfl (lv_at hl 1 rfl) ?_
  have hf0 := hf
  clear hf
  refine fb_zne (tgt := 25) hx hb dX6_begins_10 (by decide) hf0 (fun hf => ?_) (fun hf => ?_)
  · clear hf0
    refine lv_aload_n hx hb dX6_begins_25 rfl (lv_at hl 0 rfl) ?_
    refine lv_dup hx hb dX6_begins_26 rfl ?_
    refine fo_geti (fo_Xw X) hw fc_X20 hO (k := 2) (by decide) rfl q727 dX6_begins_27 ?_
    refine lv_iconst (v := (1 : Int32)) hx hb dX6_begins_30 (by decide) ?_
    refine lv_iadd hx hb dX6_begins_31 ?_
    have hf0 := hf
    clear hf
    refine fo_puti (fo_Xw X) hw fc_X20 hO (k := 2) (by decide) rfl rfl q727 ⟨rfl, rfl⟩ dX6_begins_32 hf0 (fun st5 H locs hw hf => ?_)
    clear hf0
    have hz := hz.s hw
    exact fda_v hend hz hf dX6_begins_35
  clear hf0
  have hf0 := hf
  clear hf
  refine fa_new X hz fc_X8 fd_X8 q843 q844 q130 dX6_begins_13 hf0 (fun tg6 nx6 ns6 sa6 H hext hq7 hz2 hf => ?_)
  clear hf0
  have hO := hext.t hI hO
  have hz := hz2
  have hw := hz.1
  have hI := hz.2.1
  clear hz2 hext
  refine lv_dup hx hb dX6_begins_16 rfl ?_
  refine lv_aload_n hx hb dX6_begins_17 rfl (lv_at hl 0 rfl) ?_
  refine fo_geti (fo_Xw X) hw fc_X20 hO (k := 3) (by decide) rfl q728 dX6_begins_18 ?_
  have hf0 := hf
  clear hf
  refine fa_I (fr := 4) (lo := 114) (val := vlV) (rest := [.ref (eb E + nx0)]) (As := [.int (gi_ sa6 o 3)]) X hz hm_X8_init q854 q130 q852 q853 rfl hR0 rfl rfl hl.1 (Nat.le_of_ble_eq_true rfl) dX6_begins_21 (fun rQ aQ hQ => wX8_init_7 l E K V mi hSX nx0 (gi_ sa6 o 3) (4) (114) (Nat.le_refl _) (Nat.le_refl _) cN cS tg6 nx6 ns6 hq7 sa6 hI hz.2.2.2.2.2.2.1 hz.2.2.2.2.2.2.2.2 rQ aQ hQ) hf0 (fun nX EX tgX nxX nsX stX H locs hTX hxX hz2 hf => ?_) (fun x8 tg9 nx9 ns9 sa9 H locs hext hz2 hf => ?_)
  · exact fda_x hxx hTX hz2 hf
  clear hf0
  have hO := hext.t hI hO
  have hq7 := hext.t hI hq7
  have hz := hz2
  have hw := hz.1
  have hI := hz.2.1
  clear hz2 hext
  exact fx_athrow hx hb dX6_begins_24 (fda_x hxx ⟨7, _, hq7, fc_X8.1, rfl⟩ hz hf)

set_option maxHeartbeats 1000000 in
theorem wX6_opens_17 (l : Launch) (E : fo_E) (K V : Nat → Nat) (mi : Nat) (hSX : fo_SX E K V mi) (G : Nat) (o : Nat) (fr lo : Nat) (hfr : 5 ≤ fr) (hlo : 135 ≤ lo) (cN cS : Nat) (tg0 : Nat → Nat × Nat) (nx0 ns0 : Nat) (hO : tg0 o = (1, 17)) (st0 : fo_St) (hI : fo_I E tg0 nx0) (hcN : nx0 ≤ cN) (hcS : ns0 ≤ cS) (ρZ : Unit ⊕ Nat) (aZ : fo_A) (hf : fX6_opens cN cS G o tg0 nx0 ns0 st0 = some (ρZ, aZ)) : CA vlV l E yX6_opens (ws_ yX6_opens cX6_opens 1 none) fr lo cN cS [.ref (eb E + o)] (tg0, nx0, ns0, st0) ρZ aZ := by
  refine fea_v (a := (tg0, nx0, ns0, st0)) hm_X6_opens (Nat.le_of_ble_eq_true rfl) hI hcN hcS (fun p e R s m args below meth c Q hRf hRl X hnm hend hxx ls hl hz => ?_)
  replace hRf : 5 ≤ R.frames := by rw [hRf]; exact hfr
  replace hRl : 135 ≤ R.locals := by rw [hRl]; exact hlo
  have hR0 : 1 + 1 ≤ R.frames ∧ 8 + (1 + 11) + (23) ≤ R.locals := ⟨by omega, by omega⟩
  have hR1 : 4 + 1 ≤ R.frames ∧ 8 + (2 + 11) + (114) ≤ R.locals := ⟨by omega, by omega⟩
  have hx := X.1.1
  have hb := X.1.2.1
  have hl : lv_has ls 1 [(0, .ref (eb E + o))] := hl
  have hz : fo_Z E R s cN cS (tg0, nx0, ns0, st0) tg0 nx0 ns0 st0 s.heap [] := hz
  have hw := hz.1
  show W p l e R s m args below meth c s.heap [] (nx0 - nx0) (ns0 - ns0) Q (F0 m 0 ls [])
  unfold fX6_opens at hf
  generalize s.heap = H at hz hw ⊢
  generalize ([] : List Loc) = locs at hz hw ⊢
  refine lv_aload_n hx hb dX6_opens_0 rfl (lv_at hl 0 rfl) ?_
  refine fo_geti (fo_Xw X) hw fc_X20 hO (k := 6) (by decide) rfl q731 dX6_opens_1 ?_
  refine lv_bipush (v := (8 : Int32)) hx hb dX6_opens_4 (by decide) ?_
  have hf0 := hf
  clear hf
  refine fb_ine (tgt := 21) hx hb dX6_opens_6 (by decide) hf0 (fun hf => ?_) (fun hf => ?_)
  · clear hf0
    refine lv_aload_n hx hb dX6_opens_21 rfl (lv_at hl 0 rfl) ?_
    refine lv_dup hx hb dX6_opens_22 rfl ?_
    refine fo_geti (fo_Xw X) hw fc_X20 hO (k := 6) (by decide) rfl q731 dX6_opens_23 ?_
    refine lv_iconst (v := (1 : Int32)) hx hb dX6_opens_26 (by decide) ?_
    refine lv_iadd hx hb dX6_opens_27 ?_
    have hf0 := hf
    clear hf
    refine fo_puti (fo_Xw X) hw fc_X20 hO (k := 6) (by decide) rfl rfl q731 ⟨rfl, rfl⟩ dX6_opens_28 hf0 (fun st1 H locs hw hf => ?_)
    clear hf0
    have hz := hz.s hw
    refine lv_aload_n hx hb dX6_opens_31 rfl (lv_at hl 0 rfl) ?_
    have hf0 := hf
    clear hf
    refine fa_O (n := 0) (fr := 1) (lo := 23) (val := vlV) (rest := []) (As := []) X hz (lw_O q762 q764 q763 q766 q763 q125 q767) q767 ⟨by decide, by decide, by decide +kernel⟩ hR0 fc_X20 hO rfl rfl hl.1 (Nat.le_of_ble_eq_true rfl) dX6_opens_32 (fun rQ aQ hQ => wX6_next_17 l E G o (1) (23) (Nat.le_refl _) (Nat.le_refl _) cN cS tg0 nx0 ns0 hO st1 hI hz.2.2.2.2.2.2.1 hz.2.2.2.2.2.2.2.2 rQ aQ hQ) hf0 (fun nX EX tgX nxX nsX stX H locs hTX hxX hz2 hf => ?_) (fun x2 tg3 nx3 ns3 sa3 H locs hext hz2 hf => ?_)
    · exact fda_x hxx hTX hz2 hf
    clear hf0
    have hO := hext.t hI hO
    have hz := hz2
    have hw := hz.1
    have hI := hz.2.1
    clear hz2 hext
    exact fda_v hend hz hf dX6_opens_35
  clear hf0
  have hf0 := hf
  clear hf
  refine fa_new X hz fc_X8 fd_X8 q843 q844 q130 dX6_opens_9 hf0 (fun tg4 nx4 ns4 sa4 H hext hq5 hz2 hf => ?_)
  clear hf0
  have hO := hext.t hI hO
  have hz := hz2
  have hw := hz.1
  have hI := hz.2.1
  clear hz2 hext
  refine lv_dup hx hb dX6_opens_12 rfl ?_
  refine lv_aload_n hx hb dX6_opens_13 rfl (lv_at hl 0 rfl) ?_
  refine fo_geti (fo_Xw X) hw fc_X20 hO (k := 3) (by decide) rfl q728 dX6_opens_14 ?_
  have hf0 := hf
  clear hf
  refine fa_I (fr := 4) (lo := 114) (val := vlV) (rest := [.ref (eb E + nx0)]) (As := [.int (gi_ sa4 o 3)]) X hz hm_X8_init q854 q130 q852 q853 rfl hR1 rfl rfl hl.1 (Nat.le_of_ble_eq_true rfl) dX6_opens_17 (fun rQ aQ hQ => wX8_init_7 l E K V mi hSX nx0 (gi_ sa4 o 3) (4) (114) (Nat.le_refl _) (Nat.le_refl _) cN cS tg4 nx4 ns4 hq5 sa4 hI hz.2.2.2.2.2.2.1 hz.2.2.2.2.2.2.2.2 rQ aQ hQ) hf0 (fun nX EX tgX nxX nsX stX H locs hTX hxX hz2 hf => ?_) (fun x6 tg7 nx7 ns7 sa7 H locs hext hz2 hf => ?_)
  · exact fda_x hxx hTX hz2 hf
  clear hf0
  have hO := hext.t hI hO
  have hq5 := hext.t hI hq5
  have hz := hz2
  have hw := hz.1
  have hI := hz.2.1
  clear hz2 hext
  exact fx_athrow hx hb dX6_opens_20 (fda_x hxx ⟨7, _, hq5, fc_X8.1, rfl⟩ hz hf)

set_option maxHeartbeats 1000000 in
theorem wX6_leaf_17 (l : Launch) (E : fo_E) (K V : Nat → Nat) (mi : Nat) (hSX : fo_SX E K V mi) (o : Nat) (fr lo : Nat) (hfr : 5 ≤ fr) (hlo : 135 ≤ lo) (cN cS : Nat) (tg0 : Nat → Nat × Nat) (nx0 ns0 : Nat) (hO : tg0 o = (1, 17)) (st0 : fo_St) (hI : fo_I E tg0 nx0) (hcN : nx0 ≤ cN) (hcS : ns0 ≤ cS) (ρZ : Unit ⊕ Nat) (aZ : fo_A) (hf : fX6_leaf cN cS o tg0 nx0 ns0 st0 = some (ρZ, aZ)) : CA vlV l E yX6_leaf (ws_ yX6_leaf cX6_leaf 1 none) fr lo cN cS [.ref (eb E + o)] (tg0, nx0, ns0, st0) ρZ aZ := by
  refine fea_v (a := (tg0, nx0, ns0, st0)) hm_X6_leaf (Nat.le_of_ble_eq_true rfl) hI hcN hcS (fun p e R s m args below meth c Q hRf hRl X hnm hend hxx ls hl hz => ?_)
  replace hRf : 5 ≤ R.frames := by rw [hRf]; exact hfr
  replace hRl : 135 ≤ R.locals := by rw [hRl]; exact hlo
  have hR0 : 4 + 1 ≤ R.frames ∧ 8 + (2 + 11) + (114) ≤ R.locals := ⟨by omega, by omega⟩
  have hx := X.1.1
  have hb := X.1.2.1
  have hl : lv_has ls 1 [(0, .ref (eb E + o))] := hl
  have hz : fo_Z E R s cN cS (tg0, nx0, ns0, st0) tg0 nx0 ns0 st0 s.heap [] := hz
  have hw := hz.1
  show W p l e R s m args below meth c s.heap [] (nx0 - nx0) (ns0 - ns0) Q (F0 m 0 ls [])
  unfold fX6_leaf at hf
  generalize s.heap = H at hz hw ⊢
  generalize ([] : List Loc) = locs at hz hw ⊢
  refine lv_aload_n hx hb dX6_leaf_0 rfl (lv_at hl 0 rfl) ?_
  refine fo_geti (fo_Xw X) hw fc_X20 hO (k := 5) (by decide) rfl q730 dX6_leaf_1 ?_
  refine lv_bipush (v := (50 : Int32)) hx hb dX6_leaf_4 (by decide) ?_
  have hf0 := hf
  clear hf
  refine fb_ine (tgt := 21) hx hb dX6_leaf_6 (by decide) hf0 (fun hf => ?_) (fun hf => ?_)
  · clear hf0
    refine lv_aload_n hx hb dX6_leaf_21 rfl (lv_at hl 0 rfl) ?_
    refine lv_dup hx hb dX6_leaf_22 rfl ?_
    refine fo_geti (fo_Xw X) hw fc_X20 hO (k := 5) (by decide) rfl q730 dX6_leaf_23 ?_
    refine lv_iconst (v := (1 : Int32)) hx hb dX6_leaf_26 (by decide) ?_
    refine lv_iadd hx hb dX6_leaf_27 ?_
    have hf0 := hf
    clear hf
    refine fo_puti (fo_Xw X) hw fc_X20 hO (k := 5) (by decide) rfl rfl q730 ⟨rfl, rfl⟩ dX6_leaf_28 hf0 (fun st1 H locs hw hf => ?_)
    clear hf0
    have hz := hz.s hw
    exact fda_v hend hz hf dX6_leaf_31
  clear hf0
  have hf0 := hf
  clear hf
  refine fa_new X hz fc_X8 fd_X8 q843 q844 q130 dX6_leaf_9 hf0 (fun tg2 nx2 ns2 sa2 H hext hq3 hz2 hf => ?_)
  clear hf0
  have hO := hext.t hI hO
  have hz := hz2
  have hw := hz.1
  have hI := hz.2.1
  clear hz2 hext
  refine lv_dup hx hb dX6_leaf_12 rfl ?_
  refine lv_aload_n hx hb dX6_leaf_13 rfl (lv_at hl 0 rfl) ?_
  refine fo_geti (fo_Xw X) hw fc_X20 hO (k := 3) (by decide) rfl q728 dX6_leaf_14 ?_
  have hf0 := hf
  clear hf
  refine fa_I (fr := 4) (lo := 114) (val := vlV) (rest := [.ref (eb E + nx0)]) (As := [.int (gi_ sa2 o 3)]) X hz hm_X8_init q854 q130 q852 q853 rfl hR0 rfl rfl hl.1 (Nat.le_of_ble_eq_true rfl) dX6_leaf_17 (fun rQ aQ hQ => wX8_init_7 l E K V mi hSX nx0 (gi_ sa2 o 3) (4) (114) (Nat.le_refl _) (Nat.le_refl _) cN cS tg2 nx2 ns2 hq3 sa2 hI hz.2.2.2.2.2.2.1 hz.2.2.2.2.2.2.2.2 rQ aQ hQ) hf0 (fun nX EX tgX nxX nsX stX H locs hTX hxX hz2 hf => ?_) (fun x4 tg5 nx5 ns5 sa5 H locs hext hz2 hf => ?_)
  · exact fda_x hxx hTX hz2 hf
  clear hf0
  have hO := hext.t hI hO
  have hq3 := hext.t hI hq3
  have hz := hz2
  have hw := hz.1
  have hI := hz.2.1
  clear hz2 hext
  exact fx_athrow hx hb dX6_leaf_20 (fda_x hxx ⟨7, _, hq3, fc_X8.1, rfl⟩ hz hf)

set_option maxHeartbeats 1000000 in
theorem wX6_isValue_17 (l : Launch) (E : fo_E) (K V : Nat → Nat) (mi : Nat) (hSX : fo_SX E K V mi) (G : Nat) (o : Nat) (p1 : Nat) (fr lo : Nat) (hfr : 11 ≤ fr) (hlo : 222 ≤ lo) (cN cS : Nat) (tg0 : Nat → Nat × Nat) (nx0 ns0 : Nat) (hO : tg0 o = (1, 17)) (hs_p1 : p1 < 50) (st0 : fo_St) (hI : fo_I E tg0 nx0) (hcN : nx0 ≤ cN) (hcS : ns0 ≤ cS) (ρZ : Int32 ⊕ Nat) (aZ : fo_A) (hf : fX6_isValue cN cS G o p1 tg0 nx0 ns0 st0 = some (ρZ, aZ)) : CA vlI l E yX6_isValue (ws_ yX6_isValue cX6_isValue 2 (some .boolean)) fr lo cN cS [.ref (eb E + o), .ref (K p1)] (tg0, nx0, ns0, st0) ρZ aZ := by
  refine fea_z (a := (tg0, nx0, ns0, st0)) hm_X6_isValue (Nat.le_of_ble_eq_true rfl) hI hcN hcS (fun p e R s m args below meth c Q hRf hRl X hnm hend hxx ls hl hz => ?_)
  replace hRf : 11 ≤ R.frames := by rw [hRf]; exact hfr
  replace hRl : 222 ≤ R.locals := by rw [hRl]; exact hlo
  have hR0 : 10 + 1 ≤ R.frames ∧ 8 + (3 + 11) + (200) ≤ R.locals := ⟨by omega, by omega⟩
  have hR1 : 5 + 1 ≤ R.frames ∧ 8 + (1 + 11) + (135) ≤ R.locals := ⟨by omega, by omega⟩
  have hR2 : 1 + 1 ≤ R.frames ∧ 8 + (1 + 11) + (23) ≤ R.locals := ⟨by omega, by omega⟩
  have hx := X.1.1
  have hb := X.1.2.1
  have hl : lv_has ls 2 [(0, .ref (eb E + o)), (1, .ref (K p1))] := hl
  have hz : fo_Z E R s cN cS (tg0, nx0, ns0, st0) tg0 nx0 ns0 st0 s.heap [] := hz
  have hw := hz.1
  show W p l e R s m args below meth c s.heap [] (nx0 - nx0) (ns0 - ns0) Q (F0 m 0 ls [])
  unfold fX6_isValue at hf
  generalize s.heap = H at hz hw ⊢
  generalize ([] : List Loc) = locs at hz hw ⊢
  refine lv_aload_n hx hb dX6_isValue_0 rfl (lv_at hl 0 rfl) ?_
  refine lv_aload_n hx hb dX6_isValue_1 rfl (lv_at hl 1 rfl) ?_
  have hf0 := hf
  clear hf
  refine fa_O (n := 1) (fr := 10) (lo := 200) (val := vlI) (rest := []) (As := [.ref (K p1)]) X hz (lw_O q904 q2228 q785 q2230 q785 q125 q786) q786 ⟨by decide, by decide, by decide +kernel⟩ hR0 fc_X20 hO rfl rfl hl.1 (Nat.le_of_ble_eq_true rfl) dX6_isValue_2 (fun rQ aQ hQ => wX6_is_17 l E K V mi hSX G o p1 (10) (200) (Nat.le_refl _) (Nat.le_refl _) cN cS tg0 nx0 ns0 hO hs_p1 st0 hI hz.2.2.2.2.2.2.1 hz.2.2.2.2.2.2.2.2 rQ aQ hQ) hf0 (fun nX EX tgX nxX nsX stX H locs hTX hxX hz2 hf => ?_) (fun x1 tg2 nx2 ns2 sa2 H locs hext hz2 hf => ?_)
  · exact fda_x hxx hTX hz2 hf
  clear hf0
  have hO := hext.t hI hO
  have hz := hz2
  have hw := hz.1
  have hI := hz.2.1
  clear hz2 hext
  have hf0 := hf
  clear hf
  refine fb_zne (tgt := 10) hx hb dX6_isValue_5 (by decide) hf0 (fun hf => ?_) (fun hf => ?_)
  · clear hf0
    refine lv_aload_n hx hb dX6_isValue_10 rfl (lv_at hl 0 rfl) ?_
    have hf0 := hf
    clear hf
    refine fa_O (n := 0) (fr := 5) (lo := 135) (val := vlV) (rest := []) (As := []) X hz (lw_O q925 q927 q926 q929 q926 q125 q930) q930 ⟨by decide, by decide, by decide +kernel⟩ hR1 fc_X20 hO rfl rfl hl.1 (Nat.le_of_ble_eq_true rfl) dX6_isValue_11 (fun rQ aQ hQ => wX6_leaf_17 l E K V mi hSX o (5) (135) (Nat.le_refl _) (Nat.le_refl _) cN cS tg2 nx2 ns2 hO sa2 hI hz.2.2.2.2.2.2.1 hz.2.2.2.2.2.2.2.2 rQ aQ hQ) hf0 (fun nX EX tgX nxX nsX stX H locs hTX hxX hz2 hf => ?_) (fun x3 tg4 nx4 ns4 sa4 H locs hext hz2 hf => ?_)
    · exact fda_x hxx hTX hz2 hf
    clear hf0
    have hO := hext.t hI hO
    have hz := hz2
    have hw := hz.1
    have hI := hz.2.1
    clear hz2 hext
    refine lv_aload_n hx hb dX6_isValue_14 rfl (lv_at hl 0 rfl) ?_
    have hf0 := hf
    clear hf
    refine fa_O (n := 0) (fr := 1) (lo := 23) (val := vlV) (rest := []) (As := []) X hz (lw_O q762 q764 q763 q766 q763 q125 q767) q767 ⟨by decide, by decide, by decide +kernel⟩ hR2 fc_X20 hO rfl rfl hl.1 (Nat.le_of_ble_eq_true rfl) dX6_isValue_15 (fun rQ aQ hQ => wX6_next_17 l E G o (1) (23) (Nat.le_refl _) (Nat.le_refl _) cN cS tg4 nx4 ns4 hO sa4 hI hz.2.2.2.2.2.2.1 hz.2.2.2.2.2.2.2.2 rQ aQ hQ) hf0 (fun nX EX tgX nxX nsX stX H locs hTX hxX hz2 hf => ?_) (fun x5 tg6 nx6 ns6 sa6 H locs hext hz2 hf => ?_)
    · exact fda_x hxx hTX hz2 hf
    clear hf0
    have hO := hext.t hI hO
    have hz := hz2
    have hw := hz.1
    have hI := hz.2.1
    clear hz2 hext
    refine lv_iconst (v := (1 : Int32)) hx hb dX6_isValue_18 (by decide) ?_
    exact fda_z hend rfl hz hf dX6_isValue_19
  clear hf0
  refine lv_iconst (v := (0 : Int32)) hx hb dX6_isValue_8 (by decide) ?_
  exact fda_z hend rfl hz hf dX6_isValue_9

/-- ForestRooms$LawReader.value -/
def fX7_value (cN cS : Nat) (G : Nat) (o : Nat) (tg0 : Nat → Nat × Nat) (nx0 ns0 : Nat) (st0 : fo_St) : Option ((Int32 ⊕ Nat) × fo_A) := ba_ (fX6_isValue cN cS G o 7 tg0 nx0 ns0 st0) (fun x1 tg2 nx2 ns2 sa2 => if x1 = 0 then ba_ (fX6_isValue cN cS G o 8 tg2 nx2 ns2 sa2) (fun x3 tg4 nx4 ns4 sa4 => if x3 = 0 then ba_ (fX6_isValue cN cS G o 9 tg4 nx4 ns4 sa4) (fun x5 tg6 nx6 ns6 sa6 => if x5 = 0 then ba_ (fX6_isValue cN cS G o 10 tg6 nx6 ns6 sa6) (fun x7 tg8 nx8 ns8 sa8 => if x7 = 0 then ba_ (fX6_isValue cN cS G o 11 tg8 nx8 ns8 sa8) (fun x9 tg10 nx10 ns10 sa10 => if x9 = 0 then ba_ (fX6_isValue cN cS G o 12 tg10 nx10 ns10 sa10) (fun x11 tg12 nx12 ns12 sa12 => if x11 = 0 then ba_ (fX6_isValue cN cS G o 13 tg12 nx12 ns12 sa12) (fun x13 tg14 nx14 ns14 sa14 => if x13 = 0 then ba_ (fX6_isValue cN cS G o 14 tg14 nx14 ns14 sa14) (fun x15 tg16 nx16 ns16 sa16 => if x15 = 0 then ba_ (fX6_isValue cN cS G o 15 tg16 nx16 ns16 sa16) (fun x17 tg18 nx18 ns18 sa18 => if x17 = 0 then ba_ (fX6_isValue cN cS G o 16 tg18 nx18 ns18 sa18) (fun x19 tg20 nx20 ns20 sa20 => if x19 = 0 then ba_ (fX6_isValue cN cS G o 17 tg20 nx20 ns20 sa20) (fun x21 tg22 nx22 ns22 sa22 => if x21 = 0 then some (.inl (-1 : Int32), (tg22, nx22, ns22, sa22)) else some (.inl (10 : Int32), (tg22, nx22, ns22, sa22))) (fun nX tgX nxX nsX stX => some (.inr nX, (tgX, nxX, nsX, stX))) else some (.inl (9 : Int32), (tg20, nx20, ns20, sa20))) (fun nX tgX nxX nsX stX => some (.inr nX, (tgX, nxX, nsX, stX))) else some (.inl (8 : Int32), (tg18, nx18, ns18, sa18))) (fun nX tgX nxX nsX stX => some (.inr nX, (tgX, nxX, nsX, stX))) else some (.inl (7 : Int32), (tg16, nx16, ns16, sa16))) (fun nX tgX nxX nsX stX => some (.inr nX, (tgX, nxX, nsX, stX))) else some (.inl (6 : Int32), (tg14, nx14, ns14, sa14))) (fun nX tgX nxX nsX stX => some (.inr nX, (tgX, nxX, nsX, stX))) else some (.inl (5 : Int32), (tg12, nx12, ns12, sa12))) (fun nX tgX nxX nsX stX => some (.inr nX, (tgX, nxX, nsX, stX))) else some (.inl (4 : Int32), (tg10, nx10, ns10, sa10))) (fun nX tgX nxX nsX stX => some (.inr nX, (tgX, nxX, nsX, stX))) else some (.inl (3 : Int32), (tg8, nx8, ns8, sa8))) (fun nX tgX nxX nsX stX => some (.inr nX, (tgX, nxX, nsX, stX))) else some (.inl (2 : Int32), (tg6, nx6, ns6, sa6))) (fun nX tgX nxX nsX stX => some (.inr nX, (tgX, nxX, nsX, stX))) else some (.inl (1 : Int32), (tg4, nx4, ns4, sa4))) (fun nX tgX nxX nsX stX => some (.inr nX, (tgX, nxX, nsX, stX))) else some (.inl (0 : Int32), (tg2, nx2, ns2, sa2))) (fun nX tgX nxX nsX stX => some (.inr nX, (tgX, nxX, nsX, stX)))
theorem hm_X7_value : fo_M yX7_value 0 := ⟨by decide +kernel, by decide +kernel, by decide +kernel, by decide +kernel⟩
set_option maxHeartbeats 1000000 in
theorem wX7_value_6 (l : Launch) (E : fo_E) (K V : Nat → Nat) (mi : Nat) (hSX : fo_SX E K V mi) (G : Nat) (o : Nat) (fr lo : Nat) (hfr : 12 ≤ fr) (hlo : 243 ≤ lo) (cN cS : Nat) (tg0 : Nat → Nat × Nat) (nx0 ns0 : Nat) (hO : tg0 o = (1, 6)) (st0 : fo_St) (hI : fo_I E tg0 nx0) (hcN : nx0 ≤ cN) (hcS : ns0 ≤ cS) (ρZ : Int32 ⊕ Nat) (aZ : fo_A) (hf : fX7_value cN cS G o tg0 nx0 ns0 st0 = some (ρZ, aZ)) : CA vlI l E yX7_value (ws_ yX7_value cX7_value 1 (some .int)) fr lo cN cS [.ref (eb E + o)] (tg0, nx0, ns0, st0) ρZ aZ := by
  refine fea_i (a := (tg0, nx0, ns0, st0)) hm_X7_value (Nat.le_of_ble_eq_true rfl) hI hcN hcS (fun p e R s m args below meth c Q hRf hRl X hnm hend hxx ls hl hz => ?_)
  replace hRf : 12 ≤ R.frames := by rw [hRf]; exact hfr
  replace hRl : 243 ≤ R.locals := by rw [hRl]; exact hlo
  have hR0 : 11 + 1 ≤ R.frames ∧ 8 + (2 + 11) + (222) ≤ R.locals := ⟨by omega, by omega⟩
  have hx := X.1.1
  have hb := X.1.2.1
  have hl : lv_has ls 1 [(0, .ref (eb E + o))] := hl
  have hz : fo_Z E R s cN cS (tg0, nx0, ns0, st0) tg0 nx0 ns0 st0 s.heap [] := hz
  have hw := hz.1
  show W p l e R s m args below meth c s.heap [] (nx0 - nx0) (ns0 - ns0) Q (F0 m 0 ls [])
  unfold fX7_value at hf
  generalize s.heap = H at hz hw ⊢
  generalize ([] : List Loc) = locs at hz hw ⊢
  refine lv_aload_n hx hb dX7_value_0 rfl (lv_at hl 0 rfl) ?_
  refine fo_ldcS X hSX lq_7 dX7_value_1 ?_
  have hf0 := hf
  clear hf
  refine fa_O (n := 1) (fr := 11) (lo := 222) (val := vlI) (rest := []) (As := [.ref (K 7)]) X hz (lw_O q957 q958 q961 q960 q961 q125 q962) q962 ⟨by decide, by decide, by decide +kernel⟩ hR0 fc_X7 hO rfl rfl hl.1 (Nat.le_of_ble_eq_true rfl) dX7_value_3 (fun rQ aQ hQ => wX6_isValue_6 l E K V mi hSX G o 7 (11) (222) (Nat.le_refl _) (Nat.le_refl _) cN cS tg0 nx0 ns0 hO (by decide) st0 hI hz.2.2.2.2.2.2.1 hz.2.2.2.2.2.2.2.2 rQ aQ hQ) hf0 (fun nX EX tgX nxX nsX stX H locs hTX hxX hz2 hf => ?_) (fun x1 tg2 nx2 ns2 sa2 H locs hext hz2 hf => ?_)
  · exact fda_x hxx hTX hz2 hf
  clear hf0
  have hO := hext.t hI hO
  have hz := hz2
  have hw := hz.1
  have hI := hz.2.1
  clear hz2 hext
  have hf0 := hf
  clear hf
  refine fb_zeq (tgt := 11) hx hb dX7_value_6 (by decide) hf0 (fun hf => ?_) (fun hf => ?_)
  · clear hf0
    refine lv_aload_n hx hb dX7_value_11 rfl (lv_at hl 0 rfl) ?_
    refine fo_ldcS X hSX lq_8 dX7_value_12 ?_
    have hf0 := hf
    clear hf
    refine fa_O (n := 1) (fr := 11) (lo := 222) (val := vlI) (rest := []) (As := [.ref (K 8)]) X hz (lw_O q957 q958 q961 q960 q961 q125 q962) q962 ⟨by decide, by decide, by decide +kernel⟩ hR0 fc_X7 hO rfl rfl hl.1 (Nat.le_of_ble_eq_true rfl) dX7_value_14 (fun rQ aQ hQ => wX6_isValue_6 l E K V mi hSX G o 8 (11) (222) (Nat.le_refl _) (Nat.le_refl _) cN cS tg2 nx2 ns2 hO (by decide) sa2 hI hz.2.2.2.2.2.2.1 hz.2.2.2.2.2.2.2.2 rQ aQ hQ) hf0 (fun nX EX tgX nxX nsX stX H locs hTX hxX hz2 hf => ?_) (fun x3 tg4 nx4 ns4 sa4 H locs hext hz2 hf => ?_)
    · exact fda_x hxx hTX hz2 hf
    clear hf0
    have hO := hext.t hI hO
    have hz := hz2
    have hw := hz.1
    have hI := hz.2.1
    clear hz2 hext
    have hf0 := hf
    clear hf
    refine fb_zeq (tgt := 22) hx hb dX7_value_17 (by decide) hf0 (fun hf => ?_) (fun hf => ?_)
    · clear hf0
      refine lv_aload_n hx hb dX7_value_22 rfl (lv_at hl 0 rfl) ?_
      refine fo_ldcS X hSX lq_9 dX7_value_23 ?_
      have hf0 := hf
      clear hf
      refine fa_O (n := 1) (fr := 11) (lo := 222) (val := vlI) (rest := []) (As := [.ref (K 9)]) X hz (lw_O q957 q958 q961 q960 q961 q125 q962) q962 ⟨by decide, by decide, by decide +kernel⟩ hR0 fc_X7 hO rfl rfl hl.1 (Nat.le_of_ble_eq_true rfl) dX7_value_25 (fun rQ aQ hQ => wX6_isValue_6 l E K V mi hSX G o 9 (11) (222) (Nat.le_refl _) (Nat.le_refl _) cN cS tg4 nx4 ns4 hO (by decide) sa4 hI hz.2.2.2.2.2.2.1 hz.2.2.2.2.2.2.2.2 rQ aQ hQ) hf0 (fun nX EX tgX nxX nsX stX H locs hTX hxX hz2 hf => ?_) (fun x5 tg6 nx6 ns6 sa6 H locs hext hz2 hf => ?_)
      · exact fda_x hxx hTX hz2 hf
      clear hf0
      have hO := hext.t hI hO
      have hz := hz2
      have hw := hz.1
      have hI := hz.2.1
      clear hz2 hext
      have hf0 := hf
      clear hf
      refine fb_zeq (tgt := 33) hx hb dX7_value_28 (by decide) hf0 (fun hf => ?_) (fun hf => ?_)
      · clear hf0
        refine lv_aload_n hx hb dX7_value_33 rfl (lv_at hl 0 rfl) ?_
        refine fo_ldcS X hSX lq_10 dX7_value_34 ?_
        have hf0 := hf
        clear hf
        refine fa_O (n := 1) (fr := 11) (lo := 222) (val := vlI) (rest := []) (As := [.ref (K 10)]) X hz (lw_O q957 q958 q961 q960 q961 q125 q962) q962 ⟨by decide, by decide, by decide +kernel⟩ hR0 fc_X7 hO rfl rfl hl.1 (Nat.le_of_ble_eq_true rfl) dX7_value_36 (fun rQ aQ hQ => wX6_isValue_6 l E K V mi hSX G o 10 (11) (222) (Nat.le_refl _) (Nat.le_refl _) cN cS tg6 nx6 ns6 hO (by decide) sa6 hI hz.2.2.2.2.2.2.1 hz.2.2.2.2.2.2.2.2 rQ aQ hQ) hf0 (fun nX EX tgX nxX nsX stX H locs hTX hxX hz2 hf => ?_) (fun x7 tg8 nx8 ns8 sa8 H locs hext hz2 hf => ?_)
        · exact fda_x hxx hTX hz2 hf
        clear hf0
        have hO := hext.t hI hO
        have hz := hz2
        have hw := hz.1
        have hI := hz.2.1
        clear hz2 hext
        have hf0 := hf
        clear hf
        refine fb_zeq (tgt := 44) hx hb dX7_value_39 (by decide) hf0 (fun hf => ?_) (fun hf => ?_)
        · clear hf0
          refine lv_aload_n hx hb dX7_value_44 rfl (lv_at hl 0 rfl) ?_
          refine fo_ldcS X hSX lq_11 dX7_value_45 ?_
          have hf0 := hf
          clear hf
          refine fa_O (n := 1) (fr := 11) (lo := 222) (val := vlI) (rest := []) (As := [.ref (K 11)]) X hz (lw_O q957 q958 q961 q960 q961 q125 q962) q962 ⟨by decide, by decide, by decide +kernel⟩ hR0 fc_X7 hO rfl rfl hl.1 (Nat.le_of_ble_eq_true rfl) dX7_value_47 (fun rQ aQ hQ => wX6_isValue_6 l E K V mi hSX G o 11 (11) (222) (Nat.le_refl _) (Nat.le_refl _) cN cS tg8 nx8 ns8 hO (by decide) sa8 hI hz.2.2.2.2.2.2.1 hz.2.2.2.2.2.2.2.2 rQ aQ hQ) hf0 (fun nX EX tgX nxX nsX stX H locs hTX hxX hz2 hf => ?_) (fun x9 tg10 nx10 ns10 sa10 H locs hext hz2 hf => ?_)
          · exact fda_x hxx hTX hz2 hf
          clear hf0
          have hO := hext.t hI hO
          have hz := hz2
          have hw := hz.1
          have hI := hz.2.1
          clear hz2 hext
          have hf0 := hf
          clear hf
          refine fb_zeq (tgt := 55) hx hb dX7_value_50 (by decide) hf0 (fun hf => ?_) (fun hf => ?_)
          · clear hf0
            refine lv_aload_n hx hb dX7_value_55 rfl (lv_at hl 0 rfl) ?_
            refine fo_ldcS X hSX lq_12 dX7_value_56 ?_
            have hf0 := hf
            clear hf
            refine fa_O (n := 1) (fr := 11) (lo := 222) (val := vlI) (rest := []) (As := [.ref (K 12)]) X hz (lw_O q957 q958 q961 q960 q961 q125 q962) q962 ⟨by decide, by decide, by decide +kernel⟩ hR0 fc_X7 hO rfl rfl hl.1 (Nat.le_of_ble_eq_true rfl) dX7_value_58 (fun rQ aQ hQ => wX6_isValue_6 l E K V mi hSX G o 12 (11) (222) (Nat.le_refl _) (Nat.le_refl _) cN cS tg10 nx10 ns10 hO (by decide) sa10 hI hz.2.2.2.2.2.2.1 hz.2.2.2.2.2.2.2.2 rQ aQ hQ) hf0 (fun nX EX tgX nxX nsX stX H locs hTX hxX hz2 hf => ?_) (fun x11 tg12 nx12 ns12 sa12 H locs hext hz2 hf => ?_)
            · exact fda_x hxx hTX hz2 hf
            clear hf0
            have hO := hext.t hI hO
            have hz := hz2
            have hw := hz.1
            have hI := hz.2.1
            clear hz2 hext
            have hf0 := hf
            clear hf
            refine fb_zeq (tgt := 66) hx hb dX7_value_61 (by decide) hf0 (fun hf => ?_) (fun hf => ?_)
            · clear hf0
              refine lv_aload_n hx hb dX7_value_66 rfl (lv_at hl 0 rfl) ?_
              refine fo_ldcS X hSX lq_13 dX7_value_67 ?_
              have hf0 := hf
              clear hf
              refine fa_O (n := 1) (fr := 11) (lo := 222) (val := vlI) (rest := []) (As := [.ref (K 13)]) X hz (lw_O q957 q958 q961 q960 q961 q125 q962) q962 ⟨by decide, by decide, by decide +kernel⟩ hR0 fc_X7 hO rfl rfl hl.1 (Nat.le_of_ble_eq_true rfl) dX7_value_69 (fun rQ aQ hQ => wX6_isValue_6 l E K V mi hSX G o 13 (11) (222) (Nat.le_refl _) (Nat.le_refl _) cN cS tg12 nx12 ns12 hO (by decide) sa12 hI hz.2.2.2.2.2.2.1 hz.2.2.2.2.2.2.2.2 rQ aQ hQ) hf0 (fun nX EX tgX nxX nsX stX H locs hTX hxX hz2 hf => ?_) (fun x13 tg14 nx14 ns14 sa14 H locs hext hz2 hf => ?_)
              · exact fda_x hxx hTX hz2 hf
              clear hf0
              have hO := hext.t hI hO
              have hz := hz2
              have hw := hz.1
              have hI := hz.2.1
              clear hz2 hext
              have hf0 := hf
              clear hf
              refine fb_zeq (tgt := 78) hx hb dX7_value_72 (by decide) hf0 (fun hf => ?_) (fun hf => ?_)
              · clear hf0
                refine lv_aload_n hx hb dX7_value_78 rfl (lv_at hl 0 rfl) ?_
                refine fo_ldcS X hSX lq_14 dX7_value_79 ?_
                have hf0 := hf
                clear hf
                refine fa_O (n := 1) (fr := 11) (lo := 222) (val := vlI) (rest := []) (As := [.ref (K 14)]) X hz (lw_O q957 q958 q961 q960 q961 q125 q962) q962 ⟨by decide, by decide, by decide +kernel⟩ hR0 fc_X7 hO rfl rfl hl.1 (Nat.le_of_ble_eq_true rfl) dX7_value_81 (fun rQ aQ hQ => wX6_isValue_6 l E K V mi hSX G o 14 (11) (222) (Nat.le_refl _) (Nat.le_refl _) cN cS tg14 nx14 ns14 hO (by decide) sa14 hI hz.2.2.2.2.2.2.1 hz.2.2.2.2.2.2.2.2 rQ aQ hQ) hf0 (fun nX EX tgX nxX nsX stX H locs hTX hxX hz2 hf => ?_) (fun x15 tg16 nx16 ns16 sa16 H locs hext hz2 hf => ?_)
                · exact fda_x hxx hTX hz2 hf
                clear hf0
                have hO := hext.t hI hO
                have hz := hz2
                have hw := hz.1
                have hI := hz.2.1
                clear hz2 hext
                have hf0 := hf
                clear hf
                refine fb_zeq (tgt := 90) hx hb dX7_value_84 (by decide) hf0 (fun hf => ?_) (fun hf => ?_)
                · clear hf0
                  refine lv_aload_n hx hb dX7_value_90 rfl (lv_at hl 0 rfl) ?_
                  refine fo_ldcS X hSX lq_15 dX7_value_91 ?_
                  have hf0 := hf
                  clear hf
                  refine fa_O (n := 1) (fr := 11) (lo := 222) (val := vlI) (rest := []) (As := [.ref (K 15)]) X hz (lw_O q957 q958 q961 q960 q961 q125 q962) q962 ⟨by decide, by decide, by decide +kernel⟩ hR0 fc_X7 hO rfl rfl hl.1 (Nat.le_of_ble_eq_true rfl) dX7_value_93 (fun rQ aQ hQ => wX6_isValue_6 l E K V mi hSX G o 15 (11) (222) (Nat.le_refl _) (Nat.le_refl _) cN cS tg16 nx16 ns16 hO (by decide) sa16 hI hz.2.2.2.2.2.2.1 hz.2.2.2.2.2.2.2.2 rQ aQ hQ) hf0 (fun nX EX tgX nxX nsX stX H locs hTX hxX hz2 hf => ?_) (fun x17 tg18 nx18 ns18 sa18 H locs hext hz2 hf => ?_)
                  · exact fda_x hxx hTX hz2 hf
                  clear hf0
                  have hO := hext.t hI hO
                  have hz := hz2
                  have hw := hz.1
                  have hI := hz.2.1
                  clear hz2 hext
                  have hf0 := hf
                  clear hf
                  refine fb_zeq (tgt := 102) hx hb dX7_value_96 (by decide) hf0 (fun hf => ?_) (fun hf => ?_)
                  · clear hf0
                    refine lv_aload_n hx hb dX7_value_102 rfl (lv_at hl 0 rfl) ?_
                    refine fo_ldcS X hSX lq_16 dX7_value_103 ?_
                    have hf0 := hf
                    clear hf
                    refine fa_O (n := 1) (fr := 11) (lo := 222) (val := vlI) (rest := []) (As := [.ref (K 16)]) X hz (lw_O q957 q958 q961 q960 q961 q125 q962) q962 ⟨by decide, by decide, by decide +kernel⟩ hR0 fc_X7 hO rfl rfl hl.1 (Nat.le_of_ble_eq_true rfl) dX7_value_105 (fun rQ aQ hQ => wX6_isValue_6 l E K V mi hSX G o 16 (11) (222) (Nat.le_refl _) (Nat.le_refl _) cN cS tg18 nx18 ns18 hO (by decide) sa18 hI hz.2.2.2.2.2.2.1 hz.2.2.2.2.2.2.2.2 rQ aQ hQ) hf0 (fun nX EX tgX nxX nsX stX H locs hTX hxX hz2 hf => ?_) (fun x19 tg20 nx20 ns20 sa20 H locs hext hz2 hf => ?_)
                    · exact fda_x hxx hTX hz2 hf
                    clear hf0
                    have hO := hext.t hI hO
                    have hz := hz2
                    have hw := hz.1
                    have hI := hz.2.1
                    clear hz2 hext
                    have hf0 := hf
                    clear hf
                    refine fb_zeq (tgt := 114) hx hb dX7_value_108 (by decide) hf0 (fun hf => ?_) (fun hf => ?_)
                    · clear hf0
                      refine lv_aload_n hx hb dX7_value_114 rfl (lv_at hl 0 rfl) ?_
                      refine fo_ldcS X hSX lq_17 dX7_value_115 ?_
                      have hf0 := hf
                      clear hf
                      refine fa_O (n := 1) (fr := 11) (lo := 222) (val := vlI) (rest := []) (As := [.ref (K 17)]) X hz (lw_O q957 q958 q961 q960 q961 q125 q962) q962 ⟨by decide, by decide, by decide +kernel⟩ hR0 fc_X7 hO rfl rfl hl.1 (Nat.le_of_ble_eq_true rfl) dX7_value_117 (fun rQ aQ hQ => wX6_isValue_6 l E K V mi hSX G o 17 (11) (222) (Nat.le_refl _) (Nat.le_refl _) cN cS tg20 nx20 ns20 hO (by decide) sa20 hI hz.2.2.2.2.2.2.1 hz.2.2.2.2.2.2.2.2 rQ aQ hQ) hf0 (fun nX EX tgX nxX nsX stX H locs hTX hxX hz2 hf => ?_) (fun x21 tg22 nx22 ns22 sa22 H locs hext hz2 hf => ?_)
                      · exact fda_x hxx hTX hz2 hf
                      clear hf0
                      have hO := hext.t hI hO
                      have hz := hz2
                      have hw := hz.1
                      have hI := hz.2.1
                      clear hz2 hext
                      have hf0 := hf
                      clear hf
                      refine fb_zeq (tgt := 128) hx hb dX7_value_120 (by decide) hf0 (fun hf => ?_) (fun hf => ?_)
                      · clear hf0
                        refine lv_iconst (v := (-1 : Int32)) hx hb dX7_value_128 (by decide) ?_
                        exact fda_i hend hz hf dX7_value_129
                      clear hf0
                      refine lv_bipush (v := (10 : Int32)) hx hb dX7_value_123 (by decide) ?_
                      refine lv_goto (tgt := 129) hx hb dX7_value_125 (by decide) ?_
                      exact fda_i hend hz hf dX7_value_129
                    clear hf0
                    refine lv_bipush (v := (9 : Int32)) hx hb dX7_value_111 (by decide) ?_
                    exact fda_i hend hz hf dX7_value_113
                  clear hf0
                  refine lv_bipush (v := (8 : Int32)) hx hb dX7_value_99 (by decide) ?_
                  exact fda_i hend hz hf dX7_value_101
                clear hf0
                refine lv_bipush (v := (7 : Int32)) hx hb dX7_value_87 (by decide) ?_
                exact fda_i hend hz hf dX7_value_89
              clear hf0
              refine lv_bipush (v := (6 : Int32)) hx hb dX7_value_75 (by decide) ?_
              exact fda_i hend hz hf dX7_value_77
            clear hf0
            refine lv_iconst (v := (5 : Int32)) hx hb dX7_value_64 (by decide) ?_
            exact fda_i hend hz hf dX7_value_65
          clear hf0
          refine lv_iconst (v := (4 : Int32)) hx hb dX7_value_53 (by decide) ?_
          exact fda_i hend hz hf dX7_value_54
        clear hf0
        refine lv_iconst (v := (3 : Int32)) hx hb dX7_value_42 (by decide) ?_
        exact fda_i hend hz hf dX7_value_43
      clear hf0
      refine lv_iconst (v := (2 : Int32)) hx hb dX7_value_31 (by decide) ?_
      exact fda_i hend hz hf dX7_value_32
    clear hf0
    refine lv_iconst (v := (1 : Int32)) hx hb dX7_value_20 (by decide) ?_
    exact fda_i hend hz hf dX7_value_21
  clear hf0
  refine lv_iconst (v := (0 : Int32)) hx hb dX7_value_9 (by decide) ?_
  exact fda_i hend hz hf dX7_value_10

/-- ForestRooms$OrderReader.value -/
def fX20_value (cN cS : Nat) (G : Nat) (o : Nat) (tg0 : Nat → Nat × Nat) (nx0 ns0 : Nat) (st0 : fo_St) : Option ((Int32 ⊕ Nat) × fo_A) := ba_ (fX6_isValue cN cS G o 18 tg0 nx0 ns0 st0) (fun x1 tg2 nx2 ns2 sa2 => if x1 = 0 then ba_ (fX6_isValue cN cS G o 19 tg2 nx2 ns2 sa2) (fun x3 tg4 nx4 ns4 sa4 => if x3 = 0 then ba_ (fX6_isValue cN cS G o 20 tg4 nx4 ns4 sa4) (fun x5 tg6 nx6 ns6 sa6 => if x5 = 0 then ba_ (fX6_isValue cN cS G o 21 tg6 nx6 ns6 sa6) (fun x7 tg8 nx8 ns8 sa8 => if x7 = 0 then ba_ (fX6_isValue cN cS G o 22 tg8 nx8 ns8 sa8) (fun x9 tg10 nx10 ns10 sa10 => if x9 = 0 then ba_ (fX6_isValue cN cS G o 23 tg10 nx10 ns10 sa10) (fun x11 tg12 nx12 ns12 sa12 => if x11 = 0 then ba_ (fX6_isValue cN cS G o 24 tg12 nx12 ns12 sa12) (fun x13 tg14 nx14 ns14 sa14 => if x13 = 0 then some (.inl (-1 : Int32), (tg14, nx14, ns14, sa14)) else ba_ (fX6_number cN cS G o (0 : Int32) (15 : Int32) tg14 nx14 ns14 sa14) (fun x15 tg16 nx16 ns16 sa16 => some (.inl ((36 : Int32) + x15), (tg16, nx16, ns16, sa16))) (fun nX tgX nxX nsX stX => some (.inr nX, (tgX, nxX, nsX, stX)))) (fun nX tgX nxX nsX stX => some (.inr nX, (tgX, nxX, nsX, stX))) else ba_ (fX6_number cN cS G o (0 : Int32) (15 : Int32) tg12 nx12 ns12 sa12) (fun x17 tg18 nx18 ns18 sa18 => some (.inl ((20 : Int32) + x17), (tg18, nx18, ns18, sa18))) (fun nX tgX nxX nsX stX => some (.inr nX, (tgX, nxX, nsX, stX)))) (fun nX tgX nxX nsX stX => some (.inr nX, (tgX, nxX, nsX, stX))) else ba_ (fX6_number cN cS G o (0 : Int32) (15 : Int32) tg10 nx10 ns10 sa10) (fun x19 tg20 nx20 ns20 sa20 => some (.inl ((4 : Int32) + x19), (tg20, nx20, ns20, sa20))) (fun nX tgX nxX nsX stX => some (.inr nX, (tgX, nxX, nsX, stX)))) (fun nX tgX nxX nsX stX => some (.inr nX, (tgX, nxX, nsX, stX))) else some (.inl (3 : Int32), (tg8, nx8, ns8, sa8))) (fun nX tgX nxX nsX stX => some (.inr nX, (tgX, nxX, nsX, stX))) else some (.inl (2 : Int32), (tg6, nx6, ns6, sa6))) (fun nX tgX nxX nsX stX => some (.inr nX, (tgX, nxX, nsX, stX))) else some (.inl (1 : Int32), (tg4, nx4, ns4, sa4))) (fun nX tgX nxX nsX stX => some (.inr nX, (tgX, nxX, nsX, stX))) else some (.inl (0 : Int32), (tg2, nx2, ns2, sa2))) (fun nX tgX nxX nsX stX => some (.inr nX, (tgX, nxX, nsX, stX)))
theorem hm_X20_value : fo_M yX20_value 0 := ⟨by decide +kernel, by decide +kernel, by decide +kernel, by decide +kernel⟩
set_option maxHeartbeats 1000000 in
theorem wX20_value_17 (l : Launch) (E : fo_E) (K V : Nat → Nat) (mi : Nat) (hSX : fo_SX E K V mi) (G : Nat) (o : Nat) (fr lo : Nat) (hfr : 12 ≤ fr) (hlo : 243 ≤ lo) (cN cS : Nat) (tg0 : Nat → Nat × Nat) (nx0 ns0 : Nat) (hO : tg0 o = (1, 17)) (st0 : fo_St) (hI : fo_I E tg0 nx0) (hcN : nx0 ≤ cN) (hcS : ns0 ≤ cS) (ρZ : Int32 ⊕ Nat) (aZ : fo_A) (hf : fX20_value cN cS G o tg0 nx0 ns0 st0 = some (ρZ, aZ)) : CA vlI l E yX20_value (ws_ yX20_value cX20_value 1 (some .int)) fr lo cN cS [.ref (eb E + o)] (tg0, nx0, ns0, st0) ρZ aZ := by
  refine fea_i (a := (tg0, nx0, ns0, st0)) hm_X20_value (Nat.le_of_ble_eq_true rfl) hI hcN hcS (fun p e R s m args below meth c Q hRf hRl X hnm hend hxx ls hl hz => ?_)
  replace hRf : 12 ≤ R.frames := by rw [hRf]; exact hfr
  replace hRl : 243 ≤ R.locals := by rw [hRl]; exact hlo
  have hR0 : 11 + 1 ≤ R.frames ∧ 8 + (2 + 11) + (222) ≤ R.locals := ⟨by omega, by omega⟩
  have hR1 : 5 + 1 ≤ R.frames ∧ 8 + (5 + 11) + (135) ≤ R.locals := ⟨by omega, by omega⟩
  have hx := X.1.1
  have hb := X.1.2.1
  have hl : lv_has ls 1 [(0, .ref (eb E + o))] := hl
  have hz : fo_Z E R s cN cS (tg0, nx0, ns0, st0) tg0 nx0 ns0 st0 s.heap [] := hz
  have hw := hz.1
  show W p l e R s m args below meth c s.heap [] (nx0 - nx0) (ns0 - ns0) Q (F0 m 0 ls [])
  unfold fX20_value at hf
  generalize s.heap = H at hz hw ⊢
  generalize ([] : List Loc) = locs at hz hw ⊢
  refine lv_aload_n hx hb dX20_value_0 rfl (lv_at hl 0 rfl) ?_
  refine fo_ldcS X hSX lq_18 dX20_value_1 ?_
  have hf0 := hf
  clear hf
  refine fa_O (n := 1) (fr := 11) (lo := 222) (val := vlI) (rest := []) (As := [.ref (K 18)]) X hz (lw_O q977 q978 q961 q979 q961 q125 q962) q962 ⟨by decide, by decide, by decide +kernel⟩ hR0 fc_X20 hO rfl rfl hl.1 (Nat.le_of_ble_eq_true rfl) dX20_value_3 (fun rQ aQ hQ => wX6_isValue_17 l E K V mi hSX G o 18 (11) (222) (Nat.le_refl _) (Nat.le_refl _) cN cS tg0 nx0 ns0 hO (by decide) st0 hI hz.2.2.2.2.2.2.1 hz.2.2.2.2.2.2.2.2 rQ aQ hQ) hf0 (fun nX EX tgX nxX nsX stX H locs hTX hxX hz2 hf => ?_) (fun x1 tg2 nx2 ns2 sa2 H locs hext hz2 hf => ?_)
  · exact fda_x hxx hTX hz2 hf
  clear hf0
  have hO := hext.t hI hO
  have hz := hz2
  have hw := hz.1
  have hI := hz.2.1
  clear hz2 hext
  have hf0 := hf
  clear hf
  refine fb_zeq (tgt := 11) hx hb dX20_value_6 (by decide) hf0 (fun hf => ?_) (fun hf => ?_)
  · clear hf0
    refine lv_aload_n hx hb dX20_value_11 rfl (lv_at hl 0 rfl) ?_
    refine fo_ldcS X hSX lq_19 dX20_value_12 ?_
    have hf0 := hf
    clear hf
    refine fa_O (n := 1) (fr := 11) (lo := 222) (val := vlI) (rest := []) (As := [.ref (K 19)]) X hz (lw_O q977 q978 q961 q979 q961 q125 q962) q962 ⟨by decide, by decide, by decide +kernel⟩ hR0 fc_X20 hO rfl rfl hl.1 (Nat.le_of_ble_eq_true rfl) dX20_value_14 (fun rQ aQ hQ => wX6_isValue_17 l E K V mi hSX G o 19 (11) (222) (Nat.le_refl _) (Nat.le_refl _) cN cS tg2 nx2 ns2 hO (by decide) sa2 hI hz.2.2.2.2.2.2.1 hz.2.2.2.2.2.2.2.2 rQ aQ hQ) hf0 (fun nX EX tgX nxX nsX stX H locs hTX hxX hz2 hf => ?_) (fun x3 tg4 nx4 ns4 sa4 H locs hext hz2 hf => ?_)
    · exact fda_x hxx hTX hz2 hf
    clear hf0
    have hO := hext.t hI hO
    have hz := hz2
    have hw := hz.1
    have hI := hz.2.1
    clear hz2 hext
    have hf0 := hf
    clear hf
    refine fb_zeq (tgt := 22) hx hb dX20_value_17 (by decide) hf0 (fun hf => ?_) (fun hf => ?_)
    · clear hf0
      refine lv_aload_n hx hb dX20_value_22 rfl (lv_at hl 0 rfl) ?_
      refine fo_ldcS X hSX lq_20 dX20_value_23 ?_
      have hf0 := hf
      clear hf
      refine fa_O (n := 1) (fr := 11) (lo := 222) (val := vlI) (rest := []) (As := [.ref (K 20)]) X hz (lw_O q977 q978 q961 q979 q961 q125 q962) q962 ⟨by decide, by decide, by decide +kernel⟩ hR0 fc_X20 hO rfl rfl hl.1 (Nat.le_of_ble_eq_true rfl) dX20_value_25 (fun rQ aQ hQ => wX6_isValue_17 l E K V mi hSX G o 20 (11) (222) (Nat.le_refl _) (Nat.le_refl _) cN cS tg4 nx4 ns4 hO (by decide) sa4 hI hz.2.2.2.2.2.2.1 hz.2.2.2.2.2.2.2.2 rQ aQ hQ) hf0 (fun nX EX tgX nxX nsX stX H locs hTX hxX hz2 hf => ?_) (fun x5 tg6 nx6 ns6 sa6 H locs hext hz2 hf => ?_)
      · exact fda_x hxx hTX hz2 hf
      clear hf0
      have hO := hext.t hI hO
      have hz := hz2
      have hw := hz.1
      have hI := hz.2.1
      clear hz2 hext
      have hf0 := hf
      clear hf
      refine fb_zeq (tgt := 33) hx hb dX20_value_28 (by decide) hf0 (fun hf => ?_) (fun hf => ?_)
      · clear hf0
        refine lv_aload_n hx hb dX20_value_33 rfl (lv_at hl 0 rfl) ?_
        refine fo_ldcS X hSX lq_21 dX20_value_34 ?_
        have hf0 := hf
        clear hf
        refine fa_O (n := 1) (fr := 11) (lo := 222) (val := vlI) (rest := []) (As := [.ref (K 21)]) X hz (lw_O q977 q978 q961 q979 q961 q125 q962) q962 ⟨by decide, by decide, by decide +kernel⟩ hR0 fc_X20 hO rfl rfl hl.1 (Nat.le_of_ble_eq_true rfl) dX20_value_36 (fun rQ aQ hQ => wX6_isValue_17 l E K V mi hSX G o 21 (11) (222) (Nat.le_refl _) (Nat.le_refl _) cN cS tg6 nx6 ns6 hO (by decide) sa6 hI hz.2.2.2.2.2.2.1 hz.2.2.2.2.2.2.2.2 rQ aQ hQ) hf0 (fun nX EX tgX nxX nsX stX H locs hTX hxX hz2 hf => ?_) (fun x7 tg8 nx8 ns8 sa8 H locs hext hz2 hf => ?_)
        · exact fda_x hxx hTX hz2 hf
        clear hf0
        have hO := hext.t hI hO
        have hz := hz2
        have hw := hz.1
        have hI := hz.2.1
        clear hz2 hext
        have hf0 := hf
        clear hf
        refine fb_zeq (tgt := 44) hx hb dX20_value_39 (by decide) hf0 (fun hf => ?_) (fun hf => ?_)
        · clear hf0
          refine lv_aload_n hx hb dX20_value_44 rfl (lv_at hl 0 rfl) ?_
          refine fo_ldcS X hSX lq_22 dX20_value_45 ?_
          have hf0 := hf
          clear hf
          refine fa_O (n := 1) (fr := 11) (lo := 222) (val := vlI) (rest := []) (As := [.ref (K 22)]) X hz (lw_O q977 q978 q961 q979 q961 q125 q962) q962 ⟨by decide, by decide, by decide +kernel⟩ hR0 fc_X20 hO rfl rfl hl.1 (Nat.le_of_ble_eq_true rfl) dX20_value_47 (fun rQ aQ hQ => wX6_isValue_17 l E K V mi hSX G o 22 (11) (222) (Nat.le_refl _) (Nat.le_refl _) cN cS tg8 nx8 ns8 hO (by decide) sa8 hI hz.2.2.2.2.2.2.1 hz.2.2.2.2.2.2.2.2 rQ aQ hQ) hf0 (fun nX EX tgX nxX nsX stX H locs hTX hxX hz2 hf => ?_) (fun x9 tg10 nx10 ns10 sa10 H locs hext hz2 hf => ?_)
          · exact fda_x hxx hTX hz2 hf
          clear hf0
          have hO := hext.t hI hO
          have hz := hz2
          have hw := hz.1
          have hI := hz.2.1
          clear hz2 hext
          have hf0 := hf
          clear hf
          refine fb_zeq (tgt := 63) hx hb dX20_value_50 (by decide) hf0 (fun hf => ?_) (fun hf => ?_)
          · clear hf0
            refine lv_aload_n hx hb dX20_value_63 rfl (lv_at hl 0 rfl) ?_
            refine fo_ldcS X hSX lq_23 dX20_value_64 ?_
            have hf0 := hf
            clear hf
            refine fa_O (n := 1) (fr := 11) (lo := 222) (val := vlI) (rest := []) (As := [.ref (K 23)]) X hz (lw_O q977 q978 q961 q979 q961 q125 q962) q962 ⟨by decide, by decide, by decide +kernel⟩ hR0 fc_X20 hO rfl rfl hl.1 (Nat.le_of_ble_eq_true rfl) dX20_value_66 (fun rQ aQ hQ => wX6_isValue_17 l E K V mi hSX G o 23 (11) (222) (Nat.le_refl _) (Nat.le_refl _) cN cS tg10 nx10 ns10 hO (by decide) sa10 hI hz.2.2.2.2.2.2.1 hz.2.2.2.2.2.2.2.2 rQ aQ hQ) hf0 (fun nX EX tgX nxX nsX stX H locs hTX hxX hz2 hf => ?_) (fun x11 tg12 nx12 ns12 sa12 H locs hext hz2 hf => ?_)
            · exact fda_x hxx hTX hz2 hf
            clear hf0
            have hO := hext.t hI hO
            have hz := hz2
            have hw := hz.1
            have hI := hz.2.1
            clear hz2 hext
            have hf0 := hf
            clear hf
            refine fb_zeq (tgt := 83) hx hb dX20_value_69 (by decide) hf0 (fun hf => ?_) (fun hf => ?_)
            · clear hf0
              refine lv_aload_n hx hb dX20_value_83 rfl (lv_at hl 0 rfl) ?_
              refine fo_ldcS X hSX lq_24 dX20_value_84 ?_
              have hf0 := hf
              clear hf
              refine fa_O (n := 1) (fr := 11) (lo := 222) (val := vlI) (rest := []) (As := [.ref (K 24)]) X hz (lw_O q977 q978 q961 q979 q961 q125 q962) q962 ⟨by decide, by decide, by decide +kernel⟩ hR0 fc_X20 hO rfl rfl hl.1 (Nat.le_of_ble_eq_true rfl) dX20_value_86 (fun rQ aQ hQ => wX6_isValue_17 l E K V mi hSX G o 24 (11) (222) (Nat.le_refl _) (Nat.le_refl _) cN cS tg12 nx12 ns12 hO (by decide) sa12 hI hz.2.2.2.2.2.2.1 hz.2.2.2.2.2.2.2.2 rQ aQ hQ) hf0 (fun nX EX tgX nxX nsX stX H locs hTX hxX hz2 hf => ?_) (fun x13 tg14 nx14 ns14 sa14 H locs hext hz2 hf => ?_)
              · exact fda_x hxx hTX hz2 hf
              clear hf0
              have hO := hext.t hI hO
              have hz := hz2
              have hw := hz.1
              have hI := hz.2.1
              clear hz2 hext
              have hf0 := hf
              clear hf
              refine fb_zeq (tgt := 105) hx hb dX20_value_89 (by decide) hf0 (fun hf => ?_) (fun hf => ?_)
              · clear hf0
                refine lv_iconst (v := (-1 : Int32)) hx hb dX20_value_105 (by decide) ?_
                exact fda_i hend hz hf dX20_value_106
              clear hf0
              refine lv_bipush (v := (36 : Int32)) hx hb dX20_value_92 (by decide) ?_
              refine lv_aload_n hx hb dX20_value_94 rfl (lv_at hl 0 rfl) ?_
              refine lv_iconst (v := (0 : Int32)) hx hb dX20_value_95 (by decide) ?_
              refine lv_bipush (v := (15 : Int32)) hx hb dX20_value_96 (by decide) ?_
              have hf0 := hf
              clear hf
              refine fa_O (n := 2) (fr := 5) (lo := 135) (val := vlI) (rest := [.int (36 : Int32)]) (As := [.int (0 : Int32), .int (15 : Int32)]) X hz (lw_O q984 q985 q934 q987 q934 q125 q938) q938 ⟨by decide, by decide, by decide +kernel⟩ hR1 fc_X20 hO rfl rfl hl.1 (Nat.le_of_ble_eq_true rfl) dX20_value_98 (fun rQ aQ hQ => wX6_number_17 l E K V mi hSX G o (0 : Int32) (15 : Int32) (5) (135) (Nat.le_refl _) (Nat.le_refl _) cN cS tg14 nx14 ns14 hO sa14 hI hz.2.2.2.2.2.2.1 hz.2.2.2.2.2.2.2.2 rQ aQ hQ) hf0 (fun nX EX tgX nxX nsX stX H locs hTX hxX hz2 hf => ?_) (fun x15 tg16 nx16 ns16 sa16 H locs hext hz2 hf => ?_)
              · exact fda_x hxx hTX hz2 hf
              clear hf0
              have hO := hext.t hI hO
              have hz := hz2
              have hw := hz.1
              have hI := hz.2.1
              clear hz2 hext
              refine lv_iadd hx hb dX20_value_101 ?_
              refine lv_goto (tgt := 106) hx hb dX20_value_102 (by decide) ?_
              exact fda_i hend hz hf dX20_value_106
            clear hf0
            refine lv_bipush (v := (20 : Int32)) hx hb dX20_value_72 (by decide) ?_
            refine lv_aload_n hx hb dX20_value_74 rfl (lv_at hl 0 rfl) ?_
            refine lv_iconst (v := (0 : Int32)) hx hb dX20_value_75 (by decide) ?_
            refine lv_bipush (v := (15 : Int32)) hx hb dX20_value_76 (by decide) ?_
            have hf0 := hf
            clear hf
            refine fa_O (n := 2) (fr := 5) (lo := 135) (val := vlI) (rest := [.int (20 : Int32)]) (As := [.int (0 : Int32), .int (15 : Int32)]) X hz (lw_O q984 q985 q934 q987 q934 q125 q938) q938 ⟨by decide, by decide, by decide +kernel⟩ hR1 fc_X20 hO rfl rfl hl.1 (Nat.le_of_ble_eq_true rfl) dX20_value_78 (fun rQ aQ hQ => wX6_number_17 l E K V mi hSX G o (0 : Int32) (15 : Int32) (5) (135) (Nat.le_refl _) (Nat.le_refl _) cN cS tg12 nx12 ns12 hO sa12 hI hz.2.2.2.2.2.2.1 hz.2.2.2.2.2.2.2.2 rQ aQ hQ) hf0 (fun nX EX tgX nxX nsX stX H locs hTX hxX hz2 hf => ?_) (fun x17 tg18 nx18 ns18 sa18 H locs hext hz2 hf => ?_)
            · exact fda_x hxx hTX hz2 hf
            clear hf0
            have hO := hext.t hI hO
            have hz := hz2
            have hw := hz.1
            have hI := hz.2.1
            clear hz2 hext
            refine lv_iadd hx hb dX20_value_81 ?_
            exact fda_i hend hz hf dX20_value_82
          clear hf0
          refine lv_iconst (v := (4 : Int32)) hx hb dX20_value_53 (by decide) ?_
          refine lv_aload_n hx hb dX20_value_54 rfl (lv_at hl 0 rfl) ?_
          refine lv_iconst (v := (0 : Int32)) hx hb dX20_value_55 (by decide) ?_
          refine lv_bipush (v := (15 : Int32)) hx hb dX20_value_56 (by decide) ?_
          have hf0 := hf
          clear hf
          refine fa_O (n := 2) (fr := 5) (lo := 135) (val := vlI) (rest := [.int (4 : Int32)]) (As := [.int (0 : Int32), .int (15 : Int32)]) X hz (lw_O q984 q985 q934 q987 q934 q125 q938) q938 ⟨by decide, by decide, by decide +kernel⟩ hR1 fc_X20 hO rfl rfl hl.1 (Nat.le_of_ble_eq_true rfl) dX20_value_58 (fun rQ aQ hQ => wX6_number_17 l E K V mi hSX G o (0 : Int32) (15 : Int32) (5) (135) (Nat.le_refl _) (Nat.le_refl _) cN cS tg10 nx10 ns10 hO sa10 hI hz.2.2.2.2.2.2.1 hz.2.2.2.2.2.2.2.2 rQ aQ hQ) hf0 (fun nX EX tgX nxX nsX stX H locs hTX hxX hz2 hf => ?_) (fun x19 tg20 nx20 ns20 sa20 H locs hext hz2 hf => ?_)
          · exact fda_x hxx hTX hz2 hf
          clear hf0
          have hO := hext.t hI hO
          have hz := hz2
          have hw := hz.1
          have hI := hz.2.1
          clear hz2 hext
          refine lv_iadd hx hb dX20_value_61 ?_
          exact fda_i hend hz hf dX20_value_62
        clear hf0
        refine lv_iconst (v := (3 : Int32)) hx hb dX20_value_42 (by decide) ?_
        exact fda_i hend hz hf dX20_value_43
      clear hf0
      refine lv_iconst (v := (2 : Int32)) hx hb dX20_value_31 (by decide) ?_
      exact fda_i hend hz hf dX20_value_32
    clear hf0
    refine lv_iconst (v := (1 : Int32)) hx hb dX20_value_20 (by decide) ?_
    exact fda_i hend hz hf dX20_value_21
  clear hf0
  refine lv_iconst (v := (0 : Int32)) hx hb dX20_value_9 (by decide) ?_
  exact fda_i hend hz hf dX20_value_10

