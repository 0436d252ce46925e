/-! walks of methods that make cells or throw, printed by genA.py -/
set_option maxRecDepth 100000
/-- java/util/ArrayList.clear -/
def fJ2_clear (cN cS : Nat) (G : Nat) (o : Nat) (tg0 : Nat → Nat × Nat) (nx0 ns0 : Nat) (st0 : fo_St) : Option ((Unit ⊕ Nat) × fo_A) := lt_ (si_ st0 o 0 ((gi_ st0 o 0) + (1 : Int32))) (fun st1 => rn_ (gr_ st1 o 1) (fun q2 => lI_ (gi_ st1 o 2) (fun x3 => lt_ (si_ st1 o 2 (0 : Int32)) (fun st4 => lp2_ (fun rec7 (x5 : Int32) (a6 : fo_A) => aw_ a6 (fun tg6 nx6 ns6 sa6 => if x3 ≤ x5 then some (.inl (), (tg6, nx6, ns6, sa6)) else ck_ (decide ((tg6 q2).1 = 6)) (ck_ (fo_in x5 ((tg6 q2).2)) (lt_ (sr_ sa6 q2 x5.toNatClampNeg none) (fun st8 => rec7 (x5 + (1 : Int32)) (tg6, nx6, ns6, st8)))))) G (0 : Int32) (tg0, nx0, ns0, st4)))))
theorem hm_J2_clear : fo_M yJ2_clear 0 := ⟨by decide +kernel, by decide +kernel, by decide +kernel, by decide +kernel⟩
set_option maxHeartbeats 1000000 in
theorem wJ2_clear_18 (l : Launch) (E : fo_E) (G : Nat) (o : Nat) (fr lo : Nat) (hfr : 0 ≤ fr) (hlo : 0 ≤ lo) (cN cS : Nat) (tg0 : Nat → Nat × Nat) (nx0 ns0 : Nat) (hO : tg0 o = (1, 18)) (st0 : fo_St) (hI : fo_I E tg0 nx0) (hcN : nx0 ≤ cN) (hcS : ns0 ≤ cS) (ρZ : Unit ⊕ Nat) (aZ : fo_A) (hf : fJ2_clear cN cS G o tg0 nx0 ns0 st0 = some (ρZ, aZ)) : CA vlV l E yJ2_clear (ws_ yJ2_clear cJ2_clear 4 none) fr lo cN cS [.ref (eb E + o)] (tg0, nx0, ns0, st0) ρZ aZ := by
  refine fea_v (a := (tg0, nx0, ns0, st0)) hm_J2_clear (Nat.le_of_ble_eq_true rfl) hI hcN hcS (fun p e R s m args below meth c Q hRf hRl X hnm hend hxx ls hl hz => ?_)
  replace hRf : 0 ≤ R.frames := by rw [hRf]; exact hfr
  replace hRl : 0 ≤ R.locals := by rw [hRl]; exact hlo
  have hx := X.1.1
  have hb := X.1.2.1
  have hl : lv_has ls 4 [(0, .ref (eb E + o))] := hl
  have hz : fo_Z E R s cN cS (tg0, nx0, ns0, st0) tg0 nx0 ns0 st0 s.heap [] := hz
  have hw := hz.1
  show W p l e R s m args below meth c s.heap [] (nx0 - nx0) (ns0 - ns0) Q (F0 m 0 ls [])
  unfold fJ2_clear at hf
  generalize s.heap = H at hz hw ⊢
  generalize ([] : List Loc) = locs at hz hw ⊢
  refine lv_aload_n hx hb dJ2_clear_0 rfl (lv_at hl 0 rfl) ?_
  refine lv_dup hx hb dJ2_clear_1 rfl ?_
  refine fo_getiS (fo_Xw X) hw fc_J2 hO (k := 0) (by decide) rfl q205 q206 dJ2_clear_2 ?_
  refine lv_iconst (v := (1 : Int32)) hx hb dJ2_clear_5 (by decide) ?_
  refine lv_iadd hx hb dJ2_clear_6 ?_
  have hf0 := hf
  clear hf
  refine fo_putiS (fo_Xw X) hw fc_J2 hO (k := 0) (by decide) rfl rfl q205 q206 ⟨rfl, rfl⟩ dJ2_clear_7 hf0 (fun st1 H locs hw hf => ?_)
  clear hf0
  have hz := hz.s hw
  refine lv_aload_n hx hb dJ2_clear_10 rfl (lv_at hl 0 rfl) ?_
  have hf0 := hf
  clear hf
  refine fo_getr (fo_Xw X) hw fc_J2 hO (k := 1) (by decide) rfl q202 dJ2_clear_11 hf0 (fun q2 hf => ?_)
  clear hf0
  refine lv_astore_n (lv' := [(1, .ref (eb E + q2)), (0, .ref (eb E + o))]) hx hb dJ2_clear_14 rfl hl (by decide) rfl (fun ls hl => ?_)
  refine lv_aload_n hx hb dJ2_clear_15 rfl (lv_at hl 1 rfl) ?_
  refine fo_geti (fo_Xw X) hw fc_J2 hO (k := 2) (by decide) rfl q203 dJ2_clear_16 ?_
  have hf0 := hf
  clear hf
  refine fo_tI hf0 (fun x3 hf => ?_)
  clear hf0
  refine lv_istore_n (lv' := [(2, .int x3), (1, .ref (eb E + q2)), (0, .ref (eb E + o))]) hx hb dJ2_clear_19 rfl hl (by decide) rfl (fun ls hl => ?_)
  refine lv_aload_n hx hb dJ2_clear_20 rfl (lv_at hl 2 rfl) ?_
  refine lv_iconst (v := (0 : Int32)) hx hb dJ2_clear_21 (by decide) ?_
  refine lv_dup_x1 hx hb dJ2_clear_22 rfl rfl ?_
  have hf0 := hf
  clear hf
  refine fo_puti (fo_Xw X) hw fc_J2 hO (k := 2) (by decide) rfl rfl q203 ⟨rfl, rfl⟩ dJ2_clear_23 hf0 (fun st4 H locs hw hf => ?_)
  clear hf0
  have hz := hz.s hw
  refine lv_istore_n (lv' := [(3, .int (0 : Int32)), (2, .int x3), (1, .ref (eb E + q2)), (0, .ref (eb E + o))]) hx hb dJ2_clear_26 rfl hl (by decide) rfl (fun ls hl => ?_)
  refine lp2_e (P := fun x5 a6 => ∀ (H : Heap) (locs : List Loc) (ls : Array Slot), a6.1 o = (1, 18) → lv_has ls 4 [(3, .int x5), (2, .int x3), (1, .ref (eb E + q2))] → fo_Z E R s cN cS (tg0, nx0, ns0, st0) a6.1 a6.2.1 a6.2.2.1 a6.2.2.2 H locs → W p l e R s m args below meth c H locs (a6.2.1 - nx0) (a6.2.2.1 - ns0) Q (F0 m 27 ls [])) (fun rec7 hrec7 x5 a6 hf => ?_) G _ _ hf H locs ls hO (lv_sub hl [0, 1, 2] rfl) hz
  obtain ⟨tg6, nx6, ns6, sa6⟩ := a6
  intro H locs ls hO hl hz
  have hO : tg6 o = (1, 18) := hO
  have hz : fo_Z E R s cN cS (tg0, nx0, ns0, st0) tg6 nx6 ns6 sa6 H locs := hz
  show W p l e R s m args below meth c H locs (nx6 - nx0) (ns6 - ns0) Q (F0 m 27 ls [])
  replace hf := aw_u hf
  have hw := hz.1
  have hI := hz.2.1
  refine lv_iload_n hx hb dJ2_clear_27 rfl (lv_at hl 0 rfl) ?_
  refine lv_iload_n hx hb dJ2_clear_28 rfl (lv_at hl 1 rfl) ?_
  have hf0 := hf
  clear hf
  refine fb_ige (tgt := 42) hx hb dJ2_clear_29 (by decide) hf0 (fun hf => ?_) (fun hf => ?_)
  · clear hf0
    exact fda_v hend hz hf dJ2_clear_42
  clear hf0
  refine lv_aload_n hx hb dJ2_clear_32 rfl (lv_at hl 2 rfl) ?_
  refine lv_iload_n hx hb dJ2_clear_33 rfl (lv_at hl 0 rfl) ?_
  refine lv_null hx hb dJ2_clear_34 ?_
  have hf0 := ck_e hf
  clear hf
  obtain ⟨hq9, hf⟩ := hf0
  have hq9 := fo_tagA hq9
  have hf0 := hf
  clear hf
  refine fo_astN (fo_Xw X) hw hq9 dJ2_clear_35 hf0 (fun st8 H locs hw hf => ?_)
  clear hf0
  have hz := hz.s hw
  refine fb_iinc (v := (1 : Int32)) (lv' := [(3, .int (x5 + (1 : Int32))), (2, .int x3), (1, .ref (eb E + q2))]) hx hb dJ2_clear_36 hl (k := 0) rfl (by decide) (by decide) rfl (fun ls hl => ?_)
  refine lv_goto (tgt := 27) hx hb dJ2_clear_39 (by decide) ?_
  exact hrec7 _ _ hf _ _ _ hO (lv_sub hl [0, 1, 2] rfl) hz

/-- java/util/ArrayList.toArray -/
def fJ2_toArray (cN cS : Nat) (o : Nat) (tg0 : Nat → Nat × Nat) (nx0 ns0 : Nat) (st0 : fo_St) : Option ((Nat ⊕ Nat) × fo_A) := rn_ (gr_ st0 o 1) (fun q1 => ba_ (fJ12_copyOf cN cS q1 (gi_ st0 o 2) tg0 nx0 ns0 st0) (fun x2 tg3 nx3 ns3 sa3 => some (.inl x2, (tg3, nx3, ns3, sa3))) (fun nX tgX nxX nsX stX => some (.inr nX, (tgX, nxX, nsX, stX))))
theorem hm_J2_toArray : fo_M yJ2_toArray 0 := ⟨by decide +kernel, by decide +kernel, by decide +kernel, by decide +kernel⟩
set_option maxHeartbeats 1000000 in
theorem wJ2_toArray_18 (l : Launch) (E : fo_E) (K V : Nat → Nat) (mi : Nat) (hSX : fo_SX E K V mi) (o : Nat) (fr lo : Nat) (hfr : 4 ≤ fr) (hlo : 111 ≤ lo) (cN cS : Nat) (tg0 : Nat → Nat × Nat) (nx0 ns0 : Nat) (hO : tg0 o = (1, 18)) (st0 : fo_St) (hI : fo_I E tg0 nx0) (hcN : nx0 ≤ cN) (hcS : ns0 ≤ cS) (ρZ : Nat ⊕ Nat) (aZ : fo_A) (hf : fJ2_toArray cN cS o tg0 nx0 ns0 st0 = some (ρZ, aZ)) : CA (vlR (eb E)) l E yJ2_toArray (ws_ yJ2_toArray cJ2_toArray 1 (some (.array (.object "java/lang/Object")))) fr lo cN cS [.ref (eb E + o)] (tg0, nx0, ns0, st0) ρZ aZ := by
  refine fea_r (a := (tg0, nx0, ns0, st0)) (Or.inr ⟨_, rfl⟩) hm_J2_toArray (Nat.le_of_ble_eq_true rfl) hI hcN hcS (fun p e R s m args below meth c Q hRf hRl X hnm hend hxx ls hl hz => ?_)
  replace hRf : 4 ≤ R.frames := by rw [hRf]; exact hfr
  replace hRl : 111 ≤ R.locals := by rw [hRl]; exact hlo
  have hR0 : 3 + 1 ≤ R.frames ∧ 8 + (2 + 11) + (90) ≤ R.locals := ⟨by omega, by omega⟩
  have hx := X.1.1
  have hb := X.1.2.1
  have hl : lv_has ls 1 [(0, .ref (eb E + o))] := hl
  have hz : fo_Z E R s cN cS (tg0, nx0, ns0, st0) tg0 nx0 ns0 st0 s.heap [] := hz
  have hw := hz.1
  show W p l e R s m args below meth c s.heap [] (nx0 - nx0) (ns0 - ns0) Q (F0 m 0 ls [])
  unfold fJ2_toArray at hf
  generalize s.heap = H at hz hw ⊢
  generalize ([] : List Loc) = locs at hz hw ⊢
  refine lv_aload_n hx hb dJ2_toArray_0 rfl (lv_at hl 0 rfl) ?_
  have hf0 := hf
  clear hf
  refine fo_getr (fo_Xw X) hw fc_J2 hO (k := 1) (by decide) rfl q202 dJ2_toArray_1 hf0 (fun q1 hf => ?_)
  clear hf0
  refine lv_aload_n hx hb dJ2_toArray_4 rfl (lv_at hl 0 rfl) ?_
  refine fo_geti (fo_Xw X) hw fc_J2 hO (k := 2) (by decide) rfl q203 dJ2_toArray_5 ?_
  have hf0 := hf
  clear hf
  refine fa_S (fr := 3) (lo := 90) (val := (vlR (eb E))) (rest := []) (As := [.ref (eb E + q1), .int (gi_ st0 o 2)]) X hz hm_J12_copyOf (lw_S q477 q478 q141 q479) hR0 rfl rfl hl.1 (Nat.le_of_ble_eq_true rfl) dJ2_toArray_8 (fun rQ aQ hQ => wJ12_copyOf l E K V mi hSX q1 (gi_ st0 o 2) (3) (90) (Nat.le_refl _) (Nat.le_refl _) cN cS tg0 nx0 ns0 st0 hI hz.2.2.2.2.2.2.1 hz.2.2.2.2.2.2.2.2 rQ aQ hQ) hf0 (fun nX EX tgX nxX nsX stX H locs hTX hxX hz2 hf => ?_) (fun x2 tg3 nx3 ns3 sa3 H locs hext hz2 hf => ?_)
  · exact fda_x hxx hTX hz2 hf
  clear hf0
  have hO := hext.t hI hO
  have hz := hz2
  have hw := hz.1
  have hI := hz.2.1
  clear hz2 hext
  exact fda_r hend hz hf dJ2_toArray_11

/-- java/util/ArrayList.addAll -/
def fJ2_addAll (cN cS : Nat) (o : Nat) (p1 : Nat) (tg0 : Nat → Nat × Nat) (nx0 ns0 : Nat) (st0 : fo_St) : Option ((Int32 ⊕ Nat) × fo_A) := ck_ (decide (tg0 p1 = (1, 18))) (ba_ (fJ2_toArray cN cS p1 tg0 nx0 ns0 st0) (fun x2 tg3 nx3 ns3 sa3 => lt_ (si_ sa3 o 0 ((gi_ sa3 o 0) + (1 : Int32))) (fun st4 => ck_ (decide ((tg3 x2).1 = 6)) (lI_ (nI ((tg3 x2).2)) (fun x6 => if ¬ x6 = 0 then rn_ (gr_ st4 o 1) (fun q7 => ck_ (decide ((tg3 q7).1 = 6)) (lI_ (gi_ st4 o 2) (fun x9 => jn_ (fun (x10 : Nat) (a11 : fo_A) => aw_ a11 (fun tg11 nx11 ns11 sa11 => ck_ (decide ((tg11 x10).1 = 6)) (ck_ (fo_cpB (0 : Int32) x9 x6 ((tg3 x2).2) ((tg11 x10).2)) (ck_ (fo_obs tg11 sa11 x2 (0 : Int32).toNatClampNeg x6.toNatClampNeg) (lt_ (rc_ sa11 x2 x10 (0 : Int32).toNatClampNeg x9.toNatClampNeg x6.toNatClampNeg) (fun st13 => lt_ (si_ st13 o 2 (x9 + x6)) (fun st15 => some (.inl (1 : Int32), (tg11, nx11, ns11, st15))))))))) (fun k12 => if x6 ≤ ((nI ((tg3 q7).2)) - (gi_ st4 o 2)) then k12 q7 (tg3, nx3, ns3, st4) else ba_ (fJ2_grow cN cS o (x9 + x6) tg3 nx3 ns3 st4) (fun x16 tg17 nx17 ns17 sa17 => k12 x16 (tg17, nx17, ns17, sa17)) (fun nX tgX nxX nsX stX => some (.inr nX, (tgX, nxX, nsX, stX))))))) else some (.inl (0 : Int32), (tg3, nx3, ns3, st4)))))) (fun nX tgX nxX nsX stX => some (.inr nX, (tgX, nxX, nsX, stX))))
theorem hm_J2_addAll : fo_M yJ2_addAll 1 := ⟨by decide +kernel, by decide +kernel, by decide +kernel, by decide +kernel⟩
set_option maxHeartbeats 1000000 in
theorem wJ2_addAll_18 (l : Launch) (E : fo_E) (K V : Nat → Nat) (mi : Nat) (hSX : fo_SX E K V mi) (o : Nat) (p1 : Nat) (fr lo : Nat) (hfr : 5 ≤ fr) (hlo : 134 ≤ lo) (cN cS : Nat) (tg0 : Nat → Nat × Nat) (nx0 ns0 : Nat) (hO : tg0 o = (1, 18)) (st0 : fo_St) (hI : fo_I E tg0 nx0) (hcN : nx0 ≤ cN) (hcS : ns0 ≤ cS) (ρZ : Int32 ⊕ Nat) (aZ : fo_A) (hf : fJ2_addAll cN cS o p1 tg0 nx0 ns0 st0 = some (ρZ, aZ)) : CA vlI l E yJ2_addAll (ws_ yJ2_addAll cJ2_addAll 6 (some .boolean)) fr lo cN cS [.ref (eb E + o), .ref (eb E + p1)] (tg0, nx0, ns0, st0) ρZ aZ := by
  refine fea_z (a := (tg0, nx0, ns0, st0)) hm_J2_addAll (Nat.le_of_ble_eq_true rfl) hI hcN hcS (fun p e R s m args below meth c Q hRf hRl X hnm hend hxx ls hl hz => ?_)
  replace hRf : 5 ≤ R.frames := by rw [hRf]; exact hfr
  replace hRl : 134 ≤ R.locals := by rw [hRl]; exact hlo
  have hR0 : 4 + 1 ≤ R.frames ∧ 8 + (1 + 11) + (111) ≤ R.locals := ⟨by omega, by omega⟩
  have hR1 : 4 + 1 ≤ R.frames ∧ 8 + (4 + 11) + (111) ≤ R.locals := ⟨by omega, by omega⟩
  have hx := X.1.1
  have hb := X.1.2.1
  have hl : lv_has ls 6 [(0, .ref (eb E + o)), (1, .ref (eb E + p1))] := hl
  have hz : fo_Z E R s cN cS (tg0, nx0, ns0, st0) tg0 nx0 ns0 st0 s.heap [] := hz
  have hw := hz.1
  show W p l e R s m args below meth c s.heap [] (nx0 - nx0) (ns0 - ns0) Q (F0 m 0 ls [])
  unfold fJ2_addAll at hf
  generalize s.heap = H at hz hw ⊢
  generalize ([] : List Loc) = locs at hz hw ⊢
  refine lv_aload_n hx hb dJ2_addAll_0 rfl (lv_at hl 1 rfl) ?_
  have hf0 := ck_e hf
  clear hf
  obtain ⟨hq1, hf⟩ := hf0
  have hq1 := of_decide_eq_true hq1
  have hf0 := hf
  clear hf
  refine fa_F (n := 0) (fr := 4) (lo := 111) (val := (vlR (eb E))) (rest := []) (As := []) X hz (lw_F q468 q472 q474 q116 q476) (hSX s s.heap X.2.1.2.2.1).2.2.2.2.2.2.2.1 ⟨by decide, by decide, by decide +kernel⟩ hR0 fc_J2 hq1 rfl rfl hl.1 (Nat.le_of_ble_eq_true rfl) dJ2_addAll_1 (fun rQ aQ hQ => wJ2_toArray_18 l E K V mi hSX p1 (4) (111) (Nat.le_refl _) (Nat.le_refl _) cN cS tg0 nx0 ns0 hq1 st0 hI hz.2.2.2.2.2.2.1 hz.2.2.2.2.2.2.2.2 rQ aQ hQ) hf0 (fun nX EX tgX nxX nsX stX H locs hTX hxX hz2 hf => ?_) (fun x2 tg3 nx3 ns3 sa3 H locs hext hz2 hf => ?_)
  · exact fda_x hxx hTX hz2 hf
  clear hf0
  have hO := hext.t hI hO
  have hq1 := hext.t hI hq1
  have hz := hz2
  have hw := hz.1
  have hI := hz.2.1
  clear hz2 hext
  refine lv_astore_n (lv' := [(2, .ref (eb E + x2)), (0, .ref (eb E + o)), (1, .ref (eb E + p1))]) hx hb dJ2_addAll_6 rfl hl (by decide) rfl (fun ls hl => ?_)
  refine lv_aload_n hx hb dJ2_addAll_7 rfl (lv_at hl 1 rfl) ?_
  refine lv_dup hx hb dJ2_addAll_8 rfl ?_
  refine fo_getiS (fo_Xw X) hw fc_J2 hO (k := 0) (by decide) rfl q205 q206 dJ2_addAll_9 ?_
  refine lv_iconst (v := (1 : Int32)) hx hb dJ2_addAll_12 (by decide) ?_
  refine lv_iadd hx hb dJ2_addAll_13 ?_
  have hf0 := hf
  clear hf
  refine fo_putiS (fo_Xw X) hw fc_J2 hO (k := 0) (by decide) rfl rfl q205 q206 ⟨rfl, rfl⟩ dJ2_addAll_14 hf0 (fun st4 H locs hw hf => ?_)
  clear hf0
  have hz := hz.s hw
  refine lv_aload_n hx hb dJ2_addAll_17 rfl (lv_at hl 0 rfl) ?_
  have hf0 := ck_e hf
  clear hf
  obtain ⟨hq5, hf⟩ := hf0
  have hq5 := fo_tagA hq5
  refine fo_alen6 (fo_Xw X) hw hq5 dJ2_addAll_18 ?_
  have hf0 := hf
  clear hf
  refine fo_tI hf0 (fun x6 hf => ?_)
  clear hf0
  refine lv_istore_n (lv' := [(3, .int x6), (2, .ref (eb E + x2)), (0, .ref (eb E + o)), (1, .ref (eb E + p1))]) hx hb dJ2_addAll_19 rfl hl (by decide) rfl (fun ls hl => ?_)
  refine lv_iload_n hx hb dJ2_addAll_20 rfl (lv_at hl 0 rfl) ?_
  have hf0 := hf
  clear hf
  refine fb_zne (tgt := 26) hx hb dJ2_addAll_21 (by decide) hf0 (fun hf => ?_) (fun hf => ?_)
  · clear hf0
    refine lv_iload_n hx hb dJ2_addAll_26 rfl (lv_at hl 0 rfl) ?_
    refine lv_aload_n hx hb dJ2_addAll_27 rfl (lv_at hl 2 rfl) ?_
    have hf0 := hf
    clear hf
    refine fo_getr (fo_Xw X) hw fc_J2 hO (k := 1) (by decide) rfl q202 dJ2_addAll_28 hf0 (fun q7 hf => ?_)
    clear hf0
    refine lv_dup hx hb dJ2_addAll_31 rfl ?_
    refine lv_astore (lv' := [(4, .ref (eb E + q7)), (3, .int x6), (2, .ref (eb E + x2)), (0, .ref (eb E + o)), (1, .ref (eb E + p1))]) hx hb dJ2_addAll_32 hl (by decide) rfl (fun ls hl => ?_)
    have hf0 := ck_e hf
    clear hf
    obtain ⟨hq8, hf⟩ := hf0
    have hq8 := fo_tagA hq8
    refine fo_alen6 (fo_Xw X) hw hq8 dJ2_addAll_34 ?_
    refine lv_aload_n hx hb dJ2_addAll_35 rfl (lv_at hl 3 rfl) ?_
    refine fo_geti (fo_Xw X) hw fc_J2 hO (k := 2) (by decide) rfl q203 dJ2_addAll_36 ?_
    refine lv_dup hx hb dJ2_addAll_39 rfl ?_
    have hf0 := hf
    clear hf
    refine fo_tI hf0 (fun x9 hf => ?_)
    clear hf0
    refine lv_istore (lv' := [(5, .int x9), (4, .ref (eb E + q7)), (3, .int x6), (2, .ref (eb E + x2)), (0, .ref (eb E + o)), (1, .ref (eb E + p1))]) hx hb dJ2_addAll_40 hl (by decide) rfl (fun ls hl => ?_)
    refine lv_isub hx hb dJ2_addAll_42 ?_
    refine jn_e hf (fun k12 ek hf => ?_)
    have hk12 : ∀ (x10 : Nat) (tg11 : Nat → Nat × Nat) (nx11 ns11 : Nat) (sa11 : fo_St) (H : Heap) (locs : List Loc) (ls : Array Slot), tg11 o = (1, 18) → tg11 p1 = (1, 18) → tg11 x2 = (6, (tg3 x2).2) → tg11 q7 = (6, (tg3 q7).2) → lv_has ls 6 [(5, .int x9), (4, .ref (eb E + x10)), (3, .int x6), (2, .ref (eb E + x2)), (0, .ref (eb E + o))] → fo_Z E R s cN cS (tg0, nx0, ns0, st0) tg11 nx11 ns11 sa11 H locs → k12 x10 (tg11, nx11, ns11, sa11) = some (ρZ, aZ) → W p l e R s m args below meth c H locs (nx11 - nx0) (ns11 - ns0) Q (F0 m 56 ls []) := by
      intro x10 tg11 nx11 ns11 sa11 H locs ls hO hq1 hq5 hq8 hl hz hf
      rw [ek] at hf
      replace hf := aw_u hf
      have hw := hz.1
      have hI := hz.2.1
      refine lv_aload_n hx hb dJ2_addAll_56 rfl (lv_at hl 3 rfl) ?_
      refine lv_iconst (v := (0 : Int32)) hx hb dJ2_addAll_57 (by decide) ?_
      refine lv_aload hx hb dJ2_addAll_58 (lv_at hl 1 rfl) ?_
      refine lv_iload hx hb dJ2_addAll_60 (lv_at hl 0 rfl) ?_
      refine lv_iload_n hx hb dJ2_addAll_62 rfl (lv_at hl 2 rfl) ?_
      have hf0 := ck_e hf
      clear hf
      obtain ⟨hq14, hf⟩ := hf0
      have hq14 := fo_tagA hq14
      have hf0 := ck_e hf
      clear hf
      obtain ⟨hcp, hf⟩ := hf0
      have hf0 := ck_e hf
      clear hf
      obtain ⟨hob, hf⟩ := hf0
      have hf0 := hf
      clear hf
      refine fo_copyR (fo_Xw X) hw hq5 hq14 hl.1 q529 q457 q456 q142 hob hcp (Nat.le_trans (Nat.le_of_ble_eq_true rfl) hRf) (Nat.le_trans (Nat.le_of_ble_eq_true rfl) hRl) dJ2_addAll_63 hf0 (fun st13 H locs hw hf => ?_)
      clear hf0
      have hz := hz.s hw
      refine lv_aload_n hx hb dJ2_addAll_66 rfl (lv_at hl 4 rfl) ?_
      refine lv_iload hx hb dJ2_addAll_67 (lv_at hl 0 rfl) ?_
      refine lv_iload_n hx hb dJ2_addAll_69 rfl (lv_at hl 2 rfl) ?_
      refine lv_iadd hx hb dJ2_addAll_70 ?_
      have hf0 := hf
      clear hf
      refine fo_puti (fo_Xw X) hw fc_J2 hO (k := 2) (by decide) rfl rfl q203 ⟨rfl, rfl⟩ dJ2_addAll_71 hf0 (fun st15 H locs hw hf => ?_)
      clear hf0
      have hz := hz.s hw
      refine lv_iconst (v := (1 : Int32)) hx hb dJ2_addAll_74 (by decide) ?_
      exact fda_z hend rfl hz hf dJ2_addAll_75
    clear ek
    have hf0 := hf
    clear hf
    refine fb_ile (tgt := 56) hx hb dJ2_addAll_43 (by decide) hf0 (fun hf => ?_) (fun hf => ?_)
    · clear hf0
      exact hk12 _ _ _ _ _ _ _ _ hO hq1 hq5 hq8 (lv_sub hl [0, 1, 2, 3, 4] rfl) hz hf
    clear hf0
    refine lv_aload_n hx hb dJ2_addAll_46 rfl (lv_at hl 4 rfl) ?_
    refine lv_iload hx hb dJ2_addAll_47 (lv_at hl 0 rfl) ?_
    refine lv_iload_n hx hb dJ2_addAll_49 rfl (lv_at hl 2 rfl) ?_
    refine lv_iadd hx hb dJ2_addAll_50 ?_
    have hf0 := hf
    clear hf
    refine fa_V (fr := 4) (lo := 111) (val := (vlR (eb E))) (rest := []) (As := [.int (x9 + x6)]) X hz hm_J2_grow (lw_V q512 q514 qs2 q116 q515) hR1 fc_J2 rfl hO rfl rfl hl.1 (Nat.le_of_ble_eq_true rfl) dJ2_addAll_51 (fun rQ aQ hQ => wJ2_grow_18 l E K V mi hSX o (x9 + x6) (4) (111) (Nat.le_refl _) (Nat.le_refl _) cN cS tg3 nx3 ns3 hO st4 hI hz.2.2.2.2.2.2.1 hz.2.2.2.2.2.2.2.2 rQ aQ hQ) hf0 (fun nX EX tgX nxX nsX stX H locs hTX hxX hz2 hf => ?_) (fun x16 tg17 nx17 ns17 sa17 H locs hext hz2 hf => ?_)
    · exact fda_x hxx hTX hz2 hf
    clear hf0
    have hO := hext.t hI hO
    have hq1 := hext.t hI hq1
    have hq5 := hext.t hI hq5
    have hq8 := hext.t hI hq8
    have hz := hz2
    have hw := hz.1
    have hI := hz.2.1
    clear hz2 hext
    refine lv_astore (lv' := [(4, .ref (eb E + x16)), (5, .int x9), (3, .int x6), (2, .ref (eb E + x2)), (0, .ref (eb E + o)), (1, .ref (eb E + p1))]) hx hb dJ2_addAll_54 hl (by decide) rfl (fun ls hl => ?_)
    exact hk12 _ _ _ _ _ _ _ _ hO hq1 hq5 hq8 (lv_sub hl [1, 0, 2, 3, 4] rfl) hz hf
  clear hf0
  refine lv_iconst (v := (0 : Int32)) hx hb dJ2_addAll_24 (by decide) ?_
  exact fda_z hend rfl hz hf dJ2_addAll_25

/-- ForestRooms$Table.takes -/
def fX2_takesI (cN cS : Nat) (o : Nat) (tg0 : Nat → Nat × Nat) (nx0 ns0 : Nat) (st0 : fo_St) : Option ((Unit ⊕ Nat) × fo_A) := rn_ (gr_ st0 o 0) (fun q1 => ck_ (decide (tg0 q1 = (2, 16))) (bv_ (fX2_rows q1 4 16 st0) (fun st4 => rn_ (gr_ st4 o 1) (fun q5 => ck_ (decide (tg0 q5 = (2, 16))) (bv_ (fX2_rows q5 5 16 st4) (fun st8 => rn_ (gr_ st8 o 2) (fun q9 => ck_ (decide (tg0 q9 = (2, 16))) (bv_ (fX2_rows q9 6 16 st8) (fun st12 => lt_ (si_ st12 o 3 (gi_ st12 3 3)) (fun st13 => some (.inl (), (tg0, nx0, ns0, st13))))))))))))
set_option maxHeartbeats 1000000 in
theorem wX2_takesI (l : Launch) (E : fo_E) (hX : fo_HX E) (o : Nat) (fr lo : Nat) (hfr : 2 ≤ fr) (hlo : 51 ≤ lo) (cN cS : Nat) (tg0 : Nat → Nat × Nat) (nx0 ns0 : Nat) (hO : tg0 o = (1, 21)) (st0 : fo_St) (hI : fo_I E tg0 nx0) (hcN : nx0 ≤ cN) (hcS : ns0 ≤ cS) (ρZ : Unit ⊕ Nat) (aZ : fo_A) (hf : fX2_takesI cN cS o tg0 nx0 ns0 st0 = some (ρZ, aZ)) : CA vlV l E yX2_takes (ws_ yX2_takes cX2_takes 2 none) fr lo cN cS [.ref (eb E + o), .ref (eb E + 3)] (tg0, nx0, ns0, st0) ρZ aZ := by
  refine fea_v (a := (tg0, nx0, ns0, st0)) hm_X2_takes (Nat.le_of_ble_eq_true rfl) hI hcN hcS (fun p e R s m args below meth c Q hRf hRl X hnm hend hxx ls hl hz => ?_)
  replace hRf : 2 ≤ R.frames := by rw [hRf]; exact hfr
  replace hRl : 51 ≤ R.locals := by rw [hRl]; exact hlo
  have hR0 : 1 + 1 ≤ R.frames ∧ 8 + (2 + 11) + (30) ≤ R.locals := ⟨by omega, by omega⟩
  have hx := X.1.1
  have hb := X.1.2.1
  have hl : lv_has ls 2 [(0, .ref (eb E + o)), (1, .ref (eb E + 3))] := hl
  have hz : fo_Z E R s cN cS (tg0, nx0, ns0, st0) tg0 nx0 ns0 st0 s.heap [] := hz
  have hw := hz.1
  show W p l e R s m args below meth c s.heap [] (nx0 - nx0) (ns0 - ns0) Q (F0 m 0 ls [])
  unfold fX2_takesI at hf
  generalize s.heap = H at hz hw ⊢
  generalize ([] : List Loc) = locs at hz hw ⊢
  refine lv_aload_n hx hb dX2_takes_0 rfl (lv_at hl 0 rfl) ?_
  have hf0 := hf
  clear hf
  refine fo_getr (fo_Xw X) hw fr_X2 hO (k := 0) (by decide) rfl q167 dX2_takes_1 hf0 (fun q1 hf => ?_)
  clear hf0
  have hf0 := ck_e hf
  clear hf
  obtain ⟨hq2, hf⟩ := hf0
  have hq2 := of_decide_eq_true hq2
  refine lv_aload_n hx hb dX2_takes_4 rfl (lv_at hl 1 rfl) ?_
  refine fo_gets (fo_Xw X) hw fc_X2 (hx3 (hI.hx hX)) (k := 0) (d := 1) (n2 := 4) (by decide) rfl rfl q167 dX2_takes_5 ?_
  have hf0 := hf
  clear hf
  refine fcA_Sv (rm := { frames := 1, cells := 0, slots := 0, locals := 30 }) (rest := []) (As := [.ref (eb E + q1), .ref (eb E + 4)]) (fo_Xw X) hw hz.lim0 hm_X2_rows (lw_S q452 q453 q113 q454) ⟨rfl, rfl⟩ hR0 rfl rfl hl.1 (Nat.le_of_ble_eq_true rfl) dX2_takes_8 (fun stQ hQ => wX2_rows l (eW E tg0 nx0)  q1 4 16 hq2 (hx4 (hI.hx hX)) (by decide) st0 stQ hQ) hf0 (fun st4 H locs hw hf => ?_)
  clear hf0
  have hz := hz.s hw
  refine lv_aload_n hx hb dX2_takes_11 rfl (lv_at hl 0 rfl) ?_
  have hf0 := hf
  clear hf
  refine fo_getr (fo_Xw X) hw fr_X2 hO (k := 1) (by decide) rfl q169 dX2_takes_12 hf0 (fun q5 hf => ?_)
  clear hf0
  have hf0 := ck_e hf
  clear hf
  obtain ⟨hq6, hf⟩ := hf0
  have hq6 := of_decide_eq_true hq6
  refine lv_aload_n hx hb dX2_takes_15 rfl (lv_at hl 1 rfl) ?_
  refine fo_gets (fo_Xw X) hw fc_X2 (hx3 (hI.hx hX)) (k := 1) (d := 2) (n2 := 5) (by decide) rfl rfl q169 dX2_takes_16 ?_
  have hf0 := hf
  clear hf
  refine fcA_Sv (rm := { frames := 1, cells := 0, slots := 0, locals := 30 }) (rest := []) (As := [.ref (eb E + q5), .ref (eb E + 5)]) (fo_Xw X) hw hz.lim0 hm_X2_rows (lw_S q452 q453 q113 q454) ⟨rfl, rfl⟩ hR0 rfl rfl hl.1 (Nat.le_of_ble_eq_true rfl) dX2_takes_19 (fun stQ hQ => wX2_rows l (eW E tg0 nx0)  q5 5 16 hq6 (hx5 (hI.hx hX)) (by decide) st4 stQ hQ) hf0 (fun st8 H locs hw hf => ?_)
  clear hf0
  have hz := hz.s hw
  refine lv_aload_n hx hb dX2_takes_22 rfl (lv_at hl 0 rfl) ?_
  have hf0 := hf
  clear hf
  refine fo_getr (fo_Xw X) hw fr_X2 hO (k := 2) (by decide) rfl q172 dX2_takes_23 hf0 (fun q9 hf => ?_)
  clear hf0
  have hf0 := ck_e hf
  clear hf
  obtain ⟨hq10, hf⟩ := hf0
  have hq10 := of_decide_eq_true hq10
  refine lv_aload_n hx hb dX2_takes_26 rfl (lv_at hl 1 rfl) ?_
  refine fo_gets (fo_Xw X) hw fc_X2 (hx3 (hI.hx hX)) (k := 2) (d := 3) (n2 := 6) (by decide) rfl rfl q172 dX2_takes_27 ?_
  have hf0 := hf
  clear hf
  refine fcA_Sv (rm := { frames := 1, cells := 0, slots := 0, locals := 30 }) (rest := []) (As := [.ref (eb E + q9), .ref (eb E + 6)]) (fo_Xw X) hw hz.lim0 hm_X2_rows (lw_S q452 q453 q113 q454) ⟨rfl, rfl⟩ hR0 rfl rfl hl.1 (Nat.le_of_ble_eq_true rfl) dX2_takes_30 (fun stQ hQ => wX2_rows l (eW E tg0 nx0)  q9 6 16 hq10 (hx6 (hI.hx hX)) (by decide) st8 stQ hQ) hf0 (fun st12 H locs hw hf => ?_)
  clear hf0
  have hz := hz.s hw
  refine lv_aload_n hx hb dX2_takes_33 rfl (lv_at hl 0 rfl) ?_
  refine lv_aload_n hx hb dX2_takes_34 rfl (lv_at hl 1 rfl) ?_
  refine fo_geti (fo_Xw X) hw fc_X2 (hx3 (hI.hx hX)) (k := 3) (by decide) rfl q174 dX2_takes_35 ?_
  have hf0 := hf
  clear hf
  refine fo_puti (fo_Xw X) hw fr_X2 hO (k := 3) (by decide) rfl rfl q174 ⟨rfl, rfl⟩ dX2_takes_38 hf0 (fun st13 H locs hw hf => ?_)
  clear hf0
  have hz := hz.s hw
  exact fda_v hend hz hf dX2_takes_41

/-- ForestRooms$Table.takes -/
def fX2_takesB (cN cS : Nat) (p1 : Nat) (tg0 : Nat → Nat × Nat) (nx0 ns0 : Nat) (st0 : fo_St) : Option ((Unit ⊕ Nat) × fo_A) := rn_ (gr_ st0 p1 0) (fun q1 => ck_ (decide (tg0 q1 = (2, 16))) (bv_ (fX2_rows 4 q1 16 st0) (fun st4 => rn_ (gr_ st4 p1 1) (fun q5 => ck_ (decide (tg0 q5 = (2, 16))) (bv_ (fX2_rows 5 q5 16 st4) (fun st8 => rn_ (gr_ st8 p1 2) (fun q9 => ck_ (decide (tg0 q9 = (2, 16))) (bv_ (fX2_rows 6 q9 16 st8) (fun st12 => lt_ (si_ st12 3 3 (gi_ st12 p1 3)) (fun st13 => some (.inl (), (tg0, nx0, ns0, st13))))))))))))
set_option maxHeartbeats 1000000 in
theorem wX2_takesB (l : Launch) (E : fo_E) (hX : fo_HX E) (p1 : Nat) (fr lo : Nat) (hfr : 2 ≤ fr) (hlo : 51 ≤ lo) (cN cS : Nat) (tg0 : Nat → Nat × Nat) (nx0 ns0 : Nat) (hP1 : tg0 p1 = (1, 21)) (st0 : fo_St) (hI : fo_I E tg0 nx0) (hcN : nx0 ≤ cN) (hcS : ns0 ≤ cS) (ρZ : Unit ⊕ Nat) (aZ : fo_A) (hf : fX2_takesB cN cS p1 tg0 nx0 ns0 st0 = some (ρZ, aZ)) : CA vlV l E yX2_takes (ws_ yX2_takes cX2_takes 2 none) fr lo cN cS [.ref (eb E + 3), .ref (eb E + p1)] (tg0, nx0, ns0, st0) ρZ aZ := by
  refine fea_v (a := (tg0, nx0, ns0, st0)) hm_X2_takes (Nat.le_of_ble_eq_true rfl) hI hcN hcS (fun p e R s m args below meth c Q hRf hRl X hnm hend hxx ls hl hz => ?_)
  replace hRf : 2 ≤ R.frames := by rw [hRf]; exact hfr
  replace hRl : 51 ≤ R.locals := by rw [hRl]; exact hlo
  have hR0 : 1 + 1 ≤ R.frames ∧ 8 + (2 + 11) + (30) ≤ R.locals := ⟨by omega, by omega⟩
  have hx := X.1.1
  have hb := X.1.2.1
  have hl : lv_has ls 2 [(0, .ref (eb E + 3)), (1, .ref (eb E + p1))] := hl
  have hz : fo_Z E R s cN cS (tg0, nx0, ns0, st0) tg0 nx0 ns0 st0 s.heap [] := hz
  have hw := hz.1
  show W p l e R s m args below meth c s.heap [] (nx0 - nx0) (ns0 - ns0) Q (F0 m 0 ls [])
  unfold fX2_takesB at hf
  generalize s.heap = H at hz hw ⊢
  generalize ([] : List Loc) = locs at hz hw ⊢
  refine lv_aload_n hx hb dX2_takes_0 rfl (lv_at hl 0 rfl) ?_
  refine fo_gets (fo_Xw X) hw fc_X2 (hx3 (hI.hx hX)) (k := 0) (d := 1) (n2 := 4) (by decide) rfl rfl q167 dX2_takes_1 ?_
  refine lv_aload_n hx hb dX2_takes_4 rfl (lv_at hl 1 rfl) ?_
  have hf0 := hf
  clear hf
  refine fo_getr (fo_Xw X) hw fr_X2 hP1 (k := 0) (by decide) rfl q167 dX2_takes_5 hf0 (fun q1 hf => ?_)
  clear hf0
  have hf0 := ck_e hf
  clear hf
  obtain ⟨hq2, hf⟩ := hf0
  have hq2 := of_decide_eq_true hq2
  have hf0 := hf
  clear hf
  refine fcA_Sv (rm := { frames := 1, cells := 0, slots := 0, locals := 30 }) (rest := []) (As := [.ref (eb E + 4), .ref (eb E + q1)]) (fo_Xw X) hw hz.lim0 hm_X2_rows (lw_S q452 q453 q113 q454) ⟨rfl, rfl⟩ hR0 rfl rfl hl.1 (Nat.le_of_ble_eq_true rfl) dX2_takes_8 (fun stQ hQ => wX2_rows l (eW E tg0 nx0)  4 q1 16 (hx4 (hI.hx hX)) hq2 (by decide) st0 stQ hQ) hf0 (fun st4 H locs hw hf => ?_)
  clear hf0
  have hz := hz.s hw
  refine lv_aload_n hx hb dX2_takes_11 rfl (lv_at hl 0 rfl) ?_
  refine fo_gets (fo_Xw X) hw fc_X2 (hx3 (hI.hx hX)) (k := 1) (d := 2) (n2 := 5) (by decide) rfl rfl q169 dX2_takes_12 ?_
  refine lv_aload_n hx hb dX2_takes_15 rfl (lv_at hl 1 rfl) ?_
  have hf0 := hf
  clear hf
  refine fo_getr (fo_Xw X) hw fr_X2 hP1 (k := 1) (by decide) rfl q169 dX2_takes_16 hf0 (fun q5 hf => ?_)
  clear hf0
  have hf0 := ck_e hf
  clear hf
  obtain ⟨hq6, hf⟩ := hf0
  have hq6 := of_decide_eq_true hq6
  have hf0 := hf
  clear hf
  refine fcA_Sv (rm := { frames := 1, cells := 0, slots := 0, locals := 30 }) (rest := []) (As := [.ref (eb E + 5), .ref (eb E + q5)]) (fo_Xw X) hw hz.lim0 hm_X2_rows (lw_S q452 q453 q113 q454) ⟨rfl, rfl⟩ hR0 rfl rfl hl.1 (Nat.le_of_ble_eq_true rfl) dX2_takes_19 (fun stQ hQ => wX2_rows l (eW E tg0 nx0)  5 q5 16 (hx5 (hI.hx hX)) hq6 (by decide) st4 stQ hQ) hf0 (fun st8 H locs hw hf => ?_)
  clear hf0
  have hz := hz.s hw
  refine lv_aload_n hx hb dX2_takes_22 rfl (lv_at hl 0 rfl) ?_
  refine fo_gets (fo_Xw X) hw fc_X2 (hx3 (hI.hx hX)) (k := 2) (d := 3) (n2 := 6) (by decide) rfl rfl q172 dX2_takes_23 ?_
  refine lv_aload_n hx hb dX2_takes_26 rfl (lv_at hl 1 rfl) ?_
  have hf0 := hf
  clear hf
  refine fo_getr (fo_Xw X) hw fr_X2 hP1 (k := 2) (by decide) rfl q172 dX2_takes_27 hf0 (fun q9 hf => ?_)
  clear hf0
  have hf0 := ck_e hf
  clear hf
  obtain ⟨hq10, hf⟩ := hf0
  have hq10 := of_decide_eq_true hq10
  have hf0 := hf
  clear hf
  refine fcA_Sv (rm := { frames := 1, cells := 0, slots := 0, locals := 30 }) (rest := []) (As := [.ref (eb E + 6), .ref (eb E + q9)]) (fo_Xw X) hw hz.lim0 hm_X2_rows (lw_S q452 q453 q113 q454) ⟨rfl, rfl⟩ hR0 rfl rfl hl.1 (Nat.le_of_ble_eq_true rfl) dX2_takes_30 (fun stQ hQ => wX2_rows l (eW E tg0 nx0)  6 q9 16 (hx6 (hI.hx hX)) hq10 (by decide) st8 stQ hQ) hf0 (fun st12 H locs hw hf => ?_)
  clear hf0
  have hz := hz.s hw
  refine lv_aload_n hx hb dX2_takes_33 rfl (lv_at hl 0 rfl) ?_
  refine lv_aload_n hx hb dX2_takes_34 rfl (lv_at hl 1 rfl) ?_
  refine fo_geti (fo_Xw X) hw fr_X2 hP1 (k := 3) (by decide) rfl q174 dX2_takes_35 ?_
  have hf0 := hf
  clear hf
  refine fo_puti (fo_Xw X) hw fc_X2 (hx3 (hI.hx hX)) (k := 3) (by decide) rfl rfl q174 ⟨rfl, rfl⟩ dX2_takes_38 hf0 (fun st13 H locs hw hf => ?_)
  clear hf0
  have hz := hz.s hw
  exact fda_v hend hz hf dX2_takes_41

/-- ForestRooms$State.takes -/
def fX1_takesI (cN cS : Nat) (G : Nat) (o : Nat) (tg0 : Nat → Nat × Nat) (nx0 ns0 : Nat) (st0 : fo_St) : Option ((Unit ⊕ Nat) × fo_A) := rn_ (gr_ st0 o 0) (fun q1 => ck_ (decide (tg0 q1 = (1, 21))) (ba_ (fX2_takesI cN cS q1 tg0 nx0 ns0 st0) (fun x3 tg4 nx4 ns4 sa4 => rn_ (gr_ sa4 o 1) (fun q5 => ck_ (decide (tg4 q5 = (2, 16))) (bv_ (fX2_rows q5 7 16 sa4) (fun st8 => rn_ (gr_ st8 o 2) (fun q9 => ck_ (decide (tg4 q9 = (2, 16))) (bv_ (fX2_rows q9 8 16 st8) (fun st12 => rn_ (gr_ st12 o 3) (fun q13 => ck_ (decide (tg4 q13 = (2, 16))) (bv_ (fX2_rows q13 9 16 st12) (fun st16 => rn_ (gr_ st16 o 4) (fun q17 => ck_ (decide (tg4 q17 = (2, 6))) (bv_ (fX2_rows q17 10 6 st16) (fun st20 => rn_ (gr_ st20 o 5) (fun q21 => ck_ (decide (tg4 q21 = (2, 6))) (bv_ (fX2_rows q21 11 6 st20) (fun st24 => rn_ (gr_ st24 o 6) (fun q25 => ck_ (decide (tg4 q25 = (2, 24))) (bv_ (fX2_rows q25 12 24 st24) (fun st28 => rn_ (gr_ st28 o 7) (fun q29 => ck_ (decide (tg4 q29 = (2, 5))) (bv_ (fX2_rows q29 13 5 st28) (fun st32 => rn_ (gr_ st32 o 8) (fun q33 => ck_ (decide (tg4 q33 = (1, 18))) (ba_ (fJ2_clear cN cS G q33 tg4 nx4 ns4 st32) (fun x35 tg36 nx36 ns36 sa36 => rn_ (gr_ sa36 o 8) (fun q37 => ck_ (decide (tg36 q37 = (1, 18))) (ba_ (fJ2_addAll cN cS q37 14 tg36 nx36 ns36 sa36) (fun x39 tg40 nx40 ns40 sa40 => lt_ (si_ sa40 o 9 (gi_ sa40 2 9)) (fun st41 => lt_ (si_ st41 o 10 (gi_ st41 2 10)) (fun st42 => lt_ (si_ st42 o 11 (gi_ st42 2 11)) (fun st43 => some (.inl (), (tg40, nx40, ns40, st43)))))) (fun nX tgX nxX nsX stX => some (.inr nX, (tgX, nxX, nsX, stX)))))) (fun nX tgX nxX nsX stX => some (.inr nX, (tgX, nxX, nsX, stX))))))))))))))))))))))))))) (fun nX tgX nxX nsX stX => some (.inr nX, (tgX, nxX, nsX, stX)))))
theorem hm_X1_takes : fo_M yX1_takes 1 := ⟨by decide +kernel, by decide +kernel, by decide +kernel, by decide +kernel⟩
set_option maxHeartbeats 1000000 in
theorem wX1_takesI (l : Launch) (E : fo_E) (K V : Nat → Nat) (mi : Nat) (hSX : fo_SX E K V mi) (hX : fo_HX E) (G : Nat) (o : Nat) (fr lo : Nat) (hfr : 6 ≤ fr) (hlo : 159 ≤ lo) (cN cS : Nat) (tg0 : Nat → Nat × Nat) (nx0 ns0 : Nat) (hO : tg0 o = (1, 20)) (st0 : fo_St) (hI : fo_I E tg0 nx0) (hcN : nx0 ≤ cN) (hcS : ns0 ≤ cS) (ρZ : Unit ⊕ Nat) (aZ : fo_A) (hf : fX1_takesI cN cS G o tg0 nx0 ns0 st0 = some (ρZ, aZ)) : CA vlV l E yX1_takes (ws_ yX1_takes cX1_takes 2 none) fr lo cN cS [.ref (eb E + o), .ref (eb E + 2)] (tg0, nx0, ns0, st0) ρZ aZ := by
  refine fea_v (a := (tg0, nx0, ns0, st0)) hm_X1_takes (Nat.le_of_ble_eq_true rfl) hI hcN hcS (fun p e R s m args below meth c Q hRf hRl X hnm hend hxx ls hl hz => ?_)
  replace hRf : 6 ≤ R.frames := by rw [hRf]; exact hfr
  replace hRl : 159 ≤ R.locals := by rw [hRl]; exact hlo
  have hR0 : 2 + 1 ≤ R.frames ∧ 8 + (2 + 11) + (51) ≤ R.locals := ⟨by omega, by omega⟩
  have hR1 : 1 + 1 ≤ R.frames ∧ 8 + (2 + 11) + (30) ≤ R.locals := ⟨by omega, by omega⟩
  have hR2 : 0 + 1 ≤ R.frames ∧ 8 + (4 + 11) + (0) ≤ R.locals := ⟨by omega, by omega⟩
  have hR3 : 5 + 1 ≤ R.frames ∧ 8 + (6 + 11) + (134) ≤ R.locals := ⟨by omega, by omega⟩
  have hx := X.1.1
  have hb := X.1.2.1
  have hl : lv_has ls 2 [(0, .ref (eb E + o)), (1, .ref (eb E + 2))] := hl
  have hz : fo_Z E R s cN cS (tg0, nx0, ns0, st0) tg0 nx0 ns0 st0 s.heap [] := hz
  have hw := hz.1
  show W p l e R s m args below meth c s.heap [] (nx0 - nx0) (ns0 - ns0) Q (F0 m 0 ls [])
  unfold fX1_takesI at hf
  generalize s.heap = H at hz hw ⊢
  generalize ([] : List Loc) = locs at hz hw ⊢
  refine lv_aload_n hx hb dX1_takes_0 rfl (lv_at hl 0 rfl) ?_
  have hf0 := hf
  clear hf
  refine fo_getr (fo_Xw X) hw fr_X1 hO (k := 0) (by decide) rfl q214 dX1_takes_1 hf0 (fun q1 hf => ?_)
  clear hf0
  have hf0 := ck_e hf
  clear hf
  obtain ⟨hq2, hf⟩ := hf0
  have hq2 := of_decide_eq_true hq2
  refine lv_aload_n hx hb dX1_takes_4 rfl (lv_at hl 1 rfl) ?_
  refine fo_gets (fo_Xw X) hw fc_X1 (hx2 (hI.hx hX)) (k := 0) (d := 1) (n2 := 3) (by decide) rfl rfl q214 dX1_takes_5 ?_
  have hf0 := hf
  clear hf
  refine fa_V (fr := 2) (lo := 51) (val := vlV) (rest := []) (As := [.ref (eb E + 3)]) X hz hm_X2_takes (lw_V q448 q449 q450 q113 q451) hR0 fr_X2 rfl hq2 rfl rfl hl.1 (Nat.le_of_ble_eq_true rfl) dX1_takes_8 (fun rQ aQ hQ => wX2_takesI l E hX q1 (2) (51) (Nat.le_refl _) (Nat.le_refl _) cN cS tg0 nx0 ns0 hq2 st0 hI hz.2.2.2.2.2.2.1 hz.2.2.2.2.2.2.2.2 rQ aQ hQ) hf0 (fun nX EX tgX nxX nsX stX H locs hTX hxX hz2 hf => ?_) (fun x3 tg4 nx4 ns4 sa4 H locs hext hz2 hf => ?_)
  · exact fda_x hxx hTX hz2 hf
  clear hf0
  have hO := hext.t hI hO
  have hq2 := hext.t hI hq2
  have hz := hz2
  have hw := hz.1
  have hI := hz.2.1
  clear hz2 hext
  refine lv_aload_n hx hb dX1_takes_11 rfl (lv_at hl 0 rfl) ?_
  have hf0 := hf
  clear hf
  refine fo_getr (fo_Xw X) hw fr_X1 hO (k := 1) (by decide) rfl q216 dX1_takes_12 hf0 (fun q5 hf => ?_)
  clear hf0
  have hf0 := ck_e hf
  clear hf
  obtain ⟨hq6, hf⟩ := hf0
  have hq6 := of_decide_eq_true hq6
  refine lv_aload_n hx hb dX1_takes_15 rfl (lv_at hl 1 rfl) ?_
  refine fo_gets (fo_Xw X) hw fc_X1 (hx2 (hI.hx hX)) (k := 1) (d := 5) (n2 := 7) (by decide) rfl rfl q216 dX1_takes_16 ?_
  have hf0 := hf
  clear hf
  refine fcA_Sv (rm := { frames := 1, cells := 0, slots := 0, locals := 30 }) (rest := []) (As := [.ref (eb E + q5), .ref (eb E + 7)]) (fo_Xw X) hw hz.lim0 hm_X2_rows (lw_S q458 q453 q113 q454) ⟨rfl, rfl⟩ hR1 rfl rfl hl.1 (Nat.le_of_ble_eq_true rfl) dX1_takes_19 (fun stQ hQ => wX2_rows l (eW E tg4 nx4)  q5 7 16 hq6 (hx7 (hI.hx hX)) (by decide) sa4 stQ hQ) hf0 (fun st8 H locs hw hf => ?_)
  clear hf0
  have hz := hz.s hw
  refine lv_aload_n hx hb dX1_takes_22 rfl (lv_at hl 0 rfl) ?_
  have hf0 := hf
  clear hf
  refine fo_getr (fo_Xw X) hw fr_X1 hO (k := 2) (by decide) rfl q218 dX1_takes_23 hf0 (fun q9 hf => ?_)
  clear hf0
  have hf0 := ck_e hf
  clear hf
  obtain ⟨hq10, hf⟩ := hf0
  have hq10 := of_decide_eq_true hq10
  refine lv_aload_n hx hb dX1_takes_26 rfl (lv_at hl 1 rfl) ?_
  refine fo_gets (fo_Xw X) hw fc_X1 (hx2 (hI.hx hX)) (k := 2) (d := 6) (n2 := 8) (by decide) rfl rfl q218 dX1_takes_27 ?_
  have hf0 := hf
  clear hf
  refine fcA_Sv (rm := { frames := 1, cells := 0, slots := 0, locals := 30 }) (rest := []) (As := [.ref (eb E + q9), .ref (eb E + 8)]) (fo_Xw X) hw hz.lim0 hm_X2_rows (lw_S q458 q453 q113 q454) ⟨rfl, rfl⟩ hR1 rfl rfl hl.1 (Nat.le_of_ble_eq_true rfl) dX1_takes_30 (fun stQ hQ => wX2_rows l (eW E tg4 nx4)  q9 8 16 hq10 (hx8 (hI.hx hX)) (by decide) st8 stQ hQ) hf0 (fun st12 H locs hw hf => ?_)
  clear hf0
  have hz := hz.s hw
  refine lv_aload_n hx hb dX1_takes_33 rfl (lv_at hl 0 rfl) ?_
  have hf0 := hf
  clear hf
  refine fo_getr (fo_Xw X) hw fr_X1 hO (k := 3) (by decide) rfl q220 dX1_takes_34 hf0 (fun q13 hf => ?_)
  clear hf0
  have hf0 := ck_e hf
  clear hf
  obtain ⟨hq14, hf⟩ := hf0
  have hq14 := of_decide_eq_true hq14
  refine lv_aload_n hx hb dX1_takes_37 rfl (lv_at hl 1 rfl) ?_
  refine fo_gets (fo_Xw X) hw fc_X1 (hx2 (hI.hx hX)) (k := 3) (d := 7) (n2 := 9) (by decide) rfl rfl q220 dX1_takes_38 ?_
  have hf0 := hf
  clear hf
  refine fcA_Sv (rm := { frames := 1, cells := 0, slots := 0, locals := 30 }) (rest := []) (As := [.ref (eb E + q13), .ref (eb E + 9)]) (fo_Xw X) hw hz.lim0 hm_X2_rows (lw_S q458 q453 q113 q454) ⟨rfl, rfl⟩ hR1 rfl rfl hl.1 (Nat.le_of_ble_eq_true rfl) dX1_takes_41 (fun stQ hQ => wX2_rows l (eW E tg4 nx4)  q13 9 16 hq14 (hx9 (hI.hx hX)) (by decide) st12 stQ hQ) hf0 (fun st16 H locs hw hf => ?_)
  clear hf0
  have hz := hz.s hw
  refine lv_aload_n hx hb dX1_takes_44 rfl (lv_at hl 0 rfl) ?_
  have hf0 := hf
  clear hf
  refine fo_getr (fo_Xw X) hw fr_X1 hO (k := 4) (by decide) rfl q222 dX1_takes_45 hf0 (fun q17 hf => ?_)
  clear hf0
  have hf0 := ck_e hf
  clear hf
  obtain ⟨hq18, hf⟩ := hf0
  have hq18 := of_decide_eq_true hq18
  refine lv_aload_n hx hb dX1_takes_48 rfl (lv_at hl 1 rfl) ?_
  refine fo_gets (fo_Xw X) hw fc_X1 (hx2 (hI.hx hX)) (k := 4) (d := 8) (n2 := 10) (by decide) rfl rfl q222 dX1_takes_49 ?_
  have hf0 := hf
  clear hf
  refine fcA_Sv (rm := { frames := 1, cells := 0, slots := 0, locals := 30 }) (rest := []) (As := [.ref (eb E + q17), .ref (eb E + 10)]) (fo_Xw X) hw hz.lim0 hm_X2_rows (lw_S q458 q453 q113 q454) ⟨rfl, rfl⟩ hR1 rfl rfl hl.1 (Nat.le_of_ble_eq_true rfl) dX1_takes_52 (fun stQ hQ => wX2_rows l (eW E tg4 nx4)  q17 10 6 hq18 (hx10 (hI.hx hX)) (by decide) st16 stQ hQ) hf0 (fun st20 H locs hw hf => ?_)
  clear hf0
  have hz := hz.s hw
  refine lv_aload_n hx hb dX1_takes_55 rfl (lv_at hl 0 rfl) ?_
  have hf0 := hf
  clear hf
  refine fo_getr (fo_Xw X) hw fr_X1 hO (k := 5) (by decide) rfl q224 dX1_takes_56 hf0 (fun q21 hf => ?_)
  clear hf0
  have hf0 := ck_e hf
  clear hf
  obtain ⟨hq22, hf⟩ := hf0
  have hq22 := of_decide_eq_true hq22
  refine lv_aload_n hx hb dX1_takes_59 rfl (lv_at hl 1 rfl) ?_
  refine fo_gets (fo_Xw X) hw fc_X1 (hx2 (hI.hx hX)) (k := 5) (d := 9) (n2 := 11) (by decide) rfl rfl q224 dX1_takes_60 ?_
  have hf0 := hf
  clear hf
  refine fcA_Sv (rm := { frames := 1, cells := 0, slots := 0, locals := 30 }) (rest := []) (As := [.ref (eb E + q21), .ref (eb E + 11)]) (fo_Xw X) hw hz.lim0 hm_X2_rows (lw_S q458 q453 q113 q454) ⟨rfl, rfl⟩ hR1 rfl rfl hl.1 (Nat.le_of_ble_eq_true rfl) dX1_takes_63 (fun stQ hQ => wX2_rows l (eW E tg4 nx4)  q21 11 6 hq22 (hx11 (hI.hx hX)) (by decide) st20 stQ hQ) hf0 (fun st24 H locs hw hf => ?_)
  clear hf0
  have hz := hz.s hw
  refine lv_aload_n hx hb dX1_takes_66 rfl (lv_at hl 0 rfl) ?_
  have hf0 := hf
  clear hf
  refine fo_getr (fo_Xw X) hw fr_X1 hO (k := 6) (by decide) rfl q226 dX1_takes_67 hf0 (fun q25 hf => ?_)
  clear hf0
  have hf0 := ck_e hf
  clear hf
  obtain ⟨hq26, hf⟩ := hf0
  have hq26 := of_decide_eq_true hq26
  refine lv_aload_n hx hb dX1_takes_70 rfl (lv_at hl 1 rfl) ?_
  refine fo_gets (fo_Xw X) hw fc_X1 (hx2 (hI.hx hX)) (k := 6) (d := 10) (n2 := 12) (by decide) rfl rfl q226 dX1_takes_71 ?_
  have hf0 := hf
  clear hf
  refine fcA_Sv (rm := { frames := 1, cells := 0, slots := 0, locals := 30 }) (rest := []) (As := [.ref (eb E + q25), .ref (eb E + 12)]) (fo_Xw X) hw hz.lim0 hm_X2_rows (lw_S q458 q453 q113 q454) ⟨rfl, rfl⟩ hR1 rfl rfl hl.1 (Nat.le_of_ble_eq_true rfl) dX1_takes_74 (fun stQ hQ => wX2_rows l (eW E tg4 nx4)  q25 12 24 hq26 (hx12 (hI.hx hX)) (by decide) st24 stQ hQ) hf0 (fun st28 H locs hw hf => ?_)
  clear hf0
  have hz := hz.s hw
  refine lv_aload_n hx hb dX1_takes_77 rfl (lv_at hl 0 rfl) ?_
  have hf0 := hf
  clear hf
  refine fo_getr (fo_Xw X) hw fr_X1 hO (k := 7) (by decide) rfl q228 dX1_takes_78 hf0 (fun q29 hf => ?_)
  clear hf0
  have hf0 := ck_e hf
  clear hf
  obtain ⟨hq30, hf⟩ := hf0
  have hq30 := of_decide_eq_true hq30
  refine lv_aload_n hx hb dX1_takes_81 rfl (lv_at hl 1 rfl) ?_
  refine fo_gets (fo_Xw X) hw fc_X1 (hx2 (hI.hx hX)) (k := 7) (d := 11) (n2 := 13) (by decide) rfl rfl q228 dX1_takes_82 ?_
  have hf0 := hf
  clear hf
  refine fcA_Sv (rm := { frames := 1, cells := 0, slots := 0, locals := 30 }) (rest := []) (As := [.ref (eb E + q29), .ref (eb E + 13)]) (fo_Xw X) hw hz.lim0 hm_X2_rows (lw_S q458 q453 q113 q454) ⟨rfl, rfl⟩ hR1 rfl rfl hl.1 (Nat.le_of_ble_eq_true rfl) dX1_takes_85 (fun stQ hQ => wX2_rows l (eW E tg4 nx4)  q29 13 5 hq30 (hx13 (hI.hx hX)) (by decide) st28 stQ hQ) hf0 (fun st32 H locs hw hf => ?_)
  clear hf0
  have hz := hz.s hw
  refine lv_aload_n hx hb dX1_takes_88 rfl (lv_at hl 0 rfl) ?_
  have hf0 := hf
  clear hf
  refine fo_getr (fo_Xw X) hw fr_X1 hO (k := 8) (by decide) rfl q230 dX1_takes_89 hf0 (fun q33 hf => ?_)
  clear hf0
  have hf0 := ck_e hf
  clear hf
  obtain ⟨hq34, hf⟩ := hf0
  have hq34 := of_decide_eq_true hq34
  have hf0 := hf
  clear hf
  refine fa_V (fr := 0) (lo := 0) (val := vlV) (rest := []) (As := []) X hz hm_J2_clear (lw_V q459 q460 q461 q116 q462) hR2 fc_J2 rfl hq34 rfl rfl hl.1 (Nat.le_of_ble_eq_true rfl) dX1_takes_92 (fun rQ aQ hQ => wJ2_clear_18 l E G q33 (0) (0) (Nat.le_refl _) (Nat.le_refl _) cN cS tg4 nx4 ns4 hq34 st32 hI hz.2.2.2.2.2.2.1 hz.2.2.2.2.2.2.2.2 rQ aQ hQ) hf0 (fun nX EX tgX nxX nsX stX H locs hTX hxX hz2 hf => ?_) (fun x35 tg36 nx36 ns36 sa36 H locs hext hz2 hf => ?_)
  · exact fda_x hxx hTX hz2 hf
  clear hf0
  have hO := hext.t hI hO
  have hq2 := hext.t hI hq2
  have hq6 := hext.t hI hq6
  have hq10 := hext.t hI hq10
  have hq14 := hext.t hI hq14
  have hq18 := hext.t hI hq18
  have hq22 := hext.t hI hq22
  have hq26 := hext.t hI hq26
  have hq30 := hext.t hI hq30
  have hq34 := hext.t hI hq34
  have hz := hz2
  have hw := hz.1
  have hI := hz.2.1
  clear hz2 hext
  refine lv_aload_n hx hb dX1_takes_95 rfl (lv_at hl 0 rfl) ?_
  have hf0 := hf
  clear hf
  refine fo_getr (fo_Xw X) hw fr_X1 hO (k := 8) (by decide) rfl q230 dX1_takes_96 hf0 (fun q37 hf => ?_)
  clear hf0
  have hf0 := ck_e hf
  clear hf
  obtain ⟨hq38, hf⟩ := hf0
  have hq38 := of_decide_eq_true hq38
  refine lv_aload_n hx hb dX1_takes_99 rfl (lv_at hl 1 rfl) ?_
  refine fo_gets (fo_Xw X) hw fc_X1 (hx2 (hI.hx hX)) (k := 8) (d := 12) (n2 := 14) (by decide) rfl rfl q230 dX1_takes_100 ?_
  have hf0 := hf
  clear hf
  refine fa_V (fr := 5) (lo := 134) (val := vlI) (rest := []) (As := [.ref (eb E + 14)]) X hz hm_J2_addAll (lw_V q463 q464 q465 q116 q466) hR3 fc_J2 rfl hq38 rfl rfl hl.1 (Nat.le_of_ble_eq_true rfl) dX1_takes_103 (fun rQ aQ hQ => wJ2_addAll_18 l E K V mi hSX q37 14 (5) (134) (Nat.le_refl _) (Nat.le_refl _) cN cS tg36 nx36 ns36 hq38 sa36 hI hz.2.2.2.2.2.2.1 hz.2.2.2.2.2.2.2.2 rQ aQ hQ) hf0 (fun nX EX tgX nxX nsX stX H locs hTX hxX hz2 hf => ?_) (fun x39 tg40 nx40 ns40 sa40 H locs hext hz2 hf => ?_)
  · exact fda_x hxx hTX hz2 hf
  clear hf0
  have hO := hext.t hI hO
  have hq2 := hext.t hI hq2
  have hq6 := hext.t hI hq6
  have hq10 := hext.t hI hq10
  have hq14 := hext.t hI hq14
  have hq18 := hext.t hI hq18
  have hq22 := hext.t hI hq22
  have hq26 := hext.t hI hq26
  have hq30 := hext.t hI hq30
  have hq34 := hext.t hI hq34
  have hq38 := hext.t hI hq38
  have hz := hz2
  have hw := hz.1
  have hI := hz.2.1
  clear hz2 hext
  refine lv_pop hx hb dX1_takes_106 rfl ?_
  refine lv_aload_n hx hb dX1_takes_107 rfl (lv_at hl 0 rfl) ?_
  refine lv_aload_n hx hb dX1_takes_108 rfl (lv_at hl 1 rfl) ?_
  refine fo_geti (fo_Xw X) hw fc_X1 (hx2 (hI.hx hX)) (k := 9) (by decide) rfl q232 dX1_takes_109 ?_
  have hf0 := hf
  clear hf
  refine fo_puti (fo_Xw X) hw fr_X1 hO (k := 9) (by decide) rfl rfl q232 ⟨rfl, rfl⟩ dX1_takes_112 hf0 (fun st41 H locs hw hf => ?_)
  clear hf0
  have hz := hz.s hw
  refine lv_aload_n hx hb dX1_takes_115 rfl (lv_at hl 0 rfl) ?_
  refine lv_aload_n hx hb dX1_takes_116 rfl (lv_at hl 1 rfl) ?_
  refine fo_geti (fo_Xw X) hw fc_X1 (hx2 (hI.hx hX)) (k := 10) (by decide) rfl q234 dX1_takes_117 ?_
  have hf0 := hf
  clear hf
  refine fo_puti (fo_Xw X) hw fr_X1 hO (k := 10) (by decide) rfl rfl q234 ⟨rfl, rfl⟩ dX1_takes_120 hf0 (fun st42 H locs hw hf => ?_)
  clear hf0
  have hz := hz.s hw
  refine lv_aload_n hx hb dX1_takes_123 rfl (lv_at hl 0 rfl) ?_
  refine lv_aload_n hx hb dX1_takes_124 rfl (lv_at hl 1 rfl) ?_
  refine fo_geti (fo_Xw X) hw fc_X1 (hx2 (hI.hx hX)) (k := 11) (by decide) rfl q236 dX1_takes_125 ?_
  have hf0 := hf
  clear hf
  refine fo_puti (fo_Xw X) hw fr_X1 hO (k := 11) (by decide) rfl rfl q236 ⟨rfl, rfl⟩ dX1_takes_128 hf0 (fun st43 H locs hw hf => ?_)
  clear hf0
  have hz := hz.s hw
  exact fda_v hend hz hf dX1_takes_131

/-- ForestRooms$State.takes -/
def fX1_takesB (cN cS : Nat) (G : Nat) (p1 : Nat) (tg0 : Nat → Nat × Nat) (nx0 ns0 : Nat) (st0 : fo_St) : Option ((Unit ⊕ Nat) × fo_A) := rn_ (gr_ st0 p1 0) (fun q1 => ck_ (decide (tg0 q1 = (1, 21))) (ba_ (fX2_takesB cN cS q1 tg0 nx0 ns0 st0) (fun x3 tg4 nx4 ns4 sa4 => rn_ (gr_ sa4 p1 1) (fun q5 => ck_ (decide (tg4 q5 = (2, 16))) (bv_ (fX2_rows 7 q5 16 sa4) (fun st8 => rn_ (gr_ st8 p1 2) (fun q9 => ck_ (decide (tg4 q9 = (2, 16))) (bv_ (fX2_rows 8 q9 16 st8) (fun st12 => rn_ (gr_ st12 p1 3) (fun q13 => ck_ (decide (tg4 q13 = (2, 16))) (bv_ (fX2_rows 9 q13 16 st12) (fun st16 => rn_ (gr_ st16 p1 4) (fun q17 => ck_ (decide (tg4 q17 = (2, 6))) (bv_ (fX2_rows 10 q17 6 st16) (fun st20 => rn_ (gr_ st20 p1 5) (fun q21 => ck_ (decide (tg4 q21 = (2, 6))) (bv_ (fX2_rows 11 q21 6 st20) (fun st24 => rn_ (gr_ st24 p1 6) (fun q25 => ck_ (decide (tg4 q25 = (2, 24))) (bv_ (fX2_rows 12 q25 24 st24) (fun st28 => rn_ (gr_ st28 p1 7) (fun q29 => ck_ (decide (tg4 q29 = (2, 5))) (bv_ (fX2_rows 13 q29 5 st28) (fun st32 => ba_ (fJ2_clear cN cS G 14 tg4 nx4 ns4 st32) (fun x33 tg34 nx34 ns34 sa34 => rn_ (gr_ sa34 p1 8) (fun q35 => ck_ (decide (tg34 q35 = (1, 18))) (ba_ (fJ2_addAll cN cS 14 q35 tg34 nx34 ns34 sa34) (fun x37 tg38 nx38 ns38 sa38 => lt_ (si_ sa38 2 9 (gi_ sa38 p1 9)) (fun st39 => lt_ (si_ st39 2 10 (gi_ st39 p1 10)) (fun st40 => lt_ (si_ st40 2 11 (gi_ st40 p1 11)) (fun st41 => some (.inl (), (tg38, nx38, ns38, st41)))))) (fun nX tgX nxX nsX stX => some (.inr nX, (tgX, nxX, nsX, stX)))))) (fun nX tgX nxX nsX stX => some (.inr nX, (tgX, nxX, nsX, stX))))))))))))))))))))))))) (fun nX tgX nxX nsX stX => some (.inr nX, (tgX, nxX, nsX, stX)))))
set_option maxHeartbeats 1000000 in
theorem wX1_takesB (l : Launch) (E : fo_E) (K V : Nat → Nat) (mi : Nat) (hSX : fo_SX E K V mi) (hX : fo_HX E) (G : Nat) (p1 : Nat) (fr lo : Nat) (hfr : 6 ≤ fr) (hlo : 159 ≤ lo) (cN cS : Nat) (tg0 : Nat → Nat × Nat) (nx0 ns0 : Nat) (hP1 : tg0 p1 = (1, 20)) (st0 : fo_St) (hI : fo_I E tg0 nx0) (hcN : nx0 ≤ cN) (hcS : ns0 ≤ cS) (ρZ : Unit ⊕ Nat) (aZ : fo_A) (hf : fX1_takesB cN cS G p1 tg0 nx0 ns0 st0 = some (ρZ, aZ)) : CA vlV l E yX1_takes (ws_ yX1_takes cX1_takes 2 none) fr lo cN cS [.ref (eb E + 2), .ref (eb E + p1)] (tg0, nx0, ns0, st0) ρZ aZ := by
  refine fea_v (a := (tg0, nx0, ns0, st0)) hm_X1_takes (Nat.le_of_ble_eq_true rfl) hI hcN hcS (fun p e R s m args below meth c Q hRf hRl X hnm hend hxx ls hl hz => ?_)
  replace hRf : 6 ≤ R.frames := by rw [hRf]; exact hfr
  replace hRl : 159 ≤ R.locals := by rw [hRl]; exact hlo
  have hR0 : 2 + 1 ≤ R.frames ∧ 8 + (2 + 11) + (51) ≤ R.locals := ⟨by omega, by omega⟩
  have hR1 : 1 + 1 ≤ R.frames ∧ 8 + (2 + 11) + (30) ≤ R.locals := ⟨by omega, by omega⟩
  have hR2 : 0 + 1 ≤ R.frames ∧ 8 + (4 + 11) + (0) ≤ R.locals := ⟨by omega, by omega⟩
  have hR3 : 5 + 1 ≤ R.frames ∧ 8 + (6 + 11) + (134) ≤ R.locals := ⟨by omega, by omega⟩
  have hx := X.1.1
  have hb := X.1.2.1
  have hl : lv_has ls 2 [(0, .ref (eb E + 2)), (1, .ref (eb E + p1))] := hl
  have hz : fo_Z E R s cN cS (tg0, nx0, ns0, st0) tg0 nx0 ns0 st0 s.heap [] := hz
  have hw := hz.1
  show W p l e R s m args below meth c s.heap [] (nx0 - nx0) (ns0 - ns0) Q (F0 m 0 ls [])
  unfold fX1_takesB at hf
  generalize s.heap = H at hz hw ⊢
  generalize ([] : List Loc) = locs at hz hw ⊢
  refine lv_aload_n hx hb dX1_takes_0 rfl (lv_at hl 0 rfl) ?_
  refine fo_gets (fo_Xw X) hw fc_X1 (hx2 (hI.hx hX)) (k := 0) (d := 1) (n2 := 3) (by decide) rfl rfl q214 dX1_takes_1 ?_
  refine lv_aload_n hx hb dX1_takes_4 rfl (lv_at hl 1 rfl) ?_
  have hf0 := hf
  clear hf
  refine fo_getr (fo_Xw X) hw fr_X1 hP1 (k := 0) (by decide) rfl q214 dX1_takes_5 hf0 (fun q1 hf => ?_)
  clear hf0
  have hf0 := ck_e hf
  clear hf
  obtain ⟨hq2, hf⟩ := hf0
  have hq2 := of_decide_eq_true hq2
  have hf0 := hf
  clear hf
  refine fa_V (fr := 2) (lo := 51) (val := vlV) (rest := []) (As := [.ref (eb E + q1)]) X hz hm_X2_takes (lw_V q448 q449 q450 q113 q451) hR0 fc_X2 rfl (hx3 (hI.hx hX)) rfl rfl hl.1 (Nat.le_of_ble_eq_true rfl) dX1_takes_8 (fun rQ aQ hQ => wX2_takesB l E hX q1 (2) (51) (Nat.le_refl _) (Nat.le_refl _) cN cS tg0 nx0 ns0 hq2 st0 hI hz.2.2.2.2.2.2.1 hz.2.2.2.2.2.2.2.2 rQ aQ hQ) hf0 (fun nX EX tgX nxX nsX stX H locs hTX hxX hz2 hf => ?_) (fun x3 tg4 nx4 ns4 sa4 H locs hext hz2 hf => ?_)
  · exact fda_x hxx hTX hz2 hf
  clear hf0
  have hP1 := hext.t hI hP1
  have hq2 := hext.t hI hq2
  have hz := hz2
  have hw := hz.1
  have hI := hz.2.1
  clear hz2 hext
  refine lv_aload_n hx hb dX1_takes_11 rfl (lv_at hl 0 rfl) ?_
  refine fo_gets (fo_Xw X) hw fc_X1 (hx2 (hI.hx hX)) (k := 1) (d := 5) (n2 := 7) (by decide) rfl rfl q216 dX1_takes_12 ?_
  refine lv_aload_n hx hb dX1_takes_15 rfl (lv_at hl 1 rfl) ?_
  have hf0 := hf
  clear hf
  refine fo_getr (fo_Xw X) hw fr_X1 hP1 (k := 1) (by decide) rfl q216 dX1_takes_16 hf0 (fun q5 hf => ?_)
  clear hf0
  have hf0 := ck_e hf
  clear hf
  obtain ⟨hq6, hf⟩ := hf0
  have hq6 := of_decide_eq_true hq6
  have hf0 := hf
  clear hf
  refine fcA_Sv (rm := { frames := 1, cells := 0, slots := 0, locals := 30 }) (rest := []) (As := [.ref (eb E + 7), .ref (eb E + q5)]) (fo_Xw X) hw hz.lim0 hm_X2_rows (lw_S q458 q453 q113 q454) ⟨rfl, rfl⟩ hR1 rfl rfl hl.1 (Nat.le_of_ble_eq_true rfl) dX1_takes_19 (fun stQ hQ => wX2_rows l (eW E tg4 nx4)  7 q5 16 (hx7 (hI.hx hX)) hq6 (by decide) sa4 stQ hQ) hf0 (fun st8 H locs hw hf => ?_)
  clear hf0
  have hz := hz.s hw
  refine lv_aload_n hx hb dX1_takes_22 rfl (lv_at hl 0 rfl) ?_
  refine fo_gets (fo_Xw X) hw fc_X1 (hx2 (hI.hx hX)) (k := 2) (d := 6) (n2 := 8) (by decide) rfl rfl q218 dX1_takes_23 ?_
  refine lv_aload_n hx hb dX1_takes_26 rfl (lv_at hl 1 rfl) ?_
  have hf0 := hf
  clear hf
  refine fo_getr (fo_Xw X) hw fr_X1 hP1 (k := 2) (by decide) rfl q218 dX1_takes_27 hf0 (fun q9 hf => ?_)
  clear hf0
  have hf0 := ck_e hf
  clear hf
  obtain ⟨hq10, hf⟩ := hf0
  have hq10 := of_decide_eq_true hq10
  have hf0 := hf
  clear hf
  refine fcA_Sv (rm := { frames := 1, cells := 0, slots := 0, locals := 30 }) (rest := []) (As := [.ref (eb E + 8), .ref (eb E + q9)]) (fo_Xw X) hw hz.lim0 hm_X2_rows (lw_S q458 q453 q113 q454) ⟨rfl, rfl⟩ hR1 rfl rfl hl.1 (Nat.le_of_ble_eq_true rfl) dX1_takes_30 (fun stQ hQ => wX2_rows l (eW E tg4 nx4)  8 q9 16 (hx8 (hI.hx hX)) hq10 (by decide) st8 stQ hQ) hf0 (fun st12 H locs hw hf => ?_)
  clear hf0
  have hz := hz.s hw
  refine lv_aload_n hx hb dX1_takes_33 rfl (lv_at hl 0 rfl) ?_
  refine fo_gets (fo_Xw X) hw fc_X1 (hx2 (hI.hx hX)) (k := 3) (d := 7) (n2 := 9) (by decide) rfl rfl q220 dX1_takes_34 ?_
  refine lv_aload_n hx hb dX1_takes_37 rfl (lv_at hl 1 rfl) ?_
  have hf0 := hf
  clear hf
  refine fo_getr (fo_Xw X) hw fr_X1 hP1 (k := 3) (by decide) rfl q220 dX1_takes_38 hf0 (fun q13 hf => ?_)
  clear hf0
  have hf0 := ck_e hf
  clear hf
  obtain ⟨hq14, hf⟩ := hf0
  have hq14 := of_decide_eq_true hq14
  have hf0 := hf
  clear hf
  refine fcA_Sv (rm := { frames := 1, cells := 0, slots := 0, locals := 30 }) (rest := []) (As := [.ref (eb E + 9), .ref (eb E + q13)]) (fo_Xw X) hw hz.lim0 hm_X2_rows (lw_S q458 q453 q113 q454) ⟨rfl, rfl⟩ hR1 rfl rfl hl.1 (Nat.le_of_ble_eq_true rfl) dX1_takes_41 (fun stQ hQ => wX2_rows l (eW E tg4 nx4)  9 q13 16 (hx9 (hI.hx hX)) hq14 (by decide) st12 stQ hQ) hf0 (fun st16 H locs hw hf => ?_)
  clear hf0
  have hz := hz.s hw
  refine lv_aload_n hx hb dX1_takes_44 rfl (lv_at hl 0 rfl) ?_
  refine fo_gets (fo_Xw X) hw fc_X1 (hx2 (hI.hx hX)) (k := 4) (d := 8) (n2 := 10) (by decide) rfl rfl q222 dX1_takes_45 ?_
  refine lv_aload_n hx hb dX1_takes_48 rfl (lv_at hl 1 rfl) ?_
  have hf0 := hf
  clear hf
  refine fo_getr (fo_Xw X) hw fr_X1 hP1 (k := 4) (by decide) rfl q222 dX1_takes_49 hf0 (fun q17 hf => ?_)
  clear hf0
  have hf0 := ck_e hf
  clear hf
  obtain ⟨hq18, hf⟩ := hf0
  have hq18 := of_decide_eq_true hq18
  have hf0 := hf
  clear hf
  refine fcA_Sv (rm := { frames := 1, cells := 0, slots := 0, locals := 30 }) (rest := []) (As := [.ref (eb E + 10), .ref (eb E + q17)]) (fo_Xw X) hw hz.lim0 hm_X2_rows (lw_S q458 q453 q113 q454) ⟨rfl, rfl⟩ hR1 rfl rfl hl.1 (Nat.le_of_ble_eq_true rfl) dX1_takes_52 (fun stQ hQ => wX2_rows l (eW E tg4 nx4)  10 q17 6 (hx10 (hI.hx hX)) hq18 (by decide) st16 stQ hQ) hf0 (fun st20 H locs hw hf => ?_)
  clear hf0
  have hz := hz.s hw
  refine lv_aload_n hx hb dX1_takes_55 rfl (lv_at hl 0 rfl) ?_
  refine fo_gets (fo_Xw X) hw fc_X1 (hx2 (hI.hx hX)) (k := 5) (d := 9) (n2 := 11) (by decide) rfl rfl q224 dX1_takes_56 ?_
  refine lv_aload_n hx hb dX1_takes_59 rfl (lv_at hl 1 rfl) ?_
  have hf0 := hf
  clear hf
  refine fo_getr (fo_Xw X) hw fr_X1 hP1 (k := 5) (by decide) rfl q224 dX1_takes_60 hf0 (fun q21 hf => ?_)
  clear hf0
  have hf0 := ck_e hf
  clear hf
  obtain ⟨hq22, hf⟩ := hf0
  have hq22 := of_decide_eq_true hq22
  have hf0 := hf
  clear hf
  refine fcA_Sv (rm := { frames := 1, cells := 0, slots := 0, locals := 30 }) (rest := []) (As := [.ref (eb E + 11), .ref (eb E + q21)]) (fo_Xw X) hw hz.lim0 hm_X2_rows (lw_S q458 q453 q113 q454) ⟨rfl, rfl⟩ hR1 rfl rfl hl.1 (Nat.le_of_ble_eq_true rfl) dX1_takes_63 (fun stQ hQ => wX2_rows l (eW E tg4 nx4)  11 q21 6 (hx11 (hI.hx hX)) hq22 (by decide) st20 stQ hQ) hf0 (fun st24 H locs hw hf => ?_)
  clear hf0
  have hz := hz.s hw
  refine lv_aload_n hx hb dX1_takes_66 rfl (lv_at hl 0 rfl) ?_
  refine fo_gets (fo_Xw X) hw fc_X1 (hx2 (hI.hx hX)) (k := 6) (d := 10) (n2 := 12) (by decide) rfl rfl q226 dX1_takes_67 ?_
  refine lv_aload_n hx hb dX1_takes_70 rfl (lv_at hl 1 rfl) ?_
  have hf0 := hf
  clear hf
  refine fo_getr (fo_Xw X) hw fr_X1 hP1 (k := 6) (by decide) rfl q226 dX1_takes_71 hf0 (fun q25 hf => ?_)
  clear hf0
  have hf0 := ck_e hf
  clear hf
  obtain ⟨hq26, hf⟩ := hf0
  have hq26 := of_decide_eq_true hq26
  have hf0 := hf
  clear hf
  refine fcA_Sv (rm := { frames := 1, cells := 0, slots := 0, locals := 30 }) (rest := []) (As := [.ref (eb E + 12), .ref (eb E + q25)]) (fo_Xw X) hw hz.lim0 hm_X2_rows (lw_S q458 q453 q113 q454) ⟨rfl, rfl⟩ hR1 rfl rfl hl.1 (Nat.le_of_ble_eq_true rfl) dX1_takes_74 (fun stQ hQ => wX2_rows l (eW E tg4 nx4)  12 q25 24 (hx12 (hI.hx hX)) hq26 (by decide) st24 stQ hQ) hf0 (fun st28 H locs hw hf => ?_)
  clear hf0
  have hz := hz.s hw
  refine lv_aload_n hx hb dX1_takes_77 rfl (lv_at hl 0 rfl) ?_
  refine fo_gets (fo_Xw X) hw fc_X1 (hx2 (hI.hx hX)) (k := 7) (d := 11) (n2 := 13) (by decide) rfl rfl q228 dX1_takes_78 ?_
  refine lv_aload_n hx hb dX1_takes_81 rfl (lv_at hl 1 rfl) ?_
  have hf0 := hf
  clear hf
  refine fo_getr (fo_Xw X) hw fr_X1 hP1 (k := 7) (by decide) rfl q228 dX1_takes_82 hf0 (fun q29 hf => ?_)
  clear hf0
  have hf0 := ck_e hf
  clear hf
  obtain ⟨hq30, hf⟩ := hf0
  have hq30 := of_decide_eq_true hq30
  have hf0 := hf
  clear hf
  refine fcA_Sv (rm := { frames := 1, cells := 0, slots := 0, locals := 30 }) (rest := []) (As := [.ref (eb E + 13), .ref (eb E + q29)]) (fo_Xw X) hw hz.lim0 hm_X2_rows (lw_S q458 q453 q113 q454) ⟨rfl, rfl⟩ hR1 rfl rfl hl.1 (Nat.le_of_ble_eq_true rfl) dX1_takes_85 (fun stQ hQ => wX2_rows l (eW E tg4 nx4)  13 q29 5 (hx13 (hI.hx hX)) hq30 (by decide) st28 stQ hQ) hf0 (fun st32 H locs hw hf => ?_)
  clear hf0
  have hz := hz.s hw
  refine lv_aload_n hx hb dX1_takes_88 rfl (lv_at hl 0 rfl) ?_
  refine fo_gets (fo_Xw X) hw fc_X1 (hx2 (hI.hx hX)) (k := 8) (d := 12) (n2 := 14) (by decide) rfl rfl q230 dX1_takes_89 ?_
  have hf0 := hf
  clear hf
  refine fa_V (fr := 0) (lo := 0) (val := vlV) (rest := []) (As := []) X hz hm_J2_clear (lw_V q459 q460 q461 q116 q462) hR2 fc_J2 rfl (hx14 (hI.hx hX)) rfl rfl hl.1 (Nat.le_of_ble_eq_true rfl) dX1_takes_92 (fun rQ aQ hQ => wJ2_clear_18 l E G 14 (0) (0) (Nat.le_refl _) (Nat.le_refl _) cN cS tg4 nx4 ns4 (hx14 (hI.hx hX)) st32 hI hz.2.2.2.2.2.2.1 hz.2.2.2.2.2.2.2.2 rQ aQ hQ) hf0 (fun nX EX tgX nxX nsX stX H locs hTX hxX hz2 hf => ?_) (fun x33 tg34 nx34 ns34 sa34 H locs hext hz2 hf => ?_)
  · exact fda_x hxx hTX hz2 hf
  clear hf0
  have hP1 := hext.t hI hP1
  have hq2 := hext.t hI hq2
  have hq6 := hext.t hI hq6
  have hq10 := hext.t hI hq10
  have hq14 := hext.t hI hq14
  have hq18 := hext.t hI hq18
  have hq22 := hext.t hI hq22
  have hq26 := hext.t hI hq26
  have hq30 := hext.t hI hq30
  have hz := hz2
  have hw := hz.1
  have hI := hz.2.1
  clear hz2 hext
  refine lv_aload_n hx hb dX1_takes_95 rfl (lv_at hl 0 rfl) ?_
  refine fo_gets (fo_Xw X) hw fc_X1 (hx2 (hI.hx hX)) (k := 8) (d := 12) (n2 := 14) (by decide) rfl rfl q230 dX1_takes_96 ?_
  refine lv_aload_n hx hb dX1_takes_99 rfl (lv_at hl 1 rfl) ?_
  have hf0 := hf
  clear hf
  refine fo_getr (fo_Xw X) hw fr_X1 hP1 (k := 8) (by decide) rfl q230 dX1_takes_100 hf0 (fun q35 hf => ?_)
  clear hf0
  have hf0 := ck_e hf
  clear hf
  obtain ⟨hq36, hf⟩ := hf0
  have hq36 := of_decide_eq_true hq36
  have hf0 := hf
  clear hf
  refine fa_V (fr := 5) (lo := 134) (val := vlI) (rest := []) (As := [.ref (eb E + q35)]) X hz hm_J2_addAll (lw_V q463 q464 q465 q116 q466) hR3 fc_J2 rfl (hx14 (hI.hx hX)) rfl rfl hl.1 (Nat.le_of_ble_eq_true rfl) dX1_takes_103 (fun rQ aQ hQ => wJ2_addAll_18 l E K V mi hSX 14 q35 (5) (134) (Nat.le_refl _) (Nat.le_refl _) cN cS tg34 nx34 ns34 (hx14 (hI.hx hX)) sa34 hI hz.2.2.2.2.2.2.1 hz.2.2.2.2.2.2.2.2 rQ aQ hQ) hf0 (fun nX EX tgX nxX nsX stX H locs hTX hxX hz2 hf => ?_) (fun x37 tg38 nx38 ns38 sa38 H locs hext hz2 hf => ?_)
  · exact fda_x hxx hTX hz2 hf
  clear hf0
  have hP1 := hext.t hI hP1
  have hq2 := hext.t hI hq2
  have hq6 := hext.t hI hq6
  have hq10 := hext.t hI hq10
  have hq14 := hext.t hI hq14
  have hq18 := hext.t hI hq18
  have hq22 := hext.t hI hq22
  have hq26 := hext.t hI hq26
  have hq30 := hext.t hI hq30
  have hq36 := hext.t hI hq36
  have hz := hz2
  have hw := hz.1
  have hI := hz.2.1
  clear hz2 hext
  refine lv_pop hx hb dX1_takes_106 rfl ?_
  refine lv_aload_n hx hb dX1_takes_107 rfl (lv_at hl 0 rfl) ?_
  refine lv_aload_n hx hb dX1_takes_108 rfl (lv_at hl 1 rfl) ?_
  refine fo_geti (fo_Xw X) hw fr_X1 hP1 (k := 9) (by decide) rfl q232 dX1_takes_109 ?_
  have hf0 := hf
  clear hf
  refine fo_puti (fo_Xw X) hw fc_X1 (hx2 (hI.hx hX)) (k := 9) (by decide) rfl rfl q232 ⟨rfl, rfl⟩ dX1_takes_112 hf0 (fun st39 H locs hw hf => ?_)
  clear hf0
  have hz := hz.s hw
  refine lv_aload_n hx hb dX1_takes_115 rfl (lv_at hl 0 rfl) ?_
  refine lv_aload_n hx hb dX1_takes_116 rfl (lv_at hl 1 rfl) ?_
  refine fo_geti (fo_Xw X) hw fr_X1 hP1 (k := 10) (by decide) rfl q234 dX1_takes_117 ?_
  have hf0 := hf
  clear hf
  refine fo_puti (fo_Xw X) hw fc_X1 (hx2 (hI.hx hX)) (k := 10) (by decide) rfl rfl q234 ⟨rfl, rfl⟩ dX1_takes_120 hf0 (fun st40 H locs hw hf => ?_)
  clear hf0
  have hz := hz.s hw
  refine lv_aload_n hx hb dX1_takes_123 rfl (lv_at hl 0 rfl) ?_
  refine lv_aload_n hx hb dX1_takes_124 rfl (lv_at hl 1 rfl) ?_
  refine fo_geti (fo_Xw X) hw fr_X1 hP1 (k := 11) (by decide) rfl q236 dX1_takes_125 ?_
  have hf0 := hf
  clear hf
  refine fo_puti (fo_Xw X) hw fc_X1 (hx2 (hI.hx hX)) (k := 11) (by decide) rfl rfl q236 ⟨rfl, rfl⟩ dX1_takes_128 hf0 (fun st41 H locs hw hf => ?_)
  clear hf0
  have hz := hz.s hw
  exact fda_v hend hz hf dX1_takes_131

/-- ForestRooms$Table.<init> -/
def fX2_init (cN cS : Nat) (G : Nat) (o : Nat) (tg0 : Nat → Nat × Nat) (nx0 ns0 : Nat) (st0 : fo_St) : Option ((Unit ⊕ Nat) × fo_A) := ck_ (fo_bg nx0 ns0 16 cN cS) (aw_ (tu_ tg0 nx0 (2, 16), nx0 + 1, ns0 + 16, z0_ st0 nx0) (fun tg1 nx1 ns1 sa1 => lt_ (sr_ sa1 o 0 (some nx0)) (fun st3 => ck_ (fo_bg nx1 ns1 16 cN cS) (aw_ (tu_ tg1 nx1 (2, 16), nx1 + 1, ns1 + 16, z0_ st3 nx1) (fun tg4 nx4 ns4 sa4 => lt_ (sr_ sa4 o 1 (some nx1)) (fun st6 => ck_ (fo_bg nx4 ns4 16 cN cS) (aw_ (tu_ tg4 nx4 (2, 16), nx4 + 1, ns4 + 16, z0_ st6 nx4) (fun tg7 nx7 ns7 sa7 => lt_ (sr_ sa7 o 2 (some nx4)) (fun st9 => lp2_ (fun rec12 (x10 : Int32) (a11 : fo_A) => aw_ a11 (fun tg11 nx11 ns11 sa11 => if (16 : Int32) ≤ x10 then some (.inl (), (tg11, nx11, ns11, sa11)) else rn_ (gr_ sa11 o 0) (fun q13 => ck_ (decide (tg11 q13 = (2, 16))) (ck_ (fo_in x10 16) (lt_ (si_ sa11 q13 x10.toNatClampNeg (-1 : Int32)) (fun st15 => rn_ (gr_ st15 o 2) (fun q16 => ck_ (decide (tg11 q16 = (2, 16))) (ck_ (fo_in x10 16) (lt_ (si_ st15 q16 x10.toNatClampNeg (-1 : Int32)) (fun st18 => rec12 (x10 + (1 : Int32)) (tg11, nx11, ns11, st18))))))))))) G (0 : Int32) (tg7, nx7, ns7, st9))))))))))
theorem hm_X2_init : fo_M yX2_init 0 := ⟨by decide +kernel, by decide +kernel, by decide +kernel, by decide +kernel⟩
set_option maxHeartbeats 1000000 in
theorem wX2_init_21 (l : Launch) (E : fo_E) (G : Nat) (o : Nat) (fr lo : Nat) (hfr : 2 ≤ fr) (hlo : 60 ≤ lo) (cN cS : Nat) (tg0 : Nat → Nat × Nat) (nx0 ns0 : Nat) (hO : tg0 o = (1, 21)) (st0 : fo_St) (hI : fo_I E tg0 nx0) (hcN : nx0 ≤ cN) (hcS : ns0 ≤ cS) (ρZ : Unit ⊕ Nat) (aZ : fo_A) (hf : fX2_init cN cS G o tg0 nx0 ns0 st0 = some (ρZ, aZ)) : CA vlV l E yX2_init (ws_ yX2_init cX2_init 2 none) fr lo cN cS [.ref (eb E + o)] (tg0, nx0, ns0, st0) ρZ aZ := by
  refine fea_v (a := (tg0, nx0, ns0, st0)) hm_X2_init (Nat.le_of_ble_eq_true rfl) hI hcN hcS (fun p e R s m args below meth c Q hRf hRl X hnm hend hxx ls hl hz => ?_)
  have hin2 : meth.name = "<init>" := hnm
  replace hRf : 2 ≤ R.frames := by rw [hRf]; exact hfr
  replace hRl : 60 ≤ R.locals := by rw [hRl]; exact hlo
  have hx := X.1.1
  have hb := X.1.2.1
  have hl : lv_has ls 2 [(0, .ref (eb E + o))] := hl
  have hz : fo_Z E R s cN cS (tg0, nx0, ns0, st0) tg0 nx0 ns0 st0 s.heap [] := hz
  have hw := hz.1
  show W p l e R s m args below meth c s.heap [] (nx0 - nx0) (ns0 - ns0) Q (F0 m 0 ls [])
  unfold fX2_init at hf
  generalize s.heap = H at hz hw ⊢
  generalize ([] : List Loc) = locs at hz hw ⊢
  refine lv_aload_n hx hb dX2_init_0 rfl (lv_at hl 0 rfl) ?_
  refine W.objInit hx hb X.1.2.2.2.1 (X.1.2.2.2.2 _ q166) (X.1.2.2.2.2 _ q153) (X.1.2.2.2.2 _ q154) rfl (by rw [X.1.2.2.1]; exact hl.1) rfl dX2_init_1 (Nat.le_trans (Nat.le_of_ble_eq_true rfl) hRf) (Nat.le_trans (Nat.le_of_ble_eq_true rfl) hRl) ?_
  refine lv_aload_n hx hb dX2_init_4 rfl (lv_at hl 0 rfl) ?_
  refine lv_bipush (v := (16 : Int32)) hx hb dX2_init_5 (by decide) ?_
  have hf0 := hf
  clear hf
  refine fa_newi X hz q185 (L := 16) (by decide) (by decide) (by decide) dX2_init_7 hf0 (fun tg1 nx1 ns1 sa1 H hext hq2 hz2 hf => ?_)
  clear hf0
  have hO := hext.t hI hO
  have hz := hz2
  have hw := hz.1
  have hI := hz.2.1
  clear hz2 hext
  have hf0 := hf
  clear hf
  refine fo_putrF (fo_Xw X) hin2 hw fr_X2 hO (k := 0) (by decide) rfl rfl rfl q167 (fun _ => ⟨rfl, rfl⟩) dX2_init_9 hf0 (fun st3 H locs hw hf => ?_)
  clear hf0
  have hz := hz.s hw
  refine lv_aload_n hx hb dX2_init_12 rfl (lv_at hl 0 rfl) ?_
  refine lv_bipush (v := (16 : Int32)) hx hb dX2_init_13 (by decide) ?_
  have hf0 := hf
  clear hf
  refine fa_newi X hz q185 (L := 16) (by decide) (by decide) (by decide) dX2_init_15 hf0 (fun tg4 nx4 ns4 sa4 H hext hq5 hz2 hf => ?_)
  clear hf0
  have hO := hext.t hI hO
  have hq2 := hext.t hI hq2
  have hz := hz2
  have hw := hz.1
  have hI := hz.2.1
  clear hz2 hext
  have hf0 := hf
  clear hf
  refine fo_putrF (fo_Xw X) hin2 hw fr_X2 hO (k := 1) (by decide) rfl rfl rfl q169 (fun _ => ⟨rfl, rfl⟩) dX2_init_17 hf0 (fun st6 H locs hw hf => ?_)
  clear hf0
  have hz := hz.s hw
  refine lv_aload_n hx hb dX2_init_20 rfl (lv_at hl 0 rfl) ?_
  refine lv_bipush (v := (16 : Int32)) hx hb dX2_init_21 (by decide) ?_
  have hf0 := hf
  clear hf
  refine fa_newi X hz q185 (L := 16) (by decide) (by decide) (by decide) dX2_init_23 hf0 (fun tg7 nx7 ns7 sa7 H hext hq8 hz2 hf => ?_)
  clear hf0
  have hO := hext.t hI hO
  have hq2 := hext.t hI hq2
  have hq5 := hext.t hI hq5
  have hz := hz2
  have hw := hz.1
  have hI := hz.2.1
  clear hz2 hext
  have hf0 := hf
  clear hf
  refine fo_putrF (fo_Xw X) hin2 hw fr_X2 hO (k := 2) (by decide) rfl rfl rfl q172 (fun _ => ⟨rfl, rfl⟩) dX2_init_25 hf0 (fun st9 H locs hw hf => ?_)
  clear hf0
  have hz := hz.s hw
  refine lv_iconst (v := (0 : Int32)) hx hb dX2_init_28 (by decide) ?_
  refine lv_istore_n (lv' := [(1, .int (0 : Int32)), (0, .ref (eb E + o))]) hx hb dX2_init_29 rfl hl (by decide) rfl (fun ls hl => ?_)
  refine lp2_e (P := fun x10 a11 => ∀ (H : Heap) (locs : List Loc) (ls : Array Slot), a11.1 o = (1, 21) → a11.1 nx0 = (2, 16) → a11.1 nx1 = (2, 16) → a11.1 nx4 = (2, 16) → lv_has ls 2 [(1, .int x10), (0, .ref (eb E + o))] → fo_Z E R s cN cS (tg0, nx0, ns0, st0) a11.1 a11.2.1 a11.2.2.1 a11.2.2.2 H locs → W p l e R s m args below meth c H locs (a11.2.1 - nx0) (a11.2.2.1 - ns0) Q (F0 m 30 ls [])) (fun rec12 hrec12 x10 a11 hf => ?_) G _ _ hf H locs ls hO hq2 hq5 hq8 (lv_sub hl [0, 1] rfl) hz
  obtain ⟨tg11, nx11, ns11, sa11⟩ := a11
  intro H locs ls hO hq2 hq5 hq8 hl hz
  have hO : tg11 o = (1, 21) := hO
  have hq2 : tg11 nx0 = (2, 16) := hq2
  have hq5 : tg11 nx1 = (2, 16) := hq5
  have hq8 : tg11 nx4 = (2, 16) := hq8
  have hz : fo_Z E R s cN cS (tg0, nx0, ns0, st0) tg11 nx11 ns11 sa11 H locs := hz
  show W p l e R s m args below meth c H locs (nx11 - nx0) (ns11 - ns0) Q (F0 m 30 ls [])
  replace hf := aw_u hf
  have hw := hz.1
  have hI := hz.2.1
  refine lv_iload_n hx hb dX2_init_30 rfl (lv_at hl 0 rfl) ?_
  refine lv_bipush (v := (16 : Int32)) hx hb dX2_init_31 (by decide) ?_
  have hf0 := hf
  clear hf
  refine fb_ige (tgt := 56) hx hb dX2_init_33 (by decide) hf0 (fun hf => ?_) (fun hf => ?_)
  · clear hf0
    exact fda_v hend hz hf dX2_init_56
  clear hf0
  refine lv_aload_n hx hb dX2_init_36 rfl (lv_at hl 1 rfl) ?_
  have hf0 := hf
  clear hf
  refine fo_getr (fo_Xw X) hw fr_X2 hO (k := 0) (by decide) rfl q167 dX2_init_37 hf0 (fun q13 hf => ?_)
  clear hf0
  have hf0 := ck_e hf
  clear hf
  obtain ⟨hq14, hf⟩ := hf0
  have hq14 := of_decide_eq_true hq14
  refine lv_iload_n hx hb dX2_init_40 rfl (lv_at hl 0 rfl) ?_
  refine lv_iconst (v := (-1 : Int32)) hx hb dX2_init_41 (by decide) ?_
  have hf0 := hf
  clear hf
  refine fo_iast (fo_Xw X) hw hq14 dX2_init_42 hf0 (fun st15 H locs hw hf => ?_)
  clear hf0
  have hz := hz.s hw
  refine lv_aload_n hx hb dX2_init_43 rfl (lv_at hl 1 rfl) ?_
  have hf0 := hf
  clear hf
  refine fo_getr (fo_Xw X) hw fr_X2 hO (k := 2) (by decide) rfl q172 dX2_init_44 hf0 (fun q16 hf => ?_)
  clear hf0
  have hf0 := ck_e hf
  clear hf
  obtain ⟨hq17, hf⟩ := hf0
  have hq17 := of_decide_eq_true hq17
  refine lv_iload_n hx hb dX2_init_47 rfl (lv_at hl 0 rfl) ?_
  refine lv_iconst (v := (-1 : Int32)) hx hb dX2_init_48 (by decide) ?_
  have hf0 := hf
  clear hf
  refine fo_iast (fo_Xw X) hw hq17 dX2_init_49 hf0 (fun st18 H locs hw hf => ?_)
  clear hf0
  have hz := hz.s hw
  refine fb_iinc (v := (1 : Int32)) (lv' := [(1, .int (x10 + (1 : Int32))), (0, .ref (eb E + o))]) hx hb dX2_init_50 hl (k := 0) rfl (by decide) (by decide) rfl (fun ls hl => ?_)
  refine lv_goto (tgt := 30) hx hb dX2_init_53 (by decide) ?_
  exact hrec12 _ _ hf _ _ _ hO hq2 hq5 hq8 (lv_sub hl [0, 1] rfl) hz

/-- ForestRooms$Setting.<init> -/
def fX3_init (cN cS : Nat) (o : Nat) (tg0 : Nat → Nat × Nat) (nx0 ns0 : Nat) (st0 : fo_St) : Option ((Unit ⊕ Nat) × fo_A) := ck_ (fo_bg nx0 ns0 6 cN cS) (aw_ (tu_ tg0 nx0 (1, 4), nx0 + 1, ns0 + 6, z0_ st0 nx0) (fun tg1 nx1 ns1 sa1 => ba_ (fX4_init cN cS nx0 tg1 nx1 ns1 sa1) (fun x3 tg4 nx4 ns4 sa4 => lt_ (sr_ sa4 o 0 (some nx0)) (fun st5 => ck_ (fo_bg nx4 ns4 52 cN cS) (aw_ (tu_ tg4 nx4 (5, 52), nx4 + 1, ns4 + 52, z0_ st5 nx4) (fun tg6 nx6 ns6 sa6 => lt_ (sr_ sa6 o 1 (some nx4)) (fun st8 => some (.inl (), (tg6, nx6, ns6, st8))))))) (fun nX tgX nxX nsX stX => some (.inr nX, (tgX, nxX, nsX, stX)))))
theorem hm_X3_init : fo_M yX3_init 0 := ⟨by decide +kernel, by decide +kernel, by decide +kernel, by decide +kernel⟩
set_option maxHeartbeats 1000000 in
theorem wX3_init_22 (l : Launch) (E : fo_E) (K V : Nat → Nat) (mi : Nat) (hSX : fo_SX E K V mi) (o : Nat) (fr lo : Nat) (hfr : 5 ≤ fr) (hlo : 134 ≤ lo) (cN cS : Nat) (tg0 : Nat → Nat × Nat) (nx0 ns0 : Nat) (hO : tg0 o = (1, 22)) (st0 : fo_St) (hI : fo_I E tg0 nx0) (hcN : nx0 ≤ cN) (hcS : ns0 ≤ cS) (ρZ : Unit ⊕ Nat) (aZ : fo_A) (hf : fX3_init cN cS o tg0 nx0 ns0 st0 = some (ρZ, aZ)) : CA vlV l E yX3_init (ws_ yX3_init cX3_init 1 none) fr lo cN cS [.ref (eb E + o)] (tg0, nx0, ns0, st0) ρZ aZ := by
  refine fea_v (a := (tg0, nx0, ns0, st0)) hm_X3_init (Nat.le_of_ble_eq_true rfl) hI hcN hcS (fun p e R s m args below meth c Q hRf hRl X hnm hend hxx ls hl hz => ?_)
  have hin2 : meth.name = "<init>" := hnm
  replace hRf : 5 ≤ R.frames := by rw [hRf]; exact hfr
  replace hRl : 134 ≤ R.locals := by rw [hRl]; exact hlo
  have hR0 : 4 + 1 ≤ R.frames ∧ 8 + (1 + 11) + (114) ≤ R.locals := ⟨by omega, by omega⟩
  have hx := X.1.1
  have hb := X.1.2.1
  have hl : lv_has ls 1 [(0, .ref (eb E + o))] := hl
  have hz : fo_Z E R s cN cS (tg0, nx0, ns0, st0) tg0 nx0 ns0 st0 s.heap [] := hz
  have hw := hz.1
  show W p l e R s m args below meth c s.heap [] (nx0 - nx0) (ns0 - ns0) Q (F0 m 0 ls [])
  unfold fX3_init at hf
  generalize s.heap = H at hz hw ⊢
  generalize ([] : List Loc) = locs at hz hw ⊢
  refine lv_aload_n hx hb dX3_init_0 rfl (lv_at hl 0 rfl) ?_
  refine W.objInit hx hb X.1.2.2.2.1 (X.1.2.2.2.2 _ q272) (X.1.2.2.2.2 _ q153) (X.1.2.2.2.2 _ q154) rfl (by rw [X.1.2.2.1]; exact hl.1) rfl dX3_init_1 (Nat.le_trans (Nat.le_of_ble_eq_true rfl) hRf) (Nat.le_trans (Nat.le_of_ble_eq_true rfl) hRl) ?_
  refine lv_aload_n hx hb dX3_init_4 rfl (lv_at hl 0 rfl) ?_
  have hf0 := hf
  clear hf
  refine fa_new X hz fc_X4 fd_X4 q273 q274 q120 dX3_init_5 hf0 (fun tg1 nx1 ns1 sa1 H hext hq2 hz2 hf => ?_)
  clear hf0
  have hO := hext.t hI hO
  have hz := hz2
  have hw := hz.1
  have hI := hz.2.1
  clear hz2 hext
  refine lv_dup hx hb dX3_init_8 rfl ?_
  have hf0 := hf
  clear hf
  refine fa_I (fr := 4) (lo := 114) (val := vlV) (rest := [.ref (eb E + nx0), .ref (eb E + o)]) (As := []) X hz hm_X4_init q313 q120 q311 q312 rfl hR0 rfl rfl hl.1 (Nat.le_of_ble_eq_true rfl) dX3_init_9 (fun rQ aQ hQ => wX4_init_4 l E K V mi hSX nx0 (4) (114) (Nat.le_refl _) (Nat.le_refl _) cN cS tg1 nx1 ns1 hq2 sa1 hI hz.2.2.2.2.2.2.1 hz.2.2.2.2.2.2.2.2 rQ aQ hQ) hf0 (fun nX EX tgX nxX nsX stX H locs hTX hxX hz2 hf => ?_) (fun x3 tg4 nx4 ns4 sa4 H locs hext hz2 hf => ?_)
  · exact fda_x hxx hTX hz2 hf
  clear hf0
  have hO := hext.t hI hO
  have hq2 := hext.t hI hq2
  have hz := hz2
  have hw := hz.1
  have hI := hz.2.1
  clear hz2 hext
  have hf0 := hf
  clear hf
  refine fo_putrF (fo_Xw X) hin2 hw fr_X3 hO (k := 0) (by decide) rfl rfl rfl q334 (fun _ => ⟨rfl, rfl⟩) dX3_init_12 hf0 (fun st5 H locs hw hf => ?_)
  clear hf0
  have hz := hz.s hw
  refine lv_aload_n hx hb dX3_init_15 rfl (lv_at hl 0 rfl) ?_
  refine lv_bipush (v := (52 : Int32)) hx hb dX3_init_16 (by decide) ?_
  have hf0 := hf
  clear hf
  refine fa_newl X hz q344 (L := 52) (by decide) (by decide) (by decide) dX3_init_18 hf0 (fun tg6 nx6 ns6 sa6 H hext hq7 hz2 hf => ?_)
  clear hf0
  have hO := hext.t hI hO
  have hq2 := hext.t hI hq2
  have hz := hz2
  have hw := hz.1
  have hI := hz.2.1
  clear hz2 hext
  have hf0 := hf
  clear hf
  refine fo_putrF (fo_Xw X) hin2 hw fr_X3 hO (k := 1) (by decide) rfl rfl rfl q336 (fun _ => ⟨rfl, rfl⟩) dX3_init_20 hf0 (fun st8 H locs hw hf => ?_)
  clear hf0
  have hz := hz.s hw
  exact fda_v hend hz hf dX3_init_23

/-- ForestRooms$State.<init> -/
def fX1_init (cN cS : Nat) (G : Nat) (o : Nat) (tg0 : Nat → Nat × Nat) (nx0 ns0 : Nat) (st0 : fo_St) : Option ((Unit ⊕ Nat) × fo_A) := ck_ (fo_bg nx0 ns0 4 cN cS) (aw_ (tu_ tg0 nx0 (1, 21), nx0 + 1, ns0 + 4, z0_ st0 nx0) (fun tg1 nx1 ns1 sa1 => ba_ (fX2_init cN cS G nx0 tg1 nx1 ns1 sa1) (fun x3 tg4 nx4 ns4 sa4 => lt_ (sr_ sa4 o 0 (some nx0)) (fun st5 => ck_ (fo_bg nx4 ns4 16 cN cS) (aw_ (tu_ tg4 nx4 (2, 16), nx4 + 1, ns4 + 16, z0_ st5 nx4) (fun tg6 nx6 ns6 sa6 => lt_ (sr_ sa6 o 1 (some nx4)) (fun st8 => ck_ (fo_bg nx6 ns6 16 cN cS) (aw_ (tu_ tg6 nx6 (2, 16), nx6 + 1, ns6 + 16, z0_ st8 nx6) (fun tg9 nx9 ns9 sa9 => lt_ (sr_ sa9 o 2 (some nx6)) (fun st11 => ck_ (fo_bg nx9 ns9 16 cN cS) (aw_ (tu_ tg9 nx9 (2, 16), nx9 + 1, ns9 + 16, z0_ st11 nx9) (fun tg12 nx12 ns12 sa12 => lt_ (sr_ sa12 o 3 (some nx9)) (fun st14 => ck_ (fo_bg nx12 ns12 6 cN cS) (aw_ (tu_ tg12 nx12 (2, 6), nx12 + 1, ns12 + 6, z0_ st14 nx12) (fun tg15 nx15 ns15 sa15 => lt_ (sr_ sa15 o 4 (some nx12)) (fun st17 => ck_ (fo_bg nx15 ns15 6 cN cS) (aw_ (tu_ tg15 nx15 (2, 6), nx15 + 1, ns15 + 6, z0_ st17 nx15) (fun tg18 nx18 ns18 sa18 => lt_ (sr_ sa18 o 5 (some nx15)) (fun st20 => ck_ (fo_bg nx18 ns18 24 cN cS) (aw_ (tu_ tg18 nx18 (2, 24), nx18 + 1, ns18 + 24, z0_ st20 nx18) (fun tg21 nx21 ns21 sa21 => lt_ (sr_ sa21 o 6 (some nx18)) (fun st23 => ck_ (fo_bg nx21 ns21 5 cN cS) (aw_ (tu_ tg21 nx21 (2, 5), nx21 + 1, ns21 + 5, z0_ st23 nx21) (fun tg24 nx24 ns24 sa24 => lt_ (si_ sa24 nx21 (0 : Int32).toNatClampNeg (0 : Int32)) (fun st26 => lt_ (si_ st26 nx21 (1 : Int32).toNatClampNeg (10 : Int32)) (fun st27 => lt_ (si_ st27 nx21 (2 : Int32).toNatClampNeg (30 : Int32)) (fun st28 => lt_ (si_ st28 nx21 (3 : Int32).toNatClampNeg (3 : Int32)) (fun st29 => lt_ (si_ st29 nx21 (4 : Int32).toNatClampNeg (0 : Int32)) (fun st30 => lt_ (sr_ st30 o 7 (some nx21)) (fun st31 => ck_ (fo_bg nx24 ns24 3 cN cS) (aw_ (tu_ tg24 nx24 (1, 18), nx24 + 1, ns24 + 3, z0_ st31 nx24) (fun tg32 nx32 ns32 sa32 => ba_ (fJ2_init cN cS nx24 (2 : Int32) tg32 nx32 ns32 sa32) (fun x34 tg35 nx35 ns35 sa35 => lt_ (sr_ sa35 o 8 (some nx24)) (fun st36 => lt_ (si_ st36 o 11 (-1 : Int32)) (fun st37 => lp2_ (fun rec40 (x38 : Int32) (a39 : fo_A) => aw_ a39 (fun tg39 nx39 ns39 sa39 => if (16 : Int32) ≤ x38 then lp2_ (fun rec43 (x41 : Int32) (a42 : fo_A) => aw_ a42 (fun tg42 nx42 ns42 sa42 => if (6 : Int32) ≤ x41 then some (.inl (), (tg42, nx42, ns42, sa42)) else rn_ (gr_ sa42 o 4) (fun q44 => ck_ (decide (tg42 q44 = (2, 6))) (ck_ (fo_in x41 6) (lt_ (si_ sa42 q44 x41.toNatClampNeg (3 : Int32)) (fun st46 => rn_ (gr_ st46 o 5) (fun q47 => ck_ (decide (tg42 q47 = (2, 6))) (ck_ (fo_in x41 6) (lt_ (si_ st46 q47 x41.toNatClampNeg (3 : Int32)) (fun st49 => rec43 (x41 + (1 : Int32)) (tg42, nx42, ns42, st49))))))))))) G (0 : Int32) (tg39, nx39, ns39, sa39) else rn_ (gr_ sa39 o 1) (fun q50 => ck_ (decide (tg39 q50 = (2, 16))) (ck_ (fo_in x38 16) (lt_ (si_ sa39 q50 x38.toNatClampNeg (5 : Int32)) (fun st52 => rn_ (gr_ st52 o 2) (fun q53 => ck_ (decide (tg39 q53 = (2, 16))) (ck_ (fo_in x38 16) (lt_ (si_ st52 q53 x38.toNatClampNeg (5 : Int32)) (fun st55 => rn_ (gr_ st55 o 3) (fun q56 => ck_ (decide (tg39 q56 = (2, 16))) (ck_ (fo_in x38 16) (lt_ (si_ st55 q56 x38.toNatClampNeg (3 : Int32)) (fun st58 => rec40 (x38 + (1 : Int32)) (tg39, nx39, ns39, st58))))))))))))))) G (0 : Int32) (tg35, nx35, ns35, st37)))) (fun nX tgX nxX nsX stX => some (.inr nX, (tgX, nxX, nsX, stX))))))))))))))))))))))))))))))))) (fun nX tgX nxX nsX stX => some (.inr nX, (tgX, nxX, nsX, stX)))))
theorem hm_X1_init : fo_M yX1_init 0 := ⟨by decide +kernel, by decide +kernel, by decide +kernel, by decide +kernel⟩
set_option maxHeartbeats 1000000 in
theorem wX1_init_20 (l : Launch) (E : fo_E) (K V : Nat → Nat) (mi : Nat) (hSX : fo_SX E K V mi) (G : Nat) (o : Nat) (fr lo : Nat) (hfr : 5 ≤ fr) (hlo : 121 ≤ lo) (cN cS : Nat) (tg0 : Nat → Nat × Nat) (nx0 ns0 : Nat) (hO : tg0 o = (1, 20)) (st0 : fo_St) (hI : fo_I E tg0 nx0) (hcN : nx0 ≤ cN) (hcS : ns0 ≤ cS) (ρZ : Unit ⊕ Nat) (aZ : fo_A) (hf : fX1_init cN cS G o tg0 nx0 ns0 st0 = some (ρZ, aZ)) : CA vlV l E yX1_init (ws_ yX1_init cX1_init 2 none) fr lo cN cS [.ref (eb E + o)] (tg0, nx0, ns0, st0) ρZ aZ := by
  refine fea_v (a := (tg0, nx0, ns0, st0)) hm_X1_init (Nat.le_of_ble_eq_true rfl) hI hcN hcS (fun p e R s m args below meth c Q hRf hRl X hnm hend hxx ls hl hz => ?_)
  have hin2 : meth.name = "<init>" := hnm
  replace hRf : 5 ≤ R.frames := by rw [hRf]; exact hfr
  replace hRl : 121 ≤ R.locals := by rw [hRl]; exact hlo
  have hR0 : 2 + 1 ≤ R.frames ∧ 8 + (2 + 11) + (60) ≤ R.locals := ⟨by omega, by omega⟩
  have hR1 : 4 + 1 ≤ R.frames ∧ 8 + (2 + 11) + (100) ≤ R.locals := ⟨by omega, by omega⟩
  have hx := X.1.1
  have hb := X.1.2.1
  have hl : lv_has ls 2 [(0, .ref (eb E + o))] := hl
  have hz : fo_Z E R s cN cS (tg0, nx0, ns0, st0) tg0 nx0 ns0 st0 s.heap [] := hz
  have hw := hz.1
  show W p l e R s m args below meth c s.heap [] (nx0 - nx0) (ns0 - ns0) Q (F0 m 0 ls [])
  unfold fX1_init at hf
  generalize s.heap = H at hz hw ⊢
  generalize ([] : List Loc) = locs at hz hw ⊢
  refine lv_aload_n hx hb dX1_init_0 rfl (lv_at hl 0 rfl) ?_
  refine W.objInit hx hb X.1.2.2.2.1 (X.1.2.2.2.2 _ q160) (X.1.2.2.2.2 _ q153) (X.1.2.2.2.2 _ q154) rfl (by rw [X.1.2.2.1]; exact hl.1) rfl dX1_init_1 (Nat.le_trans (Nat.le_of_ble_eq_true rfl) hRf) (Nat.le_trans (Nat.le_of_ble_eq_true rfl) hRl) ?_
  refine lv_aload_n hx hb dX1_init_4 rfl (lv_at hl 0 rfl) ?_
  have hf0 := hf
  clear hf
  refine fa_new X hz fr_X2 fdr_X2 q161 q162 q113 dX1_init_5 hf0 (fun tg1 nx1 ns1 sa1 H hext hq2 hz2 hf => ?_)
  clear hf0
  have hO := hext.t hI hO
  have hz := hz2
  have hw := hz.1
  have hI := hz.2.1
  clear hz2 hext
  refine lv_dup hx hb dX1_init_8 rfl ?_
  have hf0 := hf
  clear hf
  refine fa_I (fr := 2) (lo := 60) (val := vlV) (rest := [.ref (eb E + nx0), .ref (eb E + o)]) (As := []) X hz hm_X2_init q165 q113 q163 q164 rfl hR0 rfl rfl hl.1 (Nat.le_of_ble_eq_true rfl) dX1_init_9 (fun rQ aQ hQ => wX2_init_21 l E G nx0 (2) (60) (Nat.le_refl _) (Nat.le_refl _) cN cS tg1 nx1 ns1 hq2 sa1 hI hz.2.2.2.2.2.2.1 hz.2.2.2.2.2.2.2.2 rQ aQ hQ) hf0 (fun nX EX tgX nxX nsX stX H locs hTX hxX hz2 hf => ?_) (fun x3 tg4 nx4 ns4 sa4 H locs hext hz2 hf => ?_)
  · exact fda_x hxx hTX hz2 hf
  clear hf0
  have hO := hext.t hI hO
  have hq2 := hext.t hI hq2
  have hz := hz2
  have hw := hz.1
  have hI := hz.2.1
  clear hz2 hext
  have hf0 := hf
  clear hf
  refine fo_putrF (fo_Xw X) hin2 hw fr_X1 hO (k := 0) (by decide) rfl rfl rfl q214 (fun _ => ⟨rfl, rfl⟩) dX1_init_12 hf0 (fun st5 H locs hw hf => ?_)
  clear hf0
  have hz := hz.s hw
  refine lv_aload_n hx hb dX1_init_15 rfl (lv_at hl 0 rfl) ?_
  refine lv_bipush (v := (16 : Int32)) hx hb dX1_init_16 (by decide) ?_
  have hf0 := hf
  clear hf
  refine fa_newi X hz q185 (L := 16) (by decide) (by decide) (by decide) dX1_init_18 hf0 (fun tg6 nx6 ns6 sa6 H hext hq7 hz2 hf => ?_)
  clear hf0
  have hO := hext.t hI hO
  have hq2 := hext.t hI hq2
  have hz := hz2
  have hw := hz.1
  have hI := hz.2.1
  clear hz2 hext
  have hf0 := hf
  clear hf
  refine fo_putrF (fo_Xw X) hin2 hw fr_X1 hO (k := 1) (by decide) rfl rfl rfl q216 (fun _ => ⟨rfl, rfl⟩) dX1_init_20 hf0 (fun st8 H locs hw hf => ?_)
  clear hf0
  have hz := hz.s hw
  refine lv_aload_n hx hb dX1_init_23 rfl (lv_at hl 0 rfl) ?_
  refine lv_bipush (v := (16 : Int32)) hx hb dX1_init_24 (by decide) ?_
  have hf0 := hf
  clear hf
  refine fa_newi X hz q185 (L := 16) (by decide) (by decide) (by decide) dX1_init_26 hf0 (fun tg9 nx9 ns9 sa9 H hext hq10 hz2 hf => ?_)
  clear hf0
  have hO := hext.t hI hO
  have hq2 := hext.t hI hq2
  have hq7 := hext.t hI hq7
  have hz := hz2
  have hw := hz.1
  have hI := hz.2.1
  clear hz2 hext
  have hf0 := hf
  clear hf
  refine fo_putrF (fo_Xw X) hin2 hw fr_X1 hO (k := 2) (by decide) rfl rfl rfl q218 (fun _ => ⟨rfl, rfl⟩) dX1_init_28 hf0 (fun st11 H locs hw hf => ?_)
  clear hf0
  have hz := hz.s hw
  refine lv_aload_n hx hb dX1_init_31 rfl (lv_at hl 0 rfl) ?_
  refine lv_bipush (v := (16 : Int32)) hx hb dX1_init_32 (by decide) ?_
  have hf0 := hf
  clear hf
  refine fa_newi X hz q185 (L := 16) (by decide) (by decide) (by decide) dX1_init_34 hf0 (fun tg12 nx12 ns12 sa12 H hext hq13 hz2 hf => ?_)
  clear hf0
  have hO := hext.t hI hO
  have hq2 := hext.t hI hq2
  have hq7 := hext.t hI hq7
  have hq10 := hext.t hI hq10
  have hz := hz2
  have hw := hz.1
  have hI := hz.2.1
  clear hz2 hext
  have hf0 := hf
  clear hf
  refine fo_putrF (fo_Xw X) hin2 hw fr_X1 hO (k := 3) (by decide) rfl rfl rfl q220 (fun _ => ⟨rfl, rfl⟩) dX1_init_36 hf0 (fun st14 H locs hw hf => ?_)
  clear hf0
  have hz := hz.s hw
  refine lv_aload_n hx hb dX1_init_39 rfl (lv_at hl 0 rfl) ?_
  refine lv_bipush (v := (6 : Int32)) hx hb dX1_init_40 (by decide) ?_
  have hf0 := hf
  clear hf
  refine fa_newi X hz q185 (L := 6) (by decide) (by decide) (by decide) dX1_init_42 hf0 (fun tg15 nx15 ns15 sa15 H hext hq16 hz2 hf => ?_)
  clear hf0
  have hO := hext.t hI hO
  have hq2 := hext.t hI hq2
  have hq7 := hext.t hI hq7
  have hq10 := hext.t hI hq10
  have hq13 := hext.t hI hq13
  have hz := hz2
  have hw := hz.1
  have hI := hz.2.1
  clear hz2 hext
  have hf0 := hf
  clear hf
  refine fo_putrF (fo_Xw X) hin2 hw fr_X1 hO (k := 4) (by decide) rfl rfl rfl q222 (fun _ => ⟨rfl, rfl⟩) dX1_init_44 hf0 (fun st17 H locs hw hf => ?_)
  clear hf0
  have hz := hz.s hw
  refine lv_aload_n hx hb dX1_init_47 rfl (lv_at hl 0 rfl) ?_
  refine lv_bipush (v := (6 : Int32)) hx hb dX1_init_48 (by decide) ?_
  have hf0 := hf
  clear hf
  refine fa_newi X hz q185 (L := 6) (by decide) (by decide) (by decide) dX1_init_50 hf0 (fun tg18 nx18 ns18 sa18 H hext hq19 hz2 hf => ?_)
  clear hf0
  have hO := hext.t hI hO
  have hq2 := hext.t hI hq2
  have hq7 := hext.t hI hq7
  have hq10 := hext.t hI hq10
  have hq13 := hext.t hI hq13
  have hq16 := hext.t hI hq16
  have hz := hz2
  have hw := hz.1
  have hI := hz.2.1
  clear hz2 hext
  have hf0 := hf
  clear hf
  refine fo_putrF (fo_Xw X) hin2 hw fr_X1 hO (k := 5) (by decide) rfl rfl rfl q224 (fun _ => ⟨rfl, rfl⟩) dX1_init_52 hf0 (fun st20 H locs hw hf => ?_)
  clear hf0
  have hz := hz.s hw
  refine lv_aload_n hx hb dX1_init_55 rfl (lv_at hl 0 rfl) ?_
  refine lv_bipush (v := (24 : Int32)) hx hb dX1_init_56 (by decide) ?_
  have hf0 := hf
  clear hf
  refine fa_newi X hz q185 (L := 24) (by decide) (by decide) (by decide) dX1_init_58 hf0 (fun tg21 nx21 ns21 sa21 H hext hq22 hz2 hf => ?_)
  clear hf0
  have hO := hext.t hI hO
  have hq2 := hext.t hI hq2
  have hq7 := hext.t hI hq7
  have hq10 := hext.t hI hq10
  have hq13 := hext.t hI hq13
  have hq16 := hext.t hI hq16
  have hq19 := hext.t hI hq19
  have hz := hz2
  have hw := hz.1
  have hI := hz.2.1
  clear hz2 hext
  have hf0 := hf
  clear hf
  refine fo_putrF (fo_Xw X) hin2 hw fr_X1 hO (k := 6) (by decide) rfl rfl rfl q226 (fun _ => ⟨rfl, rfl⟩) dX1_init_60 hf0 (fun st23 H locs hw hf => ?_)
  clear hf0
  have hz := hz.s hw
  refine lv_aload_n hx hb dX1_init_63 rfl (lv_at hl 0 rfl) ?_
  refine lv_iconst (v := (5 : Int32)) hx hb dX1_init_64 (by decide) ?_
  have hf0 := hf
  clear hf
  refine fa_newi X hz q185 (L := 5) (by decide) (by decide) (by decide) dX1_init_65 hf0 (fun tg24 nx24 ns24 sa24 H hext hq25 hz2 hf => ?_)
  clear hf0
  have hO := hext.t hI hO
  have hq2 := hext.t hI hq2
  have hq7 := hext.t hI hq7
  have hq10 := hext.t hI hq10
  have hq13 := hext.t hI hq13
  have hq16 := hext.t hI hq16
  have hq19 := hext.t hI hq19
  have hq22 := hext.t hI hq22
  have hz := hz2
  have hw := hz.1
  have hI := hz.2.1
  clear hz2 hext
  refine lv_dup hx hb dX1_init_67 rfl ?_
  refine lv_iconst (v := (0 : Int32)) hx hb dX1_init_68 (by decide) ?_
  refine lv_iconst (v := (0 : Int32)) hx hb dX1_init_69 (by decide) ?_
  have hf0 := hf
  clear hf
  refine fo_iastK (fo_Xw X) hw hq25 dX1_init_70 (by decide) hf0 (fun st26 H locs hw hf => ?_)
  clear hf0
  have hz := hz.s hw
  refine lv_dup hx hb dX1_init_71 rfl ?_
  refine lv_iconst (v := (1 : Int32)) hx hb dX1_init_72 (by decide) ?_
  refine lv_bipush (v := (10 : Int32)) hx hb dX1_init_73 (by decide) ?_
  have hf0 := hf
  clear hf
  refine fo_iastK (fo_Xw X) hw hq25 dX1_init_75 (by decide) hf0 (fun st27 H locs hw hf => ?_)
  clear hf0
  have hz := hz.s hw
  refine lv_dup hx hb dX1_init_76 rfl ?_
  refine lv_iconst (v := (2 : Int32)) hx hb dX1_init_77 (by decide) ?_
  refine lv_bipush (v := (30 : Int32)) hx hb dX1_init_78 (by decide) ?_
  have hf0 := hf
  clear hf
  refine fo_iastK (fo_Xw X) hw hq25 dX1_init_80 (by decide) hf0 (fun st28 H locs hw hf => ?_)
  clear hf0
  have hz := hz.s hw
  refine lv_dup hx hb dX1_init_81 rfl ?_
  refine lv_iconst (v := (3 : Int32)) hx hb dX1_init_82 (by decide) ?_
  refine lv_iconst (v := (3 : Int32)) hx hb dX1_init_83 (by decide) ?_
  have hf0 := hf
  clear hf
  refine fo_iastK (fo_Xw X) hw hq25 dX1_init_84 (by decide) hf0 (fun st29 H locs hw hf => ?_)
  clear hf0
  have hz := hz.s hw
  refine lv_dup hx hb dX1_init_85 rfl ?_
  refine lv_iconst (v := (4 : Int32)) hx hb dX1_init_86 (by decide) ?_
  refine lv_iconst (v := (0 : Int32)) hx hb dX1_init_87 (by decide) ?_
  have hf0 := hf
  clear hf
  refine fo_iastK (fo_Xw X) hw hq25 dX1_init_88 (by decide) hf0 (fun st30 H locs hw hf => ?_)
  clear hf0
  have hz := hz.s hw
  have hf0 := hf
  clear hf
  refine fo_putrF (fo_Xw X) hin2 hw fr_X1 hO (k := 7) (by decide) rfl rfl rfl q228 (fun _ => ⟨rfl, rfl⟩) dX1_init_89 hf0 (fun st31 H locs hw hf => ?_)
  clear hf0
  have hz := hz.s hw
  refine lv_aload_n hx hb dX1_init_92 rfl (lv_at hl 0 rfl) ?_
  have hf0 := hf
  clear hf
  refine fa_new X hz fc_J2 fd_J2 q186 q187 q116 dX1_init_93 hf0 (fun tg32 nx32 ns32 sa32 H hext hq33 hz2 hf => ?_)
  clear hf0
  have hO := hext.t hI hO
  have hq2 := hext.t hI hq2
  have hq7 := hext.t hI hq7
  have hq10 := hext.t hI hq10
  have hq13 := hext.t hI hq13
  have hq16 := hext.t hI hq16
  have hq19 := hext.t hI hq19
  have hq22 := hext.t hI hq22
  have hq25 := hext.t hI hq25
  have hz := hz2
  have hw := hz.1
  have hI := hz.2.1
  clear hz2 hext
  refine lv_dup hx hb dX1_init_96 rfl ?_
  refine lv_iconst (v := (2 : Int32)) hx hb dX1_init_97 (by decide) ?_
  have hf0 := hf
  clear hf
  refine fa_I (fr := 4) (lo := 100) (val := vlV) (rest := [.ref (eb E + nx24), .ref (eb E + o)]) (As := [.int (2 : Int32)]) X hz hm_J2_init q190 q116 q188 q189 rfl hR1 rfl rfl hl.1 (Nat.le_of_ble_eq_true rfl) dX1_init_98 (fun rQ aQ hQ => wJ2_init_18 l E K V mi hSX nx24 (2 : Int32) (4) (100) (Nat.le_refl _) (Nat.le_refl _) cN cS tg32 nx32 ns32 hq33 sa32 hI hz.2.2.2.2.2.2.1 hz.2.2.2.2.2.2.2.2 rQ aQ hQ) hf0 (fun nX EX tgX nxX nsX stX H locs hTX hxX hz2 hf => ?_) (fun x34 tg35 nx35 ns35 sa35 H locs hext hz2 hf => ?_)
  · exact fda_x hxx hTX hz2 hf
  clear hf0
  have hO := hext.t hI hO
  have hq2 := hext.t hI hq2
  have hq7 := hext.t hI hq7
  have hq10 := hext.t hI hq10
  have hq13 := hext.t hI hq13
  have hq16 := hext.t hI hq16
  have hq19 := hext.t hI hq19
  have hq22 := hext.t hI hq22
  have hq25 := hext.t hI hq25
  have hq33 := hext.t hI hq33
  have hz := hz2
  have hw := hz.1
  have hI := hz.2.1
  clear hz2 hext
  have hf0 := hf
  clear hf
  refine fo_putrF (fo_Xw X) hin2 hw fr_X1 hO (k := 8) (by decide) rfl rfl rfl q230 (fun _ => ⟨rfl, rfl⟩) dX1_init_101 hf0 (fun st36 H locs hw hf => ?_)
  clear hf0
  have hz := hz.s hw
  refine lv_aload_n hx hb dX1_init_104 rfl (lv_at hl 0 rfl) ?_
  refine lv_iconst (v := (-1 : Int32)) hx hb dX1_init_105 (by decide) ?_
  have hf0 := hf
  clear hf
  refine fo_puti (fo_Xw X) hw fr_X1 hO (k := 11) (by decide) rfl rfl q236 ⟨rfl, rfl⟩ dX1_init_106 hf0 (fun st37 H locs hw hf => ?_)
  clear hf0
  have hz := hz.s hw
  refine lv_iconst (v := (0 : Int32)) hx hb dX1_init_109 (by decide) ?_
  refine lv_istore_n (lv' := [(1, .int (0 : Int32)), (0, .ref (eb E + o))]) hx hb dX1_init_110 rfl hl (by decide) rfl (fun ls hl => ?_)
  refine lp2_e (P := fun x38 a39 => ∀ (H : Heap) (locs : List Loc) (ls : Array Slot), a39.1 o = (1, 20) → a39.1 nx0 = (1, 21) → a39.1 nx4 = (2, 16) → a39.1 nx6 = (2, 16) → a39.1 nx9 = (2, 16) → a39.1 nx12 = (2, 6) → a39.1 nx15 = (2, 6) → a39.1 nx18 = (2, 24) → a39.1 nx21 = (2, 5) → a39.1 nx24 = (1, 18) → lv_has ls 2 [(1, .int x38), (0, .ref (eb E + o))] → fo_Z E R s cN cS (tg0, nx0, ns0, st0) a39.1 a39.2.1 a39.2.2.1 a39.2.2.2 H locs → W p l e R s m args below meth c H locs (a39.2.1 - nx0) (a39.2.2.1 - ns0) Q (F0 m 111 ls [])) (fun rec40 hrec40 x38 a39 hf => ?_) G _ _ hf H locs ls hO hq2 hq7 hq10 hq13 hq16 hq19 hq22 hq25 hq33 (lv_sub hl [0, 1] rfl) hz
  obtain ⟨tg39, nx39, ns39, sa39⟩ := a39
  intro H locs ls hO hq2 hq7 hq10 hq13 hq16 hq19 hq22 hq25 hq33 hl hz
  have hO : tg39 o = (1, 20) := hO
  have hq2 : tg39 nx0 = (1, 21) := hq2
  have hq7 : tg39 nx4 = (2, 16) := hq7
  have hq10 : tg39 nx6 = (2, 16) := hq10
  have hq13 : tg39 nx9 = (2, 16) := hq13
  have hq16 : tg39 nx12 = (2, 6) := hq16
  have hq19 : tg39 nx15 = (2, 6) := hq19
  have hq22 : tg39 nx18 = (2, 24) := hq22
  have hq25 : tg39 nx21 = (2, 5) := hq25
  have hq33 : tg39 nx24 = (1, 18) := hq33
  have hz : fo_Z E R s cN cS (tg0, nx0, ns0, st0) tg39 nx39 ns39 sa39 H locs := hz
  show W p l e R s m args below meth c H locs (nx39 - nx0) (ns39 - ns0) Q (F0 m 111 ls [])
  replace hf := aw_u hf
  have hw := hz.1
  have hI := hz.2.1
  refine lv_iload_n hx hb dX1_init_111 rfl (lv_at hl 0 rfl) ?_
  refine lv_bipush (v := (16 : Int32)) hx hb dX1_init_112 (by decide) ?_
  have hf0 := hf
  clear hf
  refine fb_ige (tgt := 144) hx hb dX1_init_114 (by decide) hf0 (fun hf => ?_) (fun hf => ?_)
  · clear hf0
    refine lv_iconst (v := (0 : Int32)) hx hb dX1_init_144 (by decide) ?_
    refine lv_istore_n (lv' := [(1, .int (0 : Int32)), (0, .ref (eb E + o))]) hx hb dX1_init_145 rfl hl (by decide) rfl (fun ls hl => ?_)
    refine lp2_e (P := fun x41 a42 => ∀ (H : Heap) (locs : List Loc) (ls : Array Slot), a42.1 o = (1, 20) → a42.1 nx0 = (1, 21) → a42.1 nx4 = (2, 16) → a42.1 nx6 = (2, 16) → a42.1 nx9 = (2, 16) → a42.1 nx12 = (2, 6) → a42.1 nx15 = (2, 6) → a42.1 nx18 = (2, 24) → a42.1 nx21 = (2, 5) → a42.1 nx24 = (1, 18) → lv_has ls 2 [(1, .int x41), (0, .ref (eb E + o))] → fo_Z E R s cN cS (tg0, nx0, ns0, st0) a42.1 a42.2.1 a42.2.2.1 a42.2.2.2 H locs → W p l e R s m args below meth c H locs (a42.2.1 - nx0) (a42.2.2.1 - ns0) Q (F0 m 146 ls [])) (fun rec43 hrec43 x41 a42 hf => ?_) G _ _ hf H locs ls hO hq2 hq7 hq10 hq13 hq16 hq19 hq22 hq25 hq33 (lv_sub hl [0, 1] rfl) hz
    obtain ⟨tg42, nx42, ns42, sa42⟩ := a42
    intro H locs ls hO hq2 hq7 hq10 hq13 hq16 hq19 hq22 hq25 hq33 hl hz
    have hO : tg42 o = (1, 20) := hO
    have hq2 : tg42 nx0 = (1, 21) := hq2
    have hq7 : tg42 nx4 = (2, 16) := hq7
    have hq10 : tg42 nx6 = (2, 16) := hq10
    have hq13 : tg42 nx9 = (2, 16) := hq13
    have hq16 : tg42 nx12 = (2, 6) := hq16
    have hq19 : tg42 nx15 = (2, 6) := hq19
    have hq22 : tg42 nx18 = (2, 24) := hq22
    have hq25 : tg42 nx21 = (2, 5) := hq25
    have hq33 : tg42 nx24 = (1, 18) := hq33
    have hz : fo_Z E R s cN cS (tg0, nx0, ns0, st0) tg42 nx42 ns42 sa42 H locs := hz
    show W p l e R s m args below meth c H locs (nx42 - nx0) (ns42 - ns0) Q (F0 m 146 ls [])
    replace hf := aw_u hf
    have hw := hz.1
    have hI := hz.2.1
    refine lv_iload_n hx hb dX1_init_146 rfl (lv_at hl 0 rfl) ?_
    refine lv_bipush (v := (6 : Int32)) hx hb dX1_init_147 (by decide) ?_
    have hf0 := hf
    clear hf
    refine fb_ige (tgt := 172) hx hb dX1_init_149 (by decide) hf0 (fun hf => ?_) (fun hf => ?_)
    · clear hf0
      exact fda_v hend hz hf dX1_init_172
    clear hf0
    refine lv_aload_n hx hb dX1_init_152 rfl (lv_at hl 1 rfl) ?_
    have hf0 := hf
    clear hf
    refine fo_getr (fo_Xw X) hw fr_X1 hO (k := 4) (by decide) rfl q222 dX1_init_153 hf0 (fun q44 hf => ?_)
    clear hf0
    have hf0 := ck_e hf
    clear hf
    obtain ⟨hq45, hf⟩ := hf0
    have hq45 := of_decide_eq_true hq45
    refine lv_iload_n hx hb dX1_init_156 rfl (lv_at hl 0 rfl) ?_
    refine lv_iconst (v := (3 : Int32)) hx hb dX1_init_157 (by decide) ?_
    have hf0 := hf
    clear hf
    refine fo_iast (fo_Xw X) hw hq45 dX1_init_158 hf0 (fun st46 H locs hw hf => ?_)
    clear hf0
    have hz := hz.s hw
    refine lv_aload_n hx hb dX1_init_159 rfl (lv_at hl 1 rfl) ?_
    have hf0 := hf
    clear hf
    refine fo_getr (fo_Xw X) hw fr_X1 hO (k := 5) (by decide) rfl q224 dX1_init_160 hf0 (fun q47 hf => ?_)
    clear hf0
    have hf0 := ck_e hf
    clear hf
    obtain ⟨hq48, hf⟩ := hf0
    have hq48 := of_decide_eq_true hq48
    refine lv_iload_n hx hb dX1_init_163 rfl (lv_at hl 0 rfl) ?_
    refine lv_iconst (v := (3 : Int32)) hx hb dX1_init_164 (by decide) ?_
    have hf0 := hf
    clear hf
    refine fo_iast (fo_Xw X) hw hq48 dX1_init_165 hf0 (fun st49 H locs hw hf => ?_)
    clear hf0
    have hz := hz.s hw
    refine fb_iinc (v := (1 : Int32)) (lv' := [(1, .int (x41 + (1 : Int32))), (0, .ref (eb E + o))]) hx hb dX1_init_166 hl (k := 0) rfl (by decide) (by decide) rfl (fun ls hl => ?_)
    refine lv_goto (tgt := 146) hx hb dX1_init_169 (by decide) ?_
    exact hrec43 _ _ hf _ _ _ hO hq2 hq7 hq10 hq13 hq16 hq19 hq22 hq25 hq33 (lv_sub hl [0, 1] rfl) hz
  clear hf0
  refine lv_aload_n hx hb dX1_init_117 rfl (lv_at hl 1 rfl) ?_
  have hf0 := hf
  clear hf
  refine fo_getr (fo_Xw X) hw fr_X1 hO (k := 1) (by decide) rfl q216 dX1_init_118 hf0 (fun q50 hf => ?_)
  clear hf0
  have hf0 := ck_e hf
  clear hf
  obtain ⟨hq51, hf⟩ := hf0
  have hq51 := of_decide_eq_true hq51
  refine lv_iload_n hx hb dX1_init_121 rfl (lv_at hl 0 rfl) ?_
  refine lv_iconst (v := (5 : Int32)) hx hb dX1_init_122 (by decide) ?_
  have hf0 := hf
  clear hf
  refine fo_iast (fo_Xw X) hw hq51 dX1_init_123 hf0 (fun st52 H locs hw hf => ?_)
  clear hf0
  have hz := hz.s hw
  refine lv_aload_n hx hb dX1_init_124 rfl (lv_at hl 1 rfl) ?_
  have hf0 := hf
  clear hf
  refine fo_getr (fo_Xw X) hw fr_X1 hO (k := 2) (by decide) rfl q218 dX1_init_125 hf0 (fun q53 hf => ?_)
  clear hf0
  have hf0 := ck_e hf
  clear hf
  obtain ⟨hq54, hf⟩ := hf0
  have hq54 := of_decide_eq_true hq54
  refine lv_iload_n hx hb dX1_init_128 rfl (lv_at hl 0 rfl) ?_
  refine lv_iconst (v := (5 : Int32)) hx hb dX1_init_129 (by decide) ?_
  have hf0 := hf
  clear hf
  refine fo_iast (fo_Xw X) hw hq54 dX1_init_130 hf0 (fun st55 H locs hw hf => ?_)
  clear hf0
  have hz := hz.s hw
  refine lv_aload_n hx hb dX1_init_131 rfl (lv_at hl 1 rfl) ?_
  have hf0 := hf
  clear hf
  refine fo_getr (fo_Xw X) hw fr_X1 hO (k := 3) (by decide) rfl q220 dX1_init_132 hf0 (fun q56 hf => ?_)
  clear hf0
  have hf0 := ck_e hf
  clear hf
  obtain ⟨hq57, hf⟩ := hf0
  have hq57 := of_decide_eq_true hq57
  refine lv_iload_n hx hb dX1_init_135 rfl (lv_at hl 0 rfl) ?_
  refine lv_iconst (v := (3 : Int32)) hx hb dX1_init_136 (by decide) ?_
  have hf0 := hf
  clear hf
  refine fo_iast (fo_Xw X) hw hq57 dX1_init_137 hf0 (fun st58 H locs hw hf => ?_)
  clear hf0
  have hz := hz.s hw
  refine fb_iinc (v := (1 : Int32)) (lv' := [(1, .int (x38 + (1 : Int32))), (0, .ref (eb E + o))]) hx hb dX1_init_138 hl (k := 0) rfl (by decide) (by decide) rfl (fun ls hl => ?_)
  refine lv_goto (tgt := 111) hx hb dX1_init_141 (by decide) ?_
  exact hrec40 _ _ hf _ _ _ hO hq2 hq7 hq10 hq13 hq16 hq19 hq22 hq25 hq33 (lv_sub hl [0, 1] rfl) hz

/-- ForestRooms.image -/
def fX0_image (cN cS : Nat) (G : Nat) (p1 : Int32) (tg0 : Nat → Nat × Nat) (nx0 ns0 : Nat) (st0 : fo_St) : Option ((Int32 ⊕ Nat) × fo_A) := bd_ (fX0_in p1 (0 : Int32) (1 : Int32) st0) (fun x1 st2 => if ¬ x1 = 0 then ck_ (fo_in p1 2) (if ¬ gr_ st2 16 p1.toNatClampNeg = none then ck_ (fo_in p1 2) (rn_ (gr_ st2 16 p1.toNatClampNeg) (fun q3 => ck_ (decide (tg0 q3 = (1, 20))) (ba_ (fX1_takesI cN cS G q3 tg0 nx0 ns0 st2) (fun x5 tg6 nx6 ns6 sa6 => bd_ (fX0_done (0 : Int32) sa6) (fun x7 st8 => some (.inl x7, (tg6, nx6, ns6, st8)))) (fun nX tgX nxX nsX stX => some (.inr nX, (tgX, nxX, nsX, stX)))))) else ck_ (fo_bg nx0 ns0 12 cN cS) (aw_ (tu_ tg0 nx0 (1, 20), nx0 + 1, ns0 + 12, z0_ st2 nx0) (fun tg9 nx9 ns9 sa9 => ba_ (fX1_init cN cS G nx0 tg9 nx9 ns9 sa9) (fun x11 tg12 nx12 ns12 sa12 => ck_ (fo_in p1 2) (lt_ (sr_ sa12 16 p1.toNatClampNeg (some nx0)) (fun st13 => ck_ (fo_in p1 2) (rn_ (gr_ st13 16 p1.toNatClampNeg) (fun q14 => ck_ (decide (tg12 q14 = (1, 20))) (ba_ (fX1_takesI cN cS G q14 tg12 nx12 ns12 st13) (fun x16 tg17 nx17 ns17 sa17 => bd_ (fX0_done (0 : Int32) sa17) (fun x18 st19 => some (.inl x18, (tg17, nx17, ns17, st19)))) (fun nX tgX nxX nsX stX => some (.inr nX, (tgX, nxX, nsX, stX))))))))) (fun nX tgX nxX nsX stX => some (.inr nX, (tgX, nxX, nsX, stX)))))) else bd_ (fX0_refuse (-1 : Int32) st2) (fun x20 st21 => some (.inl x20, (tg0, nx0, ns0, st21))))
theorem hm_X0_image : fo_M yX0_image 1 := ⟨by decide +kernel, by decide +kernel, by decide +kernel, by decide +kernel⟩
set_option maxHeartbeats 1000000 in
theorem wX0_image (l : Launch) (E : fo_E) (K V : Nat → Nat) (mi : Nat) (hSX : fo_SX E K V mi) (hX : fo_HX E) (G : Nat) (p1 : Int32) (fr lo : Nat) (hfr : 7 ≤ fr) (hlo : 180 ≤ lo) (cN cS : Nat) (tg0 : Nat → Nat × Nat) (nx0 ns0 : Nat) (st0 : fo_St) (hI : fo_I E tg0 nx0) (hcN : nx0 ≤ cN) (hcS : ns0 ≤ cS) (ρZ : Int32 ⊕ Nat) (aZ : fo_A) (hf : fX0_image cN cS G p1 tg0 nx0 ns0 st0 = some (ρZ, aZ)) : CA vlI l E yX0_image (ws_ yX0_image cX0_image 2 (some .int)) fr lo cN cS [.ref (eb E + 0), .int p1] (tg0, nx0, ns0, st0) ρZ aZ := by
  refine fea_i (a := (tg0, nx0, ns0, st0)) hm_X0_image (Nat.le_of_ble_eq_true rfl) hI hcN hcS (fun p e R s m args below meth c Q hRf hRl X hnm hend hxx ls hl hz => ?_)
  replace hRf : 7 ≤ R.frames := by rw [hRf]; exact hfr
  replace hRl : 180 ≤ R.locals := by rw [hRl]; exact hlo
  have hR0 : 0 + 1 ≤ R.frames ∧ 8 + (3 + 11) + (0) ≤ R.locals := ⟨by omega, by omega⟩
  have hR1 : 6 + 1 ≤ R.frames ∧ 8 + (2 + 11) + (159) ≤ R.locals := ⟨by omega, by omega⟩
  have hR2 : 0 + 1 ≤ R.frames ∧ 8 + (2 + 11) + (0) ≤ R.locals := ⟨by omega, by omega⟩
  have hR3 : 5 + 1 ≤ R.frames ∧ 8 + (2 + 11) + (121) ≤ R.locals := ⟨by omega, by omega⟩
  have hx := X.1.1
  have hb := X.1.2.1
  have hl : lv_has ls 2 [(0, .ref (eb E + 0)), (1, .int p1)] := hl
  have hz : fo_Z E R s cN cS (tg0, nx0, ns0, st0) tg0 nx0 ns0 st0 s.heap [] := hz
  have hw := hz.1
  show W p l e R s m args below meth c s.heap [] (nx0 - nx0) (ns0 - ns0) Q (F0 m 0 ls [])
  unfold fX0_image at hf
  generalize s.heap = H at hz hw ⊢
  generalize ([] : List Loc) = locs at hz hw ⊢
  refine lv_iload_n hx hb dX0_image_0 rfl (lv_at hl 1 rfl) ?_
  refine lv_iconst (v := (0 : Int32)) hx hb dX0_image_1 (by decide) ?_
  refine lv_iconst (v := (1 : Int32)) hx hb dX0_image_2 (by decide) ?_
  have hf0 := hf
  clear hf
  refine fcA_Si (rm := { frames := 0, cells := 0, slots := 0, locals := 0 }) (rest := []) (As := [.int p1, .int (0 : Int32), .int (1 : Int32)]) (fo_Xw X) hw hz.lim0 hm_X0_in (lw_S q437 q438 q111 q439) ⟨rfl, rfl⟩ hR0 rfl rfl hl.1 (Nat.le_of_ble_eq_true rfl) dX0_image_3 (fun rQ stQ hQ => wX0_in l (eW E tg0 nx0) (hI.hx hX) p1 (0 : Int32) (1 : Int32) st0 rQ stQ hQ) hf0 (fun x1 st2 H locs hw hf => ?_)
  clear hf0
  have hz := hz.s hw
  have hf0 := hf
  clear hf
  refine fb_zne (tgt := 15) hx hb dX0_image_6 (by decide) hf0 (fun hf => ?_) (fun hf => ?_)
  · clear hf0
    refine lv_aload_n hx hb dX0_image_15 rfl (lv_at hl 0 rfl) ?_
    refine fo_gets (fo_Xw X) hw fc_X0 (hx0 (hI.hx hX)) (k := 3) (d := 16) (n2 := 16) (by decide) rfl rfl q348 dX0_image_16 ?_
    refine lv_iload_n hx hb dX0_image_19 rfl (lv_at hl 1 rfl) ?_
    have hf0 := hf
    clear hf
    refine fo_aldSN (fo_Xw X) hw (hx16 (hI.hx hX)) (tgt := 37) dX0_image_20 dX0_image_21 (by decide) hf0 (fun hf => ?_) (fun hf => ?_)
    · clear hf0
      refine lv_aload_n hx hb dX0_image_37 rfl (lv_at hl 0 rfl) ?_
      refine fo_gets (fo_Xw X) hw fc_X0 (hx0 (hI.hx hX)) (k := 3) (d := 16) (n2 := 16) (by decide) rfl rfl q348 dX0_image_38 ?_
      refine lv_iload_n hx hb dX0_image_41 rfl (lv_at hl 1 rfl) ?_
      have hf0 := hf
      clear hf
      refine fo_aldS (fo_Xw X) hw (hx16 (hI.hx hX)) dX0_image_42 hf0 (fun q3 hf => ?_)
      clear hf0
      have hf0 := ck_e hf
      clear hf
      obtain ⟨hq4, hf⟩ := hf0
      have hq4 := of_decide_eq_true hq4
      refine lv_aload_n hx hb dX0_image_43 rfl (lv_at hl 0 rfl) ?_
      refine fo_gets (fo_Xw X) hw fc_X0 (hx0 (hI.hx hX)) (k := 2) (d := 2) (n2 := 2) (by decide) rfl rfl q347 dX0_image_44 ?_
      have hf0 := hf
      clear hf
      refine fa_V (fr := 6) (lo := 159) (val := vlV) (rest := []) (As := [.ref (eb E + 2)]) X hz hm_X1_takes (lw_V q444 q445 q446 q112 q447) hR1 fr_X1 rfl hq4 rfl rfl hl.1 (Nat.le_of_ble_eq_true rfl) dX0_image_47 (fun rQ aQ hQ => wX1_takesI l E K V mi hSX hX G q3 (6) (159) (Nat.le_refl _) (Nat.le_refl _) cN cS tg0 nx0 ns0 hq4 st2 hI hz.2.2.2.2.2.2.1 hz.2.2.2.2.2.2.2.2 rQ aQ hQ) hf0 (fun nX EX tgX nxX nsX stX H locs hTX hxX hz2 hf => ?_) (fun x5 tg6 nx6 ns6 sa6 H locs hext hz2 hf => ?_)
      · exact fda_x hxx hTX hz2 hf
      clear hf0
      have hq4 := hext.t hI hq4
      have hz := hz2
      have hw := hz.1
      have hI := hz.2.1
      clear hz2 hext
      refine lv_aload_n hx hb dX0_image_50 rfl (lv_at hl 0 rfl) ?_
      refine lv_iconst (v := (0 : Int32)) hx hb dX0_image_51 (by decide) ?_
      have hf0 := hf
      clear hf
      refine fcA_Vi (rm := { frames := 0, cells := 0, slots := 0, locals := 0 }) (rest := []) (As := [.int (0 : Int32)]) (fo_Xw X) hw hz.lim0 hm_X0_done (lw_V q530 q532 qs3 q111 q533) ⟨rfl, rfl⟩ hR2 fc_X0 rfl (hx0 (hI.hx hX)) rfl rfl hl.1 (Nat.le_of_ble_eq_true rfl) dX0_image_52 (fun rQ stQ hQ => wX0_done l (eW E tg6 nx6) (hI.hx hX) (0 : Int32) sa6 rQ stQ hQ) hf0 (fun x7 st8 H locs hw hf => ?_)
      clear hf0
      have hz := hz.s hw
      exact fda_i hend hz hf dX0_image_55
    clear hf0
    refine lv_aload_n hx hb dX0_image_24 rfl (lv_at hl 0 rfl) ?_
    refine fo_gets (fo_Xw X) hw fc_X0 (hx0 (hI.hx hX)) (k := 3) (d := 16) (n2 := 16) (by decide) rfl rfl q348 dX0_image_25 ?_
    refine lv_iload_n hx hb dX0_image_28 rfl (lv_at hl 1 rfl) ?_
    have hf0 := hf
    clear hf
    refine fa_new X hz fr_X1 fdr_X1 q155 q156 q112 dX0_image_29 hf0 (fun tg9 nx9 ns9 sa9 H hext hq10 hz2 hf => ?_)
    clear hf0
    have hz := hz2
    have hw := hz.1
    have hI := hz.2.1
    clear hz2 hext
    refine lv_dup hx hb dX0_image_32 rfl ?_
    have hf0 := hf
    clear hf
    refine fa_I (fr := 5) (lo := 121) (val := vlV) (rest := [.ref (eb E + nx0), .int p1, .ref (eb E + 16)]) (As := []) X hz hm_X1_init q159 q112 q157 q158 rfl hR3 rfl rfl hl.1 (Nat.le_of_ble_eq_true rfl) dX0_image_33 (fun rQ aQ hQ => wX1_init_20 l E K V mi hSX G nx0 (5) (121) (Nat.le_refl _) (Nat.le_refl _) cN cS tg9 nx9 ns9 hq10 sa9 hI hz.2.2.2.2.2.2.1 hz.2.2.2.2.2.2.2.2 rQ aQ hQ) hf0 (fun nX EX tgX nxX nsX stX H locs hTX hxX hz2 hf => ?_) (fun x11 tg12 nx12 ns12 sa12 H locs hext hz2 hf => ?_)
    · exact fda_x hxx hTX hz2 hf
    clear hf0
    have hq10 := hext.t hI hq10
    have hz := hz2
    have hw := hz.1
    have hI := hz.2.1
    clear hz2 hext
    have hf0 := hf
    clear hf
    refine fo_astk (kd := 1) (ti := 5) (C := "ForestRooms$State") (fo_Xw X) hw rfl (hx16 (hI.hx hX)) fr_X1 hq10 (fo_self X fr_X1) dX0_image_36 hf0 (fun st13 H locs hw hf => ?_)
    clear hf0
    have hz := hz.s hw
    refine lv_aload_n hx hb dX0_image_37 rfl (lv_at hl 0 rfl) ?_
    refine fo_gets (fo_Xw X) hw fc_X0 (hx0 (hI.hx hX)) (k := 3) (d := 16) (n2 := 16) (by decide) rfl rfl q348 dX0_image_38 ?_
    refine lv_iload_n hx hb dX0_image_41 rfl (lv_at hl 1 rfl) ?_
    have hf0 := hf
    clear hf
    refine fo_aldS (fo_Xw X) hw (hx16 (hI.hx hX)) dX0_image_42 hf0 (fun q14 hf => ?_)
    clear hf0
    have hf0 := ck_e hf
    clear hf
    obtain ⟨hq15, hf⟩ := hf0
    have hq15 := of_decide_eq_true hq15
    refine lv_aload_n hx hb dX0_image_43 rfl (lv_at hl 0 rfl) ?_
    refine fo_gets (fo_Xw X) hw fc_X0 (hx0 (hI.hx hX)) (k := 2) (d := 2) (n2 := 2) (by decide) rfl rfl q347 dX0_image_44 ?_
    have hf0 := hf
    clear hf
    refine fa_V (fr := 6) (lo := 159) (val := vlV) (rest := []) (As := [.ref (eb E + 2)]) X hz hm_X1_takes (lw_V q444 q445 q446 q112 q447) hR1 fr_X1 rfl hq15 rfl rfl hl.1 (Nat.le_of_ble_eq_true rfl) dX0_image_47 (fun rQ aQ hQ => wX1_takesI l E K V mi hSX hX G q14 (6) (159) (Nat.le_refl _) (Nat.le_refl _) cN cS tg12 nx12 ns12 hq15 st13 hI hz.2.2.2.2.2.2.1 hz.2.2.2.2.2.2.2.2 rQ aQ hQ) hf0 (fun nX EX tgX nxX nsX stX H locs hTX hxX hz2 hf => ?_) (fun x16 tg17 nx17 ns17 sa17 H locs hext hz2 hf => ?_)
    · exact fda_x hxx hTX hz2 hf
    clear hf0
    have hq10 := hext.t hI hq10
    have hq15 := hext.t hI hq15
    have hz := hz2
    have hw := hz.1
    have hI := hz.2.1
    clear hz2 hext
    refine lv_aload_n hx hb dX0_image_50 rfl (lv_at hl 0 rfl) ?_
    refine lv_iconst (v := (0 : Int32)) hx hb dX0_image_51 (by decide) ?_
    have hf0 := hf
    clear hf
    refine fcA_Vi (rm := { frames := 0, cells := 0, slots := 0, locals := 0 }) (rest := []) (As := [.int (0 : Int32)]) (fo_Xw X) hw hz.lim0 hm_X0_done (lw_V q530 q532 qs3 q111 q533) ⟨rfl, rfl⟩ hR2 fc_X0 rfl (hx0 (hI.hx hX)) rfl rfl hl.1 (Nat.le_of_ble_eq_true rfl) dX0_image_52 (fun rQ stQ hQ => wX0_done l (eW E tg17 nx17) (hI.hx hX) (0 : Int32) sa17 rQ stQ hQ) hf0 (fun x18 st19 H locs hw hf => ?_)
    clear hf0
    have hz := hz.s hw
    exact fda_i hend hz hf dX0_image_55
  clear hf0
  refine lv_aload_n hx hb dX0_image_9 rfl (lv_at hl 0 rfl) ?_
  refine lv_iconst (v := (-1 : Int32)) hx hb dX0_image_10 (by decide) ?_
  have hf0 := hf
  clear hf
  refine fcA_Vi (rm := { frames := 0, cells := 0, slots := 0, locals := 0 }) (rest := []) (As := [.int (-1 : Int32)]) (fo_Xw X) hw hz.lim0 hm_X0_refuse (lw_V q440 q442 qs1 q111 q443) ⟨rfl, rfl⟩ hR2 fc_X0 rfl (hx0 (hI.hx hX)) rfl rfl hl.1 (Nat.le_of_ble_eq_true rfl) dX0_image_11 (fun rQ stQ hQ => wX0_refuse l (eW E tg0 nx0) (hI.hx hX) (-1 : Int32) st2 rQ stQ hQ) hf0 (fun x20 st21 H locs hw hf => ?_)
  clear hf0
  have hz := hz.s hw
  exact fda_i hend hz hf dX0_image_14

/-- ForestRooms.back -/
def fX0_back (cN cS : Nat) (G : Nat) (p1 : Int32) (tg0 : Nat → Nat × Nat) (nx0 ns0 : Nat) (st0 : fo_St) : Option ((Int32 ⊕ Nat) × fo_A) := bd_ (fX0_in p1 (0 : Int32) (1 : Int32) st0) (fun x1 st2 => if ¬ x1 = 0 then ck_ (fo_in p1 2) (if ¬ gr_ st2 16 p1.toNatClampNeg = none then ck_ (fo_in p1 2) (rn_ (gr_ st2 16 p1.toNatClampNeg) (fun q3 => ck_ (decide (tg0 q3 = (1, 20))) (ba_ (fX1_takesB cN cS G q3 tg0 nx0 ns0 st2) (fun x5 tg6 nx6 ns6 sa6 => bd_ (fX0_settled (0 : Int32) sa6) (fun x7 st8 => some (.inl x7, (tg6, nx6, ns6, st8)))) (fun nX tgX nxX nsX stX => some (.inr nX, (tgX, nxX, nsX, stX)))))) else bd_ (fX0_refuse (-2 : Int32) st2) (fun x9 st10 => some (.inl x9, (tg0, nx0, ns0, st10)))) else bd_ (fX0_refuse (-1 : Int32) st2) (fun x11 st12 => some (.inl x11, (tg0, nx0, ns0, st12))))
theorem hm_X0_back : fo_M yX0_back 1 := ⟨by decide +kernel, by decide +kernel, by decide +kernel, by decide +kernel⟩
set_option maxHeartbeats 1000000 in
theorem wX0_back (l : Launch) (E : fo_E) (K V : Nat → Nat) (mi : Nat) (hSX : fo_SX E K V mi) (hX : fo_HX E) (G : Nat) (p1 : Int32) (fr lo : Nat) (hfr : 7 ≤ fr) (hlo : 180 ≤ lo) (cN cS : Nat) (tg0 : Nat → Nat × Nat) (nx0 ns0 : Nat) (st0 : fo_St) (hI : fo_I E tg0 nx0) (hcN : nx0 ≤ cN) (hcS : ns0 ≤ cS) (ρZ : Int32 ⊕ Nat) (aZ : fo_A) (hf : fX0_back cN cS G p1 tg0 nx0 ns0 st0 = some (ρZ, aZ)) : CA vlI l E yX0_back (ws_ yX0_back cX0_back 2 (some .int)) fr lo cN cS [.ref (eb E + 0), .int p1] (tg0, nx0, ns0, st0) ρZ aZ := by
  refine fea_i (a := (tg0, nx0, ns0, st0)) hm_X0_back (Nat.le_of_ble_eq_true rfl) hI hcN hcS (fun p e R s m args below meth c Q hRf hRl X hnm hend hxx ls hl hz => ?_)
  replace hRf : 7 ≤ R.frames := by rw [hRf]; exact hfr
  replace hRl : 180 ≤ R.locals := by rw [hRl]; exact hlo
  have hR0 : 0 + 1 ≤ R.frames ∧ 8 + (3 + 11) + (0) ≤ R.locals := ⟨by omega, by omega⟩
  have hR1 : 6 + 1 ≤ R.frames ∧ 8 + (2 + 11) + (159) ≤ R.locals := ⟨by omega, by omega⟩
  have hR2 : 1 + 1 ≤ R.frames ∧ 8 + (2 + 11) + (21) ≤ R.locals := ⟨by omega, by omega⟩
  have hR3 : 0 + 1 ≤ R.frames ∧ 8 + (2 + 11) + (0) ≤ R.locals := ⟨by omega, by omega⟩
  have hx := X.1.1
  have hb := X.1.2.1
  have hl : lv_has ls 2 [(0, .ref (eb E + 0)), (1, .int p1)] := hl
  have hz : fo_Z E R s cN cS (tg0, nx0, ns0, st0) tg0 nx0 ns0 st0 s.heap [] := hz
  have hw := hz.1
  show W p l e R s m args below meth c s.heap [] (nx0 - nx0) (ns0 - ns0) Q (F0 m 0 ls [])
  unfold fX0_back at hf
  generalize s.heap = H at hz hw ⊢
  generalize ([] : List Loc) = locs at hz hw ⊢
  refine lv_iload_n hx hb dX0_back_0 rfl (lv_at hl 1 rfl) ?_
  refine lv_iconst (v := (0 : Int32)) hx hb dX0_back_1 (by decide) ?_
  refine lv_iconst (v := (1 : Int32)) hx hb dX0_back_2 (by decide) ?_
  have hf0 := hf
  clear hf
  refine fcA_Si (rm := { frames := 0, cells := 0, slots := 0, locals := 0 }) (rest := []) (As := [.int p1, .int (0 : Int32), .int (1 : Int32)]) (fo_Xw X) hw hz.lim0 hm_X0_in (lw_S q437 q438 q111 q439) ⟨rfl, rfl⟩ hR0 rfl rfl hl.1 (Nat.le_of_ble_eq_true rfl) dX0_back_3 (fun rQ stQ hQ => wX0_in l (eW E tg0 nx0) (hI.hx hX) p1 (0 : Int32) (1 : Int32) st0 rQ stQ hQ) hf0 (fun x1 st2 H locs hw hf => ?_)
  clear hf0
  have hz := hz.s hw
  have hf0 := hf
  clear hf
  refine fb_zne (tgt := 15) hx hb dX0_back_6 (by decide) hf0 (fun hf => ?_) (fun hf => ?_)
  · clear hf0
    refine lv_aload_n hx hb dX0_back_15 rfl (lv_at hl 0 rfl) ?_
    refine fo_gets (fo_Xw X) hw fc_X0 (hx0 (hI.hx hX)) (k := 3) (d := 16) (n2 := 16) (by decide) rfl rfl q348 dX0_back_16 ?_
    refine lv_iload_n hx hb dX0_back_19 rfl (lv_at hl 1 rfl) ?_
    have hf0 := hf
    clear hf
    refine fo_aldSN (fo_Xw X) hw (hx16 (hI.hx hX)) (tgt := 31) dX0_back_20 dX0_back_21 (by decide) hf0 (fun hf => ?_) (fun hf => ?_)
    · clear hf0
      refine lv_aload_n hx hb dX0_back_31 rfl (lv_at hl 0 rfl) ?_
      refine fo_gets (fo_Xw X) hw fc_X0 (hx0 (hI.hx hX)) (k := 2) (d := 2) (n2 := 2) (by decide) rfl rfl q347 dX0_back_32 ?_
      refine lv_aload_n hx hb dX0_back_35 rfl (lv_at hl 0 rfl) ?_
      refine fo_gets (fo_Xw X) hw fc_X0 (hx0 (hI.hx hX)) (k := 3) (d := 16) (n2 := 16) (by decide) rfl rfl q348 dX0_back_36 ?_
      refine lv_iload_n hx hb dX0_back_39 rfl (lv_at hl 1 rfl) ?_
      have hf0 := hf
      clear hf
      refine fo_aldS (fo_Xw X) hw (hx16 (hI.hx hX)) dX0_back_40 hf0 (fun q3 hf => ?_)
      clear hf0
      have hf0 := ck_e hf
      clear hf
      obtain ⟨hq4, hf⟩ := hf0
      have hq4 := of_decide_eq_true hq4
      have hf0 := hf
      clear hf
      refine fa_V (fr := 6) (lo := 159) (val := vlV) (rest := []) (As := [.ref (eb E + q3)]) X hz hm_X1_takes (lw_V q444 q445 q446 q112 q447) hR1 fc_X1 rfl (hx2 (hI.hx hX)) rfl rfl hl.1 (Nat.le_of_ble_eq_true rfl) dX0_back_41 (fun rQ aQ hQ => wX1_takesB l E K V mi hSX hX G q3 (6) (159) (Nat.le_refl _) (Nat.le_refl _) cN cS tg0 nx0 ns0 hq4 st2 hI hz.2.2.2.2.2.2.1 hz.2.2.2.2.2.2.2.2 rQ aQ hQ) hf0 (fun nX EX tgX nxX nsX stX H locs hTX hxX hz2 hf => ?_) (fun x5 tg6 nx6 ns6 sa6 H locs hext hz2 hf => ?_)
      · exact fda_x hxx hTX hz2 hf
      clear hf0
      have hq4 := hext.t hI hq4
      have hz := hz2
      have hw := hz.1
      have hI := hz.2.1
      clear hz2 hext
      refine lv_aload_n hx hb dX0_back_44 rfl (lv_at hl 0 rfl) ?_
      refine lv_iconst (v := (0 : Int32)) hx hb dX0_back_45 (by decide) ?_
      have hf0 := hf
      clear hf
      refine fcA_Vi (rm := { frames := 1, cells := 0, slots := 0, locals := 21 }) (rest := []) (As := [.int (0 : Int32)]) (fo_Xw X) hw hz.lim0 hm_X0_settled (lw_V q538 q540 qs4 q111 q541) ⟨rfl, rfl⟩ hR2 fc_X0 rfl (hx0 (hI.hx hX)) rfl rfl hl.1 (Nat.le_of_ble_eq_true rfl) dX0_back_46 (fun rQ stQ hQ => wX0_settled l (eW E tg6 nx6) (hI.hx hX) (0 : Int32) sa6 rQ stQ hQ) hf0 (fun x7 st8 H locs hw hf => ?_)
      clear hf0
      have hz := hz.s hw
      exact fda_i hend hz hf dX0_back_49
    clear hf0
    refine lv_aload_n hx hb dX0_back_24 rfl (lv_at hl 0 rfl) ?_
    refine lv_bipush (v := (-2 : Int32)) hx hb dX0_back_25 (by decide) ?_
    have hf0 := hf
    clear hf
    refine fcA_Vi (rm := { frames := 0, cells := 0, slots := 0, locals := 0 }) (rest := []) (As := [.int (-2 : Int32)]) (fo_Xw X) hw hz.lim0 hm_X0_refuse (lw_V q440 q442 qs1 q111 q443) ⟨rfl, rfl⟩ hR3 fc_X0 rfl (hx0 (hI.hx hX)) rfl rfl hl.1 (Nat.le_of_ble_eq_true rfl) dX0_back_27 (fun rQ stQ hQ => wX0_refuse l (eW E tg0 nx0) (hI.hx hX) (-2 : Int32) st2 rQ stQ hQ) hf0 (fun x9 st10 H locs hw hf => ?_)
    clear hf0
    have hz := hz.s hw
    exact fda_i hend hz hf dX0_back_30
  clear hf0
  refine lv_aload_n hx hb dX0_back_9 rfl (lv_at hl 0 rfl) ?_
  refine lv_iconst (v := (-1 : Int32)) hx hb dX0_back_10 (by decide) ?_
  have hf0 := hf
  clear hf
  refine fcA_Vi (rm := { frames := 0, cells := 0, slots := 0, locals := 0 }) (rest := []) (As := [.int (-1 : Int32)]) (fo_Xw X) hw hz.lim0 hm_X0_refuse (lw_V q440 q442 qs1 q111 q443) ⟨rfl, rfl⟩ hR3 fc_X0 rfl (hx0 (hI.hx hX)) rfl rfl hl.1 (Nat.le_of_ble_eq_true rfl) dX0_back_11 (fun rQ stQ hQ => wX0_refuse l (eW E tg0 nx0) (hI.hx hX) (-1 : Int32) st2 rQ stQ hQ) hf0 (fun x11 st12 H locs hw hf => ?_)
  clear hf0
  have hz := hz.s hw
  exact fda_i hend hz hf dX0_back_14

