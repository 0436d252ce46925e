/-! the walks of ForestRooms, its tables, and what they call, printed by genx.py -/
set_option maxRecDepth 100000
/-- java/lang/Integer.bitCount -/
def fJ13_bitCount (p1 : Int32) (st0 : fo_St) : Option (Int32 × fo_St) := lI_ (p1 - ((iushr_ p1 (1 : Int32)) &&& (1431655765 : Int32))) (fun x1 => lI_ ((x1 &&& (858993459 : Int32)) + ((iushr_ x1 (2 : Int32)) &&& (858993459 : Int32))) (fun x2 => lI_ ((x2 + (iushr_ x2 (4 : Int32))) &&& (252645135 : Int32)) (fun x3 => lI_ (x3 + (iushr_ x3 (8 : Int32))) (fun x4 => lI_ (x4 + (iushr_ x4 (16 : Int32))) (fun x5 => some ((x5 &&& (63 : Int32)), st0))))))
theorem hm_J13_bitCount : fo_M yJ13_bitCount 1 := ⟨by decide +kernel, by decide +kernel, by decide +kernel, by decide +kernel⟩
set_option maxHeartbeats 4000000 in
theorem wJ13_bitCount (l : Launch) (E : fo_E) (p1 : Int32) (st0 : fo_St) (rZ : Int32) (stZ : fo_St) (hf : fJ13_bitCount p1 st0 = some (rZ, stZ)) : CTi l E yJ13_bitCount (ws_ yJ13_bitCount cJ13_bitCount 1 (some .int)) ({ frames := 0, cells := 0, slots := 0, locals := 0 }) [.int p1] st0 rZ stZ := by
  refine fe_i hm_J13_bitCount (Nat.le_of_ble_eq_true rfl) (fun p e R s m args below meth c Q hRf hRl X hend ls hl hw => ?_)
  have hx := X.1.1
  have hb := X.1.2.1
  have hl : lv_has ls 1 [(0, .int p1)] := hl
  unfold fJ13_bitCount at hf
  generalize s.heap = H at hw ⊢
  generalize ([] : List Loc) = locs at hw ⊢
  refine lv_iload_n hx hb dJ13_bitCount_0 rfl (lv_at hl 0 rfl) ?_
  refine lv_iload_n hx hb dJ13_bitCount_1 rfl (lv_at hl 0 rfl) ?_
  refine lv_iconst (v := (1 : Int32)) hx hb dJ13_bitCount_2 (by decide) ?_
  refine lv_iushr (v := (iushr_ p1 (1 : Int32))) hx hb dJ13_bitCount_3 rfl ?_
  refine lv_ldcw (v := (1431655765 : Int32)) hx hb X.1.2.2.2.1 (X.1.2.2.2.2 _ q1334) dJ13_bitCount_4 ?_
  refine lv_iand hx hb dJ13_bitCount_7 ?_
  refine lv_isub hx hb dJ13_bitCount_8 ?_
  refine fo_tI hf (fun x1 hf => ?_)
  refine lv_istore_n (lv' := [(0, .int x1)]) hx hb dJ13_bitCount_9 rfl hl (by decide) rfl (fun ls hl => ?_)
  refine lv_iload_n hx hb dJ13_bitCount_10 rfl (lv_at hl 0 rfl) ?_
  refine lv_ldcw (v := (858993459 : Int32)) hx hb X.1.2.2.2.1 (X.1.2.2.2.2 _ q1335) dJ13_bitCount_11 ?_
  refine lv_iand hx hb dJ13_bitCount_14 ?_
  refine lv_iload_n hx hb dJ13_bitCount_15 rfl (lv_at hl 0 rfl) ?_
  refine lv_iconst (v := (2 : Int32)) hx hb dJ13_bitCount_16 (by decide) ?_
  refine lv_iushr (v := (iushr_ x1 (2 : Int32))) hx hb dJ13_bitCount_17 rfl ?_
  refine lv_ldcw (v := (858993459 : Int32)) hx hb X.1.2.2.2.1 (X.1.2.2.2.2 _ q1335) dJ13_bitCount_18 ?_
  refine lv_iand hx hb dJ13_bitCount_21 ?_
  refine lv_iadd hx hb dJ13_bitCount_22 ?_
  refine fo_tI hf (fun x2 hf => ?_)
  refine lv_istore_n (lv' := [(0, .int x2)]) hx hb dJ13_bitCount_23 rfl hl (by decide) rfl (fun ls hl => ?_)
  refine lv_iload_n hx hb dJ13_bitCount_24 rfl (lv_at hl 0 rfl) ?_
  refine lv_iload_n hx hb dJ13_bitCount_25 rfl (lv_at hl 0 rfl) ?_
  refine lv_iconst (v := (4 : Int32)) hx hb dJ13_bitCount_26 (by decide) ?_
  refine lv_iushr (v := (iushr_ x2 (4 : Int32))) hx hb dJ13_bitCount_27 rfl ?_
  refine lv_iadd hx hb dJ13_bitCount_28 ?_
  refine lv_ldcw (v := (252645135 : Int32)) hx hb X.1.2.2.2.1 (X.1.2.2.2.2 _ q1336) dJ13_bitCount_29 ?_
  refine lv_iand hx hb dJ13_bitCount_32 ?_
  refine fo_tI hf (fun x3 hf => ?_)
  refine lv_istore_n (lv' := [(0, .int x3)]) hx hb dJ13_bitCount_33 rfl hl (by decide) rfl (fun ls hl => ?_)
  refine lv_iload_n hx hb dJ13_bitCount_34 rfl (lv_at hl 0 rfl) ?_
  refine lv_iload_n hx hb dJ13_bitCount_35 rfl (lv_at hl 0 rfl) ?_
  refine lv_bipush (v := (8 : Int32)) hx hb dJ13_bitCount_36 (by decide) ?_
  refine lv_iushr (v := (iushr_ x3 (8 : Int32))) hx hb dJ13_bitCount_38 rfl ?_
  refine lv_iadd hx hb dJ13_bitCount_39 ?_
  refine fo_tI hf (fun x4 hf => ?_)
  refine lv_istore_n (lv' := [(0, .int x4)]) hx hb dJ13_bitCount_40 rfl hl (by decide) rfl (fun ls hl => ?_)
  refine lv_iload_n hx hb dJ13_bitCount_41 rfl (lv_at hl 0 rfl) ?_
  refine lv_iload_n hx hb dJ13_bitCount_42 rfl (lv_at hl 0 rfl) ?_
  refine lv_bipush (v := (16 : Int32)) hx hb dJ13_bitCount_43 (by decide) ?_
  refine lv_iushr (v := (iushr_ x4 (16 : Int32))) hx hb dJ13_bitCount_45 rfl ?_
  refine lv_iadd hx hb dJ13_bitCount_46 ?_
  refine fo_tI hf (fun x5 hf => ?_)
  refine lv_istore_n (lv' := [(0, .int x5)]) hx hb dJ13_bitCount_47 rfl hl (by decide) rfl (fun ls hl => ?_)
  refine lv_iload_n hx hb dJ13_bitCount_48 rfl (lv_at hl 0 rfl) ?_
  refine lv_bipush (v := (63 : Int32)) hx hb dJ13_bitCount_49 (by decide) ?_
  refine lv_iand hx hb dJ13_bitCount_51 ?_
  exact fd_i hend hw hf dJ13_bitCount_52

/-- jdk/internal/util/Preconditions.checkIndex -/
def fJ6_checkIndex (p1 : Int32) (p2 : Int32) (st0 : fo_St) : Option (Int32 × fo_St) := if p1 < 0 then none else if p1 < p2 then some (p1, st0) else none
theorem hm_J6_checkIndex : fo_M yJ6_checkIndex 3 := ⟨by decide +kernel, by decide +kernel, by decide +kernel, by decide +kernel⟩
set_option maxHeartbeats 4000000 in
theorem wJ6_checkIndex (l : Launch) (E : fo_E) (p1 : Int32) (p2 : Int32) (st0 : fo_St) (rZ : Int32) (stZ : fo_St) (hf : fJ6_checkIndex p1 p2 st0 = some (rZ, stZ)) : CTi l E yJ6_checkIndex (ws_ yJ6_checkIndex cJ6_checkIndex 3 (some .int)) ({ frames := 0, cells := 0, slots := 0, locals := 0 }) [.int p1, .int p2, .null] st0 rZ stZ := by
  refine fe_i hm_J6_checkIndex (Nat.le_of_ble_eq_true rfl) (fun p e R s m args below meth c Q hRf hRl X hend ls hl hw => ?_)
  have hx := X.1.1
  have hb := X.1.2.1
  have hl : lv_has ls 3 [(0, .int p1), (1, .int p2), (2, .null)] := hl
  unfold fJ6_checkIndex at hf
  generalize s.heap = H at hw ⊢
  generalize ([] : List Loc) = locs at hw ⊢
  refine lv_iload_n hx hb dJ6_checkIndex_0 rfl (lv_at hl 0 rfl) ?_
  refine fb_zlt (tgt := 9) hx hb dJ6_checkIndex_1 (by decide) hf (fun hf => ?_) (fun hf => ?_)
  · cases hf
  refine lv_iload_n hx hb dJ6_checkIndex_4 rfl (lv_at hl 0 rfl) ?_
  refine lv_iload_n hx hb dJ6_checkIndex_5 rfl (lv_at hl 1 rfl) ?_
  refine fb_ilt (tgt := 16) hx hb dJ6_checkIndex_6 (by decide) hf (fun hf => ?_) (fun hf => ?_)
  · refine lv_iload_n hx hb dJ6_checkIndex_16 rfl (lv_at hl 0 rfl) ?_
    exact fd_i hend hw hf dJ6_checkIndex_17
  cases hf

/-- java/util/Objects.checkIndex -/
def fJ5_checkIndex (p1 : Int32) (p2 : Int32) (st0 : fo_St) : Option (Int32 × fo_St) := bd_ (fJ6_checkIndex p1 p2 st0) (fun x1 st2 => some (x1, st2))
theorem hm_J5_checkIndex : fo_M yJ5_checkIndex 2 := ⟨by decide +kernel, by decide +kernel, by decide +kernel, by decide +kernel⟩
set_option maxHeartbeats 4000000 in
theorem wJ5_checkIndex (l : Launch) (E : fo_E) (p1 : Int32) (p2 : Int32) (st0 : fo_St) (rZ : Int32) (stZ : fo_St) (hf : fJ5_checkIndex p1 p2 st0 = some (rZ, stZ)) : CTi l E yJ5_checkIndex (ws_ yJ5_checkIndex cJ5_checkIndex 2 (some .int)) ({ frames := 1, cells := 0, slots := 0, locals := 22 }) [.int p1, .int p2] st0 rZ stZ := by
  refine fe_i hm_J5_checkIndex (Nat.le_of_ble_eq_true rfl) (fun p e R s m args below meth c Q hRf hRl X hend ls hl hw => ?_)
  have hx := X.1.1
  have hb := X.1.2.1
  have hl : lv_has ls 2 [(0, .int p1), (1, .int p2)] := hl
  unfold fJ5_checkIndex at hf
  generalize s.heap = H at hw ⊢
  generalize ([] : List Loc) = locs at hw ⊢
  refine lv_iload_n hx hb dJ5_checkIndex_0 rfl (lv_at hl 0 rfl) ?_
  refine lv_iload_n hx hb dJ5_checkIndex_1 rfl (lv_at hl 1 rfl) ?_
  refine lv_null hx hb dJ5_checkIndex_2 ?_
  refine fc_Si (rest := []) (As := [.int p1, .int p2, .null]) X hw hm_J6_checkIndex (lw_S q593 q594 q123 q595) ⟨rfl, rfl⟩ ⟨by rw [hRf]; exact Nat.le_of_ble_eq_true rfl, by rw [hRl]; exact Nat.le_of_ble_eq_true rfl⟩ rfl rfl hl.1 (Nat.le_of_ble_eq_true rfl) dJ5_checkIndex_3 (fun rQ stQ hQ => wJ6_checkIndex l E p1 p2 st0 rQ stQ hQ) hf (fun x1 st2 H locs hw hf => ?_)
  exact fd_i hend hw hf dJ5_checkIndex_6

/-- java/util/ArrayList.elementData -/
def fJ2_elementData (tg : Nat → Nat × Nat) (o : Nat) (p1 : Int32) (st0 : fo_St) : Option (Nat × fo_St) := rn_ (gr_ st0 o 1) (fun q1 => ck_ (decide ((tg q1).1 = 6)) (ck_ (fo_in p1 (tg q1).2) (rn_ (gr_ st0 q1 p1.toNatClampNeg) (fun q2 => some (q2, st0)))))
theorem hm_J2_elementData : fo_M yJ2_elementData 1 := ⟨by decide +kernel, by decide +kernel, by decide +kernel, by decide +kernel⟩
set_option maxHeartbeats 4000000 in
theorem wJ2_elementData (l : Launch) (E : fo_E) (o : Nat) (p1 : Int32) (hO : et E o = (1, 18)) (st0 : fo_St) (rZ : Nat) (stZ : fo_St) (hf : fJ2_elementData (et E) o p1 st0 = some (rZ, stZ)) : CTr l E yJ2_elementData (ws_ yJ2_elementData cJ2_elementData 2 (some (.object "java/lang/Object"))) ({ frames := 0, cells := 0, slots := 0, locals := 0 }) [.ref (eb E + o), .int p1] st0 rZ stZ := by
  refine fe_r (Or.inl ⟨_, rfl⟩) hm_J2_elementData (Nat.le_of_ble_eq_true rfl) (fun p e R s m args below meth c Q hRf hRl X hend ls hl hw => ?_)
  have hx := X.1.1
  have hb := X.1.2.1
  have hl : lv_has ls 2 [(0, .ref (eb E + o)), (1, .int p1)] := hl
  unfold fJ2_elementData at hf
  generalize s.heap = H at hw ⊢
  generalize ([] : List Loc) = locs at hw ⊢
  refine lv_aload_n hx hb dJ2_elementData_0 rfl (lv_at hl 0 rfl) ?_
  refine fo_getr X hw fc_J2 hO (k := 1) (by decide) rfl q202 dJ2_elementData_1 hf (fun q1 hf => ?_)
  refine lv_iload_n hx hb dJ2_elementData_4 rfl (lv_at hl 1 rfl) ?_
  obtain ⟨hq3, hf⟩ := ck_e hf
  have hq3 := fo_tag6 hq3
  refine fo_aldo X hw hq3 dJ2_elementData_5 hf (fun q2 hf => ?_)
  exact fd_r hend hw hf dJ2_elementData_6

/-- java/util/ArrayList.get -/
def fJ2_get (tg : Nat → Nat × Nat) (o : Nat) (p1 : Int32) (st0 : fo_St) : Option (Nat × fo_St) := bd_ (fJ5_checkIndex p1 (gi_ st0 o 2) st0) (fun x1 st2 => bd_ (fJ2_elementData tg o p1 st2) (fun x3 st4 => some (x3, st4)))
theorem hm_J2_get : fo_M yJ2_get 1 := ⟨by decide +kernel, by decide +kernel, by decide +kernel, by decide +kernel⟩
set_option maxHeartbeats 4000000 in
theorem wJ2_get (l : Launch) (E : fo_E) (o : Nat) (p1 : Int32) (hO : et E o = (1, 18)) (st0 : fo_St) (rZ : Nat) (stZ : fo_St) (hf : fJ2_get (et E) o p1 st0 = some (rZ, stZ)) : CTr l E yJ2_get (ws_ yJ2_get cJ2_get 2 (some (.object "java/lang/Object"))) ({ frames := 2, cells := 0, slots := 0, locals := 43 }) [.ref (eb E + o), .int p1] st0 rZ stZ := by
  refine fe_r (Or.inl ⟨_, rfl⟩) hm_J2_get (Nat.le_of_ble_eq_true rfl) (fun p e R s m args below meth c Q hRf hRl X hend ls hl hw => ?_)
  have hx := X.1.1
  have hb := X.1.2.1
  have hl : lv_has ls 2 [(0, .ref (eb E + o)), (1, .int p1)] := hl
  unfold fJ2_get at hf
  generalize s.heap = H at hw ⊢
  generalize ([] : List Loc) = locs at hw ⊢
  refine lv_iload_n hx hb dJ2_get_0 rfl (lv_at hl 1 rfl) ?_
  refine lv_aload_n hx hb dJ2_get_1 rfl (lv_at hl 0 rfl) ?_
  refine fo_geti X hw fc_J2 hO (k := 2) (by decide) rfl q203 dJ2_get_2 ?_
  refine fc_Si (rest := []) (As := [.int p1, .int (gi_ st0 o 2)]) X hw hm_J5_checkIndex (lw_S q590 q591 q122 q592) ⟨rfl, rfl⟩ ⟨by rw [hRf]; exact Nat.le_of_ble_eq_true rfl, by rw [hRl]; exact Nat.le_of_ble_eq_true rfl⟩ rfl rfl hl.1 (Nat.le_of_ble_eq_true rfl) dJ2_get_5 (fun rQ stQ hQ => wJ5_checkIndex l E p1 (gi_ st0 o 2) st0 rQ stQ hQ) hf (fun x1 st2 H locs hw hf => ?_)
  refine lv_pop hx hb dJ2_get_8 rfl ?_
  refine lv_aload_n hx hb dJ2_get_9 rfl (lv_at hl 0 rfl) ?_
  refine lv_iload_n hx hb dJ2_get_10 rfl (lv_at hl 1 rfl) ?_
  refine fc_Vr (rest := []) (As := [.int p1]) X hw hm_J2_elementData (lw_V q596 q597 q598 q116 q599) ⟨rfl, rfl⟩ ⟨by rw [hRf]; exact Nat.le_of_ble_eq_true rfl, by rw [hRl]; exact Nat.le_of_ble_eq_true rfl⟩ fc_J2 rfl hO rfl rfl hl.1 (Nat.le_of_ble_eq_true rfl) dJ2_get_11 (fun rQ stQ hQ => wJ2_elementData l E o p1 hO st2 rQ stQ hQ) hf (fun x3 st4 H locs hw hf => ?_)
  exact fd_r hend hw hf dJ2_get_14

/-- java/util/ArrayList.size -/
def fJ2_size (o : Nat) (st0 : fo_St) : Option (Int32 × fo_St) := some ((gi_ st0 o 2), st0)
theorem hm_J2_size : fo_M yJ2_size 0 := ⟨by decide +kernel, by decide +kernel, by decide +kernel, by decide +kernel⟩
set_option maxHeartbeats 4000000 in
theorem wJ2_size (l : Launch) (E : fo_E) (o : Nat) (hO : et E o = (1, 18)) (st0 : fo_St) (rZ : Int32) (stZ : fo_St) (hf : fJ2_size o st0 = some (rZ, stZ)) : CTi l E yJ2_size (ws_ yJ2_size cJ2_size 1 (some .int)) ({ frames := 0, cells := 0, slots := 0, locals := 0 }) [.ref (eb E + o)] st0 rZ stZ := by
  refine fe_i hm_J2_size (Nat.le_of_ble_eq_true rfl) (fun p e R s m args below meth c Q hRf hRl X hend ls hl hw => ?_)
  have hx := X.1.1
  have hb := X.1.2.1
  have hl : lv_has ls 1 [(0, .ref (eb E + o))] := hl
  unfold fJ2_size at hf
  generalize s.heap = H at hw ⊢
  generalize ([] : List Loc) = locs at hw ⊢
  refine lv_aload_n hx hb dJ2_size_0 rfl (lv_at hl 0 rfl) ?_
  refine fo_geti X hw fc_J2 hO (k := 2) (by decide) rfl q203 dJ2_size_1 ?_
  exact fd_i hend hw hf dJ2_size_4

/-- ForestRooms.in -/
def fX0_in (p1 : Int32) (p2 : Int32) (p3 : Int32) (st0 : fo_St) : Option (Int32 × fo_St) := if p1 < p2 then some ((0 : Int32), st0) else if p3 < p1 then some ((0 : Int32), st0) else some ((1 : Int32), st0)
theorem hm_X0_in : fo_M yX0_in 3 := ⟨by decide +kernel, by decide +kernel, by decide +kernel, by decide +kernel⟩
set_option maxHeartbeats 4000000 in
theorem wX0_in (l : Launch) (E : fo_E) (hX : fo_HX E) (p1 : Int32) (p2 : Int32) (p3 : Int32) (st0 : fo_St) (rZ : Int32) (stZ : fo_St) (hf : fX0_in p1 p2 p3 st0 = some (rZ, stZ)) : CTi l E yX0_in (ws_ yX0_in cX0_in 3 (some .boolean)) ({ frames := 0, cells := 0, slots := 0, locals := 0 }) [.int p1, .int p2, .int p3] st0 rZ stZ := by
  refine fe_z hm_X0_in (Nat.le_of_ble_eq_true rfl) (fun p e R s m args below meth c Q hRf hRl X hend ls hl hw => ?_)
  have hx := X.1.1
  have hb := X.1.2.1
  have hl : lv_has ls 3 [(0, .int p1), (1, .int p2), (2, .int p3)] := hl
  unfold fX0_in at hf
  generalize s.heap = H at hw ⊢
  generalize ([] : List Loc) = locs at hw ⊢
  refine lv_iload_n hx hb dX0_in_0 rfl (lv_at hl 0 rfl) ?_
  refine lv_iload_n hx hb dX0_in_1 rfl (lv_at hl 1 rfl) ?_
  refine fb_ilt (tgt := 14) hx hb dX0_in_2 (by decide) hf (fun hf => ?_) (fun hf => ?_)
  · refine lv_iconst (v := (0 : Int32)) hx hb dX0_in_14 (by decide) ?_
    exact fd_z hend hw rfl hf dX0_in_15
  refine lv_iload_n hx hb dX0_in_5 rfl (lv_at hl 0 rfl) ?_
  refine lv_iload_n hx hb dX0_in_6 rfl (lv_at hl 2 rfl) ?_
  refine fb_igt (tgt := 14) hx hb dX0_in_7 (by decide) hf (fun hf => ?_) (fun hf => ?_)
  · refine lv_iconst (v := (0 : Int32)) hx hb dX0_in_14 (by decide) ?_
    exact fd_z hend hw rfl hf dX0_in_15
  refine lv_iconst (v := (1 : Int32)) hx hb dX0_in_10 (by decide) ?_
  refine lv_goto (tgt := 15) hx hb dX0_in_11 (by decide) ?_
  exact fd_z hend hw rfl hf dX0_in_15

/-- ForestRooms.refuse -/
def fX0_refuse (p1 : Int32) (st0 : fo_St) : Option (Int32 × fo_St) := lt_ (si_ st0 0 0 p1) (fun st1 => ck_ (fo_in (-p1) 7) (ck_ (fo_in (-p1) 7) (lt_ (si_ st1 1 (-p1).toNatClampNeg ((gi_ st1 1 (-p1).toNatClampNeg) + (1 : Int32))) (fun st2 => some (p1, st2)))))
theorem hm_X0_refuse : fo_M yX0_refuse 1 := ⟨by decide +kernel, by decide +kernel, by decide +kernel, by decide +kernel⟩
set_option maxHeartbeats 4000000 in
theorem wX0_refuse (l : Launch) (E : fo_E) (hX : fo_HX E) (p1 : Int32) (st0 : fo_St) (rZ : Int32) (stZ : fo_St) (hf : fX0_refuse p1 st0 = some (rZ, stZ)) : CTi l E yX0_refuse (ws_ yX0_refuse cX0_refuse 2 (some .int)) ({ frames := 0, cells := 0, slots := 0, locals := 0 }) [.ref (eb E + 0), .int p1] st0 rZ stZ := by
  refine fe_i hm_X0_refuse (Nat.le_of_ble_eq_true rfl) (fun p e R s m args below meth c Q hRf hRl X hend ls hl hw => ?_)
  have hx := X.1.1
  have hb := X.1.2.1
  have hl : lv_has ls 2 [(0, .ref (eb E + 0)), (1, .int p1)] := hl
  unfold fX0_refuse at hf
  generalize s.heap = H at hw ⊢
  generalize ([] : List Loc) = locs at hw ⊢
  refine lv_aload_n hx hb dX0_refuse_0 rfl (lv_at hl 0 rfl) ?_
  refine lv_iload_n hx hb dX0_refuse_1 rfl (lv_at hl 1 rfl) ?_
  refine fo_puti X hw fc_X0 (hx0 hX) (k := 0) (by decide) rfl rfl q345 ⟨rfl, rfl⟩ dX0_refuse_2 hf (fun st1 H locs hw hf => ?_)
  refine lv_aload_n hx hb dX0_refuse_5 rfl (lv_at hl 0 rfl) ?_
  refine fo_gets X hw fc_X0 (hx0 hX) (k := 1) (d := 1) (n2 := 1) (by decide) rfl rfl q346 dX0_refuse_6 ?_
  refine lv_iload_n hx hb dX0_refuse_9 rfl (lv_at hl 1 rfl) ?_
  refine lv_ineg hx hb dX0_refuse_10 ?_
  refine lv_dup2_11 hx hb dX0_refuse_11 rfl rfl ?_
  refine fo_iald X hw (hx1 hX) dX0_refuse_12 hf (fun hf => ?_)
  refine lv_iconst (v := (1 : Int32)) hx hb dX0_refuse_13 (by decide) ?_
  refine lv_iadd hx hb dX0_refuse_14 ?_
  refine fo_iast X hw (hx1 hX) dX0_refuse_15 hf (fun st2 H locs hw hf => ?_)
  refine lv_iload_n hx hb dX0_refuse_16 rfl (lv_at hl 1 rfl) ?_
  exact fd_i hend hw hf dX0_refuse_17

/-- ForestRooms.done -/
def fX0_done (p1 : Int32) (st0 : fo_St) : Option (Int32 × fo_St) := lt_ (si_ st0 0 0 (0 : Int32)) (fun st1 => some (p1, st1))
theorem hm_X0_done : fo_M yX0_done 1 := ⟨by decide +kernel, by decide +kernel, by decide +kernel, by decide +kernel⟩
set_option maxHeartbeats 4000000 in
theorem wX0_done (l : Launch) (E : fo_E) (hX : fo_HX E) (p1 : Int32) (st0 : fo_St) (rZ : Int32) (stZ : fo_St) (hf : fX0_done p1 st0 = some (rZ, stZ)) : CTi l E yX0_done (ws_ yX0_done cX0_done 2 (some .int)) ({ frames := 0, cells := 0, slots := 0, locals := 0 }) [.ref (eb E + 0), .int p1] st0 rZ stZ := by
  refine fe_i hm_X0_done (Nat.le_of_ble_eq_true rfl) (fun p e R s m args below meth c Q hRf hRl X hend ls hl hw => ?_)
  have hx := X.1.1
  have hb := X.1.2.1
  have hl : lv_has ls 2 [(0, .ref (eb E + 0)), (1, .int p1)] := hl
  unfold fX0_done at hf
  generalize s.heap = H at hw ⊢
  generalize ([] : List Loc) = locs at hw ⊢
  refine lv_aload_n hx hb dX0_done_0 rfl (lv_at hl 0 rfl) ?_
  refine lv_iconst (v := (0 : Int32)) hx hb dX0_done_1 (by decide) ?_
  refine fo_puti X hw fc_X0 (hx0 hX) (k := 0) (by decide) rfl rfl q345 ⟨rfl, rfl⟩ dX0_done_2 hf (fun st1 H locs hw hf => ?_)
  refine lv_iload_n hx hb dX0_done_5 rfl (lv_at hl 1 rfl) ?_
  exact fd_i hend hw hf dX0_done_6

/-- ForestRooms.settled -/
def fX0_settled (p1 : Int32) (st0 : fo_St) : Option (Int32 × fo_St) := lt_ (si_ st0 0 15 (0 : Int32)) (fun st1 => bd_ (fX0_done p1 st1) (fun x2 st3 => some (x2, st3)))
theorem hm_X0_settled : fo_M yX0_settled 1 := ⟨by decide +kernel, by decide +kernel, by decide +kernel, by decide +kernel⟩
set_option maxHeartbeats 4000000 in
theorem wX0_settled (l : Launch) (E : fo_E) (hX : fo_HX E) (p1 : Int32) (st0 : fo_St) (rZ : Int32) (stZ : fo_St) (hf : fX0_settled p1 st0 = some (rZ, stZ)) : CTi l E yX0_settled (ws_ yX0_settled cX0_settled 2 (some .int)) ({ frames := 1, cells := 0, slots := 0, locals := 21 }) [.ref (eb E + 0), .int p1] st0 rZ stZ := by
  refine fe_i hm_X0_settled (Nat.le_of_ble_eq_true rfl) (fun p e R s m args below meth c Q hRf hRl X hend ls hl hw => ?_)
  have hx := X.1.1
  have hb := X.1.2.1
  have hl : lv_has ls 2 [(0, .ref (eb E + 0)), (1, .int p1)] := hl
  unfold fX0_settled at hf
  generalize s.heap = H at hw ⊢
  generalize ([] : List Loc) = locs at hw ⊢
  refine lv_aload_n hx hb dX0_settled_0 rfl (lv_at hl 0 rfl) ?_
  refine lv_iconst (v := (0 : Int32)) hx hb dX0_settled_1 (by decide) ?_
  refine fo_puti X hw fc_X0 (hx0 hX) (k := 15) (by decide) rfl rfl q360 ⟨rfl, rfl⟩ dX0_settled_2 hf (fun st1 H locs hw hf => ?_)
  refine lv_aload_n hx hb dX0_settled_5 rfl (lv_at hl 0 rfl) ?_
  refine lv_iload_n hx hb dX0_settled_6 rfl (lv_at hl 1 rfl) ?_
  refine fc_Vi (rest := []) (As := [.int p1]) X hw hm_X0_done (lw_V q530 q532 qs3 q111 q533) ⟨rfl, rfl⟩ ⟨by rw [hRf]; exact Nat.le_of_ble_eq_true rfl, by rw [hRl]; exact Nat.le_of_ble_eq_true rfl⟩ fc_X0 rfl (hx0 hX) rfl rfl hl.1 (Nat.le_of_ble_eq_true rfl) dX0_settled_7 (fun rQ stQ hQ => wX0_done l E hX p1 st1 rQ stQ hQ) hf (fun x2 st3 H locs hw hf => ?_)
  exact fd_i hend hw hf dX0_settled_10

/-- ForestRooms.isRoom -/
def fX0_isRoom (p1 : Int32) (st0 : fo_St) : Option (Int32 × fo_St) := bd_ (fX0_in p1 (0 : Int32) (15 : Int32) st0) (fun x1 st2 => ck_ (decide (x1 = 0 ∨ x1 = 1)) (some (x1, st2)))
theorem hm_X0_isRoom : fo_M yX0_isRoom 1 := ⟨by decide +kernel, by decide +kernel, by decide +kernel, by decide +kernel⟩
set_option maxHeartbeats 4000000 in
theorem wX0_isRoom (l : Launch) (E : fo_E) (hX : fo_HX E) (p1 : Int32) (st0 : fo_St) (rZ : Int32) (stZ : fo_St) (hf : fX0_isRoom p1 st0 = some (rZ, stZ)) : CTi l E yX0_isRoom (ws_ yX0_isRoom cX0_isRoom 1 (some .boolean)) ({ frames := 1, cells := 0, slots := 0, locals := 22 }) [.int p1] st0 rZ stZ := by
  refine fe_z hm_X0_isRoom (Nat.le_of_ble_eq_true rfl) (fun p e R s m args below meth c Q hRf hRl X hend ls hl hw => ?_)
  have hx := X.1.1
  have hb := X.1.2.1
  have hl : lv_has ls 1 [(0, .int p1)] := hl
  unfold fX0_isRoom at hf
  generalize s.heap = H at hw ⊢
  generalize ([] : List Loc) = locs at hw ⊢
  refine lv_iload_n hx hb dX0_isRoom_0 rfl (lv_at hl 0 rfl) ?_
  refine lv_iconst (v := (0 : Int32)) hx hb dX0_isRoom_1 (by decide) ?_
  refine lv_bipush (v := (15 : Int32)) hx hb dX0_isRoom_2 (by decide) ?_
  refine fc_Si (rest := []) (As := [.int p1, .int (0 : Int32), .int (15 : Int32)]) X hw hm_X0_in (lw_S q437 q438 q111 q439) ⟨rfl, rfl⟩ ⟨by rw [hRf]; exact Nat.le_of_ble_eq_true rfl, by rw [hRl]; exact Nat.le_of_ble_eq_true rfl⟩ rfl rfl hl.1 (Nat.le_of_ble_eq_true rfl) dX0_isRoom_4 (fun rQ stQ hQ => wX0_in l E hX p1 (0 : Int32) (15 : Int32) st0 rQ stQ hQ) hf (fun x1 st2 H locs hw hf => ?_)
  obtain ⟨hz, hf⟩ := ck_e hf
  exact fd_z hend hw (fo_z hz).1 hf dX0_isRoom_7

/-- ForestRooms.isPut -/
def fX0_isPut (p1 : Int32) (p2 : Int32) (st0 : fo_St) : Option (Int32 × fo_St) := bd_ (fX0_in p1 (0 : Int32) (2 : Int32) st0) (fun x1 st2 => if x1 = 0 then some ((0 : Int32), st2) else jn_ (fun (x3 : Int32) => bd_ (fX0_in p2 x3 (9 : Int32) st2) (fun x5 st6 => if x5 = 0 then some ((0 : Int32), st6) else some ((1 : Int32), st6))) (fun k4 => if ¬ p1 = (2 : Int32) then k4 (0 : Int32) else k4 (1 : Int32)))
theorem hm_X0_isPut : fo_M yX0_isPut 2 := ⟨by decide +kernel, by decide +kernel, by decide +kernel, by decide +kernel⟩
set_option maxHeartbeats 4000000 in
theorem wX0_isPut (l : Launch) (E : fo_E) (hX : fo_HX E) (p1 : Int32) (p2 : Int32) (st0 : fo_St) (rZ : Int32) (stZ : fo_St) (hf : fX0_isPut p1 p2 st0 = some (rZ, stZ)) : CTi l E yX0_isPut (ws_ yX0_isPut cX0_isPut 2 (some .boolean)) ({ frames := 1, cells := 0, slots := 0, locals := 22 }) [.int p1, .int p2] st0 rZ stZ := by
  refine fe_z hm_X0_isPut (Nat.le_of_ble_eq_true rfl) (fun p e R s m args below meth c Q hRf hRl X hend ls hl hw => ?_)
  have hx := X.1.1
  have hb := X.1.2.1
  have hl : lv_has ls 2 [(0, .int p1), (1, .int p2)] := hl
  unfold fX0_isPut at hf
  generalize s.heap = H at hw ⊢
  generalize ([] : List Loc) = locs at hw ⊢
  refine lv_iload_n hx hb dX0_isPut_0 rfl (lv_at hl 0 rfl) ?_
  refine lv_iconst (v := (0 : Int32)) hx hb dX0_isPut_1 (by decide) ?_
  refine lv_iconst (v := (2 : Int32)) hx hb dX0_isPut_2 (by decide) ?_
  refine fc_Si (rest := []) (As := [.int p1, .int (0 : Int32), .int (2 : Int32)]) X hw hm_X0_in (lw_S q437 q438 q111 q439) ⟨rfl, rfl⟩ ⟨by rw [hRf]; exact Nat.le_of_ble_eq_true rfl, by rw [hRl]; exact Nat.le_of_ble_eq_true rfl⟩ rfl rfl hl.1 (Nat.le_of_ble_eq_true rfl) dX0_isPut_3 (fun rQ stQ hQ => wX0_in l E hX p1 (0 : Int32) (2 : Int32) st0 rQ stQ hQ) hf (fun x1 st2 H locs hw hf => ?_)
  refine fb_zeq (tgt := 32) hx hb dX0_isPut_6 (by decide) hf (fun hf => ?_) (fun hf => ?_)
  · refine lv_iconst (v := (0 : Int32)) hx hb dX0_isPut_32 (by decide) ?_
    exact fd_z hend hw rfl hf dX0_isPut_33
  refine lv_iload_n hx hb dX0_isPut_9 rfl (lv_at hl 1 rfl) ?_
  refine lv_iload_n hx hb dX0_isPut_10 rfl (lv_at hl 0 rfl) ?_
  refine lv_iconst (v := (2 : Int32)) hx hb dX0_isPut_11 (by decide) ?_
  refine jn_e hf (fun k4 ek hf => ?_)
  have hk4 : ∀ (x3 : Int32) (H : Heap) (locs : List Loc) (ls : Array Slot), lv_has ls 2 [] → fo_S E s st2 H locs → k4 x3 = some (rZ, stZ) → W p l e R s m args below meth c H locs 0 0 Q (F0 m 20 ls [.int x3, .int p2]) := by
    intro x3 H locs ls hl hw hf
    rw [ek] at hf
    refine lv_bipush (v := (9 : Int32)) hx hb dX0_isPut_20 (by decide) ?_
    refine fc_Si (rest := []) (As := [.int p2, .int x3, .int (9 : Int32)]) X hw hm_X0_in (lw_S q437 q438 q111 q439) ⟨rfl, rfl⟩ ⟨by rw [hRf]; exact Nat.le_of_ble_eq_true rfl, by rw [hRl]; exact Nat.le_of_ble_eq_true rfl⟩ rfl rfl hl.1 (Nat.le_of_ble_eq_true rfl) dX0_isPut_22 (fun rQ stQ hQ => wX0_in l E hX p2 x3 (9 : Int32) st2 rQ stQ hQ) hf (fun x5 st6 H locs hw hf => ?_)
    refine fb_zeq (tgt := 32) hx hb dX0_isPut_25 (by decide) hf (fun hf => ?_) (fun hf => ?_)
    · refine lv_iconst (v := (0 : Int32)) hx hb dX0_isPut_32 (by decide) ?_
      exact fd_z hend hw rfl hf dX0_isPut_33
    refine lv_iconst (v := (1 : Int32)) hx hb dX0_isPut_28 (by decide) ?_
    refine lv_goto (tgt := 33) hx hb dX0_isPut_29 (by decide) ?_
    exact fd_z hend hw rfl hf dX0_isPut_33
  clear ek
  refine fb_ine (tgt := 19) hx hb dX0_isPut_12 (by decide) hf (fun hf => ?_) (fun hf => ?_)
  · refine lv_iconst (v := (0 : Int32)) hx hb dX0_isPut_19 (by decide) ?_
    exact hk4 _ _ _ _ (lv_sub hl [] rfl) hw hf
  refine lv_iconst (v := (1 : Int32)) hx hb dX0_isPut_15 (by decide) ?_
  refine lv_goto (tgt := 20) hx hb dX0_isPut_16 (by decide) ?_
  exact hk4 _ _ _ _ (lv_sub hl [] rfl) hw hf

/-- ForestRooms.rowOf -/
def fX0_rowOf (p1 : Int32) (st0 : fo_St) : Option (Nat × fo_St) := if ¬ p1 = 0 then if ¬ p1 = (1 : Int32) then some (9, st0) else some (8, st0) else some (7, st0)
theorem hm_X0_rowOf : fo_M yX0_rowOf 1 := ⟨by decide +kernel, by decide +kernel, by decide +kernel, by decide +kernel⟩
set_option maxHeartbeats 4000000 in
theorem wX0_rowOf (l : Launch) (E : fo_E) (hX : fo_HX E) (p1 : Int32) (st0 : fo_St) (rZ : Nat) (stZ : fo_St) (hf : fX0_rowOf p1 st0 = some (rZ, stZ)) : CTr l E yX0_rowOf (ws_ yX0_rowOf cX0_rowOf 2 (some (.array .int))) ({ frames := 0, cells := 0, slots := 0, locals := 0 }) [.ref (eb E + 0), .int p1] st0 rZ stZ := by
  refine fe_r (Or.inr ⟨_, rfl⟩) hm_X0_rowOf (Nat.le_of_ble_eq_true rfl) (fun p e R s m args below meth c Q hRf hRl X hend ls hl hw => ?_)
  have hx := X.1.1
  have hb := X.1.2.1
  have hl : lv_has ls 2 [(0, .ref (eb E + 0)), (1, .int p1)] := hl
  unfold fX0_rowOf at hf
  generalize s.heap = H at hw ⊢
  generalize ([] : List Loc) = locs at hw ⊢
  refine lv_iload_n hx hb dX0_rowOf_0 rfl (lv_at hl 1 rfl) ?_
  refine fb_zne (tgt := 14) hx hb dX0_rowOf_1 (by decide) hf (fun hf => ?_) (fun hf => ?_)
  · refine lv_iload_n hx hb dX0_rowOf_14 rfl (lv_at hl 1 rfl) ?_
    refine lv_iconst (v := (1 : Int32)) hx hb dX0_rowOf_15 (by decide) ?_
    refine fb_ine (tgt := 29) hx hb dX0_rowOf_16 (by decide) hf (fun hf => ?_) (fun hf => ?_)
    · refine lv_aload_n hx hb dX0_rowOf_29 rfl (lv_at hl 0 rfl) ?_
      refine fo_gets X hw fc_X0 (hx0 hX) (k := 2) (d := 2) (n2 := 2) (by decide) rfl rfl q347 dX0_rowOf_30 ?_
      refine fo_getsN X hw fc_X1 (hx2 hX) (k := 3) (d := 7) (n2 := 9) (by decide) rfl rfl fn221 dX0_rowOf_33 ?_
      exact fd_r hend hw hf dX0_rowOf_36
    refine lv_aload_n hx hb dX0_rowOf_19 rfl (lv_at hl 0 rfl) ?_
    refine fo_gets X hw fc_X0 (hx0 hX) (k := 2) (d := 2) (n2 := 2) (by decide) rfl rfl q347 dX0_rowOf_20 ?_
    refine fo_getsN X hw fc_X1 (hx2 hX) (k := 2) (d := 6) (n2 := 8) (by decide) rfl rfl fn219 dX0_rowOf_23 ?_
    refine lv_goto (tgt := 36) hx hb dX0_rowOf_26 (by decide) ?_
    exact fd_r hend hw hf dX0_rowOf_36
  refine lv_aload_n hx hb dX0_rowOf_4 rfl (lv_at hl 0 rfl) ?_
  refine fo_gets X hw fc_X0 (hx0 hX) (k := 2) (d := 2) (n2 := 2) (by decide) rfl rfl q347 dX0_rowOf_5 ?_
  refine fo_getsN X hw fc_X1 (hx2 hX) (k := 1) (d := 5) (n2 := 7) (by decide) rfl rfl fn217 dX0_rowOf_8 ?_
  refine lv_goto (tgt := 36) hx hb dX0_rowOf_11 (by decide) ?_
  exact fd_r hend hw hf dX0_rowOf_36

/-- ForestRooms.put -/
def fX0_put (p1 : Int32) (p2 : Int32) (p3 : Int32) (st0 : fo_St) : Option (Int32 × fo_St) := bd_ (fX0_isRoom p1 st0) (fun x1 st2 => if x1 = 0 then bd_ (fX0_refuse (-1 : Int32) st2) (fun x3 st4 => some (x3, st4)) else bd_ (fX0_isPut p2 p3 st2) (fun x5 st6 => if ¬ x5 = 0 then bd_ (fX0_rowOf p2 st6) (fun x7 st8 => ck_ (decide (x7 = 7 ∨ x7 = 8 ∨ x7 = 9)) (ck_ (fo_in p1 16) (lI_ (gi_ st8 x7 p1.toNatClampNeg) (fun x10 => bd_ (fX0_rowOf p2 st8) (fun x11 st12 => ck_ (decide (x11 = 7 ∨ x11 = 8 ∨ x11 = 9)) (ck_ (fo_in p1 16) (lt_ (si_ st12 x11 p1.toNatClampNeg p3) (fun st14 => bd_ (fX0_settled x10 st14) (fun x15 st16 => some (x15, st16)))))))))) else bd_ (fX0_refuse (-1 : Int32) st6) (fun x17 st18 => some (x17, st18))))
theorem hm_X0_put : fo_M yX0_put 3 := ⟨by decide +kernel, by decide +kernel, by decide +kernel, by decide +kernel⟩
set_option maxHeartbeats 4000000 in
theorem wX0_put (l : Launch) (E : fo_E) (hX : fo_HX E) (p1 : Int32) (p2 : Int32) (p3 : Int32) (st0 : fo_St) (rZ : Int32) (stZ : fo_St) (hf : fX0_put p1 p2 p3 st0 = some (rZ, stZ)) : CTi l E yX0_put (ws_ yX0_put cX0_put 5 (some .int)) ({ frames := 2, cells := 0, slots := 0, locals := 43 }) [.ref (eb E + 0), .int p1, .int p2, .int p3] st0 rZ stZ := by
  refine fe_i hm_X0_put (Nat.le_of_ble_eq_true rfl) (fun p e R s m args below meth c Q hRf hRl X hend ls hl hw => ?_)
  have hx := X.1.1
  have hb := X.1.2.1
  have hl : lv_has ls 5 [(0, .ref (eb E + 0)), (1, .int p1), (2, .int p2), (3, .int p3)] := hl
  unfold fX0_put at hf
  generalize s.heap = H at hw ⊢
  generalize ([] : List Loc) = locs at hw ⊢
  refine lv_iload_n hx hb dX0_put_0 rfl (lv_at hl 1 rfl) ?_
  refine fc_Si (rest := []) (As := [.int p1]) X hw hm_X0_isRoom (lw_S q546 q547 q111 q548) ⟨rfl, rfl⟩ ⟨by rw [hRf]; exact Nat.le_of_ble_eq_true rfl, by rw [hRl]; exact Nat.le_of_ble_eq_true rfl⟩ rfl rfl hl.1 (Nat.le_of_ble_eq_true rfl) dX0_put_1 (fun rQ stQ hQ => wX0_isRoom l E hX p1 st0 rQ stQ hQ) hf (fun x1 st2 H locs hw hf => ?_)
  refine fb_zeq (tgt := 15) hx hb dX0_put_4 (by decide) hf (fun hf => ?_) (fun hf => ?_)
  · refine lv_aload_n hx hb dX0_put_15 rfl (lv_at hl 0 rfl) ?_
    refine lv_iconst (v := (-1 : Int32)) hx hb dX0_put_16 (by decide) ?_
    refine fc_Vi (rest := []) (As := [.int (-1 : Int32)]) X hw hm_X0_refuse (lw_V q440 q442 qs1 q111 q443) ⟨rfl, rfl⟩ ⟨by rw [hRf]; exact Nat.le_of_ble_eq_true rfl, by rw [hRl]; exact Nat.le_of_ble_eq_true rfl⟩ fc_X0 rfl (hx0 hX) rfl rfl hl.1 (Nat.le_of_ble_eq_true rfl) dX0_put_17 (fun rQ stQ hQ => wX0_refuse l E hX (-1 : Int32) st2 rQ stQ hQ) hf (fun x3 st4 H locs hw hf => ?_)
    exact fd_i hend hw hf dX0_put_20
  refine lv_iload_n hx hb dX0_put_7 rfl (lv_at hl 2 rfl) ?_
  refine lv_iload_n hx hb dX0_put_8 rfl (lv_at hl 3 rfl) ?_
  refine fc_Si (rest := []) (As := [.int p2, .int p3]) X hw hm_X0_isPut (lw_S q549 q550 q111 q551) ⟨rfl, rfl⟩ ⟨by rw [hRf]; exact Nat.le_of_ble_eq_true rfl, by rw [hRl]; exact Nat.le_of_ble_eq_true rfl⟩ rfl rfl hl.1 (Nat.le_of_ble_eq_true rfl) dX0_put_9 (fun rQ stQ hQ => wX0_isPut l E hX p2 p3 st2 rQ stQ hQ) hf (fun x5 st6 H locs hw hf => ?_)
  refine fb_zne (tgt := 21) hx hb dX0_put_12 (by decide) hf (fun hf => ?_) (fun hf => ?_)
  · refine lv_aload_n hx hb dX0_put_21 rfl (lv_at hl 0 rfl) ?_
    refine lv_iload_n hx hb dX0_put_22 rfl (lv_at hl 2 rfl) ?_
    refine fc_Vr (rest := []) (As := [.int p2]) X hw hm_X0_rowOf (lw_V q552 q554 qs5 q111 q555) ⟨rfl, rfl⟩ ⟨by rw [hRf]; exact Nat.le_of_ble_eq_true rfl, by rw [hRl]; exact Nat.le_of_ble_eq_true rfl⟩ fc_X0 rfl (hx0 hX) rfl rfl hl.1 (Nat.le_of_ble_eq_true rfl) dX0_put_23 (fun rQ stQ hQ => wX0_rowOf l E hX p2 st6 rQ stQ hQ) hf (fun x7 st8 H locs hw hf => ?_)
    obtain ⟨hc, hf⟩ := ck_e hf
    have hc := of_decide_eq_true hc
    have hq9 : et E x7 = (2, 16) := by rcases hc with rfl | rfl | rfl <;> first | exact hx7 hX | exact hx8 hX | exact hx9 hX
    refine lv_iload_n hx hb dX0_put_26 rfl (lv_at hl 1 rfl) ?_
    refine fo_iald X hw hq9 dX0_put_27 hf (fun hf => ?_)
    refine fo_tI hf (fun x10 hf => ?_)
    refine lv_istore (lv' := [(4, .int x10), (0, .ref (eb E + 0)), (1, .int p1), (2, .int p2), (3, .int p3)]) hx hb dX0_put_28 hl (by decide) rfl (fun ls hl => ?_)
    refine lv_aload_n hx hb dX0_put_30 rfl (lv_at hl 1 rfl) ?_
    refine lv_iload_n hx hb dX0_put_31 rfl (lv_at hl 3 rfl) ?_
    refine fc_Vr (rest := []) (As := [.int p2]) X hw hm_X0_rowOf (lw_V q552 q554 qs5 q111 q555) ⟨rfl, rfl⟩ ⟨by rw [hRf]; exact Nat.le_of_ble_eq_true rfl, by rw [hRl]; exact Nat.le_of_ble_eq_true rfl⟩ fc_X0 rfl (hx0 hX) rfl rfl hl.1 (Nat.le_of_ble_eq_true rfl) dX0_put_32 (fun rQ stQ hQ => wX0_rowOf l E hX p2 st8 rQ stQ hQ) hf (fun x11 st12 H locs hw hf => ?_)
    obtain ⟨hc, hf⟩ := ck_e hf
    have hc := of_decide_eq_true hc
    have hq13 : et E x11 = (2, 16) := by rcases hc with rfl | rfl | rfl <;> first | exact hx7 hX | exact hx8 hX | exact hx9 hX
    refine lv_iload_n hx hb dX0_put_35 rfl (lv_at hl 2 rfl) ?_
    refine lv_iload_n hx hb dX0_put_36 rfl (lv_at hl 4 rfl) ?_
    refine fo_iast X hw hq13 dX0_put_37 hf (fun st14 H locs hw hf => ?_)
    refine lv_aload_n hx hb dX0_put_38 rfl (lv_at hl 1 rfl) ?_
    refine lv_iload hx hb dX0_put_39 (lv_at hl 0 rfl) ?_
    refine fc_Vi (rest := []) (As := [.int x10]) X hw hm_X0_settled (lw_V q538 q540 qs4 q111 q541) ⟨rfl, rfl⟩ ⟨by rw [hRf]; exact Nat.le_of_ble_eq_true rfl, by rw [hRl]; exact Nat.le_of_ble_eq_true rfl⟩ fc_X0 rfl (hx0 hX) rfl rfl hl.1 (Nat.le_of_ble_eq_true rfl) dX0_put_41 (fun rQ stQ hQ => wX0_settled l E hX x10 st14 rQ stQ hQ) hf (fun x15 st16 H locs hw hf => ?_)
    exact fd_i hend hw hf dX0_put_44
  refine lv_aload_n hx hb dX0_put_15 rfl (lv_at hl 0 rfl) ?_
  refine lv_iconst (v := (-1 : Int32)) hx hb dX0_put_16 (by decide) ?_
  refine fc_Vi (rest := []) (As := [.int (-1 : Int32)]) X hw hm_X0_refuse (lw_V q440 q442 qs1 q111 q443) ⟨rfl, rfl⟩ ⟨by rw [hRf]; exact Nat.le_of_ble_eq_true rfl, by rw [hRl]; exact Nat.le_of_ble_eq_true rfl⟩ fc_X0 rfl (hx0 hX) rfl rfl hl.1 (Nat.le_of_ble_eq_true rfl) dX0_put_17 (fun rQ stQ hQ => wX0_refuse l E hX (-1 : Int32) st6 rQ stQ hQ) hf (fun x17 st18 H locs hw hf => ?_)
  exact fd_i hend hw hf dX0_put_20

/-- ForestRooms.table -/
def fX0_table (st0 : fo_St) : Option (Nat × fo_St) := some (3, st0)
theorem hm_X0_table : fo_M yX0_table 0 := ⟨by decide +kernel, by decide +kernel, by decide +kernel, by decide +kernel⟩
set_option maxHeartbeats 4000000 in
theorem wX0_table (l : Launch) (E : fo_E) (hX : fo_HX E) (st0 : fo_St) (rZ : Nat) (stZ : fo_St) (hf : fX0_table st0 = some (rZ, stZ)) : CTr l E yX0_table (ws_ yX0_table cX0_table 1 (some (.object "ForestRooms$Table"))) ({ frames := 0, cells := 0, slots := 0, locals := 0 }) [.ref (eb E + 0)] st0 rZ stZ := by
  refine fe_r (Or.inl ⟨_, rfl⟩) hm_X0_table (Nat.le_of_ble_eq_true rfl) (fun p e R s m args below meth c Q hRf hRl X hend ls hl hw => ?_)
  have hx := X.1.1
  have hb := X.1.2.1
  have hl : lv_has ls 1 [(0, .ref (eb E + 0))] := hl
  unfold fX0_table at hf
  generalize s.heap = H at hw ⊢
  generalize ([] : List Loc) = locs at hw ⊢
  refine lv_aload_n hx hb dX0_table_0 rfl (lv_at hl 0 rfl) ?_
  refine fo_gets X hw fc_X0 (hx0 hX) (k := 2) (d := 2) (n2 := 2) (by decide) rfl rfl q347 dX0_table_1 ?_
  refine fo_getsN X hw fc_X1 (hx2 hX) (k := 0) (d := 1) (n2 := 3) (by decide) rfl rfl fn215 dX0_table_4 ?_
  exact fd_r hend hw hf dX0_table_7

/-- ForestRooms$State.isLost -/
def fX1_isLost (p1 : Nat) (p2 : Int32) (st0 : fo_St) : Option (Int32 × fo_St) := ck_ (fo_in p2 16) (ck_ (fo_in p2 16) (if (gi_ st0 (p1 + 2) p2.toNatClampNeg) ≤ ((10 : Int32) * (gi_ st0 9 p2.toNatClampNeg)) then some ((0 : Int32), st0) else some ((1 : Int32), st0)))
theorem hm_X1_isLost : fo_M yX1_isLost 2 := ⟨by decide +kernel, by decide +kernel, by decide +kernel, by decide +kernel⟩
set_option maxHeartbeats 4000000 in
theorem wX1_isLost (l : Launch) (E : fo_E) (hX : fo_HX E) (p1 : Nat) (p2 : Int32) (hT_p1 : fo_tab E p1) (st0 : fo_St) (rZ : Int32) (stZ : fo_St) (hf : fX1_isLost p1 p2 st0 = some (rZ, stZ)) : CTi l E yX1_isLost (ws_ yX1_isLost cX1_isLost 3 (some .boolean)) ({ frames := 0, cells := 0, slots := 0, locals := 0 }) [.ref (eb E + 2), .ref (eb E + p1), .int p2] st0 rZ stZ := by
  refine fe_z hm_X1_isLost (Nat.le_of_ble_eq_true rfl) (fun p e R s m args below meth c Q hRf hRl X hend ls hl hw => ?_)
  have hx := X.1.1
  have hb := X.1.2.1
  have hl : lv_has ls 3 [(0, .ref (eb E + 2)), (1, .ref (eb E + p1)), (2, .int p2)] := hl
  unfold fX1_isLost at hf
  generalize s.heap = H at hw ⊢
  generalize ([] : List Loc) = locs at hw ⊢
  refine lv_aload_n hx hb dX1_isLost_0 rfl (lv_at hl 1 rfl) ?_
  refine fo_getsN X hw fc_X2 hT_p1.1 (k := 1) (d := 2) (n2 := (p1 + 2)) (by decide) rfl rfl fn170 dX1_isLost_1 ?_
  refine lv_iload_n hx hb dX1_isLost_4 rfl (lv_at hl 2 rfl) ?_
  refine fo_iald X hw hT_p1.2.2.1 dX1_isLost_5 hf (fun hf => ?_)
  refine lv_bipush (v := (10 : Int32)) hx hb dX1_isLost_6 (by decide) ?_
  refine lv_aload_n hx hb dX1_isLost_8 rfl (lv_at hl 0 rfl) ?_
  refine fo_gets X hw fc_X1 (hx2 hX) (k := 3) (d := 7) (n2 := 9) (by decide) rfl rfl q220 dX1_isLost_9 ?_
  refine lv_iload_n hx hb dX1_isLost_12 rfl (lv_at hl 2 rfl) ?_
  refine fo_iald X hw (hx9 hX) dX1_isLost_13 hf (fun hf => ?_)
  refine lv_imul hx hb dX1_isLost_14 ?_
  refine fb_ile (tgt := 22) hx hb dX1_isLost_15 (by decide) hf (fun hf => ?_) (fun hf => ?_)
  · refine lv_iconst (v := (0 : Int32)) hx hb dX1_isLost_22 (by decide) ?_
    exact fd_z hend hw rfl hf dX1_isLost_23
  refine lv_iconst (v := (1 : Int32)) hx hb dX1_isLost_18 (by decide) ?_
  refine lv_goto (tgt := 23) hx hb dX1_isLost_19 (by decide) ?_
  exact fd_z hend hw rfl hf dX1_isLost_23

/-- ForestRooms$Table.isTree -/
def fX2_isTree (t : Nat) (p1 : Int32) (st0 : fo_St) : Option (Int32 × fo_St) := ck_ (fo_in p1 16) (if (gi_ st0 (t + 1) p1.toNatClampNeg) = (-1 : Int32) then some ((0 : Int32), st0) else some ((1 : Int32), st0))
theorem hm_X2_isTree : fo_M yX2_isTree 1 := ⟨by decide +kernel, by decide +kernel, by decide +kernel, by decide +kernel⟩
set_option maxHeartbeats 4000000 in
theorem wX2_isTree (l : Launch) (E : fo_E) (t : Nat) (p1 : Int32) (hT_t : fo_tab E t) (st0 : fo_St) (rZ : Int32) (stZ : fo_St) (hf : fX2_isTree t p1 st0 = some (rZ, stZ)) : CTi l E yX2_isTree (ws_ yX2_isTree cX2_isTree 2 (some .boolean)) ({ frames := 0, cells := 0, slots := 0, locals := 0 }) [.ref (eb E + t), .int p1] st0 rZ stZ := by
  refine fe_z hm_X2_isTree (Nat.le_of_ble_eq_true rfl) (fun p e R s m args below meth c Q hRf hRl X hend ls hl hw => ?_)
  have hx := X.1.1
  have hb := X.1.2.1
  have hl : lv_has ls 2 [(0, .ref (eb E + t)), (1, .int p1)] := hl
  unfold fX2_isTree at hf
  generalize s.heap = H at hw ⊢
  generalize ([] : List Loc) = locs at hw ⊢
  refine lv_aload_n hx hb dX2_isTree_0 rfl (lv_at hl 0 rfl) ?_
  refine fo_gets X hw fc_X2 hT_t.1 (k := 0) (d := 1) (n2 := (t + 1)) (by decide) rfl rfl q167 dX2_isTree_1 ?_
  refine lv_iload_n hx hb dX2_isTree_4 rfl (lv_at hl 1 rfl) ?_
  refine fo_iald X hw hT_t.2.1 dX2_isTree_5 hf (fun hf => ?_)
  refine lv_iconst (v := (-1 : Int32)) hx hb dX2_isTree_6 (by decide) ?_
  refine fb_ieq (tgt := 14) hx hb dX2_isTree_7 (by decide) hf (fun hf => ?_) (fun hf => ?_)
  · refine lv_iconst (v := (0 : Int32)) hx hb dX2_isTree_14 (by decide) ?_
    exact fd_z hend hw rfl hf dX2_isTree_15
  refine lv_iconst (v := (1 : Int32)) hx hb dX2_isTree_10 (by decide) ?_
  refine lv_goto (tgt := 15) hx hb dX2_isTree_11 (by decide) ?_
  exact fd_z hend hw rfl hf dX2_isTree_15

/-- ForestRooms.term -/
def fX0_term (p1 : Int32) (st0 : fo_St) : Option (Int32 × fo_St) := ck_ (fo_in p1 5) (some ((gi_ st0 13 p1.toNatClampNeg), st0))
theorem hm_X0_term : fo_M yX0_term 1 := ⟨by decide +kernel, by decide +kernel, by decide +kernel, by decide +kernel⟩
set_option maxHeartbeats 4000000 in
theorem wX0_term (l : Launch) (E : fo_E) (hX : fo_HX E) (p1 : Int32) (st0 : fo_St) (rZ : Int32) (stZ : fo_St) (hf : fX0_term p1 st0 = some (rZ, stZ)) : CTi l E yX0_term (ws_ yX0_term cX0_term 2 (some .int)) ({ frames := 0, cells := 0, slots := 0, locals := 0 }) [.ref (eb E + 0), .int p1] st0 rZ stZ := by
  refine fe_i hm_X0_term (Nat.le_of_ble_eq_true rfl) (fun p e R s m args below meth c Q hRf hRl X hend ls hl hw => ?_)
  have hx := X.1.1
  have hb := X.1.2.1
  have hl : lv_has ls 2 [(0, .ref (eb E + 0)), (1, .int p1)] := hl
  unfold fX0_term at hf
  generalize s.heap = H at hw ⊢
  generalize ([] : List Loc) = locs at hw ⊢
  refine lv_aload_n hx hb dX0_term_0 rfl (lv_at hl 0 rfl) ?_
  refine fo_gets X hw fc_X0 (hx0 hX) (k := 2) (d := 2) (n2 := 2) (by decide) rfl rfl q347 dX0_term_1 ?_
  refine fo_getsN X hw fc_X1 (hx2 hX) (k := 7) (d := 11) (n2 := 13) (by decide) rfl rfl fn229 dX0_term_4 ?_
  refine lv_iload_n hx hb dX0_term_7 rfl (lv_at hl 1 rfl) ?_
  refine fo_iald X hw (hx13 hX) dX0_term_8 hf (fun hf => ?_)
  exact fd_i hend hw hf dX0_term_9

/-- ForestRooms$Number.of -/
def fX11_of (o : Nat) (st0 : fo_St) : Option ((Int64 ⊕ Nat) × fo_St) := some (.inl (gi_ st0 o 0).toInt64, st0)
theorem hm_X11_of : fo_M yX11_of 1 := ⟨by decide +kernel, by decide +kernel, by decide +kernel, by decide +kernel⟩
set_option maxHeartbeats 4000000 in
theorem wX11_of (l : Launch) (E : fo_E) (hX : fo_HX E) (d : Nat) (o : Nat) (hO : et E o = (1, 9)) (st0 : fo_St) (rZ : Int64 ⊕ Nat) (stZ : fo_St) (hf : fX11_of o st0 = some (rZ, stZ)) : CXl l E yX11_of (ws_ yX11_of cX11_of 2 (some .long)) (fo_rm (d + 1)) [.ref (eb E + o), .ref (eb E + 30)] st0 rZ stZ := by
  refine fex_l hm_X11_of (Nat.le_of_ble_eq_true rfl) (fun p e R s m args below meth c Q hRf hRl X hend hxx ls hl hw => ?_)
  have hx := X.1.1
  have hb := X.1.2.1
  have hl : lv_has ls 2 [(0, .ref (eb E + o)), (1, .ref (eb E + 30))] := hl
  unfold fX11_of at hf
  generalize s.heap = H at hw ⊢
  generalize ([] : List Loc) = locs at hw ⊢
  refine lv_aload_n hx hb dX11_of_0 rfl (lv_at hl 0 rfl) ?_
  refine fo_geti X hw fc_X11 hO (k := 0) (by decide) rfl q946 dX11_of_1 ?_
  refine lv_i2l (v := (gi_ st0 o 0).toInt64) hx hb dX11_of_4 rfl ?_
  exact fdx_l hend hw hf dX11_of_5

/-- ForestRooms$Value.of -/
def fX12_of (o : Nat) (st0 : fo_St) : Option ((Int64 ⊕ Nat) × fo_St) := ck_ (fo_in (gi_ st0 o 0) 52) (some (.inl (gl_ st0 32 (gi_ st0 o 0).toNatClampNeg), st0))
theorem hm_X12_of : fo_M yX12_of 1 := ⟨by decide +kernel, by decide +kernel, by decide +kernel, by decide +kernel⟩
set_option maxHeartbeats 4000000 in
theorem wX12_of (l : Launch) (E : fo_E) (hX : fo_HX E) (d : Nat) (o : Nat) (hO : et E o = (1, 10)) (st0 : fo_St) (rZ : Int64 ⊕ Nat) (stZ : fo_St) (hf : fX12_of o st0 = some (rZ, stZ)) : CXl l E yX12_of (ws_ yX12_of cX12_of 2 (some .long)) (fo_rm (d + 1)) [.ref (eb E + o), .ref (eb E + 30)] st0 rZ stZ := by
  refine fex_l hm_X12_of (Nat.le_of_ble_eq_true rfl) (fun p e R s m args below meth c Q hRf hRl X hend hxx ls hl hw => ?_)
  have hx := X.1.1
  have hb := X.1.2.1
  have hl : lv_has ls 2 [(0, .ref (eb E + o)), (1, .ref (eb E + 30))] := hl
  unfold fX12_of at hf
  generalize s.heap = H at hw ⊢
  generalize ([] : List Loc) = locs at hw ⊢
  refine lv_aload_n hx hb dX12_of_0 rfl (lv_at hl 1 rfl) ?_
  refine fo_getsN X hw fc_X3 (hx30 hX) (k := 1) (d := 2) (n2 := 32) (by decide) rfl rfl fn337 dX12_of_1 ?_
  refine lv_aload_n hx hb dX12_of_4 rfl (lv_at hl 0 rfl) ?_
  refine fo_geti X hw fc_X12 hO (k := 0) (by decide) rfl q996 dX12_of_5 ?_
  refine fo_lald X hw (hx32 hX) dX12_of_8 hf (fun hf => ?_)
  exact fdx_l hend hw hf dX12_of_9

/-- ForestRooms$Two.of -/
def fX13_of (recS : Nat → fo_St → Option ((Int64 ⊕ Nat) × fo_St)) (o : Nat) (st0 : fo_St) : Option ((Int64 ⊕ Nat) × fo_St) := rn_ (gr_ st0 o 1) (fun q1 => bx_ (recS q1 st0) (fun x2 st3 => rn_ (gr_ st3 o 2) (fun q4 => bx_ (recS q4 st3) (fun x5 st6 => if (gi_ st6 o 0) = (47 : Int32) then if ¬ x5 = (0 : Int64) then jn_ (fun (x7 : Int64) => if (1000000000 : Int64) < x7 then some (.inr 31, st6) else if (-1000000000 : Int64) ≤ x7 then some (.inl x7, st6) else some (.inr 31, st6)) (fun k8 => if ¬ (gi_ st6 o 0) = (43 : Int32) then if ¬ (gi_ st6 o 0) = (45 : Int32) then if ¬ (gi_ st6 o 0) = (42 : Int32) then if ¬ (gi_ st6 o 0) = (47 : Int32) then ck_ (decide (¬ x5 = 0)) (k8 (lrem_ x2 x5)) else ck_ (decide (¬ x5 = 0)) (k8 (x2 / x5)) else k8 (x2 * x5) else k8 (x2 - x5) else k8 (x2 + x5)) else some (.inr 31, st6) else if ¬ (gi_ st6 o 0) = (37 : Int32) then jn_ (fun (x9 : Int64) => if (1000000000 : Int64) < x9 then some (.inr 31, st6) else if (-1000000000 : Int64) ≤ x9 then some (.inl x9, st6) else some (.inr 31, st6)) (fun k10 => if ¬ (gi_ st6 o 0) = (43 : Int32) then if ¬ (gi_ st6 o 0) = (45 : Int32) then if ¬ (gi_ st6 o 0) = (42 : Int32) then if ¬ (gi_ st6 o 0) = (47 : Int32) then ck_ (decide (¬ x5 = 0)) (k10 (lrem_ x2 x5)) else ck_ (decide (¬ x5 = 0)) (k10 (x2 / x5)) else k10 (x2 * x5) else k10 (x2 - x5) else k10 (x2 + x5)) else if ¬ x5 = (0 : Int64) then jn_ (fun (x11 : Int64) => if (1000000000 : Int64) < x11 then some (.inr 31, st6) else if (-1000000000 : Int64) ≤ x11 then some (.inl x11, st6) else some (.inr 31, st6)) (fun k12 => if ¬ (gi_ st6 o 0) = (43 : Int32) then if ¬ (gi_ st6 o 0) = (45 : Int32) then if ¬ (gi_ st6 o 0) = (42 : Int32) then if ¬ (gi_ st6 o 0) = (47 : Int32) then ck_ (decide (¬ x5 = 0)) (k12 (lrem_ x2 x5)) else ck_ (decide (¬ x5 = 0)) (k12 (x2 / x5)) else k12 (x2 * x5) else k12 (x2 - x5) else k12 (x2 + x5)) else some (.inr 31, st6)) (fun nX stX => some (.inr nX, stX)))) (fun nX stX => some (.inr nX, stX)))
theorem hm_X13_of : fo_M yX13_of 1 := ⟨by decide +kernel, by decide +kernel, by decide +kernel, by decide +kernel⟩
set_option maxHeartbeats 4000000 in
theorem wX13_of (l : Launch) (E : fo_E) (hX : fo_HX E) (d : Nat) (recS : Nat → fo_St → Option ((Int64 ⊕ Nat) × fo_St)) (hrecS : ∀ (q : Nat) (st : fo_St) (ρ : Int64 ⊕ Nat) (st1 : fo_St), recS q st = some (ρ, st1) → DSl l E d q st ρ st1) (o : Nat) (hO : et E o = (1, 11)) (st0 : fo_St) (rZ : Int64 ⊕ Nat) (stZ : fo_St) (hf : fX13_of recS o st0 = some (rZ, stZ)) : CXl l E yX13_of (ws_ yX13_of cX13_of 8 (some .long)) (fo_rm (d + 1)) [.ref (eb E + o), .ref (eb E + 30)] st0 rZ stZ := by
  refine fex_l hm_X13_of (Nat.le_of_ble_eq_true rfl) (fun p e R s m args below meth c Q hRf hRl X hend hxx ls hl hw => ?_)
  have hx := X.1.1
  have hb := X.1.2.1
  have hl : lv_has ls 8 [(0, .ref (eb E + o)), (1, .ref (eb E + 30))] := hl
  unfold fX13_of at hf
  generalize s.heap = H at hw ⊢
  generalize ([] : List Loc) = locs at hw ⊢
  refine lv_aload_n hx hb dX13_of_0 rfl (lv_at hl 0 rfl) ?_
  refine fo_getr X hw fc_X13 hO (k := 1) (by decide) rfl q1010 dX13_of_1 hf (fun q1 hf => ?_)
  refine lv_aload_n hx hb dX13_of_4 rfl (lv_at hl 1 rfl) ?_
  refine fc_sum (d := d) X hw q632 ⟨by rw [hRf]; exact Nat.le_refl _, by rw [hRl]; omega⟩ hl.1 (Nat.le_of_ble_eq_true rfl) dX13_of_5 (fun rQ stQ hQ => hrecS _ _ _ _ hQ) hf (fun nX EX stX H locs hT hw hf => ?_) (fun x2 st3 H locs hw hf => ?_)
  · exact fdx_x hxx hT hw hf
  refine lv_lstore_n (lv' := [(2, .long x2), (0, .ref (eb E + o)), (1, .ref (eb E + 30))]) hx hb dX13_of_8 rfl hl (by decide) rfl (fun ls hl => ?_)
  refine lv_aload_n hx hb dX13_of_9 rfl (lv_at hl 1 rfl) ?_
  refine fo_getr X hw fc_X13 hO (k := 2) (by decide) rfl q1011 dX13_of_10 hf (fun q4 hf => ?_)
  refine lv_aload_n hx hb dX13_of_13 rfl (lv_at hl 2 rfl) ?_
  refine fc_sum (d := d) X hw q632 ⟨by rw [hRf]; exact Nat.le_refl _, by rw [hRl]; omega⟩ hl.1 (Nat.le_of_ble_eq_true rfl) dX13_of_14 (fun rQ stQ hQ => hrecS _ _ _ _ hQ) hf (fun nX EX stX H locs hT hw hf => ?_) (fun x5 st6 H locs hw hf => ?_)
  · exact fdx_x hxx hT hw hf
  refine lv_lstore (lv' := [(4, .long x5), (2, .long x2), (0, .ref (eb E + o)), (1, .ref (eb E + 30))]) hx hb dX13_of_17 hl (by decide) rfl (fun ls hl => ?_)
  refine lv_aload_n hx hb dX13_of_19 rfl (lv_at hl 2 rfl) ?_
  refine fo_geti X hw fc_X13 hO (k := 0) (by decide) rfl q1009 dX13_of_20 ?_
  refine lv_bipush (v := (47 : Int32)) hx hb dX13_of_23 (by decide) ?_
  refine fb_ieq (tgt := 37) hx hb dX13_of_25 (by decide) hf (fun hf => ?_) (fun hf => ?_)
  · refine lv_lload hx hb dX13_of_37 (lv_at hl 0 rfl) ?_
    refine lv_lconst (v := (0 : Int64)) hx hb dX13_of_39 rfl ?_
    refine fb_lne (tgt := 49) hx hb dX13_of_40 dX13_of_41 (by decide) hf (fun hf => ?_) (fun hf => ?_)
    · refine lv_aload_n hx hb dX13_of_49 rfl (lv_at hl 2 rfl) ?_
      refine fo_geti X hw fc_X13 hO (k := 0) (by decide) rfl q1009 dX13_of_50 ?_
      refine lv_bipush (v := (43 : Int32)) hx hb dX13_of_53 (by decide) ?_
      refine jn_e hf (fun k8 ek hf => ?_)
      have hk8 : ∀ (x7 : Int64) (H : Heap) (locs : List Loc) (ls : Array Slot), lv_has ls 8 [(1, .ref (eb E + 30))] → fo_S E s st6 H locs → k8 x7 = some (rZ, stZ) → W p l e R s m args below meth c H locs 0 0 Q (F0 m 117 ls [.long x7]) := by
        intro x7 H locs ls hl hw hf
        rw [ek] at hf
        refine lv_lstore (lv' := [(6, .long x7), (1, .ref (eb E + 30))]) hx hb dX13_of_117 hl (by decide) rfl (fun ls hl => ?_)
        refine lv_lload hx hb dX13_of_119 (lv_at hl 0 rfl) ?_
        refine lv_ldc2 (v := (1000000000 : Int64)) hx hb X.1.2.2.2.1 (X.1.2.2.2.2 _ q635) dX13_of_121 ?_
        refine fb_lgt (tgt := 137) hx hb dX13_of_124 dX13_of_125 (by decide) hf (fun hf => ?_) (fun hf => ?_)
        · refine lv_aload_n hx hb dX13_of_137 rfl (lv_at hl 1 rfl) ?_
          refine fo_getsN X hw fc_X3 (hx30 hX) (k := 0) (d := 1) (n2 := 31) (by decide) rfl rfl fn335 dX13_of_138 ?_
          exact fx_athrow hx hb dX13_of_141 (fdx_x hxx ⟨4, _, hx31 hX, fc_X4.1, rfl⟩ hw hf)
        refine lv_lload hx hb dX13_of_128 (lv_at hl 0 rfl) ?_
        refine lv_ldc2 (v := (-1000000000 : Int64)) hx hb X.1.2.2.2.1 (X.1.2.2.2.2 _ q636) dX13_of_130 ?_
        refine fb_lge (tgt := 142) hx hb dX13_of_133 dX13_of_134 (by decide) hf (fun hf => ?_) (fun hf => ?_)
        · refine lv_lload hx hb dX13_of_142 (lv_at hl 0 rfl) ?_
          exact fdx_l hend hw hf dX13_of_144
        refine lv_aload_n hx hb dX13_of_137 rfl (lv_at hl 1 rfl) ?_
        refine fo_getsN X hw fc_X3 (hx30 hX) (k := 0) (d := 1) (n2 := 31) (by decide) rfl rfl fn335 dX13_of_138 ?_
        exact fx_athrow hx hb dX13_of_141 (fdx_x hxx ⟨4, _, hx31 hX, fc_X4.1, rfl⟩ hw hf)
      clear ek
      refine fb_ine (tgt := 65) hx hb dX13_of_55 (by decide) hf (fun hf => ?_) (fun hf => ?_)
      · refine lv_aload_n hx hb dX13_of_65 rfl (lv_at hl 2 rfl) ?_
        refine fo_geti X hw fc_X13 hO (k := 0) (by decide) rfl q1009 dX13_of_66 ?_
        refine lv_bipush (v := (45 : Int32)) hx hb dX13_of_69 (by decide) ?_
        refine fb_ine (tgt := 81) hx hb dX13_of_71 (by decide) hf (fun hf => ?_) (fun hf => ?_)
        · refine lv_aload_n hx hb dX13_of_81 rfl (lv_at hl 2 rfl) ?_
          refine fo_geti X hw fc_X13 hO (k := 0) (by decide) rfl q1009 dX13_of_82 ?_
          refine lv_bipush (v := (42 : Int32)) hx hb dX13_of_85 (by decide) ?_
          refine fb_ine (tgt := 97) hx hb dX13_of_87 (by decide) hf (fun hf => ?_) (fun hf => ?_)
          · refine lv_aload_n hx hb dX13_of_97 rfl (lv_at hl 2 rfl) ?_
            refine fo_geti X hw fc_X13 hO (k := 0) (by decide) rfl q1009 dX13_of_98 ?_
            refine lv_bipush (v := (47 : Int32)) hx hb dX13_of_101 (by decide) ?_
            refine fb_ine (tgt := 113) hx hb dX13_of_103 (by decide) hf (fun hf => ?_) (fun hf => ?_)
            · refine lv_lload_n hx hb dX13_of_113 rfl (lv_at hl 1 rfl) ?_
              refine lv_lload hx hb dX13_of_114 (lv_at hl 0 rfl) ?_
              refine fb_lremC hx hb dX13_of_116 hf (fun hf => ?_)
              exact hk8 _ _ _ _ (lv_sub hl [3] rfl) hw hf
            refine lv_lload_n hx hb dX13_of_106 rfl (lv_at hl 1 rfl) ?_
            refine lv_lload hx hb dX13_of_107 (lv_at hl 0 rfl) ?_
            refine fb_ldivC hx hb dX13_of_109 hf (fun hf => ?_)
            refine lv_goto (tgt := 117) hx hb dX13_of_110 (by decide) ?_
            exact hk8 _ _ _ _ (lv_sub hl [3] rfl) hw hf
          refine lv_lload_n hx hb dX13_of_90 rfl (lv_at hl 1 rfl) ?_
          refine lv_lload hx hb dX13_of_91 (lv_at hl 0 rfl) ?_
          refine lv_lmul hx hb dX13_of_93 ?_
          refine lv_goto (tgt := 117) hx hb dX13_of_94 (by decide) ?_
          exact hk8 _ _ _ _ (lv_sub hl [3] rfl) hw hf
        refine lv_lload_n hx hb dX13_of_74 rfl (lv_at hl 1 rfl) ?_
        refine lv_lload hx hb dX13_of_75 (lv_at hl 0 rfl) ?_
        refine lv_lsub hx hb dX13_of_77 ?_
        refine lv_goto (tgt := 117) hx hb dX13_of_78 (by decide) ?_
        exact hk8 _ _ _ _ (lv_sub hl [3] rfl) hw hf
      refine lv_lload_n hx hb dX13_of_58 rfl (lv_at hl 1 rfl) ?_
      refine lv_lload hx hb dX13_of_59 (lv_at hl 0 rfl) ?_
      refine lv_ladd hx hb dX13_of_61 ?_
      refine lv_goto (tgt := 117) hx hb dX13_of_62 (by decide) ?_
      exact hk8 _ _ _ _ (lv_sub hl [3] rfl) hw hf
    refine lv_aload_n hx hb dX13_of_44 rfl (lv_at hl 3 rfl) ?_
    refine fo_getsN X hw fc_X3 (hx30 hX) (k := 0) (d := 1) (n2 := 31) (by decide) rfl rfl fn335 dX13_of_45 ?_
    exact fx_athrow hx hb dX13_of_48 (fdx_x hxx ⟨4, _, hx31 hX, fc_X4.1, rfl⟩ hw hf)
  refine lv_aload_n hx hb dX13_of_28 rfl (lv_at hl 2 rfl) ?_
  refine fo_geti X hw fc_X13 hO (k := 0) (by decide) rfl q1009 dX13_of_29 ?_
  refine lv_bipush (v := (37 : Int32)) hx hb dX13_of_32 (by decide) ?_
  refine fb_ine (tgt := 49) hx hb dX13_of_34 (by decide) hf (fun hf => ?_) (fun hf => ?_)
  · refine lv_aload_n hx hb dX13_of_49 rfl (lv_at hl 2 rfl) ?_
    refine fo_geti X hw fc_X13 hO (k := 0) (by decide) rfl q1009 dX13_of_50 ?_
    refine lv_bipush (v := (43 : Int32)) hx hb dX13_of_53 (by decide) ?_
    refine jn_e hf (fun k10 ek hf => ?_)
    have hk10 : ∀ (x9 : Int64) (H : Heap) (locs : List Loc) (ls : Array Slot), lv_has ls 8 [(1, .ref (eb E + 30))] → fo_S E s st6 H locs → k10 x9 = some (rZ, stZ) → W p l e R s m args below meth c H locs 0 0 Q (F0 m 117 ls [.long x9]) := by
      intro x9 H locs ls hl hw hf
      rw [ek] at hf
      refine lv_lstore (lv' := [(6, .long x9), (1, .ref (eb E + 30))]) hx hb dX13_of_117 hl (by decide) rfl (fun ls hl => ?_)
      refine lv_lload hx hb dX13_of_119 (lv_at hl 0 rfl) ?_
      refine lv_ldc2 (v := (1000000000 : Int64)) hx hb X.1.2.2.2.1 (X.1.2.2.2.2 _ q635) dX13_of_121 ?_
      refine fb_lgt (tgt := 137) hx hb dX13_of_124 dX13_of_125 (by decide) hf (fun hf => ?_) (fun hf => ?_)
      · refine lv_aload_n hx hb dX13_of_137 rfl (lv_at hl 1 rfl) ?_
        refine fo_getsN X hw fc_X3 (hx30 hX) (k := 0) (d := 1) (n2 := 31) (by decide) rfl rfl fn335 dX13_of_138 ?_
        exact fx_athrow hx hb dX13_of_141 (fdx_x hxx ⟨4, _, hx31 hX, fc_X4.1, rfl⟩ hw hf)
      refine lv_lload hx hb dX13_of_128 (lv_at hl 0 rfl) ?_
      refine lv_ldc2 (v := (-1000000000 : Int64)) hx hb X.1.2.2.2.1 (X.1.2.2.2.2 _ q636) dX13_of_130 ?_
      refine fb_lge (tgt := 142) hx hb dX13_of_133 dX13_of_134 (by decide) hf (fun hf => ?_) (fun hf => ?_)
      · refine lv_lload hx hb dX13_of_142 (lv_at hl 0 rfl) ?_
        exact fdx_l hend hw hf dX13_of_144
      refine lv_aload_n hx hb dX13_of_137 rfl (lv_at hl 1 rfl) ?_
      refine fo_getsN X hw fc_X3 (hx30 hX) (k := 0) (d := 1) (n2 := 31) (by decide) rfl rfl fn335 dX13_of_138 ?_
      exact fx_athrow hx hb dX13_of_141 (fdx_x hxx ⟨4, _, hx31 hX, fc_X4.1, rfl⟩ hw hf)
    clear ek
    refine fb_ine (tgt := 65) hx hb dX13_of_55 (by decide) hf (fun hf => ?_) (fun hf => ?_)
    · refine lv_aload_n hx hb dX13_of_65 rfl (lv_at hl 2 rfl) ?_
      refine fo_geti X hw fc_X13 hO (k := 0) (by decide) rfl q1009 dX13_of_66 ?_
      refine lv_bipush (v := (45 : Int32)) hx hb dX13_of_69 (by decide) ?_
      refine fb_ine (tgt := 81) hx hb dX13_of_71 (by decide) hf (fun hf => ?_) (fun hf => ?_)
      · refine lv_aload_n hx hb dX13_of_81 rfl (lv_at hl 2 rfl) ?_
        refine fo_geti X hw fc_X13 hO (k := 0) (by decide) rfl q1009 dX13_of_82 ?_
        refine lv_bipush (v := (42 : Int32)) hx hb dX13_of_85 (by decide) ?_
        refine fb_ine (tgt := 97) hx hb dX13_of_87 (by decide) hf (fun hf => ?_) (fun hf => ?_)
        · refine lv_aload_n hx hb dX13_of_97 rfl (lv_at hl 2 rfl) ?_
          refine fo_geti X hw fc_X13 hO (k := 0) (by decide) rfl q1009 dX13_of_98 ?_
          refine lv_bipush (v := (47 : Int32)) hx hb dX13_of_101 (by decide) ?_
          refine fb_ine (tgt := 113) hx hb dX13_of_103 (by decide) hf (fun hf => ?_) (fun hf => ?_)
          · refine lv_lload_n hx hb dX13_of_113 rfl (lv_at hl 1 rfl) ?_
            refine lv_lload hx hb dX13_of_114 (lv_at hl 0 rfl) ?_
            refine fb_lremC hx hb dX13_of_116 hf (fun hf => ?_)
            exact hk10 _ _ _ _ (lv_sub hl [3] rfl) hw hf
          refine lv_lload_n hx hb dX13_of_106 rfl (lv_at hl 1 rfl) ?_
          refine lv_lload hx hb dX13_of_107 (lv_at hl 0 rfl) ?_
          refine fb_ldivC hx hb dX13_of_109 hf (fun hf => ?_)
          refine lv_goto (tgt := 117) hx hb dX13_of_110 (by decide) ?_
          exact hk10 _ _ _ _ (lv_sub hl [3] rfl) hw hf
        refine lv_lload_n hx hb dX13_of_90 rfl (lv_at hl 1 rfl) ?_
        refine lv_lload hx hb dX13_of_91 (lv_at hl 0 rfl) ?_
        refine lv_lmul hx hb dX13_of_93 ?_
        refine lv_goto (tgt := 117) hx hb dX13_of_94 (by decide) ?_
        exact hk10 _ _ _ _ (lv_sub hl [3] rfl) hw hf
      refine lv_lload_n hx hb dX13_of_74 rfl (lv_at hl 1 rfl) ?_
      refine lv_lload hx hb dX13_of_75 (lv_at hl 0 rfl) ?_
      refine lv_lsub hx hb dX13_of_77 ?_
      refine lv_goto (tgt := 117) hx hb dX13_of_78 (by decide) ?_
      exact hk10 _ _ _ _ (lv_sub hl [3] rfl) hw hf
    refine lv_lload_n hx hb dX13_of_58 rfl (lv_at hl 1 rfl) ?_
    refine lv_lload hx hb dX13_of_59 (lv_at hl 0 rfl) ?_
    refine lv_ladd hx hb dX13_of_61 ?_
    refine lv_goto (tgt := 117) hx hb dX13_of_62 (by decide) ?_
    exact hk10 _ _ _ _ (lv_sub hl [3] rfl) hw hf
  refine lv_lload hx hb dX13_of_37 (lv_at hl 0 rfl) ?_
  refine lv_lconst (v := (0 : Int64)) hx hb dX13_of_39 rfl ?_
  refine fb_lne (tgt := 49) hx hb dX13_of_40 dX13_of_41 (by decide) hf (fun hf => ?_) (fun hf => ?_)
  · refine lv_aload_n hx hb dX13_of_49 rfl (lv_at hl 2 rfl) ?_
    refine fo_geti X hw fc_X13 hO (k := 0) (by decide) rfl q1009 dX13_of_50 ?_
    refine lv_bipush (v := (43 : Int32)) hx hb dX13_of_53 (by decide) ?_
    refine jn_e hf (fun k12 ek hf => ?_)
    have hk12 : ∀ (x11 : Int64) (H : Heap) (locs : List Loc) (ls : Array Slot), lv_has ls 8 [(1, .ref (eb E + 30))] → fo_S E s st6 H locs → k12 x11 = some (rZ, stZ) → W p l e R s m args below meth c H locs 0 0 Q (F0 m 117 ls [.long x11]) := by
      intro x11 H locs ls hl hw hf
      rw [ek] at hf
      refine lv_lstore (lv' := [(6, .long x11), (1, .ref (eb E + 30))]) hx hb dX13_of_117 hl (by decide) rfl (fun ls hl => ?_)
      refine lv_lload hx hb dX13_of_119 (lv_at hl 0 rfl) ?_
      refine lv_ldc2 (v := (1000000000 : Int64)) hx hb X.1.2.2.2.1 (X.1.2.2.2.2 _ q635) dX13_of_121 ?_
      refine fb_lgt (tgt := 137) hx hb dX13_of_124 dX13_of_125 (by decide) hf (fun hf => ?_) (fun hf => ?_)
      · refine lv_aload_n hx hb dX13_of_137 rfl (lv_at hl 1 rfl) ?_
        refine fo_getsN X hw fc_X3 (hx30 hX) (k := 0) (d := 1) (n2 := 31) (by decide) rfl rfl fn335 dX13_of_138 ?_
        exact fx_athrow hx hb dX13_of_141 (fdx_x hxx ⟨4, _, hx31 hX, fc_X4.1, rfl⟩ hw hf)
      refine lv_lload hx hb dX13_of_128 (lv_at hl 0 rfl) ?_
      refine lv_ldc2 (v := (-1000000000 : Int64)) hx hb X.1.2.2.2.1 (X.1.2.2.2.2 _ q636) dX13_of_130 ?_
      refine fb_lge (tgt := 142) hx hb dX13_of_133 dX13_of_134 (by decide) hf (fun hf => ?_) (fun hf => ?_)
      · refine lv_lload hx hb dX13_of_142 (lv_at hl 0 rfl) ?_
        exact fdx_l hend hw hf dX13_of_144
      refine lv_aload_n hx hb dX13_of_137 rfl (lv_at hl 1 rfl) ?_
      refine fo_getsN X hw fc_X3 (hx30 hX) (k := 0) (d := 1) (n2 := 31) (by decide) rfl rfl fn335 dX13_of_138 ?_
      exact fx_athrow hx hb dX13_of_141 (fdx_x hxx ⟨4, _, hx31 hX, fc_X4.1, rfl⟩ hw hf)
    clear ek
    refine fb_ine (tgt := 65) hx hb dX13_of_55 (by decide) hf (fun hf => ?_) (fun hf => ?_)
    · refine lv_aload_n hx hb dX13_of_65 rfl (lv_at hl 2 rfl) ?_
      refine fo_geti X hw fc_X13 hO (k := 0) (by decide) rfl q1009 dX13_of_66 ?_
      refine lv_bipush (v := (45 : Int32)) hx hb dX13_of_69 (by decide) ?_
      refine fb_ine (tgt := 81) hx hb dX13_of_71 (by decide) hf (fun hf => ?_) (fun hf => ?_)
      · refine lv_aload_n hx hb dX13_of_81 rfl (lv_at hl 2 rfl) ?_
        refine fo_geti X hw fc_X13 hO (k := 0) (by decide) rfl q1009 dX13_of_82 ?_
        refine lv_bipush (v := (42 : Int32)) hx hb dX13_of_85 (by decide) ?_
        refine fb_ine (tgt := 97) hx hb dX13_of_87 (by decide) hf (fun hf => ?_) (fun hf => ?_)
        · refine lv_aload_n hx hb dX13_of_97 rfl (lv_at hl 2 rfl) ?_
          refine fo_geti X hw fc_X13 hO (k := 0) (by decide) rfl q1009 dX13_of_98 ?_
          refine lv_bipush (v := (47 : Int32)) hx hb dX13_of_101 (by decide) ?_
          refine fb_ine (tgt := 113) hx hb dX13_of_103 (by decide) hf (fun hf => ?_) (fun hf => ?_)
          · refine lv_lload_n hx hb dX13_of_113 rfl (lv_at hl 1 rfl) ?_
            refine lv_lload hx hb dX13_of_114 (lv_at hl 0 rfl) ?_
            refine fb_lremC hx hb dX13_of_116 hf (fun hf => ?_)
            exact hk12 _ _ _ _ (lv_sub hl [3] rfl) hw hf
          refine lv_lload_n hx hb dX13_of_106 rfl (lv_at hl 1 rfl) ?_
          refine lv_lload hx hb dX13_of_107 (lv_at hl 0 rfl) ?_
          refine fb_ldivC hx hb dX13_of_109 hf (fun hf => ?_)
          refine lv_goto (tgt := 117) hx hb dX13_of_110 (by decide) ?_
          exact hk12 _ _ _ _ (lv_sub hl [3] rfl) hw hf
        refine lv_lload_n hx hb dX13_of_90 rfl (lv_at hl 1 rfl) ?_
        refine lv_lload hx hb dX13_of_91 (lv_at hl 0 rfl) ?_
        refine lv_lmul hx hb dX13_of_93 ?_
        refine lv_goto (tgt := 117) hx hb dX13_of_94 (by decide) ?_
        exact hk12 _ _ _ _ (lv_sub hl [3] rfl) hw hf
      refine lv_lload_n hx hb dX13_of_74 rfl (lv_at hl 1 rfl) ?_
      refine lv_lload hx hb dX13_of_75 (lv_at hl 0 rfl) ?_
      refine lv_lsub hx hb dX13_of_77 ?_
      refine lv_goto (tgt := 117) hx hb dX13_of_78 (by decide) ?_
      exact hk12 _ _ _ _ (lv_sub hl [3] rfl) hw hf
    refine lv_lload_n hx hb dX13_of_58 rfl (lv_at hl 1 rfl) ?_
    refine lv_lload hx hb dX13_of_59 (lv_at hl 0 rfl) ?_
    refine lv_ladd hx hb dX13_of_61 ?_
    refine lv_goto (tgt := 117) hx hb dX13_of_62 (by decide) ?_
    exact hk12 _ _ _ _ (lv_sub hl [3] rfl) hw hf
  refine lv_aload_n hx hb dX13_of_44 rfl (lv_at hl 3 rfl) ?_
  refine fo_getsN X hw fc_X3 (hx30 hX) (k := 0) (d := 1) (n2 := 31) (by decide) rfl rfl fn335 dX13_of_45 ?_
  exact fx_athrow hx hb dX13_of_48 (fdx_x hxx ⟨4, _, hx31 hX, fc_X4.1, rfl⟩ hw hf)

/-- ForestRooms$Compare.is -/
def fX15_is (recS : Nat → fo_St → Option ((Int64 ⊕ Nat) × fo_St)) (o : Nat) (st0 : fo_St) : Option ((Int32 ⊕ Nat) × fo_St) := rn_ (gr_ st0 o 1) (fun q1 => bx_ (recS q1 st0) (fun x2 st3 => rn_ (gr_ st3 o 2) (fun q4 => bx_ (recS q4 st3) (fun x5 st6 => if ¬ (gi_ st6 o 0) = (60 : Int32) then if ¬ (gi_ st6 o 0) = (62 : Int32) then if ¬ x2 = x5 then some (.inl (0 : Int32), st6) else some (.inl (1 : Int32), st6) else if x2 ≤ x5 then some (.inl (0 : Int32), st6) else some (.inl (1 : Int32), st6) else if x5 ≤ x2 then some (.inl (0 : Int32), st6) else some (.inl (1 : Int32), st6)) (fun nX stX => some (.inr nX, stX)))) (fun nX stX => some (.inr nX, stX)))
theorem hm_X15_is : fo_M yX15_is 1 := ⟨by decide +kernel, by decide +kernel, by decide +kernel, by decide +kernel⟩
set_option maxHeartbeats 4000000 in
theorem wX15_is (l : Launch) (E : fo_E) (hX : fo_HX E) (d : Nat) (recS : Nat → fo_St → Option ((Int64 ⊕ Nat) × fo_St)) (hrecS : ∀ (q : Nat) (st : fo_St) (ρ : Int64 ⊕ Nat) (st1 : fo_St), recS q st = some (ρ, st1) → DSl l E d q st ρ st1) (o : Nat) (hO : et E o = (1, 12)) (st0 : fo_St) (rZ : Int32 ⊕ Nat) (stZ : fo_St) (hf : fX15_is recS o st0 = some (rZ, stZ)) : CXi l E yX15_is (ws_ yX15_is cX15_is 6 (some .boolean)) (fo_rm (d + 1)) [.ref (eb E + o), .ref (eb E + 30)] st0 rZ stZ := by
  refine fex_z hm_X15_is (Nat.le_of_ble_eq_true rfl) (fun p e R s m args below meth c Q hRf hRl X hend hxx ls hl hw => ?_)
  have hx := X.1.1
  have hb := X.1.2.1
  have hl : lv_has ls 6 [(0, .ref (eb E + o)), (1, .ref (eb E + 30))] := hl
  unfold fX15_is at hf
  generalize s.heap = H at hw ⊢
  generalize ([] : List Loc) = locs at hw ⊢
  refine lv_aload_n hx hb dX15_is_0 rfl (lv_at hl 0 rfl) ?_
  refine fo_getr X hw fc_X15 hO (k := 1) (by decide) rfl q1067 dX15_is_1 hf (fun q1 hf => ?_)
  refine lv_aload_n hx hb dX15_is_4 rfl (lv_at hl 1 rfl) ?_
  refine fc_sum (d := d) X hw q623 ⟨by rw [hRf]; exact Nat.le_refl _, by rw [hRl]; omega⟩ hl.1 (Nat.le_of_ble_eq_true rfl) dX15_is_5 (fun rQ stQ hQ => hrecS _ _ _ _ hQ) hf (fun nX EX stX H locs hT hw hf => ?_) (fun x2 st3 H locs hw hf => ?_)
  · exact fdx_x hxx hT hw hf
  refine lv_lstore_n (lv' := [(2, .long x2), (0, .ref (eb E + o)), (1, .ref (eb E + 30))]) hx hb dX15_is_8 rfl hl (by decide) rfl (fun ls hl => ?_)
  refine lv_aload_n hx hb dX15_is_9 rfl (lv_at hl 1 rfl) ?_
  refine fo_getr X hw fc_X15 hO (k := 2) (by decide) rfl q1068 dX15_is_10 hf (fun q4 hf => ?_)
  refine lv_aload_n hx hb dX15_is_13 rfl (lv_at hl 2 rfl) ?_
  refine fc_sum (d := d) X hw q623 ⟨by rw [hRf]; exact Nat.le_refl _, by rw [hRl]; omega⟩ hl.1 (Nat.le_of_ble_eq_true rfl) dX15_is_14 (fun rQ stQ hQ => hrecS _ _ _ _ hQ) hf (fun nX EX stX H locs hT hw hf => ?_) (fun x5 st6 H locs hw hf => ?_)
  · exact fdx_x hxx hT hw hf
  refine lv_lstore (lv' := [(4, .long x5), (2, .long x2), (0, .ref (eb E + o)), (1, .ref (eb E + 30))]) hx hb dX15_is_17 hl (by decide) rfl (fun ls hl => ?_)
  refine lv_aload_n hx hb dX15_is_19 rfl (lv_at hl 2 rfl) ?_
  refine fo_geti X hw fc_X15 hO (k := 0) (by decide) rfl q1066 dX15_is_20 ?_
  refine lv_bipush (v := (60 : Int32)) hx hb dX15_is_23 (by decide) ?_
  refine fb_ine (tgt := 43) hx hb dX15_is_25 (by decide) hf (fun hf => ?_) (fun hf => ?_)
  · refine lv_aload_n hx hb dX15_is_43 rfl (lv_at hl 2 rfl) ?_
    refine fo_geti X hw fc_X15 hO (k := 0) (by decide) rfl q1066 dX15_is_44 ?_
    refine lv_bipush (v := (62 : Int32)) hx hb dX15_is_47 (by decide) ?_
    refine fb_ine (tgt := 67) hx hb dX15_is_49 (by decide) hf (fun hf => ?_) (fun hf => ?_)
    · refine lv_lload_n hx hb dX15_is_67 rfl (lv_at hl 1 rfl) ?_
      refine lv_lload hx hb dX15_is_68 (lv_at hl 0 rfl) ?_
      refine fb_lne (tgt := 78) hx hb dX15_is_70 dX15_is_71 (by decide) hf (fun hf => ?_) (fun hf => ?_)
      · refine lv_iconst (v := (0 : Int32)) hx hb dX15_is_78 (by decide) ?_
        exact fdx_z hend hw rfl hf dX15_is_79
      refine lv_iconst (v := (1 : Int32)) hx hb dX15_is_74 (by decide) ?_
      refine lv_goto (tgt := 79) hx hb dX15_is_75 (by decide) ?_
      exact fdx_z hend hw rfl hf dX15_is_79
    refine lv_lload_n hx hb dX15_is_52 rfl (lv_at hl 1 rfl) ?_
    refine lv_lload hx hb dX15_is_53 (lv_at hl 0 rfl) ?_
    refine fb_lle (tgt := 63) hx hb dX15_is_55 dX15_is_56 (by decide) hf (fun hf => ?_) (fun hf => ?_)
    · refine lv_iconst (v := (0 : Int32)) hx hb dX15_is_63 (by decide) ?_
      refine lv_goto (tgt := 79) hx hb dX15_is_64 (by decide) ?_
      exact fdx_z hend hw rfl hf dX15_is_79
    refine lv_iconst (v := (1 : Int32)) hx hb dX15_is_59 (by decide) ?_
    refine lv_goto (tgt := 79) hx hb dX15_is_60 (by decide) ?_
    exact fdx_z hend hw rfl hf dX15_is_79
  refine lv_lload_n hx hb dX15_is_28 rfl (lv_at hl 1 rfl) ?_
  refine lv_lload hx hb dX15_is_29 (lv_at hl 0 rfl) ?_
  refine fb_lge (tgt := 39) hx hb dX15_is_31 dX15_is_32 (by decide) hf (fun hf => ?_) (fun hf => ?_)
  · refine lv_iconst (v := (0 : Int32)) hx hb dX15_is_39 (by decide) ?_
    refine lv_goto (tgt := 79) hx hb dX15_is_40 (by decide) ?_
    exact fdx_z hend hw rfl hf dX15_is_79
  refine lv_iconst (v := (1 : Int32)) hx hb dX15_is_35 (by decide) ?_
  refine lv_goto (tgt := 79) hx hb dX15_is_36 (by decide) ?_
  exact fdx_z hend hw rfl hf dX15_is_79

/-- ForestRooms$Not.is -/
def fX16_is (recT : Nat → fo_St → Option ((Int32 ⊕ Nat) × fo_St)) (o : Nat) (st0 : fo_St) : Option ((Int32 ⊕ Nat) × fo_St) := rn_ (gr_ st0 o 0) (fun q1 => bx_ (recT q1 st0) (fun x2 st3 => if ¬ x2 = 0 then some (.inl (0 : Int32), st3) else some (.inl (1 : Int32), st3)) (fun nX stX => some (.inr nX, stX)))
theorem hm_X16_is : fo_M yX16_is 1 := ⟨by decide +kernel, by decide +kernel, by decide +kernel, by decide +kernel⟩
set_option maxHeartbeats 4000000 in
theorem wX16_is (l : Launch) (E : fo_E) (hX : fo_HX E) (d : Nat) (recT : Nat → fo_St → Option ((Int32 ⊕ Nat) × fo_St)) (hrecT : ∀ (q : Nat) (st : fo_St) (ρ : Int32 ⊕ Nat) (st1 : fo_St), recT q st = some (ρ, st1) → DTi l E d q st ρ st1) (o : Nat) (hO : et E o = (1, 13)) (st0 : fo_St) (rZ : Int32 ⊕ Nat) (stZ : fo_St) (hf : fX16_is recT o st0 = some (rZ, stZ)) : CXi l E yX16_is (ws_ yX16_is cX16_is 2 (some .boolean)) (fo_rm (d + 1)) [.ref (eb E + o), .ref (eb E + 30)] st0 rZ stZ := by
  refine fex_z hm_X16_is (Nat.le_of_ble_eq_true rfl) (fun p e R s m args below meth c Q hRf hRl X hend hxx ls hl hw => ?_)
  have hx := X.1.1
  have hb := X.1.2.1
  have hl : lv_has ls 2 [(0, .ref (eb E + o)), (1, .ref (eb E + 30))] := hl
  unfold fX16_is at hf
  generalize s.heap = H at hw ⊢
  generalize ([] : List Loc) = locs at hw ⊢
  refine lv_aload_n hx hb dX16_is_0 rfl (lv_at hl 0 rfl) ?_
  refine fo_getr X hw fc_X16 hO (k := 0) (by decide) rfl q1082 dX16_is_1 hf (fun q1 hf => ?_)
  refine lv_aload_n hx hb dX16_is_4 rfl (lv_at hl 1 rfl) ?_
  refine fc_test (d := d) X hw q641 ⟨by rw [hRf]; exact Nat.le_refl _, by rw [hRl]; omega⟩ hl.1 (Nat.le_of_ble_eq_true rfl) dX16_is_5 (fun rQ stQ hQ => hrecT _ _ _ _ hQ) hf (fun nX EX stX H locs hT hw hf => ?_) (fun x2 st3 H locs hw hf => ?_)
  · exact fdx_x hxx hT hw hf
  refine fb_zne (tgt := 15) hx hb dX16_is_8 (by decide) hf (fun hf => ?_) (fun hf => ?_)
  · refine lv_iconst (v := (0 : Int32)) hx hb dX16_is_15 (by decide) ?_
    exact fdx_z hend hw rfl hf dX16_is_16
  refine lv_iconst (v := (1 : Int32)) hx hb dX16_is_11 (by decide) ?_
  refine lv_goto (tgt := 16) hx hb dX16_is_12 (by decide) ?_
  exact fdx_z hend hw rfl hf dX16_is_16

/-- ForestRooms$Several.is -/
def fX17_is (tg : Nat → Nat × Nat) (G : Nat) (recT : Nat → fo_St → Option ((Int32 ⊕ Nat) × fo_St)) (o : Nat) (st0 : fo_St) : Option ((Int32 ⊕ Nat) × fo_St) := lp2_ (fun rec3 (x1 : Int32) (st2 : fo_St) => rn_ (gr_ st2 o 1) (fun q4 => ck_ (decide (tg q4 = (1, 18))) (bd_ (fJ2_size q4 st2) (fun x6 st7 => if x6 ≤ x1 then ck_ (decide ((gi_ st7 o 0) = 0 ∨ (gi_ st7 o 0) = 1)) (some (.inl (gi_ st7 o 0), st7)) else rn_ (gr_ st7 o 1) (fun q8 => ck_ (decide (tg q8 = (1, 18))) (bd_ (fJ2_get tg q8 x1 st7) (fun x10 st11 => ck_ (decide (tg x10 = (1, 12) ∨ tg x10 = (1, 13) ∨ tg x10 = (1, 14))) (bx_ (recT x10 st11) (fun x13 st14 => if x13 = (gi_ st14 o 0) then rec3 (x1 + (1 : Int32)) st14 else if ¬ (gi_ st14 o 0) = 0 then some (.inl (0 : Int32), st14) else some (.inl (1 : Int32), st14)) (fun nX stX => some (.inr nX, stX)))))))))) G (0 : Int32) st0
theorem hm_X17_is : fo_M yX17_is 1 := ⟨by decide +kernel, by decide +kernel, by decide +kernel, by decide +kernel⟩
set_option maxHeartbeats 4000000 in
theorem wX17_is (l : Launch) (E : fo_E) (hX : fo_HX E) (d : Nat) (G : Nat) (recT : Nat → fo_St → Option ((Int32 ⊕ Nat) × fo_St)) (hrecT : ∀ (q : Nat) (st : fo_St) (ρ : Int32 ⊕ Nat) (st1 : fo_St), recT q st = some (ρ, st1) → DTi l E d q st ρ st1) (o : Nat) (hO : et E o = (1, 14)) (st0 : fo_St) (rZ : Int32 ⊕ Nat) (stZ : fo_St) (hf : fX17_is (et E) G recT o st0 = some (rZ, stZ)) : CXi l E yX17_is (ws_ yX17_is cX17_is 3 (some .boolean)) (fo_rm (d + 1)) [.ref (eb E + o), .ref (eb E + 30)] st0 rZ stZ := by
  refine fex_z hm_X17_is (Nat.le_of_ble_eq_true rfl) (fun p e R s m args below meth c Q hRf hRl X hend hxx ls hl hw => ?_)
  have hx := X.1.1
  have hb := X.1.2.1
  have hl : lv_has ls 3 [(0, .ref (eb E + o)), (1, .ref (eb E + 30))] := hl
  unfold fX17_is at hf
  generalize s.heap = H at hw ⊢
  generalize ([] : List Loc) = locs at hw ⊢
  refine lv_iconst (v := (0 : Int32)) hx hb dX17_is_0 (by decide) ?_
  refine lv_istore_n (lv' := [(2, .int (0 : Int32)), (0, .ref (eb E + o)), (1, .ref (eb E + 30))]) hx hb dX17_is_1 rfl hl (by decide) rfl (fun ls hl => ?_)
  refine lp2_e (P := fun x1 st2 => ∀ (H : Heap) (locs : List Loc) (ls : Array Slot), lv_has ls 3 [(2, .int x1), (0, .ref (eb E + o)), (1, .ref (eb E + 30))] → fo_S E s st2 H locs → W p l e R s m args below meth c H locs 0 0 Q (F0 m 2 ls [])) (fun rec3 hrec3 x1 st2 hf => ?_) G _ _ hf H locs ls (lv_sub hl [0, 1, 2] rfl) hw
  intro H locs ls hl hw
  refine lv_iload_n hx hb dX17_is_2 rfl (lv_at hl 0 rfl) ?_
  refine lv_aload_n hx hb dX17_is_3 rfl (lv_at hl 1 rfl) ?_
  refine fo_getr X hw fc_X17 hO (k := 1) (by decide) rfl q1096 dX17_is_4 hf (fun q4 hf => ?_)
  obtain ⟨hq5, hf⟩ := ck_e hf
  have hq5 := of_decide_eq_true hq5
  refine fc_Vi (rest := [.int x1]) (As := []) X hw hm_J2_size (lw_V q644 q607 q608 q116 q609) ⟨rfl, rfl⟩ ⟨by rw [hRf]; show _ ≤ d + 1 + 6; exact Nat.le_trans (Nat.le_of_ble_eq_true rfl : _ ≤ 6) (Nat.le_add_left _ _), by rw [hRl]; show _ ≤ 60 * (d + 1) + 400; exact Nat.le_trans (Nat.le_of_ble_eq_true rfl : _ ≤ 400) (Nat.le_add_left _ _)⟩ fc_J2 rfl hq5 rfl rfl hl.1 (Nat.le_of_ble_eq_true rfl) dX17_is_7 (fun rQ stQ hQ => wJ2_size l E q4 hq5 st2 rQ stQ hQ) hf (fun x6 st7 H locs hw hf => ?_)
  refine fb_ige (tgt := 54) hx hb dX17_is_10 (by decide) hf (fun hf => ?_) (fun hf => ?_)
  · refine lv_aload_n hx hb dX17_is_54 rfl (lv_at hl 1 rfl) ?_
    refine fo_geti X hw fc_X17 hO (k := 0) (by decide) rfl q1095 dX17_is_55 ?_
    obtain ⟨hz, hf⟩ := ck_e hf
    exact fdx_z hend hw (fo_z hz).1 hf dX17_is_58
  refine lv_aload_n hx hb dX17_is_13 rfl (lv_at hl 1 rfl) ?_
  refine fo_getr X hw fc_X17 hO (k := 1) (by decide) rfl q1096 dX17_is_14 hf (fun q8 hf => ?_)
  refine lv_iload_n hx hb dX17_is_17 rfl (lv_at hl 0 rfl) ?_
  obtain ⟨hq9, hf⟩ := ck_e hf
  have hq9 := of_decide_eq_true hq9
  refine fc_Vr (rest := []) (As := [.int x1]) X hw hm_J2_get (lw_V q645 q587 q588 q116 q589) ⟨rfl, rfl⟩ ⟨by rw [hRf]; show _ ≤ d + 1 + 6; exact Nat.le_trans (Nat.le_of_ble_eq_true rfl : _ ≤ 6) (Nat.le_add_left _ _), by rw [hRl]; show _ ≤ 60 * (d + 1) + 400; exact Nat.le_trans (Nat.le_of_ble_eq_true rfl : _ ≤ 400) (Nat.le_add_left _ _)⟩ fc_J2 rfl hq9 rfl rfl hl.1 (Nat.le_of_ble_eq_true rfl) dX17_is_18 (fun rQ stQ hQ => wJ2_get l E q8 x1 hq9 st7 rQ stQ hQ) hf (fun x10 st11 H locs hw hf => ?_)
  obtain ⟨hq12, hf⟩ := ck_e hf
  have hq12 := of_decide_eq_true hq12
  refine fo_castT X hw hq12 q646 dX17_is_21 ?_
  refine lv_aload_n hx hb dX17_is_24 rfl (lv_at hl 2 rfl) ?_
  refine fc_test (d := d) X hw q647 ⟨by rw [hRf]; exact Nat.le_refl _, by rw [hRl]; omega⟩ hl.1 (Nat.le_of_ble_eq_true rfl) dX17_is_25 (fun rQ stQ hQ => hrecT _ _ _ _ hQ) hf (fun nX EX stX H locs hT hw hf => ?_) (fun x13 st14 H locs hw hf => ?_)
  · exact fdx_x hxx hT hw hf
  refine lv_aload_n hx hb dX17_is_28 rfl (lv_at hl 1 rfl) ?_
  refine fo_geti X hw fc_X17 hO (k := 0) (by decide) rfl q1095 dX17_is_29 ?_
  refine fb_ieq (tgt := 48) hx hb dX17_is_32 (by decide) hf (fun hf => ?_) (fun hf => ?_)
  · refine fb_iinc (v := (1 : Int32)) (lv' := [(2, .int (x1 + (1 : Int32))), (0, .ref (eb E + o)), (1, .ref (eb E + 30))]) hx hb dX17_is_48 hl (k := 0) rfl (by decide) (by decide) rfl (fun ls hl => ?_)
    refine lv_goto (tgt := 2) hx hb dX17_is_51 (by decide) ?_
    exact hrec3 _ _ hf _ _ _ (lv_sub hl [0, 1, 2] rfl) hw
  refine lv_aload_n hx hb dX17_is_35 rfl (lv_at hl 1 rfl) ?_
  refine fo_geti X hw fc_X17 hO (k := 0) (by decide) rfl q1095 dX17_is_36 ?_
  refine fb_zne (tgt := 46) hx hb dX17_is_39 (by decide) hf (fun hf => ?_) (fun hf => ?_)
  · refine lv_iconst (v := (0 : Int32)) hx hb dX17_is_46 (by decide) ?_
    exact fdx_z hend hw rfl hf dX17_is_47
  refine lv_iconst (v := (1 : Int32)) hx hb dX17_is_42 (by decide) ?_
  refine lv_goto (tgt := 47) hx hb dX17_is_43 (by decide) ?_
  exact fdx_z hend hw rfl hf dX17_is_47

/-- sums and tests by depth: what Sum.of, Test.is answer -/
def evS (tg : Nat → Nat × Nat) : Nat → Nat → fo_St → Option ((Int64 ⊕ Nat) × fo_St)
  | 0, _, _ => none
  | d + 1, q, st => if tg q = (1, 9) then fX11_of q st else if tg q = (1, 10) then fX12_of q st else if tg q = (1, 11) then fX13_of (evS tg d) q st else none
def evT (tg : Nat → Nat × Nat) (G : Nat) : Nat → Nat → fo_St → Option ((Int32 ⊕ Nat) × fo_St)
  | 0, _, _ => none
  | d + 1, q, st => if tg q = (1, 12) then fX15_is (evS tg d) q st else if tg q = (1, 13) then fX16_is (evT tg G d) q st else if tg q = (1, 14) then fX17_is tg G (evT tg G d) q st else none
theorem wevS (l : Launch) (E : fo_E) (hX : fo_HX E) : ∀ (d q : Nat) (st : fo_St) (ρ : Int64 ⊕ Nat) (st1 : fo_St), evS (et E) d q st = some (ρ, st1) → DSl l E d q st ρ st1 := by
  intro d
  induction d with
  | zero => intro q st ρ st1 h; cases h
  | succ d ih =>
    intro q st ρ st1 h
    unfold evS at h
    by_cases h1 : et E q = (1, 9)
    · rw [if_pos h1] at h
      exact Or.inl ⟨h1, wX11_of l E hX d q h1 st ρ st1 h⟩
    rw [if_neg h1] at h
    by_cases h2 : et E q = (1, 10)
    · rw [if_pos h2] at h
      exact Or.inr (Or.inl ⟨h2, wX12_of l E hX d q h2 st ρ st1 h⟩)
    rw [if_neg h2] at h
    by_cases h3 : et E q = (1, 11)
    · rw [if_pos h3] at h
      exact Or.inr (Or.inr ⟨h3, wX13_of l E hX d (evS (et E) d) ih q h3 st ρ st1 h⟩)
    rw [if_neg h3] at h
    cases h
theorem wevT (l : Launch) (E : fo_E) (hX : fo_HX E) (G : Nat) : ∀ (d q : Nat) (st : fo_St) (ρ : Int32 ⊕ Nat) (st1 : fo_St), evT (et E) G d q st = some (ρ, st1) → DTi l E d q st ρ st1 := by
  intro d
  induction d with
  | zero => intro q st ρ st1 h; cases h
  | succ d ih =>
    intro q st ρ st1 h
    unfold evT at h
    by_cases h1 : et E q = (1, 12)
    · rw [if_pos h1] at h
      exact Or.inl ⟨h1, wX15_is l E hX d (evS (et E) d) (wevS l E hX d) q h1 st ρ st1 h⟩
    rw [if_neg h1] at h
    by_cases h2 : et E q = (1, 13)
    · rw [if_pos h2] at h
      exact Or.inr (Or.inl ⟨h2, wX16_is l E hX d (evT (et E) G d) ih q h2 st ρ st1 h⟩)
    rw [if_neg h2] at h
    by_cases h3 : et E q = (1, 14)
    · rw [if_pos h3] at h
      exact Or.inr (Or.inr ⟨h3, wX17_is l E hX d G (evT (et E) G d) ih q h3 st ρ st1 h⟩)
    rw [if_neg h3] at h
    cases h

/-- ForestRooms$Clause.tells -/
def fX9_tells (tg : Nat → Nat × Nat) (G : Nat) (o : Nat) (st0 : fo_St) : Option (Int64 × fo_St) := if gr_ st0 o 2 = none then if ¬ gr_ st0 o 1 = none then rn_ (gr_ st0 o 1) (fun q1 => bx_ (evS tg 120 q1 st0) (fun x2 st3 => some (x2, st3)) (fun n4 st5 => ck_ (decide (tg n4 = (1, 4))) (some ((-4000000000 : Int64), st5)))) else some ((1 : Int64), st0) else rn_ (gr_ st0 o 2) (fun q7 => bx_ (evT tg G 120 q7 st0) (fun x8 st9 => if ¬ x8 = 0 then if ¬ gr_ st9 o 1 = none then rn_ (gr_ st9 o 1) (fun q13 => bx_ (evS tg 120 q13 st9) (fun x14 st15 => some (x14, st15)) (fun n16 st17 => ck_ (decide (tg n16 = (1, 4))) (some ((-4000000000 : Int64), st17)))) else some ((1 : Int64), st9) else some ((-4000000000 : Int64), st9)) (fun n10 st11 => ck_ (decide (tg n10 = (1, 4))) (some ((-4000000000 : Int64), st11))))
theorem hm_X9_tells : fo_M yX9_tells 1 := ⟨by decide +kernel, by decide +kernel, by decide +kernel, by decide +kernel⟩
set_option maxHeartbeats 4000000 in
theorem wX9_tells (l : Launch) (E : fo_E) (hX : fo_HX E) (G : Nat) (o : Nat) (hO : et E o = (1, 8)) (st0 : fo_St) (rZ : Int64) (stZ : fo_St) (hf : fX9_tells (et E) G o st0 = some (rZ, stZ)) : CTl l E yX9_tells (wsW_ yX9_tells cX9_tells 3 (some .long) [(0, 21, 42, 37), (22, 41, 42, 37)]) ({ frames := 127, cells := 0, slots := 0, locals := 7660 }) [.ref (eb E + o), .ref (eb E + 30)] st0 rZ stZ := by
  refine feh_l hm_X9_tells (Nat.le_of_ble_eq_true rfl) (fun p e R s m args below meth c Q hRf hRl X htab hend ls hl hw => ?_)
  have hx := X.1.1
  have hb := X.1.2.1
  have hl : lv_has ls 3 [(0, .ref (eb E + o)), (1, .ref (eb E + 30))] := hl
  unfold fX9_tells at hf
  generalize s.heap = H at hw ⊢
  generalize ([] : List Loc) = locs at hw ⊢
  refine lv_aload_n hx hb dX9_tells_0 rfl (lv_at hl 0 rfl) ?_
  refine fo_nul X hw fc_X9 hO (k := 2) (tgt := 22) (by decide) rfl q876 dX9_tells_1 dX9_tells_4 (by decide) hf (fun hf => ?_) (fun hf => ?_)
  · refine lv_aload_n hx hb dX9_tells_22 rfl (lv_at hl 0 rfl) ?_
    refine fo_nnul X hw fc_X9 hO (k := 1) (tgt := 33) (by decide) rfl q874 dX9_tells_23 dX9_tells_26 (by decide) hf (fun hf => ?_) (fun hf => ?_)
    · refine lv_aload_n hx hb dX9_tells_33 rfl (lv_at hl 0 rfl) ?_
      refine fo_getr X hw fc_X9 hO (k := 1) (by decide) rfl q874 dX9_tells_34 hf (fun q1 hf => ?_)
      refine lv_aload_n hx hb dX9_tells_37 rfl (lv_at hl 1 rfl) ?_
      refine fc_sum (d := 120) X hw q650 ⟨by rw [hRf]; exact Nat.le_of_ble_eq_true rfl, by rw [hRl]; exact Nat.le_of_ble_eq_true rfl⟩ hl.1 (Nat.le_of_ble_eq_true rfl) dX9_tells_38 (fun rQ stQ hQ => wevS l E hX 120 _ _ _ _ hQ) hf (fun n4 EX st5 H locs hT hw hf => ?_) (fun x2 st3 H locs hw hf => ?_)
      · obtain ⟨hq6, hf⟩ := ck_e hf
        have hq6 := of_decide_eq_true hq6
        refine fh_catch X hw htab 1 (x := (22, 41, 42, 37)) rfl (by decide) (by decide) (by decide) fc_X4 q616 fn275 hq6 ?_
        refine lv_astore_n (lv' := [(2, .ref (eb E + n4)), (0, .ref (eb E + o)), (1, .ref (eb E + 30))]) hx hb dX9_tells_42 rfl hl (by decide) rfl (fun ls hl => ?_)
        refine lv_ldc2 (v := (-4000000000 : Int64)) hx hb X.1.2.2.2.1 (X.1.2.2.2.2 _ q649) dX9_tells_43 ?_
        exact fd_l hend hw hf dX9_tells_46
      exact fd_l hend hw hf dX9_tells_41
    refine lv_lconst (v := (1 : Int64)) hx hb dX9_tells_29 rfl ?_
    refine lv_goto (tgt := 41) hx hb dX9_tells_30 (by decide) ?_
    exact fd_l hend hw hf dX9_tells_41
  refine lv_aload_n hx hb dX9_tells_7 rfl (lv_at hl 0 rfl) ?_
  refine fo_getr X hw fc_X9 hO (k := 2) (by decide) rfl q876 dX9_tells_8 hf (fun q7 hf => ?_)
  refine lv_aload_n hx hb dX9_tells_11 rfl (lv_at hl 1 rfl) ?_
  refine fc_test (d := 120) X hw q617 ⟨by rw [hRf]; exact Nat.le_of_ble_eq_true rfl, by rw [hRl]; exact Nat.le_of_ble_eq_true rfl⟩ hl.1 (Nat.le_of_ble_eq_true rfl) dX9_tells_12 (fun rQ stQ hQ => wevT l E hX G 120 _ _ _ _ hQ) hf (fun n10 EX st11 H locs hT hw hf => ?_) (fun x8 st9 H locs hw hf => ?_)
  · obtain ⟨hq12, hf⟩ := ck_e hf
    have hq12 := of_decide_eq_true hq12
    refine fh_catch X hw htab 0 (x := (0, 21, 42, 37)) rfl (by decide) (by decide) (by decide) fc_X4 q616 fn275 hq12 ?_
    refine lv_astore_n (lv' := [(2, .ref (eb E + n10)), (0, .ref (eb E + o)), (1, .ref (eb E + 30))]) hx hb dX9_tells_42 rfl hl (by decide) rfl (fun ls hl => ?_)
    refine lv_ldc2 (v := (-4000000000 : Int64)) hx hb X.1.2.2.2.1 (X.1.2.2.2.2 _ q649) dX9_tells_43 ?_
    exact fd_l hend hw hf dX9_tells_46
  refine fb_zne (tgt := 22) hx hb dX9_tells_15 (by decide) hf (fun hf => ?_) (fun hf => ?_)
  · refine lv_aload_n hx hb dX9_tells_22 rfl (lv_at hl 0 rfl) ?_
    refine fo_nnul X hw fc_X9 hO (k := 1) (tgt := 33) (by decide) rfl q874 dX9_tells_23 dX9_tells_26 (by decide) hf (fun hf => ?_) (fun hf => ?_)
    · refine lv_aload_n hx hb dX9_tells_33 rfl (lv_at hl 0 rfl) ?_
      refine fo_getr X hw fc_X9 hO (k := 1) (by decide) rfl q874 dX9_tells_34 hf (fun q13 hf => ?_)
      refine lv_aload_n hx hb dX9_tells_37 rfl (lv_at hl 1 rfl) ?_
      refine fc_sum (d := 120) X hw q650 ⟨by rw [hRf]; exact Nat.le_of_ble_eq_true rfl, by rw [hRl]; exact Nat.le_of_ble_eq_true rfl⟩ hl.1 (Nat.le_of_ble_eq_true rfl) dX9_tells_38 (fun rQ stQ hQ => wevS l E hX 120 _ _ _ _ hQ) hf (fun n16 EX st17 H locs hT hw hf => ?_) (fun x14 st15 H locs hw hf => ?_)
      · obtain ⟨hq18, hf⟩ := ck_e hf
        have hq18 := of_decide_eq_true hq18
        refine fh_catch X hw htab 1 (x := (22, 41, 42, 37)) rfl (by decide) (by decide) (by decide) fc_X4 q616 fn275 hq18 ?_
        refine lv_astore_n (lv' := [(2, .ref (eb E + n16)), (0, .ref (eb E + o)), (1, .ref (eb E + 30))]) hx hb dX9_tells_42 rfl hl (by decide) rfl (fun ls hl => ?_)
        refine lv_ldc2 (v := (-4000000000 : Int64)) hx hb X.1.2.2.2.1 (X.1.2.2.2.2 _ q649) dX9_tells_43 ?_
        exact fd_l hend hw hf dX9_tells_46
      exact fd_l hend hw hf dX9_tells_41
    refine lv_lconst (v := (1 : Int64)) hx hb dX9_tells_29 rfl ?_
    refine lv_goto (tgt := 41) hx hb dX9_tells_30 (by decide) ?_
    exact fd_l hend hw hf dX9_tells_41
  refine lv_ldc2 (v := (-4000000000 : Int64)) hx hb X.1.2.2.2.1 (X.1.2.2.2.2 _ q649) dX9_tells_18 ?_
  exact fd_l hend hw hf dX9_tells_21

/-- ForestRooms$Law.told -/
def fX19_told (tg : Nat → Nat × Nat) (G : Nat) (o : Nat) (p1 : Int32) (st0 : fo_St) : Option (Int64 × fo_St) := lp3_ (fun rec4 (x1 : Int32) (x2 : Int64) (st3 : fo_St) => rn_ (gr_ st3 o 0) (fun q5 => ck_ (decide (tg q5 = (1, 18))) (bd_ (fJ2_size q5 st3) (fun x7 st8 => if x7 ≤ x1 then some (x2, st8) else rn_ (gr_ st8 o 0) (fun q9 => ck_ (decide (tg q9 = (1, 18))) (bd_ (fJ2_get tg q9 x1 st8) (fun x11 st12 => ck_ (decide (tg x11 = (1, 8))) (if (gi_ st12 x11 0) = p1 then rn_ (gr_ st12 o 0) (fun q14 => ck_ (decide (tg q14 = (1, 18))) (bd_ (fJ2_get tg q14 x1 st12) (fun x16 st17 => ck_ (decide (tg x16 = (1, 8))) (bd_ (fX9_tells tg G x16 st17) (fun x19 st20 => if x19 = (-4000000000 : Int64) then rec4 (x1 + (1 : Int32)) x2 st20 else rec4 (x1 + (1 : Int32)) x19 st20))))) else rec4 (x1 + (1 : Int32)) x2 st12)))))))) G (0 : Int32) (-4000000000 : Int64) st0
theorem hm_X19_told : fo_M yX19_told 2 := ⟨by decide +kernel, by decide +kernel, by decide +kernel, by decide +kernel⟩
set_option maxHeartbeats 4000000 in
theorem wX19_told (l : Launch) (E : fo_E) (hX : fo_HX E) (G : Nat) (o : Nat) (p1 : Int32) (hO : et E o = (1, 16)) (st0 : fo_St) (rZ : Int64) (stZ : fo_St) (hf : fX19_told (et E) G o p1 st0 = some (rZ, stZ)) : CTl l E yX19_told (ws_ yX19_told cX19_told 8 (some .long)) ({ frames := 128, cells := 0, slots := 0, locals := 7682 }) [.ref (eb E + o), .int p1, .ref (eb E + 30)] st0 rZ stZ := by
  refine fe_l hm_X19_told (Nat.le_of_ble_eq_true rfl) (fun p e R s m args below meth c Q hRf hRl X hend ls hl hw => ?_)
  have hx := X.1.1
  have hb := X.1.2.1
  have hl : lv_has ls 8 [(0, .ref (eb E + o)), (1, .int p1), (2, .ref (eb E + 30))] := hl
  unfold fX19_told at hf
  generalize s.heap = H at hw ⊢
  generalize ([] : List Loc) = locs at hw ⊢
  refine lv_ldc2 (v := (-4000000000 : Int64)) hx hb X.1.2.2.2.1 (X.1.2.2.2.2 _ q605) dX19_told_0 ?_
  refine lv_lstore_n (lv' := [(3, .long (-4000000000 : Int64)), (0, .ref (eb E + o)), (1, .int p1), (2, .ref (eb E + 30))]) hx hb dX19_told_3 rfl hl (by decide) rfl (fun ls hl => ?_)
  refine lv_iconst (v := (0 : Int32)) hx hb dX19_told_4 (by decide) ?_
  refine lv_istore (lv' := [(5, .int (0 : Int32)), (3, .long (-4000000000 : Int64)), (0, .ref (eb E + o)), (1, .int p1), (2, .ref (eb E + 30))]) hx hb dX19_told_5 hl (by decide) rfl (fun ls hl => ?_)
  refine lp3_e (P := fun x1 x2 st3 => ∀ (H : Heap) (locs : List Loc) (ls : Array Slot), lv_has ls 8 [(5, .int x1), (3, .long x2), (0, .ref (eb E + o)), (1, .int p1), (2, .ref (eb E + 30))] → fo_S E s st3 H locs → W p l e R s m args below meth c H locs 0 0 Q (F0 m 7 ls [])) (fun rec4 hrec4 x1 x2 st3 hf => ?_) G _ _ _ hf H locs ls (lv_sub hl [0, 1, 2, 3, 4] rfl) hw
  intro H locs ls hl hw
  refine lv_iload hx hb dX19_told_7 (lv_at hl 0 rfl) ?_
  refine lv_aload_n hx hb dX19_told_9 rfl (lv_at hl 2 rfl) ?_
  refine fo_getr X hw fc_X19 hO (k := 0) (by decide) rfl q1187 dX19_told_10 hf (fun q5 hf => ?_)
  obtain ⟨hq6, hf⟩ := ck_e hf
  have hq6 := of_decide_eq_true hq6
  refine fc_Vi (rest := [.int x1]) (As := []) X hw hm_J2_size (lw_V q606 q607 q608 q116 q609) ⟨rfl, rfl⟩ ⟨by rw [hRf]; exact Nat.le_of_ble_eq_true rfl, by rw [hRl]; exact Nat.le_of_ble_eq_true rfl⟩ fc_J2 rfl hq6 rfl rfl hl.1 (Nat.le_of_ble_eq_true rfl) dX19_told_13 (fun rQ stQ hQ => wJ2_size l E q5 hq6 st3 rQ stQ hQ) hf (fun x7 st8 H locs hw hf => ?_)
  refine fb_ige (tgt := 77) hx hb dX19_told_16 (by decide) hf (fun hf => ?_) (fun hf => ?_)
  · refine lv_lload_n hx hb dX19_told_77 rfl (lv_at hl 1 rfl) ?_
    exact fd_l hend hw hf dX19_told_78
  refine lv_aload_n hx hb dX19_told_19 rfl (lv_at hl 2 rfl) ?_
  refine fo_getr X hw fc_X19 hO (k := 0) (by decide) rfl q1187 dX19_told_20 hf (fun q9 hf => ?_)
  refine lv_iload hx hb dX19_told_23 (lv_at hl 0 rfl) ?_
  obtain ⟨hq10, hf⟩ := ck_e hf
  have hq10 := of_decide_eq_true hq10
  refine fc_Vr (rest := []) (As := [.int x1]) X hw hm_J2_get (lw_V q610 q587 q588 q116 q589) ⟨rfl, rfl⟩ ⟨by rw [hRf]; exact Nat.le_of_ble_eq_true rfl, by rw [hRl]; exact Nat.le_of_ble_eq_true rfl⟩ fc_J2 rfl hq10 rfl rfl hl.1 (Nat.le_of_ble_eq_true rfl) dX19_told_25 (fun rQ stQ hQ => wJ2_get l E q9 x1 hq10 st8 rQ stQ hQ) hf (fun x11 st12 H locs hw hf => ?_)
  obtain ⟨hq13, hf⟩ := ck_e hf
  have hq13 := of_decide_eq_true hq13
  refine fo_cast X hw fc_X9 hq13 q611 dX19_told_28 ?_
  refine fo_getiN X hw fc_X9 hq13 (k := 0) (by decide) rfl fn873 dX19_told_31 ?_
  refine lv_iload_n hx hb dX19_told_34 rfl (lv_at hl 3 rfl) ?_
  refine fb_ieq (tgt := 41) hx hb dX19_told_35 (by decide) hf (fun hf => ?_) (fun hf => ?_)
  · refine lv_aload_n hx hb dX19_told_41 rfl (lv_at hl 2 rfl) ?_
    refine fo_getr X hw fc_X19 hO (k := 0) (by decide) rfl q1187 dX19_told_42 hf (fun q14 hf => ?_)
    refine lv_iload hx hb dX19_told_45 (lv_at hl 0 rfl) ?_
    obtain ⟨hq15, hf⟩ := ck_e hf
    have hq15 := of_decide_eq_true hq15
    refine fc_Vr (rest := []) (As := [.int x1]) X hw hm_J2_get (lw_V q610 q587 q588 q116 q589) ⟨rfl, rfl⟩ ⟨by rw [hRf]; exact Nat.le_of_ble_eq_true rfl, by rw [hRl]; exact Nat.le_of_ble_eq_true rfl⟩ fc_J2 rfl hq15 rfl rfl hl.1 (Nat.le_of_ble_eq_true rfl) dX19_told_47 (fun rQ stQ hQ => wJ2_get l E q14 x1 hq15 st12 rQ stQ hQ) hf (fun x16 st17 H locs hw hf => ?_)
    obtain ⟨hq18, hf⟩ := ck_e hf
    have hq18 := of_decide_eq_true hq18
    refine fo_cast X hw fc_X9 hq18 q611 dX19_told_50 ?_
    refine lv_aload_n hx hb dX19_told_53 rfl (lv_at hl 4 rfl) ?_
    refine fc_VlW (rest := []) (As := [.ref (eb E + 30)]) X hw hm_X9_tells (lw_VW q612 q613 q614 q131 q615) ⟨rfl, rfl⟩ ⟨by rw [hRf]; exact Nat.le_of_ble_eq_true rfl, by rw [hRl]; exact Nat.le_of_ble_eq_true rfl⟩ fc_X9 rfl hq18 rfl rfl hl.1 (Nat.le_of_ble_eq_true rfl) dX19_told_54 (fun rQ stQ hQ => wX9_tells l E hX G x16 hq18 st17 rQ stQ hQ) hf (fun x19 st20 H locs hw hf => ?_)
    refine lv_lstore (lv' := [(6, .long x19), (5, .int x1), (3, .long x2), (0, .ref (eb E + o)), (1, .int p1), (2, .ref (eb E + 30))]) hx hb dX19_told_57 hl (by decide) rfl (fun ls hl => ?_)
    refine lv_lload hx hb dX19_told_59 (lv_at hl 0 rfl) ?_
    refine lv_ldc2 (v := (-4000000000 : Int64)) hx hb X.1.2.2.2.1 (X.1.2.2.2.2 _ q605) dX19_told_61 ?_
    refine fb_leq (tgt := 71) hx hb dX19_told_64 dX19_told_65 (by decide) hf (fun hf => ?_) (fun hf => ?_)
    · refine fb_iinc (v := (1 : Int32)) (lv' := [(5, .int (x1 + (1 : Int32))), (6, .long x19), (3, .long x2), (0, .ref (eb E + o)), (1, .int p1), (2, .ref (eb E + 30))]) hx hb dX19_told_71 hl (k := 1) rfl (by decide) (by decide) rfl (fun ls hl => ?_)
      refine lv_goto (tgt := 7) hx hb dX19_told_74 (by decide) ?_
      exact hrec4 _ _ _ hf _ _ _ (lv_sub hl [0, 2, 3, 4, 5] rfl) hw
    refine lv_lload hx hb dX19_told_68 (lv_at hl 0 rfl) ?_
    refine lv_lstore_n (lv' := [(3, .long x19), (6, .long x19), (5, .int x1), (0, .ref (eb E + o)), (1, .int p1), (2, .ref (eb E + 30))]) hx hb dX19_told_70 rfl hl (by decide) rfl (fun ls hl => ?_)
    refine fb_iinc (v := (1 : Int32)) (lv' := [(5, .int (x1 + (1 : Int32))), (3, .long x19), (6, .long x19), (0, .ref (eb E + o)), (1, .int p1), (2, .ref (eb E + 30))]) hx hb dX19_told_71 hl (k := 2) rfl (by decide) (by decide) rfl (fun ls hl => ?_)
    refine lv_goto (tgt := 7) hx hb dX19_told_74 (by decide) ?_
    exact hrec4 _ _ _ hf _ _ _ (lv_sub hl [0, 1, 3, 4, 5] rfl) hw
  refine lv_goto (tgt := 71) hx hb dX19_told_38 (by decide) ?_
  refine fb_iinc (v := (1 : Int32)) (lv' := [(5, .int (x1 + (1 : Int32))), (3, .long x2), (0, .ref (eb E + o)), (1, .int p1), (2, .ref (eb E + 30))]) hx hb dX19_told_71 hl (k := 0) rfl (by decide) (by decide) rfl (fun ls hl => ?_)
  refine lv_goto (tgt := 7) hx hb dX19_told_74 (by decide) ?_
  exact hrec4 _ _ _ hf _ _ _ (lv_sub hl [0, 1, 2, 3, 4] rfl) hw

/-- ForestRooms.says -/
def fX0_says (tg : Nat → Nat × Nat) (G : Nat) (p1 : Int32) (p2 : Nat) (p3 : Int32) (p4 : Int32) (p5 : Int32) (p6 : Int32) (st0 : fo_St) : Option (Int64 × fo_St) := if ¬ (gi_ st0 2 11) = (-1 : Int32) then lt_ (sl_ st0 32 (0 : Int32).toNatClampNeg (p3.toInt64)) (fun st1 => ck_ (fo_in p3 16) (lt_ (sl_ st1 32 (1 : Int32).toNatClampNeg ((gi_ st1 7 p3.toNatClampNeg).toInt64)) (fun st2 => ck_ (fo_in p3 16) (lt_ (sl_ st2 32 (2 : Int32).toNatClampNeg ((gi_ st2 8 p3.toNatClampNeg).toInt64)) (fun st3 => ck_ (fo_in p3 16) (lt_ (sl_ st3 32 (3 : Int32).toNatClampNeg ((gi_ st3 9 p3.toNatClampNeg).toInt64)) (fun st4 => lt_ (sl_ st4 32 (4 : Int32).toNatClampNeg (p4.toInt64)) (fun st5 => lt_ (sl_ st5 32 (5 : Int32).toNatClampNeg (p5.toInt64)) (fun st6 => lt_ (sl_ st6 32 (6 : Int32).toNatClampNeg (p6.toInt64)) (fun st7 => lt_ (sl_ st7 32 (7 : Int32).toNatClampNeg ((gi_ st7 p2 3).toInt64)) (fun st8 => bd_ (fX0_term (4 : Int32) st8) (fun x9 st10 => lt_ (sl_ st10 32 (8 : Int32).toNatClampNeg (x9.toInt64)) (fun st11 => jn_ (fun (x12 : Int64) => lt_ (sl_ st11 32 (9 : Int32).toNatClampNeg x12) (fun st14 => jn_ (fun (x15 : Int64) => lt_ (sl_ st14 32 (10 : Int32).toNatClampNeg x15) (fun st17 => bd_ (fJ2_get tg 14 (gi_ st17 2 11) st17) (fun x18 st19 => ck_ (decide (tg x18 = (1, 16))) (bd_ (fX19_told tg G x18 p1 st19) (fun x21 st22 => some (x21, st22)))))) (fun k16 => if ¬ p4 = (-1 : Int32) then ck_ (fo_in p4 6) (k16 ((gi_ st14 11 p4.toNatClampNeg).toInt64)) else k16 (-1 : Int64)))) (fun k13 => if ¬ p4 = (-1 : Int32) then ck_ (fo_in p4 6) (k13 ((gi_ st11 10 p4.toNatClampNeg).toInt64)) else k13 (-1 : Int64))))))))))))))) else some ((-4000000000 : Int64), st0)
theorem hm_X0_says : fo_M yX0_says 6 := ⟨by decide +kernel, by decide +kernel, by decide +kernel, by decide +kernel⟩
set_option maxHeartbeats 4000000 in
theorem wX0_says (l : Launch) (E : fo_E) (hX : fo_HX E) (G : Nat) (p1 : Int32) (p2 : Nat) (p3 : Int32) (p4 : Int32) (p5 : Int32) (p6 : Int32) (hT_p2 : fo_tab E p2) (st0 : fo_St) (rZ : Int64) (stZ : fo_St) (hf : fX0_says (et E) G p1 p2 p3 p4 p5 p6 st0 = some (rZ, stZ)) : CTl l E yX0_says (ws_ yX0_says cX0_says 8 (some .long)) ({ frames := 129, cells := 0, slots := 0, locals := 7709 }) [.ref (eb E + 0), .int p1, .ref (eb E + p2), .int p3, .int p4, .int p5, .int p6] st0 rZ stZ := by
  refine fe_l hm_X0_says (Nat.le_of_ble_eq_true rfl) (fun p e R s m args below meth c Q hRf hRl X hend ls hl hw => ?_)
  have hx := X.1.1
  have hb := X.1.2.1
  have hl : lv_has ls 8 [(0, .ref (eb E + 0)), (1, .int p1), (2, .ref (eb E + p2)), (3, .int p3), (4, .int p4), (5, .int p5), (6, .int p6)] := hl
  unfold fX0_says at hf
  generalize s.heap = H at hw ⊢
  generalize ([] : List Loc) = locs at hw ⊢
  refine lv_aload_n hx hb dX0_says_0 rfl (lv_at hl 0 rfl) ?_
  refine fo_gets X hw fc_X0 (hx0 hX) (k := 2) (d := 2) (n2 := 2) (by decide) rfl rfl q347 dX0_says_1 ?_
  refine fo_getiN X hw fc_X1 (hx2 hX) (k := 11) (by decide) rfl fn237 dX0_says_4 ?_
  refine lv_iconst (v := (-1 : Int32)) hx hb dX0_says_7 (by decide) ?_
  refine fb_ine (tgt := 15) hx hb dX0_says_8 (by decide) hf (fun hf => ?_) (fun hf => ?_)
  · refine lv_aload_n hx hb dX0_says_15 rfl (lv_at hl 0 rfl) ?_
    refine fo_gets X hw fc_X0 (hx0 hX) (k := 16) (d := 30) (n2 := 30) (by decide) rfl rfl q361 dX0_says_16 ?_
    refine fo_getsN X hw fc_X3 (hx30 hX) (k := 1) (d := 2) (n2 := 32) (by decide) rfl rfl fn338 dX0_says_19 ?_
    refine lv_astore (lv' := [(7, .ref (eb E + 32)), (0, .ref (eb E + 0)), (1, .int p1), (2, .ref (eb E + p2)), (3, .int p3), (4, .int p4), (5, .int p5), (6, .int p6)]) hx hb dX0_says_22 hl (by decide) rfl (fun ls hl => ?_)
    refine lv_aload hx hb dX0_says_24 (lv_at hl 0 rfl) ?_
    refine lv_iconst (v := (0 : Int32)) hx hb dX0_says_26 (by decide) ?_
    refine lv_iload_n hx hb dX0_says_27 rfl (lv_at hl 4 rfl) ?_
    refine lv_i2l (v := p3.toInt64) hx hb dX0_says_28 rfl ?_
    refine fo_lastK X hw (hx32 hX) dX0_says_29 (by decide) hf (fun st1 H locs hw hf => ?_)
    refine lv_aload hx hb dX0_says_30 (lv_at hl 0 rfl) ?_
    refine lv_iconst (v := (1 : Int32)) hx hb dX0_says_32 (by decide) ?_
    refine lv_aload_n hx hb dX0_says_33 rfl (lv_at hl 1 rfl) ?_
    refine fo_gets X hw fc_X0 (hx0 hX) (k := 2) (d := 2) (n2 := 2) (by decide) rfl rfl q347 dX0_says_34 ?_
    refine fo_getsN X hw fc_X1 (hx2 hX) (k := 1) (d := 5) (n2 := 7) (by decide) rfl rfl fn217 dX0_says_37 ?_
    refine lv_iload_n hx hb dX0_says_40 rfl (lv_at hl 4 rfl) ?_
    refine fo_iald X hw (hx7 hX) dX0_says_41 hf (fun hf => ?_)
    refine lv_i2l (v := (gi_ st1 7 p3.toNatClampNeg).toInt64) hx hb dX0_says_42 rfl ?_
    refine fo_lastK X hw (hx32 hX) dX0_says_43 (by decide) hf (fun st2 H locs hw hf => ?_)
    refine lv_aload hx hb dX0_says_44 (lv_at hl 0 rfl) ?_
    refine lv_iconst (v := (2 : Int32)) hx hb dX0_says_46 (by decide) ?_
    refine lv_aload_n hx hb dX0_says_47 rfl (lv_at hl 1 rfl) ?_
    refine fo_gets X hw fc_X0 (hx0 hX) (k := 2) (d := 2) (n2 := 2) (by decide) rfl rfl q347 dX0_says_48 ?_
    refine fo_getsN X hw fc_X1 (hx2 hX) (k := 2) (d := 6) (n2 := 8) (by decide) rfl rfl fn219 dX0_says_51 ?_
    refine lv_iload_n hx hb dX0_says_54 rfl (lv_at hl 4 rfl) ?_
    refine fo_iald X hw (hx8 hX) dX0_says_55 hf (fun hf => ?_)
    refine lv_i2l (v := (gi_ st2 8 p3.toNatClampNeg).toInt64) hx hb dX0_says_56 rfl ?_
    refine fo_lastK X hw (hx32 hX) dX0_says_57 (by decide) hf (fun st3 H locs hw hf => ?_)
    refine lv_aload hx hb dX0_says_58 (lv_at hl 0 rfl) ?_
    refine lv_iconst (v := (3 : Int32)) hx hb dX0_says_60 (by decide) ?_
    refine lv_aload_n hx hb dX0_says_61 rfl (lv_at hl 1 rfl) ?_
    refine fo_gets X hw fc_X0 (hx0 hX) (k := 2) (d := 2) (n2 := 2) (by decide) rfl rfl q347 dX0_says_62 ?_
    refine fo_getsN X hw fc_X1 (hx2 hX) (k := 3) (d := 7) (n2 := 9) (by decide) rfl rfl fn221 dX0_says_65 ?_
    refine lv_iload_n hx hb dX0_says_68 rfl (lv_at hl 4 rfl) ?_
    refine fo_iald X hw (hx9 hX) dX0_says_69 hf (fun hf => ?_)
    refine lv_i2l (v := (gi_ st3 9 p3.toNatClampNeg).toInt64) hx hb dX0_says_70 rfl ?_
    refine fo_lastK X hw (hx32 hX) dX0_says_71 (by decide) hf (fun st4 H locs hw hf => ?_)
    refine lv_aload hx hb dX0_says_72 (lv_at hl 0 rfl) ?_
    refine lv_iconst (v := (4 : Int32)) hx hb dX0_says_74 (by decide) ?_
    refine lv_iload hx hb dX0_says_75 (lv_at hl 5 rfl) ?_
    refine lv_i2l (v := p4.toInt64) hx hb dX0_says_77 rfl ?_
    refine fo_lastK X hw (hx32 hX) dX0_says_78 (by decide) hf (fun st5 H locs hw hf => ?_)
    refine lv_aload hx hb dX0_says_79 (lv_at hl 0 rfl) ?_
    refine lv_iconst (v := (5 : Int32)) hx hb dX0_says_81 (by decide) ?_
    refine lv_iload hx hb dX0_says_82 (lv_at hl 6 rfl) ?_
    refine lv_i2l (v := p5.toInt64) hx hb dX0_says_84 rfl ?_
    refine fo_lastK X hw (hx32 hX) dX0_says_85 (by decide) hf (fun st6 H locs hw hf => ?_)
    refine lv_aload hx hb dX0_says_86 (lv_at hl 0 rfl) ?_
    refine lv_bipush (v := (6 : Int32)) hx hb dX0_says_88 (by decide) ?_
    refine lv_iload hx hb dX0_says_90 (lv_at hl 7 rfl) ?_
    refine lv_i2l (v := p6.toInt64) hx hb dX0_says_92 rfl ?_
    refine fo_lastK X hw (hx32 hX) dX0_says_93 (by decide) hf (fun st7 H locs hw hf => ?_)
    refine lv_aload hx hb dX0_says_94 (lv_at hl 0 rfl) ?_
    refine lv_bipush (v := (7 : Int32)) hx hb dX0_says_96 (by decide) ?_
    refine lv_aload_n hx hb dX0_says_98 rfl (lv_at hl 3 rfl) ?_
    refine fo_getiN X hw fc_X2 hT_p2.1 (k := 3) (by decide) rfl fn175 dX0_says_99 ?_
    refine lv_i2l (v := (gi_ st7 p2 3).toInt64) hx hb dX0_says_102 rfl ?_
    refine fo_lastK X hw (hx32 hX) dX0_says_103 (by decide) hf (fun st8 H locs hw hf => ?_)
    refine lv_aload hx hb dX0_says_104 (lv_at hl 0 rfl) ?_
    refine lv_bipush (v := (8 : Int32)) hx hb dX0_says_106 (by decide) ?_
    refine lv_aload_n hx hb dX0_says_108 rfl (lv_at hl 1 rfl) ?_
    refine lv_iconst (v := (4 : Int32)) hx hb dX0_says_109 (by decide) ?_
    refine fc_Vi (rest := [.int (8 : Int32), .ref (eb E + 32)]) (As := [.int (4 : Int32)]) X hw hm_X0_term (lw_V q581 q583 qs9 q111 q584) ⟨rfl, rfl⟩ ⟨by rw [hRf]; exact Nat.le_of_ble_eq_true rfl, by rw [hRl]; exact Nat.le_of_ble_eq_true rfl⟩ fc_X0 rfl (hx0 hX) rfl rfl hl.1 (Nat.le_of_ble_eq_true rfl) dX0_says_110 (fun rQ stQ hQ => wX0_term l E hX (4 : Int32) st8 rQ stQ hQ) hf (fun x9 st10 H locs hw hf => ?_)
    refine lv_i2l (v := x9.toInt64) hx hb dX0_says_113 rfl ?_
    refine fo_lastK X hw (hx32 hX) dX0_says_114 (by decide) hf (fun st11 H locs hw hf => ?_)
    refine lv_aload hx hb dX0_says_115 (lv_at hl 0 rfl) ?_
    refine lv_bipush (v := (9 : Int32)) hx hb dX0_says_117 (by decide) ?_
    refine lv_iload hx hb dX0_says_119 (lv_at hl 5 rfl) ?_
    refine lv_iconst (v := (-1 : Int32)) hx hb dX0_says_121 (by decide) ?_
    refine jn_e hf (fun k13 ek hf => ?_)
    have hk13 : ∀ (x12 : Int64) (H : Heap) (locs : List Loc) (ls : Array Slot), lv_has ls 8 [(7, .ref (eb E + 32)), (0, .ref (eb E + 0)), (1, .int p1), (4, .int p4)] → fo_S E s st11 H locs → k13 x12 = some (rZ, stZ) → W p l e R s m args below meth c H locs 0 0 Q (F0 m 142 ls [.long x12, .int (9 : Int32), .ref (eb E + 32)]) := by
      intro x12 H locs ls hl hw hf
      rw [ek] at hf
      refine fo_lastK X hw (hx32 hX) dX0_says_142 (by decide) hf (fun st14 H locs hw hf => ?_)
      refine lv_aload hx hb dX0_says_143 (lv_at hl 0 rfl) ?_
      refine lv_bipush (v := (10 : Int32)) hx hb dX0_says_145 (by decide) ?_
      refine lv_iload hx hb dX0_says_147 (lv_at hl 3 rfl) ?_
      refine lv_iconst (v := (-1 : Int32)) hx hb dX0_says_149 (by decide) ?_
      refine jn_e hf (fun k16 ek hf => ?_)
      have hk16 : ∀ (x15 : Int64) (H : Heap) (locs : List Loc) (ls : Array Slot), lv_has ls 8 [(0, .ref (eb E + 0)), (1, .int p1)] → fo_S E s st14 H locs → k16 x15 = some (rZ, stZ) → W p l e R s m args below meth c H locs 0 0 Q (F0 m 170 ls [.long x15, .int (10 : Int32), .ref (eb E + 32)]) := by
        intro x15 H locs ls hl hw hf
        rw [ek] at hf
        refine fo_lastK X hw (hx32 hX) dX0_says_170 (by decide) hf (fun st17 H locs hw hf => ?_)
        refine lv_aload_n hx hb dX0_says_171 rfl (lv_at hl 0 rfl) ?_
        refine fo_gets X hw fc_X0 (hx0 hX) (k := 2) (d := 2) (n2 := 2) (by decide) rfl rfl q347 dX0_says_172 ?_
        refine fo_getsN X hw fc_X1 (hx2 hX) (k := 8) (d := 12) (n2 := 14) (by decide) rfl rfl fn231 dX0_says_175 ?_
        refine lv_aload_n hx hb dX0_says_178 rfl (lv_at hl 0 rfl) ?_
        refine fo_gets X hw fc_X0 (hx0 hX) (k := 2) (d := 2) (n2 := 2) (by decide) rfl rfl q347 dX0_says_179 ?_
        refine fo_getiN X hw fc_X1 (hx2 hX) (k := 11) (by decide) rfl fn237 dX0_says_182 ?_
        refine fc_Vr (rest := []) (As := [.int (gi_ st17 2 11)]) X hw hm_J2_get (lw_V q586 q587 q588 q116 q589) ⟨rfl, rfl⟩ ⟨by rw [hRf]; exact Nat.le_of_ble_eq_true rfl, by rw [hRl]; exact Nat.le_of_ble_eq_true rfl⟩ fc_J2 rfl (hx14 hX) rfl rfl hl.1 (Nat.le_of_ble_eq_true rfl) dX0_says_185 (fun rQ stQ hQ => wJ2_get l E 14 (gi_ st17 2 11) (hx14 hX) st17 rQ stQ hQ) hf (fun x18 st19 H locs hw hf => ?_)
        obtain ⟨hq20, hf⟩ := ck_e hf
        have hq20 := of_decide_eq_true hq20
        refine fo_cast X hw fc_X19 hq20 q600 dX0_says_188 ?_
        refine lv_iload_n hx hb dX0_says_191 rfl (lv_at hl 1 rfl) ?_
        refine lv_aload_n hx hb dX0_says_192 rfl (lv_at hl 0 rfl) ?_
        refine fo_gets X hw fc_X0 (hx0 hX) (k := 16) (d := 30) (n2 := 30) (by decide) rfl rfl q361 dX0_says_193 ?_
        refine fc_Vl (rest := []) (As := [.int p1, .ref (eb E + 30)]) X hw hm_X19_told (lw_V q601 q602 q603 q144 q604) ⟨rfl, rfl⟩ ⟨by rw [hRf]; exact Nat.le_of_ble_eq_true rfl, by rw [hRl]; exact Nat.le_of_ble_eq_true rfl⟩ fc_X19 rfl hq20 rfl rfl hl.1 (Nat.le_of_ble_eq_true rfl) dX0_says_196 (fun rQ stQ hQ => wX19_told l E hX G x18 p1 hq20 st19 rQ stQ hQ) hf (fun x21 st22 H locs hw hf => ?_)
        exact fd_l hend hw hf dX0_says_199
      clear ek
      refine fb_ine (tgt := 159) hx hb dX0_says_150 (by decide) hf (fun hf => ?_) (fun hf => ?_)
      · refine lv_aload_n hx hb dX0_says_159 rfl (lv_at hl 1 rfl) ?_
        refine fo_gets X hw fc_X0 (hx0 hX) (k := 2) (d := 2) (n2 := 2) (by decide) rfl rfl q347 dX0_says_160 ?_
        refine fo_getsN X hw fc_X1 (hx2 hX) (k := 5) (d := 9) (n2 := 11) (by decide) rfl rfl fn225 dX0_says_163 ?_
        refine lv_iload hx hb dX0_says_166 (lv_at hl 3 rfl) ?_
        refine fo_iald X hw (hx11 hX) dX0_says_168 hf (fun hf => ?_)
        refine lv_i2l (v := (gi_ st14 11 p4.toNatClampNeg).toInt64) hx hb dX0_says_169 rfl ?_
        exact hk16 _ _ _ _ (lv_sub hl [1, 2] rfl) hw hf
      refine lv_ldc2 (v := (-1 : Int64)) hx hb X.1.2.2.2.1 (X.1.2.2.2.2 _ q585) dX0_says_153 ?_
      refine lv_goto (tgt := 170) hx hb dX0_says_156 (by decide) ?_
      exact hk16 _ _ _ _ (lv_sub hl [1, 2] rfl) hw hf
    clear ek
    refine fb_ine (tgt := 131) hx hb dX0_says_122 (by decide) hf (fun hf => ?_) (fun hf => ?_)
    · refine lv_aload_n hx hb dX0_says_131 rfl (lv_at hl 1 rfl) ?_
      refine fo_gets X hw fc_X0 (hx0 hX) (k := 2) (d := 2) (n2 := 2) (by decide) rfl rfl q347 dX0_says_132 ?_
      refine fo_getsN X hw fc_X1 (hx2 hX) (k := 4) (d := 8) (n2 := 10) (by decide) rfl rfl fn223 dX0_says_135 ?_
      refine lv_iload hx hb dX0_says_138 (lv_at hl 5 rfl) ?_
      refine fo_iald X hw (hx10 hX) dX0_says_140 hf (fun hf => ?_)
      refine lv_i2l (v := (gi_ st11 10 p4.toNatClampNeg).toInt64) hx hb dX0_says_141 rfl ?_
      exact hk13 _ _ _ _ (lv_sub hl [0, 1, 2, 5] rfl) hw hf
    refine lv_ldc2 (v := (-1 : Int64)) hx hb X.1.2.2.2.1 (X.1.2.2.2.2 _ q585) dX0_says_125 ?_
    refine lv_goto (tgt := 142) hx hb dX0_says_128 (by decide) ?_
    exact hk13 _ _ _ _ (lv_sub hl [0, 1, 2, 5] rfl) hw hf
  refine lv_ldc2 (v := (-4000000000 : Int64)) hx hb X.1.2.2.2.1 (X.1.2.2.2.2 _ q580) dX0_says_11 ?_
  exact fd_l hend hw hf dX0_says_14

/-- ForestRooms$State.feeds -/
def fX1_feeds (p1 : Int32) (p2 : Int32) (st0 : fo_St) : Option (Int32 × fo_St) := ck_ (fo_in p1 16) (ck_ (fo_in p2 6) (if (gi_ st0 7 p1.toNatClampNeg) < (gi_ st0 10 p2.toNatClampNeg) then some ((0 : Int32), st0) else ck_ (fo_in p1 16) (ck_ (fo_in p2 6) (if (gi_ st0 8 p1.toNatClampNeg) < (gi_ st0 11 p2.toNatClampNeg) then some ((0 : Int32), st0) else some ((1 : Int32), st0)))))
theorem hm_X1_feeds : fo_M yX1_feeds 2 := ⟨by decide +kernel, by decide +kernel, by decide +kernel, by decide +kernel⟩
set_option maxHeartbeats 4000000 in
theorem wX1_feeds (l : Launch) (E : fo_E) (hX : fo_HX E) (p1 : Int32) (p2 : Int32) (st0 : fo_St) (rZ : Int32) (stZ : fo_St) (hf : fX1_feeds p1 p2 st0 = some (rZ, stZ)) : CTi l E yX1_feeds (ws_ yX1_feeds cX1_feeds 3 (some .boolean)) ({ frames := 0, cells := 0, slots := 0, locals := 0 }) [.ref (eb E + 2), .int p1, .int p2] st0 rZ stZ := by
  refine fe_z hm_X1_feeds (Nat.le_of_ble_eq_true rfl) (fun p e R s m args below meth c Q hRf hRl X hend ls hl hw => ?_)
  have hx := X.1.1
  have hb := X.1.2.1
  have hl : lv_has ls 3 [(0, .ref (eb E + 2)), (1, .int p1), (2, .int p2)] := hl
  unfold fX1_feeds at hf
  generalize s.heap = H at hw ⊢
  generalize ([] : List Loc) = locs at hw ⊢
  refine lv_aload_n hx hb dX1_feeds_0 rfl (lv_at hl 0 rfl) ?_
  refine fo_gets X hw fc_X1 (hx2 hX) (k := 1) (d := 5) (n2 := 7) (by decide) rfl rfl q216 dX1_feeds_1 ?_
  refine lv_iload_n hx hb dX1_feeds_4 rfl (lv_at hl 1 rfl) ?_
  refine fo_iald X hw (hx7 hX) dX1_feeds_5 hf (fun hf => ?_)
  refine lv_aload_n hx hb dX1_feeds_6 rfl (lv_at hl 0 rfl) ?_
  refine fo_gets X hw fc_X1 (hx2 hX) (k := 4) (d := 8) (n2 := 10) (by decide) rfl rfl q222 dX1_feeds_7 ?_
  refine lv_iload_n hx hb dX1_feeds_10 rfl (lv_at hl 2 rfl) ?_
  refine fo_iald X hw (hx10 hX) dX1_feeds_11 hf (fun hf => ?_)
  refine fb_ilt (tgt := 34) hx hb dX1_feeds_12 (by decide) hf (fun hf => ?_) (fun hf => ?_)
  · refine lv_iconst (v := (0 : Int32)) hx hb dX1_feeds_34 (by decide) ?_
    exact fd_z hend hw rfl hf dX1_feeds_35
  refine lv_aload_n hx hb dX1_feeds_15 rfl (lv_at hl 0 rfl) ?_
  refine fo_gets X hw fc_X1 (hx2 hX) (k := 2) (d := 6) (n2 := 8) (by decide) rfl rfl q218 dX1_feeds_16 ?_
  refine lv_iload_n hx hb dX1_feeds_19 rfl (lv_at hl 1 rfl) ?_
  refine fo_iald X hw (hx8 hX) dX1_feeds_20 hf (fun hf => ?_)
  refine lv_aload_n hx hb dX1_feeds_21 rfl (lv_at hl 0 rfl) ?_
  refine fo_gets X hw fc_X1 (hx2 hX) (k := 5) (d := 9) (n2 := 11) (by decide) rfl rfl q224 dX1_feeds_22 ?_
  refine lv_iload_n hx hb dX1_feeds_25 rfl (lv_at hl 2 rfl) ?_
  refine fo_iald X hw (hx11 hX) dX1_feeds_26 hf (fun hf => ?_)
  refine fb_ilt (tgt := 34) hx hb dX1_feeds_27 (by decide) hf (fun hf => ?_) (fun hf => ?_)
  · refine lv_iconst (v := (0 : Int32)) hx hb dX1_feeds_34 (by decide) ?_
    exact fd_z hend hw rfl hf dX1_feeds_35
  refine lv_iconst (v := (1 : Int32)) hx hb dX1_feeds_30 (by decide) ?_
  refine lv_goto (tgt := 35) hx hb dX1_feeds_31 (by decide) ?_
  exact fd_z hend hw rfl hf dX1_feeds_35

/-- ForestRooms.near -/
def fX0_near (p1 : Int64) (p2 : Int32) (p3 : Int32) (st0 : fo_St) : Option (Int32 × fo_St) := some ((mxL_ (p2.toInt64) (mnL_ (p3.toInt64) p1)).toInt32, st0)
theorem hm_X0_near : fo_M yX0_near 3 := ⟨by decide +kernel, by decide +kernel, by decide +kernel, by decide +kernel⟩
set_option maxHeartbeats 4000000 in
theorem wX0_near (l : Launch) (E : fo_E) (hX : fo_HX E) (p1 : Int64) (p2 : Int32) (p3 : Int32) (st0 : fo_St) (rZ : Int32) (stZ : fo_St) (hf : fX0_near p1 p2 p3 st0 = some (rZ, stZ)) : CTi l E yX0_near (ws_ yX0_near cX0_near 4 (some .int)) ({ frames := 1, cells := 0, slots := 0, locals := 30 }) [.long p1, .int p2, .int p3] st0 rZ stZ := by
  refine fe_i hm_X0_near (Nat.le_of_ble_eq_true rfl) (fun p e R s m args below meth c Q hRf hRl X hend ls hl hw => ?_)
  have hx := X.1.1
  have hb := X.1.2.1
  have hl : lv_has ls 4 [(0, .long p1), (2, .int p2), (3, .int p3)] := hl
  unfold fX0_near at hf
  generalize s.heap = H at hw ⊢
  generalize ([] : List Loc) = locs at hw ⊢
  refine lv_iload_n hx hb dX0_near_0 rfl (lv_at hl 1 rfl) ?_
  refine lv_i2l (v := p2.toInt64) hx hb dX0_near_1 rfl ?_
  refine lv_iload_n hx hb dX0_near_2 rfl (lv_at hl 2 rfl) ?_
  refine lv_i2l (v := p3.toInt64) hx hb dX0_near_3 rfl ?_
  refine lv_lload_n hx hb dX0_near_4 rfl (lv_at hl 0 rfl) ?_
  refine fo_mnL (rest := [.long p2.toInt64]) X hl.1 q661 q662 q124 q663 (by rw [hRf]; exact Nat.le_of_ble_eq_true rfl) (by rw [hRl]; exact Nat.le_of_ble_eq_true rfl) dX0_near_5 ?_
  refine fo_mxL (rest := []) X hl.1 q664 q665 q124 q666 (by rw [hRf]; exact Nat.le_of_ble_eq_true rfl) (by rw [hRl]; exact Nat.le_of_ble_eq_true rfl) dX0_near_8 ?_
  refine lv_l2i (v := (mxL_ (p2.toInt64) (mnL_ (p3.toInt64) p1)).toInt32) hx hb dX0_near_11 rfl ?_
  exact fd_i hend hw hf dX0_near_12

/-- ForestRooms.or -/
def fX0_or (p1 : Int64) (p2 : Int32) (p3 : Int32) (st0 : fo_St) : Option (Int32 × fo_St) := if ¬ p1 = (-4000000000 : Int64) then bd_ (fX0_near p1 (0 : Int32) p2 st0) (fun x1 st2 => some (x1, st2)) else some (p3, st0)
theorem hm_X0_or : fo_M yX0_or 3 := ⟨by decide +kernel, by decide +kernel, by decide +kernel, by decide +kernel⟩
set_option maxHeartbeats 4000000 in
theorem wX0_or (l : Launch) (E : fo_E) (hX : fo_HX E) (p1 : Int64) (p2 : Int32) (p3 : Int32) (st0 : fo_St) (rZ : Int32) (stZ : fo_St) (hf : fX0_or p1 p2 p3 st0 = some (rZ, stZ)) : CTi l E yX0_or (ws_ yX0_or cX0_or 4 (some .int)) ({ frames := 2, cells := 0, slots := 0, locals := 53 }) [.long p1, .int p2, .int p3] st0 rZ stZ := by
  refine fe_i hm_X0_or (Nat.le_of_ble_eq_true rfl) (fun p e R s m args below meth c Q hRf hRl X hend ls hl hw => ?_)
  have hx := X.1.1
  have hb := X.1.2.1
  have hl : lv_has ls 4 [(0, .long p1), (2, .int p2), (3, .int p3)] := hl
  unfold fX0_or at hf
  generalize s.heap = H at hw ⊢
  generalize ([] : List Loc) = locs at hw ⊢
  refine lv_lload_n hx hb dX0_or_0 rfl (lv_at hl 0 rfl) ?_
  refine lv_ldc2 (v := (-4000000000 : Int64)) hx hb X.1.2.2.2.1 (X.1.2.2.2.2 _ q580) dX0_or_1 ?_
  refine fb_lne (tgt := 12) hx hb dX0_or_4 dX0_or_5 (by decide) hf (fun hf => ?_) (fun hf => ?_)
  · refine lv_lload_n hx hb dX0_or_12 rfl (lv_at hl 0 rfl) ?_
    refine lv_iconst (v := (0 : Int32)) hx hb dX0_or_13 (by decide) ?_
    refine lv_iload_n hx hb dX0_or_14 rfl (lv_at hl 1 rfl) ?_
    refine fc_Si (rest := []) (As := [.long p1, .int (0 : Int32), .int p2]) X hw hm_X0_near (lw_S q658 q659 q111 q660) ⟨rfl, rfl⟩ ⟨by rw [hRf]; exact Nat.le_of_ble_eq_true rfl, by rw [hRl]; exact Nat.le_of_ble_eq_true rfl⟩ rfl rfl hl.1 (Nat.le_of_ble_eq_true rfl) dX0_or_15 (fun rQ stQ hQ => wX0_near l E hX p1 (0 : Int32) p2 st0 rQ stQ hQ) hf (fun x1 st2 H locs hw hf => ?_)
    exact fd_i hend hw hf dX0_or_18
  refine lv_iload_n hx hb dX0_or_8 rfl (lv_at hl 2 rfl) ?_
  refine lv_goto (tgt := 18) hx hb dX0_or_9 (by decide) ?_
  exact fd_i hend hw hf dX0_or_18

/-- ForestRooms.grows -/
def fX0_grows (tg : Nat → Nat × Nat) (G : Nat) (p1 : Nat) (p2 : Int32) (st0 : fo_St) : Option (Int32 × fo_St) := ck_ (fo_in p2 16) (ck_ (fo_in p2 16) (bd_ (fX0_says tg G (0 : Int32) p1 p2 (gi_ st0 (p1 + 1) p2.toNatClampNeg) (gi_ st0 (p1 + 2) p2.toNatClampNeg) (-1 : Int32) st0) (fun x1 st2 => ck_ (fo_in p2 16) (bd_ (fX1_feeds p2 (gi_ st2 (p1 + 1) p2.toNatClampNeg) st2) (fun x3 st4 => jn_ (fun (x5 : Int32) => bd_ (fX0_or x1 (20 : Int32) x5 st4) (fun x7 st8 => some (x7, st8))) (fun k6 => if x3 = 0 then k6 (0 : Int32) else k6 (3 : Int32)))))))
theorem hm_X0_grows : fo_M yX0_grows 2 := ⟨by decide +kernel, by decide +kernel, by decide +kernel, by decide +kernel⟩
set_option maxHeartbeats 4000000 in
theorem wX0_grows (l : Launch) (E : fo_E) (hX : fo_HX E) (G : Nat) (p1 : Nat) (p2 : Int32) (hT_p1 : fo_tab E p1) (st0 : fo_St) (rZ : Int32) (stZ : fo_St) (hf : fX0_grows (et E) G p1 p2 st0 = some (rZ, stZ)) : CTi l E yX0_grows (ws_ yX0_grows cX0_grows 3 (some .int)) ({ frames := 130, cells := 0, slots := 0, locals := 7736 }) [.ref (eb E + 0), .ref (eb E + p1), .int p2] st0 rZ stZ := by
  refine fe_i hm_X0_grows (Nat.le_of_ble_eq_true rfl) (fun p e R s m args below meth c Q hRf hRl X hend ls hl hw => ?_)
  have hx := X.1.1
  have hb := X.1.2.1
  have hl : lv_has ls 3 [(0, .ref (eb E + 0)), (1, .ref (eb E + p1)), (2, .int p2)] := hl
  unfold fX0_grows at hf
  generalize s.heap = H at hw ⊢
  generalize ([] : List Loc) = locs at hw ⊢
  refine lv_aload_n hx hb dX0_grows_0 rfl (lv_at hl 0 rfl) ?_
  refine lv_iconst (v := (0 : Int32)) hx hb dX0_grows_1 (by decide) ?_
  refine lv_aload_n hx hb dX0_grows_2 rfl (lv_at hl 1 rfl) ?_
  refine lv_iload_n hx hb dX0_grows_3 rfl (lv_at hl 2 rfl) ?_
  refine lv_aload_n hx hb dX0_grows_4 rfl (lv_at hl 1 rfl) ?_
  refine fo_getsN X hw fc_X2 hT_p1.1 (k := 0) (d := 1) (n2 := (p1 + 1)) (by decide) rfl rfl fn168 dX0_grows_5 ?_
  refine lv_iload_n hx hb dX0_grows_8 rfl (lv_at hl 2 rfl) ?_
  refine fo_iald X hw hT_p1.2.1 dX0_grows_9 hf (fun hf => ?_)
  refine lv_aload_n hx hb dX0_grows_10 rfl (lv_at hl 1 rfl) ?_
  refine fo_getsN X hw fc_X2 hT_p1.1 (k := 1) (d := 2) (n2 := (p1 + 2)) (by decide) rfl rfl fn171 dX0_grows_11 ?_
  refine lv_iload_n hx hb dX0_grows_14 rfl (lv_at hl 2 rfl) ?_
  refine fo_iald X hw hT_p1.2.2.1 dX0_grows_15 hf (fun hf => ?_)
  refine lv_iconst (v := (-1 : Int32)) hx hb dX0_grows_16 (by decide) ?_
  refine fc_Vl (rest := []) (As := [.int (0 : Int32), .ref (eb E + p1), .int p2, .int (gi_ st0 (p1 + 1) p2.toNatClampNeg), .int (gi_ st0 (p1 + 2) p2.toNatClampNeg), .int (-1 : Int32)]) X hw hm_X0_says (lw_V q576 q578 qs8 q111 q579) ⟨rfl, rfl⟩ ⟨by rw [hRf]; exact Nat.le_of_ble_eq_true rfl, by rw [hRl]; exact Nat.le_of_ble_eq_true rfl⟩ fc_X0 rfl (hx0 hX) rfl rfl hl.1 (Nat.le_of_ble_eq_true rfl) dX0_grows_17 (fun rQ stQ hQ => wX0_says l E hX G (0 : Int32) p1 p2 (gi_ st0 (p1 + 1) p2.toNatClampNeg) (gi_ st0 (p1 + 2) p2.toNatClampNeg) (-1 : Int32) hT_p1 st0 rQ stQ hQ) hf (fun x1 st2 H locs hw hf => ?_)
  refine lv_bipush (v := (20 : Int32)) hx hb dX0_grows_20 (by decide) ?_
  refine lv_aload_n hx hb dX0_grows_22 rfl (lv_at hl 0 rfl) ?_
  refine fo_gets X hw fc_X0 (hx0 hX) (k := 2) (d := 2) (n2 := 2) (by decide) rfl rfl q347 dX0_grows_23 ?_
  refine lv_iload_n hx hb dX0_grows_26 rfl (lv_at hl 2 rfl) ?_
  refine lv_aload_n hx hb dX0_grows_27 rfl (lv_at hl 1 rfl) ?_
  refine fo_getsN X hw fc_X2 hT_p1.1 (k := 0) (d := 1) (n2 := (p1 + 1)) (by decide) rfl rfl fn168 dX0_grows_28 ?_
  refine lv_iload_n hx hb dX0_grows_31 rfl (lv_at hl 2 rfl) ?_
  refine fo_iald X hw hT_p1.2.1 dX0_grows_32 hf (fun hf => ?_)
  refine fc_Vi (rest := [.int (20 : Int32), .long x1]) (As := [.int p2, .int (gi_ st2 (p1 + 1) p2.toNatClampNeg)]) X hw hm_X1_feeds (lw_V q651 q652 q653 q112 q654) ⟨rfl, rfl⟩ ⟨by rw [hRf]; exact Nat.le_of_ble_eq_true rfl, by rw [hRl]; exact Nat.le_of_ble_eq_true rfl⟩ fc_X1 rfl (hx2 hX) rfl rfl hl.1 (Nat.le_of_ble_eq_true rfl) dX0_grows_33 (fun rQ stQ hQ => wX1_feeds l E hX p2 (gi_ st2 (p1 + 1) p2.toNatClampNeg) st2 rQ stQ hQ) hf (fun x3 st4 H locs hw hf => ?_)
  refine jn_e hf (fun k6 ek hf => ?_)
  have hk6 : ∀ (x5 : Int32) (H : Heap) (locs : List Loc) (ls : Array Slot), lv_has ls 3 [] → fo_S E s st4 H locs → k6 x5 = some (rZ, stZ) → W p l e R s m args below meth c H locs 0 0 Q (F0 m 44 ls [.int x5, .int (20 : Int32), .long x1]) := by
    intro x5 H locs ls hl hw hf
    rw [ek] at hf
    refine fc_Si (rest := []) (As := [.long x1, .int (20 : Int32), .int x5]) X hw hm_X0_or (lw_S q655 q656 q111 q657) ⟨rfl, rfl⟩ ⟨by rw [hRf]; exact Nat.le_of_ble_eq_true rfl, by rw [hRl]; exact Nat.le_of_ble_eq_true rfl⟩ rfl rfl hl.1 (Nat.le_of_ble_eq_true rfl) dX0_grows_44 (fun rQ stQ hQ => wX0_or l E hX x1 (20 : Int32) x5 st4 rQ stQ hQ) hf (fun x7 st8 H locs hw hf => ?_)
    exact fd_i hend hw hf dX0_grows_47
  clear ek
  refine fb_zeq (tgt := 43) hx hb dX0_grows_36 (by decide) hf (fun hf => ?_) (fun hf => ?_)
  · refine lv_iconst (v := (0 : Int32)) hx hb dX0_grows_43 (by decide) ?_
    exact hk6 _ _ _ _ (lv_sub hl [] rfl) hw hf
  refine lv_iconst (v := (3 : Int32)) hx hb dX0_grows_39 (by decide) ?_
  refine lv_goto (tgt := 44) hx hb dX0_grows_40 (by decide) ?_
  exact hk6 _ _ _ _ (lv_sub hl [] rfl) hw hf

/-- ForestRooms.leaves -/
def fX0_leaves (tg : Nat → Nat × Nat) (G : Nat) (p1 : Nat) (p2 : Int32) (st0 : fo_St) : Option (Int32 × fo_St) := ck_ (fo_in p2 16) (ck_ (fo_in p2 16) (bd_ (fX0_says tg G (2 : Int32) p1 p2 (gi_ st0 (p1 + 1) p2.toNatClampNeg) (gi_ st0 (p1 + 2) p2.toNatClampNeg) (-1 : Int32) st0) (fun x1 st2 => ck_ (fo_in p2 16) (bd_ (fX0_or x1 (999 : Int32) (gi_ st2 (p1 + 2) p2.toNatClampNeg) st2) (fun x3 st4 => some (x3, st4))))))
theorem hm_X0_leaves : fo_M yX0_leaves 2 := ⟨by decide +kernel, by decide +kernel, by decide +kernel, by decide +kernel⟩
set_option maxHeartbeats 4000000 in
theorem wX0_leaves (l : Launch) (E : fo_E) (hX : fo_HX E) (G : Nat) (p1 : Nat) (p2 : Int32) (hT_p1 : fo_tab E p1) (st0 : fo_St) (rZ : Int32) (stZ : fo_St) (hf : fX0_leaves (et E) G p1 p2 st0 = some (rZ, stZ)) : CTi l E yX0_leaves (ws_ yX0_leaves cX0_leaves 3 (some .int)) ({ frames := 130, cells := 0, slots := 0, locals := 7736 }) [.ref (eb E + 0), .ref (eb E + p1), .int p2] st0 rZ stZ := by
  refine fe_i hm_X0_leaves (Nat.le_of_ble_eq_true rfl) (fun p e R s m args below meth c Q hRf hRl X hend ls hl hw => ?_)
  have hx := X.1.1
  have hb := X.1.2.1
  have hl : lv_has ls 3 [(0, .ref (eb E + 0)), (1, .ref (eb E + p1)), (2, .int p2)] := hl
  unfold fX0_leaves at hf
  generalize s.heap = H at hw ⊢
  generalize ([] : List Loc) = locs at hw ⊢
  refine lv_aload_n hx hb dX0_leaves_0 rfl (lv_at hl 0 rfl) ?_
  refine lv_iconst (v := (2 : Int32)) hx hb dX0_leaves_1 (by decide) ?_
  refine lv_aload_n hx hb dX0_leaves_2 rfl (lv_at hl 1 rfl) ?_
  refine lv_iload_n hx hb dX0_leaves_3 rfl (lv_at hl 2 rfl) ?_
  refine lv_aload_n hx hb dX0_leaves_4 rfl (lv_at hl 1 rfl) ?_
  refine fo_getsN X hw fc_X2 hT_p1.1 (k := 0) (d := 1) (n2 := (p1 + 1)) (by decide) rfl rfl fn168 dX0_leaves_5 ?_
  refine lv_iload_n hx hb dX0_leaves_8 rfl (lv_at hl 2 rfl) ?_
  refine fo_iald X hw hT_p1.2.1 dX0_leaves_9 hf (fun hf => ?_)
  refine lv_aload_n hx hb dX0_leaves_10 rfl (lv_at hl 1 rfl) ?_
  refine fo_getsN X hw fc_X2 hT_p1.1 (k := 1) (d := 2) (n2 := (p1 + 2)) (by decide) rfl rfl fn171 dX0_leaves_11 ?_
  refine lv_iload_n hx hb dX0_leaves_14 rfl (lv_at hl 2 rfl) ?_
  refine fo_iald X hw hT_p1.2.2.1 dX0_leaves_15 hf (fun hf => ?_)
  refine lv_iconst (v := (-1 : Int32)) hx hb dX0_leaves_16 (by decide) ?_
  refine fc_Vl (rest := []) (As := [.int (2 : Int32), .ref (eb E + p1), .int p2, .int (gi_ st0 (p1 + 1) p2.toNatClampNeg), .int (gi_ st0 (p1 + 2) p2.toNatClampNeg), .int (-1 : Int32)]) X hw hm_X0_says (lw_V q576 q578 qs8 q111 q579) ⟨rfl, rfl⟩ ⟨by rw [hRf]; exact Nat.le_of_ble_eq_true rfl, by rw [hRl]; exact Nat.le_of_ble_eq_true rfl⟩ fc_X0 rfl (hx0 hX) rfl rfl hl.1 (Nat.le_of_ble_eq_true rfl) dX0_leaves_17 (fun rQ stQ hQ => wX0_says l E hX G (2 : Int32) p1 p2 (gi_ st0 (p1 + 1) p2.toNatClampNeg) (gi_ st0 (p1 + 2) p2.toNatClampNeg) (-1 : Int32) hT_p1 st0 rQ stQ hQ) hf (fun x1 st2 H locs hw hf => ?_)
  refine lv_sipush (v := (999 : Int32)) hx hb dX0_leaves_20 (by decide) ?_
  refine lv_aload_n hx hb dX0_leaves_23 rfl (lv_at hl 1 rfl) ?_
  refine fo_getsN X hw fc_X2 hT_p1.1 (k := 1) (d := 2) (n2 := (p1 + 2)) (by decide) rfl rfl fn171 dX0_leaves_24 ?_
  refine lv_iload_n hx hb dX0_leaves_27 rfl (lv_at hl 2 rfl) ?_
  refine fo_iald X hw hT_p1.2.2.1 dX0_leaves_28 hf (fun hf => ?_)
  refine fc_Si (rest := []) (As := [.long x1, .int (999 : Int32), .int (gi_ st2 (p1 + 2) p2.toNatClampNeg)]) X hw hm_X0_or (lw_S q655 q656 q111 q657) ⟨rfl, rfl⟩ ⟨by rw [hRf]; exact Nat.le_of_ble_eq_true rfl, by rw [hRl]; exact Nat.le_of_ble_eq_true rfl⟩ rfl rfl hl.1 (Nat.le_of_ble_eq_true rfl) dX0_leaves_29 (fun rQ stQ hQ => wX0_or l E hX x1 (999 : Int32) (gi_ st2 (p1 + 2) p2.toNatClampNeg) st2 rQ stQ hQ) hf (fun x3 st4 H locs hw hf => ?_)
  exact fd_i hend hw hf dX0_leaves_32

/-- ForestRooms.at -/
def fX0_at (tg : Nat → Nat × Nat) (G : Nat) (p1 : Int32) (p2 : Int32) (st0 : fo_St) : Option (Int32 × fo_St) := bd_ (fX0_isRoom p1 st0) (fun x1 st2 => if ¬ x1 = 0 then bd_ (fX0_table st2) (fun x3 st4 => ck_ (decide (x3 = 3)) (if p2 = (0 : Int32) then bd_ (fX0_rowOf p2 st4) (fun x5 st6 => ck_ (decide (x5 = 7 ∨ x5 = 8 ∨ x5 = 9)) (ck_ (fo_in p1 16) (some ((gi_ st6 x5 p1.toNatClampNeg), st6)))) else if p2 = (1 : Int32) then bd_ (fX0_rowOf p2 st4) (fun x8 st9 => ck_ (decide (x8 = 7 ∨ x8 = 8 ∨ x8 = 9)) (ck_ (fo_in p1 16) (some ((gi_ st9 x8 p1.toNatClampNeg), st9)))) else if p2 = (2 : Int32) then bd_ (fX0_rowOf p2 st4) (fun x11 st12 => ck_ (decide (x11 = 7 ∨ x11 = 8 ∨ x11 = 9)) (ck_ (fo_in p1 16) (some ((gi_ st12 x11 p1.toNatClampNeg), st12)))) else if p2 = (3 : Int32) then ck_ (fo_in p1 16) (some ((gi_ st4 4 p1.toNatClampNeg), st4)) else if p2 = (4 : Int32) then ck_ (fo_in p1 16) (some ((gi_ st4 5 p1.toNatClampNeg), st4)) else if p2 = (5 : Int32) then ck_ (fo_in p1 16) (some ((gi_ st4 6 p1.toNatClampNeg), st4)) else if p2 = (6 : Int32) then bd_ (fX1_isLost 3 p1 st4) (fun x14 st15 => if x14 = 0 then some ((0 : Int32), st15) else some ((1 : Int32), st15)) else if p2 = (7 : Int32) then bd_ (fX2_isTree 3 p1 st4) (fun x16 st17 => if x16 = 0 then some ((-1 : Int32), st17) else bd_ (fX0_grows tg G 3 p1 st17) (fun x18 st19 => some (x18, st19))) else if p2 = (8 : Int32) then bd_ (fX2_isTree 3 p1 st4) (fun x20 st21 => if x20 = 0 then some ((0 : Int32), st21) else bd_ (fX0_leaves tg G 3 p1 st21) (fun x22 st23 => some (x22, st23))) else some ((-1 : Int32), st4))) else some ((-1 : Int32), st2))
theorem hm_X0_at : fo_M yX0_at 2 := ⟨by decide +kernel, by decide +kernel, by decide +kernel, by decide +kernel⟩
set_option maxHeartbeats 4000000 in
theorem wX0_at (l : Launch) (E : fo_E) (hX : fo_HX E) (G : Nat) (p1 : Int32) (p2 : Int32) (st0 : fo_St) (rZ : Int32) (stZ : fo_St) (hf : fX0_at (et E) G p1 p2 st0 = some (rZ, stZ)) : CTi l E yX0_at (ws_ yX0_at cX0_at 4 (some .int)) ({ frames := 131, cells := 0, slots := 0, locals := 7758 }) [.ref (eb E + 0), .int p1, .int p2] st0 rZ stZ := by
  refine fe_i hm_X0_at (Nat.le_of_ble_eq_true rfl) (fun p e R s m args below meth c Q hRf hRl X hend ls hl hw => ?_)
  have hx := X.1.1
  have hb := X.1.2.1
  have hl : lv_has ls 4 [(0, .ref (eb E + 0)), (1, .int p1), (2, .int p2)] := hl
  unfold fX0_at at hf
  generalize s.heap = H at hw ⊢
  generalize ([] : List Loc) = locs at hw ⊢
  refine lv_iload_n hx hb dX0_at_0 rfl (lv_at hl 1 rfl) ?_
  refine fc_Si (rest := []) (As := [.int p1]) X hw hm_X0_isRoom (lw_S q546 q547 q111 q548) ⟨rfl, rfl⟩ ⟨by rw [hRf]; exact Nat.le_of_ble_eq_true rfl, by rw [hRl]; exact Nat.le_of_ble_eq_true rfl⟩ rfl rfl hl.1 (Nat.le_of_ble_eq_true rfl) dX0_at_1 (fun rQ stQ hQ => wX0_isRoom l E hX p1 st0 rQ stQ hQ) hf (fun x1 st2 H locs hw hf => ?_)
  refine fb_zne (tgt := 9) hx hb dX0_at_4 (by decide) hf (fun hf => ?_) (fun hf => ?_)
  · refine lv_aload_n hx hb dX0_at_9 rfl (lv_at hl 0 rfl) ?_
    refine fc_Vr (rest := []) (As := []) X hw hm_X0_table (lw_V q560 q562 qs6 q111 q563) ⟨rfl, rfl⟩ ⟨by rw [hRf]; exact Nat.le_of_ble_eq_true rfl, by rw [hRl]; exact Nat.le_of_ble_eq_true rfl⟩ fc_X0 rfl (hx0 hX) rfl rfl hl.1 (Nat.le_of_ble_eq_true rfl) dX0_at_10 (fun rQ stQ hQ => wX0_table l E hX st2 rQ stQ hQ) hf (fun x3 st4 H locs hw hf => ?_)
    have hc0 := ck_e hf
    clear hf
    obtain ⟨hc, hf⟩ := hc0
    replace hc := of_decide_eq_true hc
    subst hc
    refine lv_astore_n (lv' := [(3, .ref (eb E + 3)), (0, .ref (eb E + 0)), (1, .int p1), (2, .int p2)]) hx hb dX0_at_13 rfl hl (by decide) rfl (fun ls hl => ?_)
    refine lv_iload_n hx hb dX0_at_14 rfl (lv_at hl 3 rfl) ?_
    refine sw_e hf (fun e0 hf => ?_) (fun n0 hf => ?_)
    · refine lv_tableIn (tgt := 64) hx hb dX0_at_15 (by rw [e0]; decide) (by rw [e0]; decide) (off := 49) (by rw [e0]; decide) (by decide) ?_
      refine lv_aload_n hx hb dX0_at_64 rfl (lv_at hl 1 rfl) ?_
      refine lv_iload_n hx hb dX0_at_65 rfl (lv_at hl 3 rfl) ?_
      refine fc_Vr (rest := []) (As := [.int p2]) X hw hm_X0_rowOf (lw_V q552 q554 qs5 q111 q555) ⟨rfl, rfl⟩ ⟨by rw [hRf]; exact Nat.le_of_ble_eq_true rfl, by rw [hRl]; exact Nat.le_of_ble_eq_true rfl⟩ fc_X0 rfl (hx0 hX) rfl rfl hl.1 (Nat.le_of_ble_eq_true rfl) dX0_at_66 (fun rQ stQ hQ => wX0_rowOf l E hX p2 st4 rQ stQ hQ) hf (fun x5 st6 H locs hw hf => ?_)
      obtain ⟨hc, hf⟩ := ck_e hf
      have hc := of_decide_eq_true hc
      have hq7 : et E x5 = (2, 16) := by rcases hc with rfl | rfl | rfl <;> first | exact hx7 hX | exact hx8 hX | exact hx9 hX
      refine lv_iload_n hx hb dX0_at_69 rfl (lv_at hl 2 rfl) ?_
      refine fo_iald X hw hq7 dX0_at_70 hf (fun hf => ?_)
      exact fd_i hend hw hf dX0_at_71
    refine sw_e hf (fun e0 hf => ?_) (fun n1 hf => ?_)
    · refine lv_tableIn (tgt := 64) hx hb dX0_at_15 (by rw [e0]; decide) (by rw [e0]; decide) (off := 49) (by rw [e0]; decide) (by decide) ?_
      refine lv_aload_n hx hb dX0_at_64 rfl (lv_at hl 1 rfl) ?_
      refine lv_iload_n hx hb dX0_at_65 rfl (lv_at hl 3 rfl) ?_
      refine fc_Vr (rest := []) (As := [.int p2]) X hw hm_X0_rowOf (lw_V q552 q554 qs5 q111 q555) ⟨rfl, rfl⟩ ⟨by rw [hRf]; exact Nat.le_of_ble_eq_true rfl, by rw [hRl]; exact Nat.le_of_ble_eq_true rfl⟩ fc_X0 rfl (hx0 hX) rfl rfl hl.1 (Nat.le_of_ble_eq_true rfl) dX0_at_66 (fun rQ stQ hQ => wX0_rowOf l E hX p2 st4 rQ stQ hQ) hf (fun x8 st9 H locs hw hf => ?_)
      obtain ⟨hc, hf⟩ := ck_e hf
      have hc := of_decide_eq_true hc
      have hq10 : et E x8 = (2, 16) := by rcases hc with rfl | rfl | rfl <;> first | exact hx7 hX | exact hx8 hX | exact hx9 hX
      refine lv_iload_n hx hb dX0_at_69 rfl (lv_at hl 2 rfl) ?_
      refine fo_iald X hw hq10 dX0_at_70 hf (fun hf => ?_)
      exact fd_i hend hw hf dX0_at_71
    refine sw_e hf (fun e0 hf => ?_) (fun n2 hf => ?_)
    · refine lv_tableIn (tgt := 64) hx hb dX0_at_15 (by rw [e0]; decide) (by rw [e0]; decide) (off := 49) (by rw [e0]; decide) (by decide) ?_
      refine lv_aload_n hx hb dX0_at_64 rfl (lv_at hl 1 rfl) ?_
      refine lv_iload_n hx hb dX0_at_65 rfl (lv_at hl 3 rfl) ?_
      refine fc_Vr (rest := []) (As := [.int p2]) X hw hm_X0_rowOf (lw_V q552 q554 qs5 q111 q555) ⟨rfl, rfl⟩ ⟨by rw [hRf]; exact Nat.le_of_ble_eq_true rfl, by rw [hRl]; exact Nat.le_of_ble_eq_true rfl⟩ fc_X0 rfl (hx0 hX) rfl rfl hl.1 (Nat.le_of_ble_eq_true rfl) dX0_at_66 (fun rQ stQ hQ => wX0_rowOf l E hX p2 st4 rQ stQ hQ) hf (fun x11 st12 H locs hw hf => ?_)
      obtain ⟨hc, hf⟩ := ck_e hf
      have hc := of_decide_eq_true hc
      have hq13 : et E x11 = (2, 16) := by rcases hc with rfl | rfl | rfl <;> first | exact hx7 hX | exact hx8 hX | exact hx9 hX
      refine lv_iload_n hx hb dX0_at_69 rfl (lv_at hl 2 rfl) ?_
      refine fo_iald X hw hq13 dX0_at_70 hf (fun hf => ?_)
      exact fd_i hend hw hf dX0_at_71
    refine sw_e hf (fun e0 hf => ?_) (fun n3 hf => ?_)
    · refine lv_tableIn (tgt := 72) hx hb dX0_at_15 (by rw [e0]; decide) (by rw [e0]; decide) (off := 57) (by rw [e0]; decide) (by decide) ?_
      refine lv_aload_n hx hb dX0_at_72 rfl (lv_at hl 0 rfl) ?_
      refine fo_getsN X hw fc_X2 (hx3 hX) (k := 0) (d := 1) (n2 := 4) (by decide) rfl rfl fn168 dX0_at_73 ?_
      refine lv_iload_n hx hb dX0_at_76 rfl (lv_at hl 2 rfl) ?_
      refine fo_iald X hw (hx4 hX) dX0_at_77 hf (fun hf => ?_)
      exact fd_i hend hw hf dX0_at_78
    refine sw_e hf (fun e0 hf => ?_) (fun n4 hf => ?_)
    · refine lv_tableIn (tgt := 79) hx hb dX0_at_15 (by rw [e0]; decide) (by rw [e0]; decide) (off := 64) (by rw [e0]; decide) (by decide) ?_
      refine lv_aload_n hx hb dX0_at_79 rfl (lv_at hl 0 rfl) ?_
      refine fo_getsN X hw fc_X2 (hx3 hX) (k := 1) (d := 2) (n2 := 5) (by decide) rfl rfl fn171 dX0_at_80 ?_
      refine lv_iload_n hx hb dX0_at_83 rfl (lv_at hl 2 rfl) ?_
      refine fo_iald X hw (hx5 hX) dX0_at_84 hf (fun hf => ?_)
      exact fd_i hend hw hf dX0_at_85
    refine sw_e hf (fun e0 hf => ?_) (fun n5 hf => ?_)
    · refine lv_tableIn (tgt := 86) hx hb dX0_at_15 (by rw [e0]; decide) (by rw [e0]; decide) (off := 71) (by rw [e0]; decide) (by decide) ?_
      refine lv_aload_n hx hb dX0_at_86 rfl (lv_at hl 0 rfl) ?_
      refine fo_getsN X hw fc_X2 (hx3 hX) (k := 2) (d := 3) (n2 := 6) (by decide) rfl rfl fn173 dX0_at_87 ?_
      refine lv_iload_n hx hb dX0_at_90 rfl (lv_at hl 2 rfl) ?_
      refine fo_iald X hw (hx6 hX) dX0_at_91 hf (fun hf => ?_)
      exact fd_i hend hw hf dX0_at_92
    refine sw_e hf (fun e0 hf => ?_) (fun n6 hf => ?_)
    · refine lv_tableIn (tgt := 93) hx hb dX0_at_15 (by rw [e0]; decide) (by rw [e0]; decide) (off := 78) (by rw [e0]; decide) (by decide) ?_
      refine lv_aload_n hx hb dX0_at_93 rfl (lv_at hl 1 rfl) ?_
      refine fo_gets X hw fc_X0 (hx0 hX) (k := 2) (d := 2) (n2 := 2) (by decide) rfl rfl q347 dX0_at_94 ?_
      refine lv_aload_n hx hb dX0_at_97 rfl (lv_at hl 0 rfl) ?_
      refine lv_iload_n hx hb dX0_at_98 rfl (lv_at hl 2 rfl) ?_
      refine fc_Vi (rest := []) (As := [.ref (eb E + 3), .int p1]) X hw hm_X1_isLost (lw_V q564 q565 q566 q112 q567) ⟨rfl, rfl⟩ ⟨by rw [hRf]; exact Nat.le_of_ble_eq_true rfl, by rw [hRl]; exact Nat.le_of_ble_eq_true rfl⟩ fc_X1 rfl (hx2 hX) rfl rfl hl.1 (Nat.le_of_ble_eq_true rfl) dX0_at_99 (fun rQ stQ hQ => wX1_isLost l E hX 3 p1 (hxT3 hX) st4 rQ stQ hQ) hf (fun x14 st15 H locs hw hf => ?_)
      refine fb_zeq (tgt := 109) hx hb dX0_at_102 (by decide) hf (fun hf => ?_) (fun hf => ?_)
      · refine lv_iconst (v := (0 : Int32)) hx hb dX0_at_109 (by decide) ?_
        exact fd_i hend hw hf dX0_at_110
      refine lv_iconst (v := (1 : Int32)) hx hb dX0_at_105 (by decide) ?_
      refine lv_goto (tgt := 110) hx hb dX0_at_106 (by decide) ?_
      exact fd_i hend hw hf dX0_at_110
    refine sw_e hf (fun e0 hf => ?_) (fun n7 hf => ?_)
    · refine lv_tableIn (tgt := 111) hx hb dX0_at_15 (by rw [e0]; decide) (by rw [e0]; decide) (off := 96) (by rw [e0]; decide) (by decide) ?_
      refine lv_aload_n hx hb dX0_at_111 rfl (lv_at hl 0 rfl) ?_
      refine lv_iload_n hx hb dX0_at_112 rfl (lv_at hl 2 rfl) ?_
      refine fc_Vi (rest := []) (As := [.int p1]) X hw hm_X2_isTree (lw_V q568 q569 q570 q113 q571) ⟨rfl, rfl⟩ ⟨by rw [hRf]; exact Nat.le_of_ble_eq_true rfl, by rw [hRl]; exact Nat.le_of_ble_eq_true rfl⟩ fc_X2 rfl (hx3 hX) rfl rfl hl.1 (Nat.le_of_ble_eq_true rfl) dX0_at_113 (fun rQ stQ hQ => wX2_isTree l E 3 p1 (hxT3 hX) st4 rQ stQ hQ) hf (fun x16 st17 H locs hw hf => ?_)
      refine fb_zeq (tgt := 128) hx hb dX0_at_116 (by decide) hf (fun hf => ?_) (fun hf => ?_)
      · refine lv_iconst (v := (-1 : Int32)) hx hb dX0_at_128 (by decide) ?_
        exact fd_i hend hw hf dX0_at_129
      refine lv_aload_n hx hb dX0_at_119 rfl (lv_at hl 1 rfl) ?_
      refine lv_aload_n hx hb dX0_at_120 rfl (lv_at hl 0 rfl) ?_
      refine lv_iload_n hx hb dX0_at_121 rfl (lv_at hl 2 rfl) ?_
      refine fc_Vi (rest := []) (As := [.ref (eb E + 3), .int p1]) X hw hm_X0_grows (lw_V q572 q574 qs7 q111 q575) ⟨rfl, rfl⟩ ⟨by rw [hRf]; exact Nat.le_of_ble_eq_true rfl, by rw [hRl]; exact Nat.le_of_ble_eq_true rfl⟩ fc_X0 rfl (hx0 hX) rfl rfl hl.1 (Nat.le_of_ble_eq_true rfl) dX0_at_122 (fun rQ stQ hQ => wX0_grows l E hX G 3 p1 (hxT3 hX) st17 rQ stQ hQ) hf (fun x18 st19 H locs hw hf => ?_)
      refine lv_goto (tgt := 129) hx hb dX0_at_125 (by decide) ?_
      exact fd_i hend hw hf dX0_at_129
    refine sw_e hf (fun e0 hf => ?_) (fun n8 hf => ?_)
    · refine lv_tableIn (tgt := 130) hx hb dX0_at_15 (by rw [e0]; decide) (by rw [e0]; decide) (off := 115) (by rw [e0]; decide) (by decide) ?_
      refine lv_aload_n hx hb dX0_at_130 rfl (lv_at hl 0 rfl) ?_
      refine lv_iload_n hx hb dX0_at_131 rfl (lv_at hl 2 rfl) ?_
      refine fc_Vi (rest := []) (As := [.int p1]) X hw hm_X2_isTree (lw_V q568 q569 q570 q113 q571) ⟨rfl, rfl⟩ ⟨by rw [hRf]; exact Nat.le_of_ble_eq_true rfl, by rw [hRl]; exact Nat.le_of_ble_eq_true rfl⟩ fc_X2 rfl (hx3 hX) rfl rfl hl.1 (Nat.le_of_ble_eq_true rfl) dX0_at_132 (fun rQ stQ hQ => wX2_isTree l E 3 p1 (hxT3 hX) st4 rQ stQ hQ) hf (fun x20 st21 H locs hw hf => ?_)
      refine fb_zeq (tgt := 147) hx hb dX0_at_135 (by decide) hf (fun hf => ?_) (fun hf => ?_)
      · refine lv_iconst (v := (0 : Int32)) hx hb dX0_at_147 (by decide) ?_
        exact fd_i hend hw hf dX0_at_148
      refine lv_aload_n hx hb dX0_at_138 rfl (lv_at hl 1 rfl) ?_
      refine lv_aload_n hx hb dX0_at_139 rfl (lv_at hl 0 rfl) ?_
      refine lv_iload_n hx hb dX0_at_140 rfl (lv_at hl 2 rfl) ?_
      refine fc_Vi (rest := []) (As := [.ref (eb E + 3), .int p1]) X hw hm_X0_leaves (lw_V q667 q669 qs10 q111 q670) ⟨rfl, rfl⟩ ⟨by rw [hRf]; exact Nat.le_of_ble_eq_true rfl, by rw [hRl]; exact Nat.le_of_ble_eq_true rfl⟩ fc_X0 rfl (hx0 hX) rfl rfl hl.1 (Nat.le_of_ble_eq_true rfl) dX0_at_141 (fun rQ stQ hQ => wX0_leaves l E hX G 3 p1 (hxT3 hX) st21 rQ stQ hQ) hf (fun x22 st23 H locs hw hf => ?_)
      refine lv_goto (tgt := 148) hx hb dX0_at_144 (by decide) ?_
      exact fd_i hend hw hf dX0_at_148
    refine lv_tableOut (tgt := 149) hx hb dX0_at_15 (by have g0 := lv_neT n0 (a := 0) (by decide); have g1 := lv_neT n1 (a := 1) (by decide); have g2 := lv_neT n2 (a := 2) (by decide); have g3 := lv_neT n3 (a := 3) (by decide); have g4 := lv_neT n4 (a := 4) (by decide); have g5 := lv_neT n5 (a := 5) (by decide); have g6 := lv_neT n6 (a := 6) (by decide); have g7 := lv_neT n7 (a := 7) (by decide); have g8 := lv_neT n8 (a := 8) (by decide); omega) (by decide) ?_
    refine lv_iconst (v := (-1 : Int32)) hx hb dX0_at_149 (by decide) ?_
    exact fd_i hend hw hf dX0_at_150
  refine lv_iconst (v := (-1 : Int32)) hx hb dX0_at_7 (by decide) ?_
  exact fd_i hend hw hf dX0_at_8

/-- ForestRooms.isKind -/
def fX0_isKind (p1 : Int32) (st0 : fo_St) : Option (Int32 × fo_St) := bd_ (fX0_in p1 (0 : Int32) (5 : Int32) st0) (fun x1 st2 => ck_ (decide (x1 = 0 ∨ x1 = 1)) (some (x1, st2)))
theorem hm_X0_isKind : fo_M yX0_isKind 1 := ⟨by decide +kernel, by decide +kernel, by decide +kernel, by decide +kernel⟩
set_option maxHeartbeats 4000000 in
theorem wX0_isKind (l : Launch) (E : fo_E) (hX : fo_HX E) (p1 : Int32) (st0 : fo_St) (rZ : Int32) (stZ : fo_St) (hf : fX0_isKind p1 st0 = some (rZ, stZ)) : CTi l E yX0_isKind (ws_ yX0_isKind cX0_isKind 1 (some .boolean)) ({ frames := 1, cells := 0, slots := 0, locals := 22 }) [.int p1] st0 rZ stZ := by
  refine fe_z hm_X0_isKind (Nat.le_of_ble_eq_true rfl) (fun p e R s m args below meth c Q hRf hRl X hend ls hl hw => ?_)
  have hx := X.1.1
  have hb := X.1.2.1
  have hl : lv_has ls 1 [(0, .int p1)] := hl
  unfold fX0_isKind at hf
  generalize s.heap = H at hw ⊢
  generalize ([] : List Loc) = locs at hw ⊢
  refine lv_iload_n hx hb dX0_isKind_0 rfl (lv_at hl 0 rfl) ?_
  refine lv_iconst (v := (0 : Int32)) hx hb dX0_isKind_1 (by decide) ?_
  refine lv_iconst (v := (5 : Int32)) hx hb dX0_isKind_2 (by decide) ?_
  refine fc_Si (rest := []) (As := [.int p1, .int (0 : Int32), .int (5 : Int32)]) X hw hm_X0_in (lw_S q437 q438 q111 q439) ⟨rfl, rfl⟩ ⟨by rw [hRf]; exact Nat.le_of_ble_eq_true rfl, by rw [hRl]; exact Nat.le_of_ble_eq_true rfl⟩ rfl rfl hl.1 (Nat.le_of_ble_eq_true rfl) dX0_isKind_3 (fun rQ stQ hQ => wX0_in l E hX p1 (0 : Int32) (5 : Int32) st0 rQ stQ hQ) hf (fun x1 st2 H locs hw hf => ?_)
  obtain ⟨hz, hf⟩ := ck_e hf
  exact fd_z hend hw (fo_z hz).1 hf dX0_isKind_6

/-- ForestRooms.needs -/
def fX0_needs (p1 : Int32) (p2 : Int32) (p3 : Int32) (st0 : fo_St) : Option (Int32 × fo_St) := bd_ (fX0_isKind p1 st0) (fun x1 st2 => if x1 = 0 then bd_ (fX0_refuse (-1 : Int32) st2) (fun x3 st4 => some (x3, st4)) else bd_ (fX0_in p2 (0 : Int32) (1 : Int32) st2) (fun x5 st6 => if x5 = 0 then bd_ (fX0_refuse (-1 : Int32) st6) (fun x7 st8 => some (x7, st8)) else bd_ (fX0_in p3 (0 : Int32) (9 : Int32) st6) (fun x9 st10 => if ¬ x9 = 0 then if ¬ p2 = 0 then ck_ (fo_in p1 6) (lI_ (gi_ st10 11 p1.toNatClampNeg) (fun x11 => ck_ (fo_in p1 6) (lt_ (si_ st10 11 p1.toNatClampNeg p3) (fun st12 => bd_ (fX0_settled x11 st12) (fun x13 st14 => some (x13, st14)))))) else ck_ (fo_in p1 6) (lI_ (gi_ st10 10 p1.toNatClampNeg) (fun x15 => ck_ (fo_in p1 6) (lt_ (si_ st10 10 p1.toNatClampNeg p3) (fun st16 => bd_ (fX0_settled x15 st16) (fun x17 st18 => some (x17, st18)))))) else bd_ (fX0_refuse (-1 : Int32) st10) (fun x19 st20 => some (x19, st20)))))
theorem hm_X0_needs : fo_M yX0_needs 3 := ⟨by decide +kernel, by decide +kernel, by decide +kernel, by decide +kernel⟩
set_option maxHeartbeats 4000000 in
theorem wX0_needs (l : Launch) (E : fo_E) (hX : fo_HX E) (p1 : Int32) (p2 : Int32) (p3 : Int32) (st0 : fo_St) (rZ : Int32) (stZ : fo_St) (hf : fX0_needs p1 p2 p3 st0 = some (rZ, stZ)) : CTi l E yX0_needs (ws_ yX0_needs cX0_needs 6 (some .int)) ({ frames := 2, cells := 0, slots := 0, locals := 42 }) [.ref (eb E + 0), .int p1, .int p2, .int p3] st0 rZ stZ := by
  refine fe_i hm_X0_needs (Nat.le_of_ble_eq_true rfl) (fun p e R s m args below meth c Q hRf hRl X hend ls hl hw => ?_)
  have hx := X.1.1
  have hb := X.1.2.1
  have hl : lv_has ls 6 [(0, .ref (eb E + 0)), (1, .int p1), (2, .int p2), (3, .int p3)] := hl
  unfold fX0_needs at hf
  generalize s.heap = H at hw ⊢
  generalize ([] : List Loc) = locs at hw ⊢
  refine lv_iload_n hx hb dX0_needs_0 rfl (lv_at hl 1 rfl) ?_
  refine fc_Si (rest := []) (As := [.int p1]) X hw hm_X0_isKind (lw_S q675 q676 q111 q677) ⟨rfl, rfl⟩ ⟨by rw [hRf]; exact Nat.le_of_ble_eq_true rfl, by rw [hRl]; exact Nat.le_of_ble_eq_true rfl⟩ rfl rfl hl.1 (Nat.le_of_ble_eq_true rfl) dX0_needs_1 (fun rQ stQ hQ => wX0_isKind l E hX p1 st0 rQ stQ hQ) hf (fun x1 st2 H locs hw hf => ?_)
  refine fb_zeq (tgt := 26) hx hb dX0_needs_4 (by decide) hf (fun hf => ?_) (fun hf => ?_)
  · refine lv_aload_n hx hb dX0_needs_26 rfl (lv_at hl 0 rfl) ?_
    refine lv_iconst (v := (-1 : Int32)) hx hb dX0_needs_27 (by decide) ?_
    refine fc_Vi (rest := []) (As := [.int (-1 : Int32)]) X hw hm_X0_refuse (lw_V q440 q442 qs1 q111 q443) ⟨rfl, rfl⟩ ⟨by rw [hRf]; exact Nat.le_of_ble_eq_true rfl, by rw [hRl]; exact Nat.le_of_ble_eq_true rfl⟩ fc_X0 rfl (hx0 hX) rfl rfl hl.1 (Nat.le_of_ble_eq_true rfl) dX0_needs_28 (fun rQ stQ hQ => wX0_refuse l E hX (-1 : Int32) st2 rQ stQ hQ) hf (fun x3 st4 H locs hw hf => ?_)
    exact fd_i hend hw hf dX0_needs_31
  refine lv_iload_n hx hb dX0_needs_7 rfl (lv_at hl 2 rfl) ?_
  refine lv_iconst (v := (0 : Int32)) hx hb dX0_needs_8 (by decide) ?_
  refine lv_iconst (v := (1 : Int32)) hx hb dX0_needs_9 (by decide) ?_
  refine fc_Si (rest := []) (As := [.int p2, .int (0 : Int32), .int (1 : Int32)]) X hw hm_X0_in (lw_S q437 q438 q111 q439) ⟨rfl, rfl⟩ ⟨by rw [hRf]; exact Nat.le_of_ble_eq_true rfl, by rw [hRl]; exact Nat.le_of_ble_eq_true rfl⟩ rfl rfl hl.1 (Nat.le_of_ble_eq_true rfl) dX0_needs_10 (fun rQ stQ hQ => wX0_in l E hX p2 (0 : Int32) (1 : Int32) st2 rQ stQ hQ) hf (fun x5 st6 H locs hw hf => ?_)
  refine fb_zeq (tgt := 26) hx hb dX0_needs_13 (by decide) hf (fun hf => ?_) (fun hf => ?_)
  · refine lv_aload_n hx hb dX0_needs_26 rfl (lv_at hl 0 rfl) ?_
    refine lv_iconst (v := (-1 : Int32)) hx hb dX0_needs_27 (by decide) ?_
    refine fc_Vi (rest := []) (As := [.int (-1 : Int32)]) X hw hm_X0_refuse (lw_V q440 q442 qs1 q111 q443) ⟨rfl, rfl⟩ ⟨by rw [hRf]; exact Nat.le_of_ble_eq_true rfl, by rw [hRl]; exact Nat.le_of_ble_eq_true rfl⟩ fc_X0 rfl (hx0 hX) rfl rfl hl.1 (Nat.le_of_ble_eq_true rfl) dX0_needs_28 (fun rQ stQ hQ => wX0_refuse l E hX (-1 : Int32) st6 rQ stQ hQ) hf (fun x7 st8 H locs hw hf => ?_)
    exact fd_i hend hw hf dX0_needs_31
  refine lv_iload_n hx hb dX0_needs_16 rfl (lv_at hl 3 rfl) ?_
  refine lv_iconst (v := (0 : Int32)) hx hb dX0_needs_17 (by decide) ?_
  refine lv_bipush (v := (9 : Int32)) hx hb dX0_needs_18 (by decide) ?_
  refine fc_Si (rest := []) (As := [.int p3, .int (0 : Int32), .int (9 : Int32)]) X hw hm_X0_in (lw_S q437 q438 q111 q439) ⟨rfl, rfl⟩ ⟨by rw [hRf]; exact Nat.le_of_ble_eq_true rfl, by rw [hRl]; exact Nat.le_of_ble_eq_true rfl⟩ rfl rfl hl.1 (Nat.le_of_ble_eq_true rfl) dX0_needs_20 (fun rQ stQ hQ => wX0_in l E hX p3 (0 : Int32) (9 : Int32) st6 rQ stQ hQ) hf (fun x9 st10 H locs hw hf => ?_)
  refine fb_zne (tgt := 32) hx hb dX0_needs_23 (by decide) hf (fun hf => ?_) (fun hf => ?_)
  · refine lv_iload_n hx hb dX0_needs_32 rfl (lv_at hl 2 rfl) ?_
    refine fb_zne (tgt := 46) hx hb dX0_needs_33 (by decide) hf (fun hf => ?_) (fun hf => ?_)
    · refine lv_aload_n hx hb dX0_needs_46 rfl (lv_at hl 0 rfl) ?_
      refine fo_gets X hw fc_X0 (hx0 hX) (k := 2) (d := 2) (n2 := 2) (by decide) rfl rfl q347 dX0_needs_47 ?_
      refine fo_getsN X hw fc_X1 (hx2 hX) (k := 5) (d := 9) (n2 := 11) (by decide) rfl rfl fn225 dX0_needs_50 ?_
      refine lv_astore (lv' := [(4, .ref (eb E + 11)), (0, .ref (eb E + 0)), (1, .int p1), (2, .int p2), (3, .int p3)]) hx hb dX0_needs_53 hl (by decide) rfl (fun ls hl => ?_)
      refine lv_aload hx hb dX0_needs_55 (lv_at hl 0 rfl) ?_
      refine lv_iload_n hx hb dX0_needs_57 rfl (lv_at hl 2 rfl) ?_
      refine fo_iald X hw (hx11 hX) dX0_needs_58 hf (fun hf => ?_)
      refine fo_tI hf (fun x11 hf => ?_)
      refine lv_istore (lv' := [(5, .int x11), (4, .ref (eb E + 11)), (0, .ref (eb E + 0)), (1, .int p1), (2, .int p2), (3, .int p3)]) hx hb dX0_needs_59 hl (by decide) rfl (fun ls hl => ?_)
      refine lv_aload hx hb dX0_needs_61 (lv_at hl 1 rfl) ?_
      refine lv_iload_n hx hb dX0_needs_63 rfl (lv_at hl 3 rfl) ?_
      refine lv_iload_n hx hb dX0_needs_64 rfl (lv_at hl 5 rfl) ?_
      refine fo_iast X hw (hx11 hX) dX0_needs_65 hf (fun st12 H locs hw hf => ?_)
      refine lv_aload_n hx hb dX0_needs_66 rfl (lv_at hl 2 rfl) ?_
      refine lv_iload hx hb dX0_needs_67 (lv_at hl 0 rfl) ?_
      refine fc_Vi (rest := []) (As := [.int x11]) X hw hm_X0_settled (lw_V q538 q540 qs4 q111 q541) ⟨rfl, rfl⟩ ⟨by rw [hRf]; exact Nat.le_of_ble_eq_true rfl, by rw [hRl]; exact Nat.le_of_ble_eq_true rfl⟩ fc_X0 rfl (hx0 hX) rfl rfl hl.1 (Nat.le_of_ble_eq_true rfl) dX0_needs_69 (fun rQ stQ hQ => wX0_settled l E hX x11 st12 rQ stQ hQ) hf (fun x13 st14 H locs hw hf => ?_)
      exact fd_i hend hw hf dX0_needs_72
    refine lv_aload_n hx hb dX0_needs_36 rfl (lv_at hl 0 rfl) ?_
    refine fo_gets X hw fc_X0 (hx0 hX) (k := 2) (d := 2) (n2 := 2) (by decide) rfl rfl q347 dX0_needs_37 ?_
    refine fo_getsN X hw fc_X1 (hx2 hX) (k := 4) (d := 8) (n2 := 10) (by decide) rfl rfl fn223 dX0_needs_40 ?_
    refine lv_goto (tgt := 53) hx hb dX0_needs_43 (by decide) ?_
    refine lv_astore (lv' := [(4, .ref (eb E + 10)), (0, .ref (eb E + 0)), (1, .int p1), (2, .int p2), (3, .int p3)]) hx hb dX0_needs_53 hl (by decide) rfl (fun ls hl => ?_)
    refine lv_aload hx hb dX0_needs_55 (lv_at hl 0 rfl) ?_
    refine lv_iload_n hx hb dX0_needs_57 rfl (lv_at hl 2 rfl) ?_
    refine fo_iald X hw (hx10 hX) dX0_needs_58 hf (fun hf => ?_)
    refine fo_tI hf (fun x15 hf => ?_)
    refine lv_istore (lv' := [(5, .int x15), (4, .ref (eb E + 10)), (0, .ref (eb E + 0)), (1, .int p1), (2, .int p2), (3, .int p3)]) hx hb dX0_needs_59 hl (by decide) rfl (fun ls hl => ?_)
    refine lv_aload hx hb dX0_needs_61 (lv_at hl 1 rfl) ?_
    refine lv_iload_n hx hb dX0_needs_63 rfl (lv_at hl 3 rfl) ?_
    refine lv_iload_n hx hb dX0_needs_64 rfl (lv_at hl 5 rfl) ?_
    refine fo_iast X hw (hx10 hX) dX0_needs_65 hf (fun st16 H locs hw hf => ?_)
    refine lv_aload_n hx hb dX0_needs_66 rfl (lv_at hl 2 rfl) ?_
    refine lv_iload hx hb dX0_needs_67 (lv_at hl 0 rfl) ?_
    refine fc_Vi (rest := []) (As := [.int x15]) X hw hm_X0_settled (lw_V q538 q540 qs4 q111 q541) ⟨rfl, rfl⟩ ⟨by rw [hRf]; exact Nat.le_of_ble_eq_true rfl, by rw [hRl]; exact Nat.le_of_ble_eq_true rfl⟩ fc_X0 rfl (hx0 hX) rfl rfl hl.1 (Nat.le_of_ble_eq_true rfl) dX0_needs_69 (fun rQ stQ hQ => wX0_settled l E hX x15 st16 rQ stQ hQ) hf (fun x17 st18 H locs hw hf => ?_)
    exact fd_i hend hw hf dX0_needs_72
  refine lv_aload_n hx hb dX0_needs_26 rfl (lv_at hl 0 rfl) ?_
  refine lv_iconst (v := (-1 : Int32)) hx hb dX0_needs_27 (by decide) ?_
  refine fc_Vi (rest := []) (As := [.int (-1 : Int32)]) X hw hm_X0_refuse (lw_V q440 q442 qs1 q111 q443) ⟨rfl, rfl⟩ ⟨by rw [hRf]; exact Nat.le_of_ble_eq_true rfl, by rw [hRl]; exact Nat.le_of_ble_eq_true rfl⟩ fc_X0 rfl (hx0 hX) rfl rfl hl.1 (Nat.le_of_ble_eq_true rfl) dX0_needs_28 (fun rQ stQ hQ => wX0_refuse l E hX (-1 : Int32) st10 rQ stQ hQ) hf (fun x19 st20 H locs hw hf => ?_)
  exact fd_i hend hw hf dX0_needs_31

/-- ForestRooms.isTerm -/
def fX0_isTerm (p1 : Int32) (p2 : Int32) (st0 : fo_St) : Option (Int32 × fo_St) := if p1 = (0 : Int32) then bd_ (fX0_in p2 (0 : Int32) (999 : Int32) st0) (fun x1 st2 => ck_ (decide (x1 = 0 ∨ x1 = 1)) (some (x1, st2))) else if p1 = (1 : Int32) then bd_ (fX0_in p2 (1 : Int32) (99 : Int32) st0) (fun x3 st4 => ck_ (decide (x3 = 0 ∨ x3 = 1)) (some (x3, st4))) else if p1 = (2 : Int32) then bd_ (fX0_in p2 (0 : Int32) (99 : Int32) st0) (fun x5 st6 => ck_ (decide (x5 = 0 ∨ x5 = 1)) (some (x5, st6))) else if p1 = (3 : Int32) then bd_ (fX0_in p2 (0 : Int32) (10 : Int32) st0) (fun x7 st8 => ck_ (decide (x7 = 0 ∨ x7 = 1)) (some (x7, st8))) else if p1 = (4 : Int32) then bd_ (fX0_in p2 (0 : Int32) (9 : Int32) st0) (fun x9 st10 => ck_ (decide (x9 = 0 ∨ x9 = 1)) (some (x9, st10))) else some ((0 : Int32), st0)
theorem hm_X0_isTerm : fo_M yX0_isTerm 2 := ⟨by decide +kernel, by decide +kernel, by decide +kernel, by decide +kernel⟩
set_option maxHeartbeats 4000000 in
theorem wX0_isTerm (l : Launch) (E : fo_E) (hX : fo_HX E) (p1 : Int32) (p2 : Int32) (st0 : fo_St) (rZ : Int32) (stZ : fo_St) (hf : fX0_isTerm p1 p2 st0 = some (rZ, stZ)) : CTi l E yX0_isTerm (ws_ yX0_isTerm cX0_isTerm 2 (some .boolean)) ({ frames := 1, cells := 0, slots := 0, locals := 22 }) [.int p1, .int p2] st0 rZ stZ := by
  refine fe_z hm_X0_isTerm (Nat.le_of_ble_eq_true rfl) (fun p e R s m args below meth c Q hRf hRl X hend ls hl hw => ?_)
  have hx := X.1.1
  have hb := X.1.2.1
  have hl : lv_has ls 2 [(0, .int p1), (1, .int p2)] := hl
  unfold fX0_isTerm at hf
  generalize s.heap = H at hw ⊢
  generalize ([] : List Loc) = locs at hw ⊢
  refine lv_iload_n hx hb dX0_isTerm_0 rfl (lv_at hl 0 rfl) ?_
  refine sw_e hf (fun e0 hf => ?_) (fun n0 hf => ?_)
  · refine lv_tableIn (tgt := 36) hx hb dX0_isTerm_1 (by rw [e0]; decide) (by rw [e0]; decide) (off := 35) (by rw [e0]; decide) (by decide) ?_
    refine lv_iload_n hx hb dX0_isTerm_36 rfl (lv_at hl 1 rfl) ?_
    refine lv_iconst (v := (0 : Int32)) hx hb dX0_isTerm_37 (by decide) ?_
    refine lv_sipush (v := (999 : Int32)) hx hb dX0_isTerm_38 (by decide) ?_
    refine fc_Si (rest := []) (As := [.int p2, .int (0 : Int32), .int (999 : Int32)]) X hw hm_X0_in (lw_S q437 q438 q111 q439) ⟨rfl, rfl⟩ ⟨by rw [hRf]; exact Nat.le_of_ble_eq_true rfl, by rw [hRl]; exact Nat.le_of_ble_eq_true rfl⟩ rfl rfl hl.1 (Nat.le_of_ble_eq_true rfl) dX0_isTerm_41 (fun rQ stQ hQ => wX0_in l E hX p2 (0 : Int32) (999 : Int32) st0 rQ stQ hQ) hf (fun x1 st2 H locs hw hf => ?_)
    obtain ⟨hz, hf⟩ := ck_e hf
    exact fd_z hend hw (fo_z hz).1 hf dX0_isTerm_44
  refine sw_e hf (fun e0 hf => ?_) (fun n1 hf => ?_)
  · refine lv_tableIn (tgt := 45) hx hb dX0_isTerm_1 (by rw [e0]; decide) (by rw [e0]; decide) (off := 44) (by rw [e0]; decide) (by decide) ?_
    refine lv_iload_n hx hb dX0_isTerm_45 rfl (lv_at hl 1 rfl) ?_
    refine lv_iconst (v := (1 : Int32)) hx hb dX0_isTerm_46 (by decide) ?_
    refine lv_bipush (v := (99 : Int32)) hx hb dX0_isTerm_47 (by decide) ?_
    refine fc_Si (rest := []) (As := [.int p2, .int (1 : Int32), .int (99 : Int32)]) X hw hm_X0_in (lw_S q437 q438 q111 q439) ⟨rfl, rfl⟩ ⟨by rw [hRf]; exact Nat.le_of_ble_eq_true rfl, by rw [hRl]; exact Nat.le_of_ble_eq_true rfl⟩ rfl rfl hl.1 (Nat.le_of_ble_eq_true rfl) dX0_isTerm_49 (fun rQ stQ hQ => wX0_in l E hX p2 (1 : Int32) (99 : Int32) st0 rQ stQ hQ) hf (fun x3 st4 H locs hw hf => ?_)
    obtain ⟨hz, hf⟩ := ck_e hf
    exact fd_z hend hw (fo_z hz).1 hf dX0_isTerm_52
  refine sw_e hf (fun e0 hf => ?_) (fun n2 hf => ?_)
  · refine lv_tableIn (tgt := 53) hx hb dX0_isTerm_1 (by rw [e0]; decide) (by rw [e0]; decide) (off := 52) (by rw [e0]; decide) (by decide) ?_
    refine lv_iload_n hx hb dX0_isTerm_53 rfl (lv_at hl 1 rfl) ?_
    refine lv_iconst (v := (0 : Int32)) hx hb dX0_isTerm_54 (by decide) ?_
    refine lv_bipush (v := (99 : Int32)) hx hb dX0_isTerm_55 (by decide) ?_
    refine fc_Si (rest := []) (As := [.int p2, .int (0 : Int32), .int (99 : Int32)]) X hw hm_X0_in (lw_S q437 q438 q111 q439) ⟨rfl, rfl⟩ ⟨by rw [hRf]; exact Nat.le_of_ble_eq_true rfl, by rw [hRl]; exact Nat.le_of_ble_eq_true rfl⟩ rfl rfl hl.1 (Nat.le_of_ble_eq_true rfl) dX0_isTerm_57 (fun rQ stQ hQ => wX0_in l E hX p2 (0 : Int32) (99 : Int32) st0 rQ stQ hQ) hf (fun x5 st6 H locs hw hf => ?_)
    obtain ⟨hz, hf⟩ := ck_e hf
    exact fd_z hend hw (fo_z hz).1 hf dX0_isTerm_60
  refine sw_e hf (fun e0 hf => ?_) (fun n3 hf => ?_)
  · refine lv_tableIn (tgt := 61) hx hb dX0_isTerm_1 (by rw [e0]; decide) (by rw [e0]; decide) (off := 60) (by rw [e0]; decide) (by decide) ?_
    refine lv_iload_n hx hb dX0_isTerm_61 rfl (lv_at hl 1 rfl) ?_
    refine lv_iconst (v := (0 : Int32)) hx hb dX0_isTerm_62 (by decide) ?_
    refine lv_bipush (v := (10 : Int32)) hx hb dX0_isTerm_63 (by decide) ?_
    refine fc_Si (rest := []) (As := [.int p2, .int (0 : Int32), .int (10 : Int32)]) X hw hm_X0_in (lw_S q437 q438 q111 q439) ⟨rfl, rfl⟩ ⟨by rw [hRf]; exact Nat.le_of_ble_eq_true rfl, by rw [hRl]; exact Nat.le_of_ble_eq_true rfl⟩ rfl rfl hl.1 (Nat.le_of_ble_eq_true rfl) dX0_isTerm_65 (fun rQ stQ hQ => wX0_in l E hX p2 (0 : Int32) (10 : Int32) st0 rQ stQ hQ) hf (fun x7 st8 H locs hw hf => ?_)
    obtain ⟨hz, hf⟩ := ck_e hf
    exact fd_z hend hw (fo_z hz).1 hf dX0_isTerm_68
  refine sw_e hf (fun e0 hf => ?_) (fun n4 hf => ?_)
  · refine lv_tableIn (tgt := 69) hx hb dX0_isTerm_1 (by rw [e0]; decide) (by rw [e0]; decide) (off := 68) (by rw [e0]; decide) (by decide) ?_
    refine lv_iload_n hx hb dX0_isTerm_69 rfl (lv_at hl 1 rfl) ?_
    refine lv_iconst (v := (0 : Int32)) hx hb dX0_isTerm_70 (by decide) ?_
    refine lv_bipush (v := (9 : Int32)) hx hb dX0_isTerm_71 (by decide) ?_
    refine fc_Si (rest := []) (As := [.int p2, .int (0 : Int32), .int (9 : Int32)]) X hw hm_X0_in (lw_S q437 q438 q111 q439) ⟨rfl, rfl⟩ ⟨by rw [hRf]; exact Nat.le_of_ble_eq_true rfl, by rw [hRl]; exact Nat.le_of_ble_eq_true rfl⟩ rfl rfl hl.1 (Nat.le_of_ble_eq_true rfl) dX0_isTerm_73 (fun rQ stQ hQ => wX0_in l E hX p2 (0 : Int32) (9 : Int32) st0 rQ stQ hQ) hf (fun x9 st10 H locs hw hf => ?_)
    obtain ⟨hz, hf⟩ := ck_e hf
    exact fd_z hend hw (fo_z hz).1 hf dX0_isTerm_76
  refine lv_tableOut (tgt := 77) hx hb dX0_isTerm_1 (by have g0 := lv_neT n0 (a := 0) (by decide); have g1 := lv_neT n1 (a := 1) (by decide); have g2 := lv_neT n2 (a := 2) (by decide); have g3 := lv_neT n3 (a := 3) (by decide); have g4 := lv_neT n4 (a := 4) (by decide); omega) (by decide) ?_
  refine lv_iconst (v := (0 : Int32)) hx hb dX0_isTerm_77 (by decide) ?_
  exact fd_z hend hw rfl hf dX0_isTerm_78

/-- ForestRooms.terms -/
def fX0_terms (p1 : Int32) (p2 : Int32) (st0 : fo_St) : Option (Int32 × fo_St) := bd_ (fX0_isTerm p1 p2 st0) (fun x1 st2 => if ¬ x1 = 0 then jn_ (fun (x3 : Int32) (st4 : fo_St) => jn_ (fun (st6 : fo_St) => bd_ (fX0_settled x3 st6) (fun x8 st9 => some (x8, st9))) (fun k7 => if ¬ p1 = 0 then ck_ (fo_in p1 5) (lt_ (si_ st4 13 p1.toNatClampNeg p2) (fun st10 => k7 st10)) else bd_ (fX0_table st4) (fun x11 st12 => ck_ (decide (x11 = 3)) (lt_ (si_ st12 3 3 p2) (fun st13 => k7 st13))))) (fun k5 => if ¬ p1 = 0 then bd_ (fX0_term p1 st2) (fun x14 st15 => k5 x14 st15) else bd_ (fX0_table st2) (fun x16 st17 => ck_ (decide (x16 = 3)) (k5 (gi_ st17 3 3) st17))) else bd_ (fX0_refuse (-1 : Int32) st2) (fun x18 st19 => some (x18, st19)))
theorem hm_X0_terms : fo_M yX0_terms 2 := ⟨by decide +kernel, by decide +kernel, by decide +kernel, by decide +kernel⟩
set_option maxHeartbeats 4000000 in
theorem wX0_terms (l : Launch) (E : fo_E) (hX : fo_HX E) (p1 : Int32) (p2 : Int32) (st0 : fo_St) (rZ : Int32) (stZ : fo_St) (hf : fX0_terms p1 p2 st0 = some (rZ, stZ)) : CTi l E yX0_terms (ws_ yX0_terms cX0_terms 4 (some .int)) ({ frames := 2, cells := 0, slots := 0, locals := 43 }) [.ref (eb E + 0), .int p1, .int p2] st0 rZ stZ := by
  refine fe_i hm_X0_terms (Nat.le_of_ble_eq_true rfl) (fun p e R s m args below meth c Q hRf hRl X hend ls hl hw => ?_)
  have hx := X.1.1
  have hb := X.1.2.1
  have hl : lv_has ls 4 [(0, .ref (eb E + 0)), (1, .int p1), (2, .int p2)] := hl
  unfold fX0_terms at hf
  generalize s.heap = H at hw ⊢
  generalize ([] : List Loc) = locs at hw ⊢
  refine lv_iload_n hx hb dX0_terms_0 rfl (lv_at hl 1 rfl) ?_
  refine lv_iload_n hx hb dX0_terms_1 rfl (lv_at hl 2 rfl) ?_
  refine fc_Si (rest := []) (As := [.int p1, .int p2]) X hw hm_X0_isTerm (lw_S q682 q683 q111 q684) ⟨rfl, rfl⟩ ⟨by rw [hRf]; exact Nat.le_of_ble_eq_true rfl, by rw [hRl]; exact Nat.le_of_ble_eq_true rfl⟩ rfl rfl hl.1 (Nat.le_of_ble_eq_true rfl) dX0_terms_2 (fun rQ stQ hQ => wX0_isTerm l E hX p1 p2 st0 rQ stQ hQ) hf (fun x1 st2 H locs hw hf => ?_)
  refine fb_zne (tgt := 14) hx hb dX0_terms_5 (by decide) hf (fun hf => ?_) (fun hf => ?_)
  · refine lv_iload_n hx hb dX0_terms_14 rfl (lv_at hl 1 rfl) ?_
    refine jn_e hf (fun k5 ek hf => ?_)
    have hk5 : ∀ (x3 : Int32) (st4 : fo_St) (H : Heap) (locs : List Loc) (ls : Array Slot), lv_has ls 4 [(0, .ref (eb E + 0)), (1, .int p1), (2, .int p2)] → fo_S E s st4 H locs → k5 x3 st4 = some (rZ, stZ) → W p l e R s m args below meth c H locs 0 0 Q (F0 m 33 ls [.int x3]) := by
      intro x3 st4 H locs ls hl hw hf
      rw [ek] at hf
      refine lv_istore_n (lv' := [(3, .int x3), (0, .ref (eb E + 0)), (1, .int p1), (2, .int p2)]) hx hb dX0_terms_33 rfl hl (by decide) rfl (fun ls hl => ?_)
      refine lv_iload_n hx hb dX0_terms_34 rfl (lv_at hl 2 rfl) ?_
      refine jn_e hf (fun k7 ek hf => ?_)
      have hk7 : ∀  (st6 : fo_St) (H : Heap) (locs : List Loc) (ls : Array Slot), lv_has ls 4 [(3, .int x3), (0, .ref (eb E + 0))] → fo_S E s st6 H locs → k7 st6 = some (rZ, stZ) → W p l e R s m args below meth c H locs 0 0 Q (F0 m 59 ls []) := by
        intro st6 H locs ls hl hw hf
        rw [ek] at hf
        refine lv_aload_n hx hb dX0_terms_59 rfl (lv_at hl 1 rfl) ?_
        refine lv_iload_n hx hb dX0_terms_60 rfl (lv_at hl 0 rfl) ?_
        refine fc_Vi (rest := []) (As := [.int x3]) X hw hm_X0_settled (lw_V q538 q540 qs4 q111 q541) ⟨rfl, rfl⟩ ⟨by rw [hRf]; exact Nat.le_of_ble_eq_true rfl, by rw [hRl]; exact Nat.le_of_ble_eq_true rfl⟩ fc_X0 rfl (hx0 hX) rfl rfl hl.1 (Nat.le_of_ble_eq_true rfl) dX0_terms_61 (fun rQ stQ hQ => wX0_settled l E hX x3 st6 rQ stQ hQ) hf (fun x8 st9 H locs hw hf => ?_)
        exact fd_i hend hw hf dX0_terms_64
      clear ek
      refine fb_zne (tgt := 49) hx hb dX0_terms_35 (by decide) hf (fun hf => ?_) (fun hf => ?_)
      · refine lv_aload_n hx hb dX0_terms_49 rfl (lv_at hl 1 rfl) ?_
        refine fo_gets X hw fc_X0 (hx0 hX) (k := 2) (d := 2) (n2 := 2) (by decide) rfl rfl q347 dX0_terms_50 ?_
        refine fo_getsN X hw fc_X1 (hx2 hX) (k := 7) (d := 11) (n2 := 13) (by decide) rfl rfl fn229 dX0_terms_53 ?_
        refine lv_iload_n hx hb dX0_terms_56 rfl (lv_at hl 2 rfl) ?_
        refine lv_iload_n hx hb dX0_terms_57 rfl (lv_at hl 3 rfl) ?_
        refine fo_iast X hw (hx13 hX) dX0_terms_58 hf (fun st10 H locs hw hf => ?_)
        exact hk7 _ _ _ _ (lv_sub hl [0, 1] rfl) hw hf
      refine lv_aload_n hx hb dX0_terms_38 rfl (lv_at hl 1 rfl) ?_
      refine fc_Vr (rest := []) (As := []) X hw hm_X0_table (lw_V q560 q562 qs6 q111 q563) ⟨rfl, rfl⟩ ⟨by rw [hRf]; exact Nat.le_of_ble_eq_true rfl, by rw [hRl]; exact Nat.le_of_ble_eq_true rfl⟩ fc_X0 rfl (hx0 hX) rfl rfl hl.1 (Nat.le_of_ble_eq_true rfl) dX0_terms_39 (fun rQ stQ hQ => wX0_table l E hX st4 rQ stQ hQ) hf (fun x11 st12 H locs hw hf => ?_)
      have hc0 := ck_e hf
      clear hf
      obtain ⟨hc, hf⟩ := hc0
      replace hc := of_decide_eq_true hc
      subst hc
      refine lv_iload_n hx hb dX0_terms_42 rfl (lv_at hl 3 rfl) ?_
      refine fo_putiN X hw fc_X2 (hx3 hX) (k := 3) (by decide) rfl rfl fn175 ⟨rfl, rfl⟩ dX0_terms_43 hf (fun st13 H locs hw hf => ?_)
      refine lv_goto (tgt := 59) hx hb dX0_terms_46 (by decide) ?_
      exact hk7 _ _ _ _ (lv_sub hl [0, 1] rfl) hw hf
    clear ek
    refine fb_zne (tgt := 28) hx hb dX0_terms_15 (by decide) hf (fun hf => ?_) (fun hf => ?_)
    · refine lv_aload_n hx hb dX0_terms_28 rfl (lv_at hl 0 rfl) ?_
      refine lv_iload_n hx hb dX0_terms_29 rfl (lv_at hl 1 rfl) ?_
      refine fc_Vi (rest := []) (As := [.int p1]) X hw hm_X0_term (lw_V q581 q583 qs9 q111 q584) ⟨rfl, rfl⟩ ⟨by rw [hRf]; exact Nat.le_of_ble_eq_true rfl, by rw [hRl]; exact Nat.le_of_ble_eq_true rfl⟩ fc_X0 rfl (hx0 hX) rfl rfl hl.1 (Nat.le_of_ble_eq_true rfl) dX0_terms_30 (fun rQ stQ hQ => wX0_term l E hX p1 st2 rQ stQ hQ) hf (fun x14 st15 H locs hw hf => ?_)
      exact hk5 _ _ _ _ _ (lv_sub hl [0, 1, 2] rfl) hw hf
    refine lv_aload_n hx hb dX0_terms_18 rfl (lv_at hl 0 rfl) ?_
    refine fc_Vr (rest := []) (As := []) X hw hm_X0_table (lw_V q560 q562 qs6 q111 q563) ⟨rfl, rfl⟩ ⟨by rw [hRf]; exact Nat.le_of_ble_eq_true rfl, by rw [hRl]; exact Nat.le_of_ble_eq_true rfl⟩ fc_X0 rfl (hx0 hX) rfl rfl hl.1 (Nat.le_of_ble_eq_true rfl) dX0_terms_19 (fun rQ stQ hQ => wX0_table l E hX st2 rQ stQ hQ) hf (fun x16 st17 H locs hw hf => ?_)
    have hc0 := ck_e hf
    clear hf
    obtain ⟨hc, hf⟩ := hc0
    replace hc := of_decide_eq_true hc
    subst hc
    refine fo_getiN X hw fc_X2 (hx3 hX) (k := 3) (by decide) rfl fn175 dX0_terms_22 ?_
    refine lv_goto (tgt := 33) hx hb dX0_terms_25 (by decide) ?_
    exact hk5 _ _ _ _ _ (lv_sub hl [0, 1, 2] rfl) hw hf
  refine lv_aload_n hx hb dX0_terms_8 rfl (lv_at hl 0 rfl) ?_
  refine lv_iconst (v := (-1 : Int32)) hx hb dX0_terms_9 (by decide) ?_
  refine fc_Vi (rest := []) (As := [.int (-1 : Int32)]) X hw hm_X0_refuse (lw_V q440 q442 qs1 q111 q443) ⟨rfl, rfl⟩ ⟨by rw [hRf]; exact Nat.le_of_ble_eq_true rfl, by rw [hRl]; exact Nat.le_of_ble_eq_true rfl⟩ fc_X0 rfl (hx0 hX) rfl rfl hl.1 (Nat.le_of_ble_eq_true rfl) dX0_terms_10 (fun rQ stQ hQ => wX0_refuse l E hX (-1 : Int32) st2 rQ stQ hQ) hf (fun x18 st19 H locs hw hf => ?_)
  exact fd_i hend hw hf dX0_terms_13

/-- ForestRooms.four -/
def fX0_four (G : Nat) (p1 : Int32) (st0 : fo_St) : Option fo_St := lp2_ (fun rec3 (x1 : Int32) (st2 : fo_St) => if x1 < 0 then some st2 else ck_ (fo_in (gi_ st2 0 11) 400) (lt_ (si_ st2 29 (gi_ st2 0 11).toNatClampNeg ((p1 >>> (x1 &&& 31)).toInt8.toInt32)) (fun st4 => lt_ (si_ st4 0 11 ((gi_ st4 0 11) + (1 : Int32))) (fun st5 => rec3 (x1 + (-8 : Int32)) st5)))) G (24 : Int32) st0
theorem hm_X0_four : fo_M yX0_four 1 := ⟨by decide +kernel, by decide +kernel, by decide +kernel, by decide +kernel⟩
set_option maxHeartbeats 4000000 in
theorem wX0_four (l : Launch) (E : fo_E) (hX : fo_HX E) (G : Nat) (p1 : Int32) (st0 : fo_St) (stZ : fo_St) (hf : fX0_four G p1 st0 = some stZ) : CTv l E yX0_four (ws_ yX0_four cX0_four 3 none) ({ frames := 0, cells := 0, slots := 0, locals := 0 }) [.ref (eb E + 0), .int p1] st0 stZ := by
  refine fe_v hm_X0_four (Nat.le_of_ble_eq_true rfl) (fun p e R s m args below meth c Q hRf hRl X hend ls hl hw => ?_)
  have hx := X.1.1
  have hb := X.1.2.1
  have hl : lv_has ls 3 [(0, .ref (eb E + 0)), (1, .int p1)] := hl
  unfold fX0_four at hf
  generalize s.heap = H at hw ⊢
  generalize ([] : List Loc) = locs at hw ⊢
  refine lv_bipush (v := (24 : Int32)) hx hb dX0_four_0 (by decide) ?_
  refine lv_istore_n (lv' := [(2, .int (24 : Int32)), (0, .ref (eb E + 0)), (1, .int p1)]) hx hb dX0_four_2 rfl hl (by decide) rfl (fun ls hl => ?_)
  refine lp2_e (P := fun x1 st2 => ∀ (H : Heap) (locs : List Loc) (ls : Array Slot), lv_has ls 3 [(2, .int x1), (0, .ref (eb E + 0)), (1, .int p1)] → fo_S E s st2 H locs → W p l e R s m args below meth c H locs 0 0 Q (F0 m 3 ls [])) (fun rec3 hrec3 x1 st2 hf => ?_) G _ _ hf H locs ls (lv_sub hl [0, 1, 2] rfl) hw
  intro H locs ls hl hw
  refine lv_iload_n hx hb dX0_four_3 rfl (lv_at hl 0 rfl) ?_
  refine fb_zlt (tgt := 36) hx hb dX0_four_4 (by decide) hf (fun hf => ?_) (fun hf => ?_)
  · exact fd_v hend hw hf dX0_four_36
  refine lv_aload_n hx hb dX0_four_7 rfl (lv_at hl 1 rfl) ?_
  refine fo_gets X hw fc_X0 (hx0 hX) (k := 10) (d := 29) (n2 := 29) (by decide) rfl rfl q355 dX0_four_8 ?_
  refine lv_aload_n hx hb dX0_four_11 rfl (lv_at hl 1 rfl) ?_
  refine fo_geti X hw fc_X0 (hx0 hX) (k := 11) (by decide) rfl q356 dX0_four_12 ?_
  refine lv_iload_n hx hb dX0_four_15 rfl (lv_at hl 2 rfl) ?_
  refine lv_iload_n hx hb dX0_four_16 rfl (lv_at hl 0 rfl) ?_
  refine lv_ishr hx hb dX0_four_17 ?_
  refine lv_i2b (v := (p1 >>> (x1 &&& 31)).toInt8.toInt32) hx hb dX0_four_18 rfl ?_
  refine fo_bast X hw (hx29 hX) (pk_nb _) dX0_four_19 hf (fun st4 H locs hw hf => ?_)
  refine lv_aload_n hx hb dX0_four_20 rfl (lv_at hl 1 rfl) ?_
  refine lv_dup hx hb dX0_four_21 rfl ?_
  refine fo_geti X hw fc_X0 (hx0 hX) (k := 11) (by decide) rfl q356 dX0_four_22 ?_
  refine lv_iconst (v := (1 : Int32)) hx hb dX0_four_25 (by decide) ?_
  refine lv_iadd hx hb dX0_four_26 ?_
  refine fo_puti X hw fc_X0 (hx0 hX) (k := 11) (by decide) rfl rfl q356 ⟨rfl, rfl⟩ dX0_four_27 hf (fun st5 H locs hw hf => ?_)
  refine fb_iinc (v := (-8 : Int32)) (lv' := [(2, .int (x1 + (-8 : Int32))), (0, .ref (eb E + 0)), (1, .int p1)]) hx hb dX0_four_30 hl (k := 0) rfl (by decide) (by decide) rfl (fun ls hl => ?_)
  refine lv_goto (tgt := 3) hx hb dX0_four_33 (by decide) ?_
  exact hrec3 _ _ hf _ _ _ (lv_sub hl [0, 1, 2] rfl) hw

/-- ForestRooms.feed -/
def fX0_feed (G : Nat) (p1 : Int32) (p2 : Int32) (p3 : Int32) (p4 : Int32) (p5 : Int32) (st0 : fo_St) : Option (Int32 × fo_St) := if ((gi_ st0 0 11) + (20 : Int32)) ≤ (400 : Int32) then bv_ (fX0_four G p1 st0) (fun st2 => bv_ (fX0_four G p2 st2) (fun st4 => bv_ (fX0_four G p3 st4) (fun st6 => bv_ (fX0_four G p4 st6) (fun st8 => bv_ (fX0_four G p5 st8) (fun st10 => some ((gi_ st10 0 11), st10)))))) else some ((-1 : Int32), st0)
theorem hm_X0_feed : fo_M yX0_feed 5 := ⟨by decide +kernel, by decide +kernel, by decide +kernel, by decide +kernel⟩
set_option maxHeartbeats 4000000 in
theorem wX0_feed (l : Launch) (E : fo_E) (hX : fo_HX E) (G : Nat) (p1 : Int32) (p2 : Int32) (p3 : Int32) (p4 : Int32) (p5 : Int32) (st0 : fo_St) (rZ : Int32) (stZ : fo_St) (hf : fX0_feed G p1 p2 p3 p4 p5 st0 = some (rZ, stZ)) : CTi l E yX0_feed (ws_ yX0_feed cX0_feed 6 (some .int)) ({ frames := 1, cells := 0, slots := 0, locals := 22 }) [.ref (eb E + 0), .int p1, .int p2, .int p3, .int p4, .int p5] st0 rZ stZ := by
  refine fe_i hm_X0_feed (Nat.le_of_ble_eq_true rfl) (fun p e R s m args below meth c Q hRf hRl X hend ls hl hw => ?_)
  have hx := X.1.1
  have hb := X.1.2.1
  have hl : lv_has ls 6 [(0, .ref (eb E + 0)), (1, .int p1), (2, .int p2), (3, .int p3), (4, .int p4), (5, .int p5)] := hl
  unfold fX0_feed at hf
  generalize s.heap = H at hw ⊢
  generalize ([] : List Loc) = locs at hw ⊢
  refine lv_aload_n hx hb dX0_feed_0 rfl (lv_at hl 0 rfl) ?_
  refine fo_geti X hw fc_X0 (hx0 hX) (k := 11) (by decide) rfl q356 dX0_feed_1 ?_
  refine lv_bipush (v := (20 : Int32)) hx hb dX0_feed_4 (by decide) ?_
  refine lv_iadd hx hb dX0_feed_6 ?_
  refine lv_sipush (v := (400 : Int32)) hx hb dX0_feed_7 (by decide) ?_
  refine fb_ile (tgt := 15) hx hb dX0_feed_10 (by decide) hf (fun hf => ?_) (fun hf => ?_)
  · refine lv_aload_n hx hb dX0_feed_15 rfl (lv_at hl 0 rfl) ?_
    refine lv_iload_n hx hb dX0_feed_16 rfl (lv_at hl 1 rfl) ?_
    refine fc_Vv (rest := []) (As := [.int p1]) X hw hm_X0_four (lw_V q689 q691 qs11 q111 q692) ⟨rfl, rfl⟩ ⟨by rw [hRf]; exact Nat.le_of_ble_eq_true rfl, by rw [hRl]; exact Nat.le_of_ble_eq_true rfl⟩ fc_X0 rfl (hx0 hX) rfl rfl hl.1 (Nat.le_of_ble_eq_true rfl) dX0_feed_17 (fun stQ hQ => wX0_four l E hX G p1 st0 stQ hQ) hf (fun st2 H locs hw hf => ?_)
    refine lv_aload_n hx hb dX0_feed_20 rfl (lv_at hl 0 rfl) ?_
    refine lv_iload_n hx hb dX0_feed_21 rfl (lv_at hl 2 rfl) ?_
    refine fc_Vv (rest := []) (As := [.int p2]) X hw hm_X0_four (lw_V q689 q691 qs11 q111 q692) ⟨rfl, rfl⟩ ⟨by rw [hRf]; exact Nat.le_of_ble_eq_true rfl, by rw [hRl]; exact Nat.le_of_ble_eq_true rfl⟩ fc_X0 rfl (hx0 hX) rfl rfl hl.1 (Nat.le_of_ble_eq_true rfl) dX0_feed_22 (fun stQ hQ => wX0_four l E hX G p2 st2 stQ hQ) hf (fun st4 H locs hw hf => ?_)
    refine lv_aload_n hx hb dX0_feed_25 rfl (lv_at hl 0 rfl) ?_
    refine lv_iload_n hx hb dX0_feed_26 rfl (lv_at hl 3 rfl) ?_
    refine fc_Vv (rest := []) (As := [.int p3]) X hw hm_X0_four (lw_V q689 q691 qs11 q111 q692) ⟨rfl, rfl⟩ ⟨by rw [hRf]; exact Nat.le_of_ble_eq_true rfl, by rw [hRl]; exact Nat.le_of_ble_eq_true rfl⟩ fc_X0 rfl (hx0 hX) rfl rfl hl.1 (Nat.le_of_ble_eq_true rfl) dX0_feed_27 (fun stQ hQ => wX0_four l E hX G p3 st4 stQ hQ) hf (fun st6 H locs hw hf => ?_)
    refine lv_aload_n hx hb dX0_feed_30 rfl (lv_at hl 0 rfl) ?_
    refine lv_iload hx hb dX0_feed_31 (lv_at hl 4 rfl) ?_
    refine fc_Vv (rest := []) (As := [.int p4]) X hw hm_X0_four (lw_V q689 q691 qs11 q111 q692) ⟨rfl, rfl⟩ ⟨by rw [hRf]; exact Nat.le_of_ble_eq_true rfl, by rw [hRl]; exact Nat.le_of_ble_eq_true rfl⟩ fc_X0 rfl (hx0 hX) rfl rfl hl.1 (Nat.le_of_ble_eq_true rfl) dX0_feed_33 (fun stQ hQ => wX0_four l E hX G p4 st6 stQ hQ) hf (fun st8 H locs hw hf => ?_)
    refine lv_aload_n hx hb dX0_feed_36 rfl (lv_at hl 0 rfl) ?_
    refine lv_iload hx hb dX0_feed_37 (lv_at hl 5 rfl) ?_
    refine fc_Vv (rest := []) (As := [.int p5]) X hw hm_X0_four (lw_V q689 q691 qs11 q111 q692) ⟨rfl, rfl⟩ ⟨by rw [hRf]; exact Nat.le_of_ble_eq_true rfl, by rw [hRl]; exact Nat.le_of_ble_eq_true rfl⟩ fc_X0 rfl (hx0 hX) rfl rfl hl.1 (Nat.le_of_ble_eq_true rfl) dX0_feed_39 (fun stQ hQ => wX0_four l E hX G p5 st8 stQ hQ) hf (fun st10 H locs hw hf => ?_)
    refine lv_aload_n hx hb dX0_feed_42 rfl (lv_at hl 0 rfl) ?_
    refine fo_geti X hw fc_X0 (hx0 hX) (k := 11) (by decide) rfl q356 dX0_feed_43 ?_
    exact fd_i hend hw hf dX0_feed_46
  refine lv_iconst (v := (-1 : Int32)) hx hb dX0_feed_13 (by decide) ?_
  exact fd_i hend hw hf dX0_feed_14

/-- ForestRooms.end -/
def fX0_end (p1 : Int32) (st0 : fo_St) : Option (Int32 × fo_St) := if p1 < 0 then some ((-1 : Int32), st0) else if p1 ≤ (gi_ st0 0 11) then lt_ (si_ st0 0 11 p1) (fun st1 => some (p1, st1)) else some ((-1 : Int32), st0)
theorem hm_X0_end : fo_M yX0_end 1 := ⟨by decide +kernel, by decide +kernel, by decide +kernel, by decide +kernel⟩
set_option maxHeartbeats 4000000 in
theorem wX0_end (l : Launch) (E : fo_E) (hX : fo_HX E) (p1 : Int32) (st0 : fo_St) (rZ : Int32) (stZ : fo_St) (hf : fX0_end p1 st0 = some (rZ, stZ)) : CTi l E yX0_end (ws_ yX0_end cX0_end 2 (some .int)) ({ frames := 0, cells := 0, slots := 0, locals := 0 }) [.ref (eb E + 0), .int p1] st0 rZ stZ := by
  refine fe_i hm_X0_end (Nat.le_of_ble_eq_true rfl) (fun p e R s m args below meth c Q hRf hRl X hend ls hl hw => ?_)
  have hx := X.1.1
  have hb := X.1.2.1
  have hl : lv_has ls 2 [(0, .ref (eb E + 0)), (1, .int p1)] := hl
  unfold fX0_end at hf
  generalize s.heap = H at hw ⊢
  generalize ([] : List Loc) = locs at hw ⊢
  refine lv_iload_n hx hb dX0_end_0 rfl (lv_at hl 1 rfl) ?_
  refine fb_zlt (tgt := 12) hx hb dX0_end_1 (by decide) hf (fun hf => ?_) (fun hf => ?_)
  · refine lv_iconst (v := (-1 : Int32)) hx hb dX0_end_12 (by decide) ?_
    exact fd_i hend hw hf dX0_end_13
  refine lv_iload_n hx hb dX0_end_4 rfl (lv_at hl 1 rfl) ?_
  refine lv_aload_n hx hb dX0_end_5 rfl (lv_at hl 0 rfl) ?_
  refine fo_geti X hw fc_X0 (hx0 hX) (k := 11) (by decide) rfl q356 dX0_end_6 ?_
  refine fb_ile (tgt := 14) hx hb dX0_end_9 (by decide) hf (fun hf => ?_) (fun hf => ?_)
  · refine lv_aload_n hx hb dX0_end_14 rfl (lv_at hl 0 rfl) ?_
    refine lv_iload_n hx hb dX0_end_15 rfl (lv_at hl 1 rfl) ?_
    refine fo_puti X hw fc_X0 (hx0 hX) (k := 11) (by decide) rfl rfl q356 ⟨rfl, rfl⟩ dX0_end_16 hf (fun st1 H locs hw hf => ?_)
    refine lv_iload_n hx hb dX0_end_19 rfl (lv_at hl 1 rfl) ?_
    exact fd_i hend hw hf dX0_end_20
  refine lv_iconst (v := (-1 : Int32)) hx hb dX0_end_12 (by decide) ?_
  exact fd_i hend hw hf dX0_end_13

/-- ForestRooms.row -/
def fX0_row (G : Nat) (st0 : fo_St) : Option (Int32 × fo_St) := lI_ (gi_ st0 0 11) (fun x1 => lt_ (si_ st0 0 11 (0 : Int32)) (fun st2 => if ¬ x1 = 0 then jn_ (fun (x3 : Int32) => lt_ (si_ st2 0 13 x3) (fun st5 => lp3_ (fun rec9 (x6 : Int32) (x7 : Int32) (st8 : fo_St) => if x1 < (((3 : Int32) * x6) + (3 : Int32)) then bd_ (fX0_settled x7 st8) (fun x10 st11 => some (x10, st11)) else bd_ (fX0_isRoom x6 st8) (fun x12 st13 => lp3_ (fun rec17 (x14 : Int32) (x15 : Int32) (st16 : fo_St) => if (3 : Int32) ≤ x14 then jn_ (fun (st18 : fo_St) => jn_ (fun (x20 : Int32) => lI_ (x7 + x20) (fun x22 => jn_ (fun (x23 : Int32) => lt_ (si_ st18 0 13 ((gi_ st18 0 13) + x23)) (fun st25 => rec9 (x6 + (1 : Int32)) x22 st25)) (fun k24 => if x15 = 0 then k24 (1 : Int32) else k24 (0 : Int32)))) (fun k21 => if x15 = 0 then k21 (0 : Int32) else k21 (1 : Int32))) (fun k19 => lp2_ (fun rec28 (x26 : Int32) (st27 : fo_St) => if (3 : Int32) ≤ x26 then k19 st27 else if x15 = 0 then k19 st27 else bd_ (fX0_rowOf x26 st27) (fun x29 st30 => ck_ (decide (x29 = 7 ∨ x29 = 8 ∨ x29 = 9)) (ck_ (fo_in (((3 : Int32) * x6) + x26) 400) (ck_ (fo_in x6 16) (lt_ (si_ st30 x29 x6.toNatClampNeg (gi_ st30 29 (((3 : Int32) * x6) + x26).toNatClampNeg)) (fun st32 => rec28 (x26 + (1 : Int32)) st32)))))) G (0 : Int32) st16) else ck_ (fo_in (((3 : Int32) * x6) + x14) 400) (bd_ (fX0_isPut x14 (gi_ st16 29 (((3 : Int32) * x6) + x14).toNatClampNeg) st16) (fun x33 st34 => lI_ (x15 &&& x33) (fun x35 => rec17 (x14 + (1 : Int32)) x35 st34)))) G (0 : Int32) x12 st13)) G (0 : Int32) (0 : Int32) st5)) (fun k4 => if ¬ (irem_ x1 (3 : Int32)) = 0 then k4 (1 : Int32) else k4 (0 : Int32)) else bd_ (fX0_refuse (-6 : Int32) st2) (fun x36 st37 => some (x36, st37))))
theorem hm_X0_row : fo_M yX0_row 0 := ⟨by decide +kernel, by decide +kernel, by decide +kernel, by decide +kernel⟩
set_option maxHeartbeats 4000000 in
theorem wX0_row (l : Launch) (E : fo_E) (hX : fo_HX E) (G : Nat) (st0 : fo_St) (rZ : Int32) (stZ : fo_St) (hf : fX0_row G st0 = some (rZ, stZ)) : CTi l E yX0_row (ws_ yX0_row cX0_row 6 (some .int)) ({ frames := 2, cells := 0, slots := 0, locals := 43 }) [.ref (eb E + 0)] st0 rZ stZ := by
  refine fe_i hm_X0_row (Nat.le_of_ble_eq_true rfl) (fun p e R s m args below meth c Q hRf hRl X hend ls hl hw => ?_)
  have hx := X.1.1
  have hb := X.1.2.1
  have hl : lv_has ls 6 [(0, .ref (eb E + 0))] := hl
  unfold fX0_row at hf
  generalize s.heap = H at hw ⊢
  generalize ([] : List Loc) = locs at hw ⊢
  refine lv_aload_n hx hb dX0_row_0 rfl (lv_at hl 0 rfl) ?_
  refine fo_geti X hw fc_X0 (hx0 hX) (k := 11) (by decide) rfl q356 dX0_row_1 ?_
  refine fo_tI hf (fun x1 hf => ?_)
  refine lv_istore_n (lv' := [(1, .int x1), (0, .ref (eb E + 0))]) hx hb dX0_row_4 rfl hl (by decide) rfl (fun ls hl => ?_)
  refine lv_aload_n hx hb dX0_row_5 rfl (lv_at hl 1 rfl) ?_
  refine lv_iconst (v := (0 : Int32)) hx hb dX0_row_6 (by decide) ?_
  refine fo_puti X hw fc_X0 (hx0 hX) (k := 11) (by decide) rfl rfl q356 ⟨rfl, rfl⟩ dX0_row_7 hf (fun st2 H locs hw hf => ?_)
  refine lv_iload_n hx hb dX0_row_10 rfl (lv_at hl 0 rfl) ?_
  refine fb_zne (tgt := 21) hx hb dX0_row_11 (by decide) hf (fun hf => ?_) (fun hf => ?_)
  · refine lv_iconst (v := (0 : Int32)) hx hb dX0_row_21 (by decide) ?_
    refine lv_istore_n (lv' := [(2, .int (0 : Int32)), (1, .int x1), (0, .ref (eb E + 0))]) hx hb dX0_row_22 rfl hl (by decide) rfl (fun ls hl => ?_)
    refine lv_aload_n hx hb dX0_row_23 rfl (lv_at hl 2 rfl) ?_
    refine lv_iload_n hx hb dX0_row_24 rfl (lv_at hl 1 rfl) ?_
    refine lv_iconst (v := (3 : Int32)) hx hb dX0_row_25 (by decide) ?_
    refine fb_iremK hx hb dX0_row_26 (by decide) ?_
    refine jn_e hf (fun k4 ek hf => ?_)
    have hk4 : ∀ (x3 : Int32) (H : Heap) (locs : List Loc) (ls : Array Slot), lv_has ls 6 [(2, .int (0 : Int32)), (1, .int x1), (0, .ref (eb E + 0))] → fo_S E s st2 H locs → k4 x3 = some (rZ, stZ) → W p l e R s m args below meth c H locs 0 0 Q (F0 m 35 ls [.int x3, .ref (eb E + 0)]) := by
      intro x3 H locs ls hl hw hf
      rw [ek] at hf
      refine fo_puti X hw fc_X0 (hx0 hX) (k := 13) (by decide) rfl rfl q358 ⟨rfl, rfl⟩ dX0_row_35 hf (fun st5 H locs hw hf => ?_)
      refine lv_iconst (v := (0 : Int32)) hx hb dX0_row_38 (by decide) ?_
      refine lv_istore_n (lv' := [(3, .int (0 : Int32)), (2, .int (0 : Int32)), (1, .int x1), (0, .ref (eb E + 0))]) hx hb dX0_row_39 rfl hl (by decide) rfl (fun ls hl => ?_)
      refine lp3_e (P := fun x6 x7 st8 => ∀ (H : Heap) (locs : List Loc) (ls : Array Slot), lv_has ls 6 [(3, .int x6), (2, .int x7), (1, .int x1), (0, .ref (eb E + 0))] → fo_S E s st8 H locs → W p l e R s m args below meth c H locs 0 0 Q (F0 m 40 ls [])) (fun rec9 hrec9 x6 x7 st8 hf => ?_) G _ _ _ hf H locs ls (lv_sub hl [0, 1, 2, 3] rfl) hw
      intro H locs ls hl hw
      refine lv_iconst (v := (3 : Int32)) hx hb dX0_row_40 (by decide) ?_
      refine lv_iload_n hx hb dX0_row_41 rfl (lv_at hl 0 rfl) ?_
      refine lv_imul hx hb dX0_row_42 ?_
      refine lv_iconst (v := (3 : Int32)) hx hb dX0_row_43 (by decide) ?_
      refine lv_iadd hx hb dX0_row_44 ?_
      refine lv_iload_n hx hb dX0_row_45 rfl (lv_at hl 2 rfl) ?_
      refine fb_igt (tgt := 168) hx hb dX0_row_46 (by decide) hf (fun hf => ?_) (fun hf => ?_)
      · refine lv_aload_n hx hb dX0_row_168 rfl (lv_at hl 3 rfl) ?_
        refine lv_iload_n hx hb dX0_row_169 rfl (lv_at hl 1 rfl) ?_
        refine fc_Vi (rest := []) (As := [.int x7]) X hw hm_X0_settled (lw_V q538 q540 qs4 q111 q541) ⟨rfl, rfl⟩ ⟨by rw [hRf]; exact Nat.le_of_ble_eq_true rfl, by rw [hRl]; exact Nat.le_of_ble_eq_true rfl⟩ fc_X0 rfl (hx0 hX) rfl rfl hl.1 (Nat.le_of_ble_eq_true rfl) dX0_row_170 (fun rQ stQ hQ => wX0_settled l E hX x7 st8 rQ stQ hQ) hf (fun x10 st11 H locs hw hf => ?_)
        exact fd_i hend hw hf dX0_row_173
      refine lv_iload_n hx hb dX0_row_49 rfl (lv_at hl 0 rfl) ?_
      refine fc_Si (rest := []) (As := [.int x6]) X hw hm_X0_isRoom (lw_S q546 q547 q111 q548) ⟨rfl, rfl⟩ ⟨by rw [hRf]; exact Nat.le_of_ble_eq_true rfl, by rw [hRl]; exact Nat.le_of_ble_eq_true rfl⟩ rfl rfl hl.1 (Nat.le_of_ble_eq_true rfl) dX0_row_50 (fun rQ stQ hQ => wX0_isRoom l E hX x6 st8 rQ stQ hQ) hf (fun x12 st13 H locs hw hf => ?_)
      refine lv_istore (lv' := [(4, .int x12), (3, .int x6), (2, .int x7), (1, .int x1), (0, .ref (eb E + 0))]) hx hb dX0_row_53 hl (by decide) rfl (fun ls hl => ?_)
      refine lv_iconst (v := (0 : Int32)) hx hb dX0_row_55 (by decide) ?_
      refine lv_istore (lv' := [(5, .int (0 : Int32)), (4, .int x12), (3, .int x6), (2, .int x7), (1, .int x1), (0, .ref (eb E + 0))]) hx hb dX0_row_56 hl (by decide) rfl (fun ls hl => ?_)
      refine lp3_e (P := fun x14 x15 st16 => ∀ (H : Heap) (locs : List Loc) (ls : Array Slot), lv_has ls 6 [(5, .int x14), (4, .int x15), (3, .int x6), (2, .int x7), (1, .int x1), (0, .ref (eb E + 0))] → fo_S E s st16 H locs → W p l e R s m args below meth c H locs 0 0 Q (F0 m 58 ls [])) (fun rec17 hrec17 x14 x15 st16 hf => ?_) G _ _ _ hf H locs ls (lv_sub hl [0, 1, 2, 3, 4, 5] rfl) hw
      intro H locs ls hl hw
      refine lv_iload hx hb dX0_row_58 (lv_at hl 0 rfl) ?_
      refine lv_iconst (v := (3 : Int32)) hx hb dX0_row_60 (by decide) ?_
      refine fb_ige (tgt := 91) hx hb dX0_row_61 (by decide) hf (fun hf => ?_) (fun hf => ?_)
      · refine lv_iconst (v := (0 : Int32)) hx hb dX0_row_91 (by decide) ?_
        refine lv_istore (lv' := [(5, .int (0 : Int32)), (4, .int x15), (3, .int x6), (2, .int x7), (1, .int x1), (0, .ref (eb E + 0))]) hx hb dX0_row_92 hl (by decide) rfl (fun ls hl => ?_)
        refine jn_e hf (fun k19 ek hf => ?_)
        have hk19 : ∀  (st18 : fo_St) (H : Heap) (locs : List Loc) (ls : Array Slot), lv_has ls 6 [(4, .int x15), (3, .int x6), (2, .int x7), (1, .int x1), (0, .ref (eb E + 0))] → fo_S E s st18 H locs → k19 st18 = some (rZ, stZ) → W p l e R s m args below meth c H locs 0 0 Q (F0 m 130 ls []) := by
          intro st18 H locs ls hl hw hf
          rw [ek] at hf
          refine lv_iload_n hx hb dX0_row_130 rfl (lv_at hl 2 rfl) ?_
          refine lv_iload hx hb dX0_row_131 (lv_at hl 0 rfl) ?_
          refine jn_e hf (fun k21 ek hf => ?_)
          have hk21 : ∀ (x20 : Int32) (H : Heap) (locs : List Loc) (ls : Array Slot), lv_has ls 6 [(4, .int x15), (3, .int x6), (1, .int x1), (0, .ref (eb E + 0))] → fo_S E s st18 H locs → k21 x20 = some (rZ, stZ) → W p l e R s m args below meth c H locs 0 0 Q (F0 m 141 ls [.int x20, .int x7]) := by
            intro x20 H locs ls hl hw hf
            rw [ek] at hf
            refine lv_iadd hx hb dX0_row_141 ?_
            refine fo_tI hf (fun x22 hf => ?_)
            refine lv_istore_n (lv' := [(2, .int x22), (4, .int x15), (3, .int x6), (1, .int x1), (0, .ref (eb E + 0))]) hx hb dX0_row_142 rfl hl (by decide) rfl (fun ls hl => ?_)
            refine lv_aload_n hx hb dX0_row_143 rfl (lv_at hl 4 rfl) ?_
            refine lv_dup hx hb dX0_row_144 rfl ?_
            refine fo_geti X hw fc_X0 (hx0 hX) (k := 13) (by decide) rfl q358 dX0_row_145 ?_
            refine lv_iload hx hb dX0_row_148 (lv_at hl 1 rfl) ?_
            refine jn_e hf (fun k24 ek hf => ?_)
            have hk24 : ∀ (x23 : Int32) (H : Heap) (locs : List Loc) (ls : Array Slot), lv_has ls 6 [(2, .int x22), (3, .int x6), (1, .int x1), (0, .ref (eb E + 0))] → fo_S E s st18 H locs → k24 x23 = some (rZ, stZ) → W p l e R s m args below meth c H locs 0 0 Q (F0 m 158 ls [.int x23, .int (gi_ st18 0 13), .ref (eb E + 0)]) := by
              intro x23 H locs ls hl hw hf
              rw [ek] at hf
              refine lv_iadd hx hb dX0_row_158 ?_
              refine fo_puti X hw fc_X0 (hx0 hX) (k := 13) (by decide) rfl rfl q358 ⟨rfl, rfl⟩ dX0_row_159 hf (fun st25 H locs hw hf => ?_)
              refine fb_iinc (v := (1 : Int32)) (lv' := [(3, .int (x6 + (1 : Int32))), (2, .int x22), (1, .int x1), (0, .ref (eb E + 0))]) hx hb dX0_row_162 hl (k := 1) rfl (by decide) (by decide) rfl (fun ls hl => ?_)
              refine lv_goto (tgt := 40) hx hb dX0_row_165 (by decide) ?_
              exact hrec9 _ _ _ hf _ _ _ (lv_sub hl [0, 1, 2, 3] rfl) hw
            clear ek
            refine fb_zeq (tgt := 157) hx hb dX0_row_150 (by decide) hf (fun hf => ?_) (fun hf => ?_)
            · refine lv_iconst (v := (1 : Int32)) hx hb dX0_row_157 (by decide) ?_
              exact hk24 _ _ _ _ (lv_sub hl [0, 2, 3, 4] rfl) hw hf
            refine lv_iconst (v := (0 : Int32)) hx hb dX0_row_153 (by decide) ?_
            refine lv_goto (tgt := 158) hx hb dX0_row_154 (by decide) ?_
            exact hk24 _ _ _ _ (lv_sub hl [0, 2, 3, 4] rfl) hw hf
          clear ek
          refine fb_zeq (tgt := 140) hx hb dX0_row_133 (by decide) hf (fun hf => ?_) (fun hf => ?_)
          · refine lv_iconst (v := (0 : Int32)) hx hb dX0_row_140 (by decide) ?_
            exact hk21 _ _ _ _ (lv_sub hl [0, 1, 3, 4] rfl) hw hf
          refine lv_iconst (v := (1 : Int32)) hx hb dX0_row_136 (by decide) ?_
          refine lv_goto (tgt := 141) hx hb dX0_row_137 (by decide) ?_
          exact hk21 _ _ _ _ (lv_sub hl [0, 1, 3, 4] rfl) hw hf
        clear ek
        refine lp2_e (P := fun x26 st27 => ∀ (H : Heap) (locs : List Loc) (ls : Array Slot), lv_has ls 6 [(5, .int x26), (4, .int x15), (3, .int x6), (2, .int x7), (1, .int x1), (0, .ref (eb E + 0))] → fo_S E s st27 H locs → W p l e R s m args below meth c H locs 0 0 Q (F0 m 94 ls [])) (fun rec28 hrec28 x26 st27 hf => ?_) G _ _ hf H locs ls (lv_sub hl [0, 1, 2, 3, 4, 5] rfl) hw
        intro H locs ls hl hw
        refine lv_iload hx hb dX0_row_94 (lv_at hl 0 rfl) ?_
        refine lv_iconst (v := (3 : Int32)) hx hb dX0_row_96 (by decide) ?_
        refine fb_ige (tgt := 130) hx hb dX0_row_97 (by decide) hf (fun hf => ?_) (fun hf => ?_)
        · exact hk19 _ _ _ _ (lv_sub hl [1, 2, 3, 4, 5] rfl) hw hf
        refine lv_iload hx hb dX0_row_100 (lv_at hl 1 rfl) ?_
        refine fb_zeq (tgt := 130) hx hb dX0_row_102 (by decide) hf (fun hf => ?_) (fun hf => ?_)
        · exact hk19 _ _ _ _ (lv_sub hl [1, 2, 3, 4, 5] rfl) hw hf
        refine lv_aload_n hx hb dX0_row_105 rfl (lv_at hl 5 rfl) ?_
        refine lv_iload hx hb dX0_row_106 (lv_at hl 0 rfl) ?_
        refine fc_Vr (rest := []) (As := [.int x26]) X hw hm_X0_rowOf (lw_V q552 q554 qs5 q111 q555) ⟨rfl, rfl⟩ ⟨by rw [hRf]; exact Nat.le_of_ble_eq_true rfl, by rw [hRl]; exact Nat.le_of_ble_eq_true rfl⟩ fc_X0 rfl (hx0 hX) rfl rfl hl.1 (Nat.le_of_ble_eq_true rfl) dX0_row_108 (fun rQ stQ hQ => wX0_rowOf l E hX x26 st27 rQ stQ hQ) hf (fun x29 st30 H locs hw hf => ?_)
        obtain ⟨hc, hf⟩ := ck_e hf
        have hc := of_decide_eq_true hc
        have hq31 : et E x29 = (2, 16) := by rcases hc with rfl | rfl | rfl <;> first | exact hx7 hX | exact hx8 hX | exact hx9 hX
        refine lv_iload_n hx hb dX0_row_111 rfl (lv_at hl 2 rfl) ?_
        refine lv_aload_n hx hb dX0_row_112 rfl (lv_at hl 5 rfl) ?_
        refine fo_gets X hw fc_X0 (hx0 hX) (k := 10) (d := 29) (n2 := 29) (by decide) rfl rfl q355 dX0_row_113 ?_
        refine lv_iconst (v := (3 : Int32)) hx hb dX0_row_116 (by decide) ?_
        refine lv_iload_n hx hb dX0_row_117 rfl (lv_at hl 2 rfl) ?_
        refine lv_imul hx hb dX0_row_118 ?_
        refine lv_iload hx hb dX0_row_119 (lv_at hl 0 rfl) ?_
        refine lv_iadd hx hb dX0_row_121 ?_
        refine fo_bald X hw (hx29 hX) dX0_row_122 hf (fun hf => ?_)
        refine fo_iast X hw hq31 dX0_row_123 hf (fun st32 H locs hw hf => ?_)
        refine fb_iinc (v := (1 : Int32)) (lv' := [(5, .int (x26 + (1 : Int32))), (4, .int x15), (3, .int x6), (2, .int x7), (1, .int x1), (0, .ref (eb E + 0))]) hx hb dX0_row_124 hl (k := 0) rfl (by decide) (by decide) rfl (fun ls hl => ?_)
        refine lv_goto (tgt := 94) hx hb dX0_row_127 (by decide) ?_
        exact hrec28 _ _ hf _ _ _ (lv_sub hl [0, 1, 2, 3, 4, 5] rfl) hw
      refine lv_iload hx hb dX0_row_64 (lv_at hl 1 rfl) ?_
      refine lv_iload hx hb dX0_row_66 (lv_at hl 0 rfl) ?_
      refine lv_aload_n hx hb dX0_row_68 rfl (lv_at hl 5 rfl) ?_
      refine fo_gets X hw fc_X0 (hx0 hX) (k := 10) (d := 29) (n2 := 29) (by decide) rfl rfl q355 dX0_row_69 ?_
      refine lv_iconst (v := (3 : Int32)) hx hb dX0_row_72 (by decide) ?_
      refine lv_iload_n hx hb dX0_row_73 rfl (lv_at hl 2 rfl) ?_
      refine lv_imul hx hb dX0_row_74 ?_
      refine lv_iload hx hb dX0_row_75 (lv_at hl 0 rfl) ?_
      refine lv_iadd hx hb dX0_row_77 ?_
      refine fo_bald X hw (hx29 hX) dX0_row_78 hf (fun hf => ?_)
      refine fc_Si (rest := [.int x15]) (As := [.int x14, .int (gi_ st16 29 (((3 : Int32) * x6) + x14).toNatClampNeg)]) X hw hm_X0_isPut (lw_S q549 q550 q111 q551) ⟨rfl, rfl⟩ ⟨by rw [hRf]; exact Nat.le_of_ble_eq_true rfl, by rw [hRl]; exact Nat.le_of_ble_eq_true rfl⟩ rfl rfl hl.1 (Nat.le_of_ble_eq_true rfl) dX0_row_79 (fun rQ stQ hQ => wX0_isPut l E hX x14 (gi_ st16 29 (((3 : Int32) * x6) + x14).toNatClampNeg) st16 rQ stQ hQ) hf (fun x33 st34 H locs hw hf => ?_)
      refine lv_iand hx hb dX0_row_82 ?_
      refine fo_tI hf (fun x35 hf => ?_)
      refine lv_istore (lv' := [(4, .int x35), (5, .int x14), (3, .int x6), (2, .int x7), (1, .int x1), (0, .ref (eb E + 0))]) hx hb dX0_row_83 hl (by decide) rfl (fun ls hl => ?_)
      refine fb_iinc (v := (1 : Int32)) (lv' := [(5, .int (x14 + (1 : Int32))), (4, .int x35), (3, .int x6), (2, .int x7), (1, .int x1), (0, .ref (eb E + 0))]) hx hb dX0_row_85 hl (k := 1) rfl (by decide) (by decide) rfl (fun ls hl => ?_)
      refine lv_goto (tgt := 58) hx hb dX0_row_88 (by decide) ?_
      exact hrec17 _ _ _ hf _ _ _ (lv_sub hl [0, 1, 2, 3, 4, 5] rfl) hw
    clear ek
    refine fb_zne (tgt := 34) hx hb dX0_row_27 (by decide) hf (fun hf => ?_) (fun hf => ?_)
    · refine lv_iconst (v := (1 : Int32)) hx hb dX0_row_34 (by decide) ?_
      exact hk4 _ _ _ _ (lv_sub hl [0, 1, 2] rfl) hw hf
    refine lv_iconst (v := (0 : Int32)) hx hb dX0_row_30 (by decide) ?_
    refine lv_goto (tgt := 35) hx hb dX0_row_31 (by decide) ?_
    exact hk4 _ _ _ _ (lv_sub hl [0, 1, 2] rfl) hw hf
  refine lv_aload_n hx hb dX0_row_14 rfl (lv_at hl 1 rfl) ?_
  refine lv_bipush (v := (-6 : Int32)) hx hb dX0_row_15 (by decide) ?_
  refine fc_Vi (rest := []) (As := [.int (-6 : Int32)]) X hw hm_X0_refuse (lw_V q440 q442 qs1 q111 q443) ⟨rfl, rfl⟩ ⟨by rw [hRf]; exact Nat.le_of_ble_eq_true rfl, by rw [hRl]; exact Nat.le_of_ble_eq_true rfl⟩ fc_X0 rfl (hx0 hX) rfl rfl hl.1 (Nat.le_of_ble_eq_true rfl) dX0_row_17 (fun rQ stQ hQ => wX0_refuse l E hX (-6 : Int32) st2 rQ stQ hQ) hf (fun x36 st37 H locs hw hf => ?_)
  exact fd_i hend hw hf dX0_row_20

/-- ForestRooms.moss -/
def fX0_moss (st0 : fo_St) : Option (Int32 × fo_St) := some ((gi_ st0 0 13), st0)
theorem hm_X0_moss : fo_M yX0_moss 0 := ⟨by decide +kernel, by decide +kernel, by decide +kernel, by decide +kernel⟩
set_option maxHeartbeats 4000000 in
theorem wX0_moss (l : Launch) (E : fo_E) (hX : fo_HX E) (st0 : fo_St) (rZ : Int32) (stZ : fo_St) (hf : fX0_moss st0 = some (rZ, stZ)) : CTi l E yX0_moss (ws_ yX0_moss cX0_moss 1 (some .int)) ({ frames := 0, cells := 0, slots := 0, locals := 0 }) [.ref (eb E + 0)] st0 rZ stZ := by
  refine fe_i hm_X0_moss (Nat.le_of_ble_eq_true rfl) (fun p e R s m args below meth c Q hRf hRl X hend ls hl hw => ?_)
  have hx := X.1.1
  have hb := X.1.2.1
  have hl : lv_has ls 1 [(0, .ref (eb E + 0))] := hl
  unfold fX0_moss at hf
  generalize s.heap = H at hw ⊢
  generalize ([] : List Loc) = locs at hw ⊢
  refine lv_aload_n hx hb dX0_moss_0 rfl (lv_at hl 0 rfl) ?_
  refine fo_geti X hw fc_X0 (hx0 hX) (k := 13) (by decide) rfl q358 dX0_moss_1 ?_
  exact fd_i hend hw hf dX0_moss_4

/-- ForestRooms.fault -/
def fX0_fault (st0 : fo_St) : Option (Int32 × fo_St) := some ((gi_ st0 0 12), st0)
theorem hm_X0_fault : fo_M yX0_fault 0 := ⟨by decide +kernel, by decide +kernel, by decide +kernel, by decide +kernel⟩
set_option maxHeartbeats 4000000 in
theorem wX0_fault (l : Launch) (E : fo_E) (hX : fo_HX E) (st0 : fo_St) (rZ : Int32) (stZ : fo_St) (hf : fX0_fault st0 = some (rZ, stZ)) : CTi l E yX0_fault (ws_ yX0_fault cX0_fault 1 (some .int)) ({ frames := 0, cells := 0, slots := 0, locals := 0 }) [.ref (eb E + 0)] st0 rZ stZ := by
  refine fe_i hm_X0_fault (Nat.le_of_ble_eq_true rfl) (fun p e R s m args below meth c Q hRf hRl X hend ls hl hw => ?_)
  have hx := X.1.1
  have hb := X.1.2.1
  have hl : lv_has ls 1 [(0, .ref (eb E + 0))] := hl
  unfold fX0_fault at hf
  generalize s.heap = H at hw ⊢
  generalize ([] : List Loc) = locs at hw ⊢
  refine lv_aload_n hx hb dX0_fault_0 rfl (lv_at hl 0 rfl) ?_
  refine fo_geti X hw fc_X0 (hx0 hX) (k := 12) (by decide) rfl q357 dX0_fault_1 ?_
  exact fd_i hend hw hf dX0_fault_4

/-- ForestRooms.stopped -/
def fX0_stopped (st0 : fo_St) : Option (Int32 × fo_St) := some ((gi_ st0 0 14), st0)
theorem hm_X0_stopped : fo_M yX0_stopped 0 := ⟨by decide +kernel, by decide +kernel, by decide +kernel, by decide +kernel⟩
set_option maxHeartbeats 4000000 in
theorem wX0_stopped (l : Launch) (E : fo_E) (hX : fo_HX E) (st0 : fo_St) (rZ : Int32) (stZ : fo_St) (hf : fX0_stopped st0 = some (rZ, stZ)) : CTi l E yX0_stopped (ws_ yX0_stopped cX0_stopped 1 (some .int)) ({ frames := 0, cells := 0, slots := 0, locals := 0 }) [.ref (eb E + 0)] st0 rZ stZ := by
  refine fe_i hm_X0_stopped (Nat.le_of_ble_eq_true rfl) (fun p e R s m args below meth c Q hRf hRl X hend ls hl hw => ?_)
  have hx := X.1.1
  have hb := X.1.2.1
  have hl : lv_has ls 1 [(0, .ref (eb E + 0))] := hl
  unfold fX0_stopped at hf
  generalize s.heap = H at hw ⊢
  generalize ([] : List Loc) = locs at hw ⊢
  refine lv_aload_n hx hb dX0_stopped_0 rfl (lv_at hl 0 rfl) ?_
  refine fo_geti X hw fc_X0 (hx0 hX) (k := 14) (by decide) rfl q359 dX0_stopped_1 ?_
  exact fd_i hend hw hf dX0_stopped_4

/-- ForestRooms.force -/
def fX0_force (p1 : Int32) (st0 : fo_St) : Option (Int32 × fo_St) := if p1 = (-1 : Int32) then lI_ (gi_ st0 2 11) (fun x1 => lt_ (si_ st0 2 11 p1) (fun st2 => bd_ (fX0_done x1 st2) (fun x3 st4 => some (x3, st4)))) else bd_ (fJ2_size 14 st0) (fun x5 st6 => bd_ (fX0_in p1 (0 : Int32) (x5 - (1 : Int32)) st6) (fun x7 st8 => if ¬ x7 = 0 then lI_ (gi_ st8 2 11) (fun x9 => lt_ (si_ st8 2 11 p1) (fun st10 => bd_ (fX0_done x9 st10) (fun x11 st12 => some (x11, st12)))) else bd_ (fX0_refuse (-2 : Int32) st8) (fun x13 st14 => some (x13, st14))))
theorem hm_X0_force : fo_M yX0_force 1 := ⟨by decide +kernel, by decide +kernel, by decide +kernel, by decide +kernel⟩
set_option maxHeartbeats 4000000 in
theorem wX0_force (l : Launch) (E : fo_E) (hX : fo_HX E) (p1 : Int32) (st0 : fo_St) (rZ : Int32) (stZ : fo_St) (hf : fX0_force p1 st0 = some (rZ, stZ)) : CTi l E yX0_force (ws_ yX0_force cX0_force 3 (some .int)) ({ frames := 1, cells := 0, slots := 0, locals := 22 }) [.ref (eb E + 0), .int p1] st0 rZ stZ := by
  refine fe_i hm_X0_force (Nat.le_of_ble_eq_true rfl) (fun p e R s m args below meth c Q hRf hRl X hend ls hl hw => ?_)
  have hx := X.1.1
  have hb := X.1.2.1
  have hl : lv_has ls 3 [(0, .ref (eb E + 0)), (1, .int p1)] := hl
  unfold fX0_force at hf
  generalize s.heap = H at hw ⊢
  generalize ([] : List Loc) = locs at hw ⊢
  refine lv_iload_n hx hb dX0_force_0 rfl (lv_at hl 1 rfl) ?_
  refine lv_iconst (v := (-1 : Int32)) hx hb dX0_force_1 (by decide) ?_
  refine fb_ieq (tgt := 32) hx hb dX0_force_2 (by decide) hf (fun hf => ?_) (fun hf => ?_)
  · refine lv_aload_n hx hb dX0_force_32 rfl (lv_at hl 0 rfl) ?_
    refine fo_gets X hw fc_X0 (hx0 hX) (k := 2) (d := 2) (n2 := 2) (by decide) rfl rfl q347 dX0_force_33 ?_
    refine fo_getiN X hw fc_X1 (hx2 hX) (k := 11) (by decide) rfl fn237 dX0_force_36 ?_
    refine fo_tI hf (fun x1 hf => ?_)
    refine lv_istore_n (lv' := [(2, .int x1), (0, .ref (eb E + 0)), (1, .int p1)]) hx hb dX0_force_39 rfl hl (by decide) rfl (fun ls hl => ?_)
    refine lv_aload_n hx hb dX0_force_40 rfl (lv_at hl 1 rfl) ?_
    refine fo_gets X hw fc_X0 (hx0 hX) (k := 2) (d := 2) (n2 := 2) (by decide) rfl rfl q347 dX0_force_41 ?_
    refine lv_iload_n hx hb dX0_force_44 rfl (lv_at hl 2 rfl) ?_
    refine fo_putiN X hw fc_X1 (hx2 hX) (k := 11) (by decide) rfl rfl fn237 ⟨rfl, rfl⟩ dX0_force_45 hf (fun st2 H locs hw hf => ?_)
    refine lv_aload_n hx hb dX0_force_48 rfl (lv_at hl 1 rfl) ?_
    refine lv_iload_n hx hb dX0_force_49 rfl (lv_at hl 0 rfl) ?_
    refine fc_Vi (rest := []) (As := [.int x1]) X hw hm_X0_done (lw_V q530 q532 qs3 q111 q533) ⟨rfl, rfl⟩ ⟨by rw [hRf]; exact Nat.le_of_ble_eq_true rfl, by rw [hRl]; exact Nat.le_of_ble_eq_true rfl⟩ fc_X0 rfl (hx0 hX) rfl rfl hl.1 (Nat.le_of_ble_eq_true rfl) dX0_force_50 (fun rQ stQ hQ => wX0_done l E hX x1 st2 rQ stQ hQ) hf (fun x3 st4 H locs hw hf => ?_)
    exact fd_i hend hw hf dX0_force_53
  refine lv_iload_n hx hb dX0_force_5 rfl (lv_at hl 1 rfl) ?_
  refine lv_iconst (v := (0 : Int32)) hx hb dX0_force_6 (by decide) ?_
  refine lv_aload_n hx hb dX0_force_7 rfl (lv_at hl 0 rfl) ?_
  refine fo_gets X hw fc_X0 (hx0 hX) (k := 2) (d := 2) (n2 := 2) (by decide) rfl rfl q347 dX0_force_8 ?_
  refine fo_getsN X hw fc_X1 (hx2 hX) (k := 8) (d := 12) (n2 := 14) (by decide) rfl rfl fn231 dX0_force_11 ?_
  refine fc_Vi (rest := [.int (0 : Int32), .int p1]) (As := []) X hw hm_J2_size (lw_V q709 q607 q608 q116 q609) ⟨rfl, rfl⟩ ⟨by rw [hRf]; exact Nat.le_of_ble_eq_true rfl, by rw [hRl]; exact Nat.le_of_ble_eq_true rfl⟩ fc_J2 rfl (hx14 hX) rfl rfl hl.1 (Nat.le_of_ble_eq_true rfl) dX0_force_14 (fun rQ stQ hQ => wJ2_size l E 14 (hx14 hX) st0 rQ stQ hQ) hf (fun x5 st6 H locs hw hf => ?_)
  refine lv_iconst (v := (1 : Int32)) hx hb dX0_force_17 (by decide) ?_
  refine lv_isub hx hb dX0_force_18 ?_
  refine fc_Si (rest := []) (As := [.int p1, .int (0 : Int32), .int (x5 - (1 : Int32))]) X hw hm_X0_in (lw_S q437 q438 q111 q439) ⟨rfl, rfl⟩ ⟨by rw [hRf]; exact Nat.le_of_ble_eq_true rfl, by rw [hRl]; exact Nat.le_of_ble_eq_true rfl⟩ rfl rfl hl.1 (Nat.le_of_ble_eq_true rfl) dX0_force_19 (fun rQ stQ hQ => wX0_in l E hX p1 (0 : Int32) (x5 - (1 : Int32)) st6 rQ stQ hQ) hf (fun x7 st8 H locs hw hf => ?_)
  refine fb_zne (tgt := 32) hx hb dX0_force_22 (by decide) hf (fun hf => ?_) (fun hf => ?_)
  · refine lv_aload_n hx hb dX0_force_32 rfl (lv_at hl 0 rfl) ?_
    refine fo_gets X hw fc_X0 (hx0 hX) (k := 2) (d := 2) (n2 := 2) (by decide) rfl rfl q347 dX0_force_33 ?_
    refine fo_getiN X hw fc_X1 (hx2 hX) (k := 11) (by decide) rfl fn237 dX0_force_36 ?_
    refine fo_tI hf (fun x9 hf => ?_)
    refine lv_istore_n (lv' := [(2, .int x9), (0, .ref (eb E + 0)), (1, .int p1)]) hx hb dX0_force_39 rfl hl (by decide) rfl (fun ls hl => ?_)
    refine lv_aload_n hx hb dX0_force_40 rfl (lv_at hl 1 rfl) ?_
    refine fo_gets X hw fc_X0 (hx0 hX) (k := 2) (d := 2) (n2 := 2) (by decide) rfl rfl q347 dX0_force_41 ?_
    refine lv_iload_n hx hb dX0_force_44 rfl (lv_at hl 2 rfl) ?_
    refine fo_putiN X hw fc_X1 (hx2 hX) (k := 11) (by decide) rfl rfl fn237 ⟨rfl, rfl⟩ dX0_force_45 hf (fun st10 H locs hw hf => ?_)
    refine lv_aload_n hx hb dX0_force_48 rfl (lv_at hl 1 rfl) ?_
    refine lv_iload_n hx hb dX0_force_49 rfl (lv_at hl 0 rfl) ?_
    refine fc_Vi (rest := []) (As := [.int x9]) X hw hm_X0_done (lw_V q530 q532 qs3 q111 q533) ⟨rfl, rfl⟩ ⟨by rw [hRf]; exact Nat.le_of_ble_eq_true rfl, by rw [hRl]; exact Nat.le_of_ble_eq_true rfl⟩ fc_X0 rfl (hx0 hX) rfl rfl hl.1 (Nat.le_of_ble_eq_true rfl) dX0_force_50 (fun rQ stQ hQ => wX0_done l E hX x9 st10 rQ stQ hQ) hf (fun x11 st12 H locs hw hf => ?_)
    exact fd_i hend hw hf dX0_force_53
  refine lv_aload_n hx hb dX0_force_25 rfl (lv_at hl 0 rfl) ?_
  refine lv_bipush (v := (-2 : Int32)) hx hb dX0_force_26 (by decide) ?_
  refine fc_Vi (rest := []) (As := [.int (-2 : Int32)]) X hw hm_X0_refuse (lw_V q440 q442 qs1 q111 q443) ⟨rfl, rfl⟩ ⟨by rw [hRf]; exact Nat.le_of_ble_eq_true rfl, by rw [hRl]; exact Nat.le_of_ble_eq_true rfl⟩ fc_X0 rfl (hx0 hX) rfl rfl hl.1 (Nat.le_of_ble_eq_true rfl) dX0_force_28 (fun rQ stQ hQ => wX0_refuse l E hX (-2 : Int32) st8 rQ stQ hQ) hf (fun x13 st14 H locs hw hf => ?_)
  exact fd_i hend hw hf dX0_force_31

/-- ForestRooms.isFamily -/
def fX0_isFamily (p1 : Int32) (st0 : fo_St) : Option (Int32 × fo_St) := bd_ (fX0_in p1 (0 : Int32) (5 : Int32) st0) (fun x1 st2 => ck_ (decide (x1 = 0 ∨ x1 = 1)) (some (x1, st2)))
theorem hm_X0_isFamily : fo_M yX0_isFamily 1 := ⟨by decide +kernel, by decide +kernel, by decide +kernel, by decide +kernel⟩
set_option maxHeartbeats 4000000 in
theorem wX0_isFamily (l : Launch) (E : fo_E) (hX : fo_HX E) (p1 : Int32) (st0 : fo_St) (rZ : Int32) (stZ : fo_St) (hf : fX0_isFamily p1 st0 = some (rZ, stZ)) : CTi l E yX0_isFamily (ws_ yX0_isFamily cX0_isFamily 1 (some .boolean)) ({ frames := 1, cells := 0, slots := 0, locals := 22 }) [.int p1] st0 rZ stZ := by
  refine fe_z hm_X0_isFamily (Nat.le_of_ble_eq_true rfl) (fun p e R s m args below meth c Q hRf hRl X hend ls hl hw => ?_)
  have hx := X.1.1
  have hb := X.1.2.1
  have hl : lv_has ls 1 [(0, .int p1)] := hl
  unfold fX0_isFamily at hf
  generalize s.heap = H at hw ⊢
  generalize ([] : List Loc) = locs at hw ⊢
  refine lv_iload_n hx hb dX0_isFamily_0 rfl (lv_at hl 0 rfl) ?_
  refine lv_iconst (v := (0 : Int32)) hx hb dX0_isFamily_1 (by decide) ?_
  refine lv_iconst (v := (5 : Int32)) hx hb dX0_isFamily_2 (by decide) ?_
  refine fc_Si (rest := []) (As := [.int p1, .int (0 : Int32), .int (5 : Int32)]) X hw hm_X0_in (lw_S q437 q438 q111 q439) ⟨rfl, rfl⟩ ⟨by rw [hRf]; exact Nat.le_of_ble_eq_true rfl, by rw [hRl]; exact Nat.le_of_ble_eq_true rfl⟩ rfl rfl hl.1 (Nat.le_of_ble_eq_true rfl) dX0_isFamily_3 (fun rQ stQ hQ => wX0_in l E hX p1 (0 : Int32) (5 : Int32) st0 rQ stQ hQ) hf (fun x1 st2 H locs hw hf => ?_)
  obtain ⟨hz, hf⟩ := ck_e hf
  exact fd_z hend hw (fo_z hz).1 hf dX0_isFamily_6

/-- ForestRooms.suits -/
def fX0_suits (tg : Nat → Nat × Nat) (G : Nat) (p1 : Int32) (p2 : Int32) (st0 : fo_St) : Option (Int32 × fo_St) := bd_ (fX0_table st0) (fun x1 st2 => ck_ (decide (x1 = 3)) (bd_ (fX0_table st2) (fun x3 st4 => ck_ (decide (x3 = 3)) (ck_ (fo_in p2 16) (bd_ (fX0_table st4) (fun x5 st6 => ck_ (decide (x5 = 3)) (ck_ (fo_in p2 16) (bd_ (fX0_says tg G (1 : Int32) 3 p2 (gi_ st4 4 p2.toNatClampNeg) (gi_ st6 5 p2.toNatClampNeg) p1 st6) (fun x7 st8 => ck_ (fo_in p2 16) (ck_ (fo_in p2 16) (bd_ (fX0_or x7 (99 : Int32) ((gi_ st8 7 p2.toNatClampNeg) + (gi_ st8 9 p2.toNatClampNeg)) st8) (fun x9 st10 => some (x9, st10)))))))))))))
theorem hm_X0_suits : fo_M yX0_suits 2 := ⟨by decide +kernel, by decide +kernel, by decide +kernel, by decide +kernel⟩
set_option maxHeartbeats 4000000 in
theorem wX0_suits (l : Launch) (E : fo_E) (hX : fo_HX E) (G : Nat) (p1 : Int32) (p2 : Int32) (st0 : fo_St) (rZ : Int32) (stZ : fo_St) (hf : fX0_suits (et E) G p1 p2 st0 = some (rZ, stZ)) : CTi l E yX0_suits (ws_ yX0_suits cX0_suits 3 (some .int)) ({ frames := 130, cells := 0, slots := 0, locals := 7736 }) [.ref (eb E + 0), .int p1, .int p2] st0 rZ stZ := by
  refine fe_i hm_X0_suits (Nat.le_of_ble_eq_true rfl) (fun p e R s m args below meth c Q hRf hRl X hend ls hl hw => ?_)
  have hx := X.1.1
  have hb := X.1.2.1
  have hl : lv_has ls 3 [(0, .ref (eb E + 0)), (1, .int p1), (2, .int p2)] := hl
  unfold fX0_suits at hf
  generalize s.heap = H at hw ⊢
  generalize ([] : List Loc) = locs at hw ⊢
  refine lv_aload_n hx hb dX0_suits_0 rfl (lv_at hl 0 rfl) ?_
  refine lv_iconst (v := (1 : Int32)) hx hb dX0_suits_1 (by decide) ?_
  refine lv_aload_n hx hb dX0_suits_2 rfl (lv_at hl 0 rfl) ?_
  refine fc_Vr (rest := [.int (1 : Int32), .ref (eb E + 0)]) (As := []) X hw hm_X0_table (lw_V q560 q562 qs6 q111 q563) ⟨rfl, rfl⟩ ⟨by rw [hRf]; exact Nat.le_of_ble_eq_true rfl, by rw [hRl]; exact Nat.le_of_ble_eq_true rfl⟩ fc_X0 rfl (hx0 hX) rfl rfl hl.1 (Nat.le_of_ble_eq_true rfl) dX0_suits_3 (fun rQ stQ hQ => wX0_table l E hX st0 rQ stQ hQ) hf (fun x1 st2 H locs hw hf => ?_)
  have hc0 := ck_e hf
  clear hf
  obtain ⟨hc, hf⟩ := hc0
  replace hc := of_decide_eq_true hc
  subst hc
  refine lv_iload_n hx hb dX0_suits_6 rfl (lv_at hl 2 rfl) ?_
  refine lv_aload_n hx hb dX0_suits_7 rfl (lv_at hl 0 rfl) ?_
  refine fc_Vr (rest := [.int p2, .ref (eb E + 3), .int (1 : Int32), .ref (eb E + 0)]) (As := []) X hw hm_X0_table (lw_V q560 q562 qs6 q111 q563) ⟨rfl, rfl⟩ ⟨by rw [hRf]; exact Nat.le_of_ble_eq_true rfl, by rw [hRl]; exact Nat.le_of_ble_eq_true rfl⟩ fc_X0 rfl (hx0 hX) rfl rfl hl.1 (Nat.le_of_ble_eq_true rfl) dX0_suits_8 (fun rQ stQ hQ => wX0_table l E hX st2 rQ stQ hQ) hf (fun x3 st4 H locs hw hf => ?_)
  have hc0 := ck_e hf
  clear hf
  obtain ⟨hc, hf⟩ := hc0
  replace hc := of_decide_eq_true hc
  subst hc
  refine fo_getsN X hw fc_X2 (hx3 hX) (k := 0) (d := 1) (n2 := 4) (by decide) rfl rfl fn168 dX0_suits_11 ?_
  refine lv_iload_n hx hb dX0_suits_14 rfl (lv_at hl 2 rfl) ?_
  refine fo_iald X hw (hx4 hX) dX0_suits_15 hf (fun hf => ?_)
  refine lv_aload_n hx hb dX0_suits_16 rfl (lv_at hl 0 rfl) ?_
  refine fc_Vr (rest := [.int (gi_ st4 4 p2.toNatClampNeg), .int p2, .ref (eb E + 3), .int (1 : Int32), .ref (eb E + 0)]) (As := []) X hw hm_X0_table (lw_V q560 q562 qs6 q111 q563) ⟨rfl, rfl⟩ ⟨by rw [hRf]; exact Nat.le_of_ble_eq_true rfl, by rw [hRl]; exact Nat.le_of_ble_eq_true rfl⟩ fc_X0 rfl (hx0 hX) rfl rfl hl.1 (Nat.le_of_ble_eq_true rfl) dX0_suits_17 (fun rQ stQ hQ => wX0_table l E hX st4 rQ stQ hQ) hf (fun x5 st6 H locs hw hf => ?_)
  have hc0 := ck_e hf
  clear hf
  obtain ⟨hc, hf⟩ := hc0
  replace hc := of_decide_eq_true hc
  subst hc
  refine fo_getsN X hw fc_X2 (hx3 hX) (k := 1) (d := 2) (n2 := 5) (by decide) rfl rfl fn171 dX0_suits_20 ?_
  refine lv_iload_n hx hb dX0_suits_23 rfl (lv_at hl 2 rfl) ?_
  refine fo_iald X hw (hx5 hX) dX0_suits_24 hf (fun hf => ?_)
  refine lv_iload_n hx hb dX0_suits_25 rfl (lv_at hl 1 rfl) ?_
  refine fc_Vl (rest := []) (As := [.int (1 : Int32), .ref (eb E + 3), .int p2, .int (gi_ st4 4 p2.toNatClampNeg), .int (gi_ st6 5 p2.toNatClampNeg), .int p1]) X hw hm_X0_says (lw_V q576 q578 qs8 q111 q579) ⟨rfl, rfl⟩ ⟨by rw [hRf]; exact Nat.le_of_ble_eq_true rfl, by rw [hRl]; exact Nat.le_of_ble_eq_true rfl⟩ fc_X0 rfl (hx0 hX) rfl rfl hl.1 (Nat.le_of_ble_eq_true rfl) dX0_suits_26 (fun rQ stQ hQ => wX0_says l E hX G (1 : Int32) 3 p2 (gi_ st4 4 p2.toNatClampNeg) (gi_ st6 5 p2.toNatClampNeg) p1 (hxT3 hX) st6 rQ stQ hQ) hf (fun x7 st8 H locs hw hf => ?_)
  refine lv_bipush (v := (99 : Int32)) hx hb dX0_suits_29 (by decide) ?_
  refine lv_aload_n hx hb dX0_suits_31 rfl (lv_at hl 0 rfl) ?_
  refine fo_gets X hw fc_X0 (hx0 hX) (k := 2) (d := 2) (n2 := 2) (by decide) rfl rfl q347 dX0_suits_32 ?_
  refine fo_getsN X hw fc_X1 (hx2 hX) (k := 1) (d := 5) (n2 := 7) (by decide) rfl rfl fn217 dX0_suits_35 ?_
  refine lv_iload_n hx hb dX0_suits_38 rfl (lv_at hl 2 rfl) ?_
  refine fo_iald X hw (hx7 hX) dX0_suits_39 hf (fun hf => ?_)
  refine lv_aload_n hx hb dX0_suits_40 rfl (lv_at hl 0 rfl) ?_
  refine fo_gets X hw fc_X0 (hx0 hX) (k := 2) (d := 2) (n2 := 2) (by decide) rfl rfl q347 dX0_suits_41 ?_
  refine fo_getsN X hw fc_X1 (hx2 hX) (k := 3) (d := 7) (n2 := 9) (by decide) rfl rfl fn221 dX0_suits_44 ?_
  refine lv_iload_n hx hb dX0_suits_47 rfl (lv_at hl 2 rfl) ?_
  refine fo_iald X hw (hx9 hX) dX0_suits_48 hf (fun hf => ?_)
  refine lv_iadd hx hb dX0_suits_49 ?_
  refine fc_Si (rest := []) (As := [.long x7, .int (99 : Int32), .int ((gi_ st8 7 p2.toNatClampNeg) + (gi_ st8 9 p2.toNatClampNeg))]) X hw hm_X0_or (lw_S q655 q656 q111 q657) ⟨rfl, rfl⟩ ⟨by rw [hRf]; exact Nat.le_of_ble_eq_true rfl, by rw [hRl]; exact Nat.le_of_ble_eq_true rfl⟩ rfl rfl hl.1 (Nat.le_of_ble_eq_true rfl) dX0_suits_50 (fun rQ stQ hQ => wX0_or l E hX x7 (99 : Int32) ((gi_ st8 7 p2.toNatClampNeg) + (gi_ st8 9 p2.toNatClampNeg)) st8 rQ stQ hQ) hf (fun x9 st10 H locs hw hf => ?_)
  exact fd_i hend hw hf dX0_suits_53

/-- ForestRooms.isBarred -/
def fX0_isBarred (tg : Nat → Nat × Nat) (G : Nat) (p1 : Int32) (p2 : Int32) (st0 : fo_St) : Option (Int32 × fo_St) := bd_ (fX0_table st0) (fun x1 st2 => ck_ (decide (x1 = 3)) (bd_ (fX0_table st2) (fun x3 st4 => ck_ (decide (x3 = 3)) (ck_ (fo_in p2 16) (bd_ (fX0_table st4) (fun x5 st6 => ck_ (decide (x5 = 3)) (ck_ (fo_in p2 16) (bd_ (fX0_says tg G (4 : Int32) 3 p2 (gi_ st4 4 p2.toNatClampNeg) (gi_ st6 5 p2.toNatClampNeg) p1 st6) (fun x7 st8 => if x7 = (-4000000000 : Int64) then some ((0 : Int32), st8) else some ((1 : Int32), st8))))))))))
theorem hm_X0_isBarred : fo_M yX0_isBarred 2 := ⟨by decide +kernel, by decide +kernel, by decide +kernel, by decide +kernel⟩
set_option maxHeartbeats 4000000 in
theorem wX0_isBarred (l : Launch) (E : fo_E) (hX : fo_HX E) (G : Nat) (p1 : Int32) (p2 : Int32) (st0 : fo_St) (rZ : Int32) (stZ : fo_St) (hf : fX0_isBarred (et E) G p1 p2 st0 = some (rZ, stZ)) : CTi l E yX0_isBarred (ws_ yX0_isBarred cX0_isBarred 3 (some .boolean)) ({ frames := 130, cells := 0, slots := 0, locals := 7736 }) [.ref (eb E + 0), .int p1, .int p2] st0 rZ stZ := by
  refine fe_z hm_X0_isBarred (Nat.le_of_ble_eq_true rfl) (fun p e R s m args below meth c Q hRf hRl X hend ls hl hw => ?_)
  have hx := X.1.1
  have hb := X.1.2.1
  have hl : lv_has ls 3 [(0, .ref (eb E + 0)), (1, .int p1), (2, .int p2)] := hl
  unfold fX0_isBarred at hf
  generalize s.heap = H at hw ⊢
  generalize ([] : List Loc) = locs at hw ⊢
  refine lv_aload_n hx hb dX0_isBarred_0 rfl (lv_at hl 0 rfl) ?_
  refine lv_iconst (v := (4 : Int32)) hx hb dX0_isBarred_1 (by decide) ?_
  refine lv_aload_n hx hb dX0_isBarred_2 rfl (lv_at hl 0 rfl) ?_
  refine fc_Vr (rest := [.int (4 : Int32), .ref (eb E + 0)]) (As := []) X hw hm_X0_table (lw_V q560 q562 qs6 q111 q563) ⟨rfl, rfl⟩ ⟨by rw [hRf]; exact Nat.le_of_ble_eq_true rfl, by rw [hRl]; exact Nat.le_of_ble_eq_true rfl⟩ fc_X0 rfl (hx0 hX) rfl rfl hl.1 (Nat.le_of_ble_eq_true rfl) dX0_isBarred_3 (fun rQ stQ hQ => wX0_table l E hX st0 rQ stQ hQ) hf (fun x1 st2 H locs hw hf => ?_)
  have hc0 := ck_e hf
  clear hf
  obtain ⟨hc, hf⟩ := hc0
  replace hc := of_decide_eq_true hc
  subst hc
  refine lv_iload_n hx hb dX0_isBarred_6 rfl (lv_at hl 2 rfl) ?_
  refine lv_aload_n hx hb dX0_isBarred_7 rfl (lv_at hl 0 rfl) ?_
  refine fc_Vr (rest := [.int p2, .ref (eb E + 3), .int (4 : Int32), .ref (eb E + 0)]) (As := []) X hw hm_X0_table (lw_V q560 q562 qs6 q111 q563) ⟨rfl, rfl⟩ ⟨by rw [hRf]; exact Nat.le_of_ble_eq_true rfl, by rw [hRl]; exact Nat.le_of_ble_eq_true rfl⟩ fc_X0 rfl (hx0 hX) rfl rfl hl.1 (Nat.le_of_ble_eq_true rfl) dX0_isBarred_8 (fun rQ stQ hQ => wX0_table l E hX st2 rQ stQ hQ) hf (fun x3 st4 H locs hw hf => ?_)
  have hc0 := ck_e hf
  clear hf
  obtain ⟨hc, hf⟩ := hc0
  replace hc := of_decide_eq_true hc
  subst hc
  refine fo_getsN X hw fc_X2 (hx3 hX) (k := 0) (d := 1) (n2 := 4) (by decide) rfl rfl fn168 dX0_isBarred_11 ?_
  refine lv_iload_n hx hb dX0_isBarred_14 rfl (lv_at hl 2 rfl) ?_
  refine fo_iald X hw (hx4 hX) dX0_isBarred_15 hf (fun hf => ?_)
  refine lv_aload_n hx hb dX0_isBarred_16 rfl (lv_at hl 0 rfl) ?_
  refine fc_Vr (rest := [.int (gi_ st4 4 p2.toNatClampNeg), .int p2, .ref (eb E + 3), .int (4 : Int32), .ref (eb E + 0)]) (As := []) X hw hm_X0_table (lw_V q560 q562 qs6 q111 q563) ⟨rfl, rfl⟩ ⟨by rw [hRf]; exact Nat.le_of_ble_eq_true rfl, by rw [hRl]; exact Nat.le_of_ble_eq_true rfl⟩ fc_X0 rfl (hx0 hX) rfl rfl hl.1 (Nat.le_of_ble_eq_true rfl) dX0_isBarred_17 (fun rQ stQ hQ => wX0_table l E hX st4 rQ stQ hQ) hf (fun x5 st6 H locs hw hf => ?_)
  have hc0 := ck_e hf
  clear hf
  obtain ⟨hc, hf⟩ := hc0
  replace hc := of_decide_eq_true hc
  subst hc
  refine fo_getsN X hw fc_X2 (hx3 hX) (k := 1) (d := 2) (n2 := 5) (by decide) rfl rfl fn171 dX0_isBarred_20 ?_
  refine lv_iload_n hx hb dX0_isBarred_23 rfl (lv_at hl 2 rfl) ?_
  refine fo_iald X hw (hx5 hX) dX0_isBarred_24 hf (fun hf => ?_)
  refine lv_iload_n hx hb dX0_isBarred_25 rfl (lv_at hl 1 rfl) ?_
  refine fc_Vl (rest := []) (As := [.int (4 : Int32), .ref (eb E + 3), .int p2, .int (gi_ st4 4 p2.toNatClampNeg), .int (gi_ st6 5 p2.toNatClampNeg), .int p1]) X hw hm_X0_says (lw_V q576 q578 qs8 q111 q579) ⟨rfl, rfl⟩ ⟨by rw [hRf]; exact Nat.le_of_ble_eq_true rfl, by rw [hRl]; exact Nat.le_of_ble_eq_true rfl⟩ fc_X0 rfl (hx0 hX) rfl rfl hl.1 (Nat.le_of_ble_eq_true rfl) dX0_isBarred_26 (fun rQ stQ hQ => wX0_says l E hX G (4 : Int32) 3 p2 (gi_ st4 4 p2.toNatClampNeg) (gi_ st6 5 p2.toNatClampNeg) p1 (hxT3 hX) st6 rQ stQ hQ) hf (fun x7 st8 H locs hw hf => ?_)
  refine lv_ldc2 (v := (-4000000000 : Int64)) hx hb X.1.2.2.2.1 (X.1.2.2.2.2 _ q580) dX0_isBarred_29 ?_
  refine fb_leq (tgt := 40) hx hb dX0_isBarred_32 dX0_isBarred_33 (by decide) hf (fun hf => ?_) (fun hf => ?_)
  · refine lv_iconst (v := (0 : Int32)) hx hb dX0_isBarred_40 (by decide) ?_
    exact fd_z hend hw rfl hf dX0_isBarred_41
  refine lv_iconst (v := (1 : Int32)) hx hb dX0_isBarred_36 (by decide) ?_
  refine lv_goto (tgt := 41) hx hb dX0_isBarred_37 (by decide) ?_
  exact fd_z hend hw rfl hf dX0_isBarred_41

/-- ForestRooms$Table.roomOf -/
def fX2_roomOf (G : Nat) (t : Nat) (p1 : Int32) (st0 : fo_St) : Option (Int32 × fo_St) := lp2_ (fun rec3 (x1 : Int32) (st2 : fo_St) => if (16 : Int32) ≤ x1 then some ((-1 : Int32), st2) else ck_ (fo_in x1 16) (if ¬ (gi_ st2 (t + 3) x1.toNatClampNeg) = p1 then rec3 (x1 + (1 : Int32)) st2 else some (x1, st2))) G (0 : Int32) st0
theorem hm_X2_roomOf : fo_M yX2_roomOf 1 := ⟨by decide +kernel, by decide +kernel, by decide +kernel, by decide +kernel⟩
set_option maxHeartbeats 4000000 in
theorem wX2_roomOf (l : Launch) (E : fo_E) (G : Nat) (t : Nat) (p1 : Int32) (hT_t : fo_tab E t) (st0 : fo_St) (rZ : Int32) (stZ : fo_St) (hf : fX2_roomOf G t p1 st0 = some (rZ, stZ)) : CTi l E yX2_roomOf (ws_ yX2_roomOf cX2_roomOf 3 (some .int)) ({ frames := 0, cells := 0, slots := 0, locals := 0 }) [.ref (eb E + t), .int p1] st0 rZ stZ := by
  refine fe_i hm_X2_roomOf (Nat.le_of_ble_eq_true rfl) (fun p e R s m args below meth c Q hRf hRl X hend ls hl hw => ?_)
  have hx := X.1.1
  have hb := X.1.2.1
  have hl : lv_has ls 3 [(0, .ref (eb E + t)), (1, .int p1)] := hl
  unfold fX2_roomOf at hf
  generalize s.heap = H at hw ⊢
  generalize ([] : List Loc) = locs at hw ⊢
  refine lv_iconst (v := (0 : Int32)) hx hb dX2_roomOf_0 (by decide) ?_
  refine lv_istore_n (lv' := [(2, .int (0 : Int32)), (0, .ref (eb E + t)), (1, .int p1)]) hx hb dX2_roomOf_1 rfl hl (by decide) rfl (fun ls hl => ?_)
  refine lp2_e (P := fun x1 st2 => ∀ (H : Heap) (locs : List Loc) (ls : Array Slot), lv_has ls 3 [(2, .int x1), (0, .ref (eb E + t)), (1, .int p1)] → fo_S E s st2 H locs → W p l e R s m args below meth c H locs 0 0 Q (F0 m 2 ls [])) (fun rec3 hrec3 x1 st2 hf => ?_) G _ _ hf H locs ls (lv_sub hl [0, 1, 2] rfl) hw
  intro H locs ls hl hw
  refine lv_iload_n hx hb dX2_roomOf_2 rfl (lv_at hl 0 rfl) ?_
  refine lv_bipush (v := (16 : Int32)) hx hb dX2_roomOf_3 (by decide) ?_
  refine fb_ige (tgt := 26) hx hb dX2_roomOf_5 (by decide) hf (fun hf => ?_) (fun hf => ?_)
  · refine lv_iconst (v := (-1 : Int32)) hx hb dX2_roomOf_26 (by decide) ?_
    exact fd_i hend hw hf dX2_roomOf_27
  refine lv_aload_n hx hb dX2_roomOf_8 rfl (lv_at hl 1 rfl) ?_
  refine fo_gets X hw fc_X2 hT_t.1 (k := 2) (d := 3) (n2 := (t + 3)) (by decide) rfl rfl q172 dX2_roomOf_9 ?_
  refine lv_iload_n hx hb dX2_roomOf_12 rfl (lv_at hl 0 rfl) ?_
  refine fo_iald X hw hT_t.2.2.2 dX2_roomOf_13 hf (fun hf => ?_)
  refine lv_iload_n hx hb dX2_roomOf_14 rfl (lv_at hl 2 rfl) ?_
  refine fb_ine (tgt := 20) hx hb dX2_roomOf_15 (by decide) hf (fun hf => ?_) (fun hf => ?_)
  · refine fb_iinc (v := (1 : Int32)) (lv' := [(2, .int (x1 + (1 : Int32))), (0, .ref (eb E + t)), (1, .int p1)]) hx hb dX2_roomOf_20 hl (k := 0) rfl (by decide) (by decide) rfl (fun ls hl => ?_)
    refine lv_goto (tgt := 2) hx hb dX2_roomOf_23 (by decide) ?_
    exact hrec3 _ _ hf _ _ _ (lv_sub hl [0, 1, 2] rfl) hw
  refine lv_iload_n hx hb dX2_roomOf_18 rfl (lv_at hl 0 rfl) ?_
  exact fd_i hend hw hf dX2_roomOf_19

/-- ForestRooms.asks -/
def fX0_asks (tg : Nat → Nat × Nat) (G : Nat) (p1 : Int32) (p2 : Int32) (p3 : Int32) (st0 : fo_St) : Option (Int32 × fo_St) := bd_ (fX0_isFamily p1 st0) (fun x1 st2 => if x1 = 0 then some ((-1 : Int32), st2) else if p3 = (2 : Int32) then if p3 = (0 : Int32) then bd_ (fX0_suits tg G p1 p2 st2) (fun x3 st4 => some (x3, st4)) else if p3 = (1 : Int32) then bd_ (fX0_isBarred tg G p1 p2 st2) (fun x5 st6 => if x5 = 0 then some ((0 : Int32), st6) else some ((1 : Int32), st6)) else if p3 = (2 : Int32) then bd_ (fX0_table st2) (fun x7 st8 => ck_ (decide (x7 = 3)) (bd_ (fX2_roomOf G 3 p1 st8) (fun x9 st10 => some (x9, st10)))) else some ((-1 : Int32), st2) else bd_ (fX0_isRoom p2 st2) (fun x11 st12 => if ¬ x11 = 0 then if p3 = (0 : Int32) then bd_ (fX0_suits tg G p1 p2 st12) (fun x13 st14 => some (x13, st14)) else if p3 = (1 : Int32) then bd_ (fX0_isBarred tg G p1 p2 st12) (fun x15 st16 => if x15 = 0 then some ((0 : Int32), st16) else some ((1 : Int32), st16)) else if p3 = (2 : Int32) then bd_ (fX0_table st12) (fun x17 st18 => ck_ (decide (x17 = 3)) (bd_ (fX2_roomOf G 3 p1 st18) (fun x19 st20 => some (x19, st20)))) else some ((-1 : Int32), st12) else some ((-1 : Int32), st12)))
theorem hm_X0_asks : fo_M yX0_asks 3 := ⟨by decide +kernel, by decide +kernel, by decide +kernel, by decide +kernel⟩
set_option maxHeartbeats 4000000 in
theorem wX0_asks (l : Launch) (E : fo_E) (hX : fo_HX E) (G : Nat) (p1 : Int32) (p2 : Int32) (p3 : Int32) (st0 : fo_St) (rZ : Int32) (stZ : fo_St) (hf : fX0_asks (et E) G p1 p2 p3 st0 = some (rZ, stZ)) : CTi l E yX0_asks (ws_ yX0_asks cX0_asks 4 (some .int)) ({ frames := 131, cells := 0, slots := 0, locals := 7758 }) [.ref (eb E + 0), .int p1, .int p2, .int p3] st0 rZ stZ := by
  refine fe_i hm_X0_asks (Nat.le_of_ble_eq_true rfl) (fun p e R s m args below meth c Q hRf hRl X hend ls hl hw => ?_)
  have hx := X.1.1
  have hb := X.1.2.1
  have hl : lv_has ls 4 [(0, .ref (eb E + 0)), (1, .int p1), (2, .int p2), (3, .int p3)] := hl
  unfold fX0_asks at hf
  generalize s.heap = H at hw ⊢
  generalize ([] : List Loc) = locs at hw ⊢
  refine lv_iload_n hx hb dX0_asks_0 rfl (lv_at hl 1 rfl) ?_
  refine fc_Si (rest := []) (As := [.int p1]) X hw hm_X0_isFamily (lw_S q1208 q1209 q111 q1210) ⟨rfl, rfl⟩ ⟨by rw [hRf]; exact Nat.le_of_ble_eq_true rfl, by rw [hRl]; exact Nat.le_of_ble_eq_true rfl⟩ rfl rfl hl.1 (Nat.le_of_ble_eq_true rfl) dX0_asks_1 (fun rQ stQ hQ => wX0_isFamily l E hX p1 st0 rQ stQ hQ) hf (fun x1 st2 H locs hw hf => ?_)
  refine fb_zeq (tgt := 19) hx hb dX0_asks_4 (by decide) hf (fun hf => ?_) (fun hf => ?_)
  · refine lv_iconst (v := (-1 : Int32)) hx hb dX0_asks_19 (by decide) ?_
    exact fd_i hend hw hf dX0_asks_20
  refine lv_iload_n hx hb dX0_asks_7 rfl (lv_at hl 3 rfl) ?_
  refine lv_iconst (v := (2 : Int32)) hx hb dX0_asks_8 (by decide) ?_
  refine fb_ieq (tgt := 21) hx hb dX0_asks_9 (by decide) hf (fun hf => ?_) (fun hf => ?_)
  · refine lv_iload_n hx hb dX0_asks_21 rfl (lv_at hl 3 rfl) ?_
    refine sw_e hf (fun e0 hf => ?_) (fun n0 hf => ?_)
    · refine lv_tableIn (tgt := 48) hx hb dX0_asks_22 (by rw [e0]; decide) (by rw [e0]; decide) (off := 26) (by rw [e0]; decide) (by decide) ?_
      refine lv_aload_n hx hb dX0_asks_48 rfl (lv_at hl 0 rfl) ?_
      refine lv_iload_n hx hb dX0_asks_49 rfl (lv_at hl 1 rfl) ?_
      refine lv_iload_n hx hb dX0_asks_50 rfl (lv_at hl 2 rfl) ?_
      refine fc_Vi (rest := []) (As := [.int p1, .int p2]) X hw hm_X0_suits (lw_V q1211 q1213 qs15 q111 q1214) ⟨rfl, rfl⟩ ⟨by rw [hRf]; exact Nat.le_of_ble_eq_true rfl, by rw [hRl]; exact Nat.le_of_ble_eq_true rfl⟩ fc_X0 rfl (hx0 hX) rfl rfl hl.1 (Nat.le_of_ble_eq_true rfl) dX0_asks_51 (fun rQ stQ hQ => wX0_suits l E hX G p1 p2 st2 rQ stQ hQ) hf (fun x3 st4 H locs hw hf => ?_)
      exact fd_i hend hw hf dX0_asks_54
    refine sw_e hf (fun e0 hf => ?_) (fun n1 hf => ?_)
    · refine lv_tableIn (tgt := 55) hx hb dX0_asks_22 (by rw [e0]; decide) (by rw [e0]; decide) (off := 33) (by rw [e0]; decide) (by decide) ?_
      refine lv_aload_n hx hb dX0_asks_55 rfl (lv_at hl 0 rfl) ?_
      refine lv_iload_n hx hb dX0_asks_56 rfl (lv_at hl 1 rfl) ?_
      refine lv_iload_n hx hb dX0_asks_57 rfl (lv_at hl 2 rfl) ?_
      refine fc_Vi (rest := []) (As := [.int p1, .int p2]) X hw hm_X0_isBarred (lw_V q1215 q1217 qs16 q111 q1218) ⟨rfl, rfl⟩ ⟨by rw [hRf]; exact Nat.le_of_ble_eq_true rfl, by rw [hRl]; exact Nat.le_of_ble_eq_true rfl⟩ fc_X0 rfl (hx0 hX) rfl rfl hl.1 (Nat.le_of_ble_eq_true rfl) dX0_asks_58 (fun rQ stQ hQ => wX0_isBarred l E hX G p1 p2 st2 rQ stQ hQ) hf (fun x5 st6 H locs hw hf => ?_)
      refine fb_zeq (tgt := 68) hx hb dX0_asks_61 (by decide) hf (fun hf => ?_) (fun hf => ?_)
      · refine lv_iconst (v := (0 : Int32)) hx hb dX0_asks_68 (by decide) ?_
        exact fd_i hend hw hf dX0_asks_69
      refine lv_iconst (v := (1 : Int32)) hx hb dX0_asks_64 (by decide) ?_
      refine lv_goto (tgt := 69) hx hb dX0_asks_65 (by decide) ?_
      exact fd_i hend hw hf dX0_asks_69
    refine sw_e hf (fun e0 hf => ?_) (fun n2 hf => ?_)
    · refine lv_tableIn (tgt := 70) hx hb dX0_asks_22 (by rw [e0]; decide) (by rw [e0]; decide) (off := 48) (by rw [e0]; decide) (by decide) ?_
      refine lv_aload_n hx hb dX0_asks_70 rfl (lv_at hl 0 rfl) ?_
      refine fc_Vr (rest := []) (As := []) X hw hm_X0_table (lw_V q560 q562 qs6 q111 q563) ⟨rfl, rfl⟩ ⟨by rw [hRf]; exact Nat.le_of_ble_eq_true rfl, by rw [hRl]; exact Nat.le_of_ble_eq_true rfl⟩ fc_X0 rfl (hx0 hX) rfl rfl hl.1 (Nat.le_of_ble_eq_true rfl) dX0_asks_71 (fun rQ stQ hQ => wX0_table l E hX st2 rQ stQ hQ) hf (fun x7 st8 H locs hw hf => ?_)
      have hc0 := ck_e hf
      clear hf
      obtain ⟨hc, hf⟩ := hc0
      replace hc := of_decide_eq_true hc
      subst hc
      refine lv_iload_n hx hb dX0_asks_74 rfl (lv_at hl 1 rfl) ?_
      refine fc_Vi (rest := []) (As := [.int p1]) X hw hm_X2_roomOf (lw_V q1219 q1220 q1221 q113 q1222) ⟨rfl, rfl⟩ ⟨by rw [hRf]; exact Nat.le_of_ble_eq_true rfl, by rw [hRl]; exact Nat.le_of_ble_eq_true rfl⟩ fc_X2 rfl (hx3 hX) rfl rfl hl.1 (Nat.le_of_ble_eq_true rfl) dX0_asks_75 (fun rQ stQ hQ => wX2_roomOf l E G 3 p1 (hxT3 hX) st8 rQ stQ hQ) hf (fun x9 st10 H locs hw hf => ?_)
      exact fd_i hend hw hf dX0_asks_78
    refine lv_tableOut (tgt := 79) hx hb dX0_asks_22 (by have g0 := lv_neT n0 (a := 0) (by decide); have g1 := lv_neT n1 (a := 1) (by decide); have g2 := lv_neT n2 (a := 2) (by decide); omega) (by decide) ?_
    refine lv_iconst (v := (-1 : Int32)) hx hb dX0_asks_79 (by decide) ?_
    exact fd_i hend hw hf dX0_asks_80
  refine lv_iload_n hx hb dX0_asks_12 rfl (lv_at hl 2 rfl) ?_
  refine fc_Si (rest := []) (As := [.int p2]) X hw hm_X0_isRoom (lw_S q546 q547 q111 q548) ⟨rfl, rfl⟩ ⟨by rw [hRf]; exact Nat.le_of_ble_eq_true rfl, by rw [hRl]; exact Nat.le_of_ble_eq_true rfl⟩ rfl rfl hl.1 (Nat.le_of_ble_eq_true rfl) dX0_asks_13 (fun rQ stQ hQ => wX0_isRoom l E hX p2 st2 rQ stQ hQ) hf (fun x11 st12 H locs hw hf => ?_)
  refine fb_zne (tgt := 21) hx hb dX0_asks_16 (by decide) hf (fun hf => ?_) (fun hf => ?_)
  · refine lv_iload_n hx hb dX0_asks_21 rfl (lv_at hl 3 rfl) ?_
    refine sw_e hf (fun e0 hf => ?_) (fun n0 hf => ?_)
    · refine lv_tableIn (tgt := 48) hx hb dX0_asks_22 (by rw [e0]; decide) (by rw [e0]; decide) (off := 26) (by rw [e0]; decide) (by decide) ?_
      refine lv_aload_n hx hb dX0_asks_48 rfl (lv_at hl 0 rfl) ?_
      refine lv_iload_n hx hb dX0_asks_49 rfl (lv_at hl 1 rfl) ?_
      refine lv_iload_n hx hb dX0_asks_50 rfl (lv_at hl 2 rfl) ?_
      refine fc_Vi (rest := []) (As := [.int p1, .int p2]) X hw hm_X0_suits (lw_V q1211 q1213 qs15 q111 q1214) ⟨rfl, rfl⟩ ⟨by rw [hRf]; exact Nat.le_of_ble_eq_true rfl, by rw [hRl]; exact Nat.le_of_ble_eq_true rfl⟩ fc_X0 rfl (hx0 hX) rfl rfl hl.1 (Nat.le_of_ble_eq_true rfl) dX0_asks_51 (fun rQ stQ hQ => wX0_suits l E hX G p1 p2 st12 rQ stQ hQ) hf (fun x13 st14 H locs hw hf => ?_)
      exact fd_i hend hw hf dX0_asks_54
    refine sw_e hf (fun e0 hf => ?_) (fun n1 hf => ?_)
    · refine lv_tableIn (tgt := 55) hx hb dX0_asks_22 (by rw [e0]; decide) (by rw [e0]; decide) (off := 33) (by rw [e0]; decide) (by decide) ?_
      refine lv_aload_n hx hb dX0_asks_55 rfl (lv_at hl 0 rfl) ?_
      refine lv_iload_n hx hb dX0_asks_56 rfl (lv_at hl 1 rfl) ?_
      refine lv_iload_n hx hb dX0_asks_57 rfl (lv_at hl 2 rfl) ?_
      refine fc_Vi (rest := []) (As := [.int p1, .int p2]) X hw hm_X0_isBarred (lw_V q1215 q1217 qs16 q111 q1218) ⟨rfl, rfl⟩ ⟨by rw [hRf]; exact Nat.le_of_ble_eq_true rfl, by rw [hRl]; exact Nat.le_of_ble_eq_true rfl⟩ fc_X0 rfl (hx0 hX) rfl rfl hl.1 (Nat.le_of_ble_eq_true rfl) dX0_asks_58 (fun rQ stQ hQ => wX0_isBarred l E hX G p1 p2 st12 rQ stQ hQ) hf (fun x15 st16 H locs hw hf => ?_)
      refine fb_zeq (tgt := 68) hx hb dX0_asks_61 (by decide) hf (fun hf => ?_) (fun hf => ?_)
      · refine lv_iconst (v := (0 : Int32)) hx hb dX0_asks_68 (by decide) ?_
        exact fd_i hend hw hf dX0_asks_69
      refine lv_iconst (v := (1 : Int32)) hx hb dX0_asks_64 (by decide) ?_
      refine lv_goto (tgt := 69) hx hb dX0_asks_65 (by decide) ?_
      exact fd_i hend hw hf dX0_asks_69
    refine sw_e hf (fun e0 hf => ?_) (fun n2 hf => ?_)
    · refine lv_tableIn (tgt := 70) hx hb dX0_asks_22 (by rw [e0]; decide) (by rw [e0]; decide) (off := 48) (by rw [e0]; decide) (by decide) ?_
      refine lv_aload_n hx hb dX0_asks_70 rfl (lv_at hl 0 rfl) ?_
      refine fc_Vr (rest := []) (As := []) X hw hm_X0_table (lw_V q560 q562 qs6 q111 q563) ⟨rfl, rfl⟩ ⟨by rw [hRf]; exact Nat.le_of_ble_eq_true rfl, by rw [hRl]; exact Nat.le_of_ble_eq_true rfl⟩ fc_X0 rfl (hx0 hX) rfl rfl hl.1 (Nat.le_of_ble_eq_true rfl) dX0_asks_71 (fun rQ stQ hQ => wX0_table l E hX st12 rQ stQ hQ) hf (fun x17 st18 H locs hw hf => ?_)
      have hc0 := ck_e hf
      clear hf
      obtain ⟨hc, hf⟩ := hc0
      replace hc := of_decide_eq_true hc
      subst hc
      refine lv_iload_n hx hb dX0_asks_74 rfl (lv_at hl 1 rfl) ?_
      refine fc_Vi (rest := []) (As := [.int p1]) X hw hm_X2_roomOf (lw_V q1219 q1220 q1221 q113 q1222) ⟨rfl, rfl⟩ ⟨by rw [hRf]; exact Nat.le_of_ble_eq_true rfl, by rw [hRl]; exact Nat.le_of_ble_eq_true rfl⟩ fc_X2 rfl (hx3 hX) rfl rfl hl.1 (Nat.le_of_ble_eq_true rfl) dX0_asks_75 (fun rQ stQ hQ => wX2_roomOf l E G 3 p1 (hxT3 hX) st18 rQ stQ hQ) hf (fun x19 st20 H locs hw hf => ?_)
      exact fd_i hend hw hf dX0_asks_78
    refine lv_tableOut (tgt := 79) hx hb dX0_asks_22 (by have g0 := lv_neT n0 (a := 0) (by decide); have g1 := lv_neT n1 (a := 1) (by decide); have g2 := lv_neT n2 (a := 2) (by decide); omega) (by decide) ?_
    refine lv_iconst (v := (-1 : Int32)) hx hb dX0_asks_79 (by decide) ?_
    exact fd_i hend hw hf dX0_asks_80
  refine lv_iconst (v := (-1 : Int32)) hx hb dX0_asks_19 (by decide) ?_
  exact fd_i hend hw hf dX0_asks_20

/-- ForestRooms.isOf -/
def fX0_isOf (p1 : Int32) (p2 : Int32) (st0 : fo_St) : Option (Int32 × fo_St) := if ¬ ((p1 >>> (p2 &&& 31)) &&& (1 : Int32)) = (1 : Int32) then some ((0 : Int32), st0) else some ((1 : Int32), st0)
theorem hm_X0_isOf : fo_M yX0_isOf 2 := ⟨by decide +kernel, by decide +kernel, by decide +kernel, by decide +kernel⟩
set_option maxHeartbeats 4000000 in
theorem wX0_isOf (l : Launch) (E : fo_E) (hX : fo_HX E) (p1 : Int32) (p2 : Int32) (st0 : fo_St) (rZ : Int32) (stZ : fo_St) (hf : fX0_isOf p1 p2 st0 = some (rZ, stZ)) : CTi l E yX0_isOf (ws_ yX0_isOf cX0_isOf 2 (some .boolean)) ({ frames := 0, cells := 0, slots := 0, locals := 0 }) [.int p1, .int p2] st0 rZ stZ := by
  refine fe_z hm_X0_isOf (Nat.le_of_ble_eq_true rfl) (fun p e R s m args below meth c Q hRf hRl X hend ls hl hw => ?_)
  have hx := X.1.1
  have hb := X.1.2.1
  have hl : lv_has ls 2 [(0, .int p1), (1, .int p2)] := hl
  unfold fX0_isOf at hf
  generalize s.heap = H at hw ⊢
  generalize ([] : List Loc) = locs at hw ⊢
  refine lv_iload_n hx hb dX0_isOf_0 rfl (lv_at hl 0 rfl) ?_
  refine lv_iload_n hx hb dX0_isOf_1 rfl (lv_at hl 1 rfl) ?_
  refine lv_ishr hx hb dX0_isOf_2 ?_
  refine lv_iconst (v := (1 : Int32)) hx hb dX0_isOf_3 (by decide) ?_
  refine lv_iand hx hb dX0_isOf_4 ?_
  refine lv_iconst (v := (1 : Int32)) hx hb dX0_isOf_5 (by decide) ?_
  refine fb_ine (tgt := 13) hx hb dX0_isOf_6 (by decide) hf (fun hf => ?_) (fun hf => ?_)
  · refine lv_iconst (v := (0 : Int32)) hx hb dX0_isOf_13 (by decide) ?_
    exact fd_z hend hw rfl hf dX0_isOf_14
  refine lv_iconst (v := (1 : Int32)) hx hb dX0_isOf_9 (by decide) ?_
  refine lv_goto (tgt := 14) hx hb dX0_isOf_10 (by decide) ?_
  exact fd_z hend hw rfl hf dX0_isOf_14

/-- ForestRooms.comes -/
def fX0_comes_2 (tg : Nat → Nat × Nat) (G : Nat) (p1 : Nat) (p2 : Int32) (p3 : Int32) (p4 : Int32) (st0 : fo_St) : Option (Int32 × fo_St) := if (gi_ st0 2 11) = (-1 : Int32) then bd_ (fX1_feeds p3 p2 st0) (fun x1 st2 => ck_ (decide (x1 = 0 ∨ x1 = 1)) (some (x1, st2))) else bd_ (fX0_isOf (gi_ st0 2 10) (gi_ st0 2 11) st0) (fun x3 st4 => if ¬ x3 = 0 then bd_ (fX0_says tg G (3 : Int32) p1 p3 p2 p4 (-1 : Int32) st4) (fun x5 st6 => if x5 = (-4000000000 : Int64) then some ((0 : Int32), st6) else some ((1 : Int32), st6)) else bd_ (fX1_feeds p3 p2 st4) (fun x7 st8 => ck_ (decide (x7 = 0 ∨ x7 = 1)) (some (x7, st8))))
theorem hm_X0_comes_2 : fo_M yX0_comes_2 4 := ⟨by decide +kernel, by decide +kernel, by decide +kernel, by decide +kernel⟩
set_option maxHeartbeats 4000000 in
theorem wX0_comes_2 (l : Launch) (E : fo_E) (hX : fo_HX E) (G : Nat) (p1 : Nat) (p2 : Int32) (p3 : Int32) (p4 : Int32) (hT_p1 : fo_tab E p1) (st0 : fo_St) (rZ : Int32) (stZ : fo_St) (hf : fX0_comes_2 (et E) G p1 p2 p3 p4 st0 = some (rZ, stZ)) : CTi l E yX0_comes_2 (ws_ yX0_comes_2 cX0_comes_2 5 (some .boolean)) ({ frames := 130, cells := 0, slots := 0, locals := 7736 }) [.ref (eb E + 0), .ref (eb E + p1), .int p2, .int p3, .int p4] st0 rZ stZ := by
  refine fe_z hm_X0_comes_2 (Nat.le_of_ble_eq_true rfl) (fun p e R s m args below meth c Q hRf hRl X hend ls hl hw => ?_)
  have hx := X.1.1
  have hb := X.1.2.1
  have hl : lv_has ls 5 [(0, .ref (eb E + 0)), (1, .ref (eb E + p1)), (2, .int p2), (3, .int p3), (4, .int p4)] := hl
  unfold fX0_comes_2 at hf
  generalize s.heap = H at hw ⊢
  generalize ([] : List Loc) = locs at hw ⊢
  refine lv_aload_n hx hb dX0_comes_2_0 rfl (lv_at hl 0 rfl) ?_
  refine fo_gets X hw fc_X0 (hx0 hX) (k := 2) (d := 2) (n2 := 2) (by decide) rfl rfl q347 dX0_comes_2_1 ?_
  refine fo_getiN X hw fc_X1 (hx2 hX) (k := 11) (by decide) rfl fn237 dX0_comes_2_4 ?_
  refine lv_iconst (v := (-1 : Int32)) hx hb dX0_comes_2_7 (by decide) ?_
  refine fb_ieq (tgt := 31) hx hb dX0_comes_2_8 (by decide) hf (fun hf => ?_) (fun hf => ?_)
  · refine lv_aload_n hx hb dX0_comes_2_31 rfl (lv_at hl 0 rfl) ?_
    refine fo_gets X hw fc_X0 (hx0 hX) (k := 2) (d := 2) (n2 := 2) (by decide) rfl rfl q347 dX0_comes_2_32 ?_
    refine lv_iload_n hx hb dX0_comes_2_35 rfl (lv_at hl 3 rfl) ?_
    refine lv_iload_n hx hb dX0_comes_2_36 rfl (lv_at hl 2 rfl) ?_
    refine fc_Vi (rest := []) (As := [.int p3, .int p2]) X hw hm_X1_feeds (lw_V q651 q652 q653 q112 q654) ⟨rfl, rfl⟩ ⟨by rw [hRf]; exact Nat.le_of_ble_eq_true rfl, by rw [hRl]; exact Nat.le_of_ble_eq_true rfl⟩ fc_X1 rfl (hx2 hX) rfl rfl hl.1 (Nat.le_of_ble_eq_true rfl) dX0_comes_2_37 (fun rQ stQ hQ => wX1_feeds l E hX p3 p2 st0 rQ stQ hQ) hf (fun x1 st2 H locs hw hf => ?_)
    refine lv_goto (tgt := 66) hx hb dX0_comes_2_40 (by decide) ?_
    obtain ⟨hz, hf⟩ := ck_e hf
    exact fd_z hend hw (fo_z hz).1 hf dX0_comes_2_66
  refine lv_aload_n hx hb dX0_comes_2_11 rfl (lv_at hl 0 rfl) ?_
  refine fo_gets X hw fc_X0 (hx0 hX) (k := 2) (d := 2) (n2 := 2) (by decide) rfl rfl q347 dX0_comes_2_12 ?_
  refine fo_getiN X hw fc_X1 (hx2 hX) (k := 10) (by decide) rfl fn235 dX0_comes_2_15 ?_
  refine lv_aload_n hx hb dX0_comes_2_18 rfl (lv_at hl 0 rfl) ?_
  refine fo_gets X hw fc_X0 (hx0 hX) (k := 2) (d := 2) (n2 := 2) (by decide) rfl rfl q347 dX0_comes_2_19 ?_
  refine fo_getiN X hw fc_X1 (hx2 hX) (k := 11) (by decide) rfl fn237 dX0_comes_2_22 ?_
  refine fc_Si (rest := []) (As := [.int (gi_ st0 2 10), .int (gi_ st0 2 11)]) X hw hm_X0_isOf (lw_S q1231 q1232 q111 q1233) ⟨rfl, rfl⟩ ⟨by rw [hRf]; exact Nat.le_of_ble_eq_true rfl, by rw [hRl]; exact Nat.le_of_ble_eq_true rfl⟩ rfl rfl hl.1 (Nat.le_of_ble_eq_true rfl) dX0_comes_2_25 (fun rQ stQ hQ => wX0_isOf l E hX (gi_ st0 2 10) (gi_ st0 2 11) st0 rQ stQ hQ) hf (fun x3 st4 H locs hw hf => ?_)
  refine fb_zne (tgt := 43) hx hb dX0_comes_2_28 (by decide) hf (fun hf => ?_) (fun hf => ?_)
  · refine lv_aload_n hx hb dX0_comes_2_43 rfl (lv_at hl 0 rfl) ?_
    refine lv_iconst (v := (3 : Int32)) hx hb dX0_comes_2_44 (by decide) ?_
    refine lv_aload_n hx hb dX0_comes_2_45 rfl (lv_at hl 1 rfl) ?_
    refine lv_iload_n hx hb dX0_comes_2_46 rfl (lv_at hl 3 rfl) ?_
    refine lv_iload_n hx hb dX0_comes_2_47 rfl (lv_at hl 2 rfl) ?_
    refine lv_iload hx hb dX0_comes_2_48 (lv_at hl 4 rfl) ?_
    refine lv_iconst (v := (-1 : Int32)) hx hb dX0_comes_2_50 (by decide) ?_
    refine fc_Vl (rest := []) (As := [.int (3 : Int32), .ref (eb E + p1), .int p3, .int p2, .int p4, .int (-1 : Int32)]) X hw hm_X0_says (lw_V q576 q578 qs8 q111 q579) ⟨rfl, rfl⟩ ⟨by rw [hRf]; exact Nat.le_of_ble_eq_true rfl, by rw [hRl]; exact Nat.le_of_ble_eq_true rfl⟩ fc_X0 rfl (hx0 hX) rfl rfl hl.1 (Nat.le_of_ble_eq_true rfl) dX0_comes_2_51 (fun rQ stQ hQ => wX0_says l E hX G (3 : Int32) p1 p3 p2 p4 (-1 : Int32) hT_p1 st4 rQ stQ hQ) hf (fun x5 st6 H locs hw hf => ?_)
    refine lv_ldc2 (v := (-4000000000 : Int64)) hx hb X.1.2.2.2.1 (X.1.2.2.2.2 _ q580) dX0_comes_2_54 ?_
    refine fb_leq (tgt := 65) hx hb dX0_comes_2_57 dX0_comes_2_58 (by decide) hf (fun hf => ?_) (fun hf => ?_)
    · refine lv_iconst (v := (0 : Int32)) hx hb dX0_comes_2_65 (by decide) ?_
      exact fd_z hend hw rfl hf dX0_comes_2_66
    refine lv_iconst (v := (1 : Int32)) hx hb dX0_comes_2_61 (by decide) ?_
    refine lv_goto (tgt := 66) hx hb dX0_comes_2_62 (by decide) ?_
    exact fd_z hend hw rfl hf dX0_comes_2_66
  refine lv_aload_n hx hb dX0_comes_2_31 rfl (lv_at hl 0 rfl) ?_
  refine fo_gets X hw fc_X0 (hx0 hX) (k := 2) (d := 2) (n2 := 2) (by decide) rfl rfl q347 dX0_comes_2_32 ?_
  refine lv_iload_n hx hb dX0_comes_2_35 rfl (lv_at hl 3 rfl) ?_
  refine lv_iload_n hx hb dX0_comes_2_36 rfl (lv_at hl 2 rfl) ?_
  refine fc_Vi (rest := []) (As := [.int p3, .int p2]) X hw hm_X1_feeds (lw_V q651 q652 q653 q112 q654) ⟨rfl, rfl⟩ ⟨by rw [hRf]; exact Nat.le_of_ble_eq_true rfl, by rw [hRl]; exact Nat.le_of_ble_eq_true rfl⟩ fc_X1 rfl (hx2 hX) rfl rfl hl.1 (Nat.le_of_ble_eq_true rfl) dX0_comes_2_37 (fun rQ stQ hQ => wX1_feeds l E hX p3 p2 st4 rQ stQ hQ) hf (fun x7 st8 H locs hw hf => ?_)
  refine lv_goto (tgt := 66) hx hb dX0_comes_2_40 (by decide) ?_
  obtain ⟨hz, hf⟩ := ck_e hf
  exact fd_z hend hw (fo_z hz).1 hf dX0_comes_2_66

/-- ForestRooms.comes -/
def fX0_comes (tg : Nat → Nat × Nat) (G : Nat) (p1 : Int32) (p2 : Int32) (p3 : Int32) (st0 : fo_St) : Option (Int32 × fo_St) := bd_ (fX0_isKind p1 st0) (fun x1 st2 => if x1 = 0 then some ((-1 : Int32), st2) else bd_ (fX0_isRoom p2 st2) (fun x3 st4 => if x3 = 0 then some ((-1 : Int32), st4) else bd_ (fX0_in p3 (1 : Int32) (99 : Int32) st4) (fun x5 st6 => if ¬ x5 = 0 then bd_ (fX0_table st6) (fun x7 st8 => ck_ (decide (x7 = 3)) (bd_ (fX0_comes_2 tg G 3 p1 p2 p3 st8) (fun x9 st10 => if x9 = 0 then some ((0 : Int32), st10) else some ((1 : Int32), st10)))) else some ((-1 : Int32), st6))))
theorem hm_X0_comes : fo_M yX0_comes 3 := ⟨by decide +kernel, by decide +kernel, by decide +kernel, by decide +kernel⟩
set_option maxHeartbeats 4000000 in
theorem wX0_comes (l : Launch) (E : fo_E) (hX : fo_HX E) (G : Nat) (p1 : Int32) (p2 : Int32) (p3 : Int32) (st0 : fo_St) (rZ : Int32) (stZ : fo_St) (hf : fX0_comes (et E) G p1 p2 p3 st0 = some (rZ, stZ)) : CTi l E yX0_comes (ws_ yX0_comes cX0_comes 4 (some .int)) ({ frames := 131, cells := 0, slots := 0, locals := 7760 }) [.ref (eb E + 0), .int p1, .int p2, .int p3] st0 rZ stZ := by
  refine fe_i hm_X0_comes (Nat.le_of_ble_eq_true rfl) (fun p e R s m args below meth c Q hRf hRl X hend ls hl hw => ?_)
  have hx := X.1.1
  have hb := X.1.2.1
  have hl : lv_has ls 4 [(0, .ref (eb E + 0)), (1, .int p1), (2, .int p2), (3, .int p3)] := hl
  unfold fX0_comes at hf
  generalize s.heap = H at hw ⊢
  generalize ([] : List Loc) = locs at hw ⊢
  refine lv_iload_n hx hb dX0_comes_0 rfl (lv_at hl 1 rfl) ?_
  refine fc_Si (rest := []) (As := [.int p1]) X hw hm_X0_isKind (lw_S q675 q676 q111 q677) ⟨rfl, rfl⟩ ⟨by rw [hRf]; exact Nat.le_of_ble_eq_true rfl, by rw [hRl]; exact Nat.le_of_ble_eq_true rfl⟩ rfl rfl hl.1 (Nat.le_of_ble_eq_true rfl) dX0_comes_1 (fun rQ stQ hQ => wX0_isKind l E hX p1 st0 rQ stQ hQ) hf (fun x1 st2 H locs hw hf => ?_)
  refine fb_zeq (tgt := 24) hx hb dX0_comes_4 (by decide) hf (fun hf => ?_) (fun hf => ?_)
  · refine lv_iconst (v := (-1 : Int32)) hx hb dX0_comes_24 (by decide) ?_
    refine lv_goto (tgt := 47) hx hb dX0_comes_25 (by decide) ?_
    exact fd_i hend hw hf dX0_comes_47
  refine lv_iload_n hx hb dX0_comes_7 rfl (lv_at hl 2 rfl) ?_
  refine fc_Si (rest := []) (As := [.int p2]) X hw hm_X0_isRoom (lw_S q546 q547 q111 q548) ⟨rfl, rfl⟩ ⟨by rw [hRf]; exact Nat.le_of_ble_eq_true rfl, by rw [hRl]; exact Nat.le_of_ble_eq_true rfl⟩ rfl rfl hl.1 (Nat.le_of_ble_eq_true rfl) dX0_comes_8 (fun rQ stQ hQ => wX0_isRoom l E hX p2 st2 rQ stQ hQ) hf (fun x3 st4 H locs hw hf => ?_)
  refine fb_zeq (tgt := 24) hx hb dX0_comes_11 (by decide) hf (fun hf => ?_) (fun hf => ?_)
  · refine lv_iconst (v := (-1 : Int32)) hx hb dX0_comes_24 (by decide) ?_
    refine lv_goto (tgt := 47) hx hb dX0_comes_25 (by decide) ?_
    exact fd_i hend hw hf dX0_comes_47
  refine lv_iload_n hx hb dX0_comes_14 rfl (lv_at hl 3 rfl) ?_
  refine lv_iconst (v := (1 : Int32)) hx hb dX0_comes_15 (by decide) ?_
  refine lv_bipush (v := (99 : Int32)) hx hb dX0_comes_16 (by decide) ?_
  refine fc_Si (rest := []) (As := [.int p3, .int (1 : Int32), .int (99 : Int32)]) X hw hm_X0_in (lw_S q437 q438 q111 q439) ⟨rfl, rfl⟩ ⟨by rw [hRf]; exact Nat.le_of_ble_eq_true rfl, by rw [hRl]; exact Nat.le_of_ble_eq_true rfl⟩ rfl rfl hl.1 (Nat.le_of_ble_eq_true rfl) dX0_comes_18 (fun rQ stQ hQ => wX0_in l E hX p3 (1 : Int32) (99 : Int32) st4 rQ stQ hQ) hf (fun x5 st6 H locs hw hf => ?_)
  refine fb_zne (tgt := 28) hx hb dX0_comes_21 (by decide) hf (fun hf => ?_) (fun hf => ?_)
  · refine lv_aload_n hx hb dX0_comes_28 rfl (lv_at hl 0 rfl) ?_
    refine lv_aload_n hx hb dX0_comes_29 rfl (lv_at hl 0 rfl) ?_
    refine fc_Vr (rest := [.ref (eb E + 0)]) (As := []) X hw hm_X0_table (lw_V q560 q562 qs6 q111 q563) ⟨rfl, rfl⟩ ⟨by rw [hRf]; exact Nat.le_of_ble_eq_true rfl, by rw [hRl]; exact Nat.le_of_ble_eq_true rfl⟩ fc_X0 rfl (hx0 hX) rfl rfl hl.1 (Nat.le_of_ble_eq_true rfl) dX0_comes_30 (fun rQ stQ hQ => wX0_table l E hX st6 rQ stQ hQ) hf (fun x7 st8 H locs hw hf => ?_)
    have hc0 := ck_e hf
    clear hf
    obtain ⟨hc, hf⟩ := hc0
    replace hc := of_decide_eq_true hc
    subst hc
    refine lv_iload_n hx hb dX0_comes_33 rfl (lv_at hl 1 rfl) ?_
    refine lv_iload_n hx hb dX0_comes_34 rfl (lv_at hl 2 rfl) ?_
    refine lv_iload_n hx hb dX0_comes_35 rfl (lv_at hl 3 rfl) ?_
    refine fc_Vi (rest := []) (As := [.ref (eb E + 3), .int p1, .int p2, .int p3]) X hw hm_X0_comes_2 (lw_V q1227 q1229 qs17 q111 q1230) ⟨rfl, rfl⟩ ⟨by rw [hRf]; exact Nat.le_of_ble_eq_true rfl, by rw [hRl]; exact Nat.le_of_ble_eq_true rfl⟩ fc_X0 rfl (hx0 hX) rfl rfl hl.1 (Nat.le_of_ble_eq_true rfl) dX0_comes_36 (fun rQ stQ hQ => wX0_comes_2 l E hX G 3 p1 p2 p3 (hxT3 hX) st8 rQ stQ hQ) hf (fun x9 st10 H locs hw hf => ?_)
    refine fb_zeq (tgt := 46) hx hb dX0_comes_39 (by decide) hf (fun hf => ?_) (fun hf => ?_)
    · refine lv_iconst (v := (0 : Int32)) hx hb dX0_comes_46 (by decide) ?_
      exact fd_i hend hw hf dX0_comes_47
    refine lv_iconst (v := (1 : Int32)) hx hb dX0_comes_42 (by decide) ?_
    refine lv_goto (tgt := 47) hx hb dX0_comes_43 (by decide) ?_
    exact fd_i hend hw hf dX0_comes_47
  refine lv_iconst (v := (-1 : Int32)) hx hb dX0_comes_24 (by decide) ?_
  refine lv_goto (tgt := 47) hx hb dX0_comes_25 (by decide) ?_
  exact fd_i hend hw hf dX0_comes_47

/-- ForestRooms$Table.rows -/
def fX2_rows (p1 p2 L : Nat) (st0 : fo_St) : Option fo_St := some (sc_ st0 p2 p1 0 0 L)
theorem hm_X2_rows : fo_M yX2_rows 2 := ⟨by decide +kernel, by decide +kernel, by decide +kernel, by decide +kernel⟩
theorem wX2_rows (l : Launch) (E : fo_E) (p1 p2 L : Nat) (h1 : et E p1 = (2, L)) (h2 : et E p2 = (2, L)) (hL : L < 2 ^ 31) (st0 : fo_St) (stZ : fo_St) (hf : fX2_rows p1 p2 L st0 = some stZ) : CTv l E yX2_rows (ws_ yX2_rows cX2_rows 2 none) ({ frames := 1, cells := 0, slots := 0, locals := 30 }) [.ref (eb E + p1), .ref (eb E + p2)] st0 stZ := by
  refine fe_v hm_X2_rows (Nat.le_of_ble_eq_true rfl) (fun p e R s m args below meth c Q hRf hRl X hend ls hl hw => ?_)
  have hx := X.1.1
  have hb := X.1.2.1
  have hl : lv_has ls 2 [(0, .ref (eb E + p1)), (1, .ref (eb E + p2))] := hl
  have hn : (nI L).toNatClampNeg = L := nI_clamp hL
  have hf : lt_ (sc_ st0 p2 p1 (0 : Int32).toNatClampNeg (0 : Int32).toNatClampNeg (nI L).toNatClampNeg) (fun st => some st) = some stZ := by
    rw [hn]; exact hf
  refine lv_aload_n hx hb dX2_rows_0 rfl (lv_at hl 1 rfl) ?_
  refine lv_iconst (v := (0 : Int32)) hx hb dX2_rows_1 (by decide) ?_
  refine lv_aload_n hx hb dX2_rows_2 rfl (lv_at hl 0 rfl) ?_
  refine lv_iconst (v := (0 : Int32)) hx hb dX2_rows_3 (by decide) ?_
  refine lv_aload_n hx hb dX2_rows_4 rfl (lv_at hl 0 rfl) ?_
  refine fo_alen X hw h1 (v := nI L) rfl dX2_rows_5 ?_
  refine fo_copy X hw h2 h1 hl.1 q455 q457 q456 q142 (decide_eq_true ⟨by decide, by decide, nI_pos hL, by rw [hn]; show 0 + L ≤ L; omega, by rw [hn]; show 0 + L ≤ L; omega⟩) (by rw [hRf]; exact Nat.le_refl 1) (by rw [hRl]; exact Nat.le_of_ble_eq_true rfl) dX2_rows_6 hf (fun st1 H locs hw hf => ?_)
  exact fd_v hend hw hf dX2_rows_9

/-- ForestRooms$Table.takes -/
def fX2_takes (t : Nat) (p1 : Nat) (st0 : fo_St) : Option fo_St := bv_ (fX2_rows (t + 1) (p1 + 1) 16 st0) (fun st2 => bv_ (fX2_rows (t + 2) (p1 + 2) 16 st2) (fun st4 => bv_ (fX2_rows (t + 3) (p1 + 3) 16 st4) (fun st6 => lt_ (si_ st6 t 3 (gi_ st6 p1 3)) (fun st7 => some st7))))
theorem hm_X2_takes : fo_M yX2_takes 1 := ⟨by decide +kernel, by decide +kernel, by decide +kernel, by decide +kernel⟩
set_option maxHeartbeats 4000000 in
theorem wX2_takes (l : Launch) (E : fo_E) (t : Nat) (p1 : Nat) (hT_t : fo_tab E t) (hT_p1 : fo_tab E p1) (st0 : fo_St) (stZ : fo_St) (hf : fX2_takes t p1 st0 = some stZ) : CTv l E yX2_takes (ws_ yX2_takes cX2_takes 2 none) ({ frames := 2, cells := 0, slots := 0, locals := 51 }) [.ref (eb E + t), .ref (eb E + p1)] st0 stZ := by
  refine fe_v hm_X2_takes (Nat.le_of_ble_eq_true rfl) (fun p e R s m args below meth c Q hRf hRl X hend ls hl hw => ?_)
  have hx := X.1.1
  have hb := X.1.2.1
  have hl : lv_has ls 2 [(0, .ref (eb E + t)), (1, .ref (eb E + p1))] := hl
  unfold fX2_takes at hf
  generalize s.heap = H at hw ⊢
  generalize ([] : List Loc) = locs at hw ⊢
  refine lv_aload_n hx hb dX2_takes_0 rfl (lv_at hl 0 rfl) ?_
  refine fo_gets X hw fc_X2 hT_t.1 (k := 0) (d := 1) (n2 := (t + 1)) (by decide) rfl rfl q167 dX2_takes_1 ?_
  refine lv_aload_n hx hb dX2_takes_4 rfl (lv_at hl 1 rfl) ?_
  refine fo_gets X hw fc_X2 hT_p1.1 (k := 0) (d := 1) (n2 := (p1 + 1)) (by decide) rfl rfl q167 dX2_takes_5 ?_
  refine fc_Sv (rest := []) (As := [.ref (eb E + (t + 1)), .ref (eb E + (p1 + 1))]) X hw hm_X2_rows (lw_S q452 q453 q113 q454) ⟨rfl, rfl⟩ ⟨by rw [hRf]; exact Nat.le_of_ble_eq_true rfl, by rw [hRl]; exact Nat.le_of_ble_eq_true rfl⟩ rfl rfl hl.1 (Nat.le_of_ble_eq_true rfl) dX2_takes_8 (fun stQ hQ => wX2_rows l E (t + 1) (p1 + 1) 16 hT_t.2.1 hT_p1.2.1 (by decide) st0 stQ hQ) hf (fun st2 H locs hw hf => ?_)
  refine lv_aload_n hx hb dX2_takes_11 rfl (lv_at hl 0 rfl) ?_
  refine fo_gets X hw fc_X2 hT_t.1 (k := 1) (d := 2) (n2 := (t + 2)) (by decide) rfl rfl q169 dX2_takes_12 ?_
  refine lv_aload_n hx hb dX2_takes_15 rfl (lv_at hl 1 rfl) ?_
  refine fo_gets X hw fc_X2 hT_p1.1 (k := 1) (d := 2) (n2 := (p1 + 2)) (by decide) rfl rfl q169 dX2_takes_16 ?_
  refine fc_Sv (rest := []) (As := [.ref (eb E + (t + 2)), .ref (eb E + (p1 + 2))]) X hw hm_X2_rows (lw_S q452 q453 q113 q454) ⟨rfl, rfl⟩ ⟨by rw [hRf]; exact Nat.le_of_ble_eq_true rfl, by rw [hRl]; exact Nat.le_of_ble_eq_true rfl⟩ rfl rfl hl.1 (Nat.le_of_ble_eq_true rfl) dX2_takes_19 (fun stQ hQ => wX2_rows l E (t + 2) (p1 + 2) 16 hT_t.2.2.1 hT_p1.2.2.1 (by decide) st2 stQ hQ) hf (fun st4 H locs hw hf => ?_)
  refine lv_aload_n hx hb dX2_takes_22 rfl (lv_at hl 0 rfl) ?_
  refine fo_gets X hw fc_X2 hT_t.1 (k := 2) (d := 3) (n2 := (t + 3)) (by decide) rfl rfl q172 dX2_takes_23 ?_
  refine lv_aload_n hx hb dX2_takes_26 rfl (lv_at hl 1 rfl) ?_
  refine fo_gets X hw fc_X2 hT_p1.1 (k := 2) (d := 3) (n2 := (p1 + 3)) (by decide) rfl rfl q172 dX2_takes_27 ?_
  refine fc_Sv (rest := []) (As := [.ref (eb E + (t + 3)), .ref (eb E + (p1 + 3))]) X hw hm_X2_rows (lw_S q452 q453 q113 q454) ⟨rfl, rfl⟩ ⟨by rw [hRf]; exact Nat.le_of_ble_eq_true rfl, by rw [hRl]; exact Nat.le_of_ble_eq_true rfl⟩ rfl rfl hl.1 (Nat.le_of_ble_eq_true rfl) dX2_takes_30 (fun stQ hQ => wX2_rows l E (t + 3) (p1 + 3) 16 hT_t.2.2.2 hT_p1.2.2.2 (by decide) st4 stQ hQ) hf (fun st6 H locs hw hf => ?_)
  refine lv_aload_n hx hb dX2_takes_33 rfl (lv_at hl 0 rfl) ?_
  refine lv_aload_n hx hb dX2_takes_34 rfl (lv_at hl 1 rfl) ?_
  refine fo_geti X hw fc_X2 hT_p1.1 (k := 3) (by decide) rfl q174 dX2_takes_35 ?_
  refine fo_puti X hw fc_X2 hT_t.1 (k := 3) (by decide) rfl rfl q174 ⟨rfl, rfl⟩ dX2_takes_38 hf (fun st7 H locs hw hf => ?_)
  exact fd_v hend hw hf dX2_takes_41

/-- ForestRooms.keeps -/
def fX0_keeps (tg : Nat → Nat × Nat) (G : Nat) (p1 : Int32) (st0 : fo_St) : Option fo_St := if ¬ (gi_ st0 0 15) = (16 : Int32) then ck_ (fo_in (gi_ st0 0 15) 16) (rt_ tg (gr_ st0 17 (gi_ st0 0 15).toNatClampNeg) (fun q1 => bd_ (fX0_table st0) (fun x2 st3 => ck_ (decide (x2 = 3)) (bv_ (fX2_takes q1 3 st3) (fun st5 => ck_ (fo_in (gi_ st5 0 15) 16) (lt_ (si_ st5 19 (gi_ st5 0 15).toNatClampNeg p1) (fun st6 => lt_ (si_ st6 0 15 ((gi_ st6 0 15) + (1 : Int32))) (fun st7 => some st7)))))))) else ck_ (fo_in (0 : Int32) 16) (rt_ tg (gr_ st0 17 (0 : Int32).toNatClampNeg) (fun q8 => lp2_ (fun rec11 (x9 : Int32) (st10 : fo_St) => if (16 : Int32) ≤ x9 then ck_ (fo_in (15 : Int32) 16) (lt_ (sr_ st10 17 (15 : Int32).toNatClampNeg (some q8)) (fun st12 => lt_ (si_ st12 0 15 ((gi_ st12 0 15) - (1 : Int32))) (fun st13 => ck_ (fo_in (gi_ st13 0 15) 16) (rt_ tg (gr_ st13 17 (gi_ st13 0 15).toNatClampNeg) (fun q14 => bd_ (fX0_table st13) (fun x15 st16 => ck_ (decide (x15 = 3)) (bv_ (fX2_takes q14 3 st16) (fun st18 => ck_ (fo_in (gi_ st18 0 15) 16) (lt_ (si_ st18 19 (gi_ st18 0 15).toNatClampNeg p1) (fun st19 => lt_ (si_ st19 0 15 ((gi_ st19 0 15) + (1 : Int32))) (fun st20 => some st20))))))))))) else ck_ (fo_in x9 16) (rt_ tg (gr_ st10 17 x9.toNatClampNeg) (fun q21 => ck_ (fo_in (x9 - (1 : Int32)) 16) (lt_ (sr_ st10 17 (x9 - (1 : Int32)).toNatClampNeg (some q21)) (fun st22 => ck_ (fo_in x9 16) (ck_ (fo_in (x9 - (1 : Int32)) 16) (lt_ (si_ st22 19 (x9 - (1 : Int32)).toNatClampNeg (gi_ st22 19 x9.toNatClampNeg)) (fun st23 => rec11 (x9 + (1 : Int32)) st23)))))))) G (1 : Int32) st0))
theorem hm_X0_keeps : fo_M yX0_keeps 1 := ⟨by decide +kernel, by decide +kernel, by decide +kernel, by decide +kernel⟩
set_option maxHeartbeats 4000000 in
theorem wX0_keeps (l : Launch) (E : fo_E) (hX : fo_HX E) (G : Nat) (p1 : Int32) (st0 : fo_St) (stZ : fo_St) (hf : fX0_keeps (et E) G p1 st0 = some stZ) : CTv l E yX0_keeps (ws_ yX0_keeps cX0_keeps 4 none) ({ frames := 3, cells := 0, slots := 0, locals := 72 }) [.ref (eb E + 0), .int p1] st0 stZ := by
  refine fe_v hm_X0_keeps (Nat.le_of_ble_eq_true rfl) (fun p e R s m args below meth c Q hRf hRl X hend ls hl hw => ?_)
  have hx := X.1.1
  have hb := X.1.2.1
  have hl : lv_has ls 4 [(0, .ref (eb E + 0)), (1, .int p1)] := hl
  unfold fX0_keeps at hf
  generalize s.heap = H at hw ⊢
  generalize ([] : List Loc) = locs at hw ⊢
  refine lv_aload_n hx hb dX0_keeps_0 rfl (lv_at hl 0 rfl) ?_
  refine fo_geti X hw fc_X0 (hx0 hX) (k := 15) (by decide) rfl q360 dX0_keeps_1 ?_
  refine lv_bipush (v := (16 : Int32)) hx hb dX0_keeps_4 (by decide) ?_
  refine fb_ine (tgt := 76) hx hb dX0_keeps_6 (by decide) hf (fun hf => ?_) (fun hf => ?_)
  · refine lv_aload_n hx hb dX0_keeps_76 rfl (lv_at hl 0 rfl) ?_
    refine fo_gets X hw fc_X0 (hx0 hX) (k := 4) (d := 17) (n2 := 17) (by decide) rfl rfl q349 dX0_keeps_77 ?_
    refine lv_aload_n hx hb dX0_keeps_80 rfl (lv_at hl 0 rfl) ?_
    refine fo_geti X hw fc_X0 (hx0 hX) (k := 15) (by decide) rfl q360 dX0_keeps_81 ?_
    refine fo_aldt X hw (hx17 hX) dX0_keeps_84 hf (fun q1 hT_q1 hf => ?_)
    refine lv_aload_n hx hb dX0_keeps_85 rfl (lv_at hl 0 rfl) ?_
    refine fc_Vr (rest := [.ref (eb E + q1)]) (As := []) X hw hm_X0_table (lw_V q560 q562 qs6 q111 q563) ⟨rfl, rfl⟩ ⟨by rw [hRf]; exact Nat.le_of_ble_eq_true rfl, by rw [hRl]; exact Nat.le_of_ble_eq_true rfl⟩ fc_X0 rfl (hx0 hX) rfl rfl hl.1 (Nat.le_of_ble_eq_true rfl) dX0_keeps_86 (fun rQ stQ hQ => wX0_table l E hX st0 rQ stQ hQ) hf (fun x2 st3 H locs hw hf => ?_)
    have hc0 := ck_e hf
    clear hf
    obtain ⟨hc, hf⟩ := hc0
    replace hc := of_decide_eq_true hc
    subst hc
    refine fc_Vv (rest := []) (As := [.ref (eb E + 3)]) X hw hm_X2_takes (lw_V q1246 q449 q450 q113 q451) ⟨rfl, rfl⟩ ⟨by rw [hRf]; exact Nat.le_of_ble_eq_true rfl, by rw [hRl]; exact Nat.le_of_ble_eq_true rfl⟩ fc_X2 rfl hT_q1.1 rfl rfl hl.1 (Nat.le_of_ble_eq_true rfl) dX0_keeps_89 (fun stQ hQ => wX2_takes l E q1 3 hT_q1 (hxT3 hX) st3 stQ hQ) hf (fun st5 H locs hw hf => ?_)
    refine lv_aload_n hx hb dX0_keeps_92 rfl (lv_at hl 0 rfl) ?_
    refine fo_gets X hw fc_X0 (hx0 hX) (k := 6) (d := 19) (n2 := 19) (by decide) rfl rfl q351 dX0_keeps_93 ?_
    refine lv_aload_n hx hb dX0_keeps_96 rfl (lv_at hl 0 rfl) ?_
    refine fo_geti X hw fc_X0 (hx0 hX) (k := 15) (by decide) rfl q360 dX0_keeps_97 ?_
    refine lv_iload_n hx hb dX0_keeps_100 rfl (lv_at hl 1 rfl) ?_
    refine fo_iast X hw (hx19 hX) dX0_keeps_101 hf (fun st6 H locs hw hf => ?_)
    refine lv_aload_n hx hb dX0_keeps_102 rfl (lv_at hl 0 rfl) ?_
    refine lv_dup hx hb dX0_keeps_103 rfl ?_
    refine fo_geti X hw fc_X0 (hx0 hX) (k := 15) (by decide) rfl q360 dX0_keeps_104 ?_
    refine lv_iconst (v := (1 : Int32)) hx hb dX0_keeps_107 (by decide) ?_
    refine lv_iadd hx hb dX0_keeps_108 ?_
    refine fo_puti X hw fc_X0 (hx0 hX) (k := 15) (by decide) rfl rfl q360 ⟨rfl, rfl⟩ dX0_keeps_109 hf (fun st7 H locs hw hf => ?_)
    exact fd_v hend hw hf dX0_keeps_112
  refine lv_aload_n hx hb dX0_keeps_9 rfl (lv_at hl 0 rfl) ?_
  refine fo_gets X hw fc_X0 (hx0 hX) (k := 4) (d := 17) (n2 := 17) (by decide) rfl rfl q349 dX0_keeps_10 ?_
  refine lv_iconst (v := (0 : Int32)) hx hb dX0_keeps_13 (by decide) ?_
  refine fo_aldt X hw (hx17 hX) dX0_keeps_14 hf (fun q8 hT_q8 hf => ?_)
  refine lv_astore_n (lv' := [(2, .ref (eb E + q8)), (0, .ref (eb E + 0)), (1, .int p1)]) hx hb dX0_keeps_15 rfl hl (by decide) rfl (fun ls hl => ?_)
  refine lv_iconst (v := (1 : Int32)) hx hb dX0_keeps_16 (by decide) ?_
  refine lv_istore_n (lv' := [(3, .int (1 : Int32)), (2, .ref (eb E + q8)), (0, .ref (eb E + 0)), (1, .int p1)]) hx hb dX0_keeps_17 rfl hl (by decide) rfl (fun ls hl => ?_)
  refine lp2_e (P := fun x9 st10 => ∀ (H : Heap) (locs : List Loc) (ls : Array Slot), lv_has ls 4 [(3, .int x9), (2, .ref (eb E + q8)), (0, .ref (eb E + 0)), (1, .int p1)] → fo_S E s st10 H locs → W p l e R s m args below meth c H locs 0 0 Q (F0 m 18 ls [])) (fun rec11 hrec11 x9 st10 hf => ?_) G _ _ hf H locs ls (lv_sub hl [0, 1, 2, 3] rfl) hw
  intro H locs ls hl hw
  refine lv_iload_n hx hb dX0_keeps_18 rfl (lv_at hl 0 rfl) ?_
  refine lv_bipush (v := (16 : Int32)) hx hb dX0_keeps_19 (by decide) ?_
  refine fb_ige (tgt := 58) hx hb dX0_keeps_21 (by decide) hf (fun hf => ?_) (fun hf => ?_)
  · refine lv_aload_n hx hb dX0_keeps_58 rfl (lv_at hl 2 rfl) ?_
    refine fo_gets X hw fc_X0 (hx0 hX) (k := 4) (d := 17) (n2 := 17) (by decide) rfl rfl q349 dX0_keeps_59 ?_
    refine lv_bipush (v := (15 : Int32)) hx hb dX0_keeps_62 (by decide) ?_
    refine lv_aload_n hx hb dX0_keeps_64 rfl (lv_at hl 1 rfl) ?_
    refine fo_astt X hw (hx17 hX) hT_q8 dX0_keeps_65 hf (fun st12 H locs hw hf => ?_)
    refine lv_aload_n hx hb dX0_keeps_66 rfl (lv_at hl 2 rfl) ?_
    refine lv_dup hx hb dX0_keeps_67 rfl ?_
    refine fo_geti X hw fc_X0 (hx0 hX) (k := 15) (by decide) rfl q360 dX0_keeps_68 ?_
    refine lv_iconst (v := (1 : Int32)) hx hb dX0_keeps_71 (by decide) ?_
    refine lv_isub hx hb dX0_keeps_72 ?_
    refine fo_puti X hw fc_X0 (hx0 hX) (k := 15) (by decide) rfl rfl q360 ⟨rfl, rfl⟩ dX0_keeps_73 hf (fun st13 H locs hw hf => ?_)
    refine lv_aload_n hx hb dX0_keeps_76 rfl (lv_at hl 2 rfl) ?_
    refine fo_gets X hw fc_X0 (hx0 hX) (k := 4) (d := 17) (n2 := 17) (by decide) rfl rfl q349 dX0_keeps_77 ?_
    refine lv_aload_n hx hb dX0_keeps_80 rfl (lv_at hl 2 rfl) ?_
    refine fo_geti X hw fc_X0 (hx0 hX) (k := 15) (by decide) rfl q360 dX0_keeps_81 ?_
    refine fo_aldt X hw (hx17 hX) dX0_keeps_84 hf (fun q14 hT_q14 hf => ?_)
    refine lv_aload_n hx hb dX0_keeps_85 rfl (lv_at hl 2 rfl) ?_
    refine fc_Vr (rest := [.ref (eb E + q14)]) (As := []) X hw hm_X0_table (lw_V q560 q562 qs6 q111 q563) ⟨rfl, rfl⟩ ⟨by rw [hRf]; exact Nat.le_of_ble_eq_true rfl, by rw [hRl]; exact Nat.le_of_ble_eq_true rfl⟩ fc_X0 rfl (hx0 hX) rfl rfl hl.1 (Nat.le_of_ble_eq_true rfl) dX0_keeps_86 (fun rQ stQ hQ => wX0_table l E hX st13 rQ stQ hQ) hf (fun x15 st16 H locs hw hf => ?_)
    have hc0 := ck_e hf
    clear hf
    obtain ⟨hc, hf⟩ := hc0
    replace hc := of_decide_eq_true hc
    subst hc
    refine fc_Vv (rest := []) (As := [.ref (eb E + 3)]) X hw hm_X2_takes (lw_V q1246 q449 q450 q113 q451) ⟨rfl, rfl⟩ ⟨by rw [hRf]; exact Nat.le_of_ble_eq_true rfl, by rw [hRl]; exact Nat.le_of_ble_eq_true rfl⟩ fc_X2 rfl hT_q14.1 rfl rfl hl.1 (Nat.le_of_ble_eq_true rfl) dX0_keeps_89 (fun stQ hQ => wX2_takes l E q14 3 hT_q14 (hxT3 hX) st16 stQ hQ) hf (fun st18 H locs hw hf => ?_)
    refine lv_aload_n hx hb dX0_keeps_92 rfl (lv_at hl 2 rfl) ?_
    refine fo_gets X hw fc_X0 (hx0 hX) (k := 6) (d := 19) (n2 := 19) (by decide) rfl rfl q351 dX0_keeps_93 ?_
    refine lv_aload_n hx hb dX0_keeps_96 rfl (lv_at hl 2 rfl) ?_
    refine fo_geti X hw fc_X0 (hx0 hX) (k := 15) (by decide) rfl q360 dX0_keeps_97 ?_
    refine lv_iload_n hx hb dX0_keeps_100 rfl (lv_at hl 3 rfl) ?_
    refine fo_iast X hw (hx19 hX) dX0_keeps_101 hf (fun st19 H locs hw hf => ?_)
    refine lv_aload_n hx hb dX0_keeps_102 rfl (lv_at hl 2 rfl) ?_
    refine lv_dup hx hb dX0_keeps_103 rfl ?_
    refine fo_geti X hw fc_X0 (hx0 hX) (k := 15) (by decide) rfl q360 dX0_keeps_104 ?_
    refine lv_iconst (v := (1 : Int32)) hx hb dX0_keeps_107 (by decide) ?_
    refine lv_iadd hx hb dX0_keeps_108 ?_
    refine fo_puti X hw fc_X0 (hx0 hX) (k := 15) (by decide) rfl rfl q360 ⟨rfl, rfl⟩ dX0_keeps_109 hf (fun st20 H locs hw hf => ?_)
    exact fd_v hend hw hf dX0_keeps_112
  refine lv_aload_n hx hb dX0_keeps_24 rfl (lv_at hl 2 rfl) ?_
  refine fo_gets X hw fc_X0 (hx0 hX) (k := 4) (d := 17) (n2 := 17) (by decide) rfl rfl q349 dX0_keeps_25 ?_
  refine lv_iload_n hx hb dX0_keeps_28 rfl (lv_at hl 0 rfl) ?_
  refine lv_iconst (v := (1 : Int32)) hx hb dX0_keeps_29 (by decide) ?_
  refine lv_isub hx hb dX0_keeps_30 ?_
  refine lv_aload_n hx hb dX0_keeps_31 rfl (lv_at hl 2 rfl) ?_
  refine fo_gets X hw fc_X0 (hx0 hX) (k := 4) (d := 17) (n2 := 17) (by decide) rfl rfl q349 dX0_keeps_32 ?_
  refine lv_iload_n hx hb dX0_keeps_35 rfl (lv_at hl 0 rfl) ?_
  refine fo_aldt X hw (hx17 hX) dX0_keeps_36 hf (fun q21 hT_q21 hf => ?_)
  refine fo_astt X hw (hx17 hX) hT_q21 dX0_keeps_37 hf (fun st22 H locs hw hf => ?_)
  refine lv_aload_n hx hb dX0_keeps_38 rfl (lv_at hl 2 rfl) ?_
  refine fo_gets X hw fc_X0 (hx0 hX) (k := 6) (d := 19) (n2 := 19) (by decide) rfl rfl q351 dX0_keeps_39 ?_
  refine lv_iload_n hx hb dX0_keeps_42 rfl (lv_at hl 0 rfl) ?_
  refine lv_iconst (v := (1 : Int32)) hx hb dX0_keeps_43 (by decide) ?_
  refine lv_isub hx hb dX0_keeps_44 ?_
  refine lv_aload_n hx hb dX0_keeps_45 rfl (lv_at hl 2 rfl) ?_
  refine fo_gets X hw fc_X0 (hx0 hX) (k := 6) (d := 19) (n2 := 19) (by decide) rfl rfl q351 dX0_keeps_46 ?_
  refine lv_iload_n hx hb dX0_keeps_49 rfl (lv_at hl 0 rfl) ?_
  refine fo_iald X hw (hx19 hX) dX0_keeps_50 hf (fun hf => ?_)
  refine fo_iast X hw (hx19 hX) dX0_keeps_51 hf (fun st23 H locs hw hf => ?_)
  refine fb_iinc (v := (1 : Int32)) (lv' := [(3, .int (x9 + (1 : Int32))), (2, .ref (eb E + q8)), (0, .ref (eb E + 0)), (1, .int p1)]) hx hb dX0_keeps_52 hl (k := 0) rfl (by decide) (by decide) rfl (fun ls hl => ?_)
  refine lv_goto (tgt := 18) hx hb dX0_keeps_55 (by decide) ?_
  exact hrec11 _ _ hf _ _ _ (lv_sub hl [0, 1, 2, 3] rfl) hw

/-- ForestRooms$Table.plants -/
def fX2_plants (t : Nat) (p1 : Int32) (p2 : Int32) (st0 : fo_St) : Option fo_St := ck_ (fo_in p1 16) (lt_ (si_ st0 (t + 1) p1.toNatClampNeg p2) (fun st1 => ck_ (fo_in p1 16) (lt_ (si_ st1 (t + 2) p1.toNatClampNeg (1 : Int32)) (fun st2 => some st2))))
theorem hm_X2_plants : fo_M yX2_plants 2 := ⟨by decide +kernel, by decide +kernel, by decide +kernel, by decide +kernel⟩
set_option maxHeartbeats 4000000 in
theorem wX2_plants (l : Launch) (E : fo_E) (t : Nat) (p1 : Int32) (p2 : Int32) (hT_t : fo_tab E t) (st0 : fo_St) (stZ : fo_St) (hf : fX2_plants t p1 p2 st0 = some stZ) : CTv l E yX2_plants (ws_ yX2_plants cX2_plants 3 none) ({ frames := 0, cells := 0, slots := 0, locals := 0 }) [.ref (eb E + t), .int p1, .int p2] st0 stZ := by
  refine fe_v hm_X2_plants (Nat.le_of_ble_eq_true rfl) (fun p e R s m args below meth c Q hRf hRl X hend ls hl hw => ?_)
  have hx := X.1.1
  have hb := X.1.2.1
  have hl : lv_has ls 3 [(0, .ref (eb E + t)), (1, .int p1), (2, .int p2)] := hl
  unfold fX2_plants at hf
  generalize s.heap = H at hw ⊢
  generalize ([] : List Loc) = locs at hw ⊢
  refine lv_aload_n hx hb dX2_plants_0 rfl (lv_at hl 0 rfl) ?_
  refine fo_gets X hw fc_X2 hT_t.1 (k := 0) (d := 1) (n2 := (t + 1)) (by decide) rfl rfl q167 dX2_plants_1 ?_
  refine lv_iload_n hx hb dX2_plants_4 rfl (lv_at hl 1 rfl) ?_
  refine lv_iload_n hx hb dX2_plants_5 rfl (lv_at hl 2 rfl) ?_
  refine fo_iast X hw hT_t.2.1 dX2_plants_6 hf (fun st1 H locs hw hf => ?_)
  refine lv_aload_n hx hb dX2_plants_7 rfl (lv_at hl 0 rfl) ?_
  refine fo_gets X hw fc_X2 hT_t.1 (k := 1) (d := 2) (n2 := (t + 2)) (by decide) rfl rfl q169 dX2_plants_8 ?_
  refine lv_iload_n hx hb dX2_plants_11 rfl (lv_at hl 1 rfl) ?_
  refine lv_iconst (v := (1 : Int32)) hx hb dX2_plants_12 (by decide) ?_
  refine fo_iast X hw hT_t.2.2.1 dX2_plants_13 hf (fun st2 H locs hw hf => ?_)
  exact fd_v hend hw hf dX2_plants_14

/-- ForestRooms.plantsKept -/
def fX0_plantsKept (tg : Nat → Nat × Nat) (G : Nat) (p1 : Int32) (p2 : Int32) (st0 : fo_St) : Option (Int32 × fo_St) := bd_ (fX0_isKind p1 st0) (fun x1 st2 => if x1 = 0 then some ((-1 : Int32), st2) else bd_ (fX0_isRoom p2 st2) (fun x3 st4 => if ¬ x3 = 0 then bd_ (fX0_table st4) (fun x5 st6 => ck_ (decide (x5 = 3)) (bd_ (fX2_isTree 3 p2 st6) (fun x7 st8 => if x7 = 0 then bv_ (fX0_keeps tg G (0 : Int32) st8) (fun st10 => bd_ (fX0_table st10) (fun x11 st12 => ck_ (decide (x11 = 3)) (bv_ (fX2_plants 3 p2 p1 st12) (fun st14 => some ((0 : Int32), st14))))) else some ((-3 : Int32), st8)))) else some ((-1 : Int32), st4)))
theorem hm_X0_plantsKept : fo_M yX0_plantsKept 2 := ⟨by decide +kernel, by decide +kernel, by decide +kernel, by decide +kernel⟩
set_option maxHeartbeats 4000000 in
theorem wX0_plantsKept (l : Launch) (E : fo_E) (hX : fo_HX E) (G : Nat) (p1 : Int32) (p2 : Int32) (st0 : fo_St) (rZ : Int32) (stZ : fo_St) (hf : fX0_plantsKept (et E) G p1 p2 st0 = some (rZ, stZ)) : CTi l E yX0_plantsKept (ws_ yX0_plantsKept cX0_plantsKept 3 (some .int)) ({ frames := 4, cells := 0, slots := 0, locals := 95 }) [.ref (eb E + 0), .int p1, .int p2] st0 rZ stZ := by
  refine fe_i hm_X0_plantsKept (Nat.le_of_ble_eq_true rfl) (fun p e R s m args below meth c Q hRf hRl X hend ls hl hw => ?_)
  have hx := X.1.1
  have hb := X.1.2.1
  have hl : lv_has ls 3 [(0, .ref (eb E + 0)), (1, .int p1), (2, .int p2)] := hl
  unfold fX0_plantsKept at hf
  generalize s.heap = H at hw ⊢
  generalize ([] : List Loc) = locs at hw ⊢
  refine lv_iload_n hx hb dX0_plantsKept_0 rfl (lv_at hl 1 rfl) ?_
  refine fc_Si (rest := []) (As := [.int p1]) X hw hm_X0_isKind (lw_S q675 q676 q111 q677) ⟨rfl, rfl⟩ ⟨by rw [hRf]; exact Nat.le_of_ble_eq_true rfl, by rw [hRl]; exact Nat.le_of_ble_eq_true rfl⟩ rfl rfl hl.1 (Nat.le_of_ble_eq_true rfl) dX0_plantsKept_1 (fun rQ stQ hQ => wX0_isKind l E hX p1 st0 rQ stQ hQ) hf (fun x1 st2 H locs hw hf => ?_)
  refine fb_zeq (tgt := 14) hx hb dX0_plantsKept_4 (by decide) hf (fun hf => ?_) (fun hf => ?_)
  · refine lv_iconst (v := (-1 : Int32)) hx hb dX0_plantsKept_14 (by decide) ?_
    exact fd_i hend hw hf dX0_plantsKept_15
  refine lv_iload_n hx hb dX0_plantsKept_7 rfl (lv_at hl 2 rfl) ?_
  refine fc_Si (rest := []) (As := [.int p2]) X hw hm_X0_isRoom (lw_S q546 q547 q111 q548) ⟨rfl, rfl⟩ ⟨by rw [hRf]; exact Nat.le_of_ble_eq_true rfl, by rw [hRl]; exact Nat.le_of_ble_eq_true rfl⟩ rfl rfl hl.1 (Nat.le_of_ble_eq_true rfl) dX0_plantsKept_8 (fun rQ stQ hQ => wX0_isRoom l E hX p2 st2 rQ stQ hQ) hf (fun x3 st4 H locs hw hf => ?_)
  refine fb_zne (tgt := 16) hx hb dX0_plantsKept_11 (by decide) hf (fun hf => ?_) (fun hf => ?_)
  · refine lv_aload_n hx hb dX0_plantsKept_16 rfl (lv_at hl 0 rfl) ?_
    refine fc_Vr (rest := []) (As := []) X hw hm_X0_table (lw_V q560 q562 qs6 q111 q563) ⟨rfl, rfl⟩ ⟨by rw [hRf]; exact Nat.le_of_ble_eq_true rfl, by rw [hRl]; exact Nat.le_of_ble_eq_true rfl⟩ fc_X0 rfl (hx0 hX) rfl rfl hl.1 (Nat.le_of_ble_eq_true rfl) dX0_plantsKept_17 (fun rQ stQ hQ => wX0_table l E hX st4 rQ stQ hQ) hf (fun x5 st6 H locs hw hf => ?_)
    have hc0 := ck_e hf
    clear hf
    obtain ⟨hc, hf⟩ := hc0
    replace hc := of_decide_eq_true hc
    subst hc
    refine lv_iload_n hx hb dX0_plantsKept_20 rfl (lv_at hl 2 rfl) ?_
    refine fc_Vi (rest := []) (As := [.int p2]) X hw hm_X2_isTree (lw_V q568 q569 q570 q113 q571) ⟨rfl, rfl⟩ ⟨by rw [hRf]; exact Nat.le_of_ble_eq_true rfl, by rw [hRl]; exact Nat.le_of_ble_eq_true rfl⟩ fc_X2 rfl (hx3 hX) rfl rfl hl.1 (Nat.le_of_ble_eq_true rfl) dX0_plantsKept_21 (fun rQ stQ hQ => wX2_isTree l E 3 p2 (hxT3 hX) st6 rQ stQ hQ) hf (fun x7 st8 H locs hw hf => ?_)
    refine fb_zeq (tgt := 30) hx hb dX0_plantsKept_24 (by decide) hf (fun hf => ?_) (fun hf => ?_)
    · refine lv_aload_n hx hb dX0_plantsKept_30 rfl (lv_at hl 0 rfl) ?_
      refine lv_iconst (v := (0 : Int32)) hx hb dX0_plantsKept_31 (by decide) ?_
      refine fc_Vv (rest := []) (As := [.int (0 : Int32)]) X hw hm_X0_keeps (lw_V q1242 q1244 qs19 q111 q1245) ⟨rfl, rfl⟩ ⟨by rw [hRf]; exact Nat.le_of_ble_eq_true rfl, by rw [hRl]; exact Nat.le_of_ble_eq_true rfl⟩ fc_X0 rfl (hx0 hX) rfl rfl hl.1 (Nat.le_of_ble_eq_true rfl) dX0_plantsKept_32 (fun stQ hQ => wX0_keeps l E hX G (0 : Int32) st8 stQ hQ) hf (fun st10 H locs hw hf => ?_)
      refine lv_aload_n hx hb dX0_plantsKept_35 rfl (lv_at hl 0 rfl) ?_
      refine fc_Vr (rest := []) (As := []) X hw hm_X0_table (lw_V q560 q562 qs6 q111 q563) ⟨rfl, rfl⟩ ⟨by rw [hRf]; exact Nat.le_of_ble_eq_true rfl, by rw [hRl]; exact Nat.le_of_ble_eq_true rfl⟩ fc_X0 rfl (hx0 hX) rfl rfl hl.1 (Nat.le_of_ble_eq_true rfl) dX0_plantsKept_36 (fun rQ stQ hQ => wX0_table l E hX st10 rQ stQ hQ) hf (fun x11 st12 H locs hw hf => ?_)
      have hc0 := ck_e hf
      clear hf
      obtain ⟨hc, hf⟩ := hc0
      replace hc := of_decide_eq_true hc
      subst hc
      refine lv_iload_n hx hb dX0_plantsKept_39 rfl (lv_at hl 2 rfl) ?_
      refine lv_iload_n hx hb dX0_plantsKept_40 rfl (lv_at hl 1 rfl) ?_
      refine fc_Vv (rest := []) (As := [.int p2, .int p1]) X hw hm_X2_plants (lw_V q1247 q1248 q1249 q113 q1250) ⟨rfl, rfl⟩ ⟨by rw [hRf]; exact Nat.le_of_ble_eq_true rfl, by rw [hRl]; exact Nat.le_of_ble_eq_true rfl⟩ fc_X2 rfl (hx3 hX) rfl rfl hl.1 (Nat.le_of_ble_eq_true rfl) dX0_plantsKept_41 (fun stQ hQ => wX2_plants l E 3 p2 p1 (hxT3 hX) st12 stQ hQ) hf (fun st14 H locs hw hf => ?_)
      refine lv_iconst (v := (0 : Int32)) hx hb dX0_plantsKept_44 (by decide) ?_
      exact fd_i hend hw hf dX0_plantsKept_45
    refine lv_bipush (v := (-3 : Int32)) hx hb dX0_plantsKept_27 (by decide) ?_
    exact fd_i hend hw hf dX0_plantsKept_29
  refine lv_iconst (v := (-1 : Int32)) hx hb dX0_plantsKept_14 (by decide) ?_
  exact fd_i hend hw hf dX0_plantsKept_15

/-- ForestRooms.doneOr -/
def fX0_doneOr (p1 : Int32) (st0 : fo_St) : Option (Int32 × fo_St) := if 0 ≤ p1 then bd_ (fX0_done p1 st0) (fun x1 st2 => some (x1, st2)) else bd_ (fX0_refuse p1 st0) (fun x3 st4 => some (x3, st4))
theorem hm_X0_doneOr : fo_M yX0_doneOr 1 := ⟨by decide +kernel, by decide +kernel, by decide +kernel, by decide +kernel⟩
set_option maxHeartbeats 4000000 in
theorem wX0_doneOr (l : Launch) (E : fo_E) (hX : fo_HX E) (p1 : Int32) (st0 : fo_St) (rZ : Int32) (stZ : fo_St) (hf : fX0_doneOr p1 st0 = some (rZ, stZ)) : CTi l E yX0_doneOr (ws_ yX0_doneOr cX0_doneOr 2 (some .int)) ({ frames := 1, cells := 0, slots := 0, locals := 21 }) [.ref (eb E + 0), .int p1] st0 rZ stZ := by
  refine fe_i hm_X0_doneOr (Nat.le_of_ble_eq_true rfl) (fun p e R s m args below meth c Q hRf hRl X hend ls hl hw => ?_)
  have hx := X.1.1
  have hb := X.1.2.1
  have hl : lv_has ls 2 [(0, .ref (eb E + 0)), (1, .int p1)] := hl
  unfold fX0_doneOr at hf
  generalize s.heap = H at hw ⊢
  generalize ([] : List Loc) = locs at hw ⊢
  refine lv_iload_n hx hb dX0_doneOr_0 rfl (lv_at hl 1 rfl) ?_
  refine fb_zge (tgt := 12) hx hb dX0_doneOr_1 (by decide) hf (fun hf => ?_) (fun hf => ?_)
  · refine lv_aload_n hx hb dX0_doneOr_12 rfl (lv_at hl 0 rfl) ?_
    refine lv_iload_n hx hb dX0_doneOr_13 rfl (lv_at hl 1 rfl) ?_
    refine fc_Vi (rest := []) (As := [.int p1]) X hw hm_X0_done (lw_V q530 q532 qs3 q111 q533) ⟨rfl, rfl⟩ ⟨by rw [hRf]; exact Nat.le_of_ble_eq_true rfl, by rw [hRl]; exact Nat.le_of_ble_eq_true rfl⟩ fc_X0 rfl (hx0 hX) rfl rfl hl.1 (Nat.le_of_ble_eq_true rfl) dX0_doneOr_14 (fun rQ stQ hQ => wX0_done l E hX p1 st0 rQ stQ hQ) hf (fun x1 st2 H locs hw hf => ?_)
    exact fd_i hend hw hf dX0_doneOr_17
  refine lv_aload_n hx hb dX0_doneOr_4 rfl (lv_at hl 0 rfl) ?_
  refine lv_iload_n hx hb dX0_doneOr_5 rfl (lv_at hl 1 rfl) ?_
  refine fc_Vi (rest := []) (As := [.int p1]) X hw hm_X0_refuse (lw_V q440 q442 qs1 q111 q443) ⟨rfl, rfl⟩ ⟨by rw [hRf]; exact Nat.le_of_ble_eq_true rfl, by rw [hRl]; exact Nat.le_of_ble_eq_true rfl⟩ fc_X0 rfl (hx0 hX) rfl rfl hl.1 (Nat.le_of_ble_eq_true rfl) dX0_doneOr_6 (fun rQ stQ hQ => wX0_refuse l E hX p1 st0 rQ stQ hQ) hf (fun x3 st4 H locs hw hf => ?_)
  refine lv_goto (tgt := 17) hx hb dX0_doneOr_9 (by decide) ?_
  exact fd_i hend hw hf dX0_doneOr_17

/-- ForestRooms.plant -/
def fX0_plant (tg : Nat → Nat × Nat) (G : Nat) (p1 : Int32) (p2 : Int32) (st0 : fo_St) : Option (Int32 × fo_St) := bd_ (fX0_plantsKept tg G p1 p2 st0) (fun x1 st2 => bd_ (fX0_doneOr x1 st2) (fun x3 st4 => some (x3, st4)))
theorem hm_X0_plant : fo_M yX0_plant 2 := ⟨by decide +kernel, by decide +kernel, by decide +kernel, by decide +kernel⟩
set_option maxHeartbeats 4000000 in
theorem wX0_plant (l : Launch) (E : fo_E) (hX : fo_HX E) (G : Nat) (p1 : Int32) (p2 : Int32) (st0 : fo_St) (rZ : Int32) (stZ : fo_St) (hf : fX0_plant (et E) G p1 p2 st0 = some (rZ, stZ)) : CTi l E yX0_plant (ws_ yX0_plant cX0_plant 3 (some .int)) ({ frames := 5, cells := 0, slots := 0, locals := 117 }) [.ref (eb E + 0), .int p1, .int p2] st0 rZ stZ := by
  refine fe_i hm_X0_plant (Nat.le_of_ble_eq_true rfl) (fun p e R s m args below meth c Q hRf hRl X hend ls hl hw => ?_)
  have hx := X.1.1
  have hb := X.1.2.1
  have hl : lv_has ls 3 [(0, .ref (eb E + 0)), (1, .int p1), (2, .int p2)] := hl
  unfold fX0_plant at hf
  generalize s.heap = H at hw ⊢
  generalize ([] : List Loc) = locs at hw ⊢
  refine lv_aload_n hx hb dX0_plant_0 rfl (lv_at hl 0 rfl) ?_
  refine lv_aload_n hx hb dX0_plant_1 rfl (lv_at hl 0 rfl) ?_
  refine lv_iload_n hx hb dX0_plant_2 rfl (lv_at hl 1 rfl) ?_
  refine lv_iload_n hx hb dX0_plant_3 rfl (lv_at hl 2 rfl) ?_
  refine fc_Vi (rest := [.ref (eb E + 0)]) (As := [.int p1, .int p2]) X hw hm_X0_plantsKept (lw_V q1238 q1240 qs18 q111 q1241) ⟨rfl, rfl⟩ ⟨by rw [hRf]; exact Nat.le_of_ble_eq_true rfl, by rw [hRl]; exact Nat.le_of_ble_eq_true rfl⟩ fc_X0 rfl (hx0 hX) rfl rfl hl.1 (Nat.le_of_ble_eq_true rfl) dX0_plant_4 (fun rQ stQ hQ => wX0_plantsKept l E hX G p1 p2 st0 rQ stQ hQ) hf (fun x1 st2 H locs hw hf => ?_)
  refine fc_Vi (rest := []) (As := [.int x1]) X hw hm_X0_doneOr (lw_V q1251 q1253 qs20 q111 q1254) ⟨rfl, rfl⟩ ⟨by rw [hRf]; exact Nat.le_of_ble_eq_true rfl, by rw [hRl]; exact Nat.le_of_ble_eq_true rfl⟩ fc_X0 rfl (hx0 hX) rfl rfl hl.1 (Nat.le_of_ble_eq_true rfl) dX0_plant_7 (fun rQ stQ hQ => wX0_doneOr l E hX x1 st2 rQ stQ hQ) hf (fun x3 st4 H locs hw hf => ?_)
  exact fd_i hend hw hf dX0_plant_10

/-- ForestRooms$Table.falls -/
def fX2_falls (t : Nat) (p1 : Int32) (st0 : fo_St) : Option fo_St := ck_ (fo_in p1 16) (lt_ (si_ st0 (t + 1) p1.toNatClampNeg (-1 : Int32)) (fun st1 => ck_ (fo_in p1 16) (lt_ (si_ st1 (t + 2) p1.toNatClampNeg (0 : Int32)) (fun st2 => some st2))))
theorem hm_X2_falls : fo_M yX2_falls 1 := ⟨by decide +kernel, by decide +kernel, by decide +kernel, by decide +kernel⟩
set_option maxHeartbeats 4000000 in
theorem wX2_falls (l : Launch) (E : fo_E) (t : Nat) (p1 : Int32) (hT_t : fo_tab E t) (st0 : fo_St) (stZ : fo_St) (hf : fX2_falls t p1 st0 = some stZ) : CTv l E yX2_falls (ws_ yX2_falls cX2_falls 2 none) ({ frames := 0, cells := 0, slots := 0, locals := 0 }) [.ref (eb E + t), .int p1] st0 stZ := by
  refine fe_v hm_X2_falls (Nat.le_of_ble_eq_true rfl) (fun p e R s m args below meth c Q hRf hRl X hend ls hl hw => ?_)
  have hx := X.1.1
  have hb := X.1.2.1
  have hl : lv_has ls 2 [(0, .ref (eb E + t)), (1, .int p1)] := hl
  unfold fX2_falls at hf
  generalize s.heap = H at hw ⊢
  generalize ([] : List Loc) = locs at hw ⊢
  refine lv_aload_n hx hb dX2_falls_0 rfl (lv_at hl 0 rfl) ?_
  refine fo_gets X hw fc_X2 hT_t.1 (k := 0) (d := 1) (n2 := (t + 1)) (by decide) rfl rfl q167 dX2_falls_1 ?_
  refine lv_iload_n hx hb dX2_falls_4 rfl (lv_at hl 1 rfl) ?_
  refine lv_iconst (v := (-1 : Int32)) hx hb dX2_falls_5 (by decide) ?_
  refine fo_iast X hw hT_t.2.1 dX2_falls_6 hf (fun st1 H locs hw hf => ?_)
  refine lv_aload_n hx hb dX2_falls_7 rfl (lv_at hl 0 rfl) ?_
  refine fo_gets X hw fc_X2 hT_t.1 (k := 1) (d := 2) (n2 := (t + 2)) (by decide) rfl rfl q169 dX2_falls_8 ?_
  refine lv_iload_n hx hb dX2_falls_11 rfl (lv_at hl 1 rfl) ?_
  refine lv_iconst (v := (0 : Int32)) hx hb dX2_falls_12 (by decide) ?_
  refine fo_iast X hw hT_t.2.2.1 dX2_falls_13 hf (fun st2 H locs hw hf => ?_)
  exact fd_v hend hw hf dX2_falls_14

/-- ForestRooms.prunesKept -/
def fX0_prunesKept (tg : Nat → Nat × Nat) (G : Nat) (p1 : Int32) (p2 : Int32) (st0 : fo_St) : Option (Int32 × fo_St) := bd_ (fX0_isRoom p1 st0) (fun x1 st2 => if x1 = 0 then some ((-1 : Int32), st2) else bd_ (fX0_in p2 (1 : Int32) (99 : Int32) st2) (fun x3 st4 => if ¬ x3 = 0 then bd_ (fX0_table st4) (fun x5 st6 => ck_ (decide (x5 = 3)) (bd_ (fX2_isTree 3 p1 st6) (fun x7 st8 => if ¬ x7 = 0 then bv_ (fX0_keeps tg G (1 : Int32) st8) (fun st10 => bd_ (fX0_table st10) (fun x11 st12 => ck_ (decide (x11 = 3)) (ck_ (fo_in p1 16) (jn_ (fun (st13 : fo_St) => bd_ (fX0_table st13) (fun x15 st16 => ck_ (decide (x15 = 3)) (ck_ (fo_in p1 16) (some ((gi_ st16 5 p1.toNatClampNeg), st16))))) (fun k14 => if p2 < (gi_ st12 5 p1.toNatClampNeg) then bd_ (fX0_table st12) (fun x17 st18 => ck_ (decide (x17 = 3)) (ck_ (fo_in p1 16) (ck_ (fo_in p1 16) (lt_ (si_ st18 5 p1.toNatClampNeg ((gi_ st18 5 p1.toNatClampNeg) - p2)) (fun st19 => k14 st19))))) else bd_ (fX0_table st12) (fun x20 st21 => ck_ (decide (x20 = 3)) (bv_ (fX2_falls 3 p1 st21) (fun st23 => k14 st23)))))))) else some ((-2 : Int32), st8)))) else some ((-1 : Int32), st4)))
theorem hm_X0_prunesKept : fo_M yX0_prunesKept 2 := ⟨by decide +kernel, by decide +kernel, by decide +kernel, by decide +kernel⟩
set_option maxHeartbeats 4000000 in
theorem wX0_prunesKept (l : Launch) (E : fo_E) (hX : fo_HX E) (G : Nat) (p1 : Int32) (p2 : Int32) (st0 : fo_St) (rZ : Int32) (stZ : fo_St) (hf : fX0_prunesKept (et E) G p1 p2 st0 = some (rZ, stZ)) : CTi l E yX0_prunesKept (ws_ yX0_prunesKept cX0_prunesKept 3 (some .int)) ({ frames := 4, cells := 0, slots := 0, locals := 95 }) [.ref (eb E + 0), .int p1, .int p2] st0 rZ stZ := by
  refine fe_i hm_X0_prunesKept (Nat.le_of_ble_eq_true rfl) (fun p e R s m args below meth c Q hRf hRl X hend ls hl hw => ?_)
  have hx := X.1.1
  have hb := X.1.2.1
  have hl : lv_has ls 3 [(0, .ref (eb E + 0)), (1, .int p1), (2, .int p2)] := hl
  unfold fX0_prunesKept at hf
  generalize s.heap = H at hw ⊢
  generalize ([] : List Loc) = locs at hw ⊢
  refine lv_iload_n hx hb dX0_prunesKept_0 rfl (lv_at hl 1 rfl) ?_
  refine fc_Si (rest := []) (As := [.int p1]) X hw hm_X0_isRoom (lw_S q546 q547 q111 q548) ⟨rfl, rfl⟩ ⟨by rw [hRf]; exact Nat.le_of_ble_eq_true rfl, by rw [hRl]; exact Nat.le_of_ble_eq_true rfl⟩ rfl rfl hl.1 (Nat.le_of_ble_eq_true rfl) dX0_prunesKept_1 (fun rQ stQ hQ => wX0_isRoom l E hX p1 st0 rQ stQ hQ) hf (fun x1 st2 H locs hw hf => ?_)
  refine fb_zeq (tgt := 17) hx hb dX0_prunesKept_4 (by decide) hf (fun hf => ?_) (fun hf => ?_)
  · refine lv_iconst (v := (-1 : Int32)) hx hb dX0_prunesKept_17 (by decide) ?_
    exact fd_i hend hw hf dX0_prunesKept_18
  refine lv_iload_n hx hb dX0_prunesKept_7 rfl (lv_at hl 2 rfl) ?_
  refine lv_iconst (v := (1 : Int32)) hx hb dX0_prunesKept_8 (by decide) ?_
  refine lv_bipush (v := (99 : Int32)) hx hb dX0_prunesKept_9 (by decide) ?_
  refine fc_Si (rest := []) (As := [.int p2, .int (1 : Int32), .int (99 : Int32)]) X hw hm_X0_in (lw_S q437 q438 q111 q439) ⟨rfl, rfl⟩ ⟨by rw [hRf]; exact Nat.le_of_ble_eq_true rfl, by rw [hRl]; exact Nat.le_of_ble_eq_true rfl⟩ rfl rfl hl.1 (Nat.le_of_ble_eq_true rfl) dX0_prunesKept_11 (fun rQ stQ hQ => wX0_in l E hX p2 (1 : Int32) (99 : Int32) st2 rQ stQ hQ) hf (fun x3 st4 H locs hw hf => ?_)
  refine fb_zne (tgt := 19) hx hb dX0_prunesKept_14 (by decide) hf (fun hf => ?_) (fun hf => ?_)
  · refine lv_aload_n hx hb dX0_prunesKept_19 rfl (lv_at hl 0 rfl) ?_
    refine fc_Vr (rest := []) (As := []) X hw hm_X0_table (lw_V q560 q562 qs6 q111 q563) ⟨rfl, rfl⟩ ⟨by rw [hRf]; exact Nat.le_of_ble_eq_true rfl, by rw [hRl]; exact Nat.le_of_ble_eq_true rfl⟩ fc_X0 rfl (hx0 hX) rfl rfl hl.1 (Nat.le_of_ble_eq_true rfl) dX0_prunesKept_20 (fun rQ stQ hQ => wX0_table l E hX st4 rQ stQ hQ) hf (fun x5 st6 H locs hw hf => ?_)
    have hc0 := ck_e hf
    clear hf
    obtain ⟨hc, hf⟩ := hc0
    replace hc := of_decide_eq_true hc
    subst hc
    refine lv_iload_n hx hb dX0_prunesKept_23 rfl (lv_at hl 1 rfl) ?_
    refine fc_Vi (rest := []) (As := [.int p1]) X hw hm_X2_isTree (lw_V q568 q569 q570 q113 q571) ⟨rfl, rfl⟩ ⟨by rw [hRf]; exact Nat.le_of_ble_eq_true rfl, by rw [hRl]; exact Nat.le_of_ble_eq_true rfl⟩ fc_X2 rfl (hx3 hX) rfl rfl hl.1 (Nat.le_of_ble_eq_true rfl) dX0_prunesKept_24 (fun rQ stQ hQ => wX2_isTree l E 3 p1 (hxT3 hX) st6 rQ stQ hQ) hf (fun x7 st8 H locs hw hf => ?_)
    refine fb_zne (tgt := 33) hx hb dX0_prunesKept_27 (by decide) hf (fun hf => ?_) (fun hf => ?_)
    · refine lv_aload_n hx hb dX0_prunesKept_33 rfl (lv_at hl 0 rfl) ?_
      refine lv_iconst (v := (1 : Int32)) hx hb dX0_prunesKept_34 (by decide) ?_
      refine fc_Vv (rest := []) (As := [.int (1 : Int32)]) X hw hm_X0_keeps (lw_V q1242 q1244 qs19 q111 q1245) ⟨rfl, rfl⟩ ⟨by rw [hRf]; exact Nat.le_of_ble_eq_true rfl, by rw [hRl]; exact Nat.le_of_ble_eq_true rfl⟩ fc_X0 rfl (hx0 hX) rfl rfl hl.1 (Nat.le_of_ble_eq_true rfl) dX0_prunesKept_35 (fun stQ hQ => wX0_keeps l E hX G (1 : Int32) st8 stQ hQ) hf (fun st10 H locs hw hf => ?_)
      refine lv_aload_n hx hb dX0_prunesKept_38 rfl (lv_at hl 0 rfl) ?_
      refine fc_Vr (rest := []) (As := []) X hw hm_X0_table (lw_V q560 q562 qs6 q111 q563) ⟨rfl, rfl⟩ ⟨by rw [hRf]; exact Nat.le_of_ble_eq_true rfl, by rw [hRl]; exact Nat.le_of_ble_eq_true rfl⟩ fc_X0 rfl (hx0 hX) rfl rfl hl.1 (Nat.le_of_ble_eq_true rfl) dX0_prunesKept_39 (fun rQ stQ hQ => wX0_table l E hX st10 rQ stQ hQ) hf (fun x11 st12 H locs hw hf => ?_)
      have hc0 := ck_e hf
      clear hf
      obtain ⟨hc, hf⟩ := hc0
      replace hc := of_decide_eq_true hc
      subst hc
      refine fo_getsN X hw fc_X2 (hx3 hX) (k := 1) (d := 2) (n2 := 5) (by decide) rfl rfl fn171 dX0_prunesKept_42 ?_
      refine lv_iload_n hx hb dX0_prunesKept_45 rfl (lv_at hl 1 rfl) ?_
      refine fo_iald X hw (hx5 hX) dX0_prunesKept_46 hf (fun hf => ?_)
      refine lv_iload_n hx hb dX0_prunesKept_47 rfl (lv_at hl 2 rfl) ?_
      refine jn_e hf (fun k14 ek hf => ?_)
      have hk14 : ∀  (st13 : fo_St) (H : Heap) (locs : List Loc) (ls : Array Slot), lv_has ls 3 [(0, .ref (eb E + 0)), (1, .int p1)] → fo_S E s st13 H locs → k14 st13 = some (rZ, stZ) → W p l e R s m args below meth c H locs 0 0 Q (F0 m 75 ls []) := by
        intro st13 H locs ls hl hw hf
        rw [ek] at hf
        refine lv_aload_n hx hb dX0_prunesKept_75 rfl (lv_at hl 0 rfl) ?_
        refine fc_Vr (rest := []) (As := []) X hw hm_X0_table (lw_V q560 q562 qs6 q111 q563) ⟨rfl, rfl⟩ ⟨by rw [hRf]; exact Nat.le_of_ble_eq_true rfl, by rw [hRl]; exact Nat.le_of_ble_eq_true rfl⟩ fc_X0 rfl (hx0 hX) rfl rfl hl.1 (Nat.le_of_ble_eq_true rfl) dX0_prunesKept_76 (fun rQ stQ hQ => wX0_table l E hX st13 rQ stQ hQ) hf (fun x15 st16 H locs hw hf => ?_)
        have hc0 := ck_e hf
        clear hf
        obtain ⟨hc, hf⟩ := hc0
        replace hc := of_decide_eq_true hc
        subst hc
        refine fo_getsN X hw fc_X2 (hx3 hX) (k := 1) (d := 2) (n2 := 5) (by decide) rfl rfl fn171 dX0_prunesKept_79 ?_
        refine lv_iload_n hx hb dX0_prunesKept_82 rfl (lv_at hl 1 rfl) ?_
        refine fo_iald X hw (hx5 hX) dX0_prunesKept_83 hf (fun hf => ?_)
        exact fd_i hend hw hf dX0_prunesKept_84
      clear ek
      refine fb_igt (tgt := 62) hx hb dX0_prunesKept_48 (by decide) hf (fun hf => ?_) (fun hf => ?_)
      · refine lv_aload_n hx hb dX0_prunesKept_62 rfl (lv_at hl 0 rfl) ?_
        refine fc_Vr (rest := []) (As := []) X hw hm_X0_table (lw_V q560 q562 qs6 q111 q563) ⟨rfl, rfl⟩ ⟨by rw [hRf]; exact Nat.le_of_ble_eq_true rfl, by rw [hRl]; exact Nat.le_of_ble_eq_true rfl⟩ fc_X0 rfl (hx0 hX) rfl rfl hl.1 (Nat.le_of_ble_eq_true rfl) dX0_prunesKept_63 (fun rQ stQ hQ => wX0_table l E hX st12 rQ stQ hQ) hf (fun x17 st18 H locs hw hf => ?_)
        have hc0 := ck_e hf
        clear hf
        obtain ⟨hc, hf⟩ := hc0
        replace hc := of_decide_eq_true hc
        subst hc
        refine fo_getsN X hw fc_X2 (hx3 hX) (k := 1) (d := 2) (n2 := 5) (by decide) rfl rfl fn171 dX0_prunesKept_66 ?_
        refine lv_iload_n hx hb dX0_prunesKept_69 rfl (lv_at hl 1 rfl) ?_
        refine lv_dup2_11 hx hb dX0_prunesKept_70 rfl rfl ?_
        refine fo_iald X hw (hx5 hX) dX0_prunesKept_71 hf (fun hf => ?_)
        refine lv_iload_n hx hb dX0_prunesKept_72 rfl (lv_at hl 2 rfl) ?_
        refine lv_isub hx hb dX0_prunesKept_73 ?_
        refine fo_iast X hw (hx5 hX) dX0_prunesKept_74 hf (fun st19 H locs hw hf => ?_)
        exact hk14 _ _ _ _ (lv_sub hl [0, 1] rfl) hw hf
      refine lv_aload_n hx hb dX0_prunesKept_51 rfl (lv_at hl 0 rfl) ?_
      refine fc_Vr (rest := []) (As := []) X hw hm_X0_table (lw_V q560 q562 qs6 q111 q563) ⟨rfl, rfl⟩ ⟨by rw [hRf]; exact Nat.le_of_ble_eq_true rfl, by rw [hRl]; exact Nat.le_of_ble_eq_true rfl⟩ fc_X0 rfl (hx0 hX) rfl rfl hl.1 (Nat.le_of_ble_eq_true rfl) dX0_prunesKept_52 (fun rQ stQ hQ => wX0_table l E hX st12 rQ stQ hQ) hf (fun x20 st21 H locs hw hf => ?_)
      have hc0 := ck_e hf
      clear hf
      obtain ⟨hc, hf⟩ := hc0
      replace hc := of_decide_eq_true hc
      subst hc
      refine lv_iload_n hx hb dX0_prunesKept_55 rfl (lv_at hl 1 rfl) ?_
      refine fc_Vv (rest := []) (As := [.int p1]) X hw hm_X2_falls (lw_V q1263 q1264 q1265 q113 q1266) ⟨rfl, rfl⟩ ⟨by rw [hRf]; exact Nat.le_of_ble_eq_true rfl, by rw [hRl]; exact Nat.le_of_ble_eq_true rfl⟩ fc_X2 rfl (hx3 hX) rfl rfl hl.1 (Nat.le_of_ble_eq_true rfl) dX0_prunesKept_56 (fun stQ hQ => wX2_falls l E 3 p1 (hxT3 hX) st21 stQ hQ) hf (fun st23 H locs hw hf => ?_)
      refine lv_goto (tgt := 75) hx hb dX0_prunesKept_59 (by decide) ?_
      exact hk14 _ _ _ _ (lv_sub hl [0, 1] rfl) hw hf
    refine lv_bipush (v := (-2 : Int32)) hx hb dX0_prunesKept_30 (by decide) ?_
    exact fd_i hend hw hf dX0_prunesKept_32
  refine lv_iconst (v := (-1 : Int32)) hx hb dX0_prunesKept_17 (by decide) ?_
  exact fd_i hend hw hf dX0_prunesKept_18

/-- ForestRooms.prune -/
def fX0_prune (tg : Nat → Nat × Nat) (G : Nat) (p1 : Int32) (p2 : Int32) (st0 : fo_St) : Option (Int32 × fo_St) := bd_ (fX0_prunesKept tg G p1 p2 st0) (fun x1 st2 => bd_ (fX0_doneOr x1 st2) (fun x3 st4 => some (x3, st4)))
theorem hm_X0_prune : fo_M yX0_prune 2 := ⟨by decide +kernel, by decide +kernel, by decide +kernel, by decide +kernel⟩
set_option maxHeartbeats 4000000 in
theorem wX0_prune (l : Launch) (E : fo_E) (hX : fo_HX E) (G : Nat) (p1 : Int32) (p2 : Int32) (st0 : fo_St) (rZ : Int32) (stZ : fo_St) (hf : fX0_prune (et E) G p1 p2 st0 = some (rZ, stZ)) : CTi l E yX0_prune (ws_ yX0_prune cX0_prune 3 (some .int)) ({ frames := 5, cells := 0, slots := 0, locals := 117 }) [.ref (eb E + 0), .int p1, .int p2] st0 rZ stZ := by
  refine fe_i hm_X0_prune (Nat.le_of_ble_eq_true rfl) (fun p e R s m args below meth c Q hRf hRl X hend ls hl hw => ?_)
  have hx := X.1.1
  have hb := X.1.2.1
  have hl : lv_has ls 3 [(0, .ref (eb E + 0)), (1, .int p1), (2, .int p2)] := hl
  unfold fX0_prune at hf
  generalize s.heap = H at hw ⊢
  generalize ([] : List Loc) = locs at hw ⊢
  refine lv_aload_n hx hb dX0_prune_0 rfl (lv_at hl 0 rfl) ?_
  refine lv_aload_n hx hb dX0_prune_1 rfl (lv_at hl 0 rfl) ?_
  refine lv_iload_n hx hb dX0_prune_2 rfl (lv_at hl 1 rfl) ?_
  refine lv_iload_n hx hb dX0_prune_3 rfl (lv_at hl 2 rfl) ?_
  refine fc_Vi (rest := [.ref (eb E + 0)]) (As := [.int p1, .int p2]) X hw hm_X0_prunesKept (lw_V q1259 q1261 qs21 q111 q1262) ⟨rfl, rfl⟩ ⟨by rw [hRf]; exact Nat.le_of_ble_eq_true rfl, by rw [hRl]; exact Nat.le_of_ble_eq_true rfl⟩ fc_X0 rfl (hx0 hX) rfl rfl hl.1 (Nat.le_of_ble_eq_true rfl) dX0_prune_4 (fun rQ stQ hQ => wX0_prunesKept l E hX G p1 p2 st0 rQ stQ hQ) hf (fun x1 st2 H locs hw hf => ?_)
  refine fc_Vi (rest := []) (As := [.int x1]) X hw hm_X0_doneOr (lw_V q1251 q1253 qs20 q111 q1254) ⟨rfl, rfl⟩ ⟨by rw [hRf]; exact Nat.le_of_ble_eq_true rfl, by rw [hRl]; exact Nat.le_of_ble_eq_true rfl⟩ fc_X0 rfl (hx0 hX) rfl rfl hl.1 (Nat.le_of_ble_eq_true rfl) dX0_prune_7 (fun rQ stQ hQ => wX0_doneOr l E hX x1 st2 rQ stQ hQ) hf (fun x3 st4 H locs hw hf => ?_)
  exact fd_i hend hw hf dX0_prune_10

/-- ForestRooms.letsKept -/
def fX0_letsKept (tg : Nat → Nat × Nat) (G : Nat) (p1 : Int32) (p2 : Int32) (st0 : fo_St) : Option (Int32 × fo_St) := bd_ (fX0_isRoom p1 st0) (fun x1 st2 => if x1 = 0 then some ((-1 : Int32), st2) else bd_ (fX0_isFamily p2 st2) (fun x3 st4 => if ¬ x3 = 0 then bd_ (fX0_table st4) (fun x5 st6 => ck_ (decide (x5 = 3)) (ck_ (fo_in p1 16) (if ¬ (gi_ st6 6 p1.toNatClampNeg) = (-1 : Int32) then some ((-3 : Int32), st6) else bd_ (fX0_table st6) (fun x7 st8 => ck_ (decide (x7 = 3)) (bd_ (fX2_roomOf G 3 p2 st8) (fun x9 st10 => if ¬ x9 = (-1 : Int32) then some ((-3 : Int32), st10) else bd_ (fX0_isBarred tg G p2 p1 st10) (fun x11 st12 => if ¬ x11 = 0 then some ((-3 : Int32), st12) else bd_ (fX0_table st12) (fun x13 st14 => ck_ (decide (x13 = 3)) (bd_ (fX1_isLost 3 p1 st14) (fun x15 st16 => if x15 = 0 then bv_ (fX0_keeps tg G (2 : Int32) st16) (fun st18 => bd_ (fX0_table st18) (fun x19 st20 => ck_ (decide (x19 = 3)) (ck_ (fo_in p1 16) (lt_ (si_ st20 6 p1.toNatClampNeg p2) (fun st21 => some ((0 : Int32), st21)))))) else some ((-3 : Int32), st16))))))))))) else some ((-1 : Int32), st4)))
theorem hm_X0_letsKept : fo_M yX0_letsKept 2 := ⟨by decide +kernel, by decide +kernel, by decide +kernel, by decide +kernel⟩
set_option maxHeartbeats 4000000 in
theorem wX0_letsKept (l : Launch) (E : fo_E) (hX : fo_HX E) (G : Nat) (p1 : Int32) (p2 : Int32) (st0 : fo_St) (rZ : Int32) (stZ : fo_St) (hf : fX0_letsKept (et E) G p1 p2 st0 = some (rZ, stZ)) : CTi l E yX0_letsKept (ws_ yX0_letsKept cX0_letsKept 3 (some .int)) ({ frames := 131, cells := 0, slots := 0, locals := 7758 }) [.ref (eb E + 0), .int p1, .int p2] st0 rZ stZ := by
  refine fe_i hm_X0_letsKept (Nat.le_of_ble_eq_true rfl) (fun p e R s m args below meth c Q hRf hRl X hend ls hl hw => ?_)
  have hx := X.1.1
  have hb := X.1.2.1
  have hl : lv_has ls 3 [(0, .ref (eb E + 0)), (1, .int p1), (2, .int p2)] := hl
  unfold fX0_letsKept at hf
  generalize s.heap = H at hw ⊢
  generalize ([] : List Loc) = locs at hw ⊢
  refine lv_iload_n hx hb dX0_letsKept_0 rfl (lv_at hl 1 rfl) ?_
  refine fc_Si (rest := []) (As := [.int p1]) X hw hm_X0_isRoom (lw_S q546 q547 q111 q548) ⟨rfl, rfl⟩ ⟨by rw [hRf]; exact Nat.le_of_ble_eq_true rfl, by rw [hRl]; exact Nat.le_of_ble_eq_true rfl⟩ rfl rfl hl.1 (Nat.le_of_ble_eq_true rfl) dX0_letsKept_1 (fun rQ stQ hQ => wX0_isRoom l E hX p1 st0 rQ stQ hQ) hf (fun x1 st2 H locs hw hf => ?_)
  refine fb_zeq (tgt := 14) hx hb dX0_letsKept_4 (by decide) hf (fun hf => ?_) (fun hf => ?_)
  · refine lv_iconst (v := (-1 : Int32)) hx hb dX0_letsKept_14 (by decide) ?_
    exact fd_i hend hw hf dX0_letsKept_15
  refine lv_iload_n hx hb dX0_letsKept_7 rfl (lv_at hl 2 rfl) ?_
  refine fc_Si (rest := []) (As := [.int p2]) X hw hm_X0_isFamily (lw_S q1208 q1209 q111 q1210) ⟨rfl, rfl⟩ ⟨by rw [hRf]; exact Nat.le_of_ble_eq_true rfl, by rw [hRl]; exact Nat.le_of_ble_eq_true rfl⟩ rfl rfl hl.1 (Nat.le_of_ble_eq_true rfl) dX0_letsKept_8 (fun rQ stQ hQ => wX0_isFamily l E hX p2 st2 rQ stQ hQ) hf (fun x3 st4 H locs hw hf => ?_)
  refine fb_zne (tgt := 16) hx hb dX0_letsKept_11 (by decide) hf (fun hf => ?_) (fun hf => ?_)
  · refine lv_aload_n hx hb dX0_letsKept_16 rfl (lv_at hl 0 rfl) ?_
    refine fc_Vr (rest := []) (As := []) X hw hm_X0_table (lw_V q560 q562 qs6 q111 q563) ⟨rfl, rfl⟩ ⟨by rw [hRf]; exact Nat.le_of_ble_eq_true rfl, by rw [hRl]; exact Nat.le_of_ble_eq_true rfl⟩ fc_X0 rfl (hx0 hX) rfl rfl hl.1 (Nat.le_of_ble_eq_true rfl) dX0_letsKept_17 (fun rQ stQ hQ => wX0_table l E hX st4 rQ stQ hQ) hf (fun x5 st6 H locs hw hf => ?_)
    have hc0 := ck_e hf
    clear hf
    obtain ⟨hc, hf⟩ := hc0
    replace hc := of_decide_eq_true hc
    subst hc
    refine fo_getsN X hw fc_X2 (hx3 hX) (k := 2) (d := 3) (n2 := 6) (by decide) rfl rfl fn173 dX0_letsKept_20 ?_
    refine lv_iload_n hx hb dX0_letsKept_23 rfl (lv_at hl 1 rfl) ?_
    refine fo_iald X hw (hx6 hX) dX0_letsKept_24 hf (fun hf => ?_)
    refine lv_iconst (v := (-1 : Int32)) hx hb dX0_letsKept_25 (by decide) ?_
    refine fb_ine (tgt := 65) hx hb dX0_letsKept_26 (by decide) hf (fun hf => ?_) (fun hf => ?_)
    · refine lv_bipush (v := (-3 : Int32)) hx hb dX0_letsKept_65 (by decide) ?_
      exact fd_i hend hw hf dX0_letsKept_67
    refine lv_aload_n hx hb dX0_letsKept_29 rfl (lv_at hl 0 rfl) ?_
    refine fc_Vr (rest := []) (As := []) X hw hm_X0_table (lw_V q560 q562 qs6 q111 q563) ⟨rfl, rfl⟩ ⟨by rw [hRf]; exact Nat.le_of_ble_eq_true rfl, by rw [hRl]; exact Nat.le_of_ble_eq_true rfl⟩ fc_X0 rfl (hx0 hX) rfl rfl hl.1 (Nat.le_of_ble_eq_true rfl) dX0_letsKept_30 (fun rQ stQ hQ => wX0_table l E hX st6 rQ stQ hQ) hf (fun x7 st8 H locs hw hf => ?_)
    have hc0 := ck_e hf
    clear hf
    obtain ⟨hc, hf⟩ := hc0
    replace hc := of_decide_eq_true hc
    subst hc
    refine lv_iload_n hx hb dX0_letsKept_33 rfl (lv_at hl 2 rfl) ?_
    refine fc_Vi (rest := []) (As := [.int p2]) X hw hm_X2_roomOf (lw_V q1219 q1220 q1221 q113 q1222) ⟨rfl, rfl⟩ ⟨by rw [hRf]; exact Nat.le_of_ble_eq_true rfl, by rw [hRl]; exact Nat.le_of_ble_eq_true rfl⟩ fc_X2 rfl (hx3 hX) rfl rfl hl.1 (Nat.le_of_ble_eq_true rfl) dX0_letsKept_34 (fun rQ stQ hQ => wX2_roomOf l E G 3 p2 (hxT3 hX) st8 rQ stQ hQ) hf (fun x9 st10 H locs hw hf => ?_)
    refine lv_iconst (v := (-1 : Int32)) hx hb dX0_letsKept_37 (by decide) ?_
    refine fb_ine (tgt := 65) hx hb dX0_letsKept_38 (by decide) hf (fun hf => ?_) (fun hf => ?_)
    · refine lv_bipush (v := (-3 : Int32)) hx hb dX0_letsKept_65 (by decide) ?_
      exact fd_i hend hw hf dX0_letsKept_67
    refine lv_aload_n hx hb dX0_letsKept_41 rfl (lv_at hl 0 rfl) ?_
    refine lv_iload_n hx hb dX0_letsKept_42 rfl (lv_at hl 2 rfl) ?_
    refine lv_iload_n hx hb dX0_letsKept_43 rfl (lv_at hl 1 rfl) ?_
    refine fc_Vi (rest := []) (As := [.int p2, .int p1]) X hw hm_X0_isBarred (lw_V q1215 q1217 qs16 q111 q1218) ⟨rfl, rfl⟩ ⟨by rw [hRf]; exact Nat.le_of_ble_eq_true rfl, by rw [hRl]; exact Nat.le_of_ble_eq_true rfl⟩ fc_X0 rfl (hx0 hX) rfl rfl hl.1 (Nat.le_of_ble_eq_true rfl) dX0_letsKept_44 (fun rQ stQ hQ => wX0_isBarred l E hX G p2 p1 st10 rQ stQ hQ) hf (fun x11 st12 H locs hw hf => ?_)
    refine fb_zne (tgt := 65) hx hb dX0_letsKept_47 (by decide) hf (fun hf => ?_) (fun hf => ?_)
    · refine lv_bipush (v := (-3 : Int32)) hx hb dX0_letsKept_65 (by decide) ?_
      exact fd_i hend hw hf dX0_letsKept_67
    refine lv_aload_n hx hb dX0_letsKept_50 rfl (lv_at hl 0 rfl) ?_
    refine fo_gets X hw fc_X0 (hx0 hX) (k := 2) (d := 2) (n2 := 2) (by decide) rfl rfl q347 dX0_letsKept_51 ?_
    refine lv_aload_n hx hb dX0_letsKept_54 rfl (lv_at hl 0 rfl) ?_
    refine fc_Vr (rest := [.ref (eb E + 2)]) (As := []) X hw hm_X0_table (lw_V q560 q562 qs6 q111 q563) ⟨rfl, rfl⟩ ⟨by rw [hRf]; exact Nat.le_of_ble_eq_true rfl, by rw [hRl]; exact Nat.le_of_ble_eq_true rfl⟩ fc_X0 rfl (hx0 hX) rfl rfl hl.1 (Nat.le_of_ble_eq_true rfl) dX0_letsKept_55 (fun rQ stQ hQ => wX0_table l E hX st12 rQ stQ hQ) hf (fun x13 st14 H locs hw hf => ?_)
    have hc0 := ck_e hf
    clear hf
    obtain ⟨hc, hf⟩ := hc0
    replace hc := of_decide_eq_true hc
    subst hc
    refine lv_iload_n hx hb dX0_letsKept_58 rfl (lv_at hl 1 rfl) ?_
    refine fc_Vi (rest := []) (As := [.ref (eb E + 3), .int p1]) X hw hm_X1_isLost (lw_V q564 q565 q566 q112 q567) ⟨rfl, rfl⟩ ⟨by rw [hRf]; exact Nat.le_of_ble_eq_true rfl, by rw [hRl]; exact Nat.le_of_ble_eq_true rfl⟩ fc_X1 rfl (hx2 hX) rfl rfl hl.1 (Nat.le_of_ble_eq_true rfl) dX0_letsKept_59 (fun rQ stQ hQ => wX1_isLost l E hX 3 p1 (hxT3 hX) st14 rQ stQ hQ) hf (fun x15 st16 H locs hw hf => ?_)
    refine fb_zeq (tgt := 68) hx hb dX0_letsKept_62 (by decide) hf (fun hf => ?_) (fun hf => ?_)
    · refine lv_aload_n hx hb dX0_letsKept_68 rfl (lv_at hl 0 rfl) ?_
      refine lv_iconst (v := (2 : Int32)) hx hb dX0_letsKept_69 (by decide) ?_
      refine fc_Vv (rest := []) (As := [.int (2 : Int32)]) X hw hm_X0_keeps (lw_V q1242 q1244 qs19 q111 q1245) ⟨rfl, rfl⟩ ⟨by rw [hRf]; exact Nat.le_of_ble_eq_true rfl, by rw [hRl]; exact Nat.le_of_ble_eq_true rfl⟩ fc_X0 rfl (hx0 hX) rfl rfl hl.1 (Nat.le_of_ble_eq_true rfl) dX0_letsKept_70 (fun stQ hQ => wX0_keeps l E hX G (2 : Int32) st16 stQ hQ) hf (fun st18 H locs hw hf => ?_)
      refine lv_aload_n hx hb dX0_letsKept_73 rfl (lv_at hl 0 rfl) ?_
      refine fc_Vr (rest := []) (As := []) X hw hm_X0_table (lw_V q560 q562 qs6 q111 q563) ⟨rfl, rfl⟩ ⟨by rw [hRf]; exact Nat.le_of_ble_eq_true rfl, by rw [hRl]; exact Nat.le_of_ble_eq_true rfl⟩ fc_X0 rfl (hx0 hX) rfl rfl hl.1 (Nat.le_of_ble_eq_true rfl) dX0_letsKept_74 (fun rQ stQ hQ => wX0_table l E hX st18 rQ stQ hQ) hf (fun x19 st20 H locs hw hf => ?_)
      have hc0 := ck_e hf
      clear hf
      obtain ⟨hc, hf⟩ := hc0
      replace hc := of_decide_eq_true hc
      subst hc
      refine fo_getsN X hw fc_X2 (hx3 hX) (k := 2) (d := 3) (n2 := 6) (by decide) rfl rfl fn173 dX0_letsKept_77 ?_
      refine lv_iload_n hx hb dX0_letsKept_80 rfl (lv_at hl 1 rfl) ?_
      refine lv_iload_n hx hb dX0_letsKept_81 rfl (lv_at hl 2 rfl) ?_
      refine fo_iast X hw (hx6 hX) dX0_letsKept_82 hf (fun st21 H locs hw hf => ?_)
      refine lv_iconst (v := (0 : Int32)) hx hb dX0_letsKept_83 (by decide) ?_
      exact fd_i hend hw hf dX0_letsKept_84
    refine lv_bipush (v := (-3 : Int32)) hx hb dX0_letsKept_65 (by decide) ?_
    exact fd_i hend hw hf dX0_letsKept_67
  refine lv_iconst (v := (-1 : Int32)) hx hb dX0_letsKept_14 (by decide) ?_
  exact fd_i hend hw hf dX0_letsKept_15

/-- ForestRooms.let -/
def fX0_let (tg : Nat → Nat × Nat) (G : Nat) (p1 : Int32) (p2 : Int32) (st0 : fo_St) : Option (Int32 × fo_St) := bd_ (fX0_letsKept tg G p1 p2 st0) (fun x1 st2 => bd_ (fX0_doneOr x1 st2) (fun x3 st4 => some (x3, st4)))
theorem hm_X0_let : fo_M yX0_let 2 := ⟨by decide +kernel, by decide +kernel, by decide +kernel, by decide +kernel⟩
set_option maxHeartbeats 4000000 in
theorem wX0_let (l : Launch) (E : fo_E) (hX : fo_HX E) (G : Nat) (p1 : Int32) (p2 : Int32) (st0 : fo_St) (rZ : Int32) (stZ : fo_St) (hf : fX0_let (et E) G p1 p2 st0 = some (rZ, stZ)) : CTi l E yX0_let (ws_ yX0_let cX0_let 3 (some .int)) ({ frames := 132, cells := 0, slots := 0, locals := 7780 }) [.ref (eb E + 0), .int p1, .int p2] st0 rZ stZ := by
  refine fe_i hm_X0_let (Nat.le_of_ble_eq_true rfl) (fun p e R s m args below meth c Q hRf hRl X hend ls hl hw => ?_)
  have hx := X.1.1
  have hb := X.1.2.1
  have hl : lv_has ls 3 [(0, .ref (eb E + 0)), (1, .int p1), (2, .int p2)] := hl
  unfold fX0_let at hf
  generalize s.heap = H at hw ⊢
  generalize ([] : List Loc) = locs at hw ⊢
  refine lv_aload_n hx hb dX0_let_0 rfl (lv_at hl 0 rfl) ?_
  refine lv_aload_n hx hb dX0_let_1 rfl (lv_at hl 0 rfl) ?_
  refine lv_iload_n hx hb dX0_let_2 rfl (lv_at hl 1 rfl) ?_
  refine lv_iload_n hx hb dX0_let_3 rfl (lv_at hl 2 rfl) ?_
  refine fc_Vi (rest := [.ref (eb E + 0)]) (As := [.int p1, .int p2]) X hw hm_X0_letsKept (lw_V q1271 q1273 qs22 q111 q1274) ⟨rfl, rfl⟩ ⟨by rw [hRf]; exact Nat.le_of_ble_eq_true rfl, by rw [hRl]; exact Nat.le_of_ble_eq_true rfl⟩ fc_X0 rfl (hx0 hX) rfl rfl hl.1 (Nat.le_of_ble_eq_true rfl) dX0_let_4 (fun rQ stQ hQ => wX0_letsKept l E hX G p1 p2 st0 rQ stQ hQ) hf (fun x1 st2 H locs hw hf => ?_)
  refine fc_Vi (rest := []) (As := [.int x1]) X hw hm_X0_doneOr (lw_V q1251 q1253 qs20 q111 q1254) ⟨rfl, rfl⟩ ⟨by rw [hRf]; exact Nat.le_of_ble_eq_true rfl, by rw [hRl]; exact Nat.le_of_ble_eq_true rfl⟩ fc_X0 rfl (hx0 hX) rfl rfl hl.1 (Nat.le_of_ble_eq_true rfl) dX0_let_7 (fun rQ stQ hQ => wX0_doneOr l E hX x1 st2 rQ stQ hQ) hf (fun x3 st4 H locs hw hf => ?_)
  exact fd_i hend hw hf dX0_let_10

/-- ForestRooms.emptiesKept -/
def fX0_emptiesKept (tg : Nat → Nat × Nat) (G : Nat) (p1 : Int32) (st0 : fo_St) : Option (Int32 × fo_St) := bd_ (fX0_isRoom p1 st0) (fun x1 st2 => if ¬ x1 = 0 then bd_ (fX0_table st2) (fun x3 st4 => ck_ (decide (x3 = 3)) (ck_ (fo_in p1 16) (lI_ (gi_ st4 6 p1.toNatClampNeg) (fun x5 => if ¬ x5 = (-1 : Int32) then bv_ (fX0_keeps tg G (3 : Int32) st4) (fun st7 => bd_ (fX0_table st7) (fun x8 st9 => ck_ (decide (x8 = 3)) (ck_ (fo_in p1 16) (lt_ (si_ st9 6 p1.toNatClampNeg (-1 : Int32)) (fun st10 => some (x5, st10)))))) else some ((-2 : Int32), st4))))) else some ((-1 : Int32), st2))
theorem hm_X0_emptiesKept : fo_M yX0_emptiesKept 1 := ⟨by decide +kernel, by decide +kernel, by decide +kernel, by decide +kernel⟩
set_option maxHeartbeats 4000000 in
theorem wX0_emptiesKept (l : Launch) (E : fo_E) (hX : fo_HX E) (G : Nat) (p1 : Int32) (st0 : fo_St) (rZ : Int32) (stZ : fo_St) (hf : fX0_emptiesKept (et E) G p1 st0 = some (rZ, stZ)) : CTi l E yX0_emptiesKept (ws_ yX0_emptiesKept cX0_emptiesKept 3 (some .int)) ({ frames := 4, cells := 0, slots := 0, locals := 95 }) [.ref (eb E + 0), .int p1] st0 rZ stZ := by
  refine fe_i hm_X0_emptiesKept (Nat.le_of_ble_eq_true rfl) (fun p e R s m args below meth c Q hRf hRl X hend ls hl hw => ?_)
  have hx := X.1.1
  have hb := X.1.2.1
  have hl : lv_has ls 3 [(0, .ref (eb E + 0)), (1, .int p1)] := hl
  unfold fX0_emptiesKept at hf
  generalize s.heap = H at hw ⊢
  generalize ([] : List Loc) = locs at hw ⊢
  refine lv_iload_n hx hb dX0_emptiesKept_0 rfl (lv_at hl 1 rfl) ?_
  refine fc_Si (rest := []) (As := [.int p1]) X hw hm_X0_isRoom (lw_S q546 q547 q111 q548) ⟨rfl, rfl⟩ ⟨by rw [hRf]; exact Nat.le_of_ble_eq_true rfl, by rw [hRl]; exact Nat.le_of_ble_eq_true rfl⟩ rfl rfl hl.1 (Nat.le_of_ble_eq_true rfl) dX0_emptiesKept_1 (fun rQ stQ hQ => wX0_isRoom l E hX p1 st0 rQ stQ hQ) hf (fun x1 st2 H locs hw hf => ?_)
  refine fb_zne (tgt := 9) hx hb dX0_emptiesKept_4 (by decide) hf (fun hf => ?_) (fun hf => ?_)
  · refine lv_aload_n hx hb dX0_emptiesKept_9 rfl (lv_at hl 0 rfl) ?_
    refine fc_Vr (rest := []) (As := []) X hw hm_X0_table (lw_V q560 q562 qs6 q111 q563) ⟨rfl, rfl⟩ ⟨by rw [hRf]; exact Nat.le_of_ble_eq_true rfl, by rw [hRl]; exact Nat.le_of_ble_eq_true rfl⟩ fc_X0 rfl (hx0 hX) rfl rfl hl.1 (Nat.le_of_ble_eq_true rfl) dX0_emptiesKept_10 (fun rQ stQ hQ => wX0_table l E hX st2 rQ stQ hQ) hf (fun x3 st4 H locs hw hf => ?_)
    have hc0 := ck_e hf
    clear hf
    obtain ⟨hc, hf⟩ := hc0
    replace hc := of_decide_eq_true hc
    subst hc
    refine fo_getsN X hw fc_X2 (hx3 hX) (k := 2) (d := 3) (n2 := 6) (by decide) rfl rfl fn173 dX0_emptiesKept_13 ?_
    refine lv_iload_n hx hb dX0_emptiesKept_16 rfl (lv_at hl 1 rfl) ?_
    refine fo_iald X hw (hx6 hX) dX0_emptiesKept_17 hf (fun hf => ?_)
    refine fo_tI hf (fun x5 hf => ?_)
    refine lv_istore_n (lv' := [(2, .int x5), (0, .ref (eb E + 0)), (1, .int p1)]) hx hb dX0_emptiesKept_18 rfl hl (by decide) rfl (fun ls hl => ?_)
    refine lv_iload_n hx hb dX0_emptiesKept_19 rfl (lv_at hl 0 rfl) ?_
    refine lv_iconst (v := (-1 : Int32)) hx hb dX0_emptiesKept_20 (by decide) ?_
    refine fb_ine (tgt := 27) hx hb dX0_emptiesKept_21 (by decide) hf (fun hf => ?_) (fun hf => ?_)
    · refine lv_aload_n hx hb dX0_emptiesKept_27 rfl (lv_at hl 1 rfl) ?_
      refine lv_iconst (v := (3 : Int32)) hx hb dX0_emptiesKept_28 (by decide) ?_
      refine fc_Vv (rest := []) (As := [.int (3 : Int32)]) X hw hm_X0_keeps (lw_V q1242 q1244 qs19 q111 q1245) ⟨rfl, rfl⟩ ⟨by rw [hRf]; exact Nat.le_of_ble_eq_true rfl, by rw [hRl]; exact Nat.le_of_ble_eq_true rfl⟩ fc_X0 rfl (hx0 hX) rfl rfl hl.1 (Nat.le_of_ble_eq_true rfl) dX0_emptiesKept_29 (fun stQ hQ => wX0_keeps l E hX G (3 : Int32) st4 stQ hQ) hf (fun st7 H locs hw hf => ?_)
      refine lv_aload_n hx hb dX0_emptiesKept_32 rfl (lv_at hl 1 rfl) ?_
      refine fc_Vr (rest := []) (As := []) X hw hm_X0_table (lw_V q560 q562 qs6 q111 q563) ⟨rfl, rfl⟩ ⟨by rw [hRf]; exact Nat.le_of_ble_eq_true rfl, by rw [hRl]; exact Nat.le_of_ble_eq_true rfl⟩ fc_X0 rfl (hx0 hX) rfl rfl hl.1 (Nat.le_of_ble_eq_true rfl) dX0_emptiesKept_33 (fun rQ stQ hQ => wX0_table l E hX st7 rQ stQ hQ) hf (fun x8 st9 H locs hw hf => ?_)
      have hc0 := ck_e hf
      clear hf
      obtain ⟨hc, hf⟩ := hc0
      replace hc := of_decide_eq_true hc
      subst hc
      refine fo_getsN X hw fc_X2 (hx3 hX) (k := 2) (d := 3) (n2 := 6) (by decide) rfl rfl fn173 dX0_emptiesKept_36 ?_
      refine lv_iload_n hx hb dX0_emptiesKept_39 rfl (lv_at hl 2 rfl) ?_
      refine lv_iconst (v := (-1 : Int32)) hx hb dX0_emptiesKept_40 (by decide) ?_
      refine fo_iast X hw (hx6 hX) dX0_emptiesKept_41 hf (fun st10 H locs hw hf => ?_)
      refine lv_iload_n hx hb dX0_emptiesKept_42 rfl (lv_at hl 0 rfl) ?_
      exact fd_i hend hw hf dX0_emptiesKept_43
    refine lv_bipush (v := (-2 : Int32)) hx hb dX0_emptiesKept_24 (by decide) ?_
    exact fd_i hend hw hf dX0_emptiesKept_26
  refine lv_iconst (v := (-1 : Int32)) hx hb dX0_emptiesKept_7 (by decide) ?_
  exact fd_i hend hw hf dX0_emptiesKept_8

/-- ForestRooms.empty -/
def fX0_empty (tg : Nat → Nat × Nat) (G : Nat) (p1 : Int32) (st0 : fo_St) : Option (Int32 × fo_St) := bd_ (fX0_emptiesKept tg G p1 st0) (fun x1 st2 => bd_ (fX0_doneOr x1 st2) (fun x3 st4 => some (x3, st4)))
theorem hm_X0_empty : fo_M yX0_empty 1 := ⟨by decide +kernel, by decide +kernel, by decide +kernel, by decide +kernel⟩
set_option maxHeartbeats 4000000 in
theorem wX0_empty (l : Launch) (E : fo_E) (hX : fo_HX E) (G : Nat) (p1 : Int32) (st0 : fo_St) (rZ : Int32) (stZ : fo_St) (hf : fX0_empty (et E) G p1 st0 = some (rZ, stZ)) : CTi l E yX0_empty (ws_ yX0_empty cX0_empty 2 (some .int)) ({ frames := 5, cells := 0, slots := 0, locals := 117 }) [.ref (eb E + 0), .int p1] st0 rZ stZ := by
  refine fe_i hm_X0_empty (Nat.le_of_ble_eq_true rfl) (fun p e R s m args below meth c Q hRf hRl X hend ls hl hw => ?_)
  have hx := X.1.1
  have hb := X.1.2.1
  have hl : lv_has ls 2 [(0, .ref (eb E + 0)), (1, .int p1)] := hl
  unfold fX0_empty at hf
  generalize s.heap = H at hw ⊢
  generalize ([] : List Loc) = locs at hw ⊢
  refine lv_aload_n hx hb dX0_empty_0 rfl (lv_at hl 0 rfl) ?_
  refine lv_aload_n hx hb dX0_empty_1 rfl (lv_at hl 0 rfl) ?_
  refine lv_iload_n hx hb dX0_empty_2 rfl (lv_at hl 1 rfl) ?_
  refine fc_Vi (rest := [.ref (eb E + 0)]) (As := [.int p1]) X hw hm_X0_emptiesKept (lw_V q1279 q1281 qs23 q111 q1282) ⟨rfl, rfl⟩ ⟨by rw [hRf]; exact Nat.le_of_ble_eq_true rfl, by rw [hRl]; exact Nat.le_of_ble_eq_true rfl⟩ fc_X0 rfl (hx0 hX) rfl rfl hl.1 (Nat.le_of_ble_eq_true rfl) dX0_empty_3 (fun rQ stQ hQ => wX0_emptiesKept l E hX G p1 st0 rQ stQ hQ) hf (fun x1 st2 H locs hw hf => ?_)
  refine fc_Vi (rest := []) (As := [.int x1]) X hw hm_X0_doneOr (lw_V q1251 q1253 qs20 q111 q1254) ⟨rfl, rfl⟩ ⟨by rw [hRf]; exact Nat.le_of_ble_eq_true rfl, by rw [hRl]; exact Nat.le_of_ble_eq_true rfl⟩ fc_X0 rfl (hx0 hX) rfl rfl hl.1 (Nat.le_of_ble_eq_true rfl) dX0_empty_6 (fun rQ stQ hQ => wX0_doneOr l E hX x1 st2 rQ stQ hQ) hf (fun x3 st4 H locs hw hf => ?_)
  exact fd_i hend hw hf dX0_empty_9

/-- ForestRooms.beside -/
def fX0_beside (p1 : Int32) (p2 : Int32) (st0 : fo_St) : Option (Int32 × fo_St) := jn_ (fun (x1 : Int32) => lI_ ((irem_ p1 (4 : Int32)) + x1) (fun x3 => jn_ (fun (x4 : Int32) => lI_ ((p1 / (4 : Int32)) + x4) (fun x6 => bd_ (fX0_in x3 (0 : Int32) (3 : Int32) st0) (fun x7 st8 => if x7 = 0 then some ((-1 : Int32), st8) else bd_ (fX0_in x6 (0 : Int32) (3 : Int32) st8) (fun x9 st10 => if x9 = 0 then some ((-1 : Int32), st10) else some ((((4 : Int32) * x6) + x3), st10))))) (fun k5 => if ¬ p2 = 0 then if ¬ p2 = (2 : Int32) then k5 (0 : Int32) else k5 (1 : Int32) else k5 (-1 : Int32)))) (fun k2 => if ¬ p2 = (1 : Int32) then if ¬ p2 = (3 : Int32) then k2 (0 : Int32) else k2 (-1 : Int32) else k2 (1 : Int32))
theorem hm_X0_beside : fo_M yX0_beside 2 := ⟨by decide +kernel, by decide +kernel, by decide +kernel, by decide +kernel⟩
set_option maxHeartbeats 4000000 in
theorem wX0_beside (l : Launch) (E : fo_E) (hX : fo_HX E) (p1 : Int32) (p2 : Int32) (st0 : fo_St) (rZ : Int32) (stZ : fo_St) (hf : fX0_beside p1 p2 st0 = some (rZ, stZ)) : CTi l E yX0_beside (ws_ yX0_beside cX0_beside 4 (some .int)) ({ frames := 1, cells := 0, slots := 0, locals := 22 }) [.int p1, .int p2] st0 rZ stZ := by
  refine fe_i hm_X0_beside (Nat.le_of_ble_eq_true rfl) (fun p e R s m args below meth c Q hRf hRl X hend ls hl hw => ?_)
  have hx := X.1.1
  have hb := X.1.2.1
  have hl : lv_has ls 4 [(0, .int p1), (1, .int p2)] := hl
  unfold fX0_beside at hf
  generalize s.heap = H at hw ⊢
  generalize ([] : List Loc) = locs at hw ⊢
  refine lv_iload_n hx hb dX0_beside_0 rfl (lv_at hl 0 rfl) ?_
  refine lv_iconst (v := (4 : Int32)) hx hb dX0_beside_1 (by decide) ?_
  refine fb_iremK hx hb dX0_beside_2 (by decide) ?_
  refine lv_iload_n hx hb dX0_beside_3 rfl (lv_at hl 1 rfl) ?_
  refine lv_iconst (v := (1 : Int32)) hx hb dX0_beside_4 (by decide) ?_
  refine jn_e hf (fun k2 ek hf => ?_)
  have hk2 : ∀ (x1 : Int32) (H : Heap) (locs : List Loc) (ls : Array Slot), lv_has ls 4 [(0, .int p1), (1, .int p2)] → fo_S E s st0 H locs → k2 x1 = some (rZ, stZ) → W p l e R s m args below meth c H locs 0 0 Q (F0 m 22 ls [.int x1, .int (irem_ p1 (4 : Int32))]) := by
    intro x1 H locs ls hl hw hf
    rw [ek] at hf
    refine lv_iadd hx hb dX0_beside_22 ?_
    refine fo_tI hf (fun x3 hf => ?_)
    refine lv_istore_n (lv' := [(2, .int x3), (0, .int p1), (1, .int p2)]) hx hb dX0_beside_23 rfl hl (by decide) rfl (fun ls hl => ?_)
    refine lv_iload_n hx hb dX0_beside_24 rfl (lv_at hl 1 rfl) ?_
    refine lv_iconst (v := (4 : Int32)) hx hb dX0_beside_25 (by decide) ?_
    refine fb_idivK hx hb dX0_beside_26 (by decide) ?_
    refine lv_iload_n hx hb dX0_beside_27 rfl (lv_at hl 2 rfl) ?_
    refine jn_e hf (fun k5 ek hf => ?_)
    have hk5 : ∀ (x4 : Int32) (H : Heap) (locs : List Loc) (ls : Array Slot), lv_has ls 4 [(2, .int x3)] → fo_S E s st0 H locs → k5 x4 = some (rZ, stZ) → W p l e R s m args below meth c H locs 0 0 Q (F0 m 45 ls [.int x4, .int (p1 / (4 : Int32))]) := by
      intro x4 H locs ls hl hw hf
      rw [ek] at hf
      refine lv_iadd hx hb dX0_beside_45 ?_
      refine fo_tI hf (fun x6 hf => ?_)
      refine lv_istore_n (lv' := [(3, .int x6), (2, .int x3)]) hx hb dX0_beside_46 rfl hl (by decide) rfl (fun ls hl => ?_)
      refine lv_iload_n hx hb dX0_beside_47 rfl (lv_at hl 1 rfl) ?_
      refine lv_iconst (v := (0 : Int32)) hx hb dX0_beside_48 (by decide) ?_
      refine lv_iconst (v := (3 : Int32)) hx hb dX0_beside_49 (by decide) ?_
      refine fc_Si (rest := []) (As := [.int x3, .int (0 : Int32), .int (3 : Int32)]) X hw hm_X0_in (lw_S q437 q438 q111 q439) ⟨rfl, rfl⟩ ⟨by rw [hRf]; exact Nat.le_of_ble_eq_true rfl, by rw [hRl]; exact Nat.le_of_ble_eq_true rfl⟩ rfl rfl hl.1 (Nat.le_of_ble_eq_true rfl) dX0_beside_50 (fun rQ stQ hQ => wX0_in l E hX x3 (0 : Int32) (3 : Int32) st0 rQ stQ hQ) hf (fun x7 st8 H locs hw hf => ?_)
      refine fb_zeq (tgt := 73) hx hb dX0_beside_53 (by decide) hf (fun hf => ?_) (fun hf => ?_)
      · refine lv_iconst (v := (-1 : Int32)) hx hb dX0_beside_73 (by decide) ?_
        exact fd_i hend hw hf dX0_beside_74
      refine lv_iload_n hx hb dX0_beside_56 rfl (lv_at hl 0 rfl) ?_
      refine lv_iconst (v := (0 : Int32)) hx hb dX0_beside_57 (by decide) ?_
      refine lv_iconst (v := (3 : Int32)) hx hb dX0_beside_58 (by decide) ?_
      refine fc_Si (rest := []) (As := [.int x6, .int (0 : Int32), .int (3 : Int32)]) X hw hm_X0_in (lw_S q437 q438 q111 q439) ⟨rfl, rfl⟩ ⟨by rw [hRf]; exact Nat.le_of_ble_eq_true rfl, by rw [hRl]; exact Nat.le_of_ble_eq_true rfl⟩ rfl rfl hl.1 (Nat.le_of_ble_eq_true rfl) dX0_beside_59 (fun rQ stQ hQ => wX0_in l E hX x6 (0 : Int32) (3 : Int32) st8 rQ stQ hQ) hf (fun x9 st10 H locs hw hf => ?_)
      refine fb_zeq (tgt := 73) hx hb dX0_beside_62 (by decide) hf (fun hf => ?_) (fun hf => ?_)
      · refine lv_iconst (v := (-1 : Int32)) hx hb dX0_beside_73 (by decide) ?_
        exact fd_i hend hw hf dX0_beside_74
      refine lv_iconst (v := (4 : Int32)) hx hb dX0_beside_65 (by decide) ?_
      refine lv_iload_n hx hb dX0_beside_66 rfl (lv_at hl 0 rfl) ?_
      refine lv_imul hx hb dX0_beside_67 ?_
      refine lv_iload_n hx hb dX0_beside_68 rfl (lv_at hl 1 rfl) ?_
      refine lv_iadd hx hb dX0_beside_69 ?_
      refine lv_goto (tgt := 74) hx hb dX0_beside_70 (by decide) ?_
      exact fd_i hend hw hf dX0_beside_74
    clear ek
    refine fb_zne (tgt := 35) hx hb dX0_beside_28 (by decide) hf (fun hf => ?_) (fun hf => ?_)
    · refine lv_iload_n hx hb dX0_beside_35 rfl (lv_at hl 2 rfl) ?_
      refine lv_iconst (v := (2 : Int32)) hx hb dX0_beside_36 (by decide) ?_
      refine fb_ine (tgt := 44) hx hb dX0_beside_37 (by decide) hf (fun hf => ?_) (fun hf => ?_)
      · refine lv_iconst (v := (0 : Int32)) hx hb dX0_beside_44 (by decide) ?_
        exact hk5 _ _ _ _ (lv_sub hl [0] rfl) hw hf
      refine lv_iconst (v := (1 : Int32)) hx hb dX0_beside_40 (by decide) ?_
      refine lv_goto (tgt := 45) hx hb dX0_beside_41 (by decide) ?_
      exact hk5 _ _ _ _ (lv_sub hl [0] rfl) hw hf
    refine lv_iconst (v := (-1 : Int32)) hx hb dX0_beside_31 (by decide) ?_
    refine lv_goto (tgt := 45) hx hb dX0_beside_32 (by decide) ?_
    exact hk5 _ _ _ _ (lv_sub hl [0] rfl) hw hf
  clear ek
  refine fb_ine (tgt := 12) hx hb dX0_beside_5 (by decide) hf (fun hf => ?_) (fun hf => ?_)
  · refine lv_iload_n hx hb dX0_beside_12 rfl (lv_at hl 1 rfl) ?_
    refine lv_iconst (v := (3 : Int32)) hx hb dX0_beside_13 (by decide) ?_
    refine fb_ine (tgt := 21) hx hb dX0_beside_14 (by decide) hf (fun hf => ?_) (fun hf => ?_)
    · refine lv_iconst (v := (0 : Int32)) hx hb dX0_beside_21 (by decide) ?_
      exact hk2 _ _ _ _ (lv_sub hl [0, 1] rfl) hw hf
    refine lv_iconst (v := (-1 : Int32)) hx hb dX0_beside_17 (by decide) ?_
    refine lv_goto (tgt := 22) hx hb dX0_beside_18 (by decide) ?_
    exact hk2 _ _ _ _ (lv_sub hl [0, 1] rfl) hw hf
  refine lv_iconst (v := (1 : Int32)) hx hb dX0_beside_8 (by decide) ?_
  refine lv_goto (tgt := 22) hx hb dX0_beside_9 (by decide) ?_
  exact hk2 _ _ _ _ (lv_sub hl [0, 1] rfl) hw hf

/-- ForestRooms.newcomer -/
def fX0_newcomer (tg : Nat → Nat × Nat) (G : Nat) (p1 : Nat) (p2 : Int32) (st0 : fo_St) : Option (Int32 × fo_St) := lp2_ (fun rec3 (x1 : Int32) (st2 : fo_St) => if (6 : Int32) ≤ x1 then some ((-1 : Int32), st2) else lp3_ (fun rec7 (x4 : Int32) (x5 : Int32) (st6 : fo_St) => if (4 : Int32) ≤ x4 then if x5 ≤ 0 then rec3 (x1 + (1 : Int32)) st6 else bd_ (fX0_comes_2 tg G p1 x1 p2 x5 st6) (fun x8 st9 => if x8 = 0 then rec3 (x1 + (1 : Int32)) st9 else some (x1, st9)) else bd_ (fX0_beside p2 x4 st6) (fun x10 st11 => if x10 = (-1 : Int32) then rec7 (x4 + (1 : Int32)) x5 st11 else ck_ (fo_in x10 16) (if ¬ (gi_ st11 (p1 + 1) x10.toNatClampNeg) = x1 then rec7 (x4 + (1 : Int32)) x5 st11 else ck_ (fo_in x10 16) (bd_ (fX0_term (1 : Int32) st11) (fun x12 st13 => if (gi_ st11 (p1 + 2) x10.toNatClampNeg) < x12 then rec7 (x4 + (1 : Int32)) x5 st13 else ck_ (fo_in x10 16) (lI_ (mxI_ x5 (gi_ st13 (p1 + 2) x10.toNatClampNeg)) (fun x14 => rec7 (x4 + (1 : Int32)) x14 st13))))))) G (0 : Int32) (0 : Int32) st2) G (0 : Int32) st0
theorem hm_X0_newcomer : fo_M yX0_newcomer 2 := ⟨by decide +kernel, by decide +kernel, by decide +kernel, by decide +kernel⟩
set_option maxHeartbeats 4000000 in
theorem wX0_newcomer (l : Launch) (E : fo_E) (hX : fo_HX E) (G : Nat) (p1 : Nat) (p2 : Int32) (hT_p1 : fo_tab E p1) (st0 : fo_St) (rZ : Int32) (stZ : fo_St) (hf : fX0_newcomer (et E) G p1 p2 st0 = some (rZ, stZ)) : CTi l E yX0_newcomer (ws_ yX0_newcomer cX0_newcomer 7 (some .int)) ({ frames := 131, cells := 0, slots := 0, locals := 7760 }) [.ref (eb E + 0), .ref (eb E + p1), .int p2] st0 rZ stZ := by
  refine fe_i hm_X0_newcomer (Nat.le_of_ble_eq_true rfl) (fun p e R s m args below meth c Q hRf hRl X hend ls hl hw => ?_)
  have hx := X.1.1
  have hb := X.1.2.1
  have hl : lv_has ls 7 [(0, .ref (eb E + 0)), (1, .ref (eb E + p1)), (2, .int p2)] := hl
  unfold fX0_newcomer at hf
  generalize s.heap = H at hw ⊢
  generalize ([] : List Loc) = locs at hw ⊢
  refine lv_iconst (v := (0 : Int32)) hx hb dX0_newcomer_0 (by decide) ?_
  refine lv_istore_n (lv' := [(3, .int (0 : Int32)), (0, .ref (eb E + 0)), (1, .ref (eb E + p1)), (2, .int p2)]) hx hb dX0_newcomer_1 rfl hl (by decide) rfl (fun ls hl => ?_)
  refine lp2_e (P := fun x1 st2 => ∀ (H : Heap) (locs : List Loc) (ls : Array Slot), lv_has ls 7 [(3, .int x1), (0, .ref (eb E + 0)), (1, .ref (eb E + p1)), (2, .int p2)] → fo_S E s st2 H locs → W p l e R s m args below meth c H locs 0 0 Q (F0 m 2 ls [])) (fun rec3 hrec3 x1 st2 hf => ?_) G _ _ hf H locs ls (lv_sub hl [0, 1, 2, 3] rfl) hw
  intro H locs ls hl hw
  refine lv_iload_n hx hb dX0_newcomer_2 rfl (lv_at hl 0 rfl) ?_
  refine lv_bipush (v := (6 : Int32)) hx hb dX0_newcomer_3 (by decide) ?_
  refine fb_ige (tgt := 105) hx hb dX0_newcomer_5 (by decide) hf (fun hf => ?_) (fun hf => ?_)
  · refine lv_iconst (v := (-1 : Int32)) hx hb dX0_newcomer_105 (by decide) ?_
    exact fd_i hend hw hf dX0_newcomer_106
  refine lv_iconst (v := (0 : Int32)) hx hb dX0_newcomer_8 (by decide) ?_
  refine lv_istore (lv' := [(4, .int (0 : Int32)), (3, .int x1), (0, .ref (eb E + 0)), (1, .ref (eb E + p1)), (2, .int p2)]) hx hb dX0_newcomer_9 hl (by decide) rfl (fun ls hl => ?_)
  refine lv_iconst (v := (0 : Int32)) hx hb dX0_newcomer_11 (by decide) ?_
  refine lv_istore (lv' := [(5, .int (0 : Int32)), (4, .int (0 : Int32)), (3, .int x1), (0, .ref (eb E + 0)), (1, .ref (eb E + p1)), (2, .int p2)]) hx hb dX0_newcomer_12 hl (by decide) rfl (fun ls hl => ?_)
  refine lp3_e (P := fun x4 x5 st6 => ∀ (H : Heap) (locs : List Loc) (ls : Array Slot), lv_has ls 7 [(5, .int x4), (4, .int x5), (3, .int x1), (0, .ref (eb E + 0)), (1, .ref (eb E + p1)), (2, .int p2)] → fo_S E s st6 H locs → W p l e R s m args below meth c H locs 0 0 Q (F0 m 14 ls [])) (fun rec7 hrec7 x4 x5 st6 hf => ?_) G _ _ _ hf H locs ls (lv_sub hl [0, 1, 2, 3, 4, 5] rfl) hw
  intro H locs ls hl hw
  refine lv_iload hx hb dX0_newcomer_14 (lv_at hl 0 rfl) ?_
  refine lv_iconst (v := (4 : Int32)) hx hb dX0_newcomer_16 (by decide) ?_
  refine fb_ige (tgt := 80) hx hb dX0_newcomer_17 (by decide) hf (fun hf => ?_) (fun hf => ?_)
  · refine lv_iload hx hb dX0_newcomer_80 (lv_at hl 1 rfl) ?_
    refine fb_zle (tgt := 99) hx hb dX0_newcomer_82 (by decide) hf (fun hf => ?_) (fun hf => ?_)
    · refine fb_iinc (v := (1 : Int32)) (lv' := [(3, .int (x1 + (1 : Int32))), (5, .int x4), (4, .int x5), (0, .ref (eb E + 0)), (1, .ref (eb E + p1)), (2, .int p2)]) hx hb dX0_newcomer_99 hl (k := 2) rfl (by decide) (by decide) rfl (fun ls hl => ?_)
      refine lv_goto (tgt := 2) hx hb dX0_newcomer_102 (by decide) ?_
      exact hrec3 _ _ hf _ _ _ (lv_sub hl [0, 3, 4, 5] rfl) hw
    refine lv_aload_n hx hb dX0_newcomer_85 rfl (lv_at hl 3 rfl) ?_
    refine lv_aload_n hx hb dX0_newcomer_86 rfl (lv_at hl 4 rfl) ?_
    refine lv_iload_n hx hb dX0_newcomer_87 rfl (lv_at hl 2 rfl) ?_
    refine lv_iload_n hx hb dX0_newcomer_88 rfl (lv_at hl 5 rfl) ?_
    refine lv_iload hx hb dX0_newcomer_89 (lv_at hl 1 rfl) ?_
    refine fc_Vi (rest := []) (As := [.ref (eb E + p1), .int x1, .int p2, .int x5]) X hw hm_X0_comes_2 (lw_V q1227 q1229 qs17 q111 q1230) ⟨rfl, rfl⟩ ⟨by rw [hRf]; exact Nat.le_of_ble_eq_true rfl, by rw [hRl]; exact Nat.le_of_ble_eq_true rfl⟩ fc_X0 rfl (hx0 hX) rfl rfl hl.1 (Nat.le_of_ble_eq_true rfl) dX0_newcomer_91 (fun rQ stQ hQ => wX0_comes_2 l E hX G p1 x1 p2 x5 hT_p1 st6 rQ stQ hQ) hf (fun x8 st9 H locs hw hf => ?_)
    refine fb_zeq (tgt := 99) hx hb dX0_newcomer_94 (by decide) hf (fun hf => ?_) (fun hf => ?_)
    · refine fb_iinc (v := (1 : Int32)) (lv' := [(3, .int (x1 + (1 : Int32))), (5, .int x4), (4, .int x5), (0, .ref (eb E + 0)), (1, .ref (eb E + p1)), (2, .int p2)]) hx hb dX0_newcomer_99 hl (k := 2) rfl (by decide) (by decide) rfl (fun ls hl => ?_)
      refine lv_goto (tgt := 2) hx hb dX0_newcomer_102 (by decide) ?_
      exact hrec3 _ _ hf _ _ _ (lv_sub hl [0, 3, 4, 5] rfl) hw
    refine lv_iload_n hx hb dX0_newcomer_97 rfl (lv_at hl 2 rfl) ?_
    exact fd_i hend hw hf dX0_newcomer_98
  refine lv_iload_n hx hb dX0_newcomer_20 rfl (lv_at hl 5 rfl) ?_
  refine lv_iload hx hb dX0_newcomer_21 (lv_at hl 0 rfl) ?_
  refine fc_Si (rest := []) (As := [.int p2, .int x4]) X hw hm_X0_beside (lw_S q1300 q1301 q111 q1302) ⟨rfl, rfl⟩ ⟨by rw [hRf]; exact Nat.le_of_ble_eq_true rfl, by rw [hRl]; exact Nat.le_of_ble_eq_true rfl⟩ rfl rfl hl.1 (Nat.le_of_ble_eq_true rfl) dX0_newcomer_23 (fun rQ stQ hQ => wX0_beside l E hX p2 x4 st6 rQ stQ hQ) hf (fun x10 st11 H locs hw hf => ?_)
  refine lv_istore (lv' := [(6, .int x10), (5, .int x4), (4, .int x5), (3, .int x1), (0, .ref (eb E + 0)), (1, .ref (eb E + p1)), (2, .int p2)]) hx hb dX0_newcomer_26 hl (by decide) rfl (fun ls hl => ?_)
  refine lv_iload hx hb dX0_newcomer_28 (lv_at hl 0 rfl) ?_
  refine lv_iconst (v := (-1 : Int32)) hx hb dX0_newcomer_30 (by decide) ?_
  refine fb_ieq (tgt := 74) hx hb dX0_newcomer_31 (by decide) hf (fun hf => ?_) (fun hf => ?_)
  · refine fb_iinc (v := (1 : Int32)) (lv' := [(5, .int (x4 + (1 : Int32))), (6, .int x10), (4, .int x5), (3, .int x1), (0, .ref (eb E + 0)), (1, .ref (eb E + p1)), (2, .int p2)]) hx hb dX0_newcomer_74 hl (k := 1) rfl (by decide) (by decide) rfl (fun ls hl => ?_)
    refine lv_goto (tgt := 14) hx hb dX0_newcomer_77 (by decide) ?_
    exact hrec7 _ _ _ hf _ _ _ (lv_sub hl [0, 2, 3, 4, 5, 6] rfl) hw
  refine lv_aload_n hx hb dX0_newcomer_34 rfl (lv_at hl 5 rfl) ?_
  refine fo_getsN X hw fc_X2 hT_p1.1 (k := 0) (d := 1) (n2 := (p1 + 1)) (by decide) rfl rfl fn168 dX0_newcomer_35 ?_
  refine lv_iload hx hb dX0_newcomer_38 (lv_at hl 0 rfl) ?_
  refine fo_iald X hw hT_p1.2.1 dX0_newcomer_40 hf (fun hf => ?_)
  refine lv_iload_n hx hb dX0_newcomer_41 rfl (lv_at hl 3 rfl) ?_
  refine fb_ine (tgt := 74) hx hb dX0_newcomer_42 (by decide) hf (fun hf => ?_) (fun hf => ?_)
  · refine fb_iinc (v := (1 : Int32)) (lv' := [(5, .int (x4 + (1 : Int32))), (6, .int x10), (4, .int x5), (3, .int x1), (0, .ref (eb E + 0)), (1, .ref (eb E + p1)), (2, .int p2)]) hx hb dX0_newcomer_74 hl (k := 1) rfl (by decide) (by decide) rfl (fun ls hl => ?_)
    refine lv_goto (tgt := 14) hx hb dX0_newcomer_77 (by decide) ?_
    exact hrec7 _ _ _ hf _ _ _ (lv_sub hl [0, 2, 3, 4, 5, 6] rfl) hw
  refine lv_aload_n hx hb dX0_newcomer_45 rfl (lv_at hl 5 rfl) ?_
  refine fo_getsN X hw fc_X2 hT_p1.1 (k := 1) (d := 2) (n2 := (p1 + 2)) (by decide) rfl rfl fn171 dX0_newcomer_46 ?_
  refine lv_iload hx hb dX0_newcomer_49 (lv_at hl 0 rfl) ?_
  refine fo_iald X hw hT_p1.2.2.1 dX0_newcomer_51 hf (fun hf => ?_)
  refine lv_aload_n hx hb dX0_newcomer_52 rfl (lv_at hl 4 rfl) ?_
  refine lv_iconst (v := (1 : Int32)) hx hb dX0_newcomer_53 (by decide) ?_
  refine fc_Vi (rest := [.int (gi_ st11 (p1 + 2) x10.toNatClampNeg)]) (As := [.int (1 : Int32)]) X hw hm_X0_term (lw_V q581 q583 qs9 q111 q584) ⟨rfl, rfl⟩ ⟨by rw [hRf]; exact Nat.le_of_ble_eq_true rfl, by rw [hRl]; exact Nat.le_of_ble_eq_true rfl⟩ fc_X0 rfl (hx0 hX) rfl rfl hl.1 (Nat.le_of_ble_eq_true rfl) dX0_newcomer_54 (fun rQ stQ hQ => wX0_term l E hX (1 : Int32) st11 rQ stQ hQ) hf (fun x12 st13 H locs hw hf => ?_)
  refine fb_ilt (tgt := 74) hx hb dX0_newcomer_57 (by decide) hf (fun hf => ?_) (fun hf => ?_)
  · refine fb_iinc (v := (1 : Int32)) (lv' := [(5, .int (x4 + (1 : Int32))), (6, .int x10), (4, .int x5), (3, .int x1), (0, .ref (eb E + 0)), (1, .ref (eb E + p1)), (2, .int p2)]) hx hb dX0_newcomer_74 hl (k := 1) rfl (by decide) (by decide) rfl (fun ls hl => ?_)
    refine lv_goto (tgt := 14) hx hb dX0_newcomer_77 (by decide) ?_
    exact hrec7 _ _ _ hf _ _ _ (lv_sub hl [0, 2, 3, 4, 5, 6] rfl) hw
  refine lv_iload hx hb dX0_newcomer_60 (lv_at hl 2 rfl) ?_
  refine lv_aload_n hx hb dX0_newcomer_62 rfl (lv_at hl 5 rfl) ?_
  refine fo_getsN X hw fc_X2 hT_p1.1 (k := 1) (d := 2) (n2 := (p1 + 2)) (by decide) rfl rfl fn171 dX0_newcomer_63 ?_
  refine lv_iload hx hb dX0_newcomer_66 (lv_at hl 0 rfl) ?_
  refine fo_iald X hw hT_p1.2.2.1 dX0_newcomer_68 hf (fun hf => ?_)
  refine fo_mxI (rest := []) X hl.1 q1303 q522 q124 q523 (by rw [hRf]; exact Nat.le_of_ble_eq_true rfl) (by rw [hRl]; exact Nat.le_of_ble_eq_true rfl) dX0_newcomer_69 ?_
  refine fo_tI hf (fun x14 hf => ?_)
  refine lv_istore (lv' := [(4, .int x14), (6, .int x10), (5, .int x4), (3, .int x1), (0, .ref (eb E + 0)), (1, .ref (eb E + p1)), (2, .int p2)]) hx hb dX0_newcomer_72 hl (by decide) rfl (fun ls hl => ?_)
  refine fb_iinc (v := (1 : Int32)) (lv' := [(5, .int (x4 + (1 : Int32))), (4, .int x14), (6, .int x10), (3, .int x1), (0, .ref (eb E + 0)), (1, .ref (eb E + p1)), (2, .int p2)]) hx hb dX0_newcomer_74 hl (k := 2) rfl (by decide) (by decide) rfl (fun ls hl => ?_)
  refine lv_goto (tgt := 14) hx hb dX0_newcomer_77 (by decide) ?_
  exact hrec7 _ _ _ hf _ _ _ (lv_sub hl [0, 1, 3, 4, 5, 6] rfl) hw

/-- ForestRooms.passes -/
def fX0_passes (tg : Nat → Nat × Nat) (G : Nat) (p1 : Nat) (st0 : fo_St) : Option (Int32 × fo_St) := lp2_ (fun rec3 (x1 : Int32) (st2 : fo_St) => if (16 : Int32) ≤ x1 then lp2_ (fun rec6 (x4 : Int32) (st5 : fo_St) => if (16 : Int32) ≤ x4 then lp2_ (fun rec9 (x7 : Int32) (st8 : fo_St) => if (16 : Int32) ≤ x7 then lp3_ (fun rec13 (x10 : Int32) (x11 : Int32) (st12 : fo_St) => if (16 : Int32) ≤ x10 then lt_ (si_ st12 p1 3 ((gi_ st12 p1 3) + (1 : Int32))) (fun st14 => some (x11, st14)) else ck_ (fo_in x10 16) (jn_ (fun (st15 : fo_St) => ck_ (fo_in x10 16) (if (gi_ st15 (p1 + 3) x10.toNatClampNeg) = (-1 : Int32) then rec13 (x10 + (1 : Int32)) x11 st15 else bd_ (fX1_isLost p1 x10 st15) (fun x17 st18 => if ¬ x17 = 0 then ck_ (fo_in x10 16) (lt_ (si_ st18 (p1 + 3) x10.toNatClampNeg (-1 : Int32)) (fun st19 => rec13 (x10 + (1 : Int32)) (x11 + (1 : Int32)) st19)) else rec13 (x10 + (1 : Int32)) x11 st18))) (fun k16 => if (gi_ st12 33 x10.toNatClampNeg) = (-1 : Int32) then k16 st12 else ck_ (fo_in x10 16) (bv_ (fX2_plants p1 x10 (gi_ st12 33 x10.toNatClampNeg) st12) (fun st21 => k16 st21))))) G (0 : Int32) (0 : Int32) st8 else bd_ (fX2_isTree p1 x7 st8) (fun x22 st23 => jn_ (fun (x24 : Int32) (st25 : fo_St) => ck_ (fo_in x7 16) (lt_ (si_ st25 33 x7.toNatClampNeg x24) (fun st27 => rec9 (x7 + (1 : Int32)) st27))) (fun k26 => if x22 = 0 then bd_ (fX0_newcomer tg G p1 x7 st23) (fun x28 st29 => k26 x28 st29) else k26 (-1 : Int32) st23))) G (0 : Int32) st5 else bd_ (fX2_isTree p1 x4 st5) (fun x30 st31 => jn_ (fun (x32 : Int32) (st33 : fo_St) => ck_ (fo_in x4 16) (lt_ (si_ st33 (p1 + 2) x4.toNatClampNeg x32) (fun st35 => rec6 (x4 + (1 : Int32)) st35))) (fun k34 => if x30 = 0 then k34 (0 : Int32) st31 else ck_ (fo_in x4 16) (ck_ (fo_in x4 16) (k34 (mnI_ (99 : Int32) ((gi_ st31 (p1 + 2) x4.toNatClampNeg) + (gi_ st31 34 x4.toNatClampNeg))) st31))))) G (0 : Int32) st2 else bd_ (fX2_isTree p1 x1 st2) (fun x36 st37 => jn_ (fun (x38 : Int32) (st39 : fo_St) => ck_ (fo_in x1 16) (lt_ (si_ st39 34 x1.toNatClampNeg x38) (fun st41 => rec3 (x1 + (1 : Int32)) st41))) (fun k40 => if x36 = 0 then k40 (0 : Int32) st37 else bd_ (fX0_grows tg G p1 x1 st37) (fun x42 st43 => k40 x42 st43)))) G (0 : Int32) st0
theorem hm_X0_passes : fo_M yX0_passes 1 := ⟨by decide +kernel, by decide +kernel, by decide +kernel, by decide +kernel⟩
set_option maxHeartbeats 4000000 in
theorem wX0_passes (l : Launch) (E : fo_E) (hX : fo_HX E) (G : Nat) (p1 : Nat) (hT_p1 : fo_tab E p1) (st0 : fo_St) (rZ : Int32) (stZ : fo_St) (hf : fX0_passes (et E) G p1 st0 = some (rZ, stZ)) : CTi l E yX0_passes (ws_ yX0_passes cX0_passes 4 (some .int)) ({ frames := 132, cells := 0, slots := 0, locals := 7786 }) [.ref (eb E + 0), .ref (eb E + p1)] st0 rZ stZ := by
  refine fe_i hm_X0_passes (Nat.le_of_ble_eq_true rfl) (fun p e R s m args below meth c Q hRf hRl X hend ls hl hw => ?_)
  have hx := X.1.1
  have hb := X.1.2.1
  have hl : lv_has ls 4 [(0, .ref (eb E + 0)), (1, .ref (eb E + p1))] := hl
  unfold fX0_passes at hf
  generalize s.heap = H at hw ⊢
  generalize ([] : List Loc) = locs at hw ⊢
  refine lv_iconst (v := (0 : Int32)) hx hb dX0_passes_0 (by decide) ?_
  refine lv_istore_n (lv' := [(2, .int (0 : Int32)), (0, .ref (eb E + 0)), (1, .ref (eb E + p1))]) hx hb dX0_passes_1 rfl hl (by decide) rfl (fun ls hl => ?_)
  refine lp2_e (P := fun x1 st2 => ∀ (H : Heap) (locs : List Loc) (ls : Array Slot), lv_has ls 4 [(2, .int x1), (0, .ref (eb E + 0)), (1, .ref (eb E + p1))] → fo_S E s st2 H locs → W p l e R s m args below meth c H locs 0 0 Q (F0 m 2 ls [])) (fun rec3 hrec3 x1 st2 hf => ?_) G _ _ hf H locs ls (lv_sub hl [0, 1, 2] rfl) hw
  intro H locs ls hl hw
  refine lv_iload_n hx hb dX0_passes_2 rfl (lv_at hl 0 rfl) ?_
  refine lv_bipush (v := (16 : Int32)) hx hb dX0_passes_3 (by decide) ?_
  refine fb_ige (tgt := 38) hx hb dX0_passes_5 (by decide) hf (fun hf => ?_) (fun hf => ?_)
  · refine lv_iconst (v := (0 : Int32)) hx hb dX0_passes_38 (by decide) ?_
    refine lv_istore_n (lv' := [(2, .int (0 : Int32)), (0, .ref (eb E + 0)), (1, .ref (eb E + p1))]) hx hb dX0_passes_39 rfl hl (by decide) rfl (fun ls hl => ?_)
    refine lp2_e (P := fun x4 st5 => ∀ (H : Heap) (locs : List Loc) (ls : Array Slot), lv_has ls 4 [(2, .int x4), (0, .ref (eb E + 0)), (1, .ref (eb E + p1))] → fo_S E s st5 H locs → W p l e R s m args below meth c H locs 0 0 Q (F0 m 40 ls [])) (fun rec6 hrec6 x4 st5 hf => ?_) G _ _ hf H locs ls (lv_sub hl [0, 1, 2] rfl) hw
    intro H locs ls hl hw
    refine lv_iload_n hx hb dX0_passes_40 rfl (lv_at hl 0 rfl) ?_
    refine lv_bipush (v := (16 : Int32)) hx hb dX0_passes_41 (by decide) ?_
    refine fb_ige (tgt := 88) hx hb dX0_passes_43 (by decide) hf (fun hf => ?_) (fun hf => ?_)
    · refine lv_iconst (v := (0 : Int32)) hx hb dX0_passes_88 (by decide) ?_
      refine lv_istore_n (lv' := [(2, .int (0 : Int32)), (0, .ref (eb E + 0)), (1, .ref (eb E + p1))]) hx hb dX0_passes_89 rfl hl (by decide) rfl (fun ls hl => ?_)
      refine lp2_e (P := fun x7 st8 => ∀ (H : Heap) (locs : List Loc) (ls : Array Slot), lv_has ls 4 [(2, .int x7), (0, .ref (eb E + 0)), (1, .ref (eb E + p1))] → fo_S E s st8 H locs → W p l e R s m args below meth c H locs 0 0 Q (F0 m 90 ls [])) (fun rec9 hrec9 x7 st8 hf => ?_) G _ _ hf H locs ls (lv_sub hl [0, 1, 2] rfl) hw
      intro H locs ls hl hw
      refine lv_iload_n hx hb dX0_passes_90 rfl (lv_at hl 0 rfl) ?_
      refine lv_bipush (v := (16 : Int32)) hx hb dX0_passes_91 (by decide) ?_
      refine fb_ige (tgt := 126) hx hb dX0_passes_93 (by decide) hf (fun hf => ?_) (fun hf => ?_)
      · refine lv_iconst (v := (0 : Int32)) hx hb dX0_passes_126 (by decide) ?_
        refine lv_istore_n (lv' := [(2, .int (0 : Int32)), (0, .ref (eb E + 0)), (1, .ref (eb E + p1))]) hx hb dX0_passes_127 rfl hl (by decide) rfl (fun ls hl => ?_)
        refine lv_iconst (v := (0 : Int32)) hx hb dX0_passes_128 (by decide) ?_
        refine lv_istore_n (lv' := [(3, .int (0 : Int32)), (2, .int (0 : Int32)), (0, .ref (eb E + 0)), (1, .ref (eb E + p1))]) hx hb dX0_passes_129 rfl hl (by decide) rfl (fun ls hl => ?_)
        refine lp3_e (P := fun x10 x11 st12 => ∀ (H : Heap) (locs : List Loc) (ls : Array Slot), lv_has ls 4 [(3, .int x10), (2, .int x11), (0, .ref (eb E + 0)), (1, .ref (eb E + p1))] → fo_S E s st12 H locs → W p l e R s m args below meth c H locs 0 0 Q (F0 m 130 ls [])) (fun rec13 hrec13 x10 x11 st12 hf => ?_) G _ _ _ hf H locs ls (lv_sub hl [0, 1, 2, 3] rfl) hw
        intro H locs ls hl hw
        refine lv_iload_n hx hb dX0_passes_130 rfl (lv_at hl 0 rfl) ?_
        refine lv_bipush (v := (16 : Int32)) hx hb dX0_passes_131 (by decide) ?_
        refine fb_ige (tgt := 198) hx hb dX0_passes_133 (by decide) hf (fun hf => ?_) (fun hf => ?_)
        · refine lv_aload_n hx hb dX0_passes_198 rfl (lv_at hl 3 rfl) ?_
          refine lv_dup hx hb dX0_passes_199 rfl ?_
          refine fo_getiN X hw fc_X2 hT_p1.1 (k := 3) (by decide) rfl fn175 dX0_passes_200 ?_
          refine lv_iconst (v := (1 : Int32)) hx hb dX0_passes_203 (by decide) ?_
          refine lv_iadd hx hb dX0_passes_204 ?_
          refine fo_putiN X hw fc_X2 hT_p1.1 (k := 3) (by decide) rfl rfl fn175 ⟨rfl, rfl⟩ dX0_passes_205 hf (fun st14 H locs hw hf => ?_)
          refine lv_iload_n hx hb dX0_passes_208 rfl (lv_at hl 1 rfl) ?_
          exact fd_i hend hw hf dX0_passes_209
        refine lv_aload_n hx hb dX0_passes_136 rfl (lv_at hl 2 rfl) ?_
        refine fo_gets X hw fc_X0 (hx0 hX) (k := 17) (d := 33) (n2 := 33) (by decide) rfl rfl q362 dX0_passes_137 ?_
        refine lv_iload_n hx hb dX0_passes_140 rfl (lv_at hl 0 rfl) ?_
        refine fo_iald X hw (hx33 hX) dX0_passes_141 hf (fun hf => ?_)
        refine lv_iconst (v := (-1 : Int32)) hx hb dX0_passes_142 (by decide) ?_
        refine jn_e hf (fun k16 ek hf => ?_)
        have hk16 : ∀  (st15 : fo_St) (H : Heap) (locs : List Loc) (ls : Array Slot), lv_has ls 4 [(3, .int x10), (2, .int x11), (0, .ref (eb E + 0)), (1, .ref (eb E + p1))] → fo_S E s st15 H locs → k16 st15 = some (rZ, stZ) → W p l e R s m args below meth c H locs 0 0 Q (F0 m 157 ls []) := by
          intro st15 H locs ls hl hw hf
          rw [ek] at hf
          refine lv_aload_n hx hb dX0_passes_157 rfl (lv_at hl 3 rfl) ?_
          refine fo_getsN X hw fc_X2 hT_p1.1 (k := 2) (d := 3) (n2 := (p1 + 3)) (by decide) rfl rfl fn173 dX0_passes_158 ?_
          refine lv_iload_n hx hb dX0_passes_161 rfl (lv_at hl 0 rfl) ?_
          refine fo_iald X hw hT_p1.2.2.2 dX0_passes_162 hf (fun hf => ?_)
          refine lv_iconst (v := (-1 : Int32)) hx hb dX0_passes_163 (by decide) ?_
          refine fb_ieq (tgt := 192) hx hb dX0_passes_164 (by decide) hf (fun hf => ?_) (fun hf => ?_)
          · refine fb_iinc (v := (1 : Int32)) (lv' := [(3, .int (x10 + (1 : Int32))), (2, .int x11), (0, .ref (eb E + 0)), (1, .ref (eb E + p1))]) hx hb dX0_passes_192 hl (k := 0) rfl (by decide) (by decide) rfl (fun ls hl => ?_)
            refine lv_goto (tgt := 130) hx hb dX0_passes_195 (by decide) ?_
            exact hrec13 _ _ _ hf _ _ _ (lv_sub hl [0, 1, 2, 3] rfl) hw
          refine lv_aload_n hx hb dX0_passes_167 rfl (lv_at hl 2 rfl) ?_
          refine fo_gets X hw fc_X0 (hx0 hX) (k := 2) (d := 2) (n2 := 2) (by decide) rfl rfl q347 dX0_passes_168 ?_
          refine lv_aload_n hx hb dX0_passes_171 rfl (lv_at hl 3 rfl) ?_
          refine lv_iload_n hx hb dX0_passes_172 rfl (lv_at hl 0 rfl) ?_
          refine fc_Vi (rest := []) (As := [.ref (eb E + p1), .int x10]) X hw hm_X1_isLost (lw_V q564 q565 q566 q112 q567) ⟨rfl, rfl⟩ ⟨by rw [hRf]; exact Nat.le_of_ble_eq_true rfl, by rw [hRl]; exact Nat.le_of_ble_eq_true rfl⟩ fc_X1 rfl (hx2 hX) rfl rfl hl.1 (Nat.le_of_ble_eq_true rfl) dX0_passes_173 (fun rQ stQ hQ => wX1_isLost l E hX p1 x10 hT_p1 st15 rQ stQ hQ) hf (fun x17 st18 H locs hw hf => ?_)
          refine fb_zne (tgt := 182) hx hb dX0_passes_176 (by decide) hf (fun hf => ?_) (fun hf => ?_)
          · refine lv_aload_n hx hb dX0_passes_182 rfl (lv_at hl 3 rfl) ?_
            refine fo_getsN X hw fc_X2 hT_p1.1 (k := 2) (d := 3) (n2 := (p1 + 3)) (by decide) rfl rfl fn173 dX0_passes_183 ?_
            refine lv_iload_n hx hb dX0_passes_186 rfl (lv_at hl 0 rfl) ?_
            refine lv_iconst (v := (-1 : Int32)) hx hb dX0_passes_187 (by decide) ?_
            refine fo_iast X hw hT_p1.2.2.2 dX0_passes_188 hf (fun st19 H locs hw hf => ?_)
            refine fb_iinc (v := (1 : Int32)) (lv' := [(2, .int (x11 + (1 : Int32))), (3, .int x10), (0, .ref (eb E + 0)), (1, .ref (eb E + p1))]) hx hb dX0_passes_189 hl (k := 1) rfl (by decide) (by decide) rfl (fun ls hl => ?_)
            refine fb_iinc (v := (1 : Int32)) (lv' := [(3, .int (x10 + (1 : Int32))), (2, .int (x11 + (1 : Int32))), (0, .ref (eb E + 0)), (1, .ref (eb E + p1))]) hx hb dX0_passes_192 hl (k := 1) rfl (by decide) (by decide) rfl (fun ls hl => ?_)
            refine lv_goto (tgt := 130) hx hb dX0_passes_195 (by decide) ?_
            exact hrec13 _ _ _ hf _ _ _ (lv_sub hl [0, 1, 2, 3] rfl) hw
          refine lv_goto (tgt := 192) hx hb dX0_passes_179 (by decide) ?_
          refine fb_iinc (v := (1 : Int32)) (lv' := [(3, .int (x10 + (1 : Int32))), (2, .int x11), (0, .ref (eb E + 0)), (1, .ref (eb E + p1))]) hx hb dX0_passes_192 hl (k := 0) rfl (by decide) (by decide) rfl (fun ls hl => ?_)
          refine lv_goto (tgt := 130) hx hb dX0_passes_195 (by decide) ?_
          exact hrec13 _ _ _ hf _ _ _ (lv_sub hl [0, 1, 2, 3] rfl) hw
        clear ek
        refine fb_ieq (tgt := 157) hx hb dX0_passes_143 (by decide) hf (fun hf => ?_) (fun hf => ?_)
        · exact hk16 _ _ _ _ (lv_sub hl [0, 1, 2, 3] rfl) hw hf
        refine lv_aload_n hx hb dX0_passes_146 rfl (lv_at hl 3 rfl) ?_
        refine lv_iload_n hx hb dX0_passes_147 rfl (lv_at hl 0 rfl) ?_
        refine lv_aload_n hx hb dX0_passes_148 rfl (lv_at hl 2 rfl) ?_
        refine fo_gets X hw fc_X0 (hx0 hX) (k := 17) (d := 33) (n2 := 33) (by decide) rfl rfl q362 dX0_passes_149 ?_
        refine lv_iload_n hx hb dX0_passes_152 rfl (lv_at hl 0 rfl) ?_
        refine fo_iald X hw (hx33 hX) dX0_passes_153 hf (fun hf => ?_)
        refine fc_Vv (rest := []) (As := [.int x10, .int (gi_ st12 33 x10.toNatClampNeg)]) X hw hm_X2_plants (lw_V q1247 q1248 q1249 q113 q1250) ⟨rfl, rfl⟩ ⟨by rw [hRf]; exact Nat.le_of_ble_eq_true rfl, by rw [hRl]; exact Nat.le_of_ble_eq_true rfl⟩ fc_X2 rfl hT_p1.1 rfl rfl hl.1 (Nat.le_of_ble_eq_true rfl) dX0_passes_154 (fun stQ hQ => wX2_plants l E p1 x10 (gi_ st12 33 x10.toNatClampNeg) hT_p1 st12 stQ hQ) hf (fun st21 H locs hw hf => ?_)
        exact hk16 _ _ _ _ (lv_sub hl [0, 1, 2, 3] rfl) hw hf
      refine lv_aload_n hx hb dX0_passes_96 rfl (lv_at hl 1 rfl) ?_
      refine fo_gets X hw fc_X0 (hx0 hX) (k := 17) (d := 33) (n2 := 33) (by decide) rfl rfl q362 dX0_passes_97 ?_
      refine lv_iload_n hx hb dX0_passes_100 rfl (lv_at hl 0 rfl) ?_
      refine lv_aload_n hx hb dX0_passes_101 rfl (lv_at hl 2 rfl) ?_
      refine lv_iload_n hx hb dX0_passes_102 rfl (lv_at hl 0 rfl) ?_
      refine fc_Vi (rest := [.int x7, .ref (eb E + 33)]) (As := [.int x7]) X hw hm_X2_isTree (lw_V q568 q569 q570 q113 q571) ⟨rfl, rfl⟩ ⟨by rw [hRf]; exact Nat.le_of_ble_eq_true rfl, by rw [hRl]; exact Nat.le_of_ble_eq_true rfl⟩ fc_X2 rfl hT_p1.1 rfl rfl hl.1 (Nat.le_of_ble_eq_true rfl) dX0_passes_103 (fun rQ stQ hQ => wX2_isTree l E p1 x7 hT_p1 st8 rQ stQ hQ) hf (fun x22 st23 H locs hw hf => ?_)
      refine jn_e hf (fun k26 ek hf => ?_)
      have hk26 : ∀ (x24 : Int32) (st25 : fo_St) (H : Heap) (locs : List Loc) (ls : Array Slot), lv_has ls 4 [(2, .int x7), (0, .ref (eb E + 0)), (1, .ref (eb E + p1))] → fo_S E s st25 H locs → k26 x24 st25 = some (rZ, stZ) → W p l e R s m args below meth c H locs 0 0 Q (F0 m 119 ls [.int x24, .int x7, .ref (eb E + 33)]) := by
        intro x24 st25 H locs ls hl hw hf
        rw [ek] at hf
        refine fo_iast X hw (hx33 hX) dX0_passes_119 hf (fun st27 H locs hw hf => ?_)
        refine fb_iinc (v := (1 : Int32)) (lv' := [(2, .int (x7 + (1 : Int32))), (0, .ref (eb E + 0)), (1, .ref (eb E + p1))]) hx hb dX0_passes_120 hl (k := 0) rfl (by decide) (by decide) rfl (fun ls hl => ?_)
        refine lv_goto (tgt := 90) hx hb dX0_passes_123 (by decide) ?_
        exact hrec9 _ _ hf _ _ _ (lv_sub hl [0, 1, 2] rfl) hw
      clear ek
      refine fb_zeq (tgt := 113) hx hb dX0_passes_106 (by decide) hf (fun hf => ?_) (fun hf => ?_)
      · refine lv_aload_n hx hb dX0_passes_113 rfl (lv_at hl 1 rfl) ?_
        refine lv_aload_n hx hb dX0_passes_114 rfl (lv_at hl 2 rfl) ?_
        refine lv_iload_n hx hb dX0_passes_115 rfl (lv_at hl 0 rfl) ?_
        refine fc_Vi (rest := [.int x7, .ref (eb E + 33)]) (As := [.ref (eb E + p1), .int x7]) X hw hm_X0_newcomer (lw_V q1296 q1298 qs26 q111 q1299) ⟨rfl, rfl⟩ ⟨by rw [hRf]; exact Nat.le_of_ble_eq_true rfl, by rw [hRl]; exact Nat.le_of_ble_eq_true rfl⟩ fc_X0 rfl (hx0 hX) rfl rfl hl.1 (Nat.le_of_ble_eq_true rfl) dX0_passes_116 (fun rQ stQ hQ => wX0_newcomer l E hX G p1 x7 hT_p1 st23 rQ stQ hQ) hf (fun x28 st29 H locs hw hf => ?_)
        exact hk26 _ _ _ _ _ (lv_sub hl [0, 1, 2] rfl) hw hf
      refine lv_iconst (v := (-1 : Int32)) hx hb dX0_passes_109 (by decide) ?_
      refine lv_goto (tgt := 119) hx hb dX0_passes_110 (by decide) ?_
      exact hk26 _ _ _ _ _ (lv_sub hl [0, 1, 2] rfl) hw hf
    refine lv_aload_n hx hb dX0_passes_46 rfl (lv_at hl 2 rfl) ?_
    refine fo_getsN X hw fc_X2 hT_p1.1 (k := 1) (d := 2) (n2 := (p1 + 2)) (by decide) rfl rfl fn171 dX0_passes_47 ?_
    refine lv_iload_n hx hb dX0_passes_50 rfl (lv_at hl 0 rfl) ?_
    refine lv_aload_n hx hb dX0_passes_51 rfl (lv_at hl 2 rfl) ?_
    refine lv_iload_n hx hb dX0_passes_52 rfl (lv_at hl 0 rfl) ?_
    refine fc_Vi (rest := [.int x4, .ref (eb E + (p1 + 2))]) (As := [.int x4]) X hw hm_X2_isTree (lw_V q568 q569 q570 q113 q571) ⟨rfl, rfl⟩ ⟨by rw [hRf]; exact Nat.le_of_ble_eq_true rfl, by rw [hRl]; exact Nat.le_of_ble_eq_true rfl⟩ fc_X2 rfl hT_p1.1 rfl rfl hl.1 (Nat.le_of_ble_eq_true rfl) dX0_passes_53 (fun rQ stQ hQ => wX2_isTree l E p1 x4 hT_p1 st5 rQ stQ hQ) hf (fun x30 st31 H locs hw hf => ?_)
    refine jn_e hf (fun k34 ek hf => ?_)
    have hk34 : ∀ (x32 : Int32) (st33 : fo_St) (H : Heap) (locs : List Loc) (ls : Array Slot), lv_has ls 4 [(2, .int x4), (0, .ref (eb E + 0)), (1, .ref (eb E + p1))] → fo_S E s st33 H locs → k34 x32 st33 = some (rZ, stZ) → W p l e R s m args below meth c H locs 0 0 Q (F0 m 81 ls [.int x32, .int x4, .ref (eb E + (p1 + 2))]) := by
      intro x32 st33 H locs ls hl hw hf
      rw [ek] at hf
      refine fo_iast X hw hT_p1.2.2.1 dX0_passes_81 hf (fun st35 H locs hw hf => ?_)
      refine fb_iinc (v := (1 : Int32)) (lv' := [(2, .int (x4 + (1 : Int32))), (0, .ref (eb E + 0)), (1, .ref (eb E + p1))]) hx hb dX0_passes_82 hl (k := 0) rfl (by decide) (by decide) rfl (fun ls hl => ?_)
      refine lv_goto (tgt := 40) hx hb dX0_passes_85 (by decide) ?_
      exact hrec6 _ _ hf _ _ _ (lv_sub hl [0, 1, 2] rfl) hw
    clear ek
    refine fb_zeq (tgt := 80) hx hb dX0_passes_56 (by decide) hf (fun hf => ?_) (fun hf => ?_)
    · refine lv_iconst (v := (0 : Int32)) hx hb dX0_passes_80 (by decide) ?_
      exact hk34 _ _ _ _ _ (lv_sub hl [0, 1, 2] rfl) hw hf
    refine lv_bipush (v := (99 : Int32)) hx hb dX0_passes_59 (by decide) ?_
    refine lv_aload_n hx hb dX0_passes_61 rfl (lv_at hl 2 rfl) ?_
    refine fo_getsN X hw fc_X2 hT_p1.1 (k := 1) (d := 2) (n2 := (p1 + 2)) (by decide) rfl rfl fn171 dX0_passes_62 ?_
    refine lv_iload_n hx hb dX0_passes_65 rfl (lv_at hl 0 rfl) ?_
    refine fo_iald X hw hT_p1.2.2.1 dX0_passes_66 hf (fun hf => ?_)
    refine lv_aload_n hx hb dX0_passes_67 rfl (lv_at hl 1 rfl) ?_
    refine fo_gets X hw fc_X0 (hx0 hX) (k := 18) (d := 34) (n2 := 34) (by decide) rfl rfl q363 dX0_passes_68 ?_
    refine lv_iload_n hx hb dX0_passes_71 rfl (lv_at hl 0 rfl) ?_
    refine fo_iald X hw (hx34 hX) dX0_passes_72 hf (fun hf => ?_)
    refine lv_iadd hx hb dX0_passes_73 ?_
    refine fo_mnI (rest := [.int x4, .ref (eb E + (p1 + 2))]) X hl.1 q1295 q509 q124 q510 (by rw [hRf]; exact Nat.le_of_ble_eq_true rfl) (by rw [hRl]; exact Nat.le_of_ble_eq_true rfl) dX0_passes_74 ?_
    refine lv_goto (tgt := 81) hx hb dX0_passes_77 (by decide) ?_
    exact hk34 _ _ _ _ _ (lv_sub hl [0, 1, 2] rfl) hw hf
  refine lv_aload_n hx hb dX0_passes_8 rfl (lv_at hl 1 rfl) ?_
  refine fo_gets X hw fc_X0 (hx0 hX) (k := 18) (d := 34) (n2 := 34) (by decide) rfl rfl q363 dX0_passes_9 ?_
  refine lv_iload_n hx hb dX0_passes_12 rfl (lv_at hl 0 rfl) ?_
  refine lv_aload_n hx hb dX0_passes_13 rfl (lv_at hl 2 rfl) ?_
  refine lv_iload_n hx hb dX0_passes_14 rfl (lv_at hl 0 rfl) ?_
  refine fc_Vi (rest := [.int x1, .ref (eb E + 34)]) (As := [.int x1]) X hw hm_X2_isTree (lw_V q568 q569 q570 q113 q571) ⟨rfl, rfl⟩ ⟨by rw [hRf]; exact Nat.le_of_ble_eq_true rfl, by rw [hRl]; exact Nat.le_of_ble_eq_true rfl⟩ fc_X2 rfl hT_p1.1 rfl rfl hl.1 (Nat.le_of_ble_eq_true rfl) dX0_passes_15 (fun rQ stQ hQ => wX2_isTree l E p1 x1 hT_p1 st2 rQ stQ hQ) hf (fun x36 st37 H locs hw hf => ?_)
  refine jn_e hf (fun k40 ek hf => ?_)
  have hk40 : ∀ (x38 : Int32) (st39 : fo_St) (H : Heap) (locs : List Loc) (ls : Array Slot), lv_has ls 4 [(2, .int x1), (0, .ref (eb E + 0)), (1, .ref (eb E + p1))] → fo_S E s st39 H locs → k40 x38 st39 = some (rZ, stZ) → W p l e R s m args below meth c H locs 0 0 Q (F0 m 31 ls [.int x38, .int x1, .ref (eb E + 34)]) := by
    intro x38 st39 H locs ls hl hw hf
    rw [ek] at hf
    refine fo_iast X hw (hx34 hX) dX0_passes_31 hf (fun st41 H locs hw hf => ?_)
    refine fb_iinc (v := (1 : Int32)) (lv' := [(2, .int (x1 + (1 : Int32))), (0, .ref (eb E + 0)), (1, .ref (eb E + p1))]) hx hb dX0_passes_32 hl (k := 0) rfl (by decide) (by decide) rfl (fun ls hl => ?_)
    refine lv_goto (tgt := 2) hx hb dX0_passes_35 (by decide) ?_
    exact hrec3 _ _ hf _ _ _ (lv_sub hl [0, 1, 2] rfl) hw
  clear ek
  refine fb_zeq (tgt := 30) hx hb dX0_passes_18 (by decide) hf (fun hf => ?_) (fun hf => ?_)
  · refine lv_iconst (v := (0 : Int32)) hx hb dX0_passes_30 (by decide) ?_
    exact hk40 _ _ _ _ _ (lv_sub hl [0, 1, 2] rfl) hw hf
  refine lv_aload_n hx hb dX0_passes_21 rfl (lv_at hl 1 rfl) ?_
  refine lv_aload_n hx hb dX0_passes_22 rfl (lv_at hl 2 rfl) ?_
  refine lv_iload_n hx hb dX0_passes_23 rfl (lv_at hl 0 rfl) ?_
  refine fc_Vi (rest := [.int x1, .ref (eb E + 34)]) (As := [.ref (eb E + p1), .int x1]) X hw hm_X0_grows (lw_V q572 q574 qs7 q111 q575) ⟨rfl, rfl⟩ ⟨by rw [hRf]; exact Nat.le_of_ble_eq_true rfl, by rw [hRl]; exact Nat.le_of_ble_eq_true rfl⟩ fc_X0 rfl (hx0 hX) rfl rfl hl.1 (Nat.le_of_ble_eq_true rfl) dX0_passes_24 (fun rQ stQ hQ => wX0_grows l E hX G p1 x1 hT_p1 st37 rQ stQ hQ) hf (fun x42 st43 H locs hw hf => ?_)
  refine lv_goto (tgt := 31) hx hb dX0_passes_27 (by decide) ?_
  exact hk40 _ _ _ _ _ (lv_sub hl [0, 1, 2] rfl) hw hf

/-- ForestRooms.passesKept -/
def fX0_passesKept (tg : Nat → Nat × Nat) (G : Nat) (st0 : fo_St) : Option (Int32 × fo_St) := bd_ (fX0_table st0) (fun x1 st2 => ck_ (decide (x1 = 3)) (if ¬ (gi_ st2 3 3) = (999 : Int32) then bv_ (fX0_keeps tg G (4 : Int32) st2) (fun st4 => bd_ (fX0_table st4) (fun x5 st6 => ck_ (decide (x5 = 3)) (bd_ (fX0_passes tg G 3 st6) (fun x7 st8 => some (x7, st8))))) else some ((-3 : Int32), st2)))
theorem hm_X0_passesKept : fo_M yX0_passesKept 0 := ⟨by decide +kernel, by decide +kernel, by decide +kernel, by decide +kernel⟩
set_option maxHeartbeats 4000000 in
theorem wX0_passesKept (l : Launch) (E : fo_E) (hX : fo_HX E) (G : Nat) (st0 : fo_St) (rZ : Int32) (stZ : fo_St) (hf : fX0_passesKept (et E) G st0 = some (rZ, stZ)) : CTi l E yX0_passesKept (ws_ yX0_passesKept cX0_passesKept 1 (some .int)) ({ frames := 133, cells := 0, slots := 0, locals := 7809 }) [.ref (eb E + 0)] st0 rZ stZ := by
  refine fe_i hm_X0_passesKept (Nat.le_of_ble_eq_true rfl) (fun p e R s m args below meth c Q hRf hRl X hend ls hl hw => ?_)
  have hx := X.1.1
  have hb := X.1.2.1
  have hl : lv_has ls 1 [(0, .ref (eb E + 0))] := hl
  unfold fX0_passesKept at hf
  generalize s.heap = H at hw ⊢
  generalize ([] : List Loc) = locs at hw ⊢
  refine lv_aload_n hx hb dX0_passesKept_0 rfl (lv_at hl 0 rfl) ?_
  refine fc_Vr (rest := []) (As := []) X hw hm_X0_table (lw_V q560 q562 qs6 q111 q563) ⟨rfl, rfl⟩ ⟨by rw [hRf]; exact Nat.le_of_ble_eq_true rfl, by rw [hRl]; exact Nat.le_of_ble_eq_true rfl⟩ fc_X0 rfl (hx0 hX) rfl rfl hl.1 (Nat.le_of_ble_eq_true rfl) dX0_passesKept_1 (fun rQ stQ hQ => wX0_table l E hX st0 rQ stQ hQ) hf (fun x1 st2 H locs hw hf => ?_)
  have hc0 := ck_e hf
  clear hf
  obtain ⟨hc, hf⟩ := hc0
  replace hc := of_decide_eq_true hc
  subst hc
  refine fo_getiN X hw fc_X2 (hx3 hX) (k := 3) (by decide) rfl fn175 dX0_passesKept_4 ?_
  refine lv_sipush (v := (999 : Int32)) hx hb dX0_passesKept_7 (by decide) ?_
  refine fb_ine (tgt := 16) hx hb dX0_passesKept_10 (by decide) hf (fun hf => ?_) (fun hf => ?_)
  · refine lv_aload_n hx hb dX0_passesKept_16 rfl (lv_at hl 0 rfl) ?_
    refine lv_iconst (v := (4 : Int32)) hx hb dX0_passesKept_17 (by decide) ?_
    refine fc_Vv (rest := []) (As := [.int (4 : Int32)]) X hw hm_X0_keeps (lw_V q1242 q1244 qs19 q111 q1245) ⟨rfl, rfl⟩ ⟨by rw [hRf]; exact Nat.le_of_ble_eq_true rfl, by rw [hRl]; exact Nat.le_of_ble_eq_true rfl⟩ fc_X0 rfl (hx0 hX) rfl rfl hl.1 (Nat.le_of_ble_eq_true rfl) dX0_passesKept_18 (fun stQ hQ => wX0_keeps l E hX G (4 : Int32) st2 stQ hQ) hf (fun st4 H locs hw hf => ?_)
    refine lv_aload_n hx hb dX0_passesKept_21 rfl (lv_at hl 0 rfl) ?_
    refine lv_aload_n hx hb dX0_passesKept_22 rfl (lv_at hl 0 rfl) ?_
    refine fc_Vr (rest := [.ref (eb E + 0)]) (As := []) X hw hm_X0_table (lw_V q560 q562 qs6 q111 q563) ⟨rfl, rfl⟩ ⟨by rw [hRf]; exact Nat.le_of_ble_eq_true rfl, by rw [hRl]; exact Nat.le_of_ble_eq_true rfl⟩ fc_X0 rfl (hx0 hX) rfl rfl hl.1 (Nat.le_of_ble_eq_true rfl) dX0_passesKept_23 (fun rQ stQ hQ => wX0_table l E hX st4 rQ stQ hQ) hf (fun x5 st6 H locs hw hf => ?_)
    have hc0 := ck_e hf
    clear hf
    obtain ⟨hc, hf⟩ := hc0
    replace hc := of_decide_eq_true hc
    subst hc
    refine fc_Vi (rest := []) (As := [.ref (eb E + 3)]) X hw hm_X0_passes (lw_V q1291 q1293 qs25 q111 q1294) ⟨rfl, rfl⟩ ⟨by rw [hRf]; exact Nat.le_of_ble_eq_true rfl, by rw [hRl]; exact Nat.le_of_ble_eq_true rfl⟩ fc_X0 rfl (hx0 hX) rfl rfl hl.1 (Nat.le_of_ble_eq_true rfl) dX0_passesKept_26 (fun rQ stQ hQ => wX0_passes l E hX G 3 (hxT3 hX) st6 rQ stQ hQ) hf (fun x7 st8 H locs hw hf => ?_)
    exact fd_i hend hw hf dX0_passesKept_29
  refine lv_bipush (v := (-3 : Int32)) hx hb dX0_passesKept_13 (by decide) ?_
  exact fd_i hend hw hf dX0_passesKept_15

/-- ForestRooms.pass -/
def fX0_pass (tg : Nat → Nat × Nat) (G : Nat) (st0 : fo_St) : Option (Int32 × fo_St) := bd_ (fX0_passesKept tg G st0) (fun x1 st2 => bd_ (fX0_doneOr x1 st2) (fun x3 st4 => some (x3, st4)))
theorem hm_X0_pass : fo_M yX0_pass 0 := ⟨by decide +kernel, by decide +kernel, by decide +kernel, by decide +kernel⟩
set_option maxHeartbeats 4000000 in
theorem wX0_pass (l : Launch) (E : fo_E) (hX : fo_HX E) (G : Nat) (st0 : fo_St) (rZ : Int32) (stZ : fo_St) (hf : fX0_pass (et E) G st0 = some (rZ, stZ)) : CTi l E yX0_pass (ws_ yX0_pass cX0_pass 1 (some .int)) ({ frames := 134, cells := 0, slots := 0, locals := 7829 }) [.ref (eb E + 0)] st0 rZ stZ := by
  refine fe_i hm_X0_pass (Nat.le_of_ble_eq_true rfl) (fun p e R s m args below meth c Q hRf hRl X hend ls hl hw => ?_)
  have hx := X.1.1
  have hb := X.1.2.1
  have hl : lv_has ls 1 [(0, .ref (eb E + 0))] := hl
  unfold fX0_pass at hf
  generalize s.heap = H at hw ⊢
  generalize ([] : List Loc) = locs at hw ⊢
  refine lv_aload_n hx hb dX0_pass_0 rfl (lv_at hl 0 rfl) ?_
  refine lv_aload_n hx hb dX0_pass_1 rfl (lv_at hl 0 rfl) ?_
  refine fc_Vi (rest := [.ref (eb E + 0)]) (As := []) X hw hm_X0_passesKept (lw_V q1287 q1289 qs24 q111 q1290) ⟨rfl, rfl⟩ ⟨by rw [hRf]; exact Nat.le_of_ble_eq_true rfl, by rw [hRl]; exact Nat.le_of_ble_eq_true rfl⟩ fc_X0 rfl (hx0 hX) rfl rfl hl.1 (Nat.le_of_ble_eq_true rfl) dX0_pass_2 (fun rQ stQ hQ => wX0_passesKept l E hX G st0 rQ stQ hQ) hf (fun x1 st2 H locs hw hf => ?_)
  refine fc_Vi (rest := []) (As := [.int x1]) X hw hm_X0_doneOr (lw_V q1251 q1253 qs20 q111 q1254) ⟨rfl, rfl⟩ ⟨by rw [hRf]; exact Nat.le_of_ble_eq_true rfl, by rw [hRl]; exact Nat.le_of_ble_eq_true rfl⟩ fc_X0 rfl (hx0 hX) rfl rfl hl.1 (Nat.le_of_ble_eq_true rfl) dX0_pass_5 (fun rQ stQ hQ => wX0_doneOr l E hX x1 st2 rQ stQ hQ) hf (fun x3 st4 H locs hw hf => ?_)
  exact fd_i hend hw hf dX0_pass_8

/-- ForestRooms.undo -/
def fX0_undo (tg : Nat → Nat × Nat) (st0 : fo_St) : Option (Int32 × fo_St) := if ¬ (gi_ st0 0 15) = 0 then lt_ (si_ st0 0 15 ((gi_ st0 0 15) - (1 : Int32))) (fun st1 => bd_ (fX0_table st1) (fun x2 st3 => ck_ (decide (x2 = 3)) (ck_ (fo_in (gi_ st3 0 15) 16) (rt_ tg (gr_ st3 17 (gi_ st3 0 15).toNatClampNeg) (fun q4 => bv_ (fX2_takes 3 q4 st3) (fun st6 => ck_ (fo_in (gi_ st6 0 15) 16) (bd_ (fX0_done (gi_ st6 19 (gi_ st6 0 15).toNatClampNeg) st6) (fun x7 st8 => some (x7, st8))))))))) else bd_ (fX0_refuse (-3 : Int32) st0) (fun x9 st10 => some (x9, st10))
theorem hm_X0_undo : fo_M yX0_undo 0 := ⟨by decide +kernel, by decide +kernel, by decide +kernel, by decide +kernel⟩
set_option maxHeartbeats 4000000 in
theorem wX0_undo (l : Launch) (E : fo_E) (hX : fo_HX E) (st0 : fo_St) (rZ : Int32) (stZ : fo_St) (hf : fX0_undo (et E) st0 = some (rZ, stZ)) : CTi l E yX0_undo (ws_ yX0_undo cX0_undo 1 (some .int)) ({ frames := 3, cells := 0, slots := 0, locals := 72 }) [.ref (eb E + 0)] st0 rZ stZ := by
  refine fe_i hm_X0_undo (Nat.le_of_ble_eq_true rfl) (fun p e R s m args below meth c Q hRf hRl X hend ls hl hw => ?_)
  have hx := X.1.1
  have hb := X.1.2.1
  have hl : lv_has ls 1 [(0, .ref (eb E + 0))] := hl
  unfold fX0_undo at hf
  generalize s.heap = H at hw ⊢
  generalize ([] : List Loc) = locs at hw ⊢
  refine lv_aload_n hx hb dX0_undo_0 rfl (lv_at hl 0 rfl) ?_
  refine fo_geti X hw fc_X0 (hx0 hX) (k := 15) (by decide) rfl q360 dX0_undo_1 ?_
  refine fb_zne (tgt := 14) hx hb dX0_undo_4 (by decide) hf (fun hf => ?_) (fun hf => ?_)
  · refine lv_aload_n hx hb dX0_undo_14 rfl (lv_at hl 0 rfl) ?_
    refine lv_dup hx hb dX0_undo_15 rfl ?_
    refine fo_geti X hw fc_X0 (hx0 hX) (k := 15) (by decide) rfl q360 dX0_undo_16 ?_
    refine lv_iconst (v := (1 : Int32)) hx hb dX0_undo_19 (by decide) ?_
    refine lv_isub hx hb dX0_undo_20 ?_
    refine fo_puti X hw fc_X0 (hx0 hX) (k := 15) (by decide) rfl rfl q360 ⟨rfl, rfl⟩ dX0_undo_21 hf (fun st1 H locs hw hf => ?_)
    refine lv_aload_n hx hb dX0_undo_24 rfl (lv_at hl 0 rfl) ?_
    refine fc_Vr (rest := []) (As := []) X hw hm_X0_table (lw_V q560 q562 qs6 q111 q563) ⟨rfl, rfl⟩ ⟨by rw [hRf]; exact Nat.le_of_ble_eq_true rfl, by rw [hRl]; exact Nat.le_of_ble_eq_true rfl⟩ fc_X0 rfl (hx0 hX) rfl rfl hl.1 (Nat.le_of_ble_eq_true rfl) dX0_undo_25 (fun rQ stQ hQ => wX0_table l E hX st1 rQ stQ hQ) hf (fun x2 st3 H locs hw hf => ?_)
    have hc0 := ck_e hf
    clear hf
    obtain ⟨hc, hf⟩ := hc0
    replace hc := of_decide_eq_true hc
    subst hc
    refine lv_aload_n hx hb dX0_undo_28 rfl (lv_at hl 0 rfl) ?_
    refine fo_gets X hw fc_X0 (hx0 hX) (k := 4) (d := 17) (n2 := 17) (by decide) rfl rfl q349 dX0_undo_29 ?_
    refine lv_aload_n hx hb dX0_undo_32 rfl (lv_at hl 0 rfl) ?_
    refine fo_geti X hw fc_X0 (hx0 hX) (k := 15) (by decide) rfl q360 dX0_undo_33 ?_
    refine fo_aldt X hw (hx17 hX) dX0_undo_36 hf (fun q4 hT_q4 hf => ?_)
    refine fc_Vv (rest := []) (As := [.ref (eb E + q4)]) X hw hm_X2_takes (lw_V q1246 q449 q450 q113 q451) ⟨rfl, rfl⟩ ⟨by rw [hRf]; exact Nat.le_of_ble_eq_true rfl, by rw [hRl]; exact Nat.le_of_ble_eq_true rfl⟩ fc_X2 rfl (hx3 hX) rfl rfl hl.1 (Nat.le_of_ble_eq_true rfl) dX0_undo_37 (fun stQ hQ => wX2_takes l E 3 q4 (hxT3 hX) hT_q4 st3 stQ hQ) hf (fun st6 H locs hw hf => ?_)
    refine lv_aload_n hx hb dX0_undo_40 rfl (lv_at hl 0 rfl) ?_
    refine lv_aload_n hx hb dX0_undo_41 rfl (lv_at hl 0 rfl) ?_
    refine fo_gets X hw fc_X0 (hx0 hX) (k := 6) (d := 19) (n2 := 19) (by decide) rfl rfl q351 dX0_undo_42 ?_
    refine lv_aload_n hx hb dX0_undo_45 rfl (lv_at hl 0 rfl) ?_
    refine fo_geti X hw fc_X0 (hx0 hX) (k := 15) (by decide) rfl q360 dX0_undo_46 ?_
    refine fo_iald X hw (hx19 hX) dX0_undo_49 hf (fun hf => ?_)
    refine fc_Vi (rest := []) (As := [.int (gi_ st6 19 (gi_ st6 0 15).toNatClampNeg)]) X hw hm_X0_done (lw_V q530 q532 qs3 q111 q533) ⟨rfl, rfl⟩ ⟨by rw [hRf]; exact Nat.le_of_ble_eq_true rfl, by rw [hRl]; exact Nat.le_of_ble_eq_true rfl⟩ fc_X0 rfl (hx0 hX) rfl rfl hl.1 (Nat.le_of_ble_eq_true rfl) dX0_undo_50 (fun rQ stQ hQ => wX0_done l E hX (gi_ st6 19 (gi_ st6 0 15).toNatClampNeg) st6 rQ stQ hQ) hf (fun x7 st8 H locs hw hf => ?_)
    exact fd_i hend hw hf dX0_undo_53
  refine lv_aload_n hx hb dX0_undo_7 rfl (lv_at hl 0 rfl) ?_
  refine lv_bipush (v := (-3 : Int32)) hx hb dX0_undo_8 (by decide) ?_
  refine fc_Vi (rest := []) (As := [.int (-3 : Int32)]) X hw hm_X0_refuse (lw_V q440 q442 qs1 q111 q443) ⟨rfl, rfl⟩ ⟨by rw [hRf]; exact Nat.le_of_ble_eq_true rfl, by rw [hRl]; exact Nat.le_of_ble_eq_true rfl⟩ fc_X0 rfl (hx0 hX) rfl rfl hl.1 (Nat.le_of_ble_eq_true rfl) dX0_undo_10 (fun rQ stQ hQ => wX0_refuse l E hX (-3 : Int32) st0 rQ stQ hQ) hf (fun x9 st10 H locs hw hf => ?_)
  exact fd_i hend hw hf dX0_undo_13

/-- ForestRooms$Table.families -/
def fX2_families (G : Nat) (t : Nat) (st0 : fo_St) : Option (Int32 × fo_St) := lp3_ (fun rec4 (x1 : Int32) (x2 : Int32) (st3 : fo_St) => if (16 : Int32) ≤ x1 then some (x2, st3) else ck_ (fo_in x1 16) (if ¬ (gi_ st3 (t + 3) x1.toNatClampNeg) = (-1 : Int32) then lI_ (x2 + (1 : Int32)) (fun x5 => rec4 (x1 + (1 : Int32)) x5 st3) else lI_ (x2 + (0 : Int32)) (fun x6 => rec4 (x1 + (1 : Int32)) x6 st3))) G (0 : Int32) (0 : Int32) st0
theorem hm_X2_families : fo_M yX2_families 0 := ⟨by decide +kernel, by decide +kernel, by decide +kernel, by decide +kernel⟩
set_option maxHeartbeats 4000000 in
theorem wX2_families (l : Launch) (E : fo_E) (G : Nat) (t : Nat) (hT_t : fo_tab E t) (st0 : fo_St) (rZ : Int32) (stZ : fo_St) (hf : fX2_families G t st0 = some (rZ, stZ)) : CTi l E yX2_families (ws_ yX2_families cX2_families 3 (some .int)) ({ frames := 0, cells := 0, slots := 0, locals := 0 }) [.ref (eb E + t)] st0 rZ stZ := by
  refine fe_i hm_X2_families (Nat.le_of_ble_eq_true rfl) (fun p e R s m args below meth c Q hRf hRl X hend ls hl hw => ?_)
  have hx := X.1.1
  have hb := X.1.2.1
  have hl : lv_has ls 3 [(0, .ref (eb E + t))] := hl
  unfold fX2_families at hf
  generalize s.heap = H at hw ⊢
  generalize ([] : List Loc) = locs at hw ⊢
  refine lv_iconst (v := (0 : Int32)) hx hb dX2_families_0 (by decide) ?_
  refine lv_istore_n (lv' := [(1, .int (0 : Int32)), (0, .ref (eb E + t))]) hx hb dX2_families_1 rfl hl (by decide) rfl (fun ls hl => ?_)
  refine lv_iconst (v := (0 : Int32)) hx hb dX2_families_2 (by decide) ?_
  refine lv_istore_n (lv' := [(2, .int (0 : Int32)), (1, .int (0 : Int32)), (0, .ref (eb E + t))]) hx hb dX2_families_3 rfl hl (by decide) rfl (fun ls hl => ?_)
  refine lp3_e (P := fun x1 x2 st3 => ∀ (H : Heap) (locs : List Loc) (ls : Array Slot), lv_has ls 3 [(2, .int x1), (1, .int x2), (0, .ref (eb E + t))] → fo_S E s st3 H locs → W p l e R s m args below meth c H locs 0 0 Q (F0 m 4 ls [])) (fun rec4 hrec4 x1 x2 st3 hf => ?_) G _ _ _ hf H locs ls (lv_sub hl [0, 1, 2] rfl) hw
  intro H locs ls hl hw
  refine lv_iload_n hx hb dX2_families_4 rfl (lv_at hl 0 rfl) ?_
  refine lv_bipush (v := (16 : Int32)) hx hb dX2_families_5 (by decide) ?_
  refine fb_ige (tgt := 34) hx hb dX2_families_7 (by decide) hf (fun hf => ?_) (fun hf => ?_)
  · refine lv_iload_n hx hb dX2_families_34 rfl (lv_at hl 1 rfl) ?_
    exact fd_i hend hw hf dX2_families_35
  refine lv_iload_n hx hb dX2_families_10 rfl (lv_at hl 1 rfl) ?_
  refine lv_aload_n hx hb dX2_families_11 rfl (lv_at hl 2 rfl) ?_
  refine fo_gets X hw fc_X2 hT_t.1 (k := 2) (d := 3) (n2 := (t + 3)) (by decide) rfl rfl q172 dX2_families_12 ?_
  refine lv_iload_n hx hb dX2_families_15 rfl (lv_at hl 0 rfl) ?_
  refine fo_iald X hw hT_t.2.2.2 dX2_families_16 hf (fun hf => ?_)
  refine lv_iconst (v := (-1 : Int32)) hx hb dX2_families_17 (by decide) ?_
  refine fb_ine (tgt := 25) hx hb dX2_families_18 (by decide) hf (fun hf => ?_) (fun hf => ?_)
  · refine lv_iconst (v := (1 : Int32)) hx hb dX2_families_25 (by decide) ?_
    refine lv_iadd hx hb dX2_families_26 ?_
    refine fo_tI hf (fun x5 hf => ?_)
    refine lv_istore_n (lv' := [(1, .int x5), (2, .int x1), (0, .ref (eb E + t))]) hx hb dX2_families_27 rfl hl (by decide) rfl (fun ls hl => ?_)
    refine fb_iinc (v := (1 : Int32)) (lv' := [(2, .int (x1 + (1 : Int32))), (1, .int x5), (0, .ref (eb E + t))]) hx hb dX2_families_28 hl (k := 1) rfl (by decide) (by decide) rfl (fun ls hl => ?_)
    refine lv_goto (tgt := 4) hx hb dX2_families_31 (by decide) ?_
    exact hrec4 _ _ _ hf _ _ _ (lv_sub hl [0, 1, 2] rfl) hw
  refine lv_iconst (v := (0 : Int32)) hx hb dX2_families_21 (by decide) ?_
  refine lv_goto (tgt := 26) hx hb dX2_families_22 (by decide) ?_
  refine lv_iadd hx hb dX2_families_26 ?_
  refine fo_tI hf (fun x6 hf => ?_)
  refine lv_istore_n (lv' := [(1, .int x6), (2, .int x1), (0, .ref (eb E + t))]) hx hb dX2_families_27 rfl hl (by decide) rfl (fun ls hl => ?_)
  refine fb_iinc (v := (1 : Int32)) (lv' := [(2, .int (x1 + (1 : Int32))), (1, .int x6), (0, .ref (eb E + t))]) hx hb dX2_families_28 hl (k := 1) rfl (by decide) (by decide) rfl (fun ls hl => ?_)
  refine lv_goto (tgt := 4) hx hb dX2_families_31 (by decide) ?_
  exact hrec4 _ _ _ hf _ _ _ (lv_sub hl [0, 1, 2] rfl) hw

/-- ForestRooms.will -/
def fX0_will (tg : Nat → Nat × Nat) (G : Nat) (p1 : Int32) (p2 : Int32) (p3 : Int32) (st0 : fo_St) : Option (Int32 × fo_St) := bd_ (fX0_in p1 (0 : Int32) (60 : Int32) st0) (fun x1 st2 => if x1 = 0 then some ((-1 : Int32), st2) else bd_ (fX0_in p3 (0 : Int32) (3 : Int32) st2) (fun x3 st4 => if x3 = 0 then some ((-1 : Int32), st4) else if (3 : Int32) ≤ p3 then bd_ (fX0_table st4) (fun x5 st6 => ck_ (decide (x5 = 3)) (bv_ (fX2_takes 25 3 st6) (fun st8 => lp2_ (fun rec11 (x9 : Int32) (st10 : fo_St) => if p1 ≤ x9 then if p3 = (0 : Int32) then ck_ (fo_in p2 16) (some ((gi_ st10 26 p2.toNatClampNeg), st10)) else if p3 = (1 : Int32) then ck_ (fo_in p2 16) (some ((gi_ st10 27 p2.toNatClampNeg), st10)) else if p3 = (2 : Int32) then bd_ (fX1_isLost 25 p2 st10) (fun x12 st13 => if x12 = 0 then some ((0 : Int32), st13) else some ((1 : Int32), st13)) else bd_ (fX2_families G 25 st10) (fun x14 st15 => some (x14, st15)) else bd_ (fX0_passes tg G 25 st10) (fun x16 st17 => rec11 (x9 + (1 : Int32)) st17)) G (0 : Int32) st8))) else bd_ (fX0_isRoom p2 st4) (fun x18 st19 => if ¬ x18 = 0 then bd_ (fX0_table st19) (fun x20 st21 => ck_ (decide (x20 = 3)) (bv_ (fX2_takes 25 3 st21) (fun st23 => lp2_ (fun rec26 (x24 : Int32) (st25 : fo_St) => if p1 ≤ x24 then if p3 = (0 : Int32) then ck_ (fo_in p2 16) (some ((gi_ st25 26 p2.toNatClampNeg), st25)) else if p3 = (1 : Int32) then ck_ (fo_in p2 16) (some ((gi_ st25 27 p2.toNatClampNeg), st25)) else if p3 = (2 : Int32) then bd_ (fX1_isLost 25 p2 st25) (fun x27 st28 => if x27 = 0 then some ((0 : Int32), st28) else some ((1 : Int32), st28)) else bd_ (fX2_families G 25 st25) (fun x29 st30 => some (x29, st30)) else bd_ (fX0_passes tg G 25 st25) (fun x31 st32 => rec26 (x24 + (1 : Int32)) st32)) G (0 : Int32) st23))) else some ((-1 : Int32), st19))))
theorem hm_X0_will : fo_M yX0_will 3 := ⟨by decide +kernel, by decide +kernel, by decide +kernel, by decide +kernel⟩
set_option maxHeartbeats 4000000 in
theorem wX0_will (l : Launch) (E : fo_E) (hX : fo_HX E) (G : Nat) (p1 : Int32) (p2 : Int32) (p3 : Int32) (st0 : fo_St) (rZ : Int32) (stZ : fo_St) (hf : fX0_will (et E) G p1 p2 p3 st0 = some (rZ, stZ)) : CTi l E yX0_will (ws_ yX0_will cX0_will 6 (some .int)) ({ frames := 133, cells := 0, slots := 0, locals := 7809 }) [.ref (eb E + 0), .int p1, .int p2, .int p3] st0 rZ stZ := by
  refine fe_i hm_X0_will (Nat.le_of_ble_eq_true rfl) (fun p e R s m args below meth c Q hRf hRl X hend ls hl hw => ?_)
  have hx := X.1.1
  have hb := X.1.2.1
  have hl : lv_has ls 6 [(0, .ref (eb E + 0)), (1, .int p1), (2, .int p2), (3, .int p3)] := hl
  unfold fX0_will at hf
  generalize s.heap = H at hw ⊢
  generalize ([] : List Loc) = locs at hw ⊢
  refine lv_iload_n hx hb dX0_will_0 rfl (lv_at hl 1 rfl) ?_
  refine lv_iconst (v := (0 : Int32)) hx hb dX0_will_1 (by decide) ?_
  refine lv_bipush (v := (60 : Int32)) hx hb dX0_will_2 (by decide) ?_
  refine fc_Si (rest := []) (As := [.int p1, .int (0 : Int32), .int (60 : Int32)]) X hw hm_X0_in (lw_S q437 q438 q111 q439) ⟨rfl, rfl⟩ ⟨by rw [hRf]; exact Nat.le_of_ble_eq_true rfl, by rw [hRl]; exact Nat.le_of_ble_eq_true rfl⟩ rfl rfl hl.1 (Nat.le_of_ble_eq_true rfl) dX0_will_4 (fun rQ stQ hQ => wX0_in l E hX p1 (0 : Int32) (60 : Int32) st0 rQ stQ hQ) hf (fun x1 st2 H locs hw hf => ?_)
  refine fb_zeq (tgt := 31) hx hb dX0_will_7 (by decide) hf (fun hf => ?_) (fun hf => ?_)
  · refine lv_iconst (v := (-1 : Int32)) hx hb dX0_will_31 (by decide) ?_
    exact fd_i hend hw hf dX0_will_32
  refine lv_iload_n hx hb dX0_will_10 rfl (lv_at hl 3 rfl) ?_
  refine lv_iconst (v := (0 : Int32)) hx hb dX0_will_11 (by decide) ?_
  refine lv_iconst (v := (3 : Int32)) hx hb dX0_will_12 (by decide) ?_
  refine fc_Si (rest := []) (As := [.int p3, .int (0 : Int32), .int (3 : Int32)]) X hw hm_X0_in (lw_S q437 q438 q111 q439) ⟨rfl, rfl⟩ ⟨by rw [hRf]; exact Nat.le_of_ble_eq_true rfl, by rw [hRl]; exact Nat.le_of_ble_eq_true rfl⟩ rfl rfl hl.1 (Nat.le_of_ble_eq_true rfl) dX0_will_13 (fun rQ stQ hQ => wX0_in l E hX p3 (0 : Int32) (3 : Int32) st2 rQ stQ hQ) hf (fun x3 st4 H locs hw hf => ?_)
  refine fb_zeq (tgt := 31) hx hb dX0_will_16 (by decide) hf (fun hf => ?_) (fun hf => ?_)
  · refine lv_iconst (v := (-1 : Int32)) hx hb dX0_will_31 (by decide) ?_
    exact fd_i hend hw hf dX0_will_32
  refine lv_iload_n hx hb dX0_will_19 rfl (lv_at hl 3 rfl) ?_
  refine lv_iconst (v := (3 : Int32)) hx hb dX0_will_20 (by decide) ?_
  refine fb_ige (tgt := 33) hx hb dX0_will_21 (by decide) hf (fun hf => ?_) (fun hf => ?_)
  · refine lv_aload_n hx hb dX0_will_33 rfl (lv_at hl 0 rfl) ?_
    refine fo_gets X hw fc_X0 (hx0 hX) (k := 9) (d := 25) (n2 := 25) (by decide) rfl rfl q354 dX0_will_34 ?_
    refine lv_astore (lv' := [(4, .ref (eb E + 25)), (0, .ref (eb E + 0)), (1, .int p1), (2, .int p2), (3, .int p3)]) hx hb dX0_will_37 hl (by decide) rfl (fun ls hl => ?_)
    refine lv_aload hx hb dX0_will_39 (lv_at hl 0 rfl) ?_
    refine lv_aload_n hx hb dX0_will_41 rfl (lv_at hl 1 rfl) ?_
    refine fc_Vr (rest := [.ref (eb E + 25)]) (As := []) X hw hm_X0_table (lw_V q560 q562 qs6 q111 q563) ⟨rfl, rfl⟩ ⟨by rw [hRf]; exact Nat.le_of_ble_eq_true rfl, by rw [hRl]; exact Nat.le_of_ble_eq_true rfl⟩ fc_X0 rfl (hx0 hX) rfl rfl hl.1 (Nat.le_of_ble_eq_true rfl) dX0_will_42 (fun rQ stQ hQ => wX0_table l E hX st4 rQ stQ hQ) hf (fun x5 st6 H locs hw hf => ?_)
    have hc0 := ck_e hf
    clear hf
    obtain ⟨hc, hf⟩ := hc0
    replace hc := of_decide_eq_true hc
    subst hc
    refine fc_Vv (rest := []) (As := [.ref (eb E + 3)]) X hw hm_X2_takes (lw_V q1246 q449 q450 q113 q451) ⟨rfl, rfl⟩ ⟨by rw [hRf]; exact Nat.le_of_ble_eq_true rfl, by rw [hRl]; exact Nat.le_of_ble_eq_true rfl⟩ fc_X2 rfl (hx25 hX) rfl rfl hl.1 (Nat.le_of_ble_eq_true rfl) dX0_will_45 (fun stQ hQ => wX2_takes l E 25 3 (hxT25 hX) (hxT3 hX) st6 stQ hQ) hf (fun st8 H locs hw hf => ?_)
    refine lv_iconst (v := (0 : Int32)) hx hb dX0_will_48 (by decide) ?_
    refine lv_istore (lv' := [(5, .int (0 : Int32)), (4, .ref (eb E + 25)), (0, .ref (eb E + 0)), (1, .int p1), (2, .int p2), (3, .int p3)]) hx hb dX0_will_49 hl (by decide) rfl (fun ls hl => ?_)
    refine lp2_e (P := fun x9 st10 => ∀ (H : Heap) (locs : List Loc) (ls : Array Slot), lv_has ls 6 [(5, .int x9), (4, .ref (eb E + 25)), (0, .ref (eb E + 0)), (1, .int p1), (2, .int p2), (3, .int p3)] → fo_S E s st10 H locs → W p l e R s m args below meth c H locs 0 0 Q (F0 m 51 ls [])) (fun rec11 hrec11 x9 st10 hf => ?_) G _ _ hf H locs ls (lv_sub hl [0, 1, 2, 3, 4, 5] rfl) hw
    intro H locs ls hl hw
    refine lv_iload hx hb dX0_will_51 (lv_at hl 0 rfl) ?_
    refine lv_iload_n hx hb dX0_will_53 rfl (lv_at hl 3 rfl) ?_
    refine fb_ige (tgt := 70) hx hb dX0_will_54 (by decide) hf (fun hf => ?_) (fun hf => ?_)
    · refine lv_iload_n hx hb dX0_will_70 rfl (lv_at hl 5 rfl) ?_
      refine sw_e hf (fun e0 hf => ?_) (fun n0 hf => ?_)
      · refine lv_tableIn (tgt := 96) hx hb dX0_will_71 (by rw [e0]; decide) (by rw [e0]; decide) (off := 25) (by rw [e0]; decide) (by decide) ?_
        refine lv_aload hx hb dX0_will_96 (lv_at hl 1 rfl) ?_
        refine fo_getsN X hw fc_X2 (hx25 hX) (k := 0) (d := 1) (n2 := 26) (by decide) rfl rfl fn168 dX0_will_98 ?_
        refine lv_iload_n hx hb dX0_will_101 rfl (lv_at hl 4 rfl) ?_
        refine fo_iald X hw (hx26 hX) dX0_will_102 hf (fun hf => ?_)
        exact fd_i hend hw hf dX0_will_103
      refine sw_e hf (fun e0 hf => ?_) (fun n1 hf => ?_)
      · refine lv_tableIn (tgt := 104) hx hb dX0_will_71 (by rw [e0]; decide) (by rw [e0]; decide) (off := 33) (by rw [e0]; decide) (by decide) ?_
        refine lv_aload hx hb dX0_will_104 (lv_at hl 1 rfl) ?_
        refine fo_getsN X hw fc_X2 (hx25 hX) (k := 1) (d := 2) (n2 := 27) (by decide) rfl rfl fn171 dX0_will_106 ?_
        refine lv_iload_n hx hb dX0_will_109 rfl (lv_at hl 4 rfl) ?_
        refine fo_iald X hw (hx27 hX) dX0_will_110 hf (fun hf => ?_)
        exact fd_i hend hw hf dX0_will_111
      refine sw_e hf (fun e0 hf => ?_) (fun n2 hf => ?_)
      · refine lv_tableIn (tgt := 112) hx hb dX0_will_71 (by rw [e0]; decide) (by rw [e0]; decide) (off := 41) (by rw [e0]; decide) (by decide) ?_
        refine lv_aload_n hx hb dX0_will_112 rfl (lv_at hl 2 rfl) ?_
        refine fo_gets X hw fc_X0 (hx0 hX) (k := 2) (d := 2) (n2 := 2) (by decide) rfl rfl q347 dX0_will_113 ?_
        refine lv_aload hx hb dX0_will_116 (lv_at hl 1 rfl) ?_
        refine lv_iload_n hx hb dX0_will_118 rfl (lv_at hl 4 rfl) ?_
        refine fc_Vi (rest := []) (As := [.ref (eb E + 25), .int p2]) X hw hm_X1_isLost (lw_V q564 q565 q566 q112 q567) ⟨rfl, rfl⟩ ⟨by rw [hRf]; exact Nat.le_of_ble_eq_true rfl, by rw [hRl]; exact Nat.le_of_ble_eq_true rfl⟩ fc_X1 rfl (hx2 hX) rfl rfl hl.1 (Nat.le_of_ble_eq_true rfl) dX0_will_119 (fun rQ stQ hQ => wX1_isLost l E hX 25 p2 (hxT25 hX) st10 rQ stQ hQ) hf (fun x12 st13 H locs hw hf => ?_)
        refine fb_zeq (tgt := 129) hx hb dX0_will_122 (by decide) hf (fun hf => ?_) (fun hf => ?_)
        · refine lv_iconst (v := (0 : Int32)) hx hb dX0_will_129 (by decide) ?_
          exact fd_i hend hw hf dX0_will_130
        refine lv_iconst (v := (1 : Int32)) hx hb dX0_will_125 (by decide) ?_
        refine lv_goto (tgt := 130) hx hb dX0_will_126 (by decide) ?_
        exact fd_i hend hw hf dX0_will_130
      refine lv_tableOut (tgt := 131) hx hb dX0_will_71 (by have g0 := lv_neT n0 (a := 0) (by decide); have g1 := lv_neT n1 (a := 1) (by decide); have g2 := lv_neT n2 (a := 2) (by decide); omega) (by decide) ?_
      refine lv_aload hx hb dX0_will_131 (lv_at hl 1 rfl) ?_
      refine fc_Vi (rest := []) (As := []) X hw hm_X2_families (lw_V q1312 q1313 q1314 q113 q1315) ⟨rfl, rfl⟩ ⟨by rw [hRf]; exact Nat.le_of_ble_eq_true rfl, by rw [hRl]; exact Nat.le_of_ble_eq_true rfl⟩ fc_X2 rfl (hx25 hX) rfl rfl hl.1 (Nat.le_of_ble_eq_true rfl) dX0_will_133 (fun rQ stQ hQ => wX2_families l E G 25 (hxT25 hX) st10 rQ stQ hQ) hf (fun x14 st15 H locs hw hf => ?_)
      exact fd_i hend hw hf dX0_will_136
    refine lv_aload_n hx hb dX0_will_57 rfl (lv_at hl 2 rfl) ?_
    refine lv_aload hx hb dX0_will_58 (lv_at hl 1 rfl) ?_
    refine fc_Vi (rest := []) (As := [.ref (eb E + 25)]) X hw hm_X0_passes (lw_V q1291 q1293 qs25 q111 q1294) ⟨rfl, rfl⟩ ⟨by rw [hRf]; exact Nat.le_of_ble_eq_true rfl, by rw [hRl]; exact Nat.le_of_ble_eq_true rfl⟩ fc_X0 rfl (hx0 hX) rfl rfl hl.1 (Nat.le_of_ble_eq_true rfl) dX0_will_60 (fun rQ stQ hQ => wX0_passes l E hX G 25 (hxT25 hX) st10 rQ stQ hQ) hf (fun x16 st17 H locs hw hf => ?_)
    refine lv_pop hx hb dX0_will_63 rfl ?_
    refine fb_iinc (v := (1 : Int32)) (lv' := [(5, .int (x9 + (1 : Int32))), (4, .ref (eb E + 25)), (0, .ref (eb E + 0)), (1, .int p1), (2, .int p2), (3, .int p3)]) hx hb dX0_will_64 hl (k := 0) rfl (by decide) (by decide) rfl (fun ls hl => ?_)
    refine lv_goto (tgt := 51) hx hb dX0_will_67 (by decide) ?_
    exact hrec11 _ _ hf _ _ _ (lv_sub hl [0, 1, 2, 3, 4, 5] rfl) hw
  refine lv_iload_n hx hb dX0_will_24 rfl (lv_at hl 2 rfl) ?_
  refine fc_Si (rest := []) (As := [.int p2]) X hw hm_X0_isRoom (lw_S q546 q547 q111 q548) ⟨rfl, rfl⟩ ⟨by rw [hRf]; exact Nat.le_of_ble_eq_true rfl, by rw [hRl]; exact Nat.le_of_ble_eq_true rfl⟩ rfl rfl hl.1 (Nat.le_of_ble_eq_true rfl) dX0_will_25 (fun rQ stQ hQ => wX0_isRoom l E hX p2 st4 rQ stQ hQ) hf (fun x18 st19 H locs hw hf => ?_)
  refine fb_zne (tgt := 33) hx hb dX0_will_28 (by decide) hf (fun hf => ?_) (fun hf => ?_)
  · refine lv_aload_n hx hb dX0_will_33 rfl (lv_at hl 0 rfl) ?_
    refine fo_gets X hw fc_X0 (hx0 hX) (k := 9) (d := 25) (n2 := 25) (by decide) rfl rfl q354 dX0_will_34 ?_
    refine lv_astore (lv' := [(4, .ref (eb E + 25)), (0, .ref (eb E + 0)), (1, .int p1), (2, .int p2), (3, .int p3)]) hx hb dX0_will_37 hl (by decide) rfl (fun ls hl => ?_)
    refine lv_aload hx hb dX0_will_39 (lv_at hl 0 rfl) ?_
    refine lv_aload_n hx hb dX0_will_41 rfl (lv_at hl 1 rfl) ?_
    refine fc_Vr (rest := [.ref (eb E + 25)]) (As := []) X hw hm_X0_table (lw_V q560 q562 qs6 q111 q563) ⟨rfl, rfl⟩ ⟨by rw [hRf]; exact Nat.le_of_ble_eq_true rfl, by rw [hRl]; exact Nat.le_of_ble_eq_true rfl⟩ fc_X0 rfl (hx0 hX) rfl rfl hl.1 (Nat.le_of_ble_eq_true rfl) dX0_will_42 (fun rQ stQ hQ => wX0_table l E hX st19 rQ stQ hQ) hf (fun x20 st21 H locs hw hf => ?_)
    have hc0 := ck_e hf
    clear hf
    obtain ⟨hc, hf⟩ := hc0
    replace hc := of_decide_eq_true hc
    subst hc
    refine fc_Vv (rest := []) (As := [.ref (eb E + 3)]) X hw hm_X2_takes (lw_V q1246 q449 q450 q113 q451) ⟨rfl, rfl⟩ ⟨by rw [hRf]; exact Nat.le_of_ble_eq_true rfl, by rw [hRl]; exact Nat.le_of_ble_eq_true rfl⟩ fc_X2 rfl (hx25 hX) rfl rfl hl.1 (Nat.le_of_ble_eq_true rfl) dX0_will_45 (fun stQ hQ => wX2_takes l E 25 3 (hxT25 hX) (hxT3 hX) st21 stQ hQ) hf (fun st23 H locs hw hf => ?_)
    refine lv_iconst (v := (0 : Int32)) hx hb dX0_will_48 (by decide) ?_
    refine lv_istore (lv' := [(5, .int (0 : Int32)), (4, .ref (eb E + 25)), (0, .ref (eb E + 0)), (1, .int p1), (2, .int p2), (3, .int p3)]) hx hb dX0_will_49 hl (by decide) rfl (fun ls hl => ?_)
    refine lp2_e (P := fun x24 st25 => ∀ (H : Heap) (locs : List Loc) (ls : Array Slot), lv_has ls 6 [(5, .int x24), (4, .ref (eb E + 25)), (0, .ref (eb E + 0)), (1, .int p1), (2, .int p2), (3, .int p3)] → fo_S E s st25 H locs → W p l e R s m args below meth c H locs 0 0 Q (F0 m 51 ls [])) (fun rec26 hrec26 x24 st25 hf => ?_) G _ _ hf H locs ls (lv_sub hl [0, 1, 2, 3, 4, 5] rfl) hw
    intro H locs ls hl hw
    refine lv_iload hx hb dX0_will_51 (lv_at hl 0 rfl) ?_
    refine lv_iload_n hx hb dX0_will_53 rfl (lv_at hl 3 rfl) ?_
    refine fb_ige (tgt := 70) hx hb dX0_will_54 (by decide) hf (fun hf => ?_) (fun hf => ?_)
    · refine lv_iload_n hx hb dX0_will_70 rfl (lv_at hl 5 rfl) ?_
      refine sw_e hf (fun e0 hf => ?_) (fun n0 hf => ?_)
      · refine lv_tableIn (tgt := 96) hx hb dX0_will_71 (by rw [e0]; decide) (by rw [e0]; decide) (off := 25) (by rw [e0]; decide) (by decide) ?_
        refine lv_aload hx hb dX0_will_96 (lv_at hl 1 rfl) ?_
        refine fo_getsN X hw fc_X2 (hx25 hX) (k := 0) (d := 1) (n2 := 26) (by decide) rfl rfl fn168 dX0_will_98 ?_
        refine lv_iload_n hx hb dX0_will_101 rfl (lv_at hl 4 rfl) ?_
        refine fo_iald X hw (hx26 hX) dX0_will_102 hf (fun hf => ?_)
        exact fd_i hend hw hf dX0_will_103
      refine sw_e hf (fun e0 hf => ?_) (fun n1 hf => ?_)
      · refine lv_tableIn (tgt := 104) hx hb dX0_will_71 (by rw [e0]; decide) (by rw [e0]; decide) (off := 33) (by rw [e0]; decide) (by decide) ?_
        refine lv_aload hx hb dX0_will_104 (lv_at hl 1 rfl) ?_
        refine fo_getsN X hw fc_X2 (hx25 hX) (k := 1) (d := 2) (n2 := 27) (by decide) rfl rfl fn171 dX0_will_106 ?_
        refine lv_iload_n hx hb dX0_will_109 rfl (lv_at hl 4 rfl) ?_
        refine fo_iald X hw (hx27 hX) dX0_will_110 hf (fun hf => ?_)
        exact fd_i hend hw hf dX0_will_111
      refine sw_e hf (fun e0 hf => ?_) (fun n2 hf => ?_)
      · refine lv_tableIn (tgt := 112) hx hb dX0_will_71 (by rw [e0]; decide) (by rw [e0]; decide) (off := 41) (by rw [e0]; decide) (by decide) ?_
        refine lv_aload_n hx hb dX0_will_112 rfl (lv_at hl 2 rfl) ?_
        refine fo_gets X hw fc_X0 (hx0 hX) (k := 2) (d := 2) (n2 := 2) (by decide) rfl rfl q347 dX0_will_113 ?_
        refine lv_aload hx hb dX0_will_116 (lv_at hl 1 rfl) ?_
        refine lv_iload_n hx hb dX0_will_118 rfl (lv_at hl 4 rfl) ?_
        refine fc_Vi (rest := []) (As := [.ref (eb E + 25), .int p2]) X hw hm_X1_isLost (lw_V q564 q565 q566 q112 q567) ⟨rfl, rfl⟩ ⟨by rw [hRf]; exact Nat.le_of_ble_eq_true rfl, by rw [hRl]; exact Nat.le_of_ble_eq_true rfl⟩ fc_X1 rfl (hx2 hX) rfl rfl hl.1 (Nat.le_of_ble_eq_true rfl) dX0_will_119 (fun rQ stQ hQ => wX1_isLost l E hX 25 p2 (hxT25 hX) st25 rQ stQ hQ) hf (fun x27 st28 H locs hw hf => ?_)
        refine fb_zeq (tgt := 129) hx hb dX0_will_122 (by decide) hf (fun hf => ?_) (fun hf => ?_)
        · refine lv_iconst (v := (0 : Int32)) hx hb dX0_will_129 (by decide) ?_
          exact fd_i hend hw hf dX0_will_130
        refine lv_iconst (v := (1 : Int32)) hx hb dX0_will_125 (by decide) ?_
        refine lv_goto (tgt := 130) hx hb dX0_will_126 (by decide) ?_
        exact fd_i hend hw hf dX0_will_130
      refine lv_tableOut (tgt := 131) hx hb dX0_will_71 (by have g0 := lv_neT n0 (a := 0) (by decide); have g1 := lv_neT n1 (a := 1) (by decide); have g2 := lv_neT n2 (a := 2) (by decide); omega) (by decide) ?_
      refine lv_aload hx hb dX0_will_131 (lv_at hl 1 rfl) ?_
      refine fc_Vi (rest := []) (As := []) X hw hm_X2_families (lw_V q1312 q1313 q1314 q113 q1315) ⟨rfl, rfl⟩ ⟨by rw [hRf]; exact Nat.le_of_ble_eq_true rfl, by rw [hRl]; exact Nat.le_of_ble_eq_true rfl⟩ fc_X2 rfl (hx25 hX) rfl rfl hl.1 (Nat.le_of_ble_eq_true rfl) dX0_will_133 (fun rQ stQ hQ => wX2_families l E G 25 (hxT25 hX) st25 rQ stQ hQ) hf (fun x29 st30 H locs hw hf => ?_)
      exact fd_i hend hw hf dX0_will_136
    refine lv_aload_n hx hb dX0_will_57 rfl (lv_at hl 2 rfl) ?_
    refine lv_aload hx hb dX0_will_58 (lv_at hl 1 rfl) ?_
    refine fc_Vi (rest := []) (As := [.ref (eb E + 25)]) X hw hm_X0_passes (lw_V q1291 q1293 qs25 q111 q1294) ⟨rfl, rfl⟩ ⟨by rw [hRf]; exact Nat.le_of_ble_eq_true rfl, by rw [hRl]; exact Nat.le_of_ble_eq_true rfl⟩ fc_X0 rfl (hx0 hX) rfl rfl hl.1 (Nat.le_of_ble_eq_true rfl) dX0_will_60 (fun rQ stQ hQ => wX0_passes l E hX G 25 (hxT25 hX) st25 rQ stQ hQ) hf (fun x31 st32 H locs hw hf => ?_)
    refine lv_pop hx hb dX0_will_63 rfl ?_
    refine fb_iinc (v := (1 : Int32)) (lv' := [(5, .int (x24 + (1 : Int32))), (4, .ref (eb E + 25)), (0, .ref (eb E + 0)), (1, .int p1), (2, .int p2), (3, .int p3)]) hx hb dX0_will_64 hl (k := 0) rfl (by decide) (by decide) rfl (fun ls hl => ?_)
    refine lv_goto (tgt := 51) hx hb dX0_will_67 (by decide) ?_
    exact hrec26 _ _ hf _ _ _ (lv_sub hl [0, 1, 2, 3, 4, 5] rfl) hw
  refine lv_iconst (v := (-1 : Int32)) hx hb dX0_will_31 (by decide) ?_
  exact fd_i hend hw hf dX0_will_32

/-- ForestRooms.lostRooms -/
def fX0_lostRooms (G : Nat) (p1 : Nat) (st0 : fo_St) : Option (Int32 × fo_St) := lp3_ (fun rec4 (x1 : Int32) (x2 : Int32) (st3 : fo_St) => if (16 : Int32) ≤ x1 then some (x2, st3) else bd_ (fX1_isLost p1 x1 st3) (fun x5 st6 => if x5 = 0 then lI_ (x2 + (0 : Int32)) (fun x7 => rec4 (x1 + (1 : Int32)) x7 st6) else lI_ (x2 + (1 : Int32)) (fun x8 => rec4 (x1 + (1 : Int32)) x8 st6))) G (0 : Int32) (0 : Int32) st0
theorem hm_X0_lostRooms : fo_M yX0_lostRooms 1 := ⟨by decide +kernel, by decide +kernel, by decide +kernel, by decide +kernel⟩
set_option maxHeartbeats 4000000 in
theorem wX0_lostRooms (l : Launch) (E : fo_E) (hX : fo_HX E) (G : Nat) (p1 : Nat) (hT_p1 : fo_tab E p1) (st0 : fo_St) (rZ : Int32) (stZ : fo_St) (hf : fX0_lostRooms G p1 st0 = some (rZ, stZ)) : CTi l E yX0_lostRooms (ws_ yX0_lostRooms cX0_lostRooms 4 (some .int)) ({ frames := 1, cells := 0, slots := 0, locals := 22 }) [.ref (eb E + 0), .ref (eb E + p1)] st0 rZ stZ := by
  refine fe_i hm_X0_lostRooms (Nat.le_of_ble_eq_true rfl) (fun p e R s m args below meth c Q hRf hRl X hend ls hl hw => ?_)
  have hx := X.1.1
  have hb := X.1.2.1
  have hl : lv_has ls 4 [(0, .ref (eb E + 0)), (1, .ref (eb E + p1))] := hl
  unfold fX0_lostRooms at hf
  generalize s.heap = H at hw ⊢
  generalize ([] : List Loc) = locs at hw ⊢
  refine lv_iconst (v := (0 : Int32)) hx hb dX0_lostRooms_0 (by decide) ?_
  refine lv_istore_n (lv' := [(2, .int (0 : Int32)), (0, .ref (eb E + 0)), (1, .ref (eb E + p1))]) hx hb dX0_lostRooms_1 rfl hl (by decide) rfl (fun ls hl => ?_)
  refine lv_iconst (v := (0 : Int32)) hx hb dX0_lostRooms_2 (by decide) ?_
  refine lv_istore_n (lv' := [(3, .int (0 : Int32)), (2, .int (0 : Int32)), (0, .ref (eb E + 0)), (1, .ref (eb E + p1))]) hx hb dX0_lostRooms_3 rfl hl (by decide) rfl (fun ls hl => ?_)
  refine lp3_e (P := fun x1 x2 st3 => ∀ (H : Heap) (locs : List Loc) (ls : Array Slot), lv_has ls 4 [(3, .int x1), (2, .int x2), (0, .ref (eb E + 0)), (1, .ref (eb E + p1))] → fo_S E s st3 H locs → W p l e R s m args below meth c H locs 0 0 Q (F0 m 4 ls [])) (fun rec4 hrec4 x1 x2 st3 hf => ?_) G _ _ _ hf H locs ls (lv_sub hl [0, 1, 2, 3] rfl) hw
  intro H locs ls hl hw
  refine lv_iload_n hx hb dX0_lostRooms_4 rfl (lv_at hl 0 rfl) ?_
  refine lv_bipush (v := (16 : Int32)) hx hb dX0_lostRooms_5 (by decide) ?_
  refine fb_ige (tgt := 36) hx hb dX0_lostRooms_7 (by decide) hf (fun hf => ?_) (fun hf => ?_)
  · refine lv_iload_n hx hb dX0_lostRooms_36 rfl (lv_at hl 1 rfl) ?_
    exact fd_i hend hw hf dX0_lostRooms_37
  refine lv_iload_n hx hb dX0_lostRooms_10 rfl (lv_at hl 1 rfl) ?_
  refine lv_aload_n hx hb dX0_lostRooms_11 rfl (lv_at hl 2 rfl) ?_
  refine fo_gets X hw fc_X0 (hx0 hX) (k := 2) (d := 2) (n2 := 2) (by decide) rfl rfl q347 dX0_lostRooms_12 ?_
  refine lv_aload_n hx hb dX0_lostRooms_15 rfl (lv_at hl 3 rfl) ?_
  refine lv_iload_n hx hb dX0_lostRooms_16 rfl (lv_at hl 0 rfl) ?_
  refine fc_Vi (rest := [.int x2]) (As := [.ref (eb E + p1), .int x1]) X hw hm_X1_isLost (lw_V q564 q565 q566 q112 q567) ⟨rfl, rfl⟩ ⟨by rw [hRf]; exact Nat.le_of_ble_eq_true rfl, by rw [hRl]; exact Nat.le_of_ble_eq_true rfl⟩ fc_X1 rfl (hx2 hX) rfl rfl hl.1 (Nat.le_of_ble_eq_true rfl) dX0_lostRooms_17 (fun rQ stQ hQ => wX1_isLost l E hX p1 x1 hT_p1 st3 rQ stQ hQ) hf (fun x5 st6 H locs hw hf => ?_)
  refine fb_zeq (tgt := 27) hx hb dX0_lostRooms_20 (by decide) hf (fun hf => ?_) (fun hf => ?_)
  · refine lv_iconst (v := (0 : Int32)) hx hb dX0_lostRooms_27 (by decide) ?_
    refine lv_iadd hx hb dX0_lostRooms_28 ?_
    refine fo_tI hf (fun x7 hf => ?_)
    refine lv_istore_n (lv' := [(2, .int x7), (3, .int x1), (0, .ref (eb E + 0)), (1, .ref (eb E + p1))]) hx hb dX0_lostRooms_29 rfl hl (by decide) rfl (fun ls hl => ?_)
    refine fb_iinc (v := (1 : Int32)) (lv' := [(3, .int (x1 + (1 : Int32))), (2, .int x7), (0, .ref (eb E + 0)), (1, .ref (eb E + p1))]) hx hb dX0_lostRooms_30 hl (k := 1) rfl (by decide) (by decide) rfl (fun ls hl => ?_)
    refine lv_goto (tgt := 4) hx hb dX0_lostRooms_33 (by decide) ?_
    exact hrec4 _ _ _ hf _ _ _ (lv_sub hl [0, 1, 2, 3] rfl) hw
  refine lv_iconst (v := (1 : Int32)) hx hb dX0_lostRooms_23 (by decide) ?_
  refine lv_goto (tgt := 28) hx hb dX0_lostRooms_24 (by decide) ?_
  refine lv_iadd hx hb dX0_lostRooms_28 ?_
  refine fo_tI hf (fun x8 hf => ?_)
  refine lv_istore_n (lv' := [(2, .int x8), (3, .int x1), (0, .ref (eb E + 0)), (1, .ref (eb E + p1))]) hx hb dX0_lostRooms_29 rfl hl (by decide) rfl (fun ls hl => ?_)
  refine fb_iinc (v := (1 : Int32)) (lv' := [(3, .int (x1 + (1 : Int32))), (2, .int x8), (0, .ref (eb E + 0)), (1, .ref (eb E + p1))]) hx hb dX0_lostRooms_30 hl (k := 1) rfl (by decide) (by decide) rfl (fun ls hl => ?_)
  refine lv_goto (tgt := 4) hx hb dX0_lostRooms_33 (by decide) ?_
  exact hrec4 _ _ _ hf _ _ _ (lv_sub hl [0, 1, 2, 3] rfl) hw

/-- ForestRooms.wood -/
def fX0_wood (tg : Nat → Nat × Nat) (G : Nat) (st0 : fo_St) : Option (Int32 × fo_St) := bd_ (fX0_table st0) (fun x1 st2 => ck_ (decide (x1 = 3)) (bv_ (fX2_takes 25 3 st2) (fun st4 => lp2_ (fun rec7 (x5 : Int32) (st6 : fo_St) => if (200 : Int32) < x5 then some ((-1 : Int32), st6) else bd_ (fX0_lostRooms G 25 st6) (fun x8 st9 => if ¬ x8 = (16 : Int32) then bd_ (fX0_passes tg G 25 st9) (fun x10 st11 => rec7 (x5 + (1 : Int32)) st11) else some (x5, st9))) G (0 : Int32) st4)))
theorem hm_X0_wood : fo_M yX0_wood 0 := ⟨by decide +kernel, by decide +kernel, by decide +kernel, by decide +kernel⟩
set_option maxHeartbeats 4000000 in
theorem wX0_wood (l : Launch) (E : fo_E) (hX : fo_HX E) (G : Nat) (st0 : fo_St) (rZ : Int32) (stZ : fo_St) (hf : fX0_wood (et E) G st0 = some (rZ, stZ)) : CTi l E yX0_wood (ws_ yX0_wood cX0_wood 3 (some .int)) ({ frames := 133, cells := 0, slots := 0, locals := 7809 }) [.ref (eb E + 0)] st0 rZ stZ := by
  refine fe_i hm_X0_wood (Nat.le_of_ble_eq_true rfl) (fun p e R s m args below meth c Q hRf hRl X hend ls hl hw => ?_)
  have hx := X.1.1
  have hb := X.1.2.1
  have hl : lv_has ls 3 [(0, .ref (eb E + 0))] := hl
  unfold fX0_wood at hf
  generalize s.heap = H at hw ⊢
  generalize ([] : List Loc) = locs at hw ⊢
  refine lv_aload_n hx hb dX0_wood_0 rfl (lv_at hl 0 rfl) ?_
  refine fo_gets X hw fc_X0 (hx0 hX) (k := 9) (d := 25) (n2 := 25) (by decide) rfl rfl q354 dX0_wood_1 ?_
  refine lv_astore_n (lv' := [(1, .ref (eb E + 25)), (0, .ref (eb E + 0))]) hx hb dX0_wood_4 rfl hl (by decide) rfl (fun ls hl => ?_)
  refine lv_aload_n hx hb dX0_wood_5 rfl (lv_at hl 0 rfl) ?_
  refine lv_aload_n hx hb dX0_wood_6 rfl (lv_at hl 1 rfl) ?_
  refine fc_Vr (rest := [.ref (eb E + 25)]) (As := []) X hw hm_X0_table (lw_V q560 q562 qs6 q111 q563) ⟨rfl, rfl⟩ ⟨by rw [hRf]; exact Nat.le_of_ble_eq_true rfl, by rw [hRl]; exact Nat.le_of_ble_eq_true rfl⟩ fc_X0 rfl (hx0 hX) rfl rfl hl.1 (Nat.le_of_ble_eq_true rfl) dX0_wood_7 (fun rQ stQ hQ => wX0_table l E hX st0 rQ stQ hQ) hf (fun x1 st2 H locs hw hf => ?_)
  have hc0 := ck_e hf
  clear hf
  obtain ⟨hc, hf⟩ := hc0
  replace hc := of_decide_eq_true hc
  subst hc
  refine fc_Vv (rest := []) (As := [.ref (eb E + 3)]) X hw hm_X2_takes (lw_V q1246 q449 q450 q113 q451) ⟨rfl, rfl⟩ ⟨by rw [hRf]; exact Nat.le_of_ble_eq_true rfl, by rw [hRl]; exact Nat.le_of_ble_eq_true rfl⟩ fc_X2 rfl (hx25 hX) rfl rfl hl.1 (Nat.le_of_ble_eq_true rfl) dX0_wood_10 (fun stQ hQ => wX2_takes l E 25 3 (hxT25 hX) (hxT3 hX) st2 stQ hQ) hf (fun st4 H locs hw hf => ?_)
  refine lv_iconst (v := (0 : Int32)) hx hb dX0_wood_13 (by decide) ?_
  refine lv_istore_n (lv' := [(2, .int (0 : Int32)), (1, .ref (eb E + 25)), (0, .ref (eb E + 0))]) hx hb dX0_wood_14 rfl hl (by decide) rfl (fun ls hl => ?_)
  refine lp2_e (P := fun x5 st6 => ∀ (H : Heap) (locs : List Loc) (ls : Array Slot), lv_has ls 3 [(2, .int x5), (1, .ref (eb E + 25)), (0, .ref (eb E + 0))] → fo_S E s st6 H locs → W p l e R s m args below meth c H locs 0 0 Q (F0 m 15 ls [])) (fun rec7 hrec7 x5 st6 hf => ?_) G _ _ hf H locs ls (lv_sub hl [0, 1, 2] rfl) hw
  intro H locs ls hl hw
  refine lv_iload_n hx hb dX0_wood_15 rfl (lv_at hl 0 rfl) ?_
  refine lv_sipush (v := (200 : Int32)) hx hb dX0_wood_16 (by decide) ?_
  refine fb_igt (tgt := 46) hx hb dX0_wood_19 (by decide) hf (fun hf => ?_) (fun hf => ?_)
  · refine lv_iconst (v := (-1 : Int32)) hx hb dX0_wood_46 (by decide) ?_
    exact fd_i hend hw hf dX0_wood_47
  refine lv_aload_n hx hb dX0_wood_22 rfl (lv_at hl 2 rfl) ?_
  refine lv_aload_n hx hb dX0_wood_23 rfl (lv_at hl 1 rfl) ?_
  refine fc_Vi (rest := []) (As := [.ref (eb E + 25)]) X hw hm_X0_lostRooms (lw_V q1320 q1322 qs27 q111 q1323) ⟨rfl, rfl⟩ ⟨by rw [hRf]; exact Nat.le_of_ble_eq_true rfl, by rw [hRl]; exact Nat.le_of_ble_eq_true rfl⟩ fc_X0 rfl (hx0 hX) rfl rfl hl.1 (Nat.le_of_ble_eq_true rfl) dX0_wood_24 (fun rQ stQ hQ => wX0_lostRooms l E hX G 25 (hxT25 hX) st6 rQ stQ hQ) hf (fun x8 st9 H locs hw hf => ?_)
  refine lv_bipush (v := (16 : Int32)) hx hb dX0_wood_27 (by decide) ?_
  refine fb_ine (tgt := 34) hx hb dX0_wood_29 (by decide) hf (fun hf => ?_) (fun hf => ?_)
  · refine lv_aload_n hx hb dX0_wood_34 rfl (lv_at hl 2 rfl) ?_
    refine lv_aload_n hx hb dX0_wood_35 rfl (lv_at hl 1 rfl) ?_
    refine fc_Vi (rest := []) (As := [.ref (eb E + 25)]) X hw hm_X0_passes (lw_V q1291 q1293 qs25 q111 q1294) ⟨rfl, rfl⟩ ⟨by rw [hRf]; exact Nat.le_of_ble_eq_true rfl, by rw [hRl]; exact Nat.le_of_ble_eq_true rfl⟩ fc_X0 rfl (hx0 hX) rfl rfl hl.1 (Nat.le_of_ble_eq_true rfl) dX0_wood_36 (fun rQ stQ hQ => wX0_passes l E hX G 25 (hxT25 hX) st9 rQ stQ hQ) hf (fun x10 st11 H locs hw hf => ?_)
    refine lv_pop hx hb dX0_wood_39 rfl ?_
    refine fb_iinc (v := (1 : Int32)) (lv' := [(2, .int (x5 + (1 : Int32))), (1, .ref (eb E + 25)), (0, .ref (eb E + 0))]) hx hb dX0_wood_40 hl (k := 0) rfl (by decide) (by decide) rfl (fun ls hl => ?_)
    refine lv_goto (tgt := 15) hx hb dX0_wood_43 (by decide) ?_
    exact hrec7 _ _ hf _ _ _ (lv_sub hl [0, 1, 2] rfl) hw
  refine lv_iload_n hx hb dX0_wood_32 rfl (lv_at hl 0 rfl) ?_
  exact fd_i hend hw hf dX0_wood_33

/-- ForestRooms.ones -/
def fX0_ones (p1 : Int32) (st0 : fo_St) : Option (Int32 × fo_St) := bd_ (fJ13_bitCount p1 st0) (fun x1 st2 => some (x1, st2))
theorem hm_X0_ones : fo_M yX0_ones 1 := ⟨by decide +kernel, by decide +kernel, by decide +kernel, by decide +kernel⟩
set_option maxHeartbeats 4000000 in
theorem wX0_ones (l : Launch) (E : fo_E) (hX : fo_HX E) (p1 : Int32) (st0 : fo_St) (rZ : Int32) (stZ : fo_St) (hf : fX0_ones p1 st0 = some (rZ, stZ)) : CTi l E yX0_ones (ws_ yX0_ones cX0_ones 1 (some .int)) ({ frames := 1, cells := 0, slots := 0, locals := 20 }) [.int p1] st0 rZ stZ := by
  refine fe_i hm_X0_ones (Nat.le_of_ble_eq_true rfl) (fun p e R s m args below meth c Q hRf hRl X hend ls hl hw => ?_)
  have hx := X.1.1
  have hb := X.1.2.1
  have hl : lv_has ls 1 [(0, .int p1)] := hl
  unfold fX0_ones at hf
  generalize s.heap = H at hw ⊢
  generalize ([] : List Loc) = locs at hw ⊢
  refine lv_iload_n hx hb dX0_ones_0 rfl (lv_at hl 0 rfl) ?_
  refine fc_Si (rest := []) (As := [.int p1]) X hw hm_J13_bitCount (lw_S q1331 q1332 q146 q1333) ⟨rfl, rfl⟩ ⟨by rw [hRf]; exact Nat.le_of_ble_eq_true rfl, by rw [hRl]; exact Nat.le_of_ble_eq_true rfl⟩ rfl rfl hl.1 (Nat.le_of_ble_eq_true rfl) dX0_ones_1 (fun rQ stQ hQ => wJ13_bitCount l E p1 st0 rQ stQ hQ) hf (fun x1 st2 H locs hw hf => ?_)
  exact fd_i hend hw hf dX0_ones_4

/-- ForestRooms.isKept -/
def fX0_isKept (tg : Nat → Nat × Nat) (G : Nat) (p1 : Int32) (p2 : Int32) (p3 : Int32) (st0 : fo_St) : Option (Int32 × fo_St) := bd_ (fX0_table st0) (fun x1 st2 => ck_ (decide (x1 = 3)) (bv_ (fX2_takes 25 3 st2) (fun st4 => lp2_ (fun rec7 (x5 : Int32) (st6 : fo_St) => if (16 : Int32) ≤ x5 then lp2_ (fun rec10 (x8 : Int32) (st9 : fo_St) => if p2 ≤ x8 then bd_ (fX1_isLost 25 p1 st9) (fun x11 st12 => if ¬ x11 = 0 then some ((0 : Int32), st12) else some ((1 : Int32), st12)) else bd_ (fX1_isLost 25 p1 st9) (fun x13 st14 => if x13 = 0 then bd_ (fX0_passes tg G 25 st14) (fun x15 st16 => rec10 (x8 + (1 : Int32)) st16) else some ((0 : Int32), st14))) G (0 : Int32) st6 else bd_ (fX0_isOf p3 x5 st6) (fun x17 st18 => if x17 = 0 then rec7 (x5 + (1 : Int32)) st18 else bv_ (fX2_falls 25 x5 st18) (fun st20 => rec7 (x5 + (1 : Int32)) st20))) G (0 : Int32) st4)))
theorem hm_X0_isKept : fo_M yX0_isKept 3 := ⟨by decide +kernel, by decide +kernel, by decide +kernel, by decide +kernel⟩
set_option maxHeartbeats 4000000 in
theorem wX0_isKept (l : Launch) (E : fo_E) (hX : fo_HX E) (G : Nat) (p1 : Int32) (p2 : Int32) (p3 : Int32) (st0 : fo_St) (rZ : Int32) (stZ : fo_St) (hf : fX0_isKept (et E) G p1 p2 p3 st0 = some (rZ, stZ)) : CTi l E yX0_isKept (ws_ yX0_isKept cX0_isKept 6 (some .boolean)) ({ frames := 133, cells := 0, slots := 0, locals := 7809 }) [.ref (eb E + 0), .int p1, .int p2, .int p3] st0 rZ stZ := by
  refine fe_z hm_X0_isKept (Nat.le_of_ble_eq_true rfl) (fun p e R s m args below meth c Q hRf hRl X hend ls hl hw => ?_)
  have hx := X.1.1
  have hb := X.1.2.1
  have hl : lv_has ls 6 [(0, .ref (eb E + 0)), (1, .int p1), (2, .int p2), (3, .int p3)] := hl
  unfold fX0_isKept at hf
  generalize s.heap = H at hw ⊢
  generalize ([] : List Loc) = locs at hw ⊢
  refine lv_aload_n hx hb dX0_isKept_0 rfl (lv_at hl 0 rfl) ?_
  refine fo_gets X hw fc_X0 (hx0 hX) (k := 9) (d := 25) (n2 := 25) (by decide) rfl rfl q354 dX0_isKept_1 ?_
  refine lv_astore (lv' := [(4, .ref (eb E + 25)), (0, .ref (eb E + 0)), (1, .int p1), (2, .int p2), (3, .int p3)]) hx hb dX0_isKept_4 hl (by decide) rfl (fun ls hl => ?_)
  refine lv_aload hx hb dX0_isKept_6 (lv_at hl 0 rfl) ?_
  refine lv_aload_n hx hb dX0_isKept_8 rfl (lv_at hl 1 rfl) ?_
  refine fc_Vr (rest := [.ref (eb E + 25)]) (As := []) X hw hm_X0_table (lw_V q560 q562 qs6 q111 q563) ⟨rfl, rfl⟩ ⟨by rw [hRf]; exact Nat.le_of_ble_eq_true rfl, by rw [hRl]; exact Nat.le_of_ble_eq_true rfl⟩ fc_X0 rfl (hx0 hX) rfl rfl hl.1 (Nat.le_of_ble_eq_true rfl) dX0_isKept_9 (fun rQ stQ hQ => wX0_table l E hX st0 rQ stQ hQ) hf (fun x1 st2 H locs hw hf => ?_)
  have hc0 := ck_e hf
  clear hf
  obtain ⟨hc, hf⟩ := hc0
  replace hc := of_decide_eq_true hc
  subst hc
  refine fc_Vv (rest := []) (As := [.ref (eb E + 3)]) X hw hm_X2_takes (lw_V q1246 q449 q450 q113 q451) ⟨rfl, rfl⟩ ⟨by rw [hRf]; exact Nat.le_of_ble_eq_true rfl, by rw [hRl]; exact Nat.le_of_ble_eq_true rfl⟩ fc_X2 rfl (hx25 hX) rfl rfl hl.1 (Nat.le_of_ble_eq_true rfl) dX0_isKept_12 (fun stQ hQ => wX2_takes l E 25 3 (hxT25 hX) (hxT3 hX) st2 stQ hQ) hf (fun st4 H locs hw hf => ?_)
  refine lv_iconst (v := (0 : Int32)) hx hb dX0_isKept_15 (by decide) ?_
  refine lv_istore (lv' := [(5, .int (0 : Int32)), (4, .ref (eb E + 25)), (0, .ref (eb E + 0)), (1, .int p1), (2, .int p2), (3, .int p3)]) hx hb dX0_isKept_16 hl (by decide) rfl (fun ls hl => ?_)
  refine lp2_e (P := fun x5 st6 => ∀ (H : Heap) (locs : List Loc) (ls : Array Slot), lv_has ls 6 [(5, .int x5), (4, .ref (eb E + 25)), (0, .ref (eb E + 0)), (1, .int p1), (2, .int p2), (3, .int p3)] → fo_S E s st6 H locs → W p l e R s m args below meth c H locs 0 0 Q (F0 m 18 ls [])) (fun rec7 hrec7 x5 st6 hf => ?_) G _ _ hf H locs ls (lv_sub hl [0, 1, 2, 3, 4, 5] rfl) hw
  intro H locs ls hl hw
  refine lv_iload hx hb dX0_isKept_18 (lv_at hl 0 rfl) ?_
  refine lv_bipush (v := (16 : Int32)) hx hb dX0_isKept_20 (by decide) ?_
  refine fb_ige (tgt := 47) hx hb dX0_isKept_22 (by decide) hf (fun hf => ?_) (fun hf => ?_)
  · refine lv_iconst (v := (0 : Int32)) hx hb dX0_isKept_47 (by decide) ?_
    refine lv_istore (lv' := [(5, .int (0 : Int32)), (4, .ref (eb E + 25)), (0, .ref (eb E + 0)), (1, .int p1), (2, .int p2), (3, .int p3)]) hx hb dX0_isKept_48 hl (by decide) rfl (fun ls hl => ?_)
    refine lp2_e (P := fun x8 st9 => ∀ (H : Heap) (locs : List Loc) (ls : Array Slot), lv_has ls 6 [(5, .int x8), (4, .ref (eb E + 25)), (0, .ref (eb E + 0)), (1, .int p1), (2, .int p2)] → fo_S E s st9 H locs → W p l e R s m args below meth c H locs 0 0 Q (F0 m 50 ls [])) (fun rec10 hrec10 x8 st9 hf => ?_) G _ _ hf H locs ls (lv_sub hl [0, 1, 2, 3, 4] rfl) hw
    intro H locs ls hl hw
    refine lv_iload hx hb dX0_isKept_50 (lv_at hl 0 rfl) ?_
    refine lv_iload_n hx hb dX0_isKept_52 rfl (lv_at hl 4 rfl) ?_
    refine fb_ige (tgt := 84) hx hb dX0_isKept_53 (by decide) hf (fun hf => ?_) (fun hf => ?_)
    · refine lv_aload_n hx hb dX0_isKept_84 rfl (lv_at hl 2 rfl) ?_
      refine fo_gets X hw fc_X0 (hx0 hX) (k := 2) (d := 2) (n2 := 2) (by decide) rfl rfl q347 dX0_isKept_85 ?_
      refine lv_aload hx hb dX0_isKept_88 (lv_at hl 1 rfl) ?_
      refine lv_iload_n hx hb dX0_isKept_90 rfl (lv_at hl 3 rfl) ?_
      refine fc_Vi (rest := []) (As := [.ref (eb E + 25), .int p1]) X hw hm_X1_isLost (lw_V q564 q565 q566 q112 q567) ⟨rfl, rfl⟩ ⟨by rw [hRf]; exact Nat.le_of_ble_eq_true rfl, by rw [hRl]; exact Nat.le_of_ble_eq_true rfl⟩ fc_X1 rfl (hx2 hX) rfl rfl hl.1 (Nat.le_of_ble_eq_true rfl) dX0_isKept_91 (fun rQ stQ hQ => wX1_isLost l E hX 25 p1 (hxT25 hX) st9 rQ stQ hQ) hf (fun x11 st12 H locs hw hf => ?_)
      refine fb_zne (tgt := 101) hx hb dX0_isKept_94 (by decide) hf (fun hf => ?_) (fun hf => ?_)
      · refine lv_iconst (v := (0 : Int32)) hx hb dX0_isKept_101 (by decide) ?_
        exact fd_z hend hw rfl hf dX0_isKept_102
      refine lv_iconst (v := (1 : Int32)) hx hb dX0_isKept_97 (by decide) ?_
      refine lv_goto (tgt := 102) hx hb dX0_isKept_98 (by decide) ?_
      exact fd_z hend hw rfl hf dX0_isKept_102
    refine lv_aload_n hx hb dX0_isKept_56 rfl (lv_at hl 2 rfl) ?_
    refine fo_gets X hw fc_X0 (hx0 hX) (k := 2) (d := 2) (n2 := 2) (by decide) rfl rfl q347 dX0_isKept_57 ?_
    refine lv_aload hx hb dX0_isKept_60 (lv_at hl 1 rfl) ?_
    refine lv_iload_n hx hb dX0_isKept_62 rfl (lv_at hl 3 rfl) ?_
    refine fc_Vi (rest := []) (As := [.ref (eb E + 25), .int p1]) X hw hm_X1_isLost (lw_V q564 q565 q566 q112 q567) ⟨rfl, rfl⟩ ⟨by rw [hRf]; exact Nat.le_of_ble_eq_true rfl, by rw [hRl]; exact Nat.le_of_ble_eq_true rfl⟩ fc_X1 rfl (hx2 hX) rfl rfl hl.1 (Nat.le_of_ble_eq_true rfl) dX0_isKept_63 (fun rQ stQ hQ => wX1_isLost l E hX 25 p1 (hxT25 hX) st9 rQ stQ hQ) hf (fun x13 st14 H locs hw hf => ?_)
    refine fb_zeq (tgt := 71) hx hb dX0_isKept_66 (by decide) hf (fun hf => ?_) (fun hf => ?_)
    · refine lv_aload_n hx hb dX0_isKept_71 rfl (lv_at hl 2 rfl) ?_
      refine lv_aload hx hb dX0_isKept_72 (lv_at hl 1 rfl) ?_
      refine fc_Vi (rest := []) (As := [.ref (eb E + 25)]) X hw hm_X0_passes (lw_V q1291 q1293 qs25 q111 q1294) ⟨rfl, rfl⟩ ⟨by rw [hRf]; exact Nat.le_of_ble_eq_true rfl, by rw [hRl]; exact Nat.le_of_ble_eq_true rfl⟩ fc_X0 rfl (hx0 hX) rfl rfl hl.1 (Nat.le_of_ble_eq_true rfl) dX0_isKept_74 (fun rQ stQ hQ => wX0_passes l E hX G 25 (hxT25 hX) st14 rQ stQ hQ) hf (fun x15 st16 H locs hw hf => ?_)
      refine lv_pop hx hb dX0_isKept_77 rfl ?_
      refine fb_iinc (v := (1 : Int32)) (lv' := [(5, .int (x8 + (1 : Int32))), (4, .ref (eb E + 25)), (0, .ref (eb E + 0)), (1, .int p1), (2, .int p2)]) hx hb dX0_isKept_78 hl (k := 0) rfl (by decide) (by decide) rfl (fun ls hl => ?_)
      refine lv_goto (tgt := 50) hx hb dX0_isKept_81 (by decide) ?_
      exact hrec10 _ _ hf _ _ _ (lv_sub hl [0, 1, 2, 3, 4] rfl) hw
    refine lv_iconst (v := (0 : Int32)) hx hb dX0_isKept_69 (by decide) ?_
    exact fd_z hend hw rfl hf dX0_isKept_70
  refine lv_iload_n hx hb dX0_isKept_25 rfl (lv_at hl 5 rfl) ?_
  refine lv_iload hx hb dX0_isKept_26 (lv_at hl 0 rfl) ?_
  refine fc_Si (rest := []) (As := [.int p3, .int x5]) X hw hm_X0_isOf (lw_S q1231 q1232 q111 q1233) ⟨rfl, rfl⟩ ⟨by rw [hRf]; exact Nat.le_of_ble_eq_true rfl, by rw [hRl]; exact Nat.le_of_ble_eq_true rfl⟩ rfl rfl hl.1 (Nat.le_of_ble_eq_true rfl) dX0_isKept_28 (fun rQ stQ hQ => wX0_isOf l E hX p3 x5 st6 rQ stQ hQ) hf (fun x17 st18 H locs hw hf => ?_)
  refine fb_zeq (tgt := 41) hx hb dX0_isKept_31 (by decide) hf (fun hf => ?_) (fun hf => ?_)
  · refine fb_iinc (v := (1 : Int32)) (lv' := [(5, .int (x5 + (1 : Int32))), (4, .ref (eb E + 25)), (0, .ref (eb E + 0)), (1, .int p1), (2, .int p2), (3, .int p3)]) hx hb dX0_isKept_41 hl (k := 0) rfl (by decide) (by decide) rfl (fun ls hl => ?_)
    refine lv_goto (tgt := 18) hx hb dX0_isKept_44 (by decide) ?_
    exact hrec7 _ _ hf _ _ _ (lv_sub hl [0, 1, 2, 3, 4, 5] rfl) hw
  refine lv_aload hx hb dX0_isKept_34 (lv_at hl 1 rfl) ?_
  refine lv_iload hx hb dX0_isKept_36 (lv_at hl 0 rfl) ?_
  refine fc_Vv (rest := []) (As := [.int x5]) X hw hm_X2_falls (lw_V q1263 q1264 q1265 q113 q1266) ⟨rfl, rfl⟩ ⟨by rw [hRf]; exact Nat.le_of_ble_eq_true rfl, by rw [hRl]; exact Nat.le_of_ble_eq_true rfl⟩ fc_X2 rfl (hx25 hX) rfl rfl hl.1 (Nat.le_of_ble_eq_true rfl) dX0_isKept_38 (fun stQ hQ => wX2_falls l E 25 x5 (hxT25 hX) st18 stQ hQ) hf (fun st20 H locs hw hf => ?_)
  refine fb_iinc (v := (1 : Int32)) (lv' := [(5, .int (x5 + (1 : Int32))), (4, .ref (eb E + 25)), (0, .ref (eb E + 0)), (1, .int p1), (2, .int p2), (3, .int p3)]) hx hb dX0_isKept_41 hl (k := 0) rfl (by decide) (by decide) rfl (fun ls hl => ?_)
  refine lv_goto (tgt := 18) hx hb dX0_isKept_44 (by decide) ?_
  exact hrec7 _ _ hf _ _ _ (lv_sub hl [0, 1, 2, 3, 4, 5] rfl) hw

/-- ForestRooms.keep -/
def fX0_keep (tg : Nat → Nat × Nat) (G : Nat) (p1 : Int32) (p2 : Int32) (p3 : Int32) (st0 : fo_St) : Option (Int32 × fo_St) := bd_ (fX0_isRoom p1 st0) (fun x1 st2 => if x1 = 0 then some ((-1 : Int32), st2) else bd_ (fX0_in p2 (0 : Int32) (20 : Int32) st2) (fun x3 st4 => if x3 = 0 then some ((-1 : Int32), st4) else bd_ (fX0_in p3 (0 : Int32) (1 : Int32) st4) (fun x5 st6 => if ¬ x5 = 0 then lp3_ (fun rec10 (x7 : Int32) (x8 : Int32) (st9 : fo_St) => if (16 : Int32) ≤ x7 then lp2_ (fun rec13 (x11 : Int32) (st12 : fo_St) => if (3 : Int32) < x11 then some ((-1 : Int32), st12) else lp2_ (fun rec16 (x14 : Int32) (st15 : fo_St) => if x8 < x14 then rec13 (x11 + (1 : Int32)) st15 else bd_ (fX0_ones x14 st15) (fun x17 st18 => if ¬ x17 = x11 then rec16 (x14 + (1 : Int32)) st18 else if ¬ (x14 &&& (x8 ^^^ (-1 : Int32))) = 0 then rec16 (x14 + (1 : Int32)) st18 else bd_ (fX0_isKept tg G p1 p2 x14 st18) (fun x19 st20 => if x19 = 0 then rec16 (x14 + (1 : Int32)) st20 else if ¬ p3 = 0 then some (x14, st20) else some (x11, st20)))) G (0 : Int32) st12) G (0 : Int32) st9 else bd_ (fX0_table st9) (fun x21 st22 => ck_ (decide (x21 = 3)) (bd_ (fX2_isTree 3 x7 st22) (fun x23 st24 => if x23 = 0 then lI_ (x8 ||| (0 : Int32)) (fun x25 => rec10 (x7 + (1 : Int32)) x25 st24) else lI_ (x8 ||| ((1 : Int32) <<< (x7 &&& 31))) (fun x26 => rec10 (x7 + (1 : Int32)) x26 st24))))) G (0 : Int32) (0 : Int32) st6 else some ((-1 : Int32), st6))))
theorem hm_X0_keep : fo_M yX0_keep 3 := ⟨by decide +kernel, by decide +kernel, by decide +kernel, by decide +kernel⟩
set_option maxHeartbeats 4000000 in
theorem wX0_keep (l : Launch) (E : fo_E) (hX : fo_HX E) (G : Nat) (p1 : Int32) (p2 : Int32) (p3 : Int32) (st0 : fo_St) (rZ : Int32) (stZ : fo_St) (hf : fX0_keep (et E) G p1 p2 p3 st0 = some (rZ, stZ)) : CTi l E yX0_keep (ws_ yX0_keep cX0_keep 7 (some .int)) ({ frames := 134, cells := 0, slots := 0, locals := 7834 }) [.ref (eb E + 0), .int p1, .int p2, .int p3] st0 rZ stZ := by
  refine fe_i hm_X0_keep (Nat.le_of_ble_eq_true rfl) (fun p e R s m args below meth c Q hRf hRl X hend ls hl hw => ?_)
  have hx := X.1.1
  have hb := X.1.2.1
  have hl : lv_has ls 7 [(0, .ref (eb E + 0)), (1, .int p1), (2, .int p2), (3, .int p3)] := hl
  unfold fX0_keep at hf
  generalize s.heap = H at hw ⊢
  generalize ([] : List Loc) = locs at hw ⊢
  refine lv_iload_n hx hb dX0_keep_0 rfl (lv_at hl 1 rfl) ?_
  refine fc_Si (rest := []) (As := [.int p1]) X hw hm_X0_isRoom (lw_S q546 q547 q111 q548) ⟨rfl, rfl⟩ ⟨by rw [hRf]; exact Nat.le_of_ble_eq_true rfl, by rw [hRl]; exact Nat.le_of_ble_eq_true rfl⟩ rfl rfl hl.1 (Nat.le_of_ble_eq_true rfl) dX0_keep_1 (fun rQ stQ hQ => wX0_isRoom l E hX p1 st0 rQ stQ hQ) hf (fun x1 st2 H locs hw hf => ?_)
  refine fb_zeq (tgt := 26) hx hb dX0_keep_4 (by decide) hf (fun hf => ?_) (fun hf => ?_)
  · refine lv_iconst (v := (-1 : Int32)) hx hb dX0_keep_26 (by decide) ?_
    exact fd_i hend hw hf dX0_keep_27
  refine lv_iload_n hx hb dX0_keep_7 rfl (lv_at hl 2 rfl) ?_
  refine lv_iconst (v := (0 : Int32)) hx hb dX0_keep_8 (by decide) ?_
  refine lv_bipush (v := (20 : Int32)) hx hb dX0_keep_9 (by decide) ?_
  refine fc_Si (rest := []) (As := [.int p2, .int (0 : Int32), .int (20 : Int32)]) X hw hm_X0_in (lw_S q437 q438 q111 q439) ⟨rfl, rfl⟩ ⟨by rw [hRf]; exact Nat.le_of_ble_eq_true rfl, by rw [hRl]; exact Nat.le_of_ble_eq_true rfl⟩ rfl rfl hl.1 (Nat.le_of_ble_eq_true rfl) dX0_keep_11 (fun rQ stQ hQ => wX0_in l E hX p2 (0 : Int32) (20 : Int32) st2 rQ stQ hQ) hf (fun x3 st4 H locs hw hf => ?_)
  refine fb_zeq (tgt := 26) hx hb dX0_keep_14 (by decide) hf (fun hf => ?_) (fun hf => ?_)
  · refine lv_iconst (v := (-1 : Int32)) hx hb dX0_keep_26 (by decide) ?_
    exact fd_i hend hw hf dX0_keep_27
  refine lv_iload_n hx hb dX0_keep_17 rfl (lv_at hl 3 rfl) ?_
  refine lv_iconst (v := (0 : Int32)) hx hb dX0_keep_18 (by decide) ?_
  refine lv_iconst (v := (1 : Int32)) hx hb dX0_keep_19 (by decide) ?_
  refine fc_Si (rest := []) (As := [.int p3, .int (0 : Int32), .int (1 : Int32)]) X hw hm_X0_in (lw_S q437 q438 q111 q439) ⟨rfl, rfl⟩ ⟨by rw [hRf]; exact Nat.le_of_ble_eq_true rfl, by rw [hRl]; exact Nat.le_of_ble_eq_true rfl⟩ rfl rfl hl.1 (Nat.le_of_ble_eq_true rfl) dX0_keep_20 (fun rQ stQ hQ => wX0_in l E hX p3 (0 : Int32) (1 : Int32) st4 rQ stQ hQ) hf (fun x5 st6 H locs hw hf => ?_)
  refine fb_zne (tgt := 28) hx hb dX0_keep_23 (by decide) hf (fun hf => ?_) (fun hf => ?_)
  · refine lv_iconst (v := (0 : Int32)) hx hb dX0_keep_28 (by decide) ?_
    refine lv_istore (lv' := [(4, .int (0 : Int32)), (0, .ref (eb E + 0)), (1, .int p1), (2, .int p2), (3, .int p3)]) hx hb dX0_keep_29 hl (by decide) rfl (fun ls hl => ?_)
    refine lv_iconst (v := (0 : Int32)) hx hb dX0_keep_31 (by decide) ?_
    refine lv_istore (lv' := [(5, .int (0 : Int32)), (4, .int (0 : Int32)), (0, .ref (eb E + 0)), (1, .int p1), (2, .int p2), (3, .int p3)]) hx hb dX0_keep_32 hl (by decide) rfl (fun ls hl => ?_)
    refine lp3_e (P := fun x7 x8 st9 => ∀ (H : Heap) (locs : List Loc) (ls : Array Slot), lv_has ls 7 [(5, .int x7), (4, .int x8), (0, .ref (eb E + 0)), (1, .int p1), (2, .int p2), (3, .int p3)] → fo_S E s st9 H locs → W p l e R s m args below meth c H locs 0 0 Q (F0 m 34 ls [])) (fun rec10 hrec10 x7 x8 st9 hf => ?_) G _ _ _ hf H locs ls (lv_sub hl [0, 1, 2, 3, 4, 5] rfl) hw
    intro H locs ls hl hw
    refine lv_iload hx hb dX0_keep_34 (lv_at hl 0 rfl) ?_
    refine lv_bipush (v := (16 : Int32)) hx hb dX0_keep_36 (by decide) ?_
    refine fb_ige (tgt := 72) hx hb dX0_keep_38 (by decide) hf (fun hf => ?_) (fun hf => ?_)
    · refine lv_iconst (v := (0 : Int32)) hx hb dX0_keep_72 (by decide) ?_
      refine lv_istore (lv' := [(5, .int (0 : Int32)), (4, .int x8), (0, .ref (eb E + 0)), (1, .int p1), (2, .int p2), (3, .int p3)]) hx hb dX0_keep_73 hl (by decide) rfl (fun ls hl => ?_)
      refine lp2_e (P := fun x11 st12 => ∀ (H : Heap) (locs : List Loc) (ls : Array Slot), lv_has ls 7 [(5, .int x11), (4, .int x8), (0, .ref (eb E + 0)), (1, .int p1), (2, .int p2), (3, .int p3)] → fo_S E s st12 H locs → W p l e R s m args below meth c H locs 0 0 Q (F0 m 75 ls [])) (fun rec13 hrec13 x11 st12 hf => ?_) G _ _ hf H locs ls (lv_sub hl [0, 1, 2, 3, 4, 5] rfl) hw
      intro H locs ls hl hw
      refine lv_iload hx hb dX0_keep_75 (lv_at hl 0 rfl) ?_
      refine lv_iconst (v := (3 : Int32)) hx hb dX0_keep_77 (by decide) ?_
      refine fb_igt (tgt := 146) hx hb dX0_keep_78 (by decide) hf (fun hf => ?_) (fun hf => ?_)
      · refine lv_iconst (v := (-1 : Int32)) hx hb dX0_keep_146 (by decide) ?_
        exact fd_i hend hw hf dX0_keep_147
      refine lv_iconst (v := (0 : Int32)) hx hb dX0_keep_81 (by decide) ?_
      refine lv_istore (lv' := [(6, .int (0 : Int32)), (5, .int x11), (4, .int x8), (0, .ref (eb E + 0)), (1, .int p1), (2, .int p2), (3, .int p3)]) hx hb dX0_keep_82 hl (by decide) rfl (fun ls hl => ?_)
      refine lp2_e (P := fun x14 st15 => ∀ (H : Heap) (locs : List Loc) (ls : Array Slot), lv_has ls 7 [(6, .int x14), (5, .int x11), (4, .int x8), (0, .ref (eb E + 0)), (1, .int p1), (2, .int p2), (3, .int p3)] → fo_S E s st15 H locs → W p l e R s m args below meth c H locs 0 0 Q (F0 m 84 ls [])) (fun rec16 hrec16 x14 st15 hf => ?_) G _ _ hf H locs ls (lv_sub hl [0, 1, 2, 3, 4, 5, 6] rfl) hw
      intro H locs ls hl hw
      refine lv_iload hx hb dX0_keep_84 (lv_at hl 0 rfl) ?_
      refine lv_iload hx hb dX0_keep_86 (lv_at hl 2 rfl) ?_
      refine fb_igt (tgt := 140) hx hb dX0_keep_88 (by decide) hf (fun hf => ?_) (fun hf => ?_)
      · refine fb_iinc (v := (1 : Int32)) (lv' := [(5, .int (x11 + (1 : Int32))), (6, .int x14), (4, .int x8), (0, .ref (eb E + 0)), (1, .int p1), (2, .int p2), (3, .int p3)]) hx hb dX0_keep_140 hl (k := 1) rfl (by decide) (by decide) rfl (fun ls hl => ?_)
        refine lv_goto (tgt := 75) hx hb dX0_keep_143 (by decide) ?_
        exact hrec13 _ _ hf _ _ _ (lv_sub hl [0, 2, 3, 4, 5, 6] rfl) hw
      refine lv_iload hx hb dX0_keep_91 (lv_at hl 0 rfl) ?_
      refine fc_Si (rest := []) (As := [.int x14]) X hw hm_X0_ones (lw_S q1328 q1329 q111 q1330) ⟨rfl, rfl⟩ ⟨by rw [hRf]; exact Nat.le_of_ble_eq_true rfl, by rw [hRl]; exact Nat.le_of_ble_eq_true rfl⟩ rfl rfl hl.1 (Nat.le_of_ble_eq_true rfl) dX0_keep_93 (fun rQ stQ hQ => wX0_ones l E hX x14 st15 rQ stQ hQ) hf (fun x17 st18 H locs hw hf => ?_)
      refine lv_iload hx hb dX0_keep_96 (lv_at hl 1 rfl) ?_
      refine fb_ine (tgt := 134) hx hb dX0_keep_98 (by decide) hf (fun hf => ?_) (fun hf => ?_)
      · refine fb_iinc (v := (1 : Int32)) (lv' := [(6, .int (x14 + (1 : Int32))), (5, .int x11), (4, .int x8), (0, .ref (eb E + 0)), (1, .int p1), (2, .int p2), (3, .int p3)]) hx hb dX0_keep_134 hl (k := 0) rfl (by decide) (by decide) rfl (fun ls hl => ?_)
        refine lv_goto (tgt := 84) hx hb dX0_keep_137 (by decide) ?_
        exact hrec16 _ _ hf _ _ _ (lv_sub hl [0, 1, 2, 3, 4, 5, 6] rfl) hw
      refine lv_iload hx hb dX0_keep_101 (lv_at hl 0 rfl) ?_
      refine lv_iload hx hb dX0_keep_103 (lv_at hl 2 rfl) ?_
      refine lv_iconst (v := (-1 : Int32)) hx hb dX0_keep_105 (by decide) ?_
      refine lv_ixor hx hb dX0_keep_106 ?_
      refine lv_iand hx hb dX0_keep_107 ?_
      refine fb_zne (tgt := 134) hx hb dX0_keep_108 (by decide) hf (fun hf => ?_) (fun hf => ?_)
      · refine fb_iinc (v := (1 : Int32)) (lv' := [(6, .int (x14 + (1 : Int32))), (5, .int x11), (4, .int x8), (0, .ref (eb E + 0)), (1, .int p1), (2, .int p2), (3, .int p3)]) hx hb dX0_keep_134 hl (k := 0) rfl (by decide) (by decide) rfl (fun ls hl => ?_)
        refine lv_goto (tgt := 84) hx hb dX0_keep_137 (by decide) ?_
        exact hrec16 _ _ hf _ _ _ (lv_sub hl [0, 1, 2, 3, 4, 5, 6] rfl) hw
      refine lv_aload_n hx hb dX0_keep_111 rfl (lv_at hl 3 rfl) ?_
      refine lv_iload_n hx hb dX0_keep_112 rfl (lv_at hl 4 rfl) ?_
      refine lv_iload_n hx hb dX0_keep_113 rfl (lv_at hl 5 rfl) ?_
      refine lv_iload hx hb dX0_keep_114 (lv_at hl 0 rfl) ?_
      refine fc_Vi (rest := []) (As := [.int p1, .int p2, .int x14]) X hw hm_X0_isKept (lw_V q1337 q1339 qs28 q111 q1340) ⟨rfl, rfl⟩ ⟨by rw [hRf]; exact Nat.le_of_ble_eq_true rfl, by rw [hRl]; exact Nat.le_of_ble_eq_true rfl⟩ fc_X0 rfl (hx0 hX) rfl rfl hl.1 (Nat.le_of_ble_eq_true rfl) dX0_keep_116 (fun rQ stQ hQ => wX0_isKept l E hX G p1 p2 x14 st18 rQ stQ hQ) hf (fun x19 st20 H locs hw hf => ?_)
      refine fb_zeq (tgt := 134) hx hb dX0_keep_119 (by decide) hf (fun hf => ?_) (fun hf => ?_)
      · refine fb_iinc (v := (1 : Int32)) (lv' := [(6, .int (x14 + (1 : Int32))), (5, .int x11), (4, .int x8), (0, .ref (eb E + 0)), (1, .int p1), (2, .int p2), (3, .int p3)]) hx hb dX0_keep_134 hl (k := 0) rfl (by decide) (by decide) rfl (fun ls hl => ?_)
        refine lv_goto (tgt := 84) hx hb dX0_keep_137 (by decide) ?_
        exact hrec16 _ _ hf _ _ _ (lv_sub hl [0, 1, 2, 3, 4, 5, 6] rfl) hw
      refine lv_iload_n hx hb dX0_keep_122 rfl (lv_at hl 6 rfl) ?_
      refine fb_zne (tgt := 131) hx hb dX0_keep_123 (by decide) hf (fun hf => ?_) (fun hf => ?_)
      · refine lv_iload hx hb dX0_keep_131 (lv_at hl 0 rfl) ?_
        exact fd_i hend hw hf dX0_keep_133
      refine lv_iload hx hb dX0_keep_126 (lv_at hl 1 rfl) ?_
      refine lv_goto (tgt := 133) hx hb dX0_keep_128 (by decide) ?_
      exact fd_i hend hw hf dX0_keep_133
    refine lv_iload hx hb dX0_keep_41 (lv_at hl 1 rfl) ?_
    refine lv_aload_n hx hb dX0_keep_43 rfl (lv_at hl 2 rfl) ?_
    refine fc_Vr (rest := [.int x8]) (As := []) X hw hm_X0_table (lw_V q560 q562 qs6 q111 q563) ⟨rfl, rfl⟩ ⟨by rw [hRf]; exact Nat.le_of_ble_eq_true rfl, by rw [hRl]; exact Nat.le_of_ble_eq_true rfl⟩ fc_X0 rfl (hx0 hX) rfl rfl hl.1 (Nat.le_of_ble_eq_true rfl) dX0_keep_44 (fun rQ stQ hQ => wX0_table l E hX st9 rQ stQ hQ) hf (fun x21 st22 H locs hw hf => ?_)
    have hc0 := ck_e hf
    clear hf
    obtain ⟨hc, hf⟩ := hc0
    replace hc := of_decide_eq_true hc
    subst hc
    refine lv_iload hx hb dX0_keep_47 (lv_at hl 0 rfl) ?_
    refine fc_Vi (rest := [.int x8]) (As := [.int x7]) X hw hm_X2_isTree (lw_V q568 q569 q570 q113 q571) ⟨rfl, rfl⟩ ⟨by rw [hRf]; exact Nat.le_of_ble_eq_true rfl, by rw [hRl]; exact Nat.le_of_ble_eq_true rfl⟩ fc_X2 rfl (hx3 hX) rfl rfl hl.1 (Nat.le_of_ble_eq_true rfl) dX0_keep_49 (fun rQ stQ hQ => wX2_isTree l E 3 x7 (hxT3 hX) st22 rQ stQ hQ) hf (fun x23 st24 H locs hw hf => ?_)
    refine fb_zeq (tgt := 62) hx hb dX0_keep_52 (by decide) hf (fun hf => ?_) (fun hf => ?_)
    · refine lv_iconst (v := (0 : Int32)) hx hb dX0_keep_62 (by decide) ?_
      refine lv_ior hx hb dX0_keep_63 ?_
      refine fo_tI hf (fun x25 hf => ?_)
      refine lv_istore (lv' := [(4, .int x25), (5, .int x7), (0, .ref (eb E + 0)), (1, .int p1), (2, .int p2), (3, .int p3)]) hx hb dX0_keep_64 hl (by decide) rfl (fun ls hl => ?_)
      refine fb_iinc (v := (1 : Int32)) (lv' := [(5, .int (x7 + (1 : Int32))), (4, .int x25), (0, .ref (eb E + 0)), (1, .int p1), (2, .int p2), (3, .int p3)]) hx hb dX0_keep_66 hl (k := 1) rfl (by decide) (by decide) rfl (fun ls hl => ?_)
      refine lv_goto (tgt := 34) hx hb dX0_keep_69 (by decide) ?_
      exact hrec10 _ _ _ hf _ _ _ (lv_sub hl [0, 1, 2, 3, 4, 5] rfl) hw
    refine lv_iconst (v := (1 : Int32)) hx hb dX0_keep_55 (by decide) ?_
    refine lv_iload hx hb dX0_keep_56 (lv_at hl 0 rfl) ?_
    refine lv_ishl hx hb dX0_keep_58 ?_
    refine lv_goto (tgt := 63) hx hb dX0_keep_59 (by decide) ?_
    refine lv_ior hx hb dX0_keep_63 ?_
    refine fo_tI hf (fun x26 hf => ?_)
    refine lv_istore (lv' := [(4, .int x26), (5, .int x7), (0, .ref (eb E + 0)), (1, .int p1), (2, .int p2), (3, .int p3)]) hx hb dX0_keep_64 hl (by decide) rfl (fun ls hl => ?_)
    refine fb_iinc (v := (1 : Int32)) (lv' := [(5, .int (x7 + (1 : Int32))), (4, .int x26), (0, .ref (eb E + 0)), (1, .int p1), (2, .int p2), (3, .int p3)]) hx hb dX0_keep_66 hl (k := 1) rfl (by decide) (by decide) rfl (fun ls hl => ?_)
    refine lv_goto (tgt := 34) hx hb dX0_keep_69 (by decide) ?_
    exact hrec10 _ _ _ hf _ _ _ (lv_sub hl [0, 1, 2, 3, 4, 5] rfl) hw
  refine lv_iconst (v := (-1 : Int32)) hx hb dX0_keep_26 (by decide) ?_
  exact fd_i hend hw hf dX0_keep_27

/-- ForestRooms.bestOf -/
def fX0_bestOf (G : Nat) (p1 : Int32) (p2 : Int32) (st0 : fo_St) : Option (Int32 × fo_St) := lp2_ (fun rec3 (x1 : Int32) (st2 : fo_St) => if (64 : Int32) ≤ x1 then lp2_ (fun rec6 (x4 : Int32) (st5 : fo_St) => if (16 : Int32) ≤ x4 then ck_ (fo_in p1 64) (some ((gi_ st5 36 p1.toNatClampNeg), st5)) else bd_ (fX0_isOf p2 x4 st5) (fun x7 st8 => if x7 = 0 then lt_ (sc_ st8 36 37 (0 : Int32).toNatClampNeg (0 : Int32).toNatClampNeg (64 : Int32).toNatClampNeg) (fun st9 => lp2_ (fun rec12 (x10 : Int32) (st11 : fo_St) => if (64 : Int32) ≤ x10 then lt_ (sc_ st11 37 36 (0 : Int32).toNatClampNeg (0 : Int32).toNatClampNeg (64 : Int32).toNatClampNeg) (fun st13 => rec6 (x4 + (1 : Int32)) st13) else lp2_ (fun rec16 (x14 : Int32) (st15 : fo_St) => if (6 : Int32) ≤ x14 then rec12 (x10 + (1 : Int32)) st15 else bd_ (fX0_isOf x10 x14 st15) (fun x17 st18 => if x17 = 0 then rec16 (x14 + (1 : Int32)) st18 else ck_ (fo_in x10 64) (ck_ (fo_in (x10 &&& (((1 : Int32) <<< (x14 &&& 31)) ^^^ (-1 : Int32))) 64) (ck_ (fo_in (((16 : Int32) * x14) + x4) 96) (ck_ (fo_in x10 64) (lt_ (si_ st18 37 x10.toNatClampNeg (mxI_ (gi_ st18 37 x10.toNatClampNeg) ((gi_ st18 36 (x10 &&& (((1 : Int32) <<< (x14 &&& 31)) ^^^ (-1 : Int32))).toNatClampNeg) + (gi_ st18 35 (((16 : Int32) * x14) + x4).toNatClampNeg)))) (fun st19 => rec16 (x14 + (1 : Int32)) st19))))))) G (0 : Int32) st11) G (1 : Int32) st9) else rec6 (x4 + (1 : Int32)) st8)) G (0 : Int32) st2 else jn_ (fun (x20 : Int32) => ck_ (fo_in x1 64) (lt_ (si_ st2 36 x1.toNatClampNeg x20) (fun st22 => rec3 (x1 + (1 : Int32)) st22))) (fun k21 => if ¬ x1 = 0 then k21 (-1000000 : Int32) else k21 (0 : Int32))) G (0 : Int32) st0
theorem hm_X0_bestOf : fo_M yX0_bestOf 2 := ⟨by decide +kernel, by decide +kernel, by decide +kernel, by decide +kernel⟩
set_option maxHeartbeats 4000000 in
theorem wX0_bestOf (l : Launch) (E : fo_E) (hX : fo_HX E) (G : Nat) (p1 : Int32) (p2 : Int32) (st0 : fo_St) (rZ : Int32) (stZ : fo_St) (hf : fX0_bestOf G p1 p2 st0 = some (rZ, stZ)) : CTi l E yX0_bestOf (ws_ yX0_bestOf cX0_bestOf 6 (some .int)) ({ frames := 1, cells := 0, slots := 0, locals := 30 }) [.ref (eb E + 0), .int p1, .int p2] st0 rZ stZ := by
  refine fe_i hm_X0_bestOf (Nat.le_of_ble_eq_true rfl) (fun p e R s m args below meth c Q hRf hRl X hend ls hl hw => ?_)
  have hx := X.1.1
  have hb := X.1.2.1
  have hl : lv_has ls 6 [(0, .ref (eb E + 0)), (1, .int p1), (2, .int p2)] := hl
  unfold fX0_bestOf at hf
  generalize s.heap = H at hw ⊢
  generalize ([] : List Loc) = locs at hw ⊢
  refine lv_iconst (v := (0 : Int32)) hx hb dX0_bestOf_0 (by decide) ?_
  refine lv_istore_n (lv' := [(3, .int (0 : Int32)), (0, .ref (eb E + 0)), (1, .int p1), (2, .int p2)]) hx hb dX0_bestOf_1 rfl hl (by decide) rfl (fun ls hl => ?_)
  refine lp2_e (P := fun x1 st2 => ∀ (H : Heap) (locs : List Loc) (ls : Array Slot), lv_has ls 6 [(3, .int x1), (0, .ref (eb E + 0)), (1, .int p1), (2, .int p2)] → fo_S E s st2 H locs → W p l e R s m args below meth c H locs 0 0 Q (F0 m 2 ls [])) (fun rec3 hrec3 x1 st2 hf => ?_) G _ _ hf H locs ls (lv_sub hl [0, 1, 2, 3] rfl) hw
  intro H locs ls hl hw
  refine lv_iload_n hx hb dX0_bestOf_2 rfl (lv_at hl 0 rfl) ?_
  refine lv_bipush (v := (64 : Int32)) hx hb dX0_bestOf_3 (by decide) ?_
  refine fb_ige (tgt := 31) hx hb dX0_bestOf_5 (by decide) hf (fun hf => ?_) (fun hf => ?_)
  · refine lv_iconst (v := (0 : Int32)) hx hb dX0_bestOf_31 (by decide) ?_
    refine lv_istore_n (lv' := [(3, .int (0 : Int32)), (0, .ref (eb E + 0)), (1, .int p1), (2, .int p2)]) hx hb dX0_bestOf_32 rfl hl (by decide) rfl (fun ls hl => ?_)
    refine lp2_e (P := fun x4 st5 => ∀ (H : Heap) (locs : List Loc) (ls : Array Slot), lv_has ls 6 [(3, .int x4), (0, .ref (eb E + 0)), (1, .int p1), (2, .int p2)] → fo_S E s st5 H locs → W p l e R s m args below meth c H locs 0 0 Q (F0 m 33 ls [])) (fun rec6 hrec6 x4 st5 hf => ?_) G _ _ hf H locs ls (lv_sub hl [0, 1, 2, 3] rfl) hw
    intro H locs ls hl hw
    refine lv_iload_n hx hb dX0_bestOf_33 rfl (lv_at hl 0 rfl) ?_
    refine lv_bipush (v := (16 : Int32)) hx hb dX0_bestOf_34 (by decide) ?_
    refine fb_ige (tgt := 178) hx hb dX0_bestOf_36 (by decide) hf (fun hf => ?_) (fun hf => ?_)
    · refine lv_aload_n hx hb dX0_bestOf_178 rfl (lv_at hl 1 rfl) ?_
      refine fo_gets X hw fc_X0 (hx0 hX) (k := 20) (d := 36) (n2 := 36) (by decide) rfl rfl q365 dX0_bestOf_179 ?_
      refine lv_iload_n hx hb dX0_bestOf_182 rfl (lv_at hl 2 rfl) ?_
      refine fo_iald X hw (hx36 hX) dX0_bestOf_183 hf (fun hf => ?_)
      exact fd_i hend hw hf dX0_bestOf_184
    refine lv_iload_n hx hb dX0_bestOf_39 rfl (lv_at hl 3 rfl) ?_
    refine lv_iload_n hx hb dX0_bestOf_40 rfl (lv_at hl 0 rfl) ?_
    refine fc_Si (rest := []) (As := [.int p2, .int x4]) X hw hm_X0_isOf (lw_S q1231 q1232 q111 q1233) ⟨rfl, rfl⟩ ⟨by rw [hRf]; exact Nat.le_of_ble_eq_true rfl, by rw [hRl]; exact Nat.le_of_ble_eq_true rfl⟩ rfl rfl hl.1 (Nat.le_of_ble_eq_true rfl) dX0_bestOf_41 (fun rQ stQ hQ => wX0_isOf l E hX p2 x4 st5 rQ stQ hQ) hf (fun x7 st8 H locs hw hf => ?_)
    refine fb_zeq (tgt := 50) hx hb dX0_bestOf_44 (by decide) hf (fun hf => ?_) (fun hf => ?_)
    · refine lv_aload_n hx hb dX0_bestOf_50 rfl (lv_at hl 1 rfl) ?_
      refine fo_gets X hw fc_X0 (hx0 hX) (k := 20) (d := 36) (n2 := 36) (by decide) rfl rfl q365 dX0_bestOf_51 ?_
      refine lv_iconst (v := (0 : Int32)) hx hb dX0_bestOf_54 (by decide) ?_
      refine lv_aload_n hx hb dX0_bestOf_55 rfl (lv_at hl 1 rfl) ?_
      refine fo_gets X hw fc_X0 (hx0 hX) (k := 21) (d := 37) (n2 := 37) (by decide) rfl rfl q366 dX0_bestOf_56 ?_
      refine lv_iconst (v := (0 : Int32)) hx hb dX0_bestOf_59 (by decide) ?_
      refine lv_aload_n hx hb dX0_bestOf_60 rfl (lv_at hl 1 rfl) ?_
      refine fo_gets X hw fc_X0 (hx0 hX) (k := 20) (d := 36) (n2 := 36) (by decide) rfl rfl q365 dX0_bestOf_61 ?_
      refine fo_alen X hw (hx36 hX) (v := (64 : Int32)) rfl dX0_bestOf_64 ?_
      refine fo_copy X hw (hx36 hX) (hx37 hX) hl.1 q1350 q457 q456 q142 (by decide) (by rw [hRf]; exact Nat.le_of_ble_eq_true rfl) (by rw [hRl]; exact Nat.le_of_ble_eq_true rfl) dX0_bestOf_65 hf (fun st9 H locs hw hf => ?_)
      refine lv_iconst (v := (1 : Int32)) hx hb dX0_bestOf_68 (by decide) ?_
      refine lv_istore (lv' := [(4, .int (1 : Int32)), (3, .int x4), (0, .ref (eb E + 0)), (1, .int p1), (2, .int p2)]) hx hb dX0_bestOf_69 hl (by decide) rfl (fun ls hl => ?_)
      refine lp2_e (P := fun x10 st11 => ∀ (H : Heap) (locs : List Loc) (ls : Array Slot), lv_has ls 6 [(4, .int x10), (3, .int x4), (0, .ref (eb E + 0)), (1, .int p1), (2, .int p2)] → fo_S E s st11 H locs → W p l e R s m args below meth c H locs 0 0 Q (F0 m 71 ls [])) (fun rec12 hrec12 x10 st11 hf => ?_) G _ _ hf H locs ls (lv_sub hl [0, 1, 2, 3, 4] rfl) hw
      intro H locs ls hl hw
      refine lv_iload hx hb dX0_bestOf_71 (lv_at hl 0 rfl) ?_
      refine lv_bipush (v := (64 : Int32)) hx hb dX0_bestOf_73 (by decide) ?_
      refine fb_ige (tgt := 154) hx hb dX0_bestOf_75 (by decide) hf (fun hf => ?_) (fun hf => ?_)
      · refine lv_aload_n hx hb dX0_bestOf_154 rfl (lv_at hl 2 rfl) ?_
        refine fo_gets X hw fc_X0 (hx0 hX) (k := 21) (d := 37) (n2 := 37) (by decide) rfl rfl q366 dX0_bestOf_155 ?_
        refine lv_iconst (v := (0 : Int32)) hx hb dX0_bestOf_158 (by decide) ?_
        refine lv_aload_n hx hb dX0_bestOf_159 rfl (lv_at hl 2 rfl) ?_
        refine fo_gets X hw fc_X0 (hx0 hX) (k := 20) (d := 36) (n2 := 36) (by decide) rfl rfl q365 dX0_bestOf_160 ?_
        refine lv_iconst (v := (0 : Int32)) hx hb dX0_bestOf_163 (by decide) ?_
        refine lv_aload_n hx hb dX0_bestOf_164 rfl (lv_at hl 2 rfl) ?_
        refine fo_gets X hw fc_X0 (hx0 hX) (k := 20) (d := 36) (n2 := 36) (by decide) rfl rfl q365 dX0_bestOf_165 ?_
        refine fo_alen X hw (hx36 hX) (v := (64 : Int32)) rfl dX0_bestOf_168 ?_
        refine fo_copy X hw (hx37 hX) (hx36 hX) hl.1 q1350 q457 q456 q142 (by decide) (by rw [hRf]; exact Nat.le_of_ble_eq_true rfl) (by rw [hRl]; exact Nat.le_of_ble_eq_true rfl) dX0_bestOf_169 hf (fun st13 H locs hw hf => ?_)
        refine fb_iinc (v := (1 : Int32)) (lv' := [(3, .int (x4 + (1 : Int32))), (4, .int x10), (0, .ref (eb E + 0)), (1, .int p1), (2, .int p2)]) hx hb dX0_bestOf_172 hl (k := 1) rfl (by decide) (by decide) rfl (fun ls hl => ?_)
        refine lv_goto (tgt := 33) hx hb dX0_bestOf_175 (by decide) ?_
        exact hrec6 _ _ hf _ _ _ (lv_sub hl [0, 2, 3, 4] rfl) hw
      refine lv_iconst (v := (0 : Int32)) hx hb dX0_bestOf_78 (by decide) ?_
      refine lv_istore (lv' := [(5, .int (0 : Int32)), (4, .int x10), (3, .int x4), (0, .ref (eb E + 0)), (1, .int p1), (2, .int p2)]) hx hb dX0_bestOf_79 hl (by decide) rfl (fun ls hl => ?_)
      refine lp2_e (P := fun x14 st15 => ∀ (H : Heap) (locs : List Loc) (ls : Array Slot), lv_has ls 6 [(5, .int x14), (4, .int x10), (3, .int x4), (0, .ref (eb E + 0)), (1, .int p1), (2, .int p2)] → fo_S E s st15 H locs → W p l e R s m args below meth c H locs 0 0 Q (F0 m 81 ls [])) (fun rec16 hrec16 x14 st15 hf => ?_) G _ _ hf H locs ls (lv_sub hl [0, 1, 2, 3, 4, 5] rfl) hw
      intro H locs ls hl hw
      refine lv_iload hx hb dX0_bestOf_81 (lv_at hl 0 rfl) ?_
      refine lv_bipush (v := (6 : Int32)) hx hb dX0_bestOf_83 (by decide) ?_
      refine fb_ige (tgt := 148) hx hb dX0_bestOf_85 (by decide) hf (fun hf => ?_) (fun hf => ?_)
      · refine fb_iinc (v := (1 : Int32)) (lv' := [(4, .int (x10 + (1 : Int32))), (5, .int x14), (3, .int x4), (0, .ref (eb E + 0)), (1, .int p1), (2, .int p2)]) hx hb dX0_bestOf_148 hl (k := 1) rfl (by decide) (by decide) rfl (fun ls hl => ?_)
        refine lv_goto (tgt := 71) hx hb dX0_bestOf_151 (by decide) ?_
        exact hrec12 _ _ hf _ _ _ (lv_sub hl [0, 2, 3, 4, 5] rfl) hw
      refine lv_iload hx hb dX0_bestOf_88 (lv_at hl 1 rfl) ?_
      refine lv_iload hx hb dX0_bestOf_90 (lv_at hl 0 rfl) ?_
      refine fc_Si (rest := []) (As := [.int x10, .int x14]) X hw hm_X0_isOf (lw_S q1231 q1232 q111 q1233) ⟨rfl, rfl⟩ ⟨by rw [hRf]; exact Nat.le_of_ble_eq_true rfl, by rw [hRl]; exact Nat.le_of_ble_eq_true rfl⟩ rfl rfl hl.1 (Nat.le_of_ble_eq_true rfl) dX0_bestOf_92 (fun rQ stQ hQ => wX0_isOf l E hX x10 x14 st15 rQ stQ hQ) hf (fun x17 st18 H locs hw hf => ?_)
      refine fb_zeq (tgt := 142) hx hb dX0_bestOf_95 (by decide) hf (fun hf => ?_) (fun hf => ?_)
      · refine fb_iinc (v := (1 : Int32)) (lv' := [(5, .int (x14 + (1 : Int32))), (4, .int x10), (3, .int x4), (0, .ref (eb E + 0)), (1, .int p1), (2, .int p2)]) hx hb dX0_bestOf_142 hl (k := 0) rfl (by decide) (by decide) rfl (fun ls hl => ?_)
        refine lv_goto (tgt := 81) hx hb dX0_bestOf_145 (by decide) ?_
        exact hrec16 _ _ hf _ _ _ (lv_sub hl [0, 1, 2, 3, 4, 5] rfl) hw
      refine lv_aload_n hx hb dX0_bestOf_98 rfl (lv_at hl 3 rfl) ?_
      refine fo_gets X hw fc_X0 (hx0 hX) (k := 21) (d := 37) (n2 := 37) (by decide) rfl rfl q366 dX0_bestOf_99 ?_
      refine lv_iload hx hb dX0_bestOf_102 (lv_at hl 1 rfl) ?_
      refine lv_aload_n hx hb dX0_bestOf_104 rfl (lv_at hl 3 rfl) ?_
      refine fo_gets X hw fc_X0 (hx0 hX) (k := 21) (d := 37) (n2 := 37) (by decide) rfl rfl q366 dX0_bestOf_105 ?_
      refine lv_iload hx hb dX0_bestOf_108 (lv_at hl 1 rfl) ?_
      refine fo_iald X hw (hx37 hX) dX0_bestOf_110 hf (fun hf => ?_)
      refine lv_aload_n hx hb dX0_bestOf_111 rfl (lv_at hl 3 rfl) ?_
      refine fo_gets X hw fc_X0 (hx0 hX) (k := 20) (d := 36) (n2 := 36) (by decide) rfl rfl q365 dX0_bestOf_112 ?_
      refine lv_iload hx hb dX0_bestOf_115 (lv_at hl 1 rfl) ?_
      refine lv_iconst (v := (1 : Int32)) hx hb dX0_bestOf_117 (by decide) ?_
      refine lv_iload hx hb dX0_bestOf_118 (lv_at hl 0 rfl) ?_
      refine lv_ishl hx hb dX0_bestOf_120 ?_
      refine lv_iconst (v := (-1 : Int32)) hx hb dX0_bestOf_121 (by decide) ?_
      refine lv_ixor hx hb dX0_bestOf_122 ?_
      refine lv_iand hx hb dX0_bestOf_123 ?_
      refine fo_iald X hw (hx36 hX) dX0_bestOf_124 hf (fun hf => ?_)
      refine lv_aload_n hx hb dX0_bestOf_125 rfl (lv_at hl 3 rfl) ?_
      refine fo_gets X hw fc_X0 (hx0 hX) (k := 19) (d := 35) (n2 := 35) (by decide) rfl rfl q364 dX0_bestOf_126 ?_
      refine lv_bipush (v := (16 : Int32)) hx hb dX0_bestOf_129 (by decide) ?_
      refine lv_iload hx hb dX0_bestOf_131 (lv_at hl 0 rfl) ?_
      refine lv_imul hx hb dX0_bestOf_133 ?_
      refine lv_iload_n hx hb dX0_bestOf_134 rfl (lv_at hl 2 rfl) ?_
      refine lv_iadd hx hb dX0_bestOf_135 ?_
      refine fo_iald X hw (hx35 hX) dX0_bestOf_136 hf (fun hf => ?_)
      refine lv_iadd hx hb dX0_bestOf_137 ?_
      refine fo_mxI (rest := [.int x10, .ref (eb E + 37)]) X hl.1 q1303 q522 q124 q523 (by rw [hRf]; exact Nat.le_of_ble_eq_true rfl) (by rw [hRl]; exact Nat.le_of_ble_eq_true rfl) dX0_bestOf_138 ?_
      refine fo_iast X hw (hx37 hX) dX0_bestOf_141 hf (fun st19 H locs hw hf => ?_)
      refine fb_iinc (v := (1 : Int32)) (lv' := [(5, .int (x14 + (1 : Int32))), (4, .int x10), (3, .int x4), (0, .ref (eb E + 0)), (1, .int p1), (2, .int p2)]) hx hb dX0_bestOf_142 hl (k := 0) rfl (by decide) (by decide) rfl (fun ls hl => ?_)
      refine lv_goto (tgt := 81) hx hb dX0_bestOf_145 (by decide) ?_
      exact hrec16 _ _ hf _ _ _ (lv_sub hl [0, 1, 2, 3, 4, 5] rfl) hw
    refine lv_goto (tgt := 172) hx hb dX0_bestOf_47 (by decide) ?_
    refine fb_iinc (v := (1 : Int32)) (lv' := [(3, .int (x4 + (1 : Int32))), (0, .ref (eb E + 0)), (1, .int p1), (2, .int p2)]) hx hb dX0_bestOf_172 hl (k := 0) rfl (by decide) (by decide) rfl (fun ls hl => ?_)
    refine lv_goto (tgt := 33) hx hb dX0_bestOf_175 (by decide) ?_
    exact hrec6 _ _ hf _ _ _ (lv_sub hl [0, 1, 2, 3] rfl) hw
  refine lv_aload_n hx hb dX0_bestOf_8 rfl (lv_at hl 1 rfl) ?_
  refine fo_gets X hw fc_X0 (hx0 hX) (k := 20) (d := 36) (n2 := 36) (by decide) rfl rfl q365 dX0_bestOf_9 ?_
  refine lv_iload_n hx hb dX0_bestOf_12 rfl (lv_at hl 0 rfl) ?_
  refine lv_iload_n hx hb dX0_bestOf_13 rfl (lv_at hl 0 rfl) ?_
  refine jn_e hf (fun k21 ek hf => ?_)
  have hk21 : ∀ (x20 : Int32) (H : Heap) (locs : List Loc) (ls : Array Slot), lv_has ls 6 [(3, .int x1), (0, .ref (eb E + 0)), (1, .int p1), (2, .int p2)] → fo_S E s st2 H locs → k21 x20 = some (rZ, stZ) → W p l e R s m args below meth c H locs 0 0 Q (F0 m 24 ls [.int x20, .int x1, .ref (eb E + 36)]) := by
    intro x20 H locs ls hl hw hf
    rw [ek] at hf
    refine fo_iast X hw (hx36 hX) dX0_bestOf_24 hf (fun st22 H locs hw hf => ?_)
    refine fb_iinc (v := (1 : Int32)) (lv' := [(3, .int (x1 + (1 : Int32))), (0, .ref (eb E + 0)), (1, .int p1), (2, .int p2)]) hx hb dX0_bestOf_25 hl (k := 0) rfl (by decide) (by decide) rfl (fun ls hl => ?_)
    refine lv_goto (tgt := 2) hx hb dX0_bestOf_28 (by decide) ?_
    exact hrec3 _ _ hf _ _ _ (lv_sub hl [0, 1, 2, 3] rfl) hw
  clear ek
  refine fb_zne (tgt := 21) hx hb dX0_bestOf_14 (by decide) hf (fun hf => ?_) (fun hf => ?_)
  · refine lv_ldcw (v := (-1000000 : Int32)) hx hb X.1.2.2.2.1 (X.1.2.2.2.2 _ q1345) dX0_bestOf_21 ?_
    exact hk21 _ _ _ _ (lv_sub hl [0, 1, 2, 3] rfl) hw hf
  refine lv_iconst (v := (0 : Int32)) hx hb dX0_bestOf_17 (by decide) ?_
  refine lv_goto (tgt := 24) hx hb dX0_bestOf_18 (by decide) ?_
  exact hk21 _ _ _ _ (lv_sub hl [0, 1, 2, 3] rfl) hw hf

/-- ForestRooms.homes -/
def fX0_homes (tg : Nat → Nat × Nat) (G : Nat) (p1 : Int32) (p2 : Int32) (st0 : fo_St) : Option (Int32 × fo_St) := bd_ (fX0_in p1 (0 : Int32) (63 : Int32) st0) (fun x1 st2 => if x1 = 0 then some ((-1 : Int32), st2) else bd_ (fX0_in p2 (0 : Int32) (6 : Int32) st2) (fun x3 st4 => if ¬ x3 = 0 then lp2_ (fun rec7 (x5 : Int32) (st6 : fo_St) => if (6 : Int32) ≤ x5 then bd_ (fX0_bestOf G p1 (0 : Int32) st6) (fun x8 st9 => if x8 < 0 then if 0 ≤ x8 then some (x8, st9) else some ((-1 : Int32), st9) else if ¬ p2 = 0 then bd_ (fX0_isOf p1 (p2 - (1 : Int32)) st9) (fun x10 st11 => if ¬ x10 = 0 then lp5_ (fun rec17 (x12 : Int32) (x13 : Int32) (x14 : Int32) (x15 : Int32) (st16 : fo_St) => bd_ (fX0_isOf p1 x12 st16) (fun x18 st19 => if ¬ x18 = 0 then lI_ (x14 &&& (((1 : Int32) <<< (x12 &&& 31)) ^^^ (-1 : Int32))) (fun x20 => lp2_ (fun rec23 (x21 : Int32) (st22 : fo_St) => bd_ (fX0_isOf x13 x21 st22) (fun x24 st25 => if ¬ x24 = 0 then rec23 (x21 + (1 : Int32)) st25 else ck_ (fo_in (((16 : Int32) * x12) + x21) 96) (if (gi_ st25 35 (((16 : Int32) * x12) + x21).toNatClampNeg) < 0 then rec23 (x21 + (1 : Int32)) st25 else ck_ (fo_in (((16 : Int32) * x12) + x21) 96) (bd_ (fX0_bestOf G x20 (x13 ||| ((1 : Int32) <<< (x21 &&& 31))) st25) (fun x26 st27 => if ((gi_ st25 35 (((16 : Int32) * x12) + x21).toNatClampNeg) + x26) = x15 then if ¬ x12 = (p2 - (1 : Int32)) then ck_ (fo_in (((16 : Int32) * x12) + x21) 96) (lI_ (x15 - (gi_ st27 35 (((16 : Int32) * x12) + x21).toNatClampNeg)) (fun x28 => lI_ (x13 ||| ((1 : Int32) <<< (x21 &&& 31))) (fun x29 => rec17 (x12 + (1 : Int32)) x29 x20 x28 st27))) else some (x21, st27) else rec23 (x21 + (1 : Int32)) st27))))) G (0 : Int32) st19) else rec17 (x12 + (1 : Int32)) x13 x14 x15 st19)) G (0 : Int32) (0 : Int32) p1 x8 st11 else some ((-1 : Int32), st11)) else if 0 ≤ x8 then some (x8, st9) else some ((-1 : Int32), st9)) else lp2_ (fun rec32 (x30 : Int32) (st31 : fo_St) => if (16 : Int32) ≤ x30 then rec7 (x5 + (1 : Int32)) st31 else bd_ (fX0_table st31) (fun x33 st34 => ck_ (decide (x33 = 3)) (bd_ (fX1_isLost 3 x30 st34) (fun x35 st36 => jn_ (fun (x37 : Int32) (st38 : fo_St) => ck_ (fo_in (((16 : Int32) * x5) + x30) 96) (lt_ (si_ st38 35 (((16 : Int32) * x5) + x30).toNatClampNeg x37) (fun st40 => rec32 (x30 + (1 : Int32)) st40))) (fun k39 => if ¬ x35 = 0 then k39 (-1000000 : Int32) st36 else bd_ (fX0_isBarred tg G x5 x30 st36) (fun x41 st42 => if x41 = 0 then bd_ (fX0_suits tg G x5 x30 st42) (fun x43 st44 => k39 x43 st44) else k39 (-1000000 : Int32) st42)))))) G (0 : Int32) st6) G (0 : Int32) st4 else some ((-1 : Int32), st4)))
theorem hm_X0_homes : fo_M yX0_homes 2 := ⟨by decide +kernel, by decide +kernel, by decide +kernel, by decide +kernel⟩
set_option maxHeartbeats 4000000 in
theorem wX0_homes (l : Launch) (E : fo_E) (hX : fo_HX E) (G : Nat) (p1 : Int32) (p2 : Int32) (st0 : fo_St) (rZ : Int32) (stZ : fo_St) (hf : fX0_homes (et E) G p1 p2 st0 = some (rZ, stZ)) : CTi l E yX0_homes (ws_ yX0_homes cX0_homes 8 (some .int)) ({ frames := 131, cells := 0, slots := 0, locals := 7758 }) [.ref (eb E + 0), .int p1, .int p2] st0 rZ stZ := by
  refine fe_i hm_X0_homes (Nat.le_of_ble_eq_true rfl) (fun p e R s m args below meth c Q hRf hRl X hend ls hl hw => ?_)
  have hx := X.1.1
  have hb := X.1.2.1
  have hl : lv_has ls 8 [(0, .ref (eb E + 0)), (1, .int p1), (2, .int p2)] := hl
  unfold fX0_homes at hf
  generalize s.heap = H at hw ⊢
  generalize ([] : List Loc) = locs at hw ⊢
  refine lv_iload_n hx hb dX0_homes_0 rfl (lv_at hl 1 rfl) ?_
  refine lv_iconst (v := (0 : Int32)) hx hb dX0_homes_1 (by decide) ?_
  refine lv_bipush (v := (63 : Int32)) hx hb dX0_homes_2 (by decide) ?_
  refine fc_Si (rest := []) (As := [.int p1, .int (0 : Int32), .int (63 : Int32)]) X hw hm_X0_in (lw_S q437 q438 q111 q439) ⟨rfl, rfl⟩ ⟨by rw [hRf]; exact Nat.le_of_ble_eq_true rfl, by rw [hRl]; exact Nat.le_of_ble_eq_true rfl⟩ rfl rfl hl.1 (Nat.le_of_ble_eq_true rfl) dX0_homes_4 (fun rQ stQ hQ => wX0_in l E hX p1 (0 : Int32) (63 : Int32) st0 rQ stQ hQ) hf (fun x1 st2 H locs hw hf => ?_)
  refine fb_zeq (tgt := 20) hx hb dX0_homes_7 (by decide) hf (fun hf => ?_) (fun hf => ?_)
  · refine lv_iconst (v := (-1 : Int32)) hx hb dX0_homes_20 (by decide) ?_
    exact fd_i hend hw hf dX0_homes_21
  refine lv_iload_n hx hb dX0_homes_10 rfl (lv_at hl 2 rfl) ?_
  refine lv_iconst (v := (0 : Int32)) hx hb dX0_homes_11 (by decide) ?_
  refine lv_bipush (v := (6 : Int32)) hx hb dX0_homes_12 (by decide) ?_
  refine fc_Si (rest := []) (As := [.int p2, .int (0 : Int32), .int (6 : Int32)]) X hw hm_X0_in (lw_S q437 q438 q111 q439) ⟨rfl, rfl⟩ ⟨by rw [hRf]; exact Nat.le_of_ble_eq_true rfl, by rw [hRl]; exact Nat.le_of_ble_eq_true rfl⟩ rfl rfl hl.1 (Nat.le_of_ble_eq_true rfl) dX0_homes_14 (fun rQ stQ hQ => wX0_in l E hX p2 (0 : Int32) (6 : Int32) st2 rQ stQ hQ) hf (fun x3 st4 H locs hw hf => ?_)
  refine fb_zne (tgt := 22) hx hb dX0_homes_17 (by decide) hf (fun hf => ?_) (fun hf => ?_)
  · refine lv_iconst (v := (0 : Int32)) hx hb dX0_homes_22 (by decide) ?_
    refine lv_istore_n (lv' := [(3, .int (0 : Int32)), (0, .ref (eb E + 0)), (1, .int p1), (2, .int p2)]) hx hb dX0_homes_23 rfl hl (by decide) rfl (fun ls hl => ?_)
    refine lp2_e (P := fun x5 st6 => ∀ (H : Heap) (locs : List Loc) (ls : Array Slot), lv_has ls 8 [(3, .int x5), (0, .ref (eb E + 0)), (1, .int p1), (2, .int p2)] → fo_S E s st6 H locs → W p l e R s m args below meth c H locs 0 0 Q (F0 m 24 ls [])) (fun rec7 hrec7 x5 st6 hf => ?_) G _ _ hf H locs ls (lv_sub hl [0, 1, 2, 3] rfl) hw
    intro H locs ls hl hw
    refine lv_iload_n hx hb dX0_homes_24 rfl (lv_at hl 0 rfl) ?_
    refine lv_bipush (v := (6 : Int32)) hx hb dX0_homes_25 (by decide) ?_
    refine fb_ige (tgt := 103) hx hb dX0_homes_27 (by decide) hf (fun hf => ?_) (fun hf => ?_)
    · refine lv_aload_n hx hb dX0_homes_103 rfl (lv_at hl 1 rfl) ?_
      refine lv_iload_n hx hb dX0_homes_104 rfl (lv_at hl 2 rfl) ?_
      refine lv_iconst (v := (0 : Int32)) hx hb dX0_homes_105 (by decide) ?_
      refine fc_Vi (rest := []) (As := [.int p1, .int (0 : Int32)]) X hw hm_X0_bestOf (lw_V q1346 q1348 qs29 q111 q1349) ⟨rfl, rfl⟩ ⟨by rw [hRf]; exact Nat.le_of_ble_eq_true rfl, by rw [hRl]; exact Nat.le_of_ble_eq_true rfl⟩ fc_X0 rfl (hx0 hX) rfl rfl hl.1 (Nat.le_of_ble_eq_true rfl) dX0_homes_106 (fun rQ stQ hQ => wX0_bestOf l E hX G p1 (0 : Int32) st6 rQ stQ hQ) hf (fun x8 st9 H locs hw hf => ?_)
      refine lv_istore_n (lv' := [(3, .int x8), (0, .ref (eb E + 0)), (1, .int p1), (2, .int p2)]) hx hb dX0_homes_109 rfl hl (by decide) rfl (fun ls hl => ?_)
      refine lv_iload_n hx hb dX0_homes_110 rfl (lv_at hl 0 rfl) ?_
      refine fb_zlt (tgt := 118) hx hb dX0_homes_111 (by decide) hf (fun hf => ?_) (fun hf => ?_)
      · refine lv_iload_n hx hb dX0_homes_118 rfl (lv_at hl 0 rfl) ?_
        refine fb_zge (tgt := 126) hx hb dX0_homes_119 (by decide) hf (fun hf => ?_) (fun hf => ?_)
        · refine lv_iload_n hx hb dX0_homes_126 rfl (lv_at hl 0 rfl) ?_
          exact fd_i hend hw hf dX0_homes_127
        refine lv_iconst (v := (-1 : Int32)) hx hb dX0_homes_122 (by decide) ?_
        refine lv_goto (tgt := 127) hx hb dX0_homes_123 (by decide) ?_
        exact fd_i hend hw hf dX0_homes_127
      refine lv_iload_n hx hb dX0_homes_114 rfl (lv_at hl 3 rfl) ?_
      refine fb_zne (tgt := 128) hx hb dX0_homes_115 (by decide) hf (fun hf => ?_) (fun hf => ?_)
      · refine lv_iload_n hx hb dX0_homes_128 rfl (lv_at hl 2 rfl) ?_
        refine lv_iload_n hx hb dX0_homes_129 rfl (lv_at hl 3 rfl) ?_
        refine lv_iconst (v := (1 : Int32)) hx hb dX0_homes_130 (by decide) ?_
        refine lv_isub hx hb dX0_homes_131 ?_
        refine fc_Si (rest := []) (As := [.int p1, .int (p2 - (1 : Int32))]) X hw hm_X0_isOf (lw_S q1231 q1232 q111 q1233) ⟨rfl, rfl⟩ ⟨by rw [hRf]; exact Nat.le_of_ble_eq_true rfl, by rw [hRl]; exact Nat.le_of_ble_eq_true rfl⟩ rfl rfl hl.1 (Nat.le_of_ble_eq_true rfl) dX0_homes_132 (fun rQ stQ hQ => wX0_isOf l E hX p1 (p2 - (1 : Int32)) st9 rQ stQ hQ) hf (fun x10 st11 H locs hw hf => ?_)
        refine fb_zne (tgt := 140) hx hb dX0_homes_135 (by decide) hf (fun hf => ?_) (fun hf => ?_)
        · refine lv_iload_n hx hb dX0_homes_140 rfl (lv_at hl 2 rfl) ?_
          refine lv_istore (lv' := [(4, .int p1), (3, .int x8), (0, .ref (eb E + 0)), (1, .int p1), (2, .int p2)]) hx hb dX0_homes_141 hl (by decide) rfl (fun ls hl => ?_)
          refine lv_iconst (v := (0 : Int32)) hx hb dX0_homes_143 (by decide) ?_
          refine lv_istore (lv' := [(5, .int (0 : Int32)), (4, .int p1), (3, .int x8), (0, .ref (eb E + 0)), (1, .int p1), (2, .int p2)]) hx hb dX0_homes_144 hl (by decide) rfl (fun ls hl => ?_)
          refine lv_iconst (v := (0 : Int32)) hx hb dX0_homes_146 (by decide) ?_
          refine lv_istore (lv' := [(6, .int (0 : Int32)), (5, .int (0 : Int32)), (4, .int p1), (3, .int x8), (0, .ref (eb E + 0)), (1, .int p1), (2, .int p2)]) hx hb dX0_homes_147 hl (by decide) rfl (fun ls hl => ?_)
          refine lp5_e (P := fun x12 x13 x14 x15 st16 => ∀ (H : Heap) (locs : List Loc) (ls : Array Slot), lv_has ls 8 [(6, .int x12), (5, .int x13), (4, .int x14), (3, .int x15), (0, .ref (eb E + 0)), (1, .int p1), (2, .int p2)] → fo_S E s st16 H locs → W p l e R s m args below meth c H locs 0 0 Q (F0 m 149 ls [])) (fun rec17 hrec17 x12 x13 x14 x15 st16 hf => ?_) G _ _ _ _ _ hf H locs ls (lv_sub hl [0, 1, 2, 3, 4, 5, 6] rfl) hw
          intro H locs ls hl hw
          refine lv_iload_n hx hb dX0_homes_149 rfl (lv_at hl 5 rfl) ?_
          refine lv_iload hx hb dX0_homes_150 (lv_at hl 0 rfl) ?_
          refine fc_Si (rest := []) (As := [.int p1, .int x12]) X hw hm_X0_isOf (lw_S q1231 q1232 q111 q1233) ⟨rfl, rfl⟩ ⟨by rw [hRf]; exact Nat.le_of_ble_eq_true rfl, by rw [hRl]; exact Nat.le_of_ble_eq_true rfl⟩ rfl rfl hl.1 (Nat.le_of_ble_eq_true rfl) dX0_homes_152 (fun rQ stQ hQ => wX0_isOf l E hX p1 x12 st16 rQ stQ hQ) hf (fun x18 st19 H locs hw hf => ?_)
          refine fb_zne (tgt := 161) hx hb dX0_homes_155 (by decide) hf (fun hf => ?_) (fun hf => ?_)
          · refine lv_iload hx hb dX0_homes_161 (lv_at hl 2 rfl) ?_
            refine lv_iconst (v := (1 : Int32)) hx hb dX0_homes_163 (by decide) ?_
            refine lv_iload hx hb dX0_homes_164 (lv_at hl 0 rfl) ?_
            refine lv_ishl hx hb dX0_homes_166 ?_
            refine lv_iconst (v := (-1 : Int32)) hx hb dX0_homes_167 (by decide) ?_
            refine lv_ixor hx hb dX0_homes_168 ?_
            refine lv_iand hx hb dX0_homes_169 ?_
            refine fo_tI hf (fun x20 hf => ?_)
            refine lv_istore (lv' := [(4, .int x20), (6, .int x12), (5, .int x13), (3, .int x15), (0, .ref (eb E + 0)), (1, .int p1), (2, .int p2)]) hx hb dX0_homes_170 hl (by decide) rfl (fun ls hl => ?_)
            refine lv_iconst (v := (0 : Int32)) hx hb dX0_homes_172 (by decide) ?_
            refine lv_istore (lv' := [(7, .int (0 : Int32)), (4, .int x20), (6, .int x12), (5, .int x13), (3, .int x15), (0, .ref (eb E + 0)), (1, .int p1), (2, .int p2)]) hx hb dX0_homes_173 hl (by decide) rfl (fun ls hl => ?_)
            refine lp2_e (P := fun x21 st22 => ∀ (H : Heap) (locs : List Loc) (ls : Array Slot), lv_has ls 8 [(7, .int x21), (4, .int x20), (6, .int x12), (5, .int x13), (3, .int x15), (0, .ref (eb E + 0)), (1, .int p1), (2, .int p2)] → fo_S E s st22 H locs → W p l e R s m args below meth c H locs 0 0 Q (F0 m 175 ls [])) (fun rec23 hrec23 x21 st22 hf => ?_) G _ _ hf H locs ls (lv_sub hl [0, 1, 2, 3, 4, 5, 6, 7] rfl) hw
            intro H locs ls hl hw
            refine lv_iload hx hb dX0_homes_175 (lv_at hl 3 rfl) ?_
            refine lv_iload hx hb dX0_homes_177 (lv_at hl 0 rfl) ?_
            refine fc_Si (rest := []) (As := [.int x13, .int x21]) X hw hm_X0_isOf (lw_S q1231 q1232 q111 q1233) ⟨rfl, rfl⟩ ⟨by rw [hRf]; exact Nat.le_of_ble_eq_true rfl, by rw [hRl]; exact Nat.le_of_ble_eq_true rfl⟩ rfl rfl hl.1 (Nat.le_of_ble_eq_true rfl) dX0_homes_179 (fun rQ stQ hQ => wX0_isOf l E hX x13 x21 st22 rQ stQ hQ) hf (fun x24 st25 H locs hw hf => ?_)
            refine fb_zne (tgt := 232) hx hb dX0_homes_182 (by decide) hf (fun hf => ?_) (fun hf => ?_)
            · refine fb_iinc (v := (1 : Int32)) (lv' := [(7, .int (x21 + (1 : Int32))), (4, .int x20), (6, .int x12), (5, .int x13), (3, .int x15), (0, .ref (eb E + 0)), (1, .int p1), (2, .int p2)]) hx hb dX0_homes_232 hl (k := 0) rfl (by decide) (by decide) rfl (fun ls hl => ?_)
              refine lv_goto (tgt := 175) hx hb dX0_homes_235 (by decide) ?_
              exact hrec23 _ _ hf _ _ _ (lv_sub hl [0, 1, 2, 3, 4, 5, 6, 7] rfl) hw
            refine lv_aload_n hx hb dX0_homes_185 rfl (lv_at hl 5 rfl) ?_
            refine fo_gets X hw fc_X0 (hx0 hX) (k := 19) (d := 35) (n2 := 35) (by decide) rfl rfl q364 dX0_homes_186 ?_
            refine lv_bipush (v := (16 : Int32)) hx hb dX0_homes_189 (by decide) ?_
            refine lv_iload hx hb dX0_homes_191 (lv_at hl 2 rfl) ?_
            refine lv_imul hx hb dX0_homes_193 ?_
            refine lv_iload hx hb dX0_homes_194 (lv_at hl 0 rfl) ?_
            refine lv_iadd hx hb dX0_homes_196 ?_
            refine fo_iald X hw (hx35 hX) dX0_homes_197 hf (fun hf => ?_)
            refine fb_zlt (tgt := 232) hx hb dX0_homes_198 (by decide) hf (fun hf => ?_) (fun hf => ?_)
            · refine fb_iinc (v := (1 : Int32)) (lv' := [(7, .int (x21 + (1 : Int32))), (4, .int x20), (6, .int x12), (5, .int x13), (3, .int x15), (0, .ref (eb E + 0)), (1, .int p1), (2, .int p2)]) hx hb dX0_homes_232 hl (k := 0) rfl (by decide) (by decide) rfl (fun ls hl => ?_)
              refine lv_goto (tgt := 175) hx hb dX0_homes_235 (by decide) ?_
              exact hrec23 _ _ hf _ _ _ (lv_sub hl [0, 1, 2, 3, 4, 5, 6, 7] rfl) hw
            refine lv_aload_n hx hb dX0_homes_201 rfl (lv_at hl 5 rfl) ?_
            refine fo_gets X hw fc_X0 (hx0 hX) (k := 19) (d := 35) (n2 := 35) (by decide) rfl rfl q364 dX0_homes_202 ?_
            refine lv_bipush (v := (16 : Int32)) hx hb dX0_homes_205 (by decide) ?_
            refine lv_iload hx hb dX0_homes_207 (lv_at hl 2 rfl) ?_
            refine lv_imul hx hb dX0_homes_209 ?_
            refine lv_iload hx hb dX0_homes_210 (lv_at hl 0 rfl) ?_
            refine lv_iadd hx hb dX0_homes_212 ?_
            refine fo_iald X hw (hx35 hX) dX0_homes_213 hf (fun hf => ?_)
            refine lv_aload_n hx hb dX0_homes_214 rfl (lv_at hl 5 rfl) ?_
            refine lv_iload hx hb dX0_homes_215 (lv_at hl 1 rfl) ?_
            refine lv_iload hx hb dX0_homes_217 (lv_at hl 3 rfl) ?_
            refine lv_iconst (v := (1 : Int32)) hx hb dX0_homes_219 (by decide) ?_
            refine lv_iload hx hb dX0_homes_220 (lv_at hl 0 rfl) ?_
            refine lv_ishl hx hb dX0_homes_222 ?_
            refine lv_ior hx hb dX0_homes_223 ?_
            refine fc_Vi (rest := [.int (gi_ st25 35 (((16 : Int32) * x12) + x21).toNatClampNeg)]) (As := [.int x20, .int (x13 ||| ((1 : Int32) <<< (x21 &&& 31)))]) X hw hm_X0_bestOf (lw_V q1346 q1348 qs29 q111 q1349) ⟨rfl, rfl⟩ ⟨by rw [hRf]; exact Nat.le_of_ble_eq_true rfl, by rw [hRl]; exact Nat.le_of_ble_eq_true rfl⟩ fc_X0 rfl (hx0 hX) rfl rfl hl.1 (Nat.le_of_ble_eq_true rfl) dX0_homes_224 (fun rQ stQ hQ => wX0_bestOf l E hX G x20 (x13 ||| ((1 : Int32) <<< (x21 &&& 31))) st25 rQ stQ hQ) hf (fun x26 st27 H locs hw hf => ?_)
            refine lv_iadd hx hb dX0_homes_227 ?_
            refine lv_iload_n hx hb dX0_homes_228 rfl (lv_at hl 4 rfl) ?_
            refine fb_ieq (tgt := 238) hx hb dX0_homes_229 (by decide) hf (fun hf => ?_) (fun hf => ?_)
            · refine lv_iload hx hb dX0_homes_238 (lv_at hl 2 rfl) ?_
              refine lv_iload_n hx hb dX0_homes_240 rfl (lv_at hl 7 rfl) ?_
              refine lv_iconst (v := (1 : Int32)) hx hb dX0_homes_241 (by decide) ?_
              refine lv_isub hx hb dX0_homes_242 ?_
              refine fb_ine (tgt := 249) hx hb dX0_homes_243 (by decide) hf (fun hf => ?_) (fun hf => ?_)
              · refine lv_iload_n hx hb dX0_homes_249 rfl (lv_at hl 4 rfl) ?_
                refine lv_aload_n hx hb dX0_homes_250 rfl (lv_at hl 5 rfl) ?_
                refine fo_gets X hw fc_X0 (hx0 hX) (k := 19) (d := 35) (n2 := 35) (by decide) rfl rfl q364 dX0_homes_251 ?_
                refine lv_bipush (v := (16 : Int32)) hx hb dX0_homes_254 (by decide) ?_
                refine lv_iload hx hb dX0_homes_256 (lv_at hl 2 rfl) ?_
                refine lv_imul hx hb dX0_homes_258 ?_
                refine lv_iload hx hb dX0_homes_259 (lv_at hl 0 rfl) ?_
                refine lv_iadd hx hb dX0_homes_261 ?_
                refine fo_iald X hw (hx35 hX) dX0_homes_262 hf (fun hf => ?_)
                refine lv_isub hx hb dX0_homes_263 ?_
                refine fo_tI hf (fun x28 hf => ?_)
                refine lv_istore_n (lv' := [(3, .int x28), (7, .int x21), (4, .int x20), (6, .int x12), (5, .int x13), (0, .ref (eb E + 0)), (1, .int p1), (2, .int p2)]) hx hb dX0_homes_264 rfl hl (by decide) rfl (fun ls hl => ?_)
                refine lv_iload hx hb dX0_homes_265 (lv_at hl 4 rfl) ?_
                refine lv_iconst (v := (1 : Int32)) hx hb dX0_homes_267 (by decide) ?_
                refine lv_iload hx hb dX0_homes_268 (lv_at hl 1 rfl) ?_
                refine lv_ishl hx hb dX0_homes_270 ?_
                refine lv_ior hx hb dX0_homes_271 ?_
                refine fo_tI hf (fun x29 hf => ?_)
                refine lv_istore (lv' := [(5, .int x29), (3, .int x28), (7, .int x21), (4, .int x20), (6, .int x12), (0, .ref (eb E + 0)), (1, .int p1), (2, .int p2)]) hx hb dX0_homes_272 hl (by decide) rfl (fun ls hl => ?_)
                refine fb_iinc (v := (1 : Int32)) (lv' := [(6, .int (x12 + (1 : Int32))), (5, .int x29), (3, .int x28), (7, .int x21), (4, .int x20), (0, .ref (eb E + 0)), (1, .int p1), (2, .int p2)]) hx hb dX0_homes_274 hl (k := 4) rfl (by decide) (by decide) rfl (fun ls hl => ?_)
                refine lv_goto (tgt := 149) hx hb dX0_homes_277 (by decide) ?_
                exact hrec17 _ _ _ _ _ hf _ _ _ (lv_sub hl [0, 1, 4, 2, 5, 6, 7] rfl) hw
              refine lv_iload hx hb dX0_homes_246 (lv_at hl 0 rfl) ?_
              exact fd_i hend hw hf dX0_homes_248
            refine fb_iinc (v := (1 : Int32)) (lv' := [(7, .int (x21 + (1 : Int32))), (4, .int x20), (6, .int x12), (5, .int x13), (3, .int x15), (0, .ref (eb E + 0)), (1, .int p1), (2, .int p2)]) hx hb dX0_homes_232 hl (k := 0) rfl (by decide) (by decide) rfl (fun ls hl => ?_)
            refine lv_goto (tgt := 175) hx hb dX0_homes_235 (by decide) ?_
            exact hrec23 _ _ hf _ _ _ (lv_sub hl [0, 1, 2, 3, 4, 5, 6, 7] rfl) hw
          refine lv_goto (tgt := 274) hx hb dX0_homes_158 (by decide) ?_
          refine fb_iinc (v := (1 : Int32)) (lv' := [(6, .int (x12 + (1 : Int32))), (5, .int x13), (4, .int x14), (3, .int x15), (0, .ref (eb E + 0)), (1, .int p1), (2, .int p2)]) hx hb dX0_homes_274 hl (k := 0) rfl (by decide) (by decide) rfl (fun ls hl => ?_)
          refine lv_goto (tgt := 149) hx hb dX0_homes_277 (by decide) ?_
          exact hrec17 _ _ _ _ _ hf _ _ _ (lv_sub hl [0, 1, 2, 3, 4, 5, 6] rfl) hw
        refine lv_iconst (v := (-1 : Int32)) hx hb dX0_homes_138 (by decide) ?_
        exact fd_i hend hw hf dX0_homes_139
      refine lv_iload_n hx hb dX0_homes_118 rfl (lv_at hl 0 rfl) ?_
      refine fb_zge (tgt := 126) hx hb dX0_homes_119 (by decide) hf (fun hf => ?_) (fun hf => ?_)
      · refine lv_iload_n hx hb dX0_homes_126 rfl (lv_at hl 0 rfl) ?_
        exact fd_i hend hw hf dX0_homes_127
      refine lv_iconst (v := (-1 : Int32)) hx hb dX0_homes_122 (by decide) ?_
      refine lv_goto (tgt := 127) hx hb dX0_homes_123 (by decide) ?_
      exact fd_i hend hw hf dX0_homes_127
    refine lv_iconst (v := (0 : Int32)) hx hb dX0_homes_30 (by decide) ?_
    refine lv_istore (lv' := [(4, .int (0 : Int32)), (3, .int x5), (0, .ref (eb E + 0)), (1, .int p1), (2, .int p2)]) hx hb dX0_homes_31 hl (by decide) rfl (fun ls hl => ?_)
    refine lp2_e (P := fun x30 st31 => ∀ (H : Heap) (locs : List Loc) (ls : Array Slot), lv_has ls 8 [(4, .int x30), (3, .int x5), (0, .ref (eb E + 0)), (1, .int p1), (2, .int p2)] → fo_S E s st31 H locs → W p l e R s m args below meth c H locs 0 0 Q (F0 m 33 ls [])) (fun rec32 hrec32 x30 st31 hf => ?_) G _ _ hf H locs ls (lv_sub hl [0, 1, 2, 3, 4] rfl) hw
    intro H locs ls hl hw
    refine lv_iload hx hb dX0_homes_33 (lv_at hl 0 rfl) ?_
    refine lv_bipush (v := (16 : Int32)) hx hb dX0_homes_35 (by decide) ?_
    refine fb_ige (tgt := 97) hx hb dX0_homes_37 (by decide) hf (fun hf => ?_) (fun hf => ?_)
    · refine fb_iinc (v := (1 : Int32)) (lv' := [(3, .int (x5 + (1 : Int32))), (4, .int x30), (0, .ref (eb E + 0)), (1, .int p1), (2, .int p2)]) hx hb dX0_homes_97 hl (k := 1) rfl (by decide) (by decide) rfl (fun ls hl => ?_)
      refine lv_goto (tgt := 24) hx hb dX0_homes_100 (by decide) ?_
      exact hrec7 _ _ hf _ _ _ (lv_sub hl [0, 2, 3, 4] rfl) hw
    refine lv_aload_n hx hb dX0_homes_40 rfl (lv_at hl 2 rfl) ?_
    refine fo_gets X hw fc_X0 (hx0 hX) (k := 19) (d := 35) (n2 := 35) (by decide) rfl rfl q364 dX0_homes_41 ?_
    refine lv_bipush (v := (16 : Int32)) hx hb dX0_homes_44 (by decide) ?_
    refine lv_iload_n hx hb dX0_homes_46 rfl (lv_at hl 1 rfl) ?_
    refine lv_imul hx hb dX0_homes_47 ?_
    refine lv_iload hx hb dX0_homes_48 (lv_at hl 0 rfl) ?_
    refine lv_iadd hx hb dX0_homes_50 ?_
    refine lv_aload_n hx hb dX0_homes_51 rfl (lv_at hl 2 rfl) ?_
    refine fo_gets X hw fc_X0 (hx0 hX) (k := 2) (d := 2) (n2 := 2) (by decide) rfl rfl q347 dX0_homes_52 ?_
    refine lv_aload_n hx hb dX0_homes_55 rfl (lv_at hl 2 rfl) ?_
    refine fc_Vr (rest := [.ref (eb E + 2), .int (((16 : Int32) * x5) + x30), .ref (eb E + 35)]) (As := []) X hw hm_X0_table (lw_V q560 q562 qs6 q111 q563) ⟨rfl, rfl⟩ ⟨by rw [hRf]; exact Nat.le_of_ble_eq_true rfl, by rw [hRl]; exact Nat.le_of_ble_eq_true rfl⟩ fc_X0 rfl (hx0 hX) rfl rfl hl.1 (Nat.le_of_ble_eq_true rfl) dX0_homes_56 (fun rQ stQ hQ => wX0_table l E hX st31 rQ stQ hQ) hf (fun x33 st34 H locs hw hf => ?_)
    have hc0 := ck_e hf
    clear hf
    obtain ⟨hc, hf⟩ := hc0
    replace hc := of_decide_eq_true hc
    subst hc
    refine lv_iload hx hb dX0_homes_59 (lv_at hl 0 rfl) ?_
    refine fc_Vi (rest := [.int (((16 : Int32) * x5) + x30), .ref (eb E + 35)]) (As := [.ref (eb E + 3), .int x30]) X hw hm_X1_isLost (lw_V q564 q565 q566 q112 q567) ⟨rfl, rfl⟩ ⟨by rw [hRf]; exact Nat.le_of_ble_eq_true rfl, by rw [hRl]; exact Nat.le_of_ble_eq_true rfl⟩ fc_X1 rfl (hx2 hX) rfl rfl hl.1 (Nat.le_of_ble_eq_true rfl) dX0_homes_61 (fun rQ stQ hQ => wX1_isLost l E hX 3 x30 (hxT3 hX) st34 rQ stQ hQ) hf (fun x35 st36 H locs hw hf => ?_)
    refine jn_e hf (fun k39 ek hf => ?_)
    have hk39 : ∀ (x37 : Int32) (st38 : fo_St) (H : Heap) (locs : List Loc) (ls : Array Slot), lv_has ls 8 [(4, .int x30), (3, .int x5), (0, .ref (eb E + 0)), (1, .int p1), (2, .int p2)] → fo_S E s st38 H locs → k39 x37 st38 = some (rZ, stZ) → W p l e R s m args below meth c H locs 0 0 Q (F0 m 90 ls [.int x37, .int (((16 : Int32) * x5) + x30), .ref (eb E + 35)]) := by
      intro x37 st38 H locs ls hl hw hf
      rw [ek] at hf
      refine fo_iast X hw (hx35 hX) dX0_homes_90 hf (fun st40 H locs hw hf => ?_)
      refine fb_iinc (v := (1 : Int32)) (lv' := [(4, .int (x30 + (1 : Int32))), (3, .int x5), (0, .ref (eb E + 0)), (1, .int p1), (2, .int p2)]) hx hb dX0_homes_91 hl (k := 0) rfl (by decide) (by decide) rfl (fun ls hl => ?_)
      refine lv_goto (tgt := 33) hx hb dX0_homes_94 (by decide) ?_
      exact hrec32 _ _ hf _ _ _ (lv_sub hl [0, 1, 2, 3, 4] rfl) hw
    clear ek
    refine fb_zne (tgt := 77) hx hb dX0_homes_64 (by decide) hf (fun hf => ?_) (fun hf => ?_)
    · refine lv_ldcw (v := (-1000000 : Int32)) hx hb X.1.2.2.2.1 (X.1.2.2.2.2 _ q1345) dX0_homes_77 ?_
      refine lv_goto (tgt := 90) hx hb dX0_homes_80 (by decide) ?_
      exact hk39 _ _ _ _ _ (lv_sub hl [0, 1, 2, 3, 4] rfl) hw hf
    refine lv_aload_n hx hb dX0_homes_67 rfl (lv_at hl 2 rfl) ?_
    refine lv_iload_n hx hb dX0_homes_68 rfl (lv_at hl 1 rfl) ?_
    refine lv_iload hx hb dX0_homes_69 (lv_at hl 0 rfl) ?_
    refine fc_Vi (rest := [.int (((16 : Int32) * x5) + x30), .ref (eb E + 35)]) (As := [.int x5, .int x30]) X hw hm_X0_isBarred (lw_V q1215 q1217 qs16 q111 q1218) ⟨rfl, rfl⟩ ⟨by rw [hRf]; exact Nat.le_of_ble_eq_true rfl, by rw [hRl]; exact Nat.le_of_ble_eq_true rfl⟩ fc_X0 rfl (hx0 hX) rfl rfl hl.1 (Nat.le_of_ble_eq_true rfl) dX0_homes_71 (fun rQ stQ hQ => wX0_isBarred l E hX G x5 x30 st36 rQ stQ hQ) hf (fun x41 st42 H locs hw hf => ?_)
    refine fb_zeq (tgt := 83) hx hb dX0_homes_74 (by decide) hf (fun hf => ?_) (fun hf => ?_)
    · refine lv_aload_n hx hb dX0_homes_83 rfl (lv_at hl 2 rfl) ?_
      refine lv_iload_n hx hb dX0_homes_84 rfl (lv_at hl 1 rfl) ?_
      refine lv_iload hx hb dX0_homes_85 (lv_at hl 0 rfl) ?_
      refine fc_Vi (rest := [.int (((16 : Int32) * x5) + x30), .ref (eb E + 35)]) (As := [.int x5, .int x30]) X hw hm_X0_suits (lw_V q1211 q1213 qs15 q111 q1214) ⟨rfl, rfl⟩ ⟨by rw [hRf]; exact Nat.le_of_ble_eq_true rfl, by rw [hRl]; exact Nat.le_of_ble_eq_true rfl⟩ fc_X0 rfl (hx0 hX) rfl rfl hl.1 (Nat.le_of_ble_eq_true rfl) dX0_homes_87 (fun rQ stQ hQ => wX0_suits l E hX G x5 x30 st42 rQ stQ hQ) hf (fun x43 st44 H locs hw hf => ?_)
      exact hk39 _ _ _ _ _ (lv_sub hl [0, 1, 2, 3, 4] rfl) hw hf
    refine lv_ldcw (v := (-1000000 : Int32)) hx hb X.1.2.2.2.1 (X.1.2.2.2.2 _ q1345) dX0_homes_77 ?_
    refine lv_goto (tgt := 90) hx hb dX0_homes_80 (by decide) ?_
    exact hk39 _ _ _ _ _ (lv_sub hl [0, 1, 2, 3, 4] rfl) hw hf
  refine lv_iconst (v := (-1 : Int32)) hx hb dX0_homes_20 (by decide) ?_
  exact fd_i hend hw hf dX0_homes_21

/-- ForestRooms.sight -/
def fX0_sight (p1 : Int32) (p2 : Int32) (p3 : Int32) (st0 : fo_St) : Option (Int32 × fo_St) := bd_ (fX0_in p1 (0 : Int32) (9 : Int32) st0) (fun x1 st2 => if x1 = 0 then bd_ (fX0_refuse (-1 : Int32) st2) (fun x3 st4 => some (x3, st4)) else bd_ (fX0_isRoom p2 st2) (fun x5 st6 => if x5 = 0 then bd_ (fX0_refuse (-1 : Int32) st6) (fun x7 st8 => some (x7, st8)) else if p3 = (-1 : Int32) then if ¬ (gi_ st6 2 9) = (8 : Int32) then ck_ (fo_in ((3 : Int32) * (gi_ st6 2 9)) 24) (lt_ (si_ st6 12 ((3 : Int32) * (gi_ st6 2 9)).toNatClampNeg p1) (fun st9 => ck_ (fo_in (((3 : Int32) * (gi_ st9 2 9)) + (1 : Int32)) 24) (lt_ (si_ st9 12 (((3 : Int32) * (gi_ st9 2 9)) + (1 : Int32)).toNatClampNeg p2) (fun st10 => ck_ (fo_in (((3 : Int32) * (gi_ st10 2 9)) + (2 : Int32)) 24) (lt_ (si_ st10 12 (((3 : Int32) * (gi_ st10 2 9)) + (2 : Int32)).toNatClampNeg p3) (fun st11 => lt_ (si_ st11 2 9 ((gi_ st11 2 9) + (1 : Int32))) (fun st12 => bd_ (fX0_done (gi_ st12 2 9) st12) (fun x13 st14 => some (x13, st14))))))))) else bd_ (fX0_refuse (-5 : Int32) st6) (fun x15 st16 => some (x15, st16)) else bd_ (fX0_isKind p3 st6) (fun x17 st18 => if ¬ x17 = 0 then if ¬ (gi_ st18 2 9) = (8 : Int32) then ck_ (fo_in ((3 : Int32) * (gi_ st18 2 9)) 24) (lt_ (si_ st18 12 ((3 : Int32) * (gi_ st18 2 9)).toNatClampNeg p1) (fun st19 => ck_ (fo_in (((3 : Int32) * (gi_ st19 2 9)) + (1 : Int32)) 24) (lt_ (si_ st19 12 (((3 : Int32) * (gi_ st19 2 9)) + (1 : Int32)).toNatClampNeg p2) (fun st20 => ck_ (fo_in (((3 : Int32) * (gi_ st20 2 9)) + (2 : Int32)) 24) (lt_ (si_ st20 12 (((3 : Int32) * (gi_ st20 2 9)) + (2 : Int32)).toNatClampNeg p3) (fun st21 => lt_ (si_ st21 2 9 ((gi_ st21 2 9) + (1 : Int32))) (fun st22 => bd_ (fX0_done (gi_ st22 2 9) st22) (fun x23 st24 => some (x23, st24))))))))) else bd_ (fX0_refuse (-5 : Int32) st18) (fun x25 st26 => some (x25, st26)) else bd_ (fX0_refuse (-1 : Int32) st18) (fun x27 st28 => some (x27, st28)))))
theorem hm_X0_sight : fo_M yX0_sight 3 := ⟨by decide +kernel, by decide +kernel, by decide +kernel, by decide +kernel⟩
set_option maxHeartbeats 4000000 in
theorem wX0_sight (l : Launch) (E : fo_E) (hX : fo_HX E) (p1 : Int32) (p2 : Int32) (p3 : Int32) (st0 : fo_St) (rZ : Int32) (stZ : fo_St) (hf : fX0_sight p1 p2 p3 st0 = some (rZ, stZ)) : CTi l E yX0_sight (ws_ yX0_sight cX0_sight 4 (some .int)) ({ frames := 2, cells := 0, slots := 0, locals := 42 }) [.ref (eb E + 0), .int p1, .int p2, .int p3] st0 rZ stZ := by
  refine fe_i hm_X0_sight (Nat.le_of_ble_eq_true rfl) (fun p e R s m args below meth c Q hRf hRl X hend ls hl hw => ?_)
  have hx := X.1.1
  have hb := X.1.2.1
  have hl : lv_has ls 4 [(0, .ref (eb E + 0)), (1, .int p1), (2, .int p2), (3, .int p3)] := hl
  unfold fX0_sight at hf
  generalize s.heap = H at hw ⊢
  generalize ([] : List Loc) = locs at hw ⊢
  refine lv_iload_n hx hb dX0_sight_0 rfl (lv_at hl 1 rfl) ?_
  refine lv_iconst (v := (0 : Int32)) hx hb dX0_sight_1 (by decide) ?_
  refine lv_bipush (v := (9 : Int32)) hx hb dX0_sight_2 (by decide) ?_
  refine fc_Si (rest := []) (As := [.int p1, .int (0 : Int32), .int (9 : Int32)]) X hw hm_X0_in (lw_S q437 q438 q111 q439) ⟨rfl, rfl⟩ ⟨by rw [hRf]; exact Nat.le_of_ble_eq_true rfl, by rw [hRl]; exact Nat.le_of_ble_eq_true rfl⟩ rfl rfl hl.1 (Nat.le_of_ble_eq_true rfl) dX0_sight_4 (fun rQ stQ hQ => wX0_in l E hX p1 (0 : Int32) (9 : Int32) st0 rQ stQ hQ) hf (fun x1 st2 H locs hw hf => ?_)
  refine fb_zeq (tgt := 29) hx hb dX0_sight_7 (by decide) hf (fun hf => ?_) (fun hf => ?_)
  · refine lv_aload_n hx hb dX0_sight_29 rfl (lv_at hl 0 rfl) ?_
    refine lv_iconst (v := (-1 : Int32)) hx hb dX0_sight_30 (by decide) ?_
    refine fc_Vi (rest := []) (As := [.int (-1 : Int32)]) X hw hm_X0_refuse (lw_V q440 q442 qs1 q111 q443) ⟨rfl, rfl⟩ ⟨by rw [hRf]; exact Nat.le_of_ble_eq_true rfl, by rw [hRl]; exact Nat.le_of_ble_eq_true rfl⟩ fc_X0 rfl (hx0 hX) rfl rfl hl.1 (Nat.le_of_ble_eq_true rfl) dX0_sight_31 (fun rQ stQ hQ => wX0_refuse l E hX (-1 : Int32) st2 rQ stQ hQ) hf (fun x3 st4 H locs hw hf => ?_)
    exact fd_i hend hw hf dX0_sight_34
  refine lv_iload_n hx hb dX0_sight_10 rfl (lv_at hl 2 rfl) ?_
  refine fc_Si (rest := []) (As := [.int p2]) X hw hm_X0_isRoom (lw_S q546 q547 q111 q548) ⟨rfl, rfl⟩ ⟨by rw [hRf]; exact Nat.le_of_ble_eq_true rfl, by rw [hRl]; exact Nat.le_of_ble_eq_true rfl⟩ rfl rfl hl.1 (Nat.le_of_ble_eq_true rfl) dX0_sight_11 (fun rQ stQ hQ => wX0_isRoom l E hX p2 st2 rQ stQ hQ) hf (fun x5 st6 H locs hw hf => ?_)
  refine fb_zeq (tgt := 29) hx hb dX0_sight_14 (by decide) hf (fun hf => ?_) (fun hf => ?_)
  · refine lv_aload_n hx hb dX0_sight_29 rfl (lv_at hl 0 rfl) ?_
    refine lv_iconst (v := (-1 : Int32)) hx hb dX0_sight_30 (by decide) ?_
    refine fc_Vi (rest := []) (As := [.int (-1 : Int32)]) X hw hm_X0_refuse (lw_V q440 q442 qs1 q111 q443) ⟨rfl, rfl⟩ ⟨by rw [hRf]; exact Nat.le_of_ble_eq_true rfl, by rw [hRl]; exact Nat.le_of_ble_eq_true rfl⟩ fc_X0 rfl (hx0 hX) rfl rfl hl.1 (Nat.le_of_ble_eq_true rfl) dX0_sight_31 (fun rQ stQ hQ => wX0_refuse l E hX (-1 : Int32) st6 rQ stQ hQ) hf (fun x7 st8 H locs hw hf => ?_)
    exact fd_i hend hw hf dX0_sight_34
  refine lv_iload_n hx hb dX0_sight_17 rfl (lv_at hl 3 rfl) ?_
  refine lv_iconst (v := (-1 : Int32)) hx hb dX0_sight_18 (by decide) ?_
  refine fb_ieq (tgt := 35) hx hb dX0_sight_19 (by decide) hf (fun hf => ?_) (fun hf => ?_)
  · refine lv_aload_n hx hb dX0_sight_35 rfl (lv_at hl 0 rfl) ?_
    refine fo_gets X hw fc_X0 (hx0 hX) (k := 2) (d := 2) (n2 := 2) (by decide) rfl rfl q347 dX0_sight_36 ?_
    refine fo_getiN X hw fc_X1 (hx2 hX) (k := 9) (by decide) rfl fn233 dX0_sight_39 ?_
    refine lv_bipush (v := (8 : Int32)) hx hb dX0_sight_42 (by decide) ?_
    refine fb_ine (tgt := 54) hx hb dX0_sight_44 (by decide) hf (fun hf => ?_) (fun hf => ?_)
    · refine lv_aload_n hx hb dX0_sight_54 rfl (lv_at hl 0 rfl) ?_
      refine fo_gets X hw fc_X0 (hx0 hX) (k := 2) (d := 2) (n2 := 2) (by decide) rfl rfl q347 dX0_sight_55 ?_
      refine fo_getsN X hw fc_X1 (hx2 hX) (k := 6) (d := 10) (n2 := 12) (by decide) rfl rfl fn227 dX0_sight_58 ?_
      refine lv_iconst (v := (3 : Int32)) hx hb dX0_sight_61 (by decide) ?_
      refine lv_aload_n hx hb dX0_sight_62 rfl (lv_at hl 0 rfl) ?_
      refine fo_gets X hw fc_X0 (hx0 hX) (k := 2) (d := 2) (n2 := 2) (by decide) rfl rfl q347 dX0_sight_63 ?_
      refine fo_getiN X hw fc_X1 (hx2 hX) (k := 9) (by decide) rfl fn233 dX0_sight_66 ?_
      refine lv_imul hx hb dX0_sight_69 ?_
      refine lv_iload_n hx hb dX0_sight_70 rfl (lv_at hl 1 rfl) ?_
      refine fo_iast X hw (hx12 hX) dX0_sight_71 hf (fun st9 H locs hw hf => ?_)
      refine lv_aload_n hx hb dX0_sight_72 rfl (lv_at hl 0 rfl) ?_
      refine fo_gets X hw fc_X0 (hx0 hX) (k := 2) (d := 2) (n2 := 2) (by decide) rfl rfl q347 dX0_sight_73 ?_
      refine fo_getsN X hw fc_X1 (hx2 hX) (k := 6) (d := 10) (n2 := 12) (by decide) rfl rfl fn227 dX0_sight_76 ?_
      refine lv_iconst (v := (3 : Int32)) hx hb dX0_sight_79 (by decide) ?_
      refine lv_aload_n hx hb dX0_sight_80 rfl (lv_at hl 0 rfl) ?_
      refine fo_gets X hw fc_X0 (hx0 hX) (k := 2) (d := 2) (n2 := 2) (by decide) rfl rfl q347 dX0_sight_81 ?_
      refine fo_getiN X hw fc_X1 (hx2 hX) (k := 9) (by decide) rfl fn233 dX0_sight_84 ?_
      refine lv_imul hx hb dX0_sight_87 ?_
      refine lv_iconst (v := (1 : Int32)) hx hb dX0_sight_88 (by decide) ?_
      refine lv_iadd hx hb dX0_sight_89 ?_
      refine lv_iload_n hx hb dX0_sight_90 rfl (lv_at hl 2 rfl) ?_
      refine fo_iast X hw (hx12 hX) dX0_sight_91 hf (fun st10 H locs hw hf => ?_)
      refine lv_aload_n hx hb dX0_sight_92 rfl (lv_at hl 0 rfl) ?_
      refine fo_gets X hw fc_X0 (hx0 hX) (k := 2) (d := 2) (n2 := 2) (by decide) rfl rfl q347 dX0_sight_93 ?_
      refine fo_getsN X hw fc_X1 (hx2 hX) (k := 6) (d := 10) (n2 := 12) (by decide) rfl rfl fn227 dX0_sight_96 ?_
      refine lv_iconst (v := (3 : Int32)) hx hb dX0_sight_99 (by decide) ?_
      refine lv_aload_n hx hb dX0_sight_100 rfl (lv_at hl 0 rfl) ?_
      refine fo_gets X hw fc_X0 (hx0 hX) (k := 2) (d := 2) (n2 := 2) (by decide) rfl rfl q347 dX0_sight_101 ?_
      refine fo_getiN X hw fc_X1 (hx2 hX) (k := 9) (by decide) rfl fn233 dX0_sight_104 ?_
      refine lv_imul hx hb dX0_sight_107 ?_
      refine lv_iconst (v := (2 : Int32)) hx hb dX0_sight_108 (by decide) ?_
      refine lv_iadd hx hb dX0_sight_109 ?_
      refine lv_iload_n hx hb dX0_sight_110 rfl (lv_at hl 3 rfl) ?_
      refine fo_iast X hw (hx12 hX) dX0_sight_111 hf (fun st11 H locs hw hf => ?_)
      refine lv_aload_n hx hb dX0_sight_112 rfl (lv_at hl 0 rfl) ?_
      refine fo_gets X hw fc_X0 (hx0 hX) (k := 2) (d := 2) (n2 := 2) (by decide) rfl rfl q347 dX0_sight_113 ?_
      refine lv_dup hx hb dX0_sight_116 rfl ?_
      refine fo_getiN X hw fc_X1 (hx2 hX) (k := 9) (by decide) rfl fn233 dX0_sight_117 ?_
      refine lv_iconst (v := (1 : Int32)) hx hb dX0_sight_120 (by decide) ?_
      refine lv_iadd hx hb dX0_sight_121 ?_
      refine fo_putiN X hw fc_X1 (hx2 hX) (k := 9) (by decide) rfl rfl fn233 ⟨rfl, rfl⟩ dX0_sight_122 hf (fun st12 H locs hw hf => ?_)
      refine lv_aload_n hx hb dX0_sight_125 rfl (lv_at hl 0 rfl) ?_
      refine lv_aload_n hx hb dX0_sight_126 rfl (lv_at hl 0 rfl) ?_
      refine fo_gets X hw fc_X0 (hx0 hX) (k := 2) (d := 2) (n2 := 2) (by decide) rfl rfl q347 dX0_sight_127 ?_
      refine fo_getiN X hw fc_X1 (hx2 hX) (k := 9) (by decide) rfl fn233 dX0_sight_130 ?_
      refine fc_Vi (rest := []) (As := [.int (gi_ st12 2 9)]) X hw hm_X0_done (lw_V q530 q532 qs3 q111 q533) ⟨rfl, rfl⟩ ⟨by rw [hRf]; exact Nat.le_of_ble_eq_true rfl, by rw [hRl]; exact Nat.le_of_ble_eq_true rfl⟩ fc_X0 rfl (hx0 hX) rfl rfl hl.1 (Nat.le_of_ble_eq_true rfl) dX0_sight_133 (fun rQ stQ hQ => wX0_done l E hX (gi_ st12 2 9) st12 rQ stQ hQ) hf (fun x13 st14 H locs hw hf => ?_)
      exact fd_i hend hw hf dX0_sight_136
    refine lv_aload_n hx hb dX0_sight_47 rfl (lv_at hl 0 rfl) ?_
    refine lv_bipush (v := (-5 : Int32)) hx hb dX0_sight_48 (by decide) ?_
    refine fc_Vi (rest := []) (As := [.int (-5 : Int32)]) X hw hm_X0_refuse (lw_V q440 q442 qs1 q111 q443) ⟨rfl, rfl⟩ ⟨by rw [hRf]; exact Nat.le_of_ble_eq_true rfl, by rw [hRl]; exact Nat.le_of_ble_eq_true rfl⟩ fc_X0 rfl (hx0 hX) rfl rfl hl.1 (Nat.le_of_ble_eq_true rfl) dX0_sight_50 (fun rQ stQ hQ => wX0_refuse l E hX (-5 : Int32) st6 rQ stQ hQ) hf (fun x15 st16 H locs hw hf => ?_)
    exact fd_i hend hw hf dX0_sight_53
  refine lv_iload_n hx hb dX0_sight_22 rfl (lv_at hl 3 rfl) ?_
  refine fc_Si (rest := []) (As := [.int p3]) X hw hm_X0_isKind (lw_S q675 q676 q111 q677) ⟨rfl, rfl⟩ ⟨by rw [hRf]; exact Nat.le_of_ble_eq_true rfl, by rw [hRl]; exact Nat.le_of_ble_eq_true rfl⟩ rfl rfl hl.1 (Nat.le_of_ble_eq_true rfl) dX0_sight_23 (fun rQ stQ hQ => wX0_isKind l E hX p3 st6 rQ stQ hQ) hf (fun x17 st18 H locs hw hf => ?_)
  refine fb_zne (tgt := 35) hx hb dX0_sight_26 (by decide) hf (fun hf => ?_) (fun hf => ?_)
  · refine lv_aload_n hx hb dX0_sight_35 rfl (lv_at hl 0 rfl) ?_
    refine fo_gets X hw fc_X0 (hx0 hX) (k := 2) (d := 2) (n2 := 2) (by decide) rfl rfl q347 dX0_sight_36 ?_
    refine fo_getiN X hw fc_X1 (hx2 hX) (k := 9) (by decide) rfl fn233 dX0_sight_39 ?_
    refine lv_bipush (v := (8 : Int32)) hx hb dX0_sight_42 (by decide) ?_
    refine fb_ine (tgt := 54) hx hb dX0_sight_44 (by decide) hf (fun hf => ?_) (fun hf => ?_)
    · refine lv_aload_n hx hb dX0_sight_54 rfl (lv_at hl 0 rfl) ?_
      refine fo_gets X hw fc_X0 (hx0 hX) (k := 2) (d := 2) (n2 := 2) (by decide) rfl rfl q347 dX0_sight_55 ?_
      refine fo_getsN X hw fc_X1 (hx2 hX) (k := 6) (d := 10) (n2 := 12) (by decide) rfl rfl fn227 dX0_sight_58 ?_
      refine lv_iconst (v := (3 : Int32)) hx hb dX0_sight_61 (by decide) ?_
      refine lv_aload_n hx hb dX0_sight_62 rfl (lv_at hl 0 rfl) ?_
      refine fo_gets X hw fc_X0 (hx0 hX) (k := 2) (d := 2) (n2 := 2) (by decide) rfl rfl q347 dX0_sight_63 ?_
      refine fo_getiN X hw fc_X1 (hx2 hX) (k := 9) (by decide) rfl fn233 dX0_sight_66 ?_
      refine lv_imul hx hb dX0_sight_69 ?_
      refine lv_iload_n hx hb dX0_sight_70 rfl (lv_at hl 1 rfl) ?_
      refine fo_iast X hw (hx12 hX) dX0_sight_71 hf (fun st19 H locs hw hf => ?_)
      refine lv_aload_n hx hb dX0_sight_72 rfl (lv_at hl 0 rfl) ?_
      refine fo_gets X hw fc_X0 (hx0 hX) (k := 2) (d := 2) (n2 := 2) (by decide) rfl rfl q347 dX0_sight_73 ?_
      refine fo_getsN X hw fc_X1 (hx2 hX) (k := 6) (d := 10) (n2 := 12) (by decide) rfl rfl fn227 dX0_sight_76 ?_
      refine lv_iconst (v := (3 : Int32)) hx hb dX0_sight_79 (by decide) ?_
      refine lv_aload_n hx hb dX0_sight_80 rfl (lv_at hl 0 rfl) ?_
      refine fo_gets X hw fc_X0 (hx0 hX) (k := 2) (d := 2) (n2 := 2) (by decide) rfl rfl q347 dX0_sight_81 ?_
      refine fo_getiN X hw fc_X1 (hx2 hX) (k := 9) (by decide) rfl fn233 dX0_sight_84 ?_
      refine lv_imul hx hb dX0_sight_87 ?_
      refine lv_iconst (v := (1 : Int32)) hx hb dX0_sight_88 (by decide) ?_
      refine lv_iadd hx hb dX0_sight_89 ?_
      refine lv_iload_n hx hb dX0_sight_90 rfl (lv_at hl 2 rfl) ?_
      refine fo_iast X hw (hx12 hX) dX0_sight_91 hf (fun st20 H locs hw hf => ?_)
      refine lv_aload_n hx hb dX0_sight_92 rfl (lv_at hl 0 rfl) ?_
      refine fo_gets X hw fc_X0 (hx0 hX) (k := 2) (d := 2) (n2 := 2) (by decide) rfl rfl q347 dX0_sight_93 ?_
      refine fo_getsN X hw fc_X1 (hx2 hX) (k := 6) (d := 10) (n2 := 12) (by decide) rfl rfl fn227 dX0_sight_96 ?_
      refine lv_iconst (v := (3 : Int32)) hx hb dX0_sight_99 (by decide) ?_
      refine lv_aload_n hx hb dX0_sight_100 rfl (lv_at hl 0 rfl) ?_
      refine fo_gets X hw fc_X0 (hx0 hX) (k := 2) (d := 2) (n2 := 2) (by decide) rfl rfl q347 dX0_sight_101 ?_
      refine fo_getiN X hw fc_X1 (hx2 hX) (k := 9) (by decide) rfl fn233 dX0_sight_104 ?_
      refine lv_imul hx hb dX0_sight_107 ?_
      refine lv_iconst (v := (2 : Int32)) hx hb dX0_sight_108 (by decide) ?_
      refine lv_iadd hx hb dX0_sight_109 ?_
      refine lv_iload_n hx hb dX0_sight_110 rfl (lv_at hl 3 rfl) ?_
      refine fo_iast X hw (hx12 hX) dX0_sight_111 hf (fun st21 H locs hw hf => ?_)
      refine lv_aload_n hx hb dX0_sight_112 rfl (lv_at hl 0 rfl) ?_
      refine fo_gets X hw fc_X0 (hx0 hX) (k := 2) (d := 2) (n2 := 2) (by decide) rfl rfl q347 dX0_sight_113 ?_
      refine lv_dup hx hb dX0_sight_116 rfl ?_
      refine fo_getiN X hw fc_X1 (hx2 hX) (k := 9) (by decide) rfl fn233 dX0_sight_117 ?_
      refine lv_iconst (v := (1 : Int32)) hx hb dX0_sight_120 (by decide) ?_
      refine lv_iadd hx hb dX0_sight_121 ?_
      refine fo_putiN X hw fc_X1 (hx2 hX) (k := 9) (by decide) rfl rfl fn233 ⟨rfl, rfl⟩ dX0_sight_122 hf (fun st22 H locs hw hf => ?_)
      refine lv_aload_n hx hb dX0_sight_125 rfl (lv_at hl 0 rfl) ?_
      refine lv_aload_n hx hb dX0_sight_126 rfl (lv_at hl 0 rfl) ?_
      refine fo_gets X hw fc_X0 (hx0 hX) (k := 2) (d := 2) (n2 := 2) (by decide) rfl rfl q347 dX0_sight_127 ?_
      refine fo_getiN X hw fc_X1 (hx2 hX) (k := 9) (by decide) rfl fn233 dX0_sight_130 ?_
      refine fc_Vi (rest := []) (As := [.int (gi_ st22 2 9)]) X hw hm_X0_done (lw_V q530 q532 qs3 q111 q533) ⟨rfl, rfl⟩ ⟨by rw [hRf]; exact Nat.le_of_ble_eq_true rfl, by rw [hRl]; exact Nat.le_of_ble_eq_true rfl⟩ fc_X0 rfl (hx0 hX) rfl rfl hl.1 (Nat.le_of_ble_eq_true rfl) dX0_sight_133 (fun rQ stQ hQ => wX0_done l E hX (gi_ st22 2 9) st22 rQ stQ hQ) hf (fun x23 st24 H locs hw hf => ?_)
      exact fd_i hend hw hf dX0_sight_136
    refine lv_aload_n hx hb dX0_sight_47 rfl (lv_at hl 0 rfl) ?_
    refine lv_bipush (v := (-5 : Int32)) hx hb dX0_sight_48 (by decide) ?_
    refine fc_Vi (rest := []) (As := [.int (-5 : Int32)]) X hw hm_X0_refuse (lw_V q440 q442 qs1 q111 q443) ⟨rfl, rfl⟩ ⟨by rw [hRf]; exact Nat.le_of_ble_eq_true rfl, by rw [hRl]; exact Nat.le_of_ble_eq_true rfl⟩ fc_X0 rfl (hx0 hX) rfl rfl hl.1 (Nat.le_of_ble_eq_true rfl) dX0_sight_50 (fun rQ stQ hQ => wX0_refuse l E hX (-5 : Int32) st18 rQ stQ hQ) hf (fun x25 st26 H locs hw hf => ?_)
    exact fd_i hend hw hf dX0_sight_53
  refine lv_aload_n hx hb dX0_sight_29 rfl (lv_at hl 0 rfl) ?_
  refine lv_iconst (v := (-1 : Int32)) hx hb dX0_sight_30 (by decide) ?_
  refine fc_Vi (rest := []) (As := [.int (-1 : Int32)]) X hw hm_X0_refuse (lw_V q440 q442 qs1 q111 q443) ⟨rfl, rfl⟩ ⟨by rw [hRf]; exact Nat.le_of_ble_eq_true rfl, by rw [hRl]; exact Nat.le_of_ble_eq_true rfl⟩ fc_X0 rfl (hx0 hX) rfl rfl hl.1 (Nat.le_of_ble_eq_true rfl) dX0_sight_31 (fun rQ stQ hQ => wX0_refuse l E hX (-1 : Int32) st18 rQ stQ hQ) hf (fun x27 st28 H locs hw hf => ?_)
  exact fd_i hend hw hf dX0_sight_34

/-- ForestRooms.forget -/
def fX0_forget (st0 : fo_St) : Option (Int32 × fo_St) := lI_ (gi_ st0 2 9) (fun x1 => lt_ (si_ st0 2 9 (0 : Int32)) (fun st2 => some (x1, st2)))
theorem hm_X0_forget : fo_M yX0_forget 0 := ⟨by decide +kernel, by decide +kernel, by decide +kernel, by decide +kernel⟩
set_option maxHeartbeats 4000000 in
theorem wX0_forget (l : Launch) (E : fo_E) (hX : fo_HX E) (st0 : fo_St) (rZ : Int32) (stZ : fo_St) (hf : fX0_forget st0 = some (rZ, stZ)) : CTi l E yX0_forget (ws_ yX0_forget cX0_forget 2 (some .int)) ({ frames := 0, cells := 0, slots := 0, locals := 0 }) [.ref (eb E + 0)] st0 rZ stZ := by
  refine fe_i hm_X0_forget (Nat.le_of_ble_eq_true rfl) (fun p e R s m args below meth c Q hRf hRl X hend ls hl hw => ?_)
  have hx := X.1.1
  have hb := X.1.2.1
  have hl : lv_has ls 2 [(0, .ref (eb E + 0))] := hl
  unfold fX0_forget at hf
  generalize s.heap = H at hw ⊢
  generalize ([] : List Loc) = locs at hw ⊢
  refine lv_aload_n hx hb dX0_forget_0 rfl (lv_at hl 0 rfl) ?_
  refine fo_gets X hw fc_X0 (hx0 hX) (k := 2) (d := 2) (n2 := 2) (by decide) rfl rfl q347 dX0_forget_1 ?_
  refine fo_getiN X hw fc_X1 (hx2 hX) (k := 9) (by decide) rfl fn233 dX0_forget_4 ?_
  refine fo_tI hf (fun x1 hf => ?_)
  refine lv_istore_n (lv' := [(1, .int x1), (0, .ref (eb E + 0))]) hx hb dX0_forget_7 rfl hl (by decide) rfl (fun ls hl => ?_)
  refine lv_aload_n hx hb dX0_forget_8 rfl (lv_at hl 1 rfl) ?_
  refine fo_gets X hw fc_X0 (hx0 hX) (k := 2) (d := 2) (n2 := 2) (by decide) rfl rfl q347 dX0_forget_9 ?_
  refine lv_iconst (v := (0 : Int32)) hx hb dX0_forget_12 (by decide) ?_
  refine fo_putiN X hw fc_X1 (hx2 hX) (k := 9) (by decide) rfl rfl fn233 ⟨rfl, rfl⟩ dX0_forget_13 hf (fun st2 H locs hw hf => ?_)
  refine lv_iload_n hx hb dX0_forget_16 rfl (lv_at hl 0 rfl) ?_
  exact fd_i hend hw hf dX0_forget_17

/-- ForestRooms.areSo -/
def fX0_areSo (tg : Nat → Nat × Nat) (G : Nat) (p1 : Int32) (p2 : Int32) (st0 : fo_St) : Option (Int32 × fo_St) := bd_ (fX0_table st0) (fun x1 st2 => ck_ (decide (x1 = 3)) (bv_ (fX2_takes 25 3 st2) (fun st4 => bv_ (fX2_plants 25 p1 p2 st4) (fun st6 => lp2_ (fun rec9 (x7 : Int32) (st8 : fo_St) => if (9 : Int32) < x7 then some ((1 : Int32), st8) else lp2_ (fun rec12 (x10 : Int32) (st11 : fo_St) => if (gi_ st11 2 9) ≤ x10 then bd_ (fX0_passes tg G 25 st11) (fun x13 st14 => rec9 (x7 + (1 : Int32)) st14) else ck_ (fo_in ((3 : Int32) * x10) 24) (if ¬ (gi_ st11 12 ((3 : Int32) * x10).toNatClampNeg) = x7 then rec12 (x10 + (1 : Int32)) st11 else ck_ (fo_in (((3 : Int32) * x10) + (1 : Int32)) 24) (ck_ (fo_in (gi_ st11 12 (((3 : Int32) * x10) + (1 : Int32)).toNatClampNeg) 16) (ck_ (fo_in (((3 : Int32) * x10) + (2 : Int32)) 24) (if (gi_ st11 26 (gi_ st11 12 (((3 : Int32) * x10) + (1 : Int32)).toNatClampNeg).toNatClampNeg) = (gi_ st11 12 (((3 : Int32) * x10) + (2 : Int32)).toNatClampNeg) then rec12 (x10 + (1 : Int32)) st11 else some ((0 : Int32), st11)))))) G (0 : Int32) st8) G (0 : Int32) st6))))
theorem hm_X0_areSo : fo_M yX0_areSo 2 := ⟨by decide +kernel, by decide +kernel, by decide +kernel, by decide +kernel⟩
set_option maxHeartbeats 4000000 in
theorem wX0_areSo (l : Launch) (E : fo_E) (hX : fo_HX E) (G : Nat) (p1 : Int32) (p2 : Int32) (st0 : fo_St) (rZ : Int32) (stZ : fo_St) (hf : fX0_areSo (et E) G p1 p2 st0 = some (rZ, stZ)) : CTi l E yX0_areSo (ws_ yX0_areSo cX0_areSo 6 (some .boolean)) ({ frames := 133, cells := 0, slots := 0, locals := 7809 }) [.ref (eb E + 0), .int p1, .int p2] st0 rZ stZ := by
  refine fe_z hm_X0_areSo (Nat.le_of_ble_eq_true rfl) (fun p e R s m args below meth c Q hRf hRl X hend ls hl hw => ?_)
  have hx := X.1.1
  have hb := X.1.2.1
  have hl : lv_has ls 6 [(0, .ref (eb E + 0)), (1, .int p1), (2, .int p2)] := hl
  unfold fX0_areSo at hf
  generalize s.heap = H at hw ⊢
  generalize ([] : List Loc) = locs at hw ⊢
  refine lv_aload_n hx hb dX0_areSo_0 rfl (lv_at hl 0 rfl) ?_
  refine fo_gets X hw fc_X0 (hx0 hX) (k := 9) (d := 25) (n2 := 25) (by decide) rfl rfl q354 dX0_areSo_1 ?_
  refine lv_astore_n (lv' := [(3, .ref (eb E + 25)), (0, .ref (eb E + 0)), (1, .int p1), (2, .int p2)]) hx hb dX0_areSo_4 rfl hl (by decide) rfl (fun ls hl => ?_)
  refine lv_aload_n hx hb dX0_areSo_5 rfl (lv_at hl 0 rfl) ?_
  refine lv_aload_n hx hb dX0_areSo_6 rfl (lv_at hl 1 rfl) ?_
  refine fc_Vr (rest := [.ref (eb E + 25)]) (As := []) X hw hm_X0_table (lw_V q560 q562 qs6 q111 q563) ⟨rfl, rfl⟩ ⟨by rw [hRf]; exact Nat.le_of_ble_eq_true rfl, by rw [hRl]; exact Nat.le_of_ble_eq_true rfl⟩ fc_X0 rfl (hx0 hX) rfl rfl hl.1 (Nat.le_of_ble_eq_true rfl) dX0_areSo_7 (fun rQ stQ hQ => wX0_table l E hX st0 rQ stQ hQ) hf (fun x1 st2 H locs hw hf => ?_)
  have hc0 := ck_e hf
  clear hf
  obtain ⟨hc, hf⟩ := hc0
  replace hc := of_decide_eq_true hc
  subst hc
  refine fc_Vv (rest := []) (As := [.ref (eb E + 3)]) X hw hm_X2_takes (lw_V q1246 q449 q450 q113 q451) ⟨rfl, rfl⟩ ⟨by rw [hRf]; exact Nat.le_of_ble_eq_true rfl, by rw [hRl]; exact Nat.le_of_ble_eq_true rfl⟩ fc_X2 rfl (hx25 hX) rfl rfl hl.1 (Nat.le_of_ble_eq_true rfl) dX0_areSo_10 (fun stQ hQ => wX2_takes l E 25 3 (hxT25 hX) (hxT3 hX) st2 stQ hQ) hf (fun st4 H locs hw hf => ?_)
  refine lv_aload_n hx hb dX0_areSo_13 rfl (lv_at hl 0 rfl) ?_
  refine lv_iload_n hx hb dX0_areSo_14 rfl (lv_at hl 2 rfl) ?_
  refine lv_iload_n hx hb dX0_areSo_15 rfl (lv_at hl 3 rfl) ?_
  refine fc_Vv (rest := []) (As := [.int p1, .int p2]) X hw hm_X2_plants (lw_V q1247 q1248 q1249 q113 q1250) ⟨rfl, rfl⟩ ⟨by rw [hRf]; exact Nat.le_of_ble_eq_true rfl, by rw [hRl]; exact Nat.le_of_ble_eq_true rfl⟩ fc_X2 rfl (hx25 hX) rfl rfl hl.1 (Nat.le_of_ble_eq_true rfl) dX0_areSo_16 (fun stQ hQ => wX2_plants l E 25 p1 p2 (hxT25 hX) st4 stQ hQ) hf (fun st6 H locs hw hf => ?_)
  refine lv_iconst (v := (0 : Int32)) hx hb dX0_areSo_19 (by decide) ?_
  refine lv_istore (lv' := [(4, .int (0 : Int32)), (3, .ref (eb E + 25)), (0, .ref (eb E + 0)), (1, .int p1), (2, .int p2)]) hx hb dX0_areSo_20 hl (by decide) rfl (fun ls hl => ?_)
  refine lp2_e (P := fun x7 st8 => ∀ (H : Heap) (locs : List Loc) (ls : Array Slot), lv_has ls 6 [(4, .int x7), (3, .ref (eb E + 25)), (0, .ref (eb E + 0))] → fo_S E s st8 H locs → W p l e R s m args below meth c H locs 0 0 Q (F0 m 22 ls [])) (fun rec9 hrec9 x7 st8 hf => ?_) G _ _ hf H locs ls (lv_sub hl [0, 1, 2] rfl) hw
  intro H locs ls hl hw
  refine lv_iload hx hb dX0_areSo_22 (lv_at hl 0 rfl) ?_
  refine lv_bipush (v := (9 : Int32)) hx hb dX0_areSo_24 (by decide) ?_
  refine fb_igt (tgt := 117) hx hb dX0_areSo_26 (by decide) hf (fun hf => ?_) (fun hf => ?_)
  · refine lv_iconst (v := (1 : Int32)) hx hb dX0_areSo_117 (by decide) ?_
    exact fd_z hend hw rfl hf dX0_areSo_118
  refine lv_iconst (v := (0 : Int32)) hx hb dX0_areSo_29 (by decide) ?_
  refine lv_istore (lv' := [(5, .int (0 : Int32)), (4, .int x7), (3, .ref (eb E + 25)), (0, .ref (eb E + 0))]) hx hb dX0_areSo_30 hl (by decide) rfl (fun ls hl => ?_)
  refine lp2_e (P := fun x10 st11 => ∀ (H : Heap) (locs : List Loc) (ls : Array Slot), lv_has ls 6 [(5, .int x10), (4, .int x7), (3, .ref (eb E + 25)), (0, .ref (eb E + 0))] → fo_S E s st11 H locs → W p l e R s m args below meth c H locs 0 0 Q (F0 m 32 ls [])) (fun rec12 hrec12 x10 st11 hf => ?_) G _ _ hf H locs ls (lv_sub hl [0, 1, 2, 3] rfl) hw
  intro H locs ls hl hw
  refine lv_iload hx hb dX0_areSo_32 (lv_at hl 0 rfl) ?_
  refine lv_aload_n hx hb dX0_areSo_34 rfl (lv_at hl 3 rfl) ?_
  refine fo_gets X hw fc_X0 (hx0 hX) (k := 2) (d := 2) (n2 := 2) (by decide) rfl rfl q347 dX0_areSo_35 ?_
  refine fo_getiN X hw fc_X1 (hx2 hX) (k := 9) (by decide) rfl fn233 dX0_areSo_38 ?_
  refine fb_ige (tgt := 105) hx hb dX0_areSo_41 (by decide) hf (fun hf => ?_) (fun hf => ?_)
  · refine lv_aload_n hx hb dX0_areSo_105 rfl (lv_at hl 3 rfl) ?_
    refine lv_aload_n hx hb dX0_areSo_106 rfl (lv_at hl 2 rfl) ?_
    refine fc_Vi (rest := []) (As := [.ref (eb E + 25)]) X hw hm_X0_passes (lw_V q1291 q1293 qs25 q111 q1294) ⟨rfl, rfl⟩ ⟨by rw [hRf]; exact Nat.le_of_ble_eq_true rfl, by rw [hRl]; exact Nat.le_of_ble_eq_true rfl⟩ fc_X0 rfl (hx0 hX) rfl rfl hl.1 (Nat.le_of_ble_eq_true rfl) dX0_areSo_107 (fun rQ stQ hQ => wX0_passes l E hX G 25 (hxT25 hX) st11 rQ stQ hQ) hf (fun x13 st14 H locs hw hf => ?_)
    refine lv_pop hx hb dX0_areSo_110 rfl ?_
    refine fb_iinc (v := (1 : Int32)) (lv' := [(4, .int (x7 + (1 : Int32))), (5, .int x10), (3, .ref (eb E + 25)), (0, .ref (eb E + 0))]) hx hb dX0_areSo_111 hl (k := 1) rfl (by decide) (by decide) rfl (fun ls hl => ?_)
    refine lv_goto (tgt := 22) hx hb dX0_areSo_114 (by decide) ?_
    exact hrec9 _ _ hf _ _ _ (lv_sub hl [0, 2, 3] rfl) hw
  refine lv_aload_n hx hb dX0_areSo_44 rfl (lv_at hl 3 rfl) ?_
  refine fo_gets X hw fc_X0 (hx0 hX) (k := 2) (d := 2) (n2 := 2) (by decide) rfl rfl q347 dX0_areSo_45 ?_
  refine fo_getsN X hw fc_X1 (hx2 hX) (k := 6) (d := 10) (n2 := 12) (by decide) rfl rfl fn227 dX0_areSo_48 ?_
  refine lv_iconst (v := (3 : Int32)) hx hb dX0_areSo_51 (by decide) ?_
  refine lv_iload hx hb dX0_areSo_52 (lv_at hl 0 rfl) ?_
  refine lv_imul hx hb dX0_areSo_54 ?_
  refine fo_iald X hw (hx12 hX) dX0_areSo_55 hf (fun hf => ?_)
  refine lv_iload hx hb dX0_areSo_56 (lv_at hl 1 rfl) ?_
  refine fb_ine (tgt := 99) hx hb dX0_areSo_58 (by decide) hf (fun hf => ?_) (fun hf => ?_)
  · refine fb_iinc (v := (1 : Int32)) (lv' := [(5, .int (x10 + (1 : Int32))), (4, .int x7), (3, .ref (eb E + 25)), (0, .ref (eb E + 0))]) hx hb dX0_areSo_99 hl (k := 0) rfl (by decide) (by decide) rfl (fun ls hl => ?_)
    refine lv_goto (tgt := 32) hx hb dX0_areSo_102 (by decide) ?_
    exact hrec12 _ _ hf _ _ _ (lv_sub hl [0, 1, 2, 3] rfl) hw
  refine lv_aload_n hx hb dX0_areSo_61 rfl (lv_at hl 2 rfl) ?_
  refine fo_getsN X hw fc_X2 (hx25 hX) (k := 0) (d := 1) (n2 := 26) (by decide) rfl rfl fn168 dX0_areSo_62 ?_
  refine lv_aload_n hx hb dX0_areSo_65 rfl (lv_at hl 3 rfl) ?_
  refine fo_gets X hw fc_X0 (hx0 hX) (k := 2) (d := 2) (n2 := 2) (by decide) rfl rfl q347 dX0_areSo_66 ?_
  refine fo_getsN X hw fc_X1 (hx2 hX) (k := 6) (d := 10) (n2 := 12) (by decide) rfl rfl fn227 dX0_areSo_69 ?_
  refine lv_iconst (v := (3 : Int32)) hx hb dX0_areSo_72 (by decide) ?_
  refine lv_iload hx hb dX0_areSo_73 (lv_at hl 0 rfl) ?_
  refine lv_imul hx hb dX0_areSo_75 ?_
  refine lv_iconst (v := (1 : Int32)) hx hb dX0_areSo_76 (by decide) ?_
  refine lv_iadd hx hb dX0_areSo_77 ?_
  refine fo_iald X hw (hx12 hX) dX0_areSo_78 hf (fun hf => ?_)
  refine fo_iald X hw (hx26 hX) dX0_areSo_79 hf (fun hf => ?_)
  refine lv_aload_n hx hb dX0_areSo_80 rfl (lv_at hl 3 rfl) ?_
  refine fo_gets X hw fc_X0 (hx0 hX) (k := 2) (d := 2) (n2 := 2) (by decide) rfl rfl q347 dX0_areSo_81 ?_
  refine fo_getsN X hw fc_X1 (hx2 hX) (k := 6) (d := 10) (n2 := 12) (by decide) rfl rfl fn227 dX0_areSo_84 ?_
  refine lv_iconst (v := (3 : Int32)) hx hb dX0_areSo_87 (by decide) ?_
  refine lv_iload hx hb dX0_areSo_88 (lv_at hl 0 rfl) ?_
  refine lv_imul hx hb dX0_areSo_90 ?_
  refine lv_iconst (v := (2 : Int32)) hx hb dX0_areSo_91 (by decide) ?_
  refine lv_iadd hx hb dX0_areSo_92 ?_
  refine fo_iald X hw (hx12 hX) dX0_areSo_93 hf (fun hf => ?_)
  refine fb_ieq (tgt := 99) hx hb dX0_areSo_94 (by decide) hf (fun hf => ?_) (fun hf => ?_)
  · refine fb_iinc (v := (1 : Int32)) (lv' := [(5, .int (x10 + (1 : Int32))), (4, .int x7), (3, .ref (eb E + 25)), (0, .ref (eb E + 0))]) hx hb dX0_areSo_99 hl (k := 0) rfl (by decide) (by decide) rfl (fun ls hl => ?_)
    refine lv_goto (tgt := 32) hx hb dX0_areSo_102 (by decide) ?_
    exact hrec12 _ _ hf _ _ _ (lv_sub hl [0, 1, 2, 3] rfl) hw
  refine lv_iconst (v := (0 : Int32)) hx hb dX0_areSo_97 (by decide) ?_
  exact fd_z hend hw rfl hf dX0_areSo_98

/-- ForestRooms.listsSeeds -/
def fX0_listsSeeds (tg : Nat → Nat × Nat) (G : Nat) (st0 : fo_St) : Option (Int32 × fo_St) := lp3_ (fun rec4 (x1 : Int32) (x2 : Int32) (st3 : fo_St) => if (96 : Int32) ≤ x1 then some (x2, st3) else bd_ (fX0_table st3) (fun x5 st6 => ck_ (decide (x5 = 3)) (bd_ (fX2_isTree 3 (x1 / (6 : Int32)) st6) (fun x7 st8 => if ¬ x7 = 0 then rec4 (x1 + (1 : Int32)) x2 st8 else bd_ (fX0_areSo tg G (x1 / (6 : Int32)) (irem_ x1 (6 : Int32)) st8) (fun x9 st10 => if ¬ x9 = 0 then ck_ (fo_in x2 96) (lt_ (si_ st10 38 x2.toNatClampNeg x1) (fun st11 => rec4 (x1 + (1 : Int32)) (x2 + (1 : Int32)) st11)) else rec4 (x1 + (1 : Int32)) x2 st10))))) G (0 : Int32) (0 : Int32) st0
theorem hm_X0_listsSeeds : fo_M yX0_listsSeeds 0 := ⟨by decide +kernel, by decide +kernel, by decide +kernel, by decide +kernel⟩
set_option maxHeartbeats 4000000 in
theorem wX0_listsSeeds (l : Launch) (E : fo_E) (hX : fo_HX E) (G : Nat) (st0 : fo_St) (rZ : Int32) (stZ : fo_St) (hf : fX0_listsSeeds (et E) G st0 = some (rZ, stZ)) : CTi l E yX0_listsSeeds (ws_ yX0_listsSeeds cX0_listsSeeds 3 (some .int)) ({ frames := 134, cells := 0, slots := 0, locals := 7834 }) [.ref (eb E + 0)] st0 rZ stZ := by
  refine fe_i hm_X0_listsSeeds (Nat.le_of_ble_eq_true rfl) (fun p e R s m args below meth c Q hRf hRl X hend ls hl hw => ?_)
  have hx := X.1.1
  have hb := X.1.2.1
  have hl : lv_has ls 3 [(0, .ref (eb E + 0))] := hl
  unfold fX0_listsSeeds at hf
  generalize s.heap = H at hw ⊢
  generalize ([] : List Loc) = locs at hw ⊢
  refine lv_iconst (v := (0 : Int32)) hx hb dX0_listsSeeds_0 (by decide) ?_
  refine lv_istore_n (lv' := [(1, .int (0 : Int32)), (0, .ref (eb E + 0))]) hx hb dX0_listsSeeds_1 rfl hl (by decide) rfl (fun ls hl => ?_)
  refine lv_iconst (v := (0 : Int32)) hx hb dX0_listsSeeds_2 (by decide) ?_
  refine lv_istore_n (lv' := [(2, .int (0 : Int32)), (1, .int (0 : Int32)), (0, .ref (eb E + 0))]) hx hb dX0_listsSeeds_3 rfl hl (by decide) rfl (fun ls hl => ?_)
  refine lp3_e (P := fun x1 x2 st3 => ∀ (H : Heap) (locs : List Loc) (ls : Array Slot), lv_has ls 3 [(2, .int x1), (1, .int x2), (0, .ref (eb E + 0))] → fo_S E s st3 H locs → W p l e R s m args below meth c H locs 0 0 Q (F0 m 4 ls [])) (fun rec4 hrec4 x1 x2 st3 hf => ?_) G _ _ _ hf H locs ls (lv_sub hl [0, 1, 2] rfl) hw
  intro H locs ls hl hw
  refine lv_iload_n hx hb dX0_listsSeeds_4 rfl (lv_at hl 0 rfl) ?_
  refine lv_bipush (v := (96 : Int32)) hx hb dX0_listsSeeds_5 (by decide) ?_
  refine fb_ige (tgt := 58) hx hb dX0_listsSeeds_7 (by decide) hf (fun hf => ?_) (fun hf => ?_)
  · refine lv_iload_n hx hb dX0_listsSeeds_58 rfl (lv_at hl 1 rfl) ?_
    exact fd_i hend hw hf dX0_listsSeeds_59
  refine lv_aload_n hx hb dX0_listsSeeds_10 rfl (lv_at hl 2 rfl) ?_
  refine fc_Vr (rest := []) (As := []) X hw hm_X0_table (lw_V q560 q562 qs6 q111 q563) ⟨rfl, rfl⟩ ⟨by rw [hRf]; exact Nat.le_of_ble_eq_true rfl, by rw [hRl]; exact Nat.le_of_ble_eq_true rfl⟩ fc_X0 rfl (hx0 hX) rfl rfl hl.1 (Nat.le_of_ble_eq_true rfl) dX0_listsSeeds_11 (fun rQ stQ hQ => wX0_table l E hX st3 rQ stQ hQ) hf (fun x5 st6 H locs hw hf => ?_)
  have hc0 := ck_e hf
  clear hf
  obtain ⟨hc, hf⟩ := hc0
  replace hc := of_decide_eq_true hc
  subst hc
  refine lv_iload_n hx hb dX0_listsSeeds_14 rfl (lv_at hl 0 rfl) ?_
  refine lv_bipush (v := (6 : Int32)) hx hb dX0_listsSeeds_15 (by decide) ?_
  refine fb_idivK hx hb dX0_listsSeeds_17 (by decide) ?_
  refine fc_Vi (rest := []) (As := [.int (x1 / (6 : Int32))]) X hw hm_X2_isTree (lw_V q568 q569 q570 q113 q571) ⟨rfl, rfl⟩ ⟨by rw [hRf]; exact Nat.le_of_ble_eq_true rfl, by rw [hRl]; exact Nat.le_of_ble_eq_true rfl⟩ fc_X2 rfl (hx3 hX) rfl rfl hl.1 (Nat.le_of_ble_eq_true rfl) dX0_listsSeeds_18 (fun rQ stQ hQ => wX2_isTree l E 3 (x1 / (6 : Int32)) (hxT3 hX) st6 rQ stQ hQ) hf (fun x7 st8 H locs hw hf => ?_)
  refine fb_zne (tgt := 52) hx hb dX0_listsSeeds_21 (by decide) hf (fun hf => ?_) (fun hf => ?_)
  · refine fb_iinc (v := (1 : Int32)) (lv' := [(2, .int (x1 + (1 : Int32))), (1, .int x2), (0, .ref (eb E + 0))]) hx hb dX0_listsSeeds_52 hl (k := 0) rfl (by decide) (by decide) rfl (fun ls hl => ?_)
    refine lv_goto (tgt := 4) hx hb dX0_listsSeeds_55 (by decide) ?_
    exact hrec4 _ _ _ hf _ _ _ (lv_sub hl [0, 1, 2] rfl) hw
  refine lv_aload_n hx hb dX0_listsSeeds_24 rfl (lv_at hl 2 rfl) ?_
  refine lv_iload_n hx hb dX0_listsSeeds_25 rfl (lv_at hl 0 rfl) ?_
  refine lv_bipush (v := (6 : Int32)) hx hb dX0_listsSeeds_26 (by decide) ?_
  refine fb_idivK hx hb dX0_listsSeeds_28 (by decide) ?_
  refine lv_iload_n hx hb dX0_listsSeeds_29 rfl (lv_at hl 0 rfl) ?_
  refine lv_bipush (v := (6 : Int32)) hx hb dX0_listsSeeds_30 (by decide) ?_
  refine fb_iremK hx hb dX0_listsSeeds_32 (by decide) ?_
  refine fc_Vi (rest := []) (As := [.int (x1 / (6 : Int32)), .int (irem_ x1 (6 : Int32))]) X hw hm_X0_areSo (lw_V q1367 q1369 qs31 q111 q1370) ⟨rfl, rfl⟩ ⟨by rw [hRf]; exact Nat.le_of_ble_eq_true rfl, by rw [hRl]; exact Nat.le_of_ble_eq_true rfl⟩ fc_X0 rfl (hx0 hX) rfl rfl hl.1 (Nat.le_of_ble_eq_true rfl) dX0_listsSeeds_33 (fun rQ stQ hQ => wX0_areSo l E hX G (x1 / (6 : Int32)) (irem_ x1 (6 : Int32)) st8 rQ stQ hQ) hf (fun x9 st10 H locs hw hf => ?_)
  refine fb_zne (tgt := 42) hx hb dX0_listsSeeds_36 (by decide) hf (fun hf => ?_) (fun hf => ?_)
  · refine lv_aload_n hx hb dX0_listsSeeds_42 rfl (lv_at hl 2 rfl) ?_
    refine fo_gets X hw fc_X0 (hx0 hX) (k := 22) (d := 38) (n2 := 38) (by decide) rfl rfl q367 dX0_listsSeeds_43 ?_
    refine lv_iload_n hx hb dX0_listsSeeds_46 rfl (lv_at hl 1 rfl) ?_
    refine lv_iload_n hx hb dX0_listsSeeds_47 rfl (lv_at hl 0 rfl) ?_
    refine fo_iast X hw (hx38 hX) dX0_listsSeeds_48 hf (fun st11 H locs hw hf => ?_)
    refine fb_iinc (v := (1 : Int32)) (lv' := [(1, .int (x2 + (1 : Int32))), (2, .int x1), (0, .ref (eb E + 0))]) hx hb dX0_listsSeeds_49 hl (k := 1) rfl (by decide) (by decide) rfl (fun ls hl => ?_)
    refine fb_iinc (v := (1 : Int32)) (lv' := [(2, .int (x1 + (1 : Int32))), (1, .int (x2 + (1 : Int32))), (0, .ref (eb E + 0))]) hx hb dX0_listsSeeds_52 hl (k := 1) rfl (by decide) (by decide) rfl (fun ls hl => ?_)
    refine lv_goto (tgt := 4) hx hb dX0_listsSeeds_55 (by decide) ?_
    exact hrec4 _ _ _ hf _ _ _ (lv_sub hl [0, 1, 2] rfl) hw
  refine lv_goto (tgt := 52) hx hb dX0_listsSeeds_39 (by decide) ?_
  refine fb_iinc (v := (1 : Int32)) (lv' := [(2, .int (x1 + (1 : Int32))), (1, .int x2), (0, .ref (eb E + 0))]) hx hb dX0_listsSeeds_52 hl (k := 0) rfl (by decide) (by decide) rfl (fun ls hl => ?_)
  refine lv_goto (tgt := 4) hx hb dX0_listsSeeds_55 (by decide) ?_
  exact hrec4 _ _ _ hf _ _ _ (lv_sub hl [0, 1, 2] rfl) hw

/-- ForestRooms.hidden -/
def fX0_hidden (tg : Nat → Nat × Nat) (G : Nat) (p1 : Int32) (st0 : fo_St) : Option (Int32 × fo_St) := if (-1 : Int32) ≤ p1 then bd_ (fX0_listsSeeds tg G st0) (fun x1 st2 => if ¬ p1 = (-1 : Int32) then if x1 ≤ p1 then some ((-1 : Int32), st2) else ck_ (fo_in p1 96) (some ((gi_ st2 38 p1.toNatClampNeg), st2)) else some (x1, st2)) else some ((-1 : Int32), st0)
theorem hm_X0_hidden : fo_M yX0_hidden 1 := ⟨by decide +kernel, by decide +kernel, by decide +kernel, by decide +kernel⟩
set_option maxHeartbeats 4000000 in
theorem wX0_hidden (l : Launch) (E : fo_E) (hX : fo_HX E) (G : Nat) (p1 : Int32) (st0 : fo_St) (rZ : Int32) (stZ : fo_St) (hf : fX0_hidden (et E) G p1 st0 = some (rZ, stZ)) : CTi l E yX0_hidden (ws_ yX0_hidden cX0_hidden 3 (some .int)) ({ frames := 135, cells := 0, slots := 0, locals := 7856 }) [.ref (eb E + 0), .int p1] st0 rZ stZ := by
  refine fe_i hm_X0_hidden (Nat.le_of_ble_eq_true rfl) (fun p e R s m args below meth c Q hRf hRl X hend ls hl hw => ?_)
  have hx := X.1.1
  have hb := X.1.2.1
  have hl : lv_has ls 3 [(0, .ref (eb E + 0)), (1, .int p1)] := hl
  unfold fX0_hidden at hf
  generalize s.heap = H at hw ⊢
  generalize ([] : List Loc) = locs at hw ⊢
  refine lv_iload_n hx hb dX0_hidden_0 rfl (lv_at hl 1 rfl) ?_
  refine lv_iconst (v := (-1 : Int32)) hx hb dX0_hidden_1 (by decide) ?_
  refine fb_ige (tgt := 7) hx hb dX0_hidden_2 (by decide) hf (fun hf => ?_) (fun hf => ?_)
  · refine lv_aload_n hx hb dX0_hidden_7 rfl (lv_at hl 0 rfl) ?_
    refine fc_Vi (rest := []) (As := []) X hw hm_X0_listsSeeds (lw_V q1363 q1365 qs30 q111 q1366) ⟨rfl, rfl⟩ ⟨by rw [hRf]; exact Nat.le_of_ble_eq_true rfl, by rw [hRl]; exact Nat.le_of_ble_eq_true rfl⟩ fc_X0 rfl (hx0 hX) rfl rfl hl.1 (Nat.le_of_ble_eq_true rfl) dX0_hidden_8 (fun rQ stQ hQ => wX0_listsSeeds l E hX G st0 rQ stQ hQ) hf (fun x1 st2 H locs hw hf => ?_)
    refine lv_istore_n (lv' := [(2, .int x1), (0, .ref (eb E + 0)), (1, .int p1)]) hx hb dX0_hidden_11 rfl hl (by decide) rfl (fun ls hl => ?_)
    refine lv_iload_n hx hb dX0_hidden_12 rfl (lv_at hl 2 rfl) ?_
    refine lv_iconst (v := (-1 : Int32)) hx hb dX0_hidden_13 (by decide) ?_
    refine fb_ine (tgt := 21) hx hb dX0_hidden_14 (by decide) hf (fun hf => ?_) (fun hf => ?_)
    · refine lv_iload_n hx hb dX0_hidden_21 rfl (lv_at hl 2 rfl) ?_
      refine lv_iload_n hx hb dX0_hidden_22 rfl (lv_at hl 0 rfl) ?_
      refine fb_ige (tgt := 35) hx hb dX0_hidden_23 (by decide) hf (fun hf => ?_) (fun hf => ?_)
      · refine lv_iconst (v := (-1 : Int32)) hx hb dX0_hidden_35 (by decide) ?_
        exact fd_i hend hw hf dX0_hidden_36
      refine lv_aload_n hx hb dX0_hidden_26 rfl (lv_at hl 1 rfl) ?_
      refine fo_gets X hw fc_X0 (hx0 hX) (k := 22) (d := 38) (n2 := 38) (by decide) rfl rfl q367 dX0_hidden_27 ?_
      refine lv_iload_n hx hb dX0_hidden_30 rfl (lv_at hl 2 rfl) ?_
      refine fo_iald X hw (hx38 hX) dX0_hidden_31 hf (fun hf => ?_)
      refine lv_goto (tgt := 36) hx hb dX0_hidden_32 (by decide) ?_
      exact fd_i hend hw hf dX0_hidden_36
    refine lv_iload_n hx hb dX0_hidden_17 rfl (lv_at hl 0 rfl) ?_
    refine lv_goto (tgt := 36) hx hb dX0_hidden_18 (by decide) ?_
    exact fd_i hend hw hf dX0_hidden_36
  refine lv_iconst (v := (-1 : Int32)) hx hb dX0_hidden_5 (by decide) ?_
  exact fd_i hend hw hf dX0_hidden_6

/-- ForestRooms.next -/
def fX0_next (tg : Nat → Nat × Nat) (G : Nat) (p1 : Int32) (p2 : Int32) (st0 : fo_St) : Option (Int32 × fo_St) := bd_ (fX0_in p1 (0 : Int32) (20 : Int32) st0) (fun x1 st2 => if x1 = 0 then some ((-1 : Int32), st2) else bd_ (fX0_in p2 (0 : Int32) (1 : Int32) st2) (fun x3 st4 => if ¬ x3 = 0 then bd_ (fX0_listsSeeds tg G st4) (fun x5 st6 => if ¬ x5 = 0 then lp2_ (fun rec9 (x7 : Int32) (st8 : fo_St) => if (112 : Int32) ≤ x7 then lp2_ (fun rec12 (x10 : Int32) (st11 : fo_St) => if x5 ≤ x10 then lp4_ (fun rec17 (x13 : Int32) (x14 : Int32) (x15 : Int32) (st16 : fo_St) => if (16 : Int32) ≤ x13 then if ¬ p2 = 0 then some (x14, st16) else some (x15, st16) else lp3_ (fun rec21 (x18 : Int32) (x19 : Int32) (st20 : fo_St) => if (6 : Int32) < x18 then if x19 < x14 then rec17 (x13 + (1 : Int32)) x19 x13 st20 else rec17 (x13 + (1 : Int32)) x14 x15 st20 else ck_ (fo_in (((7 : Int32) * x13) + x18) 112) (lI_ (mxI_ x19 (gi_ st20 39 (((7 : Int32) * x13) + x18).toNatClampNeg)) (fun x22 => rec21 (x18 + (1 : Int32)) x22 st20))) G (0 : Int32) (0 : Int32) st16) G (0 : Int32) (1000000 : Int32) (-1 : Int32) st11 else bd_ (fX0_table st11) (fun x23 st24 => ck_ (decide (x23 = 3)) (bv_ (fX2_takes 25 3 st24) (fun st26 => ck_ (fo_in x10 96) (ck_ (fo_in x10 96) (bv_ (fX2_plants 25 ((gi_ st26 38 x10.toNatClampNeg) / (6 : Int32)) (irem_ (gi_ st26 38 x10.toNatClampNeg) (6 : Int32)) st26) (fun st28 => lp2_ (fun rec31 (x29 : Int32) (st30 : fo_St) => if p1 ≤ x29 then lp2_ (fun rec34 (x32 : Int32) (st33 : fo_St) => if (16 : Int32) ≤ x32 then rec12 (x10 + (1 : Int32)) st33 else ck_ (fo_in x32 16) (ck_ (fo_in ((((7 : Int32) * x32) + (1 : Int32)) + (gi_ st33 26 x32.toNatClampNeg)) 112) (ck_ (fo_in ((((7 : Int32) * x32) + (1 : Int32)) + (gi_ st33 26 x32.toNatClampNeg)) 112) (lt_ (si_ st33 39 ((((7 : Int32) * x32) + (1 : Int32)) + (gi_ st33 26 x32.toNatClampNeg)).toNatClampNeg ((gi_ st33 39 ((((7 : Int32) * x32) + (1 : Int32)) + (gi_ st33 26 x32.toNatClampNeg)).toNatClampNeg) + (1 : Int32))) (fun st35 => rec34 (x32 + (1 : Int32)) st35))))) G (0 : Int32) st30 else bd_ (fX0_passes tg G 25 st30) (fun x36 st37 => rec31 (x29 + (1 : Int32)) st37)) G (0 : Int32) st28))))))) G (0 : Int32) st8 else ck_ (fo_in x7 112) (lt_ (si_ st8 39 x7.toNatClampNeg (0 : Int32)) (fun st38 => rec9 (x7 + (1 : Int32)) st38))) G (0 : Int32) st6 else some ((-1 : Int32), st6)) else some ((-1 : Int32), st4)))
theorem hm_X0_next : fo_M yX0_next 2 := ⟨by decide +kernel, by decide +kernel, by decide +kernel, by decide +kernel⟩
set_option maxHeartbeats 4000000 in
theorem wX0_next (l : Launch) (E : fo_E) (hX : fo_HX E) (G : Nat) (p1 : Int32) (p2 : Int32) (st0 : fo_St) (rZ : Int32) (stZ : fo_St) (hf : fX0_next (et E) G p1 p2 st0 = some (rZ, stZ)) : CTi l E yX0_next (ws_ yX0_next cX0_next 9 (some .int)) ({ frames := 135, cells := 0, slots := 0, locals := 7856 }) [.ref (eb E + 0), .int p1, .int p2] st0 rZ stZ := by
  refine fe_i hm_X0_next (Nat.le_of_ble_eq_true rfl) (fun p e R s m args below meth c Q hRf hRl X hend ls hl hw => ?_)
  have hx := X.1.1
  have hb := X.1.2.1
  have hl : lv_has ls 9 [(0, .ref (eb E + 0)), (1, .int p1), (2, .int p2)] := hl
  unfold fX0_next at hf
  generalize s.heap = H at hw ⊢
  generalize ([] : List Loc) = locs at hw ⊢
  refine lv_iload_n hx hb dX0_next_0 rfl (lv_at hl 1 rfl) ?_
  refine lv_iconst (v := (0 : Int32)) hx hb dX0_next_1 (by decide) ?_
  refine lv_bipush (v := (20 : Int32)) hx hb dX0_next_2 (by decide) ?_
  refine fc_Si (rest := []) (As := [.int p1, .int (0 : Int32), .int (20 : Int32)]) X hw hm_X0_in (lw_S q437 q438 q111 q439) ⟨rfl, rfl⟩ ⟨by rw [hRf]; exact Nat.le_of_ble_eq_true rfl, by rw [hRl]; exact Nat.le_of_ble_eq_true rfl⟩ rfl rfl hl.1 (Nat.le_of_ble_eq_true rfl) dX0_next_4 (fun rQ stQ hQ => wX0_in l E hX p1 (0 : Int32) (20 : Int32) st0 rQ stQ hQ) hf (fun x1 st2 H locs hw hf => ?_)
  refine fb_zeq (tgt := 19) hx hb dX0_next_7 (by decide) hf (fun hf => ?_) (fun hf => ?_)
  · refine lv_iconst (v := (-1 : Int32)) hx hb dX0_next_19 (by decide) ?_
    exact fd_i hend hw hf dX0_next_20
  refine lv_iload_n hx hb dX0_next_10 rfl (lv_at hl 2 rfl) ?_
  refine lv_iconst (v := (0 : Int32)) hx hb dX0_next_11 (by decide) ?_
  refine lv_iconst (v := (1 : Int32)) hx hb dX0_next_12 (by decide) ?_
  refine fc_Si (rest := []) (As := [.int p2, .int (0 : Int32), .int (1 : Int32)]) X hw hm_X0_in (lw_S q437 q438 q111 q439) ⟨rfl, rfl⟩ ⟨by rw [hRf]; exact Nat.le_of_ble_eq_true rfl, by rw [hRl]; exact Nat.le_of_ble_eq_true rfl⟩ rfl rfl hl.1 (Nat.le_of_ble_eq_true rfl) dX0_next_13 (fun rQ stQ hQ => wX0_in l E hX p2 (0 : Int32) (1 : Int32) st2 rQ stQ hQ) hf (fun x3 st4 H locs hw hf => ?_)
  refine fb_zne (tgt := 21) hx hb dX0_next_16 (by decide) hf (fun hf => ?_) (fun hf => ?_)
  · refine lv_aload_n hx hb dX0_next_21 rfl (lv_at hl 0 rfl) ?_
    refine fc_Vi (rest := []) (As := []) X hw hm_X0_listsSeeds (lw_V q1363 q1365 qs30 q111 q1366) ⟨rfl, rfl⟩ ⟨by rw [hRf]; exact Nat.le_of_ble_eq_true rfl, by rw [hRl]; exact Nat.le_of_ble_eq_true rfl⟩ fc_X0 rfl (hx0 hX) rfl rfl hl.1 (Nat.le_of_ble_eq_true rfl) dX0_next_22 (fun rQ stQ hQ => wX0_listsSeeds l E hX G st4 rQ stQ hQ) hf (fun x5 st6 H locs hw hf => ?_)
    refine lv_istore_n (lv' := [(3, .int x5), (0, .ref (eb E + 0)), (1, .int p1), (2, .int p2)]) hx hb dX0_next_25 rfl hl (by decide) rfl (fun ls hl => ?_)
    refine lv_iload_n hx hb dX0_next_26 rfl (lv_at hl 0 rfl) ?_
    refine fb_zne (tgt := 32) hx hb dX0_next_27 (by decide) hf (fun hf => ?_) (fun hf => ?_)
    · refine lv_iconst (v := (0 : Int32)) hx hb dX0_next_32 (by decide) ?_
      refine lv_istore (lv' := [(4, .int (0 : Int32)), (3, .int x5), (0, .ref (eb E + 0)), (1, .int p1), (2, .int p2)]) hx hb dX0_next_33 hl (by decide) rfl (fun ls hl => ?_)
      refine lp2_e (P := fun x7 st8 => ∀ (H : Heap) (locs : List Loc) (ls : Array Slot), lv_has ls 9 [(4, .int x7), (3, .int x5), (0, .ref (eb E + 0)), (1, .int p1), (2, .int p2)] → fo_S E s st8 H locs → W p l e R s m args below meth c H locs 0 0 Q (F0 m 35 ls [])) (fun rec9 hrec9 x7 st8 hf => ?_) G _ _ hf H locs ls (lv_sub hl [0, 1, 2, 3, 4] rfl) hw
      intro H locs ls hl hw
      refine lv_iload hx hb dX0_next_35 (lv_at hl 0 rfl) ?_
      refine lv_aload_n hx hb dX0_next_37 rfl (lv_at hl 2 rfl) ?_
      refine fo_gets X hw fc_X0 (hx0 hX) (k := 23) (d := 39) (n2 := 39) (by decide) rfl rfl q368 dX0_next_38 ?_
      refine fo_alen X hw (hx39 hX) (v := (112 : Int32)) rfl dX0_next_41 ?_
      refine fb_ige (tgt := 59) hx hb dX0_next_42 (by decide) hf (fun hf => ?_) (fun hf => ?_)
      · refine lv_iconst (v := (0 : Int32)) hx hb dX0_next_59 (by decide) ?_
        refine lv_istore (lv' := [(4, .int (0 : Int32)), (3, .int x5), (0, .ref (eb E + 0)), (1, .int p1), (2, .int p2)]) hx hb dX0_next_60 hl (by decide) rfl (fun ls hl => ?_)
        refine lp2_e (P := fun x10 st11 => ∀ (H : Heap) (locs : List Loc) (ls : Array Slot), lv_has ls 9 [(4, .int x10), (3, .int x5), (0, .ref (eb E + 0)), (1, .int p1), (2, .int p2)] → fo_S E s st11 H locs → W p l e R s m args below meth c H locs 0 0 Q (F0 m 62 ls [])) (fun rec12 hrec12 x10 st11 hf => ?_) G _ _ hf H locs ls (lv_sub hl [0, 1, 2, 3, 4] rfl) hw
        intro H locs ls hl hw
        refine lv_iload hx hb dX0_next_62 (lv_at hl 0 rfl) ?_
        refine lv_iload_n hx hb dX0_next_64 rfl (lv_at hl 1 rfl) ?_
        refine fb_ige (tgt := 177) hx hb dX0_next_65 (by decide) hf (fun hf => ?_) (fun hf => ?_)
        · refine lv_iconst (v := (-1 : Int32)) hx hb dX0_next_177 (by decide) ?_
          refine lv_istore (lv' := [(4, .int (-1 : Int32)), (3, .int x5), (0, .ref (eb E + 0)), (1, .int p1), (2, .int p2)]) hx hb dX0_next_178 hl (by decide) rfl (fun ls hl => ?_)
          refine lv_ldcw (v := (1000000 : Int32)) hx hb X.1.2.2.2.1 (X.1.2.2.2.2 _ q1375) dX0_next_180 ?_
          refine lv_istore (lv' := [(5, .int (1000000 : Int32)), (4, .int (-1 : Int32)), (3, .int x5), (0, .ref (eb E + 0)), (1, .int p1), (2, .int p2)]) hx hb dX0_next_183 hl (by decide) rfl (fun ls hl => ?_)
          refine lv_iconst (v := (0 : Int32)) hx hb dX0_next_185 (by decide) ?_
          refine lv_istore (lv' := [(6, .int (0 : Int32)), (5, .int (1000000 : Int32)), (4, .int (-1 : Int32)), (3, .int x5), (0, .ref (eb E + 0)), (1, .int p1), (2, .int p2)]) hx hb dX0_next_186 hl (by decide) rfl (fun ls hl => ?_)
          refine lp4_e (P := fun x13 x14 x15 st16 => ∀ (H : Heap) (locs : List Loc) (ls : Array Slot), lv_has ls 9 [(6, .int x13), (5, .int x14), (4, .int x15), (0, .ref (eb E + 0)), (2, .int p2)] → fo_S E s st16 H locs → W p l e R s m args below meth c H locs 0 0 Q (F0 m 188 ls [])) (fun rec17 hrec17 x13 x14 x15 st16 hf => ?_) G _ _ _ _ hf H locs ls (lv_sub hl [0, 1, 2, 4, 6] rfl) hw
          intro H locs ls hl hw
          refine lv_iload hx hb dX0_next_188 (lv_at hl 0 rfl) ?_
          refine lv_bipush (v := (16 : Int32)) hx hb dX0_next_190 (by decide) ?_
          refine fb_ige (tgt := 258) hx hb dX0_next_192 (by decide) hf (fun hf => ?_) (fun hf => ?_)
          · refine lv_iload_n hx hb dX0_next_258 rfl (lv_at hl 4 rfl) ?_
            refine fb_zne (tgt := 267) hx hb dX0_next_259 (by decide) hf (fun hf => ?_) (fun hf => ?_)
            · refine lv_iload hx hb dX0_next_267 (lv_at hl 1 rfl) ?_
              exact fd_i hend hw hf dX0_next_269
            refine lv_iload hx hb dX0_next_262 (lv_at hl 2 rfl) ?_
            refine lv_goto (tgt := 269) hx hb dX0_next_264 (by decide) ?_
            exact fd_i hend hw hf dX0_next_269
          refine lv_iconst (v := (0 : Int32)) hx hb dX0_next_195 (by decide) ?_
          refine lv_istore (lv' := [(7, .int (0 : Int32)), (6, .int x13), (5, .int x14), (4, .int x15), (0, .ref (eb E + 0)), (2, .int p2)]) hx hb dX0_next_196 hl (by decide) rfl (fun ls hl => ?_)
          refine lv_iconst (v := (0 : Int32)) hx hb dX0_next_198 (by decide) ?_
          refine lv_istore (lv' := [(8, .int (0 : Int32)), (7, .int (0 : Int32)), (6, .int x13), (5, .int x14), (4, .int x15), (0, .ref (eb E + 0)), (2, .int p2)]) hx hb dX0_next_199 hl (by decide) rfl (fun ls hl => ?_)
          refine lp3_e (P := fun x18 x19 st20 => ∀ (H : Heap) (locs : List Loc) (ls : Array Slot), lv_has ls 9 [(8, .int x18), (7, .int x19), (6, .int x13), (5, .int x14), (4, .int x15), (0, .ref (eb E + 0)), (2, .int p2)] → fo_S E s st20 H locs → W p l e R s m args below meth c H locs 0 0 Q (F0 m 201 ls [])) (fun rec21 hrec21 x18 x19 st20 hf => ?_) G _ _ _ hf H locs ls (lv_sub hl [0, 1, 2, 3, 4, 5, 6] rfl) hw
          intro H locs ls hl hw
          refine lv_iload hx hb dX0_next_201 (lv_at hl 0 rfl) ?_
          refine lv_bipush (v := (6 : Int32)) hx hb dX0_next_203 (by decide) ?_
          refine fb_igt (tgt := 234) hx hb dX0_next_205 (by decide) hf (fun hf => ?_) (fun hf => ?_)
          · refine lv_iload hx hb dX0_next_234 (lv_at hl 1 rfl) ?_
            refine lv_iload hx hb dX0_next_236 (lv_at hl 3 rfl) ?_
            refine fb_ilt (tgt := 244) hx hb dX0_next_238 (by decide) hf (fun hf => ?_) (fun hf => ?_)
            · refine lv_iload hx hb dX0_next_244 (lv_at hl 1 rfl) ?_
              refine lv_istore (lv' := [(5, .int x19), (8, .int x18), (7, .int x19), (6, .int x13), (4, .int x15), (0, .ref (eb E + 0)), (2, .int p2)]) hx hb dX0_next_246 hl (by decide) rfl (fun ls hl => ?_)
              refine lv_iload hx hb dX0_next_248 (lv_at hl 3 rfl) ?_
              refine lv_istore (lv' := [(4, .int x13), (5, .int x19), (8, .int x18), (7, .int x19), (6, .int x13), (0, .ref (eb E + 0)), (2, .int p2)]) hx hb dX0_next_250 hl (by decide) rfl (fun ls hl => ?_)
              refine fb_iinc (v := (1 : Int32)) (lv' := [(6, .int (x13 + (1 : Int32))), (4, .int x13), (5, .int x19), (8, .int x18), (7, .int x19), (0, .ref (eb E + 0)), (2, .int p2)]) hx hb dX0_next_252 hl (k := 4) rfl (by decide) (by decide) rfl (fun ls hl => ?_)
              refine lv_goto (tgt := 188) hx hb dX0_next_255 (by decide) ?_
              exact hrec17 _ _ _ _ hf _ _ _ (lv_sub hl [0, 2, 1, 5, 6] rfl) hw
            refine lv_goto (tgt := 252) hx hb dX0_next_241 (by decide) ?_
            refine fb_iinc (v := (1 : Int32)) (lv' := [(6, .int (x13 + (1 : Int32))), (8, .int x18), (7, .int x19), (5, .int x14), (4, .int x15), (0, .ref (eb E + 0)), (2, .int p2)]) hx hb dX0_next_252 hl (k := 2) rfl (by decide) (by decide) rfl (fun ls hl => ?_)
            refine lv_goto (tgt := 188) hx hb dX0_next_255 (by decide) ?_
            exact hrec17 _ _ _ _ hf _ _ _ (lv_sub hl [0, 3, 4, 5, 6] rfl) hw
          refine lv_iload hx hb dX0_next_208 (lv_at hl 1 rfl) ?_
          refine lv_aload_n hx hb dX0_next_210 rfl (lv_at hl 5 rfl) ?_
          refine fo_gets X hw fc_X0 (hx0 hX) (k := 23) (d := 39) (n2 := 39) (by decide) rfl rfl q368 dX0_next_211 ?_
          refine lv_bipush (v := (7 : Int32)) hx hb dX0_next_214 (by decide) ?_
          refine lv_iload hx hb dX0_next_216 (lv_at hl 2 rfl) ?_
          refine lv_imul hx hb dX0_next_218 ?_
          refine lv_iload hx hb dX0_next_219 (lv_at hl 0 rfl) ?_
          refine lv_iadd hx hb dX0_next_221 ?_
          refine fo_iald X hw (hx39 hX) dX0_next_222 hf (fun hf => ?_)
          refine fo_mxI (rest := []) X hl.1 q1303 q522 q124 q523 (by rw [hRf]; exact Nat.le_of_ble_eq_true rfl) (by rw [hRl]; exact Nat.le_of_ble_eq_true rfl) dX0_next_223 ?_
          refine fo_tI hf (fun x22 hf => ?_)
          refine lv_istore (lv' := [(7, .int x22), (8, .int x18), (6, .int x13), (5, .int x14), (4, .int x15), (0, .ref (eb E + 0)), (2, .int p2)]) hx hb dX0_next_226 hl (by decide) rfl (fun ls hl => ?_)
          refine fb_iinc (v := (1 : Int32)) (lv' := [(8, .int (x18 + (1 : Int32))), (7, .int x22), (6, .int x13), (5, .int x14), (4, .int x15), (0, .ref (eb E + 0)), (2, .int p2)]) hx hb dX0_next_228 hl (k := 1) rfl (by decide) (by decide) rfl (fun ls hl => ?_)
          refine lv_goto (tgt := 201) hx hb dX0_next_231 (by decide) ?_
          exact hrec21 _ _ _ hf _ _ _ (lv_sub hl [0, 1, 2, 3, 4, 5, 6] rfl) hw
        refine lv_aload_n hx hb dX0_next_68 rfl (lv_at hl 2 rfl) ?_
        refine fo_gets X hw fc_X0 (hx0 hX) (k := 9) (d := 25) (n2 := 25) (by decide) rfl rfl q354 dX0_next_69 ?_
        refine lv_astore (lv' := [(5, .ref (eb E + 25)), (4, .int x10), (3, .int x5), (0, .ref (eb E + 0)), (1, .int p1), (2, .int p2)]) hx hb dX0_next_72 hl (by decide) rfl (fun ls hl => ?_)
        refine lv_aload hx hb dX0_next_74 (lv_at hl 0 rfl) ?_
        refine lv_aload_n hx hb dX0_next_76 rfl (lv_at hl 3 rfl) ?_
        refine fc_Vr (rest := [.ref (eb E + 25)]) (As := []) X hw hm_X0_table (lw_V q560 q562 qs6 q111 q563) ⟨rfl, rfl⟩ ⟨by rw [hRf]; exact Nat.le_of_ble_eq_true rfl, by rw [hRl]; exact Nat.le_of_ble_eq_true rfl⟩ fc_X0 rfl (hx0 hX) rfl rfl hl.1 (Nat.le_of_ble_eq_true rfl) dX0_next_77 (fun rQ stQ hQ => wX0_table l E hX st11 rQ stQ hQ) hf (fun x23 st24 H locs hw hf => ?_)
        have hc0 := ck_e hf
        clear hf
        obtain ⟨hc, hf⟩ := hc0
        replace hc := of_decide_eq_true hc
        subst hc
        refine fc_Vv (rest := []) (As := [.ref (eb E + 3)]) X hw hm_X2_takes (lw_V q1246 q449 q450 q113 q451) ⟨rfl, rfl⟩ ⟨by rw [hRf]; exact Nat.le_of_ble_eq_true rfl, by rw [hRl]; exact Nat.le_of_ble_eq_true rfl⟩ fc_X2 rfl (hx25 hX) rfl rfl hl.1 (Nat.le_of_ble_eq_true rfl) dX0_next_80 (fun stQ hQ => wX2_takes l E 25 3 (hxT25 hX) (hxT3 hX) st24 stQ hQ) hf (fun st26 H locs hw hf => ?_)
        refine lv_aload hx hb dX0_next_83 (lv_at hl 0 rfl) ?_
        refine lv_aload_n hx hb dX0_next_85 rfl (lv_at hl 3 rfl) ?_
        refine fo_gets X hw fc_X0 (hx0 hX) (k := 22) (d := 38) (n2 := 38) (by decide) rfl rfl q367 dX0_next_86 ?_
        refine lv_iload hx hb dX0_next_89 (lv_at hl 1 rfl) ?_
        refine fo_iald X hw (hx38 hX) dX0_next_91 hf (fun hf => ?_)
        refine lv_bipush (v := (6 : Int32)) hx hb dX0_next_92 (by decide) ?_
        refine fb_idivK hx hb dX0_next_94 (by decide) ?_
        refine lv_aload_n hx hb dX0_next_95 rfl (lv_at hl 3 rfl) ?_
        refine fo_gets X hw fc_X0 (hx0 hX) (k := 22) (d := 38) (n2 := 38) (by decide) rfl rfl q367 dX0_next_96 ?_
        refine lv_iload hx hb dX0_next_99 (lv_at hl 1 rfl) ?_
        refine fo_iald X hw (hx38 hX) dX0_next_101 hf (fun hf => ?_)
        refine lv_bipush (v := (6 : Int32)) hx hb dX0_next_102 (by decide) ?_
        refine fb_iremK hx hb dX0_next_104 (by decide) ?_
        refine fc_Vv (rest := []) (As := [.int ((gi_ st26 38 x10.toNatClampNeg) / (6 : Int32)), .int (irem_ (gi_ st26 38 x10.toNatClampNeg) (6 : Int32))]) X hw hm_X2_plants (lw_V q1247 q1248 q1249 q113 q1250) ⟨rfl, rfl⟩ ⟨by rw [hRf]; exact Nat.le_of_ble_eq_true rfl, by rw [hRl]; exact Nat.le_of_ble_eq_true rfl⟩ fc_X2 rfl (hx25 hX) rfl rfl hl.1 (Nat.le_of_ble_eq_true rfl) dX0_next_105 (fun stQ hQ => wX2_plants l E 25 ((gi_ st26 38 x10.toNatClampNeg) / (6 : Int32)) (irem_ (gi_ st26 38 x10.toNatClampNeg) (6 : Int32)) (hxT25 hX) st26 stQ hQ) hf (fun st28 H locs hw hf => ?_)
        refine lv_iconst (v := (0 : Int32)) hx hb dX0_next_108 (by decide) ?_
        refine lv_istore (lv' := [(6, .int (0 : Int32)), (5, .ref (eb E + 25)), (4, .int x10), (3, .int x5), (0, .ref (eb E + 0)), (1, .int p1), (2, .int p2)]) hx hb dX0_next_109 hl (by decide) rfl (fun ls hl => ?_)
        refine lp2_e (P := fun x29 st30 => ∀ (H : Heap) (locs : List Loc) (ls : Array Slot), lv_has ls 9 [(6, .int x29), (5, .ref (eb E + 25)), (4, .int x10), (3, .int x5), (0, .ref (eb E + 0)), (1, .int p1), (2, .int p2)] → fo_S E s st30 H locs → W p l e R s m args below meth c H locs 0 0 Q (F0 m 111 ls [])) (fun rec31 hrec31 x29 st30 hf => ?_) G _ _ hf H locs ls (lv_sub hl [0, 1, 2, 3, 4, 5, 6] rfl) hw
        intro H locs ls hl hw
        refine lv_iload hx hb dX0_next_111 (lv_at hl 0 rfl) ?_
        refine lv_iload_n hx hb dX0_next_113 rfl (lv_at hl 5 rfl) ?_
        refine fb_ige (tgt := 130) hx hb dX0_next_114 (by decide) hf (fun hf => ?_) (fun hf => ?_)
        · refine lv_iconst (v := (0 : Int32)) hx hb dX0_next_130 (by decide) ?_
          refine lv_istore (lv' := [(6, .int (0 : Int32)), (5, .ref (eb E + 25)), (4, .int x10), (3, .int x5), (0, .ref (eb E + 0)), (1, .int p1), (2, .int p2)]) hx hb dX0_next_131 hl (by decide) rfl (fun ls hl => ?_)
          refine lp2_e (P := fun x32 st33 => ∀ (H : Heap) (locs : List Loc) (ls : Array Slot), lv_has ls 9 [(6, .int x32), (5, .ref (eb E + 25)), (4, .int x10), (3, .int x5), (0, .ref (eb E + 0)), (1, .int p1), (2, .int p2)] → fo_S E s st33 H locs → W p l e R s m args below meth c H locs 0 0 Q (F0 m 133 ls [])) (fun rec34 hrec34 x32 st33 hf => ?_) G _ _ hf H locs ls (lv_sub hl [0, 1, 2, 3, 4, 5, 6] rfl) hw
          intro H locs ls hl hw
          refine lv_iload hx hb dX0_next_133 (lv_at hl 0 rfl) ?_
          refine lv_bipush (v := (16 : Int32)) hx hb dX0_next_135 (by decide) ?_
          refine fb_ige (tgt := 171) hx hb dX0_next_137 (by decide) hf (fun hf => ?_) (fun hf => ?_)
          · refine fb_iinc (v := (1 : Int32)) (lv' := [(4, .int (x10 + (1 : Int32))), (6, .int x32), (5, .ref (eb E + 25)), (3, .int x5), (0, .ref (eb E + 0)), (1, .int p1), (2, .int p2)]) hx hb dX0_next_171 hl (k := 2) rfl (by decide) (by decide) rfl (fun ls hl => ?_)
            refine lv_goto (tgt := 62) hx hb dX0_next_174 (by decide) ?_
            exact hrec12 _ _ hf _ _ _ (lv_sub hl [0, 3, 4, 5, 6] rfl) hw
          refine lv_aload_n hx hb dX0_next_140 rfl (lv_at hl 4 rfl) ?_
          refine fo_gets X hw fc_X0 (hx0 hX) (k := 23) (d := 39) (n2 := 39) (by decide) rfl rfl q368 dX0_next_141 ?_
          refine lv_bipush (v := (7 : Int32)) hx hb dX0_next_144 (by decide) ?_
          refine lv_iload hx hb dX0_next_146 (lv_at hl 0 rfl) ?_
          refine lv_imul hx hb dX0_next_148 ?_
          refine lv_iconst (v := (1 : Int32)) hx hb dX0_next_149 (by decide) ?_
          refine lv_iadd hx hb dX0_next_150 ?_
          refine lv_aload hx hb dX0_next_151 (lv_at hl 1 rfl) ?_
          refine fo_getsN X hw fc_X2 (hx25 hX) (k := 0) (d := 1) (n2 := 26) (by decide) rfl rfl fn168 dX0_next_153 ?_
          refine lv_iload hx hb dX0_next_156 (lv_at hl 0 rfl) ?_
          refine fo_iald X hw (hx26 hX) dX0_next_158 hf (fun hf => ?_)
          refine lv_iadd hx hb dX0_next_159 ?_
          refine lv_dup2_11 hx hb dX0_next_160 rfl rfl ?_
          refine fo_iald X hw (hx39 hX) dX0_next_161 hf (fun hf => ?_)
          refine lv_iconst (v := (1 : Int32)) hx hb dX0_next_162 (by decide) ?_
          refine lv_iadd hx hb dX0_next_163 ?_
          refine fo_iast X hw (hx39 hX) dX0_next_164 hf (fun st35 H locs hw hf => ?_)
          refine fb_iinc (v := (1 : Int32)) (lv' := [(6, .int (x32 + (1 : Int32))), (5, .ref (eb E + 25)), (4, .int x10), (3, .int x5), (0, .ref (eb E + 0)), (1, .int p1), (2, .int p2)]) hx hb dX0_next_165 hl (k := 0) rfl (by decide) (by decide) rfl (fun ls hl => ?_)
          refine lv_goto (tgt := 133) hx hb dX0_next_168 (by decide) ?_
          exact hrec34 _ _ hf _ _ _ (lv_sub hl [0, 1, 2, 3, 4, 5, 6] rfl) hw
        refine lv_aload_n hx hb dX0_next_117 rfl (lv_at hl 4 rfl) ?_
        refine lv_aload hx hb dX0_next_118 (lv_at hl 1 rfl) ?_
        refine fc_Vi (rest := []) (As := [.ref (eb E + 25)]) X hw hm_X0_passes (lw_V q1291 q1293 qs25 q111 q1294) ⟨rfl, rfl⟩ ⟨by rw [hRf]; exact Nat.le_of_ble_eq_true rfl, by rw [hRl]; exact Nat.le_of_ble_eq_true rfl⟩ fc_X0 rfl (hx0 hX) rfl rfl hl.1 (Nat.le_of_ble_eq_true rfl) dX0_next_120 (fun rQ stQ hQ => wX0_passes l E hX G 25 (hxT25 hX) st30 rQ stQ hQ) hf (fun x36 st37 H locs hw hf => ?_)
        refine lv_pop hx hb dX0_next_123 rfl ?_
        refine fb_iinc (v := (1 : Int32)) (lv' := [(6, .int (x29 + (1 : Int32))), (5, .ref (eb E + 25)), (4, .int x10), (3, .int x5), (0, .ref (eb E + 0)), (1, .int p1), (2, .int p2)]) hx hb dX0_next_124 hl (k := 0) rfl (by decide) (by decide) rfl (fun ls hl => ?_)
        refine lv_goto (tgt := 111) hx hb dX0_next_127 (by decide) ?_
        exact hrec31 _ _ hf _ _ _ (lv_sub hl [0, 1, 2, 3, 4, 5, 6] rfl) hw
      refine lv_aload_n hx hb dX0_next_45 rfl (lv_at hl 2 rfl) ?_
      refine fo_gets X hw fc_X0 (hx0 hX) (k := 23) (d := 39) (n2 := 39) (by decide) rfl rfl q368 dX0_next_46 ?_
      refine lv_iload hx hb dX0_next_49 (lv_at hl 0 rfl) ?_
      refine lv_iconst (v := (0 : Int32)) hx hb dX0_next_51 (by decide) ?_
      refine fo_iast X hw (hx39 hX) dX0_next_52 hf (fun st38 H locs hw hf => ?_)
      refine fb_iinc (v := (1 : Int32)) (lv' := [(4, .int (x7 + (1 : Int32))), (3, .int x5), (0, .ref (eb E + 0)), (1, .int p1), (2, .int p2)]) hx hb dX0_next_53 hl (k := 0) rfl (by decide) (by decide) rfl (fun ls hl => ?_)
      refine lv_goto (tgt := 35) hx hb dX0_next_56 (by decide) ?_
      exact hrec9 _ _ hf _ _ _ (lv_sub hl [0, 1, 2, 3, 4] rfl) hw
    refine lv_iconst (v := (-1 : Int32)) hx hb dX0_next_30 (by decide) ?_
    exact fd_i hend hw hf dX0_next_31
  refine lv_iconst (v := (-1 : Int32)) hx hb dX0_next_19 (by decide) ?_
  exact fd_i hend hw hf dX0_next_20

/-- ForestRooms.litBy -/
def fX0_litBy (G : Nat) (p1 : Int32) (st0 : fo_St) : Option (Int32 × fo_St) := lI_ ((1 : Int32) <<< (p1 &&& 31)) (fun x1 => lp3_ (fun rec5 (x2 : Int32) (x3 : Int32) (st4 : fo_St) => if (4 : Int32) ≤ x2 then some (x3, st4) else bd_ (fX0_beside p1 x2 st4) (fun x6 st7 => if ¬ x6 = (-1 : Int32) then bd_ (fX0_beside p1 x2 st7) (fun x8 st9 => lI_ (x3 ||| ((1 : Int32) <<< (x8 &&& 31))) (fun x10 => rec5 (x2 + (1 : Int32)) x10 st9)) else lI_ (x3 ||| (0 : Int32)) (fun x11 => rec5 (x2 + (1 : Int32)) x11 st7))) G (0 : Int32) x1 st0)
theorem hm_X0_litBy : fo_M yX0_litBy 1 := ⟨by decide +kernel, by decide +kernel, by decide +kernel, by decide +kernel⟩
set_option maxHeartbeats 4000000 in
theorem wX0_litBy (l : Launch) (E : fo_E) (hX : fo_HX E) (G : Nat) (p1 : Int32) (st0 : fo_St) (rZ : Int32) (stZ : fo_St) (hf : fX0_litBy G p1 st0 = some (rZ, stZ)) : CTi l E yX0_litBy (ws_ yX0_litBy cX0_litBy 3 (some .int)) ({ frames := 2, cells := 0, slots := 0, locals := 45 }) [.int p1] st0 rZ stZ := by
  refine fe_i hm_X0_litBy (Nat.le_of_ble_eq_true rfl) (fun p e R s m args below meth c Q hRf hRl X hend ls hl hw => ?_)
  have hx := X.1.1
  have hb := X.1.2.1
  have hl : lv_has ls 3 [(0, .int p1)] := hl
  unfold fX0_litBy at hf
  generalize s.heap = H at hw ⊢
  generalize ([] : List Loc) = locs at hw ⊢
  refine lv_iconst (v := (1 : Int32)) hx hb dX0_litBy_0 (by decide) ?_
  refine lv_iload_n hx hb dX0_litBy_1 rfl (lv_at hl 0 rfl) ?_
  refine lv_ishl hx hb dX0_litBy_2 ?_
  refine fo_tI hf (fun x1 hf => ?_)
  refine lv_istore_n (lv' := [(1, .int x1), (0, .int p1)]) hx hb dX0_litBy_3 rfl hl (by decide) rfl (fun ls hl => ?_)
  refine lv_iconst (v := (0 : Int32)) hx hb dX0_litBy_4 (by decide) ?_
  refine lv_istore_n (lv' := [(2, .int (0 : Int32)), (1, .int x1), (0, .int p1)]) hx hb dX0_litBy_5 rfl hl (by decide) rfl (fun ls hl => ?_)
  refine lp3_e (P := fun x2 x3 st4 => ∀ (H : Heap) (locs : List Loc) (ls : Array Slot), lv_has ls 3 [(2, .int x2), (1, .int x3), (0, .int p1)] → fo_S E s st4 H locs → W p l e R s m args below meth c H locs 0 0 Q (F0 m 6 ls [])) (fun rec5 hrec5 x2 x3 st4 hf => ?_) G _ _ _ hf H locs ls (lv_sub hl [0, 1, 2] rfl) hw
  intro H locs ls hl hw
  refine lv_iload_n hx hb dX0_litBy_6 rfl (lv_at hl 0 rfl) ?_
  refine lv_iconst (v := (4 : Int32)) hx hb dX0_litBy_7 (by decide) ?_
  refine fb_ige (tgt := 40) hx hb dX0_litBy_8 (by decide) hf (fun hf => ?_) (fun hf => ?_)
  · refine lv_iload_n hx hb dX0_litBy_40 rfl (lv_at hl 1 rfl) ?_
    exact fd_i hend hw hf dX0_litBy_41
  refine lv_iload_n hx hb dX0_litBy_11 rfl (lv_at hl 1 rfl) ?_
  refine lv_iload_n hx hb dX0_litBy_12 rfl (lv_at hl 2 rfl) ?_
  refine lv_iload_n hx hb dX0_litBy_13 rfl (lv_at hl 0 rfl) ?_
  refine fc_Si (rest := [.int x3]) (As := [.int p1, .int x2]) X hw hm_X0_beside (lw_S q1300 q1301 q111 q1302) ⟨rfl, rfl⟩ ⟨by rw [hRf]; exact Nat.le_of_ble_eq_true rfl, by rw [hRl]; exact Nat.le_of_ble_eq_true rfl⟩ rfl rfl hl.1 (Nat.le_of_ble_eq_true rfl) dX0_litBy_14 (fun rQ stQ hQ => wX0_beside l E hX p1 x2 st4 rQ stQ hQ) hf (fun x6 st7 H locs hw hf => ?_)
  refine lv_iconst (v := (-1 : Int32)) hx hb dX0_litBy_17 (by decide) ?_
  refine fb_ine (tgt := 25) hx hb dX0_litBy_18 (by decide) hf (fun hf => ?_) (fun hf => ?_)
  · refine lv_iconst (v := (1 : Int32)) hx hb dX0_litBy_25 (by decide) ?_
    refine lv_iload_n hx hb dX0_litBy_26 rfl (lv_at hl 2 rfl) ?_
    refine lv_iload_n hx hb dX0_litBy_27 rfl (lv_at hl 0 rfl) ?_
    refine fc_Si (rest := [.int (1 : Int32), .int x3]) (As := [.int p1, .int x2]) X hw hm_X0_beside (lw_S q1300 q1301 q111 q1302) ⟨rfl, rfl⟩ ⟨by rw [hRf]; exact Nat.le_of_ble_eq_true rfl, by rw [hRl]; exact Nat.le_of_ble_eq_true rfl⟩ rfl rfl hl.1 (Nat.le_of_ble_eq_true rfl) dX0_litBy_28 (fun rQ stQ hQ => wX0_beside l E hX p1 x2 st7 rQ stQ hQ) hf (fun x8 st9 H locs hw hf => ?_)
    refine lv_ishl hx hb dX0_litBy_31 ?_
    refine lv_ior hx hb dX0_litBy_32 ?_
    refine fo_tI hf (fun x10 hf => ?_)
    refine lv_istore_n (lv' := [(1, .int x10), (2, .int x2), (0, .int p1)]) hx hb dX0_litBy_33 rfl hl (by decide) rfl (fun ls hl => ?_)
    refine fb_iinc (v := (1 : Int32)) (lv' := [(2, .int (x2 + (1 : Int32))), (1, .int x10), (0, .int p1)]) hx hb dX0_litBy_34 hl (k := 1) rfl (by decide) (by decide) rfl (fun ls hl => ?_)
    refine lv_goto (tgt := 6) hx hb dX0_litBy_37 (by decide) ?_
    exact hrec5 _ _ _ hf _ _ _ (lv_sub hl [0, 1, 2] rfl) hw
  refine lv_iconst (v := (0 : Int32)) hx hb dX0_litBy_21 (by decide) ?_
  refine lv_goto (tgt := 32) hx hb dX0_litBy_22 (by decide) ?_
  refine lv_ior hx hb dX0_litBy_32 ?_
  refine fo_tI hf (fun x11 hf => ?_)
  refine lv_istore_n (lv' := [(1, .int x11), (2, .int x2), (0, .int p1)]) hx hb dX0_litBy_33 rfl hl (by decide) rfl (fun ls hl => ?_)
  refine fb_iinc (v := (1 : Int32)) (lv' := [(2, .int (x2 + (1 : Int32))), (1, .int x11), (0, .int p1)]) hx hb dX0_litBy_34 hl (k := 1) rfl (by decide) (by decide) rfl (fun ls hl => ?_)
  refine lv_goto (tgt := 6) hx hb dX0_litBy_37 (by decide) ?_
  exact hrec5 _ _ _ hf _ _ _ (lv_sub hl [0, 1, 2] rfl) hw

/-- ForestRooms.roofs -/
def fX0_roofs (G : Nat) (p1 : Int32) (p2 : Int32) (st0 : fo_St) : Option (Int32 × fo_St) := bd_ (fX0_in p1 (0 : Int32) (65535 : Int32) st0) (fun x1 st2 => if x1 = 0 then some ((-1 : Int32), st2) else bd_ (fX0_in p2 (0 : Int32) (1 : Int32) st2) (fun x3 st4 => if ¬ x3 = 0 then lp3_ (fun rec8 (x5 : Int32) (x6 : Int32) (st7 : fo_St) => if (65536 : Int32) ≤ x5 then if ¬ p2 = 0 then some (x6, st7) else bd_ (fX0_ones x6 st7) (fun x9 st10 => some (x9, st10)) else if x6 = (-1 : Int32) then lp3_ (fun rec14 (x11 : Int32) (x12 : Int32) (st13 : fo_St) => if (16 : Int32) ≤ x11 then if ¬ (p1 &&& (x12 ^^^ (-1 : Int32))) = 0 then rec8 (x5 + (1 : Int32)) x6 st13 else rec8 (x5 + (1 : Int32)) x5 st13 else bd_ (fX0_isOf x5 x11 st13) (fun x15 st16 => if x15 = 0 then lI_ (x12 ||| (0 : Int32)) (fun x17 => rec14 (x11 + (1 : Int32)) x17 st16) else bd_ (fX0_litBy G x11 st16) (fun x18 st19 => lI_ (x12 ||| x18) (fun x20 => rec14 (x11 + (1 : Int32)) x20 st19)))) G (0 : Int32) (0 : Int32) st7 else bd_ (fX0_ones x5 st7) (fun x21 st22 => bd_ (fX0_ones x6 st22) (fun x23 st24 => if x21 < x23 then lp3_ (fun rec28 (x25 : Int32) (x26 : Int32) (st27 : fo_St) => if (16 : Int32) ≤ x25 then if ¬ (p1 &&& (x26 ^^^ (-1 : Int32))) = 0 then rec8 (x5 + (1 : Int32)) x6 st27 else rec8 (x5 + (1 : Int32)) x5 st27 else bd_ (fX0_isOf x5 x25 st27) (fun x29 st30 => if x29 = 0 then lI_ (x26 ||| (0 : Int32)) (fun x31 => rec28 (x25 + (1 : Int32)) x31 st30) else bd_ (fX0_litBy G x25 st30) (fun x32 st33 => lI_ (x26 ||| x32) (fun x34 => rec28 (x25 + (1 : Int32)) x34 st33)))) G (0 : Int32) (0 : Int32) st24 else rec8 (x5 + (1 : Int32)) x6 st24))) G (0 : Int32) (-1 : Int32) st4 else some ((-1 : Int32), st4)))
theorem hm_X0_roofs : fo_M yX0_roofs 2 := ⟨by decide +kernel, by decide +kernel, by decide +kernel, by decide +kernel⟩
set_option maxHeartbeats 4000000 in
theorem wX0_roofs (l : Launch) (E : fo_E) (hX : fo_HX E) (G : Nat) (p1 : Int32) (p2 : Int32) (st0 : fo_St) (rZ : Int32) (stZ : fo_St) (hf : fX0_roofs G p1 p2 st0 = some (rZ, stZ)) : CTi l E yX0_roofs (ws_ yX0_roofs cX0_roofs 7 (some .int)) ({ frames := 3, cells := 0, slots := 0, locals := 67 }) [.ref (eb E + 0), .int p1, .int p2] st0 rZ stZ := by
  refine fe_i hm_X0_roofs (Nat.le_of_ble_eq_true rfl) (fun p e R s m args below meth c Q hRf hRl X hend ls hl hw => ?_)
  have hx := X.1.1
  have hb := X.1.2.1
  have hl : lv_has ls 7 [(0, .ref (eb E + 0)), (1, .int p1), (2, .int p2)] := hl
  unfold fX0_roofs at hf
  generalize s.heap = H at hw ⊢
  generalize ([] : List Loc) = locs at hw ⊢
  refine lv_iload_n hx hb dX0_roofs_0 rfl (lv_at hl 1 rfl) ?_
  refine lv_iconst (v := (0 : Int32)) hx hb dX0_roofs_1 (by decide) ?_
  refine lv_ldcw (v := (65535 : Int32)) hx hb X.1.2.2.2.1 (X.1.2.2.2.2 _ q1380) dX0_roofs_2 ?_
  refine fc_Si (rest := []) (As := [.int p1, .int (0 : Int32), .int (65535 : Int32)]) X hw hm_X0_in (lw_S q437 q438 q111 q439) ⟨rfl, rfl⟩ ⟨by rw [hRf]; exact Nat.le_of_ble_eq_true rfl, by rw [hRl]; exact Nat.le_of_ble_eq_true rfl⟩ rfl rfl hl.1 (Nat.le_of_ble_eq_true rfl) dX0_roofs_5 (fun rQ stQ hQ => wX0_in l E hX p1 (0 : Int32) (65535 : Int32) st0 rQ stQ hQ) hf (fun x1 st2 H locs hw hf => ?_)
  refine fb_zeq (tgt := 20) hx hb dX0_roofs_8 (by decide) hf (fun hf => ?_) (fun hf => ?_)
  · refine lv_iconst (v := (-1 : Int32)) hx hb dX0_roofs_20 (by decide) ?_
    exact fd_i hend hw hf dX0_roofs_21
  refine lv_iload_n hx hb dX0_roofs_11 rfl (lv_at hl 2 rfl) ?_
  refine lv_iconst (v := (0 : Int32)) hx hb dX0_roofs_12 (by decide) ?_
  refine lv_iconst (v := (1 : Int32)) hx hb dX0_roofs_13 (by decide) ?_
  refine fc_Si (rest := []) (As := [.int p2, .int (0 : Int32), .int (1 : Int32)]) X hw hm_X0_in (lw_S q437 q438 q111 q439) ⟨rfl, rfl⟩ ⟨by rw [hRf]; exact Nat.le_of_ble_eq_true rfl, by rw [hRl]; exact Nat.le_of_ble_eq_true rfl⟩ rfl rfl hl.1 (Nat.le_of_ble_eq_true rfl) dX0_roofs_14 (fun rQ stQ hQ => wX0_in l E hX p2 (0 : Int32) (1 : Int32) st2 rQ stQ hQ) hf (fun x3 st4 H locs hw hf => ?_)
  refine fb_zne (tgt := 22) hx hb dX0_roofs_17 (by decide) hf (fun hf => ?_) (fun hf => ?_)
  · refine lv_iconst (v := (-1 : Int32)) hx hb dX0_roofs_22 (by decide) ?_
    refine lv_istore_n (lv' := [(3, .int (-1 : Int32)), (0, .ref (eb E + 0)), (1, .int p1), (2, .int p2)]) hx hb dX0_roofs_23 rfl hl (by decide) rfl (fun ls hl => ?_)
    refine lv_iconst (v := (0 : Int32)) hx hb dX0_roofs_24 (by decide) ?_
    refine lv_istore (lv' := [(4, .int (0 : Int32)), (3, .int (-1 : Int32)), (0, .ref (eb E + 0)), (1, .int p1), (2, .int p2)]) hx hb dX0_roofs_25 hl (by decide) rfl (fun ls hl => ?_)
    refine lp3_e (P := fun x5 x6 st7 => ∀ (H : Heap) (locs : List Loc) (ls : Array Slot), lv_has ls 7 [(4, .int x5), (3, .int x6), (1, .int p1), (2, .int p2)] → fo_S E s st7 H locs → W p l e R s m args below meth c H locs 0 0 Q (F0 m 27 ls [])) (fun rec8 hrec8 x5 x6 st7 hf => ?_) G _ _ _ hf H locs ls (lv_sub hl [0, 1, 3, 4] rfl) hw
    intro H locs ls hl hw
    refine lv_iload hx hb dX0_roofs_27 (lv_at hl 0 rfl) ?_
    refine lv_ldcw (v := (65536 : Int32)) hx hb X.1.2.2.2.1 (X.1.2.2.2.2 _ q1381) dX0_roofs_29 ?_
    refine fb_ige (tgt := 116) hx hb dX0_roofs_32 (by decide) hf (fun hf => ?_) (fun hf => ?_)
    · refine lv_iload_n hx hb dX0_roofs_116 rfl (lv_at hl 3 rfl) ?_
      refine fb_zne (tgt := 127) hx hb dX0_roofs_117 (by decide) hf (fun hf => ?_) (fun hf => ?_)
      · refine lv_iload_n hx hb dX0_roofs_127 rfl (lv_at hl 1 rfl) ?_
        exact fd_i hend hw hf dX0_roofs_128
      refine lv_iload_n hx hb dX0_roofs_120 rfl (lv_at hl 1 rfl) ?_
      refine fc_Si (rest := []) (As := [.int x6]) X hw hm_X0_ones (lw_S q1328 q1329 q111 q1330) ⟨rfl, rfl⟩ ⟨by rw [hRf]; exact Nat.le_of_ble_eq_true rfl, by rw [hRl]; exact Nat.le_of_ble_eq_true rfl⟩ rfl rfl hl.1 (Nat.le_of_ble_eq_true rfl) dX0_roofs_121 (fun rQ stQ hQ => wX0_ones l E hX x6 st7 rQ stQ hQ) hf (fun x9 st10 H locs hw hf => ?_)
      refine lv_goto (tgt := 128) hx hb dX0_roofs_124 (by decide) ?_
      exact fd_i hend hw hf dX0_roofs_128
    refine lv_iload_n hx hb dX0_roofs_35 rfl (lv_at hl 1 rfl) ?_
    refine lv_iconst (v := (-1 : Int32)) hx hb dX0_roofs_36 (by decide) ?_
    refine fb_ieq (tgt := 55) hx hb dX0_roofs_37 (by decide) hf (fun hf => ?_) (fun hf => ?_)
    · refine lv_iconst (v := (0 : Int32)) hx hb dX0_roofs_55 (by decide) ?_
      refine lv_istore (lv' := [(5, .int (0 : Int32)), (4, .int x5), (3, .int x6), (1, .int p1), (2, .int p2)]) hx hb dX0_roofs_56 hl (by decide) rfl (fun ls hl => ?_)
      refine lv_iconst (v := (0 : Int32)) hx hb dX0_roofs_58 (by decide) ?_
      refine lv_istore (lv' := [(6, .int (0 : Int32)), (5, .int (0 : Int32)), (4, .int x5), (3, .int x6), (1, .int p1), (2, .int p2)]) hx hb dX0_roofs_59 hl (by decide) rfl (fun ls hl => ?_)
      refine lp3_e (P := fun x11 x12 st13 => ∀ (H : Heap) (locs : List Loc) (ls : Array Slot), lv_has ls 7 [(6, .int x11), (5, .int x12), (4, .int x5), (3, .int x6), (1, .int p1), (2, .int p2)] → fo_S E s st13 H locs → W p l e R s m args below meth c H locs 0 0 Q (F0 m 61 ls [])) (fun rec14 hrec14 x11 x12 st13 hf => ?_) G _ _ _ hf H locs ls (lv_sub hl [0, 1, 2, 3, 4, 5] rfl) hw
      intro H locs ls hl hw
      refine lv_iload hx hb dX0_roofs_61 (lv_at hl 0 rfl) ?_
      refine lv_bipush (v := (16 : Int32)) hx hb dX0_roofs_63 (by decide) ?_
      refine fb_ige (tgt := 98) hx hb dX0_roofs_65 (by decide) hf (fun hf => ?_) (fun hf => ?_)
      · refine lv_iload_n hx hb dX0_roofs_98 rfl (lv_at hl 4 rfl) ?_
        refine lv_iload hx hb dX0_roofs_99 (lv_at hl 1 rfl) ?_
        refine lv_iconst (v := (-1 : Int32)) hx hb dX0_roofs_101 (by decide) ?_
        refine lv_ixor hx hb dX0_roofs_102 ?_
        refine lv_iand hx hb dX0_roofs_103 ?_
        refine fb_zne (tgt := 110) hx hb dX0_roofs_104 (by decide) hf (fun hf => ?_) (fun hf => ?_)
        · refine fb_iinc (v := (1 : Int32)) (lv' := [(4, .int (x5 + (1 : Int32))), (6, .int x11), (5, .int x12), (3, .int x6), (1, .int p1), (2, .int p2)]) hx hb dX0_roofs_110 hl (k := 2) rfl (by decide) (by decide) rfl (fun ls hl => ?_)
          refine lv_goto (tgt := 27) hx hb dX0_roofs_113 (by decide) ?_
          exact hrec8 _ _ _ hf _ _ _ (lv_sub hl [0, 3, 4, 5] rfl) hw
        refine lv_iload hx hb dX0_roofs_107 (lv_at hl 2 rfl) ?_
        refine lv_istore_n (lv' := [(3, .int x5), (6, .int x11), (5, .int x12), (4, .int x5), (1, .int p1), (2, .int p2)]) hx hb dX0_roofs_109 rfl hl (by decide) rfl (fun ls hl => ?_)
        refine fb_iinc (v := (1 : Int32)) (lv' := [(4, .int (x5 + (1 : Int32))), (3, .int x5), (6, .int x11), (5, .int x12), (1, .int p1), (2, .int p2)]) hx hb dX0_roofs_110 hl (k := 3) rfl (by decide) (by decide) rfl (fun ls hl => ?_)
        refine lv_goto (tgt := 27) hx hb dX0_roofs_113 (by decide) ?_
        exact hrec8 _ _ _ hf _ _ _ (lv_sub hl [0, 1, 4, 5] rfl) hw
      refine lv_iload hx hb dX0_roofs_68 (lv_at hl 1 rfl) ?_
      refine lv_iload hx hb dX0_roofs_70 (lv_at hl 2 rfl) ?_
      refine lv_iload hx hb dX0_roofs_72 (lv_at hl 0 rfl) ?_
      refine fc_Si (rest := [.int x12]) (As := [.int x5, .int x11]) X hw hm_X0_isOf (lw_S q1231 q1232 q111 q1233) ⟨rfl, rfl⟩ ⟨by rw [hRf]; exact Nat.le_of_ble_eq_true rfl, by rw [hRl]; exact Nat.le_of_ble_eq_true rfl⟩ rfl rfl hl.1 (Nat.le_of_ble_eq_true rfl) dX0_roofs_74 (fun rQ stQ hQ => wX0_isOf l E hX x5 x11 st13 rQ stQ hQ) hf (fun x15 st16 H locs hw hf => ?_)
      refine fb_zeq (tgt := 88) hx hb dX0_roofs_77 (by decide) hf (fun hf => ?_) (fun hf => ?_)
      · refine lv_iconst (v := (0 : Int32)) hx hb dX0_roofs_88 (by decide) ?_
        refine lv_ior hx hb dX0_roofs_89 ?_
        refine fo_tI hf (fun x17 hf => ?_)
        refine lv_istore (lv' := [(5, .int x17), (6, .int x11), (4, .int x5), (3, .int x6), (1, .int p1), (2, .int p2)]) hx hb dX0_roofs_90 hl (by decide) rfl (fun ls hl => ?_)
        refine fb_iinc (v := (1 : Int32)) (lv' := [(6, .int (x11 + (1 : Int32))), (5, .int x17), (4, .int x5), (3, .int x6), (1, .int p1), (2, .int p2)]) hx hb dX0_roofs_92 hl (k := 1) rfl (by decide) (by decide) rfl (fun ls hl => ?_)
        refine lv_goto (tgt := 61) hx hb dX0_roofs_95 (by decide) ?_
        exact hrec14 _ _ _ hf _ _ _ (lv_sub hl [0, 1, 2, 3, 4, 5] rfl) hw
      refine lv_iload hx hb dX0_roofs_80 (lv_at hl 0 rfl) ?_
      refine fc_Si (rest := [.int x12]) (As := [.int x11]) X hw hm_X0_litBy (lw_S q1382 q1383 q111 q1384) ⟨rfl, rfl⟩ ⟨by rw [hRf]; exact Nat.le_of_ble_eq_true rfl, by rw [hRl]; exact Nat.le_of_ble_eq_true rfl⟩ rfl rfl hl.1 (Nat.le_of_ble_eq_true rfl) dX0_roofs_82 (fun rQ stQ hQ => wX0_litBy l E hX G x11 st16 rQ stQ hQ) hf (fun x18 st19 H locs hw hf => ?_)
      refine lv_goto (tgt := 89) hx hb dX0_roofs_85 (by decide) ?_
      refine lv_ior hx hb dX0_roofs_89 ?_
      refine fo_tI hf (fun x20 hf => ?_)
      refine lv_istore (lv' := [(5, .int x20), (6, .int x11), (4, .int x5), (3, .int x6), (1, .int p1), (2, .int p2)]) hx hb dX0_roofs_90 hl (by decide) rfl (fun ls hl => ?_)
      refine fb_iinc (v := (1 : Int32)) (lv' := [(6, .int (x11 + (1 : Int32))), (5, .int x20), (4, .int x5), (3, .int x6), (1, .int p1), (2, .int p2)]) hx hb dX0_roofs_92 hl (k := 1) rfl (by decide) (by decide) rfl (fun ls hl => ?_)
      refine lv_goto (tgt := 61) hx hb dX0_roofs_95 (by decide) ?_
      exact hrec14 _ _ _ hf _ _ _ (lv_sub hl [0, 1, 2, 3, 4, 5] rfl) hw
    refine lv_iload hx hb dX0_roofs_40 (lv_at hl 0 rfl) ?_
    refine fc_Si (rest := []) (As := [.int x5]) X hw hm_X0_ones (lw_S q1328 q1329 q111 q1330) ⟨rfl, rfl⟩ ⟨by rw [hRf]; exact Nat.le_of_ble_eq_true rfl, by rw [hRl]; exact Nat.le_of_ble_eq_true rfl⟩ rfl rfl hl.1 (Nat.le_of_ble_eq_true rfl) dX0_roofs_42 (fun rQ stQ hQ => wX0_ones l E hX x5 st7 rQ stQ hQ) hf (fun x21 st22 H locs hw hf => ?_)
    refine lv_iload_n hx hb dX0_roofs_45 rfl (lv_at hl 1 rfl) ?_
    refine fc_Si (rest := [.int x21]) (As := [.int x6]) X hw hm_X0_ones (lw_S q1328 q1329 q111 q1330) ⟨rfl, rfl⟩ ⟨by rw [hRf]; exact Nat.le_of_ble_eq_true rfl, by rw [hRl]; exact Nat.le_of_ble_eq_true rfl⟩ rfl rfl hl.1 (Nat.le_of_ble_eq_true rfl) dX0_roofs_46 (fun rQ stQ hQ => wX0_ones l E hX x6 st22 rQ stQ hQ) hf (fun x23 st24 H locs hw hf => ?_)
    refine fb_ilt (tgt := 55) hx hb dX0_roofs_49 (by decide) hf (fun hf => ?_) (fun hf => ?_)
    · refine lv_iconst (v := (0 : Int32)) hx hb dX0_roofs_55 (by decide) ?_
      refine lv_istore (lv' := [(5, .int (0 : Int32)), (4, .int x5), (3, .int x6), (1, .int p1), (2, .int p2)]) hx hb dX0_roofs_56 hl (by decide) rfl (fun ls hl => ?_)
      refine lv_iconst (v := (0 : Int32)) hx hb dX0_roofs_58 (by decide) ?_
      refine lv_istore (lv' := [(6, .int (0 : Int32)), (5, .int (0 : Int32)), (4, .int x5), (3, .int x6), (1, .int p1), (2, .int p2)]) hx hb dX0_roofs_59 hl (by decide) rfl (fun ls hl => ?_)
      refine lp3_e (P := fun x25 x26 st27 => ∀ (H : Heap) (locs : List Loc) (ls : Array Slot), lv_has ls 7 [(6, .int x25), (5, .int x26), (4, .int x5), (3, .int x6), (1, .int p1), (2, .int p2)] → fo_S E s st27 H locs → W p l e R s m args below meth c H locs 0 0 Q (F0 m 61 ls [])) (fun rec28 hrec28 x25 x26 st27 hf => ?_) G _ _ _ hf H locs ls (lv_sub hl [0, 1, 2, 3, 4, 5] rfl) hw
      intro H locs ls hl hw
      refine lv_iload hx hb dX0_roofs_61 (lv_at hl 0 rfl) ?_
      refine lv_bipush (v := (16 : Int32)) hx hb dX0_roofs_63 (by decide) ?_
      refine fb_ige (tgt := 98) hx hb dX0_roofs_65 (by decide) hf (fun hf => ?_) (fun hf => ?_)
      · refine lv_iload_n hx hb dX0_roofs_98 rfl (lv_at hl 4 rfl) ?_
        refine lv_iload hx hb dX0_roofs_99 (lv_at hl 1 rfl) ?_
        refine lv_iconst (v := (-1 : Int32)) hx hb dX0_roofs_101 (by decide) ?_
        refine lv_ixor hx hb dX0_roofs_102 ?_
        refine lv_iand hx hb dX0_roofs_103 ?_
        refine fb_zne (tgt := 110) hx hb dX0_roofs_104 (by decide) hf (fun hf => ?_) (fun hf => ?_)
        · refine fb_iinc (v := (1 : Int32)) (lv' := [(4, .int (x5 + (1 : Int32))), (6, .int x25), (5, .int x26), (3, .int x6), (1, .int p1), (2, .int p2)]) hx hb dX0_roofs_110 hl (k := 2) rfl (by decide) (by decide) rfl (fun ls hl => ?_)
          refine lv_goto (tgt := 27) hx hb dX0_roofs_113 (by decide) ?_
          exact hrec8 _ _ _ hf _ _ _ (lv_sub hl [0, 3, 4, 5] rfl) hw
        refine lv_iload hx hb dX0_roofs_107 (lv_at hl 2 rfl) ?_
        refine lv_istore_n (lv' := [(3, .int x5), (6, .int x25), (5, .int x26), (4, .int x5), (1, .int p1), (2, .int p2)]) hx hb dX0_roofs_109 rfl hl (by decide) rfl (fun ls hl => ?_)
        refine fb_iinc (v := (1 : Int32)) (lv' := [(4, .int (x5 + (1 : Int32))), (3, .int x5), (6, .int x25), (5, .int x26), (1, .int p1), (2, .int p2)]) hx hb dX0_roofs_110 hl (k := 3) rfl (by decide) (by decide) rfl (fun ls hl => ?_)
        refine lv_goto (tgt := 27) hx hb dX0_roofs_113 (by decide) ?_
        exact hrec8 _ _ _ hf _ _ _ (lv_sub hl [0, 1, 4, 5] rfl) hw
      refine lv_iload hx hb dX0_roofs_68 (lv_at hl 1 rfl) ?_
      refine lv_iload hx hb dX0_roofs_70 (lv_at hl 2 rfl) ?_
      refine lv_iload hx hb dX0_roofs_72 (lv_at hl 0 rfl) ?_
      refine fc_Si (rest := [.int x26]) (As := [.int x5, .int x25]) X hw hm_X0_isOf (lw_S q1231 q1232 q111 q1233) ⟨rfl, rfl⟩ ⟨by rw [hRf]; exact Nat.le_of_ble_eq_true rfl, by rw [hRl]; exact Nat.le_of_ble_eq_true rfl⟩ rfl rfl hl.1 (Nat.le_of_ble_eq_true rfl) dX0_roofs_74 (fun rQ stQ hQ => wX0_isOf l E hX x5 x25 st27 rQ stQ hQ) hf (fun x29 st30 H locs hw hf => ?_)
      refine fb_zeq (tgt := 88) hx hb dX0_roofs_77 (by decide) hf (fun hf => ?_) (fun hf => ?_)
      · refine lv_iconst (v := (0 : Int32)) hx hb dX0_roofs_88 (by decide) ?_
        refine lv_ior hx hb dX0_roofs_89 ?_
        refine fo_tI hf (fun x31 hf => ?_)
        refine lv_istore (lv' := [(5, .int x31), (6, .int x25), (4, .int x5), (3, .int x6), (1, .int p1), (2, .int p2)]) hx hb dX0_roofs_90 hl (by decide) rfl (fun ls hl => ?_)
        refine fb_iinc (v := (1 : Int32)) (lv' := [(6, .int (x25 + (1 : Int32))), (5, .int x31), (4, .int x5), (3, .int x6), (1, .int p1), (2, .int p2)]) hx hb dX0_roofs_92 hl (k := 1) rfl (by decide) (by decide) rfl (fun ls hl => ?_)
        refine lv_goto (tgt := 61) hx hb dX0_roofs_95 (by decide) ?_
        exact hrec28 _ _ _ hf _ _ _ (lv_sub hl [0, 1, 2, 3, 4, 5] rfl) hw
      refine lv_iload hx hb dX0_roofs_80 (lv_at hl 0 rfl) ?_
      refine fc_Si (rest := [.int x26]) (As := [.int x25]) X hw hm_X0_litBy (lw_S q1382 q1383 q111 q1384) ⟨rfl, rfl⟩ ⟨by rw [hRf]; exact Nat.le_of_ble_eq_true rfl, by rw [hRl]; exact Nat.le_of_ble_eq_true rfl⟩ rfl rfl hl.1 (Nat.le_of_ble_eq_true rfl) dX0_roofs_82 (fun rQ stQ hQ => wX0_litBy l E hX G x25 st30 rQ stQ hQ) hf (fun x32 st33 H locs hw hf => ?_)
      refine lv_goto (tgt := 89) hx hb dX0_roofs_85 (by decide) ?_
      refine lv_ior hx hb dX0_roofs_89 ?_
      refine fo_tI hf (fun x34 hf => ?_)
      refine lv_istore (lv' := [(5, .int x34), (6, .int x25), (4, .int x5), (3, .int x6), (1, .int p1), (2, .int p2)]) hx hb dX0_roofs_90 hl (by decide) rfl (fun ls hl => ?_)
      refine fb_iinc (v := (1 : Int32)) (lv' := [(6, .int (x25 + (1 : Int32))), (5, .int x34), (4, .int x5), (3, .int x6), (1, .int p1), (2, .int p2)]) hx hb dX0_roofs_92 hl (k := 1) rfl (by decide) (by decide) rfl (fun ls hl => ?_)
      refine lv_goto (tgt := 61) hx hb dX0_roofs_95 (by decide) ?_
      exact hrec28 _ _ _ hf _ _ _ (lv_sub hl [0, 1, 2, 3, 4, 5] rfl) hw
    refine lv_goto (tgt := 110) hx hb dX0_roofs_52 (by decide) ?_
    refine fb_iinc (v := (1 : Int32)) (lv' := [(4, .int (x5 + (1 : Int32))), (3, .int x6), (1, .int p1), (2, .int p2)]) hx hb dX0_roofs_110 hl (k := 0) rfl (by decide) (by decide) rfl (fun ls hl => ?_)
    refine lv_goto (tgt := 27) hx hb dX0_roofs_113 (by decide) ?_
    exact hrec8 _ _ _ hf _ _ _ (lv_sub hl [0, 1, 2, 3] rfl) hw
  refine lv_iconst (v := (-1 : Int32)) hx hb dX0_roofs_20 (by decide) ?_
  exact fd_i hend hw hf dX0_roofs_21

/-- ForestRooms.canPass -/
def fX0_canPass (p1 : Int32) (p2 : Int32) (st0 : fo_St) : Option (Int32 × fo_St) := bd_ (fX0_isOf p2 p1 st0) (fun x1 st2 => if ¬ x1 = 0 then some ((0 : Int32), st2) else bd_ (fX0_table st2) (fun x3 st4 => ck_ (decide (x3 = 3)) (ck_ (fo_in p1 16) (bd_ (fX0_term (2 : Int32) st4) (fun x5 st6 => if x5 < (gi_ st4 5 p1.toNatClampNeg) then some ((0 : Int32), st6) else some ((1 : Int32), st6))))))
theorem hm_X0_canPass : fo_M yX0_canPass 2 := ⟨by decide +kernel, by decide +kernel, by decide +kernel, by decide +kernel⟩
set_option maxHeartbeats 4000000 in
theorem wX0_canPass (l : Launch) (E : fo_E) (hX : fo_HX E) (p1 : Int32) (p2 : Int32) (st0 : fo_St) (rZ : Int32) (stZ : fo_St) (hf : fX0_canPass p1 p2 st0 = some (rZ, stZ)) : CTi l E yX0_canPass (ws_ yX0_canPass cX0_canPass 3 (some .boolean)) ({ frames := 1, cells := 0, slots := 0, locals := 21 }) [.ref (eb E + 0), .int p1, .int p2] st0 rZ stZ := by
  refine fe_z hm_X0_canPass (Nat.le_of_ble_eq_true rfl) (fun p e R s m args below meth c Q hRf hRl X hend ls hl hw => ?_)
  have hx := X.1.1
  have hb := X.1.2.1
  have hl : lv_has ls 3 [(0, .ref (eb E + 0)), (1, .int p1), (2, .int p2)] := hl
  unfold fX0_canPass at hf
  generalize s.heap = H at hw ⊢
  generalize ([] : List Loc) = locs at hw ⊢
  refine lv_iload_n hx hb dX0_canPass_0 rfl (lv_at hl 2 rfl) ?_
  refine lv_iload_n hx hb dX0_canPass_1 rfl (lv_at hl 1 rfl) ?_
  refine fc_Si (rest := []) (As := [.int p2, .int p1]) X hw hm_X0_isOf (lw_S q1231 q1232 q111 q1233) ⟨rfl, rfl⟩ ⟨by rw [hRf]; exact Nat.le_of_ble_eq_true rfl, by rw [hRl]; exact Nat.le_of_ble_eq_true rfl⟩ rfl rfl hl.1 (Nat.le_of_ble_eq_true rfl) dX0_canPass_2 (fun rQ stQ hQ => wX0_isOf l E hX p2 p1 st0 rQ stQ hQ) hf (fun x1 st2 H locs hw hf => ?_)
  refine fb_zne (tgt := 29) hx hb dX0_canPass_5 (by decide) hf (fun hf => ?_) (fun hf => ?_)
  · refine lv_iconst (v := (0 : Int32)) hx hb dX0_canPass_29 (by decide) ?_
    exact fd_z hend hw rfl hf dX0_canPass_30
  refine lv_aload_n hx hb dX0_canPass_8 rfl (lv_at hl 0 rfl) ?_
  refine fc_Vr (rest := []) (As := []) X hw hm_X0_table (lw_V q560 q562 qs6 q111 q563) ⟨rfl, rfl⟩ ⟨by rw [hRf]; exact Nat.le_of_ble_eq_true rfl, by rw [hRl]; exact Nat.le_of_ble_eq_true rfl⟩ fc_X0 rfl (hx0 hX) rfl rfl hl.1 (Nat.le_of_ble_eq_true rfl) dX0_canPass_9 (fun rQ stQ hQ => wX0_table l E hX st2 rQ stQ hQ) hf (fun x3 st4 H locs hw hf => ?_)
  have hc0 := ck_e hf
  clear hf
  obtain ⟨hc, hf⟩ := hc0
  replace hc := of_decide_eq_true hc
  subst hc
  refine fo_getsN X hw fc_X2 (hx3 hX) (k := 1) (d := 2) (n2 := 5) (by decide) rfl rfl fn171 dX0_canPass_12 ?_
  refine lv_iload_n hx hb dX0_canPass_15 rfl (lv_at hl 1 rfl) ?_
  refine fo_iald X hw (hx5 hX) dX0_canPass_16 hf (fun hf => ?_)
  refine lv_aload_n hx hb dX0_canPass_17 rfl (lv_at hl 0 rfl) ?_
  refine lv_iconst (v := (2 : Int32)) hx hb dX0_canPass_18 (by decide) ?_
  refine fc_Vi (rest := [.int (gi_ st4 5 p1.toNatClampNeg)]) (As := [.int (2 : Int32)]) X hw hm_X0_term (lw_V q581 q583 qs9 q111 q584) ⟨rfl, rfl⟩ ⟨by rw [hRf]; exact Nat.le_of_ble_eq_true rfl, by rw [hRl]; exact Nat.le_of_ble_eq_true rfl⟩ fc_X0 rfl (hx0 hX) rfl rfl hl.1 (Nat.le_of_ble_eq_true rfl) dX0_canPass_19 (fun rQ stQ hQ => wX0_term l E hX (2 : Int32) st4 rQ stQ hQ) hf (fun x5 st6 H locs hw hf => ?_)
  refine fb_igt (tgt := 29) hx hb dX0_canPass_22 (by decide) hf (fun hf => ?_) (fun hf => ?_)
  · refine lv_iconst (v := (0 : Int32)) hx hb dX0_canPass_29 (by decide) ?_
    exact fd_z hend hw rfl hf dX0_canPass_30
  refine lv_iconst (v := (1 : Int32)) hx hb dX0_canPass_25 (by decide) ?_
  refine lv_goto (tgt := 30) hx hb dX0_canPass_26 (by decide) ?_
  exact fd_z hend hw rfl hf dX0_canPass_30

/-- ForestRooms.wayOf -/
def fX0_wayOf (G : Nat) (p1 : Int32) (p2 : Int32) (st0 : fo_St) : Option (Int32 × fo_St) := lp2_ (fun rec3 (x1 : Int32) (st2 : fo_St) => if (16 : Int32) ≤ x1 then lp2_ (fun rec6 (x4 : Int32) (st5 : fo_St) => if (16 : Int32) ≤ x4 then ck_ (fo_in p1 16) (some ((gi_ st5 40 p1.toNatClampNeg), st5)) else lp2_ (fun rec9 (x7 : Int32) (st8 : fo_St) => if (16 : Int32) ≤ x7 then rec6 (x4 + (1 : Int32)) st8 else ck_ (fo_in x7 16) (if (gi_ st8 40 x7.toNatClampNeg) = x4 then lp2_ (fun rec12 (x10 : Int32) (st11 : fo_St) => if (4 : Int32) ≤ x10 then rec9 (x7 + (1 : Int32)) st11 else bd_ (fX0_beside x7 x10 st11) (fun x13 st14 => if x13 = (-1 : Int32) then rec12 (x10 + (1 : Int32)) st14 else ck_ (fo_in x13 16) (if ¬ (gi_ st14 40 x13.toNatClampNeg) = (1000000 : Int32) then rec12 (x10 + (1 : Int32)) st14 else bd_ (fX0_canPass x13 p2 st14) (fun x15 st16 => if x15 = 0 then rec12 (x10 + (1 : Int32)) st16 else ck_ (fo_in x13 16) (lt_ (si_ st16 40 x13.toNatClampNeg (x4 + (1 : Int32))) (fun st17 => rec12 (x10 + (1 : Int32)) st17)))))) G (0 : Int32) st8 else rec9 (x7 + (1 : Int32)) st8)) G (0 : Int32) st5) G (0 : Int32) st2 else jn_ (fun (x18 : Int32) (st19 : fo_St) => ck_ (fo_in x1 16) (lt_ (si_ st19 40 x1.toNatClampNeg x18) (fun st21 => rec3 (x1 + (1 : Int32)) st21))) (fun k20 => if ¬ x1 = 0 then k20 (1000000 : Int32) st2 else bd_ (fX0_canPass (0 : Int32) p2 st2) (fun x22 st23 => if x22 = 0 then k20 (1000000 : Int32) st23 else k20 (0 : Int32) st23))) G (0 : Int32) st0
theorem hm_X0_wayOf : fo_M yX0_wayOf 2 := ⟨by decide +kernel, by decide +kernel, by decide +kernel, by decide +kernel⟩
set_option maxHeartbeats 4000000 in
theorem wX0_wayOf (l : Launch) (E : fo_E) (hX : fo_HX E) (G : Nat) (p1 : Int32) (p2 : Int32) (st0 : fo_St) (rZ : Int32) (stZ : fo_St) (hf : fX0_wayOf G p1 p2 st0 = some (rZ, stZ)) : CTi l E yX0_wayOf (ws_ yX0_wayOf cX0_wayOf 7 (some .int)) ({ frames := 2, cells := 0, slots := 0, locals := 45 }) [.ref (eb E + 0), .int p1, .int p2] st0 rZ stZ := by
  refine fe_i hm_X0_wayOf (Nat.le_of_ble_eq_true rfl) (fun p e R s m args below meth c Q hRf hRl X hend ls hl hw => ?_)
  have hx := X.1.1
  have hb := X.1.2.1
  have hl : lv_has ls 7 [(0, .ref (eb E + 0)), (1, .int p1), (2, .int p2)] := hl
  unfold fX0_wayOf at hf
  generalize s.heap = H at hw ⊢
  generalize ([] : List Loc) = locs at hw ⊢
  refine lv_iconst (v := (0 : Int32)) hx hb dX0_wayOf_0 (by decide) ?_
  refine lv_istore_n (lv' := [(3, .int (0 : Int32)), (0, .ref (eb E + 0)), (1, .int p1), (2, .int p2)]) hx hb dX0_wayOf_1 rfl hl (by decide) rfl (fun ls hl => ?_)
  refine lp2_e (P := fun x1 st2 => ∀ (H : Heap) (locs : List Loc) (ls : Array Slot), lv_has ls 7 [(3, .int x1), (0, .ref (eb E + 0)), (1, .int p1), (2, .int p2)] → fo_S E s st2 H locs → W p l e R s m args below meth c H locs 0 0 Q (F0 m 2 ls [])) (fun rec3 hrec3 x1 st2 hf => ?_) G _ _ hf H locs ls (lv_sub hl [0, 1, 2, 3] rfl) hw
  intro H locs ls hl hw
  refine lv_iload_n hx hb dX0_wayOf_2 rfl (lv_at hl 0 rfl) ?_
  refine lv_bipush (v := (16 : Int32)) hx hb dX0_wayOf_3 (by decide) ?_
  refine fb_ige (tgt := 40) hx hb dX0_wayOf_5 (by decide) hf (fun hf => ?_) (fun hf => ?_)
  · refine lv_iconst (v := (0 : Int32)) hx hb dX0_wayOf_40 (by decide) ?_
    refine lv_istore_n (lv' := [(3, .int (0 : Int32)), (0, .ref (eb E + 0)), (1, .int p1), (2, .int p2)]) hx hb dX0_wayOf_41 rfl hl (by decide) rfl (fun ls hl => ?_)
    refine lp2_e (P := fun x4 st5 => ∀ (H : Heap) (locs : List Loc) (ls : Array Slot), lv_has ls 7 [(3, .int x4), (0, .ref (eb E + 0)), (1, .int p1), (2, .int p2)] → fo_S E s st5 H locs → W p l e R s m args below meth c H locs 0 0 Q (F0 m 42 ls [])) (fun rec6 hrec6 x4 st5 hf => ?_) G _ _ hf H locs ls (lv_sub hl [0, 1, 2, 3] rfl) hw
    intro H locs ls hl hw
    refine lv_iload_n hx hb dX0_wayOf_42 rfl (lv_at hl 0 rfl) ?_
    refine lv_bipush (v := (16 : Int32)) hx hb dX0_wayOf_43 (by decide) ?_
    refine fb_ige (tgt := 147) hx hb dX0_wayOf_45 (by decide) hf (fun hf => ?_) (fun hf => ?_)
    · refine lv_aload_n hx hb dX0_wayOf_147 rfl (lv_at hl 1 rfl) ?_
      refine fo_gets X hw fc_X0 (hx0 hX) (k := 24) (d := 40) (n2 := 40) (by decide) rfl rfl q369 dX0_wayOf_148 ?_
      refine lv_iload_n hx hb dX0_wayOf_151 rfl (lv_at hl 2 rfl) ?_
      refine fo_iald X hw (hx40 hX) dX0_wayOf_152 hf (fun hf => ?_)
      exact fd_i hend hw hf dX0_wayOf_153
    refine lv_iconst (v := (0 : Int32)) hx hb dX0_wayOf_48 (by decide) ?_
    refine lv_istore (lv' := [(4, .int (0 : Int32)), (3, .int x4), (0, .ref (eb E + 0)), (1, .int p1), (2, .int p2)]) hx hb dX0_wayOf_49 hl (by decide) rfl (fun ls hl => ?_)
    refine lp2_e (P := fun x7 st8 => ∀ (H : Heap) (locs : List Loc) (ls : Array Slot), lv_has ls 7 [(4, .int x7), (3, .int x4), (0, .ref (eb E + 0)), (1, .int p1), (2, .int p2)] → fo_S E s st8 H locs → W p l e R s m args below meth c H locs 0 0 Q (F0 m 51 ls [])) (fun rec9 hrec9 x7 st8 hf => ?_) G _ _ hf H locs ls (lv_sub hl [0, 1, 2, 3, 4] rfl) hw
    intro H locs ls hl hw
    refine lv_iload hx hb dX0_wayOf_51 (lv_at hl 0 rfl) ?_
    refine lv_bipush (v := (16 : Int32)) hx hb dX0_wayOf_53 (by decide) ?_
    refine fb_ige (tgt := 141) hx hb dX0_wayOf_55 (by decide) hf (fun hf => ?_) (fun hf => ?_)
    · refine fb_iinc (v := (1 : Int32)) (lv' := [(3, .int (x4 + (1 : Int32))), (4, .int x7), (0, .ref (eb E + 0)), (1, .int p1), (2, .int p2)]) hx hb dX0_wayOf_141 hl (k := 1) rfl (by decide) (by decide) rfl (fun ls hl => ?_)
      refine lv_goto (tgt := 42) hx hb dX0_wayOf_144 (by decide) ?_
      exact hrec6 _ _ hf _ _ _ (lv_sub hl [0, 2, 3, 4] rfl) hw
    refine lv_aload_n hx hb dX0_wayOf_58 rfl (lv_at hl 2 rfl) ?_
    refine fo_gets X hw fc_X0 (hx0 hX) (k := 24) (d := 40) (n2 := 40) (by decide) rfl rfl q369 dX0_wayOf_59 ?_
    refine lv_iload hx hb dX0_wayOf_62 (lv_at hl 0 rfl) ?_
    refine fo_iald X hw (hx40 hX) dX0_wayOf_64 hf (fun hf => ?_)
    refine lv_iload_n hx hb dX0_wayOf_65 rfl (lv_at hl 1 rfl) ?_
    refine fb_ieq (tgt := 72) hx hb dX0_wayOf_66 (by decide) hf (fun hf => ?_) (fun hf => ?_)
    · refine lv_iconst (v := (0 : Int32)) hx hb dX0_wayOf_72 (by decide) ?_
      refine lv_istore (lv' := [(5, .int (0 : Int32)), (4, .int x7), (3, .int x4), (0, .ref (eb E + 0)), (1, .int p1), (2, .int p2)]) hx hb dX0_wayOf_73 hl (by decide) rfl (fun ls hl => ?_)
      refine lp2_e (P := fun x10 st11 => ∀ (H : Heap) (locs : List Loc) (ls : Array Slot), lv_has ls 7 [(5, .int x10), (4, .int x7), (3, .int x4), (0, .ref (eb E + 0)), (1, .int p1), (2, .int p2)] → fo_S E s st11 H locs → W p l e R s m args below meth c H locs 0 0 Q (F0 m 75 ls [])) (fun rec12 hrec12 x10 st11 hf => ?_) G _ _ hf H locs ls (lv_sub hl [0, 1, 2, 3, 4, 5] rfl) hw
      intro H locs ls hl hw
      refine lv_iload hx hb dX0_wayOf_75 (lv_at hl 0 rfl) ?_
      refine lv_iconst (v := (4 : Int32)) hx hb dX0_wayOf_77 (by decide) ?_
      refine fb_ige (tgt := 135) hx hb dX0_wayOf_78 (by decide) hf (fun hf => ?_) (fun hf => ?_)
      · refine fb_iinc (v := (1 : Int32)) (lv' := [(4, .int (x7 + (1 : Int32))), (5, .int x10), (3, .int x4), (0, .ref (eb E + 0)), (1, .int p1), (2, .int p2)]) hx hb dX0_wayOf_135 hl (k := 1) rfl (by decide) (by decide) rfl (fun ls hl => ?_)
        refine lv_goto (tgt := 51) hx hb dX0_wayOf_138 (by decide) ?_
        exact hrec9 _ _ hf _ _ _ (lv_sub hl [0, 2, 3, 4, 5] rfl) hw
      refine lv_iload hx hb dX0_wayOf_81 (lv_at hl 1 rfl) ?_
      refine lv_iload hx hb dX0_wayOf_83 (lv_at hl 0 rfl) ?_
      refine fc_Si (rest := []) (As := [.int x7, .int x10]) X hw hm_X0_beside (lw_S q1300 q1301 q111 q1302) ⟨rfl, rfl⟩ ⟨by rw [hRf]; exact Nat.le_of_ble_eq_true rfl, by rw [hRl]; exact Nat.le_of_ble_eq_true rfl⟩ rfl rfl hl.1 (Nat.le_of_ble_eq_true rfl) dX0_wayOf_85 (fun rQ stQ hQ => wX0_beside l E hX x7 x10 st11 rQ stQ hQ) hf (fun x13 st14 H locs hw hf => ?_)
      refine lv_istore (lv' := [(6, .int x13), (5, .int x10), (4, .int x7), (3, .int x4), (0, .ref (eb E + 0)), (1, .int p1), (2, .int p2)]) hx hb dX0_wayOf_88 hl (by decide) rfl (fun ls hl => ?_)
      refine lv_iload hx hb dX0_wayOf_90 (lv_at hl 0 rfl) ?_
      refine lv_iconst (v := (-1 : Int32)) hx hb dX0_wayOf_92 (by decide) ?_
      refine fb_ieq (tgt := 129) hx hb dX0_wayOf_93 (by decide) hf (fun hf => ?_) (fun hf => ?_)
      · refine fb_iinc (v := (1 : Int32)) (lv' := [(5, .int (x10 + (1 : Int32))), (6, .int x13), (4, .int x7), (3, .int x4), (0, .ref (eb E + 0)), (1, .int p1), (2, .int p2)]) hx hb dX0_wayOf_129 hl (k := 1) rfl (by decide) (by decide) rfl (fun ls hl => ?_)
        refine lv_goto (tgt := 75) hx hb dX0_wayOf_132 (by decide) ?_
        exact hrec12 _ _ hf _ _ _ (lv_sub hl [0, 2, 3, 4, 5, 6] rfl) hw
      refine lv_aload_n hx hb dX0_wayOf_96 rfl (lv_at hl 4 rfl) ?_
      refine fo_gets X hw fc_X0 (hx0 hX) (k := 24) (d := 40) (n2 := 40) (by decide) rfl rfl q369 dX0_wayOf_97 ?_
      refine lv_iload hx hb dX0_wayOf_100 (lv_at hl 0 rfl) ?_
      refine fo_iald X hw (hx40 hX) dX0_wayOf_102 hf (fun hf => ?_)
      refine lv_ldcw (v := (1000000 : Int32)) hx hb X.1.2.2.2.1 (X.1.2.2.2.2 _ q1375) dX0_wayOf_103 ?_
      refine fb_ine (tgt := 129) hx hb dX0_wayOf_106 (by decide) hf (fun hf => ?_) (fun hf => ?_)
      · refine fb_iinc (v := (1 : Int32)) (lv' := [(5, .int (x10 + (1 : Int32))), (6, .int x13), (4, .int x7), (3, .int x4), (0, .ref (eb E + 0)), (1, .int p1), (2, .int p2)]) hx hb dX0_wayOf_129 hl (k := 1) rfl (by decide) (by decide) rfl (fun ls hl => ?_)
        refine lv_goto (tgt := 75) hx hb dX0_wayOf_132 (by decide) ?_
        exact hrec12 _ _ hf _ _ _ (lv_sub hl [0, 2, 3, 4, 5, 6] rfl) hw
      refine lv_aload_n hx hb dX0_wayOf_109 rfl (lv_at hl 4 rfl) ?_
      refine lv_iload hx hb dX0_wayOf_110 (lv_at hl 0 rfl) ?_
      refine lv_iload_n hx hb dX0_wayOf_112 rfl (lv_at hl 6 rfl) ?_
      refine fc_Vi (rest := []) (As := [.int x13, .int p2]) X hw hm_X0_canPass (lw_V q1393 q1395 qs33 q111 q1396) ⟨rfl, rfl⟩ ⟨by rw [hRf]; exact Nat.le_of_ble_eq_true rfl, by rw [hRl]; exact Nat.le_of_ble_eq_true rfl⟩ fc_X0 rfl (hx0 hX) rfl rfl hl.1 (Nat.le_of_ble_eq_true rfl) dX0_wayOf_113 (fun rQ stQ hQ => wX0_canPass l E hX x13 p2 st14 rQ stQ hQ) hf (fun x15 st16 H locs hw hf => ?_)
      refine fb_zeq (tgt := 129) hx hb dX0_wayOf_116 (by decide) hf (fun hf => ?_) (fun hf => ?_)
      · refine fb_iinc (v := (1 : Int32)) (lv' := [(5, .int (x10 + (1 : Int32))), (6, .int x13), (4, .int x7), (3, .int x4), (0, .ref (eb E + 0)), (1, .int p1), (2, .int p2)]) hx hb dX0_wayOf_129 hl (k := 1) rfl (by decide) (by decide) rfl (fun ls hl => ?_)
        refine lv_goto (tgt := 75) hx hb dX0_wayOf_132 (by decide) ?_
        exact hrec12 _ _ hf _ _ _ (lv_sub hl [0, 2, 3, 4, 5, 6] rfl) hw
      refine lv_aload_n hx hb dX0_wayOf_119 rfl (lv_at hl 4 rfl) ?_
      refine fo_gets X hw fc_X0 (hx0 hX) (k := 24) (d := 40) (n2 := 40) (by decide) rfl rfl q369 dX0_wayOf_120 ?_
      refine lv_iload hx hb dX0_wayOf_123 (lv_at hl 0 rfl) ?_
      refine lv_iload_n hx hb dX0_wayOf_125 rfl (lv_at hl 3 rfl) ?_
      refine lv_iconst (v := (1 : Int32)) hx hb dX0_wayOf_126 (by decide) ?_
      refine lv_iadd hx hb dX0_wayOf_127 ?_
      refine fo_iast X hw (hx40 hX) dX0_wayOf_128 hf (fun st17 H locs hw hf => ?_)
      refine fb_iinc (v := (1 : Int32)) (lv' := [(5, .int (x10 + (1 : Int32))), (6, .int x13), (4, .int x7), (3, .int x4), (0, .ref (eb E + 0)), (1, .int p1), (2, .int p2)]) hx hb dX0_wayOf_129 hl (k := 1) rfl (by decide) (by decide) rfl (fun ls hl => ?_)
      refine lv_goto (tgt := 75) hx hb dX0_wayOf_132 (by decide) ?_
      exact hrec12 _ _ hf _ _ _ (lv_sub hl [0, 2, 3, 4, 5, 6] rfl) hw
    refine lv_goto (tgt := 135) hx hb dX0_wayOf_69 (by decide) ?_
    refine fb_iinc (v := (1 : Int32)) (lv' := [(4, .int (x7 + (1 : Int32))), (3, .int x4), (0, .ref (eb E + 0)), (1, .int p1), (2, .int p2)]) hx hb dX0_wayOf_135 hl (k := 0) rfl (by decide) (by decide) rfl (fun ls hl => ?_)
    refine lv_goto (tgt := 51) hx hb dX0_wayOf_138 (by decide) ?_
    exact hrec9 _ _ hf _ _ _ (lv_sub hl [0, 1, 2, 3, 4] rfl) hw
  refine lv_aload_n hx hb dX0_wayOf_8 rfl (lv_at hl 1 rfl) ?_
  refine fo_gets X hw fc_X0 (hx0 hX) (k := 24) (d := 40) (n2 := 40) (by decide) rfl rfl q369 dX0_wayOf_9 ?_
  refine lv_iload_n hx hb dX0_wayOf_12 rfl (lv_at hl 0 rfl) ?_
  refine lv_iload_n hx hb dX0_wayOf_13 rfl (lv_at hl 0 rfl) ?_
  refine jn_e hf (fun k20 ek hf => ?_)
  have hk20 : ∀ (x18 : Int32) (st19 : fo_St) (H : Heap) (locs : List Loc) (ls : Array Slot), lv_has ls 7 [(3, .int x1), (0, .ref (eb E + 0)), (1, .int p1), (2, .int p2)] → fo_S E s st19 H locs → k20 x18 st19 = some (rZ, stZ) → W p l e R s m args below meth c H locs 0 0 Q (F0 m 33 ls [.int x18, .int x1, .ref (eb E + 40)]) := by
    intro x18 st19 H locs ls hl hw hf
    rw [ek] at hf
    refine fo_iast X hw (hx40 hX) dX0_wayOf_33 hf (fun st21 H locs hw hf => ?_)
    refine fb_iinc (v := (1 : Int32)) (lv' := [(3, .int (x1 + (1 : Int32))), (0, .ref (eb E + 0)), (1, .int p1), (2, .int p2)]) hx hb dX0_wayOf_34 hl (k := 0) rfl (by decide) (by decide) rfl (fun ls hl => ?_)
    refine lv_goto (tgt := 2) hx hb dX0_wayOf_37 (by decide) ?_
    exact hrec3 _ _ hf _ _ _ (lv_sub hl [0, 1, 2, 3] rfl) hw
  clear ek
  refine fb_zne (tgt := 30) hx hb dX0_wayOf_14 (by decide) hf (fun hf => ?_) (fun hf => ?_)
  · refine lv_ldcw (v := (1000000 : Int32)) hx hb X.1.2.2.2.1 (X.1.2.2.2.2 _ q1375) dX0_wayOf_30 ?_
    exact hk20 _ _ _ _ _ (lv_sub hl [0, 1, 2, 3] rfl) hw hf
  refine lv_aload_n hx hb dX0_wayOf_17 rfl (lv_at hl 1 rfl) ?_
  refine lv_iconst (v := (0 : Int32)) hx hb dX0_wayOf_18 (by decide) ?_
  refine lv_iload_n hx hb dX0_wayOf_19 rfl (lv_at hl 3 rfl) ?_
  refine fc_Vi (rest := [.int x1, .ref (eb E + 40)]) (As := [.int (0 : Int32), .int p2]) X hw hm_X0_canPass (lw_V q1393 q1395 qs33 q111 q1396) ⟨rfl, rfl⟩ ⟨by rw [hRf]; exact Nat.le_of_ble_eq_true rfl, by rw [hRl]; exact Nat.le_of_ble_eq_true rfl⟩ fc_X0 rfl (hx0 hX) rfl rfl hl.1 (Nat.le_of_ble_eq_true rfl) dX0_wayOf_20 (fun rQ stQ hQ => wX0_canPass l E hX (0 : Int32) p2 st2 rQ stQ hQ) hf (fun x22 st23 H locs hw hf => ?_)
  refine fb_zeq (tgt := 30) hx hb dX0_wayOf_23 (by decide) hf (fun hf => ?_) (fun hf => ?_)
  · refine lv_ldcw (v := (1000000 : Int32)) hx hb X.1.2.2.2.1 (X.1.2.2.2.2 _ q1375) dX0_wayOf_30 ?_
    exact hk20 _ _ _ _ _ (lv_sub hl [0, 1, 2, 3] rfl) hw hf
  refine lv_iconst (v := (0 : Int32)) hx hb dX0_wayOf_26 (by decide) ?_
  refine lv_goto (tgt := 33) hx hb dX0_wayOf_27 (by decide) ?_
  exact hk20 _ _ _ _ _ (lv_sub hl [0, 1, 2, 3] rfl) hw hf

/-- ForestRooms.way -/
def fX0_way (G : Nat) (p1 : Int32) (st0 : fo_St) : Option (Int32 × fo_St) := bd_ (fX0_isRoom p1 st0) (fun x1 st2 => if x1 = 0 then some ((-1 : Int32), st2) else bd_ (fX0_wayOf G p1 (0 : Int32) st2) (fun x3 st4 => if ¬ x3 = (1000000 : Int32) then ck_ (fo_in p1 16) (some ((gi_ st4 40 p1.toNatClampNeg), st4)) else some ((-1 : Int32), st4)))
theorem hm_X0_way : fo_M yX0_way 1 := ⟨by decide +kernel, by decide +kernel, by decide +kernel, by decide +kernel⟩
set_option maxHeartbeats 4000000 in
theorem wX0_way (l : Launch) (E : fo_E) (hX : fo_HX E) (G : Nat) (p1 : Int32) (st0 : fo_St) (rZ : Int32) (stZ : fo_St) (hf : fX0_way G p1 st0 = some (rZ, stZ)) : CTi l E yX0_way (ws_ yX0_way cX0_way 2 (some .int)) ({ frames := 3, cells := 0, slots := 0, locals := 71 }) [.ref (eb E + 0), .int p1] st0 rZ stZ := by
  refine fe_i hm_X0_way (Nat.le_of_ble_eq_true rfl) (fun p e R s m args below meth c Q hRf hRl X hend ls hl hw => ?_)
  have hx := X.1.1
  have hb := X.1.2.1
  have hl : lv_has ls 2 [(0, .ref (eb E + 0)), (1, .int p1)] := hl
  unfold fX0_way at hf
  generalize s.heap = H at hw ⊢
  generalize ([] : List Loc) = locs at hw ⊢
  refine lv_iload_n hx hb dX0_way_0 rfl (lv_at hl 1 rfl) ?_
  refine fc_Si (rest := []) (As := [.int p1]) X hw hm_X0_isRoom (lw_S q546 q547 q111 q548) ⟨rfl, rfl⟩ ⟨by rw [hRf]; exact Nat.le_of_ble_eq_true rfl, by rw [hRl]; exact Nat.le_of_ble_eq_true rfl⟩ rfl rfl hl.1 (Nat.le_of_ble_eq_true rfl) dX0_way_1 (fun rQ stQ hQ => wX0_isRoom l E hX p1 st0 rQ stQ hQ) hf (fun x1 st2 H locs hw hf => ?_)
  refine fb_zeq (tgt := 19) hx hb dX0_way_4 (by decide) hf (fun hf => ?_) (fun hf => ?_)
  · refine lv_iconst (v := (-1 : Int32)) hx hb dX0_way_19 (by decide) ?_
    refine lv_goto (tgt := 29) hx hb dX0_way_20 (by decide) ?_
    exact fd_i hend hw hf dX0_way_29
  refine lv_aload_n hx hb dX0_way_7 rfl (lv_at hl 0 rfl) ?_
  refine lv_iload_n hx hb dX0_way_8 rfl (lv_at hl 1 rfl) ?_
  refine lv_iconst (v := (0 : Int32)) hx hb dX0_way_9 (by decide) ?_
  refine fc_Vi (rest := []) (As := [.int p1, .int (0 : Int32)]) X hw hm_X0_wayOf (lw_V q1389 q1391 qs32 q111 q1392) ⟨rfl, rfl⟩ ⟨by rw [hRf]; exact Nat.le_of_ble_eq_true rfl, by rw [hRl]; exact Nat.le_of_ble_eq_true rfl⟩ fc_X0 rfl (hx0 hX) rfl rfl hl.1 (Nat.le_of_ble_eq_true rfl) dX0_way_10 (fun rQ stQ hQ => wX0_wayOf l E hX G p1 (0 : Int32) st2 rQ stQ hQ) hf (fun x3 st4 H locs hw hf => ?_)
  refine lv_ldcw (v := (1000000 : Int32)) hx hb X.1.2.2.2.1 (X.1.2.2.2.2 _ q1375) dX0_way_13 ?_
  refine fb_ine (tgt := 23) hx hb dX0_way_16 (by decide) hf (fun hf => ?_) (fun hf => ?_)
  · refine lv_aload_n hx hb dX0_way_23 rfl (lv_at hl 0 rfl) ?_
    refine fo_gets X hw fc_X0 (hx0 hX) (k := 24) (d := 40) (n2 := 40) (by decide) rfl rfl q369 dX0_way_24 ?_
    refine lv_iload_n hx hb dX0_way_27 rfl (lv_at hl 1 rfl) ?_
    refine fo_iald X hw (hx40 hX) dX0_way_28 hf (fun hf => ?_)
    exact fd_i hend hw hf dX0_way_29
  refine lv_iconst (v := (-1 : Int32)) hx hb dX0_way_19 (by decide) ?_
  refine lv_goto (tgt := 29) hx hb dX0_way_20 (by decide) ?_
  exact fd_i hend hw hf dX0_way_29

/-- ForestRooms.cut -/
def fX0_cut (G : Nat) (p1 : Int32) (p2 : Int32) (st0 : fo_St) : Option (Int32 × fo_St) := bd_ (fX0_isRoom p1 st0) (fun x1 st2 => if x1 = 0 then some ((-1 : Int32), st2) else if p1 = 0 then some ((-1 : Int32), st2) else bd_ (fX0_in p2 (0 : Int32) (1 : Int32) st2) (fun x3 st4 => if ¬ x3 = 0 then lp2_ (fun rec7 (x5 : Int32) (st6 : fo_St) => if (2 : Int32) < x5 then some ((-1 : Int32), st6) else lp2_ (fun rec10 (x8 : Int32) (st9 : fo_St) => if (65536 : Int32) ≤ x8 then rec7 (x5 + (1 : Int32)) st9 else bd_ (fX0_ones x8 st9) (fun x11 st12 => if ¬ x11 = x5 then rec10 (x8 + (1 : Int32)) st12 else bd_ (fX0_isOf x8 (0 : Int32) st12) (fun x13 st14 => if ¬ x13 = 0 then rec10 (x8 + (1 : Int32)) st14 else bd_ (fX0_isOf x8 p1 st14) (fun x15 st16 => if ¬ x15 = 0 then rec10 (x8 + (1 : Int32)) st16 else bd_ (fX0_wayOf G p1 x8 st16) (fun x17 st18 => if ¬ x17 = (1000000 : Int32) then rec10 (x8 + (1 : Int32)) st18 else if ¬ p2 = 0 then some (x8, st18) else some (x5, st18)))))) G (0 : Int32) st6) G (0 : Int32) st4 else some ((-1 : Int32), st4)))
theorem hm_X0_cut : fo_M yX0_cut 2 := ⟨by decide +kernel, by decide +kernel, by decide +kernel, by decide +kernel⟩
set_option maxHeartbeats 4000000 in
theorem wX0_cut (l : Launch) (E : fo_E) (hX : fo_HX E) (G : Nat) (p1 : Int32) (p2 : Int32) (st0 : fo_St) (rZ : Int32) (stZ : fo_St) (hf : fX0_cut G p1 p2 st0 = some (rZ, stZ)) : CTi l E yX0_cut (ws_ yX0_cut cX0_cut 5 (some .int)) ({ frames := 3, cells := 0, slots := 0, locals := 71 }) [.ref (eb E + 0), .int p1, .int p2] st0 rZ stZ := by
  refine fe_i hm_X0_cut (Nat.le_of_ble_eq_true rfl) (fun p e R s m args below meth c Q hRf hRl X hend ls hl hw => ?_)
  have hx := X.1.1
  have hb := X.1.2.1
  have hl : lv_has ls 5 [(0, .ref (eb E + 0)), (1, .int p1), (2, .int p2)] := hl
  unfold fX0_cut at hf
  generalize s.heap = H at hw ⊢
  generalize ([] : List Loc) = locs at hw ⊢
  refine lv_iload_n hx hb dX0_cut_0 rfl (lv_at hl 1 rfl) ?_
  refine fc_Si (rest := []) (As := [.int p1]) X hw hm_X0_isRoom (lw_S q546 q547 q111 q548) ⟨rfl, rfl⟩ ⟨by rw [hRf]; exact Nat.le_of_ble_eq_true rfl, by rw [hRl]; exact Nat.le_of_ble_eq_true rfl⟩ rfl rfl hl.1 (Nat.le_of_ble_eq_true rfl) dX0_cut_1 (fun rQ stQ hQ => wX0_isRoom l E hX p1 st0 rQ stQ hQ) hf (fun x1 st2 H locs hw hf => ?_)
  refine fb_zeq (tgt := 20) hx hb dX0_cut_4 (by decide) hf (fun hf => ?_) (fun hf => ?_)
  · refine lv_iconst (v := (-1 : Int32)) hx hb dX0_cut_20 (by decide) ?_
    exact fd_i hend hw hf dX0_cut_21
  refine lv_iload_n hx hb dX0_cut_7 rfl (lv_at hl 1 rfl) ?_
  refine fb_zeq (tgt := 20) hx hb dX0_cut_8 (by decide) hf (fun hf => ?_) (fun hf => ?_)
  · refine lv_iconst (v := (-1 : Int32)) hx hb dX0_cut_20 (by decide) ?_
    exact fd_i hend hw hf dX0_cut_21
  refine lv_iload_n hx hb dX0_cut_11 rfl (lv_at hl 2 rfl) ?_
  refine lv_iconst (v := (0 : Int32)) hx hb dX0_cut_12 (by decide) ?_
  refine lv_iconst (v := (1 : Int32)) hx hb dX0_cut_13 (by decide) ?_
  refine fc_Si (rest := []) (As := [.int p2, .int (0 : Int32), .int (1 : Int32)]) X hw hm_X0_in (lw_S q437 q438 q111 q439) ⟨rfl, rfl⟩ ⟨by rw [hRf]; exact Nat.le_of_ble_eq_true rfl, by rw [hRl]; exact Nat.le_of_ble_eq_true rfl⟩ rfl rfl hl.1 (Nat.le_of_ble_eq_true rfl) dX0_cut_14 (fun rQ stQ hQ => wX0_in l E hX p2 (0 : Int32) (1 : Int32) st2 rQ stQ hQ) hf (fun x3 st4 H locs hw hf => ?_)
  refine fb_zne (tgt := 22) hx hb dX0_cut_17 (by decide) hf (fun hf => ?_) (fun hf => ?_)
  · refine lv_iconst (v := (0 : Int32)) hx hb dX0_cut_22 (by decide) ?_
    refine lv_istore_n (lv' := [(3, .int (0 : Int32)), (0, .ref (eb E + 0)), (1, .int p1), (2, .int p2)]) hx hb dX0_cut_23 rfl hl (by decide) rfl (fun ls hl => ?_)
    refine lp2_e (P := fun x5 st6 => ∀ (H : Heap) (locs : List Loc) (ls : Array Slot), lv_has ls 5 [(3, .int x5), (0, .ref (eb E + 0)), (1, .int p1), (2, .int p2)] → fo_S E s st6 H locs → W p l e R s m args below meth c H locs 0 0 Q (F0 m 24 ls [])) (fun rec7 hrec7 x5 st6 hf => ?_) G _ _ hf H locs ls (lv_sub hl [0, 1, 2, 3] rfl) hw
    intro H locs ls hl hw
    refine lv_iload_n hx hb dX0_cut_24 rfl (lv_at hl 0 rfl) ?_
    refine lv_iconst (v := (2 : Int32)) hx hb dX0_cut_25 (by decide) ?_
    refine fb_igt (tgt := 103) hx hb dX0_cut_26 (by decide) hf (fun hf => ?_) (fun hf => ?_)
    · refine lv_iconst (v := (-1 : Int32)) hx hb dX0_cut_103 (by decide) ?_
      exact fd_i hend hw hf dX0_cut_104
    refine lv_iconst (v := (0 : Int32)) hx hb dX0_cut_29 (by decide) ?_
    refine lv_istore (lv' := [(4, .int (0 : Int32)), (3, .int x5), (0, .ref (eb E + 0)), (1, .int p1), (2, .int p2)]) hx hb dX0_cut_30 hl (by decide) rfl (fun ls hl => ?_)
    refine lp2_e (P := fun x8 st9 => ∀ (H : Heap) (locs : List Loc) (ls : Array Slot), lv_has ls 5 [(4, .int x8), (3, .int x5), (0, .ref (eb E + 0)), (1, .int p1), (2, .int p2)] → fo_S E s st9 H locs → W p l e R s m args below meth c H locs 0 0 Q (F0 m 32 ls [])) (fun rec10 hrec10 x8 st9 hf => ?_) G _ _ hf H locs ls (lv_sub hl [0, 1, 2, 3, 4] rfl) hw
    intro H locs ls hl hw
    refine lv_iload hx hb dX0_cut_32 (lv_at hl 0 rfl) ?_
    refine lv_ldcw (v := (65536 : Int32)) hx hb X.1.2.2.2.1 (X.1.2.2.2.2 _ q1381) dX0_cut_34 ?_
    refine fb_ige (tgt := 97) hx hb dX0_cut_37 (by decide) hf (fun hf => ?_) (fun hf => ?_)
    · refine fb_iinc (v := (1 : Int32)) (lv' := [(3, .int (x5 + (1 : Int32))), (4, .int x8), (0, .ref (eb E + 0)), (1, .int p1), (2, .int p2)]) hx hb dX0_cut_97 hl (k := 1) rfl (by decide) (by decide) rfl (fun ls hl => ?_)
      refine lv_goto (tgt := 24) hx hb dX0_cut_100 (by decide) ?_
      exact hrec7 _ _ hf _ _ _ (lv_sub hl [0, 2, 3, 4] rfl) hw
    refine lv_iload hx hb dX0_cut_40 (lv_at hl 0 rfl) ?_
    refine fc_Si (rest := []) (As := [.int x8]) X hw hm_X0_ones (lw_S q1328 q1329 q111 q1330) ⟨rfl, rfl⟩ ⟨by rw [hRf]; exact Nat.le_of_ble_eq_true rfl, by rw [hRl]; exact Nat.le_of_ble_eq_true rfl⟩ rfl rfl hl.1 (Nat.le_of_ble_eq_true rfl) dX0_cut_42 (fun rQ stQ hQ => wX0_ones l E hX x8 st9 rQ stQ hQ) hf (fun x11 st12 H locs hw hf => ?_)
    refine lv_iload_n hx hb dX0_cut_45 rfl (lv_at hl 1 rfl) ?_
    refine fb_ine (tgt := 91) hx hb dX0_cut_46 (by decide) hf (fun hf => ?_) (fun hf => ?_)
    · refine fb_iinc (v := (1 : Int32)) (lv' := [(4, .int (x8 + (1 : Int32))), (3, .int x5), (0, .ref (eb E + 0)), (1, .int p1), (2, .int p2)]) hx hb dX0_cut_91 hl (k := 0) rfl (by decide) (by decide) rfl (fun ls hl => ?_)
      refine lv_goto (tgt := 32) hx hb dX0_cut_94 (by decide) ?_
      exact hrec10 _ _ hf _ _ _ (lv_sub hl [0, 1, 2, 3, 4] rfl) hw
    refine lv_iload hx hb dX0_cut_49 (lv_at hl 0 rfl) ?_
    refine lv_iconst (v := (0 : Int32)) hx hb dX0_cut_51 (by decide) ?_
    refine fc_Si (rest := []) (As := [.int x8, .int (0 : Int32)]) X hw hm_X0_isOf (lw_S q1231 q1232 q111 q1233) ⟨rfl, rfl⟩ ⟨by rw [hRf]; exact Nat.le_of_ble_eq_true rfl, by rw [hRl]; exact Nat.le_of_ble_eq_true rfl⟩ rfl rfl hl.1 (Nat.le_of_ble_eq_true rfl) dX0_cut_52 (fun rQ stQ hQ => wX0_isOf l E hX x8 (0 : Int32) st12 rQ stQ hQ) hf (fun x13 st14 H locs hw hf => ?_)
    refine fb_zne (tgt := 91) hx hb dX0_cut_55 (by decide) hf (fun hf => ?_) (fun hf => ?_)
    · refine fb_iinc (v := (1 : Int32)) (lv' := [(4, .int (x8 + (1 : Int32))), (3, .int x5), (0, .ref (eb E + 0)), (1, .int p1), (2, .int p2)]) hx hb dX0_cut_91 hl (k := 0) rfl (by decide) (by decide) rfl (fun ls hl => ?_)
      refine lv_goto (tgt := 32) hx hb dX0_cut_94 (by decide) ?_
      exact hrec10 _ _ hf _ _ _ (lv_sub hl [0, 1, 2, 3, 4] rfl) hw
    refine lv_iload hx hb dX0_cut_58 (lv_at hl 0 rfl) ?_
    refine lv_iload_n hx hb dX0_cut_60 rfl (lv_at hl 3 rfl) ?_
    refine fc_Si (rest := []) (As := [.int x8, .int p1]) X hw hm_X0_isOf (lw_S q1231 q1232 q111 q1233) ⟨rfl, rfl⟩ ⟨by rw [hRf]; exact Nat.le_of_ble_eq_true rfl, by rw [hRl]; exact Nat.le_of_ble_eq_true rfl⟩ rfl rfl hl.1 (Nat.le_of_ble_eq_true rfl) dX0_cut_61 (fun rQ stQ hQ => wX0_isOf l E hX x8 p1 st14 rQ stQ hQ) hf (fun x15 st16 H locs hw hf => ?_)
    refine fb_zne (tgt := 91) hx hb dX0_cut_64 (by decide) hf (fun hf => ?_) (fun hf => ?_)
    · refine fb_iinc (v := (1 : Int32)) (lv' := [(4, .int (x8 + (1 : Int32))), (3, .int x5), (0, .ref (eb E + 0)), (1, .int p1), (2, .int p2)]) hx hb dX0_cut_91 hl (k := 0) rfl (by decide) (by decide) rfl (fun ls hl => ?_)
      refine lv_goto (tgt := 32) hx hb dX0_cut_94 (by decide) ?_
      exact hrec10 _ _ hf _ _ _ (lv_sub hl [0, 1, 2, 3, 4] rfl) hw
    refine lv_aload_n hx hb dX0_cut_67 rfl (lv_at hl 2 rfl) ?_
    refine lv_iload_n hx hb dX0_cut_68 rfl (lv_at hl 3 rfl) ?_
    refine lv_iload hx hb dX0_cut_69 (lv_at hl 0 rfl) ?_
    refine fc_Vi (rest := []) (As := [.int p1, .int x8]) X hw hm_X0_wayOf (lw_V q1389 q1391 qs32 q111 q1392) ⟨rfl, rfl⟩ ⟨by rw [hRf]; exact Nat.le_of_ble_eq_true rfl, by rw [hRl]; exact Nat.le_of_ble_eq_true rfl⟩ fc_X0 rfl (hx0 hX) rfl rfl hl.1 (Nat.le_of_ble_eq_true rfl) dX0_cut_71 (fun rQ stQ hQ => wX0_wayOf l E hX G p1 x8 st16 rQ stQ hQ) hf (fun x17 st18 H locs hw hf => ?_)
    refine lv_ldcw (v := (1000000 : Int32)) hx hb X.1.2.2.2.1 (X.1.2.2.2.2 _ q1375) dX0_cut_74 ?_
    refine fb_ine (tgt := 91) hx hb dX0_cut_77 (by decide) hf (fun hf => ?_) (fun hf => ?_)
    · refine fb_iinc (v := (1 : Int32)) (lv' := [(4, .int (x8 + (1 : Int32))), (3, .int x5), (0, .ref (eb E + 0)), (1, .int p1), (2, .int p2)]) hx hb dX0_cut_91 hl (k := 0) rfl (by decide) (by decide) rfl (fun ls hl => ?_)
      refine lv_goto (tgt := 32) hx hb dX0_cut_94 (by decide) ?_
      exact hrec10 _ _ hf _ _ _ (lv_sub hl [0, 1, 2, 3, 4] rfl) hw
    refine lv_iload_n hx hb dX0_cut_80 rfl (lv_at hl 4 rfl) ?_
    refine fb_zne (tgt := 88) hx hb dX0_cut_81 (by decide) hf (fun hf => ?_) (fun hf => ?_)
    · refine lv_iload hx hb dX0_cut_88 (lv_at hl 0 rfl) ?_
      exact fd_i hend hw hf dX0_cut_90
    refine lv_iload_n hx hb dX0_cut_84 rfl (lv_at hl 1 rfl) ?_
    refine lv_goto (tgt := 90) hx hb dX0_cut_85 (by decide) ?_
    exact fd_i hend hw hf dX0_cut_90
  refine lv_iconst (v := (-1 : Int32)) hx hb dX0_cut_20 (by decide) ?_
  exact fd_i hend hw hf dX0_cut_21

/-- ForestRooms.share -/
def fX0_share (tg : Nat → Nat × Nat) (G : Nat) (p1 : Int32) (p2 : Int32) (st0 : fo_St) : Option (Int32 × fo_St) := bd_ (fX0_in p1 (0 : Int32) (99999 : Int32) st0) (fun x1 st2 => if x1 = 0 then some ((-1 : Int32), st2) else bd_ (fX0_isRoom p2 st2) (fun x3 st4 => if ¬ x3 = 0 then lp3_ (fun rec8 (x5 : Int32) (x6 : Int64) (st7 : fo_St) => if (16 : Int32) ≤ x5 then if ¬ x6 = (0 : Int64) then lL_ (p1.toInt64) (fun x9 => lp3_ (fun rec13 (x10 : Int32) (x11 : Int64) (st12 : fo_St) => if (16 : Int32) ≤ x10 then lp3_ (fun rec17 (x14 : Int32) (x15 : Int32) (st16 : fo_St) => if (16 : Int32) ≤ x14 then bd_ (fX0_at tg G p2 (8 : Int32) st16) (fun x18 st19 => ck_ (decide (¬ x6 = 0)) (if x11 ≤ x15.toInt64 then some ((((p1.toInt64 * x18.toInt64) / x6).toInt32 + (0 : Int32)), st19) else some ((((p1.toInt64 * x18.toInt64) / x6).toInt32 + (1 : Int32)), st19))) else ck_ (fo_in x14 16) (ck_ (fo_in p2 16) (if (gl_ st16 41 p2.toNatClampNeg) < (gl_ st16 41 x14.toNatClampNeg) then lI_ (x15 + (1 : Int32)) (fun x20 => rec17 (x14 + (1 : Int32)) x20 st16) else ck_ (fo_in x14 16) (ck_ (fo_in p2 16) (if ¬ (gl_ st16 41 x14.toNatClampNeg) = (gl_ st16 41 p2.toNatClampNeg) then lI_ (x15 + (0 : Int32)) (fun x21 => rec17 (x14 + (1 : Int32)) x21 st16) else if p2 ≤ x14 then lI_ (x15 + (0 : Int32)) (fun x22 => rec17 (x14 + (1 : Int32)) x22 st16) else lI_ (x15 + (1 : Int32)) (fun x23 => rec17 (x14 + (1 : Int32)) x23 st16)))))) G (0 : Int32) (0 : Int32) st12 else bd_ (fX0_at tg G x10 (8 : Int32) st12) (fun x24 st25 => ck_ (decide (¬ x6 = 0)) (lL_ (x11 - ((p1.toInt64 * x24.toInt64) / x6)) (fun x26 => bd_ (fX0_at tg G x10 (8 : Int32) st25) (fun x27 st28 => ck_ (decide (¬ x6 = 0)) (ck_ (fo_in x10 16) (lt_ (sl_ st28 41 x10.toNatClampNeg (lrem_ (p1.toInt64 * x27.toInt64) x6)) (fun st29 => rec13 (x10 + (1 : Int32)) x26 st29)))))))) G (0 : Int32) x9 st7) else some ((-1 : Int32), st7) else bd_ (fX0_at tg G x5 (8 : Int32) st7) (fun x30 st31 => lL_ (x6 + x30.toInt64) (fun x32 => rec8 (x5 + (1 : Int32)) x32 st31))) G (0 : Int32) (0 : Int64) st4 else some ((-1 : Int32), st4)))
theorem hm_X0_share : fo_M yX0_share 2 := ⟨by decide +kernel, by decide +kernel, by decide +kernel, by decide +kernel⟩
set_option maxHeartbeats 4000000 in
theorem wX0_share (l : Launch) (E : fo_E) (hX : fo_HX E) (G : Nat) (p1 : Int32) (p2 : Int32) (st0 : fo_St) (rZ : Int32) (stZ : fo_St) (hf : fX0_share (et E) G p1 p2 st0 = some (rZ, stZ)) : CTi l E yX0_share (ws_ yX0_share cX0_share 9 (some .int)) ({ frames := 132, cells := 0, slots := 0, locals := 7781 }) [.ref (eb E + 0), .int p1, .int p2] st0 rZ stZ := by
  refine fe_i hm_X0_share (Nat.le_of_ble_eq_true rfl) (fun p e R s m args below meth c Q hRf hRl X hend ls hl hw => ?_)
  have hx := X.1.1
  have hb := X.1.2.1
  have hl : lv_has ls 9 [(0, .ref (eb E + 0)), (1, .int p1), (2, .int p2)] := hl
  unfold fX0_share at hf
  generalize s.heap = H at hw ⊢
  generalize ([] : List Loc) = locs at hw ⊢
  refine lv_iload_n hx hb dX0_share_0 rfl (lv_at hl 1 rfl) ?_
  refine lv_iconst (v := (0 : Int32)) hx hb dX0_share_1 (by decide) ?_
  refine lv_ldcw (v := (99999 : Int32)) hx hb X.1.2.2.2.1 (X.1.2.2.2.2 _ q1405) dX0_share_2 ?_
  refine fc_Si (rest := []) (As := [.int p1, .int (0 : Int32), .int (99999 : Int32)]) X hw hm_X0_in (lw_S q437 q438 q111 q439) ⟨rfl, rfl⟩ ⟨by rw [hRf]; exact Nat.le_of_ble_eq_true rfl, by rw [hRl]; exact Nat.le_of_ble_eq_true rfl⟩ rfl rfl hl.1 (Nat.le_of_ble_eq_true rfl) dX0_share_5 (fun rQ stQ hQ => wX0_in l E hX p1 (0 : Int32) (99999 : Int32) st0 rQ stQ hQ) hf (fun x1 st2 H locs hw hf => ?_)
  refine fb_zeq (tgt := 18) hx hb dX0_share_8 (by decide) hf (fun hf => ?_) (fun hf => ?_)
  · refine lv_iconst (v := (-1 : Int32)) hx hb dX0_share_18 (by decide) ?_
    exact fd_i hend hw hf dX0_share_19
  refine lv_iload_n hx hb dX0_share_11 rfl (lv_at hl 2 rfl) ?_
  refine fc_Si (rest := []) (As := [.int p2]) X hw hm_X0_isRoom (lw_S q546 q547 q111 q548) ⟨rfl, rfl⟩ ⟨by rw [hRf]; exact Nat.le_of_ble_eq_true rfl, by rw [hRl]; exact Nat.le_of_ble_eq_true rfl⟩ rfl rfl hl.1 (Nat.le_of_ble_eq_true rfl) dX0_share_12 (fun rQ stQ hQ => wX0_isRoom l E hX p2 st2 rQ stQ hQ) hf (fun x3 st4 H locs hw hf => ?_)
  refine fb_zne (tgt := 20) hx hb dX0_share_15 (by decide) hf (fun hf => ?_) (fun hf => ?_)
  · refine lv_lconst (v := (0 : Int64)) hx hb dX0_share_20 rfl ?_
    refine lv_lstore_n (lv' := [(3, .long (0 : Int64)), (0, .ref (eb E + 0)), (1, .int p1), (2, .int p2)]) hx hb dX0_share_21 rfl hl (by decide) rfl (fun ls hl => ?_)
    refine lv_iconst (v := (0 : Int32)) hx hb dX0_share_22 (by decide) ?_
    refine lv_istore (lv' := [(5, .int (0 : Int32)), (3, .long (0 : Int64)), (0, .ref (eb E + 0)), (1, .int p1), (2, .int p2)]) hx hb dX0_share_23 hl (by decide) rfl (fun ls hl => ?_)
    refine lp3_e (P := fun x5 x6 st7 => ∀ (H : Heap) (locs : List Loc) (ls : Array Slot), lv_has ls 9 [(5, .int x5), (3, .long x6), (0, .ref (eb E + 0)), (1, .int p1), (2, .int p2)] → fo_S E s st7 H locs → W p l e R s m args below meth c H locs 0 0 Q (F0 m 25 ls [])) (fun rec8 hrec8 x5 x6 st7 hf => ?_) G _ _ _ hf H locs ls (lv_sub hl [0, 1, 2, 3, 4] rfl) hw
    intro H locs ls hl hw
    refine lv_iload hx hb dX0_share_25 (lv_at hl 0 rfl) ?_
    refine lv_bipush (v := (16 : Int32)) hx hb dX0_share_27 (by decide) ?_
    refine fb_ige (tgt := 50) hx hb dX0_share_29 (by decide) hf (fun hf => ?_) (fun hf => ?_)
    · refine lv_lload_n hx hb dX0_share_50 rfl (lv_at hl 1 rfl) ?_
      refine lv_lconst (v := (0 : Int64)) hx hb dX0_share_51 rfl ?_
      refine fb_lne (tgt := 58) hx hb dX0_share_52 dX0_share_53 (by decide) hf (fun hf => ?_) (fun hf => ?_)
      · refine lv_iload_n hx hb dX0_share_58 rfl (lv_at hl 3 rfl) ?_
        refine lv_i2l (v := p1.toInt64) hx hb dX0_share_59 rfl ?_
        refine fo_tL hf (fun x9 hf => ?_)
        refine lv_lstore (lv' := [(5, .long x9), (3, .long x6), (0, .ref (eb E + 0)), (1, .int p1), (2, .int p2)]) hx hb dX0_share_60 hl (by decide) rfl (fun ls hl => ?_)
        refine lv_iconst (v := (0 : Int32)) hx hb dX0_share_62 (by decide) ?_
        refine lv_istore (lv' := [(7, .int (0 : Int32)), (5, .long x9), (3, .long x6), (0, .ref (eb E + 0)), (1, .int p1), (2, .int p2)]) hx hb dX0_share_63 hl (by decide) rfl (fun ls hl => ?_)
        refine lp3_e (P := fun x10 x11 st12 => ∀ (H : Heap) (locs : List Loc) (ls : Array Slot), lv_has ls 9 [(7, .int x10), (5, .long x11), (3, .long x6), (0, .ref (eb E + 0)), (1, .int p1), (2, .int p2)] → fo_S E s st12 H locs → W p l e R s m args below meth c H locs 0 0 Q (F0 m 65 ls [])) (fun rec13 hrec13 x10 x11 st12 hf => ?_) G _ _ _ hf H locs ls (lv_sub hl [0, 1, 2, 3, 4, 5] rfl) hw
        intro H locs ls hl hw
        refine lv_iload hx hb dX0_share_65 (lv_at hl 0 rfl) ?_
        refine lv_bipush (v := (16 : Int32)) hx hb dX0_share_67 (by decide) ?_
        refine fb_ige (tgt := 118) hx hb dX0_share_69 (by decide) hf (fun hf => ?_) (fun hf => ?_)
        · refine lv_iconst (v := (0 : Int32)) hx hb dX0_share_118 (by decide) ?_
          refine lv_istore (lv' := [(7, .int (0 : Int32)), (5, .long x11), (3, .long x6), (0, .ref (eb E + 0)), (1, .int p1), (2, .int p2)]) hx hb dX0_share_119 hl (by decide) rfl (fun ls hl => ?_)
          refine lv_iconst (v := (0 : Int32)) hx hb dX0_share_121 (by decide) ?_
          refine lv_istore (lv' := [(8, .int (0 : Int32)), (7, .int (0 : Int32)), (5, .long x11), (3, .long x6), (0, .ref (eb E + 0)), (1, .int p1), (2, .int p2)]) hx hb dX0_share_122 hl (by decide) rfl (fun ls hl => ?_)
          refine lp3_e (P := fun x14 x15 st16 => ∀ (H : Heap) (locs : List Loc) (ls : Array Slot), lv_has ls 9 [(8, .int x14), (7, .int x15), (5, .long x11), (3, .long x6), (0, .ref (eb E + 0)), (1, .int p1), (2, .int p2)] → fo_S E s st16 H locs → W p l e R s m args below meth c H locs 0 0 Q (F0 m 124 ls [])) (fun rec17 hrec17 x14 x15 st16 hf => ?_) G _ _ _ hf H locs ls (lv_sub hl [0, 1, 2, 3, 4, 5, 6] rfl) hw
          intro H locs ls hl hw
          refine lv_iload hx hb dX0_share_124 (lv_at hl 0 rfl) ?_
          refine lv_bipush (v := (16 : Int32)) hx hb dX0_share_126 (by decide) ?_
          refine fb_ige (tgt := 187) hx hb dX0_share_128 (by decide) hf (fun hf => ?_) (fun hf => ?_)
          · refine lv_iload_n hx hb dX0_share_187 rfl (lv_at hl 5 rfl) ?_
            refine lv_i2l (v := p1.toInt64) hx hb dX0_share_188 rfl ?_
            refine lv_aload_n hx hb dX0_share_189 rfl (lv_at hl 4 rfl) ?_
            refine lv_iload_n hx hb dX0_share_190 rfl (lv_at hl 6 rfl) ?_
            refine lv_bipush (v := (8 : Int32)) hx hb dX0_share_191 (by decide) ?_
            refine fc_Vi (rest := [.long p1.toInt64]) (As := [.int p2, .int (8 : Int32)]) X hw hm_X0_at (lw_V q1406 q557 q558 q111 q559) ⟨rfl, rfl⟩ ⟨by rw [hRf]; exact Nat.le_of_ble_eq_true rfl, by rw [hRl]; exact Nat.le_of_ble_eq_true rfl⟩ fc_X0 rfl (hx0 hX) rfl rfl hl.1 (Nat.le_of_ble_eq_true rfl) dX0_share_193 (fun rQ stQ hQ => wX0_at l E hX G p2 (8 : Int32) st16 rQ stQ hQ) hf (fun x18 st19 H locs hw hf => ?_)
            refine lv_i2l (v := x18.toInt64) hx hb dX0_share_196 rfl ?_
            refine lv_lmul hx hb dX0_share_197 ?_
            refine lv_lload_n hx hb dX0_share_198 rfl (lv_at hl 3 rfl) ?_
            refine fb_ldivC hx hb dX0_share_199 hf (fun hf => ?_)
            refine lv_l2i (v := ((p1.toInt64 * x18.toInt64) / x6).toInt32) hx hb dX0_share_200 rfl ?_
            refine lv_iload hx hb dX0_share_201 (lv_at hl 1 rfl) ?_
            refine lv_i2l (v := x15.toInt64) hx hb dX0_share_203 rfl ?_
            refine lv_lload hx hb dX0_share_204 (lv_at hl 2 rfl) ?_
            refine fb_lge (tgt := 214) hx hb dX0_share_206 dX0_share_207 (by decide) hf (fun hf => ?_) (fun hf => ?_)
            · refine lv_iconst (v := (0 : Int32)) hx hb dX0_share_214 (by decide) ?_
              refine lv_iadd hx hb dX0_share_215 ?_
              exact fd_i hend hw hf dX0_share_216
            refine lv_iconst (v := (1 : Int32)) hx hb dX0_share_210 (by decide) ?_
            refine lv_goto (tgt := 215) hx hb dX0_share_211 (by decide) ?_
            refine lv_iadd hx hb dX0_share_215 ?_
            exact fd_i hend hw hf dX0_share_216
          refine lv_iload hx hb dX0_share_131 (lv_at hl 1 rfl) ?_
          refine lv_aload_n hx hb dX0_share_133 rfl (lv_at hl 4 rfl) ?_
          refine fo_gets X hw fc_X0 (hx0 hX) (k := 25) (d := 41) (n2 := 41) (by decide) rfl rfl q370 dX0_share_134 ?_
          refine lv_iload hx hb dX0_share_137 (lv_at hl 0 rfl) ?_
          refine fo_lald X hw (hx41 hX) dX0_share_139 hf (fun hf => ?_)
          refine lv_aload_n hx hb dX0_share_140 rfl (lv_at hl 4 rfl) ?_
          refine fo_gets X hw fc_X0 (hx0 hX) (k := 25) (d := 41) (n2 := 41) (by decide) rfl rfl q370 dX0_share_141 ?_
          refine lv_iload_n hx hb dX0_share_144 rfl (lv_at hl 6 rfl) ?_
          refine fo_lald X hw (hx41 hX) dX0_share_145 hf (fun hf => ?_)
          refine fb_lgt (tgt := 173) hx hb dX0_share_146 dX0_share_147 (by decide) hf (fun hf => ?_) (fun hf => ?_)
          · refine lv_iconst (v := (1 : Int32)) hx hb dX0_share_173 (by decide) ?_
            refine lv_goto (tgt := 178) hx hb dX0_share_174 (by decide) ?_
            refine lv_iadd hx hb dX0_share_178 ?_
            refine fo_tI hf (fun x20 hf => ?_)
            refine lv_istore (lv' := [(7, .int x20), (8, .int x14), (5, .long x11), (3, .long x6), (0, .ref (eb E + 0)), (1, .int p1), (2, .int p2)]) hx hb dX0_share_179 hl (by decide) rfl (fun ls hl => ?_)
            refine fb_iinc (v := (1 : Int32)) (lv' := [(8, .int (x14 + (1 : Int32))), (7, .int x20), (5, .long x11), (3, .long x6), (0, .ref (eb E + 0)), (1, .int p1), (2, .int p2)]) hx hb dX0_share_181 hl (k := 1) rfl (by decide) (by decide) rfl (fun ls hl => ?_)
            refine lv_goto (tgt := 124) hx hb dX0_share_184 (by decide) ?_
            exact hrec17 _ _ _ hf _ _ _ (lv_sub hl [0, 1, 2, 3, 4, 5, 6] rfl) hw
          refine lv_aload_n hx hb dX0_share_150 rfl (lv_at hl 4 rfl) ?_
          refine fo_gets X hw fc_X0 (hx0 hX) (k := 25) (d := 41) (n2 := 41) (by decide) rfl rfl q370 dX0_share_151 ?_
          refine lv_iload hx hb dX0_share_154 (lv_at hl 0 rfl) ?_
          refine fo_lald X hw (hx41 hX) dX0_share_156 hf (fun hf => ?_)
          refine lv_aload_n hx hb dX0_share_157 rfl (lv_at hl 4 rfl) ?_
          refine fo_gets X hw fc_X0 (hx0 hX) (k := 25) (d := 41) (n2 := 41) (by decide) rfl rfl q370 dX0_share_158 ?_
          refine lv_iload_n hx hb dX0_share_161 rfl (lv_at hl 6 rfl) ?_
          refine fo_lald X hw (hx41 hX) dX0_share_162 hf (fun hf => ?_)
          refine fb_lne (tgt := 177) hx hb dX0_share_163 dX0_share_164 (by decide) hf (fun hf => ?_) (fun hf => ?_)
          · refine lv_iconst (v := (0 : Int32)) hx hb dX0_share_177 (by decide) ?_
            refine lv_iadd hx hb dX0_share_178 ?_
            refine fo_tI hf (fun x21 hf => ?_)
            refine lv_istore (lv' := [(7, .int x21), (8, .int x14), (5, .long x11), (3, .long x6), (0, .ref (eb E + 0)), (1, .int p1), (2, .int p2)]) hx hb dX0_share_179 hl (by decide) rfl (fun ls hl => ?_)
            refine fb_iinc (v := (1 : Int32)) (lv' := [(8, .int (x14 + (1 : Int32))), (7, .int x21), (5, .long x11), (3, .long x6), (0, .ref (eb E + 0)), (1, .int p1), (2, .int p2)]) hx hb dX0_share_181 hl (k := 1) rfl (by decide) (by decide) rfl (fun ls hl => ?_)
            refine lv_goto (tgt := 124) hx hb dX0_share_184 (by decide) ?_
            exact hrec17 _ _ _ hf _ _ _ (lv_sub hl [0, 1, 2, 3, 4, 5, 6] rfl) hw
          refine lv_iload hx hb dX0_share_167 (lv_at hl 0 rfl) ?_
          refine lv_iload_n hx hb dX0_share_169 rfl (lv_at hl 6 rfl) ?_
          refine fb_ige (tgt := 177) hx hb dX0_share_170 (by decide) hf (fun hf => ?_) (fun hf => ?_)
          · refine lv_iconst (v := (0 : Int32)) hx hb dX0_share_177 (by decide) ?_
            refine lv_iadd hx hb dX0_share_178 ?_
            refine fo_tI hf (fun x22 hf => ?_)
            refine lv_istore (lv' := [(7, .int x22), (8, .int x14), (5, .long x11), (3, .long x6), (0, .ref (eb E + 0)), (1, .int p1), (2, .int p2)]) hx hb dX0_share_179 hl (by decide) rfl (fun ls hl => ?_)
            refine fb_iinc (v := (1 : Int32)) (lv' := [(8, .int (x14 + (1 : Int32))), (7, .int x22), (5, .long x11), (3, .long x6), (0, .ref (eb E + 0)), (1, .int p1), (2, .int p2)]) hx hb dX0_share_181 hl (k := 1) rfl (by decide) (by decide) rfl (fun ls hl => ?_)
            refine lv_goto (tgt := 124) hx hb dX0_share_184 (by decide) ?_
            exact hrec17 _ _ _ hf _ _ _ (lv_sub hl [0, 1, 2, 3, 4, 5, 6] rfl) hw
          refine lv_iconst (v := (1 : Int32)) hx hb dX0_share_173 (by decide) ?_
          refine lv_goto (tgt := 178) hx hb dX0_share_174 (by decide) ?_
          refine lv_iadd hx hb dX0_share_178 ?_
          refine fo_tI hf (fun x23 hf => ?_)
          refine lv_istore (lv' := [(7, .int x23), (8, .int x14), (5, .long x11), (3, .long x6), (0, .ref (eb E + 0)), (1, .int p1), (2, .int p2)]) hx hb dX0_share_179 hl (by decide) rfl (fun ls hl => ?_)
          refine fb_iinc (v := (1 : Int32)) (lv' := [(8, .int (x14 + (1 : Int32))), (7, .int x23), (5, .long x11), (3, .long x6), (0, .ref (eb E + 0)), (1, .int p1), (2, .int p2)]) hx hb dX0_share_181 hl (k := 1) rfl (by decide) (by decide) rfl (fun ls hl => ?_)
          refine lv_goto (tgt := 124) hx hb dX0_share_184 (by decide) ?_
          exact hrec17 _ _ _ hf _ _ _ (lv_sub hl [0, 1, 2, 3, 4, 5, 6] rfl) hw
        refine lv_lload hx hb dX0_share_72 (lv_at hl 1 rfl) ?_
        refine lv_iload_n hx hb dX0_share_74 rfl (lv_at hl 4 rfl) ?_
        refine lv_i2l (v := p1.toInt64) hx hb dX0_share_75 rfl ?_
        refine lv_aload_n hx hb dX0_share_76 rfl (lv_at hl 3 rfl) ?_
        refine lv_iload hx hb dX0_share_77 (lv_at hl 0 rfl) ?_
        refine lv_bipush (v := (8 : Int32)) hx hb dX0_share_79 (by decide) ?_
        refine fc_Vi (rest := [.long p1.toInt64, .long x11]) (As := [.int x10, .int (8 : Int32)]) X hw hm_X0_at (lw_V q1406 q557 q558 q111 q559) ⟨rfl, rfl⟩ ⟨by rw [hRf]; exact Nat.le_of_ble_eq_true rfl, by rw [hRl]; exact Nat.le_of_ble_eq_true rfl⟩ fc_X0 rfl (hx0 hX) rfl rfl hl.1 (Nat.le_of_ble_eq_true rfl) dX0_share_81 (fun rQ stQ hQ => wX0_at l E hX G x10 (8 : Int32) st12 rQ stQ hQ) hf (fun x24 st25 H locs hw hf => ?_)
        refine lv_i2l (v := x24.toInt64) hx hb dX0_share_84 rfl ?_
        refine lv_lmul hx hb dX0_share_85 ?_
        refine lv_lload_n hx hb dX0_share_86 rfl (lv_at hl 2 rfl) ?_
        refine fb_ldivC hx hb dX0_share_87 hf (fun hf => ?_)
        refine lv_lsub hx hb dX0_share_88 ?_
        refine fo_tL hf (fun x26 hf => ?_)
        refine lv_lstore (lv' := [(5, .long x26), (7, .int x10), (3, .long x6), (0, .ref (eb E + 0)), (1, .int p1), (2, .int p2)]) hx hb dX0_share_89 hl (by decide) rfl (fun ls hl => ?_)
        refine lv_aload_n hx hb dX0_share_91 rfl (lv_at hl 3 rfl) ?_
        refine fo_gets X hw fc_X0 (hx0 hX) (k := 25) (d := 41) (n2 := 41) (by decide) rfl rfl q370 dX0_share_92 ?_
        refine lv_iload hx hb dX0_share_95 (lv_at hl 1 rfl) ?_
        refine lv_iload_n hx hb dX0_share_97 rfl (lv_at hl 4 rfl) ?_
        refine lv_i2l (v := p1.toInt64) hx hb dX0_share_98 rfl ?_
        refine lv_aload_n hx hb dX0_share_99 rfl (lv_at hl 3 rfl) ?_
        refine lv_iload hx hb dX0_share_100 (lv_at hl 1 rfl) ?_
        refine lv_bipush (v := (8 : Int32)) hx hb dX0_share_102 (by decide) ?_
        refine fc_Vi (rest := [.long p1.toInt64, .int x10, .ref (eb E + 41)]) (As := [.int x10, .int (8 : Int32)]) X hw hm_X0_at (lw_V q1406 q557 q558 q111 q559) ⟨rfl, rfl⟩ ⟨by rw [hRf]; exact Nat.le_of_ble_eq_true rfl, by rw [hRl]; exact Nat.le_of_ble_eq_true rfl⟩ fc_X0 rfl (hx0 hX) rfl rfl hl.1 (Nat.le_of_ble_eq_true rfl) dX0_share_104 (fun rQ stQ hQ => wX0_at l E hX G x10 (8 : Int32) st25 rQ stQ hQ) hf (fun x27 st28 H locs hw hf => ?_)
        refine lv_i2l (v := x27.toInt64) hx hb dX0_share_107 rfl ?_
        refine lv_lmul hx hb dX0_share_108 ?_
        refine lv_lload_n hx hb dX0_share_109 rfl (lv_at hl 2 rfl) ?_
        refine fb_lremC hx hb dX0_share_110 hf (fun hf => ?_)
        refine fo_last X hw (hx41 hX) dX0_share_111 hf (fun st29 H locs hw hf => ?_)
        refine fb_iinc (v := (1 : Int32)) (lv' := [(7, .int (x10 + (1 : Int32))), (5, .long x26), (3, .long x6), (0, .ref (eb E + 0)), (1, .int p1), (2, .int p2)]) hx hb dX0_share_112 hl (k := 1) rfl (by decide) (by decide) rfl (fun ls hl => ?_)
        refine lv_goto (tgt := 65) hx hb dX0_share_115 (by decide) ?_
        exact hrec13 _ _ _ hf _ _ _ (lv_sub hl [0, 1, 2, 3, 4, 5] rfl) hw
      refine lv_iconst (v := (-1 : Int32)) hx hb dX0_share_56 (by decide) ?_
      exact fd_i hend hw hf dX0_share_57
    refine lv_lload_n hx hb dX0_share_32 rfl (lv_at hl 1 rfl) ?_
    refine lv_aload_n hx hb dX0_share_33 rfl (lv_at hl 2 rfl) ?_
    refine lv_iload hx hb dX0_share_34 (lv_at hl 0 rfl) ?_
    refine lv_bipush (v := (8 : Int32)) hx hb dX0_share_36 (by decide) ?_
    refine fc_Vi (rest := [.long x6]) (As := [.int x5, .int (8 : Int32)]) X hw hm_X0_at (lw_V q1406 q557 q558 q111 q559) ⟨rfl, rfl⟩ ⟨by rw [hRf]; exact Nat.le_of_ble_eq_true rfl, by rw [hRl]; exact Nat.le_of_ble_eq_true rfl⟩ fc_X0 rfl (hx0 hX) rfl rfl hl.1 (Nat.le_of_ble_eq_true rfl) dX0_share_38 (fun rQ stQ hQ => wX0_at l E hX G x5 (8 : Int32) st7 rQ stQ hQ) hf (fun x30 st31 H locs hw hf => ?_)
    refine lv_i2l (v := x30.toInt64) hx hb dX0_share_41 rfl ?_
    refine lv_ladd hx hb dX0_share_42 ?_
    refine fo_tL hf (fun x32 hf => ?_)
    refine lv_lstore_n (lv' := [(3, .long x32), (5, .int x5), (0, .ref (eb E + 0)), (1, .int p1), (2, .int p2)]) hx hb dX0_share_43 rfl hl (by decide) rfl (fun ls hl => ?_)
    refine fb_iinc (v := (1 : Int32)) (lv' := [(5, .int (x5 + (1 : Int32))), (3, .long x32), (0, .ref (eb E + 0)), (1, .int p1), (2, .int p2)]) hx hb dX0_share_44 hl (k := 1) rfl (by decide) (by decide) rfl (fun ls hl => ?_)
    refine lv_goto (tgt := 25) hx hb dX0_share_47 (by decide) ?_
    exact hrec8 _ _ _ hf _ _ _ (lv_sub hl [0, 1, 2, 3, 4] rfl) hw
  refine lv_iconst (v := (-1 : Int32)) hx hb dX0_share_18 (by decide) ?_
  exact fd_i hend hw hf dX0_share_19

/-- ForestRooms.game -/
def fX0_game (G : Nat) (p1 : Int32) (p2 : Int32) (st0 : fo_St) : Option (Int32 × fo_St) := bd_ (fX0_in p1 (0 : Int32) (65535 : Int32) st0) (fun x1 st2 => if x1 = 0 then some ((-1 : Int32), st2) else bd_ (fX0_in p2 (0 : Int32) (2 : Int32) st2) (fun x3 st4 => if ¬ x3 = 0 then lp3_ (fun rec8 (x5 : Int32) (x6 : Int32) (st7 : fo_St) => if (16 : Int32) ≤ x5 then if p2 = 0 then if ¬ p2 = 0 then some ((-1 : Int32), st7) else if ¬ x6 = 0 then some ((1 : Int32), st7) else some ((0 : Int32), st7) else if ¬ x6 = 0 then lp2_ (fun rec11 (x9 : Int32) (st10 : fo_St) => bd_ (fX0_isOf p1 x9 st10) (fun x12 st13 => if ¬ x12 = 0 then bd_ (fX0_table st13) (fun x14 st15 => ck_ (decide (x14 = 3)) (ck_ (fo_in x9 16) (lI_ ((gi_ st15 5 x9.toNatClampNeg) / (10 : Int32)) (fun x16 => lp2_ (fun rec19 (x17 : Int32) (st18 : fo_St) => if (mnI_ (3 : Int32) x16) < x17 then rec11 (x9 + (1 : Int32)) st18 else if ¬ ((x6 ^^^ (irem_ x16 (4 : Int32))) ^^^ (irem_ (x16 - x17) (4 : Int32))) = 0 then rec19 (x17 + (1 : Int32)) st18 else if ¬ p2 = (1 : Int32) then some (((10 : Int32) * x17), st18) else some (x9, st18)) G (1 : Int32) st15)))) else rec11 (x9 + (1 : Int32)) st13)) G (0 : Int32) st7 else if ¬ p2 = 0 then some ((-1 : Int32), st7) else if ¬ x6 = 0 then some ((1 : Int32), st7) else some ((0 : Int32), st7) else bd_ (fX0_isOf p1 x5 st7) (fun x20 st21 => if x20 = 0 then lI_ (x6 ^^^ (0 : Int32)) (fun x22 => rec8 (x5 + (1 : Int32)) x22 st21) else bd_ (fX0_table st21) (fun x23 st24 => ck_ (decide (x23 = 3)) (ck_ (fo_in x5 16) (lI_ (x6 ^^^ (irem_ ((gi_ st24 5 x5.toNatClampNeg) / (10 : Int32)) (4 : Int32))) (fun x25 => rec8 (x5 + (1 : Int32)) x25 st24)))))) G (0 : Int32) (0 : Int32) st4 else some ((-1 : Int32), st4)))
theorem hm_X0_game : fo_M yX0_game 2 := ⟨by decide +kernel, by decide +kernel, by decide +kernel, by decide +kernel⟩
set_option maxHeartbeats 4000000 in
theorem wX0_game (l : Launch) (E : fo_E) (hX : fo_HX E) (G : Nat) (p1 : Int32) (p2 : Int32) (st0 : fo_St) (rZ : Int32) (stZ : fo_St) (hf : fX0_game G p1 p2 st0 = some (rZ, stZ)) : CTi l E yX0_game (ws_ yX0_game cX0_game 7 (some .int)) ({ frames := 1, cells := 0, slots := 0, locals := 30 }) [.ref (eb E + 0), .int p1, .int p2] st0 rZ stZ := by
  refine fe_i hm_X0_game (Nat.le_of_ble_eq_true rfl) (fun p e R s m args below meth c Q hRf hRl X hend ls hl hw => ?_)
  have hx := X.1.1
  have hb := X.1.2.1
  have hl : lv_has ls 7 [(0, .ref (eb E + 0)), (1, .int p1), (2, .int p2)] := hl
  unfold fX0_game at hf
  generalize s.heap = H at hw ⊢
  generalize ([] : List Loc) = locs at hw ⊢
  refine lv_iload_n hx hb dX0_game_0 rfl (lv_at hl 1 rfl) ?_
  refine lv_iconst (v := (0 : Int32)) hx hb dX0_game_1 (by decide) ?_
  refine lv_ldcw (v := (65535 : Int32)) hx hb X.1.2.2.2.1 (X.1.2.2.2.2 _ q1380) dX0_game_2 ?_
  refine fc_Si (rest := []) (As := [.int p1, .int (0 : Int32), .int (65535 : Int32)]) X hw hm_X0_in (lw_S q437 q438 q111 q439) ⟨rfl, rfl⟩ ⟨by rw [hRf]; exact Nat.le_of_ble_eq_true rfl, by rw [hRl]; exact Nat.le_of_ble_eq_true rfl⟩ rfl rfl hl.1 (Nat.le_of_ble_eq_true rfl) dX0_game_5 (fun rQ stQ hQ => wX0_in l E hX p1 (0 : Int32) (65535 : Int32) st0 rQ stQ hQ) hf (fun x1 st2 H locs hw hf => ?_)
  refine fb_zeq (tgt := 20) hx hb dX0_game_8 (by decide) hf (fun hf => ?_) (fun hf => ?_)
  · refine lv_iconst (v := (-1 : Int32)) hx hb dX0_game_20 (by decide) ?_
    exact fd_i hend hw hf dX0_game_21
  refine lv_iload_n hx hb dX0_game_11 rfl (lv_at hl 2 rfl) ?_
  refine lv_iconst (v := (0 : Int32)) hx hb dX0_game_12 (by decide) ?_
  refine lv_iconst (v := (2 : Int32)) hx hb dX0_game_13 (by decide) ?_
  refine fc_Si (rest := []) (As := [.int p2, .int (0 : Int32), .int (2 : Int32)]) X hw hm_X0_in (lw_S q437 q438 q111 q439) ⟨rfl, rfl⟩ ⟨by rw [hRf]; exact Nat.le_of_ble_eq_true rfl, by rw [hRl]; exact Nat.le_of_ble_eq_true rfl⟩ rfl rfl hl.1 (Nat.le_of_ble_eq_true rfl) dX0_game_14 (fun rQ stQ hQ => wX0_in l E hX p2 (0 : Int32) (2 : Int32) st2 rQ stQ hQ) hf (fun x3 st4 H locs hw hf => ?_)
  refine fb_zne (tgt := 22) hx hb dX0_game_17 (by decide) hf (fun hf => ?_) (fun hf => ?_)
  · refine lv_iconst (v := (0 : Int32)) hx hb dX0_game_22 (by decide) ?_
    refine lv_istore_n (lv' := [(3, .int (0 : Int32)), (0, .ref (eb E + 0)), (1, .int p1), (2, .int p2)]) hx hb dX0_game_23 rfl hl (by decide) rfl (fun ls hl => ?_)
    refine lv_iconst (v := (0 : Int32)) hx hb dX0_game_24 (by decide) ?_
    refine lv_istore (lv' := [(4, .int (0 : Int32)), (3, .int (0 : Int32)), (0, .ref (eb E + 0)), (1, .int p1), (2, .int p2)]) hx hb dX0_game_25 hl (by decide) rfl (fun ls hl => ?_)
    refine lp3_e (P := fun x5 x6 st7 => ∀ (H : Heap) (locs : List Loc) (ls : Array Slot), lv_has ls 7 [(4, .int x5), (3, .int x6), (0, .ref (eb E + 0)), (1, .int p1), (2, .int p2)] → fo_S E s st7 H locs → W p l e R s m args below meth c H locs 0 0 Q (F0 m 27 ls [])) (fun rec8 hrec8 x5 x6 st7 hf => ?_) G _ _ _ hf H locs ls (lv_sub hl [0, 1, 2, 3, 4] rfl) hw
    intro H locs ls hl hw
    refine lv_iload hx hb dX0_game_27 (lv_at hl 0 rfl) ?_
    refine lv_bipush (v := (16 : Int32)) hx hb dX0_game_29 (by decide) ?_
    refine fb_ige (tgt := 71) hx hb dX0_game_31 (by decide) hf (fun hf => ?_) (fun hf => ?_)
    · refine lv_iload_n hx hb dX0_game_71 rfl (lv_at hl 4 rfl) ?_
      refine fb_zeq (tgt := 79) hx hb dX0_game_72 (by decide) hf (fun hf => ?_) (fun hf => ?_)
      · refine lv_iload_n hx hb dX0_game_79 rfl (lv_at hl 4 rfl) ?_
        refine fb_zne (tgt := 95) hx hb dX0_game_80 (by decide) hf (fun hf => ?_) (fun hf => ?_)
        · refine lv_iconst (v := (-1 : Int32)) hx hb dX0_game_95 (by decide) ?_
          exact fd_i hend hw hf dX0_game_96
        refine lv_iload_n hx hb dX0_game_83 rfl (lv_at hl 1 rfl) ?_
        refine fb_zne (tgt := 91) hx hb dX0_game_84 (by decide) hf (fun hf => ?_) (fun hf => ?_)
        · refine lv_iconst (v := (1 : Int32)) hx hb dX0_game_91 (by decide) ?_
          refine lv_goto (tgt := 96) hx hb dX0_game_92 (by decide) ?_
          exact fd_i hend hw hf dX0_game_96
        refine lv_iconst (v := (0 : Int32)) hx hb dX0_game_87 (by decide) ?_
        refine lv_goto (tgt := 96) hx hb dX0_game_88 (by decide) ?_
        exact fd_i hend hw hf dX0_game_96
      refine lv_iload_n hx hb dX0_game_75 rfl (lv_at hl 1 rfl) ?_
      refine fb_zne (tgt := 97) hx hb dX0_game_76 (by decide) hf (fun hf => ?_) (fun hf => ?_)
      · refine lv_iconst (v := (0 : Int32)) hx hb dX0_game_97 (by decide) ?_
        refine lv_istore (lv' := [(4, .int (0 : Int32)), (3, .int x6), (0, .ref (eb E + 0)), (1, .int p1), (2, .int p2)]) hx hb dX0_game_98 hl (by decide) rfl (fun ls hl => ?_)
        refine lp2_e (P := fun x9 st10 => ∀ (H : Heap) (locs : List Loc) (ls : Array Slot), lv_has ls 7 [(4, .int x9), (3, .int x6), (0, .ref (eb E + 0)), (1, .int p1), (2, .int p2)] → fo_S E s st10 H locs → W p l e R s m args below meth c H locs 0 0 Q (F0 m 100 ls [])) (fun rec11 hrec11 x9 st10 hf => ?_) G _ _ hf H locs ls (lv_sub hl [0, 1, 2, 3, 4] rfl) hw
        intro H locs ls hl hw
        refine lv_iload_n hx hb dX0_game_100 rfl (lv_at hl 3 rfl) ?_
        refine lv_iload hx hb dX0_game_101 (lv_at hl 0 rfl) ?_
        refine fc_Si (rest := []) (As := [.int p1, .int x9]) X hw hm_X0_isOf (lw_S q1231 q1232 q111 q1233) ⟨rfl, rfl⟩ ⟨by rw [hRf]; exact Nat.le_of_ble_eq_true rfl, by rw [hRl]; exact Nat.le_of_ble_eq_true rfl⟩ rfl rfl hl.1 (Nat.le_of_ble_eq_true rfl) dX0_game_103 (fun rQ stQ hQ => wX0_isOf l E hX p1 x9 st10 rQ stQ hQ) hf (fun x12 st13 H locs hw hf => ?_)
        refine fb_zne (tgt := 112) hx hb dX0_game_106 (by decide) hf (fun hf => ?_) (fun hf => ?_)
        · refine lv_aload_n hx hb dX0_game_112 rfl (lv_at hl 2 rfl) ?_
          refine fc_Vr (rest := []) (As := []) X hw hm_X0_table (lw_V q560 q562 qs6 q111 q563) ⟨rfl, rfl⟩ ⟨by rw [hRf]; exact Nat.le_of_ble_eq_true rfl, by rw [hRl]; exact Nat.le_of_ble_eq_true rfl⟩ fc_X0 rfl (hx0 hX) rfl rfl hl.1 (Nat.le_of_ble_eq_true rfl) dX0_game_113 (fun rQ stQ hQ => wX0_table l E hX st13 rQ stQ hQ) hf (fun x14 st15 H locs hw hf => ?_)
          have hc0 := ck_e hf
          clear hf
          obtain ⟨hc, hf⟩ := hc0
          replace hc := of_decide_eq_true hc
          subst hc
          refine fo_getsN X hw fc_X2 (hx3 hX) (k := 1) (d := 2) (n2 := 5) (by decide) rfl rfl fn171 dX0_game_116 ?_
          refine lv_iload hx hb dX0_game_119 (lv_at hl 0 rfl) ?_
          refine fo_iald X hw (hx5 hX) dX0_game_121 hf (fun hf => ?_)
          refine lv_bipush (v := (10 : Int32)) hx hb dX0_game_122 (by decide) ?_
          refine fb_idivK hx hb dX0_game_124 (by decide) ?_
          refine fo_tI hf (fun x16 hf => ?_)
          refine lv_istore (lv' := [(5, .int x16), (4, .int x9), (3, .int x6), (0, .ref (eb E + 0)), (1, .int p1), (2, .int p2)]) hx hb dX0_game_125 hl (by decide) rfl (fun ls hl => ?_)
          refine lv_iconst (v := (1 : Int32)) hx hb dX0_game_127 (by decide) ?_
          refine lv_istore (lv' := [(6, .int (1 : Int32)), (5, .int x16), (4, .int x9), (3, .int x6), (0, .ref (eb E + 0)), (1, .int p1), (2, .int p2)]) hx hb dX0_game_128 hl (by decide) rfl (fun ls hl => ?_)
          refine lp2_e (P := fun x17 st18 => ∀ (H : Heap) (locs : List Loc) (ls : Array Slot), lv_has ls 7 [(6, .int x17), (5, .int x16), (4, .int x9), (3, .int x6), (0, .ref (eb E + 0)), (1, .int p1), (2, .int p2)] → fo_S E s st18 H locs → W p l e R s m args below meth c H locs 0 0 Q (F0 m 130 ls [])) (fun rec19 hrec19 x17 st18 hf => ?_) G _ _ hf H locs ls (lv_sub hl [0, 1, 2, 3, 4, 5, 6] rfl) hw
          intro H locs ls hl hw
          refine lv_iload hx hb dX0_game_130 (lv_at hl 0 rfl) ?_
          refine lv_iconst (v := (3 : Int32)) hx hb dX0_game_132 (by decide) ?_
          refine lv_iload hx hb dX0_game_133 (lv_at hl 1 rfl) ?_
          refine fo_mnI (rest := [.int x17]) X hl.1 q1295 q509 q124 q510 (by rw [hRf]; exact Nat.le_of_ble_eq_true rfl) (by rw [hRl]; exact Nat.le_of_ble_eq_true rfl) dX0_game_135 ?_
          refine fb_igt (tgt := 180) hx hb dX0_game_138 (by decide) hf (fun hf => ?_) (fun hf => ?_)
          · refine fb_iinc (v := (1 : Int32)) (lv' := [(4, .int (x9 + (1 : Int32))), (6, .int x17), (5, .int x16), (3, .int x6), (0, .ref (eb E + 0)), (1, .int p1), (2, .int p2)]) hx hb dX0_game_180 hl (k := 2) rfl (by decide) (by decide) rfl (fun ls hl => ?_)
            refine lv_goto (tgt := 100) hx hb dX0_game_183 (by decide) ?_
            exact hrec11 _ _ hf _ _ _ (lv_sub hl [0, 3, 4, 5, 6] rfl) hw
          refine lv_iload_n hx hb dX0_game_141 rfl (lv_at hl 3 rfl) ?_
          refine lv_iload hx hb dX0_game_142 (lv_at hl 1 rfl) ?_
          refine lv_iconst (v := (4 : Int32)) hx hb dX0_game_144 (by decide) ?_
          refine fb_iremK hx hb dX0_game_145 (by decide) ?_
          refine lv_ixor hx hb dX0_game_146 ?_
          refine lv_iload hx hb dX0_game_147 (lv_at hl 1 rfl) ?_
          refine lv_iload hx hb dX0_game_149 (lv_at hl 0 rfl) ?_
          refine lv_isub hx hb dX0_game_151 ?_
          refine lv_iconst (v := (4 : Int32)) hx hb dX0_game_152 (by decide) ?_
          refine fb_iremK hx hb dX0_game_153 (by decide) ?_
          refine lv_ixor hx hb dX0_game_154 ?_
          refine fb_zne (tgt := 174) hx hb dX0_game_155 (by decide) hf (fun hf => ?_) (fun hf => ?_)
          · refine fb_iinc (v := (1 : Int32)) (lv' := [(6, .int (x17 + (1 : Int32))), (5, .int x16), (4, .int x9), (3, .int x6), (0, .ref (eb E + 0)), (1, .int p1), (2, .int p2)]) hx hb dX0_game_174 hl (k := 0) rfl (by decide) (by decide) rfl (fun ls hl => ?_)
            refine lv_goto (tgt := 130) hx hb dX0_game_177 (by decide) ?_
            exact hrec19 _ _ hf _ _ _ (lv_sub hl [0, 1, 2, 3, 4, 5, 6] rfl) hw
          refine lv_iload_n hx hb dX0_game_158 rfl (lv_at hl 6 rfl) ?_
          refine lv_iconst (v := (1 : Int32)) hx hb dX0_game_159 (by decide) ?_
          refine fb_ine (tgt := 168) hx hb dX0_game_160 (by decide) hf (fun hf => ?_) (fun hf => ?_)
          · refine lv_bipush (v := (10 : Int32)) hx hb dX0_game_168 (by decide) ?_
            refine lv_iload hx hb dX0_game_170 (lv_at hl 0 rfl) ?_
            refine lv_imul hx hb dX0_game_172 ?_
            exact fd_i hend hw hf dX0_game_173
          refine lv_iload hx hb dX0_game_163 (lv_at hl 2 rfl) ?_
          refine lv_goto (tgt := 173) hx hb dX0_game_165 (by decide) ?_
          exact fd_i hend hw hf dX0_game_173
        refine lv_goto (tgt := 180) hx hb dX0_game_109 (by decide) ?_
        refine fb_iinc (v := (1 : Int32)) (lv' := [(4, .int (x9 + (1 : Int32))), (3, .int x6), (0, .ref (eb E + 0)), (1, .int p1), (2, .int p2)]) hx hb dX0_game_180 hl (k := 0) rfl (by decide) (by decide) rfl (fun ls hl => ?_)
        refine lv_goto (tgt := 100) hx hb dX0_game_183 (by decide) ?_
        exact hrec11 _ _ hf _ _ _ (lv_sub hl [0, 1, 2, 3, 4] rfl) hw
      refine lv_iload_n hx hb dX0_game_79 rfl (lv_at hl 4 rfl) ?_
      refine fb_zne (tgt := 95) hx hb dX0_game_80 (by decide) hf (fun hf => ?_) (fun hf => ?_)
      · refine lv_iconst (v := (-1 : Int32)) hx hb dX0_game_95 (by decide) ?_
        exact fd_i hend hw hf dX0_game_96
      refine lv_iload_n hx hb dX0_game_83 rfl (lv_at hl 1 rfl) ?_
      refine fb_zne (tgt := 91) hx hb dX0_game_84 (by decide) hf (fun hf => ?_) (fun hf => ?_)
      · refine lv_iconst (v := (1 : Int32)) hx hb dX0_game_91 (by decide) ?_
        refine lv_goto (tgt := 96) hx hb dX0_game_92 (by decide) ?_
        exact fd_i hend hw hf dX0_game_96
      refine lv_iconst (v := (0 : Int32)) hx hb dX0_game_87 (by decide) ?_
      refine lv_goto (tgt := 96) hx hb dX0_game_88 (by decide) ?_
      exact fd_i hend hw hf dX0_game_96
    refine lv_iload_n hx hb dX0_game_34 rfl (lv_at hl 1 rfl) ?_
    refine lv_iload_n hx hb dX0_game_35 rfl (lv_at hl 3 rfl) ?_
    refine lv_iload hx hb dX0_game_36 (lv_at hl 0 rfl) ?_
    refine fc_Si (rest := [.int x6]) (As := [.int p1, .int x5]) X hw hm_X0_isOf (lw_S q1231 q1232 q111 q1233) ⟨rfl, rfl⟩ ⟨by rw [hRf]; exact Nat.le_of_ble_eq_true rfl, by rw [hRl]; exact Nat.le_of_ble_eq_true rfl⟩ rfl rfl hl.1 (Nat.le_of_ble_eq_true rfl) dX0_game_38 (fun rQ stQ hQ => wX0_isOf l E hX p1 x5 st7 rQ stQ hQ) hf (fun x20 st21 H locs hw hf => ?_)
    refine fb_zeq (tgt := 62) hx hb dX0_game_41 (by decide) hf (fun hf => ?_) (fun hf => ?_)
    · refine lv_iconst (v := (0 : Int32)) hx hb dX0_game_62 (by decide) ?_
      refine lv_ixor hx hb dX0_game_63 ?_
      refine fo_tI hf (fun x22 hf => ?_)
      refine lv_istore_n (lv' := [(3, .int x22), (4, .int x5), (0, .ref (eb E + 0)), (1, .int p1), (2, .int p2)]) hx hb dX0_game_64 rfl hl (by decide) rfl (fun ls hl => ?_)
      refine fb_iinc (v := (1 : Int32)) (lv' := [(4, .int (x5 + (1 : Int32))), (3, .int x22), (0, .ref (eb E + 0)), (1, .int p1), (2, .int p2)]) hx hb dX0_game_65 hl (k := 1) rfl (by decide) (by decide) rfl (fun ls hl => ?_)
      refine lv_goto (tgt := 27) hx hb dX0_game_68 (by decide) ?_
      exact hrec8 _ _ _ hf _ _ _ (lv_sub hl [0, 1, 2, 3, 4] rfl) hw
    refine lv_aload_n hx hb dX0_game_44 rfl (lv_at hl 2 rfl) ?_
    refine fc_Vr (rest := [.int x6]) (As := []) X hw hm_X0_table (lw_V q560 q562 qs6 q111 q563) ⟨rfl, rfl⟩ ⟨by rw [hRf]; exact Nat.le_of_ble_eq_true rfl, by rw [hRl]; exact Nat.le_of_ble_eq_true rfl⟩ fc_X0 rfl (hx0 hX) rfl rfl hl.1 (Nat.le_of_ble_eq_true rfl) dX0_game_45 (fun rQ stQ hQ => wX0_table l E hX st21 rQ stQ hQ) hf (fun x23 st24 H locs hw hf => ?_)
    have hc0 := ck_e hf
    clear hf
    obtain ⟨hc, hf⟩ := hc0
    replace hc := of_decide_eq_true hc
    subst hc
    refine fo_getsN X hw fc_X2 (hx3 hX) (k := 1) (d := 2) (n2 := 5) (by decide) rfl rfl fn171 dX0_game_48 ?_
    refine lv_iload hx hb dX0_game_51 (lv_at hl 0 rfl) ?_
    refine fo_iald X hw (hx5 hX) dX0_game_53 hf (fun hf => ?_)
    refine lv_bipush (v := (10 : Int32)) hx hb dX0_game_54 (by decide) ?_
    refine fb_idivK hx hb dX0_game_56 (by decide) ?_
    refine lv_iconst (v := (4 : Int32)) hx hb dX0_game_57 (by decide) ?_
    refine fb_iremK hx hb dX0_game_58 (by decide) ?_
    refine lv_goto (tgt := 63) hx hb dX0_game_59 (by decide) ?_
    refine lv_ixor hx hb dX0_game_63 ?_
    refine fo_tI hf (fun x25 hf => ?_)
    refine lv_istore_n (lv' := [(3, .int x25), (4, .int x5), (0, .ref (eb E + 0)), (1, .int p1), (2, .int p2)]) hx hb dX0_game_64 rfl hl (by decide) rfl (fun ls hl => ?_)
    refine fb_iinc (v := (1 : Int32)) (lv' := [(4, .int (x5 + (1 : Int32))), (3, .int x25), (0, .ref (eb E + 0)), (1, .int p1), (2, .int p2)]) hx hb dX0_game_65 hl (k := 1) rfl (by decide) (by decide) rfl (fun ls hl => ?_)
    refine lv_goto (tgt := 27) hx hb dX0_game_68 (by decide) ?_
    exact hrec8 _ _ _ hf _ _ _ (lv_sub hl [0, 1, 2, 3, 4] rfl) hw
  refine lv_iconst (v := (-1 : Int32)) hx hb dX0_game_20 (by decide) ?_
  exact fd_i hend hw hf dX0_game_21

/-- ForestRooms$Table.trees -/
def fX2_trees (G : Nat) (t : Nat) (st0 : fo_St) : Option (Int32 × fo_St) := lp3_ (fun rec4 (x1 : Int32) (x2 : Int32) (st3 : fo_St) => if (16 : Int32) ≤ x1 then some (x2, st3) else bd_ (fX2_isTree t x1 st3) (fun x5 st6 => if x5 = 0 then lI_ (x2 + (0 : Int32)) (fun x7 => rec4 (x1 + (1 : Int32)) x7 st6) else lI_ (x2 + (1 : Int32)) (fun x8 => rec4 (x1 + (1 : Int32)) x8 st6))) G (0 : Int32) (0 : Int32) st0
theorem hm_X2_trees : fo_M yX2_trees 0 := ⟨by decide +kernel, by decide +kernel, by decide +kernel, by decide +kernel⟩
set_option maxHeartbeats 4000000 in
theorem wX2_trees (l : Launch) (E : fo_E) (G : Nat) (t : Nat) (hT_t : fo_tab E t) (st0 : fo_St) (rZ : Int32) (stZ : fo_St) (hf : fX2_trees G t st0 = some (rZ, stZ)) : CTi l E yX2_trees (ws_ yX2_trees cX2_trees 3 (some .int)) ({ frames := 1, cells := 0, slots := 0, locals := 21 }) [.ref (eb E + t)] st0 rZ stZ := by
  refine fe_i hm_X2_trees (Nat.le_of_ble_eq_true rfl) (fun p e R s m args below meth c Q hRf hRl X hend ls hl hw => ?_)
  have hx := X.1.1
  have hb := X.1.2.1
  have hl : lv_has ls 3 [(0, .ref (eb E + t))] := hl
  unfold fX2_trees at hf
  generalize s.heap = H at hw ⊢
  generalize ([] : List Loc) = locs at hw ⊢
  refine lv_iconst (v := (0 : Int32)) hx hb dX2_trees_0 (by decide) ?_
  refine lv_istore_n (lv' := [(1, .int (0 : Int32)), (0, .ref (eb E + t))]) hx hb dX2_trees_1 rfl hl (by decide) rfl (fun ls hl => ?_)
  refine lv_iconst (v := (0 : Int32)) hx hb dX2_trees_2 (by decide) ?_
  refine lv_istore_n (lv' := [(2, .int (0 : Int32)), (1, .int (0 : Int32)), (0, .ref (eb E + t))]) hx hb dX2_trees_3 rfl hl (by decide) rfl (fun ls hl => ?_)
  refine lp3_e (P := fun x1 x2 st3 => ∀ (H : Heap) (locs : List Loc) (ls : Array Slot), lv_has ls 3 [(2, .int x1), (1, .int x2), (0, .ref (eb E + t))] → fo_S E s st3 H locs → W p l e R s m args below meth c H locs 0 0 Q (F0 m 4 ls [])) (fun rec4 hrec4 x1 x2 st3 hf => ?_) G _ _ _ hf H locs ls (lv_sub hl [0, 1, 2] rfl) hw
  intro H locs ls hl hw
  refine lv_iload_n hx hb dX2_trees_4 rfl (lv_at hl 0 rfl) ?_
  refine lv_bipush (v := (16 : Int32)) hx hb dX2_trees_5 (by decide) ?_
  refine fb_ige (tgt := 32) hx hb dX2_trees_7 (by decide) hf (fun hf => ?_) (fun hf => ?_)
  · refine lv_iload_n hx hb dX2_trees_32 rfl (lv_at hl 1 rfl) ?_
    exact fd_i hend hw hf dX2_trees_33
  refine lv_iload_n hx hb dX2_trees_10 rfl (lv_at hl 1 rfl) ?_
  refine lv_aload_n hx hb dX2_trees_11 rfl (lv_at hl 2 rfl) ?_
  refine lv_iload_n hx hb dX2_trees_12 rfl (lv_at hl 0 rfl) ?_
  refine fc_Vi (rest := [.int x2]) (As := [.int x1]) X hw hm_X2_isTree (lw_V q1444 q569 q570 q113 q571) ⟨rfl, rfl⟩ ⟨by rw [hRf]; exact Nat.le_of_ble_eq_true rfl, by rw [hRl]; exact Nat.le_of_ble_eq_true rfl⟩ fc_X2 rfl hT_t.1 rfl rfl hl.1 (Nat.le_of_ble_eq_true rfl) dX2_trees_13 (fun rQ stQ hQ => wX2_isTree l E t x1 hT_t st3 rQ stQ hQ) hf (fun x5 st6 H locs hw hf => ?_)
  refine fb_zeq (tgt := 23) hx hb dX2_trees_16 (by decide) hf (fun hf => ?_) (fun hf => ?_)
  · refine lv_iconst (v := (0 : Int32)) hx hb dX2_trees_23 (by decide) ?_
    refine lv_iadd hx hb dX2_trees_24 ?_
    refine fo_tI hf (fun x7 hf => ?_)
    refine lv_istore_n (lv' := [(1, .int x7), (2, .int x1), (0, .ref (eb E + t))]) hx hb dX2_trees_25 rfl hl (by decide) rfl (fun ls hl => ?_)
    refine fb_iinc (v := (1 : Int32)) (lv' := [(2, .int (x1 + (1 : Int32))), (1, .int x7), (0, .ref (eb E + t))]) hx hb dX2_trees_26 hl (k := 1) rfl (by decide) (by decide) rfl (fun ls hl => ?_)
    refine lv_goto (tgt := 4) hx hb dX2_trees_29 (by decide) ?_
    exact hrec4 _ _ _ hf _ _ _ (lv_sub hl [0, 1, 2] rfl) hw
  refine lv_iconst (v := (1 : Int32)) hx hb dX2_trees_19 (by decide) ?_
  refine lv_goto (tgt := 24) hx hb dX2_trees_20 (by decide) ?_
  refine lv_iadd hx hb dX2_trees_24 ?_
  refine fo_tI hf (fun x8 hf => ?_)
  refine lv_istore_n (lv' := [(1, .int x8), (2, .int x1), (0, .ref (eb E + t))]) hx hb dX2_trees_25 rfl hl (by decide) rfl (fun ls hl => ?_)
  refine fb_iinc (v := (1 : Int32)) (lv' := [(2, .int (x1 + (1 : Int32))), (1, .int x8), (0, .ref (eb E + t))]) hx hb dX2_trees_26 hl (k := 1) rfl (by decide) (by decide) rfl (fun ls hl => ?_)
  refine lv_goto (tgt := 4) hx hb dX2_trees_29 (by decide) ?_
  exact hrec4 _ _ _ hf _ _ _ (lv_sub hl [0, 1, 2] rfl) hw

/-- ForestRooms.tellsOrder -/
def fX0_tellsOrder (G : Nat) (p1 : Int32) (p2 : Int32) (st0 : fo_St) : Option fo_St := bd_ (fX0_table st0) (fun x1 st2 => ck_ (decide (x1 = 3)) (lt_ (sl_ st2 32 (0 : Int32).toNatClampNeg ((gi_ st2 3 3).toInt64)) (fun st3 => bd_ (fX2_trees G 3 st3) (fun x4 st5 => lt_ (sl_ st5 32 (1 : Int32).toNatClampNeg (x4.toInt64)) (fun st6 => lt_ (sl_ st6 32 (2 : Int32).toNatClampNeg (p1.toInt64)) (fun st7 => lt_ (sl_ st7 32 (3 : Int32).toNatClampNeg (p2.toInt64)) (fun st8 => lp2_ (fun rec11 (x9 : Int32) (st10 : fo_St) => if (16 : Int32) ≤ x9 then some st10 else ck_ (fo_in x9 16) (ck_ (fo_in ((4 : Int32) + x9) 52) (lt_ (sl_ st10 32 ((4 : Int32) + x9).toNatClampNeg ((gi_ st10 5 x9.toNatClampNeg).toInt64)) (fun st12 => ck_ (fo_in x9 16) (ck_ (fo_in ((20 : Int32) + x9) 52) (lt_ (sl_ st12 32 ((20 : Int32) + x9).toNatClampNeg ((gi_ st12 4 x9.toNatClampNeg).toInt64)) (fun st13 => ck_ (fo_in x9 16) (ck_ (fo_in ((36 : Int32) + x9) 52) (lt_ (sl_ st13 32 ((36 : Int32) + x9).toNatClampNeg ((gi_ st13 6 x9.toNatClampNeg).toInt64)) (fun st14 => rec11 (x9 + (1 : Int32)) st14)))))))))) G (0 : Int32) st8)))))))
theorem hm_X0_tellsOrder : fo_M yX0_tellsOrder 2 := ⟨by decide +kernel, by decide +kernel, by decide +kernel, by decide +kernel⟩
set_option maxHeartbeats 4000000 in
theorem wX0_tellsOrder (l : Launch) (E : fo_E) (hX : fo_HX E) (G : Nat) (p1 : Int32) (p2 : Int32) (st0 : fo_St) (stZ : fo_St) (hf : fX0_tellsOrder G p1 p2 st0 = some stZ) : CTv l E yX0_tellsOrder (ws_ yX0_tellsOrder cX0_tellsOrder 6 none) ({ frames := 2, cells := 0, slots := 0, locals := 43 }) [.ref (eb E + 0), .int p1, .int p2] st0 stZ := by
  refine fe_v hm_X0_tellsOrder (Nat.le_of_ble_eq_true rfl) (fun p e R s m args below meth c Q hRf hRl X hend ls hl hw => ?_)
  have hx := X.1.1
  have hb := X.1.2.1
  have hl : lv_has ls 6 [(0, .ref (eb E + 0)), (1, .int p1), (2, .int p2)] := hl
  unfold fX0_tellsOrder at hf
  generalize s.heap = H at hw ⊢
  generalize ([] : List Loc) = locs at hw ⊢
  refine lv_aload_n hx hb dX0_tellsOrder_0 rfl (lv_at hl 0 rfl) ?_
  refine fc_Vr (rest := []) (As := []) X hw hm_X0_table (lw_V q560 q562 qs6 q111 q563) ⟨rfl, rfl⟩ ⟨by rw [hRf]; exact Nat.le_of_ble_eq_true rfl, by rw [hRl]; exact Nat.le_of_ble_eq_true rfl⟩ fc_X0 rfl (hx0 hX) rfl rfl hl.1 (Nat.le_of_ble_eq_true rfl) dX0_tellsOrder_1 (fun rQ stQ hQ => wX0_table l E hX st0 rQ stQ hQ) hf (fun x1 st2 H locs hw hf => ?_)
  have hc0 := ck_e hf
  clear hf
  obtain ⟨hc, hf⟩ := hc0
  replace hc := of_decide_eq_true hc
  subst hc
  refine lv_astore_n (lv' := [(3, .ref (eb E + 3)), (0, .ref (eb E + 0)), (1, .int p1), (2, .int p2)]) hx hb dX0_tellsOrder_4 rfl hl (by decide) rfl (fun ls hl => ?_)
  refine lv_aload_n hx hb dX0_tellsOrder_5 rfl (lv_at hl 1 rfl) ?_
  refine fo_gets X hw fc_X0 (hx0 hX) (k := 16) (d := 30) (n2 := 30) (by decide) rfl rfl q361 dX0_tellsOrder_6 ?_
  refine fo_getsN X hw fc_X3 (hx30 hX) (k := 1) (d := 2) (n2 := 32) (by decide) rfl rfl fn338 dX0_tellsOrder_9 ?_
  refine lv_astore (lv' := [(4, .ref (eb E + 32)), (3, .ref (eb E + 3)), (0, .ref (eb E + 0)), (1, .int p1), (2, .int p2)]) hx hb dX0_tellsOrder_12 hl (by decide) rfl (fun ls hl => ?_)
  refine lv_aload hx hb dX0_tellsOrder_14 (lv_at hl 0 rfl) ?_
  refine lv_iconst (v := (0 : Int32)) hx hb dX0_tellsOrder_16 (by decide) ?_
  refine lv_aload_n hx hb dX0_tellsOrder_17 rfl (lv_at hl 1 rfl) ?_
  refine fo_getiN X hw fc_X2 (hx3 hX) (k := 3) (by decide) rfl fn175 dX0_tellsOrder_18 ?_
  refine lv_i2l (v := (gi_ st2 3 3).toInt64) hx hb dX0_tellsOrder_21 rfl ?_
  refine fo_lastK X hw (hx32 hX) dX0_tellsOrder_22 (by decide) hf (fun st3 H locs hw hf => ?_)
  refine lv_aload hx hb dX0_tellsOrder_23 (lv_at hl 0 rfl) ?_
  refine lv_iconst (v := (1 : Int32)) hx hb dX0_tellsOrder_25 (by decide) ?_
  refine lv_aload_n hx hb dX0_tellsOrder_26 rfl (lv_at hl 1 rfl) ?_
  refine fc_Vi (rest := [.int (1 : Int32), .ref (eb E + 32)]) (As := []) X hw hm_X2_trees (lw_V q1440 q1441 q1442 q113 q1443) ⟨rfl, rfl⟩ ⟨by rw [hRf]; exact Nat.le_of_ble_eq_true rfl, by rw [hRl]; exact Nat.le_of_ble_eq_true rfl⟩ fc_X2 rfl (hx3 hX) rfl rfl hl.1 (Nat.le_of_ble_eq_true rfl) dX0_tellsOrder_27 (fun rQ stQ hQ => wX2_trees l E G 3 (hxT3 hX) st3 rQ stQ hQ) hf (fun x4 st5 H locs hw hf => ?_)
  refine lv_i2l (v := x4.toInt64) hx hb dX0_tellsOrder_30 rfl ?_
  refine fo_lastK X hw (hx32 hX) dX0_tellsOrder_31 (by decide) hf (fun st6 H locs hw hf => ?_)
  refine lv_aload hx hb dX0_tellsOrder_32 (lv_at hl 0 rfl) ?_
  refine lv_iconst (v := (2 : Int32)) hx hb dX0_tellsOrder_34 (by decide) ?_
  refine lv_iload_n hx hb dX0_tellsOrder_35 rfl (lv_at hl 3 rfl) ?_
  refine lv_i2l (v := p1.toInt64) hx hb dX0_tellsOrder_36 rfl ?_
  refine fo_lastK X hw (hx32 hX) dX0_tellsOrder_37 (by decide) hf (fun st7 H locs hw hf => ?_)
  refine lv_aload hx hb dX0_tellsOrder_38 (lv_at hl 0 rfl) ?_
  refine lv_iconst (v := (3 : Int32)) hx hb dX0_tellsOrder_40 (by decide) ?_
  refine lv_iload_n hx hb dX0_tellsOrder_41 rfl (lv_at hl 4 rfl) ?_
  refine lv_i2l (v := p2.toInt64) hx hb dX0_tellsOrder_42 rfl ?_
  refine fo_lastK X hw (hx32 hX) dX0_tellsOrder_43 (by decide) hf (fun st8 H locs hw hf => ?_)
  refine lv_iconst (v := (0 : Int32)) hx hb dX0_tellsOrder_44 (by decide) ?_
  refine lv_istore (lv' := [(5, .int (0 : Int32)), (4, .ref (eb E + 32)), (3, .ref (eb E + 3)), (0, .ref (eb E + 0)), (1, .int p1), (2, .int p2)]) hx hb dX0_tellsOrder_45 hl (by decide) rfl (fun ls hl => ?_)
  refine lp2_e (P := fun x9 st10 => ∀ (H : Heap) (locs : List Loc) (ls : Array Slot), lv_has ls 6 [(5, .int x9), (4, .ref (eb E + 32)), (3, .ref (eb E + 3))] → fo_S E s st10 H locs → W p l e R s m args below meth c H locs 0 0 Q (F0 m 47 ls [])) (fun rec11 hrec11 x9 st10 hf => ?_) G _ _ hf H locs ls (lv_sub hl [0, 1, 2] rfl) hw
  intro H locs ls hl hw
  refine lv_iload hx hb dX0_tellsOrder_47 (lv_at hl 0 rfl) ?_
  refine lv_bipush (v := (16 : Int32)) hx hb dX0_tellsOrder_49 (by decide) ?_
  refine fb_ige (tgt := 107) hx hb dX0_tellsOrder_51 (by decide) hf (fun hf => ?_) (fun hf => ?_)
  · exact fd_v hend hw hf dX0_tellsOrder_107
  refine lv_aload hx hb dX0_tellsOrder_54 (lv_at hl 1 rfl) ?_
  refine lv_iconst (v := (4 : Int32)) hx hb dX0_tellsOrder_56 (by decide) ?_
  refine lv_iload hx hb dX0_tellsOrder_57 (lv_at hl 0 rfl) ?_
  refine lv_iadd hx hb dX0_tellsOrder_59 ?_
  refine lv_aload_n hx hb dX0_tellsOrder_60 rfl (lv_at hl 2 rfl) ?_
  refine fo_getsN X hw fc_X2 (hx3 hX) (k := 1) (d := 2) (n2 := 5) (by decide) rfl rfl fn171 dX0_tellsOrder_61 ?_
  refine lv_iload hx hb dX0_tellsOrder_64 (lv_at hl 0 rfl) ?_
  refine fo_iald X hw (hx5 hX) dX0_tellsOrder_66 hf (fun hf => ?_)
  refine lv_i2l (v := (gi_ st10 5 x9.toNatClampNeg).toInt64) hx hb dX0_tellsOrder_67 rfl ?_
  refine fo_last X hw (hx32 hX) dX0_tellsOrder_68 hf (fun st12 H locs hw hf => ?_)
  refine lv_aload hx hb dX0_tellsOrder_69 (lv_at hl 1 rfl) ?_
  refine lv_bipush (v := (20 : Int32)) hx hb dX0_tellsOrder_71 (by decide) ?_
  refine lv_iload hx hb dX0_tellsOrder_73 (lv_at hl 0 rfl) ?_
  refine lv_iadd hx hb dX0_tellsOrder_75 ?_
  refine lv_aload_n hx hb dX0_tellsOrder_76 rfl (lv_at hl 2 rfl) ?_
  refine fo_getsN X hw fc_X2 (hx3 hX) (k := 0) (d := 1) (n2 := 4) (by decide) rfl rfl fn168 dX0_tellsOrder_77 ?_
  refine lv_iload hx hb dX0_tellsOrder_80 (lv_at hl 0 rfl) ?_
  refine fo_iald X hw (hx4 hX) dX0_tellsOrder_82 hf (fun hf => ?_)
  refine lv_i2l (v := (gi_ st12 4 x9.toNatClampNeg).toInt64) hx hb dX0_tellsOrder_83 rfl ?_
  refine fo_last X hw (hx32 hX) dX0_tellsOrder_84 hf (fun st13 H locs hw hf => ?_)
  refine lv_aload hx hb dX0_tellsOrder_85 (lv_at hl 1 rfl) ?_
  refine lv_bipush (v := (36 : Int32)) hx hb dX0_tellsOrder_87 (by decide) ?_
  refine lv_iload hx hb dX0_tellsOrder_89 (lv_at hl 0 rfl) ?_
  refine lv_iadd hx hb dX0_tellsOrder_91 ?_
  refine lv_aload_n hx hb dX0_tellsOrder_92 rfl (lv_at hl 2 rfl) ?_
  refine fo_getsN X hw fc_X2 (hx3 hX) (k := 2) (d := 3) (n2 := 6) (by decide) rfl rfl fn173 dX0_tellsOrder_93 ?_
  refine lv_iload hx hb dX0_tellsOrder_96 (lv_at hl 0 rfl) ?_
  refine fo_iald X hw (hx6 hX) dX0_tellsOrder_98 hf (fun hf => ?_)
  refine lv_i2l (v := (gi_ st13 6 x9.toNatClampNeg).toInt64) hx hb dX0_tellsOrder_99 rfl ?_
  refine fo_last X hw (hx32 hX) dX0_tellsOrder_100 hf (fun st14 H locs hw hf => ?_)
  refine fb_iinc (v := (1 : Int32)) (lv' := [(5, .int (x9 + (1 : Int32))), (4, .ref (eb E + 32)), (3, .ref (eb E + 3))]) hx hb dX0_tellsOrder_101 hl (k := 0) rfl (by decide) (by decide) rfl (fun ls hl => ?_)
  refine lv_goto (tgt := 47) hx hb dX0_tellsOrder_104 (by decide) ?_
  exact hrec11 _ _ hf _ _ _ (lv_sub hl [0, 1, 2] rfl) hw

/-- ForestRooms$Order.isNow -/
def fX18_isNow (tg : Nat → Nat × Nat) (G : Nat) (o : Nat) (st0 : fo_St) : Option (Int32 × fo_St) := if gr_ st0 o 4 = none then some ((1 : Int32), st0) else rn_ (gr_ st0 o 4) (fun q1 => bx_ (evT tg G 120 q1 st0) (fun x2 st3 => if x2 = 0 then some ((0 : Int32), st3) else some ((1 : Int32), st3)) (fun n4 st5 => ck_ (decide (tg n4 = (1, 4))) (some ((0 : Int32), st5))))
theorem hm_X18_isNow : fo_M yX18_isNow 1 := ⟨by decide +kernel, by decide +kernel, by decide +kernel, by decide +kernel⟩
set_option maxHeartbeats 4000000 in
theorem wX18_isNow (l : Launch) (E : fo_E) (hX : fo_HX E) (G : Nat) (o : Nat) (hO : et E o = (1, 15)) (st0 : fo_St) (rZ : Int32) (stZ : fo_St) (hf : fX18_isNow (et E) G o st0 = some (rZ, stZ)) : CTi l E yX18_isNow (wsW_ yX18_isNow cX18_isNow 3 (some .boolean) [(0, 23, 24, 28)]) ({ frames := 127, cells := 0, slots := 0, locals := 7660 }) [.ref (eb E + o), .ref (eb E + 30)] st0 rZ stZ := by
  refine feh_z hm_X18_isNow (Nat.le_of_ble_eq_true rfl) (fun p e R s m args below meth c Q hRf hRl X htab hend ls hl hw => ?_)
  have hx := X.1.1
  have hb := X.1.2.1
  have hl : lv_has ls 3 [(0, .ref (eb E + o)), (1, .ref (eb E + 30))] := hl
  unfold fX18_isNow at hf
  generalize s.heap = H at hw ⊢
  generalize ([] : List Loc) = locs at hw ⊢
  refine lv_aload_n hx hb dX18_isNow_0 rfl (lv_at hl 0 rfl) ?_
  refine fo_nul X hw fc_X18 hO (k := 4) (tgt := 18) (by decide) rfl q1149 dX18_isNow_1 dX18_isNow_4 (by decide) hf (fun hf => ?_) (fun hf => ?_)
  · refine lv_iconst (v := (1 : Int32)) hx hb dX18_isNow_18 (by decide) ?_
    refine lv_goto (tgt := 23) hx hb dX18_isNow_19 (by decide) ?_
    exact fd_z hend hw rfl hf dX18_isNow_23
  refine lv_aload_n hx hb dX18_isNow_7 rfl (lv_at hl 0 rfl) ?_
  refine fo_getr X hw fc_X18 hO (k := 4) (by decide) rfl q1149 dX18_isNow_8 hf (fun q1 hf => ?_)
  refine lv_aload_n hx hb dX18_isNow_11 rfl (lv_at hl 1 rfl) ?_
  refine fc_test (d := 120) X hw q1450 ⟨by rw [hRf]; exact Nat.le_of_ble_eq_true rfl, by rw [hRl]; exact Nat.le_of_ble_eq_true rfl⟩ hl.1 (Nat.le_of_ble_eq_true rfl) dX18_isNow_12 (fun rQ stQ hQ => wevT l E hX G 120 _ _ _ _ hQ) hf (fun n4 EX st5 H locs hT hw hf => ?_) (fun x2 st3 H locs hw hf => ?_)
  · obtain ⟨hq6, hf⟩ := ck_e hf
    have hq6 := of_decide_eq_true hq6
    refine fh_catch X hw htab 0 (x := (0, 23, 24, 28)) rfl (by decide) (by decide) (by decide) fc_X4 q1449 fn275 hq6 ?_
    refine lv_astore_n (lv' := [(2, .ref (eb E + n4)), (0, .ref (eb E + o)), (1, .ref (eb E + 30))]) hx hb dX18_isNow_24 rfl hl (by decide) rfl (fun ls hl => ?_)
    refine lv_iconst (v := (0 : Int32)) hx hb dX18_isNow_25 (by decide) ?_
    exact fd_z hend hw rfl hf dX18_isNow_26
  refine fb_zeq (tgt := 22) hx hb dX18_isNow_15 (by decide) hf (fun hf => ?_) (fun hf => ?_)
  · refine lv_iconst (v := (0 : Int32)) hx hb dX18_isNow_22 (by decide) ?_
    exact fd_z hend hw rfl hf dX18_isNow_23
  refine lv_iconst (v := (1 : Int32)) hx hb dX18_isNow_18 (by decide) ?_
  refine lv_goto (tgt := 23) hx hb dX18_isNow_19 (by decide) ?_
  exact fd_z hend hw rfl hf dX18_isNow_23

/-- ForestRooms$Order.told -/
def fX18_told (tg : Nat → Nat × Nat) (p1 : Nat) (st0 : fo_St) : Option (Int32 × fo_St) := bx_ (evS tg 120 p1 st0) (fun x1 st2 => if x1 < (0 : Int64) then some ((-1 : Int32), st2) else if x1 < (1000000 : Int64) then some (x1.toInt32, st2) else some ((-1 : Int32), st2)) (fun n3 st4 => ck_ (decide (tg n3 = (1, 4))) (some ((-1 : Int32), st4)))
theorem hm_X18_told : fo_M yX18_told 2 := ⟨by decide +kernel, by decide +kernel, by decide +kernel, by decide +kernel⟩
set_option maxHeartbeats 4000000 in
theorem wX18_told (l : Launch) (E : fo_E) (hX : fo_HX E) (p1 : Nat) (st0 : fo_St) (rZ : Int32) (stZ : fo_St) (hf : fX18_told (et E) p1 st0 = some (rZ, stZ)) : CTi l E yX18_told (wsW_ yX18_told cX18_told 4 (some .int) [(0, 26, 27, 28)]) ({ frames := 127, cells := 0, slots := 0, locals := 7660 }) [.ref (eb E + p1), .ref (eb E + 30)] st0 rZ stZ := by
  refine feh_i hm_X18_told (Nat.le_of_ble_eq_true rfl) (fun p e R s m args below meth c Q hRf hRl X htab hend ls hl hw => ?_)
  have hx := X.1.1
  have hb := X.1.2.1
  have hl : lv_has ls 4 [(0, .ref (eb E + p1)), (1, .ref (eb E + 30))] := hl
  unfold fX18_told at hf
  generalize s.heap = H at hw ⊢
  generalize ([] : List Loc) = locs at hw ⊢
  refine lv_aload_n hx hb dX18_told_0 rfl (lv_at hl 0 rfl) ?_
  refine lv_aload_n hx hb dX18_told_1 rfl (lv_at hl 1 rfl) ?_
  refine fc_sum (d := 120) X hw q1458 ⟨by rw [hRf]; exact Nat.le_of_ble_eq_true rfl, by rw [hRl]; exact Nat.le_of_ble_eq_true rfl⟩ hl.1 (Nat.le_of_ble_eq_true rfl) dX18_told_2 (fun rQ stQ hQ => wevS l E hX 120 _ _ _ _ hQ) hf (fun n3 EX st4 H locs hT hw hf => ?_) (fun x1 st2 H locs hw hf => ?_)
  · obtain ⟨hq5, hf⟩ := ck_e hf
    have hq5 := of_decide_eq_true hq5
    refine fh_catch X hw htab 0 (x := (0, 26, 27, 28)) rfl (by decide) (by decide) (by decide) fc_X4 q1449 fn275 hq5 ?_
    refine lv_astore_n (lv' := [(2, .ref (eb E + n3)), (0, .ref (eb E + p1)), (1, .ref (eb E + 30))]) hx hb dX18_told_27 rfl hl (by decide) rfl (fun ls hl => ?_)
    refine lv_iconst (v := (-1 : Int32)) hx hb dX18_told_28 (by decide) ?_
    exact fd_i hend hw hf dX18_told_29
  refine lv_lstore_n (lv' := [(2, .long x1), (0, .ref (eb E + p1)), (1, .ref (eb E + 30))]) hx hb dX18_told_5 rfl hl (by decide) rfl (fun ls hl => ?_)
  refine lv_lload_n hx hb dX18_told_6 rfl (lv_at hl 0 rfl) ?_
  refine lv_lconst (v := (0 : Int64)) hx hb dX18_told_7 rfl ?_
  refine fb_llt (tgt := 20) hx hb dX18_told_8 dX18_told_9 (by decide) hf (fun hf => ?_) (fun hf => ?_)
  · refine lv_iconst (v := (-1 : Int32)) hx hb dX18_told_20 (by decide) ?_
    refine lv_goto (tgt := 26) hx hb dX18_told_21 (by decide) ?_
    exact fd_i hend hw hf dX18_told_26
  refine lv_lload_n hx hb dX18_told_12 rfl (lv_at hl 0 rfl) ?_
  refine lv_ldc2 (v := (1000000 : Int64)) hx hb X.1.2.2.2.1 (X.1.2.2.2.2 _ q1459) dX18_told_13 ?_
  refine fb_llt (tgt := 24) hx hb dX18_told_16 dX18_told_17 (by decide) hf (fun hf => ?_) (fun hf => ?_)
  · refine lv_lload_n hx hb dX18_told_24 rfl (lv_at hl 0 rfl) ?_
    refine lv_l2i (v := x1.toInt32) hx hb dX18_told_25 rfl ?_
    exact fd_i hend hw hf dX18_told_26
  refine lv_iconst (v := (-1 : Int32)) hx hb dX18_told_20 (by decide) ?_
  refine lv_goto (tgt := 26) hx hb dX18_told_21 (by decide) ?_
  exact fd_i hend hw hf dX18_told_26

/-- ForestRooms.runs -/
def fX0_runs (tg : Nat → Nat × Nat) (G : Nat) (p1 : Nat) (st0 : fo_St) : Option (Int32 × fo_St) := ck_ (decide (tg p1 = (1, 15))) (if ¬ (gi_ st0 p1 0) = (4 : Int32) then rn_ (gr_ st0 p1 1) (fun q2 => bd_ (fX18_told tg q2 st0) (fun x3 st4 => if ¬ (gi_ st4 p1 0) = (3 : Int32) then rn_ (gr_ st4 p1 2) (fun q5 => bd_ (fX18_told tg q5 st4) (fun x6 st7 => if ¬ (gi_ st7 p1 0) = 0 then if ¬ (gi_ st7 p1 0) = (1 : Int32) then bd_ (fX0_letsKept tg G x3 x6 st7) (fun x8 st9 => some (x8, st9)) else bd_ (fX0_prunesKept tg G x3 x6 st7) (fun x10 st11 => some (x10, st11)) else bd_ (fX0_plantsKept tg G x3 x6 st7) (fun x12 st13 => some (x12, st13)))) else bd_ (fX0_emptiesKept tg G x3 st4) (fun x14 st15 => some (x14, st15)))) else bd_ (fX0_passesKept tg G st0) (fun x16 st17 => some (x16, st17)))
theorem hm_X0_runs : fo_M yX0_runs 1 := ⟨by decide +kernel, by decide +kernel, by decide +kernel, by decide +kernel⟩
set_option maxHeartbeats 4000000 in
theorem wX0_runs (l : Launch) (E : fo_E) (hX : fo_HX E) (G : Nat) (p1 : Nat) (st0 : fo_St) (rZ : Int32) (stZ : fo_St) (hf : fX0_runs (et E) G p1 st0 = some (rZ, stZ)) : CTi l E yX0_runs (ws_ yX0_runs cX0_runs 4 (some .int)) ({ frames := 134, cells := 0, slots := 0, locals := 7829 }) [.ref (eb E + 0), .ref (eb E + p1)] st0 rZ stZ := by
  refine fe_i hm_X0_runs (Nat.le_of_ble_eq_true rfl) (fun p e R s m args below meth c Q hRf hRl X hend ls hl hw => ?_)
  have hx := X.1.1
  have hb := X.1.2.1
  have hl : lv_has ls 4 [(0, .ref (eb E + 0)), (1, .ref (eb E + p1))] := hl
  unfold fX0_runs at hf
  generalize s.heap = H at hw ⊢
  generalize ([] : List Loc) = locs at hw ⊢
  refine lv_aload_n hx hb dX0_runs_0 rfl (lv_at hl 1 rfl) ?_
  obtain ⟨hq1, hf⟩ := ck_e hf
  have hq1 := of_decide_eq_true hq1
  refine fo_getiN X hw fc_X18 hq1 (k := 0) (by decide) rfl fn1141 dX0_runs_1 ?_
  refine lv_iconst (v := (4 : Int32)) hx hb dX0_runs_4 (by decide) ?_
  refine fb_ine (tgt := 13) hx hb dX0_runs_5 (by decide) hf (fun hf => ?_) (fun hf => ?_)
  · refine lv_aload_n hx hb dX0_runs_13 rfl (lv_at hl 1 rfl) ?_
    refine fo_getrN X hw fc_X18 hq1 (k := 1) (by decide) rfl fn1143 dX0_runs_14 hf (fun q2 hf => ?_)
    refine lv_aload_n hx hb dX0_runs_17 rfl (lv_at hl 0 rfl) ?_
    refine fo_gets X hw fc_X0 (hx0 hX) (k := 16) (d := 30) (n2 := 30) (by decide) rfl rfl q361 dX0_runs_18 ?_
    refine fc_SiW (rest := []) (As := [.ref (eb E + q2), .ref (eb E + 30)]) X hw hm_X18_told (lw_SW q1455 q1456 q143 q1457) ⟨rfl, rfl⟩ ⟨by rw [hRf]; exact Nat.le_of_ble_eq_true rfl, by rw [hRl]; exact Nat.le_of_ble_eq_true rfl⟩ rfl rfl hl.1 (Nat.le_of_ble_eq_true rfl) dX0_runs_21 (fun rQ stQ hQ => wX18_told l E hX q2 st0 rQ stQ hQ) hf (fun x3 st4 H locs hw hf => ?_)
    refine lv_istore_n (lv' := [(2, .int x3), (0, .ref (eb E + 0)), (1, .ref (eb E + p1))]) hx hb dX0_runs_24 rfl hl (by decide) rfl (fun ls hl => ?_)
    refine lv_aload_n hx hb dX0_runs_25 rfl (lv_at hl 2 rfl) ?_
    refine fo_getiN X hw fc_X18 hq1 (k := 0) (by decide) rfl fn1141 dX0_runs_26 ?_
    refine lv_iconst (v := (3 : Int32)) hx hb dX0_runs_29 (by decide) ?_
    refine fb_ine (tgt := 39) hx hb dX0_runs_30 (by decide) hf (fun hf => ?_) (fun hf => ?_)
    · refine lv_aload_n hx hb dX0_runs_39 rfl (lv_at hl 2 rfl) ?_
      refine fo_getrN X hw fc_X18 hq1 (k := 2) (by decide) rfl fn1145 dX0_runs_40 hf (fun q5 hf => ?_)
      refine lv_aload_n hx hb dX0_runs_43 rfl (lv_at hl 1 rfl) ?_
      refine fo_gets X hw fc_X0 (hx0 hX) (k := 16) (d := 30) (n2 := 30) (by decide) rfl rfl q361 dX0_runs_44 ?_
      refine fc_SiW (rest := []) (As := [.ref (eb E + q5), .ref (eb E + 30)]) X hw hm_X18_told (lw_SW q1455 q1456 q143 q1457) ⟨rfl, rfl⟩ ⟨by rw [hRf]; exact Nat.le_of_ble_eq_true rfl, by rw [hRl]; exact Nat.le_of_ble_eq_true rfl⟩ rfl rfl hl.1 (Nat.le_of_ble_eq_true rfl) dX0_runs_47 (fun rQ stQ hQ => wX18_told l E hX q5 st4 rQ stQ hQ) hf (fun x6 st7 H locs hw hf => ?_)
      refine lv_istore_n (lv' := [(3, .int x6), (2, .int x3), (0, .ref (eb E + 0)), (1, .ref (eb E + p1))]) hx hb dX0_runs_50 rfl hl (by decide) rfl (fun ls hl => ?_)
      refine lv_aload_n hx hb dX0_runs_51 rfl (lv_at hl 3 rfl) ?_
      refine fo_getiN X hw fc_X18 hq1 (k := 0) (by decide) rfl fn1141 dX0_runs_52 ?_
      refine fb_zne (tgt := 67) hx hb dX0_runs_55 (by decide) hf (fun hf => ?_) (fun hf => ?_)
      · refine lv_aload_n hx hb dX0_runs_67 rfl (lv_at hl 3 rfl) ?_
        refine fo_getiN X hw fc_X18 hq1 (k := 0) (by decide) rfl fn1141 dX0_runs_68 ?_
        refine lv_iconst (v := (1 : Int32)) hx hb dX0_runs_71 (by decide) ?_
        refine fb_ine (tgt := 84) hx hb dX0_runs_72 (by decide) hf (fun hf => ?_) (fun hf => ?_)
        · refine lv_aload_n hx hb dX0_runs_84 rfl (lv_at hl 2 rfl) ?_
          refine lv_iload_n hx hb dX0_runs_85 rfl (lv_at hl 1 rfl) ?_
          refine lv_iload_n hx hb dX0_runs_86 rfl (lv_at hl 0 rfl) ?_
          refine fc_Vi (rest := []) (As := [.int x3, .int x6]) X hw hm_X0_letsKept (lw_V q1271 q1273 qs22 q111 q1274) ⟨rfl, rfl⟩ ⟨by rw [hRf]; exact Nat.le_of_ble_eq_true rfl, by rw [hRl]; exact Nat.le_of_ble_eq_true rfl⟩ fc_X0 rfl (hx0 hX) rfl rfl hl.1 (Nat.le_of_ble_eq_true rfl) dX0_runs_87 (fun rQ stQ hQ => wX0_letsKept l E hX G x3 x6 st7 rQ stQ hQ) hf (fun x8 st9 H locs hw hf => ?_)
          exact fd_i hend hw hf dX0_runs_90
        refine lv_aload_n hx hb dX0_runs_75 rfl (lv_at hl 2 rfl) ?_
        refine lv_iload_n hx hb dX0_runs_76 rfl (lv_at hl 1 rfl) ?_
        refine lv_iload_n hx hb dX0_runs_77 rfl (lv_at hl 0 rfl) ?_
        refine fc_Vi (rest := []) (As := [.int x3, .int x6]) X hw hm_X0_prunesKept (lw_V q1259 q1261 qs21 q111 q1262) ⟨rfl, rfl⟩ ⟨by rw [hRf]; exact Nat.le_of_ble_eq_true rfl, by rw [hRl]; exact Nat.le_of_ble_eq_true rfl⟩ fc_X0 rfl (hx0 hX) rfl rfl hl.1 (Nat.le_of_ble_eq_true rfl) dX0_runs_78 (fun rQ stQ hQ => wX0_prunesKept l E hX G x3 x6 st7 rQ stQ hQ) hf (fun x10 st11 H locs hw hf => ?_)
        refine lv_goto (tgt := 90) hx hb dX0_runs_81 (by decide) ?_
        exact fd_i hend hw hf dX0_runs_90
      refine lv_aload_n hx hb dX0_runs_58 rfl (lv_at hl 2 rfl) ?_
      refine lv_iload_n hx hb dX0_runs_59 rfl (lv_at hl 1 rfl) ?_
      refine lv_iload_n hx hb dX0_runs_60 rfl (lv_at hl 0 rfl) ?_
      refine fc_Vi (rest := []) (As := [.int x3, .int x6]) X hw hm_X0_plantsKept (lw_V q1238 q1240 qs18 q111 q1241) ⟨rfl, rfl⟩ ⟨by rw [hRf]; exact Nat.le_of_ble_eq_true rfl, by rw [hRl]; exact Nat.le_of_ble_eq_true rfl⟩ fc_X0 rfl (hx0 hX) rfl rfl hl.1 (Nat.le_of_ble_eq_true rfl) dX0_runs_61 (fun rQ stQ hQ => wX0_plantsKept l E hX G x3 x6 st7 rQ stQ hQ) hf (fun x12 st13 H locs hw hf => ?_)
      refine lv_goto (tgt := 90) hx hb dX0_runs_64 (by decide) ?_
      exact fd_i hend hw hf dX0_runs_90
    refine lv_aload_n hx hb dX0_runs_33 rfl (lv_at hl 1 rfl) ?_
    refine lv_iload_n hx hb dX0_runs_34 rfl (lv_at hl 0 rfl) ?_
    refine fc_Vi (rest := []) (As := [.int x3]) X hw hm_X0_emptiesKept (lw_V q1279 q1281 qs23 q111 q1282) ⟨rfl, rfl⟩ ⟨by rw [hRf]; exact Nat.le_of_ble_eq_true rfl, by rw [hRl]; exact Nat.le_of_ble_eq_true rfl⟩ fc_X0 rfl (hx0 hX) rfl rfl hl.1 (Nat.le_of_ble_eq_true rfl) dX0_runs_35 (fun rQ stQ hQ => wX0_emptiesKept l E hX G x3 st4 rQ stQ hQ) hf (fun x14 st15 H locs hw hf => ?_)
    exact fd_i hend hw hf dX0_runs_38
  refine lv_aload_n hx hb dX0_runs_8 rfl (lv_at hl 0 rfl) ?_
  refine fc_Vi (rest := []) (As := []) X hw hm_X0_passesKept (lw_V q1287 q1289 qs24 q111 q1290) ⟨rfl, rfl⟩ ⟨by rw [hRf]; exact Nat.le_of_ble_eq_true rfl, by rw [hRl]; exact Nat.le_of_ble_eq_true rfl⟩ fc_X0 rfl (hx0 hX) rfl rfl hl.1 (Nat.le_of_ble_eq_true rfl) dX0_runs_9 (fun rQ stQ hQ => wX0_passesKept l E hX G st0 rQ stQ hQ) hf (fun x16 st17 H locs hw hf => ?_)
  exact fd_i hend hw hf dX0_runs_12

/-- ForestRooms.putsBack -/
def fX0_putsBack (tg : Nat → Nat × Nat) (G : Nat) (p1 : Int32) (st0 : fo_St) : Option fo_St := bd_ (fX0_table st0) (fun x1 st2 => ck_ (decide (x1 = 3)) (bv_ (fX2_takes 3 21 st2) (fun st4 => lp2_ (fun rec7 (x5 : Int32) (st6 : fo_St) => if p1 ≤ x5 then lt_ (sc_ st6 20 19 (0 : Int32).toNatClampNeg (0 : Int32).toNatClampNeg (16 : Int32).toNatClampNeg) (fun st8 => lt_ (si_ st8 0 15 p1) (fun st9 => some st9)) else ck_ (fo_in x5 16) (rt_ tg (gr_ st6 17 x5.toNatClampNeg) (fun q10 => ck_ (fo_in x5 16) (rt_ tg (gr_ st6 18 x5.toNatClampNeg) (fun q11 => bv_ (fX2_takes q10 q11 st6) (fun st13 => rec7 (x5 + (1 : Int32)) st13)))))) G (0 : Int32) st4)))
theorem hm_X0_putsBack : fo_M yX0_putsBack 1 := ⟨by decide +kernel, by decide +kernel, by decide +kernel, by decide +kernel⟩
set_option maxHeartbeats 4000000 in
theorem wX0_putsBack (l : Launch) (E : fo_E) (hX : fo_HX E) (G : Nat) (p1 : Int32) (st0 : fo_St) (stZ : fo_St) (hf : fX0_putsBack (et E) G p1 st0 = some stZ) : CTv l E yX0_putsBack (ws_ yX0_putsBack cX0_putsBack 3 none) ({ frames := 3, cells := 0, slots := 0, locals := 72 }) [.ref (eb E + 0), .int p1] st0 stZ := by
  refine fe_v hm_X0_putsBack (Nat.le_of_ble_eq_true rfl) (fun p e R s m args below meth c Q hRf hRl X hend ls hl hw => ?_)
  have hx := X.1.1
  have hb := X.1.2.1
  have hl : lv_has ls 3 [(0, .ref (eb E + 0)), (1, .int p1)] := hl
  unfold fX0_putsBack at hf
  generalize s.heap = H at hw ⊢
  generalize ([] : List Loc) = locs at hw ⊢
  refine lv_aload_n hx hb dX0_putsBack_0 rfl (lv_at hl 0 rfl) ?_
  refine fc_Vr (rest := []) (As := []) X hw hm_X0_table (lw_V q560 q562 qs6 q111 q563) ⟨rfl, rfl⟩ ⟨by rw [hRf]; exact Nat.le_of_ble_eq_true rfl, by rw [hRl]; exact Nat.le_of_ble_eq_true rfl⟩ fc_X0 rfl (hx0 hX) rfl rfl hl.1 (Nat.le_of_ble_eq_true rfl) dX0_putsBack_1 (fun rQ stQ hQ => wX0_table l E hX st0 rQ stQ hQ) hf (fun x1 st2 H locs hw hf => ?_)
  have hc0 := ck_e hf
  clear hf
  obtain ⟨hc, hf⟩ := hc0
  replace hc := of_decide_eq_true hc
  subst hc
  refine lv_aload_n hx hb dX0_putsBack_4 rfl (lv_at hl 0 rfl) ?_
  refine fo_gets X hw fc_X0 (hx0 hX) (k := 8) (d := 21) (n2 := 21) (by decide) rfl rfl q353 dX0_putsBack_5 ?_
  refine fc_Vv (rest := []) (As := [.ref (eb E + 21)]) X hw hm_X2_takes (lw_V q1246 q449 q450 q113 q451) ⟨rfl, rfl⟩ ⟨by rw [hRf]; exact Nat.le_of_ble_eq_true rfl, by rw [hRl]; exact Nat.le_of_ble_eq_true rfl⟩ fc_X2 rfl (hx3 hX) rfl rfl hl.1 (Nat.le_of_ble_eq_true rfl) dX0_putsBack_8 (fun stQ hQ => wX2_takes l E 3 21 (hxT3 hX) (hxT21 hX) st2 stQ hQ) hf (fun st4 H locs hw hf => ?_)
  refine lv_iconst (v := (0 : Int32)) hx hb dX0_putsBack_11 (by decide) ?_
  refine lv_istore_n (lv' := [(2, .int (0 : Int32)), (0, .ref (eb E + 0)), (1, .int p1)]) hx hb dX0_putsBack_12 rfl hl (by decide) rfl (fun ls hl => ?_)
  refine lp2_e (P := fun x5 st6 => ∀ (H : Heap) (locs : List Loc) (ls : Array Slot), lv_has ls 3 [(2, .int x5), (0, .ref (eb E + 0)), (1, .int p1)] → fo_S E s st6 H locs → W p l e R s m args below meth c H locs 0 0 Q (F0 m 13 ls [])) (fun rec7 hrec7 x5 st6 hf => ?_) G _ _ hf H locs ls (lv_sub hl [0, 1, 2] rfl) hw
  intro H locs ls hl hw
  refine lv_iload_n hx hb dX0_putsBack_13 rfl (lv_at hl 0 rfl) ?_
  refine lv_iload_n hx hb dX0_putsBack_14 rfl (lv_at hl 2 rfl) ?_
  refine fb_ige (tgt := 39) hx hb dX0_putsBack_15 (by decide) hf (fun hf => ?_) (fun hf => ?_)
  · refine lv_aload_n hx hb dX0_putsBack_39 rfl (lv_at hl 1 rfl) ?_
    refine fo_gets X hw fc_X0 (hx0 hX) (k := 7) (d := 20) (n2 := 20) (by decide) rfl rfl q352 dX0_putsBack_40 ?_
    refine lv_iconst (v := (0 : Int32)) hx hb dX0_putsBack_43 (by decide) ?_
    refine lv_aload_n hx hb dX0_putsBack_44 rfl (lv_at hl 1 rfl) ?_
    refine fo_gets X hw fc_X0 (hx0 hX) (k := 6) (d := 19) (n2 := 19) (by decide) rfl rfl q351 dX0_putsBack_45 ?_
    refine lv_iconst (v := (0 : Int32)) hx hb dX0_putsBack_48 (by decide) ?_
    refine lv_bipush (v := (16 : Int32)) hx hb dX0_putsBack_49 (by decide) ?_
    refine fo_copy X hw (hx20 hX) (hx19 hX) hl.1 q1350 q457 q456 q142 (by decide) (by rw [hRf]; exact Nat.le_of_ble_eq_true rfl) (by rw [hRl]; exact Nat.le_of_ble_eq_true rfl) dX0_putsBack_51 hf (fun st8 H locs hw hf => ?_)
    refine lv_aload_n hx hb dX0_putsBack_54 rfl (lv_at hl 1 rfl) ?_
    refine lv_iload_n hx hb dX0_putsBack_55 rfl (lv_at hl 2 rfl) ?_
    refine fo_puti X hw fc_X0 (hx0 hX) (k := 15) (by decide) rfl rfl q360 ⟨rfl, rfl⟩ dX0_putsBack_56 hf (fun st9 H locs hw hf => ?_)
    exact fd_v hend hw hf dX0_putsBack_59
  refine lv_aload_n hx hb dX0_putsBack_18 rfl (lv_at hl 1 rfl) ?_
  refine fo_gets X hw fc_X0 (hx0 hX) (k := 4) (d := 17) (n2 := 17) (by decide) rfl rfl q349 dX0_putsBack_19 ?_
  refine lv_iload_n hx hb dX0_putsBack_22 rfl (lv_at hl 0 rfl) ?_
  refine fo_aldt X hw (hx17 hX) dX0_putsBack_23 hf (fun q10 hT_q10 hf => ?_)
  refine lv_aload_n hx hb dX0_putsBack_24 rfl (lv_at hl 1 rfl) ?_
  refine fo_gets X hw fc_X0 (hx0 hX) (k := 5) (d := 18) (n2 := 18) (by decide) rfl rfl q350 dX0_putsBack_25 ?_
  refine lv_iload_n hx hb dX0_putsBack_28 rfl (lv_at hl 0 rfl) ?_
  refine fo_aldt X hw (hx18 hX) dX0_putsBack_29 hf (fun q11 hT_q11 hf => ?_)
  refine fc_Vv (rest := []) (As := [.ref (eb E + q11)]) X hw hm_X2_takes (lw_V q1246 q449 q450 q113 q451) ⟨rfl, rfl⟩ ⟨by rw [hRf]; exact Nat.le_of_ble_eq_true rfl, by rw [hRl]; exact Nat.le_of_ble_eq_true rfl⟩ fc_X2 rfl hT_q10.1 rfl rfl hl.1 (Nat.le_of_ble_eq_true rfl) dX0_putsBack_30 (fun stQ hQ => wX2_takes l E q10 q11 hT_q10 hT_q11 st6 stQ hQ) hf (fun st13 H locs hw hf => ?_)
  refine fb_iinc (v := (1 : Int32)) (lv' := [(2, .int (x5 + (1 : Int32))), (0, .ref (eb E + 0)), (1, .int p1)]) hx hb dX0_putsBack_33 hl (k := 0) rfl (by decide) (by decide) rfl (fun ls hl => ?_)
  refine lv_goto (tgt := 13) hx hb dX0_putsBack_36 (by decide) ?_
  exact hrec7 _ _ hf _ _ _ (lv_sub hl [0, 1, 2] rfl) hw

/-- ForestRooms.draw -/
def fX0_draw (p1 : Int32) (st0 : fo_St) : Option (Int32 × fo_St) := lt_ (si_ st0 0 28 ((lrem_ (((gi_ st0 0 28).toInt64 * (1103 : Int64)) + (12345 : Int64)) (1000003 : Int64)).toInt32)) (fun st1 => ck_ (decide (¬ p1 = 0)) (some ((irem_ (gi_ st1 0 28) p1), st1)))
theorem hm_X0_draw : fo_M yX0_draw 1 := ⟨by decide +kernel, by decide +kernel, by decide +kernel, by decide +kernel⟩
set_option maxHeartbeats 4000000 in
theorem wX0_draw (l : Launch) (E : fo_E) (hX : fo_HX E) (p1 : Int32) (st0 : fo_St) (rZ : Int32) (stZ : fo_St) (hf : fX0_draw p1 st0 = some (rZ, stZ)) : CTi l E yX0_draw (ws_ yX0_draw cX0_draw 2 (some .int)) ({ frames := 0, cells := 0, slots := 0, locals := 0 }) [.ref (eb E + 0), .int p1] st0 rZ stZ := by
  refine fe_i hm_X0_draw (Nat.le_of_ble_eq_true rfl) (fun p e R s m args below meth c Q hRf hRl X hend ls hl hw => ?_)
  have hx := X.1.1
  have hb := X.1.2.1
  have hl : lv_has ls 2 [(0, .ref (eb E + 0)), (1, .int p1)] := hl
  unfold fX0_draw at hf
  generalize s.heap = H at hw ⊢
  generalize ([] : List Loc) = locs at hw ⊢
  refine lv_aload_n hx hb dX0_draw_0 rfl (lv_at hl 0 rfl) ?_
  refine lv_aload_n hx hb dX0_draw_1 rfl (lv_at hl 0 rfl) ?_
  refine fo_geti X hw fc_X0 (hx0 hX) (k := 28) (by decide) rfl q373 dX0_draw_2 ?_
  refine lv_i2l (v := (gi_ st0 0 28).toInt64) hx hb dX0_draw_5 rfl ?_
  refine lv_ldc2 (v := (1103 : Int64)) hx hb X.1.2.2.2.1 (X.1.2.2.2.2 _ q1472) dX0_draw_6 ?_
  refine lv_lmul hx hb dX0_draw_9 ?_
  refine lv_ldc2 (v := (12345 : Int64)) hx hb X.1.2.2.2.1 (X.1.2.2.2.2 _ q1473) dX0_draw_10 ?_
  refine lv_ladd hx hb dX0_draw_13 ?_
  refine lv_ldc2 (v := (1000003 : Int64)) hx hb X.1.2.2.2.1 (X.1.2.2.2.2 _ q1474) dX0_draw_14 ?_
  refine fb_lremK hx hb dX0_draw_17 (by decide) ?_
  refine lv_l2i (v := (lrem_ (((gi_ st0 0 28).toInt64 * (1103 : Int64)) + (12345 : Int64)) (1000003 : Int64)).toInt32) hx hb dX0_draw_18 rfl ?_
  refine fo_puti X hw fc_X0 (hx0 hX) (k := 28) (by decide) rfl rfl q373 ⟨rfl, rfl⟩ dX0_draw_19 hf (fun st1 H locs hw hf => ?_)
  refine lv_aload_n hx hb dX0_draw_22 rfl (lv_at hl 0 rfl) ?_
  refine fo_geti X hw fc_X0 (hx0 hX) (k := 28) (by decide) rfl q373 dX0_draw_23 ?_
  refine lv_iload_n hx hb dX0_draw_26 rfl (lv_at hl 1 rfl) ?_
  refine fb_iremC hx hb dX0_draw_27 hf (fun hf => ?_)
  exact fd_i hend hw hf dX0_draw_28

/-- ForestRooms.decade -/
def fX0_decade (tg : Nat → Nat × Nat) (G : Nat) (p1 : Int32) (p2 : Int32) (st0 : fo_St) : Option (Int32 × fo_St) := bd_ (fX0_in p1 (0 : Int32) (1000000 : Int32) st0) (fun x1 st2 => if x1 = 0 then bd_ (fX0_refuse (-1 : Int32) st2) (fun x3 st4 => some (x3, st4)) else bd_ (fX0_in p2 (1 : Int32) (60 : Int32) st2) (fun x5 st6 => if ¬ x5 = 0 then lt_ (si_ st6 0 28 p1) (fun st7 => lt_ (si_ st7 0 27 (1 : Int32)) (fun st8 => bd_ (fX0_table st8) (fun x9 st10 => ck_ (decide (x9 = 3)) (bv_ (fX2_takes 42 3 st10) (fun st12 => jn_ (fun (x13 : Int32) (st14 : fo_St) => bd_ (fX0_done x13 st14) (fun x16 st17 => some (x16, st17))) (fun k15 => lp3_ (fun rec21 (x18 : Int32) (x19 : Int32) (st20 : fo_St) => if p2 ≤ x18 then k15 x19 st20 else if (999 : Int32) ≤ (gi_ st20 42 3) then k15 x19 st20 else bd_ (fX0_draw (16 : Int32) st20) (fun x22 st23 => bd_ (fX0_draw (10 : Int32) st23) (fun x24 st25 => bd_ (fX0_term (3 : Int32) st25) (fun x26 st27 => jn_ (fun (st28 : fo_St) => bd_ (fX0_passes tg G 42 st28) (fun x30 st31 => lI_ (x19 + x30) (fun x32 => rec21 (x18 + (1 : Int32)) x32 st31))) (fun k29 => if x26 ≤ x24 then k29 st27 else bv_ (fX2_falls 42 x22 st27) (fun st34 => k29 st34)))))) G (0 : Int32) (0 : Int32) st12)))))) else bd_ (fX0_refuse (-1 : Int32) st6) (fun x35 st36 => some (x35, st36))))
theorem hm_X0_decade : fo_M yX0_decade 2 := ⟨by decide +kernel, by decide +kernel, by decide +kernel, by decide +kernel⟩
set_option maxHeartbeats 4000000 in
theorem wX0_decade (l : Launch) (E : fo_E) (hX : fo_HX E) (G : Nat) (p1 : Int32) (p2 : Int32) (st0 : fo_St) (rZ : Int32) (stZ : fo_St) (hf : fX0_decade (et E) G p1 p2 st0 = some (rZ, stZ)) : CTi l E yX0_decade (ws_ yX0_decade cX0_decade 7 (some .int)) ({ frames := 133, cells := 0, slots := 0, locals := 7809 }) [.ref (eb E + 0), .int p1, .int p2] st0 rZ stZ := by
  refine fe_i hm_X0_decade (Nat.le_of_ble_eq_true rfl) (fun p e R s m args below meth c Q hRf hRl X hend ls hl hw => ?_)
  have hx := X.1.1
  have hb := X.1.2.1
  have hl : lv_has ls 7 [(0, .ref (eb E + 0)), (1, .int p1), (2, .int p2)] := hl
  unfold fX0_decade at hf
  generalize s.heap = H at hw ⊢
  generalize ([] : List Loc) = locs at hw ⊢
  refine lv_iload_n hx hb dX0_decade_0 rfl (lv_at hl 1 rfl) ?_
  refine lv_iconst (v := (0 : Int32)) hx hb dX0_decade_1 (by decide) ?_
  refine lv_ldcw (v := (1000000 : Int32)) hx hb X.1.2.2.2.1 (X.1.2.2.2.2 _ q1375) dX0_decade_2 ?_
  refine fc_Si (rest := []) (As := [.int p1, .int (0 : Int32), .int (1000000 : Int32)]) X hw hm_X0_in (lw_S q437 q438 q111 q439) ⟨rfl, rfl⟩ ⟨by rw [hRf]; exact Nat.le_of_ble_eq_true rfl, by rw [hRl]; exact Nat.le_of_ble_eq_true rfl⟩ rfl rfl hl.1 (Nat.le_of_ble_eq_true rfl) dX0_decade_5 (fun rQ stQ hQ => wX0_in l E hX p1 (0 : Int32) (1000000 : Int32) st0 rQ stQ hQ) hf (fun x1 st2 H locs hw hf => ?_)
  refine fb_zeq (tgt := 21) hx hb dX0_decade_8 (by decide) hf (fun hf => ?_) (fun hf => ?_)
  · refine lv_aload_n hx hb dX0_decade_21 rfl (lv_at hl 0 rfl) ?_
    refine lv_iconst (v := (-1 : Int32)) hx hb dX0_decade_22 (by decide) ?_
    refine fc_Vi (rest := []) (As := [.int (-1 : Int32)]) X hw hm_X0_refuse (lw_V q440 q442 qs1 q111 q443) ⟨rfl, rfl⟩ ⟨by rw [hRf]; exact Nat.le_of_ble_eq_true rfl, by rw [hRl]; exact Nat.le_of_ble_eq_true rfl⟩ fc_X0 rfl (hx0 hX) rfl rfl hl.1 (Nat.le_of_ble_eq_true rfl) dX0_decade_23 (fun rQ stQ hQ => wX0_refuse l E hX (-1 : Int32) st2 rQ stQ hQ) hf (fun x3 st4 H locs hw hf => ?_)
    exact fd_i hend hw hf dX0_decade_26
  refine lv_iload_n hx hb dX0_decade_11 rfl (lv_at hl 2 rfl) ?_
  refine lv_iconst (v := (1 : Int32)) hx hb dX0_decade_12 (by decide) ?_
  refine lv_bipush (v := (60 : Int32)) hx hb dX0_decade_13 (by decide) ?_
  refine fc_Si (rest := []) (As := [.int p2, .int (1 : Int32), .int (60 : Int32)]) X hw hm_X0_in (lw_S q437 q438 q111 q439) ⟨rfl, rfl⟩ ⟨by rw [hRf]; exact Nat.le_of_ble_eq_true rfl, by rw [hRl]; exact Nat.le_of_ble_eq_true rfl⟩ rfl rfl hl.1 (Nat.le_of_ble_eq_true rfl) dX0_decade_15 (fun rQ stQ hQ => wX0_in l E hX p2 (1 : Int32) (60 : Int32) st2 rQ stQ hQ) hf (fun x5 st6 H locs hw hf => ?_)
  refine fb_zne (tgt := 27) hx hb dX0_decade_18 (by decide) hf (fun hf => ?_) (fun hf => ?_)
  · refine lv_aload_n hx hb dX0_decade_27 rfl (lv_at hl 0 rfl) ?_
    refine lv_iload_n hx hb dX0_decade_28 rfl (lv_at hl 1 rfl) ?_
    refine fo_puti X hw fc_X0 (hx0 hX) (k := 28) (by decide) rfl rfl q373 ⟨rfl, rfl⟩ dX0_decade_29 hf (fun st7 H locs hw hf => ?_)
    refine lv_aload_n hx hb dX0_decade_32 rfl (lv_at hl 0 rfl) ?_
    refine lv_iconst (v := (1 : Int32)) hx hb dX0_decade_33 (by decide) ?_
    refine fo_puti X hw fc_X0 (hx0 hX) (k := 27) (by decide) rfl rfl q372 ⟨rfl, rfl⟩ dX0_decade_34 hf (fun st8 H locs hw hf => ?_)
    refine lv_aload_n hx hb dX0_decade_37 rfl (lv_at hl 0 rfl) ?_
    refine fo_gets X hw fc_X0 (hx0 hX) (k := 26) (d := 42) (n2 := 42) (by decide) rfl rfl q371 dX0_decade_38 ?_
    refine lv_astore_n (lv' := [(3, .ref (eb E + 42)), (0, .ref (eb E + 0)), (1, .int p1), (2, .int p2)]) hx hb dX0_decade_41 rfl hl (by decide) rfl (fun ls hl => ?_)
    refine lv_aload_n hx hb dX0_decade_42 rfl (lv_at hl 0 rfl) ?_
    refine lv_aload_n hx hb dX0_decade_43 rfl (lv_at hl 1 rfl) ?_
    refine fc_Vr (rest := [.ref (eb E + 42)]) (As := []) X hw hm_X0_table (lw_V q560 q562 qs6 q111 q563) ⟨rfl, rfl⟩ ⟨by rw [hRf]; exact Nat.le_of_ble_eq_true rfl, by rw [hRl]; exact Nat.le_of_ble_eq_true rfl⟩ fc_X0 rfl (hx0 hX) rfl rfl hl.1 (Nat.le_of_ble_eq_true rfl) dX0_decade_44 (fun rQ stQ hQ => wX0_table l E hX st8 rQ stQ hQ) hf (fun x9 st10 H locs hw hf => ?_)
    have hc0 := ck_e hf
    clear hf
    obtain ⟨hc, hf⟩ := hc0
    replace hc := of_decide_eq_true hc
    subst hc
    refine fc_Vv (rest := []) (As := [.ref (eb E + 3)]) X hw hm_X2_takes (lw_V q1246 q449 q450 q113 q451) ⟨rfl, rfl⟩ ⟨by rw [hRf]; exact Nat.le_of_ble_eq_true rfl, by rw [hRl]; exact Nat.le_of_ble_eq_true rfl⟩ fc_X2 rfl (hx42 hX) rfl rfl hl.1 (Nat.le_of_ble_eq_true rfl) dX0_decade_47 (fun stQ hQ => wX2_takes l E 42 3 (hxT42 hX) (hxT3 hX) st10 stQ hQ) hf (fun st12 H locs hw hf => ?_)
    refine lv_iconst (v := (0 : Int32)) hx hb dX0_decade_50 (by decide) ?_
    refine lv_istore (lv' := [(4, .int (0 : Int32)), (3, .ref (eb E + 42)), (0, .ref (eb E + 0)), (1, .int p1), (2, .int p2)]) hx hb dX0_decade_51 hl (by decide) rfl (fun ls hl => ?_)
    refine lv_iconst (v := (0 : Int32)) hx hb dX0_decade_53 (by decide) ?_
    refine lv_istore (lv' := [(5, .int (0 : Int32)), (4, .int (0 : Int32)), (3, .ref (eb E + 42)), (0, .ref (eb E + 0)), (1, .int p1), (2, .int p2)]) hx hb dX0_decade_54 hl (by decide) rfl (fun ls hl => ?_)
    refine jn_e hf (fun k15 ek hf => ?_)
    have hk15 : ∀ (x13 : Int32) (st14 : fo_St) (H : Heap) (locs : List Loc) (ls : Array Slot), lv_has ls 7 [(4, .int x13), (0, .ref (eb E + 0))] → fo_S E s st14 H locs → k15 x13 st14 = some (rZ, stZ) → W p l e R s m args below meth c H locs 0 0 Q (F0 m 116 ls []) := by
      intro x13 st14 H locs ls hl hw hf
      rw [ek] at hf
      refine lv_aload_n hx hb dX0_decade_116 rfl (lv_at hl 1 rfl) ?_
      refine lv_iload hx hb dX0_decade_117 (lv_at hl 0 rfl) ?_
      refine fc_Vi (rest := []) (As := [.int x13]) X hw hm_X0_done (lw_V q530 q532 qs3 q111 q533) ⟨rfl, rfl⟩ ⟨by rw [hRf]; exact Nat.le_of_ble_eq_true rfl, by rw [hRl]; exact Nat.le_of_ble_eq_true rfl⟩ fc_X0 rfl (hx0 hX) rfl rfl hl.1 (Nat.le_of_ble_eq_true rfl) dX0_decade_119 (fun rQ stQ hQ => wX0_done l E hX x13 st14 rQ stQ hQ) hf (fun x16 st17 H locs hw hf => ?_)
      exact fd_i hend hw hf dX0_decade_122
    clear ek
    refine lp3_e (P := fun x18 x19 st20 => ∀ (H : Heap) (locs : List Loc) (ls : Array Slot), lv_has ls 7 [(5, .int x18), (4, .int x19), (3, .ref (eb E + 42)), (0, .ref (eb E + 0)), (2, .int p2)] → fo_S E s st20 H locs → W p l e R s m args below meth c H locs 0 0 Q (F0 m 56 ls [])) (fun rec21 hrec21 x18 x19 st20 hf => ?_) G _ _ _ hf H locs ls (lv_sub hl [0, 1, 2, 3, 5] rfl) hw
    intro H locs ls hl hw
    refine lv_iload hx hb dX0_decade_56 (lv_at hl 0 rfl) ?_
    refine lv_iload_n hx hb dX0_decade_58 rfl (lv_at hl 4 rfl) ?_
    refine fb_ige (tgt := 116) hx hb dX0_decade_59 (by decide) hf (fun hf => ?_) (fun hf => ?_)
    · exact hk15 _ _ _ _ _ (lv_sub hl [1, 3] rfl) hw hf
    refine lv_aload_n hx hb dX0_decade_62 rfl (lv_at hl 2 rfl) ?_
    refine fo_getiN X hw fc_X2 (hx42 hX) (k := 3) (by decide) rfl fn175 dX0_decade_63 ?_
    refine lv_sipush (v := (999 : Int32)) hx hb dX0_decade_66 (by decide) ?_
    refine fb_ige (tgt := 116) hx hb dX0_decade_69 (by decide) hf (fun hf => ?_) (fun hf => ?_)
    · exact hk15 _ _ _ _ _ (lv_sub hl [1, 3] rfl) hw hf
    refine lv_aload_n hx hb dX0_decade_72 rfl (lv_at hl 3 rfl) ?_
    refine lv_bipush (v := (16 : Int32)) hx hb dX0_decade_73 (by decide) ?_
    refine fc_Vi (rest := []) (As := [.int (16 : Int32)]) X hw hm_X0_draw (lw_V q1468 q1470 qs37 q111 q1471) ⟨rfl, rfl⟩ ⟨by rw [hRf]; exact Nat.le_of_ble_eq_true rfl, by rw [hRl]; exact Nat.le_of_ble_eq_true rfl⟩ fc_X0 rfl (hx0 hX) rfl rfl hl.1 (Nat.le_of_ble_eq_true rfl) dX0_decade_75 (fun rQ stQ hQ => wX0_draw l E hX (16 : Int32) st20 rQ stQ hQ) hf (fun x22 st23 H locs hw hf => ?_)
    refine lv_istore (lv' := [(6, .int x22), (5, .int x18), (4, .int x19), (3, .ref (eb E + 42)), (0, .ref (eb E + 0)), (2, .int p2)]) hx hb dX0_decade_78 hl (by decide) rfl (fun ls hl => ?_)
    refine lv_aload_n hx hb dX0_decade_80 rfl (lv_at hl 4 rfl) ?_
    refine lv_bipush (v := (10 : Int32)) hx hb dX0_decade_81 (by decide) ?_
    refine fc_Vi (rest := []) (As := [.int (10 : Int32)]) X hw hm_X0_draw (lw_V q1468 q1470 qs37 q111 q1471) ⟨rfl, rfl⟩ ⟨by rw [hRf]; exact Nat.le_of_ble_eq_true rfl, by rw [hRl]; exact Nat.le_of_ble_eq_true rfl⟩ fc_X0 rfl (hx0 hX) rfl rfl hl.1 (Nat.le_of_ble_eq_true rfl) dX0_decade_83 (fun rQ stQ hQ => wX0_draw l E hX (10 : Int32) st23 rQ stQ hQ) hf (fun x24 st25 H locs hw hf => ?_)
    refine lv_aload_n hx hb dX0_decade_86 rfl (lv_at hl 4 rfl) ?_
    refine lv_iconst (v := (3 : Int32)) hx hb dX0_decade_87 (by decide) ?_
    refine fc_Vi (rest := [.int x24]) (As := [.int (3 : Int32)]) X hw hm_X0_term (lw_V q581 q583 qs9 q111 q584) ⟨rfl, rfl⟩ ⟨by rw [hRf]; exact Nat.le_of_ble_eq_true rfl, by rw [hRl]; exact Nat.le_of_ble_eq_true rfl⟩ fc_X0 rfl (hx0 hX) rfl rfl hl.1 (Nat.le_of_ble_eq_true rfl) dX0_decade_88 (fun rQ stQ hQ => wX0_term l E hX (3 : Int32) st25 rQ stQ hQ) hf (fun x26 st27 H locs hw hf => ?_)
    refine jn_e hf (fun k29 ek hf => ?_)
    have hk29 : ∀  (st28 : fo_St) (H : Heap) (locs : List Loc) (ls : Array Slot), lv_has ls 7 [(5, .int x18), (4, .int x19), (3, .ref (eb E + 42)), (0, .ref (eb E + 0)), (2, .int p2)] → fo_S E s st28 H locs → k29 st28 = some (rZ, stZ) → W p l e R s m args below meth c H locs 0 0 Q (F0 m 100 ls []) := by
      intro st28 H locs ls hl hw hf
      rw [ek] at hf
      refine lv_iload hx hb dX0_decade_100 (lv_at hl 1 rfl) ?_
      refine lv_aload_n hx hb dX0_decade_102 rfl (lv_at hl 3 rfl) ?_
      refine lv_aload_n hx hb dX0_decade_103 rfl (lv_at hl 2 rfl) ?_
      refine fc_Vi (rest := [.int x19]) (As := [.ref (eb E + 42)]) X hw hm_X0_passes (lw_V q1291 q1293 qs25 q111 q1294) ⟨rfl, rfl⟩ ⟨by rw [hRf]; exact Nat.le_of_ble_eq_true rfl, by rw [hRl]; exact Nat.le_of_ble_eq_true rfl⟩ fc_X0 rfl (hx0 hX) rfl rfl hl.1 (Nat.le_of_ble_eq_true rfl) dX0_decade_104 (fun rQ stQ hQ => wX0_passes l E hX G 42 (hxT42 hX) st28 rQ stQ hQ) hf (fun x30 st31 H locs hw hf => ?_)
      refine lv_iadd hx hb dX0_decade_107 ?_
      refine fo_tI hf (fun x32 hf => ?_)
      refine lv_istore (lv' := [(4, .int x32), (5, .int x18), (3, .ref (eb E + 42)), (0, .ref (eb E + 0)), (2, .int p2)]) hx hb dX0_decade_108 hl (by decide) rfl (fun ls hl => ?_)
      refine fb_iinc (v := (1 : Int32)) (lv' := [(5, .int (x18 + (1 : Int32))), (4, .int x32), (3, .ref (eb E + 42)), (0, .ref (eb E + 0)), (2, .int p2)]) hx hb dX0_decade_110 hl (k := 1) rfl (by decide) (by decide) rfl (fun ls hl => ?_)
      refine lv_goto (tgt := 56) hx hb dX0_decade_113 (by decide) ?_
      exact hrec21 _ _ _ hf _ _ _ (lv_sub hl [0, 1, 2, 3, 4] rfl) hw
    clear ek
    refine fb_ige (tgt := 100) hx hb dX0_decade_91 (by decide) hf (fun hf => ?_) (fun hf => ?_)
    · exact hk29 _ _ _ _ (lv_sub hl [1, 2, 3, 4, 5] rfl) hw hf
    refine lv_aload_n hx hb dX0_decade_94 rfl (lv_at hl 3 rfl) ?_
    refine lv_iload hx hb dX0_decade_95 (lv_at hl 0 rfl) ?_
    refine fc_Vv (rest := []) (As := [.int x22]) X hw hm_X2_falls (lw_V q1263 q1264 q1265 q113 q1266) ⟨rfl, rfl⟩ ⟨by rw [hRf]; exact Nat.le_of_ble_eq_true rfl, by rw [hRl]; exact Nat.le_of_ble_eq_true rfl⟩ fc_X2 rfl (hx42 hX) rfl rfl hl.1 (Nat.le_of_ble_eq_true rfl) dX0_decade_97 (fun stQ hQ => wX2_falls l E 42 x22 (hxT42 hX) st27 stQ hQ) hf (fun st34 H locs hw hf => ?_)
    exact hk29 _ _ _ _ (lv_sub hl [1, 2, 3, 4, 5] rfl) hw hf
  refine lv_aload_n hx hb dX0_decade_21 rfl (lv_at hl 0 rfl) ?_
  refine lv_iconst (v := (-1 : Int32)) hx hb dX0_decade_22 (by decide) ?_
  refine fc_Vi (rest := []) (As := [.int (-1 : Int32)]) X hw hm_X0_refuse (lw_V q440 q442 qs1 q111 q443) ⟨rfl, rfl⟩ ⟨by rw [hRf]; exact Nat.le_of_ble_eq_true rfl, by rw [hRl]; exact Nat.le_of_ble_eq_true rfl⟩ fc_X0 rfl (hx0 hX) rfl rfl hl.1 (Nat.le_of_ble_eq_true rfl) dX0_decade_23 (fun rQ stQ hQ => wX0_refuse l E hX (-1 : Int32) st6 rQ stQ hQ) hf (fun x35 st36 H locs hw hf => ?_)
  exact fd_i hend hw hf dX0_decade_26

/-- ForestRooms.drawn -/
def fX0_drawn (p1 : Int32) (p2 : Int32) (st0 : fo_St) : Option (Int32 × fo_St) := if (gi_ st0 0 27) = 0 then some ((-1 : Int32), st0) else bd_ (fX0_isRoom p1 st0) (fun x1 st2 => if x1 = 0 then some ((-1 : Int32), st2) else bd_ (fX0_in p2 (0 : Int32) (1 : Int32) st2) (fun x3 st4 => if ¬ x3 = 0 then if ¬ p2 = 0 then ck_ (fo_in p1 16) (some ((gi_ st4 44 p1.toNatClampNeg), st4)) else ck_ (fo_in p1 16) (some ((gi_ st4 43 p1.toNatClampNeg), st4)) else some ((-1 : Int32), st4)))
theorem hm_X0_drawn : fo_M yX0_drawn 2 := ⟨by decide +kernel, by decide +kernel, by decide +kernel, by decide +kernel⟩
set_option maxHeartbeats 4000000 in
theorem wX0_drawn (l : Launch) (E : fo_E) (hX : fo_HX E) (p1 : Int32) (p2 : Int32) (st0 : fo_St) (rZ : Int32) (stZ : fo_St) (hf : fX0_drawn p1 p2 st0 = some (rZ, stZ)) : CTi l E yX0_drawn (ws_ yX0_drawn cX0_drawn 3 (some .int)) ({ frames := 2, cells := 0, slots := 0, locals := 42 }) [.ref (eb E + 0), .int p1, .int p2] st0 rZ stZ := by
  refine fe_i hm_X0_drawn (Nat.le_of_ble_eq_true rfl) (fun p e R s m args below meth c Q hRf hRl X hend ls hl hw => ?_)
  have hx := X.1.1
  have hb := X.1.2.1
  have hl : lv_has ls 3 [(0, .ref (eb E + 0)), (1, .int p1), (2, .int p2)] := hl
  unfold fX0_drawn at hf
  generalize s.heap = H at hw ⊢
  generalize ([] : List Loc) = locs at hw ⊢
  refine lv_aload_n hx hb dX0_drawn_0 rfl (lv_at hl 0 rfl) ?_
  refine fo_geti X hw fc_X0 (hx0 hX) (k := 27) (by decide) rfl q372 dX0_drawn_1 ?_
  refine fb_zeq (tgt := 23) hx hb dX0_drawn_4 (by decide) hf (fun hf => ?_) (fun hf => ?_)
  · refine lv_iconst (v := (-1 : Int32)) hx hb dX0_drawn_23 (by decide) ?_
    refine lv_goto (tgt := 52) hx hb dX0_drawn_24 (by decide) ?_
    exact fd_i hend hw hf dX0_drawn_52
  refine lv_iload_n hx hb dX0_drawn_7 rfl (lv_at hl 1 rfl) ?_
  refine fc_Si (rest := []) (As := [.int p1]) X hw hm_X0_isRoom (lw_S q546 q547 q111 q548) ⟨rfl, rfl⟩ ⟨by rw [hRf]; exact Nat.le_of_ble_eq_true rfl, by rw [hRl]; exact Nat.le_of_ble_eq_true rfl⟩ rfl rfl hl.1 (Nat.le_of_ble_eq_true rfl) dX0_drawn_8 (fun rQ stQ hQ => wX0_isRoom l E hX p1 st0 rQ stQ hQ) hf (fun x1 st2 H locs hw hf => ?_)
  refine fb_zeq (tgt := 23) hx hb dX0_drawn_11 (by decide) hf (fun hf => ?_) (fun hf => ?_)
  · refine lv_iconst (v := (-1 : Int32)) hx hb dX0_drawn_23 (by decide) ?_
    refine lv_goto (tgt := 52) hx hb dX0_drawn_24 (by decide) ?_
    exact fd_i hend hw hf dX0_drawn_52
  refine lv_iload_n hx hb dX0_drawn_14 rfl (lv_at hl 2 rfl) ?_
  refine lv_iconst (v := (0 : Int32)) hx hb dX0_drawn_15 (by decide) ?_
  refine lv_iconst (v := (1 : Int32)) hx hb dX0_drawn_16 (by decide) ?_
  refine fc_Si (rest := []) (As := [.int p2, .int (0 : Int32), .int (1 : Int32)]) X hw hm_X0_in (lw_S q437 q438 q111 q439) ⟨rfl, rfl⟩ ⟨by rw [hRf]; exact Nat.le_of_ble_eq_true rfl, by rw [hRl]; exact Nat.le_of_ble_eq_true rfl⟩ rfl rfl hl.1 (Nat.le_of_ble_eq_true rfl) dX0_drawn_17 (fun rQ stQ hQ => wX0_in l E hX p2 (0 : Int32) (1 : Int32) st2 rQ stQ hQ) hf (fun x3 st4 H locs hw hf => ?_)
  refine fb_zne (tgt := 27) hx hb dX0_drawn_20 (by decide) hf (fun hf => ?_) (fun hf => ?_)
  · refine lv_iload_n hx hb dX0_drawn_27 rfl (lv_at hl 2 rfl) ?_
    refine fb_zne (tgt := 43) hx hb dX0_drawn_28 (by decide) hf (fun hf => ?_) (fun hf => ?_)
    · refine lv_aload_n hx hb dX0_drawn_43 rfl (lv_at hl 0 rfl) ?_
      refine fo_gets X hw fc_X0 (hx0 hX) (k := 26) (d := 42) (n2 := 42) (by decide) rfl rfl q371 dX0_drawn_44 ?_
      refine fo_getsN X hw fc_X2 (hx42 hX) (k := 1) (d := 2) (n2 := 44) (by decide) rfl rfl fn171 dX0_drawn_47 ?_
      refine lv_iload_n hx hb dX0_drawn_50 rfl (lv_at hl 1 rfl) ?_
      refine fo_iald X hw (hx44 hX) dX0_drawn_51 hf (fun hf => ?_)
      exact fd_i hend hw hf dX0_drawn_52
    refine lv_aload_n hx hb dX0_drawn_31 rfl (lv_at hl 0 rfl) ?_
    refine fo_gets X hw fc_X0 (hx0 hX) (k := 26) (d := 42) (n2 := 42) (by decide) rfl rfl q371 dX0_drawn_32 ?_
    refine fo_getsN X hw fc_X2 (hx42 hX) (k := 0) (d := 1) (n2 := 43) (by decide) rfl rfl fn168 dX0_drawn_35 ?_
    refine lv_iload_n hx hb dX0_drawn_38 rfl (lv_at hl 1 rfl) ?_
    refine fo_iald X hw (hx43 hX) dX0_drawn_39 hf (fun hf => ?_)
    refine lv_goto (tgt := 52) hx hb dX0_drawn_40 (by decide) ?_
    exact fd_i hend hw hf dX0_drawn_52
  refine lv_iconst (v := (-1 : Int32)) hx hb dX0_drawn_23 (by decide) ?_
  refine lv_goto (tgt := 52) hx hb dX0_drawn_24 (by decide) ?_
  exact fd_i hend hw hf dX0_drawn_52

/-- ForestRooms.count -/
def fX0_count (G : Nat) (p1 : Int32) (st0 : fo_St) : Option (Int32 × fo_St) := if p1 = (0 : Int32) then bd_ (fX0_table st0) (fun x1 st2 => ck_ (decide (x1 = 3)) (bd_ (fX2_trees G 3 st2) (fun x3 st4 => some (x3, st4)))) else if p1 = (1 : Int32) then bd_ (fX0_table st0) (fun x5 st6 => ck_ (decide (x5 = 3)) (bd_ (fX2_families G 3 st6) (fun x7 st8 => some (x7, st8)))) else if p1 = (2 : Int32) then bd_ (fX0_table st0) (fun x9 st10 => ck_ (decide (x9 = 3)) (bd_ (fX0_lostRooms G 3 st10) (fun x11 st12 => some (x11, st12)))) else if p1 = (3 : Int32) then some ((gi_ st0 2 9), st0) else if p1 = (4 : Int32) then bd_ (fJ2_size 14 st0) (fun x13 st14 => some (x13, st14)) else if p1 = (5 : Int32) then some ((gi_ st0 0 15), st0) else if p1 = (6 : Int32) then some ((gi_ st0 0 11), st0) else if p1 = (7 : Int32) then ck_ (fo_in (p1 - (6 : Int32)) 7) (some ((gi_ st0 1 (p1 - (6 : Int32)).toNatClampNeg), st0)) else if p1 = (8 : Int32) then ck_ (fo_in (p1 - (6 : Int32)) 7) (some ((gi_ st0 1 (p1 - (6 : Int32)).toNatClampNeg), st0)) else if p1 = (9 : Int32) then ck_ (fo_in (p1 - (6 : Int32)) 7) (some ((gi_ st0 1 (p1 - (6 : Int32)).toNatClampNeg), st0)) else if p1 = (10 : Int32) then ck_ (fo_in (p1 - (5 : Int32)) 7) (some ((gi_ st0 1 (p1 - (5 : Int32)).toNatClampNeg), st0)) else if p1 = (11 : Int32) then ck_ (fo_in (p1 - (5 : Int32)) 7) (some ((gi_ st0 1 (p1 - (5 : Int32)).toNatClampNeg), st0)) else if p1 = (12 : Int32) then some ((gi_ st0 2 11), st0) else if p1 = (13 : Int32) then bd_ (fX0_table st0) (fun x15 st16 => ck_ (decide (x15 = 3)) (some ((gi_ st16 3 3), st16))) else if p1 = (14 : Int32) then bd_ (fX0_term (p1 - (13 : Int32)) st0) (fun x17 st18 => some (x17, st18)) else if p1 = (15 : Int32) then bd_ (fX0_term (p1 - (13 : Int32)) st0) (fun x19 st20 => some (x19, st20)) else if p1 = (16 : Int32) then bd_ (fX0_term (p1 - (13 : Int32)) st0) (fun x21 st22 => some (x21, st22)) else if p1 = (17 : Int32) then bd_ (fX0_term (p1 - (13 : Int32)) st0) (fun x23 st24 => some (x23, st24)) else some ((-1 : Int32), st0)
theorem hm_X0_count : fo_M yX0_count 1 := ⟨by decide +kernel, by decide +kernel, by decide +kernel, by decide +kernel⟩
set_option maxHeartbeats 4000000 in
theorem wX0_count (l : Launch) (E : fo_E) (hX : fo_HX E) (G : Nat) (p1 : Int32) (st0 : fo_St) (rZ : Int32) (stZ : fo_St) (hf : fX0_count G p1 st0 = some (rZ, stZ)) : CTi l E yX0_count (ws_ yX0_count cX0_count 2 (some .int)) ({ frames := 2, cells := 0, slots := 0, locals := 45 }) [.ref (eb E + 0), .int p1] st0 rZ stZ := by
  refine fe_i hm_X0_count (Nat.le_of_ble_eq_true rfl) (fun p e R s m args below meth c Q hRf hRl X hend ls hl hw => ?_)
  have hx := X.1.1
  have hb := X.1.2.1
  have hl : lv_has ls 2 [(0, .ref (eb E + 0)), (1, .int p1)] := hl
  unfold fX0_count at hf
  generalize s.heap = H at hw ⊢
  generalize ([] : List Loc) = locs at hw ⊢
  refine lv_iload_n hx hb dX0_count_0 rfl (lv_at hl 1 rfl) ?_
  refine sw_e hf (fun e0 hf => ?_) (fun n0 hf => ?_)
  · refine lv_tableIn (tgt := 88) hx hb dX0_count_1 (by rw [e0]; decide) (by rw [e0]; decide) (off := 87) (by rw [e0]; decide) (by decide) ?_
    refine lv_aload_n hx hb dX0_count_88 rfl (lv_at hl 0 rfl) ?_
    refine fc_Vr (rest := []) (As := []) X hw hm_X0_table (lw_V q560 q562 qs6 q111 q563) ⟨rfl, rfl⟩ ⟨by rw [hRf]; exact Nat.le_of_ble_eq_true rfl, by rw [hRl]; exact Nat.le_of_ble_eq_true rfl⟩ fc_X0 rfl (hx0 hX) rfl rfl hl.1 (Nat.le_of_ble_eq_true rfl) dX0_count_89 (fun rQ stQ hQ => wX0_table l E hX st0 rQ stQ hQ) hf (fun x1 st2 H locs hw hf => ?_)
    have hc0 := ck_e hf
    clear hf
    obtain ⟨hc, hf⟩ := hc0
    replace hc := of_decide_eq_true hc
    subst hc
    refine fc_Vi (rest := []) (As := []) X hw hm_X2_trees (lw_V q1440 q1441 q1442 q113 q1443) ⟨rfl, rfl⟩ ⟨by rw [hRf]; exact Nat.le_of_ble_eq_true rfl, by rw [hRl]; exact Nat.le_of_ble_eq_true rfl⟩ fc_X2 rfl (hx3 hX) rfl rfl hl.1 (Nat.le_of_ble_eq_true rfl) dX0_count_92 (fun rQ stQ hQ => wX2_trees l E G 3 (hxT3 hX) st2 rQ stQ hQ) hf (fun x3 st4 H locs hw hf => ?_)
    exact fd_i hend hw hf dX0_count_95
  refine sw_e hf (fun e0 hf => ?_) (fun n1 hf => ?_)
  · refine lv_tableIn (tgt := 96) hx hb dX0_count_1 (by rw [e0]; decide) (by rw [e0]; decide) (off := 95) (by rw [e0]; decide) (by decide) ?_
    refine lv_aload_n hx hb dX0_count_96 rfl (lv_at hl 0 rfl) ?_
    refine fc_Vr (rest := []) (As := []) X hw hm_X0_table (lw_V q560 q562 qs6 q111 q563) ⟨rfl, rfl⟩ ⟨by rw [hRf]; exact Nat.le_of_ble_eq_true rfl, by rw [hRl]; exact Nat.le_of_ble_eq_true rfl⟩ fc_X0 rfl (hx0 hX) rfl rfl hl.1 (Nat.le_of_ble_eq_true rfl) dX0_count_97 (fun rQ stQ hQ => wX0_table l E hX st0 rQ stQ hQ) hf (fun x5 st6 H locs hw hf => ?_)
    have hc0 := ck_e hf
    clear hf
    obtain ⟨hc, hf⟩ := hc0
    replace hc := of_decide_eq_true hc
    subst hc
    refine fc_Vi (rest := []) (As := []) X hw hm_X2_families (lw_V q1312 q1313 q1314 q113 q1315) ⟨rfl, rfl⟩ ⟨by rw [hRf]; exact Nat.le_of_ble_eq_true rfl, by rw [hRl]; exact Nat.le_of_ble_eq_true rfl⟩ fc_X2 rfl (hx3 hX) rfl rfl hl.1 (Nat.le_of_ble_eq_true rfl) dX0_count_100 (fun rQ stQ hQ => wX2_families l E G 3 (hxT3 hX) st6 rQ stQ hQ) hf (fun x7 st8 H locs hw hf => ?_)
    exact fd_i hend hw hf dX0_count_103
  refine sw_e hf (fun e0 hf => ?_) (fun n2 hf => ?_)
  · refine lv_tableIn (tgt := 104) hx hb dX0_count_1 (by rw [e0]; decide) (by rw [e0]; decide) (off := 103) (by rw [e0]; decide) (by decide) ?_
    refine lv_aload_n hx hb dX0_count_104 rfl (lv_at hl 0 rfl) ?_
    refine lv_aload_n hx hb dX0_count_105 rfl (lv_at hl 0 rfl) ?_
    refine fc_Vr (rest := [.ref (eb E + 0)]) (As := []) X hw hm_X0_table (lw_V q560 q562 qs6 q111 q563) ⟨rfl, rfl⟩ ⟨by rw [hRf]; exact Nat.le_of_ble_eq_true rfl, by rw [hRl]; exact Nat.le_of_ble_eq_true rfl⟩ fc_X0 rfl (hx0 hX) rfl rfl hl.1 (Nat.le_of_ble_eq_true rfl) dX0_count_106 (fun rQ stQ hQ => wX0_table l E hX st0 rQ stQ hQ) hf (fun x9 st10 H locs hw hf => ?_)
    have hc0 := ck_e hf
    clear hf
    obtain ⟨hc, hf⟩ := hc0
    replace hc := of_decide_eq_true hc
    subst hc
    refine fc_Vi (rest := []) (As := [.ref (eb E + 3)]) X hw hm_X0_lostRooms (lw_V q1320 q1322 qs27 q111 q1323) ⟨rfl, rfl⟩ ⟨by rw [hRf]; exact Nat.le_of_ble_eq_true rfl, by rw [hRl]; exact Nat.le_of_ble_eq_true rfl⟩ fc_X0 rfl (hx0 hX) rfl rfl hl.1 (Nat.le_of_ble_eq_true rfl) dX0_count_109 (fun rQ stQ hQ => wX0_lostRooms l E hX G 3 (hxT3 hX) st10 rQ stQ hQ) hf (fun x11 st12 H locs hw hf => ?_)
    exact fd_i hend hw hf dX0_count_112
  refine sw_e hf (fun e0 hf => ?_) (fun n3 hf => ?_)
  · refine lv_tableIn (tgt := 113) hx hb dX0_count_1 (by rw [e0]; decide) (by rw [e0]; decide) (off := 112) (by rw [e0]; decide) (by decide) ?_
    refine lv_aload_n hx hb dX0_count_113 rfl (lv_at hl 0 rfl) ?_
    refine fo_gets X hw fc_X0 (hx0 hX) (k := 2) (d := 2) (n2 := 2) (by decide) rfl rfl q347 dX0_count_114 ?_
    refine fo_getiN X hw fc_X1 (hx2 hX) (k := 9) (by decide) rfl fn233 dX0_count_117 ?_
    exact fd_i hend hw hf dX0_count_120
  refine sw_e hf (fun e0 hf => ?_) (fun n4 hf => ?_)
  · refine lv_tableIn (tgt := 121) hx hb dX0_count_1 (by rw [e0]; decide) (by rw [e0]; decide) (off := 120) (by rw [e0]; decide) (by decide) ?_
    refine lv_aload_n hx hb dX0_count_121 rfl (lv_at hl 0 rfl) ?_
    refine fo_gets X hw fc_X0 (hx0 hX) (k := 2) (d := 2) (n2 := 2) (by decide) rfl rfl q347 dX0_count_122 ?_
    refine fo_getsN X hw fc_X1 (hx2 hX) (k := 8) (d := 12) (n2 := 14) (by decide) rfl rfl fn231 dX0_count_125 ?_
    refine fc_Vi (rest := []) (As := []) X hw hm_J2_size (lw_V q709 q607 q608 q116 q609) ⟨rfl, rfl⟩ ⟨by rw [hRf]; exact Nat.le_of_ble_eq_true rfl, by rw [hRl]; exact Nat.le_of_ble_eq_true rfl⟩ fc_J2 rfl (hx14 hX) rfl rfl hl.1 (Nat.le_of_ble_eq_true rfl) dX0_count_128 (fun rQ stQ hQ => wJ2_size l E 14 (hx14 hX) st0 rQ stQ hQ) hf (fun x13 st14 H locs hw hf => ?_)
    exact fd_i hend hw hf dX0_count_131
  refine sw_e hf (fun e0 hf => ?_) (fun n5 hf => ?_)
  · refine lv_tableIn (tgt := 132) hx hb dX0_count_1 (by rw [e0]; decide) (by rw [e0]; decide) (off := 131) (by rw [e0]; decide) (by decide) ?_
    refine lv_aload_n hx hb dX0_count_132 rfl (lv_at hl 0 rfl) ?_
    refine fo_geti X hw fc_X0 (hx0 hX) (k := 15) (by decide) rfl q360 dX0_count_133 ?_
    exact fd_i hend hw hf dX0_count_136
  refine sw_e hf (fun e0 hf => ?_) (fun n6 hf => ?_)
  · refine lv_tableIn (tgt := 137) hx hb dX0_count_1 (by rw [e0]; decide) (by rw [e0]; decide) (off := 136) (by rw [e0]; decide) (by decide) ?_
    refine lv_aload_n hx hb dX0_count_137 rfl (lv_at hl 0 rfl) ?_
    refine fo_geti X hw fc_X0 (hx0 hX) (k := 11) (by decide) rfl q356 dX0_count_138 ?_
    exact fd_i hend hw hf dX0_count_141
  refine sw_e hf (fun e0 hf => ?_) (fun n7 hf => ?_)
  · refine lv_tableIn (tgt := 142) hx hb dX0_count_1 (by rw [e0]; decide) (by rw [e0]; decide) (off := 141) (by rw [e0]; decide) (by decide) ?_
    refine lv_aload_n hx hb dX0_count_142 rfl (lv_at hl 0 rfl) ?_
    refine fo_gets X hw fc_X0 (hx0 hX) (k := 1) (d := 1) (n2 := 1) (by decide) rfl rfl q346 dX0_count_143 ?_
    refine lv_iload_n hx hb dX0_count_146 rfl (lv_at hl 1 rfl) ?_
    refine lv_bipush (v := (6 : Int32)) hx hb dX0_count_147 (by decide) ?_
    refine lv_isub hx hb dX0_count_149 ?_
    refine fo_iald X hw (hx1 hX) dX0_count_150 hf (fun hf => ?_)
    exact fd_i hend hw hf dX0_count_151
  refine sw_e hf (fun e0 hf => ?_) (fun n8 hf => ?_)
  · refine lv_tableIn (tgt := 142) hx hb dX0_count_1 (by rw [e0]; decide) (by rw [e0]; decide) (off := 141) (by rw [e0]; decide) (by decide) ?_
    refine lv_aload_n hx hb dX0_count_142 rfl (lv_at hl 0 rfl) ?_
    refine fo_gets X hw fc_X0 (hx0 hX) (k := 1) (d := 1) (n2 := 1) (by decide) rfl rfl q346 dX0_count_143 ?_
    refine lv_iload_n hx hb dX0_count_146 rfl (lv_at hl 1 rfl) ?_
    refine lv_bipush (v := (6 : Int32)) hx hb dX0_count_147 (by decide) ?_
    refine lv_isub hx hb dX0_count_149 ?_
    refine fo_iald X hw (hx1 hX) dX0_count_150 hf (fun hf => ?_)
    exact fd_i hend hw hf dX0_count_151
  refine sw_e hf (fun e0 hf => ?_) (fun n9 hf => ?_)
  · refine lv_tableIn (tgt := 142) hx hb dX0_count_1 (by rw [e0]; decide) (by rw [e0]; decide) (off := 141) (by rw [e0]; decide) (by decide) ?_
    refine lv_aload_n hx hb dX0_count_142 rfl (lv_at hl 0 rfl) ?_
    refine fo_gets X hw fc_X0 (hx0 hX) (k := 1) (d := 1) (n2 := 1) (by decide) rfl rfl q346 dX0_count_143 ?_
    refine lv_iload_n hx hb dX0_count_146 rfl (lv_at hl 1 rfl) ?_
    refine lv_bipush (v := (6 : Int32)) hx hb dX0_count_147 (by decide) ?_
    refine lv_isub hx hb dX0_count_149 ?_
    refine fo_iald X hw (hx1 hX) dX0_count_150 hf (fun hf => ?_)
    exact fd_i hend hw hf dX0_count_151
  refine sw_e hf (fun e0 hf => ?_) (fun n10 hf => ?_)
  · refine lv_tableIn (tgt := 152) hx hb dX0_count_1 (by rw [e0]; decide) (by rw [e0]; decide) (off := 151) (by rw [e0]; decide) (by decide) ?_
    refine lv_aload_n hx hb dX0_count_152 rfl (lv_at hl 0 rfl) ?_
    refine fo_gets X hw fc_X0 (hx0 hX) (k := 1) (d := 1) (n2 := 1) (by decide) rfl rfl q346 dX0_count_153 ?_
    refine lv_iload_n hx hb dX0_count_156 rfl (lv_at hl 1 rfl) ?_
    refine lv_iconst (v := (5 : Int32)) hx hb dX0_count_157 (by decide) ?_
    refine lv_isub hx hb dX0_count_158 ?_
    refine fo_iald X hw (hx1 hX) dX0_count_159 hf (fun hf => ?_)
    exact fd_i hend hw hf dX0_count_160
  refine sw_e hf (fun e0 hf => ?_) (fun n11 hf => ?_)
  · refine lv_tableIn (tgt := 152) hx hb dX0_count_1 (by rw [e0]; decide) (by rw [e0]; decide) (off := 151) (by rw [e0]; decide) (by decide) ?_
    refine lv_aload_n hx hb dX0_count_152 rfl (lv_at hl 0 rfl) ?_
    refine fo_gets X hw fc_X0 (hx0 hX) (k := 1) (d := 1) (n2 := 1) (by decide) rfl rfl q346 dX0_count_153 ?_
    refine lv_iload_n hx hb dX0_count_156 rfl (lv_at hl 1 rfl) ?_
    refine lv_iconst (v := (5 : Int32)) hx hb dX0_count_157 (by decide) ?_
    refine lv_isub hx hb dX0_count_158 ?_
    refine fo_iald X hw (hx1 hX) dX0_count_159 hf (fun hf => ?_)
    exact fd_i hend hw hf dX0_count_160
  refine sw_e hf (fun e0 hf => ?_) (fun n12 hf => ?_)
  · refine lv_tableIn (tgt := 161) hx hb dX0_count_1 (by rw [e0]; decide) (by rw [e0]; decide) (off := 160) (by rw [e0]; decide) (by decide) ?_
    refine lv_aload_n hx hb dX0_count_161 rfl (lv_at hl 0 rfl) ?_
    refine fo_gets X hw fc_X0 (hx0 hX) (k := 2) (d := 2) (n2 := 2) (by decide) rfl rfl q347 dX0_count_162 ?_
    refine fo_getiN X hw fc_X1 (hx2 hX) (k := 11) (by decide) rfl fn237 dX0_count_165 ?_
    exact fd_i hend hw hf dX0_count_168
  refine sw_e hf (fun e0 hf => ?_) (fun n13 hf => ?_)
  · refine lv_tableIn (tgt := 169) hx hb dX0_count_1 (by rw [e0]; decide) (by rw [e0]; decide) (off := 168) (by rw [e0]; decide) (by decide) ?_
    refine lv_aload_n hx hb dX0_count_169 rfl (lv_at hl 0 rfl) ?_
    refine fc_Vr (rest := []) (As := []) X hw hm_X0_table (lw_V q560 q562 qs6 q111 q563) ⟨rfl, rfl⟩ ⟨by rw [hRf]; exact Nat.le_of_ble_eq_true rfl, by rw [hRl]; exact Nat.le_of_ble_eq_true rfl⟩ fc_X0 rfl (hx0 hX) rfl rfl hl.1 (Nat.le_of_ble_eq_true rfl) dX0_count_170 (fun rQ stQ hQ => wX0_table l E hX st0 rQ stQ hQ) hf (fun x15 st16 H locs hw hf => ?_)
    have hc0 := ck_e hf
    clear hf
    obtain ⟨hc, hf⟩ := hc0
    replace hc := of_decide_eq_true hc
    subst hc
    refine fo_getiN X hw fc_X2 (hx3 hX) (k := 3) (by decide) rfl fn175 dX0_count_173 ?_
    exact fd_i hend hw hf dX0_count_176
  refine sw_e hf (fun e0 hf => ?_) (fun n14 hf => ?_)
  · refine lv_tableIn (tgt := 177) hx hb dX0_count_1 (by rw [e0]; decide) (by rw [e0]; decide) (off := 176) (by rw [e0]; decide) (by decide) ?_
    refine lv_aload_n hx hb dX0_count_177 rfl (lv_at hl 0 rfl) ?_
    refine lv_iload_n hx hb dX0_count_178 rfl (lv_at hl 1 rfl) ?_
    refine lv_bipush (v := (13 : Int32)) hx hb dX0_count_179 (by decide) ?_
    refine lv_isub hx hb dX0_count_181 ?_
    refine fc_Vi (rest := []) (As := [.int (p1 - (13 : Int32))]) X hw hm_X0_term (lw_V q581 q583 qs9 q111 q584) ⟨rfl, rfl⟩ ⟨by rw [hRf]; exact Nat.le_of_ble_eq_true rfl, by rw [hRl]; exact Nat.le_of_ble_eq_true rfl⟩ fc_X0 rfl (hx0 hX) rfl rfl hl.1 (Nat.le_of_ble_eq_true rfl) dX0_count_182 (fun rQ stQ hQ => wX0_term l E hX (p1 - (13 : Int32)) st0 rQ stQ hQ) hf (fun x17 st18 H locs hw hf => ?_)
    exact fd_i hend hw hf dX0_count_185
  refine sw_e hf (fun e0 hf => ?_) (fun n15 hf => ?_)
  · refine lv_tableIn (tgt := 177) hx hb dX0_count_1 (by rw [e0]; decide) (by rw [e0]; decide) (off := 176) (by rw [e0]; decide) (by decide) ?_
    refine lv_aload_n hx hb dX0_count_177 rfl (lv_at hl 0 rfl) ?_
    refine lv_iload_n hx hb dX0_count_178 rfl (lv_at hl 1 rfl) ?_
    refine lv_bipush (v := (13 : Int32)) hx hb dX0_count_179 (by decide) ?_
    refine lv_isub hx hb dX0_count_181 ?_
    refine fc_Vi (rest := []) (As := [.int (p1 - (13 : Int32))]) X hw hm_X0_term (lw_V q581 q583 qs9 q111 q584) ⟨rfl, rfl⟩ ⟨by rw [hRf]; exact Nat.le_of_ble_eq_true rfl, by rw [hRl]; exact Nat.le_of_ble_eq_true rfl⟩ fc_X0 rfl (hx0 hX) rfl rfl hl.1 (Nat.le_of_ble_eq_true rfl) dX0_count_182 (fun rQ stQ hQ => wX0_term l E hX (p1 - (13 : Int32)) st0 rQ stQ hQ) hf (fun x19 st20 H locs hw hf => ?_)
    exact fd_i hend hw hf dX0_count_185
  refine sw_e hf (fun e0 hf => ?_) (fun n16 hf => ?_)
  · refine lv_tableIn (tgt := 177) hx hb dX0_count_1 (by rw [e0]; decide) (by rw [e0]; decide) (off := 176) (by rw [e0]; decide) (by decide) ?_
    refine lv_aload_n hx hb dX0_count_177 rfl (lv_at hl 0 rfl) ?_
    refine lv_iload_n hx hb dX0_count_178 rfl (lv_at hl 1 rfl) ?_
    refine lv_bipush (v := (13 : Int32)) hx hb dX0_count_179 (by decide) ?_
    refine lv_isub hx hb dX0_count_181 ?_
    refine fc_Vi (rest := []) (As := [.int (p1 - (13 : Int32))]) X hw hm_X0_term (lw_V q581 q583 qs9 q111 q584) ⟨rfl, rfl⟩ ⟨by rw [hRf]; exact Nat.le_of_ble_eq_true rfl, by rw [hRl]; exact Nat.le_of_ble_eq_true rfl⟩ fc_X0 rfl (hx0 hX) rfl rfl hl.1 (Nat.le_of_ble_eq_true rfl) dX0_count_182 (fun rQ stQ hQ => wX0_term l E hX (p1 - (13 : Int32)) st0 rQ stQ hQ) hf (fun x21 st22 H locs hw hf => ?_)
    exact fd_i hend hw hf dX0_count_185
  refine sw_e hf (fun e0 hf => ?_) (fun n17 hf => ?_)
  · refine lv_tableIn (tgt := 177) hx hb dX0_count_1 (by rw [e0]; decide) (by rw [e0]; decide) (off := 176) (by rw [e0]; decide) (by decide) ?_
    refine lv_aload_n hx hb dX0_count_177 rfl (lv_at hl 0 rfl) ?_
    refine lv_iload_n hx hb dX0_count_178 rfl (lv_at hl 1 rfl) ?_
    refine lv_bipush (v := (13 : Int32)) hx hb dX0_count_179 (by decide) ?_
    refine lv_isub hx hb dX0_count_181 ?_
    refine fc_Vi (rest := []) (As := [.int (p1 - (13 : Int32))]) X hw hm_X0_term (lw_V q581 q583 qs9 q111 q584) ⟨rfl, rfl⟩ ⟨by rw [hRf]; exact Nat.le_of_ble_eq_true rfl, by rw [hRl]; exact Nat.le_of_ble_eq_true rfl⟩ fc_X0 rfl (hx0 hX) rfl rfl hl.1 (Nat.le_of_ble_eq_true rfl) dX0_count_182 (fun rQ stQ hQ => wX0_term l E hX (p1 - (13 : Int32)) st0 rQ stQ hQ) hf (fun x23 st24 H locs hw hf => ?_)
    exact fd_i hend hw hf dX0_count_185
  refine lv_tableOut (tgt := 186) hx hb dX0_count_1 (by have g0 := lv_neT n0 (a := 0) (by decide); have g1 := lv_neT n1 (a := 1) (by decide); have g2 := lv_neT n2 (a := 2) (by decide); have g3 := lv_neT n3 (a := 3) (by decide); have g4 := lv_neT n4 (a := 4) (by decide); have g5 := lv_neT n5 (a := 5) (by decide); have g6 := lv_neT n6 (a := 6) (by decide); have g7 := lv_neT n7 (a := 7) (by decide); have g8 := lv_neT n8 (a := 8) (by decide); have g9 := lv_neT n9 (a := 9) (by decide); have g10 := lv_neT n10 (a := 10) (by decide); have g11 := lv_neT n11 (a := 11) (by decide); have g12 := lv_neT n12 (a := 12) (by decide); have g13 := lv_neT n13 (a := 13) (by decide); have g14 := lv_neT n14 (a := 14) (by decide); have g15 := lv_neT n15 (a := 15) (by decide); have g16 := lv_neT n16 (a := 16) (by decide); have g17 := lv_neT n17 (a := 17) (by decide); omega) (by decide) ?_
  refine lv_iconst (v := (-1 : Int32)) hx hb dX0_count_186 (by decide) ?_
  exact fd_i hend hw hf dX0_count_187

/-- ForestRooms.status -/
def fX0_status (st0 : fo_St) : Option (Int32 × fo_St) := some ((gi_ st0 0 0), st0)
theorem hm_X0_status : fo_M yX0_status 0 := ⟨by decide +kernel, by decide +kernel, by decide +kernel, by decide +kernel⟩
set_option maxHeartbeats 4000000 in
theorem wX0_status (l : Launch) (E : fo_E) (hX : fo_HX E) (st0 : fo_St) (rZ : Int32) (stZ : fo_St) (hf : fX0_status st0 = some (rZ, stZ)) : CTi l E yX0_status (ws_ yX0_status cX0_status 1 (some .int)) ({ frames := 0, cells := 0, slots := 0, locals := 0 }) [.ref (eb E + 0)] st0 rZ stZ := by
  refine fe_i hm_X0_status (Nat.le_of_ble_eq_true rfl) (fun p e R s m args below meth c Q hRf hRl X hend ls hl hw => ?_)
  have hx := X.1.1
  have hb := X.1.2.1
  have hl : lv_has ls 1 [(0, .ref (eb E + 0))] := hl
  unfold fX0_status at hf
  generalize s.heap = H at hw ⊢
  generalize ([] : List Loc) = locs at hw ⊢
  refine lv_aload_n hx hb dX0_status_0 rfl (lv_at hl 0 rfl) ?_
  refine fo_geti X hw fc_X0 (hx0 hX) (k := 0) (by decide) rfl q345 dX0_status_1 ?_
  exact fd_i hend hw hf dX0_status_4

