/-! walks of methods that make cells or throw, printed by genA.py -/
set_option maxRecDepth 100000
set_option maxHeartbeats 1000000 in
theorem wX6_sum_17 (l : Launch) (E : fo_E) (K V : Nat → Nat) (mi : Nat) (hSX : fo_SX E K V mi) (G : Nat) (o : Nat) (fr lo : Nat) (d : Nat) (hfr : 4 * d + 23 ≤ fr) (hlo : 200 * d + 1065 ≤ lo) (cN cS : Nat) (recS : Nat → (Nat → Nat × Nat) → Nat → Nat → fo_St → Option ((Nat ⊕ Nat) × fo_A)) (recV : Nat → (Nat → Nat × Nat) → Nat → Nat → fo_St → Option ((Int32 ⊕ Nat) × fo_A)) (hrecS : ∀ (q : Nat) (tg : Nat → Nat × Nat) (nx ns : Nat) (hq : tg q = (1, 17)) (st : fo_St) (hI : fo_I E tg nx) (hcN : nx ≤ cN) (hcS : ns ≤ cS) (ρ : Nat ⊕ Nat) (a1 : fo_A), recS q tg nx ns st = some (ρ, a1) → CA (vlR (eb E)) l E yX6_sum (ws_ yX6_sum cX6_sum 3 (some (.object "ForestRooms$Sum"))) (4 * d + 20) (200 * d + 1000) cN cS [.ref (eb E + q)] (tg, nx, ns, st) ρ a1) (hrecV : ∀ (q : Nat) (tg : Nat → Nat × Nat) (nx ns : Nat) (hq : tg q = (1, 17)) (st : fo_St) (hI : fo_I E tg nx) (hcN : nx ≤ cN) (hcS : ns ≤ cS) (ρ : Int32 ⊕ Nat) (a1 : fo_A), recV q tg nx ns st = some (ρ, a1) → CA vlI l E yX20_value (ws_ yX20_value cX20_value 1 (some .int)) (14) (400) cN cS [.ref (eb E + q)] (tg, nx, ns, st) ρ a1) (tg0 : Nat → Nat × Nat) (nx0 ns0 : Nat) (hO : tg0 o = (1, 17)) (st0 : fo_St) (hI : fo_I E tg0 nx0) (hcN : nx0 ≤ cN) (hcS : ns0 ≤ cS) (ρZ : Nat ⊕ Nat) (aZ : fo_A) (hf : fX6_sum cN cS G recS recV o tg0 nx0 ns0 st0 = some (ρZ, aZ)) : CA (vlR (eb E)) l E yX6_sum (ws_ yX6_sum cX6_sum 3 (some (.object "ForestRooms$Sum"))) fr lo cN cS [.ref (eb E + o)] (tg0, nx0, ns0, st0) ρZ aZ := by
  refine fea_r (a := (tg0, nx0, ns0, st0)) (Or.inl ⟨_, rfl⟩) hm_X6_sum (Nat.le_of_ble_eq_true rfl) hI hcN hcS (fun p e R s m args below meth c Q hRf hRl X hnm hend hxx ls hl hz => ?_)
  replace hRf : 4 * d + 23 ≤ R.frames := by rw [hRf]; exact hfr
  replace hRl : 200 * d + 1065 ≤ R.locals := by rw [hRl]; exact hlo
  have hR0 : 4 * d + 22 + 1 ≤ R.frames ∧ 8 + (3 + 11) + (200 * d + 1043) ≤ R.locals := ⟨by omega, by omega⟩
  have hR1 : 10 + 1 ≤ R.frames ∧ 8 + (3 + 11) + (200) ≤ R.locals := ⟨by omega, by omega⟩
  have hR2 : 1 + 1 ≤ R.frames ∧ 8 + (1 + 11) + (23) ≤ R.locals := ⟨by omega, by omega⟩
  have hR3 : 3 + 1 ≤ R.frames ∧ 8 + (4 + 11) + (80) ≤ R.locals := ⟨by omega, by omega⟩
  have hx := X.1.1
  have hb := X.1.2.1
  have hl : lv_has ls 3 [(0, .ref (eb E + o))] := hl
  have hz : fo_Z E R s cN cS (tg0, nx0, ns0, st0) tg0 nx0 ns0 st0 s.heap [] := hz
  have hw := hz.1
  show W p l e R s m args below meth c s.heap [] (nx0 - nx0) (ns0 - ns0) Q (F0 m 0 ls [])
  unfold fX6_sum at hf
  generalize s.heap = H at hz hw ⊢
  generalize ([] : List Loc) = locs at hz hw ⊢
  refine lv_aload_n hx hb dX6_sum_0 rfl (lv_at hl 0 rfl) ?_
  have hf0 := hf
  clear hf
  refine fa_O (n := 0) (fr := 4 * d + 22) (lo := 200 * d + 1043) (val := (vlR (eb E))) (rest := []) (As := []) X hz (lw_O q891 q893 q892 q895 q892 q125 q896) q896 ⟨by decide, by decide, by decide +kernel⟩ hR0 fc_X20 hO rfl rfl hl.1 (Nat.le_of_ble_eq_true rfl) dX6_sum_1 (fun rQ aQ hQ => wX6_term_17 l E K V mi hSX G o (4 * d + 22) (200 * d + 1043) d (Nat.le_refl _) (Nat.le_refl _) cN cS recS recV hrecS hrecV tg0 nx0 ns0 hO st0 hI hz.2.2.2.2.2.2.1 hz.2.2.2.2.2.2.2.2 rQ aQ hQ) hf0 (fun nX EX tgX nxX nsX stX H locs hTX hxX hz2 hf => ?_) (fun x1 tg2 nx2 ns2 sa2 H locs hext hz2 hf => ?_)
  · exact fda_x hxx hTX hz2 hf
  clear hf0
  have hO := hext.t hI hO
  have hz := hz2
  have hw := hz.1
  have hI := hz.2.1
  clear hz2 hext
  refine lv_astore_n (lv' := [(1, .ref (eb E + x1)), (0, .ref (eb E + o))]) hx hb dX6_sum_4 rfl hl (by decide) rfl (fun ls hl => ?_)
  refine lp2_e (P := fun x3 a4 => ∀ (H : Heap) (locs : List Loc) (ls : Array Slot), a4.1 o = (1, 17) → lv_has ls 3 [(1, .ref (eb E + x3)), (0, .ref (eb E + o))] → fo_Z E R s cN cS (tg0, nx0, ns0, st0) a4.1 a4.2.1 a4.2.2.1 a4.2.2.2 H locs → W p l e R s m args below meth c H locs (a4.2.1 - nx0) (a4.2.2.1 - ns0) Q (F0 m 5 ls [])) (fun rec5 hrec5 x3 a4 hf => ?_) G _ _ hf H locs ls hO (lv_sub hl [0, 1] rfl) hz
  obtain ⟨tg4, nx4, ns4, sa4⟩ := a4
  intro H locs ls hO hl hz
  have hO : tg4 o = (1, 17) := hO
  have hz : fo_Z E R s cN cS (tg0, nx0, ns0, st0) tg4 nx4 ns4 sa4 H locs := hz
  show W p l e R s m args below meth c H locs (nx4 - nx0) (ns4 - ns0) Q (F0 m 5 ls [])
  replace hf := aw_u hf
  have hw := hz.1
  have hI := hz.2.1
  refine lv_aload_n hx hb dX6_sum_5 rfl (lv_at hl 1 rfl) ?_
  refine fo_ldcS X hSX lq_28 dX6_sum_6 ?_
  have hf0 := hf
  clear hf
  refine fa_O (n := 1) (fr := 10) (lo := 200) (val := vlI) (rest := []) (As := [.ref (K 28)]) X hz (lw_O q904 q2228 q785 q2230 q785 q125 q786) q786 ⟨by decide, by decide, by decide +kernel⟩ hR1 fc_X20 hO rfl rfl hl.1 (Nat.le_of_ble_eq_true rfl) dX6_sum_8 (fun rQ aQ hQ => wX6_is_17 l E K V mi hSX G o 28 (10) (200) (Nat.le_refl _) (Nat.le_refl _) cN cS tg4 nx4 ns4 hO (by decide) sa4 hI hz.2.2.2.2.2.2.1 hz.2.2.2.2.2.2.2.2 rQ aQ hQ) hf0 (fun nX EX tgX nxX nsX stX H locs hTX hxX hz2 hf => ?_) (fun x6 tg7 nx7 ns7 sa7 H locs hext hz2 hf => ?_)
  · exact fda_x hxx hTX hz2 hf
  clear hf0
  have hO := hext.t hI hO
  have hz := hz2
  have hw := hz.1
  have hI := hz.2.1
  clear hz2 hext
  have hf0 := hf
  clear hf
  refine fb_zne (tgt := 23) hx hb dX6_sum_11 (by decide) hf0 (fun hf => ?_) (fun hf => ?_)
  · clear hf0
    refine lv_aload_n hx hb dX6_sum_23 rfl (lv_at hl 1 rfl) ?_
    have hf0 := hf
    clear hf
    refine fo_getr (fo_Xw X) hw fc_X20 hO (k := 0) (by decide) rfl q725 dX6_sum_24 hf0 (fun q8 hf => ?_)
    clear hf0
    refine lv_aload_n hx hb dX6_sum_27 rfl (lv_at hl 1 rfl) ?_
    refine fo_geti (fo_Xw X) hw fc_X20 hO (k := 3) (by decide) rfl q728 dX6_sum_28 ?_
    have hf0 := ck_e hf
    clear hf
    obtain ⟨hq9, hf⟩ := hf0
    have hq9 := of_decide_eq_true hq9
    have hf0 := hf
    clear hf
    refine fo_bald (fo_Xw X) hw hq9 dX6_sum_31 hf0 (fun hf => ?_)
    clear hf0
    refine lv_i2c (v := ((gi_ sa7 q8 (gi_ sa7 o 3).toNatClampNeg).toUInt32 % 65536).toInt32) hx hb dX6_sum_32 rfl ?_
    have hf0 := hf
    clear hf
    refine fo_tI hf0 (fun x10 hf => ?_)
    clear hf0
    refine lv_istore_n (lv' := [(2, .int x10), (1, .ref (eb E + x3)), (0, .ref (eb E + o))]) hx hb dX6_sum_33 rfl hl (by decide) rfl (fun ls hl => ?_)
    refine lv_aload_n hx hb dX6_sum_34 rfl (lv_at hl 2 rfl) ?_
    have hf0 := hf
    clear hf
    refine fa_O (n := 0) (fr := 1) (lo := 23) (val := vlV) (rest := []) (As := []) X hz (lw_O q762 q764 q763 q766 q763 q125 q767) q767 ⟨by decide, by decide, by decide +kernel⟩ hR2 fc_X20 hO rfl rfl hl.1 (Nat.le_of_ble_eq_true rfl) dX6_sum_35 (fun rQ aQ hQ => wX6_next_17 l E G o (1) (23) (Nat.le_refl _) (Nat.le_refl _) cN cS tg7 nx7 ns7 hO sa7 hI hz.2.2.2.2.2.2.1 hz.2.2.2.2.2.2.2.2 rQ aQ hQ) hf0 (fun nX EX tgX nxX nsX stX H locs hTX hxX hz2 hf => ?_) (fun x11 tg12 nx12 ns12 sa12 H locs hext hz2 hf => ?_)
    · exact fda_x hxx hTX hz2 hf
    clear hf0
    have hO := hext.t hI hO
    have hq9 := hext.t hI hq9
    have hz := hz2
    have hw := hz.1
    have hI := hz.2.1
    clear hz2 hext
    have hf0 := hf
    clear hf
    refine fa_new X hz fc_X13 fd_X13 q1003 q1004 q135 dX6_sum_38 hf0 (fun tg13 nx13 ns13 sa13 H hext hq14 hz2 hf => ?_)
    clear hf0
    have hO := hext.t hI hO
    have hq9 := hext.t hI hq9
    have hz := hz2
    have hw := hz.1
    have hI := hz.2.1
    clear hz2 hext
    refine lv_dup hx hb dX6_sum_41 rfl ?_
    refine lv_iload_n hx hb dX6_sum_42 rfl (lv_at hl 0 rfl) ?_
    refine lv_aload_n hx hb dX6_sum_43 rfl (lv_at hl 1 rfl) ?_
    refine lv_aload_n hx hb dX6_sum_44 rfl (lv_at hl 2 rfl) ?_
    have hf0 := hf
    clear hf
    refine fa_O (n := 0) (fr := 4 * d + 22) (lo := 200 * d + 1043) (val := (vlR (eb E))) (rest := [.ref (eb E + x3), .int x10, .ref (eb E + nx12), .ref (eb E + nx12)]) (As := []) X hz (lw_O q891 q893 q892 q895 q892 q125 q896) q896 ⟨by decide, by decide, by decide +kernel⟩ hR0 fc_X20 hO rfl rfl hl.1 (Nat.le_of_ble_eq_true rfl) dX6_sum_45 (fun rQ aQ hQ => wX6_term_17 l E K V mi hSX G o (4 * d + 22) (200 * d + 1043) d (Nat.le_refl _) (Nat.le_refl _) cN cS recS recV hrecS hrecV tg13 nx13 ns13 hO sa13 hI hz.2.2.2.2.2.2.1 hz.2.2.2.2.2.2.2.2 rQ aQ hQ) hf0 (fun nX EX tgX nxX nsX stX H locs hTX hxX hz2 hf => ?_) (fun x15 tg16 nx16 ns16 sa16 H locs hext hz2 hf => ?_)
    · exact fda_x hxx hTX hz2 hf
    clear hf0
    have hO := hext.t hI hO
    have hq9 := hext.t hI hq9
    have hq14 := hext.t hI hq14
    have hz := hz2
    have hw := hz.1
    have hI := hz.2.1
    clear hz2 hext
    have hf0 := hf
    clear hf
    refine fa_I (fr := 3) (lo := 80) (val := vlV) (rest := [.ref (eb E + nx12)]) (As := [.int x10, .ref (eb E + x3), .ref (eb E + x15)]) X hz hm_X13_init q1007 q135 q1005 q1006 rfl hR3 rfl rfl hl.1 (Nat.le_of_ble_eq_true rfl) dX6_sum_48 (fun rQ aQ hQ => wX13_init_11 l E nx12 x10 x3 x15 (3) (80) (Nat.le_refl _) (Nat.le_refl _) cN cS tg16 nx16 ns16 hq14 sa16 hI hz.2.2.2.2.2.2.1 hz.2.2.2.2.2.2.2.2 rQ aQ hQ) hf0 (fun nX EX tgX nxX nsX stX H locs hTX hxX hz2 hf => ?_) (fun x17 tg18 nx18 ns18 sa18 H locs hext hz2 hf => ?_)
    · exact fda_x hxx hTX hz2 hf
    clear hf0
    have hO := hext.t hI hO
    have hq9 := hext.t hI hq9
    have hq14 := hext.t hI hq14
    have hz := hz2
    have hw := hz.1
    have hI := hz.2.1
    clear hz2 hext
    refine lv_astore_n (lv' := [(1, .ref (eb E + nx12)), (2, .int x10), (0, .ref (eb E + o))]) hx hb dX6_sum_51 rfl hl (by decide) rfl (fun ls hl => ?_)
    refine lv_goto (tgt := 5) hx hb dX6_sum_52 (by decide) ?_
    exact hrec5 _ _ hf _ _ _ hO (lv_sub hl [0, 2] rfl) hz
  clear hf0
  refine lv_aload_n hx hb dX6_sum_14 rfl (lv_at hl 1 rfl) ?_
  refine fo_ldcS X hSX lq_29 dX6_sum_15 ?_
  have hf0 := hf
  clear hf
  refine fa_O (n := 1) (fr := 10) (lo := 200) (val := vlI) (rest := []) (As := [.ref (K 29)]) X hz (lw_O q904 q2228 q785 q2230 q785 q125 q786) q786 ⟨by decide, by decide, by decide +kernel⟩ hR1 fc_X20 hO rfl rfl hl.1 (Nat.le_of_ble_eq_true rfl) dX6_sum_17 (fun rQ aQ hQ => wX6_is_17 l E K V mi hSX G o 29 (10) (200) (Nat.le_refl _) (Nat.le_refl _) cN cS tg7 nx7 ns7 hO (by decide) sa7 hI hz.2.2.2.2.2.2.1 hz.2.2.2.2.2.2.2.2 rQ aQ hQ) hf0 (fun nX EX tgX nxX nsX stX H locs hTX hxX hz2 hf => ?_) (fun x19 tg20 nx20 ns20 sa20 H locs hext hz2 hf => ?_)
  · exact fda_x hxx hTX hz2 hf
  clear hf0
  have hO := hext.t hI hO
  have hz := hz2
  have hw := hz.1
  have hI := hz.2.1
  clear hz2 hext
  have hf0 := hf
  clear hf
  refine fb_zeq (tgt := 55) hx hb dX6_sum_20 (by decide) hf0 (fun hf => ?_) (fun hf => ?_)
  · clear hf0
    refine lv_aload_n hx hb dX6_sum_55 rfl (lv_at hl 0 rfl) ?_
    exact fda_r hend hz hf dX6_sum_56
  clear hf0
  refine lv_aload_n hx hb dX6_sum_23 rfl (lv_at hl 1 rfl) ?_
  have hf0 := hf
  clear hf
  refine fo_getr (fo_Xw X) hw fc_X20 hO (k := 0) (by decide) rfl q725 dX6_sum_24 hf0 (fun q21 hf => ?_)
  clear hf0
  refine lv_aload_n hx hb dX6_sum_27 rfl (lv_at hl 1 rfl) ?_
  refine fo_geti (fo_Xw X) hw fc_X20 hO (k := 3) (by decide) rfl q728 dX6_sum_28 ?_
  have hf0 := ck_e hf
  clear hf
  obtain ⟨hq22, hf⟩ := hf0
  have hq22 := of_decide_eq_true hq22
  have hf0 := hf
  clear hf
  refine fo_bald (fo_Xw X) hw hq22 dX6_sum_31 hf0 (fun hf => ?_)
  clear hf0
  refine lv_i2c (v := ((gi_ sa20 q21 (gi_ sa20 o 3).toNatClampNeg).toUInt32 % 65536).toInt32) hx hb dX6_sum_32 rfl ?_
  have hf0 := hf
  clear hf
  refine fo_tI hf0 (fun x23 hf => ?_)
  clear hf0
  refine lv_istore_n (lv' := [(2, .int x23), (1, .ref (eb E + x3)), (0, .ref (eb E + o))]) hx hb dX6_sum_33 rfl hl (by decide) rfl (fun ls hl => ?_)
  refine lv_aload_n hx hb dX6_sum_34 rfl (lv_at hl 2 rfl) ?_
  have hf0 := hf
  clear hf
  refine fa_O (n := 0) (fr := 1) (lo := 23) (val := vlV) (rest := []) (As := []) X hz (lw_O q762 q764 q763 q766 q763 q125 q767) q767 ⟨by decide, by decide, by decide +kernel⟩ hR2 fc_X20 hO rfl rfl hl.1 (Nat.le_of_ble_eq_true rfl) dX6_sum_35 (fun rQ aQ hQ => wX6_next_17 l E G o (1) (23) (Nat.le_refl _) (Nat.le_refl _) cN cS tg20 nx20 ns20 hO sa20 hI hz.2.2.2.2.2.2.1 hz.2.2.2.2.2.2.2.2 rQ aQ hQ) hf0 (fun nX EX tgX nxX nsX stX H locs hTX hxX hz2 hf => ?_) (fun x24 tg25 nx25 ns25 sa25 H locs hext hz2 hf => ?_)
  · exact fda_x hxx hTX hz2 hf
  clear hf0
  have hO := hext.t hI hO
  have hq22 := hext.t hI hq22
  have hz := hz2
  have hw := hz.1
  have hI := hz.2.1
  clear hz2 hext
  have hf0 := hf
  clear hf
  refine fa_new X hz fc_X13 fd_X13 q1003 q1004 q135 dX6_sum_38 hf0 (fun tg26 nx26 ns26 sa26 H hext hq27 hz2 hf => ?_)
  clear hf0
  have hO := hext.t hI hO
  have hq22 := hext.t hI hq22
  have hz := hz2
  have hw := hz.1
  have hI := hz.2.1
  clear hz2 hext
  refine lv_dup hx hb dX6_sum_41 rfl ?_
  refine lv_iload_n hx hb dX6_sum_42 rfl (lv_at hl 0 rfl) ?_
  refine lv_aload_n hx hb dX6_sum_43 rfl (lv_at hl 1 rfl) ?_
  refine lv_aload_n hx hb dX6_sum_44 rfl (lv_at hl 2 rfl) ?_
  have hf0 := hf
  clear hf
  refine fa_O (n := 0) (fr := 4 * d + 22) (lo := 200 * d + 1043) (val := (vlR (eb E))) (rest := [.ref (eb E + x3), .int x23, .ref (eb E + nx25), .ref (eb E + nx25)]) (As := []) X hz (lw_O q891 q893 q892 q895 q892 q125 q896) q896 ⟨by decide, by decide, by decide +kernel⟩ hR0 fc_X20 hO rfl rfl hl.1 (Nat.le_of_ble_eq_true rfl) dX6_sum_45 (fun rQ aQ hQ => wX6_term_17 l E K V mi hSX G o (4 * d + 22) (200 * d + 1043) d (Nat.le_refl _) (Nat.le_refl _) cN cS recS recV hrecS hrecV tg26 nx26 ns26 hO sa26 hI hz.2.2.2.2.2.2.1 hz.2.2.2.2.2.2.2.2 rQ aQ hQ) hf0 (fun nX EX tgX nxX nsX stX H locs hTX hxX hz2 hf => ?_) (fun x28 tg29 nx29 ns29 sa29 H locs hext hz2 hf => ?_)
  · exact fda_x hxx hTX hz2 hf
  clear hf0
  have hO := hext.t hI hO
  have hq22 := hext.t hI hq22
  have hq27 := hext.t hI hq27
  have hz := hz2
  have hw := hz.1
  have hI := hz.2.1
  clear hz2 hext
  have hf0 := hf
  clear hf
  refine fa_I (fr := 3) (lo := 80) (val := vlV) (rest := [.ref (eb E + nx25)]) (As := [.int x23, .ref (eb E + x3), .ref (eb E + x28)]) X hz hm_X13_init q1007 q135 q1005 q1006 rfl hR3 rfl rfl hl.1 (Nat.le_of_ble_eq_true rfl) dX6_sum_48 (fun rQ aQ hQ => wX13_init_11 l E nx25 x23 x3 x28 (3) (80) (Nat.le_refl _) (Nat.le_refl _) cN cS tg29 nx29 ns29 hq27 sa29 hI hz.2.2.2.2.2.2.1 hz.2.2.2.2.2.2.2.2 rQ aQ hQ) hf0 (fun nX EX tgX nxX nsX stX H locs hTX hxX hz2 hf => ?_) (fun x30 tg31 nx31 ns31 sa31 H locs hext hz2 hf => ?_)
  · exact fda_x hxx hTX hz2 hf
  clear hf0
  have hO := hext.t hI hO
  have hq22 := hext.t hI hq22
  have hq27 := hext.t hI hq27
  have hz := hz2
  have hw := hz.1
  have hI := hz.2.1
  clear hz2 hext
  refine lv_astore_n (lv' := [(1, .ref (eb E + nx25)), (2, .int x23), (0, .ref (eb E + o))]) hx hb dX6_sum_51 rfl hl (by decide) rfl (fun ls hl => ?_)
  refine lv_goto (tgt := 5) hx hb dX6_sum_52 (by decide) ?_
  exact hrec5 _ _ hf _ _ _ hO (lv_sub hl [0, 2] rfl) hz

