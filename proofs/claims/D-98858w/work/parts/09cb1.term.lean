/-! walks of methods that make cells or throw, printed by genA.py -/
set_option maxRecDepth 100000
set_option maxHeartbeats 1000000 in
theorem wX6_term_17 (l : Launch) (E : fo_E) (K V : Nat → Nat) (mi : Nat) (hSX : fo_SX E K V mi) (G : Nat) (o : Nat) (fr lo : Nat) (d : Nat) (hfr : 4 * d + 22 ≤ fr) (hlo : 200 * d + 1043 ≤ lo) (cN cS : Nat) (recS : Nat → (Nat → Nat × Nat) → Nat → Nat → fo_St → Option ((Nat ⊕ Nat) × fo_A)) (recV : Nat → (Nat → Nat × Nat) → Nat → Nat → fo_St → Option ((Int32 ⊕ Nat) × fo_A)) (hrecS : ∀ (q : Nat) (tg : Nat → Nat × Nat) (nx ns : Nat) (hq : tg q = (1, 17)) (st : fo_St) (hI : fo_I E tg nx) (hcN : nx ≤ cN) (hcS : ns ≤ cS) (ρ : Nat ⊕ Nat) (a1 : fo_A), recS q tg nx ns st = some (ρ, a1) → CA (vlR (eb E)) l E yX6_sum (ws_ yX6_sum cX6_sum 3 (some (.object "ForestRooms$Sum"))) (4 * d + 20) (200 * d + 1000) cN cS [.ref (eb E + q)] (tg, nx, ns, st) ρ a1) (hrecV : ∀ (q : Nat) (tg : Nat → Nat × Nat) (nx ns : Nat) (hq : tg q = (1, 17)) (st : fo_St) (hI : fo_I E tg nx) (hcN : nx ≤ cN) (hcS : ns ≤ cS) (ρ : Int32 ⊕ Nat) (a1 : fo_A), recV q tg nx ns st = some (ρ, a1) → CA vlI l E yX20_value (ws_ yX20_value cX20_value 1 (some .int)) (14) (400) cN cS [.ref (eb E + q)] (tg, nx, ns, st) ρ a1) (tg0 : Nat → Nat × Nat) (nx0 ns0 : Nat) (hO : tg0 o = (1, 17)) (st0 : fo_St) (hI : fo_I E tg0 nx0) (hcN : nx0 ≤ cN) (hcS : ns0 ≤ cS) (ρZ : Nat ⊕ Nat) (aZ : fo_A) (hf : fX6_term cN cS G recS recV o tg0 nx0 ns0 st0 = some (ρZ, aZ)) : CA (vlR (eb E)) l E yX6_term (ws_ yX6_term cX6_term 3 (some (.object "ForestRooms$Sum"))) fr lo cN cS [.ref (eb E + o)] (tg0, nx0, ns0, st0) ρZ aZ := by
  refine fea_r (a := (tg0, nx0, ns0, st0)) (Or.inl ⟨_, rfl⟩) hm_X6_term (Nat.le_of_ble_eq_true rfl) hI hcN hcS (fun p e R s m args below meth c Q hRf hRl X hnm hend hxx ls hl hz => ?_)
  replace hRf : 4 * d + 22 ≤ R.frames := by rw [hRf]; exact hfr
  replace hRl : 200 * d + 1043 ≤ R.locals := by rw [hRl]; exact hlo
  have hR0 : 4 * d + 21 + 1 ≤ R.frames ∧ 8 + (2 + 11) + (200 * d + 1022) ≤ R.locals := ⟨by omega, by omega⟩
  have hR1 : 10 + 1 ≤ R.frames ∧ 8 + (3 + 11) + (200) ≤ R.locals := ⟨by omega, by omega⟩
  have hR2 : 1 + 1 ≤ R.frames ∧ 8 + (1 + 11) + (23) ≤ R.locals := ⟨by omega, by omega⟩
  have hR3 : 3 + 1 ≤ R.frames ∧ 8 + (4 + 11) + (80) ≤ R.locals := ⟨by omega, by omega⟩
  have hx := X.1.1
  have hb := X.1.2.1
  have hl : lv_has ls 3 [(0, .ref (eb E + o))] := hl
  have hz : fo_Z E R s cN cS (tg0, nx0, ns0, st0) tg0 nx0 ns0 st0 s.heap [] := hz
  have hw := hz.1
  show W p l e R s m args below meth c s.heap [] (nx0 - nx0) (ns0 - ns0) Q (F0 m 0 ls [])
  unfold fX6_term at hf
  generalize s.heap = H at hz hw ⊢
  generalize ([] : List Loc) = locs at hz hw ⊢
  refine lv_aload_n hx hb dX6_term_0 rfl (lv_at hl 0 rfl) ?_
  have hf0 := hf
  clear hf
  refine fa_O (n := 0) (fr := 4 * d + 21) (lo := 200 * d + 1022) (val := (vlR (eb E))) (rest := []) (As := []) X hz (lw_O q897 q899 q898 q901 q898 q125 q902) q902 ⟨by decide, by decide, by decide +kernel⟩ hR0 fc_X20 hO rfl rfl hl.1 (Nat.le_of_ble_eq_true rfl) dX6_term_1 (fun rQ aQ hQ => wX6_part_17 l E K V mi hSX G o (4 * d + 21) (200 * d + 1022) d (Nat.le_refl _) (Nat.le_refl _) cN cS recS recV hrecS hrecV tg0 nx0 ns0 hO st0 hI hz.2.2.2.2.2.2.1 hz.2.2.2.2.2.2.2.2 rQ aQ hQ) hf0 (fun nX EX tgX nxX nsX stX H locs hTX hxX hz2 hf => ?_) (fun x1 tg2 nx2 ns2 sa2 H locs hext hz2 hf => ?_)
  · exact fda_x hxx hTX hz2 hf
  clear hf0
  have hO := hext.t hI hO
  have hz := hz2
  have hw := hz.1
  have hI := hz.2.1
  clear hz2 hext
  refine lv_astore_n (lv' := [(1, .ref (eb E + x1)), (0, .ref (eb E + o))]) hx hb dX6_term_4 rfl hl (by decide) rfl (fun ls hl => ?_)
  refine lp2_e (P := fun x3 a4 => ∀ (H : Heap) (locs : List Loc) (ls : Array Slot), a4.1 o = (1, 17) → lv_has ls 3 [(1, .ref (eb E + x3)), (0, .ref (eb E + o))] → fo_Z E R s cN cS (tg0, nx0, ns0, st0) a4.1 a4.2.1 a4.2.2.1 a4.2.2.2 H locs → W p l e R s m args below meth c H locs (a4.2.1 - nx0) (a4.2.2.1 - ns0) Q (F0 m 5 ls [])) (fun rec5 hrec5 x3 a4 hf => ?_) G _ _ hf H locs ls hO (lv_sub hl [0, 1] rfl) hz
  obtain ⟨tg4, nx4, ns4, sa4⟩ := a4
  intro H locs ls hO hl hz
  have hO : tg4 o = (1, 17) := hO
  have hz : fo_Z E R s cN cS (tg0, nx0, ns0, st0) tg4 nx4 ns4 sa4 H locs := hz
  show W p l e R s m args below meth c H locs (nx4 - nx0) (ns4 - ns0) Q (F0 m 5 ls [])
  replace hf := aw_u hf
  have hw := hz.1
  have hI := hz.2.1
  refine lv_aload_n hx hb dX6_term_5 rfl (lv_at hl 1 rfl) ?_
  refine fo_ldcS X hSX lq_25 dX6_term_6 ?_
  have hf0 := hf
  clear hf
  refine fa_O (n := 1) (fr := 10) (lo := 200) (val := vlI) (rest := []) (As := [.ref (K 25)]) X hz (lw_O q904 q2228 q785 q2230 q785 q125 q786) q786 ⟨by decide, by decide, by decide +kernel⟩ hR1 fc_X20 hO rfl rfl hl.1 (Nat.le_of_ble_eq_true rfl) dX6_term_8 (fun rQ aQ hQ => wX6_is_17 l E K V mi hSX G o 25 (10) (200) (Nat.le_refl _) (Nat.le_refl _) cN cS tg4 nx4 ns4 hO (by decide) sa4 hI hz.2.2.2.2.2.2.1 hz.2.2.2.2.2.2.2.2 rQ aQ hQ) hf0 (fun nX EX tgX nxX nsX stX H locs hTX hxX hz2 hf => ?_) (fun x6 tg7 nx7 ns7 sa7 H locs hext hz2 hf => ?_)
  · exact fda_x hxx hTX hz2 hf
  clear hf0
  have hO := hext.t hI hO
  have hz := hz2
  have hw := hz.1
  have hI := hz.2.1
  clear hz2 hext
  have hf0 := hf
  clear hf
  refine fb_zne (tgt := 32) hx hb dX6_term_11 (by decide) hf0 (fun hf => ?_) (fun hf => ?_)
  · clear hf0
    refine lv_aload_n hx hb dX6_term_32 rfl (lv_at hl 1 rfl) ?_
    have hf0 := hf
    clear hf
    refine fo_getr (fo_Xw X) hw fc_X20 hO (k := 0) (by decide) rfl q725 dX6_term_33 hf0 (fun q8 hf => ?_)
    clear hf0
    refine lv_aload_n hx hb dX6_term_36 rfl (lv_at hl 1 rfl) ?_
    refine fo_geti (fo_Xw X) hw fc_X20 hO (k := 3) (by decide) rfl q728 dX6_term_37 ?_
    have hf0 := ck_e hf
    clear hf
    obtain ⟨hq9, hf⟩ := hf0
    have hq9 := of_decide_eq_true hq9
    have hf0 := hf
    clear hf
    refine fo_bald (fo_Xw X) hw hq9 dX6_term_40 hf0 (fun hf => ?_)
    clear hf0
    refine lv_i2c (v := ((gi_ sa7 q8 (gi_ sa7 o 3).toNatClampNeg).toUInt32 % 65536).toInt32) hx hb dX6_term_41 rfl ?_
    have hf0 := hf
    clear hf
    refine fo_tI hf0 (fun x10 hf => ?_)
    clear hf0
    refine lv_istore_n (lv' := [(2, .int x10), (1, .ref (eb E + x3)), (0, .ref (eb E + o))]) hx hb dX6_term_42 rfl hl (by decide) rfl (fun ls hl => ?_)
    refine lv_aload_n hx hb dX6_term_43 rfl (lv_at hl 2 rfl) ?_
    have hf0 := hf
    clear hf
    refine fa_O (n := 0) (fr := 1) (lo := 23) (val := vlV) (rest := []) (As := []) X hz (lw_O q762 q764 q763 q766 q763 q125 q767) q767 ⟨by decide, by decide, by decide +kernel⟩ hR2 fc_X20 hO rfl rfl hl.1 (Nat.le_of_ble_eq_true rfl) dX6_term_44 (fun rQ aQ hQ => wX6_next_17 l E G o (1) (23) (Nat.le_refl _) (Nat.le_refl _) cN cS tg7 nx7 ns7 hO sa7 hI hz.2.2.2.2.2.2.1 hz.2.2.2.2.2.2.2.2 rQ aQ hQ) hf0 (fun nX EX tgX nxX nsX stX H locs hTX hxX hz2 hf => ?_) (fun x11 tg12 nx12 ns12 sa12 H locs hext hz2 hf => ?_)
    · exact fda_x hxx hTX hz2 hf
    clear hf0
    have hO := hext.t hI hO
    have hq9 := hext.t hI hq9
    have hz := hz2
    have hw := hz.1
    have hI := hz.2.1
    clear hz2 hext
    have hf0 := hf
    clear hf
    refine fa_new X hz fc_X13 fd_X13 q1003 q1004 q135 dX6_term_47 hf0 (fun tg13 nx13 ns13 sa13 H hext hq14 hz2 hf => ?_)
    clear hf0
    have hO := hext.t hI hO
    have hq9 := hext.t hI hq9
    have hz := hz2
    have hw := hz.1
    have hI := hz.2.1
    clear hz2 hext
    refine lv_dup hx hb dX6_term_50 rfl ?_
    refine lv_iload_n hx hb dX6_term_51 rfl (lv_at hl 0 rfl) ?_
    refine lv_aload_n hx hb dX6_term_52 rfl (lv_at hl 1 rfl) ?_
    refine lv_aload_n hx hb dX6_term_53 rfl (lv_at hl 2 rfl) ?_
    have hf0 := hf
    clear hf
    refine fa_O (n := 0) (fr := 4 * d + 21) (lo := 200 * d + 1022) (val := (vlR (eb E))) (rest := [.ref (eb E + x3), .int x10, .ref (eb E + nx12), .ref (eb E + nx12)]) (As := []) X hz (lw_O q897 q899 q898 q901 q898 q125 q902) q902 ⟨by decide, by decide, by decide +kernel⟩ hR0 fc_X20 hO rfl rfl hl.1 (Nat.le_of_ble_eq_true rfl) dX6_term_54 (fun rQ aQ hQ => wX6_part_17 l E K V mi hSX G o (4 * d + 21) (200 * d + 1022) d (Nat.le_refl _) (Nat.le_refl _) cN cS recS recV hrecS hrecV tg13 nx13 ns13 hO sa13 hI hz.2.2.2.2.2.2.1 hz.2.2.2.2.2.2.2.2 rQ aQ hQ) hf0 (fun nX EX tgX nxX nsX stX H locs hTX hxX hz2 hf => ?_) (fun x15 tg16 nx16 ns16 sa16 H locs hext hz2 hf => ?_)
    · exact fda_x hxx hTX hz2 hf
    clear hf0
    have hO := hext.t hI hO
    have hq9 := hext.t hI hq9
    have hq14 := hext.t hI hq14
    have hz := hz2
    have hw := hz.1
    have hI := hz.2.1
    clear hz2 hext
    have hf0 := hf
    clear hf
    refine fa_I (fr := 3) (lo := 80) (val := vlV) (rest := [.ref (eb E + nx12)]) (As := [.int x10, .ref (eb E + x3), .ref (eb E + x15)]) X hz hm_X13_init q1007 q135 q1005 q1006 rfl hR3 rfl rfl hl.1 (Nat.le_of_ble_eq_true rfl) dX6_term_57 (fun rQ aQ hQ => wX13_init_11 l E nx12 x10 x3 x15 (3) (80) (Nat.le_refl _) (Nat.le_refl _) cN cS tg16 nx16 ns16 hq14 sa16 hI hz.2.2.2.2.2.2.1 hz.2.2.2.2.2.2.2.2 rQ aQ hQ) hf0 (fun nX EX tgX nxX nsX stX H locs hTX hxX hz2 hf => ?_) (fun x17 tg18 nx18 ns18 sa18 H locs hext hz2 hf => ?_)
    · exact fda_x hxx hTX hz2 hf
    clear hf0
    have hO := hext.t hI hO
    have hq9 := hext.t hI hq9
    have hq14 := hext.t hI hq14
    have hz := hz2
    have hw := hz.1
    have hI := hz.2.1
    clear hz2 hext
    refine lv_astore_n (lv' := [(1, .ref (eb E + nx12)), (2, .int x10), (0, .ref (eb E + o))]) hx hb dX6_term_60 rfl hl (by decide) rfl (fun ls hl => ?_)
    refine lv_goto (tgt := 5) hx hb dX6_term_61 (by decide) ?_
    exact hrec5 _ _ hf _ _ _ hO (lv_sub hl [0, 2] rfl) hz
  clear hf0
  refine lv_aload_n hx hb dX6_term_14 rfl (lv_at hl 1 rfl) ?_
  refine fo_ldcS X hSX lq_26 dX6_term_15 ?_
  have hf0 := hf
  clear hf
  refine fa_O (n := 1) (fr := 10) (lo := 200) (val := vlI) (rest := []) (As := [.ref (K 26)]) X hz (lw_O q904 q2228 q785 q2230 q785 q125 q786) q786 ⟨by decide, by decide, by decide +kernel⟩ hR1 fc_X20 hO rfl rfl hl.1 (Nat.le_of_ble_eq_true rfl) dX6_term_17 (fun rQ aQ hQ => wX6_is_17 l E K V mi hSX G o 26 (10) (200) (Nat.le_refl _) (Nat.le_refl _) cN cS tg7 nx7 ns7 hO (by decide) sa7 hI hz.2.2.2.2.2.2.1 hz.2.2.2.2.2.2.2.2 rQ aQ hQ) hf0 (fun nX EX tgX nxX nsX stX H locs hTX hxX hz2 hf => ?_) (fun x19 tg20 nx20 ns20 sa20 H locs hext hz2 hf => ?_)
  · exact fda_x hxx hTX hz2 hf
  clear hf0
  have hO := hext.t hI hO
  have hz := hz2
  have hw := hz.1
  have hI := hz.2.1
  clear hz2 hext
  have hf0 := hf
  clear hf
  refine fb_zne (tgt := 32) hx hb dX6_term_20 (by decide) hf0 (fun hf => ?_) (fun hf => ?_)
  · clear hf0
    refine lv_aload_n hx hb dX6_term_32 rfl (lv_at hl 1 rfl) ?_
    have hf0 := hf
    clear hf
    refine fo_getr (fo_Xw X) hw fc_X20 hO (k := 0) (by decide) rfl q725 dX6_term_33 hf0 (fun q21 hf => ?_)
    clear hf0
    refine lv_aload_n hx hb dX6_term_36 rfl (lv_at hl 1 rfl) ?_
    refine fo_geti (fo_Xw X) hw fc_X20 hO (k := 3) (by decide) rfl q728 dX6_term_37 ?_
    have hf0 := ck_e hf
    clear hf
    obtain ⟨hq22, hf⟩ := hf0
    have hq22 := of_decide_eq_true hq22
    have hf0 := hf
    clear hf
    refine fo_bald (fo_Xw X) hw hq22 dX6_term_40 hf0 (fun hf => ?_)
    clear hf0
    refine lv_i2c (v := ((gi_ sa20 q21 (gi_ sa20 o 3).toNatClampNeg).toUInt32 % 65536).toInt32) hx hb dX6_term_41 rfl ?_
    have hf0 := hf
    clear hf
    refine fo_tI hf0 (fun x23 hf => ?_)
    clear hf0
    refine lv_istore_n (lv' := [(2, .int x23), (1, .ref (eb E + x3)), (0, .ref (eb E + o))]) hx hb dX6_term_42 rfl hl (by decide) rfl (fun ls hl => ?_)
    refine lv_aload_n hx hb dX6_term_43 rfl (lv_at hl 2 rfl) ?_
    have hf0 := hf
    clear hf
    refine fa_O (n := 0) (fr := 1) (lo := 23) (val := vlV) (rest := []) (As := []) X hz (lw_O q762 q764 q763 q766 q763 q125 q767) q767 ⟨by decide, by decide, by decide +kernel⟩ hR2 fc_X20 hO rfl rfl hl.1 (Nat.le_of_ble_eq_true rfl) dX6_term_44 (fun rQ aQ hQ => wX6_next_17 l E G o (1) (23) (Nat.le_refl _) (Nat.le_refl _) cN cS tg20 nx20 ns20 hO sa20 hI hz.2.2.2.2.2.2.1 hz.2.2.2.2.2.2.2.2 rQ aQ hQ) hf0 (fun nX EX tgX nxX nsX stX H locs hTX hxX hz2 hf => ?_) (fun x24 tg25 nx25 ns25 sa25 H locs hext hz2 hf => ?_)
    · exact fda_x hxx hTX hz2 hf
    clear hf0
    have hO := hext.t hI hO
    have hq22 := hext.t hI hq22
    have hz := hz2
    have hw := hz.1
    have hI := hz.2.1
    clear hz2 hext
    have hf0 := hf
    clear hf
    refine fa_new X hz fc_X13 fd_X13 q1003 q1004 q135 dX6_term_47 hf0 (fun tg26 nx26 ns26 sa26 H hext hq27 hz2 hf => ?_)
    clear hf0
    have hO := hext.t hI hO
    have hq22 := hext.t hI hq22
    have hz := hz2
    have hw := hz.1
    have hI := hz.2.1
    clear hz2 hext
    refine lv_dup hx hb dX6_term_50 rfl ?_
    refine lv_iload_n hx hb dX6_term_51 rfl (lv_at hl 0 rfl) ?_
    refine lv_aload_n hx hb dX6_term_52 rfl (lv_at hl 1 rfl) ?_
    refine lv_aload_n hx hb dX6_term_53 rfl (lv_at hl 2 rfl) ?_
    have hf0 := hf
    clear hf
    refine fa_O (n := 0) (fr := 4 * d + 21) (lo := 200 * d + 1022) (val := (vlR (eb E))) (rest := [.ref (eb E + x3), .int x23, .ref (eb E + nx25), .ref (eb E + nx25)]) (As := []) X hz (lw_O q897 q899 q898 q901 q898 q125 q902) q902 ⟨by decide, by decide, by decide +kernel⟩ hR0 fc_X20 hO rfl rfl hl.1 (Nat.le_of_ble_eq_true rfl) dX6_term_54 (fun rQ aQ hQ => wX6_part_17 l E K V mi hSX G o (4 * d + 21) (200 * d + 1022) d (Nat.le_refl _) (Nat.le_refl _) cN cS recS recV hrecS hrecV tg26 nx26 ns26 hO sa26 hI hz.2.2.2.2.2.2.1 hz.2.2.2.2.2.2.2.2 rQ aQ hQ) hf0 (fun nX EX tgX nxX nsX stX H locs hTX hxX hz2 hf => ?_) (fun x28 tg29 nx29 ns29 sa29 H locs hext hz2 hf => ?_)
    · exact fda_x hxx hTX hz2 hf
    clear hf0
    have hO := hext.t hI hO
    have hq22 := hext.t hI hq22
    have hq27 := hext.t hI hq27
    have hz := hz2
    have hw := hz.1
    have hI := hz.2.1
    clear hz2 hext
    have hf0 := hf
    clear hf
    refine fa_I (fr := 3) (lo := 80) (val := vlV) (rest := [.ref (eb E + nx25)]) (As := [.int x23, .ref (eb E + x3), .ref (eb E + x28)]) X hz hm_X13_init q1007 q135 q1005 q1006 rfl hR3 rfl rfl hl.1 (Nat.le_of_ble_eq_true rfl) dX6_term_57 (fun rQ aQ hQ => wX13_init_11 l E nx25 x23 x3 x28 (3) (80) (Nat.le_refl _) (Nat.le_refl _) cN cS tg29 nx29 ns29 hq27 sa29 hI hz.2.2.2.2.2.2.1 hz.2.2.2.2.2.2.2.2 rQ aQ hQ) hf0 (fun nX EX tgX nxX nsX stX H locs hTX hxX hz2 hf => ?_) (fun x30 tg31 nx31 ns31 sa31 H locs hext hz2 hf => ?_)
    · exact fda_x hxx hTX hz2 hf
    clear hf0
    have hO := hext.t hI hO
    have hq22 := hext.t hI hq22
    have hq27 := hext.t hI hq27
    have hz := hz2
    have hw := hz.1
    have hI := hz.2.1
    clear hz2 hext
    refine lv_astore_n (lv' := [(1, .ref (eb E + nx25)), (2, .int x23), (0, .ref (eb E + o))]) hx hb dX6_term_60 rfl hl (by decide) rfl (fun ls hl => ?_)
    refine lv_goto (tgt := 5) hx hb dX6_term_61 (by decide) ?_
    exact hrec5 _ _ hf _ _ _ hO (lv_sub hl [0, 2] rfl) hz
  clear hf0
  refine lv_aload_n hx hb dX6_term_23 rfl (lv_at hl 1 rfl) ?_
  refine fo_ldcS X hSX lq_27 dX6_term_24 ?_
  have hf0 := hf
  clear hf
  refine fa_O (n := 1) (fr := 10) (lo := 200) (val := vlI) (rest := []) (As := [.ref (K 27)]) X hz (lw_O q904 q2228 q785 q2230 q785 q125 q786) q786 ⟨by decide, by decide, by decide +kernel⟩ hR1 fc_X20 hO rfl rfl hl.1 (Nat.le_of_ble_eq_true rfl) dX6_term_26 (fun rQ aQ hQ => wX6_is_17 l E K V mi hSX G o 27 (10) (200) (Nat.le_refl _) (Nat.le_refl _) cN cS tg20 nx20 ns20 hO (by decide) sa20 hI hz.2.2.2.2.2.2.1 hz.2.2.2.2.2.2.2.2 rQ aQ hQ) hf0 (fun nX EX tgX nxX nsX stX H locs hTX hxX hz2 hf => ?_) (fun x32 tg33 nx33 ns33 sa33 H locs hext hz2 hf => ?_)
  · exact fda_x hxx hTX hz2 hf
  clear hf0
  have hO := hext.t hI hO
  have hz := hz2
  have hw := hz.1
  have hI := hz.2.1
  clear hz2 hext
  have hf0 := hf
  clear hf
  refine fb_zeq (tgt := 64) hx hb dX6_term_29 (by decide) hf0 (fun hf => ?_) (fun hf => ?_)
  · clear hf0
    refine lv_aload_n hx hb dX6_term_64 rfl (lv_at hl 0 rfl) ?_
    exact fda_r hend hz hf dX6_term_65
  clear hf0
  refine lv_aload_n hx hb dX6_term_32 rfl (lv_at hl 1 rfl) ?_
  have hf0 := hf
  clear hf
  refine fo_getr (fo_Xw X) hw fc_X20 hO (k := 0) (by decide) rfl q725 dX6_term_33 hf0 (fun q34 hf => ?_)
  clear hf0
  refine lv_aload_n hx hb dX6_term_36 rfl (lv_at hl 1 rfl) ?_
  refine fo_geti (fo_Xw X) hw fc_X20 hO (k := 3) (by decide) rfl q728 dX6_term_37 ?_
  have hf0 := ck_e hf
  clear hf
  obtain ⟨hq35, hf⟩ := hf0
  have hq35 := of_decide_eq_true hq35
  have hf0 := hf
  clear hf
  refine fo_bald (fo_Xw X) hw hq35 dX6_term_40 hf0 (fun hf => ?_)
  clear hf0
  refine lv_i2c (v := ((gi_ sa33 q34 (gi_ sa33 o 3).toNatClampNeg).toUInt32 % 65536).toInt32) hx hb dX6_term_41 rfl ?_
  have hf0 := hf
  clear hf
  refine fo_tI hf0 (fun x36 hf => ?_)
  clear hf0
  refine lv_istore_n (lv' := [(2, .int x36), (1, .ref (eb E + x3)), (0, .ref (eb E + o))]) hx hb dX6_term_42 rfl hl (by decide) rfl (fun ls hl => ?_)
  refine lv_aload_n hx hb dX6_term_43 rfl (lv_at hl 2 rfl) ?_
  have hf0 := hf
  clear hf
  refine fa_O (n := 0) (fr := 1) (lo := 23) (val := vlV) (rest := []) (As := []) X hz (lw_O q762 q764 q763 q766 q763 q125 q767) q767 ⟨by decide, by decide, by decide +kernel⟩ hR2 fc_X20 hO rfl rfl hl.1 (Nat.le_of_ble_eq_true rfl) dX6_term_44 (fun rQ aQ hQ => wX6_next_17 l E G o (1) (23) (Nat.le_refl _) (Nat.le_refl _) cN cS tg33 nx33 ns33 hO sa33 hI hz.2.2.2.2.2.2.1 hz.2.2.2.2.2.2.2.2 rQ aQ hQ) hf0 (fun nX EX tgX nxX nsX stX H locs hTX hxX hz2 hf => ?_) (fun x37 tg38 nx38 ns38 sa38 H locs hext hz2 hf => ?_)
  · exact fda_x hxx hTX hz2 hf
  clear hf0
  have hO := hext.t hI hO
  have hq35 := hext.t hI hq35
  have hz := hz2
  have hw := hz.1
  have hI := hz.2.1
  clear hz2 hext
  have hf0 := hf
  clear hf
  refine fa_new X hz fc_X13 fd_X13 q1003 q1004 q135 dX6_term_47 hf0 (fun tg39 nx39 ns39 sa39 H hext hq40 hz2 hf => ?_)
  clear hf0
  have hO := hext.t hI hO
  have hq35 := hext.t hI hq35
  have hz := hz2
  have hw := hz.1
  have hI := hz.2.1
  clear hz2 hext
  refine lv_dup hx hb dX6_term_50 rfl ?_
  refine lv_iload_n hx hb dX6_term_51 rfl (lv_at hl 0 rfl) ?_
  refine lv_aload_n hx hb dX6_term_52 rfl (lv_at hl 1 rfl) ?_
  refine lv_aload_n hx hb dX6_term_53 rfl (lv_at hl 2 rfl) ?_
  have hf0 := hf
  clear hf
  refine fa_O (n := 0) (fr := 4 * d + 21) (lo := 200 * d + 1022) (val := (vlR (eb E))) (rest := [.ref (eb E + x3), .int x36, .ref (eb E + nx38), .ref (eb E + nx38)]) (As := []) X hz (lw_O q897 q899 q898 q901 q898 q125 q902) q902 ⟨by decide, by decide, by decide +kernel⟩ hR0 fc_X20 hO rfl rfl hl.1 (Nat.le_of_ble_eq_true rfl) dX6_term_54 (fun rQ aQ hQ => wX6_part_17 l E K V mi hSX G o (4 * d + 21) (200 * d + 1022) d (Nat.le_refl _) (Nat.le_refl _) cN cS recS recV hrecS hrecV tg39 nx39 ns39 hO sa39 hI hz.2.2.2.2.2.2.1 hz.2.2.2.2.2.2.2.2 rQ aQ hQ) hf0 (fun nX EX tgX nxX nsX stX H locs hTX hxX hz2 hf => ?_) (fun x41 tg42 nx42 ns42 sa42 H locs hext hz2 hf => ?_)
  · exact fda_x hxx hTX hz2 hf
  clear hf0
  have hO := hext.t hI hO
  have hq35 := hext.t hI hq35
  have hq40 := hext.t hI hq40
  have hz := hz2
  have hw := hz.1
  have hI := hz.2.1
  clear hz2 hext
  have hf0 := hf
  clear hf
  refine fa_I (fr := 3) (lo := 80) (val := vlV) (rest := [.ref (eb E + nx38)]) (As := [.int x36, .ref (eb E + x3), .ref (eb E + x41)]) X hz hm_X13_init q1007 q135 q1005 q1006 rfl hR3 rfl rfl hl.1 (Nat.le_of_ble_eq_true rfl) dX6_term_57 (fun rQ aQ hQ => wX13_init_11 l E nx38 x36 x3 x41 (3) (80) (Nat.le_refl _) (Nat.le_refl _) cN cS tg42 nx42 ns42 hq40 sa42 hI hz.2.2.2.2.2.2.1 hz.2.2.2.2.2.2.2.2 rQ aQ hQ) hf0 (fun nX EX tgX nxX nsX stX H locs hTX hxX hz2 hf => ?_) (fun x43 tg44 nx44 ns44 sa44 H locs hext hz2 hf => ?_)
  · exact fda_x hxx hTX hz2 hf
  clear hf0
  have hO := hext.t hI hO
  have hq35 := hext.t hI hq35
  have hq40 := hext.t hI hq40
  have hz := hz2
  have hw := hz.1
  have hI := hz.2.1
  clear hz2 hext
  refine lv_astore_n (lv' := [(1, .ref (eb E + nx38)), (2, .int x36), (0, .ref (eb E + o))]) hx hb dX6_term_60 rfl hl (by decide) rfl (fun ls hl => ?_)
  refine lv_goto (tgt := 5) hx hb dX6_term_61 (by decide) ?_
  exact hrec5 _ _ hf _ _ _ hO (lv_sub hl [0, 2] rfl) hz

