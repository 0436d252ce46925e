/-! walks of methods that make cells or throw, printed by genA.py -/
set_option maxRecDepth 100000
set_option maxHeartbeats 1000000 in
theorem wX6_both_17 (l : Launch) (E : fo_E) (K V : Nat → Nat) (mi : Nat) (hSX : fo_SX E K V mi) (G : Nat) (o : Nat) (fr lo : Nat) (d : Nat) (hfr : 4 * d + 27 ≤ fr) (hlo : 200 * d + 1066 ≤ lo) (cN cS : Nat) (recS : Nat → (Nat → Nat × Nat) → Nat → Nat → fo_St → Option ((Nat ⊕ Nat) × fo_A)) (recT : Nat → (Nat → Nat × Nat) → Nat → Nat → fo_St → Option ((Nat ⊕ Nat) × fo_A)) (hrecS : ∀ (q : Nat) (tg : Nat → Nat × Nat) (nx ns : Nat) (hq : tg q = (1, 17)) (st : fo_St) (hI : fo_I E tg nx) (hcN : nx ≤ cN) (hcS : ns ≤ cS) (ρ : Nat ⊕ Nat) (a1 : fo_A), recS q tg nx ns st = some (ρ, a1) → CA (vlR (eb E)) l E yX6_sum (ws_ yX6_sum cX6_sum 3 (some (.object "ForestRooms$Sum"))) (4 * d + 20) (200 * d + 1000) cN cS [.ref (eb E + q)] (tg, nx, ns, st) ρ a1) (hrecT : ∀ (q : Nat) (tg : Nat → Nat × Nat) (nx ns : Nat) (hq : tg q = (1, 17)) (st : fo_St) (hI : fo_I E tg nx) (hcN : nx ≤ cN) (hcS : ns ≤ cS) (ρ : Nat ⊕ Nat) (a1 : fo_A), recT q tg nx ns st = some (ρ, a1) → CA (vlR (eb E)) l E yX6_test (ws_ yX6_test cX6_test 3 (some (.object "ForestRooms$Test"))) (4 * d + 24) (200 * d + 1000) cN cS [.ref (eb E + q)] (tg, nx, ns, st) ρ a1) (tg0 : Nat → Nat × Nat) (nx0 ns0 : Nat) (hO : tg0 o = (1, 17)) (st0 : fo_St) (hI : fo_I E tg0 nx0) (hcN : nx0 ≤ cN) (hcS : ns0 ≤ cS) (ρZ : Nat ⊕ Nat) (aZ : fo_A) (hf : fX6_both cN cS G recS recT o tg0 nx0 ns0 st0 = some (ρZ, aZ)) : CA (vlR (eb E)) l E yX6_both (ws_ yX6_both cX6_both 3 (some (.object "ForestRooms$Test"))) fr lo cN cS [.ref (eb E + o)] (tg0, nx0, ns0, st0) ρZ aZ := by
  refine fea_r (a := (tg0, nx0, ns0, st0)) (Or.inl ⟨_, rfl⟩) hm_X6_both (Nat.le_of_ble_eq_true rfl) hI hcN hcS (fun p e R s m args below meth c Q hRf hRl X hnm hend hxx ls hl hz => ?_)
  replace hRf : 4 * d + 27 ≤ R.frames := by rw [hRf]; exact hfr
  replace hRl : 200 * d + 1066 ≤ R.locals := by rw [hRl]; exact hlo
  have hR0 : 4 * d + 26 + 1 ≤ R.frames ∧ 8 + (3 + 11) + (200 * d + 1044) ≤ R.locals := ⟨by omega, by omega⟩
  have hR1 : 10 + 1 ≤ R.frames ∧ 8 + (3 + 11) + (200) ≤ R.locals := ⟨by omega, by omega⟩
  have hR2 : 5 + 1 ≤ R.frames ∧ 8 + (2 + 11) + (121) ≤ R.locals := ⟨by omega, by omega⟩
  have hR3 : 7 + 1 ≤ R.frames ∧ 8 + (2 + 11) + (177) ≤ R.locals := ⟨by omega, by omega⟩
  have hR4 : 11 + 1 ≤ R.frames ∧ 8 + (3 + 11) + (222) ≤ R.locals := ⟨by omega, by omega⟩
  have hx := X.1.1
  have hb := X.1.2.1
  have hl : lv_has ls 3 [(0, .ref (eb E + o))] := hl
  have hz : fo_Z E R s cN cS (tg0, nx0, ns0, st0) tg0 nx0 ns0 st0 s.heap [] := hz
  have hw := hz.1
  show W p l e R s m args below meth c s.heap [] (nx0 - nx0) (ns0 - ns0) Q (F0 m 0 ls [])
  unfold fX6_both at hf
  generalize s.heap = H at hz hw ⊢
  generalize ([] : List Loc) = locs at hz hw ⊢
  refine lv_aload_n hx hb dX6_both_0 rfl (lv_at hl 0 rfl) ?_
  have hf0 := hf
  clear hf
  refine fa_O (n := 0) (fr := 4 * d + 26) (lo := 200 * d + 1044) (val := (vlR (eb E))) (rest := []) (As := []) X hz (lw_O q1038 q1040 q1039 q1042 q1039 q125 q1043) q1043 ⟨by decide, by decide, by decide +kernel⟩ hR0 fc_X20 hO rfl rfl hl.1 (Nat.le_of_ble_eq_true rfl) dX6_both_1 (fun rQ aQ hQ => wX6_plain_17 l E K V mi hSX G o (4 * d + 26) (200 * d + 1044) d (Nat.le_refl _) (Nat.le_refl _) cN cS recS recT hrecS hrecT tg0 nx0 ns0 hO st0 hI hz.2.2.2.2.2.2.1 hz.2.2.2.2.2.2.2.2 rQ aQ hQ) hf0 (fun nX EX tgX nxX nsX stX H locs hTX hxX hz2 hf => ?_) (fun x1 tg2 nx2 ns2 sa2 H locs hext hz2 hf => ?_)
  · exact fda_x hxx hTX hz2 hf
  clear hf0
  have hO := hext.t hI hO
  have hz := hz2
  have hw := hz.1
  have hI := hz.2.1
  clear hz2 hext
  refine lv_astore_n (lv' := [(1, .ref (eb E + x1)), (0, .ref (eb E + o))]) hx hb dX6_both_4 rfl hl (by decide) rfl (fun ls hl => ?_)
  refine lv_aload_n hx hb dX6_both_5 rfl (lv_at hl 1 rfl) ?_
  refine fo_ldcS X hSX lq_37 dX6_both_6 ?_
  have hf0 := hf
  clear hf
  refine fa_O (n := 1) (fr := 10) (lo := 200) (val := vlI) (rest := []) (As := [.ref (K 37)]) X hz (lw_O q904 q2228 q785 q2230 q785 q125 q786) q786 ⟨by decide, by decide, by decide +kernel⟩ hR1 fc_X20 hO rfl rfl hl.1 (Nat.le_of_ble_eq_true rfl) dX6_both_8 (fun rQ aQ hQ => wX6_is_17 l E K V mi hSX G o 37 (10) (200) (Nat.le_refl _) (Nat.le_refl _) cN cS tg2 nx2 ns2 hO (by decide) sa2 hI hz.2.2.2.2.2.2.1 hz.2.2.2.2.2.2.2.2 rQ aQ hQ) hf0 (fun nX EX tgX nxX nsX stX H locs hTX hxX hz2 hf => ?_) (fun x3 tg4 nx4 ns4 sa4 H locs hext hz2 hf => ?_)
  · exact fda_x hxx hTX hz2 hf
  clear hf0
  have hO := hext.t hI hO
  have hz := hz2
  have hw := hz.1
  have hI := hz.2.1
  clear hz2 hext
  have hf0 := hf
  clear hf
  refine fb_zne (tgt := 16) hx hb dX6_both_11 (by decide) hf0 (fun hf => ?_) (fun hf => ?_)
  · clear hf0
    have hf0 := hf
    clear hf
    refine fa_new X hz fc_X17 fd_X17 q1087 q1088 q139 dX6_both_16 hf0 (fun tg5 nx5 ns5 sa5 H hext hq6 hz2 hf => ?_)
    clear hf0
    have hO := hext.t hI hO
    have hz := hz2
    have hw := hz.1
    have hI := hz.2.1
    clear hz2 hext
    refine lv_dup hx hb dX6_both_19 rfl ?_
    refine lv_iconst (v := (1 : Int32)) hx hb dX6_both_20 (by decide) ?_
    have hf0 := hf
    clear hf
    refine fa_I (fr := 5) (lo := 121) (val := vlV) (rest := [.ref (eb E + nx4)]) (As := [.int (1 : Int32)]) X hz hm_X17_init q1091 q139 q1089 q1090 rfl hR2 rfl rfl hl.1 (Nat.le_of_ble_eq_true rfl) dX6_both_21 (fun rQ aQ hQ => wX17_init_14 l E K V mi hSX nx4 (1 : Int32) (5) (121) (Nat.le_refl _) (Nat.le_refl _) cN cS tg5 nx5 ns5 hq6 sa5 hI hz.2.2.2.2.2.2.1 hz.2.2.2.2.2.2.2.2 rQ aQ hQ) hf0 (fun nX EX tgX nxX nsX stX H locs hTX hxX hz2 hf => ?_) (fun x7 tg8 nx8 ns8 sa8 H locs hext hz2 hf => ?_)
    · exact fda_x hxx hTX hz2 hf
    clear hf0
    have hO := hext.t hI hO
    have hq6 := hext.t hI hq6
    have hz := hz2
    have hw := hz.1
    have hI := hz.2.1
    clear hz2 hext
    refine lv_astore_n (lv' := [(2, .ref (eb E + nx4)), (1, .ref (eb E + x1)), (0, .ref (eb E + o))]) hx hb dX6_both_24 rfl hl (by decide) rfl (fun ls hl => ?_)
    refine lv_aload_n hx hb dX6_both_25 rfl (lv_at hl 0 rfl) ?_
    have hf0 := hf
    clear hf
    refine fo_getrN (fo_Xw X) hw fc_X17 hq6 (k := 1) (by decide) rfl fn1097 dX6_both_26 hf0 (fun q9 hf => ?_)
    clear hf0
    refine lv_aload_n hx hb dX6_both_29 rfl (lv_at hl 1 rfl) ?_
    have hf0 := ck_e hf
    clear hf
    obtain ⟨hq10, hf⟩ := hf0
    have hq10 := of_decide_eq_true hq10
    have hf0 := hf
    clear hf
    refine fa_V (fr := 7) (lo := 177) (val := vlI) (rest := []) (As := [.ref (eb E + x1)]) X hz hm_J2_add (lw_V q1103 q1104 q1105 q116 q1106) hR3 fc_J2 rfl hq10 rfl rfl hl.1 (Nat.le_of_ble_eq_true rfl) dX6_both_30 (fun rQ aQ hQ => wJ2_add_18 l E K V mi hSX q9 x1 (7) (177) (Nat.le_refl _) (Nat.le_refl _) cN cS tg8 nx8 ns8 hq10 sa8 hI hz.2.2.2.2.2.2.1 hz.2.2.2.2.2.2.2.2 rQ aQ hQ) hf0 (fun nX EX tgX nxX nsX stX H locs hTX hxX hz2 hf => ?_) (fun x11 tg12 nx12 ns12 sa12 H locs hext hz2 hf => ?_)
    · exact fda_x hxx hTX hz2 hf
    clear hf0
    have hO := hext.t hI hO
    have hq6 := hext.t hI hq6
    have hq10 := hext.t hI hq10
    have hz := hz2
    have hw := hz.1
    have hI := hz.2.1
    clear hz2 hext
    refine lv_pop hx hb dX6_both_33 rfl ?_
    refine lp1_e (P := fun a13 => ∀ (H : Heap) (locs : List Loc) (ls : Array Slot), a13.1 o = (1, 17) → a13.1 nx4 = (1, 14) → a13.1 q9 = (1, 18) → lv_has ls 3 [(2, .ref (eb E + nx4)), (0, .ref (eb E + o))] → fo_Z E R s cN cS (tg0, nx0, ns0, st0) a13.1 a13.2.1 a13.2.2.1 a13.2.2.2 H locs → W p l e R s m args below meth c H locs (a13.2.1 - nx0) (a13.2.2.1 - ns0) Q (F0 m 34 ls [])) (fun rec14 hrec14 a13 hf => ?_) G _ hf H locs ls hO hq6 hq10 (lv_sub hl [0, 2] rfl) hz
    obtain ⟨tg13, nx13, ns13, sa13⟩ := a13
    intro H locs ls hO hq6 hq10 hl hz
    have hO : tg13 o = (1, 17) := hO
    have hq6 : tg13 nx4 = (1, 14) := hq6
    have hq10 : tg13 q9 = (1, 18) := hq10
    have hz : fo_Z E R s cN cS (tg0, nx0, ns0, st0) tg13 nx13 ns13 sa13 H locs := hz
    show W p l e R s m args below meth c H locs (nx13 - nx0) (ns13 - ns0) Q (F0 m 34 ls [])
    replace hf := aw_u hf
    have hw := hz.1
    have hI := hz.2.1
    refine lv_aload_n hx hb dX6_both_34 rfl (lv_at hl 1 rfl) ?_
    refine fo_ldcS X hSX lq_37 dX6_both_35 ?_
    have hf0 := hf
    clear hf
    refine fa_O (n := 1) (fr := 11) (lo := 222) (val := vlI) (rest := []) (As := [.ref (K 37)]) X hz (lw_O q919 q921 q920 q923 q920 q125 q924) q924 ⟨by decide, by decide, by decide +kernel⟩ hR4 fc_X20 hO rfl rfl hl.1 (Nat.le_of_ble_eq_true rfl) dX6_both_37 (fun rQ aQ hQ => wX6_takes_17 l E K V mi hSX G o 37 (11) (222) (Nat.le_refl _) (Nat.le_refl _) cN cS tg13 nx13 ns13 hO (by decide) sa13 hI hz.2.2.2.2.2.2.1 hz.2.2.2.2.2.2.2.2 rQ aQ hQ) hf0 (fun nX EX tgX nxX nsX stX H locs hTX hxX hz2 hf => ?_) (fun x15 tg16 nx16 ns16 sa16 H locs hext hz2 hf => ?_)
    · exact fda_x hxx hTX hz2 hf
    clear hf0
    have hO := hext.t hI hO
    have hq6 := hext.t hI hq6
    have hq10 := hext.t hI hq10
    have hz := hz2
    have hw := hz.1
    have hI := hz.2.1
    clear hz2 hext
    have hf0 := hf
    clear hf
    refine fb_zeq (tgt := 58) hx hb dX6_both_40 (by decide) hf0 (fun hf => ?_) (fun hf => ?_)
    · clear hf0
      refine lv_aload_n hx hb dX6_both_58 rfl (lv_at hl 0 rfl) ?_
      exact fda_r hend hz hf dX6_both_59
    clear hf0
    refine lv_aload_n hx hb dX6_both_43 rfl (lv_at hl 0 rfl) ?_
    have hf0 := hf
    clear hf
    refine fo_getrN (fo_Xw X) hw fc_X17 hq6 (k := 1) (by decide) rfl fn1097 dX6_both_44 hf0 (fun q17 hf => ?_)
    clear hf0
    refine lv_aload_n hx hb dX6_both_47 rfl (lv_at hl 1 rfl) ?_
    have hf0 := hf
    clear hf
    refine fa_O (n := 0) (fr := 4 * d + 26) (lo := 200 * d + 1044) (val := (vlR (eb E))) (rest := [.ref (eb E + q17)]) (As := []) X hz (lw_O q1038 q1040 q1039 q1042 q1039 q125 q1043) q1043 ⟨by decide, by decide, by decide +kernel⟩ hR0 fc_X20 hO rfl rfl hl.1 (Nat.le_of_ble_eq_true rfl) dX6_both_48 (fun rQ aQ hQ => wX6_plain_17 l E K V mi hSX G o (4 * d + 26) (200 * d + 1044) d (Nat.le_refl _) (Nat.le_refl _) cN cS recS recT hrecS hrecT tg16 nx16 ns16 hO sa16 hI hz.2.2.2.2.2.2.1 hz.2.2.2.2.2.2.2.2 rQ aQ hQ) hf0 (fun nX EX tgX nxX nsX stX H locs hTX hxX hz2 hf => ?_) (fun x18 tg19 nx19 ns19 sa19 H locs hext hz2 hf => ?_)
    · exact fda_x hxx hTX hz2 hf
    clear hf0
    have hO := hext.t hI hO
    have hq6 := hext.t hI hq6
    have hq10 := hext.t hI hq10
    have hz := hz2
    have hw := hz.1
    have hI := hz.2.1
    clear hz2 hext
    have hf0 := ck_e hf
    clear hf
    obtain ⟨hq20, hf⟩ := hf0
    have hq20 := of_decide_eq_true hq20
    have hf0 := hf
    clear hf
    refine fa_V (fr := 7) (lo := 177) (val := vlI) (rest := []) (As := [.ref (eb E + x18)]) X hz hm_J2_add (lw_V q1103 q1104 q1105 q116 q1106) hR3 fc_J2 rfl hq20 rfl rfl hl.1 (Nat.le_of_ble_eq_true rfl) dX6_both_51 (fun rQ aQ hQ => wJ2_add_18 l E K V mi hSX q17 x18 (7) (177) (Nat.le_refl _) (Nat.le_refl _) cN cS tg19 nx19 ns19 hq20 sa19 hI hz.2.2.2.2.2.2.1 hz.2.2.2.2.2.2.2.2 rQ aQ hQ) hf0 (fun nX EX tgX nxX nsX stX H locs hTX hxX hz2 hf => ?_) (fun x21 tg22 nx22 ns22 sa22 H locs hext hz2 hf => ?_)
    · exact fda_x hxx hTX hz2 hf
    clear hf0
    have hO := hext.t hI hO
    have hq6 := hext.t hI hq6
    have hq10 := hext.t hI hq10
    have hq20 := hext.t hI hq20
    have hz := hz2
    have hw := hz.1
    have hI := hz.2.1
    clear hz2 hext
    refine lv_pop hx hb dX6_both_54 rfl ?_
    refine lv_goto (tgt := 34) hx hb dX6_both_55 (by decide) ?_
    exact hrec14 _ hf _ _ _ hO hq6 hq10 (lv_sub hl [0, 1] rfl) hz
  clear hf0
  refine lv_aload_n hx hb dX6_both_14 rfl (lv_at hl 0 rfl) ?_
  exact fda_r hend hz hf dX6_both_15

