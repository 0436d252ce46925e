/-! walks of methods that make cells or throw, printed by genA.py -/
set_option maxRecDepth 100000
set_option maxHeartbeats 1000000 in
theorem wX6_positive_17 (l : Launch) (E : fo_E) (K V : Nat → Nat) (mi : Nat) (hSX : fo_SX E K V mi) (G : Nat) (o : Nat) (fr lo : Nat) (d : Nat) (hfr : 4 * d + 25 ≤ fr) (hlo : 200 * d + 1022 ≤ lo) (cN cS : Nat) (recS : Nat → (Nat → Nat × Nat) → Nat → Nat → fo_St → Option ((Nat ⊕ Nat) × fo_A)) (recT : Nat → (Nat → Nat × Nat) → Nat → Nat → fo_St → Option ((Nat ⊕ Nat) × fo_A)) (hrecS : ∀ (q : Nat) (tg : Nat → Nat × Nat) (nx ns : Nat) (hq : tg q = (1, 17)) (st : fo_St) (hI : fo_I E tg nx) (hcN : nx ≤ cN) (hcS : ns ≤ cS) (ρ : Nat ⊕ Nat) (a1 : fo_A), recS q tg nx ns st = some (ρ, a1) → CA (vlR (eb E)) l E yX6_sum (ws_ yX6_sum cX6_sum 3 (some (.object "ForestRooms$Sum"))) (4 * d + 20) (200 * d + 1000) cN cS [.ref (eb E + q)] (tg, nx, ns, st) ρ a1) (hrecT : ∀ (q : Nat) (tg : Nat → Nat × Nat) (nx ns : Nat) (hq : tg q = (1, 17)) (st : fo_St) (hI : fo_I E tg nx) (hcN : nx ≤ cN) (hcS : ns ≤ cS) (ρ : Nat ⊕ Nat) (a1 : fo_A), recT q tg nx ns st = some (ρ, a1) → CA (vlR (eb E)) l E yX6_test (ws_ yX6_test cX6_test 3 (some (.object "ForestRooms$Test"))) (4 * d + 24) (200 * d + 1000) cN cS [.ref (eb E + q)] (tg, nx, ns, st) ρ a1) (tg0 : Nat → Nat × Nat) (nx0 ns0 : Nat) (hO : tg0 o = (1, 17)) (st0 : fo_St) (hI : fo_I E tg0 nx0) (hcN : nx0 ≤ cN) (hcS : ns0 ≤ cS) (ρZ : Nat ⊕ Nat) (aZ : fo_A) (hf : fX6_positive cN cS G recS recT o tg0 nx0 ns0 st0 = some (ρZ, aZ)) : CA (vlR (eb E)) l E yX6_positive (ws_ yX6_positive cX6_positive 3 (some (.object "ForestRooms$Test"))) fr lo cN cS [.ref (eb E + o)] (tg0, nx0, ns0, st0) ρZ aZ := by
  refine fea_r (a := (tg0, nx0, ns0, st0)) (Or.inl ⟨_, rfl⟩) hm_X6_positive (Nat.le_of_ble_eq_true rfl) hI hcN hcS (fun p e R s m args below meth c Q hRf hRl X hnm hend hxx ls hl hz => ?_)
  replace hRf : 4 * d + 25 ≤ R.frames := by rw [hRf]; exact hfr
  replace hRl : 200 * d + 1022 ≤ R.locals := by rw [hRl]; exact hlo
  have hR0 : 10 + 1 ≤ R.frames ∧ 8 + (3 + 11) + (200) ≤ R.locals := ⟨by omega, by omega⟩
  have hR1 : 4 * d + 20 + 1 ≤ R.frames ∧ 8 + (3 + 11) + (200 * d + 1000) ≤ R.locals := ⟨by omega, by omega⟩
  have hR2 : 1 + 1 ≤ R.frames ∧ 8 + (1 + 11) + (23) ≤ R.locals := ⟨by omega, by omega⟩
  have hR3 : 3 + 1 ≤ R.frames ∧ 8 + (4 + 11) + (80) ≤ R.locals := ⟨by omega, by omega⟩
  have hR4 : 4 + 1 ≤ R.frames ∧ 8 + (2 + 11) + (114) ≤ R.locals := ⟨by omega, by omega⟩
  have hR5 : 5 + 1 ≤ R.frames ∧ 8 + (1 + 11) + (135) ≤ R.locals := ⟨by omega, by omega⟩
  have hR6 : 4 * d + 24 + 1 ≤ R.frames ∧ 8 + (3 + 11) + (200 * d + 1000) ≤ R.locals := ⟨by omega, by omega⟩
  have hR7 : 12 + 1 ≤ R.frames ∧ 8 + (2 + 11) + (244) ≤ R.locals := ⟨by omega, by omega⟩
  have hx := X.1.1
  have hb := X.1.2.1
  have hl : lv_has ls 3 [(0, .ref (eb E + o))] := hl
  have hz : fo_Z E R s cN cS (tg0, nx0, ns0, st0) tg0 nx0 ns0 st0 s.heap [] := hz
  have hw := hz.1
  show W p l e R s m args below meth c s.heap [] (nx0 - nx0) (ns0 - ns0) Q (F0 m 0 ls [])
  unfold fX6_positive at hf
  generalize s.heap = H at hz hw ⊢
  generalize ([] : List Loc) = locs at hz hw ⊢
  refine lv_aload_n hx hb dX6_positive_0 rfl (lv_at hl 0 rfl) ?_
  refine fo_ldcS X hSX lq_32 dX6_positive_1 ?_
  have hf0 := hf
  clear hf
  refine fa_O (n := 1) (fr := 10) (lo := 200) (val := vlI) (rest := []) (As := [.ref (K 32)]) X hz (lw_O q904 q2228 q785 q2230 q785 q125 q786) q786 ⟨by decide, by decide, by decide +kernel⟩ hR0 fc_X20 hO rfl rfl hl.1 (Nat.le_of_ble_eq_true rfl) dX6_positive_3 (fun rQ aQ hQ => wX6_is_17 l E K V mi hSX G o 32 (10) (200) (Nat.le_refl _) (Nat.le_refl _) cN cS tg0 nx0 ns0 hO (by decide) st0 hI hz.2.2.2.2.2.2.1 hz.2.2.2.2.2.2.2.2 rQ aQ hQ) hf0 (fun nX EX tgX nxX nsX stX H locs hTX hxX hz2 hf => ?_) (fun x1 tg2 nx2 ns2 sa2 H locs hext hz2 hf => ?_)
  · exact fda_x hxx hTX hz2 hf
  clear hf0
  have hO := hext.t hI hO
  have hz := hz2
  have hw := hz.1
  have hI := hz.2.1
  clear hz2 hext
  have hf0 := hf
  clear hf
  refine fb_zeq (tgt := 36) hx hb dX6_positive_6 (by decide) hf0 (fun hf => ?_) (fun hf => ?_)
  · clear hf0
    refine lv_aload_n hx hb dX6_positive_36 rfl (lv_at hl 0 rfl) ?_
    have hf0 := hf
    clear hf
    refine fa_O (n := 0) (fr := 4 * d + 20) (lo := 200 * d + 1000) (val := (vlR (eb E))) (rest := []) (As := []) X hz (lw_O q911 q2231 q889 q2233 q889 q125 q890) q890 ⟨by decide, by decide, by decide +kernel⟩ hR1 fc_X20 hO rfl rfl hl.1 (Nat.le_of_ble_eq_true rfl) dX6_positive_37 (fun rQ aQ hQ => hrecS o tg2 nx2 ns2 hO sa2 hI hz.2.2.2.2.2.2.1 hz.2.2.2.2.2.2.2.2 rQ aQ hQ) hf0 (fun nX EX tgX nxX nsX stX H locs hTX hxX hz2 hf => ?_) (fun x3 tg4 nx4 ns4 sa4 H locs hext hz2 hf => ?_)
    · exact fda_x hxx hTX hz2 hf
    clear hf0
    have hO := hext.t hI hO
    have hz := hz2
    have hw := hz.1
    have hI := hz.2.1
    clear hz2 hext
    refine lv_astore_n (lv' := [(1, .ref (eb E + x3)), (0, .ref (eb E + o))]) hx hb dX6_positive_40 rfl hl (by decide) rfl (fun ls hl => ?_)
    refine lv_aload_n hx hb dX6_positive_41 rfl (lv_at hl 1 rfl) ?_
    refine fo_ldcS X hSX lq_34 dX6_positive_42 ?_
    have hf0 := hf
    clear hf
    refine fa_O (n := 1) (fr := 10) (lo := 200) (val := vlI) (rest := []) (As := [.ref (K 34)]) X hz (lw_O q904 q2228 q785 q2230 q785 q125 q786) q786 ⟨by decide, by decide, by decide +kernel⟩ hR0 fc_X20 hO rfl rfl hl.1 (Nat.le_of_ble_eq_true rfl) dX6_positive_44 (fun rQ aQ hQ => wX6_is_17 l E K V mi hSX G o 34 (10) (200) (Nat.le_refl _) (Nat.le_refl _) cN cS tg4 nx4 ns4 hO (by decide) sa4 hI hz.2.2.2.2.2.2.1 hz.2.2.2.2.2.2.2.2 rQ aQ hQ) hf0 (fun nX EX tgX nxX nsX stX H locs hTX hxX hz2 hf => ?_) (fun x5 tg6 nx6 ns6 sa6 H locs hext hz2 hf => ?_)
    · exact fda_x hxx hTX hz2 hf
    clear hf0
    have hO := hext.t hI hO
    have hz := hz2
    have hw := hz.1
    have hI := hz.2.1
    clear hz2 hext
    have hf0 := hf
    clear hf
    refine fb_zne (tgt := 80) hx hb dX6_positive_47 (by decide) hf0 (fun hf => ?_) (fun hf => ?_)
    · clear hf0
      refine lv_aload_n hx hb dX6_positive_80 rfl (lv_at hl 1 rfl) ?_
      have hf0 := hf
      clear hf
      refine fo_getr (fo_Xw X) hw fc_X20 hO (k := 0) (by decide) rfl q725 dX6_positive_81 hf0 (fun q7 hf => ?_)
      clear hf0
      refine lv_aload_n hx hb dX6_positive_84 rfl (lv_at hl 1 rfl) ?_
      refine fo_geti (fo_Xw X) hw fc_X20 hO (k := 3) (by decide) rfl q728 dX6_positive_85 ?_
      have hf0 := ck_e hf
      clear hf
      obtain ⟨hq8, hf⟩ := hf0
      have hq8 := of_decide_eq_true hq8
      have hf0 := hf
      clear hf
      refine fo_bald (fo_Xw X) hw hq8 dX6_positive_88 hf0 (fun hf => ?_)
      clear hf0
      refine lv_i2c (v := ((gi_ sa6 q7 (gi_ sa6 o 3).toNatClampNeg).toUInt32 % 65536).toInt32) hx hb dX6_positive_89 rfl ?_
      have hf0 := hf
      clear hf
      refine fo_tI hf0 (fun x9 hf => ?_)
      clear hf0
      refine lv_istore_n (lv' := [(2, .int x9), (1, .ref (eb E + x3)), (0, .ref (eb E + o))]) hx hb dX6_positive_90 rfl hl (by decide) rfl (fun ls hl => ?_)
      refine lv_aload_n hx hb dX6_positive_91 rfl (lv_at hl 2 rfl) ?_
      have hf0 := hf
      clear hf
      refine fa_O (n := 0) (fr := 1) (lo := 23) (val := vlV) (rest := []) (As := []) X hz (lw_O q762 q764 q763 q766 q763 q125 q767) q767 ⟨by decide, by decide, by decide +kernel⟩ hR2 fc_X20 hO rfl rfl hl.1 (Nat.le_of_ble_eq_true rfl) dX6_positive_92 (fun rQ aQ hQ => wX6_next_17 l E G o (1) (23) (Nat.le_refl _) (Nat.le_refl _) cN cS tg6 nx6 ns6 hO sa6 hI hz.2.2.2.2.2.2.1 hz.2.2.2.2.2.2.2.2 rQ aQ hQ) hf0 (fun nX EX tgX nxX nsX stX H locs hTX hxX hz2 hf => ?_) (fun x10 tg11 nx11 ns11 sa11 H locs hext hz2 hf => ?_)
      · exact fda_x hxx hTX hz2 hf
      clear hf0
      have hO := hext.t hI hO
      have hq8 := hext.t hI hq8
      have hz := hz2
      have hw := hz.1
      have hI := hz.2.1
      clear hz2 hext
      have hf0 := hf
      clear hf
      refine fa_new X hz fc_X15 fd_X15 q1057 q1058 q137 dX6_positive_95 hf0 (fun tg12 nx12 ns12 sa12 H hext hq13 hz2 hf => ?_)
      clear hf0
      have hO := hext.t hI hO
      have hq8 := hext.t hI hq8
      have hz := hz2
      have hw := hz.1
      have hI := hz.2.1
      clear hz2 hext
      refine lv_dup hx hb dX6_positive_98 rfl ?_
      refine lv_iload_n hx hb dX6_positive_99 rfl (lv_at hl 0 rfl) ?_
      refine lv_aload_n hx hb dX6_positive_100 rfl (lv_at hl 1 rfl) ?_
      refine lv_aload_n hx hb dX6_positive_101 rfl (lv_at hl 2 rfl) ?_
      have hf0 := hf
      clear hf
      refine fa_O (n := 0) (fr := 4 * d + 20) (lo := 200 * d + 1000) (val := (vlR (eb E))) (rest := [.ref (eb E + x3), .int x9, .ref (eb E + nx11), .ref (eb E + nx11)]) (As := []) X hz (lw_O q911 q2231 q889 q2233 q889 q125 q890) q890 ⟨by decide, by decide, by decide +kernel⟩ hR1 fc_X20 hO rfl rfl hl.1 (Nat.le_of_ble_eq_true rfl) dX6_positive_102 (fun rQ aQ hQ => hrecS o tg12 nx12 ns12 hO sa12 hI hz.2.2.2.2.2.2.1 hz.2.2.2.2.2.2.2.2 rQ aQ hQ) hf0 (fun nX EX tgX nxX nsX stX H locs hTX hxX hz2 hf => ?_) (fun x14 tg15 nx15 ns15 sa15 H locs hext hz2 hf => ?_)
      · exact fda_x hxx hTX hz2 hf
      clear hf0
      have hO := hext.t hI hO
      have hq8 := hext.t hI hq8
      have hq13 := hext.t hI hq13
      have hz := hz2
      have hw := hz.1
      have hI := hz.2.1
      clear hz2 hext
      have hf0 := hf
      clear hf
      refine fa_I (fr := 3) (lo := 80) (val := vlV) (rest := [.ref (eb E + nx11)]) (As := [.int x9, .ref (eb E + x3), .ref (eb E + x14)]) X hz hm_X15_init q1061 q137 q1059 q1060 rfl hR3 rfl rfl hl.1 (Nat.le_of_ble_eq_true rfl) dX6_positive_105 (fun rQ aQ hQ => wX15_init_12 l E nx11 x9 x3 x14 (3) (80) (Nat.le_refl _) (Nat.le_refl _) cN cS tg15 nx15 ns15 hq13 sa15 hI hz.2.2.2.2.2.2.1 hz.2.2.2.2.2.2.2.2 rQ aQ hQ) hf0 (fun nX EX tgX nxX nsX stX H locs hTX hxX hz2 hf => ?_) (fun x16 tg17 nx17 ns17 sa17 H locs hext hz2 hf => ?_)
      · exact fda_x hxx hTX hz2 hf
      clear hf0
      have hO := hext.t hI hO
      have hq8 := hext.t hI hq8
      have hq13 := hext.t hI hq13
      have hz := hz2
      have hw := hz.1
      have hI := hz.2.1
      clear hz2 hext
      exact fda_r hend hz hf dX6_positive_108
    clear hf0
    refine lv_aload_n hx hb dX6_positive_50 rfl (lv_at hl 1 rfl) ?_
    refine fo_ldcS X hSX lq_35 dX6_positive_51 ?_
    have hf0 := hf
    clear hf
    refine fa_O (n := 1) (fr := 10) (lo := 200) (val := vlI) (rest := []) (As := [.ref (K 35)]) X hz (lw_O q904 q2228 q785 q2230 q785 q125 q786) q786 ⟨by decide, by decide, by decide +kernel⟩ hR0 fc_X20 hO rfl rfl hl.1 (Nat.le_of_ble_eq_true rfl) dX6_positive_53 (fun rQ aQ hQ => wX6_is_17 l E K V mi hSX G o 35 (10) (200) (Nat.le_refl _) (Nat.le_refl _) cN cS tg6 nx6 ns6 hO (by decide) sa6 hI hz.2.2.2.2.2.2.1 hz.2.2.2.2.2.2.2.2 rQ aQ hQ) hf0 (fun nX EX tgX nxX nsX stX H locs hTX hxX hz2 hf => ?_) (fun x18 tg19 nx19 ns19 sa19 H locs hext hz2 hf => ?_)
    · exact fda_x hxx hTX hz2 hf
    clear hf0
    have hO := hext.t hI hO
    have hz := hz2
    have hw := hz.1
    have hI := hz.2.1
    clear hz2 hext
    have hf0 := hf
    clear hf
    refine fb_zne (tgt := 80) hx hb dX6_positive_56 (by decide) hf0 (fun hf => ?_) (fun hf => ?_)
    · clear hf0
      refine lv_aload_n hx hb dX6_positive_80 rfl (lv_at hl 1 rfl) ?_
      have hf0 := hf
      clear hf
      refine fo_getr (fo_Xw X) hw fc_X20 hO (k := 0) (by decide) rfl q725 dX6_positive_81 hf0 (fun q20 hf => ?_)
      clear hf0
      refine lv_aload_n hx hb dX6_positive_84 rfl (lv_at hl 1 rfl) ?_
      refine fo_geti (fo_Xw X) hw fc_X20 hO (k := 3) (by decide) rfl q728 dX6_positive_85 ?_
      have hf0 := ck_e hf
      clear hf
      obtain ⟨hq21, hf⟩ := hf0
      have hq21 := of_decide_eq_true hq21
      have hf0 := hf
      clear hf
      refine fo_bald (fo_Xw X) hw hq21 dX6_positive_88 hf0 (fun hf => ?_)
      clear hf0
      refine lv_i2c (v := ((gi_ sa19 q20 (gi_ sa19 o 3).toNatClampNeg).toUInt32 % 65536).toInt32) hx hb dX6_positive_89 rfl ?_
      have hf0 := hf
      clear hf
      refine fo_tI hf0 (fun x22 hf => ?_)
      clear hf0
      refine lv_istore_n (lv' := [(2, .int x22), (1, .ref (eb E + x3)), (0, .ref (eb E + o))]) hx hb dX6_positive_90 rfl hl (by decide) rfl (fun ls hl => ?_)
      refine lv_aload_n hx hb dX6_positive_91 rfl (lv_at hl 2 rfl) ?_
      have hf0 := hf
      clear hf
      refine fa_O (n := 0) (fr := 1) (lo := 23) (val := vlV) (rest := []) (As := []) X hz (lw_O q762 q764 q763 q766 q763 q125 q767) q767 ⟨by decide, by decide, by decide +kernel⟩ hR2 fc_X20 hO rfl rfl hl.1 (Nat.le_of_ble_eq_true rfl) dX6_positive_92 (fun rQ aQ hQ => wX6_next_17 l E G o (1) (23) (Nat.le_refl _) (Nat.le_refl _) cN cS tg19 nx19 ns19 hO sa19 hI hz.2.2.2.2.2.2.1 hz.2.2.2.2.2.2.2.2 rQ aQ hQ) hf0 (fun nX EX tgX nxX nsX stX H locs hTX hxX hz2 hf => ?_) (fun x23 tg24 nx24 ns24 sa24 H locs hext hz2 hf => ?_)
      · exact fda_x hxx hTX hz2 hf
      clear hf0
      have hO := hext.t hI hO
      have hq21 := hext.t hI hq21
      have hz := hz2
      have hw := hz.1
      have hI := hz.2.1
      clear hz2 hext
      have hf0 := hf
      clear hf
      refine fa_new X hz fc_X15 fd_X15 q1057 q1058 q137 dX6_positive_95 hf0 (fun tg25 nx25 ns25 sa25 H hext hq26 hz2 hf => ?_)
      clear hf0
      have hO := hext.t hI hO
      have hq21 := hext.t hI hq21
      have hz := hz2
      have hw := hz.1
      have hI := hz.2.1
      clear hz2 hext
      refine lv_dup hx hb dX6_positive_98 rfl ?_
      refine lv_iload_n hx hb dX6_positive_99 rfl (lv_at hl 0 rfl) ?_
      refine lv_aload_n hx hb dX6_positive_100 rfl (lv_at hl 1 rfl) ?_
      refine lv_aload_n hx hb dX6_positive_101 rfl (lv_at hl 2 rfl) ?_
      have hf0 := hf
      clear hf
      refine fa_O (n := 0) (fr := 4 * d + 20) (lo := 200 * d + 1000) (val := (vlR (eb E))) (rest := [.ref (eb E + x3), .int x22, .ref (eb E + nx24), .ref (eb E + nx24)]) (As := []) X hz (lw_O q911 q2231 q889 q2233 q889 q125 q890) q890 ⟨by decide, by decide, by decide +kernel⟩ hR1 fc_X20 hO rfl rfl hl.1 (Nat.le_of_ble_eq_true rfl) dX6_positive_102 (fun rQ aQ hQ => hrecS o tg25 nx25 ns25 hO sa25 hI hz.2.2.2.2.2.2.1 hz.2.2.2.2.2.2.2.2 rQ aQ hQ) hf0 (fun nX EX tgX nxX nsX stX H locs hTX hxX hz2 hf => ?_) (fun x27 tg28 nx28 ns28 sa28 H locs hext hz2 hf => ?_)
      · exact fda_x hxx hTX hz2 hf
      clear hf0
      have hO := hext.t hI hO
      have hq21 := hext.t hI hq21
      have hq26 := hext.t hI hq26
      have hz := hz2
      have hw := hz.1
      have hI := hz.2.1
      clear hz2 hext
      have hf0 := hf
      clear hf
      refine fa_I (fr := 3) (lo := 80) (val := vlV) (rest := [.ref (eb E + nx24)]) (As := [.int x22, .ref (eb E + x3), .ref (eb E + x27)]) X hz hm_X15_init q1061 q137 q1059 q1060 rfl hR3 rfl rfl hl.1 (Nat.le_of_ble_eq_true rfl) dX6_positive_105 (fun rQ aQ hQ => wX15_init_12 l E nx24 x22 x3 x27 (3) (80) (Nat.le_refl _) (Nat.le_refl _) cN cS tg28 nx28 ns28 hq26 sa28 hI hz.2.2.2.2.2.2.1 hz.2.2.2.2.2.2.2.2 rQ aQ hQ) hf0 (fun nX EX tgX nxX nsX stX H locs hTX hxX hz2 hf => ?_) (fun x29 tg30 nx30 ns30 sa30 H locs hext hz2 hf => ?_)
      · exact fda_x hxx hTX hz2 hf
      clear hf0
      have hO := hext.t hI hO
      have hq21 := hext.t hI hq21
      have hq26 := hext.t hI hq26
      have hz := hz2
      have hw := hz.1
      have hI := hz.2.1
      clear hz2 hext
      exact fda_r hend hz hf dX6_positive_108
    clear hf0
    refine lv_aload_n hx hb dX6_positive_59 rfl (lv_at hl 1 rfl) ?_
    refine fo_ldcS X hSX lq_36 dX6_positive_60 ?_
    have hf0 := hf
    clear hf
    refine fa_O (n := 1) (fr := 10) (lo := 200) (val := vlI) (rest := []) (As := [.ref (K 36)]) X hz (lw_O q904 q2228 q785 q2230 q785 q125 q786) q786 ⟨by decide, by decide, by decide +kernel⟩ hR0 fc_X20 hO rfl rfl hl.1 (Nat.le_of_ble_eq_true rfl) dX6_positive_62 (fun rQ aQ hQ => wX6_is_17 l E K V mi hSX G o 36 (10) (200) (Nat.le_refl _) (Nat.le_refl _) cN cS tg19 nx19 ns19 hO (by decide) sa19 hI hz.2.2.2.2.2.2.1 hz.2.2.2.2.2.2.2.2 rQ aQ hQ) hf0 (fun nX EX tgX nxX nsX stX H locs hTX hxX hz2 hf => ?_) (fun x31 tg32 nx32 ns32 sa32 H locs hext hz2 hf => ?_)
    · exact fda_x hxx hTX hz2 hf
    clear hf0
    have hO := hext.t hI hO
    have hz := hz2
    have hw := hz.1
    have hI := hz.2.1
    clear hz2 hext
    have hf0 := hf
    clear hf
    refine fb_zne (tgt := 80) hx hb dX6_positive_65 (by decide) hf0 (fun hf => ?_) (fun hf => ?_)
    · clear hf0
      refine lv_aload_n hx hb dX6_positive_80 rfl (lv_at hl 1 rfl) ?_
      have hf0 := hf
      clear hf
      refine fo_getr (fo_Xw X) hw fc_X20 hO (k := 0) (by decide) rfl q725 dX6_positive_81 hf0 (fun q33 hf => ?_)
      clear hf0
      refine lv_aload_n hx hb dX6_positive_84 rfl (lv_at hl 1 rfl) ?_
      refine fo_geti (fo_Xw X) hw fc_X20 hO (k := 3) (by decide) rfl q728 dX6_positive_85 ?_
      have hf0 := ck_e hf
      clear hf
      obtain ⟨hq34, hf⟩ := hf0
      have hq34 := of_decide_eq_true hq34
      have hf0 := hf
      clear hf
      refine fo_bald (fo_Xw X) hw hq34 dX6_positive_88 hf0 (fun hf => ?_)
      clear hf0
      refine lv_i2c (v := ((gi_ sa32 q33 (gi_ sa32 o 3).toNatClampNeg).toUInt32 % 65536).toInt32) hx hb dX6_positive_89 rfl ?_
      have hf0 := hf
      clear hf
      refine fo_tI hf0 (fun x35 hf => ?_)
      clear hf0
      refine lv_istore_n (lv' := [(2, .int x35), (1, .ref (eb E + x3)), (0, .ref (eb E + o))]) hx hb dX6_positive_90 rfl hl (by decide) rfl (fun ls hl => ?_)
      refine lv_aload_n hx hb dX6_positive_91 rfl (lv_at hl 2 rfl) ?_
      have hf0 := hf
      clear hf
      refine fa_O (n := 0) (fr := 1) (lo := 23) (val := vlV) (rest := []) (As := []) X hz (lw_O q762 q764 q763 q766 q763 q125 q767) q767 ⟨by decide, by decide, by decide +kernel⟩ hR2 fc_X20 hO rfl rfl hl.1 (Nat.le_of_ble_eq_true rfl) dX6_positive_92 (fun rQ aQ hQ => wX6_next_17 l E G o (1) (23) (Nat.le_refl _) (Nat.le_refl _) cN cS tg32 nx32 ns32 hO sa32 hI hz.2.2.2.2.2.2.1 hz.2.2.2.2.2.2.2.2 rQ aQ hQ) hf0 (fun nX EX tgX nxX nsX stX H locs hTX hxX hz2 hf => ?_) (fun x36 tg37 nx37 ns37 sa37 H locs hext hz2 hf => ?_)
      · exact fda_x hxx hTX hz2 hf
      clear hf0
      have hO := hext.t hI hO
      have hq34 := hext.t hI hq34
      have hz := hz2
      have hw := hz.1
      have hI := hz.2.1
      clear hz2 hext
      have hf0 := hf
      clear hf
      refine fa_new X hz fc_X15 fd_X15 q1057 q1058 q137 dX6_positive_95 hf0 (fun tg38 nx38 ns38 sa38 H hext hq39 hz2 hf => ?_)
      clear hf0
      have hO := hext.t hI hO
      have hq34 := hext.t hI hq34
      have hz := hz2
      have hw := hz.1
      have hI := hz.2.1
      clear hz2 hext
      refine lv_dup hx hb dX6_positive_98 rfl ?_
      refine lv_iload_n hx hb dX6_positive_99 rfl (lv_at hl 0 rfl) ?_
      refine lv_aload_n hx hb dX6_positive_100 rfl (lv_at hl 1 rfl) ?_
      refine lv_aload_n hx hb dX6_positive_101 rfl (lv_at hl 2 rfl) ?_
      have hf0 := hf
      clear hf
      refine fa_O (n := 0) (fr := 4 * d + 20) (lo := 200 * d + 1000) (val := (vlR (eb E))) (rest := [.ref (eb E + x3), .int x35, .ref (eb E + nx37), .ref (eb E + nx37)]) (As := []) X hz (lw_O q911 q2231 q889 q2233 q889 q125 q890) q890 ⟨by decide, by decide, by decide +kernel⟩ hR1 fc_X20 hO rfl rfl hl.1 (Nat.le_of_ble_eq_true rfl) dX6_positive_102 (fun rQ aQ hQ => hrecS o tg38 nx38 ns38 hO sa38 hI hz.2.2.2.2.2.2.1 hz.2.2.2.2.2.2.2.2 rQ aQ hQ) hf0 (fun nX EX tgX nxX nsX stX H locs hTX hxX hz2 hf => ?_) (fun x40 tg41 nx41 ns41 sa41 H locs hext hz2 hf => ?_)
      · exact fda_x hxx hTX hz2 hf
      clear hf0
      have hO := hext.t hI hO
      have hq34 := hext.t hI hq34
      have hq39 := hext.t hI hq39
      have hz := hz2
      have hw := hz.1
      have hI := hz.2.1
      clear hz2 hext
      have hf0 := hf
      clear hf
      refine fa_I (fr := 3) (lo := 80) (val := vlV) (rest := [.ref (eb E + nx37)]) (As := [.int x35, .ref (eb E + x3), .ref (eb E + x40)]) X hz hm_X15_init q1061 q137 q1059 q1060 rfl hR3 rfl rfl hl.1 (Nat.le_of_ble_eq_true rfl) dX6_positive_105 (fun rQ aQ hQ => wX15_init_12 l E nx37 x35 x3 x40 (3) (80) (Nat.le_refl _) (Nat.le_refl _) cN cS tg41 nx41 ns41 hq39 sa41 hI hz.2.2.2.2.2.2.1 hz.2.2.2.2.2.2.2.2 rQ aQ hQ) hf0 (fun nX EX tgX nxX nsX stX H locs hTX hxX hz2 hf => ?_) (fun x42 tg43 nx43 ns43 sa43 H locs hext hz2 hf => ?_)
      · exact fda_x hxx hTX hz2 hf
      clear hf0
      have hO := hext.t hI hO
      have hq34 := hext.t hI hq34
      have hq39 := hext.t hI hq39
      have hz := hz2
      have hw := hz.1
      have hI := hz.2.1
      clear hz2 hext
      exact fda_r hend hz hf dX6_positive_108
    clear hf0
    have hf0 := hf
    clear hf
    refine fa_new X hz fc_X8 fd_X8 q843 q844 q130 dX6_positive_68 hf0 (fun tg44 nx44 ns44 sa44 H hext hq45 hz2 hf => ?_)
    clear hf0
    have hO := hext.t hI hO
    have hz := hz2
    have hw := hz.1
    have hI := hz.2.1
    clear hz2 hext
    refine lv_dup hx hb dX6_positive_71 rfl ?_
    refine lv_aload_n hx hb dX6_positive_72 rfl (lv_at hl 1 rfl) ?_
    refine fo_geti (fo_Xw X) hw fc_X20 hO (k := 3) (by decide) rfl q728 dX6_positive_73 ?_
    have hf0 := hf
    clear hf
    refine fa_I (fr := 4) (lo := 114) (val := vlV) (rest := [.ref (eb E + nx32)]) (As := [.int (gi_ sa44 o 3)]) X hz hm_X8_init q854 q130 q852 q853 rfl hR4 rfl rfl hl.1 (Nat.le_of_ble_eq_true rfl) dX6_positive_76 (fun rQ aQ hQ => wX8_init_7 l E K V mi hSX nx32 (gi_ sa44 o 3) (4) (114) (Nat.le_refl _) (Nat.le_refl _) cN cS tg44 nx44 ns44 hq45 sa44 hI hz.2.2.2.2.2.2.1 hz.2.2.2.2.2.2.2.2 rQ aQ hQ) hf0 (fun nX EX tgX nxX nsX stX H locs hTX hxX hz2 hf => ?_) (fun x46 tg47 nx47 ns47 sa47 H locs hext hz2 hf => ?_)
    · exact fda_x hxx hTX hz2 hf
    clear hf0
    have hO := hext.t hI hO
    have hq45 := hext.t hI hq45
    have hz := hz2
    have hw := hz.1
    have hI := hz.2.1
    clear hz2 hext
    exact fx_athrow hx hb dX6_positive_79 (fda_x hxx ⟨7, _, hq45, fc_X8.1, rfl⟩ hz hf)
  clear hf0
  refine lv_aload_n hx hb dX6_positive_9 rfl (lv_at hl 0 rfl) ?_
  have hf0 := hf
  clear hf
  refine fa_O (n := 0) (fr := 5) (lo := 135) (val := vlV) (rest := []) (As := []) X hz (lw_O q905 q907 q906 q909 q906 q125 q910) q910 ⟨by decide, by decide, by decide +kernel⟩ hR5 fc_X20 hO rfl rfl hl.1 (Nat.le_of_ble_eq_true rfl) dX6_positive_10 (fun rQ aQ hQ => wX6_opens_17 l E K V mi hSX G o (5) (135) (Nat.le_refl _) (Nat.le_refl _) cN cS tg2 nx2 ns2 hO sa2 hI hz.2.2.2.2.2.2.1 hz.2.2.2.2.2.2.2.2 rQ aQ hQ) hf0 (fun nX EX tgX nxX nsX stX H locs hTX hxX hz2 hf => ?_) (fun x48 tg49 nx49 ns49 sa49 H locs hext hz2 hf => ?_)
  · exact fda_x hxx hTX hz2 hf
  clear hf0
  have hO := hext.t hI hO
  have hz := hz2
  have hw := hz.1
  have hI := hz.2.1
  clear hz2 hext
  refine lv_aload_n hx hb dX6_positive_13 rfl (lv_at hl 0 rfl) ?_
  have hf0 := hf
  clear hf
  refine fa_O (n := 0) (fr := 4 * d + 24) (lo := 200 * d + 1000) (val := (vlR (eb E))) (rest := []) (As := []) X hz (lw_O q1052 q2234 q1030 q2236 q1030 q125 q1031) q1031 ⟨by decide, by decide, by decide +kernel⟩ hR6 fc_X20 hO rfl rfl hl.1 (Nat.le_of_ble_eq_true rfl) dX6_positive_14 (fun rQ aQ hQ => hrecT o tg49 nx49 ns49 hO sa49 hI hz.2.2.2.2.2.2.1 hz.2.2.2.2.2.2.2.2 rQ aQ hQ) hf0 (fun nX EX tgX nxX nsX stX H locs hTX hxX hz2 hf => ?_) (fun x50 tg51 nx51 ns51 sa51 H locs hext hz2 hf => ?_)
  · exact fda_x hxx hTX hz2 hf
  clear hf0
  have hO := hext.t hI hO
  have hz := hz2
  have hw := hz.1
  have hI := hz.2.1
  clear hz2 hext
  refine lv_astore_n (lv' := [(1, .ref (eb E + x50)), (0, .ref (eb E + o))]) hx hb dX6_positive_17 rfl hl (by decide) rfl (fun ls hl => ?_)
  refine lv_aload_n hx hb dX6_positive_18 rfl (lv_at hl 1 rfl) ?_
  refine fo_ldcS X hSX lq_33 dX6_positive_19 ?_
  have hf0 := hf
  clear hf
  refine fa_O (n := 1) (fr := 12) (lo := 244) (val := vlV) (rest := []) (As := [.ref (K 33)]) X hz (lw_O q913 q915 q914 q917 q914 q125 q918) q918 ⟨by decide, by decide, by decide +kernel⟩ hR7 fc_X20 hO rfl rfl hl.1 (Nat.le_of_ble_eq_true rfl) dX6_positive_21 (fun rQ aQ hQ => wX6_need_17 l E K V mi hSX G o 33 (12) (244) (Nat.le_refl _) (Nat.le_refl _) cN cS tg51 nx51 ns51 hO (by decide) sa51 hI hz.2.2.2.2.2.2.1 hz.2.2.2.2.2.2.2.2 rQ aQ hQ) hf0 (fun nX EX tgX nxX nsX stX H locs hTX hxX hz2 hf => ?_) (fun x52 tg53 nx53 ns53 sa53 H locs hext hz2 hf => ?_)
  · exact fda_x hxx hTX hz2 hf
  clear hf0
  have hO := hext.t hI hO
  have hz := hz2
  have hw := hz.1
  have hI := hz.2.1
  clear hz2 hext
  refine lv_aload_n hx hb dX6_positive_24 rfl (lv_at hl 1 rfl) ?_
  refine lv_dup hx hb dX6_positive_25 rfl ?_
  refine fo_geti (fo_Xw X) hw fc_X20 hO (k := 6) (by decide) rfl q731 dX6_positive_26 ?_
  refine lv_iconst (v := (1 : Int32)) hx hb dX6_positive_29 (by decide) ?_
  refine lv_isub hx hb dX6_positive_30 ?_
  have hf0 := hf
  clear hf
  refine fo_puti (fo_Xw X) hw fc_X20 hO (k := 6) (by decide) rfl rfl q731 ⟨rfl, rfl⟩ dX6_positive_31 hf0 (fun st54 H locs hw hf => ?_)
  clear hf0
  have hz := hz.s hw
  refine lv_aload_n hx hb dX6_positive_34 rfl (lv_at hl 0 rfl) ?_
  exact fda_r hend hz hf dX6_positive_35

