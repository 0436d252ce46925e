/-! walks of methods that make cells or throw, printed by genA.py -/
set_option maxRecDepth 100000
set_option maxHeartbeats 1000000 in
theorem wX6_part_17 (l : Launch) (E : fo_E) (K V : Nat → Nat) (mi : Nat) (hSX : fo_SX E K V mi) (G : Nat) (o : Nat) (fr lo : Nat) (d : Nat) (hfr : 4 * d + 21 ≤ fr) (hlo : 200 * d + 1022 ≤ lo) (cN cS : Nat) (recS : Nat → (Nat → Nat × Nat) → Nat → Nat → fo_St → Option ((Nat ⊕ Nat) × fo_A)) (recV : Nat → (Nat → Nat × Nat) → Nat → Nat → fo_St → Option ((Int32 ⊕ Nat) × fo_A)) (hrecS : ∀ (q : Nat) (tg : Nat → Nat × Nat) (nx ns : Nat) (hq : tg q = (1, 17)) (st : fo_St) (hI : fo_I E tg nx) (hcN : nx ≤ cN) (hcS : ns ≤ cS) (ρ : Nat ⊕ Nat) (a1 : fo_A), recS q tg nx ns st = some (ρ, a1) → CA (vlR (eb E)) l E yX6_sum (ws_ yX6_sum cX6_sum 3 (some (.object "ForestRooms$Sum"))) (4 * d + 20) (200 * d + 1000) cN cS [.ref (eb E + q)] (tg, nx, ns, st) ρ a1) (hrecV : ∀ (q : Nat) (tg : Nat → Nat × Nat) (nx ns : Nat) (hq : tg q = (1, 17)) (st : fo_St) (hI : fo_I E tg nx) (hcN : nx ≤ cN) (hcS : ns ≤ cS) (ρ : Int32 ⊕ Nat) (a1 : fo_A), recV q tg nx ns st = some (ρ, a1) → CA vlI l E yX20_value (ws_ yX20_value cX20_value 1 (some .int)) (14) (400) cN cS [.ref (eb E + q)] (tg, nx, ns, st) ρ a1) (tg0 : Nat → Nat × Nat) (nx0 ns0 : Nat) (hO : tg0 o = (1, 17)) (st0 : fo_St) (hI : fo_I E tg0 nx0) (hcN : nx0 ≤ cN) (hcS : ns0 ≤ cS) (ρZ : Nat ⊕ Nat) (aZ : fo_A) (hf : fX6_part cN cS G recS recV o tg0 nx0 ns0 st0 = some (ρZ, aZ)) : CA (vlR (eb E)) l E yX6_part (ws_ yX6_part cX6_part 2 (some (.object "ForestRooms$Sum"))) fr lo cN cS [.ref (eb E + o)] (tg0, nx0, ns0, st0) ρZ aZ := by
  refine fea_r (a := (tg0, nx0, ns0, st0)) (Or.inl ⟨_, rfl⟩) hm_X6_part (Nat.le_of_ble_eq_true rfl) hI hcN hcS (fun p e R s m args below meth c Q hRf hRl X hnm hend hxx ls hl hz => ?_)
  replace hRf : 4 * d + 21 ≤ R.frames := by rw [hRf]; exact hfr
  replace hRl : 200 * d + 1022 ≤ R.locals := by rw [hRl]; exact hlo
  have hR0 : 10 + 1 ≤ R.frames ∧ 8 + (3 + 11) + (200) ≤ R.locals := ⟨by omega, by omega⟩
  have hR1 : 0 + 1 ≤ R.frames ∧ 8 + (4 + 11) + (0) ≤ R.locals := ⟨by omega, by omega⟩
  have hR2 : 14 + 1 ≤ R.frames ∧ 8 + (1 + 11) + (400) ≤ R.locals := ⟨by omega, by omega⟩
  have hR3 : 3 + 1 ≤ R.frames ∧ 8 + (2 + 11) + (80) ≤ R.locals := ⟨by omega, by omega⟩
  have hR4 : 4 + 1 ≤ R.frames ∧ 8 + (2 + 11) + (114) ≤ R.locals := ⟨by omega, by omega⟩
  have hR5 : 5 + 1 ≤ R.frames ∧ 8 + (1 + 11) + (135) ≤ R.locals := ⟨by omega, by omega⟩
  have hR6 : 5 + 1 ≤ R.frames ∧ 8 + (5 + 11) + (135) ≤ R.locals := ⟨by omega, by omega⟩
  have hR7 : 4 * d + 20 + 1 ≤ R.frames ∧ 8 + (3 + 11) + (200 * d + 1000) ≤ R.locals := ⟨by omega, by omega⟩
  have hR8 : 12 + 1 ≤ R.frames ∧ 8 + (2 + 11) + (244) ≤ R.locals := ⟨by omega, by omega⟩
  have hx := X.1.1
  have hb := X.1.2.1
  have hl : lv_has ls 2 [(0, .ref (eb E + o))] := hl
  have hz : fo_Z E R s cN cS (tg0, nx0, ns0, st0) tg0 nx0 ns0 st0 s.heap [] := hz
  have hw := hz.1
  show W p l e R s m args below meth c s.heap [] (nx0 - nx0) (ns0 - ns0) Q (F0 m 0 ls [])
  unfold fX6_part at hf
  generalize s.heap = H at hz hw ⊢
  generalize ([] : List Loc) = locs at hz hw ⊢
  refine lv_aload_n hx hb dX6_part_0 rfl (lv_at hl 0 rfl) ?_
  refine fo_ldcS X hSX lq_5 dX6_part_1 ?_
  have hf0 := hf
  clear hf
  refine fa_O (n := 1) (fr := 10) (lo := 200) (val := vlI) (rest := []) (As := [.ref (K 5)]) X hz (lw_O q904 q2228 q785 q2230 q785 q125 q786) q786 ⟨by decide, by decide, by decide +kernel⟩ hR0 fc_X20 hO rfl rfl hl.1 (Nat.le_of_ble_eq_true rfl) dX6_part_3 (fun rQ aQ hQ => wX6_is_17 l E K V mi hSX G o 5 (10) (200) (Nat.le_refl _) (Nat.le_refl _) cN cS tg0 nx0 ns0 hO (by decide) st0 hI hz.2.2.2.2.2.2.1 hz.2.2.2.2.2.2.2.2 rQ aQ hQ) hf0 (fun nX EX tgX nxX nsX stX H locs hTX hxX hz2 hf => ?_) (fun x1 tg2 nx2 ns2 sa2 H locs hext hz2 hf => ?_)
  · exact fda_x hxx hTX hz2 hf
  clear hf0
  have hO := hext.t hI hO
  have hz := hz2
  have hw := hz.1
  have hI := hz.2.1
  clear hz2 hext
  have hf0 := hf
  clear hf
  refine fb_zeq (tgt := 36) hx hb dX6_part_6 (by decide) hf0 (fun hf => ?_) (fun hf => ?_)
  · clear hf0
    refine lv_aload_n hx hb dX6_part_36 rfl (lv_at hl 0 rfl) ?_
    refine lv_aload_n hx hb dX6_part_37 rfl (lv_at hl 0 rfl) ?_
    refine fo_geti (fo_Xw X) hw fc_X20 hO (k := 3) (by decide) rfl q728 dX6_part_38 ?_
    refine lv_bipush (v := (48 : Int32)) hx hb dX6_part_41 (by decide) ?_
    refine lv_bipush (v := (57 : Int32)) hx hb dX6_part_43 (by decide) ?_
    have hf0 := hf
    clear hf
    refine fa_O (n := 3) (fr := 0) (lo := 0) (val := vlI) (rest := []) (As := [.int (gi_ sa2 o 3), .int (48 : Int32), .int (57 : Int32)]) X hz (lw_O q768 q770 q769 q772 q769 q125 q773) q773 ⟨by decide, by decide, by decide +kernel⟩ hR1 fc_X20 hO rfl rfl hl.1 (Nat.le_of_ble_eq_true rfl) dX6_part_45 (fun rQ aQ hQ => wX6_isIn_17 l E o (gi_ sa2 o 3) (48 : Int32) (57 : Int32) (0) (0) (Nat.le_refl _) (Nat.le_refl _) cN cS tg2 nx2 ns2 hO sa2 hI hz.2.2.2.2.2.2.1 hz.2.2.2.2.2.2.2.2 rQ aQ hQ) hf0 (fun nX EX tgX nxX nsX stX H locs hTX hxX hz2 hf => ?_) (fun x3 tg4 nx4 ns4 sa4 H locs hext hz2 hf => ?_)
    · exact fda_x hxx hTX hz2 hf
    clear hf0
    have hO := hext.t hI hO
    have hz := hz2
    have hw := hz.1
    have hI := hz.2.1
    clear hz2 hext
    have hf0 := hf
    clear hf
    refine fb_zeq (tgt := 71) hx hb dX6_part_48 (by decide) hf0 (fun hf => ?_) (fun hf => ?_)
    · clear hf0
      refine lv_aload_n hx hb dX6_part_71 rfl (lv_at hl 0 rfl) ?_
      have hf0 := hf
      clear hf
      refine fa_U (n := 0) (fr := 14) (lo := 400) (val := vlI) (rest := []) (As := []) X hz (lw_U q950 q952 q973 q974 q145 q975) fn951 ⟨by decide, by decide, by decide +kernel⟩ hR2 fc_X20 hO rfl rfl hl.1 (Nat.le_of_ble_eq_true rfl) dX6_part_72 (fun rQ aQ hQ => hrecV o tg4 nx4 ns4 hO sa4 hI hz.2.2.2.2.2.2.1 hz.2.2.2.2.2.2.2.2 rQ aQ hQ) hf0 (fun nX EX tgX nxX nsX stX H locs hTX hxX hz2 hf => ?_) (fun x5 tg6 nx6 ns6 sa6 H locs hext hz2 hf => ?_)
      · exact fda_x hxx hTX hz2 hf
      clear hf0
      have hO := hext.t hI hO
      have hz := hz2
      have hw := hz.1
      have hI := hz.2.1
      clear hz2 hext
      refine lv_istore_n (lv' := [(1, .int x5), (0, .ref (eb E + o))]) hx hb dX6_part_75 rfl hl (by decide) rfl (fun ls hl => ?_)
      refine lv_iload_n hx hb dX6_part_76 rfl (lv_at hl 0 rfl) ?_
      refine lv_iconst (v := (-1 : Int32)) hx hb dX6_part_77 (by decide) ?_
      have hf0 := hf
      clear hf
      refine fb_ine (tgt := 93) hx hb dX6_part_78 (by decide) hf0 (fun hf => ?_) (fun hf => ?_)
      · clear hf0
        have hf0 := hf
        clear hf
        refine fa_new X hz fc_X12 fd_X12 q990 q991 q134 dX6_part_93 hf0 (fun tg7 nx7 ns7 sa7 H hext hq8 hz2 hf => ?_)
        clear hf0
        have hO := hext.t hI hO
        have hz := hz2
        have hw := hz.1
        have hI := hz.2.1
        clear hz2 hext
        refine lv_dup hx hb dX6_part_96 rfl ?_
        refine lv_iload_n hx hb dX6_part_97 rfl (lv_at hl 0 rfl) ?_
        have hf0 := hf
        clear hf
        refine fa_I (fr := 3) (lo := 80) (val := vlV) (rest := [.ref (eb E + nx6)]) (As := [.int x5]) X hz hm_X12_init q994 q134 q992 q993 rfl hR3 rfl rfl hl.1 (Nat.le_of_ble_eq_true rfl) dX6_part_98 (fun rQ aQ hQ => wX12_init_10 l E nx6 x5 (3) (80) (Nat.le_refl _) (Nat.le_refl _) cN cS tg7 nx7 ns7 hq8 sa7 hI hz.2.2.2.2.2.2.1 hz.2.2.2.2.2.2.2.2 rQ aQ hQ) hf0 (fun nX EX tgX nxX nsX stX H locs hTX hxX hz2 hf => ?_) (fun x9 tg10 nx10 ns10 sa10 H locs hext hz2 hf => ?_)
        · exact fda_x hxx hTX hz2 hf
        clear hf0
        have hO := hext.t hI hO
        have hq8 := hext.t hI hq8
        have hz := hz2
        have hw := hz.1
        have hI := hz.2.1
        clear hz2 hext
        exact fda_r hend hz hf dX6_part_101
      clear hf0
      have hf0 := hf
      clear hf
      refine fa_new X hz fc_X8 fd_X8 q843 q844 q130 dX6_part_81 hf0 (fun tg11 nx11 ns11 sa11 H hext hq12 hz2 hf => ?_)
      clear hf0
      have hO := hext.t hI hO
      have hz := hz2
      have hw := hz.1
      have hI := hz.2.1
      clear hz2 hext
      refine lv_dup hx hb dX6_part_84 rfl ?_
      refine lv_aload_n hx hb dX6_part_85 rfl (lv_at hl 1 rfl) ?_
      refine fo_geti (fo_Xw X) hw fc_X20 hO (k := 3) (by decide) rfl q728 dX6_part_86 ?_
      have hf0 := hf
      clear hf
      refine fa_I (fr := 4) (lo := 114) (val := vlV) (rest := [.ref (eb E + nx6)]) (As := [.int (gi_ sa11 o 3)]) X hz hm_X8_init q854 q130 q852 q853 rfl hR4 rfl rfl hl.1 (Nat.le_of_ble_eq_true rfl) dX6_part_89 (fun rQ aQ hQ => wX8_init_7 l E K V mi hSX nx6 (gi_ sa11 o 3) (4) (114) (Nat.le_refl _) (Nat.le_refl _) cN cS tg11 nx11 ns11 hq12 sa11 hI hz.2.2.2.2.2.2.1 hz.2.2.2.2.2.2.2.2 rQ aQ hQ) hf0 (fun nX EX tgX nxX nsX stX H locs hTX hxX hz2 hf => ?_) (fun x13 tg14 nx14 ns14 sa14 H locs hext hz2 hf => ?_)
      · exact fda_x hxx hTX hz2 hf
      clear hf0
      have hO := hext.t hI hO
      have hq12 := hext.t hI hq12
      have hz := hz2
      have hw := hz.1
      have hI := hz.2.1
      clear hz2 hext
      exact fx_athrow hx hb dX6_part_92 (fda_x hxx ⟨7, _, hq12, fc_X8.1, rfl⟩ hz hf)
    clear hf0
    refine lv_aload_n hx hb dX6_part_51 rfl (lv_at hl 0 rfl) ?_
    have hf0 := hf
    clear hf
    refine fa_O (n := 0) (fr := 5) (lo := 135) (val := vlV) (rest := []) (As := []) X hz (lw_O q925 q927 q926 q929 q926 q125 q930) q930 ⟨by decide, by decide, by decide +kernel⟩ hR5 fc_X20 hO rfl rfl hl.1 (Nat.le_of_ble_eq_true rfl) dX6_part_52 (fun rQ aQ hQ => wX6_leaf_17 l E K V mi hSX o (5) (135) (Nat.le_refl _) (Nat.le_refl _) cN cS tg4 nx4 ns4 hO sa4 hI hz.2.2.2.2.2.2.1 hz.2.2.2.2.2.2.2.2 rQ aQ hQ) hf0 (fun nX EX tgX nxX nsX stX H locs hTX hxX hz2 hf => ?_) (fun x15 tg16 nx16 ns16 sa16 H locs hext hz2 hf => ?_)
    · exact fda_x hxx hTX hz2 hf
    clear hf0
    have hO := hext.t hI hO
    have hz := hz2
    have hw := hz.1
    have hI := hz.2.1
    clear hz2 hext
    have hf0 := hf
    clear hf
    refine fa_new X hz fc_X11 fd_X11 q931 q932 q133 dX6_part_55 hf0 (fun tg17 nx17 ns17 sa17 H hext hq18 hz2 hf => ?_)
    clear hf0
    have hO := hext.t hI hO
    have hz := hz2
    have hw := hz.1
    have hI := hz.2.1
    clear hz2 hext
    refine lv_dup hx hb dX6_part_58 rfl ?_
    refine lv_aload_n hx hb dX6_part_59 rfl (lv_at hl 0 rfl) ?_
    refine lv_iconst (v := (0 : Int32)) hx hb dX6_part_60 (by decide) ?_
    refine lv_sipush (v := (1000 : Int32)) hx hb dX6_part_61 (by decide) ?_
    have hf0 := hf
    clear hf
    refine fa_O (n := 2) (fr := 5) (lo := 135) (val := vlI) (rest := [.ref (eb E + nx16), .ref (eb E + nx16)]) (As := [.int (0 : Int32), .int (1000 : Int32)]) X hz (lw_O q933 q935 q934 q937 q934 q125 q938) q938 ⟨by decide, by decide, by decide +kernel⟩ hR6 fc_X20 hO rfl rfl hl.1 (Nat.le_of_ble_eq_true rfl) dX6_part_64 (fun rQ aQ hQ => wX6_number_17 l E K V mi hSX G o (0 : Int32) (1000 : Int32) (5) (135) (Nat.le_refl _) (Nat.le_refl _) cN cS tg17 nx17 ns17 hO sa17 hI hz.2.2.2.2.2.2.1 hz.2.2.2.2.2.2.2.2 rQ aQ hQ) hf0 (fun nX EX tgX nxX nsX stX H locs hTX hxX hz2 hf => ?_) (fun x19 tg20 nx20 ns20 sa20 H locs hext hz2 hf => ?_)
    · exact fda_x hxx hTX hz2 hf
    clear hf0
    have hO := hext.t hI hO
    have hq18 := hext.t hI hq18
    have hz := hz2
    have hw := hz.1
    have hI := hz.2.1
    clear hz2 hext
    have hf0 := hf
    clear hf
    refine fa_I (fr := 3) (lo := 80) (val := vlV) (rest := [.ref (eb E + nx16)]) (As := [.int x19]) X hz hm_X11_init q941 q133 q939 q940 rfl hR3 rfl rfl hl.1 (Nat.le_of_ble_eq_true rfl) dX6_part_67 (fun rQ aQ hQ => wX11_init_9 l E nx16 x19 (3) (80) (Nat.le_refl _) (Nat.le_refl _) cN cS tg20 nx20 ns20 hq18 sa20 hI hz.2.2.2.2.2.2.1 hz.2.2.2.2.2.2.2.2 rQ aQ hQ) hf0 (fun nX EX tgX nxX nsX stX H locs hTX hxX hz2 hf => ?_) (fun x21 tg22 nx22 ns22 sa22 H locs hext hz2 hf => ?_)
    · exact fda_x hxx hTX hz2 hf
    clear hf0
    have hO := hext.t hI hO
    have hq18 := hext.t hI hq18
    have hz := hz2
    have hw := hz.1
    have hI := hz.2.1
    clear hz2 hext
    exact fda_r hend hz hf dX6_part_70
  clear hf0
  refine lv_aload_n hx hb dX6_part_9 rfl (lv_at hl 0 rfl) ?_
  have hf0 := hf
  clear hf
  refine fa_O (n := 0) (fr := 5) (lo := 135) (val := vlV) (rest := []) (As := []) X hz (lw_O q905 q907 q906 q909 q906 q125 q910) q910 ⟨by decide, by decide, by decide +kernel⟩ hR5 fc_X20 hO rfl rfl hl.1 (Nat.le_of_ble_eq_true rfl) dX6_part_10 (fun rQ aQ hQ => wX6_opens_17 l E K V mi hSX G o (5) (135) (Nat.le_refl _) (Nat.le_refl _) cN cS tg2 nx2 ns2 hO sa2 hI hz.2.2.2.2.2.2.1 hz.2.2.2.2.2.2.2.2 rQ aQ hQ) hf0 (fun nX EX tgX nxX nsX stX H locs hTX hxX hz2 hf => ?_) (fun x23 tg24 nx24 ns24 sa24 H locs hext hz2 hf => ?_)
  · exact fda_x hxx hTX hz2 hf
  clear hf0
  have hO := hext.t hI hO
  have hz := hz2
  have hw := hz.1
  have hI := hz.2.1
  clear hz2 hext
  refine lv_aload_n hx hb dX6_part_13 rfl (lv_at hl 0 rfl) ?_
  have hf0 := hf
  clear hf
  refine fa_O (n := 0) (fr := 4 * d + 20) (lo := 200 * d + 1000) (val := (vlR (eb E))) (rest := []) (As := []) X hz (lw_O q911 q2231 q889 q2233 q889 q125 q890) q890 ⟨by decide, by decide, by decide +kernel⟩ hR7 fc_X20 hO rfl rfl hl.1 (Nat.le_of_ble_eq_true rfl) dX6_part_14 (fun rQ aQ hQ => hrecS o tg24 nx24 ns24 hO sa24 hI hz.2.2.2.2.2.2.1 hz.2.2.2.2.2.2.2.2 rQ aQ hQ) hf0 (fun nX EX tgX nxX nsX stX H locs hTX hxX hz2 hf => ?_) (fun x25 tg26 nx26 ns26 sa26 H locs hext hz2 hf => ?_)
  · exact fda_x hxx hTX hz2 hf
  clear hf0
  have hO := hext.t hI hO
  have hz := hz2
  have hw := hz.1
  have hI := hz.2.1
  clear hz2 hext
  refine lv_astore_n (lv' := [(1, .ref (eb E + x25)), (0, .ref (eb E + o))]) hx hb dX6_part_17 rfl hl (by decide) rfl (fun ls hl => ?_)
  refine lv_aload_n hx hb dX6_part_18 rfl (lv_at hl 1 rfl) ?_
  refine fo_ldcS X hSX lq_6 dX6_part_19 ?_
  have hf0 := hf
  clear hf
  refine fa_O (n := 1) (fr := 12) (lo := 244) (val := vlV) (rest := []) (As := [.ref (K 6)]) X hz (lw_O q913 q915 q914 q917 q914 q125 q918) q918 ⟨by decide, by decide, by decide +kernel⟩ hR8 fc_X20 hO rfl rfl hl.1 (Nat.le_of_ble_eq_true rfl) dX6_part_21 (fun rQ aQ hQ => wX6_need_17 l E K V mi hSX G o 6 (12) (244) (Nat.le_refl _) (Nat.le_refl _) cN cS tg26 nx26 ns26 hO (by decide) sa26 hI hz.2.2.2.2.2.2.1 hz.2.2.2.2.2.2.2.2 rQ aQ hQ) hf0 (fun nX EX tgX nxX nsX stX H locs hTX hxX hz2 hf => ?_) (fun x27 tg28 nx28 ns28 sa28 H locs hext hz2 hf => ?_)
  · exact fda_x hxx hTX hz2 hf
  clear hf0
  have hO := hext.t hI hO
  have hz := hz2
  have hw := hz.1
  have hI := hz.2.1
  clear hz2 hext
  refine lv_aload_n hx hb dX6_part_24 rfl (lv_at hl 1 rfl) ?_
  refine lv_dup hx hb dX6_part_25 rfl ?_
  refine fo_geti (fo_Xw X) hw fc_X20 hO (k := 6) (by decide) rfl q731 dX6_part_26 ?_
  refine lv_iconst (v := (1 : Int32)) hx hb dX6_part_29 (by decide) ?_
  refine lv_isub hx hb dX6_part_30 ?_
  have hf0 := hf
  clear hf
  refine fo_puti (fo_Xw X) hw fc_X20 hO (k := 6) (by decide) rfl rfl q731 ⟨rfl, rfl⟩ dX6_part_31 hf0 (fun st29 H locs hw hf => ?_)
  clear hf0
  have hz := hz.s hw
  refine lv_aload_n hx hb dX6_part_34 rfl (lv_at hl 0 rfl) ?_
  exact fda_r hend hz hf dX6_part_35

