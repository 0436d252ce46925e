/-! walks of methods that make cells or throw, printed by genA.py -/
set_option maxRecDepth 100000
set_option maxHeartbeats 1000000 in
theorem wX6_plain_17 (l : Launch) (E : fo_E) (K V : Nat → Nat) (mi : Nat) (hSX : fo_SX E K V mi) (G : Nat) (o : Nat) (fr lo : Nat) (d : Nat) (hfr : 4 * d + 26 ≤ fr) (hlo : 200 * d + 1044 ≤ lo) (cN cS : Nat) (recS : Nat → (Nat → Nat × Nat) → Nat → Nat → fo_St → Option ((Nat ⊕ Nat) × fo_A)) (recT : Nat → (Nat → Nat × Nat) → Nat → Nat → fo_St → Option ((Nat ⊕ Nat) × fo_A)) (hrecS : ∀ (q : Nat) (tg : Nat → Nat × Nat) (nx ns : Nat) (hq : tg q = (1, 17)) (st : fo_St) (hI : fo_I E tg nx) (hcN : nx ≤ cN) (hcS : ns ≤ cS) (ρ : Nat ⊕ Nat) (a1 : fo_A), recS q tg nx ns st = some (ρ, a1) → CA (vlR (eb E)) l E yX6_sum (ws_ yX6_sum cX6_sum 3 (some (.object "ForestRooms$Sum"))) (4 * d + 20) (200 * d + 1000) cN cS [.ref (eb E + q)] (tg, nx, ns, st) ρ a1) (hrecT : ∀ (q : Nat) (tg : Nat → Nat × Nat) (nx ns : Nat) (hq : tg q = (1, 17)) (st : fo_St) (hI : fo_I E tg nx) (hcN : nx ≤ cN) (hcS : ns ≤ cS) (ρ : Nat ⊕ Nat) (a1 : fo_A), recT q tg nx ns st = some (ρ, a1) → CA (vlR (eb E)) l E yX6_test (ws_ yX6_test cX6_test 3 (some (.object "ForestRooms$Test"))) (4 * d + 24) (200 * d + 1000) cN cS [.ref (eb E + q)] (tg, nx, ns, st) ρ a1) (tg0 : Nat → Nat × Nat) (nx0 ns0 : Nat) (hO : tg0 o = (1, 17)) (st0 : fo_St) (hI : fo_I E tg0 nx0) (hcN : nx0 ≤ cN) (hcS : ns0 ≤ cS) (ρZ : Nat ⊕ Nat) (aZ : fo_A) (hf : fX6_plain cN cS G recS recT o tg0 nx0 ns0 st0 = some (ρZ, aZ)) : CA (vlR (eb E)) l E yX6_plain (ws_ yX6_plain cX6_plain 3 (some (.object "ForestRooms$Test"))) fr lo cN cS [.ref (eb E + o)] (tg0, nx0, ns0, st0) ρZ aZ := by
  refine fea_r (a := (tg0, nx0, ns0, st0)) (Or.inl ⟨_, rfl⟩) hm_X6_plain (Nat.le_of_ble_eq_true rfl) hI hcN hcS (fun p e R s m args below meth c Q hRf hRl X hnm hend hxx ls hl hz => ?_)
  replace hRf : 4 * d + 26 ≤ R.frames := by rw [hRf]; exact hfr
  replace hRl : 200 * d + 1044 ≤ R.locals := by rw [hRl]; exact hlo
  have hR0 : 11 + 1 ≤ R.frames ∧ 8 + (3 + 11) + (222) ≤ R.locals := ⟨by omega, by omega⟩
  have hR1 : 4 * d + 25 + 1 ≤ R.frames ∧ 8 + (3 + 11) + (200 * d + 1022) ≤ R.locals := ⟨by omega, by omega⟩
  have hR2 : 3 + 1 ≤ R.frames ∧ 8 + (2 + 11) + (80) ≤ R.locals := ⟨by omega, by omega⟩
  have hx := X.1.1
  have hb := X.1.2.1
  have hl : lv_has ls 3 [(0, .ref (eb E + o))] := hl
  have hz : fo_Z E R s cN cS (tg0, nx0, ns0, st0) tg0 nx0 ns0 st0 s.heap [] := hz
  have hw := hz.1
  show W p l e R s m args below meth c s.heap [] (nx0 - nx0) (ns0 - ns0) Q (F0 m 0 ls [])
  unfold fX6_plain at hf
  generalize s.heap = H at hz hw ⊢
  generalize ([] : List Loc) = locs at hz hw ⊢
  refine lv_iconst (v := (0 : Int32)) hx hb dX6_plain_0 (by decide) ?_
  refine lv_istore_n (lv' := [(1, .int (0 : Int32)), (0, .ref (eb E + o))]) hx hb dX6_plain_1 rfl hl (by decide) rfl (fun ls hl => ?_)
  refine lp2_e (P := fun x1 a2 => ∀ (H : Heap) (locs : List Loc) (ls : Array Slot), a2.1 o = (1, 17) → lv_has ls 3 [(1, .int x1), (0, .ref (eb E + o))] → fo_Z E R s cN cS (tg0, nx0, ns0, st0) a2.1 a2.2.1 a2.2.2.1 a2.2.2.2 H locs → W p l e R s m args below meth c H locs (a2.2.1 - nx0) (a2.2.2.1 - ns0) Q (F0 m 2 ls [])) (fun rec3 hrec3 x1 a2 hf => ?_) G _ _ hf H locs ls hO (lv_sub hl [0, 1] rfl) hz
  obtain ⟨tg2, nx2, ns2, sa2⟩ := a2
  intro H locs ls hO hl hz
  have hO : tg2 o = (1, 17) := hO
  have hz : fo_Z E R s cN cS (tg0, nx0, ns0, st0) tg2 nx2 ns2 sa2 H locs := hz
  show W p l e R s m args below meth c H locs (nx2 - nx0) (ns2 - ns0) Q (F0 m 2 ls [])
  replace hf := aw_u hf
  have hw := hz.1
  have hI := hz.2.1
  refine lv_aload_n hx hb dX6_plain_2 rfl (lv_at hl 1 rfl) ?_
  refine fo_ldcS X hSX lq_31 dX6_plain_3 ?_
  have hf0 := hf
  clear hf
  refine fa_O (n := 1) (fr := 11) (lo := 222) (val := vlI) (rest := []) (As := [.ref (K 31)]) X hz (lw_O q919 q921 q920 q923 q920 q125 q924) q924 ⟨by decide, by decide, by decide +kernel⟩ hR0 fc_X20 hO rfl rfl hl.1 (Nat.le_of_ble_eq_true rfl) dX6_plain_5 (fun rQ aQ hQ => wX6_takes_17 l E K V mi hSX G o 31 (11) (222) (Nat.le_refl _) (Nat.le_refl _) cN cS tg2 nx2 ns2 hO (by decide) sa2 hI hz.2.2.2.2.2.2.1 hz.2.2.2.2.2.2.2.2 rQ aQ hQ) hf0 (fun nX EX tgX nxX nsX stX H locs hTX hxX hz2 hf => ?_) (fun x4 tg5 nx5 ns5 sa5 H locs hext hz2 hf => ?_)
  · exact fda_x hxx hTX hz2 hf
  clear hf0
  have hO := hext.t hI hO
  have hz := hz2
  have hw := hz.1
  have hI := hz.2.1
  clear hz2 hext
  have hf0 := hf
  clear hf
  refine fb_zeq (tgt := 24) hx hb dX6_plain_8 (by decide) hf0 (fun hf => ?_) (fun hf => ?_)
  · clear hf0
    refine lv_aload_n hx hb dX6_plain_24 rfl (lv_at hl 1 rfl) ?_
    have hf0 := hf
    clear hf
    refine fa_O (n := 0) (fr := 4 * d + 25) (lo := 200 * d + 1022) (val := (vlR (eb E))) (rest := []) (As := []) X hz (lw_O q1045 q1047 q1046 q1049 q1046 q125 q1050) q1050 ⟨by decide, by decide, by decide +kernel⟩ hR1 fc_X20 hO rfl rfl hl.1 (Nat.le_of_ble_eq_true rfl) dX6_plain_25 (fun rQ aQ hQ => wX6_positive_17 l E K V mi hSX G o (4 * d + 25) (200 * d + 1022) d (Nat.le_refl _) (Nat.le_refl _) cN cS recS recT hrecS hrecT tg5 nx5 ns5 hO sa5 hI hz.2.2.2.2.2.2.1 hz.2.2.2.2.2.2.2.2 rQ aQ hQ) hf0 (fun nX EX tgX nxX nsX stX H locs hTX hxX hz2 hf => ?_) (fun x6 tg7 nx7 ns7 sa7 H locs hext hz2 hf => ?_)
    · exact fda_x hxx hTX hz2 hf
    clear hf0
    have hO := hext.t hI hO
    have hz := hz2
    have hw := hz.1
    have hI := hz.2.1
    clear hz2 hext
    refine lv_astore_n (lv' := [(2, .ref (eb E + x6)), (1, .int x1), (0, .ref (eb E + o))]) hx hb dX6_plain_28 rfl hl (by decide) rfl (fun ls hl => ?_)
    refine lv_iload_n hx hb dX6_plain_29 rfl (lv_at hl 1 rfl) ?_
    have hf0 := hf
    clear hf
    refine fb_zeq (tgt := 44) hx hb dX6_plain_30 (by decide) hf0 (fun hf => ?_) (fun hf => ?_)
    · clear hf0
      refine lv_aload_n hx hb dX6_plain_44 rfl (lv_at hl 0 rfl) ?_
      exact fda_r hend hz hf dX6_plain_45
    clear hf0
    have hf0 := hf
    clear hf
    refine fa_new X hz fc_X16 fd_X16 q1076 q1077 q138 dX6_plain_33 hf0 (fun tg8 nx8 ns8 sa8 H hext hq9 hz2 hf => ?_)
    clear hf0
    have hO := hext.t hI hO
    have hz := hz2
    have hw := hz.1
    have hI := hz.2.1
    clear hz2 hext
    refine lv_dup hx hb dX6_plain_36 rfl ?_
    refine lv_aload_n hx hb dX6_plain_37 rfl (lv_at hl 0 rfl) ?_
    have hf0 := hf
    clear hf
    refine fa_I (fr := 3) (lo := 80) (val := vlV) (rest := [.ref (eb E + nx7)]) (As := [.ref (eb E + x6)]) X hz hm_X16_init q1080 q138 q1078 q1079 rfl hR2 rfl rfl hl.1 (Nat.le_of_ble_eq_true rfl) dX6_plain_38 (fun rQ aQ hQ => wX16_init_13 l E nx7 x6 (3) (80) (Nat.le_refl _) (Nat.le_refl _) cN cS tg8 nx8 ns8 hq9 sa8 hI hz.2.2.2.2.2.2.1 hz.2.2.2.2.2.2.2.2 rQ aQ hQ) hf0 (fun nX EX tgX nxX nsX stX H locs hTX hxX hz2 hf => ?_) (fun x10 tg11 nx11 ns11 sa11 H locs hext hz2 hf => ?_)
    · exact fda_x hxx hTX hz2 hf
    clear hf0
    have hO := hext.t hI hO
    have hq9 := hext.t hI hq9
    have hz := hz2
    have hw := hz.1
    have hI := hz.2.1
    clear hz2 hext
    refine lv_goto (tgt := 45) hx hb dX6_plain_41 (by decide) ?_
    exact fda_r hend hz hf dX6_plain_45
  clear hf0
  refine lv_iload_n hx hb dX6_plain_11 rfl (lv_at hl 0 rfl) ?_
  have hf0 := hf
  clear hf
  refine fb_zne (tgt := 19) hx hb dX6_plain_12 (by decide) hf0 (fun hf => ?_) (fun hf => ?_)
  · clear hf0
    refine lv_iconst (v := (0 : Int32)) hx hb dX6_plain_19 (by decide) ?_
    refine lv_istore_n (lv' := [(1, .int (0 : Int32)), (0, .ref (eb E + o))]) hx hb dX6_plain_20 rfl hl (by decide) rfl (fun ls hl => ?_)
    refine lv_goto (tgt := 2) hx hb dX6_plain_21 (by decide) ?_
    exact hrec3 _ _ hf _ _ _ hO (lv_sub hl [0, 1] rfl) hz
  clear hf0
  refine lv_iconst (v := (1 : Int32)) hx hb dX6_plain_15 (by decide) ?_
  refine lv_goto (tgt := 20) hx hb dX6_plain_16 (by decide) ?_
  refine lv_istore_n (lv' := [(1, .int (1 : Int32)), (0, .ref (eb E + o))]) hx hb dX6_plain_20 rfl hl (by decide) rfl (fun ls hl => ?_)
  refine lv_goto (tgt := 2) hx hb dX6_plain_21 (by decide) ?_
  exact hrec3 _ _ hf _ _ _ hO (lv_sub hl [0, 1] rfl) hz

