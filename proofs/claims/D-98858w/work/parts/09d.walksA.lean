/-! walks of methods that make cells or throw, printed by genA.py -/
set_option maxRecDepth 100000
/-- ForestRooms$LawReader.<init> -/
def fX7_init (cN cS : Nat) (o : Nat) (p1 : Nat) (p2 : Int32) (tg0 : Nat → Nat × Nat) (nx0 ns0 : Nat) (st0 : fo_St) : Option ((Unit ⊕ Nat) × fo_A) := ba_ (fX6_init cN cS o p1 p2 tg0 nx0 ns0 st0) (fun x1 tg2 nx2 ns2 sa2 => ck_ (fo_bg nx2 ns2 3 cN cS) (aw_ (tu_ tg2 nx2 (1, 18), nx2 + 1, ns2 + 3, z0_ sa2 nx2) (fun tg3 nx3 ns3 sa3 => ba_ (fJ2_init cN cS nx2 (2 : Int32) tg3 nx3 ns3 sa3) (fun x5 tg6 nx6 ns6 sa6 => lt_ (sr_ sa6 o 7 (some nx2)) (fun st7 => some (.inl (), (tg6, nx6, ns6, st7)))) (fun nX tgX nxX nsX stX => some (.inr nX, (tgX, nxX, nsX, stX)))))) (fun nX tgX nxX nsX stX => some (.inr nX, (tgX, nxX, nsX, stX)))
theorem hm_X7_init : fo_M yX7_init 2 := ⟨by decide +kernel, by decide +kernel, by decide +kernel, by decide +kernel⟩
set_option maxHeartbeats 1000000 in
theorem wX7_init_6 (l : Launch) (E : fo_E) (K V : Nat → Nat) (mi : Nat) (hSX : fo_SX E K V mi) (o : Nat) (p1 : Nat) (p2 : Int32) (fr lo : Nat) (hfr : 5 ≤ fr) (hlo : 121 ≤ lo) (cN cS : Nat) (tg0 : Nat → Nat × Nat) (nx0 ns0 : Nat) (hO : tg0 o = (1, 6)) (st0 : fo_St) (hI : fo_I E tg0 nx0) (hcN : nx0 ≤ cN) (hcS : ns0 ≤ cS) (ρZ : Unit ⊕ Nat) (aZ : fo_A) (hf : fX7_init cN cS o p1 p2 tg0 nx0 ns0 st0 = some (ρZ, aZ)) : CA vlV l E yX7_init (ws_ yX7_init cX7_init 3 none) fr lo cN cS [.ref (eb E + o), .ref (eb E + p1), .int p2] (tg0, nx0, ns0, st0) ρZ aZ := by
  refine fea_v (a := (tg0, nx0, ns0, st0)) hm_X7_init (Nat.le_of_ble_eq_true rfl) hI hcN hcS (fun p e R s m args below meth c Q hRf hRl X hnm hend hxx ls hl hz => ?_)
  have hin2 : meth.name = "<init>" := hnm
  replace hRf : 5 ≤ R.frames := by rw [hRf]; exact hfr
  replace hRl : 121 ≤ R.locals := by rw [hRl]; exact hlo
  have hR0 : 2 + 1 ≤ R.frames ∧ 8 + (3 + 11) + (60) ≤ R.locals := ⟨by omega, by omega⟩
  have hR1 : 4 + 1 ≤ R.frames ∧ 8 + (2 + 11) + (100) ≤ R.locals := ⟨by omega, by omega⟩
  have hx := X.1.1
  have hb := X.1.2.1
  have hl : lv_has ls 3 [(0, .ref (eb E + o)), (1, .ref (eb E + p1)), (2, .int p2)] := hl
  have hz : fo_Z E R s cN cS (tg0, nx0, ns0, st0) tg0 nx0 ns0 st0 s.heap [] := hz
  have hw := hz.1
  show W p l e R s m args below meth c s.heap [] (nx0 - nx0) (ns0 - ns0) Q (F0 m 0 ls [])
  unfold fX7_init at hf
  generalize s.heap = H at hz hw ⊢
  generalize ([] : List Loc) = locs at hz hw ⊢
  refine lv_aload_n hx hb dX7_init_0 rfl (lv_at hl 0 rfl) ?_
  refine lv_aload_n hx hb dX7_init_1 rfl (lv_at hl 1 rfl) ?_
  refine lv_iload_n hx hb dX7_init_2 rfl (lv_at hl 2 rfl) ?_
  have hf0 := hf
  clear hf
  refine fa_I (fr := 2) (lo := 60) (val := vlV) (rest := []) (As := [.ref (eb E + p1), .int p2]) X hz hm_X6_init q717 q125 q715 q716 rfl hR0 rfl rfl hl.1 (Nat.le_of_ble_eq_true rfl) dX7_init_3 (fun rQ aQ hQ => wX6_init_6 l E o p1 p2 (2) (60) (Nat.le_refl _) (Nat.le_refl _) cN cS tg0 nx0 ns0 hO st0 hI hz.2.2.2.2.2.2.1 hz.2.2.2.2.2.2.2.2 rQ aQ hQ) hf0 (fun nX EX tgX nxX nsX stX H locs hTX hxX hz2 hf => ?_) (fun x1 tg2 nx2 ns2 sa2 H locs hext hz2 hf => ?_)
  · exact fda_x hxx hTX hz2 hf
  clear hf0
  have hO := hext.t hI hO
  have hz := hz2
  have hw := hz.1
  have hI := hz.2.1
  clear hz2 hext
  refine lv_aload_n hx hb dX7_init_6 rfl (lv_at hl 0 rfl) ?_
  have hf0 := hf
  clear hf
  refine fa_new X hz fc_J2 fd_J2 q719 q187 q116 dX7_init_7 hf0 (fun tg3 nx3 ns3 sa3 H hext hq4 hz2 hf => ?_)
  clear hf0
  have hO := hext.t hI hO
  have hz := hz2
  have hw := hz.1
  have hI := hz.2.1
  clear hz2 hext
  refine lv_dup hx hb dX7_init_10 rfl ?_
  refine lv_iconst (v := (2 : Int32)) hx hb dX7_init_11 (by decide) ?_
  have hf0 := hf
  clear hf
  refine fa_I (fr := 4) (lo := 100) (val := vlV) (rest := [.ref (eb E + nx2), .ref (eb E + o)]) (As := [.int (2 : Int32)]) X hz hm_J2_init q190 q116 q720 q189 rfl hR1 rfl rfl hl.1 (Nat.le_of_ble_eq_true rfl) dX7_init_12 (fun rQ aQ hQ => wJ2_init_18 l E K V mi hSX nx2 (2 : Int32) (4) (100) (Nat.le_refl _) (Nat.le_refl _) cN cS tg3 nx3 ns3 hq4 sa3 hI hz.2.2.2.2.2.2.1 hz.2.2.2.2.2.2.2.2 rQ aQ hQ) hf0 (fun nX EX tgX nxX nsX stX H locs hTX hxX hz2 hf => ?_) (fun x5 tg6 nx6 ns6 sa6 H locs hext hz2 hf => ?_)
  · exact fda_x hxx hTX hz2 hf
  clear hf0
  have hO := hext.t hI hO
  have hq4 := hext.t hI hq4
  have hz := hz2
  have hw := hz.1
  have hI := hz.2.1
  clear hz2 hext
  have hf0 := hf
  clear hf
  refine fo_putrF (fo_Xw X) hin2 hw fc_X7 hO (k := 7) (by decide) rfl rfl rfl q721 (fun _ => ⟨rfl, rfl⟩) dX7_init_15 hf0 (fun st7 H locs hw hf => ?_)
  clear hf0
  have hz := hz.s hw
  exact fda_v hend hz hf dX7_init_18

/-- ForestRooms$LawReader.clause -/
def fX7_clause (cN cS : Nat) (G : Nat) (recS : Nat → (Nat → Nat × Nat) → Nat → Nat → fo_St → Option ((Nat ⊕ Nat) × fo_A)) (recT : Nat → (Nat → Nat × Nat) → Nat → Nat → fo_St → Option ((Nat ⊕ Nat) × fo_A)) (o : Nat) (tg0 : Nat → Nat × Nat) (nx0 ns0 : Nat) (st0 : fo_St) : Option ((Unit ⊕ Nat) × fo_A) := ba_ (fX6_is cN cS G o 0 tg0 nx0 ns0 st0) (fun x1 tg2 nx2 ns2 sa2 => jn_ (fun (x3 : Int32) (a4 : fo_A) => aw_ a4 (fun tg4 nx4 ns4 sa4 => jn_ (fun (x6 : Int32) (a7 : fo_A) => aw_ a7 (fun tg7 nx7 ns7 sa7 => ba_ (fX6_begins cN cS o x6 tg7 nx7 ns7 sa7) (fun x9 tg10 nx10 ns10 sa10 => ba_ (fX6_next cN cS G o tg10 nx10 ns10 sa10) (fun x11 tg12 nx12 ns12 sa12 => ck_ (fo_bg nx12 ns12 3 cN cS) (aw_ (tu_ tg12 nx12 (1, 8), nx12 + 1, ns12 + 3, z0_ sa12 nx12) (fun tg13 nx13 ns13 sa13 => ba_ (fX9_init cN cS nx12 x3 tg13 nx13 ns13 sa13) (fun x15 tg16 nx16 ns16 sa16 => jn_ (fun  (a17 : fo_A) => aw_ a17 (fun tg17 nx17 ns17 sa17 => ba_ (fX6_takes cN cS G o 30 tg17 nx17 ns17 sa17) (fun x19 tg20 nx20 ns20 sa20 => jn_ (fun  (a21 : fo_A) => aw_ a21 (fun tg21 nx21 ns21 sa21 => jn_ (fun (x23 : Int32) (a24 : fo_A) => aw_ a24 (fun tg24 nx24 ns24 sa24 => ck_ (decide (x23 = 0 ∨ x23 = 1)) (lt_ (si_ sa24 o 8 x23) (fun st26 => rn_ (gr_ st26 o 7) (fun q27 => ck_ (decide (tg24 q27 = (1, 18))) (ba_ (fJ2_add cN cS q27 nx12 tg24 nx24 ns24 st26) (fun x29 tg30 nx30 ns30 sa30 => some (.inl (), (tg30, nx30, ns30, sa30))) (fun nX tgX nxX nsX stX => some (.inr nX, (tgX, nxX, nsX, stX))))))))) (fun k25 => if ¬ (gi_ sa21 o 8) = 0 then k25 (1 : Int32) (tg21, nx21, ns21, sa21) else if ¬ x3 = (3 : Int32) then k25 (0 : Int32) (tg21, nx21, ns21, sa21) else k25 (1 : Int32) (tg21, nx21, ns21, sa21)))) (fun k22 => if x19 = 0 then k22  (tg20, nx20, ns20, sa20) else ba_ (recT o tg20 nx20 ns20 sa20) (fun x31 tg32 nx32 ns32 sa32 => lt_ (sr_ sa32 nx12 2 (some x31)) (fun st33 => k22  (tg32, nx32, ns32, st33))) (fun nX tgX nxX nsX stX => some (.inr nX, (tgX, nxX, nsX, stX))))) (fun nX tgX nxX nsX stX => some (.inr nX, (tgX, nxX, nsX, stX))))) (fun k18 => if (3 : Int32) ≤ x3 then k18  (tg16, nx16, ns16, sa16) else ba_ (recS o tg16 nx16 ns16 sa16) (fun x34 tg35 nx35 ns35 sa35 => lt_ (sr_ sa35 nx12 1 (some x34)) (fun st36 => k18  (tg35, nx35, ns35, st36))) (fun nX tgX nxX nsX stX => some (.inr nX, (tgX, nxX, nsX, stX))))) (fun nX tgX nxX nsX stX => some (.inr nX, (tgX, nxX, nsX, stX)))))) (fun nX tgX nxX nsX stX => some (.inr nX, (tgX, nxX, nsX, stX)))) (fun nX tgX nxX nsX stX => some (.inr nX, (tgX, nxX, nsX, stX))))) (fun k8 => if x3 = (-1 : Int32) then k8 (0 : Int32) (tg4, nx4, ns4, sa4) else k8 (1 : Int32) (tg4, nx4, ns4, sa4)))) (fun k5 => if x1 = 0 then ba_ (fX6_is cN cS G o 1 tg2 nx2 ns2 sa2) (fun x37 tg38 nx38 ns38 sa38 => if x37 = 0 then ba_ (fX6_is cN cS G o 2 tg38 nx38 ns38 sa38) (fun x39 tg40 nx40 ns40 sa40 => if x39 = 0 then ba_ (fX6_is cN cS G o 3 tg40 nx40 ns40 sa40) (fun x41 tg42 nx42 ns42 sa42 => if x41 = 0 then ba_ (fX6_is cN cS G o 4 tg42 nx42 ns42 sa42) (fun x43 tg44 nx44 ns44 sa44 => if x43 = 0 then k5 (-1 : Int32) (tg44, nx44, ns44, sa44) else k5 (4 : Int32) (tg44, nx44, ns44, sa44)) (fun nX tgX nxX nsX stX => some (.inr nX, (tgX, nxX, nsX, stX))) else k5 (3 : Int32) (tg42, nx42, ns42, sa42)) (fun nX tgX nxX nsX stX => some (.inr nX, (tgX, nxX, nsX, stX))) else k5 (2 : Int32) (tg40, nx40, ns40, sa40)) (fun nX tgX nxX nsX stX => some (.inr nX, (tgX, nxX, nsX, stX))) else k5 (1 : Int32) (tg38, nx38, ns38, sa38)) (fun nX tgX nxX nsX stX => some (.inr nX, (tgX, nxX, nsX, stX))) else k5 (0 : Int32) (tg2, nx2, ns2, sa2))) (fun nX tgX nxX nsX stX => some (.inr nX, (tgX, nxX, nsX, stX)))
theorem hm_X7_clause : fo_M yX7_clause 0 := ⟨by decide +kernel, by decide +kernel, by decide +kernel, by decide +kernel⟩
set_option maxHeartbeats 1000000 in
theorem wX7_clause_6 (l : Launch) (E : fo_E) (K V : Nat → Nat) (mi : Nat) (hSX : fo_SX E K V mi) (G : Nat) (o : Nat) (fr lo : Nat) (d : Nat) (hfr : 4 * d + 25 ≤ fr) (hlo : 200 * d + 1022 ≤ lo) (cN cS : Nat) (recS : Nat → (Nat → Nat × Nat) → Nat → Nat → fo_St → Option ((Nat ⊕ Nat) × fo_A)) (recT : Nat → (Nat → Nat × Nat) → Nat → Nat → fo_St → Option ((Nat ⊕ Nat) × fo_A)) (hrecS : ∀ (q : Nat) (tg : Nat → Nat × Nat) (nx ns : Nat) (hq : tg q = (1, 6)) (st : fo_St) (hI : fo_I E tg nx) (hcN : nx ≤ cN) (hcS : ns ≤ cS) (ρ : Nat ⊕ Nat) (a1 : fo_A), recS q tg nx ns st = some (ρ, a1) → CA (vlR (eb E)) l E yX6_sum (ws_ yX6_sum cX6_sum 3 (some (.object "ForestRooms$Sum"))) (4 * d + 20) (200 * d + 1000) cN cS [.ref (eb E + q)] (tg, nx, ns, st) ρ a1) (hrecT : ∀ (q : Nat) (tg : Nat → Nat × Nat) (nx ns : Nat) (hq : tg q = (1, 6)) (st : fo_St) (hI : fo_I E tg nx) (hcN : nx ≤ cN) (hcS : ns ≤ cS) (ρ : Nat ⊕ Nat) (a1 : fo_A), recT q tg nx ns st = some (ρ, a1) → CA (vlR (eb E)) l E yX6_test (ws_ yX6_test cX6_test 3 (some (.object "ForestRooms$Test"))) (4 * d + 24) (200 * d + 1000) cN cS [.ref (eb E + q)] (tg, nx, ns, st) ρ a1) (tg0 : Nat → Nat × Nat) (nx0 ns0 : Nat) (hO : tg0 o = (1, 6)) (st0 : fo_St) (hI : fo_I E tg0 nx0) (hcN : nx0 ≤ cN) (hcS : ns0 ≤ cS) (ρZ : Unit ⊕ Nat) (aZ : fo_A) (hf : fX7_clause cN cS G recS recT o tg0 nx0 ns0 st0 = some (ρZ, aZ)) : CA vlV l E yX7_clause (ws_ yX7_clause cX7_clause 3 none) fr lo cN cS [.ref (eb E + o)] (tg0, nx0, ns0, st0) ρZ aZ := by
  refine fea_v (a := (tg0, nx0, ns0, st0)) hm_X7_clause (Nat.le_of_ble_eq_true rfl) hI hcN hcS (fun p e R s m args below meth c Q hRf hRl X hnm hend hxx ls hl hz => ?_)
  replace hRf : 4 * d + 25 ≤ R.frames := by rw [hRf]; exact hfr
  replace hRl : 200 * d + 1022 ≤ R.locals := by rw [hRl]; exact hlo
  have hR0 : 10 + 1 ≤ R.frames ∧ 8 + (3 + 11) + (200) ≤ R.locals := ⟨by omega, by omega⟩
  have hR1 : 5 + 1 ≤ R.frames ∧ 8 + (2 + 11) + (135) ≤ R.locals := ⟨by omega, by omega⟩
  have hR2 : 1 + 1 ≤ R.frames ∧ 8 + (1 + 11) + (23) ≤ R.locals := ⟨by omega, by omega⟩
  have hR3 : 2 + 1 ≤ R.frames ∧ 8 + (2 + 11) + (60) ≤ R.locals := ⟨by omega, by omega⟩
  have hR4 : 11 + 1 ≤ R.frames ∧ 8 + (3 + 11) + (222) ≤ R.locals := ⟨by omega, by omega⟩
  have hR5 : 7 + 1 ≤ R.frames ∧ 8 + (2 + 11) + (177) ≤ R.locals := ⟨by omega, by omega⟩
  have hR6 : 4 * d + 24 + 1 ≤ R.frames ∧ 8 + (3 + 11) + (200 * d + 1000) ≤ R.locals := ⟨by omega, by omega⟩
  have hR7 : 4 * d + 20 + 1 ≤ R.frames ∧ 8 + (3 + 11) + (200 * d + 1000) ≤ R.locals := ⟨by omega, by omega⟩
  have hx := X.1.1
  have hb := X.1.2.1
  have hl : lv_has ls 3 [(0, .ref (eb E + o))] := hl
  have hz : fo_Z E R s cN cS (tg0, nx0, ns0, st0) tg0 nx0 ns0 st0 s.heap [] := hz
  have hw := hz.1
  show W p l e R s m args below meth c s.heap [] (nx0 - nx0) (ns0 - ns0) Q (F0 m 0 ls [])
  unfold fX7_clause at hf
  generalize s.heap = H at hz hw ⊢
  generalize ([] : List Loc) = locs at hz hw ⊢
  refine lv_aload_n hx hb dX7_clause_0 rfl (lv_at hl 0 rfl) ?_
  refine fo_ldcS X hSX lq_0 dX7_clause_1 ?_
  have hf0 := hf
  clear hf
  refine fa_O (n := 1) (fr := 10) (lo := 200) (val := vlI) (rest := []) (As := [.ref (K 0)]) X hz (lw_O q781 q782 q785 q784 q785 q125 q786) q786 ⟨by decide, by decide, by decide +kernel⟩ hR0 fc_X7 hO rfl rfl hl.1 (Nat.le_of_ble_eq_true rfl) dX7_clause_3 (fun rQ aQ hQ => wX6_is_6 l E K V mi hSX G o 0 (10) (200) (Nat.le_refl _) (Nat.le_refl _) cN cS tg0 nx0 ns0 hO (by decide) st0 hI hz.2.2.2.2.2.2.1 hz.2.2.2.2.2.2.2.2 rQ aQ hQ) hf0 (fun nX EX tgX nxX nsX stX H locs hTX hxX hz2 hf => ?_) (fun x1 tg2 nx2 ns2 sa2 H locs hext hz2 hf => ?_)
  · exact fda_x hxx hTX hz2 hf
  clear hf0
  have hO := hext.t hI hO
  have hz := hz2
  have hw := hz.1
  have hI := hz.2.1
  clear hz2 hext
  refine jn_e hf (fun k5 ek hf => ?_)
  have hk5 : ∀ (x3 : Int32) (tg4 : Nat → Nat × Nat) (nx4 ns4 : Nat) (sa4 : fo_St) (H : Heap) (locs : List Loc) (ls : Array Slot), tg4 o = (1, 6) → lv_has ls 3 [(0, .ref (eb E + o))] → fo_Z E R s cN cS (tg0, nx0, ns0, st0) tg4 nx4 ns4 sa4 H locs → k5 x3 (tg4, nx4, ns4, sa4) = some (ρZ, aZ) → W p l e R s m args below meth c H locs (nx4 - nx0) (ns4 - ns0) Q (F0 m 66 ls [.int x3]) := by
    intro x3 tg4 nx4 ns4 sa4 H locs ls hO hl hz hf
    rw [ek] at hf
    replace hf := aw_u hf
    have hw := hz.1
    have hI := hz.2.1
    refine lv_istore_n (lv' := [(1, .int x3), (0, .ref (eb E + o))]) hx hb dX7_clause_66 rfl hl (by decide) rfl (fun ls hl => ?_)
    refine lv_aload_n hx hb dX7_clause_67 rfl (lv_at hl 1 rfl) ?_
    refine lv_iload_n hx hb dX7_clause_68 rfl (lv_at hl 0 rfl) ?_
    refine lv_iconst (v := (-1 : Int32)) hx hb dX7_clause_69 (by decide) ?_
    refine jn_e hf (fun k8 ek hf => ?_)
    have hk8 : ∀ (x6 : Int32) (tg7 : Nat → Nat × Nat) (nx7 ns7 : Nat) (sa7 : fo_St) (H : Heap) (locs : List Loc) (ls : Array Slot), tg7 o = (1, 6) → lv_has ls 3 [(1, .int x3), (0, .ref (eb E + o))] → fo_Z E R s cN cS (tg0, nx0, ns0, st0) tg7 nx7 ns7 sa7 H locs → k8 x6 (tg7, nx7, ns7, sa7) = some (ρZ, aZ) → W p l e R s m args below meth c H locs (nx7 - nx0) (ns7 - ns0) Q (F0 m 78 ls [.int x6, .ref (eb E + o)]) := by
      intro x6 tg7 nx7 ns7 sa7 H locs ls hO hl hz hf
      rw [ek] at hf
      replace hf := aw_u hf
      have hw := hz.1
      have hI := hz.2.1
      have hf0 := hf
      clear hf
      refine fa_O (n := 1) (fr := 5) (lo := 135) (val := vlV) (rest := []) (As := [.int x6]) X hz (lw_O q837 q838 q841 q840 q841 q125 q842) q842 ⟨by decide, by decide, by decide +kernel⟩ hR1 fc_X7 hO rfl rfl hl.1 (Nat.le_of_ble_eq_true rfl) dX7_clause_78 (fun rQ aQ hQ => wX6_begins_6 l E K V mi hSX o x6 (5) (135) (Nat.le_refl _) (Nat.le_refl _) cN cS tg7 nx7 ns7 hO sa7 hI hz.2.2.2.2.2.2.1 hz.2.2.2.2.2.2.2.2 rQ aQ hQ) hf0 (fun nX EX tgX nxX nsX stX H locs hTX hxX hz2 hf => ?_) (fun x9 tg10 nx10 ns10 sa10 H locs hext hz2 hf => ?_)
      · exact fda_x hxx hTX hz2 hf
      clear hf0
      have hO := hext.t hI hO
      have hz := hz2
      have hw := hz.1
      have hI := hz.2.1
      clear hz2 hext
      refine lv_aload_n hx hb dX7_clause_81 rfl (lv_at hl 1 rfl) ?_
      have hf0 := hf
      clear hf
      refine fa_O (n := 0) (fr := 1) (lo := 23) (val := vlV) (rest := []) (As := []) X hz (lw_O q862 q863 q763 q865 q763 q125 q767) q767 ⟨by decide, by decide, by decide +kernel⟩ hR2 fc_X7 hO rfl rfl hl.1 (Nat.le_of_ble_eq_true rfl) dX7_clause_82 (fun rQ aQ hQ => wX6_next_6 l E G o (1) (23) (Nat.le_refl _) (Nat.le_refl _) cN cS tg10 nx10 ns10 hO sa10 hI hz.2.2.2.2.2.2.1 hz.2.2.2.2.2.2.2.2 rQ aQ hQ) hf0 (fun nX EX tgX nxX nsX stX H locs hTX hxX hz2 hf => ?_) (fun x11 tg12 nx12 ns12 sa12 H locs hext hz2 hf => ?_)
      · exact fda_x hxx hTX hz2 hf
      clear hf0
      have hO := hext.t hI hO
      have hz := hz2
      have hw := hz.1
      have hI := hz.2.1
      clear hz2 hext
      have hf0 := hf
      clear hf
      refine fa_new X hz fc_X9 fd_X9 q866 q867 q131 dX7_clause_85 hf0 (fun tg13 nx13 ns13 sa13 H hext hq14 hz2 hf => ?_)
      clear hf0
      have hO := hext.t hI hO
      have hz := hz2
      have hw := hz.1
      have hI := hz.2.1
      clear hz2 hext
      refine lv_dup hx hb dX7_clause_88 rfl ?_
      refine lv_iload_n hx hb dX7_clause_89 rfl (lv_at hl 0 rfl) ?_
      have hf0 := hf
      clear hf
      refine fa_I (fr := 2) (lo := 60) (val := vlV) (rest := [.ref (eb E + nx12)]) (As := [.int x3]) X hz hm_X9_init q870 q131 q868 q869 rfl hR3 rfl rfl hl.1 (Nat.le_of_ble_eq_true rfl) dX7_clause_90 (fun rQ aQ hQ => wX9_init_8 l E nx12 x3 (2) (60) (Nat.le_refl _) (Nat.le_refl _) cN cS tg13 nx13 ns13 hq14 sa13 hI hz.2.2.2.2.2.2.1 hz.2.2.2.2.2.2.2.2 rQ aQ hQ) hf0 (fun nX EX tgX nxX nsX stX H locs hTX hxX hz2 hf => ?_) (fun x15 tg16 nx16 ns16 sa16 H locs hext hz2 hf => ?_)
      · exact fda_x hxx hTX hz2 hf
      clear hf0
      have hO := hext.t hI hO
      have hq14 := hext.t hI hq14
      have hz := hz2
      have hw := hz.1
      have hI := hz.2.1
      clear hz2 hext
      refine lv_astore_n (lv' := [(2, .ref (eb E + nx12)), (1, .int x3), (0, .ref (eb E + o))]) hx hb dX7_clause_93 rfl hl (by decide) rfl (fun ls hl => ?_)
      refine lv_iload_n hx hb dX7_clause_94 rfl (lv_at hl 1 rfl) ?_
      refine lv_iconst (v := (3 : Int32)) hx hb dX7_clause_95 (by decide) ?_
      refine jn_e hf (fun k18 ek hf => ?_)
      have hk18 : ∀  (tg17 : Nat → Nat × Nat) (nx17 ns17 : Nat) (sa17 : fo_St) (H : Heap) (locs : List Loc) (ls : Array Slot), tg17 o = (1, 6) → tg17 nx12 = (1, 8) → lv_has ls 3 [(2, .ref (eb E + nx12)), (1, .int x3), (0, .ref (eb E + o))] → fo_Z E R s cN cS (tg0, nx0, ns0, st0) tg17 nx17 ns17 sa17 H locs → k18  (tg17, nx17, ns17, sa17) = some (ρZ, aZ) → W p l e R s m args below meth c H locs (nx17 - nx0) (ns17 - ns0) Q (F0 m 107 ls []) := by
        intro  tg17 nx17 ns17 sa17 H locs ls hO hq14 hl hz hf
        rw [ek] at hf
        replace hf := aw_u hf
        have hw := hz.1
        have hI := hz.2.1
        refine lv_aload_n hx hb dX7_clause_107 rfl (lv_at hl 2 rfl) ?_
        refine fo_ldcS X hSX lq_30 dX7_clause_108 ?_
        have hf0 := hf
        clear hf
        refine fa_O (n := 1) (fr := 11) (lo := 222) (val := vlI) (rest := []) (As := [.ref (K 30)]) X hz (lw_O q1022 q1023 q920 q1025 q920 q125 q924) q924 ⟨by decide, by decide, by decide +kernel⟩ hR4 fc_X7 hO rfl rfl hl.1 (Nat.le_of_ble_eq_true rfl) dX7_clause_110 (fun rQ aQ hQ => wX6_takes_6 l E K V mi hSX G o 30 (11) (222) (Nat.le_refl _) (Nat.le_refl _) cN cS tg17 nx17 ns17 hO (by decide) sa17 hI hz.2.2.2.2.2.2.1 hz.2.2.2.2.2.2.2.2 rQ aQ hQ) hf0 (fun nX EX tgX nxX nsX stX H locs hTX hxX hz2 hf => ?_) (fun x19 tg20 nx20 ns20 sa20 H locs hext hz2 hf => ?_)
        · exact fda_x hxx hTX hz2 hf
        clear hf0
        have hO := hext.t hI hO
        have hq14 := hext.t hI hq14
        have hz := hz2
        have hw := hz.1
        have hI := hz.2.1
        clear hz2 hext
        refine jn_e hf (fun k22 ek hf => ?_)
        have hk22 : ∀  (tg21 : Nat → Nat × Nat) (nx21 ns21 : Nat) (sa21 : fo_St) (H : Heap) (locs : List Loc) (ls : Array Slot), tg21 o = (1, 6) → tg21 nx12 = (1, 8) → lv_has ls 3 [(2, .ref (eb E + nx12)), (1, .int x3), (0, .ref (eb E + o))] → fo_Z E R s cN cS (tg0, nx0, ns0, st0) tg21 nx21 ns21 sa21 H locs → k22  (tg21, nx21, ns21, sa21) = some (ρZ, aZ) → W p l e R s m args below meth c H locs (nx21 - nx0) (ns21 - ns0) Q (F0 m 124 ls []) := by
          intro  tg21 nx21 ns21 sa21 H locs ls hO hq14 hl hz hf
          rw [ek] at hf
          replace hf := aw_u hf
          have hw := hz.1
          have hI := hz.2.1
          refine lv_aload_n hx hb dX7_clause_124 rfl (lv_at hl 2 rfl) ?_
          refine lv_aload_n hx hb dX7_clause_125 rfl (lv_at hl 2 rfl) ?_
          refine fo_geti (fo_Xw X) hw fc_X7 hO (k := 8) (by decide) rfl q723 dX7_clause_126 ?_
          refine jn_e hf (fun k25 ek hf => ?_)
          have hk25 : ∀ (x23 : Int32) (tg24 : Nat → Nat × Nat) (nx24 ns24 : Nat) (sa24 : fo_St) (H : Heap) (locs : List Loc) (ls : Array Slot), tg24 o = (1, 6) → tg24 nx12 = (1, 8) → lv_has ls 3 [(2, .ref (eb E + nx12)), (0, .ref (eb E + o))] → fo_Z E R s cN cS (tg0, nx0, ns0, st0) tg24 nx24 ns24 sa24 H locs → k25 x23 (tg24, nx24, ns24, sa24) = some (ρZ, aZ) → W p l e R s m args below meth c H locs (nx24 - nx0) (ns24 - ns0) Q (F0 m 142 ls [.int x23, .ref (eb E + o)]) := by
            intro x23 tg24 nx24 ns24 sa24 H locs ls hO hq14 hl hz hf
            rw [ek] at hf
            replace hf := aw_u hf
            have hw := hz.1
            have hI := hz.2.1
            have hf0 := ck_e hf
            clear hf
            obtain ⟨hzb, hf⟩ := hf0
            have hf0 := hf
            clear hf
            refine fo_puti (fo_Xw X) hw fc_X7 hO (k := 8) (by decide) rfl rfl q723 (fo_z hzb) dX7_clause_142 hf0 (fun st26 H locs hw hf => ?_)
            clear hf0
            have hz := hz.s hw
            refine lv_aload_n hx hb dX7_clause_145 rfl (lv_at hl 1 rfl) ?_
            have hf0 := hf
            clear hf
            refine fo_getr (fo_Xw X) hw fc_X7 hO (k := 7) (by decide) rfl q721 dX7_clause_146 hf0 (fun q27 hf => ?_)
            clear hf0
            refine lv_aload_n hx hb dX7_clause_149 rfl (lv_at hl 0 rfl) ?_
            have hf0 := ck_e hf
            clear hf
            obtain ⟨hq28, hf⟩ := hf0
            have hq28 := of_decide_eq_true hq28
            have hf0 := hf
            clear hf
            refine fa_V (fr := 7) (lo := 177) (val := vlI) (rest := []) (As := [.ref (eb E + nx12)]) X hz hm_J2_add (lw_V q1116 q1104 q1105 q116 q1106) hR5 fc_J2 rfl hq28 rfl rfl hl.1 (Nat.le_of_ble_eq_true rfl) dX7_clause_150 (fun rQ aQ hQ => wJ2_add_18 l E K V mi hSX q27 nx12 (7) (177) (Nat.le_refl _) (Nat.le_refl _) cN cS tg24 nx24 ns24 hq28 st26 hI hz.2.2.2.2.2.2.1 hz.2.2.2.2.2.2.2.2 rQ aQ hQ) hf0 (fun nX EX tgX nxX nsX stX H locs hTX hxX hz2 hf => ?_) (fun x29 tg30 nx30 ns30 sa30 H locs hext hz2 hf => ?_)
            · exact fda_x hxx hTX hz2 hf
            clear hf0
            have hO := hext.t hI hO
            have hq14 := hext.t hI hq14
            have hq28 := hext.t hI hq28
            have hz := hz2
            have hw := hz.1
            have hI := hz.2.1
            clear hz2 hext
            refine lv_pop hx hb dX7_clause_153 rfl ?_
            exact fda_v hend hz hf dX7_clause_154
          clear ek
          have hf0 := hf
          clear hf
          refine fb_zne (tgt := 137) hx hb dX7_clause_129 (by decide) hf0 (fun hf => ?_) (fun hf => ?_)
          · clear hf0
            refine lv_iconst (v := (1 : Int32)) hx hb dX7_clause_137 (by decide) ?_
            refine lv_goto (tgt := 142) hx hb dX7_clause_138 (by decide) ?_
            exact hk25 _ _ _ _ _ _ _ _ hO hq14 (lv_sub hl [0, 2] rfl) hz hf
          clear hf0
          refine lv_iload_n hx hb dX7_clause_132 rfl (lv_at hl 1 rfl) ?_
          refine lv_iconst (v := (3 : Int32)) hx hb dX7_clause_133 (by decide) ?_
          have hf0 := hf
          clear hf
          refine fb_ine (tgt := 141) hx hb dX7_clause_134 (by decide) hf0 (fun hf => ?_) (fun hf => ?_)
          · clear hf0
            refine lv_iconst (v := (0 : Int32)) hx hb dX7_clause_141 (by decide) ?_
            exact hk25 _ _ _ _ _ _ _ _ hO hq14 (lv_sub hl [0, 2] rfl) hz hf
          clear hf0
          refine lv_iconst (v := (1 : Int32)) hx hb dX7_clause_137 (by decide) ?_
          refine lv_goto (tgt := 142) hx hb dX7_clause_138 (by decide) ?_
          exact hk25 _ _ _ _ _ _ _ _ hO hq14 (lv_sub hl [0, 2] rfl) hz hf
        clear ek
        have hf0 := hf
        clear hf
        refine fb_zeq (tgt := 124) hx hb dX7_clause_113 (by decide) hf0 (fun hf => ?_) (fun hf => ?_)
        · clear hf0
          exact hk22 _ _ _ _ _ _ _ hO hq14 (lv_sub hl [0, 1, 2] rfl) hz hf
        clear hf0
        refine lv_aload_n hx hb dX7_clause_116 rfl (lv_at hl 0 rfl) ?_
        refine lv_aload_n hx hb dX7_clause_117 rfl (lv_at hl 2 rfl) ?_
        have hf0 := hf
        clear hf
        refine fa_O (n := 0) (fr := 4 * d + 24) (lo := 200 * d + 1000) (val := (vlR (eb E))) (rest := [.ref (eb E + nx12)]) (As := []) X hz (lw_O q1026 q1027 q1030 q1029 q1030 q125 q1031) q1031 ⟨by decide, by decide, by decide +kernel⟩ hR6 fc_X7 hO rfl rfl hl.1 (Nat.le_of_ble_eq_true rfl) dX7_clause_118 (fun rQ aQ hQ => hrecT o tg20 nx20 ns20 hO sa20 hI hz.2.2.2.2.2.2.1 hz.2.2.2.2.2.2.2.2 rQ aQ hQ) hf0 (fun nX EX tgX nxX nsX stX H locs hTX hxX hz2 hf => ?_) (fun x31 tg32 nx32 ns32 sa32 H locs hext hz2 hf => ?_)
        · exact fda_x hxx hTX hz2 hf
        clear hf0
        have hO := hext.t hI hO
        have hq14 := hext.t hI hq14
        have hz := hz2
        have hw := hz.1
        have hI := hz.2.1
        clear hz2 hext
        have hf0 := hf
        clear hf
        refine fo_putrN (fo_Xw X) hw fc_X9 hq14 (k := 2) (by decide) rfl rfl fn877 (fun _ => ⟨rfl, rfl⟩) dX7_clause_121 hf0 (fun st33 H locs hw hf => ?_)
        clear hf0
        have hz := hz.s hw
        exact hk22 _ _ _ _ _ _ _ hO hq14 (lv_sub hl [0, 1, 2] rfl) hz hf
      clear ek
      have hf0 := hf
      clear hf
      refine fb_ige (tgt := 107) hx hb dX7_clause_96 (by decide) hf0 (fun hf => ?_) (fun hf => ?_)
      · clear hf0
        exact hk18 _ _ _ _ _ _ _ hO hq14 (lv_sub hl [0, 1, 2] rfl) hz hf
      clear hf0
      refine lv_aload_n hx hb dX7_clause_99 rfl (lv_at hl 0 rfl) ?_
      refine lv_aload_n hx hb dX7_clause_100 rfl (lv_at hl 2 rfl) ?_
      have hf0 := hf
      clear hf
      refine fa_O (n := 0) (fr := 4 * d + 20) (lo := 200 * d + 1000) (val := (vlR (eb E))) (rest := [.ref (eb E + nx12)]) (As := []) X hz (lw_O q885 q886 q889 q888 q889 q125 q890) q890 ⟨by decide, by decide, by decide +kernel⟩ hR7 fc_X7 hO rfl rfl hl.1 (Nat.le_of_ble_eq_true rfl) dX7_clause_101 (fun rQ aQ hQ => hrecS o tg16 nx16 ns16 hO sa16 hI hz.2.2.2.2.2.2.1 hz.2.2.2.2.2.2.2.2 rQ aQ hQ) hf0 (fun nX EX tgX nxX nsX stX H locs hTX hxX hz2 hf => ?_) (fun x34 tg35 nx35 ns35 sa35 H locs hext hz2 hf => ?_)
      · exact fda_x hxx hTX hz2 hf
      clear hf0
      have hO := hext.t hI hO
      have hq14 := hext.t hI hq14
      have hz := hz2
      have hw := hz.1
      have hI := hz.2.1
      clear hz2 hext
      have hf0 := hf
      clear hf
      refine fo_putrN (fo_Xw X) hw fc_X9 hq14 (k := 1) (by decide) rfl rfl fn875 (fun _ => ⟨rfl, rfl⟩) dX7_clause_104 hf0 (fun st36 H locs hw hf => ?_)
      clear hf0
      have hz := hz.s hw
      exact hk18 _ _ _ _ _ _ _ hO hq14 (lv_sub hl [0, 1, 2] rfl) hz hf
    clear ek
    have hf0 := hf
    clear hf
    refine fb_ieq (tgt := 77) hx hb dX7_clause_70 (by decide) hf0 (fun hf => ?_) (fun hf => ?_)
    · clear hf0
      refine lv_iconst (v := (0 : Int32)) hx hb dX7_clause_77 (by decide) ?_
      exact hk8 _ _ _ _ _ _ _ _ hO (lv_sub hl [0, 1] rfl) hz hf
    clear hf0
    refine lv_iconst (v := (1 : Int32)) hx hb dX7_clause_73 (by decide) ?_
    refine lv_goto (tgt := 78) hx hb dX7_clause_74 (by decide) ?_
    exact hk8 _ _ _ _ _ _ _ _ hO (lv_sub hl [0, 1] rfl) hz hf
  clear ek
  have hf0 := hf
  clear hf
  refine fb_zeq (tgt := 13) hx hb dX7_clause_6 (by decide) hf0 (fun hf => ?_) (fun hf => ?_)
  · clear hf0
    refine lv_aload_n hx hb dX7_clause_13 rfl (lv_at hl 0 rfl) ?_
    refine fo_ldcS X hSX lq_1 dX7_clause_14 ?_
    have hf0 := hf
    clear hf
    refine fa_O (n := 1) (fr := 10) (lo := 200) (val := vlI) (rest := []) (As := [.ref (K 1)]) X hz (lw_O q781 q782 q785 q784 q785 q125 q786) q786 ⟨by decide, by decide, by decide +kernel⟩ hR0 fc_X7 hO rfl rfl hl.1 (Nat.le_of_ble_eq_true rfl) dX7_clause_16 (fun rQ aQ hQ => wX6_is_6 l E K V mi hSX G o 1 (10) (200) (Nat.le_refl _) (Nat.le_refl _) cN cS tg2 nx2 ns2 hO (by decide) sa2 hI hz.2.2.2.2.2.2.1 hz.2.2.2.2.2.2.2.2 rQ aQ hQ) hf0 (fun nX EX tgX nxX nsX stX H locs hTX hxX hz2 hf => ?_) (fun x37 tg38 nx38 ns38 sa38 H locs hext hz2 hf => ?_)
    · exact fda_x hxx hTX hz2 hf
    clear hf0
    have hO := hext.t hI hO
    have hz := hz2
    have hw := hz.1
    have hI := hz.2.1
    clear hz2 hext
    have hf0 := hf
    clear hf
    refine fb_zeq (tgt := 26) hx hb dX7_clause_19 (by decide) hf0 (fun hf => ?_) (fun hf => ?_)
    · clear hf0
      refine lv_aload_n hx hb dX7_clause_26 rfl (lv_at hl 0 rfl) ?_
      refine fo_ldcS X hSX lq_2 dX7_clause_27 ?_
      have hf0 := hf
      clear hf
      refine fa_O (n := 1) (fr := 10) (lo := 200) (val := vlI) (rest := []) (As := [.ref (K 2)]) X hz (lw_O q781 q782 q785 q784 q785 q125 q786) q786 ⟨by decide, by decide, by decide +kernel⟩ hR0 fc_X7 hO rfl rfl hl.1 (Nat.le_of_ble_eq_true rfl) dX7_clause_29 (fun rQ aQ hQ => wX6_is_6 l E K V mi hSX G o 2 (10) (200) (Nat.le_refl _) (Nat.le_refl _) cN cS tg38 nx38 ns38 hO (by decide) sa38 hI hz.2.2.2.2.2.2.1 hz.2.2.2.2.2.2.2.2 rQ aQ hQ) hf0 (fun nX EX tgX nxX nsX stX H locs hTX hxX hz2 hf => ?_) (fun x39 tg40 nx40 ns40 sa40 H locs hext hz2 hf => ?_)
      · exact fda_x hxx hTX hz2 hf
      clear hf0
      have hO := hext.t hI hO
      have hz := hz2
      have hw := hz.1
      have hI := hz.2.1
      clear hz2 hext
      have hf0 := hf
      clear hf
      refine fb_zeq (tgt := 39) hx hb dX7_clause_32 (by decide) hf0 (fun hf => ?_) (fun hf => ?_)
      · clear hf0
        refine lv_aload_n hx hb dX7_clause_39 rfl (lv_at hl 0 rfl) ?_
        refine fo_ldcS X hSX lq_3 dX7_clause_40 ?_
        have hf0 := hf
        clear hf
        refine fa_O (n := 1) (fr := 10) (lo := 200) (val := vlI) (rest := []) (As := [.ref (K 3)]) X hz (lw_O q781 q782 q785 q784 q785 q125 q786) q786 ⟨by decide, by decide, by decide +kernel⟩ hR0 fc_X7 hO rfl rfl hl.1 (Nat.le_of_ble_eq_true rfl) dX7_clause_42 (fun rQ aQ hQ => wX6_is_6 l E K V mi hSX G o 3 (10) (200) (Nat.le_refl _) (Nat.le_refl _) cN cS tg40 nx40 ns40 hO (by decide) sa40 hI hz.2.2.2.2.2.2.1 hz.2.2.2.2.2.2.2.2 rQ aQ hQ) hf0 (fun nX EX tgX nxX nsX stX H locs hTX hxX hz2 hf => ?_) (fun x41 tg42 nx42 ns42 sa42 H locs hext hz2 hf => ?_)
        · exact fda_x hxx hTX hz2 hf
        clear hf0
        have hO := hext.t hI hO
        have hz := hz2
        have hw := hz.1
        have hI := hz.2.1
        clear hz2 hext
        have hf0 := hf
        clear hf
        refine fb_zeq (tgt := 52) hx hb dX7_clause_45 (by decide) hf0 (fun hf => ?_) (fun hf => ?_)
        · clear hf0
          refine lv_aload_n hx hb dX7_clause_52 rfl (lv_at hl 0 rfl) ?_
          refine fo_ldcS X hSX lq_4 dX7_clause_53 ?_
          have hf0 := hf
          clear hf
          refine fa_O (n := 1) (fr := 10) (lo := 200) (val := vlI) (rest := []) (As := [.ref (K 4)]) X hz (lw_O q781 q782 q785 q784 q785 q125 q786) q786 ⟨by decide, by decide, by decide +kernel⟩ hR0 fc_X7 hO rfl rfl hl.1 (Nat.le_of_ble_eq_true rfl) dX7_clause_55 (fun rQ aQ hQ => wX6_is_6 l E K V mi hSX G o 4 (10) (200) (Nat.le_refl _) (Nat.le_refl _) cN cS tg42 nx42 ns42 hO (by decide) sa42 hI hz.2.2.2.2.2.2.1 hz.2.2.2.2.2.2.2.2 rQ aQ hQ) hf0 (fun nX EX tgX nxX nsX stX H locs hTX hxX hz2 hf => ?_) (fun x43 tg44 nx44 ns44 sa44 H locs hext hz2 hf => ?_)
          · exact fda_x hxx hTX hz2 hf
          clear hf0
          have hO := hext.t hI hO
          have hz := hz2
          have hw := hz.1
          have hI := hz.2.1
          clear hz2 hext
          have hf0 := hf
          clear hf
          refine fb_zeq (tgt := 65) hx hb dX7_clause_58 (by decide) hf0 (fun hf => ?_) (fun hf => ?_)
          · clear hf0
            refine lv_iconst (v := (-1 : Int32)) hx hb dX7_clause_65 (by decide) ?_
            exact hk5 _ _ _ _ _ _ _ _ hO (lv_sub hl [0] rfl) hz hf
          clear hf0
          refine lv_iconst (v := (4 : Int32)) hx hb dX7_clause_61 (by decide) ?_
          refine lv_goto (tgt := 66) hx hb dX7_clause_62 (by decide) ?_
          exact hk5 _ _ _ _ _ _ _ _ hO (lv_sub hl [0] rfl) hz hf
        clear hf0
        refine lv_iconst (v := (3 : Int32)) hx hb dX7_clause_48 (by decide) ?_
        refine lv_goto (tgt := 66) hx hb dX7_clause_49 (by decide) ?_
        exact hk5 _ _ _ _ _ _ _ _ hO (lv_sub hl [0] rfl) hz hf
      clear hf0
      refine lv_iconst (v := (2 : Int32)) hx hb dX7_clause_35 (by decide) ?_
      refine lv_goto (tgt := 66) hx hb dX7_clause_36 (by decide) ?_
      exact hk5 _ _ _ _ _ _ _ _ hO (lv_sub hl [0] rfl) hz hf
    clear hf0
    refine lv_iconst (v := (1 : Int32)) hx hb dX7_clause_22 (by decide) ?_
    refine lv_goto (tgt := 66) hx hb dX7_clause_23 (by decide) ?_
    exact hk5 _ _ _ _ _ _ _ _ hO (lv_sub hl [0] rfl) hz hf
  clear hf0
  refine lv_iconst (v := (0 : Int32)) hx hb dX7_clause_9 (by decide) ?_
  refine lv_goto (tgt := 66) hx hb dX7_clause_10 (by decide) ?_
  exact hk5 _ _ _ _ _ _ _ _ hO (lv_sub hl [0] rfl) hz hf

/-- ForestRooms$Reader.read -/
def fX6_read (cN cS : Nat) (G : Nat) (recC : Nat → (Nat → Nat × Nat) → Nat → Nat → fo_St → Option ((Unit ⊕ Nat) × fo_A)) (o : Nat) (tg0 : Nat → Nat × Nat) (nx0 ns0 : Nat) (st0 : fo_St) : Option ((Unit ⊕ Nat) × fo_A) := ba_ (fX6_next cN cS G o tg0 nx0 ns0 st0) (fun x1 tg2 nx2 ns2 sa2 => ba_ (recC o tg2 nx2 ns2 sa2) (fun x3 tg4 nx4 ns4 sa4 => lp1_ (fun rec6 (a5 : fo_A) => aw_ a5 (fun tg5 nx5 ns5 sa5 => ba_ (fX6_takes cN cS G o 49 tg5 nx5 ns5 sa5) (fun x7 tg8 nx8 ns8 sa8 => if x7 = 0 then if (gi_ sa8 o 1) ≤ (gi_ sa8 o 3) then some (.inl (), (tg8, nx8, ns8, sa8)) else ck_ (fo_bg nx8 ns8 7 cN cS) (aw_ (tu_ tg8 nx8 (1, 7), nx8 + 1, ns8 + 7, z0_ sa8 nx8) (fun tg9 nx9 ns9 sa9 => ba_ (fX8_init cN cS nx8 (gi_ sa9 o 3) tg9 nx9 ns9 sa9) (fun x11 tg12 nx12 ns12 sa12 => some (.inr nx8, (tg12, nx12, ns12, sa12))) (fun nX tgX nxX nsX stX => some (.inr nX, (tgX, nxX, nsX, stX))))) else ba_ (recC o tg8 nx8 ns8 sa8) (fun x13 tg14 nx14 ns14 sa14 => rec6  (tg14, nx14, ns14, sa14)) (fun nX tgX nxX nsX stX => some (.inr nX, (tgX, nxX, nsX, stX)))) (fun nX tgX nxX nsX stX => some (.inr nX, (tgX, nxX, nsX, stX))))) G (tg4, nx4, ns4, sa4)) (fun nX tgX nxX nsX stX => some (.inr nX, (tgX, nxX, nsX, stX)))) (fun nX tgX nxX nsX stX => some (.inr nX, (tgX, nxX, nsX, stX)))
theorem hm_X6_read : fo_M yX6_read 0 := ⟨by decide +kernel, by decide +kernel, by decide +kernel, by decide +kernel⟩
set_option maxHeartbeats 1000000 in
theorem wX6_read_6 (l : Launch) (E : fo_E) (K V : Nat → Nat) (mi : Nat) (hSX : fo_SX E K V mi) (G : Nat) (o : Nat) (fr lo : Nat) (hfr : 101 ≤ fr) (hlo : 6022 ≤ lo) (cN cS : Nat) (recC : Nat → (Nat → Nat × Nat) → Nat → Nat → fo_St → Option ((Unit ⊕ Nat) × fo_A)) (hrecC : ∀ (q : Nat) (tg : Nat → Nat × Nat) (nx ns : Nat) (hq : tg q = (1, 6)) (st : fo_St) (hI : fo_I E tg nx) (hcN : nx ≤ cN) (hcS : ns ≤ cS) (ρ : Unit ⊕ Nat) (a1 : fo_A), recC q tg nx ns st = some (ρ, a1) → CA vlV l E yX7_clause (ws_ yX7_clause cX7_clause 3 none) (100) (6000) cN cS [.ref (eb E + q)] (tg, nx, ns, st) ρ a1) (tg0 : Nat → Nat × Nat) (nx0 ns0 : Nat) (hO : tg0 o = (1, 6)) (st0 : fo_St) (hI : fo_I E tg0 nx0) (hcN : nx0 ≤ cN) (hcS : ns0 ≤ cS) (ρZ : Unit ⊕ Nat) (aZ : fo_A) (hf : fX6_read cN cS G recC o tg0 nx0 ns0 st0 = some (ρZ, aZ)) : CA vlV l E yX6_read (ws_ yX6_read cX6_read 1 none) fr lo cN cS [.ref (eb E + o)] (tg0, nx0, ns0, st0) ρZ aZ := by
  refine fea_v (a := (tg0, nx0, ns0, st0)) hm_X6_read (Nat.le_of_ble_eq_true rfl) hI hcN hcS (fun p e R s m args below meth c Q hRf hRl X hnm hend hxx ls hl hz => ?_)
  replace hRf : 101 ≤ R.frames := by rw [hRf]; exact hfr
  replace hRl : 6022 ≤ R.locals := by rw [hRl]; exact hlo
  have hR0 : 1 + 1 ≤ R.frames ∧ 8 + (1 + 11) + (23) ≤ R.locals := ⟨by omega, by omega⟩
  have hR1 : 100 + 1 ≤ R.frames ∧ 8 + (3 + 11) + (6000) ≤ R.locals := ⟨by omega, by omega⟩
  have hR2 : 11 + 1 ≤ R.frames ∧ 8 + (3 + 11) + (222) ≤ R.locals := ⟨by omega, by omega⟩
  have hR3 : 4 + 1 ≤ R.frames ∧ 8 + (2 + 11) + (114) ≤ R.locals := ⟨by omega, by omega⟩
  have hx := X.1.1
  have hb := X.1.2.1
  have hl : lv_has ls 1 [(0, .ref (eb E + o))] := hl
  have hz : fo_Z E R s cN cS (tg0, nx0, ns0, st0) tg0 nx0 ns0 st0 s.heap [] := hz
  have hw := hz.1
  show W p l e R s m args below meth c s.heap [] (nx0 - nx0) (ns0 - ns0) Q (F0 m 0 ls [])
  unfold fX6_read at hf
  generalize s.heap = H at hz hw ⊢
  generalize ([] : List Loc) = locs at hz hw ⊢
  refine lv_aload_n hx hb dX6_read_0 rfl (lv_at hl 0 rfl) ?_
  have hf0 := hf
  clear hf
  refine fa_O (n := 0) (fr := 1) (lo := 23) (val := vlV) (rest := []) (As := []) X hz (lw_O q762 q764 q763 q765 q763 q125 q767) q767 ⟨by decide, by decide, by decide +kernel⟩ hR0 fc_X7 hO rfl rfl hl.1 (Nat.le_of_ble_eq_true rfl) dX6_read_1 (fun rQ aQ hQ => wX6_next_6 l E G o (1) (23) (Nat.le_refl _) (Nat.le_refl _) cN cS tg0 nx0 ns0 hO st0 hI hz.2.2.2.2.2.2.1 hz.2.2.2.2.2.2.2.2 rQ aQ hQ) hf0 (fun nX EX tgX nxX nsX stX H locs hTX hxX hz2 hf => ?_) (fun x1 tg2 nx2 ns2 sa2 H locs hext hz2 hf => ?_)
  · exact fda_x hxx hTX hz2 hf
  clear hf0
  have hO := hext.t hI hO
  have hz := hz2
  have hw := hz.1
  have hI := hz.2.1
  clear hz2 hext
  refine lv_aload_n hx hb dX6_read_4 rfl (lv_at hl 0 rfl) ?_
  have hf0 := hf
  clear hf
  refine fa_U (n := 0) (fr := 100) (lo := 6000) (val := vlV) (rest := []) (As := []) X hz (lw_U q774 q776 q777 q778 q126 q779) fn775 ⟨by decide, by decide, by decide +kernel⟩ hR1 fc_X7 hO rfl rfl hl.1 (Nat.le_of_ble_eq_true rfl) dX6_read_5 (fun rQ aQ hQ => hrecC o tg2 nx2 ns2 hO sa2 hI hz.2.2.2.2.2.2.1 hz.2.2.2.2.2.2.2.2 rQ aQ hQ) hf0 (fun nX EX tgX nxX nsX stX H locs hTX hxX hz2 hf => ?_) (fun x3 tg4 nx4 ns4 sa4 H locs hext hz2 hf => ?_)
  · exact fda_x hxx hTX hz2 hf
  clear hf0
  have hO := hext.t hI hO
  have hz := hz2
  have hw := hz.1
  have hI := hz.2.1
  clear hz2 hext
  refine lp1_e (P := fun a5 => ∀ (H : Heap) (locs : List Loc) (ls : Array Slot), a5.1 o = (1, 6) → lv_has ls 1 [(0, .ref (eb E + o))] → fo_Z E R s cN cS (tg0, nx0, ns0, st0) a5.1 a5.2.1 a5.2.2.1 a5.2.2.2 H locs → W p l e R s m args below meth c H locs (a5.2.1 - nx0) (a5.2.2.1 - ns0) Q (F0 m 8 ls [])) (fun rec6 hrec6 a5 hf => ?_) G _ hf H locs ls hO (lv_sub hl [0] rfl) hz
  obtain ⟨tg5, nx5, ns5, sa5⟩ := a5
  intro H locs ls hO hl hz
  have hO : tg5 o = (1, 6) := hO
  have hz : fo_Z E R s cN cS (tg0, nx0, ns0, st0) tg5 nx5 ns5 sa5 H locs := hz
  show W p l e R s m args below meth c H locs (nx5 - nx0) (ns5 - ns0) Q (F0 m 8 ls [])
  replace hf := aw_u hf
  have hw := hz.1
  have hI := hz.2.1
  refine lv_aload_n hx hb dX6_read_8 rfl (lv_at hl 0 rfl) ?_
  refine fo_ldcS X hSX lq_49 dX6_read_9 ?_
  have hf0 := hf
  clear hf
  refine fa_O (n := 1) (fr := 11) (lo := 222) (val := vlI) (rest := []) (As := [.ref (K 49)]) X hz (lw_O q919 q921 q920 q922 q920 q125 q924) q924 ⟨by decide, by decide, by decide +kernel⟩ hR2 fc_X7 hO rfl rfl hl.1 (Nat.le_of_ble_eq_true rfl) dX6_read_11 (fun rQ aQ hQ => wX6_takes_6 l E K V mi hSX G o 49 (11) (222) (Nat.le_refl _) (Nat.le_refl _) cN cS tg5 nx5 ns5 hO (by decide) sa5 hI hz.2.2.2.2.2.2.1 hz.2.2.2.2.2.2.2.2 rQ aQ hQ) hf0 (fun nX EX tgX nxX nsX stX H locs hTX hxX hz2 hf => ?_) (fun x7 tg8 nx8 ns8 sa8 H locs hext hz2 hf => ?_)
  · exact fda_x hxx hTX hz2 hf
  clear hf0
  have hO := hext.t hI hO
  have hz := hz2
  have hw := hz.1
  have hI := hz.2.1
  clear hz2 hext
  have hf0 := hf
  clear hf
  refine fb_zeq (tgt := 24) hx hb dX6_read_14 (by decide) hf0 (fun hf => ?_) (fun hf => ?_)
  · clear hf0
    refine lv_aload_n hx hb dX6_read_24 rfl (lv_at hl 0 rfl) ?_
    refine fo_geti (fo_Xw X) hw fc_X7 hO (k := 3) (by decide) rfl q728 dX6_read_25 ?_
    refine lv_aload_n hx hb dX6_read_28 rfl (lv_at hl 0 rfl) ?_
    refine fo_geti (fo_Xw X) hw fc_X7 hO (k := 1) (by decide) rfl q726 dX6_read_29 ?_
    have hf0 := hf
    clear hf
    refine fb_ige (tgt := 47) hx hb dX6_read_32 (by decide) hf0 (fun hf => ?_) (fun hf => ?_)
    · clear hf0
      exact fda_v hend hz hf dX6_read_47
    clear hf0
    have hf0 := hf
    clear hf
    refine fa_new X hz fc_X8 fd_X8 q843 q844 q130 dX6_read_35 hf0 (fun tg9 nx9 ns9 sa9 H hext hq10 hz2 hf => ?_)
    clear hf0
    have hO := hext.t hI hO
    have hz := hz2
    have hw := hz.1
    have hI := hz.2.1
    clear hz2 hext
    refine lv_dup hx hb dX6_read_38 rfl ?_
    refine lv_aload_n hx hb dX6_read_39 rfl (lv_at hl 0 rfl) ?_
    refine fo_geti (fo_Xw X) hw fc_X7 hO (k := 3) (by decide) rfl q728 dX6_read_40 ?_
    have hf0 := hf
    clear hf
    refine fa_I (fr := 4) (lo := 114) (val := vlV) (rest := [.ref (eb E + nx8)]) (As := [.int (gi_ sa9 o 3)]) X hz hm_X8_init q854 q130 q852 q853 rfl hR3 rfl rfl hl.1 (Nat.le_of_ble_eq_true rfl) dX6_read_43 (fun rQ aQ hQ => wX8_init_7 l E K V mi hSX nx8 (gi_ sa9 o 3) (4) (114) (Nat.le_refl _) (Nat.le_refl _) cN cS tg9 nx9 ns9 hq10 sa9 hI hz.2.2.2.2.2.2.1 hz.2.2.2.2.2.2.2.2 rQ aQ hQ) hf0 (fun nX EX tgX nxX nsX stX H locs hTX hxX hz2 hf => ?_) (fun x11 tg12 nx12 ns12 sa12 H locs hext hz2 hf => ?_)
    · exact fda_x hxx hTX hz2 hf
    clear hf0
    have hO := hext.t hI hO
    have hq10 := hext.t hI hq10
    have hz := hz2
    have hw := hz.1
    have hI := hz.2.1
    clear hz2 hext
    exact fx_athrow hx hb dX6_read_46 (fda_x hxx ⟨7, _, hq10, fc_X8.1, rfl⟩ hz hf)
  clear hf0
  refine lv_aload_n hx hb dX6_read_17 rfl (lv_at hl 0 rfl) ?_
  have hf0 := hf
  clear hf
  refine fa_U (n := 0) (fr := 100) (lo := 6000) (val := vlV) (rest := []) (As := []) X hz (lw_U q774 q776 q777 q778 q126 q779) fn775 ⟨by decide, by decide, by decide +kernel⟩ hR1 fc_X7 hO rfl rfl hl.1 (Nat.le_of_ble_eq_true rfl) dX6_read_18 (fun rQ aQ hQ => hrecC o tg8 nx8 ns8 hO sa8 hI hz.2.2.2.2.2.2.1 hz.2.2.2.2.2.2.2.2 rQ aQ hQ) hf0 (fun nX EX tgX nxX nsX stX H locs hTX hxX hz2 hf => ?_) (fun x13 tg14 nx14 ns14 sa14 H locs hext hz2 hf => ?_)
  · exact fda_x hxx hTX hz2 hf
  clear hf0
  have hO := hext.t hI hO
  have hz := hz2
  have hw := hz.1
  have hI := hz.2.1
  clear hz2 hext
  refine lv_goto (tgt := 8) hx hb dX6_read_21 (by decide) ?_
  exact hrec6 _ hf _ _ _ hO (lv_sub hl [0] rfl) hz

/-- ForestRooms$OrderReader.<init> -/
def fX20_init (cN cS : Nat) (o : Nat) (p1 : Nat) (p2 : Int32) (tg0 : Nat → Nat × Nat) (nx0 ns0 : Nat) (st0 : fo_St) : Option ((Unit ⊕ Nat) × fo_A) := ba_ (fX6_init cN cS o p1 p2 tg0 nx0 ns0 st0) (fun x1 tg2 nx2 ns2 sa2 => ck_ (fo_bg nx2 ns2 3 cN cS) (aw_ (tu_ tg2 nx2 (1, 18), nx2 + 1, ns2 + 3, z0_ sa2 nx2) (fun tg3 nx3 ns3 sa3 => ba_ (fJ2_init cN cS nx2 (2 : Int32) tg3 nx3 ns3 sa3) (fun x5 tg6 nx6 ns6 sa6 => lt_ (sr_ sa6 o 7 (some nx2)) (fun st7 => some (.inl (), (tg6, nx6, ns6, st7)))) (fun nX tgX nxX nsX stX => some (.inr nX, (tgX, nxX, nsX, stX)))))) (fun nX tgX nxX nsX stX => some (.inr nX, (tgX, nxX, nsX, stX)))
theorem hm_X20_init : fo_M yX20_init 2 := ⟨by decide +kernel, by decide +kernel, by decide +kernel, by decide +kernel⟩
set_option maxHeartbeats 1000000 in
theorem wX20_init_17 (l : Launch) (E : fo_E) (K V : Nat → Nat) (mi : Nat) (hSX : fo_SX E K V mi) (o : Nat) (p1 : Nat) (p2 : Int32) (fr lo : Nat) (hfr : 5 ≤ fr) (hlo : 121 ≤ lo) (cN cS : Nat) (tg0 : Nat → Nat × Nat) (nx0 ns0 : Nat) (hO : tg0 o = (1, 17)) (st0 : fo_St) (hI : fo_I E tg0 nx0) (hcN : nx0 ≤ cN) (hcS : ns0 ≤ cS) (ρZ : Unit ⊕ Nat) (aZ : fo_A) (hf : fX20_init cN cS o p1 p2 tg0 nx0 ns0 st0 = some (ρZ, aZ)) : CA vlV l E yX20_init (ws_ yX20_init cX20_init 3 none) fr lo cN cS [.ref (eb E + o), .ref (eb E + p1), .int p2] (tg0, nx0, ns0, st0) ρZ aZ := by
  refine fea_v (a := (tg0, nx0, ns0, st0)) hm_X20_init (Nat.le_of_ble_eq_true rfl) hI hcN hcS (fun p e R s m args below meth c Q hRf hRl X hnm hend hxx ls hl hz => ?_)
  have hin2 : meth.name = "<init>" := hnm
  replace hRf : 5 ≤ R.frames := by rw [hRf]; exact hfr
  replace hRl : 121 ≤ R.locals := by rw [hRl]; exact hlo
  have hR0 : 2 + 1 ≤ R.frames ∧ 8 + (3 + 11) + (60) ≤ R.locals := ⟨by omega, by omega⟩
  have hR1 : 4 + 1 ≤ R.frames ∧ 8 + (2 + 11) + (100) ≤ R.locals := ⟨by omega, by omega⟩
  have hx := X.1.1
  have hb := X.1.2.1
  have hl : lv_has ls 3 [(0, .ref (eb E + o)), (1, .ref (eb E + p1)), (2, .int p2)] := hl
  have hz : fo_Z E R s cN cS (tg0, nx0, ns0, st0) tg0 nx0 ns0 st0 s.heap [] := hz
  have hw := hz.1
  show W p l e R s m args below meth c s.heap [] (nx0 - nx0) (ns0 - ns0) Q (F0 m 0 ls [])
  unfold fX20_init at hf
  generalize s.heap = H at hz hw ⊢
  generalize ([] : List Loc) = locs at hz hw ⊢
  refine lv_aload_n hx hb dX20_init_0 rfl (lv_at hl 0 rfl) ?_
  refine lv_aload_n hx hb dX20_init_1 rfl (lv_at hl 1 rfl) ?_
  refine lv_iload_n hx hb dX20_init_2 rfl (lv_at hl 2 rfl) ?_
  have hf0 := hf
  clear hf
  refine fa_I (fr := 2) (lo := 60) (val := vlV) (rest := []) (As := [.ref (eb E + p1), .int p2]) X hz hm_X6_init q717 q125 q1420 q716 rfl hR0 rfl rfl hl.1 (Nat.le_of_ble_eq_true rfl) dX20_init_3 (fun rQ aQ hQ => wX6_init_17 l E o p1 p2 (2) (60) (Nat.le_refl _) (Nat.le_refl _) cN cS tg0 nx0 ns0 hO st0 hI hz.2.2.2.2.2.2.1 hz.2.2.2.2.2.2.2.2 rQ aQ hQ) hf0 (fun nX EX tgX nxX nsX stX H locs hTX hxX hz2 hf => ?_) (fun x1 tg2 nx2 ns2 sa2 H locs hext hz2 hf => ?_)
  · exact fda_x hxx hTX hz2 hf
  clear hf0
  have hO := hext.t hI hO
  have hz := hz2
  have hw := hz.1
  have hI := hz.2.1
  clear hz2 hext
  refine lv_aload_n hx hb dX20_init_6 rfl (lv_at hl 0 rfl) ?_
  have hf0 := hf
  clear hf
  refine fa_new X hz fc_J2 fd_J2 q1421 q187 q116 dX20_init_7 hf0 (fun tg3 nx3 ns3 sa3 H hext hq4 hz2 hf => ?_)
  clear hf0
  have hO := hext.t hI hO
  have hz := hz2
  have hw := hz.1
  have hI := hz.2.1
  clear hz2 hext
  refine lv_dup hx hb dX20_init_10 rfl ?_
  refine lv_iconst (v := (2 : Int32)) hx hb dX20_init_11 (by decide) ?_
  have hf0 := hf
  clear hf
  refine fa_I (fr := 4) (lo := 100) (val := vlV) (rest := [.ref (eb E + nx2), .ref (eb E + o)]) (As := [.int (2 : Int32)]) X hz hm_J2_init q190 q116 q1422 q189 rfl hR1 rfl rfl hl.1 (Nat.le_of_ble_eq_true rfl) dX20_init_12 (fun rQ aQ hQ => wJ2_init_18 l E K V mi hSX nx2 (2 : Int32) (4) (100) (Nat.le_refl _) (Nat.le_refl _) cN cS tg3 nx3 ns3 hq4 sa3 hI hz.2.2.2.2.2.2.1 hz.2.2.2.2.2.2.2.2 rQ aQ hQ) hf0 (fun nX EX tgX nxX nsX stX H locs hTX hxX hz2 hf => ?_) (fun x5 tg6 nx6 ns6 sa6 H locs hext hz2 hf => ?_)
  · exact fda_x hxx hTX hz2 hf
  clear hf0
  have hO := hext.t hI hO
  have hq4 := hext.t hI hq4
  have hz := hz2
  have hw := hz.1
  have hI := hz.2.1
  clear hz2 hext
  have hf0 := hf
  clear hf
  refine fo_putrF (fo_Xw X) hin2 hw fc_X20 hO (k := 7) (by decide) rfl rfl rfl q1423 (fun _ => ⟨rfl, rfl⟩) dX20_init_15 hf0 (fun st7 H locs hw hf => ?_)
  clear hf0
  have hz := hz.s hw
  exact fda_v hend hz hf dX20_init_18

/-- ForestRooms$OrderReader.clause -/
def fX20_clause (cN cS : Nat) (G : Nat) (recS : Nat → (Nat → Nat × Nat) → Nat → Nat → fo_St → Option ((Nat ⊕ Nat) × fo_A)) (recT : Nat → (Nat → Nat × Nat) → Nat → Nat → fo_St → Option ((Nat ⊕ Nat) × fo_A)) (o : Nat) (tg0 : Nat → Nat × Nat) (nx0 ns0 : Nat) (st0 : fo_St) : Option ((Unit ⊕ Nat) × fo_A) := ba_ (fX6_is cN cS G o 39 tg0 nx0 ns0 st0) (fun x1 tg2 nx2 ns2 sa2 => jn_ (fun (x3 : Int32) (a4 : fo_A) => aw_ a4 (fun tg4 nx4 ns4 sa4 => jn_ (fun (x6 : Int32) (a7 : fo_A) => aw_ a7 (fun tg7 nx7 ns7 sa7 => ba_ (fX6_begins cN cS o x6 tg7 nx7 ns7 sa7) (fun x9 tg10 nx10 ns10 sa10 => ba_ (fX6_next cN cS G o tg10 nx10 ns10 sa10) (fun x11 tg12 nx12 ns12 sa12 => ck_ (fo_bg nx12 ns12 5 cN cS) (aw_ (tu_ tg12 nx12 (1, 15), nx12 + 1, ns12 + 5, z0_ sa12 nx12) (fun tg13 nx13 ns13 sa13 => ba_ (fX18_init cN cS nx12 x3 tg13 nx13 ns13 sa13) (fun x15 tg16 nx16 ns16 sa16 => jn_ (fun  (a17 : fo_A) => aw_ a17 (fun tg17 nx17 ns17 sa17 => jn_ (fun  (a19 : fo_A) => aw_ a19 (fun tg19 nx19 ns19 sa19 => ba_ (fX6_takes cN cS G o 47 tg19 nx19 ns19 sa19) (fun x21 tg22 nx22 ns22 sa22 => jn_ (fun  (a23 : fo_A) => aw_ a23 (fun tg23 nx23 ns23 sa23 => ba_ (fX6_takes cN cS G o 48 tg23 nx23 ns23 sa23) (fun x25 tg26 nx26 ns26 sa26 => jn_ (fun  (a27 : fo_A) => aw_ a27 (fun tg27 nx27 ns27 sa27 => rn_ (gr_ sa27 o 7) (fun q29 => ck_ (decide (tg27 q29 = (1, 18))) (ba_ (fJ2_add cN cS q29 nx12 tg27 nx27 ns27 sa27) (fun x31 tg32 nx32 ns32 sa32 => some (.inl (), (tg32, nx32, ns32, sa32))) (fun nX tgX nxX nsX stX => some (.inr nX, (tgX, nxX, nsX, stX))))))) (fun k28 => if x25 = 0 then k28  (tg26, nx26, ns26, sa26) else ba_ (recT o tg26 nx26 ns26 sa26) (fun x33 tg34 nx34 ns34 sa34 => lt_ (sr_ sa34 nx12 4 (some x33)) (fun st35 => k28  (tg34, nx34, ns34, st35))) (fun nX tgX nxX nsX stX => some (.inr nX, (tgX, nxX, nsX, stX))))) (fun nX tgX nxX nsX stX => some (.inr nX, (tgX, nxX, nsX, stX))))) (fun k24 => if x21 = 0 then k24  (tg22, nx22, ns22, sa22) else ba_ (fX6_number cN cS G o (1 : Int32) (20 : Int32) tg22 nx22 ns22 sa22) (fun x36 tg37 nx37 ns37 sa37 => lt_ (si_ sa37 nx12 3 x36) (fun st38 => k24  (tg37, nx37, ns37, st38))) (fun nX tgX nxX nsX stX => some (.inr nX, (tgX, nxX, nsX, stX))))) (fun nX tgX nxX nsX stX => some (.inr nX, (tgX, nxX, nsX, stX))))) (fun k20 => if (3 : Int32) ≤ x3 then k20  (tg17, nx17, ns17, sa17) else if ¬ x3 = 0 then if ¬ x3 = (1 : Int32) then ba_ (fX6_need cN cS G o 46 tg17 nx17 ns17 sa17) (fun x55 tg56 nx56 ns56 sa56 => ba_ (recS o tg56 nx56 ns56 sa56) (fun x57 tg58 nx58 ns58 sa58 => lt_ (sr_ sa58 nx12 2 (some x57)) (fun st59 => k20  (tg58, nx58, ns58, st59))) (fun nX tgX nxX nsX stX => some (.inr nX, (tgX, nxX, nsX, stX)))) (fun nX tgX nxX nsX stX => some (.inr nX, (tgX, nxX, nsX, stX))) else ba_ (fX6_need cN cS G o 45 tg17 nx17 ns17 sa17) (fun x60 tg61 nx61 ns61 sa61 => ba_ (recS o tg61 nx61 ns61 sa61) (fun x62 tg63 nx63 ns63 sa63 => lt_ (sr_ sa63 nx12 2 (some x62)) (fun st64 => k20  (tg63, nx63, ns63, st64))) (fun nX tgX nxX nsX stX => some (.inr nX, (tgX, nxX, nsX, stX)))) (fun nX tgX nxX nsX stX => some (.inr nX, (tgX, nxX, nsX, stX))) else ba_ (fX6_need cN cS G o 44 tg17 nx17 ns17 sa17) (fun x65 tg66 nx66 ns66 sa66 => ba_ (recS o tg66 nx66 ns66 sa66) (fun x67 tg68 nx68 ns68 sa68 => lt_ (sr_ sa68 nx12 2 (some x67)) (fun st69 => k20  (tg68, nx68, ns68, st69))) (fun nX tgX nxX nsX stX => some (.inr nX, (tgX, nxX, nsX, stX)))) (fun nX tgX nxX nsX stX => some (.inr nX, (tgX, nxX, nsX, stX)))))) (fun k18 => if x3 = (4 : Int32) then k18  (tg16, nx16, ns16, sa16) else ba_ (recS o tg16 nx16 ns16 sa16) (fun x70 tg71 nx71 ns71 sa71 => lt_ (sr_ sa71 nx12 1 (some x70)) (fun st72 => k18  (tg71, nx71, ns71, st72))) (fun nX tgX nxX nsX stX => some (.inr nX, (tgX, nxX, nsX, stX))))) (fun nX tgX nxX nsX stX => some (.inr nX, (tgX, nxX, nsX, stX)))))) (fun nX tgX nxX nsX stX => some (.inr nX, (tgX, nxX, nsX, stX)))) (fun nX tgX nxX nsX stX => some (.inr nX, (tgX, nxX, nsX, stX))))) (fun k8 => if x3 = (-1 : Int32) then k8 (0 : Int32) (tg4, nx4, ns4, sa4) else k8 (1 : Int32) (tg4, nx4, ns4, sa4)))) (fun k5 => if x1 = 0 then ba_ (fX6_is cN cS G o 40 tg2 nx2 ns2 sa2) (fun x73 tg74 nx74 ns74 sa74 => if x73 = 0 then ba_ (fX6_is cN cS G o 41 tg74 nx74 ns74 sa74) (fun x75 tg76 nx76 ns76 sa76 => if x75 = 0 then ba_ (fX6_is cN cS G o 42 tg76 nx76 ns76 sa76) (fun x77 tg78 nx78 ns78 sa78 => if x77 = 0 then ba_ (fX6_is cN cS G o 43 tg78 nx78 ns78 sa78) (fun x79 tg80 nx80 ns80 sa80 => if x79 = 0 then k5 (-1 : Int32) (tg80, nx80, ns80, sa80) else k5 (4 : Int32) (tg80, nx80, ns80, sa80)) (fun nX tgX nxX nsX stX => some (.inr nX, (tgX, nxX, nsX, stX))) else k5 (3 : Int32) (tg78, nx78, ns78, sa78)) (fun nX tgX nxX nsX stX => some (.inr nX, (tgX, nxX, nsX, stX))) else k5 (2 : Int32) (tg76, nx76, ns76, sa76)) (fun nX tgX nxX nsX stX => some (.inr nX, (tgX, nxX, nsX, stX))) else k5 (1 : Int32) (tg74, nx74, ns74, sa74)) (fun nX tgX nxX nsX stX => some (.inr nX, (tgX, nxX, nsX, stX))) else k5 (0 : Int32) (tg2, nx2, ns2, sa2))) (fun nX tgX nxX nsX stX => some (.inr nX, (tgX, nxX, nsX, stX)))
theorem hm_X20_clause : fo_M yX20_clause 0 := ⟨by decide +kernel, by decide +kernel, by decide +kernel, by decide +kernel⟩
set_option maxHeartbeats 1000000 in
theorem wX20_clause_17 (l : Launch) (E : fo_E) (K V : Nat → Nat) (mi : Nat) (hSX : fo_SX E K V mi) (G : Nat) (o : Nat) (fr lo : Nat) (d : Nat) (hfr : 4 * d + 25 ≤ fr) (hlo : 200 * d + 1022 ≤ lo) (cN cS : Nat) (recS : Nat → (Nat → Nat × Nat) → Nat → Nat → fo_St → Option ((Nat ⊕ Nat) × fo_A)) (recT : Nat → (Nat → Nat × Nat) → Nat → Nat → fo_St → Option ((Nat ⊕ Nat) × fo_A)) (hrecS : ∀ (q : Nat) (tg : Nat → Nat × Nat) (nx ns : Nat) (hq : tg q = (1, 17)) (st : fo_St) (hI : fo_I E tg nx) (hcN : nx ≤ cN) (hcS : ns ≤ cS) (ρ : Nat ⊕ Nat) (a1 : fo_A), recS q tg nx ns st = some (ρ, a1) → CA (vlR (eb E)) l E yX6_sum (ws_ yX6_sum cX6_sum 3 (some (.object "ForestRooms$Sum"))) (4 * d + 20) (200 * d + 1000) cN cS [.ref (eb E + q)] (tg, nx, ns, st) ρ a1) (hrecT : ∀ (q : Nat) (tg : Nat → Nat × Nat) (nx ns : Nat) (hq : tg q = (1, 17)) (st : fo_St) (hI : fo_I E tg nx) (hcN : nx ≤ cN) (hcS : ns ≤ cS) (ρ : Nat ⊕ Nat) (a1 : fo_A), recT q tg nx ns st = some (ρ, a1) → CA (vlR (eb E)) l E yX6_test (ws_ yX6_test cX6_test 3 (some (.object "ForestRooms$Test"))) (4 * d + 24) (200 * d + 1000) cN cS [.ref (eb E + q)] (tg, nx, ns, st) ρ a1) (tg0 : Nat → Nat × Nat) (nx0 ns0 : Nat) (hO : tg0 o = (1, 17)) (st0 : fo_St) (hI : fo_I E tg0 nx0) (hcN : nx0 ≤ cN) (hcS : ns0 ≤ cS) (ρZ : Unit ⊕ Nat) (aZ : fo_A) (hf : fX20_clause cN cS G recS recT o tg0 nx0 ns0 st0 = some (ρZ, aZ)) : CA vlV l E yX20_clause (ws_ yX20_clause cX20_clause 3 none) fr lo cN cS [.ref (eb E + o)] (tg0, nx0, ns0, st0) ρZ aZ := by
  refine fea_v (a := (tg0, nx0, ns0, st0)) hm_X20_clause (Nat.le_of_ble_eq_true rfl) hI hcN hcS (fun p e R s m args below meth c Q hRf hRl X hnm hend hxx ls hl hz => ?_)
  replace hRf : 4 * d + 25 ≤ R.frames := by rw [hRf]; exact hfr
  replace hRl : 200 * d + 1022 ≤ R.locals := by rw [hRl]; exact hlo
  have hR0 : 10 + 1 ≤ R.frames ∧ 8 + (3 + 11) + (200) ≤ R.locals := ⟨by omega, by omega⟩
  have hR1 : 5 + 1 ≤ R.frames ∧ 8 + (2 + 11) + (135) ≤ R.locals := ⟨by omega, by omega⟩
  have hR2 : 1 + 1 ≤ R.frames ∧ 8 + (1 + 11) + (23) ≤ R.locals := ⟨by omega, by omega⟩
  have hR3 : 2 + 1 ≤ R.frames ∧ 8 + (2 + 11) + (60) ≤ R.locals := ⟨by omega, by omega⟩
  have hR4 : 11 + 1 ≤ R.frames ∧ 8 + (3 + 11) + (222) ≤ R.locals := ⟨by omega, by omega⟩
  have hR5 : 7 + 1 ≤ R.frames ∧ 8 + (2 + 11) + (177) ≤ R.locals := ⟨by omega, by omega⟩
  have hR6 : 4 * d + 24 + 1 ≤ R.frames ∧ 8 + (3 + 11) + (200 * d + 1000) ≤ R.locals := ⟨by omega, by omega⟩
  have hR7 : 5 + 1 ≤ R.frames ∧ 8 + (5 + 11) + (135) ≤ R.locals := ⟨by omega, by omega⟩
  have hR8 : 12 + 1 ≤ R.frames ∧ 8 + (2 + 11) + (244) ≤ R.locals := ⟨by omega, by omega⟩
  have hR9 : 4 * d + 20 + 1 ≤ R.frames ∧ 8 + (3 + 11) + (200 * d + 1000) ≤ R.locals := ⟨by omega, by omega⟩
  have hx := X.1.1
  have hb := X.1.2.1
  have hl : lv_has ls 3 [(0, .ref (eb E + o))] := hl
  have hz : fo_Z E R s cN cS (tg0, nx0, ns0, st0) tg0 nx0 ns0 st0 s.heap [] := hz
  have hw := hz.1
  show W p l e R s m args below meth c s.heap [] (nx0 - nx0) (ns0 - ns0) Q (F0 m 0 ls [])
  unfold fX20_clause at hf
  generalize s.heap = H at hz hw ⊢
  generalize ([] : List Loc) = locs at hz hw ⊢
  refine lv_aload_n hx hb dX20_clause_0 rfl (lv_at hl 0 rfl) ?_
  refine fo_ldcS X hSX lq_39 dX20_clause_1 ?_
  have hf0 := hf
  clear hf
  refine fa_O (n := 1) (fr := 10) (lo := 200) (val := vlI) (rest := []) (As := [.ref (K 39)]) X hz (lw_O q1121 q1122 q785 q1123 q785 q125 q786) q786 ⟨by decide, by decide, by decide +kernel⟩ hR0 fc_X20 hO rfl rfl hl.1 (Nat.le_of_ble_eq_true rfl) dX20_clause_3 (fun rQ aQ hQ => wX6_is_17 l E K V mi hSX G o 39 (10) (200) (Nat.le_refl _) (Nat.le_refl _) cN cS tg0 nx0 ns0 hO (by decide) st0 hI hz.2.2.2.2.2.2.1 hz.2.2.2.2.2.2.2.2 rQ aQ hQ) hf0 (fun nX EX tgX nxX nsX stX H locs hTX hxX hz2 hf => ?_) (fun x1 tg2 nx2 ns2 sa2 H locs hext hz2 hf => ?_)
  · exact fda_x hxx hTX hz2 hf
  clear hf0
  have hO := hext.t hI hO
  have hz := hz2
  have hw := hz.1
  have hI := hz.2.1
  clear hz2 hext
  refine jn_e hf (fun k5 ek hf => ?_)
  have hk5 : ∀ (x3 : Int32) (tg4 : Nat → Nat × Nat) (nx4 ns4 : Nat) (sa4 : fo_St) (H : Heap) (locs : List Loc) (ls : Array Slot), tg4 o = (1, 17) → lv_has ls 3 [(0, .ref (eb E + o))] → fo_Z E R s cN cS (tg0, nx0, ns0, st0) tg4 nx4 ns4 sa4 H locs → k5 x3 (tg4, nx4, ns4, sa4) = some (ρZ, aZ) → W p l e R s m args below meth c H locs (nx4 - nx0) (ns4 - ns0) Q (F0 m 66 ls [.int x3]) := by
    intro x3 tg4 nx4 ns4 sa4 H locs ls hO hl hz hf
    rw [ek] at hf
    replace hf := aw_u hf
    have hw := hz.1
    have hI := hz.2.1
    refine lv_istore_n (lv' := [(1, .int x3), (0, .ref (eb E + o))]) hx hb dX20_clause_66 rfl hl (by decide) rfl (fun ls hl => ?_)
    refine lv_aload_n hx hb dX20_clause_67 rfl (lv_at hl 1 rfl) ?_
    refine lv_iload_n hx hb dX20_clause_68 rfl (lv_at hl 0 rfl) ?_
    refine lv_iconst (v := (-1 : Int32)) hx hb dX20_clause_69 (by decide) ?_
    refine jn_e hf (fun k8 ek hf => ?_)
    have hk8 : ∀ (x6 : Int32) (tg7 : Nat → Nat × Nat) (nx7 ns7 : Nat) (sa7 : fo_St) (H : Heap) (locs : List Loc) (ls : Array Slot), tg7 o = (1, 17) → lv_has ls 3 [(1, .int x3), (0, .ref (eb E + o))] → fo_Z E R s cN cS (tg0, nx0, ns0, st0) tg7 nx7 ns7 sa7 H locs → k8 x6 (tg7, nx7, ns7, sa7) = some (ρZ, aZ) → W p l e R s m args below meth c H locs (nx7 - nx0) (ns7 - ns0) Q (F0 m 78 ls [.int x6, .ref (eb E + o)]) := by
      intro x6 tg7 nx7 ns7 sa7 H locs ls hO hl hz hf
      rw [ek] at hf
      replace hf := aw_u hf
      have hw := hz.1
      have hI := hz.2.1
      have hf0 := hf
      clear hf
      refine fa_O (n := 1) (fr := 5) (lo := 135) (val := vlV) (rest := []) (As := [.int x6]) X hz (lw_O q1128 q1129 q841 q1130 q841 q125 q842) q842 ⟨by decide, by decide, by decide +kernel⟩ hR1 fc_X20 hO rfl rfl hl.1 (Nat.le_of_ble_eq_true rfl) dX20_clause_78 (fun rQ aQ hQ => wX6_begins_17 l E K V mi hSX o x6 (5) (135) (Nat.le_refl _) (Nat.le_refl _) cN cS tg7 nx7 ns7 hO sa7 hI hz.2.2.2.2.2.2.1 hz.2.2.2.2.2.2.2.2 rQ aQ hQ) hf0 (fun nX EX tgX nxX nsX stX H locs hTX hxX hz2 hf => ?_) (fun x9 tg10 nx10 ns10 sa10 H locs hext hz2 hf => ?_)
      · exact fda_x hxx hTX hz2 hf
      clear hf0
      have hO := hext.t hI hO
      have hz := hz2
      have hw := hz.1
      have hI := hz.2.1
      clear hz2 hext
      refine lv_aload_n hx hb dX20_clause_81 rfl (lv_at hl 1 rfl) ?_
      have hf0 := hf
      clear hf
      refine fa_O (n := 0) (fr := 1) (lo := 23) (val := vlV) (rest := []) (As := []) X hz (lw_O q1131 q1132 q763 q1133 q763 q125 q767) q767 ⟨by decide, by decide, by decide +kernel⟩ hR2 fc_X20 hO rfl rfl hl.1 (Nat.le_of_ble_eq_true rfl) dX20_clause_82 (fun rQ aQ hQ => wX6_next_17 l E G o (1) (23) (Nat.le_refl _) (Nat.le_refl _) cN cS tg10 nx10 ns10 hO sa10 hI hz.2.2.2.2.2.2.1 hz.2.2.2.2.2.2.2.2 rQ aQ hQ) hf0 (fun nX EX tgX nxX nsX stX H locs hTX hxX hz2 hf => ?_) (fun x11 tg12 nx12 ns12 sa12 H locs hext hz2 hf => ?_)
      · exact fda_x hxx hTX hz2 hf
      clear hf0
      have hO := hext.t hI hO
      have hz := hz2
      have hw := hz.1
      have hI := hz.2.1
      clear hz2 hext
      have hf0 := hf
      clear hf
      refine fa_new X hz fc_X18 fd_X18 q1134 q1135 q143 dX20_clause_85 hf0 (fun tg13 nx13 ns13 sa13 H hext hq14 hz2 hf => ?_)
      clear hf0
      have hO := hext.t hI hO
      have hz := hz2
      have hw := hz.1
      have hI := hz.2.1
      clear hz2 hext
      refine lv_dup hx hb dX20_clause_88 rfl ?_
      refine lv_iload_n hx hb dX20_clause_89 rfl (lv_at hl 0 rfl) ?_
      have hf0 := hf
      clear hf
      refine fa_I (fr := 2) (lo := 60) (val := vlV) (rest := [.ref (eb E + nx12)]) (As := [.int x3]) X hz hm_X18_init q1138 q143 q1136 q1137 rfl hR3 rfl rfl hl.1 (Nat.le_of_ble_eq_true rfl) dX20_clause_90 (fun rQ aQ hQ => wX18_init_15 l E nx12 x3 (2) (60) (Nat.le_refl _) (Nat.le_refl _) cN cS tg13 nx13 ns13 hq14 sa13 hI hz.2.2.2.2.2.2.1 hz.2.2.2.2.2.2.2.2 rQ aQ hQ) hf0 (fun nX EX tgX nxX nsX stX H locs hTX hxX hz2 hf => ?_) (fun x15 tg16 nx16 ns16 sa16 H locs hext hz2 hf => ?_)
      · exact fda_x hxx hTX hz2 hf
      clear hf0
      have hO := hext.t hI hO
      have hq14 := hext.t hI hq14
      have hz := hz2
      have hw := hz.1
      have hI := hz.2.1
      clear hz2 hext
      refine lv_astore_n (lv' := [(2, .ref (eb E + nx12)), (1, .int x3), (0, .ref (eb E + o))]) hx hb dX20_clause_93 rfl hl (by decide) rfl (fun ls hl => ?_)
      refine lv_iload_n hx hb dX20_clause_94 rfl (lv_at hl 1 rfl) ?_
      refine lv_iconst (v := (4 : Int32)) hx hb dX20_clause_95 (by decide) ?_
      refine jn_e hf (fun k18 ek hf => ?_)
      have hk18 : ∀  (tg17 : Nat → Nat × Nat) (nx17 ns17 : Nat) (sa17 : fo_St) (H : Heap) (locs : List Loc) (ls : Array Slot), tg17 o = (1, 17) → tg17 nx12 = (1, 15) → lv_has ls 3 [(2, .ref (eb E + nx12)), (1, .int x3), (0, .ref (eb E + o))] → fo_Z E R s cN cS (tg0, nx0, ns0, st0) tg17 nx17 ns17 sa17 H locs → k18  (tg17, nx17, ns17, sa17) = some (ρZ, aZ) → W p l e R s m args below meth c H locs (nx17 - nx0) (ns17 - ns0) Q (F0 m 107 ls []) := by
        intro  tg17 nx17 ns17 sa17 H locs ls hO hq14 hl hz hf
        rw [ek] at hf
        replace hf := aw_u hf
        have hw := hz.1
        have hI := hz.2.1
        refine lv_iload_n hx hb dX20_clause_107 rfl (lv_at hl 1 rfl) ?_
        refine lv_iconst (v := (3 : Int32)) hx hb dX20_clause_108 (by decide) ?_
        refine jn_e hf (fun k20 ek hf => ?_)
        have hk20 : ∀  (tg19 : Nat → Nat × Nat) (nx19 ns19 : Nat) (sa19 : fo_St) (H : Heap) (locs : List Loc) (ls : Array Slot), tg19 o = (1, 17) → tg19 nx12 = (1, 15) → lv_has ls 3 [(2, .ref (eb E + nx12)), (0, .ref (eb E + o))] → fo_Z E R s cN cS (tg0, nx0, ns0, st0) tg19 nx19 ns19 sa19 H locs → k20  (tg19, nx19, ns19, sa19) = some (ρZ, aZ) → W p l e R s m args below meth c H locs (nx19 - nx0) (ns19 - ns0) Q (F0 m 145 ls []) := by
          intro  tg19 nx19 ns19 sa19 H locs ls hO hq14 hl hz hf
          rw [ek] at hf
          replace hf := aw_u hf
          have hw := hz.1
          have hI := hz.2.1
          refine lv_aload_n hx hb dX20_clause_145 rfl (lv_at hl 1 rfl) ?_
          refine fo_ldcS X hSX lq_47 dX20_clause_146 ?_
          have hf0 := hf
          clear hf
          refine fa_O (n := 1) (fr := 11) (lo := 222) (val := vlI) (rest := []) (As := [.ref (K 47)]) X hz (lw_O q1173 q1174 q920 q1175 q920 q125 q924) q924 ⟨by decide, by decide, by decide +kernel⟩ hR4 fc_X20 hO rfl rfl hl.1 (Nat.le_of_ble_eq_true rfl) dX20_clause_148 (fun rQ aQ hQ => wX6_takes_17 l E K V mi hSX G o 47 (11) (222) (Nat.le_refl _) (Nat.le_refl _) cN cS tg19 nx19 ns19 hO (by decide) sa19 hI hz.2.2.2.2.2.2.1 hz.2.2.2.2.2.2.2.2 rQ aQ hQ) hf0 (fun nX EX tgX nxX nsX stX H locs hTX hxX hz2 hf => ?_) (fun x21 tg22 nx22 ns22 sa22 H locs hext hz2 hf => ?_)
          · exact fda_x hxx hTX hz2 hf
          clear hf0
          have hO := hext.t hI hO
          have hq14 := hext.t hI hq14
          have hz := hz2
          have hw := hz.1
          have hI := hz.2.1
          clear hz2 hext
          refine jn_e hf (fun k24 ek hf => ?_)
          have hk24 : ∀  (tg23 : Nat → Nat × Nat) (nx23 ns23 : Nat) (sa23 : fo_St) (H : Heap) (locs : List Loc) (ls : Array Slot), tg23 o = (1, 17) → tg23 nx12 = (1, 15) → lv_has ls 3 [(2, .ref (eb E + nx12)), (0, .ref (eb E + o))] → fo_Z E R s cN cS (tg0, nx0, ns0, st0) tg23 nx23 ns23 sa23 H locs → k24  (tg23, nx23, ns23, sa23) = some (ρZ, aZ) → W p l e R s m args below meth c H locs (nx23 - nx0) (ns23 - ns0) Q (F0 m 165 ls []) := by
            intro  tg23 nx23 ns23 sa23 H locs ls hO hq14 hl hz hf
            rw [ek] at hf
            replace hf := aw_u hf
            have hw := hz.1
            have hI := hz.2.1
            refine lv_aload_n hx hb dX20_clause_165 rfl (lv_at hl 1 rfl) ?_
            refine fo_ldcS X hSX lq_48 dX20_clause_166 ?_
            have hf0 := hf
            clear hf
            refine fa_O (n := 1) (fr := 11) (lo := 222) (val := vlI) (rest := []) (As := [.ref (K 48)]) X hz (lw_O q1173 q1174 q920 q1175 q920 q125 q924) q924 ⟨by decide, by decide, by decide +kernel⟩ hR4 fc_X20 hO rfl rfl hl.1 (Nat.le_of_ble_eq_true rfl) dX20_clause_168 (fun rQ aQ hQ => wX6_takes_17 l E K V mi hSX G o 48 (11) (222) (Nat.le_refl _) (Nat.le_refl _) cN cS tg23 nx23 ns23 hO (by decide) sa23 hI hz.2.2.2.2.2.2.1 hz.2.2.2.2.2.2.2.2 rQ aQ hQ) hf0 (fun nX EX tgX nxX nsX stX H locs hTX hxX hz2 hf => ?_) (fun x25 tg26 nx26 ns26 sa26 H locs hext hz2 hf => ?_)
            · exact fda_x hxx hTX hz2 hf
            clear hf0
            have hO := hext.t hI hO
            have hq14 := hext.t hI hq14
            have hz := hz2
            have hw := hz.1
            have hI := hz.2.1
            clear hz2 hext
            refine jn_e hf (fun k28 ek hf => ?_)
            have hk28 : ∀  (tg27 : Nat → Nat × Nat) (nx27 ns27 : Nat) (sa27 : fo_St) (H : Heap) (locs : List Loc) (ls : Array Slot), tg27 o = (1, 17) → tg27 nx12 = (1, 15) → lv_has ls 3 [(2, .ref (eb E + nx12)), (0, .ref (eb E + o))] → fo_Z E R s cN cS (tg0, nx0, ns0, st0) tg27 nx27 ns27 sa27 H locs → k28  (tg27, nx27, ns27, sa27) = some (ρZ, aZ) → W p l e R s m args below meth c H locs (nx27 - nx0) (ns27 - ns0) Q (F0 m 182 ls []) := by
              intro  tg27 nx27 ns27 sa27 H locs ls hO hq14 hl hz hf
              rw [ek] at hf
              replace hf := aw_u hf
              have hw := hz.1
              have hI := hz.2.1
              refine lv_aload_n hx hb dX20_clause_182 rfl (lv_at hl 1 rfl) ?_
              have hf0 := hf
              clear hf
              refine fo_getr (fo_Xw X) hw fc_X20 hO (k := 7) (by decide) rfl q1423 dX20_clause_183 hf0 (fun q29 hf => ?_)
              clear hf0
              refine lv_aload_n hx hb dX20_clause_186 rfl (lv_at hl 0 rfl) ?_
              have hf0 := ck_e hf
              clear hf
              obtain ⟨hq30, hf⟩ := hf0
              have hq30 := of_decide_eq_true hq30
              have hf0 := hf
              clear hf
              refine fa_V (fr := 7) (lo := 177) (val := vlI) (rest := []) (As := [.ref (eb E + nx12)]) X hz hm_J2_add (lw_V q1180 q1104 q1105 q116 q1106) hR5 fc_J2 rfl hq30 rfl rfl hl.1 (Nat.le_of_ble_eq_true rfl) dX20_clause_187 (fun rQ aQ hQ => wJ2_add_18 l E K V mi hSX q29 nx12 (7) (177) (Nat.le_refl _) (Nat.le_refl _) cN cS tg27 nx27 ns27 hq30 sa27 hI hz.2.2.2.2.2.2.1 hz.2.2.2.2.2.2.2.2 rQ aQ hQ) hf0 (fun nX EX tgX nxX nsX stX H locs hTX hxX hz2 hf => ?_) (fun x31 tg32 nx32 ns32 sa32 H locs hext hz2 hf => ?_)
              · exact fda_x hxx hTX hz2 hf
              clear hf0
              have hO := hext.t hI hO
              have hq14 := hext.t hI hq14
              have hq30 := hext.t hI hq30
              have hz := hz2
              have hw := hz.1
              have hI := hz.2.1
              clear hz2 hext
              refine lv_pop hx hb dX20_clause_190 rfl ?_
              exact fda_v hend hz hf dX20_clause_191
            clear ek
            have hf0 := hf
            clear hf
            refine fb_zeq (tgt := 182) hx hb dX20_clause_171 (by decide) hf0 (fun hf => ?_) (fun hf => ?_)
            · clear hf0
              exact hk28 _ _ _ _ _ _ _ hO hq14 (lv_sub hl [0, 1] rfl) hz hf
            clear hf0
            refine lv_aload_n hx hb dX20_clause_174 rfl (lv_at hl 0 rfl) ?_
            refine lv_aload_n hx hb dX20_clause_175 rfl (lv_at hl 1 rfl) ?_
            have hf0 := hf
            clear hf
            refine fa_O (n := 0) (fr := 4 * d + 24) (lo := 200 * d + 1000) (val := (vlR (eb E))) (rest := [.ref (eb E + nx12)]) (As := []) X hz (lw_O q1177 q1178 q1030 q1179 q1030 q125 q1031) q1031 ⟨by decide, by decide, by decide +kernel⟩ hR6 fc_X20 hO rfl rfl hl.1 (Nat.le_of_ble_eq_true rfl) dX20_clause_176 (fun rQ aQ hQ => hrecT o tg26 nx26 ns26 hO sa26 hI hz.2.2.2.2.2.2.1 hz.2.2.2.2.2.2.2.2 rQ aQ hQ) hf0 (fun nX EX tgX nxX nsX stX H locs hTX hxX hz2 hf => ?_) (fun x33 tg34 nx34 ns34 sa34 H locs hext hz2 hf => ?_)
            · exact fda_x hxx hTX hz2 hf
            clear hf0
            have hO := hext.t hI hO
            have hq14 := hext.t hI hq14
            have hz := hz2
            have hw := hz.1
            have hI := hz.2.1
            clear hz2 hext
            have hf0 := hf
            clear hf
            refine fo_putrN (fo_Xw X) hw fc_X18 hq14 (k := 4) (by decide) rfl rfl fn1150 (fun _ => ⟨rfl, rfl⟩) dX20_clause_179 hf0 (fun st35 H locs hw hf => ?_)
            clear hf0
            have hz := hz.s hw
            exact hk28 _ _ _ _ _ _ _ hO hq14 (lv_sub hl [0, 1] rfl) hz hf
          clear ek
          have hf0 := hf
          clear hf
          refine fb_zeq (tgt := 165) hx hb dX20_clause_151 (by decide) hf0 (fun hf => ?_) (fun hf => ?_)
          · clear hf0
            exact hk24 _ _ _ _ _ _ _ hO hq14 (lv_sub hl [0, 1] rfl) hz hf
          clear hf0
          refine lv_aload_n hx hb dX20_clause_154 rfl (lv_at hl 0 rfl) ?_
          refine lv_aload_n hx hb dX20_clause_155 rfl (lv_at hl 1 rfl) ?_
          refine lv_iconst (v := (1 : Int32)) hx hb dX20_clause_156 (by decide) ?_
          refine lv_bipush (v := (20 : Int32)) hx hb dX20_clause_157 (by decide) ?_
          have hf0 := hf
          clear hf
          refine fa_O (n := 2) (fr := 5) (lo := 135) (val := vlI) (rest := [.ref (eb E + nx12)]) (As := [.int (1 : Int32), .int (20 : Int32)]) X hz (lw_O q984 q985 q934 q987 q934 q125 q938) q938 ⟨by decide, by decide, by decide +kernel⟩ hR7 fc_X20 hO rfl rfl hl.1 (Nat.le_of_ble_eq_true rfl) dX20_clause_159 (fun rQ aQ hQ => wX6_number_17 l E K V mi hSX G o (1 : Int32) (20 : Int32) (5) (135) (Nat.le_refl _) (Nat.le_refl _) cN cS tg22 nx22 ns22 hO sa22 hI hz.2.2.2.2.2.2.1 hz.2.2.2.2.2.2.2.2 rQ aQ hQ) hf0 (fun nX EX tgX nxX nsX stX H locs hTX hxX hz2 hf => ?_) (fun x36 tg37 nx37 ns37 sa37 H locs hext hz2 hf => ?_)
          · exact fda_x hxx hTX hz2 hf
          clear hf0
          have hO := hext.t hI hO
          have hq14 := hext.t hI hq14
          have hz := hz2
          have hw := hz.1
          have hI := hz.2.1
          clear hz2 hext
          have hf0 := hf
          clear hf
          refine fo_putiN (fo_Xw X) hw fc_X18 hq14 (k := 3) (by decide) rfl rfl fn1147 ⟨rfl, rfl⟩ dX20_clause_162 hf0 (fun st38 H locs hw hf => ?_)
          clear hf0
          have hz := hz.s hw
          exact hk24 _ _ _ _ _ _ _ hO hq14 (lv_sub hl [0, 1] rfl) hz hf
        clear ek
        have hf0 := hf
        clear hf
        refine fb_ige (tgt := 145) hx hb dX20_clause_109 (by decide) hf0 (fun hf => ?_) (fun hf => ?_)
        · clear hf0
          exact hk20 _ _ _ _ _ _ _ hO hq14 (lv_sub hl [0, 2] rfl) hz hf
        clear hf0
        refine lv_aload_n hx hb dX20_clause_112 rfl (lv_at hl 2 rfl) ?_
        refine lv_iload_n hx hb dX20_clause_113 rfl (lv_at hl 1 rfl) ?_
        have hf0 := hf
        clear hf
        refine fb_zne (tgt := 122) hx hb dX20_clause_114 (by decide) hf0 (fun hf => ?_) (fun hf => ?_)
        · clear hf0
          refine lv_iload_n hx hb dX20_clause_122 rfl (lv_at hl 1 rfl) ?_
          refine lv_iconst (v := (1 : Int32)) hx hb dX20_clause_123 (by decide) ?_
          have hf0 := hf
          clear hf
          refine fb_ine (tgt := 132) hx hb dX20_clause_124 (by decide) hf0 (fun hf => ?_) (fun hf => ?_)
          · clear hf0
            refine fo_ldcS X hSX lq_46 dX20_clause_132 ?_
            have hf0 := hf
            clear hf
            refine fa_O (n := 1) (fr := 12) (lo := 244) (val := vlV) (rest := []) (As := [.ref (K 46)]) X hz (lw_O q1168 q1169 q914 q1171 q914 q125 q918) q918 ⟨by decide, by decide, by decide +kernel⟩ hR8 fc_X20 hO rfl rfl hl.1 (Nat.le_of_ble_eq_true rfl) dX20_clause_134 (fun rQ aQ hQ => wX6_need_17 l E K V mi hSX G o 46 (12) (244) (Nat.le_refl _) (Nat.le_refl _) cN cS tg17 nx17 ns17 hO (by decide) sa17 hI hz.2.2.2.2.2.2.1 hz.2.2.2.2.2.2.2.2 rQ aQ hQ) hf0 (fun nX EX tgX nxX nsX stX H locs hTX hxX hz2 hf => ?_) (fun x55 tg56 nx56 ns56 sa56 H locs hext hz2 hf => ?_)
            · exact fda_x hxx hTX hz2 hf
            clear hf0
            have hO := hext.t hI hO
            have hq14 := hext.t hI hq14
            have hz := hz2
            have hw := hz.1
            have hI := hz.2.1
            clear hz2 hext
            refine lv_aload_n hx hb dX20_clause_137 rfl (lv_at hl 0 rfl) ?_
            refine lv_aload_n hx hb dX20_clause_138 rfl (lv_at hl 2 rfl) ?_
            have hf0 := hf
            clear hf
            refine fa_O (n := 0) (fr := 4 * d + 20) (lo := 200 * d + 1000) (val := (vlR (eb E))) (rest := [.ref (eb E + nx12)]) (As := []) X hz (lw_O q1162 q1163 q889 q1164 q889 q125 q890) q890 ⟨by decide, by decide, by decide +kernel⟩ hR9 fc_X20 hO rfl rfl hl.1 (Nat.le_of_ble_eq_true rfl) dX20_clause_139 (fun rQ aQ hQ => hrecS o tg56 nx56 ns56 hO sa56 hI hz.2.2.2.2.2.2.1 hz.2.2.2.2.2.2.2.2 rQ aQ hQ) hf0 (fun nX EX tgX nxX nsX stX H locs hTX hxX hz2 hf => ?_) (fun x57 tg58 nx58 ns58 sa58 H locs hext hz2 hf => ?_)
            · exact fda_x hxx hTX hz2 hf
            clear hf0
            have hO := hext.t hI hO
            have hq14 := hext.t hI hq14
            have hz := hz2
            have hw := hz.1
            have hI := hz.2.1
            clear hz2 hext
            have hf0 := hf
            clear hf
            refine fo_putrN (fo_Xw X) hw fc_X18 hq14 (k := 2) (by decide) rfl rfl fn1144 (fun _ => ⟨rfl, rfl⟩) dX20_clause_142 hf0 (fun st59 H locs hw hf => ?_)
            clear hf0
            have hz := hz.s hw
            exact hk20 _ _ _ _ _ _ _ hO hq14 (lv_sub hl [0, 2] rfl) hz hf
          clear hf0
          refine fo_ldcS X hSX lq_45 dX20_clause_127 ?_
          refine lv_goto (tgt := 134) hx hb dX20_clause_129 (by decide) ?_
          have hf0 := hf
          clear hf
          refine fa_O (n := 1) (fr := 12) (lo := 244) (val := vlV) (rest := []) (As := [.ref (K 45)]) X hz (lw_O q1168 q1169 q914 q1171 q914 q125 q918) q918 ⟨by decide, by decide, by decide +kernel⟩ hR8 fc_X20 hO rfl rfl hl.1 (Nat.le_of_ble_eq_true rfl) dX20_clause_134 (fun rQ aQ hQ => wX6_need_17 l E K V mi hSX G o 45 (12) (244) (Nat.le_refl _) (Nat.le_refl _) cN cS tg17 nx17 ns17 hO (by decide) sa17 hI hz.2.2.2.2.2.2.1 hz.2.2.2.2.2.2.2.2 rQ aQ hQ) hf0 (fun nX EX tgX nxX nsX stX H locs hTX hxX hz2 hf => ?_) (fun x60 tg61 nx61 ns61 sa61 H locs hext hz2 hf => ?_)
          · exact fda_x hxx hTX hz2 hf
          clear hf0
          have hO := hext.t hI hO
          have hq14 := hext.t hI hq14
          have hz := hz2
          have hw := hz.1
          have hI := hz.2.1
          clear hz2 hext
          refine lv_aload_n hx hb dX20_clause_137 rfl (lv_at hl 0 rfl) ?_
          refine lv_aload_n hx hb dX20_clause_138 rfl (lv_at hl 2 rfl) ?_
          have hf0 := hf
          clear hf
          refine fa_O (n := 0) (fr := 4 * d + 20) (lo := 200 * d + 1000) (val := (vlR (eb E))) (rest := [.ref (eb E + nx12)]) (As := []) X hz (lw_O q1162 q1163 q889 q1164 q889 q125 q890) q890 ⟨by decide, by decide, by decide +kernel⟩ hR9 fc_X20 hO rfl rfl hl.1 (Nat.le_of_ble_eq_true rfl) dX20_clause_139 (fun rQ aQ hQ => hrecS o tg61 nx61 ns61 hO sa61 hI hz.2.2.2.2.2.2.1 hz.2.2.2.2.2.2.2.2 rQ aQ hQ) hf0 (fun nX EX tgX nxX nsX stX H locs hTX hxX hz2 hf => ?_) (fun x62 tg63 nx63 ns63 sa63 H locs hext hz2 hf => ?_)
          · exact fda_x hxx hTX hz2 hf
          clear hf0
          have hO := hext.t hI hO
          have hq14 := hext.t hI hq14
          have hz := hz2
          have hw := hz.1
          have hI := hz.2.1
          clear hz2 hext
          have hf0 := hf
          clear hf
          refine fo_putrN (fo_Xw X) hw fc_X18 hq14 (k := 2) (by decide) rfl rfl fn1144 (fun _ => ⟨rfl, rfl⟩) dX20_clause_142 hf0 (fun st64 H locs hw hf => ?_)
          clear hf0
          have hz := hz.s hw
          exact hk20 _ _ _ _ _ _ _ hO hq14 (lv_sub hl [0, 2] rfl) hz hf
        clear hf0
        refine fo_ldcS X hSX lq_44 dX20_clause_117 ?_
        refine lv_goto (tgt := 134) hx hb dX20_clause_119 (by decide) ?_
        have hf0 := hf
        clear hf
        refine fa_O (n := 1) (fr := 12) (lo := 244) (val := vlV) (rest := []) (As := [.ref (K 44)]) X hz (lw_O q1168 q1169 q914 q1171 q914 q125 q918) q918 ⟨by decide, by decide, by decide +kernel⟩ hR8 fc_X20 hO rfl rfl hl.1 (Nat.le_of_ble_eq_true rfl) dX20_clause_134 (fun rQ aQ hQ => wX6_need_17 l E K V mi hSX G o 44 (12) (244) (Nat.le_refl _) (Nat.le_refl _) cN cS tg17 nx17 ns17 hO (by decide) sa17 hI hz.2.2.2.2.2.2.1 hz.2.2.2.2.2.2.2.2 rQ aQ hQ) hf0 (fun nX EX tgX nxX nsX stX H locs hTX hxX hz2 hf => ?_) (fun x65 tg66 nx66 ns66 sa66 H locs hext hz2 hf => ?_)
        · exact fda_x hxx hTX hz2 hf
        clear hf0
        have hO := hext.t hI hO
        have hq14 := hext.t hI hq14
        have hz := hz2
        have hw := hz.1
        have hI := hz.2.1
        clear hz2 hext
        refine lv_aload_n hx hb dX20_clause_137 rfl (lv_at hl 0 rfl) ?_
        refine lv_aload_n hx hb dX20_clause_138 rfl (lv_at hl 2 rfl) ?_
        have hf0 := hf
        clear hf
        refine fa_O (n := 0) (fr := 4 * d + 20) (lo := 200 * d + 1000) (val := (vlR (eb E))) (rest := [.ref (eb E + nx12)]) (As := []) X hz (lw_O q1162 q1163 q889 q1164 q889 q125 q890) q890 ⟨by decide, by decide, by decide +kernel⟩ hR9 fc_X20 hO rfl rfl hl.1 (Nat.le_of_ble_eq_true rfl) dX20_clause_139 (fun rQ aQ hQ => hrecS o tg66 nx66 ns66 hO sa66 hI hz.2.2.2.2.2.2.1 hz.2.2.2.2.2.2.2.2 rQ aQ hQ) hf0 (fun nX EX tgX nxX nsX stX H locs hTX hxX hz2 hf => ?_) (fun x67 tg68 nx68 ns68 sa68 H locs hext hz2 hf => ?_)
        · exact fda_x hxx hTX hz2 hf
        clear hf0
        have hO := hext.t hI hO
        have hq14 := hext.t hI hq14
        have hz := hz2
        have hw := hz.1
        have hI := hz.2.1
        clear hz2 hext
        have hf0 := hf
        clear hf
        refine fo_putrN (fo_Xw X) hw fc_X18 hq14 (k := 2) (by decide) rfl rfl fn1144 (fun _ => ⟨rfl, rfl⟩) dX20_clause_142 hf0 (fun st69 H locs hw hf => ?_)
        clear hf0
        have hz := hz.s hw
        exact hk20 _ _ _ _ _ _ _ hO hq14 (lv_sub hl [0, 2] rfl) hz hf
      clear ek
      have hf0 := hf
      clear hf
      refine fb_ieq (tgt := 107) hx hb dX20_clause_96 (by decide) hf0 (fun hf => ?_) (fun hf => ?_)
      · clear hf0
        exact hk18 _ _ _ _ _ _ _ hO hq14 (lv_sub hl [0, 1, 2] rfl) hz hf
      clear hf0
      refine lv_aload_n hx hb dX20_clause_99 rfl (lv_at hl 0 rfl) ?_
      refine lv_aload_n hx hb dX20_clause_100 rfl (lv_at hl 2 rfl) ?_
      have hf0 := hf
      clear hf
      refine fa_O (n := 0) (fr := 4 * d + 20) (lo := 200 * d + 1000) (val := (vlR (eb E))) (rest := [.ref (eb E + nx12)]) (As := []) X hz (lw_O q1162 q1163 q889 q1164 q889 q125 q890) q890 ⟨by decide, by decide, by decide +kernel⟩ hR9 fc_X20 hO rfl rfl hl.1 (Nat.le_of_ble_eq_true rfl) dX20_clause_101 (fun rQ aQ hQ => hrecS o tg16 nx16 ns16 hO sa16 hI hz.2.2.2.2.2.2.1 hz.2.2.2.2.2.2.2.2 rQ aQ hQ) hf0 (fun nX EX tgX nxX nsX stX H locs hTX hxX hz2 hf => ?_) (fun x70 tg71 nx71 ns71 sa71 H locs hext hz2 hf => ?_)
      · exact fda_x hxx hTX hz2 hf
      clear hf0
      have hO := hext.t hI hO
      have hq14 := hext.t hI hq14
      have hz := hz2
      have hw := hz.1
      have hI := hz.2.1
      clear hz2 hext
      have hf0 := hf
      clear hf
      refine fo_putrN (fo_Xw X) hw fc_X18 hq14 (k := 1) (by decide) rfl rfl fn1142 (fun _ => ⟨rfl, rfl⟩) dX20_clause_104 hf0 (fun st72 H locs hw hf => ?_)
      clear hf0
      have hz := hz.s hw
      exact hk18 _ _ _ _ _ _ _ hO hq14 (lv_sub hl [0, 1, 2] rfl) hz hf
    clear ek
    have hf0 := hf
    clear hf
    refine fb_ieq (tgt := 77) hx hb dX20_clause_70 (by decide) hf0 (fun hf => ?_) (fun hf => ?_)
    · clear hf0
      refine lv_iconst (v := (0 : Int32)) hx hb dX20_clause_77 (by decide) ?_
      exact hk8 _ _ _ _ _ _ _ _ hO (lv_sub hl [0, 1] rfl) hz hf
    clear hf0
    refine lv_iconst (v := (1 : Int32)) hx hb dX20_clause_73 (by decide) ?_
    refine lv_goto (tgt := 78) hx hb dX20_clause_74 (by decide) ?_
    exact hk8 _ _ _ _ _ _ _ _ hO (lv_sub hl [0, 1] rfl) hz hf
  clear ek
  have hf0 := hf
  clear hf
  refine fb_zeq (tgt := 13) hx hb dX20_clause_6 (by decide) hf0 (fun hf => ?_) (fun hf => ?_)
  · clear hf0
    refine lv_aload_n hx hb dX20_clause_13 rfl (lv_at hl 0 rfl) ?_
    refine fo_ldcS X hSX lq_40 dX20_clause_14 ?_
    have hf0 := hf
    clear hf
    refine fa_O (n := 1) (fr := 10) (lo := 200) (val := vlI) (rest := []) (As := [.ref (K 40)]) X hz (lw_O q1121 q1122 q785 q1123 q785 q125 q786) q786 ⟨by decide, by decide, by decide +kernel⟩ hR0 fc_X20 hO rfl rfl hl.1 (Nat.le_of_ble_eq_true rfl) dX20_clause_16 (fun rQ aQ hQ => wX6_is_17 l E K V mi hSX G o 40 (10) (200) (Nat.le_refl _) (Nat.le_refl _) cN cS tg2 nx2 ns2 hO (by decide) sa2 hI hz.2.2.2.2.2.2.1 hz.2.2.2.2.2.2.2.2 rQ aQ hQ) hf0 (fun nX EX tgX nxX nsX stX H locs hTX hxX hz2 hf => ?_) (fun x73 tg74 nx74 ns74 sa74 H locs hext hz2 hf => ?_)
    · exact fda_x hxx hTX hz2 hf
    clear hf0
    have hO := hext.t hI hO
    have hz := hz2
    have hw := hz.1
    have hI := hz.2.1
    clear hz2 hext
    have hf0 := hf
    clear hf
    refine fb_zeq (tgt := 26) hx hb dX20_clause_19 (by decide) hf0 (fun hf => ?_) (fun hf => ?_)
    · clear hf0
      refine lv_aload_n hx hb dX20_clause_26 rfl (lv_at hl 0 rfl) ?_
      refine fo_ldcS X hSX lq_41 dX20_clause_27 ?_
      have hf0 := hf
      clear hf
      refine fa_O (n := 1) (fr := 10) (lo := 200) (val := vlI) (rest := []) (As := [.ref (K 41)]) X hz (lw_O q1121 q1122 q785 q1123 q785 q125 q786) q786 ⟨by decide, by decide, by decide +kernel⟩ hR0 fc_X20 hO rfl rfl hl.1 (Nat.le_of_ble_eq_true rfl) dX20_clause_29 (fun rQ aQ hQ => wX6_is_17 l E K V mi hSX G o 41 (10) (200) (Nat.le_refl _) (Nat.le_refl _) cN cS tg74 nx74 ns74 hO (by decide) sa74 hI hz.2.2.2.2.2.2.1 hz.2.2.2.2.2.2.2.2 rQ aQ hQ) hf0 (fun nX EX tgX nxX nsX stX H locs hTX hxX hz2 hf => ?_) (fun x75 tg76 nx76 ns76 sa76 H locs hext hz2 hf => ?_)
      · exact fda_x hxx hTX hz2 hf
      clear hf0
      have hO := hext.t hI hO
      have hz := hz2
      have hw := hz.1
      have hI := hz.2.1
      clear hz2 hext
      have hf0 := hf
      clear hf
      refine fb_zeq (tgt := 39) hx hb dX20_clause_32 (by decide) hf0 (fun hf => ?_) (fun hf => ?_)
      · clear hf0
        refine lv_aload_n hx hb dX20_clause_39 rfl (lv_at hl 0 rfl) ?_
        refine fo_ldcS X hSX lq_42 dX20_clause_40 ?_
        have hf0 := hf
        clear hf
        refine fa_O (n := 1) (fr := 10) (lo := 200) (val := vlI) (rest := []) (As := [.ref (K 42)]) X hz (lw_O q1121 q1122 q785 q1123 q785 q125 q786) q786 ⟨by decide, by decide, by decide +kernel⟩ hR0 fc_X20 hO rfl rfl hl.1 (Nat.le_of_ble_eq_true rfl) dX20_clause_42 (fun rQ aQ hQ => wX6_is_17 l E K V mi hSX G o 42 (10) (200) (Nat.le_refl _) (Nat.le_refl _) cN cS tg76 nx76 ns76 hO (by decide) sa76 hI hz.2.2.2.2.2.2.1 hz.2.2.2.2.2.2.2.2 rQ aQ hQ) hf0 (fun nX EX tgX nxX nsX stX H locs hTX hxX hz2 hf => ?_) (fun x77 tg78 nx78 ns78 sa78 H locs hext hz2 hf => ?_)
        · exact fda_x hxx hTX hz2 hf
        clear hf0
        have hO := hext.t hI hO
        have hz := hz2
        have hw := hz.1
        have hI := hz.2.1
        clear hz2 hext
        have hf0 := hf
        clear hf
        refine fb_zeq (tgt := 52) hx hb dX20_clause_45 (by decide) hf0 (fun hf => ?_) (fun hf => ?_)
        · clear hf0
          refine lv_aload_n hx hb dX20_clause_52 rfl (lv_at hl 0 rfl) ?_
          refine fo_ldcS X hSX lq_43 dX20_clause_53 ?_
          have hf0 := hf
          clear hf
          refine fa_O (n := 1) (fr := 10) (lo := 200) (val := vlI) (rest := []) (As := [.ref (K 43)]) X hz (lw_O q1121 q1122 q785 q1123 q785 q125 q786) q786 ⟨by decide, by decide, by decide +kernel⟩ hR0 fc_X20 hO rfl rfl hl.1 (Nat.le_of_ble_eq_true rfl) dX20_clause_55 (fun rQ aQ hQ => wX6_is_17 l E K V mi hSX G o 43 (10) (200) (Nat.le_refl _) (Nat.le_refl _) cN cS tg78 nx78 ns78 hO (by decide) sa78 hI hz.2.2.2.2.2.2.1 hz.2.2.2.2.2.2.2.2 rQ aQ hQ) hf0 (fun nX EX tgX nxX nsX stX H locs hTX hxX hz2 hf => ?_) (fun x79 tg80 nx80 ns80 sa80 H locs hext hz2 hf => ?_)
          · exact fda_x hxx hTX hz2 hf
          clear hf0
          have hO := hext.t hI hO
          have hz := hz2
          have hw := hz.1
          have hI := hz.2.1
          clear hz2 hext
          have hf0 := hf
          clear hf
          refine fb_zeq (tgt := 65) hx hb dX20_clause_58 (by decide) hf0 (fun hf => ?_) (fun hf => ?_)
          · clear hf0
            refine lv_iconst (v := (-1 : Int32)) hx hb dX20_clause_65 (by decide) ?_
            exact hk5 _ _ _ _ _ _ _ _ hO (lv_sub hl [0] rfl) hz hf
          clear hf0
          refine lv_iconst (v := (4 : Int32)) hx hb dX20_clause_61 (by decide) ?_
          refine lv_goto (tgt := 66) hx hb dX20_clause_62 (by decide) ?_
          exact hk5 _ _ _ _ _ _ _ _ hO (lv_sub hl [0] rfl) hz hf
        clear hf0
        refine lv_iconst (v := (3 : Int32)) hx hb dX20_clause_48 (by decide) ?_
        refine lv_goto (tgt := 66) hx hb dX20_clause_49 (by decide) ?_
        exact hk5 _ _ _ _ _ _ _ _ hO (lv_sub hl [0] rfl) hz hf
      clear hf0
      refine lv_iconst (v := (2 : Int32)) hx hb dX20_clause_35 (by decide) ?_
      refine lv_goto (tgt := 66) hx hb dX20_clause_36 (by decide) ?_
      exact hk5 _ _ _ _ _ _ _ _ hO (lv_sub hl [0] rfl) hz hf
    clear hf0
    refine lv_iconst (v := (1 : Int32)) hx hb dX20_clause_22 (by decide) ?_
    refine lv_goto (tgt := 66) hx hb dX20_clause_23 (by decide) ?_
    exact hk5 _ _ _ _ _ _ _ _ hO (lv_sub hl [0] rfl) hz hf
  clear hf0
  refine lv_iconst (v := (0 : Int32)) hx hb dX20_clause_9 (by decide) ?_
  refine lv_goto (tgt := 66) hx hb dX20_clause_10 (by decide) ?_
  exact hk5 _ _ _ _ _ _ _ _ hO (lv_sub hl [0] rfl) hz hf

set_option maxHeartbeats 1000000 in
theorem wX6_read_17 (l : Launch) (E : fo_E) (K V : Nat → Nat) (mi : Nat) (hSX : fo_SX E K V mi) (G : Nat) (o : Nat) (fr lo : Nat) (hfr : 101 ≤ fr) (hlo : 6022 ≤ lo) (cN cS : Nat) (recC : Nat → (Nat → Nat × Nat) → Nat → Nat → fo_St → Option ((Unit ⊕ Nat) × fo_A)) (hrecC : ∀ (q : Nat) (tg : Nat → Nat × Nat) (nx ns : Nat) (hq : tg q = (1, 17)) (st : fo_St) (hI : fo_I E tg nx) (hcN : nx ≤ cN) (hcS : ns ≤ cS) (ρ : Unit ⊕ Nat) (a1 : fo_A), recC q tg nx ns st = some (ρ, a1) → CA vlV l E yX20_clause (ws_ yX20_clause cX20_clause 3 none) (100) (6000) cN cS [.ref (eb E + q)] (tg, nx, ns, st) ρ a1) (tg0 : Nat → Nat × Nat) (nx0 ns0 : Nat) (hO : tg0 o = (1, 17)) (st0 : fo_St) (hI : fo_I E tg0 nx0) (hcN : nx0 ≤ cN) (hcS : ns0 ≤ cS) (ρZ : Unit ⊕ Nat) (aZ : fo_A) (hf : fX6_read cN cS G recC o tg0 nx0 ns0 st0 = some (ρZ, aZ)) : CA vlV l E yX6_read (ws_ yX6_read cX6_read 1 none) fr lo cN cS [.ref (eb E + o)] (tg0, nx0, ns0, st0) ρZ aZ := by
  refine fea_v (a := (tg0, nx0, ns0, st0)) hm_X6_read (Nat.le_of_ble_eq_true rfl) hI hcN hcS (fun p e R s m args below meth c Q hRf hRl X hnm hend hxx ls hl hz => ?_)
  replace hRf : 101 ≤ R.frames := by rw [hRf]; exact hfr
  replace hRl : 6022 ≤ R.locals := by rw [hRl]; exact hlo
  have hR0 : 1 + 1 ≤ R.frames ∧ 8 + (1 + 11) + (23) ≤ R.locals := ⟨by omega, by omega⟩
  have hR1 : 100 + 1 ≤ R.frames ∧ 8 + (3 + 11) + (6000) ≤ R.locals := ⟨by omega, by omega⟩
  have hR2 : 11 + 1 ≤ R.frames ∧ 8 + (3 + 11) + (222) ≤ R.locals := ⟨by omega, by omega⟩
  have hR3 : 4 + 1 ≤ R.frames ∧ 8 + (2 + 11) + (114) ≤ R.locals := ⟨by omega, by omega⟩
  have hx := X.1.1
  have hb := X.1.2.1
  have hl : lv_has ls 1 [(0, .ref (eb E + o))] := hl
  have hz : fo_Z E R s cN cS (tg0, nx0, ns0, st0) tg0 nx0 ns0 st0 s.heap [] := hz
  have hw := hz.1
  show W p l e R s m args below meth c s.heap [] (nx0 - nx0) (ns0 - ns0) Q (F0 m 0 ls [])
  unfold fX6_read at hf
  generalize s.heap = H at hz hw ⊢
  generalize ([] : List Loc) = locs at hz hw ⊢
  refine lv_aload_n hx hb dX6_read_0 rfl (lv_at hl 0 rfl) ?_
  have hf0 := hf
  clear hf
  refine fa_O (n := 0) (fr := 1) (lo := 23) (val := vlV) (rest := []) (As := []) X hz (lw_O q762 q764 q763 q766 q763 q125 q767) q767 ⟨by decide, by decide, by decide +kernel⟩ hR0 fc_X20 hO rfl rfl hl.1 (Nat.le_of_ble_eq_true rfl) dX6_read_1 (fun rQ aQ hQ => wX6_next_17 l E G o (1) (23) (Nat.le_refl _) (Nat.le_refl _) cN cS tg0 nx0 ns0 hO st0 hI hz.2.2.2.2.2.2.1 hz.2.2.2.2.2.2.2.2 rQ aQ hQ) hf0 (fun nX EX tgX nxX nsX stX H locs hTX hxX hz2 hf => ?_) (fun x1 tg2 nx2 ns2 sa2 H locs hext hz2 hf => ?_)
  · exact fda_x hxx hTX hz2 hf
  clear hf0
  have hO := hext.t hI hO
  have hz := hz2
  have hw := hz.1
  have hI := hz.2.1
  clear hz2 hext
  refine lv_aload_n hx hb dX6_read_4 rfl (lv_at hl 0 rfl) ?_
  have hf0 := hf
  clear hf
  refine fa_U (n := 0) (fr := 100) (lo := 6000) (val := vlV) (rest := []) (As := []) X hz (lw_U q774 q776 q1117 q1118 q145 q1119) fn775 ⟨by decide, by decide, by decide +kernel⟩ hR1 fc_X20 hO rfl rfl hl.1 (Nat.le_of_ble_eq_true rfl) dX6_read_5 (fun rQ aQ hQ => hrecC o tg2 nx2 ns2 hO sa2 hI hz.2.2.2.2.2.2.1 hz.2.2.2.2.2.2.2.2 rQ aQ hQ) hf0 (fun nX EX tgX nxX nsX stX H locs hTX hxX hz2 hf => ?_) (fun x3 tg4 nx4 ns4 sa4 H locs hext hz2 hf => ?_)
  · exact fda_x hxx hTX hz2 hf
  clear hf0
  have hO := hext.t hI hO
  have hz := hz2
  have hw := hz.1
  have hI := hz.2.1
  clear hz2 hext
  refine lp1_e (P := fun a5 => ∀ (H : Heap) (locs : List Loc) (ls : Array Slot), a5.1 o = (1, 17) → lv_has ls 1 [(0, .ref (eb E + o))] → fo_Z E R s cN cS (tg0, nx0, ns0, st0) a5.1 a5.2.1 a5.2.2.1 a5.2.2.2 H locs → W p l e R s m args below meth c H locs (a5.2.1 - nx0) (a5.2.2.1 - ns0) Q (F0 m 8 ls [])) (fun rec6 hrec6 a5 hf => ?_) G _ hf H locs ls hO (lv_sub hl [0] rfl) hz
  obtain ⟨tg5, nx5, ns5, sa5⟩ := a5
  intro H locs ls hO hl hz
  have hO : tg5 o = (1, 17) := hO
  have hz : fo_Z E R s cN cS (tg0, nx0, ns0, st0) tg5 nx5 ns5 sa5 H locs := hz
  show W p l e R s m args below meth c H locs (nx5 - nx0) (ns5 - ns0) Q (F0 m 8 ls [])
  replace hf := aw_u hf
  have hw := hz.1
  have hI := hz.2.1
  refine lv_aload_n hx hb dX6_read_8 rfl (lv_at hl 0 rfl) ?_
  refine fo_ldcS X hSX lq_49 dX6_read_9 ?_
  have hf0 := hf
  clear hf
  refine fa_O (n := 1) (fr := 11) (lo := 222) (val := vlI) (rest := []) (As := [.ref (K 49)]) X hz (lw_O q919 q921 q920 q923 q920 q125 q924) q924 ⟨by decide, by decide, by decide +kernel⟩ hR2 fc_X20 hO rfl rfl hl.1 (Nat.le_of_ble_eq_true rfl) dX6_read_11 (fun rQ aQ hQ => wX6_takes_17 l E K V mi hSX G o 49 (11) (222) (Nat.le_refl _) (Nat.le_refl _) cN cS tg5 nx5 ns5 hO (by decide) sa5 hI hz.2.2.2.2.2.2.1 hz.2.2.2.2.2.2.2.2 rQ aQ hQ) hf0 (fun nX EX tgX nxX nsX stX H locs hTX hxX hz2 hf => ?_) (fun x7 tg8 nx8 ns8 sa8 H locs hext hz2 hf => ?_)
  · exact fda_x hxx hTX hz2 hf
  clear hf0
  have hO := hext.t hI hO
  have hz := hz2
  have hw := hz.1
  have hI := hz.2.1
  clear hz2 hext
  have hf0 := hf
  clear hf
  refine fb_zeq (tgt := 24) hx hb dX6_read_14 (by decide) hf0 (fun hf => ?_) (fun hf => ?_)
  · clear hf0
    refine lv_aload_n hx hb dX6_read_24 rfl (lv_at hl 0 rfl) ?_
    refine fo_geti (fo_Xw X) hw fc_X20 hO (k := 3) (by decide) rfl q728 dX6_read_25 ?_
    refine lv_aload_n hx hb dX6_read_28 rfl (lv_at hl 0 rfl) ?_
    refine fo_geti (fo_Xw X) hw fc_X20 hO (k := 1) (by decide) rfl q726 dX6_read_29 ?_
    have hf0 := hf
    clear hf
    refine fb_ige (tgt := 47) hx hb dX6_read_32 (by decide) hf0 (fun hf => ?_) (fun hf => ?_)
    · clear hf0
      exact fda_v hend hz hf dX6_read_47
    clear hf0
    have hf0 := hf
    clear hf
    refine fa_new X hz fc_X8 fd_X8 q843 q844 q130 dX6_read_35 hf0 (fun tg9 nx9 ns9 sa9 H hext hq10 hz2 hf => ?_)
    clear hf0
    have hO := hext.t hI hO
    have hz := hz2
    have hw := hz.1
    have hI := hz.2.1
    clear hz2 hext
    refine lv_dup hx hb dX6_read_38 rfl ?_
    refine lv_aload_n hx hb dX6_read_39 rfl (lv_at hl 0 rfl) ?_
    refine fo_geti (fo_Xw X) hw fc_X20 hO (k := 3) (by decide) rfl q728 dX6_read_40 ?_
    have hf0 := hf
    clear hf
    refine fa_I (fr := 4) (lo := 114) (val := vlV) (rest := [.ref (eb E + nx8)]) (As := [.int (gi_ sa9 o 3)]) X hz hm_X8_init q854 q130 q852 q853 rfl hR3 rfl rfl hl.1 (Nat.le_of_ble_eq_true rfl) dX6_read_43 (fun rQ aQ hQ => wX8_init_7 l E K V mi hSX nx8 (gi_ sa9 o 3) (4) (114) (Nat.le_refl _) (Nat.le_refl _) cN cS tg9 nx9 ns9 hq10 sa9 hI hz.2.2.2.2.2.2.1 hz.2.2.2.2.2.2.2.2 rQ aQ hQ) hf0 (fun nX EX tgX nxX nsX stX H locs hTX hxX hz2 hf => ?_) (fun x11 tg12 nx12 ns12 sa12 H locs hext hz2 hf => ?_)
    · exact fda_x hxx hTX hz2 hf
    clear hf0
    have hO := hext.t hI hO
    have hq10 := hext.t hI hq10
    have hz := hz2
    have hw := hz.1
    have hI := hz.2.1
    clear hz2 hext
    exact fx_athrow hx hb dX6_read_46 (fda_x hxx ⟨7, _, hq10, fc_X8.1, rfl⟩ hz hf)
  clear hf0
  refine lv_aload_n hx hb dX6_read_17 rfl (lv_at hl 0 rfl) ?_
  have hf0 := hf
  clear hf
  refine fa_U (n := 0) (fr := 100) (lo := 6000) (val := vlV) (rest := []) (As := []) X hz (lw_U q774 q776 q1117 q1118 q145 q1119) fn775 ⟨by decide, by decide, by decide +kernel⟩ hR1 fc_X20 hO rfl rfl hl.1 (Nat.le_of_ble_eq_true rfl) dX6_read_18 (fun rQ aQ hQ => hrecC o tg8 nx8 ns8 hO sa8 hI hz.2.2.2.2.2.2.1 hz.2.2.2.2.2.2.2.2 rQ aQ hQ) hf0 (fun nX EX tgX nxX nsX stX H locs hTX hxX hz2 hf => ?_) (fun x13 tg14 nx14 ns14 sa14 H locs hext hz2 hf => ?_)
  · exact fda_x hxx hTX hz2 hf
  clear hf0
  have hO := hext.t hI hO
  have hz := hz2
  have hw := hz.1
  have hI := hz.2.1
  clear hz2 hext
  refine lv_goto (tgt := 8) hx hb dX6_read_21 (by decide) ?_
  exact hrec6 _ hf _ _ _ hO (lv_sub hl [0] rfl) hz

/-- ForestRooms.reads -/
def fX0_reads (cN cS : Nat) (G : Nat) (recC : Nat → (Nat → Nat × Nat) → Nat → Nat → fo_St → Option ((Unit ⊕ Nat) × fo_A)) (p1 : Nat) (tg0 : Nat → Nat × Nat) (nx0 ns0 : Nat) (st0 : fo_St) : Option ((Int32 ⊕ Nat) × fo_A) := ba_ (fX6_read cN cS G recC p1 tg0 nx0 ns0 st0) (fun x1 tg2 nx2 ns2 sa2 => lt_ (si_ sa2 0 12 (-1 : Int32)) (fun st5 => some (.inl (1 : Int32), (tg2, nx2, ns2, st5)))) (fun nX tgX nxX nsX stX => ck_ (decide (tgX nX = (1, 7))) (lt_ (si_ stX 0 12 (gi_ stX nX 6)) (fun st4 => some (.inl (0 : Int32), (tgX, nxX, nsX, st4)))))
theorem hm_X0_reads : fo_M yX0_reads 1 := ⟨by decide +kernel, by decide +kernel, by decide +kernel, by decide +kernel⟩
set_option maxHeartbeats 1000000 in
theorem wX0_reads_6 (l : Launch) (E : fo_E) (K V : Nat → Nat) (mi : Nat) (hSX : fo_SX E K V mi) (hX : fo_HX E) (G : Nat) (p1 : Nat) (fr lo : Nat) (hfr : 102 ≤ fr) (hlo : 6042 ≤ lo) (cN cS : Nat) (recC : Nat → (Nat → Nat × Nat) → Nat → Nat → fo_St → Option ((Unit ⊕ Nat) × fo_A)) (hrecC : ∀ (q : Nat) (tg : Nat → Nat × Nat) (nx ns : Nat) (hq : tg q = (1, 6)) (st : fo_St) (hI : fo_I E tg nx) (hcN : nx ≤ cN) (hcS : ns ≤ cS) (ρ : Unit ⊕ Nat) (a1 : fo_A), recC q tg nx ns st = some (ρ, a1) → CA vlV l E yX7_clause (ws_ yX7_clause cX7_clause 3 none) (100) (6000) cN cS [.ref (eb E + q)] (tg, nx, ns, st) ρ a1) (tg0 : Nat → Nat × Nat) (nx0 ns0 : Nat) (hP1 : tg0 p1 = (1, 6)) (st0 : fo_St) (hI : fo_I E tg0 nx0) (hcN : nx0 ≤ cN) (hcS : ns0 ≤ cS) (ρZ : Int32 ⊕ Nat) (aZ : fo_A) (hf : fX0_reads cN cS G recC p1 tg0 nx0 ns0 st0 = some (ρZ, aZ)) : CA vlI l E yX0_reads (wsW_ yX0_reads cX0_reads 3 (some .boolean) [(0, 4, 7, 220)]) fr lo cN cS [.ref (eb E + 0), .ref (eb E + p1)] (tg0, nx0, ns0, st0) ρZ aZ := by
  refine feaW_z (a := (tg0, nx0, ns0, st0)) hm_X0_reads (Nat.le_of_ble_eq_true rfl) hI hcN hcS (fun p e R s m args below meth c Q hRf hRl X hnm htab hend ls hl hz => ?_)
  replace hRf : 102 ≤ R.frames := by rw [hRf]; exact hfr
  replace hRl : 6042 ≤ R.locals := by rw [hRl]; exact hlo
  have hR0 : 101 + 1 ≤ R.frames ∧ 8 + (1 + 11) + (6022) ≤ R.locals := ⟨by omega, by omega⟩
  have hx := X.1.1
  have hb := X.1.2.1
  have hl : lv_has ls 3 [(0, .ref (eb E + 0)), (1, .ref (eb E + p1))] := hl
  have hz : fo_Z E R s cN cS (tg0, nx0, ns0, st0) tg0 nx0 ns0 st0 s.heap [] := hz
  have hw := hz.1
  show W p l e R s m args below meth c s.heap [] (nx0 - nx0) (ns0 - ns0) Q (F0 m 0 ls [])
  unfold fX0_reads at hf
  generalize s.heap = H at hz hw ⊢
  generalize ([] : List Loc) = locs at hz hw ⊢
  refine lv_aload_n hx hb dX0_reads_0 rfl (lv_at hl 1 rfl) ?_
  have hf0 := hf
  clear hf
  refine fa_O (n := 0) (fr := 101) (lo := 6022) (val := vlV) (rest := []) (As := []) X hz (lw_O q756 q758 q757 q759 q757 q125 q761) q761 ⟨by decide, by decide, by decide +kernel⟩ hR0 fc_X7 hP1 rfl rfl hl.1 (Nat.le_of_ble_eq_true rfl) dX0_reads_1 (fun rQ aQ hQ => wX6_read_6 l E K V mi hSX G p1 (101) (6022) (Nat.le_refl _) (Nat.le_refl _) cN cS recC hrecC tg0 nx0 ns0 hP1 st0 hI hz.2.2.2.2.2.2.1 hz.2.2.2.2.2.2.2.2 rQ aQ hQ) hf0 (fun nX EX tgX nxX nsX stX H locs hTX hxX hz2 hf => ?_) (fun x1 tg2 nx2 ns2 sa2 H locs hext hz2 hf => ?_)
  · clear hf0
    have hP1 := hxX.t hI hP1
    have hz := hz2
    have hw := hz.1
    have hI := hz.2.1
    clear hz2 hxX
    have hf0 := ck_e hf
    clear hf
    obtain ⟨hq3, hf⟩ := hf0
    have hq3 := of_decide_eq_true hq3
    refine fh_catch (fo_Xw X) hw htab 0 (x := (0, 4, 7, 220)) rfl (by decide) (by decide) (by decide) fc_X8 q755 fn845 hq3 ?_
    refine lv_astore_n (lv' := [(2, .ref (eb E + nX)), (0, .ref (eb E + 0)), (1, .ref (eb E + p1))]) hx hb dX0_reads_7 rfl hl (by decide) rfl (fun ls hl => ?_)
    refine lv_aload_n hx hb dX0_reads_8 rfl (lv_at hl 1 rfl) ?_
    refine lv_aload_n hx hb dX0_reads_9 rfl (lv_at hl 0 rfl) ?_
    refine fo_getiN (fo_Xw X) hw fc_X8 hq3 (k := 6) (by decide) rfl fn857 dX0_reads_10 ?_
    have hf0 := hf
    clear hf
    refine fo_puti (fo_Xw X) hw fc_X0 (hx0 (hI.hx hX)) (k := 12) (by decide) rfl rfl q357 ⟨rfl, rfl⟩ dX0_reads_13 hf0 (fun st4 H locs hw hf => ?_)
    clear hf0
    have hz := hz.s hw
    refine lv_iconst (v := (0 : Int32)) hx hb dX0_reads_16 (by decide) ?_
    exact fda_z hend rfl hz hf dX0_reads_17
  clear hf0
  have hP1 := hext.t hI hP1
  have hz := hz2
  have hw := hz.1
  have hI := hz.2.1
  clear hz2 hext
  refine lv_goto (tgt := 18) hx hb dX0_reads_4 (by decide) ?_
  refine lv_aload_n hx hb dX0_reads_18 rfl (lv_at hl 0 rfl) ?_
  refine lv_iconst (v := (-1 : Int32)) hx hb dX0_reads_19 (by decide) ?_
  have hf0 := hf
  clear hf
  refine fo_puti (fo_Xw X) hw fc_X0 (hx0 (hI.hx hX)) (k := 12) (by decide) rfl rfl q357 ⟨rfl, rfl⟩ dX0_reads_20 hf0 (fun st5 H locs hw hf => ?_)
  clear hf0
  have hz := hz.s hw
  refine lv_iconst (v := (1 : Int32)) hx hb dX0_reads_23 (by decide) ?_
  exact fda_z hend rfl hz hf dX0_reads_24

/-- ForestRooms.law -/
def fX0_law (cN cS : Nat) (G : Nat) (recC : Nat → (Nat → Nat × Nat) → Nat → Nat → fo_St → Option ((Unit ⊕ Nat) × fo_A))  (tg0 : Nat → Nat × Nat) (nx0 ns0 : Nat) (st0 : fo_St) : Option ((Int32 ⊕ Nat) × fo_A) := lI_ (gi_ st0 0 11) (fun x1 => lt_ (si_ st0 0 11 (0 : Int32)) (fun st2 => bd_ (fJ2_size 14 st2) (fun x3 st4 => if ¬ x3 = (6 : Int32) then ck_ (fo_bg nx0 ns0 9 cN cS) (aw_ (tu_ tg0 nx0 (1, 6), nx0 + 1, ns0 + 9, z0_ st4 nx0) (fun tg5 nx5 ns5 sa5 => ba_ (fX7_init cN cS nx0 29 x1 tg5 nx5 ns5 sa5) (fun x7 tg8 nx8 ns8 sa8 => ba_ (fX0_reads cN cS G recC nx0 tg8 nx8 ns8 sa8) (fun x9 tg10 nx10 ns10 sa10 => if ¬ x9 = 0 then bd_ (fJ2_size 14 sa10) (fun x11 st12 => jn_ (fun (x13 : Int32) (a14 : fo_A) => aw_ a14 (fun tg14 nx14 ns14 sa14 => lt_ (si_ sa14 2 10 (((gi_ st12 2 10) &&& (((1 : Int32) <<< (x11 &&& 31)) ^^^ (-1 : Int32))) ||| x13)) (fun st16 => ck_ (fo_bg nx14 ns14 1 cN cS) (aw_ (tu_ tg14 nx14 (1, 16), nx14 + 1, ns14 + 1, z0_ st16 nx14) (fun tg17 nx17 ns17 sa17 => rn_ (gr_ sa17 nx0 7) (fun q19 => ba_ (fX19_init cN cS nx14 q19 tg17 nx17 ns17 sa17) (fun x20 tg21 nx21 ns21 sa21 => ba_ (fJ2_add cN cS 14 nx14 tg21 nx21 ns21 sa21) (fun x22 tg23 nx23 ns23 sa23 => bd_ (fX0_done x11 sa23) (fun x24 st25 => some (.inl x24, (tg23, nx23, ns23, st25)))) (fun nX tgX nxX nsX stX => some (.inr nX, (tgX, nxX, nsX, stX)))) (fun nX tgX nxX nsX stX => some (.inr nX, (tgX, nxX, nsX, stX))))))))) (fun k15 => if (gi_ st12 nx0 8) = 0 then k15 (0 : Int32) (tg10, nx10, ns10, st12) else k15 ((1 : Int32) <<< (x11 &&& 31)) (tg10, nx10, ns10, st12))) else bd_ (fX0_refuse (-6 : Int32) sa10) (fun x26 st27 => some (.inl x26, (tg10, nx10, ns10, st27)))) (fun nX tgX nxX nsX stX => some (.inr nX, (tgX, nxX, nsX, stX)))) (fun nX tgX nxX nsX stX => some (.inr nX, (tgX, nxX, nsX, stX))))) else bd_ (fX0_refuse (-5 : Int32) st4) (fun x28 st29 => some (.inl x28, (tg0, nx0, ns0, st29))))))
theorem hm_X0_law : fo_M yX0_law 0 := ⟨by decide +kernel, by decide +kernel, by decide +kernel, by decide +kernel⟩
set_option maxHeartbeats 1000000 in
theorem wX0_law (l : Launch) (E : fo_E) (K V : Nat → Nat) (mi : Nat) (hSX : fo_SX E K V mi) (hX : fo_HX E) (G : Nat)  (fr lo : Nat) (hfr : 103 ≤ fr) (hlo : 6064 ≤ lo) (cN cS : Nat) (recC : Nat → (Nat → Nat × Nat) → Nat → Nat → fo_St → Option ((Unit ⊕ Nat) × fo_A)) (hrecC : ∀ (q : Nat) (tg : Nat → Nat × Nat) (nx ns : Nat) (hq : tg q = (1, 6)) (st : fo_St) (hI : fo_I E tg nx) (hcN : nx ≤ cN) (hcS : ns ≤ cS) (ρ : Unit ⊕ Nat) (a1 : fo_A), recC q tg nx ns st = some (ρ, a1) → CA vlV l E yX7_clause (ws_ yX7_clause cX7_clause 3 none) (100) (6000) cN cS [.ref (eb E + q)] (tg, nx, ns, st) ρ a1) (tg0 : Nat → Nat × Nat) (nx0 ns0 : Nat) (st0 : fo_St) (hI : fo_I E tg0 nx0) (hcN : nx0 ≤ cN) (hcS : ns0 ≤ cS) (ρZ : Int32 ⊕ Nat) (aZ : fo_A) (hf : fX0_law cN cS G recC  tg0 nx0 ns0 st0 = some (ρZ, aZ)) : CA vlI l E yX0_law (ws_ yX0_law cX0_law 4 (some .int)) fr lo cN cS [.ref (eb E + 0)] (tg0, nx0, ns0, st0) ρZ aZ := by
  refine fea_i (a := (tg0, nx0, ns0, st0)) hm_X0_law (Nat.le_of_ble_eq_true rfl) hI hcN hcS (fun p e R s m args below meth c Q hRf hRl X hnm hend hxx ls hl hz => ?_)
  replace hRf : 103 ≤ R.frames := by rw [hRf]; exact hfr
  replace hRl : 6064 ≤ R.locals := by rw [hRl]; exact hlo
  have hR0 : 0 + 1 ≤ R.frames ∧ 8 + (1 + 11) + (0) ≤ R.locals := ⟨by omega, by omega⟩
  have hR1 : 5 + 1 ≤ R.frames ∧ 8 + (3 + 11) + (121) ≤ R.locals := ⟨by omega, by omega⟩
  have hR2 : 102 + 1 ≤ R.frames ∧ 8 + (3 + 11) + (6042) ≤ R.locals := ⟨by omega, by omega⟩
  have hR3 : 2 + 1 ≤ R.frames ∧ 8 + (2 + 11) + (60) ≤ R.locals := ⟨by omega, by omega⟩
  have hR4 : 7 + 1 ≤ R.frames ∧ 8 + (2 + 11) + (177) ≤ R.locals := ⟨by omega, by omega⟩
  have hR5 : 0 + 1 ≤ R.frames ∧ 8 + (2 + 11) + (0) ≤ R.locals := ⟨by omega, by omega⟩
  have hx := X.1.1
  have hb := X.1.2.1
  have hl : lv_has ls 4 [(0, .ref (eb E + 0))] := hl
  have hz : fo_Z E R s cN cS (tg0, nx0, ns0, st0) tg0 nx0 ns0 st0 s.heap [] := hz
  have hw := hz.1
  show W p l e R s m args below meth c s.heap [] (nx0 - nx0) (ns0 - ns0) Q (F0 m 0 ls [])
  unfold fX0_law at hf
  generalize s.heap = H at hz hw ⊢
  generalize ([] : List Loc) = locs at hz hw ⊢
  refine lv_aload_n hx hb dX0_law_0 rfl (lv_at hl 0 rfl) ?_
  refine fo_geti (fo_Xw X) hw fc_X0 (hx0 (hI.hx hX)) (k := 11) (by decide) rfl q356 dX0_law_1 ?_
  have hf0 := hf
  clear hf
  refine fo_tI hf0 (fun x1 hf => ?_)
  clear hf0
  refine lv_istore_n (lv' := [(1, .int x1), (0, .ref (eb E + 0))]) hx hb dX0_law_4 rfl hl (by decide) rfl (fun ls hl => ?_)
  refine lv_aload_n hx hb dX0_law_5 rfl (lv_at hl 1 rfl) ?_
  refine lv_iconst (v := (0 : Int32)) hx hb dX0_law_6 (by decide) ?_
  have hf0 := hf
  clear hf
  refine fo_puti (fo_Xw X) hw fc_X0 (hx0 (hI.hx hX)) (k := 11) (by decide) rfl rfl q356 ⟨rfl, rfl⟩ dX0_law_7 hf0 (fun st2 H locs hw hf => ?_)
  clear hf0
  have hz := hz.s hw
  refine lv_aload_n hx hb dX0_law_10 rfl (lv_at hl 1 rfl) ?_
  refine fo_gets (fo_Xw X) hw fc_X0 (hx0 (hI.hx hX)) (k := 2) (d := 2) (n2 := 2) (by decide) rfl rfl q347 dX0_law_11 ?_
  refine fo_getsN (fo_Xw X) hw fc_X1 (hx2 (hI.hx hX)) (k := 8) (d := 12) (n2 := 14) (by decide) rfl rfl fn231 dX0_law_14 ?_
  have hf0 := hf
  clear hf
  refine fcA_Vi (rm := { frames := 0, cells := 0, slots := 0, locals := 0 }) (rest := []) (As := []) (fo_Xw X) hw hz.lim0 hm_J2_size (lw_V q709 q607 q608 q116 q609) ⟨rfl, rfl⟩ hR0 fc_J2 rfl (hx14 (hI.hx hX)) rfl rfl hl.1 (Nat.le_of_ble_eq_true rfl) dX0_law_17 (fun rQ stQ hQ => wJ2_size l (eW E tg0 nx0)  14 (hx14 (hI.hx hX)) st2 rQ stQ hQ) hf0 (fun x3 st4 H locs hw hf => ?_)
  clear hf0
  have hz := hz.s hw
  refine lv_bipush (v := (6 : Int32)) hx hb dX0_law_20 (by decide) ?_
  have hf0 := hf
  clear hf
  refine fb_ine (tgt := 32) hx hb dX0_law_22 (by decide) hf0 (fun hf => ?_) (fun hf => ?_)
  · clear hf0
    have hf0 := hf
    clear hf
    refine fa_new X hz fc_X7 fd_X7 q710 q711 q126 dX0_law_32 hf0 (fun tg5 nx5 ns5 sa5 H hext hq6 hz2 hf => ?_)
    clear hf0
    have hz := hz2
    have hw := hz.1
    have hI := hz.2.1
    clear hz2 hext
    refine lv_dup hx hb dX0_law_35 rfl ?_
    refine lv_aload_n hx hb dX0_law_36 rfl (lv_at hl 1 rfl) ?_
    refine fo_gets (fo_Xw X) hw fc_X0 (hx0 (hI.hx hX)) (k := 10) (d := 29) (n2 := 29) (by decide) rfl rfl q355 dX0_law_37 ?_
    refine lv_iload_n hx hb dX0_law_40 rfl (lv_at hl 0 rfl) ?_
    have hf0 := hf
    clear hf
    refine fa_I (fr := 5) (lo := 121) (val := vlV) (rest := [.ref (eb E + nx0)]) (As := [.ref (eb E + 29), .int x1]) X hz hm_X7_init q714 q126 q712 q713 rfl hR1 rfl rfl hl.1 (Nat.le_of_ble_eq_true rfl) dX0_law_41 (fun rQ aQ hQ => wX7_init_6 l E K V mi hSX nx0 29 x1 (5) (121) (Nat.le_refl _) (Nat.le_refl _) cN cS tg5 nx5 ns5 hq6 sa5 hI hz.2.2.2.2.2.2.1 hz.2.2.2.2.2.2.2.2 rQ aQ hQ) hf0 (fun nX EX tgX nxX nsX stX H locs hTX hxX hz2 hf => ?_) (fun x7 tg8 nx8 ns8 sa8 H locs hext hz2 hf => ?_)
    · exact fda_x hxx hTX hz2 hf
    clear hf0
    have hq6 := hext.t hI hq6
    have hz := hz2
    have hw := hz.1
    have hI := hz.2.1
    clear hz2 hext
    refine lv_astore_n (lv' := [(2, .ref (eb E + nx0)), (1, .int x1), (0, .ref (eb E + 0))]) hx hb dX0_law_44 rfl hl (by decide) rfl (fun ls hl => ?_)
    refine lv_aload_n hx hb dX0_law_45 rfl (lv_at hl 2 rfl) ?_
    refine lv_aload_n hx hb dX0_law_46 rfl (lv_at hl 0 rfl) ?_
    have hf0 := hf
    clear hf
    refine fa_VX (fr := 102) (lo := 6042) (val := vlI) (rest := []) (As := [.ref (eb E + nx0)]) X hz hm_X0_reads (lw_VW q751 q753 qs12 q111 q754) hR2 fc_X0 rfl (hx0 (hI.hx hX)) rfl rfl hl.1 (Nat.le_of_ble_eq_true rfl) dX0_law_47 (fun rQ aQ hQ => wX0_reads_6 l E K V mi hSX hX G nx0 (102) (6042) (Nat.le_refl _) (Nat.le_refl _) cN cS recC hrecC tg8 nx8 ns8 hq6 sa8 hI hz.2.2.2.2.2.2.1 hz.2.2.2.2.2.2.2.2 rQ aQ hQ) hf0 (fun nX EX tgX nxX nsX stX H locs hTX hxX hz2 hf => ?_) (fun x9 tg10 nx10 ns10 sa10 H locs hext hz2 hf => ?_)
    · exact fda_x hxx hTX hz2 hf
    clear hf0
    have hq6 := hext.t hI hq6
    have hz := hz2
    have hw := hz.1
    have hI := hz.2.1
    clear hz2 hext
    have hf0 := hf
    clear hf
    refine fb_zne (tgt := 60) hx hb dX0_law_50 (by decide) hf0 (fun hf => ?_) (fun hf => ?_)
    · clear hf0
      refine lv_aload_n hx hb dX0_law_60 rfl (lv_at hl 2 rfl) ?_
      refine fo_gets (fo_Xw X) hw fc_X0 (hx0 (hI.hx hX)) (k := 2) (d := 2) (n2 := 2) (by decide) rfl rfl q347 dX0_law_61 ?_
      refine fo_getsN (fo_Xw X) hw fc_X1 (hx2 (hI.hx hX)) (k := 8) (d := 12) (n2 := 14) (by decide) rfl rfl fn231 dX0_law_64 ?_
      have hf0 := hf
      clear hf
      refine fcA_Vi (rm := { frames := 0, cells := 0, slots := 0, locals := 0 }) (rest := []) (As := []) (fo_Xw X) hw hz.lim0 hm_J2_size (lw_V q709 q607 q608 q116 q609) ⟨rfl, rfl⟩ hR0 fc_J2 rfl (hx14 (hI.hx hX)) rfl rfl hl.1 (Nat.le_of_ble_eq_true rfl) dX0_law_67 (fun rQ stQ hQ => wJ2_size l (eW E tg10 nx10)  14 (hx14 (hI.hx hX)) sa10 rQ stQ hQ) hf0 (fun x11 st12 H locs hw hf => ?_)
      clear hf0
      have hz := hz.s hw
      refine lv_istore_n (lv' := [(3, .int x11), (2, .ref (eb E + nx0)), (1, .int x1), (0, .ref (eb E + 0))]) hx hb dX0_law_70 rfl hl (by decide) rfl (fun ls hl => ?_)
      refine lv_aload_n hx hb dX0_law_71 rfl (lv_at hl 3 rfl) ?_
      refine fo_gets (fo_Xw X) hw fc_X0 (hx0 (hI.hx hX)) (k := 2) (d := 2) (n2 := 2) (by decide) rfl rfl q347 dX0_law_72 ?_
      refine lv_aload_n hx hb dX0_law_75 rfl (lv_at hl 3 rfl) ?_
      refine fo_gets (fo_Xw X) hw fc_X0 (hx0 (hI.hx hX)) (k := 2) (d := 2) (n2 := 2) (by decide) rfl rfl q347 dX0_law_76 ?_
      refine fo_getiN (fo_Xw X) hw fc_X1 (hx2 (hI.hx hX)) (k := 10) (by decide) rfl fn235 dX0_law_79 ?_
      refine lv_iconst (v := (1 : Int32)) hx hb dX0_law_82 (by decide) ?_
      refine lv_iload_n hx hb dX0_law_83 rfl (lv_at hl 0 rfl) ?_
      refine lv_ishl hx hb dX0_law_84 ?_
      refine lv_iconst (v := (-1 : Int32)) hx hb dX0_law_85 (by decide) ?_
      refine lv_ixor hx hb dX0_law_86 ?_
      refine lv_iand hx hb dX0_law_87 ?_
      refine lv_aload_n hx hb dX0_law_88 rfl (lv_at hl 1 rfl) ?_
      refine fo_getiN (fo_Xw X) hw fc_X7 hq6 (k := 8) (by decide) rfl fn724 dX0_law_89 ?_
      refine jn_e hf (fun k15 ek hf => ?_)
      have hk15 : ∀ (x13 : Int32) (tg14 : Nat → Nat × Nat) (nx14 ns14 : Nat) (sa14 : fo_St) (H : Heap) (locs : List Loc) (ls : Array Slot), tg14 nx0 = (1, 6) → lv_has ls 4 [(3, .int x11), (2, .ref (eb E + nx0)), (0, .ref (eb E + 0))] → fo_Z E R s cN cS (tg0, nx0, ns0, st0) tg14 nx14 ns14 sa14 H locs → k15 x13 (tg14, nx14, ns14, sa14) = some (ρZ, aZ) → W p l e R s m args below meth c H locs (nx14 - nx0) (ns14 - ns0) Q (F0 m 102 ls [.int x13, .int ((gi_ st12 2 10) &&& (((1 : Int32) <<< (x11 &&& 31)) ^^^ (-1 : Int32))), .ref (eb E + 2)]) := by
        intro x13 tg14 nx14 ns14 sa14 H locs ls hq6 hl hz hf
        rw [ek] at hf
        replace hf := aw_u hf
        have hw := hz.1
        have hI := hz.2.1
        refine lv_ior hx hb dX0_law_102 ?_
        have hf0 := hf
        clear hf
        refine fo_putiN (fo_Xw X) hw fc_X1 (hx2 (hI.hx hX)) (k := 10) (by decide) rfl rfl fn235 ⟨rfl, rfl⟩ dX0_law_103 hf0 (fun st16 H locs hw hf => ?_)
        clear hf0
        have hz := hz.s hw
        refine lv_aload_n hx hb dX0_law_106 rfl (lv_at hl 2 rfl) ?_
        refine fo_gets (fo_Xw X) hw fc_X0 (hx0 (hI.hx hX)) (k := 2) (d := 2) (n2 := 2) (by decide) rfl rfl q347 dX0_law_107 ?_
        refine fo_getsN (fo_Xw X) hw fc_X1 (hx2 (hI.hx hX)) (k := 8) (d := 12) (n2 := 14) (by decide) rfl rfl fn231 dX0_law_110 ?_
        have hf0 := hf
        clear hf
        refine fa_new X hz fc_X19 fd_X19 q600 q1182 q144 dX0_law_113 hf0 (fun tg17 nx17 ns17 sa17 H hext hq18 hz2 hf => ?_)
        clear hf0
        have hq6 := hext.t hI hq6
        have hz := hz2
        have hw := hz.1
        have hI := hz.2.1
        clear hz2 hext
        refine lv_dup hx hb dX0_law_116 rfl ?_
        refine lv_aload_n hx hb dX0_law_117 rfl (lv_at hl 1 rfl) ?_
        have hf0 := hf
        clear hf
        refine fo_getrN (fo_Xw X) hw fc_X7 hq6 (k := 7) (by decide) rfl fn722 dX0_law_118 hf0 (fun q19 hf => ?_)
        clear hf0
        have hf0 := hf
        clear hf
        refine fa_I (fr := 2) (lo := 60) (val := vlV) (rest := [.ref (eb E + nx14), .ref (eb E + 14)]) (As := [.ref (eb E + q19)]) X hz hm_X19_init q1185 q144 q1183 q1184 rfl hR3 rfl rfl hl.1 (Nat.le_of_ble_eq_true rfl) dX0_law_121 (fun rQ aQ hQ => wX19_init_16 l E nx14 q19 (2) (60) (Nat.le_refl _) (Nat.le_refl _) cN cS tg17 nx17 ns17 hq18 sa17 hI hz.2.2.2.2.2.2.1 hz.2.2.2.2.2.2.2.2 rQ aQ hQ) hf0 (fun nX EX tgX nxX nsX stX H locs hTX hxX hz2 hf => ?_) (fun x20 tg21 nx21 ns21 sa21 H locs hext hz2 hf => ?_)
        · exact fda_x hxx hTX hz2 hf
        clear hf0
        have hq6 := hext.t hI hq6
        have hq18 := hext.t hI hq18
        have hz := hz2
        have hw := hz.1
        have hI := hz.2.1
        clear hz2 hext
        have hf0 := hf
        clear hf
        refine fa_V (fr := 7) (lo := 177) (val := vlI) (rest := []) (As := [.ref (eb E + nx14)]) X hz hm_J2_add (lw_V q1191 q1104 q1105 q116 q1106) hR4 fc_J2 rfl (hx14 (hI.hx hX)) rfl rfl hl.1 (Nat.le_of_ble_eq_true rfl) dX0_law_124 (fun rQ aQ hQ => wJ2_add_18 l E K V mi hSX 14 nx14 (7) (177) (Nat.le_refl _) (Nat.le_refl _) cN cS tg21 nx21 ns21 (hx14 (hI.hx hX)) sa21 hI hz.2.2.2.2.2.2.1 hz.2.2.2.2.2.2.2.2 rQ aQ hQ) hf0 (fun nX EX tgX nxX nsX stX H locs hTX hxX hz2 hf => ?_) (fun x22 tg23 nx23 ns23 sa23 H locs hext hz2 hf => ?_)
        · exact fda_x hxx hTX hz2 hf
        clear hf0
        have hq6 := hext.t hI hq6
        have hq18 := hext.t hI hq18
        have hz := hz2
        have hw := hz.1
        have hI := hz.2.1
        clear hz2 hext
        refine lv_pop hx hb dX0_law_127 rfl ?_
        refine lv_aload_n hx hb dX0_law_128 rfl (lv_at hl 2 rfl) ?_
        refine lv_iload_n hx hb dX0_law_129 rfl (lv_at hl 0 rfl) ?_
        have hf0 := hf
        clear hf
        refine fcA_Vi (rm := { frames := 0, cells := 0, slots := 0, locals := 0 }) (rest := []) (As := [.int x11]) (fo_Xw X) hw hz.lim0 hm_X0_done (lw_V q530 q532 qs3 q111 q533) ⟨rfl, rfl⟩ hR5 fc_X0 rfl (hx0 (hI.hx hX)) rfl rfl hl.1 (Nat.le_of_ble_eq_true rfl) dX0_law_130 (fun rQ stQ hQ => wX0_done l (eW E tg23 nx23) (hI.hx hX) x11 sa23 rQ stQ hQ) hf0 (fun x24 st25 H locs hw hf => ?_)
        clear hf0
        have hz := hz.s hw
        exact fda_i hend hz hf dX0_law_133
      clear ek
      have hf0 := hf
      clear hf
      refine fb_zeq (tgt := 101) hx hb dX0_law_92 (by decide) hf0 (fun hf => ?_) (fun hf => ?_)
      · clear hf0
        refine lv_iconst (v := (0 : Int32)) hx hb dX0_law_101 (by decide) ?_
        exact hk15 _ _ _ _ _ _ _ _ hq6 (lv_sub hl [0, 1, 3] rfl) hz hf
      clear hf0
      refine lv_iconst (v := (1 : Int32)) hx hb dX0_law_95 (by decide) ?_
      refine lv_iload_n hx hb dX0_law_96 rfl (lv_at hl 0 rfl) ?_
      refine lv_ishl hx hb dX0_law_97 ?_
      refine lv_goto (tgt := 102) hx hb dX0_law_98 (by decide) ?_
      exact hk15 _ _ _ _ _ _ _ _ hq6 (lv_sub hl [0, 1, 3] rfl) hz hf
    clear hf0
    refine lv_aload_n hx hb dX0_law_53 rfl (lv_at hl 2 rfl) ?_
    refine lv_bipush (v := (-6 : Int32)) hx hb dX0_law_54 (by decide) ?_
    have hf0 := hf
    clear hf
    refine fcA_Vi (rm := { frames := 0, cells := 0, slots := 0, locals := 0 }) (rest := []) (As := [.int (-6 : Int32)]) (fo_Xw X) hw hz.lim0 hm_X0_refuse (lw_V q440 q442 qs1 q111 q443) ⟨rfl, rfl⟩ hR5 fc_X0 rfl (hx0 (hI.hx hX)) rfl rfl hl.1 (Nat.le_of_ble_eq_true rfl) dX0_law_56 (fun rQ stQ hQ => wX0_refuse l (eW E tg10 nx10) (hI.hx hX) (-6 : Int32) sa10 rQ stQ hQ) hf0 (fun x26 st27 H locs hw hf => ?_)
    clear hf0
    have hz := hz.s hw
    exact fda_i hend hz hf dX0_law_59
  clear hf0
  refine lv_aload_n hx hb dX0_law_25 rfl (lv_at hl 1 rfl) ?_
  refine lv_bipush (v := (-5 : Int32)) hx hb dX0_law_26 (by decide) ?_
  have hf0 := hf
  clear hf
  refine fcA_Vi (rm := { frames := 0, cells := 0, slots := 0, locals := 0 }) (rest := []) (As := [.int (-5 : Int32)]) (fo_Xw X) hw hz.lim0 hm_X0_refuse (lw_V q440 q442 qs1 q111 q443) ⟨rfl, rfl⟩ hR5 fc_X0 rfl (hx0 (hI.hx hX)) rfl rfl hl.1 (Nat.le_of_ble_eq_true rfl) dX0_law_28 (fun rQ stQ hQ => wX0_refuse l (eW E tg0 nx0) (hI.hx hX) (-5 : Int32) st4 rQ stQ hQ) hf0 (fun x28 st29 H locs hw hf => ?_)
  clear hf0
  have hz := hz.s hw
  exact fda_i hend hz hf dX0_law_31

set_option maxHeartbeats 1000000 in
theorem wX0_reads_17 (l : Launch) (E : fo_E) (K V : Nat → Nat) (mi : Nat) (hSX : fo_SX E K V mi) (hX : fo_HX E) (G : Nat) (p1 : Nat) (fr lo : Nat) (hfr : 102 ≤ fr) (hlo : 6042 ≤ lo) (cN cS : Nat) (recC : Nat → (Nat → Nat × Nat) → Nat → Nat → fo_St → Option ((Unit ⊕ Nat) × fo_A)) (hrecC : ∀ (q : Nat) (tg : Nat → Nat × Nat) (nx ns : Nat) (hq : tg q = (1, 17)) (st : fo_St) (hI : fo_I E tg nx) (hcN : nx ≤ cN) (hcS : ns ≤ cS) (ρ : Unit ⊕ Nat) (a1 : fo_A), recC q tg nx ns st = some (ρ, a1) → CA vlV l E yX20_clause (ws_ yX20_clause cX20_clause 3 none) (100) (6000) cN cS [.ref (eb E + q)] (tg, nx, ns, st) ρ a1) (tg0 : Nat → Nat × Nat) (nx0 ns0 : Nat) (hP1 : tg0 p1 = (1, 17)) (st0 : fo_St) (hI : fo_I E tg0 nx0) (hcN : nx0 ≤ cN) (hcS : ns0 ≤ cS) (ρZ : Int32 ⊕ Nat) (aZ : fo_A) (hf : fX0_reads cN cS G recC p1 tg0 nx0 ns0 st0 = some (ρZ, aZ)) : CA vlI l E yX0_reads (wsW_ yX0_reads cX0_reads 3 (some .boolean) [(0, 4, 7, 220)]) fr lo cN cS [.ref (eb E + 0), .ref (eb E + p1)] (tg0, nx0, ns0, st0) ρZ aZ := by
  refine feaW_z (a := (tg0, nx0, ns0, st0)) hm_X0_reads (Nat.le_of_ble_eq_true rfl) hI hcN hcS (fun p e R s m args below meth c Q hRf hRl X hnm htab hend ls hl hz => ?_)
  replace hRf : 102 ≤ R.frames := by rw [hRf]; exact hfr
  replace hRl : 6042 ≤ R.locals := by rw [hRl]; exact hlo
  have hR0 : 101 + 1 ≤ R.frames ∧ 8 + (1 + 11) + (6022) ≤ R.locals := ⟨by omega, by omega⟩
  have hx := X.1.1
  have hb := X.1.2.1
  have hl : lv_has ls 3 [(0, .ref (eb E + 0)), (1, .ref (eb E + p1))] := hl
  have hz : fo_Z E R s cN cS (tg0, nx0, ns0, st0) tg0 nx0 ns0 st0 s.heap [] := hz
  have hw := hz.1
  show W p l e R s m args below meth c s.heap [] (nx0 - nx0) (ns0 - ns0) Q (F0 m 0 ls [])
  unfold fX0_reads at hf
  generalize s.heap = H at hz hw ⊢
  generalize ([] : List Loc) = locs at hz hw ⊢
  refine lv_aload_n hx hb dX0_reads_0 rfl (lv_at hl 1 rfl) ?_
  have hf0 := hf
  clear hf
  refine fa_O (n := 0) (fr := 101) (lo := 6022) (val := vlV) (rest := []) (As := []) X hz (lw_O q756 q758 q757 q760 q757 q125 q761) q761 ⟨by decide, by decide, by decide +kernel⟩ hR0 fc_X20 hP1 rfl rfl hl.1 (Nat.le_of_ble_eq_true rfl) dX0_reads_1 (fun rQ aQ hQ => wX6_read_17 l E K V mi hSX G p1 (101) (6022) (Nat.le_refl _) (Nat.le_refl _) cN cS recC hrecC tg0 nx0 ns0 hP1 st0 hI hz.2.2.2.2.2.2.1 hz.2.2.2.2.2.2.2.2 rQ aQ hQ) hf0 (fun nX EX tgX nxX nsX stX H locs hTX hxX hz2 hf => ?_) (fun x1 tg2 nx2 ns2 sa2 H locs hext hz2 hf => ?_)
  · clear hf0
    have hP1 := hxX.t hI hP1
    have hz := hz2
    have hw := hz.1
    have hI := hz.2.1
    clear hz2 hxX
    have hf0 := ck_e hf
    clear hf
    obtain ⟨hq3, hf⟩ := hf0
    have hq3 := of_decide_eq_true hq3
    refine fh_catch (fo_Xw X) hw htab 0 (x := (0, 4, 7, 220)) rfl (by decide) (by decide) (by decide) fc_X8 q755 fn845 hq3 ?_
    refine lv_astore_n (lv' := [(2, .ref (eb E + nX)), (0, .ref (eb E + 0)), (1, .ref (eb E + p1))]) hx hb dX0_reads_7 rfl hl (by decide) rfl (fun ls hl => ?_)
    refine lv_aload_n hx hb dX0_reads_8 rfl (lv_at hl 1 rfl) ?_
    refine lv_aload_n hx hb dX0_reads_9 rfl (lv_at hl 0 rfl) ?_
    refine fo_getiN (fo_Xw X) hw fc_X8 hq3 (k := 6) (by decide) rfl fn857 dX0_reads_10 ?_
    have hf0 := hf
    clear hf
    refine fo_puti (fo_Xw X) hw fc_X0 (hx0 (hI.hx hX)) (k := 12) (by decide) rfl rfl q357 ⟨rfl, rfl⟩ dX0_reads_13 hf0 (fun st4 H locs hw hf => ?_)
    clear hf0
    have hz := hz.s hw
    refine lv_iconst (v := (0 : Int32)) hx hb dX0_reads_16 (by decide) ?_
    exact fda_z hend rfl hz hf dX0_reads_17
  clear hf0
  have hP1 := hext.t hI hP1
  have hz := hz2
  have hw := hz.1
  have hI := hz.2.1
  clear hz2 hext
  refine lv_goto (tgt := 18) hx hb dX0_reads_4 (by decide) ?_
  refine lv_aload_n hx hb dX0_reads_18 rfl (lv_at hl 0 rfl) ?_
  refine lv_iconst (v := (-1 : Int32)) hx hb dX0_reads_19 (by decide) ?_
  have hf0 := hf
  clear hf
  refine fo_puti (fo_Xw X) hw fc_X0 (hx0 (hI.hx hX)) (k := 12) (by decide) rfl rfl q357 ⟨rfl, rfl⟩ dX0_reads_20 hf0 (fun st5 H locs hw hf => ?_)
  clear hf0
  have hz := hz.s hw
  refine lv_iconst (v := (1 : Int32)) hx hb dX0_reads_23 (by decide) ?_
  exact fda_z hend rfl hz hf dX0_reads_24

/-- ForestRooms.orders -/
def fX0_orders (cN cS : Nat) (G : Nat) (recC : Nat → (Nat → Nat × Nat) → Nat → Nat → fo_St → Option ((Unit ⊕ Nat) × fo_A))  (tg0 : Nat → Nat × Nat) (nx0 ns0 : Nat) (st0 : fo_St) : Option ((Int32 ⊕ Nat) × fo_A) := lI_ (gi_ st0 0 11) (fun x1 => lt_ (si_ st0 0 11 (0 : Int32)) (fun st2 => lt_ (si_ st2 0 14 (-1 : Int32)) (fun st3 => ck_ (fo_bg nx0 ns0 8 cN cS) (aw_ (tu_ tg0 nx0 (1, 17), nx0 + 1, ns0 + 8, z0_ st3 nx0) (fun tg4 nx4 ns4 sa4 => ba_ (fX20_init cN cS nx0 29 x1 tg4 nx4 ns4 sa4) (fun x6 tg7 nx7 ns7 sa7 => ba_ (fX0_reads cN cS G recC nx0 tg7 nx7 ns7 sa7) (fun x8 tg9 nx9 ns9 sa9 => if ¬ x8 = 0 then bd_ (fX0_table sa9) (fun x10 st11 => ck_ (decide (x10 = 3)) (bv_ (fX2_takes 21 3 st11) (fun st13 => lp2_ (fun rec16 (x14 : Int32) (a15 : fo_A) => aw_ a15 (fun tg15 nx15 ns15 sa15 => if (gi_ sa15 0 15) ≤ x14 then lt_ (sc_ sa15 19 20 (0 : Int32).toNatClampNeg (0 : Int32).toNatClampNeg (16 : Int32).toNatClampNeg) (fun st17 => lI_ (gi_ st17 0 15) (fun x18 => lp4_ (fun rec23 (x19 : Int32) (x20 : Int32) (x21 : Int32) (a22 : fo_A) => aw_ a22 (fun tg22 nx22 ns22 sa22 => rn_ (gr_ sa22 nx0 7) (fun q24 => ck_ (decide (tg22 q24 = (1, 18))) (bd_ (fJ2_size q24 sa22) (fun x26 st27 => if x26 ≤ x19 then bd_ (fX0_done x21 st27) (fun x28 st29 => some (.inl x28, (tg22, nx22, ns22, st29))) else rn_ (gr_ st27 nx0 7) (fun q30 => ck_ (decide (tg22 q30 = (1, 18))) (bd_ (fJ2_get tg22 q30 x19 st27) (fun x32 st33 => ck_ (decide (tg22 x32 = (1, 15))) (lp4_ (fun rec39 (x35 : Int32) (x36 : Int32) (x37 : Int32) (a38 : fo_A) => aw_ a38 (fun tg38 nx38 ns38 sa38 => if (gi_ sa38 x32 3) ≤ x35 then rec23 (x19 + (1 : Int32)) x36 x37 (tg38, nx38, ns38, sa38) else bv_ (fX0_tellsOrder G x37 x36 sa38) (fun st41 => bd_ (fX18_isNow tg38 G x32 st41) (fun x42 st43 => if ¬ x42 = 0 then bd_ (fX0_runs tg38 G x32 st43) (fun x44 st45 => if 0 ≤ x44 then if ¬ (gi_ st45 x32 0) = (4 : Int32) then rec39 (x35 + (1 : Int32)) x36 (x37 + (1 : Int32)) (tg38, nx38, ns38, st45) else bd_ (fX0_table st45) (fun x46 st47 => ck_ (decide (x46 = 3)) (bd_ (fX0_lostRooms G 3 st47) (fun x48 st49 => rec39 (x35 + (1 : Int32)) x48 (x37 + (1 : Int32)) (tg38, nx38, ns38, st49)))) else bv_ (fX0_putsBack tg38 G x18 st45) (fun st51 => lt_ (si_ st51 0 14 x19) (fun st52 => bd_ (fX0_refuse (-3 : Int32) st52) (fun x53 st54 => some (.inl x53, (tg38, nx38, ns38, st54)))))) else rec39 (x35 + (1 : Int32)) x36 x37 (tg38, nx38, ns38, st43))))) G (0 : Int32) x20 x21 (tg22, nx22, ns22, st33)))))))))) G (0 : Int32) (-1 : Int32) (0 : Int32) (tg15, nx15, ns15, st17))) else ck_ (fo_in x14 16) (rt_ tg15 (gr_ sa15 18 x14.toNatClampNeg) (fun q55 => ck_ (fo_in x14 16) (rt_ tg15 (gr_ sa15 17 x14.toNatClampNeg) (fun q56 => bv_ (fX2_takes q55 q56 sa15) (fun st58 => rec16 (x14 + (1 : Int32)) (tg15, nx15, ns15, st58)))))))) G (0 : Int32) (tg9, nx9, ns9, st13)))) else bd_ (fX0_refuse (-6 : Int32) sa9) (fun x59 st60 => some (.inl x59, (tg9, nx9, ns9, st60)))) (fun nX tgX nxX nsX stX => some (.inr nX, (tgX, nxX, nsX, stX)))) (fun nX tgX nxX nsX stX => some (.inr nX, (tgX, nxX, nsX, stX))))))))
theorem hm_X0_orders : fo_M yX0_orders 0 := ⟨by decide +kernel, by decide +kernel, by decide +kernel, by decide +kernel⟩
set_option maxHeartbeats 1000000 in
theorem wX0_orders (l : Launch) (E : fo_E) (K V : Nat → Nat) (mi : Nat) (hSX : fo_SX E K V mi) (hX : fo_HX E) (G : Nat)  (fr lo : Nat) (hfr : 135 ≤ fr) (hlo : 7852 ≤ lo) (cN cS : Nat) (recC : Nat → (Nat → Nat × Nat) → Nat → Nat → fo_St → Option ((Unit ⊕ Nat) × fo_A)) (hrecC : ∀ (q : Nat) (tg : Nat → Nat × Nat) (nx ns : Nat) (hq : tg q = (1, 17)) (st : fo_St) (hI : fo_I E tg nx) (hcN : nx ≤ cN) (hcS : ns ≤ cS) (ρ : Unit ⊕ Nat) (a1 : fo_A), recC q tg nx ns st = some (ρ, a1) → CA vlV l E yX20_clause (ws_ yX20_clause cX20_clause 3 none) (100) (6000) cN cS [.ref (eb E + q)] (tg, nx, ns, st) ρ a1) (tg0 : Nat → Nat × Nat) (nx0 ns0 : Nat) (st0 : fo_St) (hI : fo_I E tg0 nx0) (hcN : nx0 ≤ cN) (hcS : ns0 ≤ cS) (ρZ : Int32 ⊕ Nat) (aZ : fo_A) (hf : fX0_orders cN cS G recC  tg0 nx0 ns0 st0 = some (ρZ, aZ)) : CA vlI l E yX0_orders (ws_ yX0_orders cX0_orders 10 (some .int)) fr lo cN cS [.ref (eb E + 0)] (tg0, nx0, ns0, st0) ρZ aZ := by
  refine fea_i (a := (tg0, nx0, ns0, st0)) hm_X0_orders (Nat.le_of_ble_eq_true rfl) hI hcN hcS (fun p e R s m args below meth c Q hRf hRl X hnm hend hxx ls hl hz => ?_)
  replace hRf : 135 ≤ R.frames := by rw [hRf]; exact hfr
  replace hRl : 7852 ≤ R.locals := by rw [hRl]; exact hlo
  have hR0 : 5 + 1 ≤ R.frames ∧ 8 + (3 + 11) + (121) ≤ R.locals := ⟨by omega, by omega⟩
  have hR1 : 102 + 1 ≤ R.frames ∧ 8 + (3 + 11) + (6042) ≤ R.locals := ⟨by omega, by omega⟩
  have hR2 : 0 + 1 ≤ R.frames ∧ 8 + (1 + 11) + (0) ≤ R.locals := ⟨by omega, by omega⟩
  have hR3 : 2 + 1 ≤ R.frames ∧ 8 + (2 + 11) + (51) ≤ R.locals := ⟨by omega, by omega⟩
  have hR4 : 0 + 1 ≤ R.frames ∧ 8 + (2 + 11) + (0) ≤ R.locals := ⟨by omega, by omega⟩
  have hR5 : 2 + 1 ≤ R.frames ∧ 8 + (2 + 11) + (43) ≤ R.locals := ⟨by omega, by omega⟩
  have hR6 : 2 + 1 ≤ R.frames ∧ 8 + (6 + 11) + (43) ≤ R.locals := ⟨by omega, by omega⟩
  have hR7 : 127 + 1 ≤ R.frames ∧ 8 + (3 + 11) + (7660) ≤ R.locals := ⟨by omega, by omega⟩
  have hR8 : 134 + 1 ≤ R.frames ∧ 8 + (4 + 11) + (7829) ≤ R.locals := ⟨by omega, by omega⟩
  have hR9 : 1 + 1 ≤ R.frames ∧ 8 + (4 + 11) + (22) ≤ R.locals := ⟨by omega, by omega⟩
  have hR10 : 3 + 1 ≤ R.frames ∧ 8 + (3 + 11) + (72) ≤ R.locals := ⟨by omega, by omega⟩
  have hx := X.1.1
  have hb := X.1.2.1
  have hl : lv_has ls 10 [(0, .ref (eb E + 0))] := hl
  have hz : fo_Z E R s cN cS (tg0, nx0, ns0, st0) tg0 nx0 ns0 st0 s.heap [] := hz
  have hw := hz.1
  show W p l e R s m args below meth c s.heap [] (nx0 - nx0) (ns0 - ns0) Q (F0 m 0 ls [])
  unfold fX0_orders at hf
  generalize s.heap = H at hz hw ⊢
  generalize ([] : List Loc) = locs at hz hw ⊢
  refine lv_aload_n hx hb dX0_orders_0 rfl (lv_at hl 0 rfl) ?_
  refine fo_geti (fo_Xw X) hw fc_X0 (hx0 (hI.hx hX)) (k := 11) (by decide) rfl q356 dX0_orders_1 ?_
  have hf0 := hf
  clear hf
  refine fo_tI hf0 (fun x1 hf => ?_)
  clear hf0
  refine lv_istore_n (lv' := [(1, .int x1), (0, .ref (eb E + 0))]) hx hb dX0_orders_4 rfl hl (by decide) rfl (fun ls hl => ?_)
  refine lv_aload_n hx hb dX0_orders_5 rfl (lv_at hl 1 rfl) ?_
  refine lv_iconst (v := (0 : Int32)) hx hb dX0_orders_6 (by decide) ?_
  have hf0 := hf
  clear hf
  refine fo_puti (fo_Xw X) hw fc_X0 (hx0 (hI.hx hX)) (k := 11) (by decide) rfl rfl q356 ⟨rfl, rfl⟩ dX0_orders_7 hf0 (fun st2 H locs hw hf => ?_)
  clear hf0
  have hz := hz.s hw
  refine lv_aload_n hx hb dX0_orders_10 rfl (lv_at hl 1 rfl) ?_
  refine lv_iconst (v := (-1 : Int32)) hx hb dX0_orders_11 (by decide) ?_
  have hf0 := hf
  clear hf
  refine fo_puti (fo_Xw X) hw fc_X0 (hx0 (hI.hx hX)) (k := 14) (by decide) rfl rfl q359 ⟨rfl, rfl⟩ dX0_orders_12 hf0 (fun st3 H locs hw hf => ?_)
  clear hf0
  have hz := hz.s hw
  have hf0 := hf
  clear hf
  refine fa_new X hz fc_X20 fd_X20 q1415 q1416 q145 dX0_orders_15 hf0 (fun tg4 nx4 ns4 sa4 H hext hq5 hz2 hf => ?_)
  clear hf0
  have hz := hz2
  have hw := hz.1
  have hI := hz.2.1
  clear hz2 hext
  refine lv_dup hx hb dX0_orders_18 rfl ?_
  refine lv_aload_n hx hb dX0_orders_19 rfl (lv_at hl 1 rfl) ?_
  refine fo_gets (fo_Xw X) hw fc_X0 (hx0 (hI.hx hX)) (k := 10) (d := 29) (n2 := 29) (by decide) rfl rfl q355 dX0_orders_20 ?_
  refine lv_iload_n hx hb dX0_orders_23 rfl (lv_at hl 0 rfl) ?_
  have hf0 := hf
  clear hf
  refine fa_I (fr := 5) (lo := 121) (val := vlV) (rest := [.ref (eb E + nx0)]) (As := [.ref (eb E + 29), .int x1]) X hz hm_X20_init q1419 q145 q1417 q1418 rfl hR0 rfl rfl hl.1 (Nat.le_of_ble_eq_true rfl) dX0_orders_24 (fun rQ aQ hQ => wX20_init_17 l E K V mi hSX nx0 29 x1 (5) (121) (Nat.le_refl _) (Nat.le_refl _) cN cS tg4 nx4 ns4 hq5 sa4 hI hz.2.2.2.2.2.2.1 hz.2.2.2.2.2.2.2.2 rQ aQ hQ) hf0 (fun nX EX tgX nxX nsX stX H locs hTX hxX hz2 hf => ?_) (fun x6 tg7 nx7 ns7 sa7 H locs hext hz2 hf => ?_)
  · exact fda_x hxx hTX hz2 hf
  clear hf0
  have hq5 := hext.t hI hq5
  have hz := hz2
  have hw := hz.1
  have hI := hz.2.1
  clear hz2 hext
  refine lv_astore_n (lv' := [(2, .ref (eb E + nx0)), (1, .int x1), (0, .ref (eb E + 0))]) hx hb dX0_orders_27 rfl hl (by decide) rfl (fun ls hl => ?_)
  refine lv_aload_n hx hb dX0_orders_28 rfl (lv_at hl 2 rfl) ?_
  refine lv_aload_n hx hb dX0_orders_29 rfl (lv_at hl 0 rfl) ?_
  have hf0 := hf
  clear hf
  refine fa_VX (fr := 102) (lo := 6042) (val := vlI) (rest := []) (As := [.ref (eb E + nx0)]) X hz hm_X0_reads (lw_VW q751 q753 qs12 q111 q754) hR1 fc_X0 rfl (hx0 (hI.hx hX)) rfl rfl hl.1 (Nat.le_of_ble_eq_true rfl) dX0_orders_30 (fun rQ aQ hQ => wX0_reads_17 l E K V mi hSX hX G nx0 (102) (6042) (Nat.le_refl _) (Nat.le_refl _) cN cS recC hrecC tg7 nx7 ns7 hq5 sa7 hI hz.2.2.2.2.2.2.1 hz.2.2.2.2.2.2.2.2 rQ aQ hQ) hf0 (fun nX EX tgX nxX nsX stX H locs hTX hxX hz2 hf => ?_) (fun x8 tg9 nx9 ns9 sa9 H locs hext hz2 hf => ?_)
  · exact fda_x hxx hTX hz2 hf
  clear hf0
  have hq5 := hext.t hI hq5
  have hz := hz2
  have hw := hz.1
  have hI := hz.2.1
  clear hz2 hext
  have hf0 := hf
  clear hf
  refine fb_zne (tgt := 43) hx hb dX0_orders_33 (by decide) hf0 (fun hf => ?_) (fun hf => ?_)
  · clear hf0
    refine lv_aload_n hx hb dX0_orders_43 rfl (lv_at hl 2 rfl) ?_
    refine fo_gets (fo_Xw X) hw fc_X0 (hx0 (hI.hx hX)) (k := 8) (d := 21) (n2 := 21) (by decide) rfl rfl q353 dX0_orders_44 ?_
    refine lv_aload_n hx hb dX0_orders_47 rfl (lv_at hl 2 rfl) ?_
    have hf0 := hf
    clear hf
    refine fcA_Vr (rm := { frames := 0, cells := 0, slots := 0, locals := 0 }) (rest := [.ref (eb E + 21)]) (As := []) (fo_Xw X) hw hz.lim0 hm_X0_table (lw_V q560 q562 qs6 q111 q563) ⟨rfl, rfl⟩ hR2 fc_X0 rfl (hx0 (hI.hx hX)) rfl rfl hl.1 (Nat.le_of_ble_eq_true rfl) dX0_orders_48 (fun rQ stQ hQ => wX0_table l (eW E tg9 nx9) (hI.hx hX) sa9 rQ stQ hQ) hf0 (fun x10 st11 H locs hw hf => ?_)
    clear hf0
    have hz := hz.s hw
    have hc0 := ck_e hf
    clear hf
    obtain ⟨hc, hf⟩ := hc0
    replace hc := of_decide_eq_true hc
    subst hc
    have hf0 := hf
    clear hf
    refine fcA_Vv (rm := { frames := 2, cells := 0, slots := 0, locals := 51 }) (rest := []) (As := [.ref (eb E + 3)]) (fo_Xw X) hw hz.lim0 hm_X2_takes (lw_V q1246 q449 q450 q113 q451) ⟨rfl, rfl⟩ hR3 fc_X2 rfl (hx21 (hI.hx hX)) rfl rfl hl.1 (Nat.le_of_ble_eq_true rfl) dX0_orders_51 (fun stQ hQ => wX2_takes l (eW E tg9 nx9)  21 3 (hxT21 (hI.hx hX)) (hxT3 (hI.hx hX)) st11 stQ hQ) hf0 (fun st13 H locs hw hf => ?_)
    clear hf0
    have hz := hz.s hw
    refine lv_iconst (v := (0 : Int32)) hx hb dX0_orders_54 (by decide) ?_
    refine lv_istore_n (lv' := [(3, .int (0 : Int32)), (2, .ref (eb E + nx0)), (1, .int x1), (0, .ref (eb E + 0))]) hx hb dX0_orders_55 rfl hl (by decide) rfl (fun ls hl => ?_)
    refine lp2_e (P := fun x14 a15 => ∀ (H : Heap) (locs : List Loc) (ls : Array Slot), a15.1 nx0 = (1, 17) → lv_has ls 10 [(3, .int x14), (2, .ref (eb E + nx0)), (0, .ref (eb E + 0))] → fo_Z E R s cN cS (tg0, nx0, ns0, st0) a15.1 a15.2.1 a15.2.2.1 a15.2.2.2 H locs → W p l e R s m args below meth c H locs (a15.2.1 - nx0) (a15.2.2.1 - ns0) Q (F0 m 56 ls [])) (fun rec16 hrec16 x14 a15 hf => ?_) G _ _ hf H locs ls hq5 (lv_sub hl [0, 1, 3] rfl) hz
    obtain ⟨tg15, nx15, ns15, sa15⟩ := a15
    intro H locs ls hq5 hl hz
    have hq5 : tg15 nx0 = (1, 17) := hq5
    have hz : fo_Z E R s cN cS (tg0, nx0, ns0, st0) tg15 nx15 ns15 sa15 H locs := hz
    show W p l e R s m args below meth c H locs (nx15 - nx0) (ns15 - ns0) Q (F0 m 56 ls [])
    replace hf := aw_u hf
    have hw := hz.1
    have hI := hz.2.1
    refine lv_iload_n hx hb dX0_orders_56 rfl (lv_at hl 0 rfl) ?_
    refine lv_aload_n hx hb dX0_orders_57 rfl (lv_at hl 2 rfl) ?_
    refine fo_geti (fo_Xw X) hw fc_X0 (hx0 (hI.hx hX)) (k := 15) (by decide) rfl q360 dX0_orders_58 ?_
    have hf0 := hf
    clear hf
    refine fb_ige (tgt := 85) hx hb dX0_orders_61 (by decide) hf0 (fun hf => ?_) (fun hf => ?_)
    · clear hf0
      refine lv_aload_n hx hb dX0_orders_85 rfl (lv_at hl 2 rfl) ?_
      refine fo_gets (fo_Xw X) hw fc_X0 (hx0 (hI.hx hX)) (k := 6) (d := 19) (n2 := 19) (by decide) rfl rfl q351 dX0_orders_86 ?_
      refine lv_iconst (v := (0 : Int32)) hx hb dX0_orders_89 (by decide) ?_
      refine lv_aload_n hx hb dX0_orders_90 rfl (lv_at hl 2 rfl) ?_
      refine fo_gets (fo_Xw X) hw fc_X0 (hx0 (hI.hx hX)) (k := 7) (d := 20) (n2 := 20) (by decide) rfl rfl q352 dX0_orders_91 ?_
      refine lv_iconst (v := (0 : Int32)) hx hb dX0_orders_94 (by decide) ?_
      refine lv_bipush (v := (16 : Int32)) hx hb dX0_orders_95 (by decide) ?_
      have hf0 := hf
      clear hf
      refine fo_copy (fo_Xw X) hw (hx19 (hI.hx hX)) (hx20 (hI.hx hX)) hl.1 q1350 q457 q456 q142 (by decide) (by exact Nat.le_trans (Nat.le_of_ble_eq_true rfl) hRf) (by exact Nat.le_trans (Nat.le_of_ble_eq_true rfl) hRl) dX0_orders_97 hf0 (fun st17 H locs hw hf => ?_)
      clear hf0
      have hz := hz.s hw
      refine lv_aload_n hx hb dX0_orders_100 rfl (lv_at hl 2 rfl) ?_
      refine fo_geti (fo_Xw X) hw fc_X0 (hx0 (hI.hx hX)) (k := 15) (by decide) rfl q360 dX0_orders_101 ?_
      have hf0 := hf
      clear hf
      refine fo_tI hf0 (fun x18 hf => ?_)
      clear hf0
      refine lv_istore_n (lv' := [(3, .int x18), (2, .ref (eb E + nx0)), (0, .ref (eb E + 0))]) hx hb dX0_orders_104 rfl hl (by decide) rfl (fun ls hl => ?_)
      refine lv_iconst (v := (0 : Int32)) hx hb dX0_orders_105 (by decide) ?_
      refine lv_istore (lv' := [(4, .int (0 : Int32)), (3, .int x18), (2, .ref (eb E + nx0)), (0, .ref (eb E + 0))]) hx hb dX0_orders_106 hl (by decide) rfl (fun ls hl => ?_)
      refine lv_iconst (v := (-1 : Int32)) hx hb dX0_orders_108 (by decide) ?_
      refine lv_istore (lv' := [(5, .int (-1 : Int32)), (4, .int (0 : Int32)), (3, .int x18), (2, .ref (eb E + nx0)), (0, .ref (eb E + 0))]) hx hb dX0_orders_109 hl (by decide) rfl (fun ls hl => ?_)
      refine lv_iconst (v := (0 : Int32)) hx hb dX0_orders_111 (by decide) ?_
      refine lv_istore (lv' := [(6, .int (0 : Int32)), (5, .int (-1 : Int32)), (4, .int (0 : Int32)), (3, .int x18), (2, .ref (eb E + nx0)), (0, .ref (eb E + 0))]) hx hb dX0_orders_112 hl (by decide) rfl (fun ls hl => ?_)
      refine lp4_e (P := fun x19 x20 x21 a22 => ∀ (H : Heap) (locs : List Loc) (ls : Array Slot), a22.1 nx0 = (1, 17) → lv_has ls 10 [(6, .int x19), (5, .int x20), (4, .int x21), (3, .int x18), (2, .ref (eb E + nx0)), (0, .ref (eb E + 0))] → fo_Z E R s cN cS (tg0, nx0, ns0, st0) a22.1 a22.2.1 a22.2.2.1 a22.2.2.2 H locs → W p l e R s m args below meth c H locs (a22.2.1 - nx0) (a22.2.2.1 - ns0) Q (F0 m 114 ls [])) (fun rec23 hrec23 x19 x20 x21 a22 hf => ?_) G _ _ _ _ hf H locs ls hq5 (lv_sub hl [0, 1, 2, 3, 4, 5] rfl) hz
      obtain ⟨tg22, nx22, ns22, sa22⟩ := a22
      intro H locs ls hq5 hl hz
      have hq5 : tg22 nx0 = (1, 17) := hq5
      have hz : fo_Z E R s cN cS (tg0, nx0, ns0, st0) tg22 nx22 ns22 sa22 H locs := hz
      show W p l e R s m args below meth c H locs (nx22 - nx0) (ns22 - ns0) Q (F0 m 114 ls [])
      replace hf := aw_u hf
      have hw := hz.1
      have hI := hz.2.1
      refine lv_iload hx hb dX0_orders_114 (lv_at hl 0 rfl) ?_
      refine lv_aload_n hx hb dX0_orders_116 rfl (lv_at hl 4 rfl) ?_
      have hf0 := hf
      clear hf
      refine fo_getrN (fo_Xw X) hw fc_X20 hq5 (k := 7) (by decide) rfl fn1424 dX0_orders_117 hf0 (fun q24 hf => ?_)
      clear hf0
      have hf0 := ck_e hf
      clear hf
      obtain ⟨hq25, hf⟩ := hf0
      have hq25 := of_decide_eq_true hq25
      have hf0 := hf
      clear hf
      refine fcA_Vi (rm := { frames := 0, cells := 0, slots := 0, locals := 0 }) (rest := [.int x19]) (As := []) (fo_Xw X) hw hz.lim0 hm_J2_size (lw_V q709 q607 q608 q116 q609) ⟨rfl, rfl⟩ hR2 fc_J2 rfl hq25 rfl rfl hl.1 (Nat.le_of_ble_eq_true rfl) dX0_orders_120 (fun rQ stQ hQ => wJ2_size l (eW E tg22 nx22)  q24 hq25 sa22 rQ stQ hQ) hf0 (fun x26 st27 H locs hw hf => ?_)
      clear hf0
      have hz := hz.s hw
      have hf0 := hf
      clear hf
      refine fb_ige (tgt := 246) hx hb dX0_orders_123 (by decide) hf0 (fun hf => ?_) (fun hf => ?_)
      · clear hf0
        refine lv_aload_n hx hb dX0_orders_246 rfl (lv_at hl 5 rfl) ?_
        refine lv_iload hx hb dX0_orders_247 (lv_at hl 2 rfl) ?_
        have hf0 := hf
        clear hf
        refine fcA_Vi (rm := { frames := 0, cells := 0, slots := 0, locals := 0 }) (rest := []) (As := [.int x21]) (fo_Xw X) hw hz.lim0 hm_X0_done (lw_V q530 q532 qs3 q111 q533) ⟨rfl, rfl⟩ hR4 fc_X0 rfl (hx0 (hI.hx hX)) rfl rfl hl.1 (Nat.le_of_ble_eq_true rfl) dX0_orders_249 (fun rQ stQ hQ => wX0_done l (eW E tg22 nx22) (hI.hx hX) x21 st27 rQ stQ hQ) hf0 (fun x28 st29 H locs hw hf => ?_)
        clear hf0
        have hz := hz.s hw
        exact fda_i hend hz hf dX0_orders_252
      clear hf0
      refine lv_aload_n hx hb dX0_orders_126 rfl (lv_at hl 4 rfl) ?_
      have hf0 := hf
      clear hf
      refine fo_getrN (fo_Xw X) hw fc_X20 hq5 (k := 7) (by decide) rfl fn1424 dX0_orders_127 hf0 (fun q30 hf => ?_)
      clear hf0
      refine lv_iload hx hb dX0_orders_130 (lv_at hl 0 rfl) ?_
      have hf0 := ck_e hf
      clear hf
      obtain ⟨hq31, hf⟩ := hf0
      have hq31 := of_decide_eq_true hq31
      have hf0 := hf
      clear hf
      refine fcA_Vr (rm := { frames := 2, cells := 0, slots := 0, locals := 43 }) (rest := []) (As := [.int x19]) (fo_Xw X) hw hz.lim0 hm_J2_get (lw_V q586 q587 q588 q116 q589) ⟨rfl, rfl⟩ hR5 fc_J2 rfl hq31 rfl rfl hl.1 (Nat.le_of_ble_eq_true rfl) dX0_orders_132 (fun rQ stQ hQ => wJ2_get l (eW E tg22 nx22)  q30 x19 hq31 st27 rQ stQ hQ) hf0 (fun x32 st33 H locs hw hf => ?_)
      clear hf0
      have hz := hz.s hw
      have hf0 := ck_e hf
      clear hf
      obtain ⟨hq34, hf⟩ := hf0
      have hq34 := of_decide_eq_true hq34
      refine fo_cast (fo_Xw X) hw fc_X18 hq34 q1435 dX0_orders_135 ?_
      refine lv_astore (lv' := [(7, .ref (eb E + x32)), (6, .int x19), (5, .int x20), (4, .int x21), (3, .int x18), (2, .ref (eb E + nx0)), (0, .ref (eb E + 0))]) hx hb dX0_orders_138 hl (by decide) rfl (fun ls hl => ?_)
      refine lv_iconst (v := (0 : Int32)) hx hb dX0_orders_140 (by decide) ?_
      refine lv_istore (lv' := [(8, .int (0 : Int32)), (7, .ref (eb E + x32)), (6, .int x19), (5, .int x20), (4, .int x21), (3, .int x18), (2, .ref (eb E + nx0)), (0, .ref (eb E + 0))]) hx hb dX0_orders_141 hl (by decide) rfl (fun ls hl => ?_)
      refine lp4_e (P := fun x35 x36 x37 a38 => ∀ (H : Heap) (locs : List Loc) (ls : Array Slot), a38.1 nx0 = (1, 17) → a38.1 q24 = (1, 18) → a38.1 q30 = (1, 18) → a38.1 x32 = (1, 15) → lv_has ls 10 [(8, .int x35), (7, .ref (eb E + x32)), (6, .int x19), (5, .int x36), (4, .int x37), (3, .int x18), (2, .ref (eb E + nx0)), (0, .ref (eb E + 0))] → fo_Z E R s cN cS (tg0, nx0, ns0, st0) a38.1 a38.2.1 a38.2.2.1 a38.2.2.2 H locs → W p l e R s m args below meth c H locs (a38.2.1 - nx0) (a38.2.2.1 - ns0) Q (F0 m 143 ls [])) (fun rec39 hrec39 x35 x36 x37 a38 hf => ?_) G _ _ _ _ hf H locs ls hq5 hq25 hq31 hq34 (lv_sub hl [0, 1, 2, 3, 4, 5, 6, 7] rfl) hz
      obtain ⟨tg38, nx38, ns38, sa38⟩ := a38
      intro H locs ls hq5 hq25 hq31 hq34 hl hz
      have hq5 : tg38 nx0 = (1, 17) := hq5
      have hq25 : tg38 q24 = (1, 18) := hq25
      have hq31 : tg38 q30 = (1, 18) := hq31
      have hq34 : tg38 x32 = (1, 15) := hq34
      have hz : fo_Z E R s cN cS (tg0, nx0, ns0, st0) tg38 nx38 ns38 sa38 H locs := hz
      show W p l e R s m args below meth c H locs (nx38 - nx0) (ns38 - ns0) Q (F0 m 143 ls [])
      replace hf := aw_u hf
      have hw := hz.1
      have hI := hz.2.1
      refine lv_iload hx hb dX0_orders_143 (lv_at hl 0 rfl) ?_
      refine lv_aload hx hb dX0_orders_145 (lv_at hl 1 rfl) ?_
      refine fo_getiN (fo_Xw X) hw fc_X18 hq34 (k := 3) (by decide) rfl fn1148 dX0_orders_147 ?_
      have hf0 := hf
      clear hf
      refine fb_ige (tgt := 240) hx hb dX0_orders_150 (by decide) hf0 (fun hf => ?_) (fun hf => ?_)
      · clear hf0
        refine fb_iinc (v := (1 : Int32)) (lv' := [(6, .int (x19 + (1 : Int32))), (8, .int x35), (7, .ref (eb E + x32)), (5, .int x36), (4, .int x37), (3, .int x18), (2, .ref (eb E + nx0)), (0, .ref (eb E + 0))]) hx hb dX0_orders_240 hl (k := 2) rfl (by decide) (by decide) rfl (fun ls hl => ?_)
        refine lv_goto (tgt := 114) hx hb dX0_orders_243 (by decide) ?_
        exact hrec23 _ _ _ _ hf _ _ _ hq5 (lv_sub hl [0, 3, 4, 5, 6, 7] rfl) hz
      clear hf0
      refine lv_aload_n hx hb dX0_orders_153 rfl (lv_at hl 7 rfl) ?_
      refine lv_iload hx hb dX0_orders_154 (lv_at hl 4 rfl) ?_
      refine lv_iload hx hb dX0_orders_156 (lv_at hl 3 rfl) ?_
      have hf0 := hf
      clear hf
      refine fcA_Vv (rm := { frames := 2, cells := 0, slots := 0, locals := 43 }) (rest := []) (As := [.int x37, .int x36]) (fo_Xw X) hw hz.lim0 hm_X0_tellsOrder (lw_V q1436 q1438 qs34 q111 q1439) ⟨rfl, rfl⟩ hR6 fc_X0 rfl (hx0 (hI.hx hX)) rfl rfl hl.1 (Nat.le_of_ble_eq_true rfl) dX0_orders_158 (fun stQ hQ => wX0_tellsOrder l (eW E tg38 nx38) (hI.hx hX) G x37 x36 sa38 stQ hQ) hf0 (fun st41 H locs hw hf => ?_)
      clear hf0
      have hz := hz.s hw
      refine lv_aload hx hb dX0_orders_161 (lv_at hl 1 rfl) ?_
      refine lv_aload_n hx hb dX0_orders_163 rfl (lv_at hl 7 rfl) ?_
      refine fo_gets (fo_Xw X) hw fc_X0 (hx0 (hI.hx hX)) (k := 16) (d := 30) (n2 := 30) (by decide) rfl rfl q361 dX0_orders_164 ?_
      have hf0 := hf
      clear hf
      refine fcA_ViW (rm := { frames := 127, cells := 0, slots := 0, locals := 7660 }) (rest := []) (As := [.ref (eb E + 30)]) (fo_Xw X) hw hz.lim0 hm_X18_isNow (lw_VW q1445 q1446 q1447 q143 q1448) ⟨rfl, rfl⟩ hR7 fc_X18 rfl hq34 rfl rfl hl.1 (Nat.le_of_ble_eq_true rfl) dX0_orders_167 (fun rQ stQ hQ => wX18_isNow l (eW E tg38 nx38) (hI.hx hX) G x32 hq34 st41 rQ stQ hQ) hf0 (fun x42 st43 H locs hw hf => ?_)
      clear hf0
      have hz := hz.s hw
      have hf0 := hf
      clear hf
      refine fb_zne (tgt := 176) hx hb dX0_orders_170 (by decide) hf0 (fun hf => ?_) (fun hf => ?_)
      · clear hf0
        refine lv_aload_n hx hb dX0_orders_176 rfl (lv_at hl 7 rfl) ?_
        refine lv_aload hx hb dX0_orders_177 (lv_at hl 1 rfl) ?_
        have hf0 := hf
        clear hf
        refine fcA_Vi (rm := { frames := 134, cells := 0, slots := 0, locals := 7829 }) (rest := []) (As := [.ref (eb E + x32)]) (fo_Xw X) hw hz.lim0 hm_X0_runs (lw_V q1451 q1453 qs35 q111 q1454) ⟨rfl, rfl⟩ hR8 fc_X0 rfl (hx0 (hI.hx hX)) rfl rfl hl.1 (Nat.le_of_ble_eq_true rfl) dX0_orders_179 (fun rQ stQ hQ => wX0_runs l (eW E tg38 nx38) (hI.hx hX) G x32 st43 rQ stQ hQ) hf0 (fun x44 st45 H locs hw hf => ?_)
        clear hf0
        have hz := hz.s hw
        refine lv_istore (lv' := [(9, .int x44), (8, .int x35), (7, .ref (eb E + x32)), (6, .int x19), (5, .int x36), (4, .int x37), (3, .int x18), (2, .ref (eb E + nx0)), (0, .ref (eb E + 0))]) hx hb dX0_orders_182 hl (by decide) rfl (fun ls hl => ?_)
        refine lv_iload hx hb dX0_orders_184 (lv_at hl 0 rfl) ?_
        have hf0 := hf
        clear hf
        refine fb_zge (tgt := 207) hx hb dX0_orders_186 (by decide) hf0 (fun hf => ?_) (fun hf => ?_)
        · clear hf0
          refine lv_aload hx hb dX0_orders_207 (lv_at hl 2 rfl) ?_
          refine fo_getiN (fo_Xw X) hw fc_X18 hq34 (k := 0) (by decide) rfl fn1141 dX0_orders_209 ?_
          refine lv_iconst (v := (4 : Int32)) hx hb dX0_orders_212 (by decide) ?_
          have hf0 := hf
          clear hf
          refine fb_ine (tgt := 227) hx hb dX0_orders_213 (by decide) hf0 (fun hf => ?_) (fun hf => ?_)
          · clear hf0
            refine lv_iload hx hb dX0_orders_227 (lv_at hl 4 rfl) ?_
            refine lv_istore (lv' := [(5, .int x36), (9, .int x44), (8, .int x35), (7, .ref (eb E + x32)), (6, .int x19), (4, .int x37), (3, .int x18), (2, .ref (eb E + nx0)), (0, .ref (eb E + 0))]) hx hb dX0_orders_229 hl (by decide) rfl (fun ls hl => ?_)
            refine fb_iinc (v := (1 : Int32)) (lv' := [(4, .int (x37 + (1 : Int32))), (5, .int x36), (9, .int x44), (8, .int x35), (7, .ref (eb E + x32)), (6, .int x19), (3, .int x18), (2, .ref (eb E + nx0)), (0, .ref (eb E + 0))]) hx hb dX0_orders_231 hl (k := 5) rfl (by decide) (by decide) rfl (fun ls hl => ?_)
            refine fb_iinc (v := (1 : Int32)) (lv' := [(8, .int (x35 + (1 : Int32))), (4, .int (x37 + (1 : Int32))), (5, .int x36), (9, .int x44), (7, .ref (eb E + x32)), (6, .int x19), (3, .int x18), (2, .ref (eb E + nx0)), (0, .ref (eb E + 0))]) hx hb dX0_orders_234 hl (k := 3) rfl (by decide) (by decide) rfl (fun ls hl => ?_)
            refine lv_goto (tgt := 143) hx hb dX0_orders_237 (by decide) ?_
            exact hrec39 _ _ _ _ hf _ _ _ hq5 hq25 hq31 hq34 (lv_sub hl [0, 4, 5, 2, 1, 6, 7, 8] rfl) hz
          clear hf0
          refine lv_aload_n hx hb dX0_orders_216 rfl (lv_at hl 8 rfl) ?_
          refine lv_aload_n hx hb dX0_orders_217 rfl (lv_at hl 8 rfl) ?_
          have hf0 := hf
          clear hf
          refine fcA_Vr (rm := { frames := 0, cells := 0, slots := 0, locals := 0 }) (rest := [.ref (eb E + 0)]) (As := []) (fo_Xw X) hw hz.lim0 hm_X0_table (lw_V q560 q562 qs6 q111 q563) ⟨rfl, rfl⟩ hR2 fc_X0 rfl (hx0 (hI.hx hX)) rfl rfl hl.1 (Nat.le_of_ble_eq_true rfl) dX0_orders_218 (fun rQ stQ hQ => wX0_table l (eW E tg38 nx38) (hI.hx hX) st45 rQ stQ hQ) hf0 (fun x46 st47 H locs hw hf => ?_)
          clear hf0
          have hz := hz.s hw
          have hc0 := ck_e hf
          clear hf
          obtain ⟨hc, hf⟩ := hc0
          replace hc := of_decide_eq_true hc
          subst hc
          have hf0 := hf
          clear hf
          refine fcA_Vi (rm := { frames := 1, cells := 0, slots := 0, locals := 22 }) (rest := []) (As := [.ref (eb E + 3)]) (fo_Xw X) hw hz.lim0 hm_X0_lostRooms (lw_V q1320 q1322 qs27 q111 q1323) ⟨rfl, rfl⟩ hR9 fc_X0 rfl (hx0 (hI.hx hX)) rfl rfl hl.1 (Nat.le_of_ble_eq_true rfl) dX0_orders_221 (fun rQ stQ hQ => wX0_lostRooms l (eW E tg38 nx38) (hI.hx hX) G 3 (hxT3 (hI.hx hX)) st47 rQ stQ hQ) hf0 (fun x48 st49 H locs hw hf => ?_)
          clear hf0
          have hz := hz.s hw
          refine lv_goto (tgt := 229) hx hb dX0_orders_224 (by decide) ?_
          refine lv_istore (lv' := [(5, .int x48), (9, .int x44), (8, .int x35), (7, .ref (eb E + x32)), (6, .int x19), (4, .int x37), (3, .int x18), (2, .ref (eb E + nx0)), (0, .ref (eb E + 0))]) hx hb dX0_orders_229 hl (by decide) rfl (fun ls hl => ?_)
          refine fb_iinc (v := (1 : Int32)) (lv' := [(4, .int (x37 + (1 : Int32))), (5, .int x48), (9, .int x44), (8, .int x35), (7, .ref (eb E + x32)), (6, .int x19), (3, .int x18), (2, .ref (eb E + nx0)), (0, .ref (eb E + 0))]) hx hb dX0_orders_231 hl (k := 5) rfl (by decide) (by decide) rfl (fun ls hl => ?_)
          refine fb_iinc (v := (1 : Int32)) (lv' := [(8, .int (x35 + (1 : Int32))), (4, .int (x37 + (1 : Int32))), (5, .int x48), (9, .int x44), (7, .ref (eb E + x32)), (6, .int x19), (3, .int x18), (2, .ref (eb E + nx0)), (0, .ref (eb E + 0))]) hx hb dX0_orders_234 hl (k := 3) rfl (by decide) (by decide) rfl (fun ls hl => ?_)
          refine lv_goto (tgt := 143) hx hb dX0_orders_237 (by decide) ?_
          exact hrec39 _ _ _ _ hf _ _ _ hq5 hq25 hq31 hq34 (lv_sub hl [0, 4, 5, 2, 1, 6, 7, 8] rfl) hz
        clear hf0
        refine lv_aload_n hx hb dX0_orders_189 rfl (lv_at hl 8 rfl) ?_
        refine lv_iload_n hx hb dX0_orders_190 rfl (lv_at hl 6 rfl) ?_
        have hf0 := hf
        clear hf
        refine fcA_Vv (rm := { frames := 3, cells := 0, slots := 0, locals := 72 }) (rest := []) (As := [.int x18]) (fo_Xw X) hw hz.lim0 hm_X0_putsBack (lw_V q1460 q1462 qs36 q111 q1463) ⟨rfl, rfl⟩ hR10 fc_X0 rfl (hx0 (hI.hx hX)) rfl rfl hl.1 (Nat.le_of_ble_eq_true rfl) dX0_orders_191 (fun stQ hQ => wX0_putsBack l (eW E tg38 nx38) (hI.hx hX) G x18 st45 stQ hQ) hf0 (fun st51 H locs hw hf => ?_)
        clear hf0
        have hz := hz.s hw
        refine lv_aload_n hx hb dX0_orders_194 rfl (lv_at hl 8 rfl) ?_
        refine lv_iload hx hb dX0_orders_195 (lv_at hl 3 rfl) ?_
        have hf0 := hf
        clear hf
        refine fo_puti (fo_Xw X) hw fc_X0 (hx0 (hI.hx hX)) (k := 14) (by decide) rfl rfl q359 ⟨rfl, rfl⟩ dX0_orders_197 hf0 (fun st52 H locs hw hf => ?_)
        clear hf0
        have hz := hz.s hw
        refine lv_aload_n hx hb dX0_orders_200 rfl (lv_at hl 8 rfl) ?_
        refine lv_bipush (v := (-3 : Int32)) hx hb dX0_orders_201 (by decide) ?_
        have hf0 := hf
        clear hf
        refine fcA_Vi (rm := { frames := 0, cells := 0, slots := 0, locals := 0 }) (rest := []) (As := [.int (-3 : Int32)]) (fo_Xw X) hw hz.lim0 hm_X0_refuse (lw_V q440 q442 qs1 q111 q443) ⟨rfl, rfl⟩ hR4 fc_X0 rfl (hx0 (hI.hx hX)) rfl rfl hl.1 (Nat.le_of_ble_eq_true rfl) dX0_orders_203 (fun rQ stQ hQ => wX0_refuse l (eW E tg38 nx38) (hI.hx hX) (-3 : Int32) st52 rQ stQ hQ) hf0 (fun x53 st54 H locs hw hf => ?_)
        clear hf0
        have hz := hz.s hw
        exact fda_i hend hz hf dX0_orders_206
      clear hf0
      refine lv_goto (tgt := 234) hx hb dX0_orders_173 (by decide) ?_
      refine fb_iinc (v := (1 : Int32)) (lv' := [(8, .int (x35 + (1 : Int32))), (7, .ref (eb E + x32)), (6, .int x19), (5, .int x36), (4, .int x37), (3, .int x18), (2, .ref (eb E + nx0)), (0, .ref (eb E + 0))]) hx hb dX0_orders_234 hl (k := 0) rfl (by decide) (by decide) rfl (fun ls hl => ?_)
      refine lv_goto (tgt := 143) hx hb dX0_orders_237 (by decide) ?_
      exact hrec39 _ _ _ _ hf _ _ _ hq5 hq25 hq31 hq34 (lv_sub hl [0, 1, 2, 3, 4, 5, 6, 7] rfl) hz
    clear hf0
    refine lv_aload_n hx hb dX0_orders_64 rfl (lv_at hl 2 rfl) ?_
    refine fo_gets (fo_Xw X) hw fc_X0 (hx0 (hI.hx hX)) (k := 5) (d := 18) (n2 := 18) (by decide) rfl rfl q350 dX0_orders_65 ?_
    refine lv_iload_n hx hb dX0_orders_68 rfl (lv_at hl 0 rfl) ?_
    have hf0 := hf
    clear hf
    refine fo_aldt (fo_Xw X) hw (hx18 (hI.hx hX)) dX0_orders_69 hf0 (fun q55 hT_q55 hf => ?_)
    clear hf0
    refine lv_aload_n hx hb dX0_orders_70 rfl (lv_at hl 2 rfl) ?_
    refine fo_gets (fo_Xw X) hw fc_X0 (hx0 (hI.hx hX)) (k := 4) (d := 17) (n2 := 17) (by decide) rfl rfl q349 dX0_orders_71 ?_
    refine lv_iload_n hx hb dX0_orders_74 rfl (lv_at hl 0 rfl) ?_
    have hf0 := hf
    clear hf
    refine fo_aldt (fo_Xw X) hw (hx17 (hI.hx hX)) dX0_orders_75 hf0 (fun q56 hT_q56 hf => ?_)
    clear hf0
    have hf0 := hf
    clear hf
    refine fcA_Vv (rm := { frames := 2, cells := 0, slots := 0, locals := 51 }) (rest := []) (As := [.ref (eb E + q56)]) (fo_Xw X) hw hz.lim0 hm_X2_takes (lw_V q1246 q449 q450 q113 q451) ⟨rfl, rfl⟩ hR3 fc_X2 rfl hT_q55.1 rfl rfl hl.1 (Nat.le_of_ble_eq_true rfl) dX0_orders_76 (fun stQ hQ => wX2_takes l (eW E tg15 nx15)  q55 q56 hT_q55 hT_q56 sa15 stQ hQ) hf0 (fun st58 H locs hw hf => ?_)
    clear hf0
    have hz := hz.s hw
    refine fb_iinc (v := (1 : Int32)) (lv' := [(3, .int (x14 + (1 : Int32))), (2, .ref (eb E + nx0)), (0, .ref (eb E + 0))]) hx hb dX0_orders_79 hl (k := 0) rfl (by decide) (by decide) rfl (fun ls hl => ?_)
    refine lv_goto (tgt := 56) hx hb dX0_orders_82 (by decide) ?_
    exact hrec16 _ _ hf _ _ _ hq5 (lv_sub hl [0, 1, 2] rfl) hz
  clear hf0
  refine lv_aload_n hx hb dX0_orders_36 rfl (lv_at hl 2 rfl) ?_
  refine lv_bipush (v := (-6 : Int32)) hx hb dX0_orders_37 (by decide) ?_
  have hf0 := hf
  clear hf
  refine fcA_Vi (rm := { frames := 0, cells := 0, slots := 0, locals := 0 }) (rest := []) (As := [.int (-6 : Int32)]) (fo_Xw X) hw hz.lim0 hm_X0_refuse (lw_V q440 q442 qs1 q111 q443) ⟨rfl, rfl⟩ hR4 fc_X0 rfl (hx0 (hI.hx hX)) rfl rfl hl.1 (Nat.le_of_ble_eq_true rfl) dX0_orders_39 (fun rQ stQ hQ => wX0_refuse l (eW E tg9 nx9) (hI.hx hX) (-6 : Int32) sa9 rQ stQ hQ) hf0 (fun x59 st60 H locs hw hf => ?_)
  clear hf0
  have hz := hz.s hw
  exact fda_i hend hz hf dX0_orders_42

