/-! walks of methods that make cells or throw, printed by genA.py -/
set_option maxRecDepth 100000
/-- ForestRooms.<init> -/
def fX0_init (cN cS : Nat) (G : Nat) (o : Nat) (tg0 : Nat → Nat × Nat) (nx0 ns0 : Nat) (st0 : fo_St) : Option ((Unit ⊕ Nat) × fo_A) := ck_ (fo_bg nx0 ns0 7 cN cS) (aw_ (tu_ tg0 nx0 (2, 7), nx0 + 1, ns0 + 7, z0_ st0 nx0) (fun tg1 nx1 ns1 sa1 => lt_ (sr_ sa1 o 1 (some nx0)) (fun st3 => ck_ (fo_bg nx1 ns1 12 cN cS) (aw_ (tu_ tg1 nx1 (1, 20), nx1 + 1, ns1 + 12, z0_ st3 nx1) (fun tg4 nx4 ns4 sa4 => ba_ (fX1_init cN cS G nx1 tg4 nx4 ns4 sa4) (fun x6 tg7 nx7 ns7 sa7 => lt_ (sr_ sa7 o 2 (some nx1)) (fun st8 => ck_ (fo_bg nx7 ns7 2 cN cS) (aw_ (tu_ tg7 nx7 (7, 2), nx7 + 1, ns7 + 2, z0_ st8 nx7) (fun tg9 nx9 ns9 sa9 => lt_ (sr_ sa9 o 3 (some nx7)) (fun st11 => ck_ (fo_bg nx9 ns9 16 cN cS) (aw_ (tu_ tg9 nx9 (8, 16), nx9 + 1, ns9 + 16, z0_ st11 nx9) (fun tg12 nx12 ns12 sa12 => lt_ (sr_ sa12 o 4 (some nx9)) (fun st14 => ck_ (fo_bg nx12 ns12 16 cN cS) (aw_ (tu_ tg12 nx12 (8, 16), nx12 + 1, ns12 + 16, z0_ st14 nx12) (fun tg15 nx15 ns15 sa15 => lt_ (sr_ sa15 o 5 (some nx12)) (fun st17 => ck_ (fo_bg nx15 ns15 16 cN cS) (aw_ (tu_ tg15 nx15 (2, 16), nx15 + 1, ns15 + 16, z0_ st17 nx15) (fun tg18 nx18 ns18 sa18 => lt_ (sr_ sa18 o 6 (some nx15)) (fun st20 => ck_ (fo_bg nx18 ns18 16 cN cS) (aw_ (tu_ tg18 nx18 (2, 16), nx18 + 1, ns18 + 16, z0_ st20 nx18) (fun tg21 nx21 ns21 sa21 => lt_ (sr_ sa21 o 7 (some nx18)) (fun st23 => ck_ (fo_bg nx21 ns21 4 cN cS) (aw_ (tu_ tg21 nx21 (1, 21), nx21 + 1, ns21 + 4, z0_ st23 nx21) (fun tg24 nx24 ns24 sa24 => ba_ (fX2_init cN cS G nx21 tg24 nx24 ns24 sa24) (fun x26 tg27 nx27 ns27 sa27 => lt_ (sr_ sa27 o 8 (some nx21)) (fun st28 => ck_ (fo_bg nx27 ns27 4 cN cS) (aw_ (tu_ tg27 nx27 (1, 21), nx27 + 1, ns27 + 4, z0_ st28 nx27) (fun tg29 nx29 ns29 sa29 => ba_ (fX2_init cN cS G nx27 tg29 nx29 ns29 sa29) (fun x31 tg32 nx32 ns32 sa32 => lt_ (sr_ sa32 o 9 (some nx27)) (fun st33 => ck_ (fo_bg nx32 ns32 400 cN cS) (aw_ (tu_ tg32 nx32 (3, 400), nx32 + 1, ns32 + 400, z0_ st33 nx32) (fun tg34 nx34 ns34 sa34 => lt_ (sr_ sa34 o 10 (some nx32)) (fun st36 => lt_ (si_ st36 o 12 (-1 : Int32)) (fun st37 => lt_ (si_ st37 o 14 (-1 : Int32)) (fun st38 => ck_ (fo_bg nx34 ns34 2 cN cS) (aw_ (tu_ tg34 nx34 (1, 22), nx34 + 1, ns34 + 2, z0_ st38 nx34) (fun tg39 nx39 ns39 sa39 => ba_ (fX3_init cN cS nx34 tg39 nx39 ns39 sa39) (fun x41 tg42 nx42 ns42 sa42 => lt_ (sr_ sa42 o 16 (some nx34)) (fun st43 => ck_ (fo_bg nx42 ns42 16 cN cS) (aw_ (tu_ tg42 nx42 (2, 16), nx42 + 1, ns42 + 16, z0_ st43 nx42) (fun tg44 nx44 ns44 sa44 => lt_ (sr_ sa44 o 17 (some nx42)) (fun st46 => ck_ (fo_bg nx44 ns44 16 cN cS) (aw_ (tu_ tg44 nx44 (2, 16), nx44 + 1, ns44 + 16, z0_ st46 nx44) (fun tg47 nx47 ns47 sa47 => lt_ (sr_ sa47 o 18 (some nx44)) (fun st49 => ck_ (fo_bg nx47 ns47 96 cN cS) (aw_ (tu_ tg47 nx47 (2, 96), nx47 + 1, ns47 + 96, z0_ st49 nx47) (fun tg50 nx50 ns50 sa50 => lt_ (sr_ sa50 o 19 (some nx47)) (fun st52 => ck_ (fo_bg nx50 ns50 64 cN cS) (aw_ (tu_ tg50 nx50 (2, 64), nx50 + 1, ns50 + 64, z0_ st52 nx50) (fun tg53 nx53 ns53 sa53 => lt_ (sr_ sa53 o 20 (some nx50)) (fun st55 => ck_ (fo_bg nx53 ns53 64 cN cS) (aw_ (tu_ tg53 nx53 (2, 64), nx53 + 1, ns53 + 64, z0_ st55 nx53) (fun tg56 nx56 ns56 sa56 => lt_ (sr_ sa56 o 21 (some nx53)) (fun st58 => ck_ (fo_bg nx56 ns56 96 cN cS) (aw_ (tu_ tg56 nx56 (2, 96), nx56 + 1, ns56 + 96, z0_ st58 nx56) (fun tg59 nx59 ns59 sa59 => lt_ (sr_ sa59 o 22 (some nx56)) (fun st61 => ck_ (fo_bg nx59 ns59 112 cN cS) (aw_ (tu_ tg59 nx59 (2, 112), nx59 + 1, ns59 + 112, z0_ st61 nx59) (fun tg62 nx62 ns62 sa62 => lt_ (sr_ sa62 o 23 (some nx59)) (fun st64 => ck_ (fo_bg nx62 ns62 16 cN cS) (aw_ (tu_ tg62 nx62 (2, 16), nx62 + 1, ns62 + 16, z0_ st64 nx62) (fun tg65 nx65 ns65 sa65 => lt_ (sr_ sa65 o 24 (some nx62)) (fun st67 => ck_ (fo_bg nx65 ns65 16 cN cS) (aw_ (tu_ tg65 nx65 (5, 16), nx65 + 1, ns65 + 16, z0_ st67 nx65) (fun tg68 nx68 ns68 sa68 => lt_ (sr_ sa68 o 25 (some nx65)) (fun st70 => ck_ (fo_bg nx68 ns68 4 cN cS) (aw_ (tu_ tg68 nx68 (1, 21), nx68 + 1, ns68 + 4, z0_ st70 nx68) (fun tg71 nx71 ns71 sa71 => ba_ (fX2_init cN cS G nx68 tg71 nx71 ns71 sa71) (fun x73 tg74 nx74 ns74 sa74 => lt_ (sr_ sa74 o 26 (some nx68)) (fun st75 => lp2_ (fun rec78 (x76 : Int32) (a77 : fo_A) => aw_ a77 (fun tg77 nx77 ns77 sa77 => if (16 : Int32) ≤ x76 then some (.inl (), (tg77, nx77, ns77, sa77)) else rn_ (gr_ sa77 o 4) (fun q79 => ck_ (decide (tg77 q79 = (8, 16))) (ck_ (fo_bg nx77 ns77 4 cN cS) (aw_ (tu_ tg77 nx77 (1, 21), nx77 + 1, ns77 + 4, z0_ sa77 nx77) (fun tg81 nx81 ns81 sa81 => ba_ (fX2_init cN cS G nx77 tg81 nx81 ns81 sa81) (fun x83 tg84 nx84 ns84 sa84 => ck_ (fo_in x76 16) (lt_ (sr_ sa84 q79 x76.toNatClampNeg (some nx77)) (fun st85 => rn_ (gr_ st85 o 5) (fun q86 => ck_ (decide (tg84 q86 = (8, 16))) (ck_ (fo_bg nx84 ns84 4 cN cS) (aw_ (tu_ tg84 nx84 (1, 21), nx84 + 1, ns84 + 4, z0_ st85 nx84) (fun tg88 nx88 ns88 sa88 => ba_ (fX2_init cN cS G nx84 tg88 nx88 ns88 sa88) (fun x90 tg91 nx91 ns91 sa91 => ck_ (fo_in x76 16) (lt_ (sr_ sa91 q86 x76.toNatClampNeg (some nx84)) (fun st92 => rec78 (x76 + (1 : Int32)) (tg91, nx91, ns91, st92)))) (fun nX tgX nxX nsX stX => some (.inr nX, (tgX, nxX, nsX, stX)))))))))) (fun nX tgX nxX nsX stX => some (.inr nX, (tgX, nxX, nsX, stX))))))))) G (0 : Int32) (tg74, nx74, ns74, st75))) (fun nX tgX nxX nsX stX => some (.inr nX, (tgX, nxX, nsX, stX)))))))))))))))))))))))))))))))))) (fun nX tgX nxX nsX stX => some (.inr nX, (tgX, nxX, nsX, stX)))))))))))) (fun nX tgX nxX nsX stX => some (.inr nX, (tgX, nxX, nsX, stX))))))) (fun nX tgX nxX nsX stX => some (.inr nX, (tgX, nxX, nsX, stX)))))))))))))))))))))) (fun nX tgX nxX nsX stX => some (.inr nX, (tgX, nxX, nsX, stX))))))))
theorem hm_X0_init : fo_M yX0_init 0 := ⟨by decide +kernel, by decide +kernel, by decide +kernel, by decide +kernel⟩
set_option maxHeartbeats 1000000 in
theorem wX0_init_19 (l : Launch) (E : fo_E) (K V : Nat → Nat) (mi : Nat) (hSX : fo_SX E K V mi) (G : Nat) (o : Nat) (fr lo : Nat) (hfr : 6 ≤ fr) (hlo : 154 ≤ lo) (cN cS : Nat) (tg0 : Nat → Nat × Nat) (nx0 ns0 : Nat) (hO : tg0 o = (1, 19)) (st0 : fo_St) (hI : fo_I E tg0 nx0) (hcN : nx0 ≤ cN) (hcS : ns0 ≤ cS) (ρZ : Unit ⊕ Nat) (aZ : fo_A) (hf : fX0_init cN cS G o tg0 nx0 ns0 st0 = some (ρZ, aZ)) : CA vlV l E yX0_init (ws_ yX0_init cX0_init 2 none) fr lo cN cS [.ref (eb E + o)] (tg0, nx0, ns0, st0) ρZ aZ := by
  refine fea_v (a := (tg0, nx0, ns0, st0)) hm_X0_init (Nat.le_of_ble_eq_true rfl) hI hcN hcS (fun p e R s m args below meth c Q hRf hRl X hnm hend hxx ls hl hz => ?_)
  have hin2 : meth.name = "<init>" := hnm
  replace hRf : 6 ≤ R.frames := by rw [hRf]; exact hfr
  replace hRl : 154 ≤ R.locals := by rw [hRl]; exact hlo
  have hR0 : 5 + 1 ≤ R.frames ∧ 8 + (2 + 11) + (121) ≤ R.locals := ⟨by omega, by omega⟩
  have hR1 : 2 + 1 ≤ R.frames ∧ 8 + (2 + 11) + (60) ≤ R.locals := ⟨by omega, by omega⟩
  have hR2 : 5 + 1 ≤ R.frames ∧ 8 + (1 + 11) + (134) ≤ R.locals := ⟨by omega, by omega⟩
  have hx := X.1.1
  have hb := X.1.2.1
  have hl : lv_has ls 2 [(0, .ref (eb E + o))] := hl
  have hz : fo_Z E R s cN cS (tg0, nx0, ns0, st0) tg0 nx0 ns0 st0 s.heap [] := hz
  have hw := hz.1
  show W p l e R s m args below meth c s.heap [] (nx0 - nx0) (ns0 - ns0) Q (F0 m 0 ls [])
  unfold fX0_init at hf
  generalize s.heap = H at hz hw ⊢
  generalize ([] : List Loc) = locs at hz hw ⊢
  refine lv_aload_n hx hb dX0_init_0 rfl (lv_at hl 0 rfl) ?_
  refine W.objInit hx hb X.1.2.2.2.1 (X.1.2.2.2.2 _ q152) (X.1.2.2.2.2 _ q153) (X.1.2.2.2.2 _ q154) rfl (by rw [X.1.2.2.1]; exact hl.1) rfl dX0_init_1 (Nat.le_trans (Nat.le_of_ble_eq_true rfl) hRf) (Nat.le_trans (Nat.le_of_ble_eq_true rfl) hRl) ?_
  refine lv_aload_n hx hb dX0_init_4 rfl (lv_at hl 0 rfl) ?_
  refine lv_bipush (v := (7 : Int32)) hx hb dX0_init_5 (by decide) ?_
  have hf0 := hf
  clear hf
  refine fa_newi X hz q185 (L := 7) (by decide) (by decide) (by decide) dX0_init_7 hf0 (fun tg1 nx1 ns1 sa1 H hext hq2 hz2 hf => ?_)
  clear hf0
  have hO := hext.t hI hO
  have hz := hz2
  have hw := hz.1
  have hI := hz.2.1
  clear hz2 hext
  have hf0 := hf
  clear hf
  refine fo_putrF (fo_Xw X) hin2 hw fr_X0 hO (k := 1) (by decide) rfl rfl rfl q346 (fun _ => ⟨rfl, rfl⟩) dX0_init_9 hf0 (fun st3 H locs hw hf => ?_)
  clear hf0
  have hz := hz.s hw
  refine lv_aload_n hx hb dX0_init_12 rfl (lv_at hl 0 rfl) ?_
  have hf0 := hf
  clear hf
  refine fa_new X hz fr_X1 fdr_X1 q155 q156 q112 dX0_init_13 hf0 (fun tg4 nx4 ns4 sa4 H hext hq5 hz2 hf => ?_)
  clear hf0
  have hO := hext.t hI hO
  have hq2 := hext.t hI hq2
  have hz := hz2
  have hw := hz.1
  have hI := hz.2.1
  clear hz2 hext
  refine lv_dup hx hb dX0_init_16 rfl ?_
  have hf0 := hf
  clear hf
  refine fa_I (fr := 5) (lo := 121) (val := vlV) (rest := [.ref (eb E + nx1), .ref (eb E + o)]) (As := []) X hz hm_X1_init q159 q112 q157 q158 rfl hR0 rfl rfl hl.1 (Nat.le_of_ble_eq_true rfl) dX0_init_17 (fun rQ aQ hQ => wX1_init_20 l E K V mi hSX G nx1 (5) (121) (Nat.le_refl _) (Nat.le_refl _) cN cS tg4 nx4 ns4 hq5 sa4 hI hz.2.2.2.2.2.2.1 hz.2.2.2.2.2.2.2.2 rQ aQ hQ) hf0 (fun nX EX tgX nxX nsX stX H locs hTX hxX hz2 hf => ?_) (fun x6 tg7 nx7 ns7 sa7 H locs hext hz2 hf => ?_)
  · exact fda_x hxx hTX hz2 hf
  clear hf0
  have hO := hext.t hI hO
  have hq2 := hext.t hI hq2
  have hq5 := hext.t hI hq5
  have hz := hz2
  have hw := hz.1
  have hI := hz.2.1
  clear hz2 hext
  have hf0 := hf
  clear hf
  refine fo_putrF (fo_Xw X) hin2 hw fr_X0 hO (k := 2) (by decide) rfl rfl rfl q347 (fun _ => ⟨rfl, rfl⟩) dX0_init_20 hf0 (fun st8 H locs hw hf => ?_)
  clear hf0
  have hz := hz.s hw
  refine lv_aload_n hx hb dX0_init_23 rfl (lv_at hl 0 rfl) ?_
  refine lv_iconst (v := (2 : Int32)) hx hb dX0_init_24 (by decide) ?_
  have hf0 := hf
  clear hf
  refine fa_newoS X hz q155 (hSX s s.heap X.2.1.2.2.1).2.2.2.2.2.2.2.2.2.1 (L := 2) (by decide) (by decide) (by decide) dX0_init_25 hf0 (fun tg9 nx9 ns9 sa9 H hext hq10 hz2 hf => ?_)
  clear hf0
  have hO := hext.t hI hO
  have hq2 := hext.t hI hq2
  have hq5 := hext.t hI hq5
  have hz := hz2
  have hw := hz.1
  have hI := hz.2.1
  clear hz2 hext
  have hf0 := hf
  clear hf
  refine fo_putrF (fo_Xw X) hin2 hw fr_X0 hO (k := 3) (by decide) rfl rfl rfl q348 (fun _ => ⟨rfl, rfl⟩) dX0_init_28 hf0 (fun st11 H locs hw hf => ?_)
  clear hf0
  have hz := hz.s hw
  refine lv_aload_n hx hb dX0_init_31 rfl (lv_at hl 0 rfl) ?_
  refine lv_bipush (v := (16 : Int32)) hx hb dX0_init_32 (by decide) ?_
  have hf0 := hf
  clear hf
  refine fa_newoT X hz q264 (hSX s s.heap X.2.1.2.2.1).2.2.2.2.2.2.2.2.2.2 (L := 16) (by decide) (by decide) (by decide) dX0_init_34 hf0 (fun tg12 nx12 ns12 sa12 H hext hq13 hz2 hf => ?_)
  clear hf0
  have hO := hext.t hI hO
  have hq2 := hext.t hI hq2
  have hq5 := hext.t hI hq5
  have hq10 := hext.t hI hq10
  have hz := hz2
  have hw := hz.1
  have hI := hz.2.1
  clear hz2 hext
  have hf0 := hf
  clear hf
  refine fo_putrF (fo_Xw X) hin2 hw fr_X0 hO (k := 4) (by decide) rfl rfl rfl q349 (fun _ => ⟨rfl, rfl⟩) dX0_init_37 hf0 (fun st14 H locs hw hf => ?_)
  clear hf0
  have hz := hz.s hw
  refine lv_aload_n hx hb dX0_init_40 rfl (lv_at hl 0 rfl) ?_
  refine lv_bipush (v := (16 : Int32)) hx hb dX0_init_41 (by decide) ?_
  have hf0 := hf
  clear hf
  refine fa_newoT X hz q264 (hSX s s.heap X.2.1.2.2.1).2.2.2.2.2.2.2.2.2.2 (L := 16) (by decide) (by decide) (by decide) dX0_init_43 hf0 (fun tg15 nx15 ns15 sa15 H hext hq16 hz2 hf => ?_)
  clear hf0
  have hO := hext.t hI hO
  have hq2 := hext.t hI hq2
  have hq5 := hext.t hI hq5
  have hq10 := hext.t hI hq10
  have hq13 := hext.t hI hq13
  have hz := hz2
  have hw := hz.1
  have hI := hz.2.1
  clear hz2 hext
  have hf0 := hf
  clear hf
  refine fo_putrF (fo_Xw X) hin2 hw fr_X0 hO (k := 5) (by decide) rfl rfl rfl q350 (fun _ => ⟨rfl, rfl⟩) dX0_init_46 hf0 (fun st17 H locs hw hf => ?_)
  clear hf0
  have hz := hz.s hw
  refine lv_aload_n hx hb dX0_init_49 rfl (lv_at hl 0 rfl) ?_
  refine lv_bipush (v := (16 : Int32)) hx hb dX0_init_50 (by decide) ?_
  have hf0 := hf
  clear hf
  refine fa_newi X hz q185 (L := 16) (by decide) (by decide) (by decide) dX0_init_52 hf0 (fun tg18 nx18 ns18 sa18 H hext hq19 hz2 hf => ?_)
  clear hf0
  have hO := hext.t hI hO
  have hq2 := hext.t hI hq2
  have hq5 := hext.t hI hq5
  have hq10 := hext.t hI hq10
  have hq13 := hext.t hI hq13
  have hq16 := hext.t hI hq16
  have hz := hz2
  have hw := hz.1
  have hI := hz.2.1
  clear hz2 hext
  have hf0 := hf
  clear hf
  refine fo_putrF (fo_Xw X) hin2 hw fr_X0 hO (k := 6) (by decide) rfl rfl rfl q351 (fun _ => ⟨rfl, rfl⟩) dX0_init_54 hf0 (fun st20 H locs hw hf => ?_)
  clear hf0
  have hz := hz.s hw
  refine lv_aload_n hx hb dX0_init_57 rfl (lv_at hl 0 rfl) ?_
  refine lv_bipush (v := (16 : Int32)) hx hb dX0_init_58 (by decide) ?_
  have hf0 := hf
  clear hf
  refine fa_newi X hz q185 (L := 16) (by decide) (by decide) (by decide) dX0_init_60 hf0 (fun tg21 nx21 ns21 sa21 H hext hq22 hz2 hf => ?_)
  clear hf0
  have hO := hext.t hI hO
  have hq2 := hext.t hI hq2
  have hq5 := hext.t hI hq5
  have hq10 := hext.t hI hq10
  have hq13 := hext.t hI hq13
  have hq16 := hext.t hI hq16
  have hq19 := hext.t hI hq19
  have hz := hz2
  have hw := hz.1
  have hI := hz.2.1
  clear hz2 hext
  have hf0 := hf
  clear hf
  refine fo_putrF (fo_Xw X) hin2 hw fr_X0 hO (k := 7) (by decide) rfl rfl rfl q352 (fun _ => ⟨rfl, rfl⟩) dX0_init_62 hf0 (fun st23 H locs hw hf => ?_)
  clear hf0
  have hz := hz.s hw
  refine lv_aload_n hx hb dX0_init_65 rfl (lv_at hl 0 rfl) ?_
  have hf0 := hf
  clear hf
  refine fa_new X hz fr_X2 fdr_X2 q264 q162 q113 dX0_init_66 hf0 (fun tg24 nx24 ns24 sa24 H hext hq25 hz2 hf => ?_)
  clear hf0
  have hO := hext.t hI hO
  have hq2 := hext.t hI hq2
  have hq5 := hext.t hI hq5
  have hq10 := hext.t hI hq10
  have hq13 := hext.t hI hq13
  have hq16 := hext.t hI hq16
  have hq19 := hext.t hI hq19
  have hq22 := hext.t hI hq22
  have hz := hz2
  have hw := hz.1
  have hI := hz.2.1
  clear hz2 hext
  refine lv_dup hx hb dX0_init_69 rfl ?_
  have hf0 := hf
  clear hf
  refine fa_I (fr := 2) (lo := 60) (val := vlV) (rest := [.ref (eb E + nx21), .ref (eb E + o)]) (As := []) X hz hm_X2_init q165 q113 q266 q164 rfl hR1 rfl rfl hl.1 (Nat.le_of_ble_eq_true rfl) dX0_init_70 (fun rQ aQ hQ => wX2_init_21 l E G nx21 (2) (60) (Nat.le_refl _) (Nat.le_refl _) cN cS tg24 nx24 ns24 hq25 sa24 hI hz.2.2.2.2.2.2.1 hz.2.2.2.2.2.2.2.2 rQ aQ hQ) hf0 (fun nX EX tgX nxX nsX stX H locs hTX hxX hz2 hf => ?_) (fun x26 tg27 nx27 ns27 sa27 H locs hext hz2 hf => ?_)
  · exact fda_x hxx hTX hz2 hf
  clear hf0
  have hO := hext.t hI hO
  have hq2 := hext.t hI hq2
  have hq5 := hext.t hI hq5
  have hq10 := hext.t hI hq10
  have hq13 := hext.t hI hq13
  have hq16 := hext.t hI hq16
  have hq19 := hext.t hI hq19
  have hq22 := hext.t hI hq22
  have hq25 := hext.t hI hq25
  have hz := hz2
  have hw := hz.1
  have hI := hz.2.1
  clear hz2 hext
  have hf0 := hf
  clear hf
  refine fo_putrF (fo_Xw X) hin2 hw fr_X0 hO (k := 8) (by decide) rfl rfl rfl q353 (fun _ => ⟨rfl, rfl⟩) dX0_init_73 hf0 (fun st28 H locs hw hf => ?_)
  clear hf0
  have hz := hz.s hw
  refine lv_aload_n hx hb dX0_init_76 rfl (lv_at hl 0 rfl) ?_
  have hf0 := hf
  clear hf
  refine fa_new X hz fr_X2 fdr_X2 q264 q162 q113 dX0_init_77 hf0 (fun tg29 nx29 ns29 sa29 H hext hq30 hz2 hf => ?_)
  clear hf0
  have hO := hext.t hI hO
  have hq2 := hext.t hI hq2
  have hq5 := hext.t hI hq5
  have hq10 := hext.t hI hq10
  have hq13 := hext.t hI hq13
  have hq16 := hext.t hI hq16
  have hq19 := hext.t hI hq19
  have hq22 := hext.t hI hq22
  have hq25 := hext.t hI hq25
  have hz := hz2
  have hw := hz.1
  have hI := hz.2.1
  clear hz2 hext
  refine lv_dup hx hb dX0_init_80 rfl ?_
  have hf0 := hf
  clear hf
  refine fa_I (fr := 2) (lo := 60) (val := vlV) (rest := [.ref (eb E + nx27), .ref (eb E + o)]) (As := []) X hz hm_X2_init q165 q113 q266 q164 rfl hR1 rfl rfl hl.1 (Nat.le_of_ble_eq_true rfl) dX0_init_81 (fun rQ aQ hQ => wX2_init_21 l E G nx27 (2) (60) (Nat.le_refl _) (Nat.le_refl _) cN cS tg29 nx29 ns29 hq30 sa29 hI hz.2.2.2.2.2.2.1 hz.2.2.2.2.2.2.2.2 rQ aQ hQ) hf0 (fun nX EX tgX nxX nsX stX H locs hTX hxX hz2 hf => ?_) (fun x31 tg32 nx32 ns32 sa32 H locs hext hz2 hf => ?_)
  · exact fda_x hxx hTX hz2 hf
  clear hf0
  have hO := hext.t hI hO
  have hq2 := hext.t hI hq2
  have hq5 := hext.t hI hq5
  have hq10 := hext.t hI hq10
  have hq13 := hext.t hI hq13
  have hq16 := hext.t hI hq16
  have hq19 := hext.t hI hq19
  have hq22 := hext.t hI hq22
  have hq25 := hext.t hI hq25
  have hq30 := hext.t hI hq30
  have hz := hz2
  have hw := hz.1
  have hI := hz.2.1
  clear hz2 hext
  have hf0 := hf
  clear hf
  refine fo_putrF (fo_Xw X) hin2 hw fr_X0 hO (k := 9) (by decide) rfl rfl rfl q354 (fun _ => ⟨rfl, rfl⟩) dX0_init_84 hf0 (fun st33 H locs hw hf => ?_)
  clear hf0
  have hz := hz.s hw
  refine lv_aload_n hx hb dX0_init_87 rfl (lv_at hl 0 rfl) ?_
  refine lv_sipush (v := (400 : Int32)) hx hb dX0_init_88 (by decide) ?_
  have hf0 := hf
  clear hf
  refine fa_newb X hz q333 (L := 400) (by decide) (by decide) (by decide) dX0_init_91 hf0 (fun tg34 nx34 ns34 sa34 H hext hq35 hz2 hf => ?_)
  clear hf0
  have hO := hext.t hI hO
  have hq2 := hext.t hI hq2
  have hq5 := hext.t hI hq5
  have hq10 := hext.t hI hq10
  have hq13 := hext.t hI hq13
  have hq16 := hext.t hI hq16
  have hq19 := hext.t hI hq19
  have hq22 := hext.t hI hq22
  have hq25 := hext.t hI hq25
  have hq30 := hext.t hI hq30
  have hz := hz2
  have hw := hz.1
  have hI := hz.2.1
  clear hz2 hext
  have hf0 := hf
  clear hf
  refine fo_putrF (fo_Xw X) hin2 hw fr_X0 hO (k := 10) (by decide) rfl rfl rfl q355 (fun _ => ⟨rfl, rfl⟩) dX0_init_93 hf0 (fun st36 H locs hw hf => ?_)
  clear hf0
  have hz := hz.s hw
  refine lv_aload_n hx hb dX0_init_96 rfl (lv_at hl 0 rfl) ?_
  refine lv_iconst (v := (-1 : Int32)) hx hb dX0_init_97 (by decide) ?_
  have hf0 := hf
  clear hf
  refine fo_puti (fo_Xw X) hw fr_X0 hO (k := 12) (by decide) rfl rfl q357 ⟨rfl, rfl⟩ dX0_init_98 hf0 (fun st37 H locs hw hf => ?_)
  clear hf0
  have hz := hz.s hw
  refine lv_aload_n hx hb dX0_init_101 rfl (lv_at hl 0 rfl) ?_
  refine lv_iconst (v := (-1 : Int32)) hx hb dX0_init_102 (by decide) ?_
  have hf0 := hf
  clear hf
  refine fo_puti (fo_Xw X) hw fr_X0 hO (k := 14) (by decide) rfl rfl q359 ⟨rfl, rfl⟩ dX0_init_103 hf0 (fun st38 H locs hw hf => ?_)
  clear hf0
  have hz := hz.s hw
  refine lv_aload_n hx hb dX0_init_106 rfl (lv_at hl 0 rfl) ?_
  have hf0 := hf
  clear hf
  refine fa_new X hz fr_X3 fdr_X3 q267 q268 q117 dX0_init_107 hf0 (fun tg39 nx39 ns39 sa39 H hext hq40 hz2 hf => ?_)
  clear hf0
  have hO := hext.t hI hO
  have hq2 := hext.t hI hq2
  have hq5 := hext.t hI hq5
  have hq10 := hext.t hI hq10
  have hq13 := hext.t hI hq13
  have hq16 := hext.t hI hq16
  have hq19 := hext.t hI hq19
  have hq22 := hext.t hI hq22
  have hq25 := hext.t hI hq25
  have hq30 := hext.t hI hq30
  have hq35 := hext.t hI hq35
  have hz := hz2
  have hw := hz.1
  have hI := hz.2.1
  clear hz2 hext
  refine lv_dup hx hb dX0_init_110 rfl ?_
  have hf0 := hf
  clear hf
  refine fa_IN (fr := 5) (lo := 134) (val := vlV) (rest := [.ref (eb E + nx34), .ref (eb E + o)]) (As := []) X hz hm_X3_init q271 q117 fn269 q270 rfl hR2 rfl rfl hl.1 (Nat.le_of_ble_eq_true rfl) dX0_init_111 (fun rQ aQ hQ => wX3_init_22 l E K V mi hSX nx34 (5) (134) (Nat.le_refl _) (Nat.le_refl _) cN cS tg39 nx39 ns39 hq40 sa39 hI hz.2.2.2.2.2.2.1 hz.2.2.2.2.2.2.2.2 rQ aQ hQ) hf0 (fun nX EX tgX nxX nsX stX H locs hTX hxX hz2 hf => ?_) (fun x41 tg42 nx42 ns42 sa42 H locs hext hz2 hf => ?_)
  · exact fda_x hxx hTX hz2 hf
  clear hf0
  have hO := hext.t hI hO
  have hq2 := hext.t hI hq2
  have hq5 := hext.t hI hq5
  have hq10 := hext.t hI hq10
  have hq13 := hext.t hI hq13
  have hq16 := hext.t hI hq16
  have hq19 := hext.t hI hq19
  have hq22 := hext.t hI hq22
  have hq25 := hext.t hI hq25
  have hq30 := hext.t hI hq30
  have hq35 := hext.t hI hq35
  have hq40 := hext.t hI hq40
  have hz := hz2
  have hw := hz.1
  have hI := hz.2.1
  clear hz2 hext
  have hf0 := hf
  clear hf
  refine fo_putrF (fo_Xw X) hin2 hw fr_X0 hO (k := 16) (by decide) rfl rfl rfl q361 (fun _ => ⟨rfl, rfl⟩) dX0_init_114 hf0 (fun st43 H locs hw hf => ?_)
  clear hf0
  have hz := hz.s hw
  refine lv_aload_n hx hb dX0_init_117 rfl (lv_at hl 0 rfl) ?_
  refine lv_bipush (v := (16 : Int32)) hx hb dX0_init_118 (by decide) ?_
  have hf0 := hf
  clear hf
  refine fa_newi X hz q185 (L := 16) (by decide) (by decide) (by decide) dX0_init_120 hf0 (fun tg44 nx44 ns44 sa44 H hext hq45 hz2 hf => ?_)
  clear hf0
  have hO := hext.t hI hO
  have hq2 := hext.t hI hq2
  have hq5 := hext.t hI hq5
  have hq10 := hext.t hI hq10
  have hq13 := hext.t hI hq13
  have hq16 := hext.t hI hq16
  have hq19 := hext.t hI hq19
  have hq22 := hext.t hI hq22
  have hq25 := hext.t hI hq25
  have hq30 := hext.t hI hq30
  have hq35 := hext.t hI hq35
  have hq40 := hext.t hI hq40
  have hz := hz2
  have hw := hz.1
  have hI := hz.2.1
  clear hz2 hext
  have hf0 := hf
  clear hf
  refine fo_putrF (fo_Xw X) hin2 hw fr_X0 hO (k := 17) (by decide) rfl rfl rfl q362 (fun _ => ⟨rfl, rfl⟩) dX0_init_122 hf0 (fun st46 H locs hw hf => ?_)
  clear hf0
  have hz := hz.s hw
  refine lv_aload_n hx hb dX0_init_125 rfl (lv_at hl 0 rfl) ?_
  refine lv_bipush (v := (16 : Int32)) hx hb dX0_init_126 (by decide) ?_
  have hf0 := hf
  clear hf
  refine fa_newi X hz q185 (L := 16) (by decide) (by decide) (by decide) dX0_init_128 hf0 (fun tg47 nx47 ns47 sa47 H hext hq48 hz2 hf => ?_)
  clear hf0
  have hO := hext.t hI hO
  have hq2 := hext.t hI hq2
  have hq5 := hext.t hI hq5
  have hq10 := hext.t hI hq10
  have hq13 := hext.t hI hq13
  have hq16 := hext.t hI hq16
  have hq19 := hext.t hI hq19
  have hq22 := hext.t hI hq22
  have hq25 := hext.t hI hq25
  have hq30 := hext.t hI hq30
  have hq35 := hext.t hI hq35
  have hq40 := hext.t hI hq40
  have hq45 := hext.t hI hq45
  have hz := hz2
  have hw := hz.1
  have hI := hz.2.1
  clear hz2 hext
  have hf0 := hf
  clear hf
  refine fo_putrF (fo_Xw X) hin2 hw fr_X0 hO (k := 18) (by decide) rfl rfl rfl q363 (fun _ => ⟨rfl, rfl⟩) dX0_init_130 hf0 (fun st49 H locs hw hf => ?_)
  clear hf0
  have hz := hz.s hw
  refine lv_aload_n hx hb dX0_init_133 rfl (lv_at hl 0 rfl) ?_
  refine lv_bipush (v := (96 : Int32)) hx hb dX0_init_134 (by decide) ?_
  have hf0 := hf
  clear hf
  refine fa_newi X hz q185 (L := 96) (by decide) (by decide) (by decide) dX0_init_136 hf0 (fun tg50 nx50 ns50 sa50 H hext hq51 hz2 hf => ?_)
  clear hf0
  have hO := hext.t hI hO
  have hq2 := hext.t hI hq2
  have hq5 := hext.t hI hq5
  have hq10 := hext.t hI hq10
  have hq13 := hext.t hI hq13
  have hq16 := hext.t hI hq16
  have hq19 := hext.t hI hq19
  have hq22 := hext.t hI hq22
  have hq25 := hext.t hI hq25
  have hq30 := hext.t hI hq30
  have hq35 := hext.t hI hq35
  have hq40 := hext.t hI hq40
  have hq45 := hext.t hI hq45
  have hq48 := hext.t hI hq48
  have hz := hz2
  have hw := hz.1
  have hI := hz.2.1
  clear hz2 hext
  have hf0 := hf
  clear hf
  refine fo_putrF (fo_Xw X) hin2 hw fr_X0 hO (k := 19) (by decide) rfl rfl rfl q364 (fun _ => ⟨rfl, rfl⟩) dX0_init_138 hf0 (fun st52 H locs hw hf => ?_)
  clear hf0
  have hz := hz.s hw
  refine lv_aload_n hx hb dX0_init_141 rfl (lv_at hl 0 rfl) ?_
  refine lv_bipush (v := (64 : Int32)) hx hb dX0_init_142 (by decide) ?_
  have hf0 := hf
  clear hf
  refine fa_newi X hz q185 (L := 64) (by decide) (by decide) (by decide) dX0_init_144 hf0 (fun tg53 nx53 ns53 sa53 H hext hq54 hz2 hf => ?_)
  clear hf0
  have hO := hext.t hI hO
  have hq2 := hext.t hI hq2
  have hq5 := hext.t hI hq5
  have hq10 := hext.t hI hq10
  have hq13 := hext.t hI hq13
  have hq16 := hext.t hI hq16
  have hq19 := hext.t hI hq19
  have hq22 := hext.t hI hq22
  have hq25 := hext.t hI hq25
  have hq30 := hext.t hI hq30
  have hq35 := hext.t hI hq35
  have hq40 := hext.t hI hq40
  have hq45 := hext.t hI hq45
  have hq48 := hext.t hI hq48
  have hq51 := hext.t hI hq51
  have hz := hz2
  have hw := hz.1
  have hI := hz.2.1
  clear hz2 hext
  have hf0 := hf
  clear hf
  refine fo_putrF (fo_Xw X) hin2 hw fr_X0 hO (k := 20) (by decide) rfl rfl rfl q365 (fun _ => ⟨rfl, rfl⟩) dX0_init_146 hf0 (fun st55 H locs hw hf => ?_)
  clear hf0
  have hz := hz.s hw
  refine lv_aload_n hx hb dX0_init_149 rfl (lv_at hl 0 rfl) ?_
  refine lv_bipush (v := (64 : Int32)) hx hb dX0_init_150 (by decide) ?_
  have hf0 := hf
  clear hf
  refine fa_newi X hz q185 (L := 64) (by decide) (by decide) (by decide) dX0_init_152 hf0 (fun tg56 nx56 ns56 sa56 H hext hq57 hz2 hf => ?_)
  clear hf0
  have hO := hext.t hI hO
  have hq2 := hext.t hI hq2
  have hq5 := hext.t hI hq5
  have hq10 := hext.t hI hq10
  have hq13 := hext.t hI hq13
  have hq16 := hext.t hI hq16
  have hq19 := hext.t hI hq19
  have hq22 := hext.t hI hq22
  have hq25 := hext.t hI hq25
  have hq30 := hext.t hI hq30
  have hq35 := hext.t hI hq35
  have hq40 := hext.t hI hq40
  have hq45 := hext.t hI hq45
  have hq48 := hext.t hI hq48
  have hq51 := hext.t hI hq51
  have hq54 := hext.t hI hq54
  have hz := hz2
  have hw := hz.1
  have hI := hz.2.1
  clear hz2 hext
  have hf0 := hf
  clear hf
  refine fo_putrF (fo_Xw X) hin2 hw fr_X0 hO (k := 21) (by decide) rfl rfl rfl q366 (fun _ => ⟨rfl, rfl⟩) dX0_init_154 hf0 (fun st58 H locs hw hf => ?_)
  clear hf0
  have hz := hz.s hw
  refine lv_aload_n hx hb dX0_init_157 rfl (lv_at hl 0 rfl) ?_
  refine lv_bipush (v := (96 : Int32)) hx hb dX0_init_158 (by decide) ?_
  have hf0 := hf
  clear hf
  refine fa_newi X hz q185 (L := 96) (by decide) (by decide) (by decide) dX0_init_160 hf0 (fun tg59 nx59 ns59 sa59 H hext hq60 hz2 hf => ?_)
  clear hf0
  have hO := hext.t hI hO
  have hq2 := hext.t hI hq2
  have hq5 := hext.t hI hq5
  have hq10 := hext.t hI hq10
  have hq13 := hext.t hI hq13
  have hq16 := hext.t hI hq16
  have hq19 := hext.t hI hq19
  have hq22 := hext.t hI hq22
  have hq25 := hext.t hI hq25
  have hq30 := hext.t hI hq30
  have hq35 := hext.t hI hq35
  have hq40 := hext.t hI hq40
  have hq45 := hext.t hI hq45
  have hq48 := hext.t hI hq48
  have hq51 := hext.t hI hq51
  have hq54 := hext.t hI hq54
  have hq57 := hext.t hI hq57
  have hz := hz2
  have hw := hz.1
  have hI := hz.2.1
  clear hz2 hext
  have hf0 := hf
  clear hf
  refine fo_putrF (fo_Xw X) hin2 hw fr_X0 hO (k := 22) (by decide) rfl rfl rfl q367 (fun _ => ⟨rfl, rfl⟩) dX0_init_162 hf0 (fun st61 H locs hw hf => ?_)
  clear hf0
  have hz := hz.s hw
  refine lv_aload_n hx hb dX0_init_165 rfl (lv_at hl 0 rfl) ?_
  refine lv_bipush (v := (112 : Int32)) hx hb dX0_init_166 (by decide) ?_
  have hf0 := hf
  clear hf
  refine fa_newi X hz q185 (L := 112) (by decide) (by decide) (by decide) dX0_init_168 hf0 (fun tg62 nx62 ns62 sa62 H hext hq63 hz2 hf => ?_)
  clear hf0
  have hO := hext.t hI hO
  have hq2 := hext.t hI hq2
  have hq5 := hext.t hI hq5
  have hq10 := hext.t hI hq10
  have hq13 := hext.t hI hq13
  have hq16 := hext.t hI hq16
  have hq19 := hext.t hI hq19
  have hq22 := hext.t hI hq22
  have hq25 := hext.t hI hq25
  have hq30 := hext.t hI hq30
  have hq35 := hext.t hI hq35
  have hq40 := hext.t hI hq40
  have hq45 := hext.t hI hq45
  have hq48 := hext.t hI hq48
  have hq51 := hext.t hI hq51
  have hq54 := hext.t hI hq54
  have hq57 := hext.t hI hq57
  have hq60 := hext.t hI hq60
  have hz := hz2
  have hw := hz.1
  have hI := hz.2.1
  clear hz2 hext
  have hf0 := hf
  clear hf
  refine fo_putrF (fo_Xw X) hin2 hw fr_X0 hO (k := 23) (by decide) rfl rfl rfl q368 (fun _ => ⟨rfl, rfl⟩) dX0_init_170 hf0 (fun st64 H locs hw hf => ?_)
  clear hf0
  have hz := hz.s hw
  refine lv_aload_n hx hb dX0_init_173 rfl (lv_at hl 0 rfl) ?_
  refine lv_bipush (v := (16 : Int32)) hx hb dX0_init_174 (by decide) ?_
  have hf0 := hf
  clear hf
  refine fa_newi X hz q185 (L := 16) (by decide) (by decide) (by decide) dX0_init_176 hf0 (fun tg65 nx65 ns65 sa65 H hext hq66 hz2 hf => ?_)
  clear hf0
  have hO := hext.t hI hO
  have hq2 := hext.t hI hq2
  have hq5 := hext.t hI hq5
  have hq10 := hext.t hI hq10
  have hq13 := hext.t hI hq13
  have hq16 := hext.t hI hq16
  have hq19 := hext.t hI hq19
  have hq22 := hext.t hI hq22
  have hq25 := hext.t hI hq25
  have hq30 := hext.t hI hq30
  have hq35 := hext.t hI hq35
  have hq40 := hext.t hI hq40
  have hq45 := hext.t hI hq45
  have hq48 := hext.t hI hq48
  have hq51 := hext.t hI hq51
  have hq54 := hext.t hI hq54
  have hq57 := hext.t hI hq57
  have hq60 := hext.t hI hq60
  have hq63 := hext.t hI hq63
  have hz := hz2
  have hw := hz.1
  have hI := hz.2.1
  clear hz2 hext
  have hf0 := hf
  clear hf
  refine fo_putrF (fo_Xw X) hin2 hw fr_X0 hO (k := 24) (by decide) rfl rfl rfl q369 (fun _ => ⟨rfl, rfl⟩) dX0_init_178 hf0 (fun st67 H locs hw hf => ?_)
  clear hf0
  have hz := hz.s hw
  refine lv_aload_n hx hb dX0_init_181 rfl (lv_at hl 0 rfl) ?_
  refine lv_bipush (v := (16 : Int32)) hx hb dX0_init_182 (by decide) ?_
  have hf0 := hf
  clear hf
  refine fa_newl X hz q344 (L := 16) (by decide) (by decide) (by decide) dX0_init_184 hf0 (fun tg68 nx68 ns68 sa68 H hext hq69 hz2 hf => ?_)
  clear hf0
  have hO := hext.t hI hO
  have hq2 := hext.t hI hq2
  have hq5 := hext.t hI hq5
  have hq10 := hext.t hI hq10
  have hq13 := hext.t hI hq13
  have hq16 := hext.t hI hq16
  have hq19 := hext.t hI hq19
  have hq22 := hext.t hI hq22
  have hq25 := hext.t hI hq25
  have hq30 := hext.t hI hq30
  have hq35 := hext.t hI hq35
  have hq40 := hext.t hI hq40
  have hq45 := hext.t hI hq45
  have hq48 := hext.t hI hq48
  have hq51 := hext.t hI hq51
  have hq54 := hext.t hI hq54
  have hq57 := hext.t hI hq57
  have hq60 := hext.t hI hq60
  have hq63 := hext.t hI hq63
  have hq66 := hext.t hI hq66
  have hz := hz2
  have hw := hz.1
  have hI := hz.2.1
  clear hz2 hext
  have hf0 := hf
  clear hf
  refine fo_putrF (fo_Xw X) hin2 hw fr_X0 hO (k := 25) (by decide) rfl rfl rfl q370 (fun _ => ⟨rfl, rfl⟩) dX0_init_186 hf0 (fun st70 H locs hw hf => ?_)
  clear hf0
  have hz := hz.s hw
  refine lv_aload_n hx hb dX0_init_189 rfl (lv_at hl 0 rfl) ?_
  have hf0 := hf
  clear hf
  refine fa_new X hz fr_X2 fdr_X2 q264 q162 q113 dX0_init_190 hf0 (fun tg71 nx71 ns71 sa71 H hext hq72 hz2 hf => ?_)
  clear hf0
  have hO := hext.t hI hO
  have hq2 := hext.t hI hq2
  have hq5 := hext.t hI hq5
  have hq10 := hext.t hI hq10
  have hq13 := hext.t hI hq13
  have hq16 := hext.t hI hq16
  have hq19 := hext.t hI hq19
  have hq22 := hext.t hI hq22
  have hq25 := hext.t hI hq25
  have hq30 := hext.t hI hq30
  have hq35 := hext.t hI hq35
  have hq40 := hext.t hI hq40
  have hq45 := hext.t hI hq45
  have hq48 := hext.t hI hq48
  have hq51 := hext.t hI hq51
  have hq54 := hext.t hI hq54
  have hq57 := hext.t hI hq57
  have hq60 := hext.t hI hq60
  have hq63 := hext.t hI hq63
  have hq66 := hext.t hI hq66
  have hq69 := hext.t hI hq69
  have hz := hz2
  have hw := hz.1
  have hI := hz.2.1
  clear hz2 hext
  refine lv_dup hx hb dX0_init_193 rfl ?_
  have hf0 := hf
  clear hf
  refine fa_I (fr := 2) (lo := 60) (val := vlV) (rest := [.ref (eb E + nx68), .ref (eb E + o)]) (As := []) X hz hm_X2_init q165 q113 q266 q164 rfl hR1 rfl rfl hl.1 (Nat.le_of_ble_eq_true rfl) dX0_init_194 (fun rQ aQ hQ => wX2_init_21 l E G nx68 (2) (60) (Nat.le_refl _) (Nat.le_refl _) cN cS tg71 nx71 ns71 hq72 sa71 hI hz.2.2.2.2.2.2.1 hz.2.2.2.2.2.2.2.2 rQ aQ hQ) hf0 (fun nX EX tgX nxX nsX stX H locs hTX hxX hz2 hf => ?_) (fun x73 tg74 nx74 ns74 sa74 H locs hext hz2 hf => ?_)
  · exact fda_x hxx hTX hz2 hf
  clear hf0
  have hO := hext.t hI hO
  have hq2 := hext.t hI hq2
  have hq5 := hext.t hI hq5
  have hq10 := hext.t hI hq10
  have hq13 := hext.t hI hq13
  have hq16 := hext.t hI hq16
  have hq19 := hext.t hI hq19
  have hq22 := hext.t hI hq22
  have hq25 := hext.t hI hq25
  have hq30 := hext.t hI hq30
  have hq35 := hext.t hI hq35
  have hq40 := hext.t hI hq40
  have hq45 := hext.t hI hq45
  have hq48 := hext.t hI hq48
  have hq51 := hext.t hI hq51
  have hq54 := hext.t hI hq54
  have hq57 := hext.t hI hq57
  have hq60 := hext.t hI hq60
  have hq63 := hext.t hI hq63
  have hq66 := hext.t hI hq66
  have hq69 := hext.t hI hq69
  have hq72 := hext.t hI hq72
  have hz := hz2
  have hw := hz.1
  have hI := hz.2.1
  clear hz2 hext
  have hf0 := hf
  clear hf
  refine fo_putrF (fo_Xw X) hin2 hw fr_X0 hO (k := 26) (by decide) rfl rfl rfl q371 (fun _ => ⟨rfl, rfl⟩) dX0_init_197 hf0 (fun st75 H locs hw hf => ?_)
  clear hf0
  have hz := hz.s hw
  refine lv_iconst (v := (0 : Int32)) hx hb dX0_init_200 (by decide) ?_
  refine lv_istore_n (lv' := [(1, .int (0 : Int32)), (0, .ref (eb E + o))]) hx hb dX0_init_201 rfl hl (by decide) rfl (fun ls hl => ?_)
  refine lp2_e (P := fun x76 a77 => ∀ (H : Heap) (locs : List Loc) (ls : Array Slot), a77.1 o = (1, 19) → a77.1 nx0 = (2, 7) → a77.1 nx1 = (1, 20) → a77.1 nx7 = (7, 2) → a77.1 nx9 = (8, 16) → a77.1 nx12 = (8, 16) → a77.1 nx15 = (2, 16) → a77.1 nx18 = (2, 16) → a77.1 nx21 = (1, 21) → a77.1 nx27 = (1, 21) → a77.1 nx32 = (3, 400) → a77.1 nx34 = (1, 22) → a77.1 nx42 = (2, 16) → a77.1 nx44 = (2, 16) → a77.1 nx47 = (2, 96) → a77.1 nx50 = (2, 64) → a77.1 nx53 = (2, 64) → a77.1 nx56 = (2, 96) → a77.1 nx59 = (2, 112) → a77.1 nx62 = (2, 16) → a77.1 nx65 = (5, 16) → a77.1 nx68 = (1, 21) → lv_has ls 2 [(1, .int x76), (0, .ref (eb E + o))] → fo_Z E R s cN cS (tg0, nx0, ns0, st0) a77.1 a77.2.1 a77.2.2.1 a77.2.2.2 H locs → W p l e R s m args below meth c H locs (a77.2.1 - nx0) (a77.2.2.1 - ns0) Q (F0 m 202 ls [])) (fun rec78 hrec78 x76 a77 hf => ?_) G _ _ hf H locs ls hO hq2 hq5 hq10 hq13 hq16 hq19 hq22 hq25 hq30 hq35 hq40 hq45 hq48 hq51 hq54 hq57 hq60 hq63 hq66 hq69 hq72 (lv_sub hl [0, 1] rfl) hz
  obtain ⟨tg77, nx77, ns77, sa77⟩ := a77
  intro H locs ls hO hq2 hq5 hq10 hq13 hq16 hq19 hq22 hq25 hq30 hq35 hq40 hq45 hq48 hq51 hq54 hq57 hq60 hq63 hq66 hq69 hq72 hl hz
  have hO : tg77 o = (1, 19) := hO
  have hq2 : tg77 nx0 = (2, 7) := hq2
  have hq5 : tg77 nx1 = (1, 20) := hq5
  have hq10 : tg77 nx7 = (7, 2) := hq10
  have hq13 : tg77 nx9 = (8, 16) := hq13
  have hq16 : tg77 nx12 = (8, 16) := hq16
  have hq19 : tg77 nx15 = (2, 16) := hq19
  have hq22 : tg77 nx18 = (2, 16) := hq22
  have hq25 : tg77 nx21 = (1, 21) := hq25
  have hq30 : tg77 nx27 = (1, 21) := hq30
  have hq35 : tg77 nx32 = (3, 400) := hq35
  have hq40 : tg77 nx34 = (1, 22) := hq40
  have hq45 : tg77 nx42 = (2, 16) := hq45
  have hq48 : tg77 nx44 = (2, 16) := hq48
  have hq51 : tg77 nx47 = (2, 96) := hq51
  have hq54 : tg77 nx50 = (2, 64) := hq54
  have hq57 : tg77 nx53 = (2, 64) := hq57
  have hq60 : tg77 nx56 = (2, 96) := hq60
  have hq63 : tg77 nx59 = (2, 112) := hq63
  have hq66 : tg77 nx62 = (2, 16) := hq66
  have hq69 : tg77 nx65 = (5, 16) := hq69
  have hq72 : tg77 nx68 = (1, 21) := hq72
  have hz : fo_Z E R s cN cS (tg0, nx0, ns0, st0) tg77 nx77 ns77 sa77 H locs := hz
  show W p l e R s m args below meth c H locs (nx77 - nx0) (ns77 - ns0) Q (F0 m 202 ls [])
  replace hf := aw_u hf
  have hw := hz.1
  have hI := hz.2.1
  refine lv_iload_n hx hb dX0_init_202 rfl (lv_at hl 0 rfl) ?_
  refine lv_bipush (v := (16 : Int32)) hx hb dX0_init_203 (by decide) ?_
  have hf0 := hf
  clear hf
  refine fb_ige (tgt := 240) hx hb dX0_init_205 (by decide) hf0 (fun hf => ?_) (fun hf => ?_)
  · clear hf0
    exact fda_v hend hz hf dX0_init_240
  clear hf0
  refine lv_aload_n hx hb dX0_init_208 rfl (lv_at hl 1 rfl) ?_
  have hf0 := hf
  clear hf
  refine fo_getr (fo_Xw X) hw fr_X0 hO (k := 4) (by decide) rfl q349 dX0_init_209 hf0 (fun q79 hf => ?_)
  clear hf0
  have hf0 := ck_e hf
  clear hf
  obtain ⟨hq80, hf⟩ := hf0
  have hq80 := of_decide_eq_true hq80
  refine lv_iload_n hx hb dX0_init_212 rfl (lv_at hl 0 rfl) ?_
  have hf0 := hf
  clear hf
  refine fa_new X hz fr_X2 fdr_X2 q264 q162 q113 dX0_init_213 hf0 (fun tg81 nx81 ns81 sa81 H hext hq82 hz2 hf => ?_)
  clear hf0
  have hO := hext.t hI hO
  have hq2 := hext.t hI hq2
  have hq5 := hext.t hI hq5
  have hq10 := hext.t hI hq10
  have hq13 := hext.t hI hq13
  have hq16 := hext.t hI hq16
  have hq19 := hext.t hI hq19
  have hq22 := hext.t hI hq22
  have hq25 := hext.t hI hq25
  have hq30 := hext.t hI hq30
  have hq35 := hext.t hI hq35
  have hq40 := hext.t hI hq40
  have hq45 := hext.t hI hq45
  have hq48 := hext.t hI hq48
  have hq51 := hext.t hI hq51
  have hq54 := hext.t hI hq54
  have hq57 := hext.t hI hq57
  have hq60 := hext.t hI hq60
  have hq63 := hext.t hI hq63
  have hq66 := hext.t hI hq66
  have hq69 := hext.t hI hq69
  have hq72 := hext.t hI hq72
  have hq80 := hext.t hI hq80
  have hz := hz2
  have hw := hz.1
  have hI := hz.2.1
  clear hz2 hext
  refine lv_dup hx hb dX0_init_216 rfl ?_
  have hf0 := hf
  clear hf
  refine fa_I (fr := 2) (lo := 60) (val := vlV) (rest := [.ref (eb E + nx77), .int x76, .ref (eb E + q79)]) (As := []) X hz hm_X2_init q165 q113 q266 q164 rfl hR1 rfl rfl hl.1 (Nat.le_of_ble_eq_true rfl) dX0_init_217 (fun rQ aQ hQ => wX2_init_21 l E G nx77 (2) (60) (Nat.le_refl _) (Nat.le_refl _) cN cS tg81 nx81 ns81 hq82 sa81 hI hz.2.2.2.2.2.2.1 hz.2.2.2.2.2.2.2.2 rQ aQ hQ) hf0 (fun nX EX tgX nxX nsX stX H locs hTX hxX hz2 hf => ?_) (fun x83 tg84 nx84 ns84 sa84 H locs hext hz2 hf => ?_)
  · exact fda_x hxx hTX hz2 hf
  clear hf0
  have hO := hext.t hI hO
  have hq2 := hext.t hI hq2
  have hq5 := hext.t hI hq5
  have hq10 := hext.t hI hq10
  have hq13 := hext.t hI hq13
  have hq16 := hext.t hI hq16
  have hq19 := hext.t hI hq19
  have hq22 := hext.t hI hq22
  have hq25 := hext.t hI hq25
  have hq30 := hext.t hI hq30
  have hq35 := hext.t hI hq35
  have hq40 := hext.t hI hq40
  have hq45 := hext.t hI hq45
  have hq48 := hext.t hI hq48
  have hq51 := hext.t hI hq51
  have hq54 := hext.t hI hq54
  have hq57 := hext.t hI hq57
  have hq60 := hext.t hI hq60
  have hq63 := hext.t hI hq63
  have hq66 := hext.t hI hq66
  have hq69 := hext.t hI hq69
  have hq72 := hext.t hI hq72
  have hq80 := hext.t hI hq80
  have hq82 := hext.t hI hq82
  have hz := hz2
  have hw := hz.1
  have hI := hz.2.1
  clear hz2 hext
  have hf0 := hf
  clear hf
  refine fo_astk (kd := 2) (ti := 6) (C := "ForestRooms$Table") (fo_Xw X) hw rfl hq80 fr_X2 hq82 (fo_self X fr_X2) dX0_init_220 hf0 (fun st85 H locs hw hf => ?_)
  clear hf0
  have hz := hz.s hw
  refine lv_aload_n hx hb dX0_init_221 rfl (lv_at hl 1 rfl) ?_
  have hf0 := hf
  clear hf
  refine fo_getr (fo_Xw X) hw fr_X0 hO (k := 5) (by decide) rfl q350 dX0_init_222 hf0 (fun q86 hf => ?_)
  clear hf0
  have hf0 := ck_e hf
  clear hf
  obtain ⟨hq87, hf⟩ := hf0
  have hq87 := of_decide_eq_true hq87
  refine lv_iload_n hx hb dX0_init_225 rfl (lv_at hl 0 rfl) ?_
  have hf0 := hf
  clear hf
  refine fa_new X hz fr_X2 fdr_X2 q264 q162 q113 dX0_init_226 hf0 (fun tg88 nx88 ns88 sa88 H hext hq89 hz2 hf => ?_)
  clear hf0
  have hO := hext.t hI hO
  have hq2 := hext.t hI hq2
  have hq5 := hext.t hI hq5
  have hq10 := hext.t hI hq10
  have hq13 := hext.t hI hq13
  have hq16 := hext.t hI hq16
  have hq19 := hext.t hI hq19
  have hq22 := hext.t hI hq22
  have hq25 := hext.t hI hq25
  have hq30 := hext.t hI hq30
  have hq35 := hext.t hI hq35
  have hq40 := hext.t hI hq40
  have hq45 := hext.t hI hq45
  have hq48 := hext.t hI hq48
  have hq51 := hext.t hI hq51
  have hq54 := hext.t hI hq54
  have hq57 := hext.t hI hq57
  have hq60 := hext.t hI hq60
  have hq63 := hext.t hI hq63
  have hq66 := hext.t hI hq66
  have hq69 := hext.t hI hq69
  have hq72 := hext.t hI hq72
  have hq80 := hext.t hI hq80
  have hq82 := hext.t hI hq82
  have hq87 := hext.t hI hq87
  have hz := hz2
  have hw := hz.1
  have hI := hz.2.1
  clear hz2 hext
  refine lv_dup hx hb dX0_init_229 rfl ?_
  have hf0 := hf
  clear hf
  refine fa_I (fr := 2) (lo := 60) (val := vlV) (rest := [.ref (eb E + nx84), .int x76, .ref (eb E + q86)]) (As := []) X hz hm_X2_init q165 q113 q266 q164 rfl hR1 rfl rfl hl.1 (Nat.le_of_ble_eq_true rfl) dX0_init_230 (fun rQ aQ hQ => wX2_init_21 l E G nx84 (2) (60) (Nat.le_refl _) (Nat.le_refl _) cN cS tg88 nx88 ns88 hq89 sa88 hI hz.2.2.2.2.2.2.1 hz.2.2.2.2.2.2.2.2 rQ aQ hQ) hf0 (fun nX EX tgX nxX nsX stX H locs hTX hxX hz2 hf => ?_) (fun x90 tg91 nx91 ns91 sa91 H locs hext hz2 hf => ?_)
  · exact fda_x hxx hTX hz2 hf
  clear hf0
  have hO := hext.t hI hO
  have hq2 := hext.t hI hq2
  have hq5 := hext.t hI hq5
  have hq10 := hext.t hI hq10
  have hq13 := hext.t hI hq13
  have hq16 := hext.t hI hq16
  have hq19 := hext.t hI hq19
  have hq22 := hext.t hI hq22
  have hq25 := hext.t hI hq25
  have hq30 := hext.t hI hq30
  have hq35 := hext.t hI hq35
  have hq40 := hext.t hI hq40
  have hq45 := hext.t hI hq45
  have hq48 := hext.t hI hq48
  have hq51 := hext.t hI hq51
  have hq54 := hext.t hI hq54
  have hq57 := hext.t hI hq57
  have hq60 := hext.t hI hq60
  have hq63 := hext.t hI hq63
  have hq66 := hext.t hI hq66
  have hq69 := hext.t hI hq69
  have hq72 := hext.t hI hq72
  have hq80 := hext.t hI hq80
  have hq82 := hext.t hI hq82
  have hq87 := hext.t hI hq87
  have hq89 := hext.t hI hq89
  have hz := hz2
  have hw := hz.1
  have hI := hz.2.1
  clear hz2 hext
  have hf0 := hf
  clear hf
  refine fo_astk (kd := 2) (ti := 6) (C := "ForestRooms$Table") (fo_Xw X) hw rfl hq87 fr_X2 hq89 (fo_self X fr_X2) dX0_init_233 hf0 (fun st92 H locs hw hf => ?_)
  clear hf0
  have hz := hz.s hw
  refine fb_iinc (v := (1 : Int32)) (lv' := [(1, .int (x76 + (1 : Int32))), (0, .ref (eb E + o))]) hx hb dX0_init_234 hl (k := 0) rfl (by decide) (by decide) rfl (fun ls hl => ?_)
  refine lv_goto (tgt := 202) hx hb dX0_init_237 (by decide) ?_
  exact hrec78 _ _ hf _ _ _ hO hq2 hq5 hq10 hq13 hq16 hq19 hq22 hq25 hq30 hq35 hq40 hq45 hq48 hq51 hq54 hq57 hq60 hq63 hq66 hq69 hq72 (lv_sub hl [0, 1] rfl) hz

