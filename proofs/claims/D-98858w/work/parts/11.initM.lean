/-! walks of methods that make cells or throw, printed by genA.py -/
set_option maxRecDepth 100000
/-- ForestRoomsModel.<init> -/
def fX5_init (cN cS : Nat) (G : Nat) (o : Nat) (tg0 : Nat → Nat × Nat) (nx0 ns0 : Nat) (st0 : fo_St) : Option ((Unit ⊕ Nat) × fo_A) := ck_ (fo_bg nx0 ns0 7 cN cS) (aw_ (tu_ tg0 nx0 (2, 7), nx0 + 1, ns0 + 7, z0_ st0 nx0) (fun tg1 nx1 ns1 sa1 => lt_ (sr_ sa1 o 2 (some nx0)) (fun st3 => ck_ (fo_bg nx1 ns1 5540 cN cS) (aw_ (tu_ tg1 nx1 (2, 5540), nx1 + 1, ns1 + 5540, z0_ st3 nx1) (fun tg4 nx4 ns4 sa4 => lt_ (sr_ sa4 o 3 (some nx1)) (fun st6 => ck_ (fo_bg nx4 ns4 11080 cN cS) (aw_ (tu_ tg4 nx4 (2, 11080), nx4 + 1, ns4 + 11080, z0_ st6 nx4) (fun tg7 nx7 ns7 sa7 => lt_ (sr_ sa7 o 4 (some nx4)) (fun st9 => ck_ (fo_bg nx7 ns7 2 cN cS) (aw_ (tu_ tg7 nx7 (4, 2), nx7 + 1, ns7 + 2, z0_ st9 nx7) (fun tg10 nx10 ns10 sa10 => lt_ (sr_ sa10 o 5 (some nx7)) (fun st12 => ck_ (fo_bg nx10 ns10 954 cN cS) (aw_ (tu_ tg10 nx10 (2, 954), nx10 + 1, ns10 + 954, z0_ st12 nx10) (fun tg13 nx13 ns13 sa13 => lt_ (sr_ sa13 o 6 (some nx10)) (fun st15 => ck_ (fo_bg nx13 ns13 16 cN cS) (aw_ (tu_ tg13 nx13 (2, 16), nx13 + 1, ns13 + 16, z0_ st15 nx13) (fun tg16 nx16 ns16 sa16 => lt_ (sr_ sa16 o 7 (some nx13)) (fun st18 => ck_ (fo_bg nx16 ns16 848 cN cS) (aw_ (tu_ tg16 nx16 (2, 848), nx16 + 1, ns16 + 848, z0_ st18 nx16) (fun tg19 nx19 ns19 sa19 => lt_ (sr_ sa19 o 9 (some nx16)) (fun st21 => ck_ (fo_bg nx19 ns19 16 cN cS) (aw_ (tu_ tg19 nx19 (2, 16), nx19 + 1, ns19 + 16, z0_ st21 nx19) (fun tg22 nx22 ns22 sa22 => lt_ (sr_ sa22 o 10 (some nx19)) (fun st24 => ck_ (fo_bg nx22 ns22 400 cN cS) (aw_ (tu_ tg22 nx22 (2, 400), nx22 + 1, ns22 + 400, z0_ st24 nx22) (fun tg25 nx25 ns25 sa25 => lt_ (sr_ sa25 o 12 (some nx22)) (fun st27 => lt_ (si_ st27 o 18 (-1 : Int32)) (fun st28 => ck_ (fo_bg nx25 ns25 96 cN cS) (aw_ (tu_ tg25 nx25 (2, 96), nx25 + 1, ns25 + 96, z0_ st28 nx25) (fun tg29 nx29 ns29 sa29 => lt_ (sr_ sa29 o 22 (some nx25)) (fun st31 => ck_ (fo_bg nx29 ns29 400 cN cS) (aw_ (tu_ tg29 nx29 (2, 400), nx29 + 1, ns29 + 400, z0_ st31 nx29) (fun tg32 nx32 ns32 sa32 => lt_ (sr_ sa32 o 24 (some nx29)) (fun st34 => ck_ (fo_bg nx32 ns32 400 cN cS) (aw_ (tu_ tg32 nx32 (2, 400), nx32 + 1, ns32 + 400, z0_ st34 nx32) (fun tg35 nx35 ns35 sa35 => lt_ (sr_ sa35 o 25 (some nx32)) (fun st37 => ck_ (fo_bg nx35 ns35 400 cN cS) (aw_ (tu_ tg35 nx35 (2, 400), nx35 + 1, ns35 + 400, z0_ st37 nx35) (fun tg38 nx38 ns38 sa38 => lt_ (sr_ sa38 o 27 (some nx35)) (fun st40 => ck_ (fo_bg nx38 ns38 400 cN cS) (aw_ (tu_ tg38 nx38 (2, 400), nx38 + 1, ns38 + 400, z0_ st40 nx38) (fun tg41 nx41 ns41 sa41 => lt_ (sr_ sa41 o 28 (some nx38)) (fun st43 => ck_ (fo_bg nx41 ns41 11 cN cS) (aw_ (tu_ tg41 nx41 (5, 11), nx41 + 1, ns41 + 11, z0_ st43 nx41) (fun tg44 nx44 ns44 sa44 => lt_ (sl_ sa44 nx41 (0 : Int32).toNatClampNeg (605677 : Int64)) (fun st46 => lt_ (sl_ st46 nx41 (1 : Int32).toNatClampNeg (12885268 : Int64)) (fun st47 => lt_ (sl_ st47 nx41 (2 : Int32).toNatClampNeg (23732 : Int64)) (fun st48 => lt_ (sl_ st48 nx41 (3 : Int32).toNatClampNeg (632645 : Int64)) (fun st49 => lt_ (sl_ st49 nx41 (4 : Int32).toNatClampNeg (370116 : Int64)) (fun st50 => lt_ (sl_ st50 nx41 (5 : Int32).toNatClampNeg (7945966 : Int64)) (fun st51 => lt_ (sl_ st51 nx41 (6 : Int32).toNatClampNeg (202810777 : Int64)) (fun st52 => lt_ (sl_ st52 nx41 (7 : Int32).toNatClampNeg (642829806 : Int64)) (fun st53 => lt_ (sl_ st53 nx41 (8 : Int32).toNatClampNeg (441828 : Int64)) (fun st54 => lt_ (sl_ st54 nx41 (9 : Int32).toNatClampNeg (14849171 : Int64)) (fun st55 => lt_ (sl_ st55 nx41 (10 : Int32).toNatClampNeg (153401715 : Int64)) (fun st56 => lt_ (sr_ st56 o 31 (some nx41)) (fun st57 => ck_ (fo_bg nx44 ns44 7 cN cS) (aw_ (tu_ tg44 nx44 (5, 7), nx44 + 1, ns44 + 7, z0_ st57 nx44) (fun tg58 nx58 ns58 sa58 => lt_ (sl_ sa58 nx44 (0 : Int32).toNatClampNeg (642829806 : Int64)) (fun st60 => lt_ (sl_ st60 nx44 (1 : Int32).toNatClampNeg (21566643 : Int64)) (fun st61 => lt_ (sl_ st61 nx44 (2 : Int32).toNatClampNeg (146885 : Int64)) (fun st62 => lt_ (sl_ st62 nx44 (3 : Int32).toNatClampNeg (409204 : Int64)) (fun st63 => lt_ (sl_ st63 nx44 (4 : Int32).toNatClampNeg (7945966 : Int64)) (fun st64 => lt_ (sl_ st64 nx44 (5 : Int32).toNatClampNeg (370116 : Int64)) (fun st65 => lt_ (sl_ st65 nx44 (6 : Int32).toNatClampNeg (23823 : Int64)) (fun st66 => lt_ (sr_ st66 o 32 (some nx44)) (fun st67 => ck_ (fo_bg nx58 ns58 5 cN cS) (aw_ (tu_ tg58 nx58 (5, 5), nx58 + 1, ns58 + 5, z0_ st67 nx58) (fun tg68 nx68 ns68 sa68 => lt_ (sl_ sa68 nx58 (0 : Int32).toNatClampNeg (7945971 : Int64)) (fun st70 => lt_ (sl_ st70 nx58 (1 : Int32).toNatClampNeg (20620947 : Int64)) (fun st71 => lt_ (sl_ st71 nx58 (2 : Int32).toNatClampNeg (407951539 : Int64)) (fun st72 => lt_ (sl_ st72 nx58 (3 : Int32).toNatClampNeg (3650739 : Int64)) (fun st73 => lt_ (sl_ st73 nx58 (4 : Int32).toNatClampNeg (67155 : Int64)) (fun st74 => lt_ (sr_ st74 o 33 (some nx58)) (fun st75 => ck_ (fo_bg nx68 ns68 13 cN cS) (aw_ (tu_ tg68 nx68 (5, 13), nx68 + 1, ns68 + 13, z0_ st75 nx68) (fun tg76 nx76 ns76 sa76 => lt_ (sr_ sa76 o 35 (some nx68)) (fun st78 => ck_ (fo_bg nx76 ns76 13 cN cS) (aw_ (tu_ tg76 nx76 (5, 13), nx76 + 1, ns76 + 13, z0_ st78 nx76) (fun tg79 nx79 ns79 sa79 => lt_ (sr_ sa79 o 36 (some nx76)) (fun st81 => ck_ (fo_bg nx79 ns79 400 cN cS) (aw_ (tu_ tg79 nx79 (5, 400), nx79 + 1, ns79 + 400, z0_ st81 nx79) (fun tg82 nx82 ns82 sa82 => lt_ (sr_ sa82 o 37 (some nx79)) (fun st84 => ck_ (fo_bg nx82 ns82 16 cN cS) (aw_ (tu_ tg82 nx82 (2, 16), nx82 + 1, ns82 + 16, z0_ st84 nx82) (fun tg85 nx85 ns85 sa85 => lt_ (sr_ sa85 o 41 (some nx82)) (fun st87 => ck_ (fo_bg nx85 ns85 16 cN cS) (aw_ (tu_ tg85 nx85 (2, 16), nx85 + 1, ns85 + 16, z0_ st87 nx85) (fun tg88 nx88 ns88 sa88 => lt_ (sr_ sa88 o 42 (some nx85)) (fun st90 => ck_ (fo_bg nx88 ns88 6 cN cS) (aw_ (tu_ tg88 nx88 (2, 6), nx88 + 1, ns88 + 6, z0_ st90 nx88) (fun tg91 nx91 ns91 sa91 => lt_ (sr_ sa91 o 43 (some nx88)) (fun st93 => ck_ (fo_bg nx91 ns91 96 cN cS) (aw_ (tu_ tg91 nx91 (2, 96), nx91 + 1, ns91 + 96, z0_ st93 nx91) (fun tg94 nx94 ns94 sa94 => lt_ (sr_ sa94 o 44 (some nx91)) (fun st96 => ck_ (fo_bg nx94 ns94 6 cN cS) (aw_ (tu_ tg94 nx94 (2, 6), nx94 + 1, ns94 + 6, z0_ st96 nx94) (fun tg97 nx97 ns97 sa97 => lt_ (sr_ sa97 o 45 (some nx94)) (fun st99 => ck_ (fo_bg nx97 ns97 7 cN cS) (aw_ (tu_ tg97 nx97 (2, 7), nx97 + 1, ns97 + 7, z0_ st99 nx97) (fun tg100 nx100 ns100 sa100 => lt_ (sr_ sa100 o 46 (some nx97)) (fun st102 => ck_ (fo_bg nx100 ns100 6 cN cS) (aw_ (tu_ tg100 nx100 (2, 6), nx100 + 1, ns100 + 6, z0_ st102 nx100) (fun tg103 nx103 ns103 sa103 => lt_ (sr_ sa103 o 47 (some nx100)) (fun st105 => ck_ (fo_bg nx103 ns103 7 cN cS) (aw_ (tu_ tg103 nx103 (2, 7), nx103 + 1, ns103 + 7, z0_ st105 nx103) (fun tg106 nx106 ns106 sa106 => lt_ (sr_ sa106 o 48 (some nx103)) (fun st108 => ck_ (fo_bg nx106 ns106 7 cN cS) (aw_ (tu_ tg106 nx106 (2, 7), nx106 + 1, ns106 + 7, z0_ st108 nx106) (fun tg109 nx109 ns109 sa109 => lt_ (sr_ sa109 o 49 (some nx106)) (fun st111 => ck_ (fo_bg nx109 ns109 112 cN cS) (aw_ (tu_ tg109 nx109 (2, 112), nx109 + 1, ns109 + 112, z0_ st111 nx109) (fun tg112 nx112 ns112 sa112 => lt_ (sr_ sa112 o 50 (some nx109)) (fun st114 => ck_ (fo_bg nx112 ns112 16 cN cS) (aw_ (tu_ tg112 nx112 (2, 16), nx112 + 1, ns112 + 16, z0_ st114 nx112) (fun tg115 nx115 ns115 sa115 => lt_ (sr_ sa115 o 51 (some nx112)) (fun st117 => ck_ (fo_bg nx115 ns115 16 cN cS) (aw_ (tu_ tg115 nx115 (5, 16), nx115 + 1, ns115 + 16, z0_ st117 nx115) (fun tg118 nx118 ns118 sa118 => lt_ (sr_ sa118 o 52 (some nx115)) (fun st120 => ck_ (fo_bg nx118 ns118 5 cN cS) (aw_ (tu_ tg118 nx118 (5, 5), nx118 + 1, ns118 + 5, z0_ st120 nx118) (fun tg121 nx121 ns121 sa121 => lt_ (sl_ sa121 nx118 (0 : Int32).toNatClampNeg (17171924 : Int64)) (fun st123 => lt_ (sl_ st123 nx118 (1 : Int32).toNatClampNeg (17388997 : Int64)) (fun st124 => lt_ (sl_ st124 nx118 (2 : Int32).toNatClampNeg (12468 : Int64)) (fun st125 => lt_ (sl_ st125 nx118 (3 : Int32).toNatClampNeg (5685913 : Int64)) (fun st126 => lt_ (sl_ st126 nx118 (4 : Int32).toNatClampNeg (525939 : Int64)) (fun st127 => lt_ (sr_ st127 o 53 (some nx118)) (fun st128 => ck_ (fo_bg nx121 ns121 96 cN cS) (aw_ (tu_ tg121 nx121 (2, 96), nx121 + 1, ns121 + 96, z0_ st128 nx121) (fun tg129 nx129 ns129 sa129 => lt_ (sr_ sa129 o 54 (some nx121)) (fun st131 => lt_ (si_ st131 o 57 (-1 : Int32)) (fun st132 => ck_ (fo_bg nx129 ns129 32 cN cS) (aw_ (tu_ tg129 nx129 (2, 32), nx129 + 1, ns129 + 32, z0_ st132 nx129) (fun tg133 nx133 ns133 sa133 => lt_ (sr_ sa133 o 60 (some nx129)) (fun st135 => rn_ (gr_ st135 o 3) (fun q136 => ck_ (decide (tg133 q136 = (2, 5540))) (lt_ (si_ st135 q136 (2 : Int32).toNatClampNeg (-1 : Int32)) (fun st138 => rn_ (gr_ st138 o 3) (fun q139 => ck_ (decide (tg133 q139 = (2, 5540))) (lt_ (si_ st138 q139 (4 : Int32).toNatClampNeg (10 : Int32)) (fun st141 => rn_ (gr_ st141 o 3) (fun q142 => ck_ (decide (tg133 q142 = (2, 5540))) (lt_ (si_ st141 q142 (5 : Int32).toNatClampNeg (30 : Int32)) (fun st144 => rn_ (gr_ st144 o 3) (fun q145 => ck_ (decide (tg133 q145 = (2, 5540))) (lt_ (si_ st144 q145 (6 : Int32).toNatClampNeg (3 : Int32)) (fun st147 => lp2_ (fun rec150 (x148 : Int32) (a149 : fo_A) => aw_ a149 (fun tg149 nx149 ns149 sa149 => if (16 : Int32) ≤ x148 then lp2_ (fun rec153 (x151 : Int32) (a152 : fo_A) => aw_ a152 (fun tg152 nx152 ns152 sa152 => if (12 : Int32) ≤ x151 then some (.inl (), (tg152, nx152, ns152, sa152)) else rn_ (gr_ sa152 o 3) (fun q154 => ck_ (decide (tg152 q154 = (2, 5540))) (ck_ (fo_in ((104 : Int32) + x151) 5540) (lt_ (si_ sa152 q154 ((104 : Int32) + x151).toNatClampNeg (3 : Int32)) (fun st156 => rec153 (x151 + (1 : Int32)) (tg152, nx152, ns152, st156))))))) G (0 : Int32) (tg149, nx149, ns149, sa149) else rn_ (gr_ sa149 o 3) (fun q157 => ck_ (decide (tg149 q157 = (2, 5540))) (ck_ (fo_in ((8 : Int32) + x148) 5540) (lt_ (si_ sa149 q157 ((8 : Int32) + x148).toNatClampNeg (-1 : Int32)) (fun st159 => rn_ (gr_ st159 o 3) (fun q160 => ck_ (decide (tg149 q160 = (2, 5540))) (ck_ (fo_in ((40 : Int32) + x148) 5540) (lt_ (si_ st159 q160 ((40 : Int32) + x148).toNatClampNeg (-1 : Int32)) (fun st162 => rn_ (gr_ st162 o 3) (fun q163 => ck_ (decide (tg149 q163 = (2, 5540))) (ck_ (fo_in ((56 : Int32) + x148) 5540) (lt_ (si_ st162 q163 ((56 : Int32) + x148).toNatClampNeg (5 : Int32)) (fun st165 => rn_ (gr_ st165 o 3) (fun q166 => ck_ (decide (tg149 q166 = (2, 5540))) (ck_ (fo_in ((72 : Int32) + x148) 5540) (lt_ (si_ st165 q166 ((72 : Int32) + x148).toNatClampNeg (5 : Int32)) (fun st168 => rn_ (gr_ st168 o 3) (fun q169 => ck_ (decide (tg149 q169 = (2, 5540))) (ck_ (fo_in ((88 : Int32) + x148) 5540) (lt_ (si_ st168 q169 ((88 : Int32) + x148).toNatClampNeg (3 : Int32)) (fun st171 => rec150 (x148 + (1 : Int32)) (tg149, nx149, ns149, st171))))))))))))))))))))))) G (0 : Int32) (tg133, nx133, ns133, st147))))))))))))))))))))))))))))))))))))))))))))))))))))))))))))))))))))))))))))))))))))))))))))))))))))))))))))))))))))))))))))))))))))))))))))))))))))
theorem hm_X5_init : fo_M yX5_init 0 := ⟨by decide +kernel, by decide +kernel, by decide +kernel, by decide +kernel⟩
set_option maxHeartbeats 1000000 in
theorem wX5_init_23 (l : Launch) (E : fo_E) (G : Nat) (o : Nat) (fr lo : Nat) (hfr : 2 ≤ fr) (hlo : 60 ≤ lo) (cN cS : Nat) (tg0 : Nat → Nat × Nat) (nx0 ns0 : Nat) (hO : tg0 o = (1, 23)) (st0 : fo_St) (hI : fo_I E tg0 nx0) (hcN : nx0 ≤ cN) (hcS : ns0 ≤ cS) (ρZ : Unit ⊕ Nat) (aZ : fo_A) (hf : fX5_init cN cS G o tg0 nx0 ns0 st0 = some (ρZ, aZ)) : CA vlV l E yX5_init (ws_ yX5_init cX5_init 2 none) fr lo cN cS [.ref (eb E + o)] (tg0, nx0, ns0, st0) ρZ aZ := by
  refine fea_v (a := (tg0, nx0, ns0, st0)) hm_X5_init (Nat.le_of_ble_eq_true rfl) hI hcN hcS (fun p e R s m args below meth c Q hRf hRl X hnm hend hxx ls hl hz => ?_)
  have hin2 : meth.name = "<init>" := hnm
  replace hRf : 2 ≤ R.frames := by rw [hRf]; exact hfr
  replace hRl : 60 ≤ R.locals := by rw [hRl]; exact hlo
  have hx := X.1.1
  have hb := X.1.2.1
  have hl : lv_has ls 2 [(0, .ref (eb E + o))] := hl
  have hz : fo_Z E R s cN cS (tg0, nx0, ns0, st0) tg0 nx0 ns0 st0 s.heap [] := hz
  have hw := hz.1
  show W p l e R s m args below meth c s.heap [] (nx0 - nx0) (ns0 - ns0) Q (F0 m 0 ls [])
  unfold fX5_init at hf
  generalize s.heap = H at hz hw ⊢
  generalize ([] : List Loc) = locs at hz hw ⊢
  refine lv_aload_n hx hb dX5_init_0 rfl (lv_at hl 0 rfl) ?_
  refine W.objInit hx hb X.1.2.2.2.1 (X.1.2.2.2.2 _ q1492) (X.1.2.2.2.2 _ q153) (X.1.2.2.2.2 _ q154) rfl (by rw [X.1.2.2.1]; exact hl.1) rfl dX5_init_1 (Nat.le_trans (Nat.le_of_ble_eq_true rfl) hRf) (Nat.le_trans (Nat.le_of_ble_eq_true rfl) hRl) ?_
  refine lv_aload_n hx hb dX5_init_4 rfl (lv_at hl 0 rfl) ?_
  refine lv_bipush (v := (7 : Int32)) hx hb dX5_init_5 (by decide) ?_
  have hf0 := hf
  clear hf
  refine fa_newi X hz q185 (L := 7) (by decide) (by decide) (by decide) dX5_init_7 hf0 (fun tg1 nx1 ns1 sa1 H hext hq2 hz2 hf => ?_)
  clear hf0
  have hO := hext.t hI hO
  have hz := hz2
  have hw := hz.1
  have hI := hz.2.1
  clear hz2 hext
  have hf0 := hf
  clear hf
  refine fo_putrF (fo_Xw X) hin2 hw fr_X5 hO (k := 2) (by decide) rfl rfl rfl q1520 (fun _ => ⟨rfl, rfl⟩) dX5_init_9 hf0 (fun st3 H locs hw hf => ?_)
  clear hf0
  have hz := hz.s hw
  refine lv_aload_n hx hb dX5_init_12 rfl (lv_at hl 0 rfl) ?_
  refine lv_sipush (v := (5540 : Int32)) hx hb dX5_init_13 (by decide) ?_
  have hf0 := hf
  clear hf
  refine fa_newi X hz q185 (L := 5540) (by decide) (by decide) (by decide) dX5_init_16 hf0 (fun tg4 nx4 ns4 sa4 H hext hq5 hz2 hf => ?_)
  clear hf0
  have hO := hext.t hI hO
  have hq2 := hext.t hI hq2
  have hz := hz2
  have hw := hz.1
  have hI := hz.2.1
  clear hz2 hext
  have hf0 := hf
  clear hf
  refine fo_putrF (fo_Xw X) hin2 hw fr_X5 hO (k := 3) (by decide) rfl rfl rfl q1521 (fun _ => ⟨rfl, rfl⟩) dX5_init_18 hf0 (fun st6 H locs hw hf => ?_)
  clear hf0
  have hz := hz.s hw
  refine lv_aload_n hx hb dX5_init_21 rfl (lv_at hl 0 rfl) ?_
  refine lv_sipush (v := (11080 : Int32)) hx hb dX5_init_22 (by decide) ?_
  have hf0 := hf
  clear hf
  refine fa_newi X hz q185 (L := 11080) (by decide) (by decide) (by decide) dX5_init_25 hf0 (fun tg7 nx7 ns7 sa7 H hext hq8 hz2 hf => ?_)
  clear hf0
  have hO := hext.t hI hO
  have hq2 := hext.t hI hq2
  have hq5 := hext.t hI hq5
  have hz := hz2
  have hw := hz.1
  have hI := hz.2.1
  clear hz2 hext
  have hf0 := hf
  clear hf
  refine fo_putrF (fo_Xw X) hin2 hw fr_X5 hO (k := 4) (by decide) rfl rfl rfl q1522 (fun _ => ⟨rfl, rfl⟩) dX5_init_27 hf0 (fun st9 H locs hw hf => ?_)
  clear hf0
  have hz := hz.s hw
  refine lv_aload_n hx hb dX5_init_30 rfl (lv_at hl 0 rfl) ?_
  refine lv_iconst (v := (2 : Int32)) hx hb dX5_init_31 (by decide) ?_
  have hf0 := hf
  clear hf
  refine fa_newz X hz q1705 (L := 2) (by decide) (by decide) (by decide) dX5_init_32 hf0 (fun tg10 nx10 ns10 sa10 H hext hq11 hz2 hf => ?_)
  clear hf0
  have hO := hext.t hI hO
  have hq2 := hext.t hI hq2
  have hq5 := hext.t hI hq5
  have hq8 := hext.t hI hq8
  have hz := hz2
  have hw := hz.1
  have hI := hz.2.1
  clear hz2 hext
  have hf0 := hf
  clear hf
  refine fo_putrF (fo_Xw X) hin2 hw fr_X5 hO (k := 5) (by decide) rfl rfl rfl q1523 (fun _ => ⟨rfl, rfl⟩) dX5_init_34 hf0 (fun st12 H locs hw hf => ?_)
  clear hf0
  have hz := hz.s hw
  refine lv_aload_n hx hb dX5_init_37 rfl (lv_at hl 0 rfl) ?_
  refine lv_sipush (v := (954 : Int32)) hx hb dX5_init_38 (by decide) ?_
  have hf0 := hf
  clear hf
  refine fa_newi X hz q185 (L := 954) (by decide) (by decide) (by decide) dX5_init_41 hf0 (fun tg13 nx13 ns13 sa13 H hext hq14 hz2 hf => ?_)
  clear hf0
  have hO := hext.t hI hO
  have hq2 := hext.t hI hq2
  have hq5 := hext.t hI hq5
  have hq8 := hext.t hI hq8
  have hq11 := hext.t hI hq11
  have hz := hz2
  have hw := hz.1
  have hI := hz.2.1
  clear hz2 hext
  have hf0 := hf
  clear hf
  refine fo_putrF (fo_Xw X) hin2 hw fr_X5 hO (k := 6) (by decide) rfl rfl rfl q1524 (fun _ => ⟨rfl, rfl⟩) dX5_init_43 hf0 (fun st15 H locs hw hf => ?_)
  clear hf0
  have hz := hz.s hw
  refine lv_aload_n hx hb dX5_init_46 rfl (lv_at hl 0 rfl) ?_
  refine lv_bipush (v := (16 : Int32)) hx hb dX5_init_47 (by decide) ?_
  have hf0 := hf
  clear hf
  refine fa_newi X hz q185 (L := 16) (by decide) (by decide) (by decide) dX5_init_49 hf0 (fun tg16 nx16 ns16 sa16 H hext hq17 hz2 hf => ?_)
  clear hf0
  have hO := hext.t hI hO
  have hq2 := hext.t hI hq2
  have hq5 := hext.t hI hq5
  have hq8 := hext.t hI hq8
  have hq11 := hext.t hI hq11
  have hq14 := hext.t hI hq14
  have hz := hz2
  have hw := hz.1
  have hI := hz.2.1
  clear hz2 hext
  have hf0 := hf
  clear hf
  refine fo_putrF (fo_Xw X) hin2 hw fr_X5 hO (k := 7) (by decide) rfl rfl rfl q1525 (fun _ => ⟨rfl, rfl⟩) dX5_init_51 hf0 (fun st18 H locs hw hf => ?_)
  clear hf0
  have hz := hz.s hw
  refine lv_aload_n hx hb dX5_init_54 rfl (lv_at hl 0 rfl) ?_
  refine lv_sipush (v := (848 : Int32)) hx hb dX5_init_55 (by decide) ?_
  have hf0 := hf
  clear hf
  refine fa_newi X hz q185 (L := 848) (by decide) (by decide) (by decide) dX5_init_58 hf0 (fun tg19 nx19 ns19 sa19 H hext hq20 hz2 hf => ?_)
  clear hf0
  have hO := hext.t hI hO
  have hq2 := hext.t hI hq2
  have hq5 := hext.t hI hq5
  have hq8 := hext.t hI hq8
  have hq11 := hext.t hI hq11
  have hq14 := hext.t hI hq14
  have hq17 := hext.t hI hq17
  have hz := hz2
  have hw := hz.1
  have hI := hz.2.1
  clear hz2 hext
  have hf0 := hf
  clear hf
  refine fo_putrF (fo_Xw X) hin2 hw fr_X5 hO (k := 9) (by decide) rfl rfl rfl q1527 (fun _ => ⟨rfl, rfl⟩) dX5_init_60 hf0 (fun st21 H locs hw hf => ?_)
  clear hf0
  have hz := hz.s hw
  refine lv_aload_n hx hb dX5_init_63 rfl (lv_at hl 0 rfl) ?_
  refine lv_bipush (v := (16 : Int32)) hx hb dX5_init_64 (by decide) ?_
  have hf0 := hf
  clear hf
  refine fa_newi X hz q185 (L := 16) (by decide) (by decide) (by decide) dX5_init_66 hf0 (fun tg22 nx22 ns22 sa22 H hext hq23 hz2 hf => ?_)
  clear hf0
  have hO := hext.t hI hO
  have hq2 := hext.t hI hq2
  have hq5 := hext.t hI hq5
  have hq8 := hext.t hI hq8
  have hq11 := hext.t hI hq11
  have hq14 := hext.t hI hq14
  have hq17 := hext.t hI hq17
  have hq20 := hext.t hI hq20
  have hz := hz2
  have hw := hz.1
  have hI := hz.2.1
  clear hz2 hext
  have hf0 := hf
  clear hf
  refine fo_putrF (fo_Xw X) hin2 hw fr_X5 hO (k := 10) (by decide) rfl rfl rfl q1528 (fun _ => ⟨rfl, rfl⟩) dX5_init_68 hf0 (fun st24 H locs hw hf => ?_)
  clear hf0
  have hz := hz.s hw
  refine lv_aload_n hx hb dX5_init_71 rfl (lv_at hl 0 rfl) ?_
  refine lv_sipush (v := (400 : Int32)) hx hb dX5_init_72 (by decide) ?_
  have hf0 := hf
  clear hf
  refine fa_newi X hz q185 (L := 400) (by decide) (by decide) (by decide) dX5_init_75 hf0 (fun tg25 nx25 ns25 sa25 H hext hq26 hz2 hf => ?_)
  clear hf0
  have hO := hext.t hI hO
  have hq2 := hext.t hI hq2
  have hq5 := hext.t hI hq5
  have hq8 := hext.t hI hq8
  have hq11 := hext.t hI hq11
  have hq14 := hext.t hI hq14
  have hq17 := hext.t hI hq17
  have hq20 := hext.t hI hq20
  have hq23 := hext.t hI hq23
  have hz := hz2
  have hw := hz.1
  have hI := hz.2.1
  clear hz2 hext
  have hf0 := hf
  clear hf
  refine fo_putrF (fo_Xw X) hin2 hw fr_X5 hO (k := 12) (by decide) rfl rfl rfl q1530 (fun _ => ⟨rfl, rfl⟩) dX5_init_77 hf0 (fun st27 H locs hw hf => ?_)
  clear hf0
  have hz := hz.s hw
  refine lv_aload_n hx hb dX5_init_80 rfl (lv_at hl 0 rfl) ?_
  refine lv_iconst (v := (-1 : Int32)) hx hb dX5_init_81 (by decide) ?_
  have hf0 := hf
  clear hf
  refine fo_puti (fo_Xw X) hw fr_X5 hO (k := 18) (by decide) rfl rfl q1536 ⟨rfl, rfl⟩ dX5_init_82 hf0 (fun st28 H locs hw hf => ?_)
  clear hf0
  have hz := hz.s hw
  refine lv_aload_n hx hb dX5_init_85 rfl (lv_at hl 0 rfl) ?_
  refine lv_bipush (v := (96 : Int32)) hx hb dX5_init_86 (by decide) ?_
  have hf0 := hf
  clear hf
  refine fa_newi X hz q185 (L := 96) (by decide) (by decide) (by decide) dX5_init_88 hf0 (fun tg29 nx29 ns29 sa29 H hext hq30 hz2 hf => ?_)
  clear hf0
  have hO := hext.t hI hO
  have hq2 := hext.t hI hq2
  have hq5 := hext.t hI hq5
  have hq8 := hext.t hI hq8
  have hq11 := hext.t hI hq11
  have hq14 := hext.t hI hq14
  have hq17 := hext.t hI hq17
  have hq20 := hext.t hI hq20
  have hq23 := hext.t hI hq23
  have hq26 := hext.t hI hq26
  have hz := hz2
  have hw := hz.1
  have hI := hz.2.1
  clear hz2 hext
  have hf0 := hf
  clear hf
  refine fo_putrF (fo_Xw X) hin2 hw fr_X5 hO (k := 22) (by decide) rfl rfl rfl q1540 (fun _ => ⟨rfl, rfl⟩) dX5_init_90 hf0 (fun st31 H locs hw hf => ?_)
  clear hf0
  have hz := hz.s hw
  refine lv_aload_n hx hb dX5_init_93 rfl (lv_at hl 0 rfl) ?_
  refine lv_sipush (v := (400 : Int32)) hx hb dX5_init_94 (by decide) ?_
  have hf0 := hf
  clear hf
  refine fa_newi X hz q185 (L := 400) (by decide) (by decide) (by decide) dX5_init_97 hf0 (fun tg32 nx32 ns32 sa32 H hext hq33 hz2 hf => ?_)
  clear hf0
  have hO := hext.t hI hO
  have hq2 := hext.t hI hq2
  have hq5 := hext.t hI hq5
  have hq8 := hext.t hI hq8
  have hq11 := hext.t hI hq11
  have hq14 := hext.t hI hq14
  have hq17 := hext.t hI hq17
  have hq20 := hext.t hI hq20
  have hq23 := hext.t hI hq23
  have hq26 := hext.t hI hq26
  have hq30 := hext.t hI hq30
  have hz := hz2
  have hw := hz.1
  have hI := hz.2.1
  clear hz2 hext
  have hf0 := hf
  clear hf
  refine fo_putrF (fo_Xw X) hin2 hw fr_X5 hO (k := 24) (by decide) rfl rfl rfl q1542 (fun _ => ⟨rfl, rfl⟩) dX5_init_99 hf0 (fun st34 H locs hw hf => ?_)
  clear hf0
  have hz := hz.s hw
  refine lv_aload_n hx hb dX5_init_102 rfl (lv_at hl 0 rfl) ?_
  refine lv_sipush (v := (400 : Int32)) hx hb dX5_init_103 (by decide) ?_
  have hf0 := hf
  clear hf
  refine fa_newi X hz q185 (L := 400) (by decide) (by decide) (by decide) dX5_init_106 hf0 (fun tg35 nx35 ns35 sa35 H hext hq36 hz2 hf => ?_)
  clear hf0
  have hO := hext.t hI hO
  have hq2 := hext.t hI hq2
  have hq5 := hext.t hI hq5
  have hq8 := hext.t hI hq8
  have hq11 := hext.t hI hq11
  have hq14 := hext.t hI hq14
  have hq17 := hext.t hI hq17
  have hq20 := hext.t hI hq20
  have hq23 := hext.t hI hq23
  have hq26 := hext.t hI hq26
  have hq30 := hext.t hI hq30
  have hq33 := hext.t hI hq33
  have hz := hz2
  have hw := hz.1
  have hI := hz.2.1
  clear hz2 hext
  have hf0 := hf
  clear hf
  refine fo_putrF (fo_Xw X) hin2 hw fr_X5 hO (k := 25) (by decide) rfl rfl rfl q1543 (fun _ => ⟨rfl, rfl⟩) dX5_init_108 hf0 (fun st37 H locs hw hf => ?_)
  clear hf0
  have hz := hz.s hw
  refine lv_aload_n hx hb dX5_init_111 rfl (lv_at hl 0 rfl) ?_
  refine lv_sipush (v := (400 : Int32)) hx hb dX5_init_112 (by decide) ?_
  have hf0 := hf
  clear hf
  refine fa_newi X hz q185 (L := 400) (by decide) (by decide) (by decide) dX5_init_115 hf0 (fun tg38 nx38 ns38 sa38 H hext hq39 hz2 hf => ?_)
  clear hf0
  have hO := hext.t hI hO
  have hq2 := hext.t hI hq2
  have hq5 := hext.t hI hq5
  have hq8 := hext.t hI hq8
  have hq11 := hext.t hI hq11
  have hq14 := hext.t hI hq14
  have hq17 := hext.t hI hq17
  have hq20 := hext.t hI hq20
  have hq23 := hext.t hI hq23
  have hq26 := hext.t hI hq26
  have hq30 := hext.t hI hq30
  have hq33 := hext.t hI hq33
  have hq36 := hext.t hI hq36
  have hz := hz2
  have hw := hz.1
  have hI := hz.2.1
  clear hz2 hext
  have hf0 := hf
  clear hf
  refine fo_putrF (fo_Xw X) hin2 hw fr_X5 hO (k := 27) (by decide) rfl rfl rfl q1545 (fun _ => ⟨rfl, rfl⟩) dX5_init_117 hf0 (fun st40 H locs hw hf => ?_)
  clear hf0
  have hz := hz.s hw
  refine lv_aload_n hx hb dX5_init_120 rfl (lv_at hl 0 rfl) ?_
  refine lv_sipush (v := (400 : Int32)) hx hb dX5_init_121 (by decide) ?_
  have hf0 := hf
  clear hf
  refine fa_newi X hz q185 (L := 400) (by decide) (by decide) (by decide) dX5_init_124 hf0 (fun tg41 nx41 ns41 sa41 H hext hq42 hz2 hf => ?_)
  clear hf0
  have hO := hext.t hI hO
  have hq2 := hext.t hI hq2
  have hq5 := hext.t hI hq5
  have hq8 := hext.t hI hq8
  have hq11 := hext.t hI hq11
  have hq14 := hext.t hI hq14
  have hq17 := hext.t hI hq17
  have hq20 := hext.t hI hq20
  have hq23 := hext.t hI hq23
  have hq26 := hext.t hI hq26
  have hq30 := hext.t hI hq30
  have hq33 := hext.t hI hq33
  have hq36 := hext.t hI hq36
  have hq39 := hext.t hI hq39
  have hz := hz2
  have hw := hz.1
  have hI := hz.2.1
  clear hz2 hext
  have hf0 := hf
  clear hf
  refine fo_putrF (fo_Xw X) hin2 hw fr_X5 hO (k := 28) (by decide) rfl rfl rfl q1546 (fun _ => ⟨rfl, rfl⟩) dX5_init_126 hf0 (fun st43 H locs hw hf => ?_)
  clear hf0
  have hz := hz.s hw
  refine lv_aload_n hx hb dX5_init_129 rfl (lv_at hl 0 rfl) ?_
  refine lv_bipush (v := (11 : Int32)) hx hb dX5_init_130 (by decide) ?_
  have hf0 := hf
  clear hf
  refine fa_newl X hz q344 (L := 11) (by decide) (by decide) (by decide) dX5_init_132 hf0 (fun tg44 nx44 ns44 sa44 H hext hq45 hz2 hf => ?_)
  clear hf0
  have hO := hext.t hI hO
  have hq2 := hext.t hI hq2
  have hq5 := hext.t hI hq5
  have hq8 := hext.t hI hq8
  have hq11 := hext.t hI hq11
  have hq14 := hext.t hI hq14
  have hq17 := hext.t hI hq17
  have hq20 := hext.t hI hq20
  have hq23 := hext.t hI hq23
  have hq26 := hext.t hI hq26
  have hq30 := hext.t hI hq30
  have hq33 := hext.t hI hq33
  have hq36 := hext.t hI hq36
  have hq39 := hext.t hI hq39
  have hq42 := hext.t hI hq42
  have hz := hz2
  have hw := hz.1
  have hI := hz.2.1
  clear hz2 hext
  refine lv_dup hx hb dX5_init_134 rfl ?_
  refine lv_iconst (v := (0 : Int32)) hx hb dX5_init_135 (by decide) ?_
  refine lv_ldc2 (v := (605677 : Int64)) hx hb X.1.2.2.2.1 (X.1.2.2.2.2 _ q1493) dX5_init_136 ?_
  have hf0 := hf
  clear hf
  refine fo_lastK (fo_Xw X) hw hq45 dX5_init_139 (by decide) hf0 (fun st46 H locs hw hf => ?_)
  clear hf0
  have hz := hz.s hw
  refine lv_dup hx hb dX5_init_140 rfl ?_
  refine lv_iconst (v := (1 : Int32)) hx hb dX5_init_141 (by decide) ?_
  refine lv_ldc2 (v := (12885268 : Int64)) hx hb X.1.2.2.2.1 (X.1.2.2.2.2 _ q1494) dX5_init_142 ?_
  have hf0 := hf
  clear hf
  refine fo_lastK (fo_Xw X) hw hq45 dX5_init_145 (by decide) hf0 (fun st47 H locs hw hf => ?_)
  clear hf0
  have hz := hz.s hw
  refine lv_dup hx hb dX5_init_146 rfl ?_
  refine lv_iconst (v := (2 : Int32)) hx hb dX5_init_147 (by decide) ?_
  refine lv_ldc2 (v := (23732 : Int64)) hx hb X.1.2.2.2.1 (X.1.2.2.2.2 _ q1495) dX5_init_148 ?_
  have hf0 := hf
  clear hf
  refine fo_lastK (fo_Xw X) hw hq45 dX5_init_151 (by decide) hf0 (fun st48 H locs hw hf => ?_)
  clear hf0
  have hz := hz.s hw
  refine lv_dup hx hb dX5_init_152 rfl ?_
  refine lv_iconst (v := (3 : Int32)) hx hb dX5_init_153 (by decide) ?_
  refine lv_ldc2 (v := (632645 : Int64)) hx hb X.1.2.2.2.1 (X.1.2.2.2.2 _ q1496) dX5_init_154 ?_
  have hf0 := hf
  clear hf
  refine fo_lastK (fo_Xw X) hw hq45 dX5_init_157 (by decide) hf0 (fun st49 H locs hw hf => ?_)
  clear hf0
  have hz := hz.s hw
  refine lv_dup hx hb dX5_init_158 rfl ?_
  refine lv_iconst (v := (4 : Int32)) hx hb dX5_init_159 (by decide) ?_
  refine lv_ldc2 (v := (370116 : Int64)) hx hb X.1.2.2.2.1 (X.1.2.2.2.2 _ q1497) dX5_init_160 ?_
  have hf0 := hf
  clear hf
  refine fo_lastK (fo_Xw X) hw hq45 dX5_init_163 (by decide) hf0 (fun st50 H locs hw hf => ?_)
  clear hf0
  have hz := hz.s hw
  refine lv_dup hx hb dX5_init_164 rfl ?_
  refine lv_iconst (v := (5 : Int32)) hx hb dX5_init_165 (by decide) ?_
  refine lv_ldc2 (v := (7945966 : Int64)) hx hb X.1.2.2.2.1 (X.1.2.2.2.2 _ q1498) dX5_init_166 ?_
  have hf0 := hf
  clear hf
  refine fo_lastK (fo_Xw X) hw hq45 dX5_init_169 (by decide) hf0 (fun st51 H locs hw hf => ?_)
  clear hf0
  have hz := hz.s hw
  refine lv_dup hx hb dX5_init_170 rfl ?_
  refine lv_bipush (v := (6 : Int32)) hx hb dX5_init_171 (by decide) ?_
  refine lv_ldc2 (v := (202810777 : Int64)) hx hb X.1.2.2.2.1 (X.1.2.2.2.2 _ q1499) dX5_init_173 ?_
  have hf0 := hf
  clear hf
  refine fo_lastK (fo_Xw X) hw hq45 dX5_init_176 (by decide) hf0 (fun st52 H locs hw hf => ?_)
  clear hf0
  have hz := hz.s hw
  refine lv_dup hx hb dX5_init_177 rfl ?_
  refine lv_bipush (v := (7 : Int32)) hx hb dX5_init_178 (by decide) ?_
  refine lv_ldc2 (v := (642829806 : Int64)) hx hb X.1.2.2.2.1 (X.1.2.2.2.2 _ q1500) dX5_init_180 ?_
  have hf0 := hf
  clear hf
  refine fo_lastK (fo_Xw X) hw hq45 dX5_init_183 (by decide) hf0 (fun st53 H locs hw hf => ?_)
  clear hf0
  have hz := hz.s hw
  refine lv_dup hx hb dX5_init_184 rfl ?_
  refine lv_bipush (v := (8 : Int32)) hx hb dX5_init_185 (by decide) ?_
  refine lv_ldc2 (v := (441828 : Int64)) hx hb X.1.2.2.2.1 (X.1.2.2.2.2 _ q1501) dX5_init_187 ?_
  have hf0 := hf
  clear hf
  refine fo_lastK (fo_Xw X) hw hq45 dX5_init_190 (by decide) hf0 (fun st54 H locs hw hf => ?_)
  clear hf0
  have hz := hz.s hw
  refine lv_dup hx hb dX5_init_191 rfl ?_
  refine lv_bipush (v := (9 : Int32)) hx hb dX5_init_192 (by decide) ?_
  refine lv_ldc2 (v := (14849171 : Int64)) hx hb X.1.2.2.2.1 (X.1.2.2.2.2 _ q1502) dX5_init_194 ?_
  have hf0 := hf
  clear hf
  refine fo_lastK (fo_Xw X) hw hq45 dX5_init_197 (by decide) hf0 (fun st55 H locs hw hf => ?_)
  clear hf0
  have hz := hz.s hw
  refine lv_dup hx hb dX5_init_198 rfl ?_
  refine lv_bipush (v := (10 : Int32)) hx hb dX5_init_199 (by decide) ?_
  refine lv_ldc2 (v := (153401715 : Int64)) hx hb X.1.2.2.2.1 (X.1.2.2.2.2 _ q1503) dX5_init_201 ?_
  have hf0 := hf
  clear hf
  refine fo_lastK (fo_Xw X) hw hq45 dX5_init_204 (by decide) hf0 (fun st56 H locs hw hf => ?_)
  clear hf0
  have hz := hz.s hw
  have hf0 := hf
  clear hf
  refine fo_putrF (fo_Xw X) hin2 hw fr_X5 hO (k := 31) (by decide) rfl rfl rfl q1549 (fun _ => ⟨rfl, rfl⟩) dX5_init_205 hf0 (fun st57 H locs hw hf => ?_)
  clear hf0
  have hz := hz.s hw
  refine lv_aload_n hx hb dX5_init_208 rfl (lv_at hl 0 rfl) ?_
  refine lv_bipush (v := (7 : Int32)) hx hb dX5_init_209 (by decide) ?_
  have hf0 := hf
  clear hf
  refine fa_newl X hz q344 (L := 7) (by decide) (by decide) (by decide) dX5_init_211 hf0 (fun tg58 nx58 ns58 sa58 H hext hq59 hz2 hf => ?_)
  clear hf0
  have hO := hext.t hI hO
  have hq2 := hext.t hI hq2
  have hq5 := hext.t hI hq5
  have hq8 := hext.t hI hq8
  have hq11 := hext.t hI hq11
  have hq14 := hext.t hI hq14
  have hq17 := hext.t hI hq17
  have hq20 := hext.t hI hq20
  have hq23 := hext.t hI hq23
  have hq26 := hext.t hI hq26
  have hq30 := hext.t hI hq30
  have hq33 := hext.t hI hq33
  have hq36 := hext.t hI hq36
  have hq39 := hext.t hI hq39
  have hq42 := hext.t hI hq42
  have hq45 := hext.t hI hq45
  have hz := hz2
  have hw := hz.1
  have hI := hz.2.1
  clear hz2 hext
  refine lv_dup hx hb dX5_init_213 rfl ?_
  refine lv_iconst (v := (0 : Int32)) hx hb dX5_init_214 (by decide) ?_
  refine lv_ldc2 (v := (642829806 : Int64)) hx hb X.1.2.2.2.1 (X.1.2.2.2.2 _ q1500) dX5_init_215 ?_
  have hf0 := hf
  clear hf
  refine fo_lastK (fo_Xw X) hw hq59 dX5_init_218 (by decide) hf0 (fun st60 H locs hw hf => ?_)
  clear hf0
  have hz := hz.s hw
  refine lv_dup hx hb dX5_init_219 rfl ?_
  refine lv_iconst (v := (1 : Int32)) hx hb dX5_init_220 (by decide) ?_
  refine lv_ldc2 (v := (21566643 : Int64)) hx hb X.1.2.2.2.1 (X.1.2.2.2.2 _ q1504) dX5_init_221 ?_
  have hf0 := hf
  clear hf
  refine fo_lastK (fo_Xw X) hw hq59 dX5_init_224 (by decide) hf0 (fun st61 H locs hw hf => ?_)
  clear hf0
  have hz := hz.s hw
  refine lv_dup hx hb dX5_init_225 rfl ?_
  refine lv_iconst (v := (2 : Int32)) hx hb dX5_init_226 (by decide) ?_
  refine lv_ldc2 (v := (146885 : Int64)) hx hb X.1.2.2.2.1 (X.1.2.2.2.2 _ q1505) dX5_init_227 ?_
  have hf0 := hf
  clear hf
  refine fo_lastK (fo_Xw X) hw hq59 dX5_init_230 (by decide) hf0 (fun st62 H locs hw hf => ?_)
  clear hf0
  have hz := hz.s hw
  refine lv_dup hx hb dX5_init_231 rfl ?_
  refine lv_iconst (v := (3 : Int32)) hx hb dX5_init_232 (by decide) ?_
  refine lv_ldc2 (v := (409204 : Int64)) hx hb X.1.2.2.2.1 (X.1.2.2.2.2 _ q1506) dX5_init_233 ?_
  have hf0 := hf
  clear hf
  refine fo_lastK (fo_Xw X) hw hq59 dX5_init_236 (by decide) hf0 (fun st63 H locs hw hf => ?_)
  clear hf0
  have hz := hz.s hw
  refine lv_dup hx hb dX5_init_237 rfl ?_
  refine lv_iconst (v := (4 : Int32)) hx hb dX5_init_238 (by decide) ?_
  refine lv_ldc2 (v := (7945966 : Int64)) hx hb X.1.2.2.2.1 (X.1.2.2.2.2 _ q1498) dX5_init_239 ?_
  have hf0 := hf
  clear hf
  refine fo_lastK (fo_Xw X) hw hq59 dX5_init_242 (by decide) hf0 (fun st64 H locs hw hf => ?_)
  clear hf0
  have hz := hz.s hw
  refine lv_dup hx hb dX5_init_243 rfl ?_
  refine lv_iconst (v := (5 : Int32)) hx hb dX5_init_244 (by decide) ?_
  refine lv_ldc2 (v := (370116 : Int64)) hx hb X.1.2.2.2.1 (X.1.2.2.2.2 _ q1497) dX5_init_245 ?_
  have hf0 := hf
  clear hf
  refine fo_lastK (fo_Xw X) hw hq59 dX5_init_248 (by decide) hf0 (fun st65 H locs hw hf => ?_)
  clear hf0
  have hz := hz.s hw
  refine lv_dup hx hb dX5_init_249 rfl ?_
  refine lv_bipush (v := (6 : Int32)) hx hb dX5_init_250 (by decide) ?_
  refine lv_ldc2 (v := (23823 : Int64)) hx hb X.1.2.2.2.1 (X.1.2.2.2.2 _ q1507) dX5_init_252 ?_
  have hf0 := hf
  clear hf
  refine fo_lastK (fo_Xw X) hw hq59 dX5_init_255 (by decide) hf0 (fun st66 H locs hw hf => ?_)
  clear hf0
  have hz := hz.s hw
  have hf0 := hf
  clear hf
  refine fo_putrF (fo_Xw X) hin2 hw fr_X5 hO (k := 32) (by decide) rfl rfl rfl q1550 (fun _ => ⟨rfl, rfl⟩) dX5_init_256 hf0 (fun st67 H locs hw hf => ?_)
  clear hf0
  have hz := hz.s hw
  refine lv_aload_n hx hb dX5_init_259 rfl (lv_at hl 0 rfl) ?_
  refine lv_iconst (v := (5 : Int32)) hx hb dX5_init_260 (by decide) ?_
  have hf0 := hf
  clear hf
  refine fa_newl X hz q344 (L := 5) (by decide) (by decide) (by decide) dX5_init_261 hf0 (fun tg68 nx68 ns68 sa68 H hext hq69 hz2 hf => ?_)
  clear hf0
  have hO := hext.t hI hO
  have hq2 := hext.t hI hq2
  have hq5 := hext.t hI hq5
  have hq8 := hext.t hI hq8
  have hq11 := hext.t hI hq11
  have hq14 := hext.t hI hq14
  have hq17 := hext.t hI hq17
  have hq20 := hext.t hI hq20
  have hq23 := hext.t hI hq23
  have hq26 := hext.t hI hq26
  have hq30 := hext.t hI hq30
  have hq33 := hext.t hI hq33
  have hq36 := hext.t hI hq36
  have hq39 := hext.t hI hq39
  have hq42 := hext.t hI hq42
  have hq45 := hext.t hI hq45
  have hq59 := hext.t hI hq59
  have hz := hz2
  have hw := hz.1
  have hI := hz.2.1
  clear hz2 hext
  refine lv_dup hx hb dX5_init_263 rfl ?_
  refine lv_iconst (v := (0 : Int32)) hx hb dX5_init_264 (by decide) ?_
  refine lv_ldc2 (v := (7945971 : Int64)) hx hb X.1.2.2.2.1 (X.1.2.2.2.2 _ q1508) dX5_init_265 ?_
  have hf0 := hf
  clear hf
  refine fo_lastK (fo_Xw X) hw hq69 dX5_init_268 (by decide) hf0 (fun st70 H locs hw hf => ?_)
  clear hf0
  have hz := hz.s hw
  refine lv_dup hx hb dX5_init_269 rfl ?_
  refine lv_iconst (v := (1 : Int32)) hx hb dX5_init_270 (by decide) ?_
  refine lv_ldc2 (v := (20620947 : Int64)) hx hb X.1.2.2.2.1 (X.1.2.2.2.2 _ q1509) dX5_init_271 ?_
  have hf0 := hf
  clear hf
  refine fo_lastK (fo_Xw X) hw hq69 dX5_init_274 (by decide) hf0 (fun st71 H locs hw hf => ?_)
  clear hf0
  have hz := hz.s hw
  refine lv_dup hx hb dX5_init_275 rfl ?_
  refine lv_iconst (v := (2 : Int32)) hx hb dX5_init_276 (by decide) ?_
  refine lv_ldc2 (v := (407951539 : Int64)) hx hb X.1.2.2.2.1 (X.1.2.2.2.2 _ q1510) dX5_init_277 ?_
  have hf0 := hf
  clear hf
  refine fo_lastK (fo_Xw X) hw hq69 dX5_init_280 (by decide) hf0 (fun st72 H locs hw hf => ?_)
  clear hf0
  have hz := hz.s hw
  refine lv_dup hx hb dX5_init_281 rfl ?_
  refine lv_iconst (v := (3 : Int32)) hx hb dX5_init_282 (by decide) ?_
  refine lv_ldc2 (v := (3650739 : Int64)) hx hb X.1.2.2.2.1 (X.1.2.2.2.2 _ q1511) dX5_init_283 ?_
  have hf0 := hf
  clear hf
  refine fo_lastK (fo_Xw X) hw hq69 dX5_init_286 (by decide) hf0 (fun st73 H locs hw hf => ?_)
  clear hf0
  have hz := hz.s hw
  refine lv_dup hx hb dX5_init_287 rfl ?_
  refine lv_iconst (v := (4 : Int32)) hx hb dX5_init_288 (by decide) ?_
  refine lv_ldc2 (v := (67155 : Int64)) hx hb X.1.2.2.2.1 (X.1.2.2.2.2 _ q1512) dX5_init_289 ?_
  have hf0 := hf
  clear hf
  refine fo_lastK (fo_Xw X) hw hq69 dX5_init_292 (by decide) hf0 (fun st74 H locs hw hf => ?_)
  clear hf0
  have hz := hz.s hw
  have hf0 := hf
  clear hf
  refine fo_putrF (fo_Xw X) hin2 hw fr_X5 hO (k := 33) (by decide) rfl rfl rfl q1551 (fun _ => ⟨rfl, rfl⟩) dX5_init_293 hf0 (fun st75 H locs hw hf => ?_)
  clear hf0
  have hz := hz.s hw
  refine lv_aload_n hx hb dX5_init_296 rfl (lv_at hl 0 rfl) ?_
  refine lv_bipush (v := (13 : Int32)) hx hb dX5_init_297 (by decide) ?_
  have hf0 := hf
  clear hf
  refine fa_newl X hz q344 (L := 13) (by decide) (by decide) (by decide) dX5_init_299 hf0 (fun tg76 nx76 ns76 sa76 H hext hq77 hz2 hf => ?_)
  clear hf0
  have hO := hext.t hI hO
  have hq2 := hext.t hI hq2
  have hq5 := hext.t hI hq5
  have hq8 := hext.t hI hq8
  have hq11 := hext.t hI hq11
  have hq14 := hext.t hI hq14
  have hq17 := hext.t hI hq17
  have hq20 := hext.t hI hq20
  have hq23 := hext.t hI hq23
  have hq26 := hext.t hI hq26
  have hq30 := hext.t hI hq30
  have hq33 := hext.t hI hq33
  have hq36 := hext.t hI hq36
  have hq39 := hext.t hI hq39
  have hq42 := hext.t hI hq42
  have hq45 := hext.t hI hq45
  have hq59 := hext.t hI hq59
  have hq69 := hext.t hI hq69
  have hz := hz2
  have hw := hz.1
  have hI := hz.2.1
  clear hz2 hext
  have hf0 := hf
  clear hf
  refine fo_putrF (fo_Xw X) hin2 hw fr_X5 hO (k := 35) (by decide) rfl rfl rfl q1553 (fun _ => ⟨rfl, rfl⟩) dX5_init_301 hf0 (fun st78 H locs hw hf => ?_)
  clear hf0
  have hz := hz.s hw
  refine lv_aload_n hx hb dX5_init_304 rfl (lv_at hl 0 rfl) ?_
  refine lv_bipush (v := (13 : Int32)) hx hb dX5_init_305 (by decide) ?_
  have hf0 := hf
  clear hf
  refine fa_newl X hz q344 (L := 13) (by decide) (by decide) (by decide) dX5_init_307 hf0 (fun tg79 nx79 ns79 sa79 H hext hq80 hz2 hf => ?_)
  clear hf0
  have hO := hext.t hI hO
  have hq2 := hext.t hI hq2
  have hq5 := hext.t hI hq5
  have hq8 := hext.t hI hq8
  have hq11 := hext.t hI hq11
  have hq14 := hext.t hI hq14
  have hq17 := hext.t hI hq17
  have hq20 := hext.t hI hq20
  have hq23 := hext.t hI hq23
  have hq26 := hext.t hI hq26
  have hq30 := hext.t hI hq30
  have hq33 := hext.t hI hq33
  have hq36 := hext.t hI hq36
  have hq39 := hext.t hI hq39
  have hq42 := hext.t hI hq42
  have hq45 := hext.t hI hq45
  have hq59 := hext.t hI hq59
  have hq69 := hext.t hI hq69
  have hq77 := hext.t hI hq77
  have hz := hz2
  have hw := hz.1
  have hI := hz.2.1
  clear hz2 hext
  have hf0 := hf
  clear hf
  refine fo_putrF (fo_Xw X) hin2 hw fr_X5 hO (k := 36) (by decide) rfl rfl rfl q1554 (fun _ => ⟨rfl, rfl⟩) dX5_init_309 hf0 (fun st81 H locs hw hf => ?_)
  clear hf0
  have hz := hz.s hw
  refine lv_aload_n hx hb dX5_init_312 rfl (lv_at hl 0 rfl) ?_
  refine lv_sipush (v := (400 : Int32)) hx hb dX5_init_313 (by decide) ?_
  have hf0 := hf
  clear hf
  refine fa_newl X hz q344 (L := 400) (by decide) (by decide) (by decide) dX5_init_316 hf0 (fun tg82 nx82 ns82 sa82 H hext hq83 hz2 hf => ?_)
  clear hf0
  have hO := hext.t hI hO
  have hq2 := hext.t hI hq2
  have hq5 := hext.t hI hq5
  have hq8 := hext.t hI hq8
  have hq11 := hext.t hI hq11
  have hq14 := hext.t hI hq14
  have hq17 := hext.t hI hq17
  have hq20 := hext.t hI hq20
  have hq23 := hext.t hI hq23
  have hq26 := hext.t hI hq26
  have hq30 := hext.t hI hq30
  have hq33 := hext.t hI hq33
  have hq36 := hext.t hI hq36
  have hq39 := hext.t hI hq39
  have hq42 := hext.t hI hq42
  have hq45 := hext.t hI hq45
  have hq59 := hext.t hI hq59
  have hq69 := hext.t hI hq69
  have hq77 := hext.t hI hq77
  have hq80 := hext.t hI hq80
  have hz := hz2
  have hw := hz.1
  have hI := hz.2.1
  clear hz2 hext
  have hf0 := hf
  clear hf
  refine fo_putrF (fo_Xw X) hin2 hw fr_X5 hO (k := 37) (by decide) rfl rfl rfl q1555 (fun _ => ⟨rfl, rfl⟩) dX5_init_318 hf0 (fun st84 H locs hw hf => ?_)
  clear hf0
  have hz := hz.s hw
  refine lv_aload_n hx hb dX5_init_321 rfl (lv_at hl 0 rfl) ?_
  refine lv_bipush (v := (16 : Int32)) hx hb dX5_init_322 (by decide) ?_
  have hf0 := hf
  clear hf
  refine fa_newi X hz q185 (L := 16) (by decide) (by decide) (by decide) dX5_init_324 hf0 (fun tg85 nx85 ns85 sa85 H hext hq86 hz2 hf => ?_)
  clear hf0
  have hO := hext.t hI hO
  have hq2 := hext.t hI hq2
  have hq5 := hext.t hI hq5
  have hq8 := hext.t hI hq8
  have hq11 := hext.t hI hq11
  have hq14 := hext.t hI hq14
  have hq17 := hext.t hI hq17
  have hq20 := hext.t hI hq20
  have hq23 := hext.t hI hq23
  have hq26 := hext.t hI hq26
  have hq30 := hext.t hI hq30
  have hq33 := hext.t hI hq33
  have hq36 := hext.t hI hq36
  have hq39 := hext.t hI hq39
  have hq42 := hext.t hI hq42
  have hq45 := hext.t hI hq45
  have hq59 := hext.t hI hq59
  have hq69 := hext.t hI hq69
  have hq77 := hext.t hI hq77
  have hq80 := hext.t hI hq80
  have hq83 := hext.t hI hq83
  have hz := hz2
  have hw := hz.1
  have hI := hz.2.1
  clear hz2 hext
  have hf0 := hf
  clear hf
  refine fo_putrF (fo_Xw X) hin2 hw fr_X5 hO (k := 41) (by decide) rfl rfl rfl q1559 (fun _ => ⟨rfl, rfl⟩) dX5_init_326 hf0 (fun st87 H locs hw hf => ?_)
  clear hf0
  have hz := hz.s hw
  refine lv_aload_n hx hb dX5_init_329 rfl (lv_at hl 0 rfl) ?_
  refine lv_bipush (v := (16 : Int32)) hx hb dX5_init_330 (by decide) ?_
  have hf0 := hf
  clear hf
  refine fa_newi X hz q185 (L := 16) (by decide) (by decide) (by decide) dX5_init_332 hf0 (fun tg88 nx88 ns88 sa88 H hext hq89 hz2 hf => ?_)
  clear hf0
  have hO := hext.t hI hO
  have hq2 := hext.t hI hq2
  have hq5 := hext.t hI hq5
  have hq8 := hext.t hI hq8
  have hq11 := hext.t hI hq11
  have hq14 := hext.t hI hq14
  have hq17 := hext.t hI hq17
  have hq20 := hext.t hI hq20
  have hq23 := hext.t hI hq23
  have hq26 := hext.t hI hq26
  have hq30 := hext.t hI hq30
  have hq33 := hext.t hI hq33
  have hq36 := hext.t hI hq36
  have hq39 := hext.t hI hq39
  have hq42 := hext.t hI hq42
  have hq45 := hext.t hI hq45
  have hq59 := hext.t hI hq59
  have hq69 := hext.t hI hq69
  have hq77 := hext.t hI hq77
  have hq80 := hext.t hI hq80
  have hq83 := hext.t hI hq83
  have hq86 := hext.t hI hq86
  have hz := hz2
  have hw := hz.1
  have hI := hz.2.1
  clear hz2 hext
  have hf0 := hf
  clear hf
  refine fo_putrF (fo_Xw X) hin2 hw fr_X5 hO (k := 42) (by decide) rfl rfl rfl q1560 (fun _ => ⟨rfl, rfl⟩) dX5_init_334 hf0 (fun st90 H locs hw hf => ?_)
  clear hf0
  have hz := hz.s hw
  refine lv_aload_n hx hb dX5_init_337 rfl (lv_at hl 0 rfl) ?_
  refine lv_bipush (v := (6 : Int32)) hx hb dX5_init_338 (by decide) ?_
  have hf0 := hf
  clear hf
  refine fa_newi X hz q185 (L := 6) (by decide) (by decide) (by decide) dX5_init_340 hf0 (fun tg91 nx91 ns91 sa91 H hext hq92 hz2 hf => ?_)
  clear hf0
  have hO := hext.t hI hO
  have hq2 := hext.t hI hq2
  have hq5 := hext.t hI hq5
  have hq8 := hext.t hI hq8
  have hq11 := hext.t hI hq11
  have hq14 := hext.t hI hq14
  have hq17 := hext.t hI hq17
  have hq20 := hext.t hI hq20
  have hq23 := hext.t hI hq23
  have hq26 := hext.t hI hq26
  have hq30 := hext.t hI hq30
  have hq33 := hext.t hI hq33
  have hq36 := hext.t hI hq36
  have hq39 := hext.t hI hq39
  have hq42 := hext.t hI hq42
  have hq45 := hext.t hI hq45
  have hq59 := hext.t hI hq59
  have hq69 := hext.t hI hq69
  have hq77 := hext.t hI hq77
  have hq80 := hext.t hI hq80
  have hq83 := hext.t hI hq83
  have hq86 := hext.t hI hq86
  have hq89 := hext.t hI hq89
  have hz := hz2
  have hw := hz.1
  have hI := hz.2.1
  clear hz2 hext
  have hf0 := hf
  clear hf
  refine fo_putrF (fo_Xw X) hin2 hw fr_X5 hO (k := 43) (by decide) rfl rfl rfl q1561 (fun _ => ⟨rfl, rfl⟩) dX5_init_342 hf0 (fun st93 H locs hw hf => ?_)
  clear hf0
  have hz := hz.s hw
  refine lv_aload_n hx hb dX5_init_345 rfl (lv_at hl 0 rfl) ?_
  refine lv_bipush (v := (96 : Int32)) hx hb dX5_init_346 (by decide) ?_
  have hf0 := hf
  clear hf
  refine fa_newi X hz q185 (L := 96) (by decide) (by decide) (by decide) dX5_init_348 hf0 (fun tg94 nx94 ns94 sa94 H hext hq95 hz2 hf => ?_)
  clear hf0
  have hO := hext.t hI hO
  have hq2 := hext.t hI hq2
  have hq5 := hext.t hI hq5
  have hq8 := hext.t hI hq8
  have hq11 := hext.t hI hq11
  have hq14 := hext.t hI hq14
  have hq17 := hext.t hI hq17
  have hq20 := hext.t hI hq20
  have hq23 := hext.t hI hq23
  have hq26 := hext.t hI hq26
  have hq30 := hext.t hI hq30
  have hq33 := hext.t hI hq33
  have hq36 := hext.t hI hq36
  have hq39 := hext.t hI hq39
  have hq42 := hext.t hI hq42
  have hq45 := hext.t hI hq45
  have hq59 := hext.t hI hq59
  have hq69 := hext.t hI hq69
  have hq77 := hext.t hI hq77
  have hq80 := hext.t hI hq80
  have hq83 := hext.t hI hq83
  have hq86 := hext.t hI hq86
  have hq89 := hext.t hI hq89
  have hq92 := hext.t hI hq92
  have hz := hz2
  have hw := hz.1
  have hI := hz.2.1
  clear hz2 hext
  have hf0 := hf
  clear hf
  refine fo_putrF (fo_Xw X) hin2 hw fr_X5 hO (k := 44) (by decide) rfl rfl rfl q1562 (fun _ => ⟨rfl, rfl⟩) dX5_init_350 hf0 (fun st96 H locs hw hf => ?_)
  clear hf0
  have hz := hz.s hw
  refine lv_aload_n hx hb dX5_init_353 rfl (lv_at hl 0 rfl) ?_
  refine lv_bipush (v := (6 : Int32)) hx hb dX5_init_354 (by decide) ?_
  have hf0 := hf
  clear hf
  refine fa_newi X hz q185 (L := 6) (by decide) (by decide) (by decide) dX5_init_356 hf0 (fun tg97 nx97 ns97 sa97 H hext hq98 hz2 hf => ?_)
  clear hf0
  have hO := hext.t hI hO
  have hq2 := hext.t hI hq2
  have hq5 := hext.t hI hq5
  have hq8 := hext.t hI hq8
  have hq11 := hext.t hI hq11
  have hq14 := hext.t hI hq14
  have hq17 := hext.t hI hq17
  have hq20 := hext.t hI hq20
  have hq23 := hext.t hI hq23
  have hq26 := hext.t hI hq26
  have hq30 := hext.t hI hq30
  have hq33 := hext.t hI hq33
  have hq36 := hext.t hI hq36
  have hq39 := hext.t hI hq39
  have hq42 := hext.t hI hq42
  have hq45 := hext.t hI hq45
  have hq59 := hext.t hI hq59
  have hq69 := hext.t hI hq69
  have hq77 := hext.t hI hq77
  have hq80 := hext.t hI hq80
  have hq83 := hext.t hI hq83
  have hq86 := hext.t hI hq86
  have hq89 := hext.t hI hq89
  have hq92 := hext.t hI hq92
  have hq95 := hext.t hI hq95
  have hz := hz2
  have hw := hz.1
  have hI := hz.2.1
  clear hz2 hext
  have hf0 := hf
  clear hf
  refine fo_putrF (fo_Xw X) hin2 hw fr_X5 hO (k := 45) (by decide) rfl rfl rfl q1563 (fun _ => ⟨rfl, rfl⟩) dX5_init_358 hf0 (fun st99 H locs hw hf => ?_)
  clear hf0
  have hz := hz.s hw
  refine lv_aload_n hx hb dX5_init_361 rfl (lv_at hl 0 rfl) ?_
  refine lv_bipush (v := (7 : Int32)) hx hb dX5_init_362 (by decide) ?_
  have hf0 := hf
  clear hf
  refine fa_newi X hz q185 (L := 7) (by decide) (by decide) (by decide) dX5_init_364 hf0 (fun tg100 nx100 ns100 sa100 H hext hq101 hz2 hf => ?_)
  clear hf0
  have hO := hext.t hI hO
  have hq2 := hext.t hI hq2
  have hq5 := hext.t hI hq5
  have hq8 := hext.t hI hq8
  have hq11 := hext.t hI hq11
  have hq14 := hext.t hI hq14
  have hq17 := hext.t hI hq17
  have hq20 := hext.t hI hq20
  have hq23 := hext.t hI hq23
  have hq26 := hext.t hI hq26
  have hq30 := hext.t hI hq30
  have hq33 := hext.t hI hq33
  have hq36 := hext.t hI hq36
  have hq39 := hext.t hI hq39
  have hq42 := hext.t hI hq42
  have hq45 := hext.t hI hq45
  have hq59 := hext.t hI hq59
  have hq69 := hext.t hI hq69
  have hq77 := hext.t hI hq77
  have hq80 := hext.t hI hq80
  have hq83 := hext.t hI hq83
  have hq86 := hext.t hI hq86
  have hq89 := hext.t hI hq89
  have hq92 := hext.t hI hq92
  have hq95 := hext.t hI hq95
  have hq98 := hext.t hI hq98
  have hz := hz2
  have hw := hz.1
  have hI := hz.2.1
  clear hz2 hext
  have hf0 := hf
  clear hf
  refine fo_putrF (fo_Xw X) hin2 hw fr_X5 hO (k := 46) (by decide) rfl rfl rfl q1564 (fun _ => ⟨rfl, rfl⟩) dX5_init_366 hf0 (fun st102 H locs hw hf => ?_)
  clear hf0
  have hz := hz.s hw
  refine lv_aload_n hx hb dX5_init_369 rfl (lv_at hl 0 rfl) ?_
  refine lv_bipush (v := (6 : Int32)) hx hb dX5_init_370 (by decide) ?_
  have hf0 := hf
  clear hf
  refine fa_newi X hz q185 (L := 6) (by decide) (by decide) (by decide) dX5_init_372 hf0 (fun tg103 nx103 ns103 sa103 H hext hq104 hz2 hf => ?_)
  clear hf0
  have hO := hext.t hI hO
  have hq2 := hext.t hI hq2
  have hq5 := hext.t hI hq5
  have hq8 := hext.t hI hq8
  have hq11 := hext.t hI hq11
  have hq14 := hext.t hI hq14
  have hq17 := hext.t hI hq17
  have hq20 := hext.t hI hq20
  have hq23 := hext.t hI hq23
  have hq26 := hext.t hI hq26
  have hq30 := hext.t hI hq30
  have hq33 := hext.t hI hq33
  have hq36 := hext.t hI hq36
  have hq39 := hext.t hI hq39
  have hq42 := hext.t hI hq42
  have hq45 := hext.t hI hq45
  have hq59 := hext.t hI hq59
  have hq69 := hext.t hI hq69
  have hq77 := hext.t hI hq77
  have hq80 := hext.t hI hq80
  have hq83 := hext.t hI hq83
  have hq86 := hext.t hI hq86
  have hq89 := hext.t hI hq89
  have hq92 := hext.t hI hq92
  have hq95 := hext.t hI hq95
  have hq98 := hext.t hI hq98
  have hq101 := hext.t hI hq101
  have hz := hz2
  have hw := hz.1
  have hI := hz.2.1
  clear hz2 hext
  have hf0 := hf
  clear hf
  refine fo_putrF (fo_Xw X) hin2 hw fr_X5 hO (k := 47) (by decide) rfl rfl rfl q1565 (fun _ => ⟨rfl, rfl⟩) dX5_init_374 hf0 (fun st105 H locs hw hf => ?_)
  clear hf0
  have hz := hz.s hw
  refine lv_aload_n hx hb dX5_init_377 rfl (lv_at hl 0 rfl) ?_
  refine lv_bipush (v := (7 : Int32)) hx hb dX5_init_378 (by decide) ?_
  have hf0 := hf
  clear hf
  refine fa_newi X hz q185 (L := 7) (by decide) (by decide) (by decide) dX5_init_380 hf0 (fun tg106 nx106 ns106 sa106 H hext hq107 hz2 hf => ?_)
  clear hf0
  have hO := hext.t hI hO
  have hq2 := hext.t hI hq2
  have hq5 := hext.t hI hq5
  have hq8 := hext.t hI hq8
  have hq11 := hext.t hI hq11
  have hq14 := hext.t hI hq14
  have hq17 := hext.t hI hq17
  have hq20 := hext.t hI hq20
  have hq23 := hext.t hI hq23
  have hq26 := hext.t hI hq26
  have hq30 := hext.t hI hq30
  have hq33 := hext.t hI hq33
  have hq36 := hext.t hI hq36
  have hq39 := hext.t hI hq39
  have hq42 := hext.t hI hq42
  have hq45 := hext.t hI hq45
  have hq59 := hext.t hI hq59
  have hq69 := hext.t hI hq69
  have hq77 := hext.t hI hq77
  have hq80 := hext.t hI hq80
  have hq83 := hext.t hI hq83
  have hq86 := hext.t hI hq86
  have hq89 := hext.t hI hq89
  have hq92 := hext.t hI hq92
  have hq95 := hext.t hI hq95
  have hq98 := hext.t hI hq98
  have hq101 := hext.t hI hq101
  have hq104 := hext.t hI hq104
  have hz := hz2
  have hw := hz.1
  have hI := hz.2.1
  clear hz2 hext
  have hf0 := hf
  clear hf
  refine fo_putrF (fo_Xw X) hin2 hw fr_X5 hO (k := 48) (by decide) rfl rfl rfl q1566 (fun _ => ⟨rfl, rfl⟩) dX5_init_382 hf0 (fun st108 H locs hw hf => ?_)
  clear hf0
  have hz := hz.s hw
  refine lv_aload_n hx hb dX5_init_385 rfl (lv_at hl 0 rfl) ?_
  refine lv_bipush (v := (7 : Int32)) hx hb dX5_init_386 (by decide) ?_
  have hf0 := hf
  clear hf
  refine fa_newi X hz q185 (L := 7) (by decide) (by decide) (by decide) dX5_init_388 hf0 (fun tg109 nx109 ns109 sa109 H hext hq110 hz2 hf => ?_)
  clear hf0
  have hO := hext.t hI hO
  have hq2 := hext.t hI hq2
  have hq5 := hext.t hI hq5
  have hq8 := hext.t hI hq8
  have hq11 := hext.t hI hq11
  have hq14 := hext.t hI hq14
  have hq17 := hext.t hI hq17
  have hq20 := hext.t hI hq20
  have hq23 := hext.t hI hq23
  have hq26 := hext.t hI hq26
  have hq30 := hext.t hI hq30
  have hq33 := hext.t hI hq33
  have hq36 := hext.t hI hq36
  have hq39 := hext.t hI hq39
  have hq42 := hext.t hI hq42
  have hq45 := hext.t hI hq45
  have hq59 := hext.t hI hq59
  have hq69 := hext.t hI hq69
  have hq77 := hext.t hI hq77
  have hq80 := hext.t hI hq80
  have hq83 := hext.t hI hq83
  have hq86 := hext.t hI hq86
  have hq89 := hext.t hI hq89
  have hq92 := hext.t hI hq92
  have hq95 := hext.t hI hq95
  have hq98 := hext.t hI hq98
  have hq101 := hext.t hI hq101
  have hq104 := hext.t hI hq104
  have hq107 := hext.t hI hq107
  have hz := hz2
  have hw := hz.1
  have hI := hz.2.1
  clear hz2 hext
  have hf0 := hf
  clear hf
  refine fo_putrF (fo_Xw X) hin2 hw fr_X5 hO (k := 49) (by decide) rfl rfl rfl q1567 (fun _ => ⟨rfl, rfl⟩) dX5_init_390 hf0 (fun st111 H locs hw hf => ?_)
  clear hf0
  have hz := hz.s hw
  refine lv_aload_n hx hb dX5_init_393 rfl (lv_at hl 0 rfl) ?_
  refine lv_bipush (v := (112 : Int32)) hx hb dX5_init_394 (by decide) ?_
  have hf0 := hf
  clear hf
  refine fa_newi X hz q185 (L := 112) (by decide) (by decide) (by decide) dX5_init_396 hf0 (fun tg112 nx112 ns112 sa112 H hext hq113 hz2 hf => ?_)
  clear hf0
  have hO := hext.t hI hO
  have hq2 := hext.t hI hq2
  have hq5 := hext.t hI hq5
  have hq8 := hext.t hI hq8
  have hq11 := hext.t hI hq11
  have hq14 := hext.t hI hq14
  have hq17 := hext.t hI hq17
  have hq20 := hext.t hI hq20
  have hq23 := hext.t hI hq23
  have hq26 := hext.t hI hq26
  have hq30 := hext.t hI hq30
  have hq33 := hext.t hI hq33
  have hq36 := hext.t hI hq36
  have hq39 := hext.t hI hq39
  have hq42 := hext.t hI hq42
  have hq45 := hext.t hI hq45
  have hq59 := hext.t hI hq59
  have hq69 := hext.t hI hq69
  have hq77 := hext.t hI hq77
  have hq80 := hext.t hI hq80
  have hq83 := hext.t hI hq83
  have hq86 := hext.t hI hq86
  have hq89 := hext.t hI hq89
  have hq92 := hext.t hI hq92
  have hq95 := hext.t hI hq95
  have hq98 := hext.t hI hq98
  have hq101 := hext.t hI hq101
  have hq104 := hext.t hI hq104
  have hq107 := hext.t hI hq107
  have hq110 := hext.t hI hq110
  have hz := hz2
  have hw := hz.1
  have hI := hz.2.1
  clear hz2 hext
  have hf0 := hf
  clear hf
  refine fo_putrF (fo_Xw X) hin2 hw fr_X5 hO (k := 50) (by decide) rfl rfl rfl q1568 (fun _ => ⟨rfl, rfl⟩) dX5_init_398 hf0 (fun st114 H locs hw hf => ?_)
  clear hf0
  have hz := hz.s hw
  refine lv_aload_n hx hb dX5_init_401 rfl (lv_at hl 0 rfl) ?_
  refine lv_bipush (v := (16 : Int32)) hx hb dX5_init_402 (by decide) ?_
  have hf0 := hf
  clear hf
  refine fa_newi X hz q185 (L := 16) (by decide) (by decide) (by decide) dX5_init_404 hf0 (fun tg115 nx115 ns115 sa115 H hext hq116 hz2 hf => ?_)
  clear hf0
  have hO := hext.t hI hO
  have hq2 := hext.t hI hq2
  have hq5 := hext.t hI hq5
  have hq8 := hext.t hI hq8
  have hq11 := hext.t hI hq11
  have hq14 := hext.t hI hq14
  have hq17 := hext.t hI hq17
  have hq20 := hext.t hI hq20
  have hq23 := hext.t hI hq23
  have hq26 := hext.t hI hq26
  have hq30 := hext.t hI hq30
  have hq33 := hext.t hI hq33
  have hq36 := hext.t hI hq36
  have hq39 := hext.t hI hq39
  have hq42 := hext.t hI hq42
  have hq45 := hext.t hI hq45
  have hq59 := hext.t hI hq59
  have hq69 := hext.t hI hq69
  have hq77 := hext.t hI hq77
  have hq80 := hext.t hI hq80
  have hq83 := hext.t hI hq83
  have hq86 := hext.t hI hq86
  have hq89 := hext.t hI hq89
  have hq92 := hext.t hI hq92
  have hq95 := hext.t hI hq95
  have hq98 := hext.t hI hq98
  have hq101 := hext.t hI hq101
  have hq104 := hext.t hI hq104
  have hq107 := hext.t hI hq107
  have hq110 := hext.t hI hq110
  have hq113 := hext.t hI hq113
  have hz := hz2
  have hw := hz.1
  have hI := hz.2.1
  clear hz2 hext
  have hf0 := hf
  clear hf
  refine fo_putrF (fo_Xw X) hin2 hw fr_X5 hO (k := 51) (by decide) rfl rfl rfl q1569 (fun _ => ⟨rfl, rfl⟩) dX5_init_406 hf0 (fun st117 H locs hw hf => ?_)
  clear hf0
  have hz := hz.s hw
  refine lv_aload_n hx hb dX5_init_409 rfl (lv_at hl 0 rfl) ?_
  refine lv_bipush (v := (16 : Int32)) hx hb dX5_init_410 (by decide) ?_
  have hf0 := hf
  clear hf
  refine fa_newl X hz q344 (L := 16) (by decide) (by decide) (by decide) dX5_init_412 hf0 (fun tg118 nx118 ns118 sa118 H hext hq119 hz2 hf => ?_)
  clear hf0
  have hO := hext.t hI hO
  have hq2 := hext.t hI hq2
  have hq5 := hext.t hI hq5
  have hq8 := hext.t hI hq8
  have hq11 := hext.t hI hq11
  have hq14 := hext.t hI hq14
  have hq17 := hext.t hI hq17
  have hq20 := hext.t hI hq20
  have hq23 := hext.t hI hq23
  have hq26 := hext.t hI hq26
  have hq30 := hext.t hI hq30
  have hq33 := hext.t hI hq33
  have hq36 := hext.t hI hq36
  have hq39 := hext.t hI hq39
  have hq42 := hext.t hI hq42
  have hq45 := hext.t hI hq45
  have hq59 := hext.t hI hq59
  have hq69 := hext.t hI hq69
  have hq77 := hext.t hI hq77
  have hq80 := hext.t hI hq80
  have hq83 := hext.t hI hq83
  have hq86 := hext.t hI hq86
  have hq89 := hext.t hI hq89
  have hq92 := hext.t hI hq92
  have hq95 := hext.t hI hq95
  have hq98 := hext.t hI hq98
  have hq101 := hext.t hI hq101
  have hq104 := hext.t hI hq104
  have hq107 := hext.t hI hq107
  have hq110 := hext.t hI hq110
  have hq113 := hext.t hI hq113
  have hq116 := hext.t hI hq116
  have hz := hz2
  have hw := hz.1
  have hI := hz.2.1
  clear hz2 hext
  have hf0 := hf
  clear hf
  refine fo_putrF (fo_Xw X) hin2 hw fr_X5 hO (k := 52) (by decide) rfl rfl rfl q1570 (fun _ => ⟨rfl, rfl⟩) dX5_init_414 hf0 (fun st120 H locs hw hf => ?_)
  clear hf0
  have hz := hz.s hw
  refine lv_aload_n hx hb dX5_init_417 rfl (lv_at hl 0 rfl) ?_
  refine lv_iconst (v := (5 : Int32)) hx hb dX5_init_418 (by decide) ?_
  have hf0 := hf
  clear hf
  refine fa_newl X hz q344 (L := 5) (by decide) (by decide) (by decide) dX5_init_419 hf0 (fun tg121 nx121 ns121 sa121 H hext hq122 hz2 hf => ?_)
  clear hf0
  have hO := hext.t hI hO
  have hq2 := hext.t hI hq2
  have hq5 := hext.t hI hq5
  have hq8 := hext.t hI hq8
  have hq11 := hext.t hI hq11
  have hq14 := hext.t hI hq14
  have hq17 := hext.t hI hq17
  have hq20 := hext.t hI hq20
  have hq23 := hext.t hI hq23
  have hq26 := hext.t hI hq26
  have hq30 := hext.t hI hq30
  have hq33 := hext.t hI hq33
  have hq36 := hext.t hI hq36
  have hq39 := hext.t hI hq39
  have hq42 := hext.t hI hq42
  have hq45 := hext.t hI hq45
  have hq59 := hext.t hI hq59
  have hq69 := hext.t hI hq69
  have hq77 := hext.t hI hq77
  have hq80 := hext.t hI hq80
  have hq83 := hext.t hI hq83
  have hq86 := hext.t hI hq86
  have hq89 := hext.t hI hq89
  have hq92 := hext.t hI hq92
  have hq95 := hext.t hI hq95
  have hq98 := hext.t hI hq98
  have hq101 := hext.t hI hq101
  have hq104 := hext.t hI hq104
  have hq107 := hext.t hI hq107
  have hq110 := hext.t hI hq110
  have hq113 := hext.t hI hq113
  have hq116 := hext.t hI hq116
  have hq119 := hext.t hI hq119
  have hz := hz2
  have hw := hz.1
  have hI := hz.2.1
  clear hz2 hext
  refine lv_dup hx hb dX5_init_421 rfl ?_
  refine lv_iconst (v := (0 : Int32)) hx hb dX5_init_422 (by decide) ?_
  refine lv_ldc2 (v := (17171924 : Int64)) hx hb X.1.2.2.2.1 (X.1.2.2.2.2 _ q1513) dX5_init_423 ?_
  have hf0 := hf
  clear hf
  refine fo_lastK (fo_Xw X) hw hq122 dX5_init_426 (by decide) hf0 (fun st123 H locs hw hf => ?_)
  clear hf0
  have hz := hz.s hw
  refine lv_dup hx hb dX5_init_427 rfl ?_
  refine lv_iconst (v := (1 : Int32)) hx hb dX5_init_428 (by decide) ?_
  refine lv_ldc2 (v := (17388997 : Int64)) hx hb X.1.2.2.2.1 (X.1.2.2.2.2 _ q1514) dX5_init_429 ?_
  have hf0 := hf
  clear hf
  refine fo_lastK (fo_Xw X) hw hq122 dX5_init_432 (by decide) hf0 (fun st124 H locs hw hf => ?_)
  clear hf0
  have hz := hz.s hw
  refine lv_dup hx hb dX5_init_433 rfl ?_
  refine lv_iconst (v := (2 : Int32)) hx hb dX5_init_434 (by decide) ?_
  refine lv_ldc2 (v := (12468 : Int64)) hx hb X.1.2.2.2.1 (X.1.2.2.2.2 _ q1515) dX5_init_435 ?_
  have hf0 := hf
  clear hf
  refine fo_lastK (fo_Xw X) hw hq122 dX5_init_438 (by decide) hf0 (fun st125 H locs hw hf => ?_)
  clear hf0
  have hz := hz.s hw
  refine lv_dup hx hb dX5_init_439 rfl ?_
  refine lv_iconst (v := (3 : Int32)) hx hb dX5_init_440 (by decide) ?_
  refine lv_ldc2 (v := (5685913 : Int64)) hx hb X.1.2.2.2.1 (X.1.2.2.2.2 _ q1516) dX5_init_441 ?_
  have hf0 := hf
  clear hf
  refine fo_lastK (fo_Xw X) hw hq122 dX5_init_444 (by decide) hf0 (fun st126 H locs hw hf => ?_)
  clear hf0
  have hz := hz.s hw
  refine lv_dup hx hb dX5_init_445 rfl ?_
  refine lv_iconst (v := (4 : Int32)) hx hb dX5_init_446 (by decide) ?_
  refine lv_ldc2 (v := (525939 : Int64)) hx hb X.1.2.2.2.1 (X.1.2.2.2.2 _ q1517) dX5_init_447 ?_
  have hf0 := hf
  clear hf
  refine fo_lastK (fo_Xw X) hw hq122 dX5_init_450 (by decide) hf0 (fun st127 H locs hw hf => ?_)
  clear hf0
  have hz := hz.s hw
  have hf0 := hf
  clear hf
  refine fo_putrF (fo_Xw X) hin2 hw fr_X5 hO (k := 53) (by decide) rfl rfl rfl q1571 (fun _ => ⟨rfl, rfl⟩) dX5_init_451 hf0 (fun st128 H locs hw hf => ?_)
  clear hf0
  have hz := hz.s hw
  refine lv_aload_n hx hb dX5_init_454 rfl (lv_at hl 0 rfl) ?_
  refine lv_bipush (v := (96 : Int32)) hx hb dX5_init_455 (by decide) ?_
  have hf0 := hf
  clear hf
  refine fa_newi X hz q185 (L := 96) (by decide) (by decide) (by decide) dX5_init_457 hf0 (fun tg129 nx129 ns129 sa129 H hext hq130 hz2 hf => ?_)
  clear hf0
  have hO := hext.t hI hO
  have hq2 := hext.t hI hq2
  have hq5 := hext.t hI hq5
  have hq8 := hext.t hI hq8
  have hq11 := hext.t hI hq11
  have hq14 := hext.t hI hq14
  have hq17 := hext.t hI hq17
  have hq20 := hext.t hI hq20
  have hq23 := hext.t hI hq23
  have hq26 := hext.t hI hq26
  have hq30 := hext.t hI hq30
  have hq33 := hext.t hI hq33
  have hq36 := hext.t hI hq36
  have hq39 := hext.t hI hq39
  have hq42 := hext.t hI hq42
  have hq45 := hext.t hI hq45
  have hq59 := hext.t hI hq59
  have hq69 := hext.t hI hq69
  have hq77 := hext.t hI hq77
  have hq80 := hext.t hI hq80
  have hq83 := hext.t hI hq83
  have hq86 := hext.t hI hq86
  have hq89 := hext.t hI hq89
  have hq92 := hext.t hI hq92
  have hq95 := hext.t hI hq95
  have hq98 := hext.t hI hq98
  have hq101 := hext.t hI hq101
  have hq104 := hext.t hI hq104
  have hq107 := hext.t hI hq107
  have hq110 := hext.t hI hq110
  have hq113 := hext.t hI hq113
  have hq116 := hext.t hI hq116
  have hq119 := hext.t hI hq119
  have hq122 := hext.t hI hq122
  have hz := hz2
  have hw := hz.1
  have hI := hz.2.1
  clear hz2 hext
  have hf0 := hf
  clear hf
  refine fo_putrF (fo_Xw X) hin2 hw fr_X5 hO (k := 54) (by decide) rfl rfl rfl q1572 (fun _ => ⟨rfl, rfl⟩) dX5_init_459 hf0 (fun st131 H locs hw hf => ?_)
  clear hf0
  have hz := hz.s hw
  refine lv_aload_n hx hb dX5_init_462 rfl (lv_at hl 0 rfl) ?_
  refine lv_iconst (v := (-1 : Int32)) hx hb dX5_init_463 (by decide) ?_
  have hf0 := hf
  clear hf
  refine fo_puti (fo_Xw X) hw fr_X5 hO (k := 57) (by decide) rfl rfl q1575 ⟨rfl, rfl⟩ dX5_init_464 hf0 (fun st132 H locs hw hf => ?_)
  clear hf0
  have hz := hz.s hw
  refine lv_aload_n hx hb dX5_init_467 rfl (lv_at hl 0 rfl) ?_
  refine lv_bipush (v := (32 : Int32)) hx hb dX5_init_468 (by decide) ?_
  have hf0 := hf
  clear hf
  refine fa_newi X hz q185 (L := 32) (by decide) (by decide) (by decide) dX5_init_470 hf0 (fun tg133 nx133 ns133 sa133 H hext hq134 hz2 hf => ?_)
  clear hf0
  have hO := hext.t hI hO
  have hq2 := hext.t hI hq2
  have hq5 := hext.t hI hq5
  have hq8 := hext.t hI hq8
  have hq11 := hext.t hI hq11
  have hq14 := hext.t hI hq14
  have hq17 := hext.t hI hq17
  have hq20 := hext.t hI hq20
  have hq23 := hext.t hI hq23
  have hq26 := hext.t hI hq26
  have hq30 := hext.t hI hq30
  have hq33 := hext.t hI hq33
  have hq36 := hext.t hI hq36
  have hq39 := hext.t hI hq39
  have hq42 := hext.t hI hq42
  have hq45 := hext.t hI hq45
  have hq59 := hext.t hI hq59
  have hq69 := hext.t hI hq69
  have hq77 := hext.t hI hq77
  have hq80 := hext.t hI hq80
  have hq83 := hext.t hI hq83
  have hq86 := hext.t hI hq86
  have hq89 := hext.t hI hq89
  have hq92 := hext.t hI hq92
  have hq95 := hext.t hI hq95
  have hq98 := hext.t hI hq98
  have hq101 := hext.t hI hq101
  have hq104 := hext.t hI hq104
  have hq107 := hext.t hI hq107
  have hq110 := hext.t hI hq110
  have hq113 := hext.t hI hq113
  have hq116 := hext.t hI hq116
  have hq119 := hext.t hI hq119
  have hq122 := hext.t hI hq122
  have hq130 := hext.t hI hq130
  have hz := hz2
  have hw := hz.1
  have hI := hz.2.1
  clear hz2 hext
  have hf0 := hf
  clear hf
  refine fo_putrF (fo_Xw X) hin2 hw fr_X5 hO (k := 60) (by decide) rfl rfl rfl q1578 (fun _ => ⟨rfl, rfl⟩) dX5_init_472 hf0 (fun st135 H locs hw hf => ?_)
  clear hf0
  have hz := hz.s hw
  refine lv_aload_n hx hb dX5_init_475 rfl (lv_at hl 0 rfl) ?_
  have hf0 := hf
  clear hf
  refine fo_getr (fo_Xw X) hw fr_X5 hO (k := 3) (by decide) rfl q1521 dX5_init_476 hf0 (fun q136 hf => ?_)
  clear hf0
  have hf0 := ck_e hf
  clear hf
  obtain ⟨hq137, hf⟩ := hf0
  have hq137 := of_decide_eq_true hq137
  refine lv_iconst (v := (2 : Int32)) hx hb dX5_init_479 (by decide) ?_
  refine lv_iconst (v := (-1 : Int32)) hx hb dX5_init_480 (by decide) ?_
  have hf0 := hf
  clear hf
  refine fo_iastK (fo_Xw X) hw hq137 dX5_init_481 (by decide) hf0 (fun st138 H locs hw hf => ?_)
  clear hf0
  have hz := hz.s hw
  refine lv_aload_n hx hb dX5_init_482 rfl (lv_at hl 0 rfl) ?_
  have hf0 := hf
  clear hf
  refine fo_getr (fo_Xw X) hw fr_X5 hO (k := 3) (by decide) rfl q1521 dX5_init_483 hf0 (fun q139 hf => ?_)
  clear hf0
  have hf0 := ck_e hf
  clear hf
  obtain ⟨hq140, hf⟩ := hf0
  have hq140 := of_decide_eq_true hq140
  refine lv_iconst (v := (4 : Int32)) hx hb dX5_init_486 (by decide) ?_
  refine lv_bipush (v := (10 : Int32)) hx hb dX5_init_487 (by decide) ?_
  have hf0 := hf
  clear hf
  refine fo_iastK (fo_Xw X) hw hq140 dX5_init_489 (by decide) hf0 (fun st141 H locs hw hf => ?_)
  clear hf0
  have hz := hz.s hw
  refine lv_aload_n hx hb dX5_init_490 rfl (lv_at hl 0 rfl) ?_
  have hf0 := hf
  clear hf
  refine fo_getr (fo_Xw X) hw fr_X5 hO (k := 3) (by decide) rfl q1521 dX5_init_491 hf0 (fun q142 hf => ?_)
  clear hf0
  have hf0 := ck_e hf
  clear hf
  obtain ⟨hq143, hf⟩ := hf0
  have hq143 := of_decide_eq_true hq143
  refine lv_iconst (v := (5 : Int32)) hx hb dX5_init_494 (by decide) ?_
  refine lv_bipush (v := (30 : Int32)) hx hb dX5_init_495 (by decide) ?_
  have hf0 := hf
  clear hf
  refine fo_iastK (fo_Xw X) hw hq143 dX5_init_497 (by decide) hf0 (fun st144 H locs hw hf => ?_)
  clear hf0
  have hz := hz.s hw
  refine lv_aload_n hx hb dX5_init_498 rfl (lv_at hl 0 rfl) ?_
  have hf0 := hf
  clear hf
  refine fo_getr (fo_Xw X) hw fr_X5 hO (k := 3) (by decide) rfl q1521 dX5_init_499 hf0 (fun q145 hf => ?_)
  clear hf0
  have hf0 := ck_e hf
  clear hf
  obtain ⟨hq146, hf⟩ := hf0
  have hq146 := of_decide_eq_true hq146
  refine lv_bipush (v := (6 : Int32)) hx hb dX5_init_502 (by decide) ?_
  refine lv_iconst (v := (3 : Int32)) hx hb dX5_init_504 (by decide) ?_
  have hf0 := hf
  clear hf
  refine fo_iastK (fo_Xw X) hw hq146 dX5_init_505 (by decide) hf0 (fun st147 H locs hw hf => ?_)
  clear hf0
  have hz := hz.s hw
  refine lv_iconst (v := (0 : Int32)) hx hb dX5_init_506 (by decide) ?_
  refine lv_istore_n (lv' := [(1, .int (0 : Int32)), (0, .ref (eb E + o))]) hx hb dX5_init_507 rfl hl (by decide) rfl (fun ls hl => ?_)
  refine lp2_e (P := fun x148 a149 => ∀ (H : Heap) (locs : List Loc) (ls : Array Slot), a149.1 o = (1, 23) → a149.1 nx0 = (2, 7) → a149.1 nx1 = (2, 5540) → a149.1 nx4 = (2, 11080) → a149.1 nx7 = (4, 2) → a149.1 nx10 = (2, 954) → a149.1 nx13 = (2, 16) → a149.1 nx16 = (2, 848) → a149.1 nx19 = (2, 16) → a149.1 nx22 = (2, 400) → a149.1 nx25 = (2, 96) → a149.1 nx29 = (2, 400) → a149.1 nx32 = (2, 400) → a149.1 nx35 = (2, 400) → a149.1 nx38 = (2, 400) → a149.1 nx41 = (5, 11) → a149.1 nx44 = (5, 7) → a149.1 nx58 = (5, 5) → a149.1 nx68 = (5, 13) → a149.1 nx76 = (5, 13) → a149.1 nx79 = (5, 400) → a149.1 nx82 = (2, 16) → a149.1 nx85 = (2, 16) → a149.1 nx88 = (2, 6) → a149.1 nx91 = (2, 96) → a149.1 nx94 = (2, 6) → a149.1 nx97 = (2, 7) → a149.1 nx100 = (2, 6) → a149.1 nx103 = (2, 7) → a149.1 nx106 = (2, 7) → a149.1 nx109 = (2, 112) → a149.1 nx112 = (2, 16) → a149.1 nx115 = (5, 16) → a149.1 nx118 = (5, 5) → a149.1 nx121 = (2, 96) → a149.1 nx129 = (2, 32) → a149.1 q136 = (2, 5540) → a149.1 q139 = (2, 5540) → a149.1 q142 = (2, 5540) → a149.1 q145 = (2, 5540) → lv_has ls 2 [(1, .int x148), (0, .ref (eb E + o))] → fo_Z E R s cN cS (tg0, nx0, ns0, st0) a149.1 a149.2.1 a149.2.2.1 a149.2.2.2 H locs → W p l e R s m args below meth c H locs (a149.2.1 - nx0) (a149.2.2.1 - ns0) Q (F0 m 508 ls [])) (fun rec150 hrec150 x148 a149 hf => ?_) G _ _ hf H locs ls hO hq2 hq5 hq8 hq11 hq14 hq17 hq20 hq23 hq26 hq30 hq33 hq36 hq39 hq42 hq45 hq59 hq69 hq77 hq80 hq83 hq86 hq89 hq92 hq95 hq98 hq101 hq104 hq107 hq110 hq113 hq116 hq119 hq122 hq130 hq134 hq137 hq140 hq143 hq146 (lv_sub hl [0, 1] rfl) hz
  obtain ⟨tg149, nx149, ns149, sa149⟩ := a149
  intro H locs ls hO hq2 hq5 hq8 hq11 hq14 hq17 hq20 hq23 hq26 hq30 hq33 hq36 hq39 hq42 hq45 hq59 hq69 hq77 hq80 hq83 hq86 hq89 hq92 hq95 hq98 hq101 hq104 hq107 hq110 hq113 hq116 hq119 hq122 hq130 hq134 hq137 hq140 hq143 hq146 hl hz
  have hO : tg149 o = (1, 23) := hO
  have hq2 : tg149 nx0 = (2, 7) := hq2
  have hq5 : tg149 nx1 = (2, 5540) := hq5
  have hq8 : tg149 nx4 = (2, 11080) := hq8
  have hq11 : tg149 nx7 = (4, 2) := hq11
  have hq14 : tg149 nx10 = (2, 954) := hq14
  have hq17 : tg149 nx13 = (2, 16) := hq17
  have hq20 : tg149 nx16 = (2, 848) := hq20
  have hq23 : tg149 nx19 = (2, 16) := hq23
  have hq26 : tg149 nx22 = (2, 400) := hq26
  have hq30 : tg149 nx25 = (2, 96) := hq30
  have hq33 : tg149 nx29 = (2, 400) := hq33
  have hq36 : tg149 nx32 = (2, 400) := hq36
  have hq39 : tg149 nx35 = (2, 400) := hq39
  have hq42 : tg149 nx38 = (2, 400) := hq42
  have hq45 : tg149 nx41 = (5, 11) := hq45
  have hq59 : tg149 nx44 = (5, 7) := hq59
  have hq69 : tg149 nx58 = (5, 5) := hq69
  have hq77 : tg149 nx68 = (5, 13) := hq77
  have hq80 : tg149 nx76 = (5, 13) := hq80
  have hq83 : tg149 nx79 = (5, 400) := hq83
  have hq86 : tg149 nx82 = (2, 16) := hq86
  have hq89 : tg149 nx85 = (2, 16) := hq89
  have hq92 : tg149 nx88 = (2, 6) := hq92
  have hq95 : tg149 nx91 = (2, 96) := hq95
  have hq98 : tg149 nx94 = (2, 6) := hq98
  have hq101 : tg149 nx97 = (2, 7) := hq101
  have hq104 : tg149 nx100 = (2, 6) := hq104
  have hq107 : tg149 nx103 = (2, 7) := hq107
  have hq110 : tg149 nx106 = (2, 7) := hq110
  have hq113 : tg149 nx109 = (2, 112) := hq113
  have hq116 : tg149 nx112 = (2, 16) := hq116
  have hq119 : tg149 nx115 = (5, 16) := hq119
  have hq122 : tg149 nx118 = (5, 5) := hq122
  have hq130 : tg149 nx121 = (2, 96) := hq130
  have hq134 : tg149 nx129 = (2, 32) := hq134
  have hq137 : tg149 q136 = (2, 5540) := hq137
  have hq140 : tg149 q139 = (2, 5540) := hq140
  have hq143 : tg149 q142 = (2, 5540) := hq143
  have hq146 : tg149 q145 = (2, 5540) := hq146
  have hz : fo_Z E R s cN cS (tg0, nx0, ns0, st0) tg149 nx149 ns149 sa149 H locs := hz
  show W p l e R s m args below meth c H locs (nx149 - nx0) (ns149 - ns0) Q (F0 m 508 ls [])
  replace hf := aw_u hf
  have hw := hz.1
  have hI := hz.2.1
  refine lv_iload_n hx hb dX5_init_508 rfl (lv_at hl 0 rfl) ?_
  refine lv_bipush (v := (16 : Int32)) hx hb dX5_init_509 (by decide) ?_
  have hf0 := hf
  clear hf
  refine fb_ige (tgt := 570) hx hb dX5_init_511 (by decide) hf0 (fun hf => ?_) (fun hf => ?_)
  · clear hf0
    refine lv_iconst (v := (0 : Int32)) hx hb dX5_init_570 (by decide) ?_
    refine lv_istore_n (lv' := [(1, .int (0 : Int32)), (0, .ref (eb E + o))]) hx hb dX5_init_571 rfl hl (by decide) rfl (fun ls hl => ?_)
    refine lp2_e (P := fun x151 a152 => ∀ (H : Heap) (locs : List Loc) (ls : Array Slot), a152.1 o = (1, 23) → a152.1 nx0 = (2, 7) → a152.1 nx1 = (2, 5540) → a152.1 nx4 = (2, 11080) → a152.1 nx7 = (4, 2) → a152.1 nx10 = (2, 954) → a152.1 nx13 = (2, 16) → a152.1 nx16 = (2, 848) → a152.1 nx19 = (2, 16) → a152.1 nx22 = (2, 400) → a152.1 nx25 = (2, 96) → a152.1 nx29 = (2, 400) → a152.1 nx32 = (2, 400) → a152.1 nx35 = (2, 400) → a152.1 nx38 = (2, 400) → a152.1 nx41 = (5, 11) → a152.1 nx44 = (5, 7) → a152.1 nx58 = (5, 5) → a152.1 nx68 = (5, 13) → a152.1 nx76 = (5, 13) → a152.1 nx79 = (5, 400) → a152.1 nx82 = (2, 16) → a152.1 nx85 = (2, 16) → a152.1 nx88 = (2, 6) → a152.1 nx91 = (2, 96) → a152.1 nx94 = (2, 6) → a152.1 nx97 = (2, 7) → a152.1 nx100 = (2, 6) → a152.1 nx103 = (2, 7) → a152.1 nx106 = (2, 7) → a152.1 nx109 = (2, 112) → a152.1 nx112 = (2, 16) → a152.1 nx115 = (5, 16) → a152.1 nx118 = (5, 5) → a152.1 nx121 = (2, 96) → a152.1 nx129 = (2, 32) → a152.1 q136 = (2, 5540) → a152.1 q139 = (2, 5540) → a152.1 q142 = (2, 5540) → a152.1 q145 = (2, 5540) → lv_has ls 2 [(1, .int x151), (0, .ref (eb E + o))] → fo_Z E R s cN cS (tg0, nx0, ns0, st0) a152.1 a152.2.1 a152.2.2.1 a152.2.2.2 H locs → W p l e R s m args below meth c H locs (a152.2.1 - nx0) (a152.2.2.1 - ns0) Q (F0 m 572 ls [])) (fun rec153 hrec153 x151 a152 hf => ?_) G _ _ hf H locs ls hO hq2 hq5 hq8 hq11 hq14 hq17 hq20 hq23 hq26 hq30 hq33 hq36 hq39 hq42 hq45 hq59 hq69 hq77 hq80 hq83 hq86 hq89 hq92 hq95 hq98 hq101 hq104 hq107 hq110 hq113 hq116 hq119 hq122 hq130 hq134 hq137 hq140 hq143 hq146 (lv_sub hl [0, 1] rfl) hz
    obtain ⟨tg152, nx152, ns152, sa152⟩ := a152
    intro H locs ls hO hq2 hq5 hq8 hq11 hq14 hq17 hq20 hq23 hq26 hq30 hq33 hq36 hq39 hq42 hq45 hq59 hq69 hq77 hq80 hq83 hq86 hq89 hq92 hq95 hq98 hq101 hq104 hq107 hq110 hq113 hq116 hq119 hq122 hq130 hq134 hq137 hq140 hq143 hq146 hl hz
    have hO : tg152 o = (1, 23) := hO
    have hq2 : tg152 nx0 = (2, 7) := hq2
    have hq5 : tg152 nx1 = (2, 5540) := hq5
    have hq8 : tg152 nx4 = (2, 11080) := hq8
    have hq11 : tg152 nx7 = (4, 2) := hq11
    have hq14 : tg152 nx10 = (2, 954) := hq14
    have hq17 : tg152 nx13 = (2, 16) := hq17
    have hq20 : tg152 nx16 = (2, 848) := hq20
    have hq23 : tg152 nx19 = (2, 16) := hq23
    have hq26 : tg152 nx22 = (2, 400) := hq26
    have hq30 : tg152 nx25 = (2, 96) := hq30
    have hq33 : tg152 nx29 = (2, 400) := hq33
    have hq36 : tg152 nx32 = (2, 400) := hq36
    have hq39 : tg152 nx35 = (2, 400) := hq39
    have hq42 : tg152 nx38 = (2, 400) := hq42
    have hq45 : tg152 nx41 = (5, 11) := hq45
    have hq59 : tg152 nx44 = (5, 7) := hq59
    have hq69 : tg152 nx58 = (5, 5) := hq69
    have hq77 : tg152 nx68 = (5, 13) := hq77
    have hq80 : tg152 nx76 = (5, 13) := hq80
    have hq83 : tg152 nx79 = (5, 400) := hq83
    have hq86 : tg152 nx82 = (2, 16) := hq86
    have hq89 : tg152 nx85 = (2, 16) := hq89
    have hq92 : tg152 nx88 = (2, 6) := hq92
    have hq95 : tg152 nx91 = (2, 96) := hq95
    have hq98 : tg152 nx94 = (2, 6) := hq98
    have hq101 : tg152 nx97 = (2, 7) := hq101
    have hq104 : tg152 nx100 = (2, 6) := hq104
    have hq107 : tg152 nx103 = (2, 7) := hq107
    have hq110 : tg152 nx106 = (2, 7) := hq110
    have hq113 : tg152 nx109 = (2, 112) := hq113
    have hq116 : tg152 nx112 = (2, 16) := hq116
    have hq119 : tg152 nx115 = (5, 16) := hq119
    have hq122 : tg152 nx118 = (5, 5) := hq122
    have hq130 : tg152 nx121 = (2, 96) := hq130
    have hq134 : tg152 nx129 = (2, 32) := hq134
    have hq137 : tg152 q136 = (2, 5540) := hq137
    have hq140 : tg152 q139 = (2, 5540) := hq140
    have hq143 : tg152 q142 = (2, 5540) := hq143
    have hq146 : tg152 q145 = (2, 5540) := hq146
    have hz : fo_Z E R s cN cS (tg0, nx0, ns0, st0) tg152 nx152 ns152 sa152 H locs := hz
    show W p l e R s m args below meth c H locs (nx152 - nx0) (ns152 - ns0) Q (F0 m 572 ls [])
    replace hf := aw_u hf
    have hw := hz.1
    have hI := hz.2.1
    refine lv_iload_n hx hb dX5_init_572 rfl (lv_at hl 0 rfl) ?_
    refine lv_bipush (v := (12 : Int32)) hx hb dX5_init_573 (by decide) ?_
    have hf0 := hf
    clear hf
    refine fb_ige (tgt := 594) hx hb dX5_init_575 (by decide) hf0 (fun hf => ?_) (fun hf => ?_)
    · clear hf0
      exact fda_v hend hz hf dX5_init_594
    clear hf0
    refine lv_aload_n hx hb dX5_init_578 rfl (lv_at hl 1 rfl) ?_
    have hf0 := hf
    clear hf
    refine fo_getr (fo_Xw X) hw fr_X5 hO (k := 3) (by decide) rfl q1521 dX5_init_579 hf0 (fun q154 hf => ?_)
    clear hf0
    have hf0 := ck_e hf
    clear hf
    obtain ⟨hq155, hf⟩ := hf0
    have hq155 := of_decide_eq_true hq155
    refine lv_bipush (v := (104 : Int32)) hx hb dX5_init_582 (by decide) ?_
    refine lv_iload_n hx hb dX5_init_584 rfl (lv_at hl 0 rfl) ?_
    refine lv_iadd hx hb dX5_init_585 ?_
    refine lv_iconst (v := (3 : Int32)) hx hb dX5_init_586 (by decide) ?_
    have hf0 := hf
    clear hf
    refine fo_iast (fo_Xw X) hw hq155 dX5_init_587 hf0 (fun st156 H locs hw hf => ?_)
    clear hf0
    have hz := hz.s hw
    refine fb_iinc (v := (1 : Int32)) (lv' := [(1, .int (x151 + (1 : Int32))), (0, .ref (eb E + o))]) hx hb dX5_init_588 hl (k := 0) rfl (by decide) (by decide) rfl (fun ls hl => ?_)
    refine lv_goto (tgt := 572) hx hb dX5_init_591 (by decide) ?_
    exact hrec153 _ _ hf _ _ _ hO hq2 hq5 hq8 hq11 hq14 hq17 hq20 hq23 hq26 hq30 hq33 hq36 hq39 hq42 hq45 hq59 hq69 hq77 hq80 hq83 hq86 hq89 hq92 hq95 hq98 hq101 hq104 hq107 hq110 hq113 hq116 hq119 hq122 hq130 hq134 hq137 hq140 hq143 hq146 (lv_sub hl [0, 1] rfl) hz
  clear hf0
  refine lv_aload_n hx hb dX5_init_514 rfl (lv_at hl 1 rfl) ?_
  have hf0 := hf
  clear hf
  refine fo_getr (fo_Xw X) hw fr_X5 hO (k := 3) (by decide) rfl q1521 dX5_init_515 hf0 (fun q157 hf => ?_)
  clear hf0
  have hf0 := ck_e hf
  clear hf
  obtain ⟨hq158, hf⟩ := hf0
  have hq158 := of_decide_eq_true hq158
  refine lv_bipush (v := (8 : Int32)) hx hb dX5_init_518 (by decide) ?_
  refine lv_iload_n hx hb dX5_init_520 rfl (lv_at hl 0 rfl) ?_
  refine lv_iadd hx hb dX5_init_521 ?_
  refine lv_iconst (v := (-1 : Int32)) hx hb dX5_init_522 (by decide) ?_
  have hf0 := hf
  clear hf
  refine fo_iast (fo_Xw X) hw hq158 dX5_init_523 hf0 (fun st159 H locs hw hf => ?_)
  clear hf0
  have hz := hz.s hw
  refine lv_aload_n hx hb dX5_init_524 rfl (lv_at hl 1 rfl) ?_
  have hf0 := hf
  clear hf
  refine fo_getr (fo_Xw X) hw fr_X5 hO (k := 3) (by decide) rfl q1521 dX5_init_525 hf0 (fun q160 hf => ?_)
  clear hf0
  have hf0 := ck_e hf
  clear hf
  obtain ⟨hq161, hf⟩ := hf0
  have hq161 := of_decide_eq_true hq161
  refine lv_bipush (v := (40 : Int32)) hx hb dX5_init_528 (by decide) ?_
  refine lv_iload_n hx hb dX5_init_530 rfl (lv_at hl 0 rfl) ?_
  refine lv_iadd hx hb dX5_init_531 ?_
  refine lv_iconst (v := (-1 : Int32)) hx hb dX5_init_532 (by decide) ?_
  have hf0 := hf
  clear hf
  refine fo_iast (fo_Xw X) hw hq161 dX5_init_533 hf0 (fun st162 H locs hw hf => ?_)
  clear hf0
  have hz := hz.s hw
  refine lv_aload_n hx hb dX5_init_534 rfl (lv_at hl 1 rfl) ?_
  have hf0 := hf
  clear hf
  refine fo_getr (fo_Xw X) hw fr_X5 hO (k := 3) (by decide) rfl q1521 dX5_init_535 hf0 (fun q163 hf => ?_)
  clear hf0
  have hf0 := ck_e hf
  clear hf
  obtain ⟨hq164, hf⟩ := hf0
  have hq164 := of_decide_eq_true hq164
  refine lv_bipush (v := (56 : Int32)) hx hb dX5_init_538 (by decide) ?_
  refine lv_iload_n hx hb dX5_init_540 rfl (lv_at hl 0 rfl) ?_
  refine lv_iadd hx hb dX5_init_541 ?_
  refine lv_iconst (v := (5 : Int32)) hx hb dX5_init_542 (by decide) ?_
  have hf0 := hf
  clear hf
  refine fo_iast (fo_Xw X) hw hq164 dX5_init_543 hf0 (fun st165 H locs hw hf => ?_)
  clear hf0
  have hz := hz.s hw
  refine lv_aload_n hx hb dX5_init_544 rfl (lv_at hl 1 rfl) ?_
  have hf0 := hf
  clear hf
  refine fo_getr (fo_Xw X) hw fr_X5 hO (k := 3) (by decide) rfl q1521 dX5_init_545 hf0 (fun q166 hf => ?_)
  clear hf0
  have hf0 := ck_e hf
  clear hf
  obtain ⟨hq167, hf⟩ := hf0
  have hq167 := of_decide_eq_true hq167
  refine lv_bipush (v := (72 : Int32)) hx hb dX5_init_548 (by decide) ?_
  refine lv_iload_n hx hb dX5_init_550 rfl (lv_at hl 0 rfl) ?_
  refine lv_iadd hx hb dX5_init_551 ?_
  refine lv_iconst (v := (5 : Int32)) hx hb dX5_init_552 (by decide) ?_
  have hf0 := hf
  clear hf
  refine fo_iast (fo_Xw X) hw hq167 dX5_init_553 hf0 (fun st168 H locs hw hf => ?_)
  clear hf0
  have hz := hz.s hw
  refine lv_aload_n hx hb dX5_init_554 rfl (lv_at hl 1 rfl) ?_
  have hf0 := hf
  clear hf
  refine fo_getr (fo_Xw X) hw fr_X5 hO (k := 3) (by decide) rfl q1521 dX5_init_555 hf0 (fun q169 hf => ?_)
  clear hf0
  have hf0 := ck_e hf
  clear hf
  obtain ⟨hq170, hf⟩ := hf0
  have hq170 := of_decide_eq_true hq170
  refine lv_bipush (v := (88 : Int32)) hx hb dX5_init_558 (by decide) ?_
  refine lv_iload_n hx hb dX5_init_560 rfl (lv_at hl 0 rfl) ?_
  refine lv_iadd hx hb dX5_init_561 ?_
  refine lv_iconst (v := (3 : Int32)) hx hb dX5_init_562 (by decide) ?_
  have hf0 := hf
  clear hf
  refine fo_iast (fo_Xw X) hw hq170 dX5_init_563 hf0 (fun st171 H locs hw hf => ?_)
  clear hf0
  have hz := hz.s hw
  refine fb_iinc (v := (1 : Int32)) (lv' := [(1, .int (x148 + (1 : Int32))), (0, .ref (eb E + o))]) hx hb dX5_init_564 hl (k := 0) rfl (by decide) (by decide) rfl (fun ls hl => ?_)
  refine lv_goto (tgt := 508) hx hb dX5_init_567 (by decide) ?_
  exact hrec150 _ _ hf _ _ _ hO hq2 hq5 hq8 hq11 hq14 hq17 hq20 hq23 hq26 hq30 hq33 hq36 hq39 hq42 hq45 hq59 hq69 hq77 hq80 hq83 hq86 hq89 hq92 hq95 hq98 hq101 hq104 hq107 hq110 hq113 hq116 hq119 hq122 hq130 hq134 hq137 hq140 hq143 hq146 (lv_sub hl [0, 1] rfl) hz

