/-! what fields hold at first; arrays of objects; literals as calls read them -/
set_option maxRecDepth 100000
theorem fz0 {b : Nat} {st : fo_St} {n k : Nat} : Value.int 0 = fo_fv b (z0_ st n) n k 0 := by show _ = Value.int (gi_ (z0_ st n) n k); rw [gi_z0, if_pos rfl]
theorem fz1 {b : Nat} {st : fo_St} {n k : Nat} : Value.long 0 = fo_fv b (z0_ st n) n k 1 := by show _ = Value.long (gl_ (z0_ st n) n k); rw [gl_z0, if_pos rfl]
theorem fz2 {b : Nat} {st : fo_St} {n k : Nat} : Value.null = fo_fv b (z0_ st n) n k 2 := by show _ = va_rf ((gr_ (z0_ st n) n k).map _); rw [gr_z0, if_pos rfl]; rfl
theorem fd_X4 : ∀ (b : Nat) (st : fo_St) (n j : Nat), j < 6 → defaultValue (tyX4 j) = fo_fv b (z0_ st n) n j ((fo_sh 4).getD j 0) := by
  intro b st n j hj
  match j, hj with
  | 0, _ => exact fz2
  | 1, _ => exact fz2
  | 2, _ => exact fz2
  | 3, _ => exact fz2
  | 4, _ => exact fz2
  | 5, _ => exact fz0
theorem fd_X7 : ∀ (b : Nat) (st : fo_St) (n j : Nat), j < 9 → defaultValue (tyX7 j) = fo_fv b (z0_ st n) n j ((fo_sh 6).getD j 0) := by
  intro b st n j hj
  match j, hj with
  | 0, _ => exact fz2
  | 1, _ => exact fz0
  | 2, _ => exact fz0
  | 3, _ => exact fz0
  | 4, _ => exact fz0
  | 5, _ => exact fz0
  | 6, _ => exact fz0
  | 7, _ => exact fz2
  | 8, _ => exact fz0
theorem fd_X8 : ∀ (b : Nat) (st : fo_St) (n j : Nat), j < 7 → defaultValue (tyX8 j) = fo_fv b (z0_ st n) n j ((fo_sh 7).getD j 0) := by
  intro b st n j hj
  match j, hj with
  | 0, _ => exact fz2
  | 1, _ => exact fz2
  | 2, _ => exact fz2
  | 3, _ => exact fz2
  | 4, _ => exact fz2
  | 5, _ => exact fz0
  | 6, _ => exact fz0
theorem fd_X9 : ∀ (b : Nat) (st : fo_St) (n j : Nat), j < 3 → defaultValue (tyX9 j) = fo_fv b (z0_ st n) n j ((fo_sh 8).getD j 0) := by
  intro b st n j hj
  match j, hj with
  | 0, _ => exact fz0
  | 1, _ => exact fz2
  | 2, _ => exact fz2
theorem fd_X11 : ∀ (b : Nat) (st : fo_St) (n j : Nat), j < 1 → defaultValue (tyX11 j) = fo_fv b (z0_ st n) n j ((fo_sh 9).getD j 0) := by
  intro b st n j hj
  match j, hj with
  | 0, _ => exact fz0
theorem fd_X12 : ∀ (b : Nat) (st : fo_St) (n j : Nat), j < 1 → defaultValue (tyX12 j) = fo_fv b (z0_ st n) n j ((fo_sh 10).getD j 0) := by
  intro b st n j hj
  match j, hj with
  | 0, _ => exact fz0
theorem fd_X13 : ∀ (b : Nat) (st : fo_St) (n j : Nat), j < 3 → defaultValue (tyX13 j) = fo_fv b (z0_ st n) n j ((fo_sh 11).getD j 0) := by
  intro b st n j hj
  match j, hj with
  | 0, _ => exact fz0
  | 1, _ => exact fz2
  | 2, _ => exact fz2
theorem fd_X15 : ∀ (b : Nat) (st : fo_St) (n j : Nat), j < 3 → defaultValue (tyX15 j) = fo_fv b (z0_ st n) n j ((fo_sh 12).getD j 0) := by
  intro b st n j hj
  match j, hj with
  | 0, _ => exact fz0
  | 1, _ => exact fz2
  | 2, _ => exact fz2
theorem fd_X16 : ∀ (b : Nat) (st : fo_St) (n j : Nat), j < 1 → defaultValue (tyX16 j) = fo_fv b (z0_ st n) n j ((fo_sh 13).getD j 0) := by
  intro b st n j hj
  match j, hj with
  | 0, _ => exact fz2
theorem fd_X17 : ∀ (b : Nat) (st : fo_St) (n j : Nat), j < 2 → defaultValue (tyX17 j) = fo_fv b (z0_ st n) n j ((fo_sh 14).getD j 0) := by
  intro b st n j hj
  match j, hj with
  | 0, _ => exact fz0
  | 1, _ => exact fz2
theorem fd_X18 : ∀ (b : Nat) (st : fo_St) (n j : Nat), j < 5 → defaultValue (tyX18 j) = fo_fv b (z0_ st n) n j ((fo_sh 15).getD j 0) := by
  intro b st n j hj
  match j, hj with
  | 0, _ => exact fz0
  | 1, _ => exact fz2
  | 2, _ => exact fz2
  | 3, _ => exact fz0
  | 4, _ => exact fz2
theorem fd_X19 : ∀ (b : Nat) (st : fo_St) (n j : Nat), j < 1 → defaultValue (tyX19 j) = fo_fv b (z0_ st n) n j ((fo_sh 16).getD j 0) := by
  intro b st n j hj
  match j, hj with
  | 0, _ => exact fz2
theorem fd_X20 : ∀ (b : Nat) (st : fo_St) (n j : Nat), j < 8 → defaultValue (tyX20 j) = fo_fv b (z0_ st n) n j ((fo_sh 17).getD j 0) := by
  intro b st n j hj
  match j, hj with
  | 0, _ => exact fz2
  | 1, _ => exact fz0
  | 2, _ => exact fz0
  | 3, _ => exact fz0
  | 4, _ => exact fz0
  | 5, _ => exact fz0
  | 6, _ => exact fz0
  | 7, _ => exact fz2
theorem fd_J2 : ∀ (b : Nat) (st : fo_St) (n j : Nat), j < 3 → defaultValue (tyJ2 j) = fo_fv b (z0_ st n) n j ((fo_sh 18).getD j 0) := by
  intro b st n j hj
  match j, hj with
  | 0, _ => exact fz0
  | 1, _ => exact fz2
  | 2, _ => exact fz0
theorem fdr_X0 : ∀ (b : Nat) (st : fo_St) (n j : Nat), j < 29 → defaultValue (tyX0 j) = fo_fv b (z0_ st n) n j ((fo_sh 19).getD j 0) := by
  intro b st n j hj
  match j, hj with
  | 0, _ => exact fz0
  | 1, _ => exact fz2
  | 2, _ => exact fz2
  | 3, _ => exact fz2
  | 4, _ => exact fz2
  | 5, _ => exact fz2
  | 6, _ => exact fz2
  | 7, _ => exact fz2
  | 8, _ => exact fz2
  | 9, _ => exact fz2
  | 10, _ => exact fz2
  | 11, _ => exact fz0
  | 12, _ => exact fz0
  | 13, _ => exact fz0
  | 14, _ => exact fz0
  | 15, _ => exact fz0
  | 16, _ => exact fz2
  | 17, _ => exact fz2
  | 18, _ => exact fz2
  | 19, _ => exact fz2
  | 20, _ => exact fz2
  | 21, _ => exact fz2
  | 22, _ => exact fz2
  | 23, _ => exact fz2
  | 24, _ => exact fz2
  | 25, _ => exact fz2
  | 26, _ => exact fz2
  | 27, _ => exact fz0
  | 28, _ => exact fz0
  | j + 29, h => exact absurd h (by omega)
theorem fdr_X1 : ∀ (b : Nat) (st : fo_St) (n j : Nat), j < 12 → defaultValue (tyX1 j) = fo_fv b (z0_ st n) n j ((fo_sh 20).getD j 0) := by
  intro b st n j hj
  match j, hj with
  | 0, _ => exact fz2
  | 1, _ => exact fz2
  | 2, _ => exact fz2
  | 3, _ => exact fz2
  | 4, _ => exact fz2
  | 5, _ => exact fz2
  | 6, _ => exact fz2
  | 7, _ => exact fz2
  | 8, _ => exact fz2
  | 9, _ => exact fz0
  | 10, _ => exact fz0
  | 11, _ => exact fz0
theorem fdr_X2 : ∀ (b : Nat) (st : fo_St) (n j : Nat), j < 4 → defaultValue (tyX2 j) = fo_fv b (z0_ st n) n j ((fo_sh 21).getD j 0) := by
  intro b st n j hj
  match j, hj with
  | 0, _ => exact fz2
  | 1, _ => exact fz2
  | 2, _ => exact fz2
  | 3, _ => exact fz0
theorem fdr_X3 : ∀ (b : Nat) (st : fo_St) (n j : Nat), j < 2 → defaultValue (tyX3 j) = fo_fv b (z0_ st n) n j ((fo_sh 22).getD j 0) := by
  intro b st n j hj
  match j, hj with
  | 0, _ => exact fz2
  | 1, _ => exact fz2
theorem fdr_X5 : ∀ (b : Nat) (st : fo_St) (n j : Nat), j < 62 → defaultValue (tyX5 j) = fo_fv b (z0_ st n) n j ((fo_sh 23).getD j 0) := by
  intro b st n j hj
  match j, hj with
  | 0, _ => exact fz0
  | 1, _ => exact fz0
  | 2, _ => exact fz2
  | 3, _ => exact fz2
  | 4, _ => exact fz2
  | 5, _ => exact fz2
  | 6, _ => exact fz2
  | 7, _ => exact fz2
  | 8, _ => exact fz0
  | 9, _ => exact fz2
  | 10, _ => exact fz2
  | 11, _ => exact fz0
  | 12, _ => exact fz2
  | 13, _ => exact fz0
  | 14, _ => exact fz0
  | 15, _ => exact fz0
  | 16, _ => exact fz0
  | 17, _ => exact fz1
  | 18, _ => exact fz0
  | 19, _ => exact fz0
  | 20, _ => exact fz0
  | 21, _ => exact fz0
  | 22, _ => exact fz2
  | 23, _ => exact fz0
  | 24, _ => exact fz2
  | 25, _ => exact fz2
  | 26, _ => exact fz0
  | 27, _ => exact fz2
  | 28, _ => exact fz2
  | 29, _ => exact fz0
  | 30, _ => exact fz0
  | 31, _ => exact fz2
  | 32, _ => exact fz2
  | 33, _ => exact fz2
  | 34, _ => exact fz0
  | 35, _ => exact fz2
  | 36, _ => exact fz2
  | 37, _ => exact fz2
  | 38, _ => exact fz0
  | 39, _ => exact fz1
  | 40, _ => exact fz1
  | 41, _ => exact fz2
  | 42, _ => exact fz2
  | 43, _ => exact fz2
  | 44, _ => exact fz2
  | 45, _ => exact fz2
  | 46, _ => exact fz2
  | 47, _ => exact fz2
  | 48, _ => exact fz2
  | 49, _ => exact fz2
  | 50, _ => exact fz2
  | 51, _ => exact fz2
  | 52, _ => exact fz2
  | 53, _ => exact fz2
  | 54, _ => exact fz2
  | 55, _ => exact fz0
  | 56, _ => exact fz0
  | 57, _ => exact fz0
  | 58, _ => exact fz0
  | 59, _ => exact fz1
  | 60, _ => exact fz2
  | 61, _ => exact fz0
  | j + 62, h => exact absurd h (by omega)
theorem fo_obj : ∀ (ci : Nat) (q : vw_C), fo_cl[ci]? = some q → Cond.castable q.1 "java/lang/Object" ∈ fo_nest := by
  intro ci q h
  have hi : ci < 24 := (List.getElem?_eq_some_iff.mp h).1
  match ci, hi, h with
  | 0, _, h => cases h; exact fn2243
  | 1, _, h => cases h; exact fn2241
  | 2, _, h => cases h; exact fn2242
  | 3, _, h => cases h; exact fn2245
  | 4, _, h => cases h; exact fn2246
  | 5, _, h => cases h; exact fn2247
  | 6, _, h => cases h; exact fn2248
  | 7, _, h => cases h; exact fn2249
  | 8, _, h => cases h; exact fn2250
  | 9, _, h => cases h; exact fn2251
  | 10, _, h => cases h; exact fn2252
  | 11, _, h => cases h; exact fn2253
  | 12, _, h => cases h; exact fn2254
  | 13, _, h => cases h; exact fn2255
  | 14, _, h => cases h; exact fn2256
  | 15, _, h => cases h; exact fn2259
  | 16, _, h => cases h; exact fn2257
  | 17, _, h => cases h; exact fn2258
  | 18, _, h => cases h; exact fn2244
  | 19, _, h => cases h; exact fn2243
  | 20, _, h => cases h; exact fn2241
  | 21, _, h => cases h; exact fn2242
  | 22, _, h => cases h; exact fn2245
  | 23, _, h => cases h; exact fn2247
section FD1
variable {p : Program} {l : Launch} {e : Env} {R : Room} {s : State} {m : MethodId} {args : Array Value} {below : List Frame} {meth : Method} {c : Code} {H : Heap} {locs : List Loc} {cells slots : Nat} {Q : State → Prop}
variable {cc : ByteArray} {nL pc : Nat} {ls : Array Slot} {rest stk : List Value} {own : String} {E : fo_E} {st : fo_St} {α β : Type} {y : α} {cN cS nx ns : Nat} {tg : Nat → Nat × Nat} {a0 a1 : fo_A}
/-- an array of objects: its length -/
theorem fo_alen6 (X : fo_X E p m c cc nL s args own meth) (hw : fo_S E s st H locs) {n L : Nat} (ht : et E n = (6, L)) (hdg : decode cc pc = .ok (.arraylength, 1))
    (kk : W p l e R s m args below meth c H locs cells slots Q (F0 m (pc + 1) ls (.int (nI L) :: rest))) : W p l e R s m args below meth c H locs cells slots Q (F0 m pc ls (.ref (eb E + n) :: rest)) :=
  va_alen (v := nI L) X.1.1 X.1.2.1 X.2.1.1 (fo_at hw (n := n) (x := .inl (eA E 6, L, .inr (.inr (.inr (.inr (fun j => (gr_ st n j).map (fun q => eb E + q))))))) (by rw [ht]; rfl)) 0 4 rfl rfl rfl hdg kk
/-- any object into an array of objects -/
theorem fo_astO (X : fo_X E p m c cc nL s args own meth) (hw : fo_S E s st H locs) {n L v : Nat} (ht : et E n = (6, L)) {i : Int32} (hdg : decode cc pc = .ok (.aastore, 1)) {kf : fo_St → Option α} (hf : ck_ (decide ((et E v).1 = 1 ∧ (et E v).2 < 24)) (ck_ (fo_in i L) (lt_ (sr_ st n i.toNatClampNeg (some v)) kf)) = some y)
    (kk : ∀ (st1 : fo_St) (H1 : Heap) (locs1 : List Loc), fo_S E s st1 H1 locs1 → kf st1 = some y → W p l e R s m args below meth c H1 locs1 cells slots Q (F0 m (pc + 1) ls rest)) : W p l e R s m args below meth c H locs cells slots Q (F0 m pc ls (.ref (eb E + v) :: .int i :: .ref (eb E + n) :: rest)) := by
  obtain ⟨hv, hf⟩ := ck_e hf
  obtain ⟨hv1, hv2⟩ := of_decide_eq_true hv
  have hl : (et E v).2 < fo_cl.length := hv2
  have hc1 : fo_cl[(et E v).2]? = some fo_cl[(et E v).2] := List.getElem?_eq_getElem hl
  have hv : et E v = (1, (et E v).2) := Prod.ext hv1 rfl
  have hin := fo_in_e (ck_e hf).1
  have hlt : i.toNatClampNeg < L := Nat.not_le.mp fun q => hin (Or.inr q)
  have h0 : ¬ i < 0 := fun q => hin (Or.inl q)
  have x0 : fo_ce E (et E n) st n = some (.inl (eA E 6, L, .inr (.inr (.inr (.inr (fun j => (gr_ st n j).map (fun q => eb E + q))))))) := by rw [ht]; rfl
  have x1 : fo_ce E (et E n) (sr_ st n i.toNatClampNeg (some v)) n = some (.inl (eA E 6, L, .inr (.inr (.inr (.inr (fun j => (gr_ (sr_ st n i.toNatClampNeg (some v)) n j).map (fun q => eb E + q))))))) := by rw [ht]; rfl
  obtain ⟨r', hr', cellV, g1, g2, g3, -⟩ := fo_ob hw hv 0 _ rfl
  have hcls := (X.2.1.1.1 _ _ hc1).2
  obtain ⟨kA, comp, k1, k2, k3, -⟩ := (X.2.1.1.2 4 _ rfl).2
  obtain ⟨kC, hkC, -⟩ := hcls.2
  obtain ⟨kE, hkE, -⟩ := Vm.findClass_spec k3
  refine W.aast X.1.1 X.1.2.1 (fo_at hw x0 0 _ rfl) (fun q h => by cases h) (fun h => by cases h) k1 k2 rfl hkE ⟨h0, by show _ < (arrV _ _ _).slots.size; rw [arrV_size]; exact hlt⟩ g1 (fun q h => by rw [g3] at h; cases h) (by rw [g2]; exact hkC) (by rw [g2]; exact vb_asgC (X.2.1.2.1 _ (fo_obj _ _ hc1)) _ _ k3 hcls.1) rfl rfl hdg fun H1 e1 e2 e3 => ?_
  refine kk _ H1 _ (fo_arr hw x0 x1 fo_sr3 ?_ e2 e3) (ck_e hf).2
  rw [e1]
  refine congrArg some ?_
  rw [vp_cell_q, vp_cell_q, arrV_store]
  congr 1
  funext j
  rw [gr_sr]
  unfold updV
  by_cases hj : j = i.toNatClampNeg
  · rw [if_pos hj, if_pos ⟨rfl, hj⟩]; rfl
  · rw [if_neg hj, if_neg (fun h => hj h.2)]
/-- a literal -/
theorem fo_ldcS {K V : Nat → Nat} {mi : Nat} (X : fo_X E p m c cc nL s args own meth) (hSX : fo_SX E K V mi) {i index : Nat} {tx : String} {bs : List Int32} (hi : lit_l[i]? = some (own, index, tx, bs)) (hdg : decode cc pc = .ok (.ldc index, 2))
    (kk : W p l e R s m args below meth c H locs cells slots Q (F0 m (pc + 2) ls (.ref (K i) :: rest))) : W p l e R s m args below meth c H locs cells slots Q (F0 m pc ls rest) := by
  obtain ⟨-, hR, -⟩ := hSX s s.heap X.2.1.2.2.1
  exact va_ldcS X.1.1 X.1.2.1 X.1.2.2.2.1 (hR i _ hi) hdg kk
theorem fo_strc {K V : Nat → Nat} {mi : Nat} (X : fo_X E p m c cc nL s args own meth) (hSX : fo_SX E K V mi) (hw : fo_S E s st H locs) {i : Nat} (hi : i < 50) : ∃ cell : Cell, H[K i]? = some cell ∧ cell.vm.isStatics = false ∧ s.vm.findClass "java/lang/String" = some cell.cls := by
  obtain ⟨hL, -⟩ := hSX s s.heap X.2.1.2.2.1
  obtain ⟨cell, h1, h2, h3, -⟩ := (hL i hi).1.kept hw.2.2.1
  exact ⟨cell, h1, h2, h3⟩
theorem fo_slen {K V : Nat → Nat} {mi : Nat} (X : fo_X E p m c cc nL s args "ForestRooms$Reader" meth) (hSX : fo_SX E K V mi) (hw : fo_S E s st H locs) (hlim : cells + 0 ≤ R.cells ∧ slots + 0 ≤ R.slots) (hR : 10 ≤ R.frames ∧ 200 ≤ R.locals) {i : Nat} (hi : i < 50) (hsz : ls.size = nL) (hroom : (rest.map fun v => v.category).sum ≤ 8) (hdg : decode cc pc = .ok (.invokevirtual 29, 3))
    (kk : ∀ (H1 : Heap) (locs1 : List Loc), fo_S E s st H1 locs1 → W p l e R s m args below meth c H1 locs1 cells slots Q (F0 m (pc + 3) ls (.int (nI (lit_ i).length) :: rest))) : W p l e R s m args below meth c H locs cells slots Q (F0 m pc ls (.ref (K i) :: rest)) := by
  refine fs_V (rm := { frames := 1, cells := 0, slots := 0, locals := 20 }) (α := Int32 × fo_St) (y0 := (nI (lit_ i).length, st)) (kf := fun r st => some (r, st)) (o := some (nI (lit_ i).length, st)) (As := []) X hw hlim hm_J8_length (lw_V q787 q788 q789 q127 q790) ⟨rfl, rfl⟩ ⟨by show 1 + 1 ≤ _; omega, by show 8 + (1 + 11) + 20 ≤ _; omega⟩ (fo_strc X hSX hw hi) rfl rfl hsz hroom hdg (fun r st1 hQ => by cases hQ; exact wJ8_length l E K V mi hSX i hi st) rfl (fun r st1 H1 locs1 hw1 hf1 => ?_)
  cases hf1
  exact kk H1 locs1 hw1
theorem fo_schar {K V : Nat → Nat} {mi : Nat} (X : fo_X E p m c cc nL s args "ForestRooms$Reader" meth) (hSX : fo_SX E K V mi) (hw : fo_S E s st H locs) (hlim : cells + 0 ≤ R.cells ∧ slots + 0 ≤ R.slots) (hR : 10 ≤ R.frames ∧ 200 ≤ R.locals) {i : Nat} (hi : i < 50) {k : Int32} (hk : ¬ k < 0 ∧ k.toNatClampNeg < (lit_ i).length) (hsz : ls.size = nL) (hroom : (rest.map fun v => v.category).sum ≤ 8) (hdg : decode cc pc = .ok (.invokevirtual 35, 3))
    (kk : ∀ (H1 : Heap) (locs1 : List Loc), fo_S E s st H1 locs1 → W p l e R s m args below meth c H1 locs1 cells slots Q (F0 m (pc + 3) ls (.int ((lit_ i).getD k.toNatClampNeg 0) :: rest))) : W p l e R s m args below meth c H locs cells slots Q (F0 m pc ls (.int k :: .ref (K i) :: rest)) := by
  obtain ⟨h0, h1⟩ := hk
  obtain ⟨n, hn, rfl⟩ := nI_of h0
  rw [nI_clamp hn] at h1 kk
  refine fs_V (rm := { frames := 3, cells := 0, slots := 0, locals := 64 }) (α := Int32 × fo_St) (y0 := ((lit_ i).getD n 0, st)) (kf := fun r st => some (r, st)) (o := some ((lit_ i).getD n 0, st)) (As := [.int (nI n)]) X hw hlim hm_J8_charAt (lw_V q797 q798 q799 q127 q800) ⟨rfl, rfl⟩ ⟨by show 3 + 1 ≤ _; omega, by show 8 + (2 + 11) + 64 ≤ _; omega⟩ (fo_strc X hSX hw hi) rfl rfl hsz hroom hdg (fun r st1 hQ => by cases hQ; exact wJ8_charAt l E K V mi hSX i hi n h1 st) rfl (fun r st1 H1 locs1 hw1 hf1 => ?_)
  cases hf1
  exact kk H1 locs1 hw1
theorem fo_mxIA (X : fo_X E p m c cc nL s args own meth) (hlim : cells + 0 ≤ R.cells ∧ slots + 0 ≤ R.slots) (hsz : ls.size = nL) {index : Nat} (hlink : Cond.methodLink own index Lib.Math.max.name ∈ lw_all) (hstat : Cond.static Lib.Math.max.name ∈ lw_all) (hini : Cond.initialized "java/lang/Math" ∈ lw_all) (hcode : Cond.code Lib.Math.max.name Lib.Math.max.code 2 (some .int) ∈ lw_all) (hframes : 1 ≤ R.frames) (hlocals : (rest.map fun v => v.category).sum + 13 ≤ R.locals) {x z : Int32} (hdg : decode cc pc = .ok (.invokestatic index, 3))
    (kk : W p l e R s m args below meth c H locs cells slots Q (F0 m (pc + 3) ls (.int (mxI_ x z) :: rest))) : W p l e R s m args below meth c H locs cells slots Q (F0 m pc ls (.int z :: .int x :: rest)) :=
  va_mmax X.1.1 X.1.2.1 (X.1.2.2.1.trans hsz.symm) X.1.2.2.2.1 (X.1.2.2.2.2 _ hlink) (X.1.2.2.2.2 _ hstat) (X.1.2.2.2.2 _ hini) (X.1.2.2.2.2 _ hcode) hframes hlocals hlim.1 hlim.2 hdg kk
theorem fo_mnIA (X : fo_X E p m c cc nL s args own meth) (hlim : cells + 0 ≤ R.cells ∧ slots + 0 ≤ R.slots) (hsz : ls.size = nL) {index : Nat} (hlink : Cond.methodLink own index Lib.Math.min.name ∈ lw_all) (hstat : Cond.static Lib.Math.min.name ∈ lw_all) (hini : Cond.initialized "java/lang/Math" ∈ lw_all) (hcode : Cond.code Lib.Math.min.name Lib.Math.min.code 2 (some .int) ∈ lw_all) (hframes : 1 ≤ R.frames) (hlocals : (rest.map fun v => v.category).sum + 13 ≤ R.locals) {x z : Int32} (hdg : decode cc pc = .ok (.invokestatic index, 3))
    (kk : W p l e R s m args below meth c H locs cells slots Q (F0 m (pc + 3) ls (.int (mnI_ x z) :: rest))) : W p l e R s m args below meth c H locs cells slots Q (F0 m pc ls (.int z :: .int x :: rest)) :=
  va_mmin X.1.1 X.1.2.1 (X.1.2.2.1.trans hsz.symm) X.1.2.2.2.1 (X.1.2.2.2.2 _ hlink) (X.1.2.2.2.2 _ hstat) (X.1.2.2.2.2 _ hini) (X.1.2.2.2.2 _ hcode) hframes hlocals hlim.1 hlim.2 hdg kk
end FD1
