/-! the walks of ForestRoomsModel, printed by gen.py: f.. what a method computes, w.. that the machine does so -/
set_option maxRecDepth 100000
theorem hm0 {E : fo_E} (hE : ∀ n, et E n = tM_ n) : et E 0 = (1, 5) := (hE 0).trans rfl
theorem hm1 {E : fo_E} (hE : ∀ n, et E n = tM_ n) : et E 1 = (2, 7) := (hE 1).trans rfl
theorem hm2 {E : fo_E} (hE : ∀ n, et E n = tM_ n) : et E 2 = (2, 5540) := (hE 2).trans rfl
theorem hm3 {E : fo_E} (hE : ∀ n, et E n = tM_ n) : et E 3 = (2, 11080) := (hE 3).trans rfl
theorem hm4 {E : fo_E} (hE : ∀ n, et E n = tM_ n) : et E 4 = (4, 2) := (hE 4).trans rfl
theorem hm5 {E : fo_E} (hE : ∀ n, et E n = tM_ n) : et E 5 = (2, 954) := (hE 5).trans rfl
theorem hm6 {E : fo_E} (hE : ∀ n, et E n = tM_ n) : et E 6 = (2, 16) := (hE 6).trans rfl
theorem hm7 {E : fo_E} (hE : ∀ n, et E n = tM_ n) : et E 7 = (2, 848) := (hE 7).trans rfl
theorem hm8 {E : fo_E} (hE : ∀ n, et E n = tM_ n) : et E 8 = (2, 16) := (hE 8).trans rfl
theorem hm9 {E : fo_E} (hE : ∀ n, et E n = tM_ n) : et E 9 = (2, 400) := (hE 9).trans rfl
theorem hm10 {E : fo_E} (hE : ∀ n, et E n = tM_ n) : et E 10 = (2, 96) := (hE 10).trans rfl
theorem hm11 {E : fo_E} (hE : ∀ n, et E n = tM_ n) : et E 11 = (2, 400) := (hE 11).trans rfl
theorem hm12 {E : fo_E} (hE : ∀ n, et E n = tM_ n) : et E 12 = (2, 400) := (hE 12).trans rfl
theorem hm13 {E : fo_E} (hE : ∀ n, et E n = tM_ n) : et E 13 = (2, 400) := (hE 13).trans rfl
theorem hm14 {E : fo_E} (hE : ∀ n, et E n = tM_ n) : et E 14 = (2, 400) := (hE 14).trans rfl
theorem hm15 {E : fo_E} (hE : ∀ n, et E n = tM_ n) : et E 15 = (5, 11) := (hE 15).trans rfl
theorem hm16 {E : fo_E} (hE : ∀ n, et E n = tM_ n) : et E 16 = (5, 7) := (hE 16).trans rfl
theorem hm17 {E : fo_E} (hE : ∀ n, et E n = tM_ n) : et E 17 = (5, 5) := (hE 17).trans rfl
theorem hm18 {E : fo_E} (hE : ∀ n, et E n = tM_ n) : et E 18 = (5, 13) := (hE 18).trans rfl
theorem hm19 {E : fo_E} (hE : ∀ n, et E n = tM_ n) : et E 19 = (5, 13) := (hE 19).trans rfl
theorem hm20 {E : fo_E} (hE : ∀ n, et E n = tM_ n) : et E 20 = (5, 400) := (hE 20).trans rfl
theorem hm21 {E : fo_E} (hE : ∀ n, et E n = tM_ n) : et E 21 = (2, 16) := (hE 21).trans rfl
theorem hm22 {E : fo_E} (hE : ∀ n, et E n = tM_ n) : et E 22 = (2, 16) := (hE 22).trans rfl
theorem hm23 {E : fo_E} (hE : ∀ n, et E n = tM_ n) : et E 23 = (2, 6) := (hE 23).trans rfl
theorem hm24 {E : fo_E} (hE : ∀ n, et E n = tM_ n) : et E 24 = (2, 96) := (hE 24).trans rfl
theorem hm25 {E : fo_E} (hE : ∀ n, et E n = tM_ n) : et E 25 = (2, 6) := (hE 25).trans rfl
theorem hm26 {E : fo_E} (hE : ∀ n, et E n = tM_ n) : et E 26 = (2, 7) := (hE 26).trans rfl
theorem hm27 {E : fo_E} (hE : ∀ n, et E n = tM_ n) : et E 27 = (2, 6) := (hE 27).trans rfl
theorem hm28 {E : fo_E} (hE : ∀ n, et E n = tM_ n) : et E 28 = (2, 7) := (hE 28).trans rfl
theorem hm29 {E : fo_E} (hE : ∀ n, et E n = tM_ n) : et E 29 = (2, 7) := (hE 29).trans rfl
theorem hm30 {E : fo_E} (hE : ∀ n, et E n = tM_ n) : et E 30 = (2, 112) := (hE 30).trans rfl
theorem hm31 {E : fo_E} (hE : ∀ n, et E n = tM_ n) : et E 31 = (2, 16) := (hE 31).trans rfl
theorem hm32 {E : fo_E} (hE : ∀ n, et E n = tM_ n) : et E 32 = (5, 16) := (hE 32).trans rfl
theorem hm33 {E : fo_E} (hE : ∀ n, et E n = tM_ n) : et E 33 = (5, 5) := (hE 33).trans rfl
theorem hm34 {E : fo_E} (hE : ∀ n, et E n = tM_ n) : et E 34 = (2, 96) := (hE 34).trans rfl
theorem hm35 {E : fo_E} (hE : ∀ n, et E n = tM_ n) : et E 35 = (2, 32) := (hE 35).trans rfl
/-- ForestRoomsModel.tell -/
def fX5_tell (p1 : Int32) (st0 : fo_St) : Option (Int32 × fo_St) := jn_ (fun (x1 : Int32) => lt_ (si_ st0 0 1 x1) (fun st3 => if 0 ≤ p1 then some (p1, st3) else ck_ (fo_in (-p1) 7) (ck_ (fo_in (-p1) 7) (lt_ (si_ st3 1 (-p1).toNatClampNeg ((gi_ st3 1 (-p1).toNatClampNeg) + (1 : Int32))) (fun st4 => some (p1, st4)))))) (fun k2 => if 0 ≤ p1 then k2 (0 : Int32) else k2 p1)
theorem hm_X5_tell : fo_M yX5_tell 1 := ⟨by decide +kernel, by decide +kernel, by decide +kernel, by decide +kernel⟩
set_option maxHeartbeats 4000000 in
theorem wX5_tell (l : Launch) (E : fo_E) (hE : ∀ n, et E n = tM_ n) (p1 : Int32) (st0 : fo_St) (rZ : Int32) (stZ : fo_St) (hf : fX5_tell p1 st0 = some (rZ, stZ)) : CTi l E yX5_tell (ws_ yX5_tell cX5_tell 2 (some .int)) ({ frames := 0, cells := 0, slots := 0, locals := 0 }) [.ref (eb E + 0), .int p1] st0 rZ stZ := by
  refine fe_i hm_X5_tell (Nat.le_of_ble_eq_true rfl) (fun p e R s m args below meth c Q hRf hRl X hend ls hl hw => ?_)
  have hx := X.1.1
  have hb := X.1.2.1
  have hl : lv_has ls 2 [(0, .ref (eb E + 0)), (1, .int p1)] := hl
  unfold fX5_tell at hf
  generalize s.heap = H at hw ⊢
  generalize ([] : List Loc) = locs at hw ⊢
  refine lv_aload_n hx hb dX5_tell_0 rfl (lv_at hl 0 rfl) ?_
  refine lv_iload_n hx hb dX5_tell_1 rfl (lv_at hl 1 rfl) ?_
  refine jn_e hf (fun k2 ek hf => ?_)
  have hk2 : ∀ (x1 : Int32) (H : Heap) (locs : List Loc) (ls : Array Slot), lv_has ls 2 [(0, .ref (eb E + 0)), (1, .int p1)] → fo_S E s st0 H locs → k2 x1 = some (rZ, stZ) → W p l e R s m args below meth c H locs 0 0 Q (F0 m 10 ls [.int x1, .ref (eb E + 0)]) := by
    intro x1 H locs ls hl hw hf
    rw [ek] at hf
    refine fo_puti X hw fc_X5 (hm0 hE) (k := 1) (by decide) rfl rfl q1519 ⟨rfl, rfl⟩ dX5_tell_10 hf (fun st3 H locs hw hf => ?_)
    refine lv_iload_n hx hb dX5_tell_13 rfl (lv_at hl 1 rfl) ?_
    refine fb_zge (tgt := 28) hx hb dX5_tell_14 (by decide) hf (fun hf => ?_) (fun hf => ?_)
    · refine lv_iload_n hx hb dX5_tell_28 rfl (lv_at hl 1 rfl) ?_
      exact fd_i hend hw hf dX5_tell_29
    refine lv_aload_n hx hb dX5_tell_17 rfl (lv_at hl 0 rfl) ?_
    refine fo_gets X hw fc_X5 (hm0 hE) (k := 2) (d := 1) (n2 := 1) (by decide) rfl rfl q1520 dX5_tell_18 ?_
    refine lv_iload_n hx hb dX5_tell_21 rfl (lv_at hl 1 rfl) ?_
    refine lv_ineg hx hb dX5_tell_22 ?_
    refine lv_dup2_11 hx hb dX5_tell_23 rfl rfl ?_
    refine fo_iald X hw (hm1 hE) dX5_tell_24 hf (fun hf => ?_)
    refine lv_iconst (v := (1 : Int32)) hx hb dX5_tell_25 (by decide) ?_
    refine lv_iadd hx hb dX5_tell_26 ?_
    refine fo_iast X hw (hm1 hE) dX5_tell_27 hf (fun st4 H locs hw hf => ?_)
    refine lv_iload_n hx hb dX5_tell_28 rfl (lv_at hl 1 rfl) ?_
    exact fd_i hend hw hf dX5_tell_29
  clear ek
  refine fb_zge (tgt := 9) hx hb dX5_tell_2 (by decide) hf (fun hf => ?_) (fun hf => ?_)
  · refine lv_iconst (v := (0 : Int32)) hx hb dX5_tell_9 (by decide) ?_
    exact hk2 _ _ _ _ (lv_sub hl [0, 1] rfl) hw hf
  refine lv_iload_n hx hb dX5_tell_5 rfl (lv_at hl 1 rfl) ?_
  refine lv_goto (tgt := 10) hx hb dX5_tell_6 (by decide) ?_
  exact hk2 _ _ _ _ (lv_sub hl [0, 1] rfl) hw hf

/-- ForestRoomsModel.putBack -/
def fX5_putBack (G : Nat) (p1 : Int32) (st0 : fo_St) : Option fo_St := lp2_ (fun rec3 (x1 : Int32) (st2 : fo_St) => if (53 : Int32) ≤ x1 then some st2 else ck_ (fo_in (((53 : Int32) * p1) + x1) 954) (ck_ (fo_in ((3 : Int32) + x1) 5540) (lt_ (si_ st2 2 ((3 : Int32) + x1).toNatClampNeg (gi_ st2 5 (((53 : Int32) * p1) + x1).toNatClampNeg)) (fun st4 => rec3 (x1 + (1 : Int32)) st4)))) G (0 : Int32) st0
theorem hm_X5_putBack : fo_M yX5_putBack 1 := ⟨by decide +kernel, by decide +kernel, by decide +kernel, by decide +kernel⟩
set_option maxHeartbeats 4000000 in
theorem wX5_putBack (l : Launch) (E : fo_E) (hE : ∀ n, et E n = tM_ n) (G : Nat) (p1 : Int32) (st0 : fo_St) (stZ : fo_St) (hf : fX5_putBack G p1 st0 = some stZ) : CTv l E yX5_putBack (ws_ yX5_putBack cX5_putBack 3 none) ({ frames := 0, cells := 0, slots := 0, locals := 0 }) [.ref (eb E + 0), .int p1] st0 stZ := by
  refine fe_v hm_X5_putBack (Nat.le_of_ble_eq_true rfl) (fun p e R s m args below meth c Q hRf hRl X hend ls hl hw => ?_)
  have hx := X.1.1
  have hb := X.1.2.1
  have hl : lv_has ls 3 [(0, .ref (eb E + 0)), (1, .int p1)] := hl
  unfold fX5_putBack at hf
  generalize s.heap = H at hw ⊢
  generalize ([] : List Loc) = locs at hw ⊢
  refine lv_iconst (v := (0 : Int32)) hx hb dX5_putBack_0 (by decide) ?_
  refine lv_istore_n (lv' := [(2, .int (0 : Int32)), (0, .ref (eb E + 0)), (1, .int p1)]) hx hb dX5_putBack_1 rfl hl (by decide) rfl (fun ls hl => ?_)
  refine lp2_e (P := fun x1 st2 => ∀ (H : Heap) (locs : List Loc) (ls : Array Slot), lv_has ls 3 [(2, .int x1), (0, .ref (eb E + 0)), (1, .int p1)] → fo_S E s st2 H locs → W p l e R s m args below meth c H locs 0 0 Q (F0 m 2 ls [])) (fun rec3 hrec3 x1 st2 hf => ?_) G _ _ hf H locs ls (lv_sub hl [0, 1, 2] rfl) hw
  intro H locs ls hl hw
  refine lv_iload_n hx hb dX5_putBack_2 rfl (lv_at hl 0 rfl) ?_
  refine lv_bipush (v := (53 : Int32)) hx hb dX5_putBack_3 (by decide) ?_
  refine fb_ige (tgt := 33) hx hb dX5_putBack_5 (by decide) hf (fun hf => ?_) (fun hf => ?_)
  · exact fd_v hend hw hf dX5_putBack_33
  refine lv_aload_n hx hb dX5_putBack_8 rfl (lv_at hl 1 rfl) ?_
  refine fo_gets X hw fc_X5 (hm0 hE) (k := 3) (d := 2) (n2 := 2) (by decide) rfl rfl q1521 dX5_putBack_9 ?_
  refine lv_iconst (v := (3 : Int32)) hx hb dX5_putBack_12 (by decide) ?_
  refine lv_iload_n hx hb dX5_putBack_13 rfl (lv_at hl 0 rfl) ?_
  refine lv_iadd hx hb dX5_putBack_14 ?_
  refine lv_aload_n hx hb dX5_putBack_15 rfl (lv_at hl 1 rfl) ?_
  refine fo_gets X hw fc_X5 (hm0 hE) (k := 6) (d := 5) (n2 := 5) (by decide) rfl rfl q1524 dX5_putBack_16 ?_
  refine lv_bipush (v := (53 : Int32)) hx hb dX5_putBack_19 (by decide) ?_
  refine lv_iload_n hx hb dX5_putBack_21 rfl (lv_at hl 2 rfl) ?_
  refine lv_imul hx hb dX5_putBack_22 ?_
  refine lv_iload_n hx hb dX5_putBack_23 rfl (lv_at hl 0 rfl) ?_
  refine lv_iadd hx hb dX5_putBack_24 ?_
  refine fo_iald X hw (hm5 hE) dX5_putBack_25 hf (fun hf => ?_)
  refine fo_iast X hw (hm2 hE) dX5_putBack_26 hf (fun st4 H locs hw hf => ?_)
  refine fb_iinc (v := (1 : Int32)) (lv' := [(2, .int (x1 + (1 : Int32))), (0, .ref (eb E + 0)), (1, .int p1)]) hx hb dX5_putBack_27 hl (k := 0) rfl (by decide) (by decide) rfl (fun ls hl => ?_)
  refine lv_goto (tgt := 2) hx hb dX5_putBack_30 (by decide) ?_
  exact hrec3 _ _ hf _ _ _ (lv_sub hl [0, 1, 2] rfl) hw

/-- ForestRoomsModel.undo -/
def fX5_undo (G : Nat) (st0 : fo_St) : Option (Int32 × fo_St) := lt_ (si_ st0 0 0 (0 : Int32)) (fun st1 => if ¬ (gi_ st1 0 8) = 0 then lt_ (si_ st1 0 8 ((gi_ st1 0 8) - (1 : Int32))) (fun st2 => bv_ (fX5_putBack G (gi_ st2 0 8) st2) (fun st4 => ck_ (fo_in (gi_ st4 0 8) 16) (bd_ (fX5_tell (gi_ st4 6 (gi_ st4 0 8).toNatClampNeg) st4) (fun x5 st6 => some (x5, st6))))) else bd_ (fX5_tell (-3 : Int32) st1) (fun x7 st8 => some (x7, st8)))
theorem hm_X5_undo : fo_M yX5_undo 0 := ⟨by decide +kernel, by decide +kernel, by decide +kernel, by decide +kernel⟩
set_option maxHeartbeats 4000000 in
theorem wX5_undo (l : Launch) (E : fo_E) (hE : ∀ n, et E n = tM_ n) (G : Nat) (st0 : fo_St) (rZ : Int32) (stZ : fo_St) (hf : fX5_undo G st0 = some (rZ, stZ)) : CTi l E yX5_undo (ws_ yX5_undo cX5_undo 1 (some .int)) ({ frames := 1, cells := 0, slots := 0, locals := 22 }) [.ref (eb E + 0)] st0 rZ stZ := by
  refine fe_i hm_X5_undo (Nat.le_of_ble_eq_true rfl) (fun p e R s m args below meth c Q hRf hRl X hend ls hl hw => ?_)
  have hx := X.1.1
  have hb := X.1.2.1
  have hl : lv_has ls 1 [(0, .ref (eb E + 0))] := hl
  unfold fX5_undo at hf
  generalize s.heap = H at hw ⊢
  generalize ([] : List Loc) = locs at hw ⊢
  refine lv_aload_n hx hb dX5_undo_0 rfl (lv_at hl 0 rfl) ?_
  refine lv_iconst (v := (0 : Int32)) hx hb dX5_undo_1 (by decide) ?_
  refine fo_puti X hw fc_X5 (hm0 hE) (k := 0) (by decide) rfl rfl q1518 ⟨rfl, rfl⟩ dX5_undo_2 hf (fun st1 H locs hw hf => ?_)
  refine lv_aload_n hx hb dX5_undo_5 rfl (lv_at hl 0 rfl) ?_
  refine fo_geti X hw fc_X5 (hm0 hE) (k := 8) (by decide) rfl q1526 dX5_undo_6 ?_
  refine fb_zne (tgt := 19) hx hb dX5_undo_9 (by decide) hf (fun hf => ?_) (fun hf => ?_)
  · refine lv_aload_n hx hb dX5_undo_19 rfl (lv_at hl 0 rfl) ?_
    refine lv_dup hx hb dX5_undo_20 rfl ?_
    refine fo_geti X hw fc_X5 (hm0 hE) (k := 8) (by decide) rfl q1526 dX5_undo_21 ?_
    refine lv_iconst (v := (1 : Int32)) hx hb dX5_undo_24 (by decide) ?_
    refine lv_isub hx hb dX5_undo_25 ?_
    refine fo_puti X hw fc_X5 (hm0 hE) (k := 8) (by decide) rfl rfl q1526 ⟨rfl, rfl⟩ dX5_undo_26 hf (fun st2 H locs hw hf => ?_)
    refine lv_aload_n hx hb dX5_undo_29 rfl (lv_at hl 0 rfl) ?_
    refine lv_aload_n hx hb dX5_undo_30 rfl (lv_at hl 0 rfl) ?_
    refine fo_geti X hw fc_X5 (hm0 hE) (k := 8) (by decide) rfl q1526 dX5_undo_31 ?_
    refine fc_Vv (rest := []) (As := [.int (gi_ st2 0 8)]) X hw hm_X5_putBack (lw_V q1714 q1716 qs39 q121 q1717) ⟨rfl, rfl⟩ ⟨by rw [hRf]; exact Nat.le_of_ble_eq_true rfl, by rw [hRl]; exact Nat.le_of_ble_eq_true rfl⟩ fc_X5 rfl (hm0 hE) rfl rfl hl.1 (Nat.le_of_ble_eq_true rfl) dX5_undo_34 (fun stQ hQ => wX5_putBack l E hE G (gi_ st2 0 8) st2 stQ hQ) hf (fun st4 H locs hw hf => ?_)
    refine lv_aload_n hx hb dX5_undo_37 rfl (lv_at hl 0 rfl) ?_
    refine lv_aload_n hx hb dX5_undo_38 rfl (lv_at hl 0 rfl) ?_
    refine fo_gets X hw fc_X5 (hm0 hE) (k := 7) (d := 6) (n2 := 6) (by decide) rfl rfl q1525 dX5_undo_39 ?_
    refine lv_aload_n hx hb dX5_undo_42 rfl (lv_at hl 0 rfl) ?_
    refine fo_geti X hw fc_X5 (hm0 hE) (k := 8) (by decide) rfl q1526 dX5_undo_43 ?_
    refine fo_iald X hw (hm6 hE) dX5_undo_46 hf (fun hf => ?_)
    refine fc_Vi (rest := []) (As := [.int (gi_ st4 6 (gi_ st4 0 8).toNatClampNeg)]) X hw hm_X5_tell (lw_V q1710 q1712 qs38 q121 q1713) ⟨rfl, rfl⟩ ⟨by rw [hRf]; exact Nat.le_of_ble_eq_true rfl, by rw [hRl]; exact Nat.le_of_ble_eq_true rfl⟩ fc_X5 rfl (hm0 hE) rfl rfl hl.1 (Nat.le_of_ble_eq_true rfl) dX5_undo_47 (fun rQ stQ hQ => wX5_tell l E hE (gi_ st4 6 (gi_ st4 0 8).toNatClampNeg) st4 rQ stQ hQ) hf (fun x5 st6 H locs hw hf => ?_)
    exact fd_i hend hw hf dX5_undo_50
  refine lv_aload_n hx hb dX5_undo_12 rfl (lv_at hl 0 rfl) ?_
  refine lv_bipush (v := (-3 : Int32)) hx hb dX5_undo_13 (by decide) ?_
  refine fc_Vi (rest := []) (As := [.int (-3 : Int32)]) X hw hm_X5_tell (lw_V q1710 q1712 qs38 q121 q1713) ⟨rfl, rfl⟩ ⟨by rw [hRf]; exact Nat.le_of_ble_eq_true rfl, by rw [hRl]; exact Nat.le_of_ble_eq_true rfl⟩ fc_X5 rfl (hm0 hE) rfl rfl hl.1 (Nat.le_of_ble_eq_true rfl) dX5_undo_15 (fun rQ stQ hQ => wX5_tell l E hE (-3 : Int32) st1 rQ stQ hQ) hf (fun x7 st8 H locs hw hf => ?_)
  exact fd_i hend hw hf dX5_undo_18

/-- ForestRoomsModel.in -/
def fX5_in (p1 : Int64) (p2 : Int64) (p3 : Int64) (st0 : fo_St) : Option (Int32 × fo_St) := if p1 < p2 then some ((0 : Int32), st0) else if p3 < p1 then some ((0 : Int32), st0) else some ((1 : Int32), st0)
theorem hm_X5_in : fo_M yX5_in 3 := ⟨by decide +kernel, by decide +kernel, by decide +kernel, by decide +kernel⟩
set_option maxHeartbeats 4000000 in
theorem wX5_in (l : Launch) (E : fo_E) (hE : ∀ n, et E n = tM_ n) (p1 : Int64) (p2 : Int64) (p3 : Int64) (st0 : fo_St) (rZ : Int32) (stZ : fo_St) (hf : fX5_in p1 p2 p3 st0 = some (rZ, stZ)) : CTi l E yX5_in (ws_ yX5_in cX5_in 6 (some .boolean)) ({ frames := 0, cells := 0, slots := 0, locals := 0 }) [.long p1, .long p2, .long p3] st0 rZ stZ := by
  refine fe_z hm_X5_in (Nat.le_of_ble_eq_true rfl) (fun p e R s m args below meth c Q hRf hRl X hend ls hl hw => ?_)
  have hx := X.1.1
  have hb := X.1.2.1
  have hl : lv_has ls 6 [(0, .long p1), (2, .long p2), (4, .long p3)] := hl
  unfold fX5_in at hf
  generalize s.heap = H at hw ⊢
  generalize ([] : List Loc) = locs at hw ⊢
  refine lv_lload_n hx hb dX5_in_0 rfl (lv_at hl 0 rfl) ?_
  refine lv_lload_n hx hb dX5_in_1 rfl (lv_at hl 1 rfl) ?_
  refine fb_llt (tgt := 17) hx hb dX5_in_2 dX5_in_3 (by decide) hf (fun hf => ?_) (fun hf => ?_)
  · refine lv_iconst (v := (0 : Int32)) hx hb dX5_in_17 (by decide) ?_
    exact fd_z hend hw rfl hf dX5_in_18
  refine lv_lload_n hx hb dX5_in_6 rfl (lv_at hl 0 rfl) ?_
  refine lv_lload hx hb dX5_in_7 (lv_at hl 2 rfl) ?_
  refine fb_lgt (tgt := 17) hx hb dX5_in_9 dX5_in_10 (by decide) hf (fun hf => ?_) (fun hf => ?_)
  · refine lv_iconst (v := (0 : Int32)) hx hb dX5_in_17 (by decide) ?_
    exact fd_z hend hw rfl hf dX5_in_18
  refine lv_iconst (v := (1 : Int32)) hx hb dX5_in_13 (by decide) ?_
  refine lv_goto (tgt := 18) hx hb dX5_in_14 (by decide) ?_
  exact fd_z hend hw rfl hf dX5_in_18

/-- ForestRoomsModel.image -/
def fX5_image (G : Nat) (p1 : Int32) (st0 : fo_St) : Option (Int32 × fo_St) := lt_ (si_ st0 0 0 (0 : Int32)) (fun st1 => bd_ (fX5_in (p1.toInt64) (0 : Int64) (1 : Int64) st1) (fun x2 st3 => if ¬ x2 = 0 then lp2_ (fun rec6 (x4 : Int32) (st5 : fo_St) => if (5540 : Int32) ≤ x4 then ck_ (fo_in p1 2) (lt_ (si_ st5 4 p1.toNatClampNeg (1 : Int32)) (fun st7 => bd_ (fX5_tell (0 : Int32) st7) (fun x8 st9 => some (x8, st9)))) else ck_ (fo_in x4 5540) (ck_ (fo_in (((5540 : Int32) * p1) + x4) 11080) (lt_ (si_ st5 3 (((5540 : Int32) * p1) + x4).toNatClampNeg (gi_ st5 2 x4.toNatClampNeg)) (fun st10 => rec6 (x4 + (1 : Int32)) st10)))) G (0 : Int32) st3 else bd_ (fX5_tell (-1 : Int32) st3) (fun x11 st12 => some (x11, st12))))
theorem hm_X5_image : fo_M yX5_image 1 := ⟨by decide +kernel, by decide +kernel, by decide +kernel, by decide +kernel⟩
set_option maxHeartbeats 4000000 in
theorem wX5_image (l : Launch) (E : fo_E) (hE : ∀ n, et E n = tM_ n) (G : Nat) (p1 : Int32) (st0 : fo_St) (rZ : Int32) (stZ : fo_St) (hf : fX5_image G p1 st0 = some (rZ, stZ)) : CTi l E yX5_image (ws_ yX5_image cX5_image 3 (some .int)) ({ frames := 1, cells := 0, slots := 0, locals := 25 }) [.ref (eb E + 0), .int p1] st0 rZ stZ := by
  refine fe_i hm_X5_image (Nat.le_of_ble_eq_true rfl) (fun p e R s m args below meth c Q hRf hRl X hend ls hl hw => ?_)
  have hx := X.1.1
  have hb := X.1.2.1
  have hl : lv_has ls 3 [(0, .ref (eb E + 0)), (1, .int p1)] := hl
  unfold fX5_image at hf
  generalize s.heap = H at hw ⊢
  generalize ([] : List Loc) = locs at hw ⊢
  refine lv_aload_n hx hb dX5_image_0 rfl (lv_at hl 0 rfl) ?_
  refine lv_iconst (v := (0 : Int32)) hx hb dX5_image_1 (by decide) ?_
  refine fo_puti X hw fc_X5 (hm0 hE) (k := 0) (by decide) rfl rfl q1518 ⟨rfl, rfl⟩ dX5_image_2 hf (fun st1 H locs hw hf => ?_)
  refine lv_iload_n hx hb dX5_image_5 rfl (lv_at hl 1 rfl) ?_
  refine lv_i2l (v := p1.toInt64) hx hb dX5_image_6 rfl ?_
  refine lv_lconst (v := (0 : Int64)) hx hb dX5_image_7 rfl ?_
  refine lv_lconst (v := (1 : Int64)) hx hb dX5_image_8 rfl ?_
  refine fc_Si (rest := []) (As := [.long p1.toInt64, .long (0 : Int64), .long (1 : Int64)]) X hw hm_X5_in (lw_S q1722 q1723 q121 q1724) ⟨rfl, rfl⟩ ⟨by rw [hRf]; exact Nat.le_of_ble_eq_true rfl, by rw [hRl]; exact Nat.le_of_ble_eq_true rfl⟩ rfl rfl hl.1 (Nat.le_of_ble_eq_true rfl) dX5_image_9 (fun rQ stQ hQ => wX5_in l E hE (p1.toInt64) (0 : Int64) (1 : Int64) st1 rQ stQ hQ) hf (fun x2 st3 H locs hw hf => ?_)
  refine fb_zne (tgt := 21) hx hb dX5_image_12 (by decide) hf (fun hf => ?_) (fun hf => ?_)
  · refine lv_iconst (v := (0 : Int32)) hx hb dX5_image_21 (by decide) ?_
    refine lv_istore_n (lv' := [(2, .int (0 : Int32)), (0, .ref (eb E + 0)), (1, .int p1)]) hx hb dX5_image_22 rfl hl (by decide) rfl (fun ls hl => ?_)
    refine lp2_e (P := fun x4 st5 => ∀ (H : Heap) (locs : List Loc) (ls : Array Slot), lv_has ls 3 [(2, .int x4), (0, .ref (eb E + 0)), (1, .int p1)] → fo_S E s st5 H locs → W p l e R s m args below meth c H locs 0 0 Q (F0 m 23 ls [])) (fun rec6 hrec6 x4 st5 hf => ?_) G _ _ hf H locs ls (lv_sub hl [0, 1, 2] rfl) hw
    intro H locs ls hl hw
    refine lv_iload_n hx hb dX5_image_23 rfl (lv_at hl 0 rfl) ?_
    refine lv_sipush (v := (5540 : Int32)) hx hb dX5_image_24 (by decide) ?_
    refine fb_ige (tgt := 54) hx hb dX5_image_27 (by decide) hf (fun hf => ?_) (fun hf => ?_)
    · refine lv_aload_n hx hb dX5_image_54 rfl (lv_at hl 1 rfl) ?_
      refine fo_gets X hw fc_X5 (hm0 hE) (k := 5) (d := 4) (n2 := 4) (by decide) rfl rfl q1523 dX5_image_55 ?_
      refine lv_iload_n hx hb dX5_image_58 rfl (lv_at hl 2 rfl) ?_
      refine lv_iconst (v := (1 : Int32)) hx hb dX5_image_59 (by decide) ?_
      refine fo_zast X hw (hm4 hE) rfl dX5_image_60 hf (fun st7 H locs hw hf => ?_)
      refine lv_aload_n hx hb dX5_image_61 rfl (lv_at hl 1 rfl) ?_
      refine lv_iconst (v := (0 : Int32)) hx hb dX5_image_62 (by decide) ?_
      refine fc_Vi (rest := []) (As := [.int (0 : Int32)]) X hw hm_X5_tell (lw_V q1710 q1712 qs38 q121 q1713) ⟨rfl, rfl⟩ ⟨by rw [hRf]; exact Nat.le_of_ble_eq_true rfl, by rw [hRl]; exact Nat.le_of_ble_eq_true rfl⟩ fc_X5 rfl (hm0 hE) rfl rfl hl.1 (Nat.le_of_ble_eq_true rfl) dX5_image_63 (fun rQ stQ hQ => wX5_tell l E hE (0 : Int32) st7 rQ stQ hQ) hf (fun x8 st9 H locs hw hf => ?_)
      exact fd_i hend hw hf dX5_image_66
    refine lv_aload_n hx hb dX5_image_30 rfl (lv_at hl 1 rfl) ?_
    refine fo_gets X hw fc_X5 (hm0 hE) (k := 4) (d := 3) (n2 := 3) (by decide) rfl rfl q1522 dX5_image_31 ?_
    refine lv_sipush (v := (5540 : Int32)) hx hb dX5_image_34 (by decide) ?_
    refine lv_iload_n hx hb dX5_image_37 rfl (lv_at hl 2 rfl) ?_
    refine lv_imul hx hb dX5_image_38 ?_
    refine lv_iload_n hx hb dX5_image_39 rfl (lv_at hl 0 rfl) ?_
    refine lv_iadd hx hb dX5_image_40 ?_
    refine lv_aload_n hx hb dX5_image_41 rfl (lv_at hl 1 rfl) ?_
    refine fo_gets X hw fc_X5 (hm0 hE) (k := 3) (d := 2) (n2 := 2) (by decide) rfl rfl q1521 dX5_image_42 ?_
    refine lv_iload_n hx hb dX5_image_45 rfl (lv_at hl 0 rfl) ?_
    refine fo_iald X hw (hm2 hE) dX5_image_46 hf (fun hf => ?_)
    refine fo_iast X hw (hm3 hE) dX5_image_47 hf (fun st10 H locs hw hf => ?_)
    refine fb_iinc (v := (1 : Int32)) (lv' := [(2, .int (x4 + (1 : Int32))), (0, .ref (eb E + 0)), (1, .int p1)]) hx hb dX5_image_48 hl (k := 0) rfl (by decide) (by decide) rfl (fun ls hl => ?_)
    refine lv_goto (tgt := 23) hx hb dX5_image_51 (by decide) ?_
    exact hrec6 _ _ hf _ _ _ (lv_sub hl [0, 1, 2] rfl) hw
  refine lv_aload_n hx hb dX5_image_15 rfl (lv_at hl 0 rfl) ?_
  refine lv_iconst (v := (-1 : Int32)) hx hb dX5_image_16 (by decide) ?_
  refine fc_Vi (rest := []) (As := [.int (-1 : Int32)]) X hw hm_X5_tell (lw_V q1710 q1712 qs38 q121 q1713) ⟨rfl, rfl⟩ ⟨by rw [hRf]; exact Nat.le_of_ble_eq_true rfl, by rw [hRl]; exact Nat.le_of_ble_eq_true rfl⟩ fc_X5 rfl (hm0 hE) rfl rfl hl.1 (Nat.le_of_ble_eq_true rfl) dX5_image_17 (fun rQ stQ hQ => wX5_tell l E hE (-1 : Int32) st3 rQ stQ hQ) hf (fun x11 st12 H locs hw hf => ?_)
  exact fd_i hend hw hf dX5_image_20

/-- ForestRoomsModel.settled -/
def fX5_settled (p1 : Int32) (st0 : fo_St) : Option (Int32 × fo_St) := jn_ (fun (x1 : Int32) => lt_ (si_ st0 0 8 x1) (fun st3 => bd_ (fX5_tell p1 st3) (fun x4 st5 => some (x4, st5)))) (fun k2 => if 0 ≤ p1 then k2 (0 : Int32) else k2 (gi_ st0 0 8))
theorem hm_X5_settled : fo_M yX5_settled 1 := ⟨by decide +kernel, by decide +kernel, by decide +kernel, by decide +kernel⟩
set_option maxHeartbeats 4000000 in
theorem wX5_settled (l : Launch) (E : fo_E) (hE : ∀ n, et E n = tM_ n) (p1 : Int32) (st0 : fo_St) (rZ : Int32) (stZ : fo_St) (hf : fX5_settled p1 st0 = some (rZ, stZ)) : CTi l E yX5_settled (ws_ yX5_settled cX5_settled 2 (some .int)) ({ frames := 1, cells := 0, slots := 0, locals := 21 }) [.ref (eb E + 0), .int p1] st0 rZ stZ := by
  refine fe_i hm_X5_settled (Nat.le_of_ble_eq_true rfl) (fun p e R s m args below meth c Q hRf hRl X hend ls hl hw => ?_)
  have hx := X.1.1
  have hb := X.1.2.1
  have hl : lv_has ls 2 [(0, .ref (eb E + 0)), (1, .int p1)] := hl
  unfold fX5_settled at hf
  generalize s.heap = H at hw ⊢
  generalize ([] : List Loc) = locs at hw ⊢
  refine lv_aload_n hx hb dX5_settled_0 rfl (lv_at hl 0 rfl) ?_
  refine lv_iload_n hx hb dX5_settled_1 rfl (lv_at hl 1 rfl) ?_
  refine jn_e hf (fun k2 ek hf => ?_)
  have hk2 : ∀ (x1 : Int32) (H : Heap) (locs : List Loc) (ls : Array Slot), lv_has ls 2 [(0, .ref (eb E + 0)), (1, .int p1)] → fo_S E s st0 H locs → k2 x1 = some (rZ, stZ) → W p l e R s m args below meth c H locs 0 0 Q (F0 m 13 ls [.int x1, .ref (eb E + 0)]) := by
    intro x1 H locs ls hl hw hf
    rw [ek] at hf
    refine fo_puti X hw fc_X5 (hm0 hE) (k := 8) (by decide) rfl rfl q1526 ⟨rfl, rfl⟩ dX5_settled_13 hf (fun st3 H locs hw hf => ?_)
    refine lv_aload_n hx hb dX5_settled_16 rfl (lv_at hl 0 rfl) ?_
    refine lv_iload_n hx hb dX5_settled_17 rfl (lv_at hl 1 rfl) ?_
    refine fc_Vi (rest := []) (As := [.int p1]) X hw hm_X5_tell (lw_V q1710 q1712 qs38 q121 q1713) ⟨rfl, rfl⟩ ⟨by rw [hRf]; exact Nat.le_of_ble_eq_true rfl, by rw [hRl]; exact Nat.le_of_ble_eq_true rfl⟩ fc_X5 rfl (hm0 hE) rfl rfl hl.1 (Nat.le_of_ble_eq_true rfl) dX5_settled_18 (fun rQ stQ hQ => wX5_tell l E hE p1 st3 rQ stQ hQ) hf (fun x4 st5 H locs hw hf => ?_)
    exact fd_i hend hw hf dX5_settled_21
  clear ek
  refine fb_zge (tgt := 12) hx hb dX5_settled_2 (by decide) hf (fun hf => ?_) (fun hf => ?_)
  · refine lv_iconst (v := (0 : Int32)) hx hb dX5_settled_12 (by decide) ?_
    exact hk2 _ _ _ _ (lv_sub hl [0, 1] rfl) hw hf
  refine lv_aload_n hx hb dX5_settled_5 rfl (lv_at hl 0 rfl) ?_
  refine fo_geti X hw fc_X5 (hm0 hE) (k := 8) (by decide) rfl q1526 dX5_settled_6 ?_
  refine lv_goto (tgt := 13) hx hb dX5_settled_9 (by decide) ?_
  exact hk2 _ _ _ _ (lv_sub hl [0, 1] rfl) hw hf

/-- ForestRoomsModel.back -/
def fX5_back (G : Nat) (p1 : Int32) (st0 : fo_St) : Option (Int32 × fo_St) := lt_ (si_ st0 0 0 (0 : Int32)) (fun st1 => bd_ (fX5_in (p1.toInt64) (0 : Int64) (1 : Int64) st1) (fun x2 st3 => if ¬ x2 = 0 then ck_ (fo_in p1 2) (if ¬ (gi_ st3 4 p1.toNatClampNeg) = 0 then lp2_ (fun rec6 (x4 : Int32) (st5 : fo_St) => if (5540 : Int32) ≤ x4 then bd_ (fX5_settled (0 : Int32) st5) (fun x7 st8 => some (x7, st8)) else ck_ (fo_in (((5540 : Int32) * p1) + x4) 11080) (ck_ (fo_in x4 5540) (lt_ (si_ st5 2 x4.toNatClampNeg (gi_ st5 3 (((5540 : Int32) * p1) + x4).toNatClampNeg)) (fun st9 => rec6 (x4 + (1 : Int32)) st9)))) G (0 : Int32) st3 else bd_ (fX5_tell (-2 : Int32) st3) (fun x10 st11 => some (x10, st11))) else bd_ (fX5_tell (-1 : Int32) st3) (fun x12 st13 => some (x12, st13))))
theorem hm_X5_back : fo_M yX5_back 1 := ⟨by decide +kernel, by decide +kernel, by decide +kernel, by decide +kernel⟩
set_option maxHeartbeats 4000000 in
theorem wX5_back (l : Launch) (E : fo_E) (hE : ∀ n, et E n = tM_ n) (G : Nat) (p1 : Int32) (st0 : fo_St) (rZ : Int32) (stZ : fo_St) (hf : fX5_back G p1 st0 = some (rZ, stZ)) : CTi l E yX5_back (ws_ yX5_back cX5_back 3 (some .int)) ({ frames := 2, cells := 0, slots := 0, locals := 42 }) [.ref (eb E + 0), .int p1] st0 rZ stZ := by
  refine fe_i hm_X5_back (Nat.le_of_ble_eq_true rfl) (fun p e R s m args below meth c Q hRf hRl X hend ls hl hw => ?_)
  have hx := X.1.1
  have hb := X.1.2.1
  have hl : lv_has ls 3 [(0, .ref (eb E + 0)), (1, .int p1)] := hl
  unfold fX5_back at hf
  generalize s.heap = H at hw ⊢
  generalize ([] : List Loc) = locs at hw ⊢
  refine lv_aload_n hx hb dX5_back_0 rfl (lv_at hl 0 rfl) ?_
  refine lv_iconst (v := (0 : Int32)) hx hb dX5_back_1 (by decide) ?_
  refine fo_puti X hw fc_X5 (hm0 hE) (k := 0) (by decide) rfl rfl q1518 ⟨rfl, rfl⟩ dX5_back_2 hf (fun st1 H locs hw hf => ?_)
  refine lv_iload_n hx hb dX5_back_5 rfl (lv_at hl 1 rfl) ?_
  refine lv_i2l (v := p1.toInt64) hx hb dX5_back_6 rfl ?_
  refine lv_lconst (v := (0 : Int64)) hx hb dX5_back_7 rfl ?_
  refine lv_lconst (v := (1 : Int64)) hx hb dX5_back_8 rfl ?_
  refine fc_Si (rest := []) (As := [.long p1.toInt64, .long (0 : Int64), .long (1 : Int64)]) X hw hm_X5_in (lw_S q1722 q1723 q121 q1724) ⟨rfl, rfl⟩ ⟨by rw [hRf]; exact Nat.le_of_ble_eq_true rfl, by rw [hRl]; exact Nat.le_of_ble_eq_true rfl⟩ rfl rfl hl.1 (Nat.le_of_ble_eq_true rfl) dX5_back_9 (fun rQ stQ hQ => wX5_in l E hE (p1.toInt64) (0 : Int64) (1 : Int64) st1 rQ stQ hQ) hf (fun x2 st3 H locs hw hf => ?_)
  refine fb_zne (tgt := 21) hx hb dX5_back_12 (by decide) hf (fun hf => ?_) (fun hf => ?_)
  · refine lv_aload_n hx hb dX5_back_21 rfl (lv_at hl 0 rfl) ?_
    refine fo_gets X hw fc_X5 (hm0 hE) (k := 5) (d := 4) (n2 := 4) (by decide) rfl rfl q1523 dX5_back_22 ?_
    refine lv_iload_n hx hb dX5_back_25 rfl (lv_at hl 1 rfl) ?_
    refine fo_zald X hw (hm4 hE) dX5_back_26 hf (fun hf => ?_)
    refine fb_zne (tgt := 37) hx hb dX5_back_27 (by decide) hf (fun hf => ?_) (fun hf => ?_)
    · refine lv_iconst (v := (0 : Int32)) hx hb dX5_back_37 (by decide) ?_
      refine lv_istore_n (lv' := [(2, .int (0 : Int32)), (0, .ref (eb E + 0)), (1, .int p1)]) hx hb dX5_back_38 rfl hl (by decide) rfl (fun ls hl => ?_)
      refine lp2_e (P := fun x4 st5 => ∀ (H : Heap) (locs : List Loc) (ls : Array Slot), lv_has ls 3 [(2, .int x4), (0, .ref (eb E + 0)), (1, .int p1)] → fo_S E s st5 H locs → W p l e R s m args below meth c H locs 0 0 Q (F0 m 39 ls [])) (fun rec6 hrec6 x4 st5 hf => ?_) G _ _ hf H locs ls (lv_sub hl [0, 1, 2] rfl) hw
      intro H locs ls hl hw
      refine lv_iload_n hx hb dX5_back_39 rfl (lv_at hl 0 rfl) ?_
      refine lv_sipush (v := (5540 : Int32)) hx hb dX5_back_40 (by decide) ?_
      refine fb_ige (tgt := 70) hx hb dX5_back_43 (by decide) hf (fun hf => ?_) (fun hf => ?_)
      · refine lv_aload_n hx hb dX5_back_70 rfl (lv_at hl 1 rfl) ?_
        refine lv_iconst (v := (0 : Int32)) hx hb dX5_back_71 (by decide) ?_
        refine fc_Vi (rest := []) (As := [.int (0 : Int32)]) X hw hm_X5_settled (lw_V q1729 q1731 qs40 q121 q1732) ⟨rfl, rfl⟩ ⟨by rw [hRf]; exact Nat.le_of_ble_eq_true rfl, by rw [hRl]; exact Nat.le_of_ble_eq_true rfl⟩ fc_X5 rfl (hm0 hE) rfl rfl hl.1 (Nat.le_of_ble_eq_true rfl) dX5_back_72 (fun rQ stQ hQ => wX5_settled l E hE (0 : Int32) st5 rQ stQ hQ) hf (fun x7 st8 H locs hw hf => ?_)
        exact fd_i hend hw hf dX5_back_75
      refine lv_aload_n hx hb dX5_back_46 rfl (lv_at hl 1 rfl) ?_
      refine fo_gets X hw fc_X5 (hm0 hE) (k := 3) (d := 2) (n2 := 2) (by decide) rfl rfl q1521 dX5_back_47 ?_
      refine lv_iload_n hx hb dX5_back_50 rfl (lv_at hl 0 rfl) ?_
      refine lv_aload_n hx hb dX5_back_51 rfl (lv_at hl 1 rfl) ?_
      refine fo_gets X hw fc_X5 (hm0 hE) (k := 4) (d := 3) (n2 := 3) (by decide) rfl rfl q1522 dX5_back_52 ?_
      refine lv_sipush (v := (5540 : Int32)) hx hb dX5_back_55 (by decide) ?_
      refine lv_iload_n hx hb dX5_back_58 rfl (lv_at hl 2 rfl) ?_
      refine lv_imul hx hb dX5_back_59 ?_
      refine lv_iload_n hx hb dX5_back_60 rfl (lv_at hl 0 rfl) ?_
      refine lv_iadd hx hb dX5_back_61 ?_
      refine fo_iald X hw (hm3 hE) dX5_back_62 hf (fun hf => ?_)
      refine fo_iast X hw (hm2 hE) dX5_back_63 hf (fun st9 H locs hw hf => ?_)
      refine fb_iinc (v := (1 : Int32)) (lv' := [(2, .int (x4 + (1 : Int32))), (0, .ref (eb E + 0)), (1, .int p1)]) hx hb dX5_back_64 hl (k := 0) rfl (by decide) (by decide) rfl (fun ls hl => ?_)
      refine lv_goto (tgt := 39) hx hb dX5_back_67 (by decide) ?_
      exact hrec6 _ _ hf _ _ _ (lv_sub hl [0, 1, 2] rfl) hw
    refine lv_aload_n hx hb dX5_back_30 rfl (lv_at hl 0 rfl) ?_
    refine lv_bipush (v := (-2 : Int32)) hx hb dX5_back_31 (by decide) ?_
    refine fc_Vi (rest := []) (As := [.int (-2 : Int32)]) X hw hm_X5_tell (lw_V q1710 q1712 qs38 q121 q1713) ⟨rfl, rfl⟩ ⟨by rw [hRf]; exact Nat.le_of_ble_eq_true rfl, by rw [hRl]; exact Nat.le_of_ble_eq_true rfl⟩ fc_X5 rfl (hm0 hE) rfl rfl hl.1 (Nat.le_of_ble_eq_true rfl) dX5_back_33 (fun rQ stQ hQ => wX5_tell l E hE (-2 : Int32) st3 rQ stQ hQ) hf (fun x10 st11 H locs hw hf => ?_)
    exact fd_i hend hw hf dX5_back_36
  refine lv_aload_n hx hb dX5_back_15 rfl (lv_at hl 0 rfl) ?_
  refine lv_iconst (v := (-1 : Int32)) hx hb dX5_back_16 (by decide) ?_
  refine fc_Vi (rest := []) (As := [.int (-1 : Int32)]) X hw hm_X5_tell (lw_V q1710 q1712 qs38 q121 q1713) ⟨rfl, rfl⟩ ⟨by rw [hRf]; exact Nat.le_of_ble_eq_true rfl, by rw [hRl]; exact Nat.le_of_ble_eq_true rfl⟩ fc_X5 rfl (hm0 hE) rfl rfl hl.1 (Nat.le_of_ble_eq_true rfl) dX5_back_17 (fun rQ stQ hQ => wX5_tell l E hE (-1 : Int32) st3 rQ stQ hQ) hf (fun x12 st13 H locs hw hf => ?_)
  exact fd_i hend hw hf dX5_back_20

/-- ForestRoomsModel.isRoom -/
def fX5_isRoom (p1 : Int32) (st0 : fo_St) : Option (Int32 × fo_St) := bd_ (fX5_in (p1.toInt64) (0 : Int64) (15 : Int64) st0) (fun x1 st2 => ck_ (decide (x1 = 0 ∨ x1 = 1)) (some (x1, st2)))
theorem hm_X5_isRoom : fo_M yX5_isRoom 1 := ⟨by decide +kernel, by decide +kernel, by decide +kernel, by decide +kernel⟩
set_option maxHeartbeats 4000000 in
theorem wX5_isRoom (l : Launch) (E : fo_E) (hE : ∀ n, et E n = tM_ n) (p1 : Int32) (st0 : fo_St) (rZ : Int32) (stZ : fo_St) (hf : fX5_isRoom p1 st0 = some (rZ, stZ)) : CTi l E yX5_isRoom (ws_ yX5_isRoom cX5_isRoom 1 (some .boolean)) ({ frames := 1, cells := 0, slots := 0, locals := 25 }) [.int p1] st0 rZ stZ := by
  refine fe_z hm_X5_isRoom (Nat.le_of_ble_eq_true rfl) (fun p e R s m args below meth c Q hRf hRl X hend ls hl hw => ?_)
  have hx := X.1.1
  have hb := X.1.2.1
  have hl : lv_has ls 1 [(0, .int p1)] := hl
  unfold fX5_isRoom at hf
  generalize s.heap = H at hw ⊢
  generalize ([] : List Loc) = locs at hw ⊢
  refine lv_iload_n hx hb dX5_isRoom_0 rfl (lv_at hl 0 rfl) ?_
  refine lv_i2l (v := p1.toInt64) hx hb dX5_isRoom_1 rfl ?_
  refine lv_lconst (v := (0 : Int64)) hx hb dX5_isRoom_2 rfl ?_
  refine lv_ldc2 (v := (15 : Int64)) hx hb X.1.2.2.2.1 (X.1.2.2.2.2 _ q1740) dX5_isRoom_3 ?_
  refine fc_Si (rest := []) (As := [.long p1.toInt64, .long (0 : Int64), .long (15 : Int64)]) X hw hm_X5_in (lw_S q1722 q1723 q121 q1724) ⟨rfl, rfl⟩ ⟨by rw [hRf]; exact Nat.le_of_ble_eq_true rfl, by rw [hRl]; exact Nat.le_of_ble_eq_true rfl⟩ rfl rfl hl.1 (Nat.le_of_ble_eq_true rfl) dX5_isRoom_6 (fun rQ stQ hQ => wX5_in l E hE (p1.toInt64) (0 : Int64) (15 : Int64) st0 rQ stQ hQ) hf (fun x1 st2 H locs hw hf => ?_)
  obtain ⟨hz, hf⟩ := ck_e hf
  exact fd_z hend hw (fo_z hz).1 hf dX5_isRoom_9

/-- ForestRoomsModel.canBe -/
def fX5_canBe (p1 : Int32) (p2 : Int32) (st0 : fo_St) : Option (Int32 × fo_St) := if p1 = 0 then bd_ (fX5_in (p2.toInt64) (0 : Int64) (9 : Int64) st0) (fun x1 st2 => ck_ (decide (x1 = 0 ∨ x1 = 1)) (some (x1, st2))) else if ¬ p1 = (1 : Int32) then if ¬ p1 = (2 : Int32) then some ((0 : Int32), st0) else bd_ (fX5_in (p2.toInt64) (1 : Int64) (9 : Int64) st0) (fun x3 st4 => if x3 = 0 then some ((0 : Int32), st4) else some ((1 : Int32), st4)) else bd_ (fX5_in (p2.toInt64) (0 : Int64) (9 : Int64) st0) (fun x5 st6 => ck_ (decide (x5 = 0 ∨ x5 = 1)) (some (x5, st6)))
theorem hm_X5_canBe : fo_M yX5_canBe 2 := ⟨by decide +kernel, by decide +kernel, by decide +kernel, by decide +kernel⟩
set_option maxHeartbeats 4000000 in
theorem wX5_canBe (l : Launch) (E : fo_E) (hE : ∀ n, et E n = tM_ n) (p1 : Int32) (p2 : Int32) (st0 : fo_St) (rZ : Int32) (stZ : fo_St) (hf : fX5_canBe p1 p2 st0 = some (rZ, stZ)) : CTi l E yX5_canBe (ws_ yX5_canBe cX5_canBe 2 (some .boolean)) ({ frames := 1, cells := 0, slots := 0, locals := 25 }) [.int p1, .int p2] st0 rZ stZ := by
  refine fe_z hm_X5_canBe (Nat.le_of_ble_eq_true rfl) (fun p e R s m args below meth c Q hRf hRl X hend ls hl hw => ?_)
  have hx := X.1.1
  have hb := X.1.2.1
  have hl : lv_has ls 2 [(0, .int p1), (1, .int p2)] := hl
  unfold fX5_canBe at hf
  generalize s.heap = H at hw ⊢
  generalize ([] : List Loc) = locs at hw ⊢
  refine lv_iload_n hx hb dX5_canBe_0 rfl (lv_at hl 0 rfl) ?_
  refine fb_zeq (tgt := 9) hx hb dX5_canBe_1 (by decide) hf (fun hf => ?_) (fun hf => ?_)
  · refine lv_iload_n hx hb dX5_canBe_9 rfl (lv_at hl 1 rfl) ?_
    refine lv_i2l (v := p2.toInt64) hx hb dX5_canBe_10 rfl ?_
    refine lv_lconst (v := (0 : Int64)) hx hb dX5_canBe_11 rfl ?_
    refine lv_ldc2 (v := (9 : Int64)) hx hb X.1.2.2.2.1 (X.1.2.2.2.2 _ q1744) dX5_canBe_12 ?_
    refine fc_Si (rest := []) (As := [.long p2.toInt64, .long (0 : Int64), .long (9 : Int64)]) X hw hm_X5_in (lw_S q1722 q1723 q121 q1724) ⟨rfl, rfl⟩ ⟨by rw [hRf]; exact Nat.le_of_ble_eq_true rfl, by rw [hRl]; exact Nat.le_of_ble_eq_true rfl⟩ rfl rfl hl.1 (Nat.le_of_ble_eq_true rfl) dX5_canBe_15 (fun rQ stQ hQ => wX5_in l E hE (p2.toInt64) (0 : Int64) (9 : Int64) st0 rQ stQ hQ) hf (fun x1 st2 H locs hw hf => ?_)
    refine lv_goto (tgt := 43) hx hb dX5_canBe_18 (by decide) ?_
    obtain ⟨hz, hf⟩ := ck_e hf
    exact fd_z hend hw (fo_z hz).1 hf dX5_canBe_43
  refine lv_iload_n hx hb dX5_canBe_4 rfl (lv_at hl 0 rfl) ?_
  refine lv_iconst (v := (1 : Int32)) hx hb dX5_canBe_5 (by decide) ?_
  refine fb_ine (tgt := 21) hx hb dX5_canBe_6 (by decide) hf (fun hf => ?_) (fun hf => ?_)
  · refine lv_iload_n hx hb dX5_canBe_21 rfl (lv_at hl 0 rfl) ?_
    refine lv_iconst (v := (2 : Int32)) hx hb dX5_canBe_22 (by decide) ?_
    refine fb_ine (tgt := 42) hx hb dX5_canBe_23 (by decide) hf (fun hf => ?_) (fun hf => ?_)
    · refine lv_iconst (v := (0 : Int32)) hx hb dX5_canBe_42 (by decide) ?_
      exact fd_z hend hw rfl hf dX5_canBe_43
    refine lv_iload_n hx hb dX5_canBe_26 rfl (lv_at hl 1 rfl) ?_
    refine lv_i2l (v := p2.toInt64) hx hb dX5_canBe_27 rfl ?_
    refine lv_lconst (v := (1 : Int64)) hx hb dX5_canBe_28 rfl ?_
    refine lv_ldc2 (v := (9 : Int64)) hx hb X.1.2.2.2.1 (X.1.2.2.2.2 _ q1744) dX5_canBe_29 ?_
    refine fc_Si (rest := []) (As := [.long p2.toInt64, .long (1 : Int64), .long (9 : Int64)]) X hw hm_X5_in (lw_S q1722 q1723 q121 q1724) ⟨rfl, rfl⟩ ⟨by rw [hRf]; exact Nat.le_of_ble_eq_true rfl, by rw [hRl]; exact Nat.le_of_ble_eq_true rfl⟩ rfl rfl hl.1 (Nat.le_of_ble_eq_true rfl) dX5_canBe_32 (fun rQ stQ hQ => wX5_in l E hE (p2.toInt64) (1 : Int64) (9 : Int64) st0 rQ stQ hQ) hf (fun x3 st4 H locs hw hf => ?_)
    refine fb_zeq (tgt := 42) hx hb dX5_canBe_35 (by decide) hf (fun hf => ?_) (fun hf => ?_)
    · refine lv_iconst (v := (0 : Int32)) hx hb dX5_canBe_42 (by decide) ?_
      exact fd_z hend hw rfl hf dX5_canBe_43
    refine lv_iconst (v := (1 : Int32)) hx hb dX5_canBe_38 (by decide) ?_
    refine lv_goto (tgt := 43) hx hb dX5_canBe_39 (by decide) ?_
    exact fd_z hend hw rfl hf dX5_canBe_43
  refine lv_iload_n hx hb dX5_canBe_9 rfl (lv_at hl 1 rfl) ?_
  refine lv_i2l (v := p2.toInt64) hx hb dX5_canBe_10 rfl ?_
  refine lv_lconst (v := (0 : Int64)) hx hb dX5_canBe_11 rfl ?_
  refine lv_ldc2 (v := (9 : Int64)) hx hb X.1.2.2.2.1 (X.1.2.2.2.2 _ q1744) dX5_canBe_12 ?_
  refine fc_Si (rest := []) (As := [.long p2.toInt64, .long (0 : Int64), .long (9 : Int64)]) X hw hm_X5_in (lw_S q1722 q1723 q121 q1724) ⟨rfl, rfl⟩ ⟨by rw [hRf]; exact Nat.le_of_ble_eq_true rfl, by rw [hRl]; exact Nat.le_of_ble_eq_true rfl⟩ rfl rfl hl.1 (Nat.le_of_ble_eq_true rfl) dX5_canBe_15 (fun rQ stQ hQ => wX5_in l E hE (p2.toInt64) (0 : Int64) (9 : Int64) st0 rQ stQ hQ) hf (fun x5 st6 H locs hw hf => ?_)
  refine lv_goto (tgt := 43) hx hb dX5_canBe_18 (by decide) ?_
  obtain ⟨hz, hf⟩ := ck_e hf
  exact fd_z hend hw (fo_z hz).1 hf dX5_canBe_43

/-- ForestRoomsModel.change -/
def fX5_change (p1 : Int32) (p2 : Int32) (st0 : fo_St) : Option (Int32 × fo_St) := ck_ (fo_in p1 5540) (lI_ (gi_ st0 2 p1.toNatClampNeg) (fun x1 => ck_ (fo_in p1 5540) (lt_ (si_ st0 2 p1.toNatClampNeg p2) (fun st2 => lt_ (si_ st2 0 1 (0 : Int32)) (fun st3 => some (x1, st3))))))
theorem hm_X5_change : fo_M yX5_change 2 := ⟨by decide +kernel, by decide +kernel, by decide +kernel, by decide +kernel⟩
set_option maxHeartbeats 4000000 in
theorem wX5_change (l : Launch) (E : fo_E) (hE : ∀ n, et E n = tM_ n) (p1 : Int32) (p2 : Int32) (st0 : fo_St) (rZ : Int32) (stZ : fo_St) (hf : fX5_change p1 p2 st0 = some (rZ, stZ)) : CTi l E yX5_change (ws_ yX5_change cX5_change 4 (some .int)) ({ frames := 0, cells := 0, slots := 0, locals := 0 }) [.ref (eb E + 0), .int p1, .int p2] st0 rZ stZ := by
  refine fe_i hm_X5_change (Nat.le_of_ble_eq_true rfl) (fun p e R s m args below meth c Q hRf hRl X hend ls hl hw => ?_)
  have hx := X.1.1
  have hb := X.1.2.1
  have hl : lv_has ls 4 [(0, .ref (eb E + 0)), (1, .int p1), (2, .int p2)] := hl
  unfold fX5_change at hf
  generalize s.heap = H at hw ⊢
  generalize ([] : List Loc) = locs at hw ⊢
  refine lv_aload_n hx hb dX5_change_0 rfl (lv_at hl 0 rfl) ?_
  refine fo_gets X hw fc_X5 (hm0 hE) (k := 3) (d := 2) (n2 := 2) (by decide) rfl rfl q1521 dX5_change_1 ?_
  refine lv_iload_n hx hb dX5_change_4 rfl (lv_at hl 1 rfl) ?_
  refine fo_iald X hw (hm2 hE) dX5_change_5 hf (fun hf => ?_)
  refine fo_tI hf (fun x1 hf => ?_)
  refine lv_istore_n (lv' := [(3, .int x1), (0, .ref (eb E + 0)), (1, .int p1), (2, .int p2)]) hx hb dX5_change_6 rfl hl (by decide) rfl (fun ls hl => ?_)
  refine lv_aload_n hx hb dX5_change_7 rfl (lv_at hl 1 rfl) ?_
  refine fo_gets X hw fc_X5 (hm0 hE) (k := 3) (d := 2) (n2 := 2) (by decide) rfl rfl q1521 dX5_change_8 ?_
  refine lv_iload_n hx hb dX5_change_11 rfl (lv_at hl 2 rfl) ?_
  refine lv_iload_n hx hb dX5_change_12 rfl (lv_at hl 3 rfl) ?_
  refine fo_iast X hw (hm2 hE) dX5_change_13 hf (fun st2 H locs hw hf => ?_)
  refine lv_aload_n hx hb dX5_change_14 rfl (lv_at hl 1 rfl) ?_
  refine lv_iconst (v := (0 : Int32)) hx hb dX5_change_15 (by decide) ?_
  refine fo_puti X hw fc_X5 (hm0 hE) (k := 1) (by decide) rfl rfl q1519 ⟨rfl, rfl⟩ dX5_change_16 hf (fun st3 H locs hw hf => ?_)
  refine lv_iload_n hx hb dX5_change_19 rfl (lv_at hl 0 rfl) ?_
  exact fd_i hend hw hf dX5_change_20

/-- ForestRoomsModel.put -/
def fX5_put (p1 : Int32) (p2 : Int32) (p3 : Int32) (st0 : fo_St) : Option (Int32 × fo_St) := lt_ (si_ st0 0 0 (0 : Int32)) (fun st1 => bd_ (fX5_isRoom p1 st1) (fun x2 st3 => if x2 = 0 then bd_ (fX5_tell (-1 : Int32) st3) (fun x4 st5 => some (x4, st5)) else bd_ (fX5_canBe p2 p3 st3) (fun x6 st7 => if ¬ x6 = 0 then lt_ (si_ st7 0 8 (0 : Int32)) (fun st8 => bd_ (fX5_change (((56 : Int32) + ((16 : Int32) * p2)) + p1) p3 st8) (fun x9 st10 => some (x9, st10))) else bd_ (fX5_tell (-1 : Int32) st7) (fun x11 st12 => some (x11, st12)))))
theorem hm_X5_put : fo_M yX5_put 3 := ⟨by decide +kernel, by decide +kernel, by decide +kernel, by decide +kernel⟩
set_option maxHeartbeats 4000000 in
theorem wX5_put (l : Launch) (E : fo_E) (hE : ∀ n, et E n = tM_ n) (p1 : Int32) (p2 : Int32) (p3 : Int32) (st0 : fo_St) (rZ : Int32) (stZ : fo_St) (hf : fX5_put p1 p2 p3 st0 = some (rZ, stZ)) : CTi l E yX5_put (ws_ yX5_put cX5_put 4 (some .int)) ({ frames := 2, cells := 0, slots := 0, locals := 46 }) [.ref (eb E + 0), .int p1, .int p2, .int p3] st0 rZ stZ := by
  refine fe_i hm_X5_put (Nat.le_of_ble_eq_true rfl) (fun p e R s m args below meth c Q hRf hRl X hend ls hl hw => ?_)
  have hx := X.1.1
  have hb := X.1.2.1
  have hl : lv_has ls 4 [(0, .ref (eb E + 0)), (1, .int p1), (2, .int p2), (3, .int p3)] := hl
  unfold fX5_put at hf
  generalize s.heap = H at hw ⊢
  generalize ([] : List Loc) = locs at hw ⊢
  refine lv_aload_n hx hb dX5_put_0 rfl (lv_at hl 0 rfl) ?_
  refine lv_iconst (v := (0 : Int32)) hx hb dX5_put_1 (by decide) ?_
  refine fo_puti X hw fc_X5 (hm0 hE) (k := 0) (by decide) rfl rfl q1518 ⟨rfl, rfl⟩ dX5_put_2 hf (fun st1 H locs hw hf => ?_)
  refine lv_iload_n hx hb dX5_put_5 rfl (lv_at hl 1 rfl) ?_
  refine fc_Si (rest := []) (As := [.int p1]) X hw hm_X5_isRoom (lw_S q1737 q1738 q121 q1739) ⟨rfl, rfl⟩ ⟨by rw [hRf]; exact Nat.le_of_ble_eq_true rfl, by rw [hRl]; exact Nat.le_of_ble_eq_true rfl⟩ rfl rfl hl.1 (Nat.le_of_ble_eq_true rfl) dX5_put_6 (fun rQ stQ hQ => wX5_isRoom l E hE p1 st1 rQ stQ hQ) hf (fun x2 st3 H locs hw hf => ?_)
  refine fb_zeq (tgt := 20) hx hb dX5_put_9 (by decide) hf (fun hf => ?_) (fun hf => ?_)
  · refine lv_aload_n hx hb dX5_put_20 rfl (lv_at hl 0 rfl) ?_
    refine lv_iconst (v := (-1 : Int32)) hx hb dX5_put_21 (by decide) ?_
    refine fc_Vi (rest := []) (As := [.int (-1 : Int32)]) X hw hm_X5_tell (lw_V q1710 q1712 qs38 q121 q1713) ⟨rfl, rfl⟩ ⟨by rw [hRf]; exact Nat.le_of_ble_eq_true rfl, by rw [hRl]; exact Nat.le_of_ble_eq_true rfl⟩ fc_X5 rfl (hm0 hE) rfl rfl hl.1 (Nat.le_of_ble_eq_true rfl) dX5_put_22 (fun rQ stQ hQ => wX5_tell l E hE (-1 : Int32) st3 rQ stQ hQ) hf (fun x4 st5 H locs hw hf => ?_)
    exact fd_i hend hw hf dX5_put_25
  refine lv_iload_n hx hb dX5_put_12 rfl (lv_at hl 2 rfl) ?_
  refine lv_iload_n hx hb dX5_put_13 rfl (lv_at hl 3 rfl) ?_
  refine fc_Si (rest := []) (As := [.int p2, .int p3]) X hw hm_X5_canBe (lw_S q1741 q1742 q121 q1743) ⟨rfl, rfl⟩ ⟨by rw [hRf]; exact Nat.le_of_ble_eq_true rfl, by rw [hRl]; exact Nat.le_of_ble_eq_true rfl⟩ rfl rfl hl.1 (Nat.le_of_ble_eq_true rfl) dX5_put_14 (fun rQ stQ hQ => wX5_canBe l E hE p2 p3 st3 rQ stQ hQ) hf (fun x6 st7 H locs hw hf => ?_)
  refine fb_zne (tgt := 26) hx hb dX5_put_17 (by decide) hf (fun hf => ?_) (fun hf => ?_)
  · refine lv_aload_n hx hb dX5_put_26 rfl (lv_at hl 0 rfl) ?_
    refine lv_iconst (v := (0 : Int32)) hx hb dX5_put_27 (by decide) ?_
    refine fo_puti X hw fc_X5 (hm0 hE) (k := 8) (by decide) rfl rfl q1526 ⟨rfl, rfl⟩ dX5_put_28 hf (fun st8 H locs hw hf => ?_)
    refine lv_aload_n hx hb dX5_put_31 rfl (lv_at hl 0 rfl) ?_
    refine lv_bipush (v := (56 : Int32)) hx hb dX5_put_32 (by decide) ?_
    refine lv_bipush (v := (16 : Int32)) hx hb dX5_put_34 (by decide) ?_
    refine lv_iload_n hx hb dX5_put_36 rfl (lv_at hl 2 rfl) ?_
    refine lv_imul hx hb dX5_put_37 ?_
    refine lv_iadd hx hb dX5_put_38 ?_
    refine lv_iload_n hx hb dX5_put_39 rfl (lv_at hl 1 rfl) ?_
    refine lv_iadd hx hb dX5_put_40 ?_
    refine lv_iload_n hx hb dX5_put_41 rfl (lv_at hl 3 rfl) ?_
    refine fc_Vi (rest := []) (As := [.int (((56 : Int32) + ((16 : Int32) * p2)) + p1), .int p3]) X hw hm_X5_change (lw_V q1745 q1747 qs41 q121 q1748) ⟨rfl, rfl⟩ ⟨by rw [hRf]; exact Nat.le_of_ble_eq_true rfl, by rw [hRl]; exact Nat.le_of_ble_eq_true rfl⟩ fc_X5 rfl (hm0 hE) rfl rfl hl.1 (Nat.le_of_ble_eq_true rfl) dX5_put_42 (fun rQ stQ hQ => wX5_change l E hE (((56 : Int32) + ((16 : Int32) * p2)) + p1) p3 st8 rQ stQ hQ) hf (fun x9 st10 H locs hw hf => ?_)
    exact fd_i hend hw hf dX5_put_45
  refine lv_aload_n hx hb dX5_put_20 rfl (lv_at hl 0 rfl) ?_
  refine lv_iconst (v := (-1 : Int32)) hx hb dX5_put_21 (by decide) ?_
  refine fc_Vi (rest := []) (As := [.int (-1 : Int32)]) X hw hm_X5_tell (lw_V q1710 q1712 qs38 q121 q1713) ⟨rfl, rfl⟩ ⟨by rw [hRf]; exact Nat.le_of_ble_eq_true rfl, by rw [hRl]; exact Nat.le_of_ble_eq_true rfl⟩ fc_X5 rfl (hm0 hE) rfl rfl hl.1 (Nat.le_of_ble_eq_true rfl) dX5_put_22 (fun rQ stQ hQ => wX5_tell l E hE (-1 : Int32) st7 rQ stQ hQ) hf (fun x11 st12 H locs hw hf => ?_)
  exact fd_i hend hw hf dX5_put_25

/-- ForestRoomsModel.isLost -/
def fX5_isLost (p1 : Int32) (st0 : fo_St) : Option (Int32 × fo_St) := ck_ (fo_in ((24 : Int32) + p1) 5540) (ck_ (fo_in ((88 : Int32) + p1) 5540) (if (gi_ st0 2 ((24 : Int32) + p1).toNatClampNeg) ≤ ((10 : Int32) * (gi_ st0 2 ((88 : Int32) + p1).toNatClampNeg)) then some ((0 : Int32), st0) else some ((1 : Int32), st0)))
theorem hm_X5_isLost : fo_M yX5_isLost 1 := ⟨by decide +kernel, by decide +kernel, by decide +kernel, by decide +kernel⟩
set_option maxHeartbeats 4000000 in
theorem wX5_isLost (l : Launch) (E : fo_E) (hE : ∀ n, et E n = tM_ n) (p1 : Int32) (st0 : fo_St) (rZ : Int32) (stZ : fo_St) (hf : fX5_isLost p1 st0 = some (rZ, stZ)) : CTi l E yX5_isLost (ws_ yX5_isLost cX5_isLost 2 (some .boolean)) ({ frames := 0, cells := 0, slots := 0, locals := 0 }) [.ref (eb E + 0), .int p1] st0 rZ stZ := by
  refine fe_z hm_X5_isLost (Nat.le_of_ble_eq_true rfl) (fun p e R s m args below meth c Q hRf hRl X hend ls hl hw => ?_)
  have hx := X.1.1
  have hb := X.1.2.1
  have hl : lv_has ls 2 [(0, .ref (eb E + 0)), (1, .int p1)] := hl
  unfold fX5_isLost at hf
  generalize s.heap = H at hw ⊢
  generalize ([] : List Loc) = locs at hw ⊢
  refine lv_aload_n hx hb dX5_isLost_0 rfl (lv_at hl 0 rfl) ?_
  refine fo_gets X hw fc_X5 (hm0 hE) (k := 3) (d := 2) (n2 := 2) (by decide) rfl rfl q1521 dX5_isLost_1 ?_
  refine lv_bipush (v := (24 : Int32)) hx hb dX5_isLost_4 (by decide) ?_
  refine lv_iload_n hx hb dX5_isLost_6 rfl (lv_at hl 1 rfl) ?_
  refine lv_iadd hx hb dX5_isLost_7 ?_
  refine fo_iald X hw (hm2 hE) dX5_isLost_8 hf (fun hf => ?_)
  refine lv_bipush (v := (10 : Int32)) hx hb dX5_isLost_9 (by decide) ?_
  refine lv_aload_n hx hb dX5_isLost_11 rfl (lv_at hl 0 rfl) ?_
  refine fo_gets X hw fc_X5 (hm0 hE) (k := 3) (d := 2) (n2 := 2) (by decide) rfl rfl q1521 dX5_isLost_12 ?_
  refine lv_bipush (v := (88 : Int32)) hx hb dX5_isLost_15 (by decide) ?_
  refine lv_iload_n hx hb dX5_isLost_17 rfl (lv_at hl 1 rfl) ?_
  refine lv_iadd hx hb dX5_isLost_18 ?_
  refine fo_iald X hw (hm2 hE) dX5_isLost_19 hf (fun hf => ?_)
  refine lv_imul hx hb dX5_isLost_20 ?_
  refine fb_ile (tgt := 28) hx hb dX5_isLost_21 (by decide) hf (fun hf => ?_) (fun hf => ?_)
  · refine lv_iconst (v := (0 : Int32)) hx hb dX5_isLost_28 (by decide) ?_
    exact fd_z hend hw rfl hf dX5_isLost_29
  refine lv_iconst (v := (1 : Int32)) hx hb dX5_isLost_24 (by decide) ?_
  refine lv_goto (tgt := 29) hx hb dX5_isLost_25 (by decide) ?_
  exact fd_z hend hw rfl hf dX5_isLost_29

/-- ForestRoomsModel.isTree -/
def fX5_isTree (p1 : Int32) (st0 : fo_St) : Option (Int32 × fo_St) := ck_ (fo_in ((8 : Int32) + p1) 5540) (if (gi_ st0 2 ((8 : Int32) + p1).toNatClampNeg) = (-1 : Int32) then some ((0 : Int32), st0) else some ((1 : Int32), st0))
theorem hm_X5_isTree : fo_M yX5_isTree 1 := ⟨by decide +kernel, by decide +kernel, by decide +kernel, by decide +kernel⟩
set_option maxHeartbeats 4000000 in
theorem wX5_isTree (l : Launch) (E : fo_E) (hE : ∀ n, et E n = tM_ n) (p1 : Int32) (st0 : fo_St) (rZ : Int32) (stZ : fo_St) (hf : fX5_isTree p1 st0 = some (rZ, stZ)) : CTi l E yX5_isTree (ws_ yX5_isTree cX5_isTree 2 (some .boolean)) ({ frames := 0, cells := 0, slots := 0, locals := 0 }) [.ref (eb E + 0), .int p1] st0 rZ stZ := by
  refine fe_z hm_X5_isTree (Nat.le_of_ble_eq_true rfl) (fun p e R s m args below meth c Q hRf hRl X hend ls hl hw => ?_)
  have hx := X.1.1
  have hb := X.1.2.1
  have hl : lv_has ls 2 [(0, .ref (eb E + 0)), (1, .int p1)] := hl
  unfold fX5_isTree at hf
  generalize s.heap = H at hw ⊢
  generalize ([] : List Loc) = locs at hw ⊢
  refine lv_aload_n hx hb dX5_isTree_0 rfl (lv_at hl 0 rfl) ?_
  refine fo_gets X hw fc_X5 (hm0 hE) (k := 3) (d := 2) (n2 := 2) (by decide) rfl rfl q1521 dX5_isTree_1 ?_
  refine lv_bipush (v := (8 : Int32)) hx hb dX5_isTree_4 (by decide) ?_
  refine lv_iload_n hx hb dX5_isTree_6 rfl (lv_at hl 1 rfl) ?_
  refine lv_iadd hx hb dX5_isTree_7 ?_
  refine fo_iald X hw (hm2 hE) dX5_isTree_8 hf (fun hf => ?_)
  refine lv_iconst (v := (-1 : Int32)) hx hb dX5_isTree_9 (by decide) ?_
  refine fb_ieq (tgt := 17) hx hb dX5_isTree_10 (by decide) hf (fun hf => ?_) (fun hf => ?_)
  · refine lv_iconst (v := (0 : Int32)) hx hb dX5_isTree_17 (by decide) ?_
    exact fd_z hend hw rfl hf dX5_isTree_18
  refine lv_iconst (v := (1 : Int32)) hx hb dX5_isTree_13 (by decide) ?_
  refine lv_goto (tgt := 18) hx hb dX5_isTree_14 (by decide) ?_
  exact fd_z hend hw rfl hf dX5_isTree_18

/-- ForestRoomsModel.hasItsNeeds -/
def fX5_hasItsNeeds (p1 : Int32) (p2 : Int32) (st0 : fo_St) : Option (Int32 × fo_St) := ck_ (fo_in ((56 : Int32) + p2) 5540) (ck_ (fo_in ((104 : Int32) + ((2 : Int32) * p1)) 5540) (if (gi_ st0 2 ((56 : Int32) + p2).toNatClampNeg) < (gi_ st0 2 ((104 : Int32) + ((2 : Int32) * p1)).toNatClampNeg) then some ((0 : Int32), st0) else ck_ (fo_in ((72 : Int32) + p2) 5540) (ck_ (fo_in (((104 : Int32) + ((2 : Int32) * p1)) + (1 : Int32)) 5540) (if (gi_ st0 2 ((72 : Int32) + p2).toNatClampNeg) < (gi_ st0 2 (((104 : Int32) + ((2 : Int32) * p1)) + (1 : Int32)).toNatClampNeg) then some ((0 : Int32), st0) else some ((1 : Int32), st0)))))
theorem hm_X5_hasItsNeeds : fo_M yX5_hasItsNeeds 2 := ⟨by decide +kernel, by decide +kernel, by decide +kernel, by decide +kernel⟩
set_option maxHeartbeats 4000000 in
theorem wX5_hasItsNeeds (l : Launch) (E : fo_E) (hE : ∀ n, et E n = tM_ n) (p1 : Int32) (p2 : Int32) (st0 : fo_St) (rZ : Int32) (stZ : fo_St) (hf : fX5_hasItsNeeds p1 p2 st0 = some (rZ, stZ)) : CTi l E yX5_hasItsNeeds (ws_ yX5_hasItsNeeds cX5_hasItsNeeds 3 (some .boolean)) ({ frames := 0, cells := 0, slots := 0, locals := 0 }) [.ref (eb E + 0), .int p1, .int p2] st0 rZ stZ := by
  refine fe_z hm_X5_hasItsNeeds (Nat.le_of_ble_eq_true rfl) (fun p e R s m args below meth c Q hRf hRl X hend ls hl hw => ?_)
  have hx := X.1.1
  have hb := X.1.2.1
  have hl : lv_has ls 3 [(0, .ref (eb E + 0)), (1, .int p1), (2, .int p2)] := hl
  unfold fX5_hasItsNeeds at hf
  generalize s.heap = H at hw ⊢
  generalize ([] : List Loc) = locs at hw ⊢
  refine lv_aload_n hx hb dX5_hasItsNeeds_0 rfl (lv_at hl 0 rfl) ?_
  refine fo_gets X hw fc_X5 (hm0 hE) (k := 3) (d := 2) (n2 := 2) (by decide) rfl rfl q1521 dX5_hasItsNeeds_1 ?_
  refine lv_bipush (v := (56 : Int32)) hx hb dX5_hasItsNeeds_4 (by decide) ?_
  refine lv_iload_n hx hb dX5_hasItsNeeds_6 rfl (lv_at hl 2 rfl) ?_
  refine lv_iadd hx hb dX5_hasItsNeeds_7 ?_
  refine fo_iald X hw (hm2 hE) dX5_hasItsNeeds_8 hf (fun hf => ?_)
  refine lv_aload_n hx hb dX5_hasItsNeeds_9 rfl (lv_at hl 0 rfl) ?_
  refine fo_gets X hw fc_X5 (hm0 hE) (k := 3) (d := 2) (n2 := 2) (by decide) rfl rfl q1521 dX5_hasItsNeeds_10 ?_
  refine lv_bipush (v := (104 : Int32)) hx hb dX5_hasItsNeeds_13 (by decide) ?_
  refine lv_iconst (v := (2 : Int32)) hx hb dX5_hasItsNeeds_15 (by decide) ?_
  refine lv_iload_n hx hb dX5_hasItsNeeds_16 rfl (lv_at hl 1 rfl) ?_
  refine lv_imul hx hb dX5_hasItsNeeds_17 ?_
  refine lv_iadd hx hb dX5_hasItsNeeds_18 ?_
  refine fo_iald X hw (hm2 hE) dX5_hasItsNeeds_19 hf (fun hf => ?_)
  refine fb_ilt (tgt := 52) hx hb dX5_hasItsNeeds_20 (by decide) hf (fun hf => ?_) (fun hf => ?_)
  · refine lv_iconst (v := (0 : Int32)) hx hb dX5_hasItsNeeds_52 (by decide) ?_
    exact fd_z hend hw rfl hf dX5_hasItsNeeds_53
  refine lv_aload_n hx hb dX5_hasItsNeeds_23 rfl (lv_at hl 0 rfl) ?_
  refine fo_gets X hw fc_X5 (hm0 hE) (k := 3) (d := 2) (n2 := 2) (by decide) rfl rfl q1521 dX5_hasItsNeeds_24 ?_
  refine lv_bipush (v := (72 : Int32)) hx hb dX5_hasItsNeeds_27 (by decide) ?_
  refine lv_iload_n hx hb dX5_hasItsNeeds_29 rfl (lv_at hl 2 rfl) ?_
  refine lv_iadd hx hb dX5_hasItsNeeds_30 ?_
  refine fo_iald X hw (hm2 hE) dX5_hasItsNeeds_31 hf (fun hf => ?_)
  refine lv_aload_n hx hb dX5_hasItsNeeds_32 rfl (lv_at hl 0 rfl) ?_
  refine fo_gets X hw fc_X5 (hm0 hE) (k := 3) (d := 2) (n2 := 2) (by decide) rfl rfl q1521 dX5_hasItsNeeds_33 ?_
  refine lv_bipush (v := (104 : Int32)) hx hb dX5_hasItsNeeds_36 (by decide) ?_
  refine lv_iconst (v := (2 : Int32)) hx hb dX5_hasItsNeeds_38 (by decide) ?_
  refine lv_iload_n hx hb dX5_hasItsNeeds_39 rfl (lv_at hl 1 rfl) ?_
  refine lv_imul hx hb dX5_hasItsNeeds_40 ?_
  refine lv_iadd hx hb dX5_hasItsNeeds_41 ?_
  refine lv_iconst (v := (1 : Int32)) hx hb dX5_hasItsNeeds_42 (by decide) ?_
  refine lv_iadd hx hb dX5_hasItsNeeds_43 ?_
  refine fo_iald X hw (hm2 hE) dX5_hasItsNeeds_44 hf (fun hf => ?_)
  refine fb_ilt (tgt := 52) hx hb dX5_hasItsNeeds_45 (by decide) hf (fun hf => ?_) (fun hf => ?_)
  · refine lv_iconst (v := (0 : Int32)) hx hb dX5_hasItsNeeds_52 (by decide) ?_
    exact fd_z hend hw rfl hf dX5_hasItsNeeds_53
  refine lv_iconst (v := (1 : Int32)) hx hb dX5_hasItsNeeds_48 (by decide) ?_
  refine lv_goto (tgt := 53) hx hb dX5_hasItsNeeds_49 (by decide) ?_
  exact fd_z hend hw rfl hf dX5_hasItsNeeds_53

/-- ForestRoomsModel.term -/
def fX5_term (p1 : Int32) (st0 : fo_St) : Option (Int32 × fo_St) := ck_ (fo_in ((3 : Int32) + p1) 5540) (some ((gi_ st0 2 ((3 : Int32) + p1).toNatClampNeg), st0))
theorem hm_X5_term : fo_M yX5_term 1 := ⟨by decide +kernel, by decide +kernel, by decide +kernel, by decide +kernel⟩
set_option maxHeartbeats 4000000 in
theorem wX5_term (l : Launch) (E : fo_E) (hE : ∀ n, et E n = tM_ n) (p1 : Int32) (st0 : fo_St) (rZ : Int32) (stZ : fo_St) (hf : fX5_term p1 st0 = some (rZ, stZ)) : CTi l E yX5_term (ws_ yX5_term cX5_term 2 (some .int)) ({ frames := 0, cells := 0, slots := 0, locals := 0 }) [.ref (eb E + 0), .int p1] st0 rZ stZ := by
  refine fe_i hm_X5_term (Nat.le_of_ble_eq_true rfl) (fun p e R s m args below meth c Q hRf hRl X hend ls hl hw => ?_)
  have hx := X.1.1
  have hb := X.1.2.1
  have hl : lv_has ls 2 [(0, .ref (eb E + 0)), (1, .int p1)] := hl
  unfold fX5_term at hf
  generalize s.heap = H at hw ⊢
  generalize ([] : List Loc) = locs at hw ⊢
  refine lv_aload_n hx hb dX5_term_0 rfl (lv_at hl 0 rfl) ?_
  refine fo_gets X hw fc_X5 (hm0 hE) (k := 3) (d := 2) (n2 := 2) (by decide) rfl rfl q1521 dX5_term_1 ?_
  refine lv_iconst (v := (3 : Int32)) hx hb dX5_term_4 (by decide) ?_
  refine lv_iload_n hx hb dX5_term_5 rfl (lv_at hl 1 rfl) ?_
  refine lv_iadd hx hb dX5_term_6 ?_
  refine fo_iald X hw (hm2 hE) dX5_term_7 hf (fun hf => ?_)
  exact fd_i hend hw hf dX5_term_8

/-- ForestRoomsModel.reckon -/
def fX5_reckon (p1 : Int32) (p2 : Int64) (p3 : Int64) (st0 : fo_St) : Option (Int64 × fo_St) := if p1 = (20 : Int32) then some ((p2 + p3), st0) else if p1 = (21 : Int32) then some ((p2 - p3), st0) else if p1 = (22 : Int32) then some ((p2 * p3), st0) else if p1 = (23 : Int32) then jn_ (fun (x1 : Int32) => ck_ (decide (x1 = 0 ∨ x1 = 1)) (lt_ (si_ st0 0 38 x1) (fun st3 => if (gi_ st3 0 38) = 0 then ck_ (decide (¬ p3 = 0)) (some ((p2 / p3), st3)) else some ((0 : Int64), st3)))) (fun k2 => if ¬ p3 = (0 : Int64) then k2 (0 : Int32) else k2 (1 : Int32)) else if p1 = (24 : Int32) then jn_ (fun (x4 : Int32) => ck_ (decide (x4 = 0 ∨ x4 = 1)) (lt_ (si_ st0 0 38 x4) (fun st6 => if (gi_ st6 0 38) = 0 then ck_ (decide (¬ p3 = 0)) (some ((lrem_ p2 p3), st6)) else some ((0 : Int64), st6)))) (fun k5 => if ¬ p3 = (0 : Int64) then k5 (0 : Int32) else k5 (1 : Int32)) else if p1 = (25 : Int32) then if p3 ≤ p2 then some ((0 : Int64), st0) else some ((1 : Int64), st0) else if p1 = (26 : Int32) then if p2 ≤ p3 then some ((0 : Int64), st0) else some ((1 : Int64), st0) else if ¬ p2 = p3 then some ((0 : Int64), st0) else some ((1 : Int64), st0)
theorem hm_X5_reckon : fo_M yX5_reckon 3 := ⟨by decide +kernel, by decide +kernel, by decide +kernel, by decide +kernel⟩
set_option maxHeartbeats 4000000 in
theorem wX5_reckon (l : Launch) (E : fo_E) (hE : ∀ n, et E n = tM_ n) (p1 : Int32) (p2 : Int64) (p3 : Int64) (st0 : fo_St) (rZ : Int64) (stZ : fo_St) (hf : fX5_reckon p1 p2 p3 st0 = some (rZ, stZ)) : CTl l E yX5_reckon (ws_ yX5_reckon cX5_reckon 6 (some .long)) ({ frames := 0, cells := 0, slots := 0, locals := 0 }) [.ref (eb E + 0), .int p1, .long p2, .long p3] st0 rZ stZ := by
  refine fe_l hm_X5_reckon (Nat.le_of_ble_eq_true rfl) (fun p e R s m args below meth c Q hRf hRl X hend ls hl hw => ?_)
  have hx := X.1.1
  have hb := X.1.2.1
  have hl : lv_has ls 6 [(0, .ref (eb E + 0)), (1, .int p1), (2, .long p2), (4, .long p3)] := hl
  unfold fX5_reckon at hf
  generalize s.heap = H at hw ⊢
  generalize ([] : List Loc) = locs at hw ⊢
  refine lv_iload_n hx hb dX5_reckon_0 rfl (lv_at hl 1 rfl) ?_
  refine sw_e hf (fun e0 hf => ?_) (fun n20 hf => ?_)
  · refine lv_tableIn (tgt := 44) hx hb dX5_reckon_1 (by rw [e0]; decide) (by rw [e0]; decide) (off := 43) (by rw [e0]; decide) (by decide) ?_
    refine lv_lload_n hx hb dX5_reckon_44 rfl (lv_at hl 2 rfl) ?_
    refine lv_lload hx hb dX5_reckon_45 (lv_at hl 3 rfl) ?_
    refine lv_ladd hx hb dX5_reckon_47 ?_
    exact fd_l hend hw hf dX5_reckon_48
  refine sw_e hf (fun e0 hf => ?_) (fun n21 hf => ?_)
  · refine lv_tableIn (tgt := 49) hx hb dX5_reckon_1 (by rw [e0]; decide) (by rw [e0]; decide) (off := 48) (by rw [e0]; decide) (by decide) ?_
    refine lv_lload_n hx hb dX5_reckon_49 rfl (lv_at hl 2 rfl) ?_
    refine lv_lload hx hb dX5_reckon_50 (lv_at hl 3 rfl) ?_
    refine lv_lsub hx hb dX5_reckon_52 ?_
    exact fd_l hend hw hf dX5_reckon_53
  refine sw_e hf (fun e0 hf => ?_) (fun n22 hf => ?_)
  · refine lv_tableIn (tgt := 54) hx hb dX5_reckon_1 (by rw [e0]; decide) (by rw [e0]; decide) (off := 53) (by rw [e0]; decide) (by decide) ?_
    refine lv_lload_n hx hb dX5_reckon_54 rfl (lv_at hl 2 rfl) ?_
    refine lv_lload hx hb dX5_reckon_55 (lv_at hl 3 rfl) ?_
    refine lv_lmul hx hb dX5_reckon_57 ?_
    exact fd_l hend hw hf dX5_reckon_58
  refine sw_e hf (fun e0 hf => ?_) (fun n23 hf => ?_)
  · refine lv_tableIn (tgt := 59) hx hb dX5_reckon_1 (by rw [e0]; decide) (by rw [e0]; decide) (off := 58) (by rw [e0]; decide) (by decide) ?_
    refine lv_aload_n hx hb dX5_reckon_59 rfl (lv_at hl 0 rfl) ?_
    refine lv_lload hx hb dX5_reckon_60 (lv_at hl 3 rfl) ?_
    refine lv_lconst (v := (0 : Int64)) hx hb dX5_reckon_62 rfl ?_
    refine jn_e hf (fun k2 ek hf => ?_)
    have hk2 : ∀ (x1 : Int32) (H : Heap) (locs : List Loc) (ls : Array Slot), lv_has ls 6 [(0, .ref (eb E + 0)), (2, .long p2), (4, .long p3)] → fo_S E s st0 H locs → k2 x1 = some (rZ, stZ) → W p l e R s m args below meth c H locs 0 0 Q (F0 m 72 ls [.int x1, .ref (eb E + 0)]) := by
      intro x1 H locs ls hl hw hf
      rw [ek] at hf
      obtain ⟨hz, hf⟩ := ck_e hf
      refine fo_puti X hw fc_X5 (hm0 hE) (k := 38) (by decide) rfl rfl q1556 (fo_z hz) dX5_reckon_72 hf (fun st3 H locs hw hf => ?_)
      refine lv_aload_n hx hb dX5_reckon_75 rfl (lv_at hl 0 rfl) ?_
      refine fo_geti X hw fc_X5 (hm0 hE) (k := 38) (by decide) rfl q1556 dX5_reckon_76 ?_
      refine fb_zeq (tgt := 86) hx hb dX5_reckon_79 (by decide) hf (fun hf => ?_) (fun hf => ?_)
      · refine lv_lload_n hx hb dX5_reckon_86 rfl (lv_at hl 1 rfl) ?_
        refine lv_lload hx hb dX5_reckon_87 (lv_at hl 2 rfl) ?_
        refine fb_ldivC hx hb dX5_reckon_89 hf (fun hf => ?_)
        exact fd_l hend hw hf dX5_reckon_90
      refine lv_lconst (v := (0 : Int64)) hx hb dX5_reckon_82 rfl ?_
      refine lv_goto (tgt := 90) hx hb dX5_reckon_83 (by decide) ?_
      exact fd_l hend hw hf dX5_reckon_90
    clear ek
    refine fb_lne (tgt := 71) hx hb dX5_reckon_63 dX5_reckon_64 (by decide) hf (fun hf => ?_) (fun hf => ?_)
    · refine lv_iconst (v := (0 : Int32)) hx hb dX5_reckon_71 (by decide) ?_
      exact hk2 _ _ _ _ (lv_sub hl [0, 2, 3] rfl) hw hf
    refine lv_iconst (v := (1 : Int32)) hx hb dX5_reckon_67 (by decide) ?_
    refine lv_goto (tgt := 72) hx hb dX5_reckon_68 (by decide) ?_
    exact hk2 _ _ _ _ (lv_sub hl [0, 2, 3] rfl) hw hf
  refine sw_e hf (fun e0 hf => ?_) (fun n24 hf => ?_)
  · refine lv_tableIn (tgt := 91) hx hb dX5_reckon_1 (by rw [e0]; decide) (by rw [e0]; decide) (off := 90) (by rw [e0]; decide) (by decide) ?_
    refine lv_aload_n hx hb dX5_reckon_91 rfl (lv_at hl 0 rfl) ?_
    refine lv_lload hx hb dX5_reckon_92 (lv_at hl 3 rfl) ?_
    refine lv_lconst (v := (0 : Int64)) hx hb dX5_reckon_94 rfl ?_
    refine jn_e hf (fun k5 ek hf => ?_)
    have hk5 : ∀ (x4 : Int32) (H : Heap) (locs : List Loc) (ls : Array Slot), lv_has ls 6 [(0, .ref (eb E + 0)), (2, .long p2), (4, .long p3)] → fo_S E s st0 H locs → k5 x4 = some (rZ, stZ) → W p l e R s m args below meth c H locs 0 0 Q (F0 m 104 ls [.int x4, .ref (eb E + 0)]) := by
      intro x4 H locs ls hl hw hf
      rw [ek] at hf
      obtain ⟨hz, hf⟩ := ck_e hf
      refine fo_puti X hw fc_X5 (hm0 hE) (k := 38) (by decide) rfl rfl q1556 (fo_z hz) dX5_reckon_104 hf (fun st6 H locs hw hf => ?_)
      refine lv_aload_n hx hb dX5_reckon_107 rfl (lv_at hl 0 rfl) ?_
      refine fo_geti X hw fc_X5 (hm0 hE) (k := 38) (by decide) rfl q1556 dX5_reckon_108 ?_
      refine fb_zeq (tgt := 118) hx hb dX5_reckon_111 (by decide) hf (fun hf => ?_) (fun hf => ?_)
      · refine lv_lload_n hx hb dX5_reckon_118 rfl (lv_at hl 1 rfl) ?_
        refine lv_lload hx hb dX5_reckon_119 (lv_at hl 2 rfl) ?_
        refine fb_lremC hx hb dX5_reckon_121 hf (fun hf => ?_)
        exact fd_l hend hw hf dX5_reckon_122
      refine lv_lconst (v := (0 : Int64)) hx hb dX5_reckon_114 rfl ?_
      refine lv_goto (tgt := 122) hx hb dX5_reckon_115 (by decide) ?_
      exact fd_l hend hw hf dX5_reckon_122
    clear ek
    refine fb_lne (tgt := 103) hx hb dX5_reckon_95 dX5_reckon_96 (by decide) hf (fun hf => ?_) (fun hf => ?_)
    · refine lv_iconst (v := (0 : Int32)) hx hb dX5_reckon_103 (by decide) ?_
      exact hk5 _ _ _ _ (lv_sub hl [0, 2, 3] rfl) hw hf
    refine lv_iconst (v := (1 : Int32)) hx hb dX5_reckon_99 (by decide) ?_
    refine lv_goto (tgt := 104) hx hb dX5_reckon_100 (by decide) ?_
    exact hk5 _ _ _ _ (lv_sub hl [0, 2, 3] rfl) hw hf
  refine sw_e hf (fun e0 hf => ?_) (fun n25 hf => ?_)
  · refine lv_tableIn (tgt := 123) hx hb dX5_reckon_1 (by rw [e0]; decide) (by rw [e0]; decide) (off := 122) (by rw [e0]; decide) (by decide) ?_
    refine lv_lload_n hx hb dX5_reckon_123 rfl (lv_at hl 2 rfl) ?_
    refine lv_lload hx hb dX5_reckon_124 (lv_at hl 3 rfl) ?_
    refine fb_lge (tgt := 134) hx hb dX5_reckon_126 dX5_reckon_127 (by decide) hf (fun hf => ?_) (fun hf => ?_)
    · refine lv_lconst (v := (0 : Int64)) hx hb dX5_reckon_134 rfl ?_
      exact fd_l hend hw hf dX5_reckon_135
    refine lv_lconst (v := (1 : Int64)) hx hb dX5_reckon_130 rfl ?_
    refine lv_goto (tgt := 135) hx hb dX5_reckon_131 (by decide) ?_
    exact fd_l hend hw hf dX5_reckon_135
  refine sw_e hf (fun e0 hf => ?_) (fun n26 hf => ?_)
  · refine lv_tableIn (tgt := 136) hx hb dX5_reckon_1 (by rw [e0]; decide) (by rw [e0]; decide) (off := 135) (by rw [e0]; decide) (by decide) ?_
    refine lv_lload_n hx hb dX5_reckon_136 rfl (lv_at hl 2 rfl) ?_
    refine lv_lload hx hb dX5_reckon_137 (lv_at hl 3 rfl) ?_
    refine fb_lle (tgt := 147) hx hb dX5_reckon_139 dX5_reckon_140 (by decide) hf (fun hf => ?_) (fun hf => ?_)
    · refine lv_lconst (v := (0 : Int64)) hx hb dX5_reckon_147 rfl ?_
      exact fd_l hend hw hf dX5_reckon_148
    refine lv_lconst (v := (1 : Int64)) hx hb dX5_reckon_143 rfl ?_
    refine lv_goto (tgt := 148) hx hb dX5_reckon_144 (by decide) ?_
    exact fd_l hend hw hf dX5_reckon_148
  refine lv_tableOut (tgt := 149) hx hb dX5_reckon_1 (by have g20 := lv_neT n20 (a := 20) (by decide); have g21 := lv_neT n21 (a := 21) (by decide); have g22 := lv_neT n22 (a := 22) (by decide); have g23 := lv_neT n23 (a := 23) (by decide); have g24 := lv_neT n24 (a := 24) (by decide); have g25 := lv_neT n25 (a := 25) (by decide); have g26 := lv_neT n26 (a := 26) (by decide); omega) (by decide) ?_
  refine lv_lload_n hx hb dX5_reckon_149 rfl (lv_at hl 2 rfl) ?_
  refine lv_lload hx hb dX5_reckon_150 (lv_at hl 3 rfl) ?_
  refine fb_lne (tgt := 160) hx hb dX5_reckon_152 dX5_reckon_153 (by decide) hf (fun hf => ?_) (fun hf => ?_)
  · refine lv_lconst (v := (0 : Int64)) hx hb dX5_reckon_160 rfl ?_
    exact fd_l hend hw hf dX5_reckon_161
  refine lv_lconst (v := (1 : Int64)) hx hb dX5_reckon_156 rfl ?_
  refine lv_goto (tgt := 161) hx hb dX5_reckon_157 (by decide) ?_
  exact fd_l hend hw hf dX5_reckon_161

/-- ForestRoomsModel.reckonAll -/
def fX5_reckonAll (G : Nat) (p1 : Int32) (p2 : Int32) (st0 : fo_St) : Option fo_St := lt_ (si_ st0 0 38 (0 : Int32)) (fun st1 => jn_ (fun (x2 : Int32) (st3 : fo_St) => jn_ (fun (x5 : Int64) => lt_ (sl_ st3 0 39 x5) (fun st7 => some st7)) (fun k6 => if x2 ≤ 0 then k6 (0 : Int64) else k6 (gl_ st3 20 (0 : Int32).toNatClampNeg))) (fun k4 => lp3_ (fun rec11 (x8 : Int32) (x9 : Int32) (st10 : fo_St) => if p2 ≤ x8 then k4 x9 st10 else if ¬ (gi_ st10 0 38) = 0 then k4 x9 st10 else jn_ (fun (x12 : Int32) => jn_ (fun (x14 : Int32) => if (20 : Int32) ≤ x12 then if (28 : Int32) ≤ x12 then if ¬ x12 = (28 : Int32) then ck_ (fo_in (x9 - (1 : Int32)) 400) (jn_ (fun (x16 : Int64) => if ¬ (gl_ st10 20 (x9 - (1 : Int32)).toNatClampNeg) = x16 then rec11 (x8 + (1 : Int32)) (x9 + (-1 : Int32)) st10 else rec11 x14 x9 st10) (fun k17 => if ¬ x12 = (29 : Int32) then k17 (1 : Int64) else k17 (0 : Int64))) else ck_ (fo_in (x9 - (1 : Int32)) 400) (ck_ (fo_in (x9 - (1 : Int32)) 400) (lt_ (sl_ st10 20 (x9 - (1 : Int32)).toNatClampNeg ((1 : Int64) - (gl_ st10 20 (x9 - (1 : Int32)).toNatClampNeg))) (fun st18 => rec11 (x8 + (1 : Int32)) x9 st18))) else ck_ (fo_in ((x9 + (-1 : Int32)) - (1 : Int32)) 400) (ck_ (fo_in (x9 + (-1 : Int32)) 400) (bd_ (fX5_reckon x12 (gl_ st10 20 ((x9 + (-1 : Int32)) - (1 : Int32)).toNatClampNeg) (gl_ st10 20 (x9 + (-1 : Int32)).toNatClampNeg) st10) (fun x19 st20 => ck_ (fo_in ((x9 + (-1 : Int32)) - (1 : Int32)) 400) (lt_ (sl_ st20 20 ((x9 + (-1 : Int32)) - (1 : Int32)).toNatClampNeg x19) (fun st21 => jn_ (fun (x22 : Int32) (st23 : fo_St) => ck_ (decide (x22 = 0 ∨ x22 = 1)) (lt_ (si_ st23 0 38 x22) (fun st25 => rec11 (x8 + (1 : Int32)) (x9 + (-1 : Int32)) st25))) (fun k24 => if ¬ (gi_ st21 0 38) = 0 then k24 (1 : Int32) st21 else ck_ (fo_in ((x9 + (-1 : Int32)) - (1 : Int32)) 400) (bd_ (fX5_in (gl_ st21 20 ((x9 + (-1 : Int32)) - (1 : Int32)).toNatClampNeg) (-1000000000 : Int64) (1000000000 : Int64) st21) (fun x26 st27 => if ¬ x26 = 0 then k24 (0 : Int32) st27 else k24 (1 : Int32) st27)))))))) else jn_ (fun (x28 : Int64) => ck_ (fo_in x9 400) (lt_ (sl_ st10 20 x9.toNatClampNeg x28) (fun st30 => rec11 (x8 + (1 : Int32)) (x9 + (1 : Int32)) st30))) (fun k29 => if ¬ x12 = 0 then if ¬ (gi_ st10 0 20) = 0 then if (5 : Int32) ≤ x12 then if ¬ x12 = (5 : Int32) then if ¬ x12 = (6 : Int32) then ck_ (fo_in ((40 : Int32) + x14) 5540) (k29 ((gi_ st10 2 ((40 : Int32) + x14).toNatClampNeg).toInt64)) else ck_ (fo_in ((8 : Int32) + x14) 5540) (k29 ((gi_ st10 2 ((8 : Int32) + x14).toNatClampNeg).toInt64)) else ck_ (fo_in ((24 : Int32) + x14) 5540) (k29 ((gi_ st10 2 ((24 : Int32) + x14).toNatClampNeg).toInt64)) else ck_ (fo_in x12 13) (k29 (gl_ st10 19 x12.toNatClampNeg)) else ck_ (fo_in x12 13) (k29 (gl_ st10 18 x12.toNatClampNeg)) else k29 (x14.toInt64))) (fun k15 => if (gi_ st10 0 20) = 0 then ck_ (fo_in ((((gi_ st10 0 34) + (98 : Int32)) + ((2 : Int32) * x8)) + (1 : Int32)) 5540) (k15 (gi_ st10 2 ((((gi_ st10 0 34) + (98 : Int32)) + ((2 : Int32) * x8)) + (1 : Int32)).toNatClampNeg)) else ck_ (fo_in x8 400) (k15 (gi_ st10 12 x8.toNatClampNeg)))) (fun k13 => if (gi_ st10 0 20) = 0 then ck_ (fo_in (((gi_ st10 0 34) + (98 : Int32)) + ((2 : Int32) * x8)) 5540) (k13 (gi_ st10 2 (((gi_ st10 0 34) + (98 : Int32)) + ((2 : Int32) * x8)).toNatClampNeg)) else ck_ (fo_in x8 400) (k13 (gi_ st10 11 x8.toNatClampNeg)))) G p1 (0 : Int32) st1))
theorem hm_X5_reckonAll : fo_M yX5_reckonAll 2 := ⟨by decide +kernel, by decide +kernel, by decide +kernel, by decide +kernel⟩
set_option maxHeartbeats 4000000 in
theorem wX5_reckonAll (l : Launch) (E : fo_E) (hE : ∀ n, et E n = tM_ n) (G : Nat) (p1 : Int32) (p2 : Int32) (st0 : fo_St) (stZ : fo_St) (hf : fX5_reckonAll G p1 p2 st0 = some stZ) : CTv l E yX5_reckonAll (ws_ yX5_reckonAll cX5_reckonAll 7 none) ({ frames := 1, cells := 0, slots := 0, locals := 25 }) [.ref (eb E + 0), .int p1, .int p2] st0 stZ := by
  refine fe_v hm_X5_reckonAll (Nat.le_of_ble_eq_true rfl) (fun p e R s m args below meth c Q hRf hRl X hend ls hl hw => ?_)
  have hx := X.1.1
  have hb := X.1.2.1
  have hl : lv_has ls 7 [(0, .ref (eb E + 0)), (1, .int p1), (2, .int p2)] := hl
  unfold fX5_reckonAll at hf
  generalize s.heap = H at hw ⊢
  generalize ([] : List Loc) = locs at hw ⊢
  refine lv_aload_n hx hb dX5_reckonAll_0 rfl (lv_at hl 0 rfl) ?_
  refine lv_iconst (v := (0 : Int32)) hx hb dX5_reckonAll_1 (by decide) ?_
  refine fo_puti X hw fc_X5 (hm0 hE) (k := 38) (by decide) rfl rfl q1556 ⟨rfl, rfl⟩ dX5_reckonAll_2 hf (fun st1 H locs hw hf => ?_)
  refine lv_iconst (v := (0 : Int32)) hx hb dX5_reckonAll_5 (by decide) ?_
  refine lv_istore_n (lv' := [(3, .int (0 : Int32)), (0, .ref (eb E + 0)), (1, .int p1), (2, .int p2)]) hx hb dX5_reckonAll_6 rfl hl (by decide) rfl (fun ls hl => ?_)
  refine lv_iload_n hx hb dX5_reckonAll_7 rfl (lv_at hl 2 rfl) ?_
  refine lv_istore (lv' := [(4, .int p1), (3, .int (0 : Int32)), (0, .ref (eb E + 0)), (1, .int p1), (2, .int p2)]) hx hb dX5_reckonAll_8 hl (by decide) rfl (fun ls hl => ?_)
  refine jn_e hf (fun k4 ek hf => ?_)
  have hk4 : ∀ (x2 : Int32) (st3 : fo_St) (H : Heap) (locs : List Loc) (ls : Array Slot), lv_has ls 7 [(3, .int x2), (0, .ref (eb E + 0))] → fo_S E s st3 H locs → k4 x2 st3 = some stZ → W p l e R s m args below meth c H locs 0 0 Q (F0 m 357 ls []) := by
    intro x2 st3 H locs ls hl hw hf
    rw [ek] at hf
    refine lv_aload_n hx hb dX5_reckonAll_357 rfl (lv_at hl 1 rfl) ?_
    refine lv_iload_n hx hb dX5_reckonAll_358 rfl (lv_at hl 0 rfl) ?_
    refine jn_e hf (fun k6 ek hf => ?_)
    have hk6 : ∀ (x5 : Int64) (H : Heap) (locs : List Loc) (ls : Array Slot), lv_has ls 7 [] → fo_S E s st3 H locs → k6 x5 = some stZ → W p l e R s m args below meth c H locs 0 0 Q (F0 m 372 ls [.long x5, .ref (eb E + 0)]) := by
      intro x5 H locs ls hl hw hf
      rw [ek] at hf
      refine fo_putl X hw fc_X5 (hm0 hE) (k := 39) (by decide) rfl rfl q1557 ⟨rfl, rfl⟩ dX5_reckonAll_372 hf (fun st7 H locs hw hf => ?_)
      exact fd_v hend hw hf dX5_reckonAll_375
    clear ek
    refine fb_zle (tgt := 371) hx hb dX5_reckonAll_359 (by decide) hf (fun hf => ?_) (fun hf => ?_)
    · refine lv_lconst (v := (0 : Int64)) hx hb dX5_reckonAll_371 rfl ?_
      exact hk6 _ _ _ _ (lv_sub hl [] rfl) hw hf
    refine lv_aload_n hx hb dX5_reckonAll_362 rfl (lv_at hl 1 rfl) ?_
    refine fo_gets X hw fc_X5 (hm0 hE) (k := 37) (d := 20) (n2 := 20) (by decide) rfl rfl q1555 dX5_reckonAll_363 ?_
    refine lv_iconst (v := (0 : Int32)) hx hb dX5_reckonAll_366 (by decide) ?_
    refine fo_laldK X hw (hm20 hE) dX5_reckonAll_367 (by decide) ?_
    refine lv_goto (tgt := 372) hx hb dX5_reckonAll_368 (by decide) ?_
    exact hk6 _ _ _ _ (lv_sub hl [] rfl) hw hf
  clear ek
  refine lp3_e (P := fun x8 x9 st10 => ∀ (H : Heap) (locs : List Loc) (ls : Array Slot), lv_has ls 7 [(4, .int x8), (3, .int x9), (0, .ref (eb E + 0)), (2, .int p2)] → fo_S E s st10 H locs → W p l e R s m args below meth c H locs 0 0 Q (F0 m 10 ls [])) (fun rec11 hrec11 x8 x9 st10 hf => ?_) G _ _ _ hf H locs ls (lv_sub hl [0, 1, 2, 4] rfl) hw
  intro H locs ls hl hw
  refine lv_iload hx hb dX5_reckonAll_10 (lv_at hl 0 rfl) ?_
  refine lv_iload_n hx hb dX5_reckonAll_12 rfl (lv_at hl 3 rfl) ?_
  refine fb_ige (tgt := 357) hx hb dX5_reckonAll_13 (by decide) hf (fun hf => ?_) (fun hf => ?_)
  · exact hk4 _ _ _ _ _ (lv_sub hl [1, 2] rfl) hw hf
  refine lv_aload_n hx hb dX5_reckonAll_16 rfl (lv_at hl 2 rfl) ?_
  refine fo_geti X hw fc_X5 (hm0 hE) (k := 38) (by decide) rfl q1556 dX5_reckonAll_17 ?_
  refine fb_zne (tgt := 357) hx hb dX5_reckonAll_20 (by decide) hf (fun hf => ?_) (fun hf => ?_)
  · exact hk4 _ _ _ _ _ (lv_sub hl [1, 2] rfl) hw hf
  refine lv_aload_n hx hb dX5_reckonAll_23 rfl (lv_at hl 2 rfl) ?_
  refine fo_geti X hw fc_X5 (hm0 hE) (k := 20) (by decide) rfl q1538 dX5_reckonAll_24 ?_
  refine jn_e hf (fun k13 ek hf => ?_)
  have hk13 : ∀ (x12 : Int32) (H : Heap) (locs : List Loc) (ls : Array Slot), lv_has ls 7 [(4, .int x8), (3, .int x9), (0, .ref (eb E + 0)), (2, .int p2)] → fo_S E s st10 H locs → k13 x12 = some stZ → W p l e R s m args below meth c H locs 0 0 Q (F0 m 57 ls [.int x12]) := by
    intro x12 H locs ls hl hw hf
    rw [ek] at hf
    refine lv_istore (lv' := [(5, .int x12), (4, .int x8), (3, .int x9), (0, .ref (eb E + 0)), (2, .int p2)]) hx hb dX5_reckonAll_57 hl (by decide) rfl (fun ls hl => ?_)
    refine lv_aload_n hx hb dX5_reckonAll_59 rfl (lv_at hl 3 rfl) ?_
    refine fo_geti X hw fc_X5 (hm0 hE) (k := 20) (by decide) rfl q1538 dX5_reckonAll_60 ?_
    refine jn_e hf (fun k15 ek hf => ?_)
    have hk15 : ∀ (x14 : Int32) (H : Heap) (locs : List Loc) (ls : Array Slot), lv_has ls 7 [(5, .int x12), (4, .int x8), (3, .int x9), (0, .ref (eb E + 0)), (2, .int p2)] → fo_S E s st10 H locs → k15 x14 = some stZ → W p l e R s m args below meth c H locs 0 0 Q (F0 m 95 ls [.int x14]) := by
      intro x14 H locs ls hl hw hf
      rw [ek] at hf
      refine lv_istore (lv' := [(6, .int x14), (5, .int x12), (4, .int x8), (3, .int x9), (0, .ref (eb E + 0)), (2, .int p2)]) hx hb dX5_reckonAll_95 hl (by decide) rfl (fun ls hl => ?_)
      refine fb_iinc (v := (1 : Int32)) (lv' := [(4, .int (x8 + (1 : Int32))), (6, .int x14), (5, .int x12), (3, .int x9), (0, .ref (eb E + 0)), (2, .int p2)]) hx hb dX5_reckonAll_97 hl (k := 2) rfl (by decide) (by decide) rfl (fun ls hl => ?_)
      refine lv_iload hx hb dX5_reckonAll_100 (lv_at hl 2 rfl) ?_
      refine lv_bipush (v := (20 : Int32)) hx hb dX5_reckonAll_102 (by decide) ?_
      refine fb_ige (tgt := 215) hx hb dX5_reckonAll_104 (by decide) hf (fun hf => ?_) (fun hf => ?_)
      · refine lv_iload hx hb dX5_reckonAll_215 (lv_at hl 2 rfl) ?_
        refine lv_bipush (v := (28 : Int32)) hx hb dX5_reckonAll_217 (by decide) ?_
        refine fb_ige (tgt := 292) hx hb dX5_reckonAll_219 (by decide) hf (fun hf => ?_) (fun hf => ?_)
        · refine lv_iload hx hb dX5_reckonAll_292 (lv_at hl 2 rfl) ?_
          refine lv_bipush (v := (28 : Int32)) hx hb dX5_reckonAll_294 (by decide) ?_
          refine fb_ine (tgt := 320) hx hb dX5_reckonAll_296 (by decide) hf (fun hf => ?_) (fun hf => ?_)
          · refine lv_aload_n hx hb dX5_reckonAll_320 rfl (lv_at hl 4 rfl) ?_
            refine fo_gets X hw fc_X5 (hm0 hE) (k := 37) (d := 20) (n2 := 20) (by decide) rfl rfl q1555 dX5_reckonAll_321 ?_
            refine lv_iload_n hx hb dX5_reckonAll_324 rfl (lv_at hl 3 rfl) ?_
            refine lv_iconst (v := (1 : Int32)) hx hb dX5_reckonAll_325 (by decide) ?_
            refine lv_isub hx hb dX5_reckonAll_326 ?_
            refine fo_lald X hw (hm20 hE) dX5_reckonAll_327 hf (fun hf => ?_)
            refine lv_iload hx hb dX5_reckonAll_328 (lv_at hl 2 rfl) ?_
            refine lv_bipush (v := (29 : Int32)) hx hb dX5_reckonAll_330 (by decide) ?_
            refine jn_e hf (fun k17 ek hf => ?_)
            have hk17 : ∀ (x16 : Int64) (H : Heap) (locs : List Loc) (ls : Array Slot), lv_has ls 7 [(4, .int (x8 + (1 : Int32))), (6, .int x14), (3, .int x9), (0, .ref (eb E + 0)), (2, .int p2)] → fo_S E s st10 H locs → k17 x16 = some stZ → W p l e R s m args below meth c H locs 0 0 Q (F0 m 340 ls [.long x16, .long (gl_ st10 20 (x9 - (1 : Int32)).toNatClampNeg)]) := by
              intro x16 H locs ls hl hw hf
              rw [ek] at hf
              refine fb_lne (tgt := 351) hx hb dX5_reckonAll_340 dX5_reckonAll_341 (by decide) hf (fun hf => ?_) (fun hf => ?_)
              · refine fb_iinc (v := (-1 : Int32)) (lv' := [(3, .int (x9 + (-1 : Int32))), (4, .int (x8 + (1 : Int32))), (6, .int x14), (0, .ref (eb E + 0)), (2, .int p2)]) hx hb dX5_reckonAll_351 hl (k := 2) rfl (by decide) (by decide) rfl (fun ls hl => ?_)
                refine lv_goto (tgt := 10) hx hb dX5_reckonAll_354 (by decide) ?_
                exact hrec11 _ _ _ hf _ _ _ (lv_sub hl [1, 0, 3, 4] rfl) hw
              refine lv_iload hx hb dX5_reckonAll_344 (lv_at hl 1 rfl) ?_
              refine lv_istore (lv' := [(4, .int x14), (6, .int x14), (3, .int x9), (0, .ref (eb E + 0)), (2, .int p2)]) hx hb dX5_reckonAll_346 hl (by decide) rfl (fun ls hl => ?_)
              refine lv_goto (tgt := 354) hx hb dX5_reckonAll_348 (by decide) ?_
              refine lv_goto (tgt := 10) hx hb dX5_reckonAll_354 (by decide) ?_
              exact hrec11 _ _ _ hf _ _ _ (lv_sub hl [0, 2, 3, 4] rfl) hw
            clear ek
            refine fb_ine (tgt := 339) hx hb dX5_reckonAll_332 (by decide) hf (fun hf => ?_) (fun hf => ?_)
            · refine lv_lconst (v := (1 : Int64)) hx hb dX5_reckonAll_339 rfl ?_
              exact hk17 _ _ _ _ (lv_sub hl [0, 1, 3, 4, 5] rfl) hw hf
            refine lv_lconst (v := (0 : Int64)) hx hb dX5_reckonAll_335 rfl ?_
            refine lv_goto (tgt := 340) hx hb dX5_reckonAll_336 (by decide) ?_
            exact hk17 _ _ _ _ (lv_sub hl [0, 1, 3, 4, 5] rfl) hw hf
          refine lv_aload_n hx hb dX5_reckonAll_299 rfl (lv_at hl 4 rfl) ?_
          refine fo_gets X hw fc_X5 (hm0 hE) (k := 37) (d := 20) (n2 := 20) (by decide) rfl rfl q1555 dX5_reckonAll_300 ?_
          refine lv_iload_n hx hb dX5_reckonAll_303 rfl (lv_at hl 3 rfl) ?_
          refine lv_iconst (v := (1 : Int32)) hx hb dX5_reckonAll_304 (by decide) ?_
          refine lv_isub hx hb dX5_reckonAll_305 ?_
          refine lv_lconst (v := (1 : Int64)) hx hb dX5_reckonAll_306 rfl ?_
          refine lv_aload_n hx hb dX5_reckonAll_307 rfl (lv_at hl 4 rfl) ?_
          refine fo_gets X hw fc_X5 (hm0 hE) (k := 37) (d := 20) (n2 := 20) (by decide) rfl rfl q1555 dX5_reckonAll_308 ?_
          refine lv_iload_n hx hb dX5_reckonAll_311 rfl (lv_at hl 3 rfl) ?_
          refine lv_iconst (v := (1 : Int32)) hx hb dX5_reckonAll_312 (by decide) ?_
          refine lv_isub hx hb dX5_reckonAll_313 ?_
          refine fo_lald X hw (hm20 hE) dX5_reckonAll_314 hf (fun hf => ?_)
          refine lv_lsub hx hb dX5_reckonAll_315 ?_
          refine fo_last X hw (hm20 hE) dX5_reckonAll_316 hf (fun st18 H locs hw hf => ?_)
          refine lv_goto (tgt := 354) hx hb dX5_reckonAll_317 (by decide) ?_
          refine lv_goto (tgt := 10) hx hb dX5_reckonAll_354 (by decide) ?_
          exact hrec11 _ _ _ hf _ _ _ (lv_sub hl [0, 3, 4, 5] rfl) hw
        refine fb_iinc (v := (-1 : Int32)) (lv' := [(3, .int (x9 + (-1 : Int32))), (4, .int (x8 + (1 : Int32))), (6, .int x14), (5, .int x12), (0, .ref (eb E + 0)), (2, .int p2)]) hx hb dX5_reckonAll_222 hl (k := 3) rfl (by decide) (by decide) rfl (fun ls hl => ?_)
        refine lv_aload_n hx hb dX5_reckonAll_225 rfl (lv_at hl 4 rfl) ?_
        refine fo_gets X hw fc_X5 (hm0 hE) (k := 37) (d := 20) (n2 := 20) (by decide) rfl rfl q1555 dX5_reckonAll_226 ?_
        refine lv_iload_n hx hb dX5_reckonAll_229 rfl (lv_at hl 0 rfl) ?_
        refine lv_iconst (v := (1 : Int32)) hx hb dX5_reckonAll_230 (by decide) ?_
        refine lv_isub hx hb dX5_reckonAll_231 ?_
        refine lv_aload_n hx hb dX5_reckonAll_232 rfl (lv_at hl 4 rfl) ?_
        refine lv_iload hx hb dX5_reckonAll_233 (lv_at hl 3 rfl) ?_
        refine lv_aload_n hx hb dX5_reckonAll_235 rfl (lv_at hl 4 rfl) ?_
        refine fo_gets X hw fc_X5 (hm0 hE) (k := 37) (d := 20) (n2 := 20) (by decide) rfl rfl q1555 dX5_reckonAll_236 ?_
        refine lv_iload_n hx hb dX5_reckonAll_239 rfl (lv_at hl 0 rfl) ?_
        refine lv_iconst (v := (1 : Int32)) hx hb dX5_reckonAll_240 (by decide) ?_
        refine lv_isub hx hb dX5_reckonAll_241 ?_
        refine fo_lald X hw (hm20 hE) dX5_reckonAll_242 hf (fun hf => ?_)
        refine lv_aload_n hx hb dX5_reckonAll_243 rfl (lv_at hl 4 rfl) ?_
        refine fo_gets X hw fc_X5 (hm0 hE) (k := 37) (d := 20) (n2 := 20) (by decide) rfl rfl q1555 dX5_reckonAll_244 ?_
        refine lv_iload_n hx hb dX5_reckonAll_247 rfl (lv_at hl 0 rfl) ?_
        refine fo_lald X hw (hm20 hE) dX5_reckonAll_248 hf (fun hf => ?_)
        refine fc_Vl (rest := [.int ((x9 + (-1 : Int32)) - (1 : Int32)), .ref (eb E + 20)]) (As := [.int x12, .long (gl_ st10 20 ((x9 + (-1 : Int32)) - (1 : Int32)).toNatClampNeg), .long (gl_ st10 20 (x9 + (-1 : Int32)).toNatClampNeg)]) X hw hm_X5_reckon (lw_V q1787 q1789 qs50 q121 q1790) ⟨rfl, rfl⟩ ⟨by rw [hRf]; exact Nat.le_of_ble_eq_true rfl, by rw [hRl]; exact Nat.le_of_ble_eq_true rfl⟩ fc_X5 rfl (hm0 hE) rfl rfl hl.1 (Nat.le_of_ble_eq_true rfl) dX5_reckonAll_249 (fun rQ stQ hQ => wX5_reckon l E hE x12 (gl_ st10 20 ((x9 + (-1 : Int32)) - (1 : Int32)).toNatClampNeg) (gl_ st10 20 (x9 + (-1 : Int32)).toNatClampNeg) st10 rQ stQ hQ) hf (fun x19 st20 H locs hw hf => ?_)
        refine fo_last X hw (hm20 hE) dX5_reckonAll_252 hf (fun st21 H locs hw hf => ?_)
        refine lv_aload_n hx hb dX5_reckonAll_253 rfl (lv_at hl 4 rfl) ?_
        refine lv_aload_n hx hb dX5_reckonAll_254 rfl (lv_at hl 4 rfl) ?_
        refine fo_geti X hw fc_X5 (hm0 hE) (k := 38) (by decide) rfl q1556 dX5_reckonAll_255 ?_
        refine jn_e hf (fun k24 ek hf => ?_)
        have hk24 : ∀ (x22 : Int32) (st23 : fo_St) (H : Heap) (locs : List Loc) (ls : Array Slot), lv_has ls 7 [(3, .int (x9 + (-1 : Int32))), (4, .int (x8 + (1 : Int32))), (0, .ref (eb E + 0)), (2, .int p2)] → fo_S E s st23 H locs → k24 x22 st23 = some stZ → W p l e R s m args below meth c H locs 0 0 Q (F0 m 286 ls [.int x22, .ref (eb E + 0)]) := by
          intro x22 st23 H locs ls hl hw hf
          rw [ek] at hf
          obtain ⟨hz, hf⟩ := ck_e hf
          refine fo_puti X hw fc_X5 (hm0 hE) (k := 38) (by decide) rfl rfl q1556 (fo_z hz) dX5_reckonAll_286 hf (fun st25 H locs hw hf => ?_)
          refine lv_goto (tgt := 354) hx hb dX5_reckonAll_289 (by decide) ?_
          refine lv_goto (tgt := 10) hx hb dX5_reckonAll_354 (by decide) ?_
          exact hrec11 _ _ _ hf _ _ _ (lv_sub hl [1, 0, 2, 3] rfl) hw
        clear ek
        refine fb_zne (tgt := 281) hx hb dX5_reckonAll_258 (by decide) hf (fun hf => ?_) (fun hf => ?_)
        · refine lv_iconst (v := (1 : Int32)) hx hb dX5_reckonAll_281 (by decide) ?_
          refine lv_goto (tgt := 286) hx hb dX5_reckonAll_282 (by decide) ?_
          exact hk24 _ _ _ _ _ (lv_sub hl [0, 1, 4, 5] rfl) hw hf
        refine lv_aload_n hx hb dX5_reckonAll_261 rfl (lv_at hl 4 rfl) ?_
        refine fo_gets X hw fc_X5 (hm0 hE) (k := 37) (d := 20) (n2 := 20) (by decide) rfl rfl q1555 dX5_reckonAll_262 ?_
        refine lv_iload_n hx hb dX5_reckonAll_265 rfl (lv_at hl 0 rfl) ?_
        refine lv_iconst (v := (1 : Int32)) hx hb dX5_reckonAll_266 (by decide) ?_
        refine lv_isub hx hb dX5_reckonAll_267 ?_
        refine fo_lald X hw (hm20 hE) dX5_reckonAll_268 hf (fun hf => ?_)
        refine lv_ldc2 (v := (-1000000000 : Int64)) hx hb X.1.2.2.2.1 (X.1.2.2.2.2 _ q1791) dX5_reckonAll_269 ?_
        refine lv_ldc2 (v := (1000000000 : Int64)) hx hb X.1.2.2.2.1 (X.1.2.2.2.2 _ q1792) dX5_reckonAll_272 ?_
        refine fc_Si (rest := [.ref (eb E + 0)]) (As := [.long (gl_ st21 20 ((x9 + (-1 : Int32)) - (1 : Int32)).toNatClampNeg), .long (-1000000000 : Int64), .long (1000000000 : Int64)]) X hw hm_X5_in (lw_S q1722 q1723 q121 q1724) ⟨rfl, rfl⟩ ⟨by rw [hRf]; exact Nat.le_of_ble_eq_true rfl, by rw [hRl]; exact Nat.le_of_ble_eq_true rfl⟩ rfl rfl hl.1 (Nat.le_of_ble_eq_true rfl) dX5_reckonAll_275 (fun rQ stQ hQ => wX5_in l E hE (gl_ st21 20 ((x9 + (-1 : Int32)) - (1 : Int32)).toNatClampNeg) (-1000000000 : Int64) (1000000000 : Int64) st21 rQ stQ hQ) hf (fun x26 st27 H locs hw hf => ?_)
        refine fb_zne (tgt := 285) hx hb dX5_reckonAll_278 (by decide) hf (fun hf => ?_) (fun hf => ?_)
        · refine lv_iconst (v := (0 : Int32)) hx hb dX5_reckonAll_285 (by decide) ?_
          exact hk24 _ _ _ _ _ (lv_sub hl [0, 1, 4, 5] rfl) hw hf
        refine lv_iconst (v := (1 : Int32)) hx hb dX5_reckonAll_281 (by decide) ?_
        refine lv_goto (tgt := 286) hx hb dX5_reckonAll_282 (by decide) ?_
        exact hk24 _ _ _ _ _ (lv_sub hl [0, 1, 4, 5] rfl) hw hf
      refine lv_aload_n hx hb dX5_reckonAll_107 rfl (lv_at hl 4 rfl) ?_
      refine fo_gets X hw fc_X5 (hm0 hE) (k := 37) (d := 20) (n2 := 20) (by decide) rfl rfl q1555 dX5_reckonAll_108 ?_
      refine lv_iload_n hx hb dX5_reckonAll_111 rfl (lv_at hl 3 rfl) ?_
      refine lv_iload hx hb dX5_reckonAll_112 (lv_at hl 2 rfl) ?_
      refine jn_e hf (fun k29 ek hf => ?_)
      have hk29 : ∀ (x28 : Int64) (H : Heap) (locs : List Loc) (ls : Array Slot), lv_has ls 7 [(4, .int (x8 + (1 : Int32))), (3, .int x9), (0, .ref (eb E + 0)), (2, .int p2)] → fo_S E s st10 H locs → k29 x28 = some stZ → W p l e R s m args below meth c H locs 0 0 Q (F0 m 208 ls [.long x28, .int x9, .ref (eb E + 20)]) := by
        intro x28 H locs ls hl hw hf
        rw [ek] at hf
        refine fo_last X hw (hm20 hE) dX5_reckonAll_208 hf (fun st30 H locs hw hf => ?_)
        refine fb_iinc (v := (1 : Int32)) (lv' := [(3, .int (x9 + (1 : Int32))), (4, .int (x8 + (1 : Int32))), (0, .ref (eb E + 0)), (2, .int p2)]) hx hb dX5_reckonAll_209 hl (k := 1) rfl (by decide) (by decide) rfl (fun ls hl => ?_)
        refine lv_goto (tgt := 354) hx hb dX5_reckonAll_212 (by decide) ?_
        refine lv_goto (tgt := 10) hx hb dX5_reckonAll_354 (by decide) ?_
        exact hrec11 _ _ _ hf _ _ _ (lv_sub hl [1, 0, 2, 3] rfl) hw
      clear ek
      refine fb_zne (tgt := 123) hx hb dX5_reckonAll_114 (by decide) hf (fun hf => ?_) (fun hf => ?_)
      · refine lv_aload_n hx hb dX5_reckonAll_123 rfl (lv_at hl 4 rfl) ?_
        refine fo_geti X hw fc_X5 (hm0 hE) (k := 20) (by decide) rfl q1538 dX5_reckonAll_124 ?_
        refine fb_zne (tgt := 140) hx hb dX5_reckonAll_127 (by decide) hf (fun hf => ?_) (fun hf => ?_)
        · refine lv_iload hx hb dX5_reckonAll_140 (lv_at hl 2 rfl) ?_
          refine lv_iconst (v := (5 : Int32)) hx hb dX5_reckonAll_142 (by decide) ?_
          refine fb_ige (tgt := 156) hx hb dX5_reckonAll_143 (by decide) hf (fun hf => ?_) (fun hf => ?_)
          · refine lv_iload hx hb dX5_reckonAll_156 (lv_at hl 2 rfl) ?_
            refine lv_iconst (v := (5 : Int32)) hx hb dX5_reckonAll_158 (by decide) ?_
            refine fb_ine (tgt := 176) hx hb dX5_reckonAll_159 (by decide) hf (fun hf => ?_) (fun hf => ?_)
            · refine lv_iload hx hb dX5_reckonAll_176 (lv_at hl 2 rfl) ?_
              refine lv_bipush (v := (6 : Int32)) hx hb dX5_reckonAll_178 (by decide) ?_
              refine fb_ine (tgt := 197) hx hb dX5_reckonAll_180 (by decide) hf (fun hf => ?_) (fun hf => ?_)
              · refine lv_aload_n hx hb dX5_reckonAll_197 rfl (lv_at hl 4 rfl) ?_
                refine fo_gets X hw fc_X5 (hm0 hE) (k := 3) (d := 2) (n2 := 2) (by decide) rfl rfl q1521 dX5_reckonAll_198 ?_
                refine lv_bipush (v := (40 : Int32)) hx hb dX5_reckonAll_201 (by decide) ?_
                refine lv_iload hx hb dX5_reckonAll_203 (lv_at hl 1 rfl) ?_
                refine lv_iadd hx hb dX5_reckonAll_205 ?_
                refine fo_iald X hw (hm2 hE) dX5_reckonAll_206 hf (fun hf => ?_)
                refine lv_i2l (v := (gi_ st10 2 ((40 : Int32) + x14).toNatClampNeg).toInt64) hx hb dX5_reckonAll_207 rfl ?_
                exact hk29 _ _ _ _ (lv_sub hl [0, 3, 4, 5] rfl) hw hf
              refine lv_aload_n hx hb dX5_reckonAll_183 rfl (lv_at hl 4 rfl) ?_
              refine fo_gets X hw fc_X5 (hm0 hE) (k := 3) (d := 2) (n2 := 2) (by decide) rfl rfl q1521 dX5_reckonAll_184 ?_
              refine lv_bipush (v := (8 : Int32)) hx hb dX5_reckonAll_187 (by decide) ?_
              refine lv_iload hx hb dX5_reckonAll_189 (lv_at hl 1 rfl) ?_
              refine lv_iadd hx hb dX5_reckonAll_191 ?_
              refine fo_iald X hw (hm2 hE) dX5_reckonAll_192 hf (fun hf => ?_)
              refine lv_i2l (v := (gi_ st10 2 ((8 : Int32) + x14).toNatClampNeg).toInt64) hx hb dX5_reckonAll_193 rfl ?_
              refine lv_goto (tgt := 208) hx hb dX5_reckonAll_194 (by decide) ?_
              exact hk29 _ _ _ _ (lv_sub hl [0, 3, 4, 5] rfl) hw hf
            refine lv_aload_n hx hb dX5_reckonAll_162 rfl (lv_at hl 4 rfl) ?_
            refine fo_gets X hw fc_X5 (hm0 hE) (k := 3) (d := 2) (n2 := 2) (by decide) rfl rfl q1521 dX5_reckonAll_163 ?_
            refine lv_bipush (v := (24 : Int32)) hx hb dX5_reckonAll_166 (by decide) ?_
            refine lv_iload hx hb dX5_reckonAll_168 (lv_at hl 1 rfl) ?_
            refine lv_iadd hx hb dX5_reckonAll_170 ?_
            refine fo_iald X hw (hm2 hE) dX5_reckonAll_171 hf (fun hf => ?_)
            refine lv_i2l (v := (gi_ st10 2 ((24 : Int32) + x14).toNatClampNeg).toInt64) hx hb dX5_reckonAll_172 rfl ?_
            refine lv_goto (tgt := 208) hx hb dX5_reckonAll_173 (by decide) ?_
            exact hk29 _ _ _ _ (lv_sub hl [0, 3, 4, 5] rfl) hw hf
          refine lv_aload_n hx hb dX5_reckonAll_146 rfl (lv_at hl 4 rfl) ?_
          refine fo_gets X hw fc_X5 (hm0 hE) (k := 36) (d := 19) (n2 := 19) (by decide) rfl rfl q1554 dX5_reckonAll_147 ?_
          refine lv_iload hx hb dX5_reckonAll_150 (lv_at hl 2 rfl) ?_
          refine fo_lald X hw (hm19 hE) dX5_reckonAll_152 hf (fun hf => ?_)
          refine lv_goto (tgt := 208) hx hb dX5_reckonAll_153 (by decide) ?_
          exact hk29 _ _ _ _ (lv_sub hl [0, 3, 4, 5] rfl) hw hf
        refine lv_aload_n hx hb dX5_reckonAll_130 rfl (lv_at hl 4 rfl) ?_
        refine fo_gets X hw fc_X5 (hm0 hE) (k := 35) (d := 18) (n2 := 18) (by decide) rfl rfl q1553 dX5_reckonAll_131 ?_
        refine lv_iload hx hb dX5_reckonAll_134 (lv_at hl 2 rfl) ?_
        refine fo_lald X hw (hm18 hE) dX5_reckonAll_136 hf (fun hf => ?_)
        refine lv_goto (tgt := 208) hx hb dX5_reckonAll_137 (by decide) ?_
        exact hk29 _ _ _ _ (lv_sub hl [0, 3, 4, 5] rfl) hw hf
      refine lv_iload hx hb dX5_reckonAll_117 (lv_at hl 1 rfl) ?_
      refine lv_i2l (v := x14.toInt64) hx hb dX5_reckonAll_119 rfl ?_
      refine lv_goto (tgt := 208) hx hb dX5_reckonAll_120 (by decide) ?_
      exact hk29 _ _ _ _ (lv_sub hl [0, 3, 4, 5] rfl) hw hf
    clear ek
    refine fb_zeq (tgt := 76) hx hb dX5_reckonAll_63 (by decide) hf (fun hf => ?_) (fun hf => ?_)
    · refine lv_aload_n hx hb dX5_reckonAll_76 rfl (lv_at hl 3 rfl) ?_
      refine fo_gets X hw fc_X5 (hm0 hE) (k := 3) (d := 2) (n2 := 2) (by decide) rfl rfl q1521 dX5_reckonAll_77 ?_
      refine lv_aload_n hx hb dX5_reckonAll_80 rfl (lv_at hl 3 rfl) ?_
      refine fo_geti X hw fc_X5 (hm0 hE) (k := 34) (by decide) rfl q1552 dX5_reckonAll_81 ?_
      refine lv_bipush (v := (98 : Int32)) hx hb dX5_reckonAll_84 (by decide) ?_
      refine lv_iadd hx hb dX5_reckonAll_86 ?_
      refine lv_iconst (v := (2 : Int32)) hx hb dX5_reckonAll_87 (by decide) ?_
      refine lv_iload hx hb dX5_reckonAll_88 (lv_at hl 1 rfl) ?_
      refine lv_imul hx hb dX5_reckonAll_90 ?_
      refine lv_iadd hx hb dX5_reckonAll_91 ?_
      refine lv_iconst (v := (1 : Int32)) hx hb dX5_reckonAll_92 (by decide) ?_
      refine lv_iadd hx hb dX5_reckonAll_93 ?_
      refine fo_iald X hw (hm2 hE) dX5_reckonAll_94 hf (fun hf => ?_)
      exact hk15 _ _ _ _ (lv_sub hl [0, 1, 2, 3, 4] rfl) hw hf
    refine lv_aload_n hx hb dX5_reckonAll_66 rfl (lv_at hl 3 rfl) ?_
    refine fo_gets X hw fc_X5 (hm0 hE) (k := 25) (d := 12) (n2 := 12) (by decide) rfl rfl q1543 dX5_reckonAll_67 ?_
    refine lv_iload hx hb dX5_reckonAll_70 (lv_at hl 1 rfl) ?_
    refine fo_iald X hw (hm12 hE) dX5_reckonAll_72 hf (fun hf => ?_)
    refine lv_goto (tgt := 95) hx hb dX5_reckonAll_73 (by decide) ?_
    exact hk15 _ _ _ _ (lv_sub hl [0, 1, 2, 3, 4] rfl) hw hf
  clear ek
  refine fb_zeq (tgt := 40) hx hb dX5_reckonAll_27 (by decide) hf (fun hf => ?_) (fun hf => ?_)
  · refine lv_aload_n hx hb dX5_reckonAll_40 rfl (lv_at hl 2 rfl) ?_
    refine fo_gets X hw fc_X5 (hm0 hE) (k := 3) (d := 2) (n2 := 2) (by decide) rfl rfl q1521 dX5_reckonAll_41 ?_
    refine lv_aload_n hx hb dX5_reckonAll_44 rfl (lv_at hl 2 rfl) ?_
    refine fo_geti X hw fc_X5 (hm0 hE) (k := 34) (by decide) rfl q1552 dX5_reckonAll_45 ?_
    refine lv_bipush (v := (98 : Int32)) hx hb dX5_reckonAll_48 (by decide) ?_
    refine lv_iadd hx hb dX5_reckonAll_50 ?_
    refine lv_iconst (v := (2 : Int32)) hx hb dX5_reckonAll_51 (by decide) ?_
    refine lv_iload hx hb dX5_reckonAll_52 (lv_at hl 0 rfl) ?_
    refine lv_imul hx hb dX5_reckonAll_54 ?_
    refine lv_iadd hx hb dX5_reckonAll_55 ?_
    refine fo_iald X hw (hm2 hE) dX5_reckonAll_56 hf (fun hf => ?_)
    exact hk13 _ _ _ _ (lv_sub hl [0, 1, 2, 3] rfl) hw hf
  refine lv_aload_n hx hb dX5_reckonAll_30 rfl (lv_at hl 2 rfl) ?_
  refine fo_gets X hw fc_X5 (hm0 hE) (k := 24) (d := 11) (n2 := 11) (by decide) rfl rfl q1542 dX5_reckonAll_31 ?_
  refine lv_iload hx hb dX5_reckonAll_34 (lv_at hl 0 rfl) ?_
  refine fo_iald X hw (hm11 hE) dX5_reckonAll_36 hf (fun hf => ?_)
  refine lv_goto (tgt := 57) hx hb dX5_reckonAll_37 (by decide) ?_
  exact hk13 _ _ _ _ (lv_sub hl [0, 1, 2, 3] rfl) hw hf

/-- ForestRoomsModel.isSo -/
def fX5_isSo (G : Nat) (p1 : Int32) (st0 : fo_St) : Option (Int32 × fo_St) := ck_ (fo_in (p1 + (5 : Int32)) 5540) (ck_ (fo_in (p1 + (6 : Int32)) 5540) (if (gi_ st0 2 (p1 + (6 : Int32)).toNatClampNeg) ≤ (gi_ st0 2 (p1 + (5 : Int32)).toNatClampNeg) then ck_ (fo_in p1 5540) (if (3 : Int32) ≤ (gi_ st0 2 p1.toNatClampNeg) then some ((1 : Int32), st0) else ck_ (fo_in (p1 + (3 : Int32)) 5540) (ck_ (fo_in (p1 + (4 : Int32)) 5540) (bv_ (fX5_reckonAll G (gi_ st0 2 (p1 + (3 : Int32)).toNatClampNeg) (gi_ st0 2 (p1 + (4 : Int32)).toNatClampNeg) st0) (fun st2 => lt_ (sl_ st2 0 40 (gl_ st2 0 39)) (fun st3 => if ¬ (gi_ st3 0 38) = 0 then some ((0 : Int32), st3) else some ((1 : Int32), st3)))))) else ck_ (fo_in (p1 + (5 : Int32)) 5540) (ck_ (fo_in (p1 + (6 : Int32)) 5540) (bv_ (fX5_reckonAll G (gi_ st0 2 (p1 + (5 : Int32)).toNatClampNeg) (gi_ st0 2 (p1 + (6 : Int32)).toNatClampNeg) st0) (fun st5 => if ¬ (gi_ st5 0 38) = 0 then some ((0 : Int32), st5) else if ¬ (gl_ st5 0 39) = (0 : Int64) then ck_ (fo_in p1 5540) (if (3 : Int32) ≤ (gi_ st5 2 p1.toNatClampNeg) then some ((1 : Int32), st5) else ck_ (fo_in (p1 + (3 : Int32)) 5540) (ck_ (fo_in (p1 + (4 : Int32)) 5540) (bv_ (fX5_reckonAll G (gi_ st5 2 (p1 + (3 : Int32)).toNatClampNeg) (gi_ st5 2 (p1 + (4 : Int32)).toNatClampNeg) st5) (fun st7 => lt_ (sl_ st7 0 40 (gl_ st7 0 39)) (fun st8 => if ¬ (gi_ st8 0 38) = 0 then some ((0 : Int32), st8) else some ((1 : Int32), st8)))))) else some ((0 : Int32), st5))))))
theorem hm_X5_isSo : fo_M yX5_isSo 1 := ⟨by decide +kernel, by decide +kernel, by decide +kernel, by decide +kernel⟩
set_option maxHeartbeats 4000000 in
theorem wX5_isSo (l : Launch) (E : fo_E) (hE : ∀ n, et E n = tM_ n) (G : Nat) (p1 : Int32) (st0 : fo_St) (rZ : Int32) (stZ : fo_St) (hf : fX5_isSo G p1 st0 = some (rZ, stZ)) : CTi l E yX5_isSo (ws_ yX5_isSo cX5_isSo 2 (some .boolean)) ({ frames := 2, cells := 0, slots := 0, locals := 51 }) [.ref (eb E + 0), .int p1] st0 rZ stZ := by
  refine fe_z hm_X5_isSo (Nat.le_of_ble_eq_true rfl) (fun p e R s m args below meth c Q hRf hRl X hend ls hl hw => ?_)
  have hx := X.1.1
  have hb := X.1.2.1
  have hl : lv_has ls 2 [(0, .ref (eb E + 0)), (1, .int p1)] := hl
  unfold fX5_isSo at hf
  generalize s.heap = H at hw ⊢
  generalize ([] : List Loc) = locs at hw ⊢
  refine lv_aload_n hx hb dX5_isSo_0 rfl (lv_at hl 0 rfl) ?_
  refine fo_gets X hw fc_X5 (hm0 hE) (k := 3) (d := 2) (n2 := 2) (by decide) rfl rfl q1521 dX5_isSo_1 ?_
  refine lv_iload_n hx hb dX5_isSo_4 rfl (lv_at hl 1 rfl) ?_
  refine lv_iconst (v := (5 : Int32)) hx hb dX5_isSo_5 (by decide) ?_
  refine lv_iadd hx hb dX5_isSo_6 ?_
  refine fo_iald X hw (hm2 hE) dX5_isSo_7 hf (fun hf => ?_)
  refine lv_aload_n hx hb dX5_isSo_8 rfl (lv_at hl 0 rfl) ?_
  refine fo_gets X hw fc_X5 (hm0 hE) (k := 3) (d := 2) (n2 := 2) (by decide) rfl rfl q1521 dX5_isSo_9 ?_
  refine lv_iload_n hx hb dX5_isSo_12 rfl (lv_at hl 1 rfl) ?_
  refine lv_bipush (v := (6 : Int32)) hx hb dX5_isSo_13 (by decide) ?_
  refine lv_iadd hx hb dX5_isSo_15 ?_
  refine fo_iald X hw (hm2 hE) dX5_isSo_16 hf (fun hf => ?_)
  refine fb_ige (tgt := 59) hx hb dX5_isSo_17 (by decide) hf (fun hf => ?_) (fun hf => ?_)
  · refine lv_aload_n hx hb dX5_isSo_59 rfl (lv_at hl 0 rfl) ?_
    refine fo_gets X hw fc_X5 (hm0 hE) (k := 3) (d := 2) (n2 := 2) (by decide) rfl rfl q1521 dX5_isSo_60 ?_
    refine lv_iload_n hx hb dX5_isSo_63 rfl (lv_at hl 1 rfl) ?_
    refine fo_iald X hw (hm2 hE) dX5_isSo_64 hf (fun hf => ?_)
    refine lv_iconst (v := (3 : Int32)) hx hb dX5_isSo_65 (by decide) ?_
    refine fb_ige (tgt := 110) hx hb dX5_isSo_66 (by decide) hf (fun hf => ?_) (fun hf => ?_)
    · refine lv_iconst (v := (1 : Int32)) hx hb dX5_isSo_110 (by decide) ?_
      exact fd_z hend hw rfl hf dX5_isSo_111
    refine lv_aload_n hx hb dX5_isSo_69 rfl (lv_at hl 0 rfl) ?_
    refine lv_aload_n hx hb dX5_isSo_70 rfl (lv_at hl 0 rfl) ?_
    refine fo_gets X hw fc_X5 (hm0 hE) (k := 3) (d := 2) (n2 := 2) (by decide) rfl rfl q1521 dX5_isSo_71 ?_
    refine lv_iload_n hx hb dX5_isSo_74 rfl (lv_at hl 1 rfl) ?_
    refine lv_iconst (v := (3 : Int32)) hx hb dX5_isSo_75 (by decide) ?_
    refine lv_iadd hx hb dX5_isSo_76 ?_
    refine fo_iald X hw (hm2 hE) dX5_isSo_77 hf (fun hf => ?_)
    refine lv_aload_n hx hb dX5_isSo_78 rfl (lv_at hl 0 rfl) ?_
    refine fo_gets X hw fc_X5 (hm0 hE) (k := 3) (d := 2) (n2 := 2) (by decide) rfl rfl q1521 dX5_isSo_79 ?_
    refine lv_iload_n hx hb dX5_isSo_82 rfl (lv_at hl 1 rfl) ?_
    refine lv_iconst (v := (4 : Int32)) hx hb dX5_isSo_83 (by decide) ?_
    refine lv_iadd hx hb dX5_isSo_84 ?_
    refine fo_iald X hw (hm2 hE) dX5_isSo_85 hf (fun hf => ?_)
    refine fc_Vv (rest := []) (As := [.int (gi_ st0 2 (p1 + (3 : Int32)).toNatClampNeg), .int (gi_ st0 2 (p1 + (4 : Int32)).toNatClampNeg)]) X hw hm_X5_reckonAll (lw_V q1783 q1785 qs49 q121 q1786) ⟨rfl, rfl⟩ ⟨by rw [hRf]; exact Nat.le_of_ble_eq_true rfl, by rw [hRl]; exact Nat.le_of_ble_eq_true rfl⟩ fc_X5 rfl (hm0 hE) rfl rfl hl.1 (Nat.le_of_ble_eq_true rfl) dX5_isSo_86 (fun stQ hQ => wX5_reckonAll l E hE G (gi_ st0 2 (p1 + (3 : Int32)).toNatClampNeg) (gi_ st0 2 (p1 + (4 : Int32)).toNatClampNeg) st0 stQ hQ) hf (fun st2 H locs hw hf => ?_)
    refine lv_aload_n hx hb dX5_isSo_89 rfl (lv_at hl 0 rfl) ?_
    refine lv_aload_n hx hb dX5_isSo_90 rfl (lv_at hl 0 rfl) ?_
    refine fo_getl X hw fc_X5 (hm0 hE) (k := 39) (by decide) rfl q1557 dX5_isSo_91 ?_
    refine fo_putl X hw fc_X5 (hm0 hE) (k := 40) (by decide) rfl rfl q1558 ⟨rfl, rfl⟩ dX5_isSo_94 hf (fun st3 H locs hw hf => ?_)
    refine lv_aload_n hx hb dX5_isSo_97 rfl (lv_at hl 0 rfl) ?_
    refine fo_geti X hw fc_X5 (hm0 hE) (k := 38) (by decide) rfl q1556 dX5_isSo_98 ?_
    refine fb_zne (tgt := 108) hx hb dX5_isSo_101 (by decide) hf (fun hf => ?_) (fun hf => ?_)
    · refine lv_iconst (v := (0 : Int32)) hx hb dX5_isSo_108 (by decide) ?_
      exact fd_z hend hw rfl hf dX5_isSo_109
    refine lv_iconst (v := (1 : Int32)) hx hb dX5_isSo_104 (by decide) ?_
    refine lv_goto (tgt := 109) hx hb dX5_isSo_105 (by decide) ?_
    exact fd_z hend hw rfl hf dX5_isSo_109
  refine lv_aload_n hx hb dX5_isSo_20 rfl (lv_at hl 0 rfl) ?_
  refine lv_aload_n hx hb dX5_isSo_21 rfl (lv_at hl 0 rfl) ?_
  refine fo_gets X hw fc_X5 (hm0 hE) (k := 3) (d := 2) (n2 := 2) (by decide) rfl rfl q1521 dX5_isSo_22 ?_
  refine lv_iload_n hx hb dX5_isSo_25 rfl (lv_at hl 1 rfl) ?_
  refine lv_iconst (v := (5 : Int32)) hx hb dX5_isSo_26 (by decide) ?_
  refine lv_iadd hx hb dX5_isSo_27 ?_
  refine fo_iald X hw (hm2 hE) dX5_isSo_28 hf (fun hf => ?_)
  refine lv_aload_n hx hb dX5_isSo_29 rfl (lv_at hl 0 rfl) ?_
  refine fo_gets X hw fc_X5 (hm0 hE) (k := 3) (d := 2) (n2 := 2) (by decide) rfl rfl q1521 dX5_isSo_30 ?_
  refine lv_iload_n hx hb dX5_isSo_33 rfl (lv_at hl 1 rfl) ?_
  refine lv_bipush (v := (6 : Int32)) hx hb dX5_isSo_34 (by decide) ?_
  refine lv_iadd hx hb dX5_isSo_36 ?_
  refine fo_iald X hw (hm2 hE) dX5_isSo_37 hf (fun hf => ?_)
  refine fc_Vv (rest := []) (As := [.int (gi_ st0 2 (p1 + (5 : Int32)).toNatClampNeg), .int (gi_ st0 2 (p1 + (6 : Int32)).toNatClampNeg)]) X hw hm_X5_reckonAll (lw_V q1783 q1785 qs49 q121 q1786) ⟨rfl, rfl⟩ ⟨by rw [hRf]; exact Nat.le_of_ble_eq_true rfl, by rw [hRl]; exact Nat.le_of_ble_eq_true rfl⟩ fc_X5 rfl (hm0 hE) rfl rfl hl.1 (Nat.le_of_ble_eq_true rfl) dX5_isSo_38 (fun stQ hQ => wX5_reckonAll l E hE G (gi_ st0 2 (p1 + (5 : Int32)).toNatClampNeg) (gi_ st0 2 (p1 + (6 : Int32)).toNatClampNeg) st0 stQ hQ) hf (fun st5 H locs hw hf => ?_)
  refine lv_aload_n hx hb dX5_isSo_41 rfl (lv_at hl 0 rfl) ?_
  refine fo_geti X hw fc_X5 (hm0 hE) (k := 38) (by decide) rfl q1556 dX5_isSo_42 ?_
  refine fb_zne (tgt := 57) hx hb dX5_isSo_45 (by decide) hf (fun hf => ?_) (fun hf => ?_)
  · refine lv_iconst (v := (0 : Int32)) hx hb dX5_isSo_57 (by decide) ?_
    exact fd_z hend hw rfl hf dX5_isSo_58
  refine lv_aload_n hx hb dX5_isSo_48 rfl (lv_at hl 0 rfl) ?_
  refine fo_getl X hw fc_X5 (hm0 hE) (k := 39) (by decide) rfl q1557 dX5_isSo_49 ?_
  refine lv_lconst (v := (0 : Int64)) hx hb dX5_isSo_52 rfl ?_
  refine fb_lne (tgt := 59) hx hb dX5_isSo_53 dX5_isSo_54 (by decide) hf (fun hf => ?_) (fun hf => ?_)
  · refine lv_aload_n hx hb dX5_isSo_59 rfl (lv_at hl 0 rfl) ?_
    refine fo_gets X hw fc_X5 (hm0 hE) (k := 3) (d := 2) (n2 := 2) (by decide) rfl rfl q1521 dX5_isSo_60 ?_
    refine lv_iload_n hx hb dX5_isSo_63 rfl (lv_at hl 1 rfl) ?_
    refine fo_iald X hw (hm2 hE) dX5_isSo_64 hf (fun hf => ?_)
    refine lv_iconst (v := (3 : Int32)) hx hb dX5_isSo_65 (by decide) ?_
    refine fb_ige (tgt := 110) hx hb dX5_isSo_66 (by decide) hf (fun hf => ?_) (fun hf => ?_)
    · refine lv_iconst (v := (1 : Int32)) hx hb dX5_isSo_110 (by decide) ?_
      exact fd_z hend hw rfl hf dX5_isSo_111
    refine lv_aload_n hx hb dX5_isSo_69 rfl (lv_at hl 0 rfl) ?_
    refine lv_aload_n hx hb dX5_isSo_70 rfl (lv_at hl 0 rfl) ?_
    refine fo_gets X hw fc_X5 (hm0 hE) (k := 3) (d := 2) (n2 := 2) (by decide) rfl rfl q1521 dX5_isSo_71 ?_
    refine lv_iload_n hx hb dX5_isSo_74 rfl (lv_at hl 1 rfl) ?_
    refine lv_iconst (v := (3 : Int32)) hx hb dX5_isSo_75 (by decide) ?_
    refine lv_iadd hx hb dX5_isSo_76 ?_
    refine fo_iald X hw (hm2 hE) dX5_isSo_77 hf (fun hf => ?_)
    refine lv_aload_n hx hb dX5_isSo_78 rfl (lv_at hl 0 rfl) ?_
    refine fo_gets X hw fc_X5 (hm0 hE) (k := 3) (d := 2) (n2 := 2) (by decide) rfl rfl q1521 dX5_isSo_79 ?_
    refine lv_iload_n hx hb dX5_isSo_82 rfl (lv_at hl 1 rfl) ?_
    refine lv_iconst (v := (4 : Int32)) hx hb dX5_isSo_83 (by decide) ?_
    refine lv_iadd hx hb dX5_isSo_84 ?_
    refine fo_iald X hw (hm2 hE) dX5_isSo_85 hf (fun hf => ?_)
    refine fc_Vv (rest := []) (As := [.int (gi_ st5 2 (p1 + (3 : Int32)).toNatClampNeg), .int (gi_ st5 2 (p1 + (4 : Int32)).toNatClampNeg)]) X hw hm_X5_reckonAll (lw_V q1783 q1785 qs49 q121 q1786) ⟨rfl, rfl⟩ ⟨by rw [hRf]; exact Nat.le_of_ble_eq_true rfl, by rw [hRl]; exact Nat.le_of_ble_eq_true rfl⟩ fc_X5 rfl (hm0 hE) rfl rfl hl.1 (Nat.le_of_ble_eq_true rfl) dX5_isSo_86 (fun stQ hQ => wX5_reckonAll l E hE G (gi_ st5 2 (p1 + (3 : Int32)).toNatClampNeg) (gi_ st5 2 (p1 + (4 : Int32)).toNatClampNeg) st5 stQ hQ) hf (fun st7 H locs hw hf => ?_)
    refine lv_aload_n hx hb dX5_isSo_89 rfl (lv_at hl 0 rfl) ?_
    refine lv_aload_n hx hb dX5_isSo_90 rfl (lv_at hl 0 rfl) ?_
    refine fo_getl X hw fc_X5 (hm0 hE) (k := 39) (by decide) rfl q1557 dX5_isSo_91 ?_
    refine fo_putl X hw fc_X5 (hm0 hE) (k := 40) (by decide) rfl rfl q1558 ⟨rfl, rfl⟩ dX5_isSo_94 hf (fun st8 H locs hw hf => ?_)
    refine lv_aload_n hx hb dX5_isSo_97 rfl (lv_at hl 0 rfl) ?_
    refine fo_geti X hw fc_X5 (hm0 hE) (k := 38) (by decide) rfl q1556 dX5_isSo_98 ?_
    refine fb_zne (tgt := 108) hx hb dX5_isSo_101 (by decide) hf (fun hf => ?_) (fun hf => ?_)
    · refine lv_iconst (v := (0 : Int32)) hx hb dX5_isSo_108 (by decide) ?_
      exact fd_z hend hw rfl hf dX5_isSo_109
    refine lv_iconst (v := (1 : Int32)) hx hb dX5_isSo_104 (by decide) ?_
    refine lv_goto (tgt := 109) hx hb dX5_isSo_105 (by decide) ?_
    exact fd_z hend hw rfl hf dX5_isSo_109
  refine lv_iconst (v := (0 : Int32)) hx hb dX5_isSo_57 (by decide) ?_
  exact fd_z hend hw rfl hf dX5_isSo_58

/-- ForestRoomsModel.tells -/
def fX5_tells (G : Nat) (p1 : Int32) (p2 : Int32) (p3 : Int32) (p4 : Int32) (p5 : Int32) (p6 : Int64) (st0 : fo_St) : Option (Int64 × fo_St) := if ¬ (gi_ st0 2 (2 : Int32).toNatClampNeg) = (-1 : Int32) then lt_ (si_ st0 0 34 ((140 : Int32) + ((900 : Int32) * (gi_ st0 2 (2 : Int32).toNatClampNeg)))) (fun st1 => lt_ (sl_ st1 18 (1 : Int32).toNatClampNeg (p2.toInt64)) (fun st2 => ck_ (fo_in ((56 : Int32) + p2) 5540) (lt_ (sl_ st2 18 (2 : Int32).toNatClampNeg ((gi_ st2 2 ((56 : Int32) + p2).toNatClampNeg).toInt64)) (fun st3 => ck_ (fo_in ((72 : Int32) + p2) 5540) (lt_ (sl_ st3 18 (3 : Int32).toNatClampNeg ((gi_ st3 2 ((72 : Int32) + p2).toNatClampNeg).toInt64)) (fun st4 => ck_ (fo_in ((88 : Int32) + p2) 5540) (lt_ (sl_ st4 18 (4 : Int32).toNatClampNeg ((gi_ st4 2 ((88 : Int32) + p2).toNatClampNeg).toInt64)) (fun st5 => lt_ (sl_ st5 18 (5 : Int32).toNatClampNeg (p3.toInt64)) (fun st6 => lt_ (sl_ st6 18 (6 : Int32).toNatClampNeg (p4.toInt64)) (fun st7 => lt_ (sl_ st7 18 (7 : Int32).toNatClampNeg (p5.toInt64)) (fun st8 => bd_ (fX5_term (0 : Int32) st8) (fun x9 st10 => lt_ (sl_ st10 18 (8 : Int32).toNatClampNeg (x9.toInt64)) (fun st11 => bd_ (fX5_term (4 : Int32) st11) (fun x12 st13 => lt_ (sl_ st13 18 (9 : Int32).toNatClampNeg (x12.toInt64)) (fun st14 => jn_ (fun (x15 : Int64) => lt_ (sl_ st14 18 (10 : Int32).toNatClampNeg x15) (fun st17 => jn_ (fun (x18 : Int64) => lt_ (sl_ st17 18 (11 : Int32).toNatClampNeg x18) (fun st20 => lp3_ (fun rec24 (x21 : Int32) (x22 : Int64) (st23 : fo_St) => ck_ (fo_in ((gi_ st23 0 34) + (1 : Int32)) 5540) (if (gi_ st23 2 ((gi_ st23 0 34) + (1 : Int32)).toNatClampNeg) ≤ x21 then some (x22, st23) else lI_ (((gi_ st23 0 34) + (2 : Int32)) + ((8 : Int32) * x21)) (fun x25 => ck_ (fo_in x25 5540) (if ¬ (gi_ st23 2 x25.toNatClampNeg) = p1 then rec24 (x21 + (1 : Int32)) x22 st23 else bd_ (fX5_isSo G x25 st23) (fun x26 st27 => if x26 = 0 then rec24 (x21 + (1 : Int32)) x22 st27 else if (3 : Int32) ≤ p1 then rec24 (x21 + (1 : Int32)) (1 : Int64) st27 else lL_ (gl_ st27 0 40) (fun x28 => rec24 (x21 + (1 : Int32)) x28 st27)))))) G (0 : Int32) p6 st20)) (fun k19 => if ¬ p3 = (-1 : Int32) then ck_ (fo_in (((104 : Int32) + ((2 : Int32) * p3)) + (1 : Int32)) 5540) (k19 ((gi_ st17 2 (((104 : Int32) + ((2 : Int32) * p3)) + (1 : Int32)).toNatClampNeg).toInt64)) else k19 (-1 : Int64)))) (fun k16 => if ¬ p3 = (-1 : Int32) then ck_ (fo_in ((104 : Int32) + ((2 : Int32) * p3)) 5540) (k16 ((gi_ st14 2 ((104 : Int32) + ((2 : Int32) * p3)).toNatClampNeg).toInt64)) else k16 (-1 : Int64))))))))))))))))) else some (p6, st0)
theorem hm_X5_tells : fo_M yX5_tells 6 := ⟨by decide +kernel, by decide +kernel, by decide +kernel, by decide +kernel⟩
set_option maxHeartbeats 4000000 in
theorem wX5_tells (l : Launch) (E : fo_E) (hE : ∀ n, et E n = tM_ n) (G : Nat) (p1 : Int32) (p2 : Int32) (p3 : Int32) (p4 : Int32) (p5 : Int32) (p6 : Int64) (st0 : fo_St) (rZ : Int64) (stZ : fo_St) (hf : fX5_tells G p1 p2 p3 p4 p5 p6 st0 = some (rZ, stZ)) : CTl l E yX5_tells (ws_ yX5_tells cX5_tells 12 (some .long)) ({ frames := 3, cells := 0, slots := 0, locals := 72 }) [.ref (eb E + 0), .int p1, .int p2, .int p3, .int p4, .int p5, .long p6] st0 rZ stZ := by
  refine fe_l hm_X5_tells (Nat.le_of_ble_eq_true rfl) (fun p e R s m args below meth c Q hRf hRl X hend ls hl hw => ?_)
  have hx := X.1.1
  have hb := X.1.2.1
  have hl : lv_has ls 12 [(0, .ref (eb E + 0)), (1, .int p1), (2, .int p2), (3, .int p3), (4, .int p4), (5, .int p5), (6, .long p6)] := hl
  unfold fX5_tells at hf
  generalize s.heap = H at hw ⊢
  generalize ([] : List Loc) = locs at hw ⊢
  refine lv_aload_n hx hb dX5_tells_0 rfl (lv_at hl 0 rfl) ?_
  refine fo_gets X hw fc_X5 (hm0 hE) (k := 3) (d := 2) (n2 := 2) (by decide) rfl rfl q1521 dX5_tells_1 ?_
  refine lv_iconst (v := (2 : Int32)) hx hb dX5_tells_4 (by decide) ?_
  refine fo_ialdK X hw (hm2 hE) dX5_tells_5 (by decide) ?_
  refine lv_iconst (v := (-1 : Int32)) hx hb dX5_tells_6 (by decide) ?_
  refine fb_ine (tgt := 13) hx hb dX5_tells_7 (by decide) hf (fun hf => ?_) (fun hf => ?_)
  · refine lv_aload_n hx hb dX5_tells_13 rfl (lv_at hl 0 rfl) ?_
    refine lv_sipush (v := (140 : Int32)) hx hb dX5_tells_14 (by decide) ?_
    refine lv_sipush (v := (900 : Int32)) hx hb dX5_tells_17 (by decide) ?_
    refine lv_aload_n hx hb dX5_tells_20 rfl (lv_at hl 0 rfl) ?_
    refine fo_gets X hw fc_X5 (hm0 hE) (k := 3) (d := 2) (n2 := 2) (by decide) rfl rfl q1521 dX5_tells_21 ?_
    refine lv_iconst (v := (2 : Int32)) hx hb dX5_tells_24 (by decide) ?_
    refine fo_ialdK X hw (hm2 hE) dX5_tells_25 (by decide) ?_
    refine lv_imul hx hb dX5_tells_26 ?_
    refine lv_iadd hx hb dX5_tells_27 ?_
    refine fo_puti X hw fc_X5 (hm0 hE) (k := 34) (by decide) rfl rfl q1552 ⟨rfl, rfl⟩ dX5_tells_28 hf (fun st1 H locs hw hf => ?_)
    refine lv_aload_n hx hb dX5_tells_31 rfl (lv_at hl 0 rfl) ?_
    refine fo_gets X hw fc_X5 (hm0 hE) (k := 35) (d := 18) (n2 := 18) (by decide) rfl rfl q1553 dX5_tells_32 ?_
    refine lv_iconst (v := (1 : Int32)) hx hb dX5_tells_35 (by decide) ?_
    refine lv_iload_n hx hb dX5_tells_36 rfl (lv_at hl 2 rfl) ?_
    refine lv_i2l (v := p2.toInt64) hx hb dX5_tells_37 rfl ?_
    refine fo_lastK X hw (hm18 hE) dX5_tells_38 (by decide) hf (fun st2 H locs hw hf => ?_)
    refine lv_aload_n hx hb dX5_tells_39 rfl (lv_at hl 0 rfl) ?_
    refine fo_gets X hw fc_X5 (hm0 hE) (k := 35) (d := 18) (n2 := 18) (by decide) rfl rfl q1553 dX5_tells_40 ?_
    refine lv_iconst (v := (2 : Int32)) hx hb dX5_tells_43 (by decide) ?_
    refine lv_aload_n hx hb dX5_tells_44 rfl (lv_at hl 0 rfl) ?_
    refine fo_gets X hw fc_X5 (hm0 hE) (k := 3) (d := 2) (n2 := 2) (by decide) rfl rfl q1521 dX5_tells_45 ?_
    refine lv_bipush (v := (56 : Int32)) hx hb dX5_tells_48 (by decide) ?_
    refine lv_iload_n hx hb dX5_tells_50 rfl (lv_at hl 2 rfl) ?_
    refine lv_iadd hx hb dX5_tells_51 ?_
    refine fo_iald X hw (hm2 hE) dX5_tells_52 hf (fun hf => ?_)
    refine lv_i2l (v := (gi_ st2 2 ((56 : Int32) + p2).toNatClampNeg).toInt64) hx hb dX5_tells_53 rfl ?_
    refine fo_lastK X hw (hm18 hE) dX5_tells_54 (by decide) hf (fun st3 H locs hw hf => ?_)
    refine lv_aload_n hx hb dX5_tells_55 rfl (lv_at hl 0 rfl) ?_
    refine fo_gets X hw fc_X5 (hm0 hE) (k := 35) (d := 18) (n2 := 18) (by decide) rfl rfl q1553 dX5_tells_56 ?_
    refine lv_iconst (v := (3 : Int32)) hx hb dX5_tells_59 (by decide) ?_
    refine lv_aload_n hx hb dX5_tells_60 rfl (lv_at hl 0 rfl) ?_
    refine fo_gets X hw fc_X5 (hm0 hE) (k := 3) (d := 2) (n2 := 2) (by decide) rfl rfl q1521 dX5_tells_61 ?_
    refine lv_bipush (v := (72 : Int32)) hx hb dX5_tells_64 (by decide) ?_
    refine lv_iload_n hx hb dX5_tells_66 rfl (lv_at hl 2 rfl) ?_
    refine lv_iadd hx hb dX5_tells_67 ?_
    refine fo_iald X hw (hm2 hE) dX5_tells_68 hf (fun hf => ?_)
    refine lv_i2l (v := (gi_ st3 2 ((72 : Int32) + p2).toNatClampNeg).toInt64) hx hb dX5_tells_69 rfl ?_
    refine fo_lastK X hw (hm18 hE) dX5_tells_70 (by decide) hf (fun st4 H locs hw hf => ?_)
    refine lv_aload_n hx hb dX5_tells_71 rfl (lv_at hl 0 rfl) ?_
    refine fo_gets X hw fc_X5 (hm0 hE) (k := 35) (d := 18) (n2 := 18) (by decide) rfl rfl q1553 dX5_tells_72 ?_
    refine lv_iconst (v := (4 : Int32)) hx hb dX5_tells_75 (by decide) ?_
    refine lv_aload_n hx hb dX5_tells_76 rfl (lv_at hl 0 rfl) ?_
    refine fo_gets X hw fc_X5 (hm0 hE) (k := 3) (d := 2) (n2 := 2) (by decide) rfl rfl q1521 dX5_tells_77 ?_
    refine lv_bipush (v := (88 : Int32)) hx hb dX5_tells_80 (by decide) ?_
    refine lv_iload_n hx hb dX5_tells_82 rfl (lv_at hl 2 rfl) ?_
    refine lv_iadd hx hb dX5_tells_83 ?_
    refine fo_iald X hw (hm2 hE) dX5_tells_84 hf (fun hf => ?_)
    refine lv_i2l (v := (gi_ st4 2 ((88 : Int32) + p2).toNatClampNeg).toInt64) hx hb dX5_tells_85 rfl ?_
    refine fo_lastK X hw (hm18 hE) dX5_tells_86 (by decide) hf (fun st5 H locs hw hf => ?_)
    refine lv_aload_n hx hb dX5_tells_87 rfl (lv_at hl 0 rfl) ?_
    refine fo_gets X hw fc_X5 (hm0 hE) (k := 35) (d := 18) (n2 := 18) (by decide) rfl rfl q1553 dX5_tells_88 ?_
    refine lv_iconst (v := (5 : Int32)) hx hb dX5_tells_91 (by decide) ?_
    refine lv_iload_n hx hb dX5_tells_92 rfl (lv_at hl 3 rfl) ?_
    refine lv_i2l (v := p3.toInt64) hx hb dX5_tells_93 rfl ?_
    refine fo_lastK X hw (hm18 hE) dX5_tells_94 (by decide) hf (fun st6 H locs hw hf => ?_)
    refine lv_aload_n hx hb dX5_tells_95 rfl (lv_at hl 0 rfl) ?_
    refine fo_gets X hw fc_X5 (hm0 hE) (k := 35) (d := 18) (n2 := 18) (by decide) rfl rfl q1553 dX5_tells_96 ?_
    refine lv_bipush (v := (6 : Int32)) hx hb dX5_tells_99 (by decide) ?_
    refine lv_iload hx hb dX5_tells_101 (lv_at hl 4 rfl) ?_
    refine lv_i2l (v := p4.toInt64) hx hb dX5_tells_103 rfl ?_
    refine fo_lastK X hw (hm18 hE) dX5_tells_104 (by decide) hf (fun st7 H locs hw hf => ?_)
    refine lv_aload_n hx hb dX5_tells_105 rfl (lv_at hl 0 rfl) ?_
    refine fo_gets X hw fc_X5 (hm0 hE) (k := 35) (d := 18) (n2 := 18) (by decide) rfl rfl q1553 dX5_tells_106 ?_
    refine lv_bipush (v := (7 : Int32)) hx hb dX5_tells_109 (by decide) ?_
    refine lv_iload hx hb dX5_tells_111 (lv_at hl 5 rfl) ?_
    refine lv_i2l (v := p5.toInt64) hx hb dX5_tells_113 rfl ?_
    refine fo_lastK X hw (hm18 hE) dX5_tells_114 (by decide) hf (fun st8 H locs hw hf => ?_)
    refine lv_aload_n hx hb dX5_tells_115 rfl (lv_at hl 0 rfl) ?_
    refine fo_gets X hw fc_X5 (hm0 hE) (k := 35) (d := 18) (n2 := 18) (by decide) rfl rfl q1553 dX5_tells_116 ?_
    refine lv_bipush (v := (8 : Int32)) hx hb dX5_tells_119 (by decide) ?_
    refine lv_aload_n hx hb dX5_tells_121 rfl (lv_at hl 0 rfl) ?_
    refine lv_iconst (v := (0 : Int32)) hx hb dX5_tells_122 (by decide) ?_
    refine fc_Vi (rest := [.int (8 : Int32), .ref (eb E + 18)]) (As := [.int (0 : Int32)]) X hw hm_X5_term (lw_V q1774 q1776 qs47 q121 q1777) ⟨rfl, rfl⟩ ⟨by rw [hRf]; exact Nat.le_of_ble_eq_true rfl, by rw [hRl]; exact Nat.le_of_ble_eq_true rfl⟩ fc_X5 rfl (hm0 hE) rfl rfl hl.1 (Nat.le_of_ble_eq_true rfl) dX5_tells_123 (fun rQ stQ hQ => wX5_term l E hE (0 : Int32) st8 rQ stQ hQ) hf (fun x9 st10 H locs hw hf => ?_)
    refine lv_i2l (v := x9.toInt64) hx hb dX5_tells_126 rfl ?_
    refine fo_lastK X hw (hm18 hE) dX5_tells_127 (by decide) hf (fun st11 H locs hw hf => ?_)
    refine lv_aload_n hx hb dX5_tells_128 rfl (lv_at hl 0 rfl) ?_
    refine fo_gets X hw fc_X5 (hm0 hE) (k := 35) (d := 18) (n2 := 18) (by decide) rfl rfl q1553 dX5_tells_129 ?_
    refine lv_bipush (v := (9 : Int32)) hx hb dX5_tells_132 (by decide) ?_
    refine lv_aload_n hx hb dX5_tells_134 rfl (lv_at hl 0 rfl) ?_
    refine lv_iconst (v := (4 : Int32)) hx hb dX5_tells_135 (by decide) ?_
    refine fc_Vi (rest := [.int (9 : Int32), .ref (eb E + 18)]) (As := [.int (4 : Int32)]) X hw hm_X5_term (lw_V q1774 q1776 qs47 q121 q1777) ⟨rfl, rfl⟩ ⟨by rw [hRf]; exact Nat.le_of_ble_eq_true rfl, by rw [hRl]; exact Nat.le_of_ble_eq_true rfl⟩ fc_X5 rfl (hm0 hE) rfl rfl hl.1 (Nat.le_of_ble_eq_true rfl) dX5_tells_136 (fun rQ stQ hQ => wX5_term l E hE (4 : Int32) st11 rQ stQ hQ) hf (fun x12 st13 H locs hw hf => ?_)
    refine lv_i2l (v := x12.toInt64) hx hb dX5_tells_139 rfl ?_
    refine fo_lastK X hw (hm18 hE) dX5_tells_140 (by decide) hf (fun st14 H locs hw hf => ?_)
    refine lv_aload_n hx hb dX5_tells_141 rfl (lv_at hl 0 rfl) ?_
    refine fo_gets X hw fc_X5 (hm0 hE) (k := 35) (d := 18) (n2 := 18) (by decide) rfl rfl q1553 dX5_tells_142 ?_
    refine lv_bipush (v := (10 : Int32)) hx hb dX5_tells_145 (by decide) ?_
    refine lv_iload_n hx hb dX5_tells_147 rfl (lv_at hl 3 rfl) ?_
    refine lv_iconst (v := (-1 : Int32)) hx hb dX5_tells_148 (by decide) ?_
    refine jn_e hf (fun k16 ek hf => ?_)
    have hk16 : ∀ (x15 : Int64) (H : Heap) (locs : List Loc) (ls : Array Slot), lv_has ls 12 [(0, .ref (eb E + 0)), (1, .int p1), (3, .int p3), (6, .long p6)] → fo_S E s st14 H locs → k16 x15 = some (rZ, stZ) → W p l e R s m args below meth c H locs 0 0 Q (F0 m 170 ls [.long x15, .int (10 : Int32), .ref (eb E + 18)]) := by
      intro x15 H locs ls hl hw hf
      rw [ek] at hf
      refine fo_lastK X hw (hm18 hE) dX5_tells_170 (by decide) hf (fun st17 H locs hw hf => ?_)
      refine lv_aload_n hx hb dX5_tells_171 rfl (lv_at hl 0 rfl) ?_
      refine fo_gets X hw fc_X5 (hm0 hE) (k := 35) (d := 18) (n2 := 18) (by decide) rfl rfl q1553 dX5_tells_172 ?_
      refine lv_bipush (v := (11 : Int32)) hx hb dX5_tells_175 (by decide) ?_
      refine lv_iload_n hx hb dX5_tells_177 rfl (lv_at hl 2 rfl) ?_
      refine lv_iconst (v := (-1 : Int32)) hx hb dX5_tells_178 (by decide) ?_
      refine jn_e hf (fun k19 ek hf => ?_)
      have hk19 : ∀ (x18 : Int64) (H : Heap) (locs : List Loc) (ls : Array Slot), lv_has ls 12 [(0, .ref (eb E + 0)), (1, .int p1), (6, .long p6)] → fo_S E s st17 H locs → k19 x18 = some (rZ, stZ) → W p l e R s m args below meth c H locs 0 0 Q (F0 m 202 ls [.long x18, .int (11 : Int32), .ref (eb E + 18)]) := by
        intro x18 H locs ls hl hw hf
        rw [ek] at hf
        refine fo_lastK X hw (hm18 hE) dX5_tells_202 (by decide) hf (fun st20 H locs hw hf => ?_)
        refine lv_lload hx hb dX5_tells_203 (lv_at hl 2 rfl) ?_
        refine lv_lstore (lv' := [(8, .long p6), (0, .ref (eb E + 0)), (1, .int p1), (6, .long p6)]) hx hb dX5_tells_205 hl (by decide) rfl (fun ls hl => ?_)
        refine lv_iconst (v := (0 : Int32)) hx hb dX5_tells_207 (by decide) ?_
        refine lv_istore (lv' := [(10, .int (0 : Int32)), (8, .long p6), (0, .ref (eb E + 0)), (1, .int p1), (6, .long p6)]) hx hb dX5_tells_208 hl (by decide) rfl (fun ls hl => ?_)
        refine lp3_e (P := fun x21 x22 st23 => ∀ (H : Heap) (locs : List Loc) (ls : Array Slot), lv_has ls 12 [(10, .int x21), (8, .long x22), (0, .ref (eb E + 0)), (1, .int p1)] → fo_S E s st23 H locs → W p l e R s m args below meth c H locs 0 0 Q (F0 m 210 ls [])) (fun rec24 hrec24 x21 x22 st23 hf => ?_) G _ _ _ hf H locs ls (lv_sub hl [0, 1, 2, 3] rfl) hw
        intro H locs ls hl hw
        refine lv_iload hx hb dX5_tells_210 (lv_at hl 0 rfl) ?_
        refine lv_aload_n hx hb dX5_tells_212 rfl (lv_at hl 2 rfl) ?_
        refine fo_gets X hw fc_X5 (hm0 hE) (k := 3) (d := 2) (n2 := 2) (by decide) rfl rfl q1521 dX5_tells_213 ?_
        refine lv_aload_n hx hb dX5_tells_216 rfl (lv_at hl 2 rfl) ?_
        refine fo_geti X hw fc_X5 (hm0 hE) (k := 34) (by decide) rfl q1552 dX5_tells_217 ?_
        refine lv_iconst (v := (1 : Int32)) hx hb dX5_tells_220 (by decide) ?_
        refine lv_iadd hx hb dX5_tells_221 ?_
        refine fo_iald X hw (hm2 hE) dX5_tells_222 hf (fun hf => ?_)
        refine fb_ige (tgt := 281) hx hb dX5_tells_223 (by decide) hf (fun hf => ?_) (fun hf => ?_)
        · refine lv_lload hx hb dX5_tells_281 (lv_at hl 1 rfl) ?_
          exact fd_l hend hw hf dX5_tells_283
        refine lv_aload_n hx hb dX5_tells_226 rfl (lv_at hl 2 rfl) ?_
        refine fo_geti X hw fc_X5 (hm0 hE) (k := 34) (by decide) rfl q1552 dX5_tells_227 ?_
        refine lv_iconst (v := (2 : Int32)) hx hb dX5_tells_230 (by decide) ?_
        refine lv_iadd hx hb dX5_tells_231 ?_
        refine lv_bipush (v := (8 : Int32)) hx hb dX5_tells_232 (by decide) ?_
        refine lv_iload hx hb dX5_tells_234 (lv_at hl 0 rfl) ?_
        refine lv_imul hx hb dX5_tells_236 ?_
        refine lv_iadd hx hb dX5_tells_237 ?_
        refine fo_tI hf (fun x25 hf => ?_)
        refine lv_istore (lv' := [(11, .int x25), (10, .int x21), (8, .long x22), (0, .ref (eb E + 0)), (1, .int p1)]) hx hb dX5_tells_238 hl (by decide) rfl (fun ls hl => ?_)
        refine lv_aload_n hx hb dX5_tells_240 rfl (lv_at hl 3 rfl) ?_
        refine fo_gets X hw fc_X5 (hm0 hE) (k := 3) (d := 2) (n2 := 2) (by decide) rfl rfl q1521 dX5_tells_241 ?_
        refine lv_iload hx hb dX5_tells_244 (lv_at hl 0 rfl) ?_
        refine fo_iald X hw (hm2 hE) dX5_tells_246 hf (fun hf => ?_)
        refine lv_iload_n hx hb dX5_tells_247 rfl (lv_at hl 4 rfl) ?_
        refine fb_ine (tgt := 275) hx hb dX5_tells_248 (by decide) hf (fun hf => ?_) (fun hf => ?_)
        · refine fb_iinc (v := (1 : Int32)) (lv' := [(10, .int (x21 + (1 : Int32))), (11, .int x25), (8, .long x22), (0, .ref (eb E + 0)), (1, .int p1)]) hx hb dX5_tells_275 hl (k := 1) rfl (by decide) (by decide) rfl (fun ls hl => ?_)
          refine lv_goto (tgt := 210) hx hb dX5_tells_278 (by decide) ?_
          exact hrec24 _ _ _ hf _ _ _ (lv_sub hl [0, 2, 3, 4] rfl) hw
        refine lv_aload_n hx hb dX5_tells_251 rfl (lv_at hl 3 rfl) ?_
        refine lv_iload hx hb dX5_tells_252 (lv_at hl 0 rfl) ?_
        refine fc_Vi (rest := []) (As := [.int x25]) X hw hm_X5_isSo (lw_V q1779 q1781 qs48 q121 q1782) ⟨rfl, rfl⟩ ⟨by rw [hRf]; exact Nat.le_of_ble_eq_true rfl, by rw [hRl]; exact Nat.le_of_ble_eq_true rfl⟩ fc_X5 rfl (hm0 hE) rfl rfl hl.1 (Nat.le_of_ble_eq_true rfl) dX5_tells_254 (fun rQ stQ hQ => wX5_isSo l E hE G x25 st23 rQ stQ hQ) hf (fun x26 st27 H locs hw hf => ?_)
        refine fb_zeq (tgt := 275) hx hb dX5_tells_257 (by decide) hf (fun hf => ?_) (fun hf => ?_)
        · refine fb_iinc (v := (1 : Int32)) (lv' := [(10, .int (x21 + (1 : Int32))), (11, .int x25), (8, .long x22), (0, .ref (eb E + 0)), (1, .int p1)]) hx hb dX5_tells_275 hl (k := 1) rfl (by decide) (by decide) rfl (fun ls hl => ?_)
          refine lv_goto (tgt := 210) hx hb dX5_tells_278 (by decide) ?_
          exact hrec24 _ _ _ hf _ _ _ (lv_sub hl [0, 2, 3, 4] rfl) hw
        refine lv_iload_n hx hb dX5_tells_260 rfl (lv_at hl 4 rfl) ?_
        refine lv_iconst (v := (3 : Int32)) hx hb dX5_tells_261 (by decide) ?_
        refine fb_ige (tgt := 272) hx hb dX5_tells_262 (by decide) hf (fun hf => ?_) (fun hf => ?_)
        · refine lv_lconst (v := (1 : Int64)) hx hb dX5_tells_272 rfl ?_
          refine lv_lstore (lv' := [(8, .long (1 : Int64)), (11, .int x25), (10, .int x21), (0, .ref (eb E + 0)), (1, .int p1)]) hx hb dX5_tells_273 hl (by decide) rfl (fun ls hl => ?_)
          refine fb_iinc (v := (1 : Int32)) (lv' := [(10, .int (x21 + (1 : Int32))), (8, .long (1 : Int64)), (11, .int x25), (0, .ref (eb E + 0)), (1, .int p1)]) hx hb dX5_tells_275 hl (k := 2) rfl (by decide) (by decide) rfl (fun ls hl => ?_)
          refine lv_goto (tgt := 210) hx hb dX5_tells_278 (by decide) ?_
          exact hrec24 _ _ _ hf _ _ _ (lv_sub hl [0, 1, 3, 4] rfl) hw
        refine lv_aload_n hx hb dX5_tells_265 rfl (lv_at hl 3 rfl) ?_
        refine fo_getl X hw fc_X5 (hm0 hE) (k := 40) (by decide) rfl q1558 dX5_tells_266 ?_
        refine lv_goto (tgt := 273) hx hb dX5_tells_269 (by decide) ?_
        refine fo_tL hf (fun x28 hf => ?_)
        refine lv_lstore (lv' := [(8, .long x28), (11, .int x25), (10, .int x21), (0, .ref (eb E + 0)), (1, .int p1)]) hx hb dX5_tells_273 hl (by decide) rfl (fun ls hl => ?_)
        refine fb_iinc (v := (1 : Int32)) (lv' := [(10, .int (x21 + (1 : Int32))), (8, .long x28), (11, .int x25), (0, .ref (eb E + 0)), (1, .int p1)]) hx hb dX5_tells_275 hl (k := 2) rfl (by decide) (by decide) rfl (fun ls hl => ?_)
        refine lv_goto (tgt := 210) hx hb dX5_tells_278 (by decide) ?_
        exact hrec24 _ _ _ hf _ _ _ (lv_sub hl [0, 1, 3, 4] rfl) hw
      clear ek
      refine fb_ine (tgt := 188) hx hb dX5_tells_179 (by decide) hf (fun hf => ?_) (fun hf => ?_)
      · refine lv_aload_n hx hb dX5_tells_188 rfl (lv_at hl 0 rfl) ?_
        refine fo_gets X hw fc_X5 (hm0 hE) (k := 3) (d := 2) (n2 := 2) (by decide) rfl rfl q1521 dX5_tells_189 ?_
        refine lv_bipush (v := (104 : Int32)) hx hb dX5_tells_192 (by decide) ?_
        refine lv_iconst (v := (2 : Int32)) hx hb dX5_tells_194 (by decide) ?_
        refine lv_iload_n hx hb dX5_tells_195 rfl (lv_at hl 2 rfl) ?_
        refine lv_imul hx hb dX5_tells_196 ?_
        refine lv_iadd hx hb dX5_tells_197 ?_
        refine lv_iconst (v := (1 : Int32)) hx hb dX5_tells_198 (by decide) ?_
        refine lv_iadd hx hb dX5_tells_199 ?_
        refine fo_iald X hw (hm2 hE) dX5_tells_200 hf (fun hf => ?_)
        refine lv_i2l (v := (gi_ st17 2 (((104 : Int32) + ((2 : Int32) * p3)) + (1 : Int32)).toNatClampNeg).toInt64) hx hb dX5_tells_201 rfl ?_
        exact hk19 _ _ _ _ (lv_sub hl [0, 1, 3] rfl) hw hf
      refine lv_ldc2 (v := (-1 : Int64)) hx hb X.1.2.2.2.1 (X.1.2.2.2.2 _ q1778) dX5_tells_182 ?_
      refine lv_goto (tgt := 202) hx hb dX5_tells_185 (by decide) ?_
      exact hk19 _ _ _ _ (lv_sub hl [0, 1, 3] rfl) hw hf
    clear ek
    refine fb_ine (tgt := 158) hx hb dX5_tells_149 (by decide) hf (fun hf => ?_) (fun hf => ?_)
    · refine lv_aload_n hx hb dX5_tells_158 rfl (lv_at hl 0 rfl) ?_
      refine fo_gets X hw fc_X5 (hm0 hE) (k := 3) (d := 2) (n2 := 2) (by decide) rfl rfl q1521 dX5_tells_159 ?_
      refine lv_bipush (v := (104 : Int32)) hx hb dX5_tells_162 (by decide) ?_
      refine lv_iconst (v := (2 : Int32)) hx hb dX5_tells_164 (by decide) ?_
      refine lv_iload_n hx hb dX5_tells_165 rfl (lv_at hl 3 rfl) ?_
      refine lv_imul hx hb dX5_tells_166 ?_
      refine lv_iadd hx hb dX5_tells_167 ?_
      refine fo_iald X hw (hm2 hE) dX5_tells_168 hf (fun hf => ?_)
      refine lv_i2l (v := (gi_ st14 2 ((104 : Int32) + ((2 : Int32) * p3)).toNatClampNeg).toInt64) hx hb dX5_tells_169 rfl ?_
      exact hk16 _ _ _ _ (lv_sub hl [0, 1, 3, 6] rfl) hw hf
    refine lv_ldc2 (v := (-1 : Int64)) hx hb X.1.2.2.2.1 (X.1.2.2.2.2 _ q1778) dX5_tells_152 ?_
    refine lv_goto (tgt := 170) hx hb dX5_tells_155 (by decide) ?_
    exact hk16 _ _ _ _ (lv_sub hl [0, 1, 3, 6] rfl) hw hf
  refine lv_lload hx hb dX5_tells_10 (lv_at hl 6 rfl) ?_
  exact fd_l hend hw hf dX5_tells_12

/-- ForestRoomsModel.within -/
def fX5_within (p1 : Int64) (p2 : Int32) (p3 : Int32) (st0 : fo_St) : Option (Int32 × fo_St) := if p2.toInt64 ≤ p1 then if p1 ≤ p3.toInt64 then some (p1.toInt32, st0) else some (p3, st0) else some (p2, st0)
theorem hm_X5_within : fo_M yX5_within 3 := ⟨by decide +kernel, by decide +kernel, by decide +kernel, by decide +kernel⟩
set_option maxHeartbeats 4000000 in
theorem wX5_within (l : Launch) (E : fo_E) (hE : ∀ n, et E n = tM_ n) (p1 : Int64) (p2 : Int32) (p3 : Int32) (st0 : fo_St) (rZ : Int32) (stZ : fo_St) (hf : fX5_within p1 p2 p3 st0 = some (rZ, stZ)) : CTi l E yX5_within (ws_ yX5_within cX5_within 4 (some .int)) ({ frames := 0, cells := 0, slots := 0, locals := 0 }) [.long p1, .int p2, .int p3] st0 rZ stZ := by
  refine fe_i hm_X5_within (Nat.le_of_ble_eq_true rfl) (fun p e R s m args below meth c Q hRf hRl X hend ls hl hw => ?_)
  have hx := X.1.1
  have hb := X.1.2.1
  have hl : lv_has ls 4 [(0, .long p1), (2, .int p2), (3, .int p3)] := hl
  unfold fX5_within at hf
  generalize s.heap = H at hw ⊢
  generalize ([] : List Loc) = locs at hw ⊢
  refine lv_lload_n hx hb dX5_within_0 rfl (lv_at hl 0 rfl) ?_
  refine lv_iload_n hx hb dX5_within_1 rfl (lv_at hl 1 rfl) ?_
  refine lv_i2l (v := p2.toInt64) hx hb dX5_within_2 rfl ?_
  refine fb_lge (tgt := 11) hx hb dX5_within_3 dX5_within_4 (by decide) hf (fun hf => ?_) (fun hf => ?_)
  · refine lv_lload_n hx hb dX5_within_11 rfl (lv_at hl 0 rfl) ?_
    refine lv_iload_n hx hb dX5_within_12 rfl (lv_at hl 2 rfl) ?_
    refine lv_i2l (v := p3.toInt64) hx hb dX5_within_13 rfl ?_
    refine fb_lle (tgt := 22) hx hb dX5_within_14 dX5_within_15 (by decide) hf (fun hf => ?_) (fun hf => ?_)
    · refine lv_lload_n hx hb dX5_within_22 rfl (lv_at hl 0 rfl) ?_
      refine lv_l2i (v := p1.toInt32) hx hb dX5_within_23 rfl ?_
      exact fd_i hend hw hf dX5_within_24
    refine lv_iload_n hx hb dX5_within_18 rfl (lv_at hl 2 rfl) ?_
    refine lv_goto (tgt := 24) hx hb dX5_within_19 (by decide) ?_
    exact fd_i hend hw hf dX5_within_24
  refine lv_iload_n hx hb dX5_within_7 rfl (lv_at hl 1 rfl) ?_
  refine lv_goto (tgt := 24) hx hb dX5_within_8 (by decide) ?_
  exact fd_i hend hw hf dX5_within_24

/-- ForestRoomsModel.growsOf -/
def fX5_growsOf (G : Nat) (p1 : Int32) (st0 : fo_St) : Option (Int32 × fo_St) := ck_ (fo_in ((8 : Int32) + p1) 5540) (lI_ (gi_ st0 2 ((8 : Int32) + p1).toNatClampNeg) (fun x1 => ck_ (fo_in ((24 : Int32) + p1) 5540) (bd_ (fX5_hasItsNeeds x1 p1 st0) (fun x2 st3 => jn_ (fun (x4 : Int64) => bd_ (fX5_tells G (0 : Int32) p1 x1 (gi_ st0 2 ((24 : Int32) + p1).toNatClampNeg) (-1 : Int32) x4 st3) (fun x6 st7 => bd_ (fX5_within x6 (0 : Int32) (20 : Int32) st7) (fun x8 st9 => some (x8, st9)))) (fun k5 => if x2 = 0 then k5 (0 : Int64) else k5 (3 : Int64))))))
theorem hm_X5_growsOf : fo_M yX5_growsOf 1 := ⟨by decide +kernel, by decide +kernel, by decide +kernel, by decide +kernel⟩
set_option maxHeartbeats 4000000 in
theorem wX5_growsOf (l : Launch) (E : fo_E) (hE : ∀ n, et E n = tM_ n) (G : Nat) (p1 : Int32) (st0 : fo_St) (rZ : Int32) (stZ : fo_St) (hf : fX5_growsOf G p1 st0 = some (rZ, stZ)) : CTi l E yX5_growsOf (ws_ yX5_growsOf cX5_growsOf 3 (some .int)) ({ frames := 4, cells := 0, slots := 0, locals := 103 }) [.ref (eb E + 0), .int p1] st0 rZ stZ := by
  refine fe_i hm_X5_growsOf (Nat.le_of_ble_eq_true rfl) (fun p e R s m args below meth c Q hRf hRl X hend ls hl hw => ?_)
  have hx := X.1.1
  have hb := X.1.2.1
  have hl : lv_has ls 3 [(0, .ref (eb E + 0)), (1, .int p1)] := hl
  unfold fX5_growsOf at hf
  generalize s.heap = H at hw ⊢
  generalize ([] : List Loc) = locs at hw ⊢
  refine lv_aload_n hx hb dX5_growsOf_0 rfl (lv_at hl 0 rfl) ?_
  refine fo_gets X hw fc_X5 (hm0 hE) (k := 3) (d := 2) (n2 := 2) (by decide) rfl rfl q1521 dX5_growsOf_1 ?_
  refine lv_bipush (v := (8 : Int32)) hx hb dX5_growsOf_4 (by decide) ?_
  refine lv_iload_n hx hb dX5_growsOf_6 rfl (lv_at hl 1 rfl) ?_
  refine lv_iadd hx hb dX5_growsOf_7 ?_
  refine fo_iald X hw (hm2 hE) dX5_growsOf_8 hf (fun hf => ?_)
  refine fo_tI hf (fun x1 hf => ?_)
  refine lv_istore_n (lv' := [(2, .int x1), (0, .ref (eb E + 0)), (1, .int p1)]) hx hb dX5_growsOf_9 rfl hl (by decide) rfl (fun ls hl => ?_)
  refine lv_aload_n hx hb dX5_growsOf_10 rfl (lv_at hl 1 rfl) ?_
  refine lv_iconst (v := (0 : Int32)) hx hb dX5_growsOf_11 (by decide) ?_
  refine lv_iload_n hx hb dX5_growsOf_12 rfl (lv_at hl 2 rfl) ?_
  refine lv_iload_n hx hb dX5_growsOf_13 rfl (lv_at hl 0 rfl) ?_
  refine lv_aload_n hx hb dX5_growsOf_14 rfl (lv_at hl 1 rfl) ?_
  refine fo_gets X hw fc_X5 (hm0 hE) (k := 3) (d := 2) (n2 := 2) (by decide) rfl rfl q1521 dX5_growsOf_15 ?_
  refine lv_bipush (v := (24 : Int32)) hx hb dX5_growsOf_18 (by decide) ?_
  refine lv_iload_n hx hb dX5_growsOf_20 rfl (lv_at hl 2 rfl) ?_
  refine lv_iadd hx hb dX5_growsOf_21 ?_
  refine fo_iald X hw (hm2 hE) dX5_growsOf_22 hf (fun hf => ?_)
  refine lv_iconst (v := (-1 : Int32)) hx hb dX5_growsOf_23 (by decide) ?_
  refine lv_aload_n hx hb dX5_growsOf_24 rfl (lv_at hl 1 rfl) ?_
  refine lv_iload_n hx hb dX5_growsOf_25 rfl (lv_at hl 0 rfl) ?_
  refine lv_iload_n hx hb dX5_growsOf_26 rfl (lv_at hl 2 rfl) ?_
  refine fc_Vi (rest := [.int (-1 : Int32), .int (gi_ st0 2 ((24 : Int32) + p1).toNatClampNeg), .int x1, .int p1, .int (0 : Int32), .ref (eb E + 0)]) (As := [.int x1, .int p1]) X hw hm_X5_hasItsNeeds (lw_V q1765 q1767 qs45 q121 q1768) ⟨rfl, rfl⟩ ⟨by rw [hRf]; exact Nat.le_of_ble_eq_true rfl, by rw [hRl]; exact Nat.le_of_ble_eq_true rfl⟩ fc_X5 rfl (hm0 hE) rfl rfl hl.1 (Nat.le_of_ble_eq_true rfl) dX5_growsOf_27 (fun rQ stQ hQ => wX5_hasItsNeeds l E hE x1 p1 st0 rQ stQ hQ) hf (fun x2 st3 H locs hw hf => ?_)
  refine jn_e hf (fun k5 ek hf => ?_)
  have hk5 : ∀ (x4 : Int64) (H : Heap) (locs : List Loc) (ls : Array Slot), lv_has ls 3 [] → fo_S E s st3 H locs → k5 x4 = some (rZ, stZ) → W p l e R s m args below meth c H locs 0 0 Q (F0 m 40 ls [.long x4, .int (-1 : Int32), .int (gi_ st0 2 ((24 : Int32) + p1).toNatClampNeg), .int x1, .int p1, .int (0 : Int32), .ref (eb E + 0)]) := by
    intro x4 H locs ls hl hw hf
    rw [ek] at hf
    refine fc_Vl (rest := []) (As := [.int (0 : Int32), .int p1, .int x1, .int (gi_ st0 2 ((24 : Int32) + p1).toNatClampNeg), .int (-1 : Int32), .long x4]) X hw hm_X5_tells (lw_V q1770 q1772 qs46 q121 q1773) ⟨rfl, rfl⟩ ⟨by rw [hRf]; exact Nat.le_of_ble_eq_true rfl, by rw [hRl]; exact Nat.le_of_ble_eq_true rfl⟩ fc_X5 rfl (hm0 hE) rfl rfl hl.1 (Nat.le_of_ble_eq_true rfl) dX5_growsOf_40 (fun rQ stQ hQ => wX5_tells l E hE G (0 : Int32) p1 x1 (gi_ st0 2 ((24 : Int32) + p1).toNatClampNeg) (-1 : Int32) x4 st3 rQ stQ hQ) hf (fun x6 st7 H locs hw hf => ?_)
    refine lv_iconst (v := (0 : Int32)) hx hb dX5_growsOf_43 (by decide) ?_
    refine lv_bipush (v := (20 : Int32)) hx hb dX5_growsOf_44 (by decide) ?_
    refine fc_Si (rest := []) (As := [.long x6, .int (0 : Int32), .int (20 : Int32)]) X hw hm_X5_within (lw_S q1793 q1794 q121 q1795) ⟨rfl, rfl⟩ ⟨by rw [hRf]; exact Nat.le_of_ble_eq_true rfl, by rw [hRl]; exact Nat.le_of_ble_eq_true rfl⟩ rfl rfl hl.1 (Nat.le_of_ble_eq_true rfl) dX5_growsOf_46 (fun rQ stQ hQ => wX5_within l E hE x6 (0 : Int32) (20 : Int32) st7 rQ stQ hQ) hf (fun x8 st9 H locs hw hf => ?_)
    exact fd_i hend hw hf dX5_growsOf_49
  clear ek
  refine fb_zeq (tgt := 39) hx hb dX5_growsOf_30 (by decide) hf (fun hf => ?_) (fun hf => ?_)
  · refine lv_lconst (v := (0 : Int64)) hx hb dX5_growsOf_39 rfl ?_
    exact hk5 _ _ _ _ (lv_sub hl [] rfl) hw hf
  refine lv_ldc2 (v := (3 : Int64)) hx hb X.1.2.2.2.1 (X.1.2.2.2.2 _ q1769) dX5_growsOf_33 ?_
  refine lv_goto (tgt := 40) hx hb dX5_growsOf_36 (by decide) ?_
  exact hk5 _ _ _ _ (lv_sub hl [] rfl) hw hf

/-- ForestRoomsModel.leavesOf -/
def fX5_leavesOf (G : Nat) (p1 : Int32) (st0 : fo_St) : Option (Int32 × fo_St) := ck_ (fo_in ((8 : Int32) + p1) 5540) (ck_ (fo_in ((24 : Int32) + p1) 5540) (ck_ (fo_in ((24 : Int32) + p1) 5540) (bd_ (fX5_tells G (2 : Int32) p1 (gi_ st0 2 ((8 : Int32) + p1).toNatClampNeg) (gi_ st0 2 ((24 : Int32) + p1).toNatClampNeg) (-1 : Int32) ((gi_ st0 2 ((24 : Int32) + p1).toNatClampNeg).toInt64) st0) (fun x1 st2 => bd_ (fX5_within x1 (0 : Int32) (999 : Int32) st2) (fun x3 st4 => some (x3, st4))))))
theorem hm_X5_leavesOf : fo_M yX5_leavesOf 1 := ⟨by decide +kernel, by decide +kernel, by decide +kernel, by decide +kernel⟩
set_option maxHeartbeats 4000000 in
theorem wX5_leavesOf (l : Launch) (E : fo_E) (hE : ∀ n, et E n = tM_ n) (G : Nat) (p1 : Int32) (st0 : fo_St) (rZ : Int32) (stZ : fo_St) (hf : fX5_leavesOf G p1 st0 = some (rZ, stZ)) : CTi l E yX5_leavesOf (ws_ yX5_leavesOf cX5_leavesOf 2 (some .int)) ({ frames := 4, cells := 0, slots := 0, locals := 103 }) [.ref (eb E + 0), .int p1] st0 rZ stZ := by
  refine fe_i hm_X5_leavesOf (Nat.le_of_ble_eq_true rfl) (fun p e R s m args below meth c Q hRf hRl X hend ls hl hw => ?_)
  have hx := X.1.1
  have hb := X.1.2.1
  have hl : lv_has ls 2 [(0, .ref (eb E + 0)), (1, .int p1)] := hl
  unfold fX5_leavesOf at hf
  generalize s.heap = H at hw ⊢
  generalize ([] : List Loc) = locs at hw ⊢
  refine lv_aload_n hx hb dX5_leavesOf_0 rfl (lv_at hl 0 rfl) ?_
  refine lv_iconst (v := (2 : Int32)) hx hb dX5_leavesOf_1 (by decide) ?_
  refine lv_iload_n hx hb dX5_leavesOf_2 rfl (lv_at hl 1 rfl) ?_
  refine lv_aload_n hx hb dX5_leavesOf_3 rfl (lv_at hl 0 rfl) ?_
  refine fo_gets X hw fc_X5 (hm0 hE) (k := 3) (d := 2) (n2 := 2) (by decide) rfl rfl q1521 dX5_leavesOf_4 ?_
  refine lv_bipush (v := (8 : Int32)) hx hb dX5_leavesOf_7 (by decide) ?_
  refine lv_iload_n hx hb dX5_leavesOf_9 rfl (lv_at hl 1 rfl) ?_
  refine lv_iadd hx hb dX5_leavesOf_10 ?_
  refine fo_iald X hw (hm2 hE) dX5_leavesOf_11 hf (fun hf => ?_)
  refine lv_aload_n hx hb dX5_leavesOf_12 rfl (lv_at hl 0 rfl) ?_
  refine fo_gets X hw fc_X5 (hm0 hE) (k := 3) (d := 2) (n2 := 2) (by decide) rfl rfl q1521 dX5_leavesOf_13 ?_
  refine lv_bipush (v := (24 : Int32)) hx hb dX5_leavesOf_16 (by decide) ?_
  refine lv_iload_n hx hb dX5_leavesOf_18 rfl (lv_at hl 1 rfl) ?_
  refine lv_iadd hx hb dX5_leavesOf_19 ?_
  refine fo_iald X hw (hm2 hE) dX5_leavesOf_20 hf (fun hf => ?_)
  refine lv_iconst (v := (-1 : Int32)) hx hb dX5_leavesOf_21 (by decide) ?_
  refine lv_aload_n hx hb dX5_leavesOf_22 rfl (lv_at hl 0 rfl) ?_
  refine fo_gets X hw fc_X5 (hm0 hE) (k := 3) (d := 2) (n2 := 2) (by decide) rfl rfl q1521 dX5_leavesOf_23 ?_
  refine lv_bipush (v := (24 : Int32)) hx hb dX5_leavesOf_26 (by decide) ?_
  refine lv_iload_n hx hb dX5_leavesOf_28 rfl (lv_at hl 1 rfl) ?_
  refine lv_iadd hx hb dX5_leavesOf_29 ?_
  refine fo_iald X hw (hm2 hE) dX5_leavesOf_30 hf (fun hf => ?_)
  refine lv_i2l (v := (gi_ st0 2 ((24 : Int32) + p1).toNatClampNeg).toInt64) hx hb dX5_leavesOf_31 rfl ?_
  refine fc_Vl (rest := []) (As := [.int (2 : Int32), .int p1, .int (gi_ st0 2 ((8 : Int32) + p1).toNatClampNeg), .int (gi_ st0 2 ((24 : Int32) + p1).toNatClampNeg), .int (-1 : Int32), .long (gi_ st0 2 ((24 : Int32) + p1).toNatClampNeg).toInt64]) X hw hm_X5_tells (lw_V q1770 q1772 qs46 q121 q1773) ⟨rfl, rfl⟩ ⟨by rw [hRf]; exact Nat.le_of_ble_eq_true rfl, by rw [hRl]; exact Nat.le_of_ble_eq_true rfl⟩ fc_X5 rfl (hm0 hE) rfl rfl hl.1 (Nat.le_of_ble_eq_true rfl) dX5_leavesOf_32 (fun rQ stQ hQ => wX5_tells l E hE G (2 : Int32) p1 (gi_ st0 2 ((8 : Int32) + p1).toNatClampNeg) (gi_ st0 2 ((24 : Int32) + p1).toNatClampNeg) (-1 : Int32) ((gi_ st0 2 ((24 : Int32) + p1).toNatClampNeg).toInt64) st0 rQ stQ hQ) hf (fun x1 st2 H locs hw hf => ?_)
  refine lv_iconst (v := (0 : Int32)) hx hb dX5_leavesOf_35 (by decide) ?_
  refine lv_sipush (v := (999 : Int32)) hx hb dX5_leavesOf_36 (by decide) ?_
  refine fc_Si (rest := []) (As := [.long x1, .int (0 : Int32), .int (999 : Int32)]) X hw hm_X5_within (lw_S q1793 q1794 q121 q1795) ⟨rfl, rfl⟩ ⟨by rw [hRf]; exact Nat.le_of_ble_eq_true rfl, by rw [hRl]; exact Nat.le_of_ble_eq_true rfl⟩ rfl rfl hl.1 (Nat.le_of_ble_eq_true rfl) dX5_leavesOf_39 (fun rQ stQ hQ => wX5_within l E hE x1 (0 : Int32) (999 : Int32) st2 rQ stQ hQ) hf (fun x3 st4 H locs hw hf => ?_)
  exact fd_i hend hw hf dX5_leavesOf_42

/-- ForestRoomsModel.at -/
def fX5_at (G : Nat) (p1 : Int32) (p2 : Int32) (st0 : fo_St) : Option (Int32 × fo_St) := lt_ (si_ st0 0 0 (0 : Int32)) (fun st1 => bd_ (fX5_isRoom p1 st1) (fun x2 st3 => if ¬ x2 = 0 then if p2 = (0 : Int32) then ck_ (fo_in (((56 : Int32) + ((16 : Int32) * p2)) + p1) 5540) (some ((gi_ st3 2 (((56 : Int32) + ((16 : Int32) * p2)) + p1).toNatClampNeg), st3)) else if p2 = (1 : Int32) then ck_ (fo_in (((56 : Int32) + ((16 : Int32) * p2)) + p1) 5540) (some ((gi_ st3 2 (((56 : Int32) + ((16 : Int32) * p2)) + p1).toNatClampNeg), st3)) else if p2 = (2 : Int32) then ck_ (fo_in (((56 : Int32) + ((16 : Int32) * p2)) + p1) 5540) (some ((gi_ st3 2 (((56 : Int32) + ((16 : Int32) * p2)) + p1).toNatClampNeg), st3)) else if p2 = (3 : Int32) then ck_ (fo_in ((8 : Int32) + p1) 5540) (some ((gi_ st3 2 ((8 : Int32) + p1).toNatClampNeg), st3)) else if p2 = (4 : Int32) then ck_ (fo_in ((24 : Int32) + p1) 5540) (some ((gi_ st3 2 ((24 : Int32) + p1).toNatClampNeg), st3)) else if p2 = (5 : Int32) then ck_ (fo_in ((40 : Int32) + p1) 5540) (some ((gi_ st3 2 ((40 : Int32) + p1).toNatClampNeg), st3)) else if p2 = (6 : Int32) then bd_ (fX5_isLost p1 st3) (fun x4 st5 => if x4 = 0 then some ((0 : Int32), st5) else some ((1 : Int32), st5)) else if p2 = (7 : Int32) then bd_ (fX5_isTree p1 st3) (fun x6 st7 => if x6 = 0 then some ((-1 : Int32), st7) else bd_ (fX5_growsOf G p1 st7) (fun x8 st9 => some (x8, st9))) else if p2 = (8 : Int32) then bd_ (fX5_isTree p1 st3) (fun x10 st11 => if x10 = 0 then some ((0 : Int32), st11) else bd_ (fX5_leavesOf G p1 st11) (fun x12 st13 => some (x12, st13))) else some ((-1 : Int32), st3) else some ((-1 : Int32), st3)))
theorem hm_X5_at : fo_M yX5_at 2 := ⟨by decide +kernel, by decide +kernel, by decide +kernel, by decide +kernel⟩
set_option maxHeartbeats 4000000 in
theorem wX5_at (l : Launch) (E : fo_E) (hE : ∀ n, et E n = tM_ n) (G : Nat) (p1 : Int32) (p2 : Int32) (st0 : fo_St) (rZ : Int32) (stZ : fo_St) (hf : fX5_at G p1 p2 st0 = some (rZ, stZ)) : CTi l E yX5_at (ws_ yX5_at cX5_at 3 (some .int)) ({ frames := 5, cells := 0, slots := 0, locals := 125 }) [.ref (eb E + 0), .int p1, .int p2] st0 rZ stZ := by
  refine fe_i hm_X5_at (Nat.le_of_ble_eq_true rfl) (fun p e R s m args below meth c Q hRf hRl X hend ls hl hw => ?_)
  have hx := X.1.1
  have hb := X.1.2.1
  have hl : lv_has ls 3 [(0, .ref (eb E + 0)), (1, .int p1), (2, .int p2)] := hl
  unfold fX5_at at hf
  generalize s.heap = H at hw ⊢
  generalize ([] : List Loc) = locs at hw ⊢
  refine lv_aload_n hx hb dX5_at_0 rfl (lv_at hl 0 rfl) ?_
  refine lv_iconst (v := (0 : Int32)) hx hb dX5_at_1 (by decide) ?_
  refine fo_puti X hw fc_X5 (hm0 hE) (k := 0) (by decide) rfl rfl q1518 ⟨rfl, rfl⟩ dX5_at_2 hf (fun st1 H locs hw hf => ?_)
  refine lv_iload_n hx hb dX5_at_5 rfl (lv_at hl 1 rfl) ?_
  refine fc_Si (rest := []) (As := [.int p1]) X hw hm_X5_isRoom (lw_S q1737 q1738 q121 q1739) ⟨rfl, rfl⟩ ⟨by rw [hRf]; exact Nat.le_of_ble_eq_true rfl, by rw [hRl]; exact Nat.le_of_ble_eq_true rfl⟩ rfl rfl hl.1 (Nat.le_of_ble_eq_true rfl) dX5_at_6 (fun rQ stQ hQ => wX5_isRoom l E hE p1 st1 rQ stQ hQ) hf (fun x2 st3 H locs hw hf => ?_)
  refine fb_zne (tgt := 14) hx hb dX5_at_9 (by decide) hf (fun hf => ?_) (fun hf => ?_)
  · refine lv_iload_n hx hb dX5_at_14 rfl (lv_at hl 2 rfl) ?_
    refine sw_e hf (fun e0 hf => ?_) (fun n0 hf => ?_)
    · refine lv_tableIn (tgt := 64) hx hb dX5_at_15 (by rw [e0]; decide) (by rw [e0]; decide) (off := 49) (by rw [e0]; decide) (by decide) ?_
      refine lv_aload_n hx hb dX5_at_64 rfl (lv_at hl 0 rfl) ?_
      refine fo_gets X hw fc_X5 (hm0 hE) (k := 3) (d := 2) (n2 := 2) (by decide) rfl rfl q1521 dX5_at_65 ?_
      refine lv_bipush (v := (56 : Int32)) hx hb dX5_at_68 (by decide) ?_
      refine lv_bipush (v := (16 : Int32)) hx hb dX5_at_70 (by decide) ?_
      refine lv_iload_n hx hb dX5_at_72 rfl (lv_at hl 2 rfl) ?_
      refine lv_imul hx hb dX5_at_73 ?_
      refine lv_iadd hx hb dX5_at_74 ?_
      refine lv_iload_n hx hb dX5_at_75 rfl (lv_at hl 1 rfl) ?_
      refine lv_iadd hx hb dX5_at_76 ?_
      refine fo_iald X hw (hm2 hE) dX5_at_77 hf (fun hf => ?_)
      exact fd_i hend hw hf dX5_at_78
    refine sw_e hf (fun e0 hf => ?_) (fun n1 hf => ?_)
    · refine lv_tableIn (tgt := 64) hx hb dX5_at_15 (by rw [e0]; decide) (by rw [e0]; decide) (off := 49) (by rw [e0]; decide) (by decide) ?_
      refine lv_aload_n hx hb dX5_at_64 rfl (lv_at hl 0 rfl) ?_
      refine fo_gets X hw fc_X5 (hm0 hE) (k := 3) (d := 2) (n2 := 2) (by decide) rfl rfl q1521 dX5_at_65 ?_
      refine lv_bipush (v := (56 : Int32)) hx hb dX5_at_68 (by decide) ?_
      refine lv_bipush (v := (16 : Int32)) hx hb dX5_at_70 (by decide) ?_
      refine lv_iload_n hx hb dX5_at_72 rfl (lv_at hl 2 rfl) ?_
      refine lv_imul hx hb dX5_at_73 ?_
      refine lv_iadd hx hb dX5_at_74 ?_
      refine lv_iload_n hx hb dX5_at_75 rfl (lv_at hl 1 rfl) ?_
      refine lv_iadd hx hb dX5_at_76 ?_
      refine fo_iald X hw (hm2 hE) dX5_at_77 hf (fun hf => ?_)
      exact fd_i hend hw hf dX5_at_78
    refine sw_e hf (fun e0 hf => ?_) (fun n2 hf => ?_)
    · refine lv_tableIn (tgt := 64) hx hb dX5_at_15 (by rw [e0]; decide) (by rw [e0]; decide) (off := 49) (by rw [e0]; decide) (by decide) ?_
      refine lv_aload_n hx hb dX5_at_64 rfl (lv_at hl 0 rfl) ?_
      refine fo_gets X hw fc_X5 (hm0 hE) (k := 3) (d := 2) (n2 := 2) (by decide) rfl rfl q1521 dX5_at_65 ?_
      refine lv_bipush (v := (56 : Int32)) hx hb dX5_at_68 (by decide) ?_
      refine lv_bipush (v := (16 : Int32)) hx hb dX5_at_70 (by decide) ?_
      refine lv_iload_n hx hb dX5_at_72 rfl (lv_at hl 2 rfl) ?_
      refine lv_imul hx hb dX5_at_73 ?_
      refine lv_iadd hx hb dX5_at_74 ?_
      refine lv_iload_n hx hb dX5_at_75 rfl (lv_at hl 1 rfl) ?_
      refine lv_iadd hx hb dX5_at_76 ?_
      refine fo_iald X hw (hm2 hE) dX5_at_77 hf (fun hf => ?_)
      exact fd_i hend hw hf dX5_at_78
    refine sw_e hf (fun e0 hf => ?_) (fun n3 hf => ?_)
    · refine lv_tableIn (tgt := 79) hx hb dX5_at_15 (by rw [e0]; decide) (by rw [e0]; decide) (off := 64) (by rw [e0]; decide) (by decide) ?_
      refine lv_aload_n hx hb dX5_at_79 rfl (lv_at hl 0 rfl) ?_
      refine fo_gets X hw fc_X5 (hm0 hE) (k := 3) (d := 2) (n2 := 2) (by decide) rfl rfl q1521 dX5_at_80 ?_
      refine lv_bipush (v := (8 : Int32)) hx hb dX5_at_83 (by decide) ?_
      refine lv_iload_n hx hb dX5_at_85 rfl (lv_at hl 1 rfl) ?_
      refine lv_iadd hx hb dX5_at_86 ?_
      refine fo_iald X hw (hm2 hE) dX5_at_87 hf (fun hf => ?_)
      exact fd_i hend hw hf dX5_at_88
    refine sw_e hf (fun e0 hf => ?_) (fun n4 hf => ?_)
    · refine lv_tableIn (tgt := 89) hx hb dX5_at_15 (by rw [e0]; decide) (by rw [e0]; decide) (off := 74) (by rw [e0]; decide) (by decide) ?_
      refine lv_aload_n hx hb dX5_at_89 rfl (lv_at hl 0 rfl) ?_
      refine fo_gets X hw fc_X5 (hm0 hE) (k := 3) (d := 2) (n2 := 2) (by decide) rfl rfl q1521 dX5_at_90 ?_
      refine lv_bipush (v := (24 : Int32)) hx hb dX5_at_93 (by decide) ?_
      refine lv_iload_n hx hb dX5_at_95 rfl (lv_at hl 1 rfl) ?_
      refine lv_iadd hx hb dX5_at_96 ?_
      refine fo_iald X hw (hm2 hE) dX5_at_97 hf (fun hf => ?_)
      exact fd_i hend hw hf dX5_at_98
    refine sw_e hf (fun e0 hf => ?_) (fun n5 hf => ?_)
    · refine lv_tableIn (tgt := 99) hx hb dX5_at_15 (by rw [e0]; decide) (by rw [e0]; decide) (off := 84) (by rw [e0]; decide) (by decide) ?_
      refine lv_aload_n hx hb dX5_at_99 rfl (lv_at hl 0 rfl) ?_
      refine fo_gets X hw fc_X5 (hm0 hE) (k := 3) (d := 2) (n2 := 2) (by decide) rfl rfl q1521 dX5_at_100 ?_
      refine lv_bipush (v := (40 : Int32)) hx hb dX5_at_103 (by decide) ?_
      refine lv_iload_n hx hb dX5_at_105 rfl (lv_at hl 1 rfl) ?_
      refine lv_iadd hx hb dX5_at_106 ?_
      refine fo_iald X hw (hm2 hE) dX5_at_107 hf (fun hf => ?_)
      exact fd_i hend hw hf dX5_at_108
    refine sw_e hf (fun e0 hf => ?_) (fun n6 hf => ?_)
    · refine lv_tableIn (tgt := 109) hx hb dX5_at_15 (by rw [e0]; decide) (by rw [e0]; decide) (off := 94) (by rw [e0]; decide) (by decide) ?_
      refine lv_aload_n hx hb dX5_at_109 rfl (lv_at hl 0 rfl) ?_
      refine lv_iload_n hx hb dX5_at_110 rfl (lv_at hl 1 rfl) ?_
      refine fc_Vi (rest := []) (As := [.int p1]) X hw hm_X5_isLost (lw_V q1753 q1755 qs42 q121 q1756) ⟨rfl, rfl⟩ ⟨by rw [hRf]; exact Nat.le_of_ble_eq_true rfl, by rw [hRl]; exact Nat.le_of_ble_eq_true rfl⟩ fc_X5 rfl (hm0 hE) rfl rfl hl.1 (Nat.le_of_ble_eq_true rfl) dX5_at_111 (fun rQ stQ hQ => wX5_isLost l E hE p1 st3 rQ stQ hQ) hf (fun x4 st5 H locs hw hf => ?_)
      refine fb_zeq (tgt := 121) hx hb dX5_at_114 (by decide) hf (fun hf => ?_) (fun hf => ?_)
      · refine lv_iconst (v := (0 : Int32)) hx hb dX5_at_121 (by decide) ?_
        exact fd_i hend hw hf dX5_at_122
      refine lv_iconst (v := (1 : Int32)) hx hb dX5_at_117 (by decide) ?_
      refine lv_goto (tgt := 122) hx hb dX5_at_118 (by decide) ?_
      exact fd_i hend hw hf dX5_at_122
    refine sw_e hf (fun e0 hf => ?_) (fun n7 hf => ?_)
    · refine lv_tableIn (tgt := 123) hx hb dX5_at_15 (by rw [e0]; decide) (by rw [e0]; decide) (off := 108) (by rw [e0]; decide) (by decide) ?_
      refine lv_aload_n hx hb dX5_at_123 rfl (lv_at hl 0 rfl) ?_
      refine lv_iload_n hx hb dX5_at_124 rfl (lv_at hl 1 rfl) ?_
      refine fc_Vi (rest := []) (As := [.int p1]) X hw hm_X5_isTree (lw_V q1757 q1759 qs43 q121 q1760) ⟨rfl, rfl⟩ ⟨by rw [hRf]; exact Nat.le_of_ble_eq_true rfl, by rw [hRl]; exact Nat.le_of_ble_eq_true rfl⟩ fc_X5 rfl (hm0 hE) rfl rfl hl.1 (Nat.le_of_ble_eq_true rfl) dX5_at_125 (fun rQ stQ hQ => wX5_isTree l E hE p1 st3 rQ stQ hQ) hf (fun x6 st7 H locs hw hf => ?_)
      refine fb_zeq (tgt := 139) hx hb dX5_at_128 (by decide) hf (fun hf => ?_) (fun hf => ?_)
      · refine lv_iconst (v := (-1 : Int32)) hx hb dX5_at_139 (by decide) ?_
        exact fd_i hend hw hf dX5_at_140
      refine lv_aload_n hx hb dX5_at_131 rfl (lv_at hl 0 rfl) ?_
      refine lv_iload_n hx hb dX5_at_132 rfl (lv_at hl 1 rfl) ?_
      refine fc_Vi (rest := []) (As := [.int p1]) X hw hm_X5_growsOf (lw_V q1761 q1763 qs44 q121 q1764) ⟨rfl, rfl⟩ ⟨by rw [hRf]; exact Nat.le_of_ble_eq_true rfl, by rw [hRl]; exact Nat.le_of_ble_eq_true rfl⟩ fc_X5 rfl (hm0 hE) rfl rfl hl.1 (Nat.le_of_ble_eq_true rfl) dX5_at_133 (fun rQ stQ hQ => wX5_growsOf l E hE G p1 st7 rQ stQ hQ) hf (fun x8 st9 H locs hw hf => ?_)
      refine lv_goto (tgt := 140) hx hb dX5_at_136 (by decide) ?_
      exact fd_i hend hw hf dX5_at_140
    refine sw_e hf (fun e0 hf => ?_) (fun n8 hf => ?_)
    · refine lv_tableIn (tgt := 141) hx hb dX5_at_15 (by rw [e0]; decide) (by rw [e0]; decide) (off := 126) (by rw [e0]; decide) (by decide) ?_
      refine lv_aload_n hx hb dX5_at_141 rfl (lv_at hl 0 rfl) ?_
      refine lv_iload_n hx hb dX5_at_142 rfl (lv_at hl 1 rfl) ?_
      refine fc_Vi (rest := []) (As := [.int p1]) X hw hm_X5_isTree (lw_V q1757 q1759 qs43 q121 q1760) ⟨rfl, rfl⟩ ⟨by rw [hRf]; exact Nat.le_of_ble_eq_true rfl, by rw [hRl]; exact Nat.le_of_ble_eq_true rfl⟩ fc_X5 rfl (hm0 hE) rfl rfl hl.1 (Nat.le_of_ble_eq_true rfl) dX5_at_143 (fun rQ stQ hQ => wX5_isTree l E hE p1 st3 rQ stQ hQ) hf (fun x10 st11 H locs hw hf => ?_)
      refine fb_zeq (tgt := 157) hx hb dX5_at_146 (by decide) hf (fun hf => ?_) (fun hf => ?_)
      · refine lv_iconst (v := (0 : Int32)) hx hb dX5_at_157 (by decide) ?_
        exact fd_i hend hw hf dX5_at_158
      refine lv_aload_n hx hb dX5_at_149 rfl (lv_at hl 0 rfl) ?_
      refine lv_iload_n hx hb dX5_at_150 rfl (lv_at hl 1 rfl) ?_
      refine fc_Vi (rest := []) (As := [.int p1]) X hw hm_X5_leavesOf (lw_V q1796 q1798 qs51 q121 q1799) ⟨rfl, rfl⟩ ⟨by rw [hRf]; exact Nat.le_of_ble_eq_true rfl, by rw [hRl]; exact Nat.le_of_ble_eq_true rfl⟩ fc_X5 rfl (hm0 hE) rfl rfl hl.1 (Nat.le_of_ble_eq_true rfl) dX5_at_151 (fun rQ stQ hQ => wX5_leavesOf l E hE G p1 st11 rQ stQ hQ) hf (fun x12 st13 H locs hw hf => ?_)
      refine lv_goto (tgt := 158) hx hb dX5_at_154 (by decide) ?_
      exact fd_i hend hw hf dX5_at_158
    refine lv_tableOut (tgt := 159) hx hb dX5_at_15 (by have g0 := lv_neT n0 (a := 0) (by decide); have g1 := lv_neT n1 (a := 1) (by decide); have g2 := lv_neT n2 (a := 2) (by decide); have g3 := lv_neT n3 (a := 3) (by decide); have g4 := lv_neT n4 (a := 4) (by decide); have g5 := lv_neT n5 (a := 5) (by decide); have g6 := lv_neT n6 (a := 6) (by decide); have g7 := lv_neT n7 (a := 7) (by decide); have g8 := lv_neT n8 (a := 8) (by decide); omega) (by decide) ?_
    refine lv_iconst (v := (-1 : Int32)) hx hb dX5_at_159 (by decide) ?_
    exact fd_i hend hw hf dX5_at_160
  refine lv_iconst (v := (-1 : Int32)) hx hb dX5_at_12 (by decide) ?_
  exact fd_i hend hw hf dX5_at_13

/-- ForestRoomsModel.needs -/
def fX5_needs (p1 : Int32) (p2 : Int32) (p3 : Int32) (st0 : fo_St) : Option (Int32 × fo_St) := lt_ (si_ st0 0 0 (0 : Int32)) (fun st1 => bd_ (fX5_in (p1.toInt64) (0 : Int64) (5 : Int64) st1) (fun x2 st3 => if x2 = 0 then bd_ (fX5_tell (-1 : Int32) st3) (fun x4 st5 => some (x4, st5)) else bd_ (fX5_in (p2.toInt64) (0 : Int64) (1 : Int64) st3) (fun x6 st7 => if x6 = 0 then bd_ (fX5_tell (-1 : Int32) st7) (fun x8 st9 => some (x8, st9)) else bd_ (fX5_in (p3.toInt64) (0 : Int64) (9 : Int64) st7) (fun x10 st11 => if ¬ x10 = 0 then lt_ (si_ st11 0 8 (0 : Int32)) (fun st12 => bd_ (fX5_change (((104 : Int32) + ((2 : Int32) * p1)) + p2) p3 st12) (fun x13 st14 => some (x13, st14))) else bd_ (fX5_tell (-1 : Int32) st11) (fun x15 st16 => some (x15, st16))))))
theorem hm_X5_needs : fo_M yX5_needs 3 := ⟨by decide +kernel, by decide +kernel, by decide +kernel, by decide +kernel⟩
set_option maxHeartbeats 4000000 in
theorem wX5_needs (l : Launch) (E : fo_E) (hE : ∀ n, et E n = tM_ n) (p1 : Int32) (p2 : Int32) (p3 : Int32) (st0 : fo_St) (rZ : Int32) (stZ : fo_St) (hf : fX5_needs p1 p2 p3 st0 = some (rZ, stZ)) : CTi l E yX5_needs (ws_ yX5_needs cX5_needs 4 (some .int)) ({ frames := 1, cells := 0, slots := 0, locals := 25 }) [.ref (eb E + 0), .int p1, .int p2, .int p3] st0 rZ stZ := by
  refine fe_i hm_X5_needs (Nat.le_of_ble_eq_true rfl) (fun p e R s m args below meth c Q hRf hRl X hend ls hl hw => ?_)
  have hx := X.1.1
  have hb := X.1.2.1
  have hl : lv_has ls 4 [(0, .ref (eb E + 0)), (1, .int p1), (2, .int p2), (3, .int p3)] := hl
  unfold fX5_needs at hf
  generalize s.heap = H at hw ⊢
  generalize ([] : List Loc) = locs at hw ⊢
  refine lv_aload_n hx hb dX5_needs_0 rfl (lv_at hl 0 rfl) ?_
  refine lv_iconst (v := (0 : Int32)) hx hb dX5_needs_1 (by decide) ?_
  refine fo_puti X hw fc_X5 (hm0 hE) (k := 0) (by decide) rfl rfl q1518 ⟨rfl, rfl⟩ dX5_needs_2 hf (fun st1 H locs hw hf => ?_)
  refine lv_iload_n hx hb dX5_needs_5 rfl (lv_at hl 1 rfl) ?_
  refine lv_i2l (v := p1.toInt64) hx hb dX5_needs_6 rfl ?_
  refine lv_lconst (v := (0 : Int64)) hx hb dX5_needs_7 rfl ?_
  refine lv_ldc2 (v := (5 : Int64)) hx hb X.1.2.2.2.1 (X.1.2.2.2.2 _ q1804) dX5_needs_8 ?_
  refine fc_Si (rest := []) (As := [.long p1.toInt64, .long (0 : Int64), .long (5 : Int64)]) X hw hm_X5_in (lw_S q1722 q1723 q121 q1724) ⟨rfl, rfl⟩ ⟨by rw [hRf]; exact Nat.le_of_ble_eq_true rfl, by rw [hRl]; exact Nat.le_of_ble_eq_true rfl⟩ rfl rfl hl.1 (Nat.le_of_ble_eq_true rfl) dX5_needs_11 (fun rQ stQ hQ => wX5_in l E hE (p1.toInt64) (0 : Int64) (5 : Int64) st1 rQ stQ hQ) hf (fun x2 st3 H locs hw hf => ?_)
  refine fb_zeq (tgt := 39) hx hb dX5_needs_14 (by decide) hf (fun hf => ?_) (fun hf => ?_)
  · refine lv_aload_n hx hb dX5_needs_39 rfl (lv_at hl 0 rfl) ?_
    refine lv_iconst (v := (-1 : Int32)) hx hb dX5_needs_40 (by decide) ?_
    refine fc_Vi (rest := []) (As := [.int (-1 : Int32)]) X hw hm_X5_tell (lw_V q1710 q1712 qs38 q121 q1713) ⟨rfl, rfl⟩ ⟨by rw [hRf]; exact Nat.le_of_ble_eq_true rfl, by rw [hRl]; exact Nat.le_of_ble_eq_true rfl⟩ fc_X5 rfl (hm0 hE) rfl rfl hl.1 (Nat.le_of_ble_eq_true rfl) dX5_needs_41 (fun rQ stQ hQ => wX5_tell l E hE (-1 : Int32) st3 rQ stQ hQ) hf (fun x4 st5 H locs hw hf => ?_)
    exact fd_i hend hw hf dX5_needs_44
  refine lv_iload_n hx hb dX5_needs_17 rfl (lv_at hl 2 rfl) ?_
  refine lv_i2l (v := p2.toInt64) hx hb dX5_needs_18 rfl ?_
  refine lv_lconst (v := (0 : Int64)) hx hb dX5_needs_19 rfl ?_
  refine lv_lconst (v := (1 : Int64)) hx hb dX5_needs_20 rfl ?_
  refine fc_Si (rest := []) (As := [.long p2.toInt64, .long (0 : Int64), .long (1 : Int64)]) X hw hm_X5_in (lw_S q1722 q1723 q121 q1724) ⟨rfl, rfl⟩ ⟨by rw [hRf]; exact Nat.le_of_ble_eq_true rfl, by rw [hRl]; exact Nat.le_of_ble_eq_true rfl⟩ rfl rfl hl.1 (Nat.le_of_ble_eq_true rfl) dX5_needs_21 (fun rQ stQ hQ => wX5_in l E hE (p2.toInt64) (0 : Int64) (1 : Int64) st3 rQ stQ hQ) hf (fun x6 st7 H locs hw hf => ?_)
  refine fb_zeq (tgt := 39) hx hb dX5_needs_24 (by decide) hf (fun hf => ?_) (fun hf => ?_)
  · refine lv_aload_n hx hb dX5_needs_39 rfl (lv_at hl 0 rfl) ?_
    refine lv_iconst (v := (-1 : Int32)) hx hb dX5_needs_40 (by decide) ?_
    refine fc_Vi (rest := []) (As := [.int (-1 : Int32)]) X hw hm_X5_tell (lw_V q1710 q1712 qs38 q121 q1713) ⟨rfl, rfl⟩ ⟨by rw [hRf]; exact Nat.le_of_ble_eq_true rfl, by rw [hRl]; exact Nat.le_of_ble_eq_true rfl⟩ fc_X5 rfl (hm0 hE) rfl rfl hl.1 (Nat.le_of_ble_eq_true rfl) dX5_needs_41 (fun rQ stQ hQ => wX5_tell l E hE (-1 : Int32) st7 rQ stQ hQ) hf (fun x8 st9 H locs hw hf => ?_)
    exact fd_i hend hw hf dX5_needs_44
  refine lv_iload_n hx hb dX5_needs_27 rfl (lv_at hl 3 rfl) ?_
  refine lv_i2l (v := p3.toInt64) hx hb dX5_needs_28 rfl ?_
  refine lv_lconst (v := (0 : Int64)) hx hb dX5_needs_29 rfl ?_
  refine lv_ldc2 (v := (9 : Int64)) hx hb X.1.2.2.2.1 (X.1.2.2.2.2 _ q1744) dX5_needs_30 ?_
  refine fc_Si (rest := []) (As := [.long p3.toInt64, .long (0 : Int64), .long (9 : Int64)]) X hw hm_X5_in (lw_S q1722 q1723 q121 q1724) ⟨rfl, rfl⟩ ⟨by rw [hRf]; exact Nat.le_of_ble_eq_true rfl, by rw [hRl]; exact Nat.le_of_ble_eq_true rfl⟩ rfl rfl hl.1 (Nat.le_of_ble_eq_true rfl) dX5_needs_33 (fun rQ stQ hQ => wX5_in l E hE (p3.toInt64) (0 : Int64) (9 : Int64) st7 rQ stQ hQ) hf (fun x10 st11 H locs hw hf => ?_)
  refine fb_zne (tgt := 45) hx hb dX5_needs_36 (by decide) hf (fun hf => ?_) (fun hf => ?_)
  · refine lv_aload_n hx hb dX5_needs_45 rfl (lv_at hl 0 rfl) ?_
    refine lv_iconst (v := (0 : Int32)) hx hb dX5_needs_46 (by decide) ?_
    refine fo_puti X hw fc_X5 (hm0 hE) (k := 8) (by decide) rfl rfl q1526 ⟨rfl, rfl⟩ dX5_needs_47 hf (fun st12 H locs hw hf => ?_)
    refine lv_aload_n hx hb dX5_needs_50 rfl (lv_at hl 0 rfl) ?_
    refine lv_bipush (v := (104 : Int32)) hx hb dX5_needs_51 (by decide) ?_
    refine lv_iconst (v := (2 : Int32)) hx hb dX5_needs_53 (by decide) ?_
    refine lv_iload_n hx hb dX5_needs_54 rfl (lv_at hl 1 rfl) ?_
    refine lv_imul hx hb dX5_needs_55 ?_
    refine lv_iadd hx hb dX5_needs_56 ?_
    refine lv_iload_n hx hb dX5_needs_57 rfl (lv_at hl 2 rfl) ?_
    refine lv_iadd hx hb dX5_needs_58 ?_
    refine lv_iload_n hx hb dX5_needs_59 rfl (lv_at hl 3 rfl) ?_
    refine fc_Vi (rest := []) (As := [.int (((104 : Int32) + ((2 : Int32) * p1)) + p2), .int p3]) X hw hm_X5_change (lw_V q1745 q1747 qs41 q121 q1748) ⟨rfl, rfl⟩ ⟨by rw [hRf]; exact Nat.le_of_ble_eq_true rfl, by rw [hRl]; exact Nat.le_of_ble_eq_true rfl⟩ fc_X5 rfl (hm0 hE) rfl rfl hl.1 (Nat.le_of_ble_eq_true rfl) dX5_needs_60 (fun rQ stQ hQ => wX5_change l E hE (((104 : Int32) + ((2 : Int32) * p1)) + p2) p3 st12 rQ stQ hQ) hf (fun x13 st14 H locs hw hf => ?_)
    exact fd_i hend hw hf dX5_needs_63
  refine lv_aload_n hx hb dX5_needs_39 rfl (lv_at hl 0 rfl) ?_
  refine lv_iconst (v := (-1 : Int32)) hx hb dX5_needs_40 (by decide) ?_
  refine fc_Vi (rest := []) (As := [.int (-1 : Int32)]) X hw hm_X5_tell (lw_V q1710 q1712 qs38 q121 q1713) ⟨rfl, rfl⟩ ⟨by rw [hRf]; exact Nat.le_of_ble_eq_true rfl, by rw [hRl]; exact Nat.le_of_ble_eq_true rfl⟩ fc_X5 rfl (hm0 hE) rfl rfl hl.1 (Nat.le_of_ble_eq_true rfl) dX5_needs_41 (fun rQ stQ hQ => wX5_tell l E hE (-1 : Int32) st11 rQ stQ hQ) hf (fun x15 st16 H locs hw hf => ?_)
  exact fd_i hend hw hf dX5_needs_44

/-- ForestRoomsModel.terms -/
def fX5_terms (p1 : Int32) (p2 : Int32) (st0 : fo_St) : Option (Int32 × fo_St) := lt_ (si_ st0 0 0 (0 : Int32)) (fun st1 => jn_ (fun (x2 : Int32) (st3 : fo_St) => if ¬ x2 = 0 then lt_ (si_ st3 0 8 (0 : Int32)) (fun st5 => bd_ (fX5_change ((3 : Int32) + p1) p2 st5) (fun x6 st7 => some (x6, st7))) else bd_ (fX5_tell (-1 : Int32) st3) (fun x8 st9 => some (x8, st9))) (fun k4 => if ¬ p1 = 0 then if ¬ p1 = (1 : Int32) then if ¬ p1 = (2 : Int32) then if ¬ p1 = (3 : Int32) then if ¬ p1 = (4 : Int32) then k4 (0 : Int32) st1 else bd_ (fX5_in (p2.toInt64) (0 : Int64) (9 : Int64) st1) (fun x10 st11 => if x10 = 0 then k4 (0 : Int32) st11 else k4 (1 : Int32) st11) else bd_ (fX5_in (p2.toInt64) (0 : Int64) (10 : Int64) st1) (fun x12 st13 => k4 x12 st13) else bd_ (fX5_in (p2.toInt64) (0 : Int64) (99 : Int64) st1) (fun x14 st15 => k4 x14 st15) else bd_ (fX5_in (p2.toInt64) (1 : Int64) (99 : Int64) st1) (fun x16 st17 => k4 x16 st17) else bd_ (fX5_in (p2.toInt64) (0 : Int64) (999 : Int64) st1) (fun x18 st19 => k4 x18 st19)))
theorem hm_X5_terms : fo_M yX5_terms 2 := ⟨by decide +kernel, by decide +kernel, by decide +kernel, by decide +kernel⟩
set_option maxHeartbeats 4000000 in
theorem wX5_terms (l : Launch) (E : fo_E) (hE : ∀ n, et E n = tM_ n) (p1 : Int32) (p2 : Int32) (st0 : fo_St) (rZ : Int32) (stZ : fo_St) (hf : fX5_terms p1 p2 st0 = some (rZ, stZ)) : CTi l E yX5_terms (ws_ yX5_terms cX5_terms 4 (some .int)) ({ frames := 1, cells := 0, slots := 0, locals := 25 }) [.ref (eb E + 0), .int p1, .int p2] st0 rZ stZ := by
  refine fe_i hm_X5_terms (Nat.le_of_ble_eq_true rfl) (fun p e R s m args below meth c Q hRf hRl X hend ls hl hw => ?_)
  have hx := X.1.1
  have hb := X.1.2.1
  have hl : lv_has ls 4 [(0, .ref (eb E + 0)), (1, .int p1), (2, .int p2)] := hl
  unfold fX5_terms at hf
  generalize s.heap = H at hw ⊢
  generalize ([] : List Loc) = locs at hw ⊢
  refine lv_aload_n hx hb dX5_terms_0 rfl (lv_at hl 0 rfl) ?_
  refine lv_iconst (v := (0 : Int32)) hx hb dX5_terms_1 (by decide) ?_
  refine fo_puti X hw fc_X5 (hm0 hE) (k := 0) (by decide) rfl rfl q1518 ⟨rfl, rfl⟩ dX5_terms_2 hf (fun st1 H locs hw hf => ?_)
  refine lv_iload_n hx hb dX5_terms_5 rfl (lv_at hl 1 rfl) ?_
  refine jn_e hf (fun k4 ek hf => ?_)
  have hk4 : ∀ (x2 : Int32) (st3 : fo_St) (H : Heap) (locs : List Loc) (ls : Array Slot), lv_has ls 4 [(0, .ref (eb E + 0)), (1, .int p1), (2, .int p2)] → fo_S E s st3 H locs → k4 x2 st3 = some (rZ, stZ) → W p l e R s m args below meth c H locs 0 0 Q (F0 m 94 ls [.int x2]) := by
    intro x2 st3 H locs ls hl hw hf
    rw [ek] at hf
    refine lv_istore_n (lv' := [(3, .int x2), (0, .ref (eb E + 0)), (1, .int p1), (2, .int p2)]) hx hb dX5_terms_94 rfl hl (by decide) rfl (fun ls hl => ?_)
    refine lv_iload_n hx hb dX5_terms_95 rfl (lv_at hl 0 rfl) ?_
    refine fb_zne (tgt := 105) hx hb dX5_terms_96 (by decide) hf (fun hf => ?_) (fun hf => ?_)
    · refine lv_aload_n hx hb dX5_terms_105 rfl (lv_at hl 1 rfl) ?_
      refine lv_iconst (v := (0 : Int32)) hx hb dX5_terms_106 (by decide) ?_
      refine fo_puti X hw fc_X5 (hm0 hE) (k := 8) (by decide) rfl rfl q1526 ⟨rfl, rfl⟩ dX5_terms_107 hf (fun st5 H locs hw hf => ?_)
      refine lv_aload_n hx hb dX5_terms_110 rfl (lv_at hl 1 rfl) ?_
      refine lv_iconst (v := (3 : Int32)) hx hb dX5_terms_111 (by decide) ?_
      refine lv_iload_n hx hb dX5_terms_112 rfl (lv_at hl 2 rfl) ?_
      refine lv_iadd hx hb dX5_terms_113 ?_
      refine lv_iload_n hx hb dX5_terms_114 rfl (lv_at hl 3 rfl) ?_
      refine fc_Vi (rest := []) (As := [.int ((3 : Int32) + p1), .int p2]) X hw hm_X5_change (lw_V q1745 q1747 qs41 q121 q1748) ⟨rfl, rfl⟩ ⟨by rw [hRf]; exact Nat.le_of_ble_eq_true rfl, by rw [hRl]; exact Nat.le_of_ble_eq_true rfl⟩ fc_X5 rfl (hm0 hE) rfl rfl hl.1 (Nat.le_of_ble_eq_true rfl) dX5_terms_115 (fun rQ stQ hQ => wX5_change l E hE ((3 : Int32) + p1) p2 st5 rQ stQ hQ) hf (fun x6 st7 H locs hw hf => ?_)
      exact fd_i hend hw hf dX5_terms_118
    refine lv_aload_n hx hb dX5_terms_99 rfl (lv_at hl 1 rfl) ?_
    refine lv_iconst (v := (-1 : Int32)) hx hb dX5_terms_100 (by decide) ?_
    refine fc_Vi (rest := []) (As := [.int (-1 : Int32)]) X hw hm_X5_tell (lw_V q1710 q1712 qs38 q121 q1713) ⟨rfl, rfl⟩ ⟨by rw [hRf]; exact Nat.le_of_ble_eq_true rfl, by rw [hRl]; exact Nat.le_of_ble_eq_true rfl⟩ fc_X5 rfl (hm0 hE) rfl rfl hl.1 (Nat.le_of_ble_eq_true rfl) dX5_terms_101 (fun rQ stQ hQ => wX5_tell l E hE (-1 : Int32) st3 rQ stQ hQ) hf (fun x8 st9 H locs hw hf => ?_)
    exact fd_i hend hw hf dX5_terms_104
  clear ek
  refine fb_zne (tgt := 21) hx hb dX5_terms_6 (by decide) hf (fun hf => ?_) (fun hf => ?_)
  · refine lv_iload_n hx hb dX5_terms_21 rfl (lv_at hl 1 rfl) ?_
    refine lv_iconst (v := (1 : Int32)) hx hb dX5_terms_22 (by decide) ?_
    refine fb_ine (tgt := 38) hx hb dX5_terms_23 (by decide) hf (fun hf => ?_) (fun hf => ?_)
    · refine lv_iload_n hx hb dX5_terms_38 rfl (lv_at hl 1 rfl) ?_
      refine lv_iconst (v := (2 : Int32)) hx hb dX5_terms_39 (by decide) ?_
      refine fb_ine (tgt := 55) hx hb dX5_terms_40 (by decide) hf (fun hf => ?_) (fun hf => ?_)
      · refine lv_iload_n hx hb dX5_terms_55 rfl (lv_at hl 1 rfl) ?_
        refine lv_iconst (v := (3 : Int32)) hx hb dX5_terms_56 (by decide) ?_
        refine fb_ine (tgt := 72) hx hb dX5_terms_57 (by decide) hf (fun hf => ?_) (fun hf => ?_)
        · refine lv_iload_n hx hb dX5_terms_72 rfl (lv_at hl 1 rfl) ?_
          refine lv_iconst (v := (4 : Int32)) hx hb dX5_terms_73 (by decide) ?_
          refine fb_ine (tgt := 93) hx hb dX5_terms_74 (by decide) hf (fun hf => ?_) (fun hf => ?_)
          · refine lv_iconst (v := (0 : Int32)) hx hb dX5_terms_93 (by decide) ?_
            exact hk4 _ _ _ _ _ (lv_sub hl [0, 1, 2] rfl) hw hf
          refine lv_iload_n hx hb dX5_terms_77 rfl (lv_at hl 2 rfl) ?_
          refine lv_i2l (v := p2.toInt64) hx hb dX5_terms_78 rfl ?_
          refine lv_lconst (v := (0 : Int64)) hx hb dX5_terms_79 rfl ?_
          refine lv_ldc2 (v := (9 : Int64)) hx hb X.1.2.2.2.1 (X.1.2.2.2.2 _ q1744) dX5_terms_80 ?_
          refine fc_Si (rest := []) (As := [.long p2.toInt64, .long (0 : Int64), .long (9 : Int64)]) X hw hm_X5_in (lw_S q1722 q1723 q121 q1724) ⟨rfl, rfl⟩ ⟨by rw [hRf]; exact Nat.le_of_ble_eq_true rfl, by rw [hRl]; exact Nat.le_of_ble_eq_true rfl⟩ rfl rfl hl.1 (Nat.le_of_ble_eq_true rfl) dX5_terms_83 (fun rQ stQ hQ => wX5_in l E hE (p2.toInt64) (0 : Int64) (9 : Int64) st1 rQ stQ hQ) hf (fun x10 st11 H locs hw hf => ?_)
          refine fb_zeq (tgt := 93) hx hb dX5_terms_86 (by decide) hf (fun hf => ?_) (fun hf => ?_)
          · refine lv_iconst (v := (0 : Int32)) hx hb dX5_terms_93 (by decide) ?_
            exact hk4 _ _ _ _ _ (lv_sub hl [0, 1, 2] rfl) hw hf
          refine lv_iconst (v := (1 : Int32)) hx hb dX5_terms_89 (by decide) ?_
          refine lv_goto (tgt := 94) hx hb dX5_terms_90 (by decide) ?_
          exact hk4 _ _ _ _ _ (lv_sub hl [0, 1, 2] rfl) hw hf
        refine lv_iload_n hx hb dX5_terms_60 rfl (lv_at hl 2 rfl) ?_
        refine lv_i2l (v := p2.toInt64) hx hb dX5_terms_61 rfl ?_
        refine lv_lconst (v := (0 : Int64)) hx hb dX5_terms_62 rfl ?_
        refine lv_ldc2 (v := (10 : Int64)) hx hb X.1.2.2.2.1 (X.1.2.2.2.2 _ q1811) dX5_terms_63 ?_
        refine fc_Si (rest := []) (As := [.long p2.toInt64, .long (0 : Int64), .long (10 : Int64)]) X hw hm_X5_in (lw_S q1722 q1723 q121 q1724) ⟨rfl, rfl⟩ ⟨by rw [hRf]; exact Nat.le_of_ble_eq_true rfl, by rw [hRl]; exact Nat.le_of_ble_eq_true rfl⟩ rfl rfl hl.1 (Nat.le_of_ble_eq_true rfl) dX5_terms_66 (fun rQ stQ hQ => wX5_in l E hE (p2.toInt64) (0 : Int64) (10 : Int64) st1 rQ stQ hQ) hf (fun x12 st13 H locs hw hf => ?_)
        refine lv_goto (tgt := 94) hx hb dX5_terms_69 (by decide) ?_
        exact hk4 _ _ _ _ _ (lv_sub hl [0, 1, 2] rfl) hw hf
      refine lv_iload_n hx hb dX5_terms_43 rfl (lv_at hl 2 rfl) ?_
      refine lv_i2l (v := p2.toInt64) hx hb dX5_terms_44 rfl ?_
      refine lv_lconst (v := (0 : Int64)) hx hb dX5_terms_45 rfl ?_
      refine lv_ldc2 (v := (99 : Int64)) hx hb X.1.2.2.2.1 (X.1.2.2.2.2 _ q1810) dX5_terms_46 ?_
      refine fc_Si (rest := []) (As := [.long p2.toInt64, .long (0 : Int64), .long (99 : Int64)]) X hw hm_X5_in (lw_S q1722 q1723 q121 q1724) ⟨rfl, rfl⟩ ⟨by rw [hRf]; exact Nat.le_of_ble_eq_true rfl, by rw [hRl]; exact Nat.le_of_ble_eq_true rfl⟩ rfl rfl hl.1 (Nat.le_of_ble_eq_true rfl) dX5_terms_49 (fun rQ stQ hQ => wX5_in l E hE (p2.toInt64) (0 : Int64) (99 : Int64) st1 rQ stQ hQ) hf (fun x14 st15 H locs hw hf => ?_)
      refine lv_goto (tgt := 94) hx hb dX5_terms_52 (by decide) ?_
      exact hk4 _ _ _ _ _ (lv_sub hl [0, 1, 2] rfl) hw hf
    refine lv_iload_n hx hb dX5_terms_26 rfl (lv_at hl 2 rfl) ?_
    refine lv_i2l (v := p2.toInt64) hx hb dX5_terms_27 rfl ?_
    refine lv_lconst (v := (1 : Int64)) hx hb dX5_terms_28 rfl ?_
    refine lv_ldc2 (v := (99 : Int64)) hx hb X.1.2.2.2.1 (X.1.2.2.2.2 _ q1810) dX5_terms_29 ?_
    refine fc_Si (rest := []) (As := [.long p2.toInt64, .long (1 : Int64), .long (99 : Int64)]) X hw hm_X5_in (lw_S q1722 q1723 q121 q1724) ⟨rfl, rfl⟩ ⟨by rw [hRf]; exact Nat.le_of_ble_eq_true rfl, by rw [hRl]; exact Nat.le_of_ble_eq_true rfl⟩ rfl rfl hl.1 (Nat.le_of_ble_eq_true rfl) dX5_terms_32 (fun rQ stQ hQ => wX5_in l E hE (p2.toInt64) (1 : Int64) (99 : Int64) st1 rQ stQ hQ) hf (fun x16 st17 H locs hw hf => ?_)
    refine lv_goto (tgt := 94) hx hb dX5_terms_35 (by decide) ?_
    exact hk4 _ _ _ _ _ (lv_sub hl [0, 1, 2] rfl) hw hf
  refine lv_iload_n hx hb dX5_terms_9 rfl (lv_at hl 2 rfl) ?_
  refine lv_i2l (v := p2.toInt64) hx hb dX5_terms_10 rfl ?_
  refine lv_lconst (v := (0 : Int64)) hx hb dX5_terms_11 rfl ?_
  refine lv_ldc2 (v := (999 : Int64)) hx hb X.1.2.2.2.1 (X.1.2.2.2.2 _ q1809) dX5_terms_12 ?_
  refine fc_Si (rest := []) (As := [.long p2.toInt64, .long (0 : Int64), .long (999 : Int64)]) X hw hm_X5_in (lw_S q1722 q1723 q121 q1724) ⟨rfl, rfl⟩ ⟨by rw [hRf]; exact Nat.le_of_ble_eq_true rfl, by rw [hRl]; exact Nat.le_of_ble_eq_true rfl⟩ rfl rfl hl.1 (Nat.le_of_ble_eq_true rfl) dX5_terms_15 (fun rQ stQ hQ => wX5_in l E hE (p2.toInt64) (0 : Int64) (999 : Int64) st1 rQ stQ hQ) hf (fun x18 st19 H locs hw hf => ?_)
  refine lv_goto (tgt := 94) hx hb dX5_terms_18 (by decide) ?_
  exact hk4 _ _ _ _ _ (lv_sub hl [0, 1, 2] rfl) hw hf

/-- ForestRoomsModel.row -/
def fX5_row (G : Nat) (st0 : fo_St) : Option (Int32 × fo_St) := lt_ (si_ st0 0 0 (0 : Int32)) (fun st1 => lI_ (gi_ st1 0 13) (fun x2 => lt_ (si_ st1 0 13 (0 : Int32)) (fun st3 => if ¬ x2 = 0 then lt_ (si_ st3 0 11 (0 : Int32)) (fun st4 => lp3_ (fun rec8 (x5 : Int32) (x6 : Int32) (st7 : fo_St) => if x2 ≤ x5 then bd_ (fX5_settled x6 st7) (fun x9 st10 => some (x9, st10)) else lI_ (x5 / (3 : Int32)) (fun x11 => if x2 ≤ (x5 + (2 : Int32)) then lt_ (si_ st7 0 11 ((gi_ st7 0 11) + (1 : Int32))) (fun st12 => rec8 (x5 + (3 : Int32)) x6 st12) else bd_ (fX5_isRoom x11 st7) (fun x13 st14 => if x13 = 0 then lt_ (si_ st14 0 11 ((gi_ st14 0 11) + (1 : Int32))) (fun st15 => rec8 (x5 + (3 : Int32)) x6 st15) else ck_ (fo_in x5 400) (bd_ (fX5_canBe (0 : Int32) (gi_ st14 9 x5.toNatClampNeg) st14) (fun x16 st17 => if x16 = 0 then lt_ (si_ st17 0 11 ((gi_ st17 0 11) + (1 : Int32))) (fun st18 => rec8 (x5 + (3 : Int32)) x6 st18) else ck_ (fo_in (x5 + (1 : Int32)) 400) (bd_ (fX5_canBe (1 : Int32) (gi_ st17 9 (x5 + (1 : Int32)).toNatClampNeg) st17) (fun x19 st20 => if x19 = 0 then lt_ (si_ st20 0 11 ((gi_ st20 0 11) + (1 : Int32))) (fun st21 => rec8 (x5 + (3 : Int32)) x6 st21) else ck_ (fo_in (x5 + (2 : Int32)) 400) (bd_ (fX5_canBe (2 : Int32) (gi_ st20 9 (x5 + (2 : Int32)).toNatClampNeg) st20) (fun x22 st23 => if x22 = 0 then lt_ (si_ st23 0 11 ((gi_ st23 0 11) + (1 : Int32))) (fun st24 => rec8 (x5 + (3 : Int32)) x6 st24) else ck_ (fo_in x5 400) (ck_ (fo_in ((56 : Int32) + x11) 5540) (lt_ (si_ st23 2 ((56 : Int32) + x11).toNatClampNeg (gi_ st23 9 x5.toNatClampNeg)) (fun st25 => ck_ (fo_in (x5 + (1 : Int32)) 400) (ck_ (fo_in ((72 : Int32) + x11) 5540) (lt_ (si_ st25 2 ((72 : Int32) + x11).toNatClampNeg (gi_ st25 9 (x5 + (1 : Int32)).toNatClampNeg)) (fun st26 => ck_ (fo_in (x5 + (2 : Int32)) 400) (ck_ (fo_in ((88 : Int32) + x11) 5540) (lt_ (si_ st26 2 ((88 : Int32) + x11).toNatClampNeg (gi_ st26 9 (x5 + (2 : Int32)).toNatClampNeg)) (fun st27 => rec8 (x5 + (3 : Int32)) (x6 + (1 : Int32)) st27)))))))))))))))))) G (0 : Int32) (0 : Int32) st4) else bd_ (fX5_tell (-6 : Int32) st3) (fun x28 st29 => some (x28, st29)))))
theorem hm_X5_row : fo_M yX5_row 0 := ⟨by decide +kernel, by decide +kernel, by decide +kernel, by decide +kernel⟩
set_option maxHeartbeats 4000000 in
theorem wX5_row (l : Launch) (E : fo_E) (hE : ∀ n, et E n = tM_ n) (G : Nat) (st0 : fo_St) (rZ : Int32) (stZ : fo_St) (hf : fX5_row G st0 = some (rZ, stZ)) : CTi l E yX5_row (ws_ yX5_row cX5_row 5 (some .int)) ({ frames := 2, cells := 0, slots := 0, locals := 46 }) [.ref (eb E + 0)] st0 rZ stZ := by
  refine fe_i hm_X5_row (Nat.le_of_ble_eq_true rfl) (fun p e R s m args below meth c Q hRf hRl X hend ls hl hw => ?_)
  have hx := X.1.1
  have hb := X.1.2.1
  have hl : lv_has ls 5 [(0, .ref (eb E + 0))] := hl
  unfold fX5_row at hf
  generalize s.heap = H at hw ⊢
  generalize ([] : List Loc) = locs at hw ⊢
  refine lv_aload_n hx hb dX5_row_0 rfl (lv_at hl 0 rfl) ?_
  refine lv_iconst (v := (0 : Int32)) hx hb dX5_row_1 (by decide) ?_
  refine fo_puti X hw fc_X5 (hm0 hE) (k := 0) (by decide) rfl rfl q1518 ⟨rfl, rfl⟩ dX5_row_2 hf (fun st1 H locs hw hf => ?_)
  refine lv_aload_n hx hb dX5_row_5 rfl (lv_at hl 0 rfl) ?_
  refine fo_geti X hw fc_X5 (hm0 hE) (k := 13) (by decide) rfl q1531 dX5_row_6 ?_
  refine fo_tI hf (fun x2 hf => ?_)
  refine lv_istore_n (lv' := [(1, .int x2), (0, .ref (eb E + 0))]) hx hb dX5_row_9 rfl hl (by decide) rfl (fun ls hl => ?_)
  refine lv_aload_n hx hb dX5_row_10 rfl (lv_at hl 1 rfl) ?_
  refine lv_iconst (v := (0 : Int32)) hx hb dX5_row_11 (by decide) ?_
  refine fo_puti X hw fc_X5 (hm0 hE) (k := 13) (by decide) rfl rfl q1531 ⟨rfl, rfl⟩ dX5_row_12 hf (fun st3 H locs hw hf => ?_)
  refine lv_iload_n hx hb dX5_row_15 rfl (lv_at hl 0 rfl) ?_
  refine fb_zne (tgt := 26) hx hb dX5_row_16 (by decide) hf (fun hf => ?_) (fun hf => ?_)
  · refine lv_aload_n hx hb dX5_row_26 rfl (lv_at hl 1 rfl) ?_
    refine lv_iconst (v := (0 : Int32)) hx hb dX5_row_27 (by decide) ?_
    refine fo_puti X hw fc_X5 (hm0 hE) (k := 11) (by decide) rfl rfl q1529 ⟨rfl, rfl⟩ dX5_row_28 hf (fun st4 H locs hw hf => ?_)
    refine lv_iconst (v := (0 : Int32)) hx hb dX5_row_31 (by decide) ?_
    refine lv_istore_n (lv' := [(2, .int (0 : Int32)), (1, .int x2), (0, .ref (eb E + 0))]) hx hb dX5_row_32 rfl hl (by decide) rfl (fun ls hl => ?_)
    refine lv_iconst (v := (0 : Int32)) hx hb dX5_row_33 (by decide) ?_
    refine lv_istore_n (lv' := [(3, .int (0 : Int32)), (2, .int (0 : Int32)), (1, .int x2), (0, .ref (eb E + 0))]) hx hb dX5_row_34 rfl hl (by decide) rfl (fun ls hl => ?_)
    refine lp3_e (P := fun x5 x6 st7 => ∀ (H : Heap) (locs : List Loc) (ls : Array Slot), lv_has ls 5 [(3, .int x5), (2, .int x6), (1, .int x2), (0, .ref (eb E + 0))] → fo_S E s st7 H locs → W p l e R s m args below meth c H locs 0 0 Q (F0 m 35 ls [])) (fun rec8 hrec8 x5 x6 st7 hf => ?_) G _ _ _ hf H locs ls (lv_sub hl [0, 1, 2, 3] rfl) hw
    intro H locs ls hl hw
    refine lv_iload_n hx hb dX5_row_35 rfl (lv_at hl 0 rfl) ?_
    refine lv_iload_n hx hb dX5_row_36 rfl (lv_at hl 2 rfl) ?_
    refine fb_ige (tgt := 177) hx hb dX5_row_37 (by decide) hf (fun hf => ?_) (fun hf => ?_)
    · refine lv_aload_n hx hb dX5_row_177 rfl (lv_at hl 3 rfl) ?_
      refine lv_iload_n hx hb dX5_row_178 rfl (lv_at hl 1 rfl) ?_
      refine fc_Vi (rest := []) (As := [.int x6]) X hw hm_X5_settled (lw_V q1729 q1731 qs40 q121 q1732) ⟨rfl, rfl⟩ ⟨by rw [hRf]; exact Nat.le_of_ble_eq_true rfl, by rw [hRl]; exact Nat.le_of_ble_eq_true rfl⟩ fc_X5 rfl (hm0 hE) rfl rfl hl.1 (Nat.le_of_ble_eq_true rfl) dX5_row_179 (fun rQ stQ hQ => wX5_settled l E hE x6 st7 rQ stQ hQ) hf (fun x9 st10 H locs hw hf => ?_)
      exact fd_i hend hw hf dX5_row_182
    refine lv_iload_n hx hb dX5_row_40 rfl (lv_at hl 0 rfl) ?_
    refine lv_iconst (v := (3 : Int32)) hx hb dX5_row_41 (by decide) ?_
    refine fb_idivK hx hb dX5_row_42 (by decide) ?_
    refine fo_tI hf (fun x11 hf => ?_)
    refine lv_istore (lv' := [(4, .int x11), (3, .int x5), (2, .int x6), (1, .int x2), (0, .ref (eb E + 0))]) hx hb dX5_row_43 hl (by decide) rfl (fun ls hl => ?_)
    refine lv_iload_n hx hb dX5_row_45 rfl (lv_at hl 1 rfl) ?_
    refine lv_iconst (v := (2 : Int32)) hx hb dX5_row_46 (by decide) ?_
    refine lv_iadd hx hb dX5_row_47 ?_
    refine lv_iload_n hx hb dX5_row_48 rfl (lv_at hl 3 rfl) ?_
    refine fb_ige (tgt := 161) hx hb dX5_row_49 (by decide) hf (fun hf => ?_) (fun hf => ?_)
    · refine lv_aload_n hx hb dX5_row_161 rfl (lv_at hl 4 rfl) ?_
      refine lv_dup hx hb dX5_row_162 rfl ?_
      refine fo_geti X hw fc_X5 (hm0 hE) (k := 11) (by decide) rfl q1529 dX5_row_163 ?_
      refine lv_iconst (v := (1 : Int32)) hx hb dX5_row_166 (by decide) ?_
      refine lv_iadd hx hb dX5_row_167 ?_
      refine fo_puti X hw fc_X5 (hm0 hE) (k := 11) (by decide) rfl rfl q1529 ⟨rfl, rfl⟩ dX5_row_168 hf (fun st12 H locs hw hf => ?_)
      refine fb_iinc (v := (3 : Int32)) (lv' := [(3, .int (x5 + (3 : Int32))), (4, .int x11), (2, .int x6), (1, .int x2), (0, .ref (eb E + 0))]) hx hb dX5_row_171 hl (k := 1) rfl (by decide) (by decide) rfl (fun ls hl => ?_)
      refine lv_goto (tgt := 35) hx hb dX5_row_174 (by decide) ?_
      exact hrec8 _ _ _ hf _ _ _ (lv_sub hl [0, 2, 3, 4] rfl) hw
    refine lv_iload hx hb dX5_row_52 (lv_at hl 0 rfl) ?_
    refine fc_Si (rest := []) (As := [.int x11]) X hw hm_X5_isRoom (lw_S q1737 q1738 q121 q1739) ⟨rfl, rfl⟩ ⟨by rw [hRf]; exact Nat.le_of_ble_eq_true rfl, by rw [hRl]; exact Nat.le_of_ble_eq_true rfl⟩ rfl rfl hl.1 (Nat.le_of_ble_eq_true rfl) dX5_row_54 (fun rQ stQ hQ => wX5_isRoom l E hE x11 st7 rQ stQ hQ) hf (fun x13 st14 H locs hw hf => ?_)
    refine fb_zeq (tgt := 161) hx hb dX5_row_57 (by decide) hf (fun hf => ?_) (fun hf => ?_)
    · refine lv_aload_n hx hb dX5_row_161 rfl (lv_at hl 4 rfl) ?_
      refine lv_dup hx hb dX5_row_162 rfl ?_
      refine fo_geti X hw fc_X5 (hm0 hE) (k := 11) (by decide) rfl q1529 dX5_row_163 ?_
      refine lv_iconst (v := (1 : Int32)) hx hb dX5_row_166 (by decide) ?_
      refine lv_iadd hx hb dX5_row_167 ?_
      refine fo_puti X hw fc_X5 (hm0 hE) (k := 11) (by decide) rfl rfl q1529 ⟨rfl, rfl⟩ dX5_row_168 hf (fun st15 H locs hw hf => ?_)
      refine fb_iinc (v := (3 : Int32)) (lv' := [(3, .int (x5 + (3 : Int32))), (4, .int x11), (2, .int x6), (1, .int x2), (0, .ref (eb E + 0))]) hx hb dX5_row_171 hl (k := 1) rfl (by decide) (by decide) rfl (fun ls hl => ?_)
      refine lv_goto (tgt := 35) hx hb dX5_row_174 (by decide) ?_
      exact hrec8 _ _ _ hf _ _ _ (lv_sub hl [0, 2, 3, 4] rfl) hw
    refine lv_iconst (v := (0 : Int32)) hx hb dX5_row_60 (by decide) ?_
    refine lv_aload_n hx hb dX5_row_61 rfl (lv_at hl 4 rfl) ?_
    refine fo_gets X hw fc_X5 (hm0 hE) (k := 12) (d := 9) (n2 := 9) (by decide) rfl rfl q1530 dX5_row_62 ?_
    refine lv_iload_n hx hb dX5_row_65 rfl (lv_at hl 1 rfl) ?_
    refine fo_iald X hw (hm9 hE) dX5_row_66 hf (fun hf => ?_)
    refine fc_Si (rest := []) (As := [.int (0 : Int32), .int (gi_ st14 9 x5.toNatClampNeg)]) X hw hm_X5_canBe (lw_S q1741 q1742 q121 q1743) ⟨rfl, rfl⟩ ⟨by rw [hRf]; exact Nat.le_of_ble_eq_true rfl, by rw [hRl]; exact Nat.le_of_ble_eq_true rfl⟩ rfl rfl hl.1 (Nat.le_of_ble_eq_true rfl) dX5_row_67 (fun rQ stQ hQ => wX5_canBe l E hE (0 : Int32) (gi_ st14 9 x5.toNatClampNeg) st14 rQ stQ hQ) hf (fun x16 st17 H locs hw hf => ?_)
    refine fb_zeq (tgt := 161) hx hb dX5_row_70 (by decide) hf (fun hf => ?_) (fun hf => ?_)
    · refine lv_aload_n hx hb dX5_row_161 rfl (lv_at hl 4 rfl) ?_
      refine lv_dup hx hb dX5_row_162 rfl ?_
      refine fo_geti X hw fc_X5 (hm0 hE) (k := 11) (by decide) rfl q1529 dX5_row_163 ?_
      refine lv_iconst (v := (1 : Int32)) hx hb dX5_row_166 (by decide) ?_
      refine lv_iadd hx hb dX5_row_167 ?_
      refine fo_puti X hw fc_X5 (hm0 hE) (k := 11) (by decide) rfl rfl q1529 ⟨rfl, rfl⟩ dX5_row_168 hf (fun st18 H locs hw hf => ?_)
      refine fb_iinc (v := (3 : Int32)) (lv' := [(3, .int (x5 + (3 : Int32))), (4, .int x11), (2, .int x6), (1, .int x2), (0, .ref (eb E + 0))]) hx hb dX5_row_171 hl (k := 1) rfl (by decide) (by decide) rfl (fun ls hl => ?_)
      refine lv_goto (tgt := 35) hx hb dX5_row_174 (by decide) ?_
      exact hrec8 _ _ _ hf _ _ _ (lv_sub hl [0, 2, 3, 4] rfl) hw
    refine lv_iconst (v := (1 : Int32)) hx hb dX5_row_73 (by decide) ?_
    refine lv_aload_n hx hb dX5_row_74 rfl (lv_at hl 4 rfl) ?_
    refine fo_gets X hw fc_X5 (hm0 hE) (k := 12) (d := 9) (n2 := 9) (by decide) rfl rfl q1530 dX5_row_75 ?_
    refine lv_iload_n hx hb dX5_row_78 rfl (lv_at hl 1 rfl) ?_
    refine lv_iconst (v := (1 : Int32)) hx hb dX5_row_79 (by decide) ?_
    refine lv_iadd hx hb dX5_row_80 ?_
    refine fo_iald X hw (hm9 hE) dX5_row_81 hf (fun hf => ?_)
    refine fc_Si (rest := []) (As := [.int (1 : Int32), .int (gi_ st17 9 (x5 + (1 : Int32)).toNatClampNeg)]) X hw hm_X5_canBe (lw_S q1741 q1742 q121 q1743) ⟨rfl, rfl⟩ ⟨by rw [hRf]; exact Nat.le_of_ble_eq_true rfl, by rw [hRl]; exact Nat.le_of_ble_eq_true rfl⟩ rfl rfl hl.1 (Nat.le_of_ble_eq_true rfl) dX5_row_82 (fun rQ stQ hQ => wX5_canBe l E hE (1 : Int32) (gi_ st17 9 (x5 + (1 : Int32)).toNatClampNeg) st17 rQ stQ hQ) hf (fun x19 st20 H locs hw hf => ?_)
    refine fb_zeq (tgt := 161) hx hb dX5_row_85 (by decide) hf (fun hf => ?_) (fun hf => ?_)
    · refine lv_aload_n hx hb dX5_row_161 rfl (lv_at hl 4 rfl) ?_
      refine lv_dup hx hb dX5_row_162 rfl ?_
      refine fo_geti X hw fc_X5 (hm0 hE) (k := 11) (by decide) rfl q1529 dX5_row_163 ?_
      refine lv_iconst (v := (1 : Int32)) hx hb dX5_row_166 (by decide) ?_
      refine lv_iadd hx hb dX5_row_167 ?_
      refine fo_puti X hw fc_X5 (hm0 hE) (k := 11) (by decide) rfl rfl q1529 ⟨rfl, rfl⟩ dX5_row_168 hf (fun st21 H locs hw hf => ?_)
      refine fb_iinc (v := (3 : Int32)) (lv' := [(3, .int (x5 + (3 : Int32))), (4, .int x11), (2, .int x6), (1, .int x2), (0, .ref (eb E + 0))]) hx hb dX5_row_171 hl (k := 1) rfl (by decide) (by decide) rfl (fun ls hl => ?_)
      refine lv_goto (tgt := 35) hx hb dX5_row_174 (by decide) ?_
      exact hrec8 _ _ _ hf _ _ _ (lv_sub hl [0, 2, 3, 4] rfl) hw
    refine lv_iconst (v := (2 : Int32)) hx hb dX5_row_88 (by decide) ?_
    refine lv_aload_n hx hb dX5_row_89 rfl (lv_at hl 4 rfl) ?_
    refine fo_gets X hw fc_X5 (hm0 hE) (k := 12) (d := 9) (n2 := 9) (by decide) rfl rfl q1530 dX5_row_90 ?_
    refine lv_iload_n hx hb dX5_row_93 rfl (lv_at hl 1 rfl) ?_
    refine lv_iconst (v := (2 : Int32)) hx hb dX5_row_94 (by decide) ?_
    refine lv_iadd hx hb dX5_row_95 ?_
    refine fo_iald X hw (hm9 hE) dX5_row_96 hf (fun hf => ?_)
    refine fc_Si (rest := []) (As := [.int (2 : Int32), .int (gi_ st20 9 (x5 + (2 : Int32)).toNatClampNeg)]) X hw hm_X5_canBe (lw_S q1741 q1742 q121 q1743) ⟨rfl, rfl⟩ ⟨by rw [hRf]; exact Nat.le_of_ble_eq_true rfl, by rw [hRl]; exact Nat.le_of_ble_eq_true rfl⟩ rfl rfl hl.1 (Nat.le_of_ble_eq_true rfl) dX5_row_97 (fun rQ stQ hQ => wX5_canBe l E hE (2 : Int32) (gi_ st20 9 (x5 + (2 : Int32)).toNatClampNeg) st20 rQ stQ hQ) hf (fun x22 st23 H locs hw hf => ?_)
    refine fb_zeq (tgt := 161) hx hb dX5_row_100 (by decide) hf (fun hf => ?_) (fun hf => ?_)
    · refine lv_aload_n hx hb dX5_row_161 rfl (lv_at hl 4 rfl) ?_
      refine lv_dup hx hb dX5_row_162 rfl ?_
      refine fo_geti X hw fc_X5 (hm0 hE) (k := 11) (by decide) rfl q1529 dX5_row_163 ?_
      refine lv_iconst (v := (1 : Int32)) hx hb dX5_row_166 (by decide) ?_
      refine lv_iadd hx hb dX5_row_167 ?_
      refine fo_puti X hw fc_X5 (hm0 hE) (k := 11) (by decide) rfl rfl q1529 ⟨rfl, rfl⟩ dX5_row_168 hf (fun st24 H locs hw hf => ?_)
      refine fb_iinc (v := (3 : Int32)) (lv' := [(3, .int (x5 + (3 : Int32))), (4, .int x11), (2, .int x6), (1, .int x2), (0, .ref (eb E + 0))]) hx hb dX5_row_171 hl (k := 1) rfl (by decide) (by decide) rfl (fun ls hl => ?_)
      refine lv_goto (tgt := 35) hx hb dX5_row_174 (by decide) ?_
      exact hrec8 _ _ _ hf _ _ _ (lv_sub hl [0, 2, 3, 4] rfl) hw
    refine lv_aload_n hx hb dX5_row_103 rfl (lv_at hl 4 rfl) ?_
    refine fo_gets X hw fc_X5 (hm0 hE) (k := 3) (d := 2) (n2 := 2) (by decide) rfl rfl q1521 dX5_row_104 ?_
    refine lv_bipush (v := (56 : Int32)) hx hb dX5_row_107 (by decide) ?_
    refine lv_iload hx hb dX5_row_109 (lv_at hl 0 rfl) ?_
    refine lv_iadd hx hb dX5_row_111 ?_
    refine lv_aload_n hx hb dX5_row_112 rfl (lv_at hl 4 rfl) ?_
    refine fo_gets X hw fc_X5 (hm0 hE) (k := 12) (d := 9) (n2 := 9) (by decide) rfl rfl q1530 dX5_row_113 ?_
    refine lv_iload_n hx hb dX5_row_116 rfl (lv_at hl 1 rfl) ?_
    refine fo_iald X hw (hm9 hE) dX5_row_117 hf (fun hf => ?_)
    refine fo_iast X hw (hm2 hE) dX5_row_118 hf (fun st25 H locs hw hf => ?_)
    refine lv_aload_n hx hb dX5_row_119 rfl (lv_at hl 4 rfl) ?_
    refine fo_gets X hw fc_X5 (hm0 hE) (k := 3) (d := 2) (n2 := 2) (by decide) rfl rfl q1521 dX5_row_120 ?_
    refine lv_bipush (v := (72 : Int32)) hx hb dX5_row_123 (by decide) ?_
    refine lv_iload hx hb dX5_row_125 (lv_at hl 0 rfl) ?_
    refine lv_iadd hx hb dX5_row_127 ?_
    refine lv_aload_n hx hb dX5_row_128 rfl (lv_at hl 4 rfl) ?_
    refine fo_gets X hw fc_X5 (hm0 hE) (k := 12) (d := 9) (n2 := 9) (by decide) rfl rfl q1530 dX5_row_129 ?_
    refine lv_iload_n hx hb dX5_row_132 rfl (lv_at hl 1 rfl) ?_
    refine lv_iconst (v := (1 : Int32)) hx hb dX5_row_133 (by decide) ?_
    refine lv_iadd hx hb dX5_row_134 ?_
    refine fo_iald X hw (hm9 hE) dX5_row_135 hf (fun hf => ?_)
    refine fo_iast X hw (hm2 hE) dX5_row_136 hf (fun st26 H locs hw hf => ?_)
    refine lv_aload_n hx hb dX5_row_137 rfl (lv_at hl 4 rfl) ?_
    refine fo_gets X hw fc_X5 (hm0 hE) (k := 3) (d := 2) (n2 := 2) (by decide) rfl rfl q1521 dX5_row_138 ?_
    refine lv_bipush (v := (88 : Int32)) hx hb dX5_row_141 (by decide) ?_
    refine lv_iload hx hb dX5_row_143 (lv_at hl 0 rfl) ?_
    refine lv_iadd hx hb dX5_row_145 ?_
    refine lv_aload_n hx hb dX5_row_146 rfl (lv_at hl 4 rfl) ?_
    refine fo_gets X hw fc_X5 (hm0 hE) (k := 12) (d := 9) (n2 := 9) (by decide) rfl rfl q1530 dX5_row_147 ?_
    refine lv_iload_n hx hb dX5_row_150 rfl (lv_at hl 1 rfl) ?_
    refine lv_iconst (v := (2 : Int32)) hx hb dX5_row_151 (by decide) ?_
    refine lv_iadd hx hb dX5_row_152 ?_
    refine fo_iald X hw (hm9 hE) dX5_row_153 hf (fun hf => ?_)
    refine fo_iast X hw (hm2 hE) dX5_row_154 hf (fun st27 H locs hw hf => ?_)
    refine fb_iinc (v := (1 : Int32)) (lv' := [(2, .int (x6 + (1 : Int32))), (4, .int x11), (3, .int x5), (1, .int x2), (0, .ref (eb E + 0))]) hx hb dX5_row_155 hl (k := 2) rfl (by decide) (by decide) rfl (fun ls hl => ?_)
    refine lv_goto (tgt := 171) hx hb dX5_row_158 (by decide) ?_
    refine fb_iinc (v := (3 : Int32)) (lv' := [(3, .int (x5 + (3 : Int32))), (2, .int (x6 + (1 : Int32))), (4, .int x11), (1, .int x2), (0, .ref (eb E + 0))]) hx hb dX5_row_171 hl (k := 2) rfl (by decide) (by decide) rfl (fun ls hl => ?_)
    refine lv_goto (tgt := 35) hx hb dX5_row_174 (by decide) ?_
    exact hrec8 _ _ _ hf _ _ _ (lv_sub hl [0, 1, 3, 4] rfl) hw
  refine lv_aload_n hx hb dX5_row_19 rfl (lv_at hl 1 rfl) ?_
  refine lv_bipush (v := (-6 : Int32)) hx hb dX5_row_20 (by decide) ?_
  refine fc_Vi (rest := []) (As := [.int (-6 : Int32)]) X hw hm_X5_tell (lw_V q1710 q1712 qs38 q121 q1713) ⟨rfl, rfl⟩ ⟨by rw [hRf]; exact Nat.le_of_ble_eq_true rfl, by rw [hRl]; exact Nat.le_of_ble_eq_true rfl⟩ fc_X5 rfl (hm0 hE) rfl rfl hl.1 (Nat.le_of_ble_eq_true rfl) dX5_row_22 (fun rQ stQ hQ => wX5_tell l E hE (-6 : Int32) st3 rQ stQ hQ) hf (fun x28 st29 H locs hw hf => ?_)
  exact fd_i hend hw hf dX5_row_25

/-- ForestRoomsModel.moss -/
def fX5_moss (st0 : fo_St) : Option (Int32 × fo_St) := lt_ (si_ st0 0 0 (0 : Int32)) (fun st1 => some ((gi_ st1 0 11), st1))
theorem hm_X5_moss : fo_M yX5_moss 0 := ⟨by decide +kernel, by decide +kernel, by decide +kernel, by decide +kernel⟩
set_option maxHeartbeats 4000000 in
theorem wX5_moss (l : Launch) (E : fo_E) (hE : ∀ n, et E n = tM_ n) (st0 : fo_St) (rZ : Int32) (stZ : fo_St) (hf : fX5_moss st0 = some (rZ, stZ)) : CTi l E yX5_moss (ws_ yX5_moss cX5_moss 1 (some .int)) ({ frames := 0, cells := 0, slots := 0, locals := 0 }) [.ref (eb E + 0)] st0 rZ stZ := by
  refine fe_i hm_X5_moss (Nat.le_of_ble_eq_true rfl) (fun p e R s m args below meth c Q hRf hRl X hend ls hl hw => ?_)
  have hx := X.1.1
  have hb := X.1.2.1
  have hl : lv_has ls 1 [(0, .ref (eb E + 0))] := hl
  unfold fX5_moss at hf
  generalize s.heap = H at hw ⊢
  generalize ([] : List Loc) = locs at hw ⊢
  refine lv_aload_n hx hb dX5_moss_0 rfl (lv_at hl 0 rfl) ?_
  refine lv_iconst (v := (0 : Int32)) hx hb dX5_moss_1 (by decide) ?_
  refine fo_puti X hw fc_X5 (hm0 hE) (k := 0) (by decide) rfl rfl q1518 ⟨rfl, rfl⟩ dX5_moss_2 hf (fun st1 H locs hw hf => ?_)
  refine lv_aload_n hx hb dX5_moss_5 rfl (lv_at hl 0 rfl) ?_
  refine fo_geti X hw fc_X5 (hm0 hE) (k := 11) (by decide) rfl q1529 dX5_moss_6 ?_
  exact fd_i hend hw hf dX5_moss_9

/-- ForestRoomsModel.four -/
def fX5_four (G : Nat) (p1 : Int32) (st0 : fo_St) : Option fo_St := lp2_ (fun rec3 (x1 : Int32) (st2 : fo_St) => if x1 < 0 then some st2 else ck_ (fo_in (gi_ st2 0 13) 400) (lt_ (si_ st2 9 (gi_ st2 0 13).toNatClampNeg ((p1 >>> (x1 &&& 31)) &&& (255 : Int32))) (fun st4 => lt_ (si_ st4 0 13 ((gi_ st4 0 13) + (1 : Int32))) (fun st5 => rec3 (x1 + (-8 : Int32)) st5)))) G (24 : Int32) st0
theorem hm_X5_four : fo_M yX5_four 1 := ⟨by decide +kernel, by decide +kernel, by decide +kernel, by decide +kernel⟩
set_option maxHeartbeats 4000000 in
theorem wX5_four (l : Launch) (E : fo_E) (hE : ∀ n, et E n = tM_ n) (G : Nat) (p1 : Int32) (st0 : fo_St) (stZ : fo_St) (hf : fX5_four G p1 st0 = some stZ) : CTv l E yX5_four (ws_ yX5_four cX5_four 3 none) ({ frames := 0, cells := 0, slots := 0, locals := 0 }) [.ref (eb E + 0), .int p1] st0 stZ := by
  refine fe_v hm_X5_four (Nat.le_of_ble_eq_true rfl) (fun p e R s m args below meth c Q hRf hRl X hend ls hl hw => ?_)
  have hx := X.1.1
  have hb := X.1.2.1
  have hl : lv_has ls 3 [(0, .ref (eb E + 0)), (1, .int p1)] := hl
  unfold fX5_four at hf
  generalize s.heap = H at hw ⊢
  generalize ([] : List Loc) = locs at hw ⊢
  refine lv_bipush (v := (24 : Int32)) hx hb dX5_four_0 (by decide) ?_
  refine lv_istore_n (lv' := [(2, .int (24 : Int32)), (0, .ref (eb E + 0)), (1, .int p1)]) hx hb dX5_four_2 rfl hl (by decide) rfl (fun ls hl => ?_)
  refine lp2_e (P := fun x1 st2 => ∀ (H : Heap) (locs : List Loc) (ls : Array Slot), lv_has ls 3 [(2, .int x1), (0, .ref (eb E + 0)), (1, .int p1)] → fo_S E s st2 H locs → W p l e R s m args below meth c H locs 0 0 Q (F0 m 3 ls [])) (fun rec3 hrec3 x1 st2 hf => ?_) G _ _ hf H locs ls (lv_sub hl [0, 1, 2] rfl) hw
  intro H locs ls hl hw
  refine lv_iload_n hx hb dX5_four_3 rfl (lv_at hl 0 rfl) ?_
  refine fb_zlt (tgt := 39) hx hb dX5_four_4 (by decide) hf (fun hf => ?_) (fun hf => ?_)
  · exact fd_v hend hw hf dX5_four_39
  refine lv_aload_n hx hb dX5_four_7 rfl (lv_at hl 1 rfl) ?_
  refine fo_gets X hw fc_X5 (hm0 hE) (k := 12) (d := 9) (n2 := 9) (by decide) rfl rfl q1530 dX5_four_8 ?_
  refine lv_aload_n hx hb dX5_four_11 rfl (lv_at hl 1 rfl) ?_
  refine fo_geti X hw fc_X5 (hm0 hE) (k := 13) (by decide) rfl q1531 dX5_four_12 ?_
  refine lv_iload_n hx hb dX5_four_15 rfl (lv_at hl 2 rfl) ?_
  refine lv_iload_n hx hb dX5_four_16 rfl (lv_at hl 0 rfl) ?_
  refine lv_ishr hx hb dX5_four_17 ?_
  refine lv_sipush (v := (255 : Int32)) hx hb dX5_four_18 (by decide) ?_
  refine lv_iand hx hb dX5_four_21 ?_
  refine fo_iast X hw (hm9 hE) dX5_four_22 hf (fun st4 H locs hw hf => ?_)
  refine lv_aload_n hx hb dX5_four_23 rfl (lv_at hl 1 rfl) ?_
  refine lv_dup hx hb dX5_four_24 rfl ?_
  refine fo_geti X hw fc_X5 (hm0 hE) (k := 13) (by decide) rfl q1531 dX5_four_25 ?_
  refine lv_iconst (v := (1 : Int32)) hx hb dX5_four_28 (by decide) ?_
  refine lv_iadd hx hb dX5_four_29 ?_
  refine fo_puti X hw fc_X5 (hm0 hE) (k := 13) (by decide) rfl rfl q1531 ⟨rfl, rfl⟩ dX5_four_30 hf (fun st5 H locs hw hf => ?_)
  refine fb_iinc (v := (-8 : Int32)) (lv' := [(2, .int (x1 + (-8 : Int32))), (0, .ref (eb E + 0)), (1, .int p1)]) hx hb dX5_four_33 hl (k := 0) rfl (by decide) (by decide) rfl (fun ls hl => ?_)
  refine lv_goto (tgt := 3) hx hb dX5_four_36 (by decide) ?_
  exact hrec3 _ _ hf _ _ _ (lv_sub hl [0, 1, 2] rfl) hw

/-- ForestRoomsModel.feed -/
def fX5_feed (G : Nat) (p1 : Int32) (p2 : Int32) (p3 : Int32) (p4 : Int32) (p5 : Int32) (st0 : fo_St) : Option (Int32 × fo_St) := lt_ (si_ st0 0 0 (0 : Int32)) (fun st1 => if ((gi_ st1 0 13) + (20 : Int32)) ≤ (400 : Int32) then bv_ (fX5_four G p1 st1) (fun st3 => bv_ (fX5_four G p2 st3) (fun st5 => bv_ (fX5_four G p3 st5) (fun st7 => bv_ (fX5_four G p4 st7) (fun st9 => bv_ (fX5_four G p5 st9) (fun st11 => some ((gi_ st11 0 13), st11)))))) else some ((-1 : Int32), st1))
theorem hm_X5_feed : fo_M yX5_feed 5 := ⟨by decide +kernel, by decide +kernel, by decide +kernel, by decide +kernel⟩
set_option maxHeartbeats 4000000 in
theorem wX5_feed (l : Launch) (E : fo_E) (hE : ∀ n, et E n = tM_ n) (G : Nat) (p1 : Int32) (p2 : Int32) (p3 : Int32) (p4 : Int32) (p5 : Int32) (st0 : fo_St) (rZ : Int32) (stZ : fo_St) (hf : fX5_feed G p1 p2 p3 p4 p5 st0 = some (rZ, stZ)) : CTi l E yX5_feed (ws_ yX5_feed cX5_feed 6 (some .int)) ({ frames := 1, cells := 0, slots := 0, locals := 22 }) [.ref (eb E + 0), .int p1, .int p2, .int p3, .int p4, .int p5] st0 rZ stZ := by
  refine fe_i hm_X5_feed (Nat.le_of_ble_eq_true rfl) (fun p e R s m args below meth c Q hRf hRl X hend ls hl hw => ?_)
  have hx := X.1.1
  have hb := X.1.2.1
  have hl : lv_has ls 6 [(0, .ref (eb E + 0)), (1, .int p1), (2, .int p2), (3, .int p3), (4, .int p4), (5, .int p5)] := hl
  unfold fX5_feed at hf
  generalize s.heap = H at hw ⊢
  generalize ([] : List Loc) = locs at hw ⊢
  refine lv_aload_n hx hb dX5_feed_0 rfl (lv_at hl 0 rfl) ?_
  refine lv_iconst (v := (0 : Int32)) hx hb dX5_feed_1 (by decide) ?_
  refine fo_puti X hw fc_X5 (hm0 hE) (k := 0) (by decide) rfl rfl q1518 ⟨rfl, rfl⟩ dX5_feed_2 hf (fun st1 H locs hw hf => ?_)
  refine lv_aload_n hx hb dX5_feed_5 rfl (lv_at hl 0 rfl) ?_
  refine fo_geti X hw fc_X5 (hm0 hE) (k := 13) (by decide) rfl q1531 dX5_feed_6 ?_
  refine lv_bipush (v := (20 : Int32)) hx hb dX5_feed_9 (by decide) ?_
  refine lv_iadd hx hb dX5_feed_11 ?_
  refine lv_sipush (v := (400 : Int32)) hx hb dX5_feed_12 (by decide) ?_
  refine fb_ile (tgt := 20) hx hb dX5_feed_15 (by decide) hf (fun hf => ?_) (fun hf => ?_)
  · refine lv_aload_n hx hb dX5_feed_20 rfl (lv_at hl 0 rfl) ?_
    refine lv_iload_n hx hb dX5_feed_21 rfl (lv_at hl 1 rfl) ?_
    refine fc_Vv (rest := []) (As := [.int p1]) X hw hm_X5_four (lw_V q1824 q1826 qs52 q121 q1827) ⟨rfl, rfl⟩ ⟨by rw [hRf]; exact Nat.le_of_ble_eq_true rfl, by rw [hRl]; exact Nat.le_of_ble_eq_true rfl⟩ fc_X5 rfl (hm0 hE) rfl rfl hl.1 (Nat.le_of_ble_eq_true rfl) dX5_feed_22 (fun stQ hQ => wX5_four l E hE G p1 st1 stQ hQ) hf (fun st3 H locs hw hf => ?_)
    refine lv_aload_n hx hb dX5_feed_25 rfl (lv_at hl 0 rfl) ?_
    refine lv_iload_n hx hb dX5_feed_26 rfl (lv_at hl 2 rfl) ?_
    refine fc_Vv (rest := []) (As := [.int p2]) X hw hm_X5_four (lw_V q1824 q1826 qs52 q121 q1827) ⟨rfl, rfl⟩ ⟨by rw [hRf]; exact Nat.le_of_ble_eq_true rfl, by rw [hRl]; exact Nat.le_of_ble_eq_true rfl⟩ fc_X5 rfl (hm0 hE) rfl rfl hl.1 (Nat.le_of_ble_eq_true rfl) dX5_feed_27 (fun stQ hQ => wX5_four l E hE G p2 st3 stQ hQ) hf (fun st5 H locs hw hf => ?_)
    refine lv_aload_n hx hb dX5_feed_30 rfl (lv_at hl 0 rfl) ?_
    refine lv_iload_n hx hb dX5_feed_31 rfl (lv_at hl 3 rfl) ?_
    refine fc_Vv (rest := []) (As := [.int p3]) X hw hm_X5_four (lw_V q1824 q1826 qs52 q121 q1827) ⟨rfl, rfl⟩ ⟨by rw [hRf]; exact Nat.le_of_ble_eq_true rfl, by rw [hRl]; exact Nat.le_of_ble_eq_true rfl⟩ fc_X5 rfl (hm0 hE) rfl rfl hl.1 (Nat.le_of_ble_eq_true rfl) dX5_feed_32 (fun stQ hQ => wX5_four l E hE G p3 st5 stQ hQ) hf (fun st7 H locs hw hf => ?_)
    refine lv_aload_n hx hb dX5_feed_35 rfl (lv_at hl 0 rfl) ?_
    refine lv_iload hx hb dX5_feed_36 (lv_at hl 4 rfl) ?_
    refine fc_Vv (rest := []) (As := [.int p4]) X hw hm_X5_four (lw_V q1824 q1826 qs52 q121 q1827) ⟨rfl, rfl⟩ ⟨by rw [hRf]; exact Nat.le_of_ble_eq_true rfl, by rw [hRl]; exact Nat.le_of_ble_eq_true rfl⟩ fc_X5 rfl (hm0 hE) rfl rfl hl.1 (Nat.le_of_ble_eq_true rfl) dX5_feed_38 (fun stQ hQ => wX5_four l E hE G p4 st7 stQ hQ) hf (fun st9 H locs hw hf => ?_)
    refine lv_aload_n hx hb dX5_feed_41 rfl (lv_at hl 0 rfl) ?_
    refine lv_iload hx hb dX5_feed_42 (lv_at hl 5 rfl) ?_
    refine fc_Vv (rest := []) (As := [.int p5]) X hw hm_X5_four (lw_V q1824 q1826 qs52 q121 q1827) ⟨rfl, rfl⟩ ⟨by rw [hRf]; exact Nat.le_of_ble_eq_true rfl, by rw [hRl]; exact Nat.le_of_ble_eq_true rfl⟩ fc_X5 rfl (hm0 hE) rfl rfl hl.1 (Nat.le_of_ble_eq_true rfl) dX5_feed_44 (fun stQ hQ => wX5_four l E hE G p5 st9 stQ hQ) hf (fun st11 H locs hw hf => ?_)
    refine lv_aload_n hx hb dX5_feed_47 rfl (lv_at hl 0 rfl) ?_
    refine fo_geti X hw fc_X5 (hm0 hE) (k := 13) (by decide) rfl q1531 dX5_feed_48 ?_
    exact fd_i hend hw hf dX5_feed_51
  refine lv_iconst (v := (-1 : Int32)) hx hb dX5_feed_18 (by decide) ?_
  exact fd_i hend hw hf dX5_feed_19

/-- ForestRoomsModel.end -/
def fX5_end (p1 : Int32) (st0 : fo_St) : Option (Int32 × fo_St) := lt_ (si_ st0 0 0 (0 : Int32)) (fun st1 => if p1 < 0 then some ((-1 : Int32), st1) else if p1 ≤ (gi_ st1 0 13) then lt_ (si_ st1 0 13 p1) (fun st2 => some (p1, st2)) else some ((-1 : Int32), st1))
theorem hm_X5_end : fo_M yX5_end 1 := ⟨by decide +kernel, by decide +kernel, by decide +kernel, by decide +kernel⟩
set_option maxHeartbeats 4000000 in
theorem wX5_end (l : Launch) (E : fo_E) (hE : ∀ n, et E n = tM_ n) (p1 : Int32) (st0 : fo_St) (rZ : Int32) (stZ : fo_St) (hf : fX5_end p1 st0 = some (rZ, stZ)) : CTi l E yX5_end (ws_ yX5_end cX5_end 2 (some .int)) ({ frames := 0, cells := 0, slots := 0, locals := 0 }) [.ref (eb E + 0), .int p1] st0 rZ stZ := by
  refine fe_i hm_X5_end (Nat.le_of_ble_eq_true rfl) (fun p e R s m args below meth c Q hRf hRl X hend ls hl hw => ?_)
  have hx := X.1.1
  have hb := X.1.2.1
  have hl : lv_has ls 2 [(0, .ref (eb E + 0)), (1, .int p1)] := hl
  unfold fX5_end at hf
  generalize s.heap = H at hw ⊢
  generalize ([] : List Loc) = locs at hw ⊢
  refine lv_aload_n hx hb dX5_end_0 rfl (lv_at hl 0 rfl) ?_
  refine lv_iconst (v := (0 : Int32)) hx hb dX5_end_1 (by decide) ?_
  refine fo_puti X hw fc_X5 (hm0 hE) (k := 0) (by decide) rfl rfl q1518 ⟨rfl, rfl⟩ dX5_end_2 hf (fun st1 H locs hw hf => ?_)
  refine lv_iload_n hx hb dX5_end_5 rfl (lv_at hl 1 rfl) ?_
  refine fb_zlt (tgt := 17) hx hb dX5_end_6 (by decide) hf (fun hf => ?_) (fun hf => ?_)
  · refine lv_iconst (v := (-1 : Int32)) hx hb dX5_end_17 (by decide) ?_
    exact fd_i hend hw hf dX5_end_18
  refine lv_iload_n hx hb dX5_end_9 rfl (lv_at hl 1 rfl) ?_
  refine lv_aload_n hx hb dX5_end_10 rfl (lv_at hl 0 rfl) ?_
  refine fo_geti X hw fc_X5 (hm0 hE) (k := 13) (by decide) rfl q1531 dX5_end_11 ?_
  refine fb_ile (tgt := 19) hx hb dX5_end_14 (by decide) hf (fun hf => ?_) (fun hf => ?_)
  · refine lv_aload_n hx hb dX5_end_19 rfl (lv_at hl 0 rfl) ?_
    refine lv_iload_n hx hb dX5_end_20 rfl (lv_at hl 1 rfl) ?_
    refine fo_puti X hw fc_X5 (hm0 hE) (k := 13) (by decide) rfl rfl q1531 ⟨rfl, rfl⟩ dX5_end_21 hf (fun st2 H locs hw hf => ?_)
    refine lv_iload_n hx hb dX5_end_24 rfl (lv_at hl 1 rfl) ?_
    exact fd_i hend hw hf dX5_end_25
  refine lv_iconst (v := (-1 : Int32)) hx hb dX5_end_17 (by decide) ?_
  exact fd_i hend hw hf dX5_end_18

/-- ForestRoomsModel.fault -/
def fX5_fault (st0 : fo_St) : Option (Int32 × fo_St) := lt_ (si_ st0 0 0 (0 : Int32)) (fun st1 => some ((gi_ st1 0 18), st1))
theorem hm_X5_fault : fo_M yX5_fault 0 := ⟨by decide +kernel, by decide +kernel, by decide +kernel, by decide +kernel⟩
set_option maxHeartbeats 4000000 in
theorem wX5_fault (l : Launch) (E : fo_E) (hE : ∀ n, et E n = tM_ n) (st0 : fo_St) (rZ : Int32) (stZ : fo_St) (hf : fX5_fault st0 = some (rZ, stZ)) : CTi l E yX5_fault (ws_ yX5_fault cX5_fault 1 (some .int)) ({ frames := 0, cells := 0, slots := 0, locals := 0 }) [.ref (eb E + 0)] st0 rZ stZ := by
  refine fe_i hm_X5_fault (Nat.le_of_ble_eq_true rfl) (fun p e R s m args below meth c Q hRf hRl X hend ls hl hw => ?_)
  have hx := X.1.1
  have hb := X.1.2.1
  have hl : lv_has ls 1 [(0, .ref (eb E + 0))] := hl
  unfold fX5_fault at hf
  generalize s.heap = H at hw ⊢
  generalize ([] : List Loc) = locs at hw ⊢
  refine lv_aload_n hx hb dX5_fault_0 rfl (lv_at hl 0 rfl) ?_
  refine lv_iconst (v := (0 : Int32)) hx hb dX5_fault_1 (by decide) ?_
  refine fo_puti X hw fc_X5 (hm0 hE) (k := 0) (by decide) rfl rfl q1518 ⟨rfl, rfl⟩ dX5_fault_2 hf (fun st1 H locs hw hf => ?_)
  refine lv_aload_n hx hb dX5_fault_5 rfl (lv_at hl 0 rfl) ?_
  refine fo_geti X hw fc_X5 (hm0 hE) (k := 18) (by decide) rfl q1536 dX5_fault_6 ?_
  exact fd_i hend hw hf dX5_fault_9

/-- ForestRoomsModel.isSmall -/
def fX5_isSmall (p1 : Int32) (st0 : fo_St) : Option (Int32 × fo_St) := if p1 < (97 : Int32) then some ((0 : Int32), st0) else if (122 : Int32) < p1 then some ((0 : Int32), st0) else some ((1 : Int32), st0)
theorem hm_X5_isSmall : fo_M yX5_isSmall 1 := ⟨by decide +kernel, by decide +kernel, by decide +kernel, by decide +kernel⟩
set_option maxHeartbeats 4000000 in
theorem wX5_isSmall (l : Launch) (E : fo_E) (hE : ∀ n, et E n = tM_ n) (p1 : Int32) (st0 : fo_St) (rZ : Int32) (stZ : fo_St) (hf : fX5_isSmall p1 st0 = some (rZ, stZ)) : CTi l E yX5_isSmall (ws_ yX5_isSmall cX5_isSmall 1 (some .boolean)) ({ frames := 0, cells := 0, slots := 0, locals := 0 }) [.int p1] st0 rZ stZ := by
  refine fe_z hm_X5_isSmall (Nat.le_of_ble_eq_true rfl) (fun p e R s m args below meth c Q hRf hRl X hend ls hl hw => ?_)
  have hx := X.1.1
  have hb := X.1.2.1
  have hl : lv_has ls 1 [(0, .int p1)] := hl
  unfold fX5_isSmall at hf
  generalize s.heap = H at hw ⊢
  generalize ([] : List Loc) = locs at hw ⊢
  refine lv_iload_n hx hb dX5_isSmall_0 rfl (lv_at hl 0 rfl) ?_
  refine lv_bipush (v := (97 : Int32)) hx hb dX5_isSmall_1 (by decide) ?_
  refine fb_ilt (tgt := 16) hx hb dX5_isSmall_3 (by decide) hf (fun hf => ?_) (fun hf => ?_)
  · refine lv_iconst (v := (0 : Int32)) hx hb dX5_isSmall_16 (by decide) ?_
    exact fd_z hend hw rfl hf dX5_isSmall_17
  refine lv_iload_n hx hb dX5_isSmall_6 rfl (lv_at hl 0 rfl) ?_
  refine lv_bipush (v := (122 : Int32)) hx hb dX5_isSmall_7 (by decide) ?_
  refine fb_igt (tgt := 16) hx hb dX5_isSmall_9 (by decide) hf (fun hf => ?_) (fun hf => ?_)
  · refine lv_iconst (v := (0 : Int32)) hx hb dX5_isSmall_16 (by decide) ?_
    exact fd_z hend hw rfl hf dX5_isSmall_17
  refine lv_iconst (v := (1 : Int32)) hx hb dX5_isSmall_12 (by decide) ?_
  refine lv_goto (tgt := 17) hx hb dX5_isSmall_13 (by decide) ?_
  exact fd_z hend hw rfl hf dX5_isSmall_17

/-- ForestRoomsModel.isDigit -/
def fX5_isDigit (p1 : Int32) (st0 : fo_St) : Option (Int32 × fo_St) := if p1 < (48 : Int32) then some ((0 : Int32), st0) else if (57 : Int32) < p1 then some ((0 : Int32), st0) else some ((1 : Int32), st0)
theorem hm_X5_isDigit : fo_M yX5_isDigit 1 := ⟨by decide +kernel, by decide +kernel, by decide +kernel, by decide +kernel⟩
set_option maxHeartbeats 4000000 in
theorem wX5_isDigit (l : Launch) (E : fo_E) (hE : ∀ n, et E n = tM_ n) (p1 : Int32) (st0 : fo_St) (rZ : Int32) (stZ : fo_St) (hf : fX5_isDigit p1 st0 = some (rZ, stZ)) : CTi l E yX5_isDigit (ws_ yX5_isDigit cX5_isDigit 1 (some .boolean)) ({ frames := 0, cells := 0, slots := 0, locals := 0 }) [.int p1] st0 rZ stZ := by
  refine fe_z hm_X5_isDigit (Nat.le_of_ble_eq_true rfl) (fun p e R s m args below meth c Q hRf hRl X hend ls hl hw => ?_)
  have hx := X.1.1
  have hb := X.1.2.1
  have hl : lv_has ls 1 [(0, .int p1)] := hl
  unfold fX5_isDigit at hf
  generalize s.heap = H at hw ⊢
  generalize ([] : List Loc) = locs at hw ⊢
  refine lv_iload_n hx hb dX5_isDigit_0 rfl (lv_at hl 0 rfl) ?_
  refine lv_bipush (v := (48 : Int32)) hx hb dX5_isDigit_1 (by decide) ?_
  refine fb_ilt (tgt := 16) hx hb dX5_isDigit_3 (by decide) hf (fun hf => ?_) (fun hf => ?_)
  · refine lv_iconst (v := (0 : Int32)) hx hb dX5_isDigit_16 (by decide) ?_
    exact fd_z hend hw rfl hf dX5_isDigit_17
  refine lv_iload_n hx hb dX5_isDigit_6 rfl (lv_at hl 0 rfl) ?_
  refine lv_bipush (v := (57 : Int32)) hx hb dX5_isDigit_7 (by decide) ?_
  refine fb_igt (tgt := 16) hx hb dX5_isDigit_9 (by decide) hf (fun hf => ?_) (fun hf => ?_)
  · refine lv_iconst (v := (0 : Int32)) hx hb dX5_isDigit_16 (by decide) ?_
    exact fd_z hend hw rfl hf dX5_isDigit_17
  refine lv_iconst (v := (1 : Int32)) hx hb dX5_isDigit_12 (by decide) ?_
  refine lv_goto (tgt := 17) hx hb dX5_isDigit_13 (by decide) ?_
  exact fd_z hend hw rfl hf dX5_isDigit_17

/-- ForestRoomsModel.nextToken -/
def fX5_nextToken (G : Nat) (st0 : fo_St) : Option fo_St := lt_ (si_ st0 0 14 (gi_ st0 0 15)) (fun st1 => jn_ (fun (st2 : fo_St) => lt_ (si_ st2 0 15 (gi_ st2 0 14)) (fun st4 => lt_ (sl_ st4 0 17 (0 : Int64)) (fun st5 => jn_ (fun (x6 : Int32) (st7 : fo_St) => lt_ (si_ st7 0 16 x6) (fun st9 => jn_ (fun (st10 : fo_St) => jn_ (fun (st12 : fo_St) => lp1_ (fun rec15 (st14 : fo_St) => if ¬ (gi_ st14 0 16) = (2 : Int32) then some st14 else if (gi_ st14 0 13) ≤ (gi_ st14 0 15) then some st14 else ck_ (fo_in (gi_ st14 0 15) 400) (bd_ (fX5_isDigit (gi_ st14 9 (gi_ st14 0 15).toNatClampNeg) st14) (fun x16 st17 => if x16 = 0 then some st17 else jn_ (fun (x18 : Int64) => lt_ (sl_ st17 0 17 x18) (fun st20 => lt_ (si_ st20 0 15 ((gi_ st20 0 15) + (1 : Int32))) (fun st21 => rec15 st21))) (fun k19 => if (gl_ st17 0 17) ≤ (1000000 : Int64) then ck_ (fo_in (gi_ st17 0 15) 400) (k19 ((((gl_ st17 0 17) * (10 : Int64)) + (gi_ st17 9 (gi_ st17 0 15).toNatClampNeg).toInt64) - (48 : Int64))) else k19 (gl_ st17 0 17))))) G st12) (fun k13 => lp1_ (fun rec23 (st22 : fo_St) => if ¬ (gi_ st22 0 16) = (1 : Int32) then k13 st22 else if (gi_ st22 0 13) ≤ (gi_ st22 0 15) then k13 st22 else ck_ (fo_in (gi_ st22 0 15) 400) (bd_ (fX5_isSmall (gi_ st22 9 (gi_ st22 0 15).toNatClampNeg) st22) (fun x24 st25 => if x24 = 0 then k13 st25 else jn_ (fun (x26 : Int64) => lt_ (sl_ st25 0 17 x26) (fun st28 => lt_ (si_ st28 0 15 ((gi_ st28 0 15) + (1 : Int32))) (fun st29 => rec23 st29))) (fun k27 => if (10 : Int32) ≤ ((gi_ st25 0 15) - (gi_ st25 0 14)) then k27 (-1 : Int64) else ck_ (fo_in (gi_ st25 0 15) 400) (k27 ((((gl_ st25 0 17) * (32 : Int64)) + (gi_ st25 9 (gi_ st25 0 15).toNatClampNeg).toInt64) - (96 : Int64))))))) G st10)) (fun k11 => if ¬ (gi_ st9 0 16) = (3 : Int32) then k11 st9 else ck_ (fo_in (gi_ st9 0 14) 400) (lt_ (sl_ st9 0 17 ((gi_ st9 9 (gi_ st9 0 14).toNatClampNeg).toInt64)) (fun st30 => lt_ (si_ st30 0 15 ((gi_ st30 0 15) + (1 : Int32))) (fun st31 => k11 st31)))))) (fun k8 => if ¬ (gi_ st5 0 14) = (gi_ st5 0 13) then ck_ (fo_in (gi_ st5 0 14) 400) (bd_ (fX5_isSmall (gi_ st5 9 (gi_ st5 0 14).toNatClampNeg) st5) (fun x32 st33 => if x32 = 0 then ck_ (fo_in (gi_ st33 0 14) 400) (bd_ (fX5_isDigit (gi_ st33 9 (gi_ st33 0 14).toNatClampNeg) st33) (fun x34 st35 => if x34 = 0 then k8 (3 : Int32) st35 else k8 (2 : Int32) st35)) else k8 (1 : Int32) st33)) else k8 (0 : Int32) st5)))) (fun k3 => lp1_ (fun rec37 (st36 : fo_St) => if (gi_ st36 0 13) ≤ (gi_ st36 0 14) then k3 st36 else ck_ (fo_in (gi_ st36 0 14) 400) (if ¬ (gi_ st36 9 (gi_ st36 0 14).toNatClampNeg) = (32 : Int32) then k3 st36 else lt_ (si_ st36 0 14 ((gi_ st36 0 14) + (1 : Int32))) (fun st38 => rec37 st38))) G st1))
theorem hm_X5_nextToken : fo_M yX5_nextToken 0 := ⟨by decide +kernel, by decide +kernel, by decide +kernel, by decide +kernel⟩
set_option maxHeartbeats 4000000 in
theorem wX5_nextToken (l : Launch) (E : fo_E) (hE : ∀ n, et E n = tM_ n) (G : Nat) (st0 : fo_St) (stZ : fo_St) (hf : fX5_nextToken G st0 = some stZ) : CTv l E yX5_nextToken (ws_ yX5_nextToken cX5_nextToken 1 none) ({ frames := 1, cells := 0, slots := 0, locals := 20 }) [.ref (eb E + 0)] st0 stZ := by
  refine fe_v hm_X5_nextToken (Nat.le_of_ble_eq_true rfl) (fun p e R s m args below meth c Q hRf hRl X hend ls hl hw => ?_)
  have hx := X.1.1
  have hb := X.1.2.1
  have hl : lv_has ls 1 [(0, .ref (eb E + 0))] := hl
  unfold fX5_nextToken at hf
  generalize s.heap = H at hw ⊢
  generalize ([] : List Loc) = locs at hw ⊢
  refine lv_aload_n hx hb dX5_nextToken_0 rfl (lv_at hl 0 rfl) ?_
  refine lv_aload_n hx hb dX5_nextToken_1 rfl (lv_at hl 0 rfl) ?_
  refine fo_geti X hw fc_X5 (hm0 hE) (k := 15) (by decide) rfl q1533 dX5_nextToken_2 ?_
  refine fo_puti X hw fc_X5 (hm0 hE) (k := 14) (by decide) rfl rfl q1532 ⟨rfl, rfl⟩ dX5_nextToken_5 hf (fun st1 H locs hw hf => ?_)
  refine jn_e hf (fun k3 ek hf => ?_)
  have hk3 : ∀  (st2 : fo_St) (H : Heap) (locs : List Loc) (ls : Array Slot), lv_has ls 1 [(0, .ref (eb E + 0))] → fo_S E s st2 H locs → k3 st2 = some stZ → W p l e R s m args below meth c H locs 0 0 Q (F0 m 46 ls []) := by
    intro st2 H locs ls hl hw hf
    rw [ek] at hf
    refine lv_aload_n hx hb dX5_nextToken_46 rfl (lv_at hl 0 rfl) ?_
    refine lv_aload_n hx hb dX5_nextToken_47 rfl (lv_at hl 0 rfl) ?_
    refine fo_geti X hw fc_X5 (hm0 hE) (k := 14) (by decide) rfl q1532 dX5_nextToken_48 ?_
    refine fo_puti X hw fc_X5 (hm0 hE) (k := 15) (by decide) rfl rfl q1533 ⟨rfl, rfl⟩ dX5_nextToken_51 hf (fun st4 H locs hw hf => ?_)
    refine lv_aload_n hx hb dX5_nextToken_54 rfl (lv_at hl 0 rfl) ?_
    refine lv_lconst (v := (0 : Int64)) hx hb dX5_nextToken_55 rfl ?_
    refine fo_putl X hw fc_X5 (hm0 hE) (k := 17) (by decide) rfl rfl q1535 ⟨rfl, rfl⟩ dX5_nextToken_56 hf (fun st5 H locs hw hf => ?_)
    refine lv_aload_n hx hb dX5_nextToken_59 rfl (lv_at hl 0 rfl) ?_
    refine lv_aload_n hx hb dX5_nextToken_60 rfl (lv_at hl 0 rfl) ?_
    refine fo_geti X hw fc_X5 (hm0 hE) (k := 14) (by decide) rfl q1532 dX5_nextToken_61 ?_
    refine lv_aload_n hx hb dX5_nextToken_64 rfl (lv_at hl 0 rfl) ?_
    refine fo_geti X hw fc_X5 (hm0 hE) (k := 13) (by decide) rfl q1531 dX5_nextToken_65 ?_
    refine jn_e hf (fun k8 ek hf => ?_)
    have hk8 : ∀ (x6 : Int32) (st7 : fo_St) (H : Heap) (locs : List Loc) (ls : Array Slot), lv_has ls 1 [(0, .ref (eb E + 0))] → fo_S E s st7 H locs → k8 x6 st7 = some stZ → W p l e R s m args below meth c H locs 0 0 Q (F0 m 114 ls [.int x6, .ref (eb E + 0)]) := by
      intro x6 st7 H locs ls hl hw hf
      rw [ek] at hf
      refine fo_puti X hw fc_X5 (hm0 hE) (k := 16) (by decide) rfl rfl q1534 ⟨rfl, rfl⟩ dX5_nextToken_114 hf (fun st9 H locs hw hf => ?_)
      refine lv_aload_n hx hb dX5_nextToken_117 rfl (lv_at hl 0 rfl) ?_
      refine fo_geti X hw fc_X5 (hm0 hE) (k := 16) (by decide) rfl q1534 dX5_nextToken_118 ?_
      refine lv_iconst (v := (3 : Int32)) hx hb dX5_nextToken_121 (by decide) ?_
      refine jn_e hf (fun k11 ek hf => ?_)
      have hk11 : ∀  (st10 : fo_St) (H : Heap) (locs : List Loc) (ls : Array Slot), lv_has ls 1 [(0, .ref (eb E + 0))] → fo_S E s st10 H locs → k11 st10 = some stZ → W p l e R s m args below meth c H locs 0 0 Q (F0 m 149 ls []) := by
        intro st10 H locs ls hl hw hf
        rw [ek] at hf
        refine jn_e hf (fun k13 ek hf => ?_)
        have hk13 : ∀  (st12 : fo_St) (H : Heap) (locs : List Loc) (ls : Array Slot), lv_has ls 1 [(0, .ref (eb E + 0))] → fo_S E s st12 H locs → k13 st12 = some stZ → W p l e R s m args below meth c H locs 0 0 Q (F0 m 243 ls []) := by
          intro st12 H locs ls hl hw hf
          rw [ek] at hf
          refine lp1_e (P := fun st14 => ∀ (H : Heap) (locs : List Loc) (ls : Array Slot), lv_has ls 1 [(0, .ref (eb E + 0))] → fo_S E s st14 H locs → W p l e R s m args below meth c H locs 0 0 Q (F0 m 243 ls [])) (fun rec15 hrec15 st14 hf => ?_) G _ hf H locs ls (lv_sub hl [0] rfl) hw
          intro H locs ls hl hw
          refine lv_aload_n hx hb dX5_nextToken_243 rfl (lv_at hl 0 rfl) ?_
          refine fo_geti X hw fc_X5 (hm0 hE) (k := 16) (by decide) rfl q1534 dX5_nextToken_244 ?_
          refine lv_iconst (v := (2 : Int32)) hx hb dX5_nextToken_247 (by decide) ?_
          refine fb_ine (tgt := 335) hx hb dX5_nextToken_248 (by decide) hf (fun hf => ?_) (fun hf => ?_)
          · exact fd_v hend hw hf dX5_nextToken_335
          refine lv_aload_n hx hb dX5_nextToken_251 rfl (lv_at hl 0 rfl) ?_
          refine fo_geti X hw fc_X5 (hm0 hE) (k := 15) (by decide) rfl q1533 dX5_nextToken_252 ?_
          refine lv_aload_n hx hb dX5_nextToken_255 rfl (lv_at hl 0 rfl) ?_
          refine fo_geti X hw fc_X5 (hm0 hE) (k := 13) (by decide) rfl q1531 dX5_nextToken_256 ?_
          refine fb_ige (tgt := 335) hx hb dX5_nextToken_259 (by decide) hf (fun hf => ?_) (fun hf => ?_)
          · exact fd_v hend hw hf dX5_nextToken_335
          refine lv_aload_n hx hb dX5_nextToken_262 rfl (lv_at hl 0 rfl) ?_
          refine fo_gets X hw fc_X5 (hm0 hE) (k := 12) (d := 9) (n2 := 9) (by decide) rfl rfl q1530 dX5_nextToken_263 ?_
          refine lv_aload_n hx hb dX5_nextToken_266 rfl (lv_at hl 0 rfl) ?_
          refine fo_geti X hw fc_X5 (hm0 hE) (k := 15) (by decide) rfl q1533 dX5_nextToken_267 ?_
          refine fo_iald X hw (hm9 hE) dX5_nextToken_270 hf (fun hf => ?_)
          refine fc_Si (rest := []) (As := [.int (gi_ st14 9 (gi_ st14 0 15).toNatClampNeg)]) X hw hm_X5_isDigit (lw_S q1855 q1856 q121 q1857) ⟨rfl, rfl⟩ ⟨by rw [hRf]; exact Nat.le_of_ble_eq_true rfl, by rw [hRl]; exact Nat.le_of_ble_eq_true rfl⟩ rfl rfl hl.1 (Nat.le_of_ble_eq_true rfl) dX5_nextToken_271 (fun rQ stQ hQ => wX5_isDigit l E hE (gi_ st14 9 (gi_ st14 0 15).toNatClampNeg) st14 rQ stQ hQ) hf (fun x16 st17 H locs hw hf => ?_)
          refine fb_zeq (tgt := 335) hx hb dX5_nextToken_274 (by decide) hf (fun hf => ?_) (fun hf => ?_)
          · exact fd_v hend hw hf dX5_nextToken_335
          refine lv_aload_n hx hb dX5_nextToken_277 rfl (lv_at hl 0 rfl) ?_
          refine lv_aload_n hx hb dX5_nextToken_278 rfl (lv_at hl 0 rfl) ?_
          refine fo_getl X hw fc_X5 (hm0 hE) (k := 17) (by decide) rfl q1535 dX5_nextToken_279 ?_
          refine lv_ldc2 (v := (1000000 : Int64)) hx hb X.1.2.2.2.1 (X.1.2.2.2.2 _ q1860) dX5_nextToken_282 ?_
          refine jn_e hf (fun k19 ek hf => ?_)
          have hk19 : ∀ (x18 : Int64) (H : Heap) (locs : List Loc) (ls : Array Slot), lv_has ls 1 [(0, .ref (eb E + 0))] → fo_S E s st17 H locs → k19 x18 = some stZ → W p l e R s m args below meth c H locs 0 0 Q (F0 m 319 ls [.long x18, .ref (eb E + 0)]) := by
            intro x18 H locs ls hl hw hf
            rw [ek] at hf
            refine fo_putl X hw fc_X5 (hm0 hE) (k := 17) (by decide) rfl rfl q1535 ⟨rfl, rfl⟩ dX5_nextToken_319 hf (fun st20 H locs hw hf => ?_)
            refine lv_aload_n hx hb dX5_nextToken_322 rfl (lv_at hl 0 rfl) ?_
            refine lv_dup hx hb dX5_nextToken_323 rfl ?_
            refine fo_geti X hw fc_X5 (hm0 hE) (k := 15) (by decide) rfl q1533 dX5_nextToken_324 ?_
            refine lv_iconst (v := (1 : Int32)) hx hb dX5_nextToken_327 (by decide) ?_
            refine lv_iadd hx hb dX5_nextToken_328 ?_
            refine fo_puti X hw fc_X5 (hm0 hE) (k := 15) (by decide) rfl rfl q1533 ⟨rfl, rfl⟩ dX5_nextToken_329 hf (fun st21 H locs hw hf => ?_)
            refine lv_goto (tgt := 243) hx hb dX5_nextToken_332 (by decide) ?_
            exact hrec15 _ hf _ _ _ (lv_sub hl [0] rfl) hw
          clear ek
          refine fb_lle (tgt := 296) hx hb dX5_nextToken_285 dX5_nextToken_286 (by decide) hf (fun hf => ?_) (fun hf => ?_)
          · refine lv_aload_n hx hb dX5_nextToken_296 rfl (lv_at hl 0 rfl) ?_
            refine fo_getl X hw fc_X5 (hm0 hE) (k := 17) (by decide) rfl q1535 dX5_nextToken_297 ?_
            refine lv_ldc2 (v := (10 : Int64)) hx hb X.1.2.2.2.1 (X.1.2.2.2.2 _ q1811) dX5_nextToken_300 ?_
            refine lv_lmul hx hb dX5_nextToken_303 ?_
            refine lv_aload_n hx hb dX5_nextToken_304 rfl (lv_at hl 0 rfl) ?_
            refine fo_gets X hw fc_X5 (hm0 hE) (k := 12) (d := 9) (n2 := 9) (by decide) rfl rfl q1530 dX5_nextToken_305 ?_
            refine lv_aload_n hx hb dX5_nextToken_308 rfl (lv_at hl 0 rfl) ?_
            refine fo_geti X hw fc_X5 (hm0 hE) (k := 15) (by decide) rfl q1533 dX5_nextToken_309 ?_
            refine fo_iald X hw (hm9 hE) dX5_nextToken_312 hf (fun hf => ?_)
            refine lv_i2l (v := (gi_ st17 9 (gi_ st17 0 15).toNatClampNeg).toInt64) hx hb dX5_nextToken_313 rfl ?_
            refine lv_ladd hx hb dX5_nextToken_314 ?_
            refine lv_ldc2 (v := (48 : Int64)) hx hb X.1.2.2.2.1 (X.1.2.2.2.2 _ q1861) dX5_nextToken_315 ?_
            refine lv_lsub hx hb dX5_nextToken_318 ?_
            exact hk19 _ _ _ _ (lv_sub hl [0] rfl) hw hf
          refine lv_aload_n hx hb dX5_nextToken_289 rfl (lv_at hl 0 rfl) ?_
          refine fo_getl X hw fc_X5 (hm0 hE) (k := 17) (by decide) rfl q1535 dX5_nextToken_290 ?_
          refine lv_goto (tgt := 319) hx hb dX5_nextToken_293 (by decide) ?_
          exact hk19 _ _ _ _ (lv_sub hl [0] rfl) hw hf
        clear ek
        refine lp1_e (P := fun st22 => ∀ (H : Heap) (locs : List Loc) (ls : Array Slot), lv_has ls 1 [(0, .ref (eb E + 0))] → fo_S E s st22 H locs → W p l e R s m args below meth c H locs 0 0 Q (F0 m 149 ls [])) (fun rec23 hrec23 st22 hf => ?_) G _ hf H locs ls (lv_sub hl [0] rfl) hw
        intro H locs ls hl hw
        refine lv_aload_n hx hb dX5_nextToken_149 rfl (lv_at hl 0 rfl) ?_
        refine fo_geti X hw fc_X5 (hm0 hE) (k := 16) (by decide) rfl q1534 dX5_nextToken_150 ?_
        refine lv_iconst (v := (1 : Int32)) hx hb dX5_nextToken_153 (by decide) ?_
        refine fb_ine (tgt := 243) hx hb dX5_nextToken_154 (by decide) hf (fun hf => ?_) (fun hf => ?_)
        · exact hk13 _ _ _ _ (lv_sub hl [0] rfl) hw hf
        refine lv_aload_n hx hb dX5_nextToken_157 rfl (lv_at hl 0 rfl) ?_
        refine fo_geti X hw fc_X5 (hm0 hE) (k := 15) (by decide) rfl q1533 dX5_nextToken_158 ?_
        refine lv_aload_n hx hb dX5_nextToken_161 rfl (lv_at hl 0 rfl) ?_
        refine fo_geti X hw fc_X5 (hm0 hE) (k := 13) (by decide) rfl q1531 dX5_nextToken_162 ?_
        refine fb_ige (tgt := 243) hx hb dX5_nextToken_165 (by decide) hf (fun hf => ?_) (fun hf => ?_)
        · exact hk13 _ _ _ _ (lv_sub hl [0] rfl) hw hf
        refine lv_aload_n hx hb dX5_nextToken_168 rfl (lv_at hl 0 rfl) ?_
        refine fo_gets X hw fc_X5 (hm0 hE) (k := 12) (d := 9) (n2 := 9) (by decide) rfl rfl q1530 dX5_nextToken_169 ?_
        refine lv_aload_n hx hb dX5_nextToken_172 rfl (lv_at hl 0 rfl) ?_
        refine fo_geti X hw fc_X5 (hm0 hE) (k := 15) (by decide) rfl q1533 dX5_nextToken_173 ?_
        refine fo_iald X hw (hm9 hE) dX5_nextToken_176 hf (fun hf => ?_)
        refine fc_Si (rest := []) (As := [.int (gi_ st22 9 (gi_ st22 0 15).toNatClampNeg)]) X hw hm_X5_isSmall (lw_S q1852 q1853 q121 q1854) ⟨rfl, rfl⟩ ⟨by rw [hRf]; exact Nat.le_of_ble_eq_true rfl, by rw [hRl]; exact Nat.le_of_ble_eq_true rfl⟩ rfl rfl hl.1 (Nat.le_of_ble_eq_true rfl) dX5_nextToken_177 (fun rQ stQ hQ => wX5_isSmall l E hE (gi_ st22 9 (gi_ st22 0 15).toNatClampNeg) st22 rQ stQ hQ) hf (fun x24 st25 H locs hw hf => ?_)
        refine fb_zeq (tgt := 243) hx hb dX5_nextToken_180 (by decide) hf (fun hf => ?_) (fun hf => ?_)
        · exact hk13 _ _ _ _ (lv_sub hl [0] rfl) hw hf
        refine lv_aload_n hx hb dX5_nextToken_183 rfl (lv_at hl 0 rfl) ?_
        refine lv_aload_n hx hb dX5_nextToken_184 rfl (lv_at hl 0 rfl) ?_
        refine fo_geti X hw fc_X5 (hm0 hE) (k := 15) (by decide) rfl q1533 dX5_nextToken_185 ?_
        refine lv_aload_n hx hb dX5_nextToken_188 rfl (lv_at hl 0 rfl) ?_
        refine fo_geti X hw fc_X5 (hm0 hE) (k := 14) (by decide) rfl q1532 dX5_nextToken_189 ?_
        refine lv_isub hx hb dX5_nextToken_192 ?_
        refine lv_bipush (v := (10 : Int32)) hx hb dX5_nextToken_193 (by decide) ?_
        refine jn_e hf (fun k27 ek hf => ?_)
        have hk27 : ∀ (x26 : Int64) (H : Heap) (locs : List Loc) (ls : Array Slot), lv_has ls 1 [(0, .ref (eb E + 0))] → fo_S E s st25 H locs → k27 x26 = some stZ → W p l e R s m args below meth c H locs 0 0 Q (F0 m 227 ls [.long x26, .ref (eb E + 0)]) := by
          intro x26 H locs ls hl hw hf
          rw [ek] at hf
          refine fo_putl X hw fc_X5 (hm0 hE) (k := 17) (by decide) rfl rfl q1535 ⟨rfl, rfl⟩ dX5_nextToken_227 hf (fun st28 H locs hw hf => ?_)
          refine lv_aload_n hx hb dX5_nextToken_230 rfl (lv_at hl 0 rfl) ?_
          refine lv_dup hx hb dX5_nextToken_231 rfl ?_
          refine fo_geti X hw fc_X5 (hm0 hE) (k := 15) (by decide) rfl q1533 dX5_nextToken_232 ?_
          refine lv_iconst (v := (1 : Int32)) hx hb dX5_nextToken_235 (by decide) ?_
          refine lv_iadd hx hb dX5_nextToken_236 ?_
          refine fo_puti X hw fc_X5 (hm0 hE) (k := 15) (by decide) rfl rfl q1533 ⟨rfl, rfl⟩ dX5_nextToken_237 hf (fun st29 H locs hw hf => ?_)
          refine lv_goto (tgt := 149) hx hb dX5_nextToken_240 (by decide) ?_
          exact hrec23 _ hf _ _ _ (lv_sub hl [0] rfl) hw
        clear ek
        refine fb_ige (tgt := 224) hx hb dX5_nextToken_195 (by decide) hf (fun hf => ?_) (fun hf => ?_)
        · refine lv_ldc2 (v := (-1 : Int64)) hx hb X.1.2.2.2.1 (X.1.2.2.2.2 _ q1778) dX5_nextToken_224 ?_
          exact hk27 _ _ _ _ (lv_sub hl [0] rfl) hw hf
        refine lv_aload_n hx hb dX5_nextToken_198 rfl (lv_at hl 0 rfl) ?_
        refine fo_getl X hw fc_X5 (hm0 hE) (k := 17) (by decide) rfl q1535 dX5_nextToken_199 ?_
        refine lv_ldc2 (v := (32 : Int64)) hx hb X.1.2.2.2.1 (X.1.2.2.2.2 _ q1858) dX5_nextToken_202 ?_
        refine lv_lmul hx hb dX5_nextToken_205 ?_
        refine lv_aload_n hx hb dX5_nextToken_206 rfl (lv_at hl 0 rfl) ?_
        refine fo_gets X hw fc_X5 (hm0 hE) (k := 12) (d := 9) (n2 := 9) (by decide) rfl rfl q1530 dX5_nextToken_207 ?_
        refine lv_aload_n hx hb dX5_nextToken_210 rfl (lv_at hl 0 rfl) ?_
        refine fo_geti X hw fc_X5 (hm0 hE) (k := 15) (by decide) rfl q1533 dX5_nextToken_211 ?_
        refine fo_iald X hw (hm9 hE) dX5_nextToken_214 hf (fun hf => ?_)
        refine lv_i2l (v := (gi_ st25 9 (gi_ st25 0 15).toNatClampNeg).toInt64) hx hb dX5_nextToken_215 rfl ?_
        refine lv_ladd hx hb dX5_nextToken_216 ?_
        refine lv_ldc2 (v := (96 : Int64)) hx hb X.1.2.2.2.1 (X.1.2.2.2.2 _ q1859) dX5_nextToken_217 ?_
        refine lv_lsub hx hb dX5_nextToken_220 ?_
        refine lv_goto (tgt := 227) hx hb dX5_nextToken_221 (by decide) ?_
        exact hk27 _ _ _ _ (lv_sub hl [0] rfl) hw hf
      clear ek
      refine fb_ine (tgt := 149) hx hb dX5_nextToken_122 (by decide) hf (fun hf => ?_) (fun hf => ?_)
      · exact hk11 _ _ _ _ (lv_sub hl [0] rfl) hw hf
      refine lv_aload_n hx hb dX5_nextToken_125 rfl (lv_at hl 0 rfl) ?_
      refine lv_aload_n hx hb dX5_nextToken_126 rfl (lv_at hl 0 rfl) ?_
      refine fo_gets X hw fc_X5 (hm0 hE) (k := 12) (d := 9) (n2 := 9) (by decide) rfl rfl q1530 dX5_nextToken_127 ?_
      refine lv_aload_n hx hb dX5_nextToken_130 rfl (lv_at hl 0 rfl) ?_
      refine fo_geti X hw fc_X5 (hm0 hE) (k := 14) (by decide) rfl q1532 dX5_nextToken_131 ?_
      refine fo_iald X hw (hm9 hE) dX5_nextToken_134 hf (fun hf => ?_)
      refine lv_i2l (v := (gi_ st9 9 (gi_ st9 0 14).toNatClampNeg).toInt64) hx hb dX5_nextToken_135 rfl ?_
      refine fo_putl X hw fc_X5 (hm0 hE) (k := 17) (by decide) rfl rfl q1535 ⟨rfl, rfl⟩ dX5_nextToken_136 hf (fun st30 H locs hw hf => ?_)
      refine lv_aload_n hx hb dX5_nextToken_139 rfl (lv_at hl 0 rfl) ?_
      refine lv_dup hx hb dX5_nextToken_140 rfl ?_
      refine fo_geti X hw fc_X5 (hm0 hE) (k := 15) (by decide) rfl q1533 dX5_nextToken_141 ?_
      refine lv_iconst (v := (1 : Int32)) hx hb dX5_nextToken_144 (by decide) ?_
      refine lv_iadd hx hb dX5_nextToken_145 ?_
      refine fo_puti X hw fc_X5 (hm0 hE) (k := 15) (by decide) rfl rfl q1533 ⟨rfl, rfl⟩ dX5_nextToken_146 hf (fun st31 H locs hw hf => ?_)
      exact hk11 _ _ _ _ (lv_sub hl [0] rfl) hw hf
    clear ek
    refine fb_ine (tgt := 75) hx hb dX5_nextToken_68 (by decide) hf (fun hf => ?_) (fun hf => ?_)
    · refine lv_aload_n hx hb dX5_nextToken_75 rfl (lv_at hl 0 rfl) ?_
      refine fo_gets X hw fc_X5 (hm0 hE) (k := 12) (d := 9) (n2 := 9) (by decide) rfl rfl q1530 dX5_nextToken_76 ?_
      refine lv_aload_n hx hb dX5_nextToken_79 rfl (lv_at hl 0 rfl) ?_
      refine fo_geti X hw fc_X5 (hm0 hE) (k := 14) (by decide) rfl q1532 dX5_nextToken_80 ?_
      refine fo_iald X hw (hm9 hE) dX5_nextToken_83 hf (fun hf => ?_)
      refine fc_Si (rest := [.ref (eb E + 0)]) (As := [.int (gi_ st5 9 (gi_ st5 0 14).toNatClampNeg)]) X hw hm_X5_isSmall (lw_S q1852 q1853 q121 q1854) ⟨rfl, rfl⟩ ⟨by rw [hRf]; exact Nat.le_of_ble_eq_true rfl, by rw [hRl]; exact Nat.le_of_ble_eq_true rfl⟩ rfl rfl hl.1 (Nat.le_of_ble_eq_true rfl) dX5_nextToken_84 (fun rQ stQ hQ => wX5_isSmall l E hE (gi_ st5 9 (gi_ st5 0 14).toNatClampNeg) st5 rQ stQ hQ) hf (fun x32 st33 H locs hw hf => ?_)
      refine fb_zeq (tgt := 94) hx hb dX5_nextToken_87 (by decide) hf (fun hf => ?_) (fun hf => ?_)
      · refine lv_aload_n hx hb dX5_nextToken_94 rfl (lv_at hl 0 rfl) ?_
        refine fo_gets X hw fc_X5 (hm0 hE) (k := 12) (d := 9) (n2 := 9) (by decide) rfl rfl q1530 dX5_nextToken_95 ?_
        refine lv_aload_n hx hb dX5_nextToken_98 rfl (lv_at hl 0 rfl) ?_
        refine fo_geti X hw fc_X5 (hm0 hE) (k := 14) (by decide) rfl q1532 dX5_nextToken_99 ?_
        refine fo_iald X hw (hm9 hE) dX5_nextToken_102 hf (fun hf => ?_)
        refine fc_Si (rest := [.ref (eb E + 0)]) (As := [.int (gi_ st33 9 (gi_ st33 0 14).toNatClampNeg)]) X hw hm_X5_isDigit (lw_S q1855 q1856 q121 q1857) ⟨rfl, rfl⟩ ⟨by rw [hRf]; exact Nat.le_of_ble_eq_true rfl, by rw [hRl]; exact Nat.le_of_ble_eq_true rfl⟩ rfl rfl hl.1 (Nat.le_of_ble_eq_true rfl) dX5_nextToken_103 (fun rQ stQ hQ => wX5_isDigit l E hE (gi_ st33 9 (gi_ st33 0 14).toNatClampNeg) st33 rQ stQ hQ) hf (fun x34 st35 H locs hw hf => ?_)
        refine fb_zeq (tgt := 113) hx hb dX5_nextToken_106 (by decide) hf (fun hf => ?_) (fun hf => ?_)
        · refine lv_iconst (v := (3 : Int32)) hx hb dX5_nextToken_113 (by decide) ?_
          exact hk8 _ _ _ _ _ (lv_sub hl [0] rfl) hw hf
        refine lv_iconst (v := (2 : Int32)) hx hb dX5_nextToken_109 (by decide) ?_
        refine lv_goto (tgt := 114) hx hb dX5_nextToken_110 (by decide) ?_
        exact hk8 _ _ _ _ _ (lv_sub hl [0] rfl) hw hf
      refine lv_iconst (v := (1 : Int32)) hx hb dX5_nextToken_90 (by decide) ?_
      refine lv_goto (tgt := 114) hx hb dX5_nextToken_91 (by decide) ?_
      exact hk8 _ _ _ _ _ (lv_sub hl [0] rfl) hw hf
    refine lv_iconst (v := (0 : Int32)) hx hb dX5_nextToken_71 (by decide) ?_
    refine lv_goto (tgt := 114) hx hb dX5_nextToken_72 (by decide) ?_
    exact hk8 _ _ _ _ _ (lv_sub hl [0] rfl) hw hf
  clear ek
  refine lp1_e (P := fun st36 => ∀ (H : Heap) (locs : List Loc) (ls : Array Slot), lv_has ls 1 [(0, .ref (eb E + 0))] → fo_S E s st36 H locs → W p l e R s m args below meth c H locs 0 0 Q (F0 m 8 ls [])) (fun rec37 hrec37 st36 hf => ?_) G _ hf H locs ls (lv_sub hl [0] rfl) hw
  intro H locs ls hl hw
  refine lv_aload_n hx hb dX5_nextToken_8 rfl (lv_at hl 0 rfl) ?_
  refine fo_geti X hw fc_X5 (hm0 hE) (k := 14) (by decide) rfl q1532 dX5_nextToken_9 ?_
  refine lv_aload_n hx hb dX5_nextToken_12 rfl (lv_at hl 0 rfl) ?_
  refine fo_geti X hw fc_X5 (hm0 hE) (k := 13) (by decide) rfl q1531 dX5_nextToken_13 ?_
  refine fb_ige (tgt := 46) hx hb dX5_nextToken_16 (by decide) hf (fun hf => ?_) (fun hf => ?_)
  · exact hk3 _ _ _ _ (lv_sub hl [0] rfl) hw hf
  refine lv_aload_n hx hb dX5_nextToken_19 rfl (lv_at hl 0 rfl) ?_
  refine fo_gets X hw fc_X5 (hm0 hE) (k := 12) (d := 9) (n2 := 9) (by decide) rfl rfl q1530 dX5_nextToken_20 ?_
  refine lv_aload_n hx hb dX5_nextToken_23 rfl (lv_at hl 0 rfl) ?_
  refine fo_geti X hw fc_X5 (hm0 hE) (k := 14) (by decide) rfl q1532 dX5_nextToken_24 ?_
  refine fo_iald X hw (hm9 hE) dX5_nextToken_27 hf (fun hf => ?_)
  refine lv_bipush (v := (32 : Int32)) hx hb dX5_nextToken_28 (by decide) ?_
  refine fb_ine (tgt := 46) hx hb dX5_nextToken_30 (by decide) hf (fun hf => ?_) (fun hf => ?_)
  · exact hk3 _ _ _ _ (lv_sub hl [0] rfl) hw hf
  refine lv_aload_n hx hb dX5_nextToken_33 rfl (lv_at hl 0 rfl) ?_
  refine lv_dup hx hb dX5_nextToken_34 rfl ?_
  refine fo_geti X hw fc_X5 (hm0 hE) (k := 14) (by decide) rfl q1532 dX5_nextToken_35 ?_
  refine lv_iconst (v := (1 : Int32)) hx hb dX5_nextToken_38 (by decide) ?_
  refine lv_iadd hx hb dX5_nextToken_39 ?_
  refine fo_puti X hw fc_X5 (hm0 hE) (k := 14) (by decide) rfl rfl q1532 ⟨rfl, rfl⟩ dX5_nextToken_40 hf (fun st38 H locs hw hf => ?_)
  refine lv_goto (tgt := 8) hx hb dX5_nextToken_43 (by decide) ?_
  exact hrec37 _ hf _ _ _ (lv_sub hl [0] rfl) hw

/-- ForestRoomsModel.begin -/
def fX5_begin (G : Nat) (st0 : fo_St) : Option fo_St := lt_ (si_ st0 0 15 (0 : Int32)) (fun st1 => lt_ (si_ st1 0 19 (0 : Int32)) (fun st2 => lt_ (si_ st2 0 18 (-1 : Int32)) (fun st3 => bv_ (fX5_nextToken G st3) (fun st5 => some st5))))
theorem hm_X5_begin : fo_M yX5_begin 0 := ⟨by decide +kernel, by decide +kernel, by decide +kernel, by decide +kernel⟩
set_option maxHeartbeats 4000000 in
theorem wX5_begin (l : Launch) (E : fo_E) (hE : ∀ n, et E n = tM_ n) (G : Nat) (st0 : fo_St) (stZ : fo_St) (hf : fX5_begin G st0 = some stZ) : CTv l E yX5_begin (ws_ yX5_begin cX5_begin 1 none) ({ frames := 2, cells := 0, slots := 0, locals := 40 }) [.ref (eb E + 0)] st0 stZ := by
  refine fe_v hm_X5_begin (Nat.le_of_ble_eq_true rfl) (fun p e R s m args below meth c Q hRf hRl X hend ls hl hw => ?_)
  have hx := X.1.1
  have hb := X.1.2.1
  have hl : lv_has ls 1 [(0, .ref (eb E + 0))] := hl
  unfold fX5_begin at hf
  generalize s.heap = H at hw ⊢
  generalize ([] : List Loc) = locs at hw ⊢
  refine lv_aload_n hx hb dX5_begin_0 rfl (lv_at hl 0 rfl) ?_
  refine lv_iconst (v := (0 : Int32)) hx hb dX5_begin_1 (by decide) ?_
  refine fo_puti X hw fc_X5 (hm0 hE) (k := 15) (by decide) rfl rfl q1533 ⟨rfl, rfl⟩ dX5_begin_2 hf (fun st1 H locs hw hf => ?_)
  refine lv_aload_n hx hb dX5_begin_5 rfl (lv_at hl 0 rfl) ?_
  refine lv_iconst (v := (0 : Int32)) hx hb dX5_begin_6 (by decide) ?_
  refine fo_puti X hw fc_X5 (hm0 hE) (k := 19) (by decide) rfl rfl q1537 ⟨rfl, rfl⟩ dX5_begin_7 hf (fun st2 H locs hw hf => ?_)
  refine lv_aload_n hx hb dX5_begin_10 rfl (lv_at hl 0 rfl) ?_
  refine lv_iconst (v := (-1 : Int32)) hx hb dX5_begin_11 (by decide) ?_
  refine fo_puti X hw fc_X5 (hm0 hE) (k := 18) (by decide) rfl rfl q1536 ⟨rfl, rfl⟩ dX5_begin_12 hf (fun st3 H locs hw hf => ?_)
  refine lv_aload_n hx hb dX5_begin_15 rfl (lv_at hl 0 rfl) ?_
  refine fc_Vv (rest := []) (As := []) X hw hm_X5_nextToken (lw_V q1848 q1850 qs55 q121 q1851) ⟨rfl, rfl⟩ ⟨by rw [hRf]; exact Nat.le_of_ble_eq_true rfl, by rw [hRl]; exact Nat.le_of_ble_eq_true rfl⟩ fc_X5 rfl (hm0 hE) rfl rfl hl.1 (Nat.le_of_ble_eq_true rfl) dX5_begin_16 (fun stQ hQ => wX5_nextToken l E hE G st3 stQ hQ) hf (fun st5 H locs hw hf => ?_)
  exact fd_v hend hw hf dX5_begin_19

/-- ForestRoomsModel.beginText -/
def fX5_beginText (G : Nat) (p1 : Int32) (st0 : fo_St) : Option fo_St := ck_ (decide (p1 = 0 ∨ p1 = 1)) (lt_ (si_ st0 0 20 p1) (fun st1 => bv_ (fX5_begin G st1) (fun st3 => lt_ (si_ st3 0 21 (0 : Int32)) (fun st4 => lt_ (si_ st4 0 23 (0 : Int32)) (fun st5 => lt_ (si_ st5 0 26 (0 : Int32)) (fun st6 => some st6))))))
theorem hm_X5_beginText : fo_M yX5_beginText 1 := ⟨by decide +kernel, by decide +kernel, by decide +kernel, by decide +kernel⟩
set_option maxHeartbeats 4000000 in
theorem wX5_beginText (l : Launch) (E : fo_E) (hE : ∀ n, et E n = tM_ n) (G : Nat) (p1 : Int32) (st0 : fo_St) (stZ : fo_St) (hf : fX5_beginText G p1 st0 = some stZ) : CTv l E yX5_beginText (ws_ yX5_beginText cX5_beginText 2 none) ({ frames := 3, cells := 0, slots := 0, locals := 60 }) [.ref (eb E + 0), .int p1] st0 stZ := by
  refine fe_v hm_X5_beginText (Nat.le_of_ble_eq_true rfl) (fun p e R s m args below meth c Q hRf hRl X hend ls hl hw => ?_)
  have hx := X.1.1
  have hb := X.1.2.1
  have hl : lv_has ls 2 [(0, .ref (eb E + 0)), (1, .int p1)] := hl
  unfold fX5_beginText at hf
  generalize s.heap = H at hw ⊢
  generalize ([] : List Loc) = locs at hw ⊢
  refine lv_aload_n hx hb dX5_beginText_0 rfl (lv_at hl 0 rfl) ?_
  refine lv_iload_n hx hb dX5_beginText_1 rfl (lv_at hl 1 rfl) ?_
  obtain ⟨hz, hf⟩ := ck_e hf
  refine fo_puti X hw fc_X5 (hm0 hE) (k := 20) (by decide) rfl rfl q1538 (fo_z hz) dX5_beginText_2 hf (fun st1 H locs hw hf => ?_)
  refine lv_aload_n hx hb dX5_beginText_5 rfl (lv_at hl 0 rfl) ?_
  refine fc_Vv (rest := []) (As := []) X hw hm_X5_begin (lw_V q1844 q1846 qs54 q121 q1847) ⟨rfl, rfl⟩ ⟨by rw [hRf]; exact Nat.le_of_ble_eq_true rfl, by rw [hRl]; exact Nat.le_of_ble_eq_true rfl⟩ fc_X5 rfl (hm0 hE) rfl rfl hl.1 (Nat.le_of_ble_eq_true rfl) dX5_beginText_6 (fun stQ hQ => wX5_begin l E hE G st1 stQ hQ) hf (fun st3 H locs hw hf => ?_)
  refine lv_aload_n hx hb dX5_beginText_9 rfl (lv_at hl 0 rfl) ?_
  refine lv_iconst (v := (0 : Int32)) hx hb dX5_beginText_10 (by decide) ?_
  refine fo_puti X hw fc_X5 (hm0 hE) (k := 21) (by decide) rfl rfl q1539 ⟨rfl, rfl⟩ dX5_beginText_11 hf (fun st4 H locs hw hf => ?_)
  refine lv_aload_n hx hb dX5_beginText_14 rfl (lv_at hl 0 rfl) ?_
  refine lv_iconst (v := (0 : Int32)) hx hb dX5_beginText_15 (by decide) ?_
  refine fo_puti X hw fc_X5 (hm0 hE) (k := 23) (by decide) rfl rfl q1541 ⟨rfl, rfl⟩ dX5_beginText_16 hf (fun st5 H locs hw hf => ?_)
  refine lv_aload_n hx hb dX5_beginText_19 rfl (lv_at hl 0 rfl) ?_
  refine lv_iconst (v := (0 : Int32)) hx hb dX5_beginText_20 (by decide) ?_
  refine fo_puti X hw fc_X5 (hm0 hE) (k := 26) (by decide) rfl rfl q1544 ⟨rfl, rfl⟩ dX5_beginText_21 hf (fun st6 H locs hw hf => ?_)
  exact fd_v hend hw hf dX5_beginText_24

/-- ForestRoomsModel.isWord -/
def fX5_isWord (p1 : Int64) (st0 : fo_St) : Option (Int32 × fo_St) := if ¬ (gi_ st0 0 16) = (1 : Int32) then some ((0 : Int32), st0) else if ¬ (gl_ st0 0 17) = p1 then some ((0 : Int32), st0) else some ((1 : Int32), st0)
theorem hm_X5_isWord : fo_M yX5_isWord 1 := ⟨by decide +kernel, by decide +kernel, by decide +kernel, by decide +kernel⟩
set_option maxHeartbeats 4000000 in
theorem wX5_isWord (l : Launch) (E : fo_E) (hE : ∀ n, et E n = tM_ n) (p1 : Int64) (st0 : fo_St) (rZ : Int32) (stZ : fo_St) (hf : fX5_isWord p1 st0 = some (rZ, stZ)) : CTi l E yX5_isWord (ws_ yX5_isWord cX5_isWord 3 (some .boolean)) ({ frames := 0, cells := 0, slots := 0, locals := 0 }) [.ref (eb E + 0), .long p1] st0 rZ stZ := by
  refine fe_z hm_X5_isWord (Nat.le_of_ble_eq_true rfl) (fun p e R s m args below meth c Q hRf hRl X hend ls hl hw => ?_)
  have hx := X.1.1
  have hb := X.1.2.1
  have hl : lv_has ls 3 [(0, .ref (eb E + 0)), (1, .long p1)] := hl
  unfold fX5_isWord at hf
  generalize s.heap = H at hw ⊢
  generalize ([] : List Loc) = locs at hw ⊢
  refine lv_aload_n hx hb dX5_isWord_0 rfl (lv_at hl 0 rfl) ?_
  refine fo_geti X hw fc_X5 (hm0 hE) (k := 16) (by decide) rfl q1534 dX5_isWord_1 ?_
  refine lv_iconst (v := (1 : Int32)) hx hb dX5_isWord_4 (by decide) ?_
  refine fb_ine (tgt := 21) hx hb dX5_isWord_5 (by decide) hf (fun hf => ?_) (fun hf => ?_)
  · refine lv_iconst (v := (0 : Int32)) hx hb dX5_isWord_21 (by decide) ?_
    exact fd_z hend hw rfl hf dX5_isWord_22
  refine lv_aload_n hx hb dX5_isWord_8 rfl (lv_at hl 0 rfl) ?_
  refine fo_getl X hw fc_X5 (hm0 hE) (k := 17) (by decide) rfl q1535 dX5_isWord_9 ?_
  refine lv_lload_n hx hb dX5_isWord_12 rfl (lv_at hl 1 rfl) ?_
  refine fb_lne (tgt := 21) hx hb dX5_isWord_13 dX5_isWord_14 (by decide) hf (fun hf => ?_) (fun hf => ?_)
  · refine lv_iconst (v := (0 : Int32)) hx hb dX5_isWord_21 (by decide) ?_
    exact fd_z hend hw rfl hf dX5_isWord_22
  refine lv_iconst (v := (1 : Int32)) hx hb dX5_isWord_17 (by decide) ?_
  refine lv_goto (tgt := 22) hx hb dX5_isWord_18 (by decide) ?_
  exact fd_z hend hw rfl hf dX5_isWord_22

/-- ForestRoomsModel.must -/
def fX5_must (G : Nat) (p1 : Int32) (st0 : fo_St) : Option fo_St := jn_ (fun (st1 : fo_St) => if ¬ (gi_ st1 0 19) = 0 then some st1 else bv_ (fX5_nextToken G st1) (fun st4 => some st4)) (fun k2 => if ¬ (gi_ st0 0 19) = 0 then k2 st0 else if ¬ p1 = 0 then k2 st0 else lt_ (si_ st0 0 19 (1 : Int32)) (fun st5 => lt_ (si_ st5 0 18 (gi_ st5 0 14)) (fun st6 => k2 st6)))
theorem hm_X5_must : fo_M yX5_must 1 := ⟨by decide +kernel, by decide +kernel, by decide +kernel, by decide +kernel⟩
set_option maxHeartbeats 4000000 in
theorem wX5_must (l : Launch) (E : fo_E) (hE : ∀ n, et E n = tM_ n) (G : Nat) (p1 : Int32) (st0 : fo_St) (stZ : fo_St) (hf : fX5_must G p1 st0 = some stZ) : CTv l E yX5_must (ws_ yX5_must cX5_must 2 none) ({ frames := 2, cells := 0, slots := 0, locals := 40 }) [.ref (eb E + 0), .int p1] st0 stZ := by
  refine fe_v hm_X5_must (Nat.le_of_ble_eq_true rfl) (fun p e R s m args below meth c Q hRf hRl X hend ls hl hw => ?_)
  have hx := X.1.1
  have hb := X.1.2.1
  have hl : lv_has ls 2 [(0, .ref (eb E + 0)), (1, .int p1)] := hl
  unfold fX5_must at hf
  generalize s.heap = H at hw ⊢
  generalize ([] : List Loc) = locs at hw ⊢
  refine lv_aload_n hx hb dX5_must_0 rfl (lv_at hl 0 rfl) ?_
  refine fo_geti X hw fc_X5 (hm0 hE) (k := 19) (by decide) rfl q1537 dX5_must_1 ?_
  refine jn_e hf (fun k2 ek hf => ?_)
  have hk2 : ∀  (st1 : fo_St) (H : Heap) (locs : List Loc) (ls : Array Slot), lv_has ls 2 [(0, .ref (eb E + 0))] → fo_S E s st1 H locs → k2 st1 = some stZ → W p l e R s m args below meth c H locs 0 0 Q (F0 m 24 ls []) := by
    intro st1 H locs ls hl hw hf
    rw [ek] at hf
    refine lv_aload_n hx hb dX5_must_24 rfl (lv_at hl 0 rfl) ?_
    refine fo_geti X hw fc_X5 (hm0 hE) (k := 19) (by decide) rfl q1537 dX5_must_25 ?_
    refine fb_zne (tgt := 35) hx hb dX5_must_28 (by decide) hf (fun hf => ?_) (fun hf => ?_)
    · exact fd_v hend hw hf dX5_must_35
    refine lv_aload_n hx hb dX5_must_31 rfl (lv_at hl 0 rfl) ?_
    refine fc_Vv (rest := []) (As := []) X hw hm_X5_nextToken (lw_V q1848 q1850 qs55 q121 q1851) ⟨rfl, rfl⟩ ⟨by rw [hRf]; exact Nat.le_of_ble_eq_true rfl, by rw [hRl]; exact Nat.le_of_ble_eq_true rfl⟩ fc_X5 rfl (hm0 hE) rfl rfl hl.1 (Nat.le_of_ble_eq_true rfl) dX5_must_32 (fun stQ hQ => wX5_nextToken l E hE G st1 stQ hQ) hf (fun st4 H locs hw hf => ?_)
    exact fd_v hend hw hf dX5_must_35
  clear ek
  refine fb_zne (tgt := 24) hx hb dX5_must_4 (by decide) hf (fun hf => ?_) (fun hf => ?_)
  · exact hk2 _ _ _ _ (lv_sub hl [0] rfl) hw hf
  refine lv_iload_n hx hb dX5_must_7 rfl (lv_at hl 1 rfl) ?_
  refine fb_zne (tgt := 24) hx hb dX5_must_8 (by decide) hf (fun hf => ?_) (fun hf => ?_)
  · exact hk2 _ _ _ _ (lv_sub hl [0] rfl) hw hf
  refine lv_aload_n hx hb dX5_must_11 rfl (lv_at hl 0 rfl) ?_
  refine lv_iconst (v := (1 : Int32)) hx hb dX5_must_12 (by decide) ?_
  refine fo_puti X hw fc_X5 (hm0 hE) (k := 19) (by decide) rfl rfl q1537 ⟨rfl, rfl⟩ dX5_must_13 hf (fun st5 H locs hw hf => ?_)
  refine lv_aload_n hx hb dX5_must_16 rfl (lv_at hl 0 rfl) ?_
  refine lv_aload_n hx hb dX5_must_17 rfl (lv_at hl 0 rfl) ?_
  refine fo_geti X hw fc_X5 (hm0 hE) (k := 14) (by decide) rfl q1532 dX5_must_18 ?_
  refine fo_puti X hw fc_X5 (hm0 hE) (k := 18) (by decide) rfl rfl q1536 ⟨rfl, rfl⟩ dX5_must_21 hf (fun st6 H locs hw hf => ?_)
  exact hk2 _ _ _ _ (lv_sub hl [0] rfl) hw hf

/-- ForestRoomsModel.push -/
def fX5_push (p1 : Int32) (p2 : Int32) (st0 : fo_St) : Option fo_St := ck_ (fo_in (gi_ st0 0 29) 400) (lt_ (si_ st0 13 (gi_ st0 0 29).toNatClampNeg p1) (fun st1 => ck_ (fo_in (gi_ st1 0 29) 400) (lt_ (si_ st1 14 (gi_ st1 0 29).toNatClampNeg p2) (fun st2 => lt_ (si_ st2 0 29 ((gi_ st2 0 29) + (1 : Int32))) (fun st3 => some st3)))))
theorem hm_X5_push : fo_M yX5_push 2 := ⟨by decide +kernel, by decide +kernel, by decide +kernel, by decide +kernel⟩
set_option maxHeartbeats 4000000 in
theorem wX5_push (l : Launch) (E : fo_E) (hE : ∀ n, et E n = tM_ n) (p1 : Int32) (p2 : Int32) (st0 : fo_St) (stZ : fo_St) (hf : fX5_push p1 p2 st0 = some stZ) : CTv l E yX5_push (ws_ yX5_push cX5_push 3 none) ({ frames := 0, cells := 0, slots := 0, locals := 0 }) [.ref (eb E + 0), .int p1, .int p2] st0 stZ := by
  refine fe_v hm_X5_push (Nat.le_of_ble_eq_true rfl) (fun p e R s m args below meth c Q hRf hRl X hend ls hl hw => ?_)
  have hx := X.1.1
  have hb := X.1.2.1
  have hl : lv_has ls 3 [(0, .ref (eb E + 0)), (1, .int p1), (2, .int p2)] := hl
  unfold fX5_push at hf
  generalize s.heap = H at hw ⊢
  generalize ([] : List Loc) = locs at hw ⊢
  refine lv_aload_n hx hb dX5_push_0 rfl (lv_at hl 0 rfl) ?_
  refine fo_gets X hw fc_X5 (hm0 hE) (k := 27) (d := 13) (n2 := 13) (by decide) rfl rfl q1545 dX5_push_1 ?_
  refine lv_aload_n hx hb dX5_push_4 rfl (lv_at hl 0 rfl) ?_
  refine fo_geti X hw fc_X5 (hm0 hE) (k := 29) (by decide) rfl q1547 dX5_push_5 ?_
  refine lv_iload_n hx hb dX5_push_8 rfl (lv_at hl 1 rfl) ?_
  refine fo_iast X hw (hm13 hE) dX5_push_9 hf (fun st1 H locs hw hf => ?_)
  refine lv_aload_n hx hb dX5_push_10 rfl (lv_at hl 0 rfl) ?_
  refine fo_gets X hw fc_X5 (hm0 hE) (k := 28) (d := 14) (n2 := 14) (by decide) rfl rfl q1546 dX5_push_11 ?_
  refine lv_aload_n hx hb dX5_push_14 rfl (lv_at hl 0 rfl) ?_
  refine fo_geti X hw fc_X5 (hm0 hE) (k := 29) (by decide) rfl q1547 dX5_push_15 ?_
  refine lv_iload_n hx hb dX5_push_18 rfl (lv_at hl 2 rfl) ?_
  refine fo_iast X hw (hm14 hE) dX5_push_19 hf (fun st2 H locs hw hf => ?_)
  refine lv_aload_n hx hb dX5_push_20 rfl (lv_at hl 0 rfl) ?_
  refine lv_dup hx hb dX5_push_21 rfl ?_
  refine fo_geti X hw fc_X5 (hm0 hE) (k := 29) (by decide) rfl q1547 dX5_push_22 ?_
  refine lv_iconst (v := (1 : Int32)) hx hb dX5_push_25 (by decide) ?_
  refine lv_iadd hx hb dX5_push_26 ?_
  refine fo_puti X hw fc_X5 (hm0 hE) (k := 29) (by decide) rfl rfl q1547 ⟨rfl, rfl⟩ dX5_push_27 hf (fun st3 H locs hw hf => ?_)
  exact fd_v hend hw hf dX5_push_30

/-- ForestRoomsModel.isSign -/
def fX5_isSign (p1 : Int32) (st0 : fo_St) : Option (Int32 × fo_St) := if ¬ (gi_ st0 0 16) = (3 : Int32) then some ((0 : Int32), st0) else if ¬ (gl_ st0 0 17) = p1.toInt64 then some ((0 : Int32), st0) else some ((1 : Int32), st0)
theorem hm_X5_isSign : fo_M yX5_isSign 1 := ⟨by decide +kernel, by decide +kernel, by decide +kernel, by decide +kernel⟩
set_option maxHeartbeats 4000000 in
theorem wX5_isSign (l : Launch) (E : fo_E) (hE : ∀ n, et E n = tM_ n) (p1 : Int32) (st0 : fo_St) (rZ : Int32) (stZ : fo_St) (hf : fX5_isSign p1 st0 = some (rZ, stZ)) : CTi l E yX5_isSign (ws_ yX5_isSign cX5_isSign 2 (some .boolean)) ({ frames := 0, cells := 0, slots := 0, locals := 0 }) [.ref (eb E + 0), .int p1] st0 rZ stZ := by
  refine fe_z hm_X5_isSign (Nat.le_of_ble_eq_true rfl) (fun p e R s m args below meth c Q hRf hRl X hend ls hl hw => ?_)
  have hx := X.1.1
  have hb := X.1.2.1
  have hl : lv_has ls 2 [(0, .ref (eb E + 0)), (1, .int p1)] := hl
  unfold fX5_isSign at hf
  generalize s.heap = H at hw ⊢
  generalize ([] : List Loc) = locs at hw ⊢
  refine lv_aload_n hx hb dX5_isSign_0 rfl (lv_at hl 0 rfl) ?_
  refine fo_geti X hw fc_X5 (hm0 hE) (k := 16) (by decide) rfl q1534 dX5_isSign_1 ?_
  refine lv_iconst (v := (3 : Int32)) hx hb dX5_isSign_4 (by decide) ?_
  refine fb_ine (tgt := 22) hx hb dX5_isSign_5 (by decide) hf (fun hf => ?_) (fun hf => ?_)
  · refine lv_iconst (v := (0 : Int32)) hx hb dX5_isSign_22 (by decide) ?_
    exact fd_z hend hw rfl hf dX5_isSign_23
  refine lv_aload_n hx hb dX5_isSign_8 rfl (lv_at hl 0 rfl) ?_
  refine fo_getl X hw fc_X5 (hm0 hE) (k := 17) (by decide) rfl q1535 dX5_isSign_9 ?_
  refine lv_iload_n hx hb dX5_isSign_12 rfl (lv_at hl 1 rfl) ?_
  refine lv_i2l (v := p1.toInt64) hx hb dX5_isSign_13 rfl ?_
  refine fb_lne (tgt := 22) hx hb dX5_isSign_14 dX5_isSign_15 (by decide) hf (fun hf => ?_) (fun hf => ?_)
  · refine lv_iconst (v := (0 : Int32)) hx hb dX5_isSign_22 (by decide) ?_
    exact fd_z hend hw rfl hf dX5_isSign_23
  refine lv_iconst (v := (1 : Int32)) hx hb dX5_isSign_18 (by decide) ?_
  refine lv_goto (tgt := 23) hx hb dX5_isSign_19 (by decide) ?_
  exact fd_z hend hw rfl hf dX5_isSign_23

/-- ForestRoomsModel.openBracket -/
def fX5_openBracket (G : Nat) (p1 : Int32) (st0 : fo_St) : Option fo_St := jn_ (fun (x1 : Int32) => bv_ (fX5_must G x1 st0) (fun st4 => if ¬ (gi_ st4 0 19) = 0 then some st4 else lt_ (si_ st4 0 30 ((gi_ st4 0 30) + (1 : Int32))) (fun st5 => bv_ (fX5_push p1 (0 : Int32) st5) (fun st7 => some st7)))) (fun k2 => if (8 : Int32) ≤ (gi_ st0 0 30) then k2 (0 : Int32) else k2 (1 : Int32))
theorem hm_X5_openBracket : fo_M yX5_openBracket 1 := ⟨by decide +kernel, by decide +kernel, by decide +kernel, by decide +kernel⟩
set_option maxHeartbeats 4000000 in
theorem wX5_openBracket (l : Launch) (E : fo_E) (hE : ∀ n, et E n = tM_ n) (G : Nat) (p1 : Int32) (st0 : fo_St) (stZ : fo_St) (hf : fX5_openBracket G p1 st0 = some stZ) : CTv l E yX5_openBracket (ws_ yX5_openBracket cX5_openBracket 2 none) ({ frames := 3, cells := 0, slots := 0, locals := 61 }) [.ref (eb E + 0), .int p1] st0 stZ := by
  refine fe_v hm_X5_openBracket (Nat.le_of_ble_eq_true rfl) (fun p e R s m args below meth c Q hRf hRl X hend ls hl hw => ?_)
  have hx := X.1.1
  have hb := X.1.2.1
  have hl : lv_has ls 2 [(0, .ref (eb E + 0)), (1, .int p1)] := hl
  unfold fX5_openBracket at hf
  generalize s.heap = H at hw ⊢
  generalize ([] : List Loc) = locs at hw ⊢
  refine lv_aload_n hx hb dX5_openBracket_0 rfl (lv_at hl 0 rfl) ?_
  refine lv_aload_n hx hb dX5_openBracket_1 rfl (lv_at hl 0 rfl) ?_
  refine fo_geti X hw fc_X5 (hm0 hE) (k := 30) (by decide) rfl q1548 dX5_openBracket_2 ?_
  refine lv_bipush (v := (8 : Int32)) hx hb dX5_openBracket_5 (by decide) ?_
  refine jn_e hf (fun k2 ek hf => ?_)
  have hk2 : ∀ (x1 : Int32) (H : Heap) (locs : List Loc) (ls : Array Slot), lv_has ls 2 [(0, .ref (eb E + 0)), (1, .int p1)] → fo_S E s st0 H locs → k2 x1 = some stZ → W p l e R s m args below meth c H locs 0 0 Q (F0 m 15 ls [.int x1, .ref (eb E + 0)]) := by
    intro x1 H locs ls hl hw hf
    rw [ek] at hf
    refine fc_Vv (rest := []) (As := [.int x1]) X hw hm_X5_must (lw_V q1870 q1872 qs58 q121 q1873) ⟨rfl, rfl⟩ ⟨by rw [hRf]; exact Nat.le_of_ble_eq_true rfl, by rw [hRl]; exact Nat.le_of_ble_eq_true rfl⟩ fc_X5 rfl (hm0 hE) rfl rfl hl.1 (Nat.le_of_ble_eq_true rfl) dX5_openBracket_15 (fun stQ hQ => wX5_must l E hE G x1 st0 stQ hQ) hf (fun st4 H locs hw hf => ?_)
    refine lv_aload_n hx hb dX5_openBracket_18 rfl (lv_at hl 0 rfl) ?_
    refine fo_geti X hw fc_X5 (hm0 hE) (k := 19) (by decide) rfl q1537 dX5_openBracket_19 ?_
    refine fb_zne (tgt := 41) hx hb dX5_openBracket_22 (by decide) hf (fun hf => ?_) (fun hf => ?_)
    · exact fd_v hend hw hf dX5_openBracket_41
    refine lv_aload_n hx hb dX5_openBracket_25 rfl (lv_at hl 0 rfl) ?_
    refine lv_dup hx hb dX5_openBracket_26 rfl ?_
    refine fo_geti X hw fc_X5 (hm0 hE) (k := 30) (by decide) rfl q1548 dX5_openBracket_27 ?_
    refine lv_iconst (v := (1 : Int32)) hx hb dX5_openBracket_30 (by decide) ?_
    refine lv_iadd hx hb dX5_openBracket_31 ?_
    refine fo_puti X hw fc_X5 (hm0 hE) (k := 30) (by decide) rfl rfl q1548 ⟨rfl, rfl⟩ dX5_openBracket_32 hf (fun st5 H locs hw hf => ?_)
    refine lv_aload_n hx hb dX5_openBracket_35 rfl (lv_at hl 0 rfl) ?_
    refine lv_iload_n hx hb dX5_openBracket_36 rfl (lv_at hl 1 rfl) ?_
    refine lv_iconst (v := (0 : Int32)) hx hb dX5_openBracket_37 (by decide) ?_
    refine fc_Vv (rest := []) (As := [.int p1, .int (0 : Int32)]) X hw hm_X5_push (lw_V q1883 q1885 qs61 q121 q1886) ⟨rfl, rfl⟩ ⟨by rw [hRf]; exact Nat.le_of_ble_eq_true rfl, by rw [hRl]; exact Nat.le_of_ble_eq_true rfl⟩ fc_X5 rfl (hm0 hE) rfl rfl hl.1 (Nat.le_of_ble_eq_true rfl) dX5_openBracket_38 (fun stQ hQ => wX5_push l E hE p1 (0 : Int32) st5 stQ hQ) hf (fun st7 H locs hw hf => ?_)
    exact fd_v hend hw hf dX5_openBracket_41
  clear ek
  refine fb_ige (tgt := 14) hx hb dX5_openBracket_7 (by decide) hf (fun hf => ?_) (fun hf => ?_)
  · refine lv_iconst (v := (0 : Int32)) hx hb dX5_openBracket_14 (by decide) ?_
    exact hk2 _ _ _ _ (lv_sub hl [0, 1] rfl) hw hf
  refine lv_iconst (v := (1 : Int32)) hx hb dX5_openBracket_10 (by decide) ?_
  refine lv_goto (tgt := 15) hx hb dX5_openBracket_11 (by decide) ?_
  exact hk2 _ _ _ _ (lv_sub hl [0, 1] rfl) hw hf

/-- ForestRoomsModel.orderPartAt -/
def fX5_orderPartAt (G : Nat) (st0 : fo_St) : Option (Int32 × fo_St) := lp3_ (fun rec4 (x1 : Int32) (x2 : Int32) (st3 : fo_St) => if (7 : Int32) ≤ x1 then some (x2, st3) else ck_ (fo_in x1 7) (bd_ (fX5_isWord (gl_ st3 16 x1.toNatClampNeg) st3) (fun x5 st6 => if x5 = 0 then rec4 (x1 + (1 : Int32)) x2 st6 else lI_ (x1 + (1 : Int32)) (fun x7 => rec4 (x1 + (1 : Int32)) x7 st6)))) G (0 : Int32) (-1 : Int32) st0
theorem hm_X5_orderPartAt : fo_M yX5_orderPartAt 0 := ⟨by decide +kernel, by decide +kernel, by decide +kernel, by decide +kernel⟩
set_option maxHeartbeats 4000000 in
theorem wX5_orderPartAt (l : Launch) (E : fo_E) (hE : ∀ n, et E n = tM_ n) (G : Nat) (st0 : fo_St) (rZ : Int32) (stZ : fo_St) (hf : fX5_orderPartAt G st0 = some (rZ, stZ)) : CTi l E yX5_orderPartAt (ws_ yX5_orderPartAt cX5_orderPartAt 3 (some .int)) ({ frames := 1, cells := 0, slots := 0, locals := 22 }) [.ref (eb E + 0)] st0 rZ stZ := by
  refine fe_i hm_X5_orderPartAt (Nat.le_of_ble_eq_true rfl) (fun p e R s m args below meth c Q hRf hRl X hend ls hl hw => ?_)
  have hx := X.1.1
  have hb := X.1.2.1
  have hl : lv_has ls 3 [(0, .ref (eb E + 0))] := hl
  unfold fX5_orderPartAt at hf
  generalize s.heap = H at hw ⊢
  generalize ([] : List Loc) = locs at hw ⊢
  refine lv_iconst (v := (-1 : Int32)) hx hb dX5_orderPartAt_0 (by decide) ?_
  refine lv_istore_n (lv' := [(1, .int (-1 : Int32)), (0, .ref (eb E + 0))]) hx hb dX5_orderPartAt_1 rfl hl (by decide) rfl (fun ls hl => ?_)
  refine lv_iconst (v := (0 : Int32)) hx hb dX5_orderPartAt_2 (by decide) ?_
  refine lv_istore_n (lv' := [(2, .int (0 : Int32)), (1, .int (-1 : Int32)), (0, .ref (eb E + 0))]) hx hb dX5_orderPartAt_3 rfl hl (by decide) rfl (fun ls hl => ?_)
  refine lp3_e (P := fun x1 x2 st3 => ∀ (H : Heap) (locs : List Loc) (ls : Array Slot), lv_has ls 3 [(2, .int x1), (1, .int x2), (0, .ref (eb E + 0))] → fo_S E s st3 H locs → W p l e R s m args below meth c H locs 0 0 Q (F0 m 4 ls [])) (fun rec4 hrec4 x1 x2 st3 hf => ?_) G _ _ _ hf H locs ls (lv_sub hl [0, 1, 2] rfl) hw
  intro H locs ls hl hw
  refine lv_iload_n hx hb dX5_orderPartAt_4 rfl (lv_at hl 0 rfl) ?_
  refine lv_bipush (v := (7 : Int32)) hx hb dX5_orderPartAt_5 (by decide) ?_
  refine fb_ige (tgt := 37) hx hb dX5_orderPartAt_7 (by decide) hf (fun hf => ?_) (fun hf => ?_)
  · refine lv_iload_n hx hb dX5_orderPartAt_37 rfl (lv_at hl 1 rfl) ?_
    exact fd_i hend hw hf dX5_orderPartAt_38
  refine lv_aload_n hx hb dX5_orderPartAt_10 rfl (lv_at hl 2 rfl) ?_
  refine lv_aload_n hx hb dX5_orderPartAt_11 rfl (lv_at hl 2 rfl) ?_
  refine fo_gets X hw fc_X5 (hm0 hE) (k := 32) (d := 16) (n2 := 16) (by decide) rfl rfl q1550 dX5_orderPartAt_12 ?_
  refine lv_iload_n hx hb dX5_orderPartAt_15 rfl (lv_at hl 0 rfl) ?_
  refine fo_lald X hw (hm16 hE) dX5_orderPartAt_16 hf (fun hf => ?_)
  refine fc_Vi (rest := []) (As := [.long (gl_ st3 16 x1.toNatClampNeg)]) X hw hm_X5_isWord (lw_V q1866 q1868 qs57 q121 q1869) ⟨rfl, rfl⟩ ⟨by rw [hRf]; exact Nat.le_of_ble_eq_true rfl, by rw [hRl]; exact Nat.le_of_ble_eq_true rfl⟩ fc_X5 rfl (hm0 hE) rfl rfl hl.1 (Nat.le_of_ble_eq_true rfl) dX5_orderPartAt_17 (fun rQ stQ hQ => wX5_isWord l E hE (gl_ st3 16 x1.toNatClampNeg) st3 rQ stQ hQ) hf (fun x5 st6 H locs hw hf => ?_)
  refine fb_zeq (tgt := 29) hx hb dX5_orderPartAt_20 (by decide) hf (fun hf => ?_) (fun hf => ?_)
  · refine lv_iload_n hx hb dX5_orderPartAt_29 rfl (lv_at hl 1 rfl) ?_
    refine lv_istore_n (lv' := [(1, .int x2), (2, .int x1), (0, .ref (eb E + 0))]) hx hb dX5_orderPartAt_30 rfl hl (by decide) rfl (fun ls hl => ?_)
    refine fb_iinc (v := (1 : Int32)) (lv' := [(2, .int (x1 + (1 : Int32))), (1, .int x2), (0, .ref (eb E + 0))]) hx hb dX5_orderPartAt_31 hl (k := 1) rfl (by decide) (by decide) rfl (fun ls hl => ?_)
    refine lv_goto (tgt := 4) hx hb dX5_orderPartAt_34 (by decide) ?_
    exact hrec4 _ _ _ hf _ _ _ (lv_sub hl [0, 1, 2] rfl) hw
  refine lv_iload_n hx hb dX5_orderPartAt_23 rfl (lv_at hl 0 rfl) ?_
  refine lv_iconst (v := (1 : Int32)) hx hb dX5_orderPartAt_24 (by decide) ?_
  refine lv_iadd hx hb dX5_orderPartAt_25 ?_
  refine lv_goto (tgt := 30) hx hb dX5_orderPartAt_26 (by decide) ?_
  refine fo_tI hf (fun x7 hf => ?_)
  refine lv_istore_n (lv' := [(1, .int x7), (2, .int x1), (0, .ref (eb E + 0))]) hx hb dX5_orderPartAt_30 rfl hl (by decide) rfl (fun ls hl => ?_)
  refine fb_iinc (v := (1 : Int32)) (lv' := [(2, .int (x1 + (1 : Int32))), (1, .int x7), (0, .ref (eb E + 0))]) hx hb dX5_orderPartAt_31 hl (k := 1) rfl (by decide) (by decide) rfl (fun ls hl => ?_)
  refine lv_goto (tgt := 4) hx hb dX5_orderPartAt_34 (by decide) ?_
  exact hrec4 _ _ _ hf _ _ _ (lv_sub hl [0, 1, 2] rfl) hw

/-- ForestRoomsModel.partAt -/
def fX5_partAt (G : Nat) (st0 : fo_St) : Option (Int32 × fo_St) := lp3_ (fun rec4 (x1 : Int32) (x2 : Int32) (st3 : fo_St) => if (11 : Int32) ≤ x1 then some (x2, st3) else ck_ (fo_in x1 11) (bd_ (fX5_isWord (gl_ st3 15 x1.toNatClampNeg) st3) (fun x5 st6 => if x5 = 0 then rec4 (x1 + (1 : Int32)) x2 st6 else lI_ (x1 + (1 : Int32)) (fun x7 => rec4 (x1 + (1 : Int32)) x7 st6)))) G (0 : Int32) (-1 : Int32) st0
theorem hm_X5_partAt : fo_M yX5_partAt 0 := ⟨by decide +kernel, by decide +kernel, by decide +kernel, by decide +kernel⟩
set_option maxHeartbeats 4000000 in
theorem wX5_partAt (l : Launch) (E : fo_E) (hE : ∀ n, et E n = tM_ n) (G : Nat) (st0 : fo_St) (rZ : Int32) (stZ : fo_St) (hf : fX5_partAt G st0 = some (rZ, stZ)) : CTi l E yX5_partAt (ws_ yX5_partAt cX5_partAt 3 (some .int)) ({ frames := 1, cells := 0, slots := 0, locals := 22 }) [.ref (eb E + 0)] st0 rZ stZ := by
  refine fe_i hm_X5_partAt (Nat.le_of_ble_eq_true rfl) (fun p e R s m args below meth c Q hRf hRl X hend ls hl hw => ?_)
  have hx := X.1.1
  have hb := X.1.2.1
  have hl : lv_has ls 3 [(0, .ref (eb E + 0))] := hl
  unfold fX5_partAt at hf
  generalize s.heap = H at hw ⊢
  generalize ([] : List Loc) = locs at hw ⊢
  refine lv_iconst (v := (-1 : Int32)) hx hb dX5_partAt_0 (by decide) ?_
  refine lv_istore_n (lv' := [(1, .int (-1 : Int32)), (0, .ref (eb E + 0))]) hx hb dX5_partAt_1 rfl hl (by decide) rfl (fun ls hl => ?_)
  refine lv_iconst (v := (0 : Int32)) hx hb dX5_partAt_2 (by decide) ?_
  refine lv_istore_n (lv' := [(2, .int (0 : Int32)), (1, .int (-1 : Int32)), (0, .ref (eb E + 0))]) hx hb dX5_partAt_3 rfl hl (by decide) rfl (fun ls hl => ?_)
  refine lp3_e (P := fun x1 x2 st3 => ∀ (H : Heap) (locs : List Loc) (ls : Array Slot), lv_has ls 3 [(2, .int x1), (1, .int x2), (0, .ref (eb E + 0))] → fo_S E s st3 H locs → W p l e R s m args below meth c H locs 0 0 Q (F0 m 4 ls [])) (fun rec4 hrec4 x1 x2 st3 hf => ?_) G _ _ _ hf H locs ls (lv_sub hl [0, 1, 2] rfl) hw
  intro H locs ls hl hw
  refine lv_iload_n hx hb dX5_partAt_4 rfl (lv_at hl 0 rfl) ?_
  refine lv_bipush (v := (11 : Int32)) hx hb dX5_partAt_5 (by decide) ?_
  refine fb_ige (tgt := 37) hx hb dX5_partAt_7 (by decide) hf (fun hf => ?_) (fun hf => ?_)
  · refine lv_iload_n hx hb dX5_partAt_37 rfl (lv_at hl 1 rfl) ?_
    exact fd_i hend hw hf dX5_partAt_38
  refine lv_aload_n hx hb dX5_partAt_10 rfl (lv_at hl 2 rfl) ?_
  refine lv_aload_n hx hb dX5_partAt_11 rfl (lv_at hl 2 rfl) ?_
  refine fo_gets X hw fc_X5 (hm0 hE) (k := 31) (d := 15) (n2 := 15) (by decide) rfl rfl q1549 dX5_partAt_12 ?_
  refine lv_iload_n hx hb dX5_partAt_15 rfl (lv_at hl 0 rfl) ?_
  refine fo_lald X hw (hm15 hE) dX5_partAt_16 hf (fun hf => ?_)
  refine fc_Vi (rest := []) (As := [.long (gl_ st3 15 x1.toNatClampNeg)]) X hw hm_X5_isWord (lw_V q1866 q1868 qs57 q121 q1869) ⟨rfl, rfl⟩ ⟨by rw [hRf]; exact Nat.le_of_ble_eq_true rfl, by rw [hRl]; exact Nat.le_of_ble_eq_true rfl⟩ fc_X5 rfl (hm0 hE) rfl rfl hl.1 (Nat.le_of_ble_eq_true rfl) dX5_partAt_17 (fun rQ stQ hQ => wX5_isWord l E hE (gl_ st3 15 x1.toNatClampNeg) st3 rQ stQ hQ) hf (fun x5 st6 H locs hw hf => ?_)
  refine fb_zeq (tgt := 29) hx hb dX5_partAt_20 (by decide) hf (fun hf => ?_) (fun hf => ?_)
  · refine lv_iload_n hx hb dX5_partAt_29 rfl (lv_at hl 1 rfl) ?_
    refine lv_istore_n (lv' := [(1, .int x2), (2, .int x1), (0, .ref (eb E + 0))]) hx hb dX5_partAt_30 rfl hl (by decide) rfl (fun ls hl => ?_)
    refine fb_iinc (v := (1 : Int32)) (lv' := [(2, .int (x1 + (1 : Int32))), (1, .int x2), (0, .ref (eb E + 0))]) hx hb dX5_partAt_31 hl (k := 1) rfl (by decide) (by decide) rfl (fun ls hl => ?_)
    refine lv_goto (tgt := 4) hx hb dX5_partAt_34 (by decide) ?_
    exact hrec4 _ _ _ hf _ _ _ (lv_sub hl [0, 1, 2] rfl) hw
  refine lv_iload_n hx hb dX5_partAt_23 rfl (lv_at hl 0 rfl) ?_
  refine lv_iconst (v := (1 : Int32)) hx hb dX5_partAt_24 (by decide) ?_
  refine lv_iadd hx hb dX5_partAt_25 ?_
  refine lv_goto (tgt := 30) hx hb dX5_partAt_26 (by decide) ?_
  refine fo_tI hf (fun x7 hf => ?_)
  refine lv_istore_n (lv' := [(1, .int x7), (2, .int x1), (0, .ref (eb E + 0))]) hx hb dX5_partAt_30 rfl hl (by decide) rfl (fun ls hl => ?_)
  refine fb_iinc (v := (1 : Int32)) (lv' := [(2, .int (x1 + (1 : Int32))), (1, .int x7), (0, .ref (eb E + 0))]) hx hb dX5_partAt_31 hl (k := 1) rfl (by decide) (by decide) rfl (fun ls hl => ?_)
  refine lv_goto (tgt := 4) hx hb dX5_partAt_34 (by decide) ?_
  exact hrec4 _ _ _ hf _ _ _ (lv_sub hl [0, 1, 2] rfl) hw

/-- ForestRoomsModel.emit -/
def fX5_emit (p1 : Int32) (p2 : Int32) (st0 : fo_St) : Option fo_St := ck_ (fo_in (gi_ st0 0 23) 400) (lt_ (si_ st0 11 (gi_ st0 0 23).toNatClampNeg p1) (fun st1 => ck_ (fo_in (gi_ st1 0 23) 400) (lt_ (si_ st1 12 (gi_ st1 0 23).toNatClampNeg p2) (fun st2 => lt_ (si_ st2 0 23 ((gi_ st2 0 23) + (1 : Int32))) (fun st3 => some st3)))))
theorem hm_X5_emit : fo_M yX5_emit 2 := ⟨by decide +kernel, by decide +kernel, by decide +kernel, by decide +kernel⟩
set_option maxHeartbeats 4000000 in
theorem wX5_emit (l : Launch) (E : fo_E) (hE : ∀ n, et E n = tM_ n) (p1 : Int32) (p2 : Int32) (st0 : fo_St) (stZ : fo_St) (hf : fX5_emit p1 p2 st0 = some stZ) : CTv l E yX5_emit (ws_ yX5_emit cX5_emit 3 none) ({ frames := 0, cells := 0, slots := 0, locals := 0 }) [.ref (eb E + 0), .int p1, .int p2] st0 stZ := by
  refine fe_v hm_X5_emit (Nat.le_of_ble_eq_true rfl) (fun p e R s m args below meth c Q hRf hRl X hend ls hl hw => ?_)
  have hx := X.1.1
  have hb := X.1.2.1
  have hl : lv_has ls 3 [(0, .ref (eb E + 0)), (1, .int p1), (2, .int p2)] := hl
  unfold fX5_emit at hf
  generalize s.heap = H at hw ⊢
  generalize ([] : List Loc) = locs at hw ⊢
  refine lv_aload_n hx hb dX5_emit_0 rfl (lv_at hl 0 rfl) ?_
  refine fo_gets X hw fc_X5 (hm0 hE) (k := 24) (d := 11) (n2 := 11) (by decide) rfl rfl q1542 dX5_emit_1 ?_
  refine lv_aload_n hx hb dX5_emit_4 rfl (lv_at hl 0 rfl) ?_
  refine fo_geti X hw fc_X5 (hm0 hE) (k := 23) (by decide) rfl q1541 dX5_emit_5 ?_
  refine lv_iload_n hx hb dX5_emit_8 rfl (lv_at hl 1 rfl) ?_
  refine fo_iast X hw (hm11 hE) dX5_emit_9 hf (fun st1 H locs hw hf => ?_)
  refine lv_aload_n hx hb dX5_emit_10 rfl (lv_at hl 0 rfl) ?_
  refine fo_gets X hw fc_X5 (hm0 hE) (k := 25) (d := 12) (n2 := 12) (by decide) rfl rfl q1543 dX5_emit_11 ?_
  refine lv_aload_n hx hb dX5_emit_14 rfl (lv_at hl 0 rfl) ?_
  refine fo_geti X hw fc_X5 (hm0 hE) (k := 23) (by decide) rfl q1541 dX5_emit_15 ?_
  refine lv_iload_n hx hb dX5_emit_18 rfl (lv_at hl 2 rfl) ?_
  refine fo_iast X hw (hm12 hE) dX5_emit_19 hf (fun st2 H locs hw hf => ?_)
  refine lv_aload_n hx hb dX5_emit_20 rfl (lv_at hl 0 rfl) ?_
  refine lv_dup hx hb dX5_emit_21 rfl ?_
  refine fo_geti X hw fc_X5 (hm0 hE) (k := 23) (by decide) rfl q1541 dX5_emit_22 ?_
  refine lv_iconst (v := (1 : Int32)) hx hb dX5_emit_25 (by decide) ?_
  refine lv_iadd hx hb dX5_emit_26 ?_
  refine fo_puti X hw fc_X5 (hm0 hE) (k := 23) (by decide) rfl rfl q1541 ⟨rfl, rfl⟩ dX5_emit_27 hf (fun st3 H locs hw hf => ?_)
  exact fd_v hend hw hf dX5_emit_30

/-- ForestRoomsModel.leaf -/
def fX5_leaf (G : Nat) (p1 : Int32) (p2 : Int32) (p3 : Int32) (st0 : fo_St) : Option fo_St := jn_ (fun (x1 : Int32) => bv_ (fX5_must G x1 st0) (fun st4 => if ¬ (gi_ st4 0 19) = 0 then some st4 else bv_ (fX5_emit p2 p3 st4) (fun st6 => lt_ (si_ st6 0 26 ((gi_ st6 0 26) + (1 : Int32))) (fun st7 => some st7)))) (fun k2 => if p1 = 0 then k2 (0 : Int32) else if (50 : Int32) ≤ (gi_ st0 0 26) then k2 (0 : Int32) else k2 (1 : Int32))
theorem hm_X5_leaf : fo_M yX5_leaf 3 := ⟨by decide +kernel, by decide +kernel, by decide +kernel, by decide +kernel⟩
set_option maxHeartbeats 4000000 in
theorem wX5_leaf (l : Launch) (E : fo_E) (hE : ∀ n, et E n = tM_ n) (G : Nat) (p1 : Int32) (p2 : Int32) (p3 : Int32) (st0 : fo_St) (stZ : fo_St) (hf : fX5_leaf G p1 p2 p3 st0 = some stZ) : CTv l E yX5_leaf (ws_ yX5_leaf cX5_leaf 4 none) ({ frames := 3, cells := 0, slots := 0, locals := 61 }) [.ref (eb E + 0), .int p1, .int p2, .int p3] st0 stZ := by
  refine fe_v hm_X5_leaf (Nat.le_of_ble_eq_true rfl) (fun p e R s m args below meth c Q hRf hRl X hend ls hl hw => ?_)
  have hx := X.1.1
  have hb := X.1.2.1
  have hl : lv_has ls 4 [(0, .ref (eb E + 0)), (1, .int p1), (2, .int p2), (3, .int p3)] := hl
  unfold fX5_leaf at hf
  generalize s.heap = H at hw ⊢
  generalize ([] : List Loc) = locs at hw ⊢
  refine lv_aload_n hx hb dX5_leaf_0 rfl (lv_at hl 0 rfl) ?_
  refine lv_iload_n hx hb dX5_leaf_1 rfl (lv_at hl 1 rfl) ?_
  refine jn_e hf (fun k2 ek hf => ?_)
  have hk2 : ∀ (x1 : Int32) (H : Heap) (locs : List Loc) (ls : Array Slot), lv_has ls 4 [(0, .ref (eb E + 0)), (2, .int p2), (3, .int p3)] → fo_S E s st0 H locs → k2 x1 = some stZ → W p l e R s m args below meth c H locs 0 0 Q (F0 m 19 ls [.int x1, .ref (eb E + 0)]) := by
    intro x1 H locs ls hl hw hf
    rw [ek] at hf
    refine fc_Vv (rest := []) (As := [.int x1]) X hw hm_X5_must (lw_V q1870 q1872 qs58 q121 q1873) ⟨rfl, rfl⟩ ⟨by rw [hRf]; exact Nat.le_of_ble_eq_true rfl, by rw [hRl]; exact Nat.le_of_ble_eq_true rfl⟩ fc_X5 rfl (hm0 hE) rfl rfl hl.1 (Nat.le_of_ble_eq_true rfl) dX5_leaf_19 (fun stQ hQ => wX5_must l E hE G x1 st0 stQ hQ) hf (fun st4 H locs hw hf => ?_)
    refine lv_aload_n hx hb dX5_leaf_22 rfl (lv_at hl 0 rfl) ?_
    refine fo_geti X hw fc_X5 (hm0 hE) (k := 19) (by decide) rfl q1537 dX5_leaf_23 ?_
    refine fb_zne (tgt := 45) hx hb dX5_leaf_26 (by decide) hf (fun hf => ?_) (fun hf => ?_)
    · exact fd_v hend hw hf dX5_leaf_45
    refine lv_aload_n hx hb dX5_leaf_29 rfl (lv_at hl 0 rfl) ?_
    refine lv_iload_n hx hb dX5_leaf_30 rfl (lv_at hl 1 rfl) ?_
    refine lv_iload_n hx hb dX5_leaf_31 rfl (lv_at hl 2 rfl) ?_
    refine fc_Vv (rest := []) (As := [.int p2, .int p3]) X hw hm_X5_emit (lw_V q1912 q1914 qs68 q121 q1915) ⟨rfl, rfl⟩ ⟨by rw [hRf]; exact Nat.le_of_ble_eq_true rfl, by rw [hRl]; exact Nat.le_of_ble_eq_true rfl⟩ fc_X5 rfl (hm0 hE) rfl rfl hl.1 (Nat.le_of_ble_eq_true rfl) dX5_leaf_32 (fun stQ hQ => wX5_emit l E hE p2 p3 st4 stQ hQ) hf (fun st6 H locs hw hf => ?_)
    refine lv_aload_n hx hb dX5_leaf_35 rfl (lv_at hl 0 rfl) ?_
    refine lv_dup hx hb dX5_leaf_36 rfl ?_
    refine fo_geti X hw fc_X5 (hm0 hE) (k := 26) (by decide) rfl q1544 dX5_leaf_37 ?_
    refine lv_iconst (v := (1 : Int32)) hx hb dX5_leaf_40 (by decide) ?_
    refine lv_iadd hx hb dX5_leaf_41 ?_
    refine fo_puti X hw fc_X5 (hm0 hE) (k := 26) (by decide) rfl rfl q1544 ⟨rfl, rfl⟩ dX5_leaf_42 hf (fun st7 H locs hw hf => ?_)
    exact fd_v hend hw hf dX5_leaf_45
  clear ek
  refine fb_zeq (tgt := 18) hx hb dX5_leaf_2 (by decide) hf (fun hf => ?_) (fun hf => ?_)
  · refine lv_iconst (v := (0 : Int32)) hx hb dX5_leaf_18 (by decide) ?_
    exact hk2 _ _ _ _ (lv_sub hl [0, 2, 3] rfl) hw hf
  refine lv_aload_n hx hb dX5_leaf_5 rfl (lv_at hl 0 rfl) ?_
  refine fo_geti X hw fc_X5 (hm0 hE) (k := 26) (by decide) rfl q1544 dX5_leaf_6 ?_
  refine lv_bipush (v := (50 : Int32)) hx hb dX5_leaf_9 (by decide) ?_
  refine fb_ige (tgt := 18) hx hb dX5_leaf_11 (by decide) hf (fun hf => ?_) (fun hf => ?_)
  · refine lv_iconst (v := (0 : Int32)) hx hb dX5_leaf_18 (by decide) ?_
    exact hk2 _ _ _ _ (lv_sub hl [0, 2, 3] rfl) hw hf
  refine lv_iconst (v := (1 : Int32)) hx hb dX5_leaf_14 (by decide) ?_
  refine lv_goto (tgt := 19) hx hb dX5_leaf_15 (by decide) ?_
  exact hk2 _ _ _ _ (lv_sub hl [0, 2, 3] rfl) hw hf

/-- ForestRoomsModel.number -/
def fX5_number (G : Nat) (p1 : Int64) (p2 : Int64) (st0 : fo_St) : Option (Int32 × fo_St) := lI_ ((gl_ st0 0 17).toInt32) (fun x1 => jn_ (fun (x2 : Int32) (st3 : fo_St) => bv_ (fX5_must G x2 st3) (fun st6 => some (x1, st6))) (fun k4 => if ¬ (gi_ st0 0 16) = (2 : Int32) then k4 (0 : Int32) st0 else bd_ (fX5_in (gl_ st0 0 17) p1 p2 st0) (fun x7 st8 => if x7 = 0 then k4 (0 : Int32) st8 else k4 (1 : Int32) st8)))
theorem hm_X5_number : fo_M yX5_number 2 := ⟨by decide +kernel, by decide +kernel, by decide +kernel, by decide +kernel⟩
set_option maxHeartbeats 4000000 in
theorem wX5_number (l : Launch) (E : fo_E) (hE : ∀ n, et E n = tM_ n) (G : Nat) (p1 : Int64) (p2 : Int64) (st0 : fo_St) (rZ : Int32) (stZ : fo_St) (hf : fX5_number G p1 p2 st0 = some (rZ, stZ)) : CTi l E yX5_number (ws_ yX5_number cX5_number 6 (some .int)) ({ frames := 3, cells := 0, slots := 0, locals := 61 }) [.ref (eb E + 0), .long p1, .long p2] st0 rZ stZ := by
  refine fe_i hm_X5_number (Nat.le_of_ble_eq_true rfl) (fun p e R s m args below meth c Q hRf hRl X hend ls hl hw => ?_)
  have hx := X.1.1
  have hb := X.1.2.1
  have hl : lv_has ls 6 [(0, .ref (eb E + 0)), (1, .long p1), (3, .long p2)] := hl
  unfold fX5_number at hf
  generalize s.heap = H at hw ⊢
  generalize ([] : List Loc) = locs at hw ⊢
  refine lv_aload_n hx hb dX5_number_0 rfl (lv_at hl 0 rfl) ?_
  refine fo_getl X hw fc_X5 (hm0 hE) (k := 17) (by decide) rfl q1535 dX5_number_1 ?_
  refine lv_l2i (v := (gl_ st0 0 17).toInt32) hx hb dX5_number_4 rfl ?_
  refine fo_tI hf (fun x1 hf => ?_)
  refine lv_istore (lv' := [(5, .int x1), (0, .ref (eb E + 0)), (1, .long p1), (3, .long p2)]) hx hb dX5_number_5 hl (by decide) rfl (fun ls hl => ?_)
  refine lv_aload_n hx hb dX5_number_7 rfl (lv_at hl 1 rfl) ?_
  refine lv_aload_n hx hb dX5_number_8 rfl (lv_at hl 1 rfl) ?_
  refine fo_geti X hw fc_X5 (hm0 hE) (k := 16) (by decide) rfl q1534 dX5_number_9 ?_
  refine lv_iconst (v := (2 : Int32)) hx hb dX5_number_12 (by decide) ?_
  refine jn_e hf (fun k4 ek hf => ?_)
  have hk4 : ∀ (x2 : Int32) (st3 : fo_St) (H : Heap) (locs : List Loc) (ls : Array Slot), lv_has ls 6 [(5, .int x1)] → fo_S E s st3 H locs → k4 x2 st3 = some (rZ, stZ) → W p l e R s m args below meth c H locs 0 0 Q (F0 m 33 ls [.int x2, .ref (eb E + 0)]) := by
    intro x2 st3 H locs ls hl hw hf
    rw [ek] at hf
    refine fc_Vv (rest := []) (As := [.int x2]) X hw hm_X5_must (lw_V q1870 q1872 qs58 q121 q1873) ⟨rfl, rfl⟩ ⟨by rw [hRf]; exact Nat.le_of_ble_eq_true rfl, by rw [hRl]; exact Nat.le_of_ble_eq_true rfl⟩ fc_X5 rfl (hm0 hE) rfl rfl hl.1 (Nat.le_of_ble_eq_true rfl) dX5_number_33 (fun stQ hQ => wX5_must l E hE G x2 st3 stQ hQ) hf (fun st6 H locs hw hf => ?_)
    refine lv_iload hx hb dX5_number_36 (lv_at hl 0 rfl) ?_
    exact fd_i hend hw hf dX5_number_38
  clear ek
  refine fb_ine (tgt := 32) hx hb dX5_number_13 (by decide) hf (fun hf => ?_) (fun hf => ?_)
  · refine lv_iconst (v := (0 : Int32)) hx hb dX5_number_32 (by decide) ?_
    exact hk4 _ _ _ _ _ (lv_sub hl [0] rfl) hw hf
  refine lv_aload_n hx hb dX5_number_16 rfl (lv_at hl 1 rfl) ?_
  refine fo_getl X hw fc_X5 (hm0 hE) (k := 17) (by decide) rfl q1535 dX5_number_17 ?_
  refine lv_lload_n hx hb dX5_number_20 rfl (lv_at hl 2 rfl) ?_
  refine lv_lload_n hx hb dX5_number_21 rfl (lv_at hl 3 rfl) ?_
  refine fc_Si (rest := [.ref (eb E + 0)]) (As := [.long (gl_ st0 0 17), .long p1, .long p2]) X hw hm_X5_in (lw_S q1722 q1723 q121 q1724) ⟨rfl, rfl⟩ ⟨by rw [hRf]; exact Nat.le_of_ble_eq_true rfl, by rw [hRl]; exact Nat.le_of_ble_eq_true rfl⟩ rfl rfl hl.1 (Nat.le_of_ble_eq_true rfl) dX5_number_22 (fun rQ stQ hQ => wX5_in l E hE (gl_ st0 0 17) p1 p2 st0 rQ stQ hQ) hf (fun x7 st8 H locs hw hf => ?_)
  refine fb_zeq (tgt := 32) hx hb dX5_number_25 (by decide) hf (fun hf => ?_) (fun hf => ?_)
  · refine lv_iconst (v := (0 : Int32)) hx hb dX5_number_32 (by decide) ?_
    exact hk4 _ _ _ _ _ (lv_sub hl [0] rfl) hw hf
  refine lv_iconst (v := (1 : Int32)) hx hb dX5_number_28 (by decide) ?_
  refine lv_goto (tgt := 33) hx hb dX5_number_29 (by decide) ?_
  exact hk4 _ _ _ _ _ (lv_sub hl [0] rfl) hw hf

/-- ForestRoomsModel.readPart -/
def fX5_readPart (G : Nat) (st0 : fo_St) : Option (Int32 × fo_St) := bd_ (fX5_isSign (91 : Int32) st0) (fun x1 st2 => if x1 = 0 then jn_ (fun (x3 : Int32) (st4 : fo_St) => jn_ (fun (x6 : Int32) => jn_ (fun (x8 : Int32) => jn_ (fun (x10 : Int32) => jn_ (fun (x12 : Int32) => bv_ (fX5_leaf G x8 x10 x12 st4) (fun st15 => if (gi_ st15 0 20) = 0 then some ((3 : Int32), st15) else if x3 < (5 : Int32) then some ((3 : Int32), st15) else if ¬ (gi_ st15 0 19) = 0 then some ((3 : Int32), st15) else lI_ ((gi_ st15 0 23) - (1 : Int32)) (fun x16 => bd_ (fX5_number G (0 : Int64) (15 : Int64) st15) (fun x17 st18 => ck_ (fo_in x16 400) (lt_ (si_ st18 12 x16.toNatClampNeg x17) (fun st19 => some ((3 : Int32), st19))))))) (fun k13 => if x6 = 0 then k13 (0 : Int32) else k13 ((gl_ st4 0 17).toInt32))) (fun k11 => if ¬ x3 = (-1 : Int32) then k11 x3 else k11 (0 : Int32))) (fun k9 => if ¬ x3 = (-1 : Int32) then k9 (1 : Int32) else if x6 = 0 then k9 (0 : Int32) else k9 (1 : Int32))) (fun k7 => if ¬ (gi_ st4 0 16) = (2 : Int32) then k7 (0 : Int32) else if (1000 : Int64) < (gl_ st4 0 17) then k7 (0 : Int32) else k7 (1 : Int32))) (fun k5 => if (gi_ st2 0 20) = 0 then bd_ (fX5_partAt G st2) (fun x20 st21 => k5 x20 st21) else bd_ (fX5_orderPartAt G st2) (fun x22 st23 => k5 x22 st23)) else bv_ (fX5_openBracket G (32 : Int32) st2) (fun st25 => some ((1 : Int32), st25)))
theorem hm_X5_readPart : fo_M yX5_readPart 0 := ⟨by decide +kernel, by decide +kernel, by decide +kernel, by decide +kernel⟩
set_option maxHeartbeats 4000000 in
theorem wX5_readPart (l : Launch) (E : fo_E) (hE : ∀ n, et E n = tM_ n) (G : Nat) (st0 : fo_St) (rZ : Int32) (stZ : fo_St) (hf : fX5_readPart G st0 = some (rZ, stZ)) : CTi l E yX5_readPart (ws_ yX5_readPart cX5_readPart 4 (some .int)) ({ frames := 4, cells := 0, slots := 0, locals := 86 }) [.ref (eb E + 0)] st0 rZ stZ := by
  refine fe_i hm_X5_readPart (Nat.le_of_ble_eq_true rfl) (fun p e R s m args below meth c Q hRf hRl X hend ls hl hw => ?_)
  have hx := X.1.1
  have hb := X.1.2.1
  have hl : lv_has ls 4 [(0, .ref (eb E + 0))] := hl
  unfold fX5_readPart at hf
  generalize s.heap = H at hw ⊢
  generalize ([] : List Loc) = locs at hw ⊢
  refine lv_aload_n hx hb dX5_readPart_0 rfl (lv_at hl 0 rfl) ?_
  refine lv_bipush (v := (91 : Int32)) hx hb dX5_readPart_1 (by decide) ?_
  refine fc_Vi (rest := []) (As := [.int (91 : Int32)]) X hw hm_X5_isSign (lw_V q1887 q1889 qs62 q121 q1890) ⟨rfl, rfl⟩ ⟨by rw [hRf]; exact Nat.le_of_ble_eq_true rfl, by rw [hRl]; exact Nat.le_of_ble_eq_true rfl⟩ fc_X5 rfl (hm0 hE) rfl rfl hl.1 (Nat.le_of_ble_eq_true rfl) dX5_readPart_3 (fun rQ stQ hQ => wX5_isSign l E hE (91 : Int32) st0 rQ stQ hQ) hf (fun x1 st2 H locs hw hf => ?_)
  refine fb_zeq (tgt := 17) hx hb dX5_readPart_6 (by decide) hf (fun hf => ?_) (fun hf => ?_)
  · refine lv_aload_n hx hb dX5_readPart_17 rfl (lv_at hl 0 rfl) ?_
    refine fo_geti X hw fc_X5 (hm0 hE) (k := 20) (by decide) rfl q1538 dX5_readPart_18 ?_
    refine jn_e hf (fun k5 ek hf => ?_)
    have hk5 : ∀ (x3 : Int32) (st4 : fo_St) (H : Heap) (locs : List Loc) (ls : Array Slot), lv_has ls 4 [(0, .ref (eb E + 0))] → fo_S E s st4 H locs → k5 x3 st4 = some (rZ, stZ) → W p l e R s m args below meth c H locs 0 0 Q (F0 m 35 ls [.int x3]) := by
      intro x3 st4 H locs ls hl hw hf
      rw [ek] at hf
      refine lv_istore_n (lv' := [(1, .int x3), (0, .ref (eb E + 0))]) hx hb dX5_readPart_35 rfl hl (by decide) rfl (fun ls hl => ?_)
      refine lv_aload_n hx hb dX5_readPart_36 rfl (lv_at hl 1 rfl) ?_
      refine fo_geti X hw fc_X5 (hm0 hE) (k := 16) (by decide) rfl q1534 dX5_readPart_37 ?_
      refine lv_iconst (v := (2 : Int32)) hx hb dX5_readPart_40 (by decide) ?_
      refine jn_e hf (fun k7 ek hf => ?_)
      have hk7 : ∀ (x6 : Int32) (H : Heap) (locs : List Loc) (ls : Array Slot), lv_has ls 4 [(1, .int x3), (0, .ref (eb E + 0))] → fo_S E s st4 H locs → k7 x6 = some (rZ, stZ) → W p l e R s m args below meth c H locs 0 0 Q (F0 m 60 ls [.int x6]) := by
        intro x6 H locs ls hl hw hf
        rw [ek] at hf
        refine lv_istore_n (lv' := [(2, .int x6), (1, .int x3), (0, .ref (eb E + 0))]) hx hb dX5_readPart_60 rfl hl (by decide) rfl (fun ls hl => ?_)
        refine lv_aload_n hx hb dX5_readPart_61 rfl (lv_at hl 2 rfl) ?_
        refine lv_iload_n hx hb dX5_readPart_62 rfl (lv_at hl 1 rfl) ?_
        refine lv_iconst (v := (-1 : Int32)) hx hb dX5_readPart_63 (by decide) ?_
        refine jn_e hf (fun k9 ek hf => ?_)
        have hk9 : ∀ (x8 : Int32) (H : Heap) (locs : List Loc) (ls : Array Slot), lv_has ls 4 [(2, .int x6), (1, .int x3), (0, .ref (eb E + 0))] → fo_S E s st4 H locs → k9 x8 = some (rZ, stZ) → W p l e R s m args below meth c H locs 0 0 Q (F0 m 76 ls [.int x8, .ref (eb E + 0)]) := by
          intro x8 H locs ls hl hw hf
          rw [ek] at hf
          refine lv_iload_n hx hb dX5_readPart_76 rfl (lv_at hl 1 rfl) ?_
          refine lv_iconst (v := (-1 : Int32)) hx hb dX5_readPart_77 (by decide) ?_
          refine jn_e hf (fun k11 ek hf => ?_)
          have hk11 : ∀ (x10 : Int32) (H : Heap) (locs : List Loc) (ls : Array Slot), lv_has ls 4 [(2, .int x6), (1, .int x3), (0, .ref (eb E + 0))] → fo_S E s st4 H locs → k11 x10 = some (rZ, stZ) → W p l e R s m args below meth c H locs 0 0 Q (F0 m 86 ls [.int x10, .int x8, .ref (eb E + 0)]) := by
            intro x10 H locs ls hl hw hf
            rw [ek] at hf
            refine lv_iload_n hx hb dX5_readPart_86 rfl (lv_at hl 0 rfl) ?_
            refine jn_e hf (fun k13 ek hf => ?_)
            have hk13 : ∀ (x12 : Int32) (H : Heap) (locs : List Loc) (ls : Array Slot), lv_has ls 4 [(1, .int x3), (0, .ref (eb E + 0))] → fo_S E s st4 H locs → k13 x12 = some (rZ, stZ) → W p l e R s m args below meth c H locs 0 0 Q (F0 m 99 ls [.int x12, .int x10, .int x8, .ref (eb E + 0)]) := by
              intro x12 H locs ls hl hw hf
              rw [ek] at hf
              refine fc_Vv (rest := []) (As := [.int x8, .int x10, .int x12]) X hw hm_X5_leaf (lw_V q1908 q1910 qs67 q121 q1911) ⟨rfl, rfl⟩ ⟨by rw [hRf]; exact Nat.le_of_ble_eq_true rfl, by rw [hRl]; exact Nat.le_of_ble_eq_true rfl⟩ fc_X5 rfl (hm0 hE) rfl rfl hl.1 (Nat.le_of_ble_eq_true rfl) dX5_readPart_99 (fun stQ hQ => wX5_leaf l E hE G x8 x10 x12 st4 stQ hQ) hf (fun st15 H locs hw hf => ?_)
              refine lv_aload_n hx hb dX5_readPart_102 rfl (lv_at hl 1 rfl) ?_
              refine fo_geti X hw fc_X5 (hm0 hE) (k := 20) (by decide) rfl q1538 dX5_readPart_103 ?_
              refine fb_zeq (tgt := 142) hx hb dX5_readPart_106 (by decide) hf (fun hf => ?_) (fun hf => ?_)
              · refine lv_iconst (v := (3 : Int32)) hx hb dX5_readPart_142 (by decide) ?_
                exact fd_i hend hw hf dX5_readPart_143
              refine lv_iload_n hx hb dX5_readPart_109 rfl (lv_at hl 0 rfl) ?_
              refine lv_iconst (v := (5 : Int32)) hx hb dX5_readPart_110 (by decide) ?_
              refine fb_ilt (tgt := 142) hx hb dX5_readPart_111 (by decide) hf (fun hf => ?_) (fun hf => ?_)
              · refine lv_iconst (v := (3 : Int32)) hx hb dX5_readPart_142 (by decide) ?_
                exact fd_i hend hw hf dX5_readPart_143
              refine lv_aload_n hx hb dX5_readPart_114 rfl (lv_at hl 1 rfl) ?_
              refine fo_geti X hw fc_X5 (hm0 hE) (k := 19) (by decide) rfl q1537 dX5_readPart_115 ?_
              refine fb_zne (tgt := 142) hx hb dX5_readPart_118 (by decide) hf (fun hf => ?_) (fun hf => ?_)
              · refine lv_iconst (v := (3 : Int32)) hx hb dX5_readPart_142 (by decide) ?_
                exact fd_i hend hw hf dX5_readPart_143
              refine lv_aload_n hx hb dX5_readPart_121 rfl (lv_at hl 1 rfl) ?_
              refine fo_geti X hw fc_X5 (hm0 hE) (k := 23) (by decide) rfl q1541 dX5_readPart_122 ?_
              refine lv_iconst (v := (1 : Int32)) hx hb dX5_readPart_125 (by decide) ?_
              refine lv_isub hx hb dX5_readPart_126 ?_
              refine fo_tI hf (fun x16 hf => ?_)
              refine lv_istore_n (lv' := [(3, .int x16), (1, .int x3), (0, .ref (eb E + 0))]) hx hb dX5_readPart_127 rfl hl (by decide) rfl (fun ls hl => ?_)
              refine lv_aload_n hx hb dX5_readPart_128 rfl (lv_at hl 2 rfl) ?_
              refine fo_gets X hw fc_X5 (hm0 hE) (k := 25) (d := 12) (n2 := 12) (by decide) rfl rfl q1543 dX5_readPart_129 ?_
              refine lv_iload_n hx hb dX5_readPart_132 rfl (lv_at hl 0 rfl) ?_
              refine lv_aload_n hx hb dX5_readPart_133 rfl (lv_at hl 2 rfl) ?_
              refine lv_lconst (v := (0 : Int64)) hx hb dX5_readPart_134 rfl ?_
              refine lv_ldc2 (v := (15 : Int64)) hx hb X.1.2.2.2.1 (X.1.2.2.2.2 _ q1740) dX5_readPart_135 ?_
              refine fc_Vi (rest := [.int x16, .ref (eb E + 12)]) (As := [.long (0 : Int64), .long (15 : Int64)]) X hw hm_X5_number (lw_V q1916 q1918 qs69 q121 q1919) ⟨rfl, rfl⟩ ⟨by rw [hRf]; exact Nat.le_of_ble_eq_true rfl, by rw [hRl]; exact Nat.le_of_ble_eq_true rfl⟩ fc_X5 rfl (hm0 hE) rfl rfl hl.1 (Nat.le_of_ble_eq_true rfl) dX5_readPart_138 (fun rQ stQ hQ => wX5_number l E hE G (0 : Int64) (15 : Int64) st15 rQ stQ hQ) hf (fun x17 st18 H locs hw hf => ?_)
              refine fo_iast X hw (hm12 hE) dX5_readPart_141 hf (fun st19 H locs hw hf => ?_)
              refine lv_iconst (v := (3 : Int32)) hx hb dX5_readPart_142 (by decide) ?_
              exact fd_i hend hw hf dX5_readPart_143
            clear ek
            refine fb_zeq (tgt := 98) hx hb dX5_readPart_87 (by decide) hf (fun hf => ?_) (fun hf => ?_)
            · refine lv_iconst (v := (0 : Int32)) hx hb dX5_readPart_98 (by decide) ?_
              exact hk13 _ _ _ _ (lv_sub hl [1, 2] rfl) hw hf
            refine lv_aload_n hx hb dX5_readPart_90 rfl (lv_at hl 2 rfl) ?_
            refine fo_getl X hw fc_X5 (hm0 hE) (k := 17) (by decide) rfl q1535 dX5_readPart_91 ?_
            refine lv_l2i (v := (gl_ st4 0 17).toInt32) hx hb dX5_readPart_94 rfl ?_
            refine lv_goto (tgt := 99) hx hb dX5_readPart_95 (by decide) ?_
            exact hk13 _ _ _ _ (lv_sub hl [1, 2] rfl) hw hf
          clear ek
          refine fb_ine (tgt := 85) hx hb dX5_readPart_78 (by decide) hf (fun hf => ?_) (fun hf => ?_)
          · refine lv_iload_n hx hb dX5_readPart_85 rfl (lv_at hl 1 rfl) ?_
            exact hk11 _ _ _ _ (lv_sub hl [0, 1, 2] rfl) hw hf
          refine lv_iconst (v := (0 : Int32)) hx hb dX5_readPart_81 (by decide) ?_
          refine lv_goto (tgt := 86) hx hb dX5_readPart_82 (by decide) ?_
          exact hk11 _ _ _ _ (lv_sub hl [0, 1, 2] rfl) hw hf
        clear ek
        refine fb_ine (tgt := 71) hx hb dX5_readPart_64 (by decide) hf (fun hf => ?_) (fun hf => ?_)
        · refine lv_iconst (v := (1 : Int32)) hx hb dX5_readPart_71 (by decide) ?_
          refine lv_goto (tgt := 76) hx hb dX5_readPart_72 (by decide) ?_
          exact hk9 _ _ _ _ (lv_sub hl [0, 1, 2] rfl) hw hf
        refine lv_iload_n hx hb dX5_readPart_67 rfl (lv_at hl 0 rfl) ?_
        refine fb_zeq (tgt := 75) hx hb dX5_readPart_68 (by decide) hf (fun hf => ?_) (fun hf => ?_)
        · refine lv_iconst (v := (0 : Int32)) hx hb dX5_readPart_75 (by decide) ?_
          exact hk9 _ _ _ _ (lv_sub hl [0, 1, 2] rfl) hw hf
        refine lv_iconst (v := (1 : Int32)) hx hb dX5_readPart_71 (by decide) ?_
        refine lv_goto (tgt := 76) hx hb dX5_readPart_72 (by decide) ?_
        exact hk9 _ _ _ _ (lv_sub hl [0, 1, 2] rfl) hw hf
      clear ek
      refine fb_ine (tgt := 59) hx hb dX5_readPart_41 (by decide) hf (fun hf => ?_) (fun hf => ?_)
      · refine lv_iconst (v := (0 : Int32)) hx hb dX5_readPart_59 (by decide) ?_
        exact hk7 _ _ _ _ (lv_sub hl [0, 1] rfl) hw hf
      refine lv_aload_n hx hb dX5_readPart_44 rfl (lv_at hl 1 rfl) ?_
      refine fo_getl X hw fc_X5 (hm0 hE) (k := 17) (by decide) rfl q1535 dX5_readPart_45 ?_
      refine lv_ldc2 (v := (1000 : Int64)) hx hb X.1.2.2.2.1 (X.1.2.2.2.2 _ q1907) dX5_readPart_48 ?_
      refine fb_lgt (tgt := 59) hx hb dX5_readPart_51 dX5_readPart_52 (by decide) hf (fun hf => ?_) (fun hf => ?_)
      · refine lv_iconst (v := (0 : Int32)) hx hb dX5_readPart_59 (by decide) ?_
        exact hk7 _ _ _ _ (lv_sub hl [0, 1] rfl) hw hf
      refine lv_iconst (v := (1 : Int32)) hx hb dX5_readPart_55 (by decide) ?_
      refine lv_goto (tgt := 60) hx hb dX5_readPart_56 (by decide) ?_
      exact hk7 _ _ _ _ (lv_sub hl [0, 1] rfl) hw hf
    clear ek
    refine fb_zeq (tgt := 31) hx hb dX5_readPart_21 (by decide) hf (fun hf => ?_) (fun hf => ?_)
    · refine lv_aload_n hx hb dX5_readPart_31 rfl (lv_at hl 0 rfl) ?_
      refine fc_Vi (rest := []) (As := []) X hw hm_X5_partAt (lw_V q1903 q1905 qs66 q121 q1906) ⟨rfl, rfl⟩ ⟨by rw [hRf]; exact Nat.le_of_ble_eq_true rfl, by rw [hRl]; exact Nat.le_of_ble_eq_true rfl⟩ fc_X5 rfl (hm0 hE) rfl rfl hl.1 (Nat.le_of_ble_eq_true rfl) dX5_readPart_32 (fun rQ stQ hQ => wX5_partAt l E hE G st2 rQ stQ hQ) hf (fun x20 st21 H locs hw hf => ?_)
      exact hk5 _ _ _ _ _ (lv_sub hl [0] rfl) hw hf
    refine lv_aload_n hx hb dX5_readPart_24 rfl (lv_at hl 0 rfl) ?_
    refine fc_Vi (rest := []) (As := []) X hw hm_X5_orderPartAt (lw_V q1899 q1901 qs65 q121 q1902) ⟨rfl, rfl⟩ ⟨by rw [hRf]; exact Nat.le_of_ble_eq_true rfl, by rw [hRl]; exact Nat.le_of_ble_eq_true rfl⟩ fc_X5 rfl (hm0 hE) rfl rfl hl.1 (Nat.le_of_ble_eq_true rfl) dX5_readPart_25 (fun rQ stQ hQ => wX5_orderPartAt l E hE G st2 rQ stQ hQ) hf (fun x22 st23 H locs hw hf => ?_)
    refine lv_goto (tgt := 35) hx hb dX5_readPart_28 (by decide) ?_
    exact hk5 _ _ _ _ _ (lv_sub hl [0] rfl) hw hf
  refine lv_aload_n hx hb dX5_readPart_9 rfl (lv_at hl 0 rfl) ?_
  refine lv_bipush (v := (32 : Int32)) hx hb dX5_readPart_10 (by decide) ?_
  refine fc_Vv (rest := []) (As := [.int (32 : Int32)]) X hw hm_X5_openBracket (lw_V q1891 q1893 qs63 q121 q1894) ⟨rfl, rfl⟩ ⟨by rw [hRf]; exact Nat.le_of_ble_eq_true rfl, by rw [hRl]; exact Nat.le_of_ble_eq_true rfl⟩ fc_X5 rfl (hm0 hE) rfl rfl hl.1 (Nat.le_of_ble_eq_true rfl) dX5_readPart_12 (fun stQ hQ => wX5_openBracket l E hE G (32 : Int32) st2 stQ hQ) hf (fun st25 H locs hw hf => ?_)
  refine lv_iconst (v := (1 : Int32)) hx hb dX5_readPart_15 (by decide) ?_
  exact fd_i hend hw hf dX5_readPart_16

/-- ForestRoomsModel.readPlain -/
def fX5_readPlain (G : Nat) (st0 : fo_St) : Option (Int32 × fo_St) := bd_ (fX5_isWord (14836 : Int64) st0) (fun x1 st2 => if x1 = 0 then bd_ (fX5_isSign (40 : Int32) st2) (fun x3 st4 => if x3 = 0 then bd_ (fX5_readPart G st4) (fun x5 st6 => some (x5, st6)) else bv_ (fX5_openBracket G (31 : Int32) st4) (fun st8 => some ((0 : Int32), st8))) else bv_ (fX5_push (28 : Int32) (0 : Int32) st2) (fun st10 => bv_ (fX5_nextToken G st10) (fun st12 => some ((0 : Int32), st12))))
theorem hm_X5_readPlain : fo_M yX5_readPlain 0 := ⟨by decide +kernel, by decide +kernel, by decide +kernel, by decide +kernel⟩
set_option maxHeartbeats 4000000 in
theorem wX5_readPlain (l : Launch) (E : fo_E) (hE : ∀ n, et E n = tM_ n) (G : Nat) (st0 : fo_St) (rZ : Int32) (stZ : fo_St) (hf : fX5_readPlain G st0 = some (rZ, stZ)) : CTi l E yX5_readPlain (ws_ yX5_readPlain cX5_readPlain 1 (some .int)) ({ frames := 5, cells := 0, slots := 0, locals := 109 }) [.ref (eb E + 0)] st0 rZ stZ := by
  refine fe_i hm_X5_readPlain (Nat.le_of_ble_eq_true rfl) (fun p e R s m args below meth c Q hRf hRl X hend ls hl hw => ?_)
  have hx := X.1.1
  have hb := X.1.2.1
  have hl : lv_has ls 1 [(0, .ref (eb E + 0))] := hl
  unfold fX5_readPlain at hf
  generalize s.heap = H at hw ⊢
  generalize ([] : List Loc) = locs at hw ⊢
  refine lv_aload_n hx hb dX5_readPlain_0 rfl (lv_at hl 0 rfl) ?_
  refine lv_ldc2 (v := (14836 : Int64)) hx hb X.1.2.2.2.1 (X.1.2.2.2.2 _ q1882) dX5_readPlain_1 ?_
  refine fc_Vi (rest := []) (As := [.long (14836 : Int64)]) X hw hm_X5_isWord (lw_V q1866 q1868 qs57 q121 q1869) ⟨rfl, rfl⟩ ⟨by rw [hRf]; exact Nat.le_of_ble_eq_true rfl, by rw [hRl]; exact Nat.le_of_ble_eq_true rfl⟩ fc_X5 rfl (hm0 hE) rfl rfl hl.1 (Nat.le_of_ble_eq_true rfl) dX5_readPlain_4 (fun rQ stQ hQ => wX5_isWord l E hE (14836 : Int64) st0 rQ stQ hQ) hf (fun x1 st2 H locs hw hf => ?_)
  refine fb_zeq (tgt := 23) hx hb dX5_readPlain_7 (by decide) hf (fun hf => ?_) (fun hf => ?_)
  · refine lv_aload_n hx hb dX5_readPlain_23 rfl (lv_at hl 0 rfl) ?_
    refine lv_bipush (v := (40 : Int32)) hx hb dX5_readPlain_24 (by decide) ?_
    refine fc_Vi (rest := []) (As := [.int (40 : Int32)]) X hw hm_X5_isSign (lw_V q1887 q1889 qs62 q121 q1890) ⟨rfl, rfl⟩ ⟨by rw [hRf]; exact Nat.le_of_ble_eq_true rfl, by rw [hRl]; exact Nat.le_of_ble_eq_true rfl⟩ fc_X5 rfl (hm0 hE) rfl rfl hl.1 (Nat.le_of_ble_eq_true rfl) dX5_readPlain_26 (fun rQ stQ hQ => wX5_isSign l E hE (40 : Int32) st2 rQ stQ hQ) hf (fun x3 st4 H locs hw hf => ?_)
    refine fb_zeq (tgt := 40) hx hb dX5_readPlain_29 (by decide) hf (fun hf => ?_) (fun hf => ?_)
    · refine lv_aload_n hx hb dX5_readPlain_40 rfl (lv_at hl 0 rfl) ?_
      refine fc_Vi (rest := []) (As := []) X hw hm_X5_readPart (lw_V q1895 q1897 qs64 q121 q1898) ⟨rfl, rfl⟩ ⟨by rw [hRf]; exact Nat.le_of_ble_eq_true rfl, by rw [hRl]; exact Nat.le_of_ble_eq_true rfl⟩ fc_X5 rfl (hm0 hE) rfl rfl hl.1 (Nat.le_of_ble_eq_true rfl) dX5_readPlain_41 (fun rQ stQ hQ => wX5_readPart l E hE G st4 rQ stQ hQ) hf (fun x5 st6 H locs hw hf => ?_)
      exact fd_i hend hw hf dX5_readPlain_44
    refine lv_aload_n hx hb dX5_readPlain_32 rfl (lv_at hl 0 rfl) ?_
    refine lv_bipush (v := (31 : Int32)) hx hb dX5_readPlain_33 (by decide) ?_
    refine fc_Vv (rest := []) (As := [.int (31 : Int32)]) X hw hm_X5_openBracket (lw_V q1891 q1893 qs63 q121 q1894) ⟨rfl, rfl⟩ ⟨by rw [hRf]; exact Nat.le_of_ble_eq_true rfl, by rw [hRl]; exact Nat.le_of_ble_eq_true rfl⟩ fc_X5 rfl (hm0 hE) rfl rfl hl.1 (Nat.le_of_ble_eq_true rfl) dX5_readPlain_35 (fun stQ hQ => wX5_openBracket l E hE G (31 : Int32) st4 stQ hQ) hf (fun st8 H locs hw hf => ?_)
    refine lv_iconst (v := (0 : Int32)) hx hb dX5_readPlain_38 (by decide) ?_
    exact fd_i hend hw hf dX5_readPlain_39
  refine lv_aload_n hx hb dX5_readPlain_10 rfl (lv_at hl 0 rfl) ?_
  refine lv_bipush (v := (28 : Int32)) hx hb dX5_readPlain_11 (by decide) ?_
  refine lv_iconst (v := (0 : Int32)) hx hb dX5_readPlain_13 (by decide) ?_
  refine fc_Vv (rest := []) (As := [.int (28 : Int32), .int (0 : Int32)]) X hw hm_X5_push (lw_V q1883 q1885 qs61 q121 q1886) ⟨rfl, rfl⟩ ⟨by rw [hRf]; exact Nat.le_of_ble_eq_true rfl, by rw [hRl]; exact Nat.le_of_ble_eq_true rfl⟩ fc_X5 rfl (hm0 hE) rfl rfl hl.1 (Nat.le_of_ble_eq_true rfl) dX5_readPlain_14 (fun stQ hQ => wX5_push l E hE (28 : Int32) (0 : Int32) st2 stQ hQ) hf (fun st10 H locs hw hf => ?_)
  refine lv_aload_n hx hb dX5_readPlain_17 rfl (lv_at hl 0 rfl) ?_
  refine fc_Vv (rest := []) (As := []) X hw hm_X5_nextToken (lw_V q1848 q1850 qs55 q121 q1851) ⟨rfl, rfl⟩ ⟨by rw [hRf]; exact Nat.le_of_ble_eq_true rfl, by rw [hRl]; exact Nat.le_of_ble_eq_true rfl⟩ fc_X5 rfl (hm0 hE) rfl rfl hl.1 (Nat.le_of_ble_eq_true rfl) dX5_readPlain_18 (fun stQ hQ => wX5_nextToken l E hE G st10 stQ hQ) hf (fun st12 H locs hw hf => ?_)
  refine lv_iconst (v := (0 : Int32)) hx hb dX5_readPlain_21 (by decide) ?_
  exact fd_i hend hw hf dX5_readPlain_22

/-- ForestRoomsModel.binds -/
def fX5_binds (p1 : Int32) (st0 : fo_St) : Option (Int32 × fo_St) := if p1 < (31 : Int32) then if ¬ p1 = (30 : Int32) then if ¬ p1 = (29 : Int32) then if ¬ p1 = (28 : Int32) then if p1 < (25 : Int32) then if p1 < (22 : Int32) then some ((5 : Int32), st0) else some ((6 : Int32), st0) else some ((4 : Int32), st0) else some ((3 : Int32), st0) else some ((2 : Int32), st0) else some ((1 : Int32), st0) else some ((0 : Int32), st0)
theorem hm_X5_binds : fo_M yX5_binds 1 := ⟨by decide +kernel, by decide +kernel, by decide +kernel, by decide +kernel⟩
set_option maxHeartbeats 4000000 in
theorem wX5_binds (l : Launch) (E : fo_E) (hE : ∀ n, et E n = tM_ n) (p1 : Int32) (st0 : fo_St) (rZ : Int32) (stZ : fo_St) (hf : fX5_binds p1 st0 = some (rZ, stZ)) : CTi l E yX5_binds (ws_ yX5_binds cX5_binds 1 (some .int)) ({ frames := 0, cells := 0, slots := 0, locals := 0 }) [.int p1] st0 rZ stZ := by
  refine fe_i hm_X5_binds (Nat.le_of_ble_eq_true rfl) (fun p e R s m args below meth c Q hRf hRl X hend ls hl hw => ?_)
  have hx := X.1.1
  have hb := X.1.2.1
  have hl : lv_has ls 1 [(0, .int p1)] := hl
  unfold fX5_binds at hf
  generalize s.heap = H at hw ⊢
  generalize ([] : List Loc) = locs at hw ⊢
  refine lv_iload_n hx hb dX5_binds_0 rfl (lv_at hl 0 rfl) ?_
  refine lv_bipush (v := (31 : Int32)) hx hb dX5_binds_1 (by decide) ?_
  refine fb_ilt (tgt := 10) hx hb dX5_binds_3 (by decide) hf (fun hf => ?_) (fun hf => ?_)
  · refine lv_iload_n hx hb dX5_binds_10 rfl (lv_at hl 0 rfl) ?_
    refine lv_bipush (v := (30 : Int32)) hx hb dX5_binds_11 (by decide) ?_
    refine fb_ine (tgt := 20) hx hb dX5_binds_13 (by decide) hf (fun hf => ?_) (fun hf => ?_)
    · refine lv_iload_n hx hb dX5_binds_20 rfl (lv_at hl 0 rfl) ?_
      refine lv_bipush (v := (29 : Int32)) hx hb dX5_binds_21 (by decide) ?_
      refine fb_ine (tgt := 30) hx hb dX5_binds_23 (by decide) hf (fun hf => ?_) (fun hf => ?_)
      · refine lv_iload_n hx hb dX5_binds_30 rfl (lv_at hl 0 rfl) ?_
        refine lv_bipush (v := (28 : Int32)) hx hb dX5_binds_31 (by decide) ?_
        refine fb_ine (tgt := 40) hx hb dX5_binds_33 (by decide) hf (fun hf => ?_) (fun hf => ?_)
        · refine lv_iload_n hx hb dX5_binds_40 rfl (lv_at hl 0 rfl) ?_
          refine lv_bipush (v := (25 : Int32)) hx hb dX5_binds_41 (by decide) ?_
          refine fb_ilt (tgt := 50) hx hb dX5_binds_43 (by decide) hf (fun hf => ?_) (fun hf => ?_)
          · refine lv_iload_n hx hb dX5_binds_50 rfl (lv_at hl 0 rfl) ?_
            refine lv_bipush (v := (22 : Int32)) hx hb dX5_binds_51 (by decide) ?_
            refine fb_ilt (tgt := 61) hx hb dX5_binds_53 (by decide) hf (fun hf => ?_) (fun hf => ?_)
            · refine lv_iconst (v := (5 : Int32)) hx hb dX5_binds_61 (by decide) ?_
              exact fd_i hend hw hf dX5_binds_62
            refine lv_bipush (v := (6 : Int32)) hx hb dX5_binds_56 (by decide) ?_
            refine lv_goto (tgt := 62) hx hb dX5_binds_58 (by decide) ?_
            exact fd_i hend hw hf dX5_binds_62
          refine lv_iconst (v := (4 : Int32)) hx hb dX5_binds_46 (by decide) ?_
          refine lv_goto (tgt := 62) hx hb dX5_binds_47 (by decide) ?_
          exact fd_i hend hw hf dX5_binds_62
        refine lv_iconst (v := (3 : Int32)) hx hb dX5_binds_36 (by decide) ?_
        refine lv_goto (tgt := 62) hx hb dX5_binds_37 (by decide) ?_
        exact fd_i hend hw hf dX5_binds_62
      refine lv_iconst (v := (2 : Int32)) hx hb dX5_binds_26 (by decide) ?_
      refine lv_goto (tgt := 62) hx hb dX5_binds_27 (by decide) ?_
      exact fd_i hend hw hf dX5_binds_62
    refine lv_iconst (v := (1 : Int32)) hx hb dX5_binds_16 (by decide) ?_
    refine lv_goto (tgt := 62) hx hb dX5_binds_17 (by decide) ?_
    exact fd_i hend hw hf dX5_binds_62
  refine lv_iconst (v := (0 : Int32)) hx hb dX5_binds_6 (by decide) ?_
  refine lv_goto (tgt := 62) hx hb dX5_binds_7 (by decide) ?_
  exact fd_i hend hw hf dX5_binds_62

/-- ForestRoomsModel.settle -/
def fX5_settle (G : Nat) (p1 : Int32) (st0 : fo_St) : Option fo_St := lp1_ (fun rec2 (st1 : fo_St) => if (gi_ st1 0 29) ≤ 0 then some st1 else ck_ (fo_in ((gi_ st1 0 29) - (1 : Int32)) 400) (bd_ (fX5_binds (gi_ st1 13 ((gi_ st1 0 29) - (1 : Int32)).toNatClampNeg) st1) (fun x3 st4 => if x3 < p1 then some st4 else lt_ (si_ st4 0 29 ((gi_ st4 0 29) - (1 : Int32))) (fun st5 => ck_ (fo_in (gi_ st5 0 29) 400) (if (gi_ st5 13 (gi_ st5 0 29).toNatClampNeg) = (29 : Int32) then ck_ (fo_in (gi_ st5 0 29) 400) (ck_ (fo_in (gi_ st5 14 (gi_ st5 0 29).toNatClampNeg) 400) (lt_ (si_ st5 12 (gi_ st5 14 (gi_ st5 0 29).toNatClampNeg).toNatClampNeg (gi_ st5 0 23)) (fun st6 => rec2 st6))) else ck_ (fo_in (gi_ st5 0 29) 400) (if ¬ (gi_ st5 13 (gi_ st5 0 29).toNatClampNeg) = (30 : Int32) then ck_ (fo_in (gi_ st5 0 29) 400) (bv_ (fX5_emit (gi_ st5 13 (gi_ st5 0 29).toNatClampNeg) (0 : Int32) st5) (fun st8 => rec2 st8)) else ck_ (fo_in (gi_ st5 0 29) 400) (ck_ (fo_in (gi_ st5 14 (gi_ st5 0 29).toNatClampNeg) 400) (lt_ (si_ st5 12 (gi_ st5 14 (gi_ st5 0 29).toNatClampNeg).toNatClampNeg (gi_ st5 0 23)) (fun st9 => rec2 st9))))))))) G st0
theorem hm_X5_settle : fo_M yX5_settle 1 := ⟨by decide +kernel, by decide +kernel, by decide +kernel, by decide +kernel⟩
set_option maxHeartbeats 4000000 in
theorem wX5_settle (l : Launch) (E : fo_E) (hE : ∀ n, et E n = tM_ n) (G : Nat) (p1 : Int32) (st0 : fo_St) (stZ : fo_St) (hf : fX5_settle G p1 st0 = some stZ) : CTv l E yX5_settle (ws_ yX5_settle cX5_settle 2 none) ({ frames := 1, cells := 0, slots := 0, locals := 22 }) [.ref (eb E + 0), .int p1] st0 stZ := by
  refine fe_v hm_X5_settle (Nat.le_of_ble_eq_true rfl) (fun p e R s m args below meth c Q hRf hRl X hend ls hl hw => ?_)
  have hx := X.1.1
  have hb := X.1.2.1
  have hl : lv_has ls 2 [(0, .ref (eb E + 0)), (1, .int p1)] := hl
  unfold fX5_settle at hf
  generalize s.heap = H at hw ⊢
  generalize ([] : List Loc) = locs at hw ⊢
  refine lp1_e (P := fun st1 => ∀ (H : Heap) (locs : List Loc) (ls : Array Slot), lv_has ls 2 [(0, .ref (eb E + 0)), (1, .int p1)] → fo_S E s st1 H locs → W p l e R s m args below meth c H locs 0 0 Q (F0 m 0 ls [])) (fun rec2 hrec2 st1 hf => ?_) G _ hf H locs ls (lv_sub hl [0, 1] rfl) hw
  intro H locs ls hl hw
  refine lv_aload_n hx hb dX5_settle_0 rfl (lv_at hl 0 rfl) ?_
  refine fo_geti X hw fc_X5 (hm0 hE) (k := 29) (by decide) rfl q1547 dX5_settle_1 ?_
  refine fb_zle (tgt := 101) hx hb dX5_settle_4 (by decide) hf (fun hf => ?_) (fun hf => ?_)
  · exact fd_v hend hw hf dX5_settle_101
  refine lv_aload_n hx hb dX5_settle_7 rfl (lv_at hl 0 rfl) ?_
  refine fo_gets X hw fc_X5 (hm0 hE) (k := 27) (d := 13) (n2 := 13) (by decide) rfl rfl q1545 dX5_settle_8 ?_
  refine lv_aload_n hx hb dX5_settle_11 rfl (lv_at hl 0 rfl) ?_
  refine fo_geti X hw fc_X5 (hm0 hE) (k := 29) (by decide) rfl q1547 dX5_settle_12 ?_
  refine lv_iconst (v := (1 : Int32)) hx hb dX5_settle_15 (by decide) ?_
  refine lv_isub hx hb dX5_settle_16 ?_
  refine fo_iald X hw (hm13 hE) dX5_settle_17 hf (fun hf => ?_)
  refine fc_Si (rest := []) (As := [.int (gi_ st1 13 ((gi_ st1 0 29) - (1 : Int32)).toNatClampNeg)]) X hw hm_X5_binds (lw_S q1924 q1925 q121 q1926) ⟨rfl, rfl⟩ ⟨by rw [hRf]; exact Nat.le_of_ble_eq_true rfl, by rw [hRl]; exact Nat.le_of_ble_eq_true rfl⟩ rfl rfl hl.1 (Nat.le_of_ble_eq_true rfl) dX5_settle_18 (fun rQ stQ hQ => wX5_binds l E hE (gi_ st1 13 ((gi_ st1 0 29) - (1 : Int32)).toNatClampNeg) st1 rQ stQ hQ) hf (fun x3 st4 H locs hw hf => ?_)
  refine lv_iload_n hx hb dX5_settle_21 rfl (lv_at hl 1 rfl) ?_
  refine fb_ilt (tgt := 101) hx hb dX5_settle_22 (by decide) hf (fun hf => ?_) (fun hf => ?_)
  · exact fd_v hend hw hf dX5_settle_101
  refine lv_aload_n hx hb dX5_settle_25 rfl (lv_at hl 0 rfl) ?_
  refine lv_dup hx hb dX5_settle_26 rfl ?_
  refine fo_geti X hw fc_X5 (hm0 hE) (k := 29) (by decide) rfl q1547 dX5_settle_27 ?_
  refine lv_iconst (v := (1 : Int32)) hx hb dX5_settle_30 (by decide) ?_
  refine lv_isub hx hb dX5_settle_31 ?_
  refine fo_puti X hw fc_X5 (hm0 hE) (k := 29) (by decide) rfl rfl q1547 ⟨rfl, rfl⟩ dX5_settle_32 hf (fun st5 H locs hw hf => ?_)
  refine lv_aload_n hx hb dX5_settle_35 rfl (lv_at hl 0 rfl) ?_
  refine fo_gets X hw fc_X5 (hm0 hE) (k := 27) (d := 13) (n2 := 13) (by decide) rfl rfl q1545 dX5_settle_36 ?_
  refine lv_aload_n hx hb dX5_settle_39 rfl (lv_at hl 0 rfl) ?_
  refine fo_geti X hw fc_X5 (hm0 hE) (k := 29) (by decide) rfl q1547 dX5_settle_40 ?_
  refine fo_iald X hw (hm13 hE) dX5_settle_43 hf (fun hf => ?_)
  refine lv_bipush (v := (29 : Int32)) hx hb dX5_settle_44 (by decide) ?_
  refine fb_ieq (tgt := 63) hx hb dX5_settle_46 (by decide) hf (fun hf => ?_) (fun hf => ?_)
  · refine lv_aload_n hx hb dX5_settle_63 rfl (lv_at hl 0 rfl) ?_
    refine fo_gets X hw fc_X5 (hm0 hE) (k := 25) (d := 12) (n2 := 12) (by decide) rfl rfl q1543 dX5_settle_64 ?_
    refine lv_aload_n hx hb dX5_settle_67 rfl (lv_at hl 0 rfl) ?_
    refine fo_gets X hw fc_X5 (hm0 hE) (k := 28) (d := 14) (n2 := 14) (by decide) rfl rfl q1546 dX5_settle_68 ?_
    refine lv_aload_n hx hb dX5_settle_71 rfl (lv_at hl 0 rfl) ?_
    refine fo_geti X hw fc_X5 (hm0 hE) (k := 29) (by decide) rfl q1547 dX5_settle_72 ?_
    refine fo_iald X hw (hm14 hE) dX5_settle_75 hf (fun hf => ?_)
    refine lv_aload_n hx hb dX5_settle_76 rfl (lv_at hl 0 rfl) ?_
    refine fo_geti X hw fc_X5 (hm0 hE) (k := 23) (by decide) rfl q1541 dX5_settle_77 ?_
    refine fo_iast X hw (hm12 hE) dX5_settle_80 hf (fun st6 H locs hw hf => ?_)
    refine lv_goto (tgt := 0) hx hb dX5_settle_81 (by decide) ?_
    exact hrec2 _ hf _ _ _ (lv_sub hl [0, 1] rfl) hw
  refine lv_aload_n hx hb dX5_settle_49 rfl (lv_at hl 0 rfl) ?_
  refine fo_gets X hw fc_X5 (hm0 hE) (k := 27) (d := 13) (n2 := 13) (by decide) rfl rfl q1545 dX5_settle_50 ?_
  refine lv_aload_n hx hb dX5_settle_53 rfl (lv_at hl 0 rfl) ?_
  refine fo_geti X hw fc_X5 (hm0 hE) (k := 29) (by decide) rfl q1547 dX5_settle_54 ?_
  refine fo_iald X hw (hm13 hE) dX5_settle_57 hf (fun hf => ?_)
  refine lv_bipush (v := (30 : Int32)) hx hb dX5_settle_58 (by decide) ?_
  refine fb_ine (tgt := 84) hx hb dX5_settle_60 (by decide) hf (fun hf => ?_) (fun hf => ?_)
  · refine lv_aload_n hx hb dX5_settle_84 rfl (lv_at hl 0 rfl) ?_
    refine lv_aload_n hx hb dX5_settle_85 rfl (lv_at hl 0 rfl) ?_
    refine fo_gets X hw fc_X5 (hm0 hE) (k := 27) (d := 13) (n2 := 13) (by decide) rfl rfl q1545 dX5_settle_86 ?_
    refine lv_aload_n hx hb dX5_settle_89 rfl (lv_at hl 0 rfl) ?_
    refine fo_geti X hw fc_X5 (hm0 hE) (k := 29) (by decide) rfl q1547 dX5_settle_90 ?_
    refine fo_iald X hw (hm13 hE) dX5_settle_93 hf (fun hf => ?_)
    refine lv_iconst (v := (0 : Int32)) hx hb dX5_settle_94 (by decide) ?_
    refine fc_Vv (rest := []) (As := [.int (gi_ st5 13 (gi_ st5 0 29).toNatClampNeg), .int (0 : Int32)]) X hw hm_X5_emit (lw_V q1912 q1914 qs68 q121 q1915) ⟨rfl, rfl⟩ ⟨by rw [hRf]; exact Nat.le_of_ble_eq_true rfl, by rw [hRl]; exact Nat.le_of_ble_eq_true rfl⟩ fc_X5 rfl (hm0 hE) rfl rfl hl.1 (Nat.le_of_ble_eq_true rfl) dX5_settle_95 (fun stQ hQ => wX5_emit l E hE (gi_ st5 13 (gi_ st5 0 29).toNatClampNeg) (0 : Int32) st5 stQ hQ) hf (fun st8 H locs hw hf => ?_)
    refine lv_goto (tgt := 0) hx hb dX5_settle_98 (by decide) ?_
    exact hrec2 _ hf _ _ _ (lv_sub hl [0, 1] rfl) hw
  refine lv_aload_n hx hb dX5_settle_63 rfl (lv_at hl 0 rfl) ?_
  refine fo_gets X hw fc_X5 (hm0 hE) (k := 25) (d := 12) (n2 := 12) (by decide) rfl rfl q1543 dX5_settle_64 ?_
  refine lv_aload_n hx hb dX5_settle_67 rfl (lv_at hl 0 rfl) ?_
  refine fo_gets X hw fc_X5 (hm0 hE) (k := 28) (d := 14) (n2 := 14) (by decide) rfl rfl q1546 dX5_settle_68 ?_
  refine lv_aload_n hx hb dX5_settle_71 rfl (lv_at hl 0 rfl) ?_
  refine fo_geti X hw fc_X5 (hm0 hE) (k := 29) (by decide) rfl q1547 dX5_settle_72 ?_
  refine fo_iald X hw (hm14 hE) dX5_settle_75 hf (fun hf => ?_)
  refine lv_aload_n hx hb dX5_settle_76 rfl (lv_at hl 0 rfl) ?_
  refine fo_geti X hw fc_X5 (hm0 hE) (k := 23) (by decide) rfl q1541 dX5_settle_77 ?_
  refine fo_iast X hw (hm12 hE) dX5_settle_80 hf (fun st9 H locs hw hf => ?_)
  refine lv_goto (tgt := 0) hx hb dX5_settle_81 (by decide) ?_
  exact hrec2 _ hf _ _ _ (lv_sub hl [0, 1] rfl) hw

/-- ForestRoomsModel.inner -/
def fX5_inner (G : Nat) (st0 : fo_St) : Option (Int32 × fo_St) := lp3_ (fun rec4 (x1 : Int32) (x2 : Int32) (st3 : fo_St) => if (gi_ st3 0 29) ≤ x1 then some (x2, st3) else ck_ (fo_in x1 400) (if (gi_ st3 13 x1.toNatClampNeg) < (31 : Int32) then rec4 (x1 + (1 : Int32)) x2 st3 else ck_ (fo_in x1 400) (lI_ (gi_ st3 13 x1.toNatClampNeg) (fun x5 => rec4 (x1 + (1 : Int32)) x5 st3)))) G (0 : Int32) (-1 : Int32) st0
theorem hm_X5_inner : fo_M yX5_inner 0 := ⟨by decide +kernel, by decide +kernel, by decide +kernel, by decide +kernel⟩
set_option maxHeartbeats 4000000 in
theorem wX5_inner (l : Launch) (E : fo_E) (hE : ∀ n, et E n = tM_ n) (G : Nat) (st0 : fo_St) (rZ : Int32) (stZ : fo_St) (hf : fX5_inner G st0 = some (rZ, stZ)) : CTi l E yX5_inner (ws_ yX5_inner cX5_inner 3 (some .int)) ({ frames := 0, cells := 0, slots := 0, locals := 0 }) [.ref (eb E + 0)] st0 rZ stZ := by
  refine fe_i hm_X5_inner (Nat.le_of_ble_eq_true rfl) (fun p e R s m args below meth c Q hRf hRl X hend ls hl hw => ?_)
  have hx := X.1.1
  have hb := X.1.2.1
  have hl : lv_has ls 3 [(0, .ref (eb E + 0))] := hl
  unfold fX5_inner at hf
  generalize s.heap = H at hw ⊢
  generalize ([] : List Loc) = locs at hw ⊢
  refine lv_iconst (v := (-1 : Int32)) hx hb dX5_inner_0 (by decide) ?_
  refine lv_istore_n (lv' := [(1, .int (-1 : Int32)), (0, .ref (eb E + 0))]) hx hb dX5_inner_1 rfl hl (by decide) rfl (fun ls hl => ?_)
  refine lv_iconst (v := (0 : Int32)) hx hb dX5_inner_2 (by decide) ?_
  refine lv_istore_n (lv' := [(2, .int (0 : Int32)), (1, .int (-1 : Int32)), (0, .ref (eb E + 0))]) hx hb dX5_inner_3 rfl hl (by decide) rfl (fun ls hl => ?_)
  refine lp3_e (P := fun x1 x2 st3 => ∀ (H : Heap) (locs : List Loc) (ls : Array Slot), lv_has ls 3 [(2, .int x1), (1, .int x2), (0, .ref (eb E + 0))] → fo_S E s st3 H locs → W p l e R s m args below meth c H locs 0 0 Q (F0 m 4 ls [])) (fun rec4 hrec4 x1 x2 st3 hf => ?_) G _ _ _ hf H locs ls (lv_sub hl [0, 1, 2] rfl) hw
  intro H locs ls hl hw
  refine lv_iload_n hx hb dX5_inner_4 rfl (lv_at hl 0 rfl) ?_
  refine lv_aload_n hx hb dX5_inner_5 rfl (lv_at hl 2 rfl) ?_
  refine fo_geti X hw fc_X5 (hm0 hE) (k := 29) (by decide) rfl q1547 dX5_inner_6 ?_
  refine fb_ige (tgt := 40) hx hb dX5_inner_9 (by decide) hf (fun hf => ?_) (fun hf => ?_)
  · refine lv_iload_n hx hb dX5_inner_40 rfl (lv_at hl 1 rfl) ?_
    exact fd_i hend hw hf dX5_inner_41
  refine lv_aload_n hx hb dX5_inner_12 rfl (lv_at hl 2 rfl) ?_
  refine fo_gets X hw fc_X5 (hm0 hE) (k := 27) (d := 13) (n2 := 13) (by decide) rfl rfl q1545 dX5_inner_13 ?_
  refine lv_iload_n hx hb dX5_inner_16 rfl (lv_at hl 0 rfl) ?_
  refine fo_iald X hw (hm13 hE) dX5_inner_17 hf (fun hf => ?_)
  refine lv_bipush (v := (31 : Int32)) hx hb dX5_inner_18 (by decide) ?_
  refine fb_ilt (tgt := 32) hx hb dX5_inner_20 (by decide) hf (fun hf => ?_) (fun hf => ?_)
  · refine lv_iload_n hx hb dX5_inner_32 rfl (lv_at hl 1 rfl) ?_
    refine lv_istore_n (lv' := [(1, .int x2), (2, .int x1), (0, .ref (eb E + 0))]) hx hb dX5_inner_33 rfl hl (by decide) rfl (fun ls hl => ?_)
    refine fb_iinc (v := (1 : Int32)) (lv' := [(2, .int (x1 + (1 : Int32))), (1, .int x2), (0, .ref (eb E + 0))]) hx hb dX5_inner_34 hl (k := 1) rfl (by decide) (by decide) rfl (fun ls hl => ?_)
    refine lv_goto (tgt := 4) hx hb dX5_inner_37 (by decide) ?_
    exact hrec4 _ _ _ hf _ _ _ (lv_sub hl [0, 1, 2] rfl) hw
  refine lv_aload_n hx hb dX5_inner_23 rfl (lv_at hl 2 rfl) ?_
  refine fo_gets X hw fc_X5 (hm0 hE) (k := 27) (d := 13) (n2 := 13) (by decide) rfl rfl q1545 dX5_inner_24 ?_
  refine lv_iload_n hx hb dX5_inner_27 rfl (lv_at hl 0 rfl) ?_
  refine fo_iald X hw (hm13 hE) dX5_inner_28 hf (fun hf => ?_)
  refine lv_goto (tgt := 33) hx hb dX5_inner_29 (by decide) ?_
  refine fo_tI hf (fun x5 hf => ?_)
  refine lv_istore_n (lv' := [(1, .int x5), (2, .int x1), (0, .ref (eb E + 0))]) hx hb dX5_inner_33 rfl hl (by decide) rfl (fun ls hl => ?_)
  refine fb_iinc (v := (1 : Int32)) (lv' := [(2, .int (x1 + (1 : Int32))), (1, .int x5), (0, .ref (eb E + 0))]) hx hb dX5_inner_34 hl (k := 1) rfl (by decide) (by decide) rfl (fun ls hl => ?_)
  refine lv_goto (tgt := 4) hx hb dX5_inner_37 (by decide) ?_
  exact hrec4 _ _ _ hf _ _ _ (lv_sub hl [0, 1, 2] rfl) hw

/-- ForestRoomsModel.isCompared -/
def fX5_isCompared (G : Nat) (st0 : fo_St) : Option (Int32 × fo_St) := lI_ ((gi_ st0 0 29) - (1 : Int32)) (fun x1 => jn_ (fun (x2 : Int32) (st3 : fo_St) => if x2 < 0 then some ((0 : Int32), st3) else ck_ (fo_in x2 400) (bd_ (fX5_in ((gi_ st3 13 x2.toNatClampNeg).toInt64) (25 : Int64) (27 : Int64) st3) (fun x5 st6 => if x5 = 0 then some ((0 : Int32), st6) else some ((1 : Int32), st6)))) (fun k4 => lp2_ (fun rec9 (x7 : Int32) (st8 : fo_St) => if x7 < 0 then k4 x7 st8 else ck_ (fo_in x7 400) (bd_ (fX5_in ((gi_ st8 13 x7.toNatClampNeg).toInt64) (20 : Int64) (24 : Int64) st8) (fun x10 st11 => if x10 = 0 then k4 x7 st11 else rec9 (x7 + (-1 : Int32)) st11))) G x1 st0))
theorem hm_X5_isCompared : fo_M yX5_isCompared 0 := ⟨by decide +kernel, by decide +kernel, by decide +kernel, by decide +kernel⟩
set_option maxHeartbeats 4000000 in
theorem wX5_isCompared (l : Launch) (E : fo_E) (hE : ∀ n, et E n = tM_ n) (G : Nat) (st0 : fo_St) (rZ : Int32) (stZ : fo_St) (hf : fX5_isCompared G st0 = some (rZ, stZ)) : CTi l E yX5_isCompared (ws_ yX5_isCompared cX5_isCompared 2 (some .boolean)) ({ frames := 1, cells := 0, slots := 0, locals := 25 }) [.ref (eb E + 0)] st0 rZ stZ := by
  refine fe_z hm_X5_isCompared (Nat.le_of_ble_eq_true rfl) (fun p e R s m args below meth c Q hRf hRl X hend ls hl hw => ?_)
  have hx := X.1.1
  have hb := X.1.2.1
  have hl : lv_has ls 2 [(0, .ref (eb E + 0))] := hl
  unfold fX5_isCompared at hf
  generalize s.heap = H at hw ⊢
  generalize ([] : List Loc) = locs at hw ⊢
  refine lv_aload_n hx hb dX5_isCompared_0 rfl (lv_at hl 0 rfl) ?_
  refine fo_geti X hw fc_X5 (hm0 hE) (k := 29) (by decide) rfl q1547 dX5_isCompared_1 ?_
  refine lv_iconst (v := (1 : Int32)) hx hb dX5_isCompared_4 (by decide) ?_
  refine lv_isub hx hb dX5_isCompared_5 ?_
  refine fo_tI hf (fun x1 hf => ?_)
  refine lv_istore_n (lv' := [(1, .int x1), (0, .ref (eb E + 0))]) hx hb dX5_isCompared_6 rfl hl (by decide) rfl (fun ls hl => ?_)
  refine jn_e hf (fun k4 ek hf => ?_)
  have hk4 : ∀ (x2 : Int32) (st3 : fo_St) (H : Heap) (locs : List Loc) (ls : Array Slot), lv_has ls 2 [(1, .int x2), (0, .ref (eb E + 0))] → fo_S E s st3 H locs → k4 x2 st3 = some (rZ, stZ) → W p l e R s m args below meth c H locs 0 0 Q (F0 m 36 ls []) := by
    intro x2 st3 H locs ls hl hw hf
    rw [ek] at hf
    refine lv_iload_n hx hb dX5_isCompared_36 rfl (lv_at hl 0 rfl) ?_
    refine fb_zlt (tgt := 63) hx hb dX5_isCompared_37 (by decide) hf (fun hf => ?_) (fun hf => ?_)
    · refine lv_iconst (v := (0 : Int32)) hx hb dX5_isCompared_63 (by decide) ?_
      exact fd_z hend hw rfl hf dX5_isCompared_64
    refine lv_aload_n hx hb dX5_isCompared_40 rfl (lv_at hl 1 rfl) ?_
    refine fo_gets X hw fc_X5 (hm0 hE) (k := 27) (d := 13) (n2 := 13) (by decide) rfl rfl q1545 dX5_isCompared_41 ?_
    refine lv_iload_n hx hb dX5_isCompared_44 rfl (lv_at hl 0 rfl) ?_
    refine fo_iald X hw (hm13 hE) dX5_isCompared_45 hf (fun hf => ?_)
    refine lv_i2l (v := (gi_ st3 13 x2.toNatClampNeg).toInt64) hx hb dX5_isCompared_46 rfl ?_
    refine lv_ldc2 (v := (25 : Int64)) hx hb X.1.2.2.2.1 (X.1.2.2.2.2 _ q1941) dX5_isCompared_47 ?_
    refine lv_ldc2 (v := (27 : Int64)) hx hb X.1.2.2.2.1 (X.1.2.2.2.2 _ q1942) dX5_isCompared_50 ?_
    refine fc_Si (rest := []) (As := [.long (gi_ st3 13 x2.toNatClampNeg).toInt64, .long (25 : Int64), .long (27 : Int64)]) X hw hm_X5_in (lw_S q1722 q1723 q121 q1724) ⟨rfl, rfl⟩ ⟨by rw [hRf]; exact Nat.le_of_ble_eq_true rfl, by rw [hRl]; exact Nat.le_of_ble_eq_true rfl⟩ rfl rfl hl.1 (Nat.le_of_ble_eq_true rfl) dX5_isCompared_53 (fun rQ stQ hQ => wX5_in l E hE ((gi_ st3 13 x2.toNatClampNeg).toInt64) (25 : Int64) (27 : Int64) st3 rQ stQ hQ) hf (fun x5 st6 H locs hw hf => ?_)
    refine fb_zeq (tgt := 63) hx hb dX5_isCompared_56 (by decide) hf (fun hf => ?_) (fun hf => ?_)
    · refine lv_iconst (v := (0 : Int32)) hx hb dX5_isCompared_63 (by decide) ?_
      exact fd_z hend hw rfl hf dX5_isCompared_64
    refine lv_iconst (v := (1 : Int32)) hx hb dX5_isCompared_59 (by decide) ?_
    refine lv_goto (tgt := 64) hx hb dX5_isCompared_60 (by decide) ?_
    exact fd_z hend hw rfl hf dX5_isCompared_64
  clear ek
  refine lp2_e (P := fun x7 st8 => ∀ (H : Heap) (locs : List Loc) (ls : Array Slot), lv_has ls 2 [(1, .int x7), (0, .ref (eb E + 0))] → fo_S E s st8 H locs → W p l e R s m args below meth c H locs 0 0 Q (F0 m 7 ls [])) (fun rec9 hrec9 x7 st8 hf => ?_) G _ _ hf H locs ls (lv_sub hl [0, 1] rfl) hw
  intro H locs ls hl hw
  refine lv_iload_n hx hb dX5_isCompared_7 rfl (lv_at hl 0 rfl) ?_
  refine fb_zlt (tgt := 36) hx hb dX5_isCompared_8 (by decide) hf (fun hf => ?_) (fun hf => ?_)
  · exact hk4 _ _ _ _ _ (lv_sub hl [0, 1] rfl) hw hf
  refine lv_aload_n hx hb dX5_isCompared_11 rfl (lv_at hl 1 rfl) ?_
  refine fo_gets X hw fc_X5 (hm0 hE) (k := 27) (d := 13) (n2 := 13) (by decide) rfl rfl q1545 dX5_isCompared_12 ?_
  refine lv_iload_n hx hb dX5_isCompared_15 rfl (lv_at hl 0 rfl) ?_
  refine fo_iald X hw (hm13 hE) dX5_isCompared_16 hf (fun hf => ?_)
  refine lv_i2l (v := (gi_ st8 13 x7.toNatClampNeg).toInt64) hx hb dX5_isCompared_17 rfl ?_
  refine lv_ldc2 (v := (20 : Int64)) hx hb X.1.2.2.2.1 (X.1.2.2.2.2 _ q1939) dX5_isCompared_18 ?_
  refine lv_ldc2 (v := (24 : Int64)) hx hb X.1.2.2.2.1 (X.1.2.2.2.2 _ q1940) dX5_isCompared_21 ?_
  refine fc_Si (rest := []) (As := [.long (gi_ st8 13 x7.toNatClampNeg).toInt64, .long (20 : Int64), .long (24 : Int64)]) X hw hm_X5_in (lw_S q1722 q1723 q121 q1724) ⟨rfl, rfl⟩ ⟨by rw [hRf]; exact Nat.le_of_ble_eq_true rfl, by rw [hRl]; exact Nat.le_of_ble_eq_true rfl⟩ rfl rfl hl.1 (Nat.le_of_ble_eq_true rfl) dX5_isCompared_24 (fun rQ stQ hQ => wX5_in l E hE ((gi_ st8 13 x7.toNatClampNeg).toInt64) (20 : Int64) (24 : Int64) st8 rQ stQ hQ) hf (fun x10 st11 H locs hw hf => ?_)
  refine fb_zeq (tgt := 36) hx hb dX5_isCompared_27 (by decide) hf (fun hf => ?_) (fun hf => ?_)
  · exact hk4 _ _ _ _ _ (lv_sub hl [0, 1] rfl) hw hf
  refine fb_iinc (v := (-1 : Int32)) (lv' := [(1, .int (x7 + (-1 : Int32))), (0, .ref (eb E + 0))]) hx hb dX5_isCompared_30 hl (k := 0) rfl (by decide) (by decide) rfl (fun ls hl => ?_)
  refine lv_goto (tgt := 7) hx hb dX5_isCompared_33 (by decide) ?_
  exact hrec9 _ _ hf _ _ _ (lv_sub hl [0, 1] rfl) hw

/-- ForestRoomsModel.behindSum -/
def fX5_behindSum (G : Nat) (p1 : Int32) (st0 : fo_St) : Option (Int32 × fo_St) := bd_ (fX5_isSign (43 : Int32) st0) (fun x1 st2 => jn_ (fun (x3 : Int32) (st4 : fo_St) => if x3 = (-1 : Int32) then bd_ (fX5_inner G st4) (fun x6 st7 => if ¬ x6 = (32 : Int32) then if ¬ x6 = (-1 : Int32) then bd_ (fX5_isCompared G st7) (fun x8 st9 => if x8 = 0 then bd_ (fX5_isSign (60 : Int32) st9) (fun x10 st11 => jn_ (fun (x12 : Int32) (st13 : fo_St) => jn_ (fun (x15 : Int32) (st16 : fo_St) => bv_ (fX5_must G x15 st16) (fun st19 => if ¬ (gi_ st19 0 19) = 0 then some ((1 : Int32), st19) else bv_ (fX5_settle G (5 : Int32) st19) (fun st21 => bv_ (fX5_push x12 (0 : Int32) st21) (fun st23 => some ((1 : Int32), st23))))) (fun k17 => if ¬ x12 = (27 : Int32) then k17 (1 : Int32) st13 else bd_ (fX5_isSign (61 : Int32) st13) (fun x24 st25 => if x24 = 0 then k17 (0 : Int32) st25 else k17 (1 : Int32) st25))) (fun k14 => if x10 = 0 then bd_ (fX5_isSign (62 : Int32) st11) (fun x26 st27 => if x26 = 0 then k14 (27 : Int32) st27 else k14 (26 : Int32) st27) else k14 (25 : Int32) st11)) else some ((2 : Int32), st9)) else if ¬ p1 = 0 then bd_ (fX5_isCompared G st7) (fun x28 st29 => if x28 = 0 then bd_ (fX5_isSign (60 : Int32) st29) (fun x30 st31 => jn_ (fun (x32 : Int32) (st33 : fo_St) => jn_ (fun (x35 : Int32) (st36 : fo_St) => bv_ (fX5_must G x35 st36) (fun st39 => if ¬ (gi_ st39 0 19) = 0 then some ((1 : Int32), st39) else bv_ (fX5_settle G (5 : Int32) st39) (fun st41 => bv_ (fX5_push x32 (0 : Int32) st41) (fun st43 => some ((1 : Int32), st43))))) (fun k37 => if ¬ x32 = (27 : Int32) then k37 (1 : Int32) st33 else bd_ (fX5_isSign (61 : Int32) st33) (fun x44 st45 => if x44 = 0 then k37 (0 : Int32) st45 else k37 (1 : Int32) st45))) (fun k34 => if x30 = 0 then bd_ (fX5_isSign (62 : Int32) st31) (fun x46 st47 => if x46 = 0 then k34 (27 : Int32) st47 else k34 (26 : Int32) st47) else k34 (25 : Int32) st31)) else some ((2 : Int32), st29)) else some ((4 : Int32), st7) else bd_ (fX5_isSign (93 : Int32) st7) (fun x48 st49 => bv_ (fX5_must G x48 st49) (fun st51 => if ¬ (gi_ st51 0 19) = 0 then some ((3 : Int32), st51) else bv_ (fX5_settle G (5 : Int32) st51) (fun st53 => lt_ (si_ st53 0 29 ((gi_ st53 0 29) - (1 : Int32))) (fun st54 => lt_ (si_ st54 0 30 ((gi_ st54 0 30) - (1 : Int32))) (fun st55 => some ((3 : Int32), st55))))))) else bd_ (fX5_binds x3 st4) (fun x56 st57 => bv_ (fX5_settle G x56 st57) (fun st59 => bv_ (fX5_push x3 (0 : Int32) st59) (fun st61 => bv_ (fX5_nextToken G st61) (fun st63 => some ((1 : Int32), st63)))))) (fun k5 => if x1 = 0 then bd_ (fX5_isSign (45 : Int32) st2) (fun x64 st65 => if x64 = 0 then bd_ (fX5_isSign (42 : Int32) st65) (fun x66 st67 => if x66 = 0 then bd_ (fX5_isSign (47 : Int32) st67) (fun x68 st69 => if x68 = 0 then bd_ (fX5_isSign (37 : Int32) st69) (fun x70 st71 => if x70 = 0 then k5 (-1 : Int32) st71 else k5 (24 : Int32) st71) else k5 (23 : Int32) st69) else k5 (22 : Int32) st67) else k5 (21 : Int32) st65) else k5 (20 : Int32) st2))
theorem hm_X5_behindSum : fo_M yX5_behindSum 1 := ⟨by decide +kernel, by decide +kernel, by decide +kernel, by decide +kernel⟩
set_option maxHeartbeats 4000000 in
theorem wX5_behindSum (l : Launch) (E : fo_E) (hE : ∀ n, et E n = tM_ n) (G : Nat) (p1 : Int32) (st0 : fo_St) (rZ : Int32) (stZ : fo_St) (hf : fX5_behindSum G p1 st0 = some (rZ, stZ)) : CTi l E yX5_behindSum (ws_ yX5_behindSum cX5_behindSum 4 (some .int)) ({ frames := 3, cells := 0, slots := 0, locals := 61 }) [.ref (eb E + 0), .int p1] st0 rZ stZ := by
  refine fe_i hm_X5_behindSum (Nat.le_of_ble_eq_true rfl) (fun p e R s m args below meth c Q hRf hRl X hend ls hl hw => ?_)
  have hx := X.1.1
  have hb := X.1.2.1
  have hl : lv_has ls 4 [(0, .ref (eb E + 0)), (1, .int p1)] := hl
  unfold fX5_behindSum at hf
  generalize s.heap = H at hw ⊢
  generalize ([] : List Loc) = locs at hw ⊢
  refine lv_aload_n hx hb dX5_behindSum_0 rfl (lv_at hl 0 rfl) ?_
  refine lv_bipush (v := (43 : Int32)) hx hb dX5_behindSum_1 (by decide) ?_
  refine fc_Vi (rest := []) (As := [.int (43 : Int32)]) X hw hm_X5_isSign (lw_V q1887 q1889 qs62 q121 q1890) ⟨rfl, rfl⟩ ⟨by rw [hRf]; exact Nat.le_of_ble_eq_true rfl, by rw [hRl]; exact Nat.le_of_ble_eq_true rfl⟩ fc_X5 rfl (hm0 hE) rfl rfl hl.1 (Nat.le_of_ble_eq_true rfl) dX5_behindSum_3 (fun rQ stQ hQ => wX5_isSign l E hE (43 : Int32) st0 rQ stQ hQ) hf (fun x1 st2 H locs hw hf => ?_)
  refine jn_e hf (fun k5 ek hf => ?_)
  have hk5 : ∀ (x3 : Int32) (st4 : fo_St) (H : Heap) (locs : List Loc) (ls : Array Slot), lv_has ls 4 [(0, .ref (eb E + 0)), (1, .int p1)] → fo_S E s st4 H locs → k5 x3 st4 = some (rZ, stZ) → W p l e R s m args below meth c H locs 0 0 Q (F0 m 71 ls [.int x3]) := by
    intro x3 st4 H locs ls hl hw hf
    rw [ek] at hf
    refine lv_istore_n (lv' := [(2, .int x3), (0, .ref (eb E + 0)), (1, .int p1)]) hx hb dX5_behindSum_71 rfl hl (by decide) rfl (fun ls hl => ?_)
    refine lv_iload_n hx hb dX5_behindSum_72 rfl (lv_at hl 0 rfl) ?_
    refine lv_iconst (v := (-1 : Int32)) hx hb dX5_behindSum_73 (by decide) ?_
    refine fb_ieq (tgt := 97) hx hb dX5_behindSum_74 (by decide) hf (fun hf => ?_) (fun hf => ?_)
    · refine lv_aload_n hx hb dX5_behindSum_97 rfl (lv_at hl 1 rfl) ?_
      refine fc_Vi (rest := []) (As := []) X hw hm_X5_inner (lw_V q1931 q1933 qs72 q121 q1934) ⟨rfl, rfl⟩ ⟨by rw [hRf]; exact Nat.le_of_ble_eq_true rfl, by rw [hRl]; exact Nat.le_of_ble_eq_true rfl⟩ fc_X5 rfl (hm0 hE) rfl rfl hl.1 (Nat.le_of_ble_eq_true rfl) dX5_behindSum_98 (fun rQ stQ hQ => wX5_inner l E hE G st4 rQ stQ hQ) hf (fun x6 st7 H locs hw hf => ?_)
      refine lv_istore_n (lv' := [(3, .int x6), (2, .int x3), (0, .ref (eb E + 0)), (1, .int p1)]) hx hb dX5_behindSum_101 rfl hl (by decide) rfl (fun ls hl => ?_)
      refine lv_iload_n hx hb dX5_behindSum_102 rfl (lv_at hl 0 rfl) ?_
      refine lv_bipush (v := (32 : Int32)) hx hb dX5_behindSum_103 (by decide) ?_
      refine fb_ine (tgt := 152) hx hb dX5_behindSum_105 (by decide) hf (fun hf => ?_) (fun hf => ?_)
      · refine lv_iload_n hx hb dX5_behindSum_152 rfl (lv_at hl 0 rfl) ?_
        refine lv_iconst (v := (-1 : Int32)) hx hb dX5_behindSum_153 (by decide) ?_
        refine fb_ine (tgt := 163) hx hb dX5_behindSum_154 (by decide) hf (fun hf => ?_) (fun hf => ?_)
        · refine lv_aload_n hx hb dX5_behindSum_163 rfl (lv_at hl 2 rfl) ?_
          refine fc_Vi (rest := []) (As := []) X hw hm_X5_isCompared (lw_V q1935 q1937 qs73 q121 q1938) ⟨rfl, rfl⟩ ⟨by rw [hRf]; exact Nat.le_of_ble_eq_true rfl, by rw [hRl]; exact Nat.le_of_ble_eq_true rfl⟩ fc_X5 rfl (hm0 hE) rfl rfl hl.1 (Nat.le_of_ble_eq_true rfl) dX5_behindSum_164 (fun rQ stQ hQ => wX5_isCompared l E hE G st7 rQ stQ hQ) hf (fun x8 st9 H locs hw hf => ?_)
          refine fb_zeq (tgt := 172) hx hb dX5_behindSum_167 (by decide) hf (fun hf => ?_) (fun hf => ?_)
          · refine lv_aload_n hx hb dX5_behindSum_172 rfl (lv_at hl 2 rfl) ?_
            refine lv_bipush (v := (60 : Int32)) hx hb dX5_behindSum_173 (by decide) ?_
            refine fc_Vi (rest := []) (As := [.int (60 : Int32)]) X hw hm_X5_isSign (lw_V q1887 q1889 qs62 q121 q1890) ⟨rfl, rfl⟩ ⟨by rw [hRf]; exact Nat.le_of_ble_eq_true rfl, by rw [hRl]; exact Nat.le_of_ble_eq_true rfl⟩ fc_X5 rfl (hm0 hE) rfl rfl hl.1 (Nat.le_of_ble_eq_true rfl) dX5_behindSum_175 (fun rQ stQ hQ => wX5_isSign l E hE (60 : Int32) st9 rQ stQ hQ) hf (fun x10 st11 H locs hw hf => ?_)
            refine jn_e hf (fun k14 ek hf => ?_)
            have hk14 : ∀ (x12 : Int32) (st13 : fo_St) (H : Heap) (locs : List Loc) (ls : Array Slot), lv_has ls 4 [(0, .ref (eb E + 0))] → fo_S E s st13 H locs → k14 x12 st13 = some (rZ, stZ) → W p l e R s m args below meth c H locs 0 0 Q (F0 m 202 ls [.int x12]) := by
              intro x12 st13 H locs ls hl hw hf
              rw [ek] at hf
              refine lv_istore_n (lv' := [(2, .int x12), (0, .ref (eb E + 0))]) hx hb dX5_behindSum_202 rfl hl (by decide) rfl (fun ls hl => ?_)
              refine lv_aload_n hx hb dX5_behindSum_203 rfl (lv_at hl 1 rfl) ?_
              refine lv_iload_n hx hb dX5_behindSum_204 rfl (lv_at hl 0 rfl) ?_
              refine lv_bipush (v := (27 : Int32)) hx hb dX5_behindSum_205 (by decide) ?_
              refine jn_e hf (fun k17 ek hf => ?_)
              have hk17 : ∀ (x15 : Int32) (st16 : fo_St) (H : Heap) (locs : List Loc) (ls : Array Slot), lv_has ls 4 [(2, .int x12), (0, .ref (eb E + 0))] → fo_S E s st16 H locs → k17 x15 st16 = some (rZ, stZ) → W p l e R s m args below meth c H locs 0 0 Q (F0 m 224 ls [.int x15, .ref (eb E + 0)]) := by
                intro x15 st16 H locs ls hl hw hf
                rw [ek] at hf
                refine fc_Vv (rest := []) (As := [.int x15]) X hw hm_X5_must (lw_V q1870 q1872 qs58 q121 q1873) ⟨rfl, rfl⟩ ⟨by rw [hRf]; exact Nat.le_of_ble_eq_true rfl, by rw [hRl]; exact Nat.le_of_ble_eq_true rfl⟩ fc_X5 rfl (hm0 hE) rfl rfl hl.1 (Nat.le_of_ble_eq_true rfl) dX5_behindSum_224 (fun stQ hQ => wX5_must l E hE G x15 st16 stQ hQ) hf (fun st19 H locs hw hf => ?_)
                refine lv_aload_n hx hb dX5_behindSum_227 rfl (lv_at hl 1 rfl) ?_
                refine fo_geti X hw fc_X5 (hm0 hE) (k := 19) (by decide) rfl q1537 dX5_behindSum_228 ?_
                refine fb_zne (tgt := 245) hx hb dX5_behindSum_231 (by decide) hf (fun hf => ?_) (fun hf => ?_)
                · refine lv_iconst (v := (1 : Int32)) hx hb dX5_behindSum_245 (by decide) ?_
                  exact fd_i hend hw hf dX5_behindSum_246
                refine lv_aload_n hx hb dX5_behindSum_234 rfl (lv_at hl 1 rfl) ?_
                refine lv_iconst (v := (5 : Int32)) hx hb dX5_behindSum_235 (by decide) ?_
                refine fc_Vv (rest := []) (As := [.int (5 : Int32)]) X hw hm_X5_settle (lw_V q1927 q1929 qs71 q121 q1930) ⟨rfl, rfl⟩ ⟨by rw [hRf]; exact Nat.le_of_ble_eq_true rfl, by rw [hRl]; exact Nat.le_of_ble_eq_true rfl⟩ fc_X5 rfl (hm0 hE) rfl rfl hl.1 (Nat.le_of_ble_eq_true rfl) dX5_behindSum_236 (fun stQ hQ => wX5_settle l E hE G (5 : Int32) st19 stQ hQ) hf (fun st21 H locs hw hf => ?_)
                refine lv_aload_n hx hb dX5_behindSum_239 rfl (lv_at hl 1 rfl) ?_
                refine lv_iload_n hx hb dX5_behindSum_240 rfl (lv_at hl 0 rfl) ?_
                refine lv_iconst (v := (0 : Int32)) hx hb dX5_behindSum_241 (by decide) ?_
                refine fc_Vv (rest := []) (As := [.int x12, .int (0 : Int32)]) X hw hm_X5_push (lw_V q1883 q1885 qs61 q121 q1886) ⟨rfl, rfl⟩ ⟨by rw [hRf]; exact Nat.le_of_ble_eq_true rfl, by rw [hRl]; exact Nat.le_of_ble_eq_true rfl⟩ fc_X5 rfl (hm0 hE) rfl rfl hl.1 (Nat.le_of_ble_eq_true rfl) dX5_behindSum_242 (fun stQ hQ => wX5_push l E hE x12 (0 : Int32) st21 stQ hQ) hf (fun st23 H locs hw hf => ?_)
                refine lv_iconst (v := (1 : Int32)) hx hb dX5_behindSum_245 (by decide) ?_
                exact fd_i hend hw hf dX5_behindSum_246
              clear ek
              refine fb_ine (tgt := 219) hx hb dX5_behindSum_207 (by decide) hf (fun hf => ?_) (fun hf => ?_)
              · refine lv_iconst (v := (1 : Int32)) hx hb dX5_behindSum_219 (by decide) ?_
                refine lv_goto (tgt := 224) hx hb dX5_behindSum_220 (by decide) ?_
                exact hk17 _ _ _ _ _ (lv_sub hl [0, 1] rfl) hw hf
              refine lv_aload_n hx hb dX5_behindSum_210 rfl (lv_at hl 1 rfl) ?_
              refine lv_bipush (v := (61 : Int32)) hx hb dX5_behindSum_211 (by decide) ?_
              refine fc_Vi (rest := [.ref (eb E + 0)]) (As := [.int (61 : Int32)]) X hw hm_X5_isSign (lw_V q1887 q1889 qs62 q121 q1890) ⟨rfl, rfl⟩ ⟨by rw [hRf]; exact Nat.le_of_ble_eq_true rfl, by rw [hRl]; exact Nat.le_of_ble_eq_true rfl⟩ fc_X5 rfl (hm0 hE) rfl rfl hl.1 (Nat.le_of_ble_eq_true rfl) dX5_behindSum_213 (fun rQ stQ hQ => wX5_isSign l E hE (61 : Int32) st13 rQ stQ hQ) hf (fun x24 st25 H locs hw hf => ?_)
              refine fb_zeq (tgt := 223) hx hb dX5_behindSum_216 (by decide) hf (fun hf => ?_) (fun hf => ?_)
              · refine lv_iconst (v := (0 : Int32)) hx hb dX5_behindSum_223 (by decide) ?_
                exact hk17 _ _ _ _ _ (lv_sub hl [0, 1] rfl) hw hf
              refine lv_iconst (v := (1 : Int32)) hx hb dX5_behindSum_219 (by decide) ?_
              refine lv_goto (tgt := 224) hx hb dX5_behindSum_220 (by decide) ?_
              exact hk17 _ _ _ _ _ (lv_sub hl [0, 1] rfl) hw hf
            clear ek
            refine fb_zeq (tgt := 186) hx hb dX5_behindSum_178 (by decide) hf (fun hf => ?_) (fun hf => ?_)
            · refine lv_aload_n hx hb dX5_behindSum_186 rfl (lv_at hl 2 rfl) ?_
              refine lv_bipush (v := (62 : Int32)) hx hb dX5_behindSum_187 (by decide) ?_
              refine fc_Vi (rest := []) (As := [.int (62 : Int32)]) X hw hm_X5_isSign (lw_V q1887 q1889 qs62 q121 q1890) ⟨rfl, rfl⟩ ⟨by rw [hRf]; exact Nat.le_of_ble_eq_true rfl, by rw [hRl]; exact Nat.le_of_ble_eq_true rfl⟩ fc_X5 rfl (hm0 hE) rfl rfl hl.1 (Nat.le_of_ble_eq_true rfl) dX5_behindSum_189 (fun rQ stQ hQ => wX5_isSign l E hE (62 : Int32) st11 rQ stQ hQ) hf (fun x26 st27 H locs hw hf => ?_)
              refine fb_zeq (tgt := 200) hx hb dX5_behindSum_192 (by decide) hf (fun hf => ?_) (fun hf => ?_)
              · refine lv_bipush (v := (27 : Int32)) hx hb dX5_behindSum_200 (by decide) ?_
                exact hk14 _ _ _ _ _ (lv_sub hl [2] rfl) hw hf
              refine lv_bipush (v := (26 : Int32)) hx hb dX5_behindSum_195 (by decide) ?_
              refine lv_goto (tgt := 202) hx hb dX5_behindSum_197 (by decide) ?_
              exact hk14 _ _ _ _ _ (lv_sub hl [2] rfl) hw hf
            refine lv_bipush (v := (25 : Int32)) hx hb dX5_behindSum_181 (by decide) ?_
            refine lv_goto (tgt := 202) hx hb dX5_behindSum_183 (by decide) ?_
            exact hk14 _ _ _ _ _ (lv_sub hl [2] rfl) hw hf
          refine lv_iconst (v := (2 : Int32)) hx hb dX5_behindSum_170 (by decide) ?_
          exact fd_i hend hw hf dX5_behindSum_171
        refine lv_iload_n hx hb dX5_behindSum_157 rfl (lv_at hl 3 rfl) ?_
        refine fb_zne (tgt := 163) hx hb dX5_behindSum_158 (by decide) hf (fun hf => ?_) (fun hf => ?_)
        · refine lv_aload_n hx hb dX5_behindSum_163 rfl (lv_at hl 2 rfl) ?_
          refine fc_Vi (rest := []) (As := []) X hw hm_X5_isCompared (lw_V q1935 q1937 qs73 q121 q1938) ⟨rfl, rfl⟩ ⟨by rw [hRf]; exact Nat.le_of_ble_eq_true rfl, by rw [hRl]; exact Nat.le_of_ble_eq_true rfl⟩ fc_X5 rfl (hm0 hE) rfl rfl hl.1 (Nat.le_of_ble_eq_true rfl) dX5_behindSum_164 (fun rQ stQ hQ => wX5_isCompared l E hE G st7 rQ stQ hQ) hf (fun x28 st29 H locs hw hf => ?_)
          refine fb_zeq (tgt := 172) hx hb dX5_behindSum_167 (by decide) hf (fun hf => ?_) (fun hf => ?_)
          · refine lv_aload_n hx hb dX5_behindSum_172 rfl (lv_at hl 2 rfl) ?_
            refine lv_bipush (v := (60 : Int32)) hx hb dX5_behindSum_173 (by decide) ?_
            refine fc_Vi (rest := []) (As := [.int (60 : Int32)]) X hw hm_X5_isSign (lw_V q1887 q1889 qs62 q121 q1890) ⟨rfl, rfl⟩ ⟨by rw [hRf]; exact Nat.le_of_ble_eq_true rfl, by rw [hRl]; exact Nat.le_of_ble_eq_true rfl⟩ fc_X5 rfl (hm0 hE) rfl rfl hl.1 (Nat.le_of_ble_eq_true rfl) dX5_behindSum_175 (fun rQ stQ hQ => wX5_isSign l E hE (60 : Int32) st29 rQ stQ hQ) hf (fun x30 st31 H locs hw hf => ?_)
            refine jn_e hf (fun k34 ek hf => ?_)
            have hk34 : ∀ (x32 : Int32) (st33 : fo_St) (H : Heap) (locs : List Loc) (ls : Array Slot), lv_has ls 4 [(0, .ref (eb E + 0))] → fo_S E s st33 H locs → k34 x32 st33 = some (rZ, stZ) → W p l e R s m args below meth c H locs 0 0 Q (F0 m 202 ls [.int x32]) := by
              intro x32 st33 H locs ls hl hw hf
              rw [ek] at hf
              refine lv_istore_n (lv' := [(2, .int x32), (0, .ref (eb E + 0))]) hx hb dX5_behindSum_202 rfl hl (by decide) rfl (fun ls hl => ?_)
              refine lv_aload_n hx hb dX5_behindSum_203 rfl (lv_at hl 1 rfl) ?_
              refine lv_iload_n hx hb dX5_behindSum_204 rfl (lv_at hl 0 rfl) ?_
              refine lv_bipush (v := (27 : Int32)) hx hb dX5_behindSum_205 (by decide) ?_
              refine jn_e hf (fun k37 ek hf => ?_)
              have hk37 : ∀ (x35 : Int32) (st36 : fo_St) (H : Heap) (locs : List Loc) (ls : Array Slot), lv_has ls 4 [(2, .int x32), (0, .ref (eb E + 0))] → fo_S E s st36 H locs → k37 x35 st36 = some (rZ, stZ) → W p l e R s m args below meth c H locs 0 0 Q (F0 m 224 ls [.int x35, .ref (eb E + 0)]) := by
                intro x35 st36 H locs ls hl hw hf
                rw [ek] at hf
                refine fc_Vv (rest := []) (As := [.int x35]) X hw hm_X5_must (lw_V q1870 q1872 qs58 q121 q1873) ⟨rfl, rfl⟩ ⟨by rw [hRf]; exact Nat.le_of_ble_eq_true rfl, by rw [hRl]; exact Nat.le_of_ble_eq_true rfl⟩ fc_X5 rfl (hm0 hE) rfl rfl hl.1 (Nat.le_of_ble_eq_true rfl) dX5_behindSum_224 (fun stQ hQ => wX5_must l E hE G x35 st36 stQ hQ) hf (fun st39 H locs hw hf => ?_)
                refine lv_aload_n hx hb dX5_behindSum_227 rfl (lv_at hl 1 rfl) ?_
                refine fo_geti X hw fc_X5 (hm0 hE) (k := 19) (by decide) rfl q1537 dX5_behindSum_228 ?_
                refine fb_zne (tgt := 245) hx hb dX5_behindSum_231 (by decide) hf (fun hf => ?_) (fun hf => ?_)
                · refine lv_iconst (v := (1 : Int32)) hx hb dX5_behindSum_245 (by decide) ?_
                  exact fd_i hend hw hf dX5_behindSum_246
                refine lv_aload_n hx hb dX5_behindSum_234 rfl (lv_at hl 1 rfl) ?_
                refine lv_iconst (v := (5 : Int32)) hx hb dX5_behindSum_235 (by decide) ?_
                refine fc_Vv (rest := []) (As := [.int (5 : Int32)]) X hw hm_X5_settle (lw_V q1927 q1929 qs71 q121 q1930) ⟨rfl, rfl⟩ ⟨by rw [hRf]; exact Nat.le_of_ble_eq_true rfl, by rw [hRl]; exact Nat.le_of_ble_eq_true rfl⟩ fc_X5 rfl (hm0 hE) rfl rfl hl.1 (Nat.le_of_ble_eq_true rfl) dX5_behindSum_236 (fun stQ hQ => wX5_settle l E hE G (5 : Int32) st39 stQ hQ) hf (fun st41 H locs hw hf => ?_)
                refine lv_aload_n hx hb dX5_behindSum_239 rfl (lv_at hl 1 rfl) ?_
                refine lv_iload_n hx hb dX5_behindSum_240 rfl (lv_at hl 0 rfl) ?_
                refine lv_iconst (v := (0 : Int32)) hx hb dX5_behindSum_241 (by decide) ?_
                refine fc_Vv (rest := []) (As := [.int x32, .int (0 : Int32)]) X hw hm_X5_push (lw_V q1883 q1885 qs61 q121 q1886) ⟨rfl, rfl⟩ ⟨by rw [hRf]; exact Nat.le_of_ble_eq_true rfl, by rw [hRl]; exact Nat.le_of_ble_eq_true rfl⟩ fc_X5 rfl (hm0 hE) rfl rfl hl.1 (Nat.le_of_ble_eq_true rfl) dX5_behindSum_242 (fun stQ hQ => wX5_push l E hE x32 (0 : Int32) st41 stQ hQ) hf (fun st43 H locs hw hf => ?_)
                refine lv_iconst (v := (1 : Int32)) hx hb dX5_behindSum_245 (by decide) ?_
                exact fd_i hend hw hf dX5_behindSum_246
              clear ek
              refine fb_ine (tgt := 219) hx hb dX5_behindSum_207 (by decide) hf (fun hf => ?_) (fun hf => ?_)
              · refine lv_iconst (v := (1 : Int32)) hx hb dX5_behindSum_219 (by decide) ?_
                refine lv_goto (tgt := 224) hx hb dX5_behindSum_220 (by decide) ?_
                exact hk37 _ _ _ _ _ (lv_sub hl [0, 1] rfl) hw hf
              refine lv_aload_n hx hb dX5_behindSum_210 rfl (lv_at hl 1 rfl) ?_
              refine lv_bipush (v := (61 : Int32)) hx hb dX5_behindSum_211 (by decide) ?_
              refine fc_Vi (rest := [.ref (eb E + 0)]) (As := [.int (61 : Int32)]) X hw hm_X5_isSign (lw_V q1887 q1889 qs62 q121 q1890) ⟨rfl, rfl⟩ ⟨by rw [hRf]; exact Nat.le_of_ble_eq_true rfl, by rw [hRl]; exact Nat.le_of_ble_eq_true rfl⟩ fc_X5 rfl (hm0 hE) rfl rfl hl.1 (Nat.le_of_ble_eq_true rfl) dX5_behindSum_213 (fun rQ stQ hQ => wX5_isSign l E hE (61 : Int32) st33 rQ stQ hQ) hf (fun x44 st45 H locs hw hf => ?_)
              refine fb_zeq (tgt := 223) hx hb dX5_behindSum_216 (by decide) hf (fun hf => ?_) (fun hf => ?_)
              · refine lv_iconst (v := (0 : Int32)) hx hb dX5_behindSum_223 (by decide) ?_
                exact hk37 _ _ _ _ _ (lv_sub hl [0, 1] rfl) hw hf
              refine lv_iconst (v := (1 : Int32)) hx hb dX5_behindSum_219 (by decide) ?_
              refine lv_goto (tgt := 224) hx hb dX5_behindSum_220 (by decide) ?_
              exact hk37 _ _ _ _ _ (lv_sub hl [0, 1] rfl) hw hf
            clear ek
            refine fb_zeq (tgt := 186) hx hb dX5_behindSum_178 (by decide) hf (fun hf => ?_) (fun hf => ?_)
            · refine lv_aload_n hx hb dX5_behindSum_186 rfl (lv_at hl 2 rfl) ?_
              refine lv_bipush (v := (62 : Int32)) hx hb dX5_behindSum_187 (by decide) ?_
              refine fc_Vi (rest := []) (As := [.int (62 : Int32)]) X hw hm_X5_isSign (lw_V q1887 q1889 qs62 q121 q1890) ⟨rfl, rfl⟩ ⟨by rw [hRf]; exact Nat.le_of_ble_eq_true rfl, by rw [hRl]; exact Nat.le_of_ble_eq_true rfl⟩ fc_X5 rfl (hm0 hE) rfl rfl hl.1 (Nat.le_of_ble_eq_true rfl) dX5_behindSum_189 (fun rQ stQ hQ => wX5_isSign l E hE (62 : Int32) st31 rQ stQ hQ) hf (fun x46 st47 H locs hw hf => ?_)
              refine fb_zeq (tgt := 200) hx hb dX5_behindSum_192 (by decide) hf (fun hf => ?_) (fun hf => ?_)
              · refine lv_bipush (v := (27 : Int32)) hx hb dX5_behindSum_200 (by decide) ?_
                exact hk34 _ _ _ _ _ (lv_sub hl [2] rfl) hw hf
              refine lv_bipush (v := (26 : Int32)) hx hb dX5_behindSum_195 (by decide) ?_
              refine lv_goto (tgt := 202) hx hb dX5_behindSum_197 (by decide) ?_
              exact hk34 _ _ _ _ _ (lv_sub hl [2] rfl) hw hf
            refine lv_bipush (v := (25 : Int32)) hx hb dX5_behindSum_181 (by decide) ?_
            refine lv_goto (tgt := 202) hx hb dX5_behindSum_183 (by decide) ?_
            exact hk34 _ _ _ _ _ (lv_sub hl [2] rfl) hw hf
          refine lv_iconst (v := (2 : Int32)) hx hb dX5_behindSum_170 (by decide) ?_
          exact fd_i hend hw hf dX5_behindSum_171
        refine lv_iconst (v := (4 : Int32)) hx hb dX5_behindSum_161 (by decide) ?_
        exact fd_i hend hw hf dX5_behindSum_162
      refine lv_aload_n hx hb dX5_behindSum_108 rfl (lv_at hl 2 rfl) ?_
      refine lv_aload_n hx hb dX5_behindSum_109 rfl (lv_at hl 2 rfl) ?_
      refine lv_bipush (v := (93 : Int32)) hx hb dX5_behindSum_110 (by decide) ?_
      refine fc_Vi (rest := [.ref (eb E + 0)]) (As := [.int (93 : Int32)]) X hw hm_X5_isSign (lw_V q1887 q1889 qs62 q121 q1890) ⟨rfl, rfl⟩ ⟨by rw [hRf]; exact Nat.le_of_ble_eq_true rfl, by rw [hRl]; exact Nat.le_of_ble_eq_true rfl⟩ fc_X5 rfl (hm0 hE) rfl rfl hl.1 (Nat.le_of_ble_eq_true rfl) dX5_behindSum_112 (fun rQ stQ hQ => wX5_isSign l E hE (93 : Int32) st7 rQ stQ hQ) hf (fun x48 st49 H locs hw hf => ?_)
      refine fc_Vv (rest := []) (As := [.int x48]) X hw hm_X5_must (lw_V q1870 q1872 qs58 q121 q1873) ⟨rfl, rfl⟩ ⟨by rw [hRf]; exact Nat.le_of_ble_eq_true rfl, by rw [hRl]; exact Nat.le_of_ble_eq_true rfl⟩ fc_X5 rfl (hm0 hE) rfl rfl hl.1 (Nat.le_of_ble_eq_true rfl) dX5_behindSum_115 (fun stQ hQ => wX5_must l E hE G x48 st49 stQ hQ) hf (fun st51 H locs hw hf => ?_)
      refine lv_aload_n hx hb dX5_behindSum_118 rfl (lv_at hl 2 rfl) ?_
      refine fo_geti X hw fc_X5 (hm0 hE) (k := 19) (by decide) rfl q1537 dX5_behindSum_119 ?_
      refine fb_zne (tgt := 150) hx hb dX5_behindSum_122 (by decide) hf (fun hf => ?_) (fun hf => ?_)
      · refine lv_iconst (v := (3 : Int32)) hx hb dX5_behindSum_150 (by decide) ?_
        exact fd_i hend hw hf dX5_behindSum_151
      refine lv_aload_n hx hb dX5_behindSum_125 rfl (lv_at hl 2 rfl) ?_
      refine lv_iconst (v := (5 : Int32)) hx hb dX5_behindSum_126 (by decide) ?_
      refine fc_Vv (rest := []) (As := [.int (5 : Int32)]) X hw hm_X5_settle (lw_V q1927 q1929 qs71 q121 q1930) ⟨rfl, rfl⟩ ⟨by rw [hRf]; exact Nat.le_of_ble_eq_true rfl, by rw [hRl]; exact Nat.le_of_ble_eq_true rfl⟩ fc_X5 rfl (hm0 hE) rfl rfl hl.1 (Nat.le_of_ble_eq_true rfl) dX5_behindSum_127 (fun stQ hQ => wX5_settle l E hE G (5 : Int32) st51 stQ hQ) hf (fun st53 H locs hw hf => ?_)
      refine lv_aload_n hx hb dX5_behindSum_130 rfl (lv_at hl 2 rfl) ?_
      refine lv_dup hx hb dX5_behindSum_131 rfl ?_
      refine fo_geti X hw fc_X5 (hm0 hE) (k := 29) (by decide) rfl q1547 dX5_behindSum_132 ?_
      refine lv_iconst (v := (1 : Int32)) hx hb dX5_behindSum_135 (by decide) ?_
      refine lv_isub hx hb dX5_behindSum_136 ?_
      refine fo_puti X hw fc_X5 (hm0 hE) (k := 29) (by decide) rfl rfl q1547 ⟨rfl, rfl⟩ dX5_behindSum_137 hf (fun st54 H locs hw hf => ?_)
      refine lv_aload_n hx hb dX5_behindSum_140 rfl (lv_at hl 2 rfl) ?_
      refine lv_dup hx hb dX5_behindSum_141 rfl ?_
      refine fo_geti X hw fc_X5 (hm0 hE) (k := 30) (by decide) rfl q1548 dX5_behindSum_142 ?_
      refine lv_iconst (v := (1 : Int32)) hx hb dX5_behindSum_145 (by decide) ?_
      refine lv_isub hx hb dX5_behindSum_146 ?_
      refine fo_puti X hw fc_X5 (hm0 hE) (k := 30) (by decide) rfl rfl q1548 ⟨rfl, rfl⟩ dX5_behindSum_147 hf (fun st55 H locs hw hf => ?_)
      refine lv_iconst (v := (3 : Int32)) hx hb dX5_behindSum_150 (by decide) ?_
      exact fd_i hend hw hf dX5_behindSum_151
    refine lv_aload_n hx hb dX5_behindSum_77 rfl (lv_at hl 1 rfl) ?_
    refine lv_iload_n hx hb dX5_behindSum_78 rfl (lv_at hl 0 rfl) ?_
    refine fc_Si (rest := [.ref (eb E + 0)]) (As := [.int x3]) X hw hm_X5_binds (lw_S q1924 q1925 q121 q1926) ⟨rfl, rfl⟩ ⟨by rw [hRf]; exact Nat.le_of_ble_eq_true rfl, by rw [hRl]; exact Nat.le_of_ble_eq_true rfl⟩ rfl rfl hl.1 (Nat.le_of_ble_eq_true rfl) dX5_behindSum_79 (fun rQ stQ hQ => wX5_binds l E hE x3 st4 rQ stQ hQ) hf (fun x56 st57 H locs hw hf => ?_)
    refine fc_Vv (rest := []) (As := [.int x56]) X hw hm_X5_settle (lw_V q1927 q1929 qs71 q121 q1930) ⟨rfl, rfl⟩ ⟨by rw [hRf]; exact Nat.le_of_ble_eq_true rfl, by rw [hRl]; exact Nat.le_of_ble_eq_true rfl⟩ fc_X5 rfl (hm0 hE) rfl rfl hl.1 (Nat.le_of_ble_eq_true rfl) dX5_behindSum_82 (fun stQ hQ => wX5_settle l E hE G x56 st57 stQ hQ) hf (fun st59 H locs hw hf => ?_)
    refine lv_aload_n hx hb dX5_behindSum_85 rfl (lv_at hl 1 rfl) ?_
    refine lv_iload_n hx hb dX5_behindSum_86 rfl (lv_at hl 0 rfl) ?_
    refine lv_iconst (v := (0 : Int32)) hx hb dX5_behindSum_87 (by decide) ?_
    refine fc_Vv (rest := []) (As := [.int x3, .int (0 : Int32)]) X hw hm_X5_push (lw_V q1883 q1885 qs61 q121 q1886) ⟨rfl, rfl⟩ ⟨by rw [hRf]; exact Nat.le_of_ble_eq_true rfl, by rw [hRl]; exact Nat.le_of_ble_eq_true rfl⟩ fc_X5 rfl (hm0 hE) rfl rfl hl.1 (Nat.le_of_ble_eq_true rfl) dX5_behindSum_88 (fun stQ hQ => wX5_push l E hE x3 (0 : Int32) st59 stQ hQ) hf (fun st61 H locs hw hf => ?_)
    refine lv_aload_n hx hb dX5_behindSum_91 rfl (lv_at hl 1 rfl) ?_
    refine fc_Vv (rest := []) (As := []) X hw hm_X5_nextToken (lw_V q1848 q1850 qs55 q121 q1851) ⟨rfl, rfl⟩ ⟨by rw [hRf]; exact Nat.le_of_ble_eq_true rfl, by rw [hRl]; exact Nat.le_of_ble_eq_true rfl⟩ fc_X5 rfl (hm0 hE) rfl rfl hl.1 (Nat.le_of_ble_eq_true rfl) dX5_behindSum_92 (fun stQ hQ => wX5_nextToken l E hE G st61 stQ hQ) hf (fun st63 H locs hw hf => ?_)
    refine lv_iconst (v := (1 : Int32)) hx hb dX5_behindSum_95 (by decide) ?_
    exact fd_i hend hw hf dX5_behindSum_96
  clear ek
  refine fb_zeq (tgt := 14) hx hb dX5_behindSum_6 (by decide) hf (fun hf => ?_) (fun hf => ?_)
  · refine lv_aload_n hx hb dX5_behindSum_14 rfl (lv_at hl 0 rfl) ?_
    refine lv_bipush (v := (45 : Int32)) hx hb dX5_behindSum_15 (by decide) ?_
    refine fc_Vi (rest := []) (As := [.int (45 : Int32)]) X hw hm_X5_isSign (lw_V q1887 q1889 qs62 q121 q1890) ⟨rfl, rfl⟩ ⟨by rw [hRf]; exact Nat.le_of_ble_eq_true rfl, by rw [hRl]; exact Nat.le_of_ble_eq_true rfl⟩ fc_X5 rfl (hm0 hE) rfl rfl hl.1 (Nat.le_of_ble_eq_true rfl) dX5_behindSum_17 (fun rQ stQ hQ => wX5_isSign l E hE (45 : Int32) st2 rQ stQ hQ) hf (fun x64 st65 H locs hw hf => ?_)
    refine fb_zeq (tgt := 28) hx hb dX5_behindSum_20 (by decide) hf (fun hf => ?_) (fun hf => ?_)
    · refine lv_aload_n hx hb dX5_behindSum_28 rfl (lv_at hl 0 rfl) ?_
      refine lv_bipush (v := (42 : Int32)) hx hb dX5_behindSum_29 (by decide) ?_
      refine fc_Vi (rest := []) (As := [.int (42 : Int32)]) X hw hm_X5_isSign (lw_V q1887 q1889 qs62 q121 q1890) ⟨rfl, rfl⟩ ⟨by rw [hRf]; exact Nat.le_of_ble_eq_true rfl, by rw [hRl]; exact Nat.le_of_ble_eq_true rfl⟩ fc_X5 rfl (hm0 hE) rfl rfl hl.1 (Nat.le_of_ble_eq_true rfl) dX5_behindSum_31 (fun rQ stQ hQ => wX5_isSign l E hE (42 : Int32) st65 rQ stQ hQ) hf (fun x66 st67 H locs hw hf => ?_)
      refine fb_zeq (tgt := 42) hx hb dX5_behindSum_34 (by decide) hf (fun hf => ?_) (fun hf => ?_)
      · refine lv_aload_n hx hb dX5_behindSum_42 rfl (lv_at hl 0 rfl) ?_
        refine lv_bipush (v := (47 : Int32)) hx hb dX5_behindSum_43 (by decide) ?_
        refine fc_Vi (rest := []) (As := [.int (47 : Int32)]) X hw hm_X5_isSign (lw_V q1887 q1889 qs62 q121 q1890) ⟨rfl, rfl⟩ ⟨by rw [hRf]; exact Nat.le_of_ble_eq_true rfl, by rw [hRl]; exact Nat.le_of_ble_eq_true rfl⟩ fc_X5 rfl (hm0 hE) rfl rfl hl.1 (Nat.le_of_ble_eq_true rfl) dX5_behindSum_45 (fun rQ stQ hQ => wX5_isSign l E hE (47 : Int32) st67 rQ stQ hQ) hf (fun x68 st69 H locs hw hf => ?_)
        refine fb_zeq (tgt := 56) hx hb dX5_behindSum_48 (by decide) hf (fun hf => ?_) (fun hf => ?_)
        · refine lv_aload_n hx hb dX5_behindSum_56 rfl (lv_at hl 0 rfl) ?_
          refine lv_bipush (v := (37 : Int32)) hx hb dX5_behindSum_57 (by decide) ?_
          refine fc_Vi (rest := []) (As := [.int (37 : Int32)]) X hw hm_X5_isSign (lw_V q1887 q1889 qs62 q121 q1890) ⟨rfl, rfl⟩ ⟨by rw [hRf]; exact Nat.le_of_ble_eq_true rfl, by rw [hRl]; exact Nat.le_of_ble_eq_true rfl⟩ fc_X5 rfl (hm0 hE) rfl rfl hl.1 (Nat.le_of_ble_eq_true rfl) dX5_behindSum_59 (fun rQ stQ hQ => wX5_isSign l E hE (37 : Int32) st69 rQ stQ hQ) hf (fun x70 st71 H locs hw hf => ?_)
          refine fb_zeq (tgt := 70) hx hb dX5_behindSum_62 (by decide) hf (fun hf => ?_) (fun hf => ?_)
          · refine lv_iconst (v := (-1 : Int32)) hx hb dX5_behindSum_70 (by decide) ?_
            exact hk5 _ _ _ _ _ (lv_sub hl [0, 1] rfl) hw hf
          refine lv_bipush (v := (24 : Int32)) hx hb dX5_behindSum_65 (by decide) ?_
          refine lv_goto (tgt := 71) hx hb dX5_behindSum_67 (by decide) ?_
          exact hk5 _ _ _ _ _ (lv_sub hl [0, 1] rfl) hw hf
        refine lv_bipush (v := (23 : Int32)) hx hb dX5_behindSum_51 (by decide) ?_
        refine lv_goto (tgt := 71) hx hb dX5_behindSum_53 (by decide) ?_
        exact hk5 _ _ _ _ _ (lv_sub hl [0, 1] rfl) hw hf
      refine lv_bipush (v := (22 : Int32)) hx hb dX5_behindSum_37 (by decide) ?_
      refine lv_goto (tgt := 71) hx hb dX5_behindSum_39 (by decide) ?_
      exact hk5 _ _ _ _ _ (lv_sub hl [0, 1] rfl) hw hf
    refine lv_bipush (v := (21 : Int32)) hx hb dX5_behindSum_23 (by decide) ?_
    refine lv_goto (tgt := 71) hx hb dX5_behindSum_25 (by decide) ?_
    exact hk5 _ _ _ _ _ (lv_sub hl [0, 1] rfl) hw hf
  refine lv_bipush (v := (20 : Int32)) hx hb dX5_behindSum_9 (by decide) ?_
  refine lv_goto (tgt := 71) hx hb dX5_behindSum_11 (by decide) ?_
  exact hk5 _ _ _ _ _ (lv_sub hl [0, 1] rfl) hw hf

/-- ForestRoomsModel.behindTest -/
def fX5_behindTest (G : Nat) (st0 : fo_St) : Option (Int32 × fo_St) := bd_ (fX5_isWord (1476 : Int64) st0) (fun x1 st2 => if ¬ x1 = 0 then jn_ (fun (x3 : Int32) => bv_ (fX5_settle G x3 st2) (fun st6 => jn_ (fun (x7 : Int32) => bv_ (fX5_push x7 (gi_ st6 0 23) st6) (fun st10 => jn_ (fun (x11 : Int32) => bv_ (fX5_emit x11 (0 : Int32) st10) (fun st14 => bv_ (fX5_nextToken G st14) (fun st16 => some ((0 : Int32), st16)))) (fun k12 => if x1 = 0 then k12 (30 : Int32) else k12 (29 : Int32)))) (fun k8 => if x1 = 0 then k8 (30 : Int32) else k8 (29 : Int32)))) (fun k4 => if x1 = 0 then k4 (1 : Int32) else k4 (2 : Int32)) else bd_ (fX5_isWord (498 : Int64) st2) (fun x17 st18 => if x17 = 0 then bd_ (fX5_inner G st18) (fun x19 st20 => if ¬ x19 = (-1 : Int32) then bd_ (fX5_isSign (41 : Int32) st20) (fun x21 st22 => bv_ (fX5_must G x21 st22) (fun st24 => if ¬ (gi_ st24 0 19) = 0 then some ((2 : Int32), st24) else bv_ (fX5_settle G (1 : Int32) st24) (fun st26 => lt_ (si_ st26 0 29 ((gi_ st26 0 29) - (1 : Int32))) (fun st27 => lt_ (si_ st27 0 30 ((gi_ st27 0 30) - (1 : Int32))) (fun st28 => some ((2 : Int32), st28)))))) else some ((4 : Int32), st20)) else jn_ (fun (x29 : Int32) => bv_ (fX5_settle G x29 st18) (fun st32 => jn_ (fun (x33 : Int32) => bv_ (fX5_push x33 (gi_ st32 0 23) st32) (fun st36 => jn_ (fun (x37 : Int32) => bv_ (fX5_emit x37 (0 : Int32) st36) (fun st40 => bv_ (fX5_nextToken G st40) (fun st42 => some ((0 : Int32), st42)))) (fun k38 => if x1 = 0 then k38 (30 : Int32) else k38 (29 : Int32)))) (fun k34 => if x1 = 0 then k34 (30 : Int32) else k34 (29 : Int32)))) (fun k30 => if x1 = 0 then k30 (1 : Int32) else k30 (2 : Int32))))
theorem hm_X5_behindTest : fo_M yX5_behindTest 0 := ⟨by decide +kernel, by decide +kernel, by decide +kernel, by decide +kernel⟩
set_option maxHeartbeats 4000000 in
theorem wX5_behindTest (l : Launch) (E : fo_E) (hE : ∀ n, et E n = tM_ n) (G : Nat) (st0 : fo_St) (rZ : Int32) (stZ : fo_St) (hf : fX5_behindTest G st0 = some (rZ, stZ)) : CTi l E yX5_behindTest (ws_ yX5_behindTest cX5_behindTest 2 (some .int)) ({ frames := 3, cells := 0, slots := 0, locals := 61 }) [.ref (eb E + 0)] st0 rZ stZ := by
  refine fe_i hm_X5_behindTest (Nat.le_of_ble_eq_true rfl) (fun p e R s m args below meth c Q hRf hRl X hend ls hl hw => ?_)
  have hx := X.1.1
  have hb := X.1.2.1
  have hl : lv_has ls 2 [(0, .ref (eb E + 0))] := hl
  unfold fX5_behindTest at hf
  generalize s.heap = H at hw ⊢
  generalize ([] : List Loc) = locs at hw ⊢
  refine lv_aload_n hx hb dX5_behindTest_0 rfl (lv_at hl 0 rfl) ?_
  refine lv_ldc2 (v := (1476 : Int64)) hx hb X.1.2.2.2.1 (X.1.2.2.2.2 _ q1947) dX5_behindTest_1 ?_
  refine fc_Vi (rest := []) (As := [.long (1476 : Int64)]) X hw hm_X5_isWord (lw_V q1866 q1868 qs57 q121 q1869) ⟨rfl, rfl⟩ ⟨by rw [hRf]; exact Nat.le_of_ble_eq_true rfl, by rw [hRl]; exact Nat.le_of_ble_eq_true rfl⟩ fc_X5 rfl (hm0 hE) rfl rfl hl.1 (Nat.le_of_ble_eq_true rfl) dX5_behindTest_4 (fun rQ stQ hQ => wX5_isWord l E hE (1476 : Int64) st0 rQ stQ hQ) hf (fun x1 st2 H locs hw hf => ?_)
  refine lv_istore_n (lv' := [(1, .int x1), (0, .ref (eb E + 0))]) hx hb dX5_behindTest_7 rfl hl (by decide) rfl (fun ls hl => ?_)
  refine lv_iload_n hx hb dX5_behindTest_8 rfl (lv_at hl 0 rfl) ?_
  refine fb_zne (tgt := 22) hx hb dX5_behindTest_9 (by decide) hf (fun hf => ?_) (fun hf => ?_)
  · refine lv_aload_n hx hb dX5_behindTest_22 rfl (lv_at hl 1 rfl) ?_
    refine lv_iload_n hx hb dX5_behindTest_23 rfl (lv_at hl 0 rfl) ?_
    refine jn_e hf (fun k4 ek hf => ?_)
    have hk4 : ∀ (x3 : Int32) (H : Heap) (locs : List Loc) (ls : Array Slot), lv_has ls 2 [(1, .int x1), (0, .ref (eb E + 0))] → fo_S E s st2 H locs → k4 x3 = some (rZ, stZ) → W p l e R s m args below meth c H locs 0 0 Q (F0 m 32 ls [.int x3, .ref (eb E + 0)]) := by
      intro x3 H locs ls hl hw hf
      rw [ek] at hf
      refine fc_Vv (rest := []) (As := [.int x3]) X hw hm_X5_settle (lw_V q1927 q1929 qs71 q121 q1930) ⟨rfl, rfl⟩ ⟨by rw [hRf]; exact Nat.le_of_ble_eq_true rfl, by rw [hRl]; exact Nat.le_of_ble_eq_true rfl⟩ fc_X5 rfl (hm0 hE) rfl rfl hl.1 (Nat.le_of_ble_eq_true rfl) dX5_behindTest_32 (fun stQ hQ => wX5_settle l E hE G x3 st2 stQ hQ) hf (fun st6 H locs hw hf => ?_)
      refine lv_aload_n hx hb dX5_behindTest_35 rfl (lv_at hl 1 rfl) ?_
      refine lv_iload_n hx hb dX5_behindTest_36 rfl (lv_at hl 0 rfl) ?_
      refine jn_e hf (fun k8 ek hf => ?_)
      have hk8 : ∀ (x7 : Int32) (H : Heap) (locs : List Loc) (ls : Array Slot), lv_has ls 2 [(1, .int x1), (0, .ref (eb E + 0))] → fo_S E s st6 H locs → k8 x7 = some (rZ, stZ) → W p l e R s m args below meth c H locs 0 0 Q (F0 m 47 ls [.int x7, .ref (eb E + 0)]) := by
        intro x7 H locs ls hl hw hf
        rw [ek] at hf
        refine lv_aload_n hx hb dX5_behindTest_47 rfl (lv_at hl 1 rfl) ?_
        refine fo_geti X hw fc_X5 (hm0 hE) (k := 23) (by decide) rfl q1541 dX5_behindTest_48 ?_
        refine fc_Vv (rest := []) (As := [.int x7, .int (gi_ st6 0 23)]) X hw hm_X5_push (lw_V q1883 q1885 qs61 q121 q1886) ⟨rfl, rfl⟩ ⟨by rw [hRf]; exact Nat.le_of_ble_eq_true rfl, by rw [hRl]; exact Nat.le_of_ble_eq_true rfl⟩ fc_X5 rfl (hm0 hE) rfl rfl hl.1 (Nat.le_of_ble_eq_true rfl) dX5_behindTest_51 (fun stQ hQ => wX5_push l E hE x7 (gi_ st6 0 23) st6 stQ hQ) hf (fun st10 H locs hw hf => ?_)
        refine lv_aload_n hx hb dX5_behindTest_54 rfl (lv_at hl 1 rfl) ?_
        refine lv_iload_n hx hb dX5_behindTest_55 rfl (lv_at hl 0 rfl) ?_
        refine jn_e hf (fun k12 ek hf => ?_)
        have hk12 : ∀ (x11 : Int32) (H : Heap) (locs : List Loc) (ls : Array Slot), lv_has ls 2 [(0, .ref (eb E + 0))] → fo_S E s st10 H locs → k12 x11 = some (rZ, stZ) → W p l e R s m args below meth c H locs 0 0 Q (F0 m 66 ls [.int x11, .ref (eb E + 0)]) := by
          intro x11 H locs ls hl hw hf
          rw [ek] at hf
          refine lv_iconst (v := (0 : Int32)) hx hb dX5_behindTest_66 (by decide) ?_
          refine fc_Vv (rest := []) (As := [.int x11, .int (0 : Int32)]) X hw hm_X5_emit (lw_V q1912 q1914 qs68 q121 q1915) ⟨rfl, rfl⟩ ⟨by rw [hRf]; exact Nat.le_of_ble_eq_true rfl, by rw [hRl]; exact Nat.le_of_ble_eq_true rfl⟩ fc_X5 rfl (hm0 hE) rfl rfl hl.1 (Nat.le_of_ble_eq_true rfl) dX5_behindTest_67 (fun stQ hQ => wX5_emit l E hE x11 (0 : Int32) st10 stQ hQ) hf (fun st14 H locs hw hf => ?_)
          refine lv_aload_n hx hb dX5_behindTest_70 rfl (lv_at hl 0 rfl) ?_
          refine fc_Vv (rest := []) (As := []) X hw hm_X5_nextToken (lw_V q1848 q1850 qs55 q121 q1851) ⟨rfl, rfl⟩ ⟨by rw [hRf]; exact Nat.le_of_ble_eq_true rfl, by rw [hRl]; exact Nat.le_of_ble_eq_true rfl⟩ fc_X5 rfl (hm0 hE) rfl rfl hl.1 (Nat.le_of_ble_eq_true rfl) dX5_behindTest_71 (fun stQ hQ => wX5_nextToken l E hE G st14 stQ hQ) hf (fun st16 H locs hw hf => ?_)
          refine lv_iconst (v := (0 : Int32)) hx hb dX5_behindTest_74 (by decide) ?_
          exact fd_i hend hw hf dX5_behindTest_75
        clear ek
        refine fb_zeq (tgt := 64) hx hb dX5_behindTest_56 (by decide) hf (fun hf => ?_) (fun hf => ?_)
        · refine lv_bipush (v := (30 : Int32)) hx hb dX5_behindTest_64 (by decide) ?_
          exact hk12 _ _ _ _ (lv_sub hl [1] rfl) hw hf
        refine lv_bipush (v := (29 : Int32)) hx hb dX5_behindTest_59 (by decide) ?_
        refine lv_goto (tgt := 66) hx hb dX5_behindTest_61 (by decide) ?_
        exact hk12 _ _ _ _ (lv_sub hl [1] rfl) hw hf
      clear ek
      refine fb_zeq (tgt := 45) hx hb dX5_behindTest_37 (by decide) hf (fun hf => ?_) (fun hf => ?_)
      · refine lv_bipush (v := (30 : Int32)) hx hb dX5_behindTest_45 (by decide) ?_
        exact hk8 _ _ _ _ (lv_sub hl [0, 1] rfl) hw hf
      refine lv_bipush (v := (29 : Int32)) hx hb dX5_behindTest_40 (by decide) ?_
      refine lv_goto (tgt := 47) hx hb dX5_behindTest_42 (by decide) ?_
      exact hk8 _ _ _ _ (lv_sub hl [0, 1] rfl) hw hf
    clear ek
    refine fb_zeq (tgt := 31) hx hb dX5_behindTest_24 (by decide) hf (fun hf => ?_) (fun hf => ?_)
    · refine lv_iconst (v := (1 : Int32)) hx hb dX5_behindTest_31 (by decide) ?_
      exact hk4 _ _ _ _ (lv_sub hl [0, 1] rfl) hw hf
    refine lv_iconst (v := (2 : Int32)) hx hb dX5_behindTest_27 (by decide) ?_
    refine lv_goto (tgt := 32) hx hb dX5_behindTest_28 (by decide) ?_
    exact hk4 _ _ _ _ (lv_sub hl [0, 1] rfl) hw hf
  refine lv_aload_n hx hb dX5_behindTest_12 rfl (lv_at hl 1 rfl) ?_
  refine lv_ldc2 (v := (498 : Int64)) hx hb X.1.2.2.2.1 (X.1.2.2.2.2 _ q1948) dX5_behindTest_13 ?_
  refine fc_Vi (rest := []) (As := [.long (498 : Int64)]) X hw hm_X5_isWord (lw_V q1866 q1868 qs57 q121 q1869) ⟨rfl, rfl⟩ ⟨by rw [hRf]; exact Nat.le_of_ble_eq_true rfl, by rw [hRl]; exact Nat.le_of_ble_eq_true rfl⟩ fc_X5 rfl (hm0 hE) rfl rfl hl.1 (Nat.le_of_ble_eq_true rfl) dX5_behindTest_16 (fun rQ stQ hQ => wX5_isWord l E hE (498 : Int64) st2 rQ stQ hQ) hf (fun x17 st18 H locs hw hf => ?_)
  refine fb_zeq (tgt := 76) hx hb dX5_behindTest_19 (by decide) hf (fun hf => ?_) (fun hf => ?_)
  · refine lv_aload_n hx hb dX5_behindTest_76 rfl (lv_at hl 1 rfl) ?_
    refine fc_Vi (rest := []) (As := []) X hw hm_X5_inner (lw_V q1931 q1933 qs72 q121 q1934) ⟨rfl, rfl⟩ ⟨by rw [hRf]; exact Nat.le_of_ble_eq_true rfl, by rw [hRl]; exact Nat.le_of_ble_eq_true rfl⟩ fc_X5 rfl (hm0 hE) rfl rfl hl.1 (Nat.le_of_ble_eq_true rfl) dX5_behindTest_77 (fun rQ stQ hQ => wX5_inner l E hE G st18 rQ stQ hQ) hf (fun x19 st20 H locs hw hf => ?_)
    refine lv_iconst (v := (-1 : Int32)) hx hb dX5_behindTest_80 (by decide) ?_
    refine fb_ine (tgt := 86) hx hb dX5_behindTest_81 (by decide) hf (fun hf => ?_) (fun hf => ?_)
    · refine lv_aload_n hx hb dX5_behindTest_86 rfl (lv_at hl 1 rfl) ?_
      refine lv_aload_n hx hb dX5_behindTest_87 rfl (lv_at hl 1 rfl) ?_
      refine lv_bipush (v := (41 : Int32)) hx hb dX5_behindTest_88 (by decide) ?_
      refine fc_Vi (rest := [.ref (eb E + 0)]) (As := [.int (41 : Int32)]) X hw hm_X5_isSign (lw_V q1887 q1889 qs62 q121 q1890) ⟨rfl, rfl⟩ ⟨by rw [hRf]; exact Nat.le_of_ble_eq_true rfl, by rw [hRl]; exact Nat.le_of_ble_eq_true rfl⟩ fc_X5 rfl (hm0 hE) rfl rfl hl.1 (Nat.le_of_ble_eq_true rfl) dX5_behindTest_90 (fun rQ stQ hQ => wX5_isSign l E hE (41 : Int32) st20 rQ stQ hQ) hf (fun x21 st22 H locs hw hf => ?_)
      refine fc_Vv (rest := []) (As := [.int x21]) X hw hm_X5_must (lw_V q1870 q1872 qs58 q121 q1873) ⟨rfl, rfl⟩ ⟨by rw [hRf]; exact Nat.le_of_ble_eq_true rfl, by rw [hRl]; exact Nat.le_of_ble_eq_true rfl⟩ fc_X5 rfl (hm0 hE) rfl rfl hl.1 (Nat.le_of_ble_eq_true rfl) dX5_behindTest_93 (fun stQ hQ => wX5_must l E hE G x21 st22 stQ hQ) hf (fun st24 H locs hw hf => ?_)
      refine lv_aload_n hx hb dX5_behindTest_96 rfl (lv_at hl 1 rfl) ?_
      refine fo_geti X hw fc_X5 (hm0 hE) (k := 19) (by decide) rfl q1537 dX5_behindTest_97 ?_
      refine fb_zne (tgt := 128) hx hb dX5_behindTest_100 (by decide) hf (fun hf => ?_) (fun hf => ?_)
      · refine lv_iconst (v := (2 : Int32)) hx hb dX5_behindTest_128 (by decide) ?_
        exact fd_i hend hw hf dX5_behindTest_129
      refine lv_aload_n hx hb dX5_behindTest_103 rfl (lv_at hl 1 rfl) ?_
      refine lv_iconst (v := (1 : Int32)) hx hb dX5_behindTest_104 (by decide) ?_
      refine fc_Vv (rest := []) (As := [.int (1 : Int32)]) X hw hm_X5_settle (lw_V q1927 q1929 qs71 q121 q1930) ⟨rfl, rfl⟩ ⟨by rw [hRf]; exact Nat.le_of_ble_eq_true rfl, by rw [hRl]; exact Nat.le_of_ble_eq_true rfl⟩ fc_X5 rfl (hm0 hE) rfl rfl hl.1 (Nat.le_of_ble_eq_true rfl) dX5_behindTest_105 (fun stQ hQ => wX5_settle l E hE G (1 : Int32) st24 stQ hQ) hf (fun st26 H locs hw hf => ?_)
      refine lv_aload_n hx hb dX5_behindTest_108 rfl (lv_at hl 1 rfl) ?_
      refine lv_dup hx hb dX5_behindTest_109 rfl ?_
      refine fo_geti X hw fc_X5 (hm0 hE) (k := 29) (by decide) rfl q1547 dX5_behindTest_110 ?_
      refine lv_iconst (v := (1 : Int32)) hx hb dX5_behindTest_113 (by decide) ?_
      refine lv_isub hx hb dX5_behindTest_114 ?_
      refine fo_puti X hw fc_X5 (hm0 hE) (k := 29) (by decide) rfl rfl q1547 ⟨rfl, rfl⟩ dX5_behindTest_115 hf (fun st27 H locs hw hf => ?_)
      refine lv_aload_n hx hb dX5_behindTest_118 rfl (lv_at hl 1 rfl) ?_
      refine lv_dup hx hb dX5_behindTest_119 rfl ?_
      refine fo_geti X hw fc_X5 (hm0 hE) (k := 30) (by decide) rfl q1548 dX5_behindTest_120 ?_
      refine lv_iconst (v := (1 : Int32)) hx hb dX5_behindTest_123 (by decide) ?_
      refine lv_isub hx hb dX5_behindTest_124 ?_
      refine fo_puti X hw fc_X5 (hm0 hE) (k := 30) (by decide) rfl rfl q1548 ⟨rfl, rfl⟩ dX5_behindTest_125 hf (fun st28 H locs hw hf => ?_)
      refine lv_iconst (v := (2 : Int32)) hx hb dX5_behindTest_128 (by decide) ?_
      exact fd_i hend hw hf dX5_behindTest_129
    refine lv_iconst (v := (4 : Int32)) hx hb dX5_behindTest_84 (by decide) ?_
    exact fd_i hend hw hf dX5_behindTest_85
  refine lv_aload_n hx hb dX5_behindTest_22 rfl (lv_at hl 1 rfl) ?_
  refine lv_iload_n hx hb dX5_behindTest_23 rfl (lv_at hl 0 rfl) ?_
  refine jn_e hf (fun k30 ek hf => ?_)
  have hk30 : ∀ (x29 : Int32) (H : Heap) (locs : List Loc) (ls : Array Slot), lv_has ls 2 [(1, .int x1), (0, .ref (eb E + 0))] → fo_S E s st18 H locs → k30 x29 = some (rZ, stZ) → W p l e R s m args below meth c H locs 0 0 Q (F0 m 32 ls [.int x29, .ref (eb E + 0)]) := by
    intro x29 H locs ls hl hw hf
    rw [ek] at hf
    refine fc_Vv (rest := []) (As := [.int x29]) X hw hm_X5_settle (lw_V q1927 q1929 qs71 q121 q1930) ⟨rfl, rfl⟩ ⟨by rw [hRf]; exact Nat.le_of_ble_eq_true rfl, by rw [hRl]; exact Nat.le_of_ble_eq_true rfl⟩ fc_X5 rfl (hm0 hE) rfl rfl hl.1 (Nat.le_of_ble_eq_true rfl) dX5_behindTest_32 (fun stQ hQ => wX5_settle l E hE G x29 st18 stQ hQ) hf (fun st32 H locs hw hf => ?_)
    refine lv_aload_n hx hb dX5_behindTest_35 rfl (lv_at hl 1 rfl) ?_
    refine lv_iload_n hx hb dX5_behindTest_36 rfl (lv_at hl 0 rfl) ?_
    refine jn_e hf (fun k34 ek hf => ?_)
    have hk34 : ∀ (x33 : Int32) (H : Heap) (locs : List Loc) (ls : Array Slot), lv_has ls 2 [(1, .int x1), (0, .ref (eb E + 0))] → fo_S E s st32 H locs → k34 x33 = some (rZ, stZ) → W p l e R s m args below meth c H locs 0 0 Q (F0 m 47 ls [.int x33, .ref (eb E + 0)]) := by
      intro x33 H locs ls hl hw hf
      rw [ek] at hf
      refine lv_aload_n hx hb dX5_behindTest_47 rfl (lv_at hl 1 rfl) ?_
      refine fo_geti X hw fc_X5 (hm0 hE) (k := 23) (by decide) rfl q1541 dX5_behindTest_48 ?_
      refine fc_Vv (rest := []) (As := [.int x33, .int (gi_ st32 0 23)]) X hw hm_X5_push (lw_V q1883 q1885 qs61 q121 q1886) ⟨rfl, rfl⟩ ⟨by rw [hRf]; exact Nat.le_of_ble_eq_true rfl, by rw [hRl]; exact Nat.le_of_ble_eq_true rfl⟩ fc_X5 rfl (hm0 hE) rfl rfl hl.1 (Nat.le_of_ble_eq_true rfl) dX5_behindTest_51 (fun stQ hQ => wX5_push l E hE x33 (gi_ st32 0 23) st32 stQ hQ) hf (fun st36 H locs hw hf => ?_)
      refine lv_aload_n hx hb dX5_behindTest_54 rfl (lv_at hl 1 rfl) ?_
      refine lv_iload_n hx hb dX5_behindTest_55 rfl (lv_at hl 0 rfl) ?_
      refine jn_e hf (fun k38 ek hf => ?_)
      have hk38 : ∀ (x37 : Int32) (H : Heap) (locs : List Loc) (ls : Array Slot), lv_has ls 2 [(0, .ref (eb E + 0))] → fo_S E s st36 H locs → k38 x37 = some (rZ, stZ) → W p l e R s m args below meth c H locs 0 0 Q (F0 m 66 ls [.int x37, .ref (eb E + 0)]) := by
        intro x37 H locs ls hl hw hf
        rw [ek] at hf
        refine lv_iconst (v := (0 : Int32)) hx hb dX5_behindTest_66 (by decide) ?_
        refine fc_Vv (rest := []) (As := [.int x37, .int (0 : Int32)]) X hw hm_X5_emit (lw_V q1912 q1914 qs68 q121 q1915) ⟨rfl, rfl⟩ ⟨by rw [hRf]; exact Nat.le_of_ble_eq_true rfl, by rw [hRl]; exact Nat.le_of_ble_eq_true rfl⟩ fc_X5 rfl (hm0 hE) rfl rfl hl.1 (Nat.le_of_ble_eq_true rfl) dX5_behindTest_67 (fun stQ hQ => wX5_emit l E hE x37 (0 : Int32) st36 stQ hQ) hf (fun st40 H locs hw hf => ?_)
        refine lv_aload_n hx hb dX5_behindTest_70 rfl (lv_at hl 0 rfl) ?_
        refine fc_Vv (rest := []) (As := []) X hw hm_X5_nextToken (lw_V q1848 q1850 qs55 q121 q1851) ⟨rfl, rfl⟩ ⟨by rw [hRf]; exact Nat.le_of_ble_eq_true rfl, by rw [hRl]; exact Nat.le_of_ble_eq_true rfl⟩ fc_X5 rfl (hm0 hE) rfl rfl hl.1 (Nat.le_of_ble_eq_true rfl) dX5_behindTest_71 (fun stQ hQ => wX5_nextToken l E hE G st40 stQ hQ) hf (fun st42 H locs hw hf => ?_)
        refine lv_iconst (v := (0 : Int32)) hx hb dX5_behindTest_74 (by decide) ?_
        exact fd_i hend hw hf dX5_behindTest_75
      clear ek
      refine fb_zeq (tgt := 64) hx hb dX5_behindTest_56 (by decide) hf (fun hf => ?_) (fun hf => ?_)
      · refine lv_bipush (v := (30 : Int32)) hx hb dX5_behindTest_64 (by decide) ?_
        exact hk38 _ _ _ _ (lv_sub hl [1] rfl) hw hf
      refine lv_bipush (v := (29 : Int32)) hx hb dX5_behindTest_59 (by decide) ?_
      refine lv_goto (tgt := 66) hx hb dX5_behindTest_61 (by decide) ?_
      exact hk38 _ _ _ _ (lv_sub hl [1] rfl) hw hf
    clear ek
    refine fb_zeq (tgt := 45) hx hb dX5_behindTest_37 (by decide) hf (fun hf => ?_) (fun hf => ?_)
    · refine lv_bipush (v := (30 : Int32)) hx hb dX5_behindTest_45 (by decide) ?_
      exact hk34 _ _ _ _ (lv_sub hl [0, 1] rfl) hw hf
    refine lv_bipush (v := (29 : Int32)) hx hb dX5_behindTest_40 (by decide) ?_
    refine lv_goto (tgt := 47) hx hb dX5_behindTest_42 (by decide) ?_
    exact hk34 _ _ _ _ (lv_sub hl [0, 1] rfl) hw hf
  clear ek
  refine fb_zeq (tgt := 31) hx hb dX5_behindTest_24 (by decide) hf (fun hf => ?_) (fun hf => ?_)
  · refine lv_iconst (v := (1 : Int32)) hx hb dX5_behindTest_31 (by decide) ?_
    exact hk30 _ _ _ _ (lv_sub hl [0, 1] rfl) hw hf
  refine lv_iconst (v := (2 : Int32)) hx hb dX5_behindTest_27 (by decide) ?_
  refine lv_goto (tgt := 32) hx hb dX5_behindTest_28 (by decide) ?_
  exact hk30 _ _ _ _ (lv_sub hl [0, 1] rfl) hw hf

/-- ForestRoomsModel.readExpression -/
def fX5_readExpression (G : Nat) (p1 : Int32) (st0 : fo_St) : Option fo_St := lt_ (si_ st0 0 29 (0 : Int32)) (fun st1 => lt_ (si_ st1 0 30 (0 : Int32)) (fun st2 => jn_ (fun (x3 : Int32) => jn_ (fun (st5 : fo_St) => bv_ (fX5_settle G (1 : Int32) st5) (fun st8 => some st8)) (fun k6 => lp2_ (fun rec11 (x9 : Int32) (st10 : fo_St) => if ¬ (gi_ st10 0 19) = 0 then k6 st10 else if x9 = (4 : Int32) then k6 st10 else if ¬ x9 = 0 then if ¬ x9 = (1 : Int32) then if ¬ x9 = (3 : Int32) then bd_ (fX5_behindTest G st10) (fun x12 st13 => rec11 x12 st13) else bd_ (fX5_behindSum G p1 st10) (fun x14 st15 => rec11 x14 st15) else bd_ (fX5_readPart G st10) (fun x16 st17 => rec11 x16 st17) else bd_ (fX5_readPlain G st10) (fun x18 st19 => rec11 x18 st19)) G x3 st2)) (fun k4 => if p1 = 0 then k4 (1 : Int32) else k4 (0 : Int32))))
theorem hm_X5_readExpression : fo_M yX5_readExpression 1 := ⟨by decide +kernel, by decide +kernel, by decide +kernel, by decide +kernel⟩
set_option maxHeartbeats 4000000 in
theorem wX5_readExpression (l : Launch) (E : fo_E) (hE : ∀ n, et E n = tM_ n) (G : Nat) (p1 : Int32) (st0 : fo_St) (stZ : fo_St) (hf : fX5_readExpression G p1 st0 = some stZ) : CTv l E yX5_readExpression (ws_ yX5_readExpression cX5_readExpression 3 none) ({ frames := 6, cells := 0, slots := 0, locals := 129 }) [.ref (eb E + 0), .int p1] st0 stZ := by
  refine fe_v hm_X5_readExpression (Nat.le_of_ble_eq_true rfl) (fun p e R s m args below meth c Q hRf hRl X hend ls hl hw => ?_)
  have hx := X.1.1
  have hb := X.1.2.1
  have hl : lv_has ls 3 [(0, .ref (eb E + 0)), (1, .int p1)] := hl
  unfold fX5_readExpression at hf
  generalize s.heap = H at hw ⊢
  generalize ([] : List Loc) = locs at hw ⊢
  refine lv_aload_n hx hb dX5_readExpression_0 rfl (lv_at hl 0 rfl) ?_
  refine lv_iconst (v := (0 : Int32)) hx hb dX5_readExpression_1 (by decide) ?_
  refine fo_puti X hw fc_X5 (hm0 hE) (k := 29) (by decide) rfl rfl q1547 ⟨rfl, rfl⟩ dX5_readExpression_2 hf (fun st1 H locs hw hf => ?_)
  refine lv_aload_n hx hb dX5_readExpression_5 rfl (lv_at hl 0 rfl) ?_
  refine lv_iconst (v := (0 : Int32)) hx hb dX5_readExpression_6 (by decide) ?_
  refine fo_puti X hw fc_X5 (hm0 hE) (k := 30) (by decide) rfl rfl q1548 ⟨rfl, rfl⟩ dX5_readExpression_7 hf (fun st2 H locs hw hf => ?_)
  refine lv_iload_n hx hb dX5_readExpression_10 rfl (lv_at hl 1 rfl) ?_
  refine jn_e hf (fun k4 ek hf => ?_)
  have hk4 : ∀ (x3 : Int32) (H : Heap) (locs : List Loc) (ls : Array Slot), lv_has ls 3 [(0, .ref (eb E + 0)), (1, .int p1)] → fo_S E s st2 H locs → k4 x3 = some stZ → W p l e R s m args below meth c H locs 0 0 Q (F0 m 19 ls [.int x3]) := by
    intro x3 H locs ls hl hw hf
    rw [ek] at hf
    refine lv_istore_n (lv' := [(2, .int x3), (0, .ref (eb E + 0)), (1, .int p1)]) hx hb dX5_readExpression_19 rfl hl (by decide) rfl (fun ls hl => ?_)
    refine jn_e hf (fun k6 ek hf => ?_)
    have hk6 : ∀  (st5 : fo_St) (H : Heap) (locs : List Loc) (ls : Array Slot), lv_has ls 3 [(0, .ref (eb E + 0))] → fo_S E s st5 H locs → k6 st5 = some stZ → W p l e R s m args below meth c H locs 0 0 Q (F0 m 76 ls []) := by
      intro st5 H locs ls hl hw hf
      rw [ek] at hf
      refine lv_aload_n hx hb dX5_readExpression_76 rfl (lv_at hl 0 rfl) ?_
      refine lv_iconst (v := (1 : Int32)) hx hb dX5_readExpression_77 (by decide) ?_
      refine fc_Vv (rest := []) (As := [.int (1 : Int32)]) X hw hm_X5_settle (lw_V q1927 q1929 qs71 q121 q1930) ⟨rfl, rfl⟩ ⟨by rw [hRf]; exact Nat.le_of_ble_eq_true rfl, by rw [hRl]; exact Nat.le_of_ble_eq_true rfl⟩ fc_X5 rfl (hm0 hE) rfl rfl hl.1 (Nat.le_of_ble_eq_true rfl) dX5_readExpression_78 (fun stQ hQ => wX5_settle l E hE G (1 : Int32) st5 stQ hQ) hf (fun st8 H locs hw hf => ?_)
      exact fd_v hend hw hf dX5_readExpression_81
    clear ek
    refine lp2_e (P := fun x9 st10 => ∀ (H : Heap) (locs : List Loc) (ls : Array Slot), lv_has ls 3 [(2, .int x9), (0, .ref (eb E + 0)), (1, .int p1)] → fo_S E s st10 H locs → W p l e R s m args below meth c H locs 0 0 Q (F0 m 20 ls [])) (fun rec11 hrec11 x9 st10 hf => ?_) G _ _ hf H locs ls (lv_sub hl [0, 1, 2] rfl) hw
    intro H locs ls hl hw
    refine lv_aload_n hx hb dX5_readExpression_20 rfl (lv_at hl 1 rfl) ?_
    refine fo_geti X hw fc_X5 (hm0 hE) (k := 19) (by decide) rfl q1537 dX5_readExpression_21 ?_
    refine fb_zne (tgt := 76) hx hb dX5_readExpression_24 (by decide) hf (fun hf => ?_) (fun hf => ?_)
    · exact hk6 _ _ _ _ (lv_sub hl [1] rfl) hw hf
    refine lv_iload_n hx hb dX5_readExpression_27 rfl (lv_at hl 0 rfl) ?_
    refine lv_iconst (v := (4 : Int32)) hx hb dX5_readExpression_28 (by decide) ?_
    refine fb_ieq (tgt := 76) hx hb dX5_readExpression_29 (by decide) hf (fun hf => ?_) (fun hf => ?_)
    · exact hk6 _ _ _ _ (lv_sub hl [1] rfl) hw hf
    refine lv_iload_n hx hb dX5_readExpression_32 rfl (lv_at hl 0 rfl) ?_
    refine fb_zne (tgt := 43) hx hb dX5_readExpression_33 (by decide) hf (fun hf => ?_) (fun hf => ?_)
    · refine lv_iload_n hx hb dX5_readExpression_43 rfl (lv_at hl 0 rfl) ?_
      refine lv_iconst (v := (1 : Int32)) hx hb dX5_readExpression_44 (by decide) ?_
      refine fb_ine (tgt := 55) hx hb dX5_readExpression_45 (by decide) hf (fun hf => ?_) (fun hf => ?_)
      · refine lv_iload_n hx hb dX5_readExpression_55 rfl (lv_at hl 0 rfl) ?_
        refine lv_iconst (v := (3 : Int32)) hx hb dX5_readExpression_56 (by decide) ?_
        refine fb_ine (tgt := 68) hx hb dX5_readExpression_57 (by decide) hf (fun hf => ?_) (fun hf => ?_)
        · refine lv_aload_n hx hb dX5_readExpression_68 rfl (lv_at hl 1 rfl) ?_
          refine fc_Vi (rest := []) (As := []) X hw hm_X5_behindTest (lw_V q1943 q1945 qs74 q121 q1946) ⟨rfl, rfl⟩ ⟨by rw [hRf]; exact Nat.le_of_ble_eq_true rfl, by rw [hRl]; exact Nat.le_of_ble_eq_true rfl⟩ fc_X5 rfl (hm0 hE) rfl rfl hl.1 (Nat.le_of_ble_eq_true rfl) dX5_readExpression_69 (fun rQ stQ hQ => wX5_behindTest l E hE G st10 rQ stQ hQ) hf (fun x12 st13 H locs hw hf => ?_)
          refine lv_istore_n (lv' := [(2, .int x12), (0, .ref (eb E + 0)), (1, .int p1)]) hx hb dX5_readExpression_72 rfl hl (by decide) rfl (fun ls hl => ?_)
          refine lv_goto (tgt := 20) hx hb dX5_readExpression_73 (by decide) ?_
          exact hrec11 _ _ hf _ _ _ (lv_sub hl [0, 1, 2] rfl) hw
        refine lv_aload_n hx hb dX5_readExpression_60 rfl (lv_at hl 1 rfl) ?_
        refine lv_iload_n hx hb dX5_readExpression_61 rfl (lv_at hl 2 rfl) ?_
        refine fc_Vi (rest := []) (As := [.int p1]) X hw hm_X5_behindSum (lw_V q1920 q1922 qs70 q121 q1923) ⟨rfl, rfl⟩ ⟨by rw [hRf]; exact Nat.le_of_ble_eq_true rfl, by rw [hRl]; exact Nat.le_of_ble_eq_true rfl⟩ fc_X5 rfl (hm0 hE) rfl rfl hl.1 (Nat.le_of_ble_eq_true rfl) dX5_readExpression_62 (fun rQ stQ hQ => wX5_behindSum l E hE G p1 st10 rQ stQ hQ) hf (fun x14 st15 H locs hw hf => ?_)
        refine lv_goto (tgt := 72) hx hb dX5_readExpression_65 (by decide) ?_
        refine lv_istore_n (lv' := [(2, .int x14), (0, .ref (eb E + 0)), (1, .int p1)]) hx hb dX5_readExpression_72 rfl hl (by decide) rfl (fun ls hl => ?_)
        refine lv_goto (tgt := 20) hx hb dX5_readExpression_73 (by decide) ?_
        exact hrec11 _ _ hf _ _ _ (lv_sub hl [0, 1, 2] rfl) hw
      refine lv_aload_n hx hb dX5_readExpression_48 rfl (lv_at hl 1 rfl) ?_
      refine fc_Vi (rest := []) (As := []) X hw hm_X5_readPart (lw_V q1895 q1897 qs64 q121 q1898) ⟨rfl, rfl⟩ ⟨by rw [hRf]; exact Nat.le_of_ble_eq_true rfl, by rw [hRl]; exact Nat.le_of_ble_eq_true rfl⟩ fc_X5 rfl (hm0 hE) rfl rfl hl.1 (Nat.le_of_ble_eq_true rfl) dX5_readExpression_49 (fun rQ stQ hQ => wX5_readPart l E hE G st10 rQ stQ hQ) hf (fun x16 st17 H locs hw hf => ?_)
      refine lv_goto (tgt := 72) hx hb dX5_readExpression_52 (by decide) ?_
      refine lv_istore_n (lv' := [(2, .int x16), (0, .ref (eb E + 0)), (1, .int p1)]) hx hb dX5_readExpression_72 rfl hl (by decide) rfl (fun ls hl => ?_)
      refine lv_goto (tgt := 20) hx hb dX5_readExpression_73 (by decide) ?_
      exact hrec11 _ _ hf _ _ _ (lv_sub hl [0, 1, 2] rfl) hw
    refine lv_aload_n hx hb dX5_readExpression_36 rfl (lv_at hl 1 rfl) ?_
    refine fc_Vi (rest := []) (As := []) X hw hm_X5_readPlain (lw_V q1878 q1880 qs60 q121 q1881) ⟨rfl, rfl⟩ ⟨by rw [hRf]; exact Nat.le_of_ble_eq_true rfl, by rw [hRl]; exact Nat.le_of_ble_eq_true rfl⟩ fc_X5 rfl (hm0 hE) rfl rfl hl.1 (Nat.le_of_ble_eq_true rfl) dX5_readExpression_37 (fun rQ stQ hQ => wX5_readPlain l E hE G st10 rQ stQ hQ) hf (fun x18 st19 H locs hw hf => ?_)
    refine lv_goto (tgt := 72) hx hb dX5_readExpression_40 (by decide) ?_
    refine lv_istore_n (lv' := [(2, .int x18), (0, .ref (eb E + 0)), (1, .int p1)]) hx hb dX5_readExpression_72 rfl hl (by decide) rfl (fun ls hl => ?_)
    refine lv_goto (tgt := 20) hx hb dX5_readExpression_73 (by decide) ?_
    exact hrec11 _ _ hf _ _ _ (lv_sub hl [0, 1, 2] rfl) hw
  clear ek
  refine fb_zeq (tgt := 18) hx hb dX5_readExpression_11 (by decide) hf (fun hf => ?_) (fun hf => ?_)
  · refine lv_iconst (v := (1 : Int32)) hx hb dX5_readExpression_18 (by decide) ?_
    exact hk4 _ _ _ _ (lv_sub hl [0, 1] rfl) hw hf
  refine lv_iconst (v := (0 : Int32)) hx hb dX5_readExpression_14 (by decide) ?_
  refine lv_goto (tgt := 19) hx hb dX5_readExpression_15 (by decide) ?_
  exact hk4 _ _ _ _ (lv_sub hl [0, 1] rfl) hw hf

/-- ForestRoomsModel.readLaw -/
def fX5_readLaw (G : Nat) (st0 : fo_St) : Option fo_St := lp3_ (fun rec4 (x1 : Int32) (x2 : Int32) (st3 : fo_St) => if (5 : Int32) ≤ x1 then jn_ (fun (x5 : Int32) => bv_ (fX5_must G x5 st3) (fun st8 => if (gi_ st8 0 19) = 0 then lI_ ((8 : Int32) * (gi_ st8 0 21)) (fun x9 => lp2_ (fun rec12 (x10 : Int32) (st11 : fo_St) => if (8 : Int32) ≤ x10 then ck_ (fo_in x9 96) (lt_ (si_ st11 10 x9.toNatClampNeg x2) (fun st13 => lt_ (si_ st13 0 21 ((gi_ st13 0 21) + (1 : Int32))) (fun st14 => ck_ (fo_in (x9 + (3 : Int32)) 96) (lt_ (si_ st14 10 (x9 + (3 : Int32)).toNatClampNeg (gi_ st14 0 23)) (fun st15 => jn_ (fun (st16 : fo_St) => ck_ (fo_in (x9 + (4 : Int32)) 96) (lt_ (si_ st16 10 (x9 + (4 : Int32)).toNatClampNeg (gi_ st16 0 23)) (fun st18 => ck_ (fo_in (x9 + (5 : Int32)) 96) (lt_ (si_ st18 10 (x9 + (5 : Int32)).toNatClampNeg (gi_ st18 0 23)) (fun st19 => jn_ (fun (st20 : fo_St) => ck_ (fo_in (x9 + (6 : Int32)) 96) (lt_ (si_ st20 10 (x9 + (6 : Int32)).toNatClampNeg (gi_ st20 0 23)) (fun st22 => some st22))) (fun k21 => if ¬ (gi_ st19 0 19) = 0 then k21 st19 else bd_ (fX5_isWord (294 : Int64) st19) (fun x23 st24 => if x23 = 0 then k21 st24 else bv_ (fX5_nextToken G st24) (fun st26 => bv_ (fX5_readExpression G (1 : Int32) st26) (fun st28 => k21 st28))))))))) (fun k17 => if (3 : Int32) ≤ x2 then k17 st15 else bv_ (fX5_readExpression G (0 : Int32) st15) (fun st30 => k17 st30))))))) else ck_ (fo_in (x9 + x10) 96) (lt_ (si_ st11 10 (x9 + x10).toNatClampNeg (0 : Int32)) (fun st31 => rec12 (x10 + (1 : Int32)) st31))) G (0 : Int32) st8) else some st8)) (fun k6 => if x2 = (-1 : Int32) then k6 (0 : Int32) else if (12 : Int32) ≤ (gi_ st3 0 21) then k6 (0 : Int32) else k6 (1 : Int32)) else ck_ (fo_in x1 5) (bd_ (fX5_isWord (gl_ st3 17 x1.toNatClampNeg) st3) (fun x32 st33 => if x32 = 0 then rec4 (x1 + (1 : Int32)) x2 st33 else rec4 (x1 + (1 : Int32)) x1 st33))) G (0 : Int32) (-1 : Int32) st0
theorem hm_X5_readLaw : fo_M yX5_readLaw 0 := ⟨by decide +kernel, by decide +kernel, by decide +kernel, by decide +kernel⟩
set_option maxHeartbeats 4000000 in
theorem wX5_readLaw (l : Launch) (E : fo_E) (hE : ∀ n, et E n = tM_ n) (G : Nat) (st0 : fo_St) (stZ : fo_St) (hf : fX5_readLaw G st0 = some stZ) : CTv l E yX5_readLaw (ws_ yX5_readLaw cX5_readLaw 4 none) ({ frames := 7, cells := 0, slots := 0, locals := 151 }) [.ref (eb E + 0)] st0 stZ := by
  refine fe_v hm_X5_readLaw (Nat.le_of_ble_eq_true rfl) (fun p e R s m args below meth c Q hRf hRl X hend ls hl hw => ?_)
  have hx := X.1.1
  have hb := X.1.2.1
  have hl : lv_has ls 4 [(0, .ref (eb E + 0))] := hl
  unfold fX5_readLaw at hf
  generalize s.heap = H at hw ⊢
  generalize ([] : List Loc) = locs at hw ⊢
  refine lv_iconst (v := (-1 : Int32)) hx hb dX5_readLaw_0 (by decide) ?_
  refine lv_istore_n (lv' := [(1, .int (-1 : Int32)), (0, .ref (eb E + 0))]) hx hb dX5_readLaw_1 rfl hl (by decide) rfl (fun ls hl => ?_)
  refine lv_iconst (v := (0 : Int32)) hx hb dX5_readLaw_2 (by decide) ?_
  refine lv_istore_n (lv' := [(2, .int (0 : Int32)), (1, .int (-1 : Int32)), (0, .ref (eb E + 0))]) hx hb dX5_readLaw_3 rfl hl (by decide) rfl (fun ls hl => ?_)
  refine lp3_e (P := fun x1 x2 st3 => ∀ (H : Heap) (locs : List Loc) (ls : Array Slot), lv_has ls 4 [(2, .int x1), (1, .int x2), (0, .ref (eb E + 0))] → fo_S E s st3 H locs → W p l e R s m args below meth c H locs 0 0 Q (F0 m 4 ls [])) (fun rec4 hrec4 x1 x2 st3 hf => ?_) G _ _ _ hf H locs ls (lv_sub hl [0, 1, 2] rfl) hw
  intro H locs ls hl hw
  refine lv_iload_n hx hb dX5_readLaw_4 rfl (lv_at hl 0 rfl) ?_
  refine lv_iconst (v := (5 : Int32)) hx hb dX5_readLaw_5 (by decide) ?_
  refine fb_ige (tgt := 34) hx hb dX5_readLaw_6 (by decide) hf (fun hf => ?_) (fun hf => ?_)
  · refine lv_aload_n hx hb dX5_readLaw_34 rfl (lv_at hl 2 rfl) ?_
    refine lv_iload_n hx hb dX5_readLaw_35 rfl (lv_at hl 1 rfl) ?_
    refine lv_iconst (v := (-1 : Int32)) hx hb dX5_readLaw_36 (by decide) ?_
    refine jn_e hf (fun k6 ek hf => ?_)
    have hk6 : ∀ (x5 : Int32) (H : Heap) (locs : List Loc) (ls : Array Slot), lv_has ls 4 [(1, .int x2), (0, .ref (eb E + 0))] → fo_S E s st3 H locs → k6 x5 = some stZ → W p l e R s m args below meth c H locs 0 0 Q (F0 m 54 ls [.int x5, .ref (eb E + 0)]) := by
      intro x5 H locs ls hl hw hf
      rw [ek] at hf
      refine fc_Vv (rest := []) (As := [.int x5]) X hw hm_X5_must (lw_V q1870 q1872 qs58 q121 q1873) ⟨rfl, rfl⟩ ⟨by rw [hRf]; exact Nat.le_of_ble_eq_true rfl, by rw [hRl]; exact Nat.le_of_ble_eq_true rfl⟩ fc_X5 rfl (hm0 hE) rfl rfl hl.1 (Nat.le_of_ble_eq_true rfl) dX5_readLaw_54 (fun stQ hQ => wX5_must l E hE G x5 st3 stQ hQ) hf (fun st8 H locs hw hf => ?_)
      refine lv_aload_n hx hb dX5_readLaw_57 rfl (lv_at hl 1 rfl) ?_
      refine fo_geti X hw fc_X5 (hm0 hE) (k := 19) (by decide) rfl q1537 dX5_readLaw_58 ?_
      refine fb_zeq (tgt := 65) hx hb dX5_readLaw_61 (by decide) hf (fun hf => ?_) (fun hf => ?_)
      · refine lv_bipush (v := (8 : Int32)) hx hb dX5_readLaw_65 (by decide) ?_
        refine lv_aload_n hx hb dX5_readLaw_67 rfl (lv_at hl 1 rfl) ?_
        refine fo_geti X hw fc_X5 (hm0 hE) (k := 21) (by decide) rfl q1539 dX5_readLaw_68 ?_
        refine lv_imul hx hb dX5_readLaw_71 ?_
        refine fo_tI hf (fun x9 hf => ?_)
        refine lv_istore_n (lv' := [(2, .int x9), (1, .int x2), (0, .ref (eb E + 0))]) hx hb dX5_readLaw_72 rfl hl (by decide) rfl (fun ls hl => ?_)
        refine lv_iconst (v := (0 : Int32)) hx hb dX5_readLaw_73 (by decide) ?_
        refine lv_istore_n (lv' := [(3, .int (0 : Int32)), (2, .int x9), (1, .int x2), (0, .ref (eb E + 0))]) hx hb dX5_readLaw_74 rfl hl (by decide) rfl (fun ls hl => ?_)
        refine lp2_e (P := fun x10 st11 => ∀ (H : Heap) (locs : List Loc) (ls : Array Slot), lv_has ls 4 [(3, .int x10), (2, .int x9), (1, .int x2), (0, .ref (eb E + 0))] → fo_S E s st11 H locs → W p l e R s m args below meth c H locs 0 0 Q (F0 m 75 ls [])) (fun rec12 hrec12 x10 st11 hf => ?_) G _ _ hf H locs ls (lv_sub hl [0, 1, 2, 3] rfl) hw
        intro H locs ls hl hw
        refine lv_iload_n hx hb dX5_readLaw_75 rfl (lv_at hl 0 rfl) ?_
        refine lv_bipush (v := (8 : Int32)) hx hb dX5_readLaw_76 (by decide) ?_
        refine fb_ige (tgt := 96) hx hb dX5_readLaw_78 (by decide) hf (fun hf => ?_) (fun hf => ?_)
        · refine lv_aload_n hx hb dX5_readLaw_96 rfl (lv_at hl 3 rfl) ?_
          refine fo_gets X hw fc_X5 (hm0 hE) (k := 22) (d := 10) (n2 := 10) (by decide) rfl rfl q1540 dX5_readLaw_97 ?_
          refine lv_iload_n hx hb dX5_readLaw_100 rfl (lv_at hl 1 rfl) ?_
          refine lv_iload_n hx hb dX5_readLaw_101 rfl (lv_at hl 2 rfl) ?_
          refine fo_iast X hw (hm10 hE) dX5_readLaw_102 hf (fun st13 H locs hw hf => ?_)
          refine lv_aload_n hx hb dX5_readLaw_103 rfl (lv_at hl 3 rfl) ?_
          refine lv_dup hx hb dX5_readLaw_104 rfl ?_
          refine fo_geti X hw fc_X5 (hm0 hE) (k := 21) (by decide) rfl q1539 dX5_readLaw_105 ?_
          refine lv_iconst (v := (1 : Int32)) hx hb dX5_readLaw_108 (by decide) ?_
          refine lv_iadd hx hb dX5_readLaw_109 ?_
          refine fo_puti X hw fc_X5 (hm0 hE) (k := 21) (by decide) rfl rfl q1539 ⟨rfl, rfl⟩ dX5_readLaw_110 hf (fun st14 H locs hw hf => ?_)
          refine lv_aload_n hx hb dX5_readLaw_113 rfl (lv_at hl 3 rfl) ?_
          refine fo_gets X hw fc_X5 (hm0 hE) (k := 22) (d := 10) (n2 := 10) (by decide) rfl rfl q1540 dX5_readLaw_114 ?_
          refine lv_iload_n hx hb dX5_readLaw_117 rfl (lv_at hl 1 rfl) ?_
          refine lv_iconst (v := (3 : Int32)) hx hb dX5_readLaw_118 (by decide) ?_
          refine lv_iadd hx hb dX5_readLaw_119 ?_
          refine lv_aload_n hx hb dX5_readLaw_120 rfl (lv_at hl 3 rfl) ?_
          refine fo_geti X hw fc_X5 (hm0 hE) (k := 23) (by decide) rfl q1541 dX5_readLaw_121 ?_
          refine fo_iast X hw (hm10 hE) dX5_readLaw_124 hf (fun st15 H locs hw hf => ?_)
          refine lv_iload_n hx hb dX5_readLaw_125 rfl (lv_at hl 2 rfl) ?_
          refine lv_iconst (v := (3 : Int32)) hx hb dX5_readLaw_126 (by decide) ?_
          refine jn_e hf (fun k17 ek hf => ?_)
          have hk17 : ∀  (st16 : fo_St) (H : Heap) (locs : List Loc) (ls : Array Slot), lv_has ls 4 [(2, .int x9), (0, .ref (eb E + 0))] → fo_S E s st16 H locs → k17 st16 = some stZ → W p l e R s m args below meth c H locs 0 0 Q (F0 m 135 ls []) := by
            intro st16 H locs ls hl hw hf
            rw [ek] at hf
            refine lv_aload_n hx hb dX5_readLaw_135 rfl (lv_at hl 1 rfl) ?_
            refine fo_gets X hw fc_X5 (hm0 hE) (k := 22) (d := 10) (n2 := 10) (by decide) rfl rfl q1540 dX5_readLaw_136 ?_
            refine lv_iload_n hx hb dX5_readLaw_139 rfl (lv_at hl 0 rfl) ?_
            refine lv_iconst (v := (4 : Int32)) hx hb dX5_readLaw_140 (by decide) ?_
            refine lv_iadd hx hb dX5_readLaw_141 ?_
            refine lv_aload_n hx hb dX5_readLaw_142 rfl (lv_at hl 1 rfl) ?_
            refine fo_geti X hw fc_X5 (hm0 hE) (k := 23) (by decide) rfl q1541 dX5_readLaw_143 ?_
            refine fo_iast X hw (hm10 hE) dX5_readLaw_146 hf (fun st18 H locs hw hf => ?_)
            refine lv_aload_n hx hb dX5_readLaw_147 rfl (lv_at hl 1 rfl) ?_
            refine fo_gets X hw fc_X5 (hm0 hE) (k := 22) (d := 10) (n2 := 10) (by decide) rfl rfl q1540 dX5_readLaw_148 ?_
            refine lv_iload_n hx hb dX5_readLaw_151 rfl (lv_at hl 0 rfl) ?_
            refine lv_iconst (v := (5 : Int32)) hx hb dX5_readLaw_152 (by decide) ?_
            refine lv_iadd hx hb dX5_readLaw_153 ?_
            refine lv_aload_n hx hb dX5_readLaw_154 rfl (lv_at hl 1 rfl) ?_
            refine fo_geti X hw fc_X5 (hm0 hE) (k := 23) (by decide) rfl q1541 dX5_readLaw_155 ?_
            refine fo_iast X hw (hm10 hE) dX5_readLaw_158 hf (fun st19 H locs hw hf => ?_)
            refine lv_aload_n hx hb dX5_readLaw_159 rfl (lv_at hl 1 rfl) ?_
            refine fo_geti X hw fc_X5 (hm0 hE) (k := 19) (by decide) rfl q1537 dX5_readLaw_160 ?_
            refine jn_e hf (fun k21 ek hf => ?_)
            have hk21 : ∀  (st20 : fo_St) (H : Heap) (locs : List Loc) (ls : Array Slot), lv_has ls 4 [(2, .int x9), (0, .ref (eb E + 0))] → fo_S E s st20 H locs → k21 st20 = some stZ → W p l e R s m args below meth c H locs 0 0 Q (F0 m 185 ls []) := by
              intro st20 H locs ls hl hw hf
              rw [ek] at hf
              refine lv_aload_n hx hb dX5_readLaw_185 rfl (lv_at hl 1 rfl) ?_
              refine fo_gets X hw fc_X5 (hm0 hE) (k := 22) (d := 10) (n2 := 10) (by decide) rfl rfl q1540 dX5_readLaw_186 ?_
              refine lv_iload_n hx hb dX5_readLaw_189 rfl (lv_at hl 0 rfl) ?_
              refine lv_bipush (v := (6 : Int32)) hx hb dX5_readLaw_190 (by decide) ?_
              refine lv_iadd hx hb dX5_readLaw_192 ?_
              refine lv_aload_n hx hb dX5_readLaw_193 rfl (lv_at hl 1 rfl) ?_
              refine fo_geti X hw fc_X5 (hm0 hE) (k := 23) (by decide) rfl q1541 dX5_readLaw_194 ?_
              refine fo_iast X hw (hm10 hE) dX5_readLaw_197 hf (fun st22 H locs hw hf => ?_)
              exact fd_v hend hw hf dX5_readLaw_198
            clear ek
            refine fb_zne (tgt := 185) hx hb dX5_readLaw_163 (by decide) hf (fun hf => ?_) (fun hf => ?_)
            · exact hk21 _ _ _ _ (lv_sub hl [0, 1] rfl) hw hf
            refine lv_aload_n hx hb dX5_readLaw_166 rfl (lv_at hl 1 rfl) ?_
            refine lv_ldc2 (v := (294 : Int64)) hx hb X.1.2.2.2.1 (X.1.2.2.2.2 _ q1949) dX5_readLaw_167 ?_
            refine fc_Vi (rest := []) (As := [.long (294 : Int64)]) X hw hm_X5_isWord (lw_V q1866 q1868 qs57 q121 q1869) ⟨rfl, rfl⟩ ⟨by rw [hRf]; exact Nat.le_of_ble_eq_true rfl, by rw [hRl]; exact Nat.le_of_ble_eq_true rfl⟩ fc_X5 rfl (hm0 hE) rfl rfl hl.1 (Nat.le_of_ble_eq_true rfl) dX5_readLaw_170 (fun rQ stQ hQ => wX5_isWord l E hE (294 : Int64) st19 rQ stQ hQ) hf (fun x23 st24 H locs hw hf => ?_)
            refine fb_zeq (tgt := 185) hx hb dX5_readLaw_173 (by decide) hf (fun hf => ?_) (fun hf => ?_)
            · exact hk21 _ _ _ _ (lv_sub hl [0, 1] rfl) hw hf
            refine lv_aload_n hx hb dX5_readLaw_176 rfl (lv_at hl 1 rfl) ?_
            refine fc_Vv (rest := []) (As := []) X hw hm_X5_nextToken (lw_V q1848 q1850 qs55 q121 q1851) ⟨rfl, rfl⟩ ⟨by rw [hRf]; exact Nat.le_of_ble_eq_true rfl, by rw [hRl]; exact Nat.le_of_ble_eq_true rfl⟩ fc_X5 rfl (hm0 hE) rfl rfl hl.1 (Nat.le_of_ble_eq_true rfl) dX5_readLaw_177 (fun stQ hQ => wX5_nextToken l E hE G st24 stQ hQ) hf (fun st26 H locs hw hf => ?_)
            refine lv_aload_n hx hb dX5_readLaw_180 rfl (lv_at hl 1 rfl) ?_
            refine lv_iconst (v := (1 : Int32)) hx hb dX5_readLaw_181 (by decide) ?_
            refine fc_Vv (rest := []) (As := [.int (1 : Int32)]) X hw hm_X5_readExpression (lw_V q1874 q1876 qs59 q121 q1877) ⟨rfl, rfl⟩ ⟨by rw [hRf]; exact Nat.le_of_ble_eq_true rfl, by rw [hRl]; exact Nat.le_of_ble_eq_true rfl⟩ fc_X5 rfl (hm0 hE) rfl rfl hl.1 (Nat.le_of_ble_eq_true rfl) dX5_readLaw_182 (fun stQ hQ => wX5_readExpression l E hE G (1 : Int32) st26 stQ hQ) hf (fun st28 H locs hw hf => ?_)
            exact hk21 _ _ _ _ (lv_sub hl [0, 1] rfl) hw hf
          clear ek
          refine fb_ige (tgt := 135) hx hb dX5_readLaw_127 (by decide) hf (fun hf => ?_) (fun hf => ?_)
          · exact hk17 _ _ _ _ (lv_sub hl [1, 3] rfl) hw hf
          refine lv_aload_n hx hb dX5_readLaw_130 rfl (lv_at hl 3 rfl) ?_
          refine lv_iconst (v := (0 : Int32)) hx hb dX5_readLaw_131 (by decide) ?_
          refine fc_Vv (rest := []) (As := [.int (0 : Int32)]) X hw hm_X5_readExpression (lw_V q1874 q1876 qs59 q121 q1877) ⟨rfl, rfl⟩ ⟨by rw [hRf]; exact Nat.le_of_ble_eq_true rfl, by rw [hRl]; exact Nat.le_of_ble_eq_true rfl⟩ fc_X5 rfl (hm0 hE) rfl rfl hl.1 (Nat.le_of_ble_eq_true rfl) dX5_readLaw_132 (fun stQ hQ => wX5_readExpression l E hE G (0 : Int32) st15 stQ hQ) hf (fun st30 H locs hw hf => ?_)
          exact hk17 _ _ _ _ (lv_sub hl [1, 3] rfl) hw hf
        refine lv_aload_n hx hb dX5_readLaw_81 rfl (lv_at hl 3 rfl) ?_
        refine fo_gets X hw fc_X5 (hm0 hE) (k := 22) (d := 10) (n2 := 10) (by decide) rfl rfl q1540 dX5_readLaw_82 ?_
        refine lv_iload_n hx hb dX5_readLaw_85 rfl (lv_at hl 1 rfl) ?_
        refine lv_iload_n hx hb dX5_readLaw_86 rfl (lv_at hl 0 rfl) ?_
        refine lv_iadd hx hb dX5_readLaw_87 ?_
        refine lv_iconst (v := (0 : Int32)) hx hb dX5_readLaw_88 (by decide) ?_
        refine fo_iast X hw (hm10 hE) dX5_readLaw_89 hf (fun st31 H locs hw hf => ?_)
        refine fb_iinc (v := (1 : Int32)) (lv' := [(3, .int (x10 + (1 : Int32))), (2, .int x9), (1, .int x2), (0, .ref (eb E + 0))]) hx hb dX5_readLaw_90 hl (k := 0) rfl (by decide) (by decide) rfl (fun ls hl => ?_)
        refine lv_goto (tgt := 75) hx hb dX5_readLaw_93 (by decide) ?_
        exact hrec12 _ _ hf _ _ _ (lv_sub hl [0, 1, 2, 3] rfl) hw
      exact fd_v hend hw hf dX5_readLaw_64
    clear ek
    refine fb_ieq (tgt := 53) hx hb dX5_readLaw_37 (by decide) hf (fun hf => ?_) (fun hf => ?_)
    · refine lv_iconst (v := (0 : Int32)) hx hb dX5_readLaw_53 (by decide) ?_
      exact hk6 _ _ _ _ (lv_sub hl [1, 2] rfl) hw hf
    refine lv_aload_n hx hb dX5_readLaw_40 rfl (lv_at hl 2 rfl) ?_
    refine fo_geti X hw fc_X5 (hm0 hE) (k := 21) (by decide) rfl q1539 dX5_readLaw_41 ?_
    refine lv_bipush (v := (12 : Int32)) hx hb dX5_readLaw_44 (by decide) ?_
    refine fb_ige (tgt := 53) hx hb dX5_readLaw_46 (by decide) hf (fun hf => ?_) (fun hf => ?_)
    · refine lv_iconst (v := (0 : Int32)) hx hb dX5_readLaw_53 (by decide) ?_
      exact hk6 _ _ _ _ (lv_sub hl [1, 2] rfl) hw hf
    refine lv_iconst (v := (1 : Int32)) hx hb dX5_readLaw_49 (by decide) ?_
    refine lv_goto (tgt := 54) hx hb dX5_readLaw_50 (by decide) ?_
    exact hk6 _ _ _ _ (lv_sub hl [1, 2] rfl) hw hf
  refine lv_aload_n hx hb dX5_readLaw_9 rfl (lv_at hl 2 rfl) ?_
  refine lv_aload_n hx hb dX5_readLaw_10 rfl (lv_at hl 2 rfl) ?_
  refine fo_gets X hw fc_X5 (hm0 hE) (k := 33) (d := 17) (n2 := 17) (by decide) rfl rfl q1551 dX5_readLaw_11 ?_
  refine lv_iload_n hx hb dX5_readLaw_14 rfl (lv_at hl 0 rfl) ?_
  refine fo_lald X hw (hm17 hE) dX5_readLaw_15 hf (fun hf => ?_)
  refine fc_Vi (rest := []) (As := [.long (gl_ st3 17 x1.toNatClampNeg)]) X hw hm_X5_isWord (lw_V q1866 q1868 qs57 q121 q1869) ⟨rfl, rfl⟩ ⟨by rw [hRf]; exact Nat.le_of_ble_eq_true rfl, by rw [hRl]; exact Nat.le_of_ble_eq_true rfl⟩ fc_X5 rfl (hm0 hE) rfl rfl hl.1 (Nat.le_of_ble_eq_true rfl) dX5_readLaw_16 (fun rQ stQ hQ => wX5_isWord l E hE (gl_ st3 17 x1.toNatClampNeg) st3 rQ stQ hQ) hf (fun x32 st33 H locs hw hf => ?_)
  refine fb_zeq (tgt := 26) hx hb dX5_readLaw_19 (by decide) hf (fun hf => ?_) (fun hf => ?_)
  · refine lv_iload_n hx hb dX5_readLaw_26 rfl (lv_at hl 1 rfl) ?_
    refine lv_istore_n (lv' := [(1, .int x2), (2, .int x1), (0, .ref (eb E + 0))]) hx hb dX5_readLaw_27 rfl hl (by decide) rfl (fun ls hl => ?_)
    refine fb_iinc (v := (1 : Int32)) (lv' := [(2, .int (x1 + (1 : Int32))), (1, .int x2), (0, .ref (eb E + 0))]) hx hb dX5_readLaw_28 hl (k := 1) rfl (by decide) (by decide) rfl (fun ls hl => ?_)
    refine lv_goto (tgt := 4) hx hb dX5_readLaw_31 (by decide) ?_
    exact hrec4 _ _ _ hf _ _ _ (lv_sub hl [0, 1, 2] rfl) hw
  refine lv_iload_n hx hb dX5_readLaw_22 rfl (lv_at hl 0 rfl) ?_
  refine lv_goto (tgt := 27) hx hb dX5_readLaw_23 (by decide) ?_
  refine lv_istore_n (lv' := [(1, .int x1), (2, .int x1), (0, .ref (eb E + 0))]) hx hb dX5_readLaw_27 rfl hl (by decide) rfl (fun ls hl => ?_)
  refine fb_iinc (v := (1 : Int32)) (lv' := [(2, .int (x1 + (1 : Int32))), (1, .int x1), (0, .ref (eb E + 0))]) hx hb dX5_readLaw_28 hl (k := 1) rfl (by decide) (by decide) rfl (fun ls hl => ?_)
  refine lv_goto (tgt := 4) hx hb dX5_readLaw_31 (by decide) ?_
  exact hrec4 _ _ _ hf _ _ _ (lv_sub hl [0, 1, 2] rfl) hw

/-- ForestRoomsModel.endText -/
def fX5_endText (G : Nat) (st0 : fo_St) : Option fo_St := jn_ (fun (st1 : fo_St) => lt_ (si_ st1 0 20 (0 : Int32)) (fun st3 => lt_ (si_ st3 0 13 (0 : Int32)) (fun st4 => some st4))) (fun k2 => if ¬ (gi_ st0 0 19) = 0 then k2 st0 else if (gi_ st0 0 16) = 0 then k2 st0 else bv_ (fX5_must G (0 : Int32) st0) (fun st6 => k2 st6))
theorem hm_X5_endText : fo_M yX5_endText 0 := ⟨by decide +kernel, by decide +kernel, by decide +kernel, by decide +kernel⟩
set_option maxHeartbeats 4000000 in
theorem wX5_endText (l : Launch) (E : fo_E) (hE : ∀ n, et E n = tM_ n) (G : Nat) (st0 : fo_St) (stZ : fo_St) (hf : fX5_endText G st0 = some stZ) : CTv l E yX5_endText (ws_ yX5_endText cX5_endText 1 none) ({ frames := 3, cells := 0, slots := 0, locals := 61 }) [.ref (eb E + 0)] st0 stZ := by
  refine fe_v hm_X5_endText (Nat.le_of_ble_eq_true rfl) (fun p e R s m args below meth c Q hRf hRl X hend ls hl hw => ?_)
  have hx := X.1.1
  have hb := X.1.2.1
  have hl : lv_has ls 1 [(0, .ref (eb E + 0))] := hl
  unfold fX5_endText at hf
  generalize s.heap = H at hw ⊢
  generalize ([] : List Loc) = locs at hw ⊢
  refine lv_aload_n hx hb dX5_endText_0 rfl (lv_at hl 0 rfl) ?_
  refine fo_geti X hw fc_X5 (hm0 hE) (k := 19) (by decide) rfl q1537 dX5_endText_1 ?_
  refine jn_e hf (fun k2 ek hf => ?_)
  have hk2 : ∀  (st1 : fo_St) (H : Heap) (locs : List Loc) (ls : Array Slot), lv_has ls 1 [(0, .ref (eb E + 0))] → fo_S E s st1 H locs → k2 st1 = some stZ → W p l e R s m args below meth c H locs 0 0 Q (F0 m 19 ls []) := by
    intro st1 H locs ls hl hw hf
    rw [ek] at hf
    refine lv_aload_n hx hb dX5_endText_19 rfl (lv_at hl 0 rfl) ?_
    refine lv_iconst (v := (0 : Int32)) hx hb dX5_endText_20 (by decide) ?_
    refine fo_puti X hw fc_X5 (hm0 hE) (k := 20) (by decide) rfl rfl q1538 ⟨rfl, rfl⟩ dX5_endText_21 hf (fun st3 H locs hw hf => ?_)
    refine lv_aload_n hx hb dX5_endText_24 rfl (lv_at hl 0 rfl) ?_
    refine lv_iconst (v := (0 : Int32)) hx hb dX5_endText_25 (by decide) ?_
    refine fo_puti X hw fc_X5 (hm0 hE) (k := 13) (by decide) rfl rfl q1531 ⟨rfl, rfl⟩ dX5_endText_26 hf (fun st4 H locs hw hf => ?_)
    exact fd_v hend hw hf dX5_endText_29
  clear ek
  refine fb_zne (tgt := 19) hx hb dX5_endText_4 (by decide) hf (fun hf => ?_) (fun hf => ?_)
  · exact hk2 _ _ _ _ (lv_sub hl [0] rfl) hw hf
  refine lv_aload_n hx hb dX5_endText_7 rfl (lv_at hl 0 rfl) ?_
  refine fo_geti X hw fc_X5 (hm0 hE) (k := 16) (by decide) rfl q1534 dX5_endText_8 ?_
  refine fb_zeq (tgt := 19) hx hb dX5_endText_11 (by decide) hf (fun hf => ?_) (fun hf => ?_)
  · exact hk2 _ _ _ _ (lv_sub hl [0] rfl) hw hf
  refine lv_aload_n hx hb dX5_endText_14 rfl (lv_at hl 0 rfl) ?_
  refine lv_iconst (v := (0 : Int32)) hx hb dX5_endText_15 (by decide) ?_
  refine fc_Vv (rest := []) (As := [.int (0 : Int32)]) X hw hm_X5_must (lw_V q1870 q1872 qs58 q121 q1873) ⟨rfl, rfl⟩ ⟨by rw [hRf]; exact Nat.le_of_ble_eq_true rfl, by rw [hRl]; exact Nat.le_of_ble_eq_true rfl⟩ fc_X5 rfl (hm0 hE) rfl rfl hl.1 (Nat.le_of_ble_eq_true rfl) dX5_endText_16 (fun stQ hQ => wX5_must l E hE G (0 : Int32) st0 stQ hQ) hf (fun st6 H locs hw hf => ?_)
  exact hk2 _ _ _ _ (lv_sub hl [0] rfl) hw hf

/-- ForestRoomsModel.law -/
def fX5_law (G : Nat) (st0 : fo_St) : Option (Int32 × fo_St) := lt_ (si_ st0 0 0 (0 : Int32)) (fun st1 => if ¬ (gi_ st1 2 (1 : Int32).toNatClampNeg) = (6 : Int32) then bv_ (fX5_beginText G (0 : Int32) st1) (fun st3 => bv_ (fX5_readLaw G st3) (fun st5 => jn_ (fun (st6 : fo_St) => bv_ (fX5_endText G st6) (fun st9 => if (gi_ st9 0 19) = 0 then lI_ ((140 : Int32) + ((900 : Int32) * (gi_ st9 2 (1 : Int32).toNatClampNeg))) (fun x10 => ck_ (fo_in (x10 + (1 : Int32)) 5540) (lt_ (si_ st9 2 (x10 + (1 : Int32)).toNatClampNeg (gi_ st9 0 21)) (fun st11 => lp2_ (fun rec14 (x12 : Int32) (st13 : fo_St) => if ((8 : Int32) * (gi_ st13 0 21)) ≤ x12 then lp2_ (fun rec17 (x15 : Int32) (st16 : fo_St) => if (gi_ st16 0 23) ≤ x15 then lt_ (si_ st16 2 (1 : Int32).toNatClampNeg ((gi_ st16 2 (1 : Int32).toNatClampNeg) + (1 : Int32))) (fun st18 => bd_ (fX5_tell ((gi_ st18 2 (1 : Int32).toNatClampNeg) - (1 : Int32)) st18) (fun x19 st20 => some (x19, st20))) else ck_ (fo_in x15 400) (ck_ (fo_in ((x10 + (98 : Int32)) + ((2 : Int32) * x15)) 5540) (lt_ (si_ st16 2 ((x10 + (98 : Int32)) + ((2 : Int32) * x15)).toNatClampNeg (gi_ st16 11 x15.toNatClampNeg)) (fun st21 => ck_ (fo_in x15 400) (ck_ (fo_in (((x10 + (98 : Int32)) + ((2 : Int32) * x15)) + (1 : Int32)) 5540) (lt_ (si_ st21 2 (((x10 + (98 : Int32)) + ((2 : Int32) * x15)) + (1 : Int32)).toNatClampNeg (gi_ st21 12 x15.toNatClampNeg)) (fun st22 => rec17 (x15 + (1 : Int32)) st22))))))) G (0 : Int32) st13 else ck_ (fo_in x12 96) (ck_ (fo_in ((x10 + (2 : Int32)) + x12) 5540) (lt_ (si_ st13 2 ((x10 + (2 : Int32)) + x12).toNatClampNeg (gi_ st13 10 x12.toNatClampNeg)) (fun st23 => rec14 (x12 + (1 : Int32)) st23)))) G (0 : Int32) st11))) else bd_ (fX5_tell (-6 : Int32) st9) (fun x24 st25 => some (x24, st25)))) (fun k7 => lp1_ (fun rec27 (st26 : fo_St) => if ¬ (gi_ st26 0 19) = 0 then k7 st26 else bd_ (fX5_isSign (59 : Int32) st26) (fun x28 st29 => if x28 = 0 then k7 st29 else bv_ (fX5_nextToken G st29) (fun st31 => bv_ (fX5_readLaw G st31) (fun st33 => rec27 st33)))) G st5))) else lt_ (si_ st1 0 13 (0 : Int32)) (fun st34 => bd_ (fX5_tell (-5 : Int32) st34) (fun x35 st36 => some (x35, st36))))
theorem hm_X5_law : fo_M yX5_law 0 := ⟨by decide +kernel, by decide +kernel, by decide +kernel, by decide +kernel⟩
set_option maxHeartbeats 4000000 in
theorem wX5_law (l : Launch) (E : fo_E) (hE : ∀ n, et E n = tM_ n) (G : Nat) (st0 : fo_St) (rZ : Int32) (stZ : fo_St) (hf : fX5_law G st0 = some (rZ, stZ)) : CTi l E yX5_law (ws_ yX5_law cX5_law 3 (some .int)) ({ frames := 8, cells := 0, slots := 0, locals := 174 }) [.ref (eb E + 0)] st0 rZ stZ := by
  refine fe_i hm_X5_law (Nat.le_of_ble_eq_true rfl) (fun p e R s m args below meth c Q hRf hRl X hend ls hl hw => ?_)
  have hx := X.1.1
  have hb := X.1.2.1
  have hl : lv_has ls 3 [(0, .ref (eb E + 0))] := hl
  unfold fX5_law at hf
  generalize s.heap = H at hw ⊢
  generalize ([] : List Loc) = locs at hw ⊢
  refine lv_aload_n hx hb dX5_law_0 rfl (lv_at hl 0 rfl) ?_
  refine lv_iconst (v := (0 : Int32)) hx hb dX5_law_1 (by decide) ?_
  refine fo_puti X hw fc_X5 (hm0 hE) (k := 0) (by decide) rfl rfl q1518 ⟨rfl, rfl⟩ dX5_law_2 hf (fun st1 H locs hw hf => ?_)
  refine lv_aload_n hx hb dX5_law_5 rfl (lv_at hl 0 rfl) ?_
  refine fo_gets X hw fc_X5 (hm0 hE) (k := 3) (d := 2) (n2 := 2) (by decide) rfl rfl q1521 dX5_law_6 ?_
  refine lv_iconst (v := (1 : Int32)) hx hb dX5_law_9 (by decide) ?_
  refine fo_ialdK X hw (hm2 hE) dX5_law_10 (by decide) ?_
  refine lv_bipush (v := (6 : Int32)) hx hb dX5_law_11 (by decide) ?_
  refine fb_ine (tgt := 28) hx hb dX5_law_13 (by decide) hf (fun hf => ?_) (fun hf => ?_)
  · refine lv_aload_n hx hb dX5_law_28 rfl (lv_at hl 0 rfl) ?_
    refine lv_iconst (v := (0 : Int32)) hx hb dX5_law_29 (by decide) ?_
    refine fc_Vv (rest := []) (As := [.int (0 : Int32)]) X hw hm_X5_beginText (lw_V q1840 q1842 qs53 q121 q1843) ⟨rfl, rfl⟩ ⟨by rw [hRf]; exact Nat.le_of_ble_eq_true rfl, by rw [hRl]; exact Nat.le_of_ble_eq_true rfl⟩ fc_X5 rfl (hm0 hE) rfl rfl hl.1 (Nat.le_of_ble_eq_true rfl) dX5_law_30 (fun stQ hQ => wX5_beginText l E hE G (0 : Int32) st1 stQ hQ) hf (fun st3 H locs hw hf => ?_)
    refine lv_aload_n hx hb dX5_law_33 rfl (lv_at hl 0 rfl) ?_
    refine fc_Vv (rest := []) (As := []) X hw hm_X5_readLaw (lw_V q1862 q1864 qs56 q121 q1865) ⟨rfl, rfl⟩ ⟨by rw [hRf]; exact Nat.le_of_ble_eq_true rfl, by rw [hRl]; exact Nat.le_of_ble_eq_true rfl⟩ fc_X5 rfl (hm0 hE) rfl rfl hl.1 (Nat.le_of_ble_eq_true rfl) dX5_law_34 (fun stQ hQ => wX5_readLaw l E hE G st3 stQ hQ) hf (fun st5 H locs hw hf => ?_)
    refine jn_e hf (fun k7 ek hf => ?_)
    have hk7 : ∀  (st6 : fo_St) (H : Heap) (locs : List Loc) (ls : Array Slot), lv_has ls 3 [(0, .ref (eb E + 0))] → fo_S E s st6 H locs → k7 st6 = some (rZ, stZ) → W p l e R s m args below meth c H locs 0 0 Q (F0 m 64 ls []) := by
      intro st6 H locs ls hl hw hf
      rw [ek] at hf
      refine lv_aload_n hx hb dX5_law_64 rfl (lv_at hl 0 rfl) ?_
      refine fc_Vv (rest := []) (As := []) X hw hm_X5_endText (lw_V q1950 q1952 qs75 q121 q1953) ⟨rfl, rfl⟩ ⟨by rw [hRf]; exact Nat.le_of_ble_eq_true rfl, by rw [hRl]; exact Nat.le_of_ble_eq_true rfl⟩ fc_X5 rfl (hm0 hE) rfl rfl hl.1 (Nat.le_of_ble_eq_true rfl) dX5_law_65 (fun stQ hQ => wX5_endText l E hE G st6 stQ hQ) hf (fun st9 H locs hw hf => ?_)
      refine lv_aload_n hx hb dX5_law_68 rfl (lv_at hl 0 rfl) ?_
      refine fo_geti X hw fc_X5 (hm0 hE) (k := 19) (by decide) rfl q1537 dX5_law_69 ?_
      refine fb_zeq (tgt := 82) hx hb dX5_law_72 (by decide) hf (fun hf => ?_) (fun hf => ?_)
      · refine lv_sipush (v := (140 : Int32)) hx hb dX5_law_82 (by decide) ?_
        refine lv_sipush (v := (900 : Int32)) hx hb dX5_law_85 (by decide) ?_
        refine lv_aload_n hx hb dX5_law_88 rfl (lv_at hl 0 rfl) ?_
        refine fo_gets X hw fc_X5 (hm0 hE) (k := 3) (d := 2) (n2 := 2) (by decide) rfl rfl q1521 dX5_law_89 ?_
        refine lv_iconst (v := (1 : Int32)) hx hb dX5_law_92 (by decide) ?_
        refine fo_ialdK X hw (hm2 hE) dX5_law_93 (by decide) ?_
        refine lv_imul hx hb dX5_law_94 ?_
        refine lv_iadd hx hb dX5_law_95 ?_
        refine fo_tI hf (fun x10 hf => ?_)
        refine lv_istore_n (lv' := [(1, .int x10), (0, .ref (eb E + 0))]) hx hb dX5_law_96 rfl hl (by decide) rfl (fun ls hl => ?_)
        refine lv_aload_n hx hb dX5_law_97 rfl (lv_at hl 1 rfl) ?_
        refine fo_gets X hw fc_X5 (hm0 hE) (k := 3) (d := 2) (n2 := 2) (by decide) rfl rfl q1521 dX5_law_98 ?_
        refine lv_iload_n hx hb dX5_law_101 rfl (lv_at hl 0 rfl) ?_
        refine lv_iconst (v := (1 : Int32)) hx hb dX5_law_102 (by decide) ?_
        refine lv_iadd hx hb dX5_law_103 ?_
        refine lv_aload_n hx hb dX5_law_104 rfl (lv_at hl 1 rfl) ?_
        refine fo_geti X hw fc_X5 (hm0 hE) (k := 21) (by decide) rfl q1539 dX5_law_105 ?_
        refine fo_iast X hw (hm2 hE) dX5_law_108 hf (fun st11 H locs hw hf => ?_)
        refine lv_iconst (v := (0 : Int32)) hx hb dX5_law_109 (by decide) ?_
        refine lv_istore_n (lv' := [(2, .int (0 : Int32)), (1, .int x10), (0, .ref (eb E + 0))]) hx hb dX5_law_110 rfl hl (by decide) rfl (fun ls hl => ?_)
        refine lp2_e (P := fun x12 st13 => ∀ (H : Heap) (locs : List Loc) (ls : Array Slot), lv_has ls 3 [(2, .int x12), (1, .int x10), (0, .ref (eb E + 0))] → fo_S E s st13 H locs → W p l e R s m args below meth c H locs 0 0 Q (F0 m 111 ls [])) (fun rec14 hrec14 x12 st13 hf => ?_) G _ _ hf H locs ls (lv_sub hl [0, 1, 2] rfl) hw
        intro H locs ls hl hw
        refine lv_iload_n hx hb dX5_law_111 rfl (lv_at hl 0 rfl) ?_
        refine lv_bipush (v := (8 : Int32)) hx hb dX5_law_112 (by decide) ?_
        refine lv_aload_n hx hb dX5_law_114 rfl (lv_at hl 2 rfl) ?_
        refine fo_geti X hw fc_X5 (hm0 hE) (k := 21) (by decide) rfl q1539 dX5_law_115 ?_
        refine lv_imul hx hb dX5_law_118 ?_
        refine fb_ige (tgt := 144) hx hb dX5_law_119 (by decide) hf (fun hf => ?_) (fun hf => ?_)
        · refine lv_iconst (v := (0 : Int32)) hx hb dX5_law_144 (by decide) ?_
          refine lv_istore_n (lv' := [(2, .int (0 : Int32)), (1, .int x10), (0, .ref (eb E + 0))]) hx hb dX5_law_145 rfl hl (by decide) rfl (fun ls hl => ?_)
          refine lp2_e (P := fun x15 st16 => ∀ (H : Heap) (locs : List Loc) (ls : Array Slot), lv_has ls 3 [(2, .int x15), (1, .int x10), (0, .ref (eb E + 0))] → fo_S E s st16 H locs → W p l e R s m args below meth c H locs 0 0 Q (F0 m 146 ls [])) (fun rec17 hrec17 x15 st16 hf => ?_) G _ _ hf H locs ls (lv_sub hl [0, 1, 2] rfl) hw
          intro H locs ls hl hw
          refine lv_iload_n hx hb dX5_law_146 rfl (lv_at hl 0 rfl) ?_
          refine lv_aload_n hx hb dX5_law_147 rfl (lv_at hl 2 rfl) ?_
          refine fo_geti X hw fc_X5 (hm0 hE) (k := 23) (by decide) rfl q1541 dX5_law_148 ?_
          refine fb_ige (tgt := 200) hx hb dX5_law_151 (by decide) hf (fun hf => ?_) (fun hf => ?_)
          · refine lv_aload_n hx hb dX5_law_200 rfl (lv_at hl 2 rfl) ?_
            refine fo_gets X hw fc_X5 (hm0 hE) (k := 3) (d := 2) (n2 := 2) (by decide) rfl rfl q1521 dX5_law_201 ?_
            refine lv_iconst (v := (1 : Int32)) hx hb dX5_law_204 (by decide) ?_
            refine lv_dup2_11 hx hb dX5_law_205 rfl rfl ?_
            refine fo_ialdK X hw (hm2 hE) dX5_law_206 (by decide) ?_
            refine lv_iconst (v := (1 : Int32)) hx hb dX5_law_207 (by decide) ?_
            refine lv_iadd hx hb dX5_law_208 ?_
            refine fo_iastK X hw (hm2 hE) dX5_law_209 (by decide) hf (fun st18 H locs hw hf => ?_)
            refine lv_aload_n hx hb dX5_law_210 rfl (lv_at hl 2 rfl) ?_
            refine lv_aload_n hx hb dX5_law_211 rfl (lv_at hl 2 rfl) ?_
            refine fo_gets X hw fc_X5 (hm0 hE) (k := 3) (d := 2) (n2 := 2) (by decide) rfl rfl q1521 dX5_law_212 ?_
            refine lv_iconst (v := (1 : Int32)) hx hb dX5_law_215 (by decide) ?_
            refine fo_ialdK X hw (hm2 hE) dX5_law_216 (by decide) ?_
            refine lv_iconst (v := (1 : Int32)) hx hb dX5_law_217 (by decide) ?_
            refine lv_isub hx hb dX5_law_218 ?_
            refine fc_Vi (rest := []) (As := [.int ((gi_ st18 2 (1 : Int32).toNatClampNeg) - (1 : Int32))]) X hw hm_X5_tell (lw_V q1710 q1712 qs38 q121 q1713) ⟨rfl, rfl⟩ ⟨by rw [hRf]; exact Nat.le_of_ble_eq_true rfl, by rw [hRl]; exact Nat.le_of_ble_eq_true rfl⟩ fc_X5 rfl (hm0 hE) rfl rfl hl.1 (Nat.le_of_ble_eq_true rfl) dX5_law_219 (fun rQ stQ hQ => wX5_tell l E hE ((gi_ st18 2 (1 : Int32).toNatClampNeg) - (1 : Int32)) st18 rQ stQ hQ) hf (fun x19 st20 H locs hw hf => ?_)
            exact fd_i hend hw hf dX5_law_222
          refine lv_aload_n hx hb dX5_law_154 rfl (lv_at hl 2 rfl) ?_
          refine fo_gets X hw fc_X5 (hm0 hE) (k := 3) (d := 2) (n2 := 2) (by decide) rfl rfl q1521 dX5_law_155 ?_
          refine lv_iload_n hx hb dX5_law_158 rfl (lv_at hl 1 rfl) ?_
          refine lv_bipush (v := (98 : Int32)) hx hb dX5_law_159 (by decide) ?_
          refine lv_iadd hx hb dX5_law_161 ?_
          refine lv_iconst (v := (2 : Int32)) hx hb dX5_law_162 (by decide) ?_
          refine lv_iload_n hx hb dX5_law_163 rfl (lv_at hl 0 rfl) ?_
          refine lv_imul hx hb dX5_law_164 ?_
          refine lv_iadd hx hb dX5_law_165 ?_
          refine lv_aload_n hx hb dX5_law_166 rfl (lv_at hl 2 rfl) ?_
          refine fo_gets X hw fc_X5 (hm0 hE) (k := 24) (d := 11) (n2 := 11) (by decide) rfl rfl q1542 dX5_law_167 ?_
          refine lv_iload_n hx hb dX5_law_170 rfl (lv_at hl 0 rfl) ?_
          refine fo_iald X hw (hm11 hE) dX5_law_171 hf (fun hf => ?_)
          refine fo_iast X hw (hm2 hE) dX5_law_172 hf (fun st21 H locs hw hf => ?_)
          refine lv_aload_n hx hb dX5_law_173 rfl (lv_at hl 2 rfl) ?_
          refine fo_gets X hw fc_X5 (hm0 hE) (k := 3) (d := 2) (n2 := 2) (by decide) rfl rfl q1521 dX5_law_174 ?_
          refine lv_iload_n hx hb dX5_law_177 rfl (lv_at hl 1 rfl) ?_
          refine lv_bipush (v := (98 : Int32)) hx hb dX5_law_178 (by decide) ?_
          refine lv_iadd hx hb dX5_law_180 ?_
          refine lv_iconst (v := (2 : Int32)) hx hb dX5_law_181 (by decide) ?_
          refine lv_iload_n hx hb dX5_law_182 rfl (lv_at hl 0 rfl) ?_
          refine lv_imul hx hb dX5_law_183 ?_
          refine lv_iadd hx hb dX5_law_184 ?_
          refine lv_iconst (v := (1 : Int32)) hx hb dX5_law_185 (by decide) ?_
          refine lv_iadd hx hb dX5_law_186 ?_
          refine lv_aload_n hx hb dX5_law_187 rfl (lv_at hl 2 rfl) ?_
          refine fo_gets X hw fc_X5 (hm0 hE) (k := 25) (d := 12) (n2 := 12) (by decide) rfl rfl q1543 dX5_law_188 ?_
          refine lv_iload_n hx hb dX5_law_191 rfl (lv_at hl 0 rfl) ?_
          refine fo_iald X hw (hm12 hE) dX5_law_192 hf (fun hf => ?_)
          refine fo_iast X hw (hm2 hE) dX5_law_193 hf (fun st22 H locs hw hf => ?_)
          refine fb_iinc (v := (1 : Int32)) (lv' := [(2, .int (x15 + (1 : Int32))), (1, .int x10), (0, .ref (eb E + 0))]) hx hb dX5_law_194 hl (k := 0) rfl (by decide) (by decide) rfl (fun ls hl => ?_)
          refine lv_goto (tgt := 146) hx hb dX5_law_197 (by decide) ?_
          exact hrec17 _ _ hf _ _ _ (lv_sub hl [0, 1, 2] rfl) hw
        refine lv_aload_n hx hb dX5_law_122 rfl (lv_at hl 2 rfl) ?_
        refine fo_gets X hw fc_X5 (hm0 hE) (k := 3) (d := 2) (n2 := 2) (by decide) rfl rfl q1521 dX5_law_123 ?_
        refine lv_iload_n hx hb dX5_law_126 rfl (lv_at hl 1 rfl) ?_
        refine lv_iconst (v := (2 : Int32)) hx hb dX5_law_127 (by decide) ?_
        refine lv_iadd hx hb dX5_law_128 ?_
        refine lv_iload_n hx hb dX5_law_129 rfl (lv_at hl 0 rfl) ?_
        refine lv_iadd hx hb dX5_law_130 ?_
        refine lv_aload_n hx hb dX5_law_131 rfl (lv_at hl 2 rfl) ?_
        refine fo_gets X hw fc_X5 (hm0 hE) (k := 22) (d := 10) (n2 := 10) (by decide) rfl rfl q1540 dX5_law_132 ?_
        refine lv_iload_n hx hb dX5_law_135 rfl (lv_at hl 0 rfl) ?_
        refine fo_iald X hw (hm10 hE) dX5_law_136 hf (fun hf => ?_)
        refine fo_iast X hw (hm2 hE) dX5_law_137 hf (fun st23 H locs hw hf => ?_)
        refine fb_iinc (v := (1 : Int32)) (lv' := [(2, .int (x12 + (1 : Int32))), (1, .int x10), (0, .ref (eb E + 0))]) hx hb dX5_law_138 hl (k := 0) rfl (by decide) (by decide) rfl (fun ls hl => ?_)
        refine lv_goto (tgt := 111) hx hb dX5_law_141 (by decide) ?_
        exact hrec14 _ _ hf _ _ _ (lv_sub hl [0, 1, 2] rfl) hw
      refine lv_aload_n hx hb dX5_law_75 rfl (lv_at hl 0 rfl) ?_
      refine lv_bipush (v := (-6 : Int32)) hx hb dX5_law_76 (by decide) ?_
      refine fc_Vi (rest := []) (As := [.int (-6 : Int32)]) X hw hm_X5_tell (lw_V q1710 q1712 qs38 q121 q1713) ⟨rfl, rfl⟩ ⟨by rw [hRf]; exact Nat.le_of_ble_eq_true rfl, by rw [hRl]; exact Nat.le_of_ble_eq_true rfl⟩ fc_X5 rfl (hm0 hE) rfl rfl hl.1 (Nat.le_of_ble_eq_true rfl) dX5_law_78 (fun rQ stQ hQ => wX5_tell l E hE (-6 : Int32) st9 rQ stQ hQ) hf (fun x24 st25 H locs hw hf => ?_)
      exact fd_i hend hw hf dX5_law_81
    clear ek
    refine lp1_e (P := fun st26 => ∀ (H : Heap) (locs : List Loc) (ls : Array Slot), lv_has ls 3 [(0, .ref (eb E + 0))] → fo_S E s st26 H locs → W p l e R s m args below meth c H locs 0 0 Q (F0 m 37 ls [])) (fun rec27 hrec27 st26 hf => ?_) G _ hf H locs ls (lv_sub hl [0] rfl) hw
    intro H locs ls hl hw
    refine lv_aload_n hx hb dX5_law_37 rfl (lv_at hl 0 rfl) ?_
    refine fo_geti X hw fc_X5 (hm0 hE) (k := 19) (by decide) rfl q1537 dX5_law_38 ?_
    refine fb_zne (tgt := 64) hx hb dX5_law_41 (by decide) hf (fun hf => ?_) (fun hf => ?_)
    · exact hk7 _ _ _ _ (lv_sub hl [0] rfl) hw hf
    refine lv_aload_n hx hb dX5_law_44 rfl (lv_at hl 0 rfl) ?_
    refine lv_bipush (v := (59 : Int32)) hx hb dX5_law_45 (by decide) ?_
    refine fc_Vi (rest := []) (As := [.int (59 : Int32)]) X hw hm_X5_isSign (lw_V q1887 q1889 qs62 q121 q1890) ⟨rfl, rfl⟩ ⟨by rw [hRf]; exact Nat.le_of_ble_eq_true rfl, by rw [hRl]; exact Nat.le_of_ble_eq_true rfl⟩ fc_X5 rfl (hm0 hE) rfl rfl hl.1 (Nat.le_of_ble_eq_true rfl) dX5_law_47 (fun rQ stQ hQ => wX5_isSign l E hE (59 : Int32) st26 rQ stQ hQ) hf (fun x28 st29 H locs hw hf => ?_)
    refine fb_zeq (tgt := 64) hx hb dX5_law_50 (by decide) hf (fun hf => ?_) (fun hf => ?_)
    · exact hk7 _ _ _ _ (lv_sub hl [0] rfl) hw hf
    refine lv_aload_n hx hb dX5_law_53 rfl (lv_at hl 0 rfl) ?_
    refine fc_Vv (rest := []) (As := []) X hw hm_X5_nextToken (lw_V q1848 q1850 qs55 q121 q1851) ⟨rfl, rfl⟩ ⟨by rw [hRf]; exact Nat.le_of_ble_eq_true rfl, by rw [hRl]; exact Nat.le_of_ble_eq_true rfl⟩ fc_X5 rfl (hm0 hE) rfl rfl hl.1 (Nat.le_of_ble_eq_true rfl) dX5_law_54 (fun stQ hQ => wX5_nextToken l E hE G st29 stQ hQ) hf (fun st31 H locs hw hf => ?_)
    refine lv_aload_n hx hb dX5_law_57 rfl (lv_at hl 0 rfl) ?_
    refine fc_Vv (rest := []) (As := []) X hw hm_X5_readLaw (lw_V q1862 q1864 qs56 q121 q1865) ⟨rfl, rfl⟩ ⟨by rw [hRf]; exact Nat.le_of_ble_eq_true rfl, by rw [hRl]; exact Nat.le_of_ble_eq_true rfl⟩ fc_X5 rfl (hm0 hE) rfl rfl hl.1 (Nat.le_of_ble_eq_true rfl) dX5_law_58 (fun stQ hQ => wX5_readLaw l E hE G st31 stQ hQ) hf (fun st33 H locs hw hf => ?_)
    refine lv_goto (tgt := 37) hx hb dX5_law_61 (by decide) ?_
    exact hrec27 _ hf _ _ _ (lv_sub hl [0] rfl) hw
  refine lv_aload_n hx hb dX5_law_16 rfl (lv_at hl 0 rfl) ?_
  refine lv_iconst (v := (0 : Int32)) hx hb dX5_law_17 (by decide) ?_
  refine fo_puti X hw fc_X5 (hm0 hE) (k := 13) (by decide) rfl rfl q1531 ⟨rfl, rfl⟩ dX5_law_18 hf (fun st34 H locs hw hf => ?_)
  refine lv_aload_n hx hb dX5_law_21 rfl (lv_at hl 0 rfl) ?_
  refine lv_bipush (v := (-5 : Int32)) hx hb dX5_law_22 (by decide) ?_
  refine fc_Vi (rest := []) (As := [.int (-5 : Int32)]) X hw hm_X5_tell (lw_V q1710 q1712 qs38 q121 q1713) ⟨rfl, rfl⟩ ⟨by rw [hRf]; exact Nat.le_of_ble_eq_true rfl, by rw [hRl]; exact Nat.le_of_ble_eq_true rfl⟩ fc_X5 rfl (hm0 hE) rfl rfl hl.1 (Nat.le_of_ble_eq_true rfl) dX5_law_24 (fun rQ stQ hQ => wX5_tell l E hE (-5 : Int32) st34 rQ stQ hQ) hf (fun x35 st36 H locs hw hf => ?_)
  exact fd_i hend hw hf dX5_law_27

/-- ForestRoomsModel.force -/
def fX5_force (p1 : Int32) (st0 : fo_St) : Option (Int32 × fo_St) := lt_ (si_ st0 0 0 (0 : Int32)) (fun st1 => if p1 = (-1 : Int32) then bd_ (fX5_change (2 : Int32) p1 st1) (fun x2 st3 => some (x2, st3)) else bd_ (fX5_in (p1.toInt64) (0 : Int64) ((gi_ st1 2 (1 : Int32).toNatClampNeg).toInt64 - (1 : Int64)) st1) (fun x4 st5 => if x4 = 0 then bd_ (fX5_tell (-2 : Int32) st5) (fun x6 st7 => some (x6, st7)) else bd_ (fX5_change (2 : Int32) p1 st5) (fun x8 st9 => some (x8, st9))))
theorem hm_X5_force : fo_M yX5_force 1 := ⟨by decide +kernel, by decide +kernel, by decide +kernel, by decide +kernel⟩
set_option maxHeartbeats 4000000 in
theorem wX5_force (l : Launch) (E : fo_E) (hE : ∀ n, et E n = tM_ n) (p1 : Int32) (st0 : fo_St) (rZ : Int32) (stZ : fo_St) (hf : fX5_force p1 st0 = some (rZ, stZ)) : CTi l E yX5_force (ws_ yX5_force cX5_force 2 (some .int)) ({ frames := 1, cells := 0, slots := 0, locals := 25 }) [.ref (eb E + 0), .int p1] st0 rZ stZ := by
  refine fe_i hm_X5_force (Nat.le_of_ble_eq_true rfl) (fun p e R s m args below meth c Q hRf hRl X hend ls hl hw => ?_)
  have hx := X.1.1
  have hb := X.1.2.1
  have hl : lv_has ls 2 [(0, .ref (eb E + 0)), (1, .int p1)] := hl
  unfold fX5_force at hf
  generalize s.heap = H at hw ⊢
  generalize ([] : List Loc) = locs at hw ⊢
  refine lv_aload_n hx hb dX5_force_0 rfl (lv_at hl 0 rfl) ?_
  refine lv_iconst (v := (0 : Int32)) hx hb dX5_force_1 (by decide) ?_
  refine fo_puti X hw fc_X5 (hm0 hE) (k := 0) (by decide) rfl rfl q1518 ⟨rfl, rfl⟩ dX5_force_2 hf (fun st1 H locs hw hf => ?_)
  refine lv_iload_n hx hb dX5_force_5 rfl (lv_at hl 1 rfl) ?_
  refine lv_iconst (v := (-1 : Int32)) hx hb dX5_force_6 (by decide) ?_
  refine fb_ieq (tgt := 28) hx hb dX5_force_7 (by decide) hf (fun hf => ?_) (fun hf => ?_)
  · refine lv_aload_n hx hb dX5_force_28 rfl (lv_at hl 0 rfl) ?_
    refine lv_iconst (v := (2 : Int32)) hx hb dX5_force_29 (by decide) ?_
    refine lv_iload_n hx hb dX5_force_30 rfl (lv_at hl 1 rfl) ?_
    refine fc_Vi (rest := []) (As := [.int (2 : Int32), .int p1]) X hw hm_X5_change (lw_V q1745 q1747 qs41 q121 q1748) ⟨rfl, rfl⟩ ⟨by rw [hRf]; exact Nat.le_of_ble_eq_true rfl, by rw [hRl]; exact Nat.le_of_ble_eq_true rfl⟩ fc_X5 rfl (hm0 hE) rfl rfl hl.1 (Nat.le_of_ble_eq_true rfl) dX5_force_31 (fun rQ stQ hQ => wX5_change l E hE (2 : Int32) p1 st1 rQ stQ hQ) hf (fun x2 st3 H locs hw hf => ?_)
    refine lv_goto (tgt := 43) hx hb dX5_force_34 (by decide) ?_
    exact fd_i hend hw hf dX5_force_43
  refine lv_iload_n hx hb dX5_force_10 rfl (lv_at hl 1 rfl) ?_
  refine lv_i2l (v := p1.toInt64) hx hb dX5_force_11 rfl ?_
  refine lv_lconst (v := (0 : Int64)) hx hb dX5_force_12 rfl ?_
  refine lv_aload_n hx hb dX5_force_13 rfl (lv_at hl 0 rfl) ?_
  refine fo_gets X hw fc_X5 (hm0 hE) (k := 3) (d := 2) (n2 := 2) (by decide) rfl rfl q1521 dX5_force_14 ?_
  refine lv_iconst (v := (1 : Int32)) hx hb dX5_force_17 (by decide) ?_
  refine fo_ialdK X hw (hm2 hE) dX5_force_18 (by decide) ?_
  refine lv_i2l (v := (gi_ st1 2 (1 : Int32).toNatClampNeg).toInt64) hx hb dX5_force_19 rfl ?_
  refine lv_lconst (v := (1 : Int64)) hx hb dX5_force_20 rfl ?_
  refine lv_lsub hx hb dX5_force_21 ?_
  refine fc_Si (rest := []) (As := [.long p1.toInt64, .long (0 : Int64), .long ((gi_ st1 2 (1 : Int32).toNatClampNeg).toInt64 - (1 : Int64))]) X hw hm_X5_in (lw_S q1722 q1723 q121 q1724) ⟨rfl, rfl⟩ ⟨by rw [hRf]; exact Nat.le_of_ble_eq_true rfl, by rw [hRl]; exact Nat.le_of_ble_eq_true rfl⟩ rfl rfl hl.1 (Nat.le_of_ble_eq_true rfl) dX5_force_22 (fun rQ stQ hQ => wX5_in l E hE (p1.toInt64) (0 : Int64) ((gi_ st1 2 (1 : Int32).toNatClampNeg).toInt64 - (1 : Int64)) st1 rQ stQ hQ) hf (fun x4 st5 H locs hw hf => ?_)
  refine fb_zeq (tgt := 37) hx hb dX5_force_25 (by decide) hf (fun hf => ?_) (fun hf => ?_)
  · refine lv_aload_n hx hb dX5_force_37 rfl (lv_at hl 0 rfl) ?_
    refine lv_bipush (v := (-2 : Int32)) hx hb dX5_force_38 (by decide) ?_
    refine fc_Vi (rest := []) (As := [.int (-2 : Int32)]) X hw hm_X5_tell (lw_V q1710 q1712 qs38 q121 q1713) ⟨rfl, rfl⟩ ⟨by rw [hRf]; exact Nat.le_of_ble_eq_true rfl, by rw [hRl]; exact Nat.le_of_ble_eq_true rfl⟩ fc_X5 rfl (hm0 hE) rfl rfl hl.1 (Nat.le_of_ble_eq_true rfl) dX5_force_40 (fun rQ stQ hQ => wX5_tell l E hE (-2 : Int32) st5 rQ stQ hQ) hf (fun x6 st7 H locs hw hf => ?_)
    exact fd_i hend hw hf dX5_force_43
  refine lv_aload_n hx hb dX5_force_28 rfl (lv_at hl 0 rfl) ?_
  refine lv_iconst (v := (2 : Int32)) hx hb dX5_force_29 (by decide) ?_
  refine lv_iload_n hx hb dX5_force_30 rfl (lv_at hl 1 rfl) ?_
  refine fc_Vi (rest := []) (As := [.int (2 : Int32), .int p1]) X hw hm_X5_change (lw_V q1745 q1747 qs41 q121 q1748) ⟨rfl, rfl⟩ ⟨by rw [hRf]; exact Nat.le_of_ble_eq_true rfl, by rw [hRl]; exact Nat.le_of_ble_eq_true rfl⟩ fc_X5 rfl (hm0 hE) rfl rfl hl.1 (Nat.le_of_ble_eq_true rfl) dX5_force_31 (fun rQ stQ hQ => wX5_change l E hE (2 : Int32) p1 st5 rQ stQ hQ) hf (fun x8 st9 H locs hw hf => ?_)
  refine lv_goto (tgt := 43) hx hb dX5_force_34 (by decide) ?_
  exact fd_i hend hw hf dX5_force_43

/-- ForestRoomsModel.suitsOf -/
def fX5_suitsOf (G : Nat) (p1 : Int32) (p2 : Int32) (st0 : fo_St) : Option (Int32 × fo_St) := ck_ (fo_in ((8 : Int32) + p2) 5540) (ck_ (fo_in ((24 : Int32) + p2) 5540) (ck_ (fo_in ((56 : Int32) + p2) 5540) (ck_ (fo_in ((88 : Int32) + p2) 5540) (bd_ (fX5_tells G (1 : Int32) p2 (gi_ st0 2 ((8 : Int32) + p2).toNatClampNeg) (gi_ st0 2 ((24 : Int32) + p2).toNatClampNeg) p1 (((gi_ st0 2 ((56 : Int32) + p2).toNatClampNeg) + (gi_ st0 2 ((88 : Int32) + p2).toNatClampNeg)).toInt64) st0) (fun x1 st2 => bd_ (fX5_within x1 (0 : Int32) (99 : Int32) st2) (fun x3 st4 => some (x3, st4)))))))
theorem hm_X5_suitsOf : fo_M yX5_suitsOf 2 := ⟨by decide +kernel, by decide +kernel, by decide +kernel, by decide +kernel⟩
set_option maxHeartbeats 4000000 in
theorem wX5_suitsOf (l : Launch) (E : fo_E) (hE : ∀ n, et E n = tM_ n) (G : Nat) (p1 : Int32) (p2 : Int32) (st0 : fo_St) (rZ : Int32) (stZ : fo_St) (hf : fX5_suitsOf G p1 p2 st0 = some (rZ, stZ)) : CTi l E yX5_suitsOf (ws_ yX5_suitsOf cX5_suitsOf 3 (some .int)) ({ frames := 4, cells := 0, slots := 0, locals := 103 }) [.ref (eb E + 0), .int p1, .int p2] st0 rZ stZ := by
  refine fe_i hm_X5_suitsOf (Nat.le_of_ble_eq_true rfl) (fun p e R s m args below meth c Q hRf hRl X hend ls hl hw => ?_)
  have hx := X.1.1
  have hb := X.1.2.1
  have hl : lv_has ls 3 [(0, .ref (eb E + 0)), (1, .int p1), (2, .int p2)] := hl
  unfold fX5_suitsOf at hf
  generalize s.heap = H at hw ⊢
  generalize ([] : List Loc) = locs at hw ⊢
  refine lv_aload_n hx hb dX5_suitsOf_0 rfl (lv_at hl 0 rfl) ?_
  refine lv_iconst (v := (1 : Int32)) hx hb dX5_suitsOf_1 (by decide) ?_
  refine lv_iload_n hx hb dX5_suitsOf_2 rfl (lv_at hl 2 rfl) ?_
  refine lv_aload_n hx hb dX5_suitsOf_3 rfl (lv_at hl 0 rfl) ?_
  refine fo_gets X hw fc_X5 (hm0 hE) (k := 3) (d := 2) (n2 := 2) (by decide) rfl rfl q1521 dX5_suitsOf_4 ?_
  refine lv_bipush (v := (8 : Int32)) hx hb dX5_suitsOf_7 (by decide) ?_
  refine lv_iload_n hx hb dX5_suitsOf_9 rfl (lv_at hl 2 rfl) ?_
  refine lv_iadd hx hb dX5_suitsOf_10 ?_
  refine fo_iald X hw (hm2 hE) dX5_suitsOf_11 hf (fun hf => ?_)
  refine lv_aload_n hx hb dX5_suitsOf_12 rfl (lv_at hl 0 rfl) ?_
  refine fo_gets X hw fc_X5 (hm0 hE) (k := 3) (d := 2) (n2 := 2) (by decide) rfl rfl q1521 dX5_suitsOf_13 ?_
  refine lv_bipush (v := (24 : Int32)) hx hb dX5_suitsOf_16 (by decide) ?_
  refine lv_iload_n hx hb dX5_suitsOf_18 rfl (lv_at hl 2 rfl) ?_
  refine lv_iadd hx hb dX5_suitsOf_19 ?_
  refine fo_iald X hw (hm2 hE) dX5_suitsOf_20 hf (fun hf => ?_)
  refine lv_iload_n hx hb dX5_suitsOf_21 rfl (lv_at hl 1 rfl) ?_
  refine lv_aload_n hx hb dX5_suitsOf_22 rfl (lv_at hl 0 rfl) ?_
  refine fo_gets X hw fc_X5 (hm0 hE) (k := 3) (d := 2) (n2 := 2) (by decide) rfl rfl q1521 dX5_suitsOf_23 ?_
  refine lv_bipush (v := (56 : Int32)) hx hb dX5_suitsOf_26 (by decide) ?_
  refine lv_iload_n hx hb dX5_suitsOf_28 rfl (lv_at hl 2 rfl) ?_
  refine lv_iadd hx hb dX5_suitsOf_29 ?_
  refine fo_iald X hw (hm2 hE) dX5_suitsOf_30 hf (fun hf => ?_)
  refine lv_aload_n hx hb dX5_suitsOf_31 rfl (lv_at hl 0 rfl) ?_
  refine fo_gets X hw fc_X5 (hm0 hE) (k := 3) (d := 2) (n2 := 2) (by decide) rfl rfl q1521 dX5_suitsOf_32 ?_
  refine lv_bipush (v := (88 : Int32)) hx hb dX5_suitsOf_35 (by decide) ?_
  refine lv_iload_n hx hb dX5_suitsOf_37 rfl (lv_at hl 2 rfl) ?_
  refine lv_iadd hx hb dX5_suitsOf_38 ?_
  refine fo_iald X hw (hm2 hE) dX5_suitsOf_39 hf (fun hf => ?_)
  refine lv_iadd hx hb dX5_suitsOf_40 ?_
  refine lv_i2l (v := ((gi_ st0 2 ((56 : Int32) + p2).toNatClampNeg) + (gi_ st0 2 ((88 : Int32) + p2).toNatClampNeg)).toInt64) hx hb dX5_suitsOf_41 rfl ?_
  refine fc_Vl (rest := []) (As := [.int (1 : Int32), .int p2, .int (gi_ st0 2 ((8 : Int32) + p2).toNatClampNeg), .int (gi_ st0 2 ((24 : Int32) + p2).toNatClampNeg), .int p1, .long ((gi_ st0 2 ((56 : Int32) + p2).toNatClampNeg) + (gi_ st0 2 ((88 : Int32) + p2).toNatClampNeg)).toInt64]) X hw hm_X5_tells (lw_V q1770 q1772 qs46 q121 q1773) ⟨rfl, rfl⟩ ⟨by rw [hRf]; exact Nat.le_of_ble_eq_true rfl, by rw [hRl]; exact Nat.le_of_ble_eq_true rfl⟩ fc_X5 rfl (hm0 hE) rfl rfl hl.1 (Nat.le_of_ble_eq_true rfl) dX5_suitsOf_42 (fun rQ stQ hQ => wX5_tells l E hE G (1 : Int32) p2 (gi_ st0 2 ((8 : Int32) + p2).toNatClampNeg) (gi_ st0 2 ((24 : Int32) + p2).toNatClampNeg) p1 (((gi_ st0 2 ((56 : Int32) + p2).toNatClampNeg) + (gi_ st0 2 ((88 : Int32) + p2).toNatClampNeg)).toInt64) st0 rQ stQ hQ) hf (fun x1 st2 H locs hw hf => ?_)
  refine lv_iconst (v := (0 : Int32)) hx hb dX5_suitsOf_45 (by decide) ?_
  refine lv_bipush (v := (99 : Int32)) hx hb dX5_suitsOf_46 (by decide) ?_
  refine fc_Si (rest := []) (As := [.long x1, .int (0 : Int32), .int (99 : Int32)]) X hw hm_X5_within (lw_S q1793 q1794 q121 q1795) ⟨rfl, rfl⟩ ⟨by rw [hRf]; exact Nat.le_of_ble_eq_true rfl, by rw [hRl]; exact Nat.le_of_ble_eq_true rfl⟩ rfl rfl hl.1 (Nat.le_of_ble_eq_true rfl) dX5_suitsOf_48 (fun rQ stQ hQ => wX5_within l E hE x1 (0 : Int32) (99 : Int32) st2 rQ stQ hQ) hf (fun x3 st4 H locs hw hf => ?_)
  exact fd_i hend hw hf dX5_suitsOf_51

/-- ForestRoomsModel.isBarred -/
def fX5_isBarred (G : Nat) (p1 : Int32) (p2 : Int32) (st0 : fo_St) : Option (Int32 × fo_St) := ck_ (fo_in ((8 : Int32) + p2) 5540) (ck_ (fo_in ((24 : Int32) + p2) 5540) (bd_ (fX5_tells G (4 : Int32) p2 (gi_ st0 2 ((8 : Int32) + p2).toNatClampNeg) (gi_ st0 2 ((24 : Int32) + p2).toNatClampNeg) p1 (0 : Int64) st0) (fun x1 st2 => if ¬ x1 = (1 : Int64) then some ((0 : Int32), st2) else some ((1 : Int32), st2))))
theorem hm_X5_isBarred : fo_M yX5_isBarred 2 := ⟨by decide +kernel, by decide +kernel, by decide +kernel, by decide +kernel⟩
set_option maxHeartbeats 4000000 in
theorem wX5_isBarred (l : Launch) (E : fo_E) (hE : ∀ n, et E n = tM_ n) (G : Nat) (p1 : Int32) (p2 : Int32) (st0 : fo_St) (rZ : Int32) (stZ : fo_St) (hf : fX5_isBarred G p1 p2 st0 = some (rZ, stZ)) : CTi l E yX5_isBarred (ws_ yX5_isBarred cX5_isBarred 3 (some .boolean)) ({ frames := 4, cells := 0, slots := 0, locals := 103 }) [.ref (eb E + 0), .int p1, .int p2] st0 rZ stZ := by
  refine fe_z hm_X5_isBarred (Nat.le_of_ble_eq_true rfl) (fun p e R s m args below meth c Q hRf hRl X hend ls hl hw => ?_)
  have hx := X.1.1
  have hb := X.1.2.1
  have hl : lv_has ls 3 [(0, .ref (eb E + 0)), (1, .int p1), (2, .int p2)] := hl
  unfold fX5_isBarred at hf
  generalize s.heap = H at hw ⊢
  generalize ([] : List Loc) = locs at hw ⊢
  refine lv_aload_n hx hb dX5_isBarred_0 rfl (lv_at hl 0 rfl) ?_
  refine lv_iconst (v := (4 : Int32)) hx hb dX5_isBarred_1 (by decide) ?_
  refine lv_iload_n hx hb dX5_isBarred_2 rfl (lv_at hl 2 rfl) ?_
  refine lv_aload_n hx hb dX5_isBarred_3 rfl (lv_at hl 0 rfl) ?_
  refine fo_gets X hw fc_X5 (hm0 hE) (k := 3) (d := 2) (n2 := 2) (by decide) rfl rfl q1521 dX5_isBarred_4 ?_
  refine lv_bipush (v := (8 : Int32)) hx hb dX5_isBarred_7 (by decide) ?_
  refine lv_iload_n hx hb dX5_isBarred_9 rfl (lv_at hl 2 rfl) ?_
  refine lv_iadd hx hb dX5_isBarred_10 ?_
  refine fo_iald X hw (hm2 hE) dX5_isBarred_11 hf (fun hf => ?_)
  refine lv_aload_n hx hb dX5_isBarred_12 rfl (lv_at hl 0 rfl) ?_
  refine fo_gets X hw fc_X5 (hm0 hE) (k := 3) (d := 2) (n2 := 2) (by decide) rfl rfl q1521 dX5_isBarred_13 ?_
  refine lv_bipush (v := (24 : Int32)) hx hb dX5_isBarred_16 (by decide) ?_
  refine lv_iload_n hx hb dX5_isBarred_18 rfl (lv_at hl 2 rfl) ?_
  refine lv_iadd hx hb dX5_isBarred_19 ?_
  refine fo_iald X hw (hm2 hE) dX5_isBarred_20 hf (fun hf => ?_)
  refine lv_iload_n hx hb dX5_isBarred_21 rfl (lv_at hl 1 rfl) ?_
  refine lv_lconst (v := (0 : Int64)) hx hb dX5_isBarred_22 rfl ?_
  refine fc_Vl (rest := []) (As := [.int (4 : Int32), .int p2, .int (gi_ st0 2 ((8 : Int32) + p2).toNatClampNeg), .int (gi_ st0 2 ((24 : Int32) + p2).toNatClampNeg), .int p1, .long (0 : Int64)]) X hw hm_X5_tells (lw_V q1770 q1772 qs46 q121 q1773) ⟨rfl, rfl⟩ ⟨by rw [hRf]; exact Nat.le_of_ble_eq_true rfl, by rw [hRl]; exact Nat.le_of_ble_eq_true rfl⟩ fc_X5 rfl (hm0 hE) rfl rfl hl.1 (Nat.le_of_ble_eq_true rfl) dX5_isBarred_23 (fun rQ stQ hQ => wX5_tells l E hE G (4 : Int32) p2 (gi_ st0 2 ((8 : Int32) + p2).toNatClampNeg) (gi_ st0 2 ((24 : Int32) + p2).toNatClampNeg) p1 (0 : Int64) st0 rQ stQ hQ) hf (fun x1 st2 H locs hw hf => ?_)
  refine lv_lconst (v := (1 : Int64)) hx hb dX5_isBarred_26 rfl ?_
  refine fb_lne (tgt := 35) hx hb dX5_isBarred_27 dX5_isBarred_28 (by decide) hf (fun hf => ?_) (fun hf => ?_)
  · refine lv_iconst (v := (0 : Int32)) hx hb dX5_isBarred_35 (by decide) ?_
    exact fd_z hend hw rfl hf dX5_isBarred_36
  refine lv_iconst (v := (1 : Int32)) hx hb dX5_isBarred_31 (by decide) ?_
  refine lv_goto (tgt := 36) hx hb dX5_isBarred_32 (by decide) ?_
  exact fd_z hend hw rfl hf dX5_isBarred_36

/-- ForestRoomsModel.roomOf -/
def fX5_roomOf (G : Nat) (p1 : Int32) (st0 : fo_St) : Option (Int32 × fo_St) := lp3_ (fun rec4 (x1 : Int32) (x2 : Int32) (st3 : fo_St) => if (16 : Int32) ≤ x1 then some (x2, st3) else ck_ (fo_in ((40 : Int32) + x1) 5540) (if ¬ (gi_ st3 2 ((40 : Int32) + x1).toNatClampNeg) = p1 then rec4 (x1 + (1 : Int32)) x2 st3 else rec4 (x1 + (1 : Int32)) x1 st3)) G (0 : Int32) (-1 : Int32) st0
theorem hm_X5_roomOf : fo_M yX5_roomOf 1 := ⟨by decide +kernel, by decide +kernel, by decide +kernel, by decide +kernel⟩
set_option maxHeartbeats 4000000 in
theorem wX5_roomOf (l : Launch) (E : fo_E) (hE : ∀ n, et E n = tM_ n) (G : Nat) (p1 : Int32) (st0 : fo_St) (rZ : Int32) (stZ : fo_St) (hf : fX5_roomOf G p1 st0 = some (rZ, stZ)) : CTi l E yX5_roomOf (ws_ yX5_roomOf cX5_roomOf 4 (some .int)) ({ frames := 0, cells := 0, slots := 0, locals := 0 }) [.ref (eb E + 0), .int p1] st0 rZ stZ := by
  refine fe_i hm_X5_roomOf (Nat.le_of_ble_eq_true rfl) (fun p e R s m args below meth c Q hRf hRl X hend ls hl hw => ?_)
  have hx := X.1.1
  have hb := X.1.2.1
  have hl : lv_has ls 4 [(0, .ref (eb E + 0)), (1, .int p1)] := hl
  unfold fX5_roomOf at hf
  generalize s.heap = H at hw ⊢
  generalize ([] : List Loc) = locs at hw ⊢
  refine lv_iconst (v := (-1 : Int32)) hx hb dX5_roomOf_0 (by decide) ?_
  refine lv_istore_n (lv' := [(2, .int (-1 : Int32)), (0, .ref (eb E + 0)), (1, .int p1)]) hx hb dX5_roomOf_1 rfl hl (by decide) rfl (fun ls hl => ?_)
  refine lv_iconst (v := (0 : Int32)) hx hb dX5_roomOf_2 (by decide) ?_
  refine lv_istore_n (lv' := [(3, .int (0 : Int32)), (2, .int (-1 : Int32)), (0, .ref (eb E + 0)), (1, .int p1)]) hx hb dX5_roomOf_3 rfl hl (by decide) rfl (fun ls hl => ?_)
  refine lp3_e (P := fun x1 x2 st3 => ∀ (H : Heap) (locs : List Loc) (ls : Array Slot), lv_has ls 4 [(3, .int x1), (2, .int x2), (0, .ref (eb E + 0)), (1, .int p1)] → fo_S E s st3 H locs → W p l e R s m args below meth c H locs 0 0 Q (F0 m 4 ls [])) (fun rec4 hrec4 x1 x2 st3 hf => ?_) G _ _ _ hf H locs ls (lv_sub hl [0, 1, 2, 3] rfl) hw
  intro H locs ls hl hw
  refine lv_iload_n hx hb dX5_roomOf_4 rfl (lv_at hl 0 rfl) ?_
  refine lv_bipush (v := (16 : Int32)) hx hb dX5_roomOf_5 (by decide) ?_
  refine fb_ige (tgt := 35) hx hb dX5_roomOf_7 (by decide) hf (fun hf => ?_) (fun hf => ?_)
  · refine lv_iload_n hx hb dX5_roomOf_35 rfl (lv_at hl 1 rfl) ?_
    exact fd_i hend hw hf dX5_roomOf_36
  refine lv_aload_n hx hb dX5_roomOf_10 rfl (lv_at hl 2 rfl) ?_
  refine fo_gets X hw fc_X5 (hm0 hE) (k := 3) (d := 2) (n2 := 2) (by decide) rfl rfl q1521 dX5_roomOf_11 ?_
  refine lv_bipush (v := (40 : Int32)) hx hb dX5_roomOf_14 (by decide) ?_
  refine lv_iload_n hx hb dX5_roomOf_16 rfl (lv_at hl 0 rfl) ?_
  refine lv_iadd hx hb dX5_roomOf_17 ?_
  refine fo_iald X hw (hm2 hE) dX5_roomOf_18 hf (fun hf => ?_)
  refine lv_iload_n hx hb dX5_roomOf_19 rfl (lv_at hl 3 rfl) ?_
  refine fb_ine (tgt := 27) hx hb dX5_roomOf_20 (by decide) hf (fun hf => ?_) (fun hf => ?_)
  · refine lv_iload_n hx hb dX5_roomOf_27 rfl (lv_at hl 1 rfl) ?_
    refine lv_istore_n (lv' := [(2, .int x2), (3, .int x1), (0, .ref (eb E + 0)), (1, .int p1)]) hx hb dX5_roomOf_28 rfl hl (by decide) rfl (fun ls hl => ?_)
    refine fb_iinc (v := (1 : Int32)) (lv' := [(3, .int (x1 + (1 : Int32))), (2, .int x2), (0, .ref (eb E + 0)), (1, .int p1)]) hx hb dX5_roomOf_29 hl (k := 1) rfl (by decide) (by decide) rfl (fun ls hl => ?_)
    refine lv_goto (tgt := 4) hx hb dX5_roomOf_32 (by decide) ?_
    exact hrec4 _ _ _ hf _ _ _ (lv_sub hl [0, 1, 2, 3] rfl) hw
  refine lv_iload_n hx hb dX5_roomOf_23 rfl (lv_at hl 0 rfl) ?_
  refine lv_goto (tgt := 28) hx hb dX5_roomOf_24 (by decide) ?_
  refine lv_istore_n (lv' := [(2, .int x1), (3, .int x1), (0, .ref (eb E + 0)), (1, .int p1)]) hx hb dX5_roomOf_28 rfl hl (by decide) rfl (fun ls hl => ?_)
  refine fb_iinc (v := (1 : Int32)) (lv' := [(3, .int (x1 + (1 : Int32))), (2, .int x1), (0, .ref (eb E + 0)), (1, .int p1)]) hx hb dX5_roomOf_29 hl (k := 1) rfl (by decide) (by decide) rfl (fun ls hl => ?_)
  refine lv_goto (tgt := 4) hx hb dX5_roomOf_32 (by decide) ?_
  exact hrec4 _ _ _ hf _ _ _ (lv_sub hl [0, 1, 2, 3] rfl) hw

/-- ForestRoomsModel.asks -/
def fX5_asks (G : Nat) (p1 : Int32) (p2 : Int32) (p3 : Int32) (st0 : fo_St) : Option (Int32 × fo_St) := lt_ (si_ st0 0 0 (0 : Int32)) (fun st1 => bd_ (fX5_in (p1.toInt64) (0 : Int64) (5 : Int64) st1) (fun x2 st3 => if x2 = 0 then some ((-1 : Int32), st3) else bd_ (fX5_in (p3.toInt64) (0 : Int64) (2 : Int64) st3) (fun x4 st5 => if x4 = 0 then some ((-1 : Int32), st5) else if (2 : Int32) ≤ p3 then if ¬ p3 = 0 then if ¬ p3 = (1 : Int32) then bd_ (fX5_roomOf G p1 st5) (fun x6 st7 => some (x6, st7)) else bd_ (fX5_isBarred G p1 p2 st5) (fun x8 st9 => if x8 = 0 then some ((0 : Int32), st9) else some ((1 : Int32), st9)) else bd_ (fX5_suitsOf G p1 p2 st5) (fun x10 st11 => some (x10, st11)) else bd_ (fX5_isRoom p2 st5) (fun x12 st13 => if ¬ x12 = 0 then if ¬ p3 = 0 then if ¬ p3 = (1 : Int32) then bd_ (fX5_roomOf G p1 st13) (fun x14 st15 => some (x14, st15)) else bd_ (fX5_isBarred G p1 p2 st13) (fun x16 st17 => if x16 = 0 then some ((0 : Int32), st17) else some ((1 : Int32), st17)) else bd_ (fX5_suitsOf G p1 p2 st13) (fun x18 st19 => some (x18, st19)) else some ((-1 : Int32), st13)))))
theorem hm_X5_asks : fo_M yX5_asks 3 := ⟨by decide +kernel, by decide +kernel, by decide +kernel, by decide +kernel⟩
set_option maxHeartbeats 4000000 in
theorem wX5_asks (l : Launch) (E : fo_E) (hE : ∀ n, et E n = tM_ n) (G : Nat) (p1 : Int32) (p2 : Int32) (p3 : Int32) (st0 : fo_St) (rZ : Int32) (stZ : fo_St) (hf : fX5_asks G p1 p2 p3 st0 = some (rZ, stZ)) : CTi l E yX5_asks (ws_ yX5_asks cX5_asks 4 (some .int)) ({ frames := 5, cells := 0, slots := 0, locals := 125 }) [.ref (eb E + 0), .int p1, .int p2, .int p3] st0 rZ stZ := by
  refine fe_i hm_X5_asks (Nat.le_of_ble_eq_true rfl) (fun p e R s m args below meth c Q hRf hRl X hend ls hl hw => ?_)
  have hx := X.1.1
  have hb := X.1.2.1
  have hl : lv_has ls 4 [(0, .ref (eb E + 0)), (1, .int p1), (2, .int p2), (3, .int p3)] := hl
  unfold fX5_asks at hf
  generalize s.heap = H at hw ⊢
  generalize ([] : List Loc) = locs at hw ⊢
  refine lv_aload_n hx hb dX5_asks_0 rfl (lv_at hl 0 rfl) ?_
  refine lv_iconst (v := (0 : Int32)) hx hb dX5_asks_1 (by decide) ?_
  refine fo_puti X hw fc_X5 (hm0 hE) (k := 0) (by decide) rfl rfl q1518 ⟨rfl, rfl⟩ dX5_asks_2 hf (fun st1 H locs hw hf => ?_)
  refine lv_iload_n hx hb dX5_asks_5 rfl (lv_at hl 1 rfl) ?_
  refine lv_i2l (v := p1.toInt64) hx hb dX5_asks_6 rfl ?_
  refine lv_lconst (v := (0 : Int64)) hx hb dX5_asks_7 rfl ?_
  refine lv_ldc2 (v := (5 : Int64)) hx hb X.1.2.2.2.1 (X.1.2.2.2.2 _ q1804) dX5_asks_8 ?_
  refine fc_Si (rest := []) (As := [.long p1.toInt64, .long (0 : Int64), .long (5 : Int64)]) X hw hm_X5_in (lw_S q1722 q1723 q121 q1724) ⟨rfl, rfl⟩ ⟨by rw [hRf]; exact Nat.le_of_ble_eq_true rfl, by rw [hRl]; exact Nat.le_of_ble_eq_true rfl⟩ rfl rfl hl.1 (Nat.le_of_ble_eq_true rfl) dX5_asks_11 (fun rQ stQ hQ => wX5_in l E hE (p1.toInt64) (0 : Int64) (5 : Int64) st1 rQ stQ hQ) hf (fun x2 st3 H locs hw hf => ?_)
  refine fb_zeq (tgt := 41) hx hb dX5_asks_14 (by decide) hf (fun hf => ?_) (fun hf => ?_)
  · refine lv_iconst (v := (-1 : Int32)) hx hb dX5_asks_41 (by decide) ?_
    exact fd_i hend hw hf dX5_asks_42
  refine lv_iload_n hx hb dX5_asks_17 rfl (lv_at hl 3 rfl) ?_
  refine lv_i2l (v := p3.toInt64) hx hb dX5_asks_18 rfl ?_
  refine lv_lconst (v := (0 : Int64)) hx hb dX5_asks_19 rfl ?_
  refine lv_ldc2 (v := (2 : Int64)) hx hb X.1.2.2.2.1 (X.1.2.2.2.2 _ q1962) dX5_asks_20 ?_
  refine fc_Si (rest := []) (As := [.long p3.toInt64, .long (0 : Int64), .long (2 : Int64)]) X hw hm_X5_in (lw_S q1722 q1723 q121 q1724) ⟨rfl, rfl⟩ ⟨by rw [hRf]; exact Nat.le_of_ble_eq_true rfl, by rw [hRl]; exact Nat.le_of_ble_eq_true rfl⟩ rfl rfl hl.1 (Nat.le_of_ble_eq_true rfl) dX5_asks_23 (fun rQ stQ hQ => wX5_in l E hE (p3.toInt64) (0 : Int64) (2 : Int64) st3 rQ stQ hQ) hf (fun x4 st5 H locs hw hf => ?_)
  refine fb_zeq (tgt := 41) hx hb dX5_asks_26 (by decide) hf (fun hf => ?_) (fun hf => ?_)
  · refine lv_iconst (v := (-1 : Int32)) hx hb dX5_asks_41 (by decide) ?_
    exact fd_i hend hw hf dX5_asks_42
  refine lv_iload_n hx hb dX5_asks_29 rfl (lv_at hl 3 rfl) ?_
  refine lv_iconst (v := (2 : Int32)) hx hb dX5_asks_30 (by decide) ?_
  refine fb_ige (tgt := 43) hx hb dX5_asks_31 (by decide) hf (fun hf => ?_) (fun hf => ?_)
  · refine lv_iload_n hx hb dX5_asks_43 rfl (lv_at hl 3 rfl) ?_
    refine fb_zne (tgt := 56) hx hb dX5_asks_44 (by decide) hf (fun hf => ?_) (fun hf => ?_)
    · refine lv_iload_n hx hb dX5_asks_56 rfl (lv_at hl 3 rfl) ?_
      refine lv_iconst (v := (1 : Int32)) hx hb dX5_asks_57 (by decide) ?_
      refine fb_ine (tgt := 78) hx hb dX5_asks_58 (by decide) hf (fun hf => ?_) (fun hf => ?_)
      · refine lv_aload_n hx hb dX5_asks_78 rfl (lv_at hl 0 rfl) ?_
        refine lv_iload_n hx hb dX5_asks_79 rfl (lv_at hl 1 rfl) ?_
        refine fc_Vi (rest := []) (As := [.int p1]) X hw hm_X5_roomOf (lw_V q1971 q1973 qs78 q121 q1974) ⟨rfl, rfl⟩ ⟨by rw [hRf]; exact Nat.le_of_ble_eq_true rfl, by rw [hRl]; exact Nat.le_of_ble_eq_true rfl⟩ fc_X5 rfl (hm0 hE) rfl rfl hl.1 (Nat.le_of_ble_eq_true rfl) dX5_asks_80 (fun rQ stQ hQ => wX5_roomOf l E hE G p1 st5 rQ stQ hQ) hf (fun x6 st7 H locs hw hf => ?_)
        exact fd_i hend hw hf dX5_asks_83
      refine lv_aload_n hx hb dX5_asks_61 rfl (lv_at hl 0 rfl) ?_
      refine lv_iload_n hx hb dX5_asks_62 rfl (lv_at hl 1 rfl) ?_
      refine lv_iload_n hx hb dX5_asks_63 rfl (lv_at hl 2 rfl) ?_
      refine fc_Vi (rest := []) (As := [.int p1, .int p2]) X hw hm_X5_isBarred (lw_V q1967 q1969 qs77 q121 q1970) ⟨rfl, rfl⟩ ⟨by rw [hRf]; exact Nat.le_of_ble_eq_true rfl, by rw [hRl]; exact Nat.le_of_ble_eq_true rfl⟩ fc_X5 rfl (hm0 hE) rfl rfl hl.1 (Nat.le_of_ble_eq_true rfl) dX5_asks_64 (fun rQ stQ hQ => wX5_isBarred l E hE G p1 p2 st5 rQ stQ hQ) hf (fun x8 st9 H locs hw hf => ?_)
      refine fb_zeq (tgt := 74) hx hb dX5_asks_67 (by decide) hf (fun hf => ?_) (fun hf => ?_)
      · refine lv_iconst (v := (0 : Int32)) hx hb dX5_asks_74 (by decide) ?_
        refine lv_goto (tgt := 83) hx hb dX5_asks_75 (by decide) ?_
        exact fd_i hend hw hf dX5_asks_83
      refine lv_iconst (v := (1 : Int32)) hx hb dX5_asks_70 (by decide) ?_
      refine lv_goto (tgt := 83) hx hb dX5_asks_71 (by decide) ?_
      exact fd_i hend hw hf dX5_asks_83
    refine lv_aload_n hx hb dX5_asks_47 rfl (lv_at hl 0 rfl) ?_
    refine lv_iload_n hx hb dX5_asks_48 rfl (lv_at hl 1 rfl) ?_
    refine lv_iload_n hx hb dX5_asks_49 rfl (lv_at hl 2 rfl) ?_
    refine fc_Vi (rest := []) (As := [.int p1, .int p2]) X hw hm_X5_suitsOf (lw_V q1963 q1965 qs76 q121 q1966) ⟨rfl, rfl⟩ ⟨by rw [hRf]; exact Nat.le_of_ble_eq_true rfl, by rw [hRl]; exact Nat.le_of_ble_eq_true rfl⟩ fc_X5 rfl (hm0 hE) rfl rfl hl.1 (Nat.le_of_ble_eq_true rfl) dX5_asks_50 (fun rQ stQ hQ => wX5_suitsOf l E hE G p1 p2 st5 rQ stQ hQ) hf (fun x10 st11 H locs hw hf => ?_)
    refine lv_goto (tgt := 83) hx hb dX5_asks_53 (by decide) ?_
    exact fd_i hend hw hf dX5_asks_83
  refine lv_iload_n hx hb dX5_asks_34 rfl (lv_at hl 2 rfl) ?_
  refine fc_Si (rest := []) (As := [.int p2]) X hw hm_X5_isRoom (lw_S q1737 q1738 q121 q1739) ⟨rfl, rfl⟩ ⟨by rw [hRf]; exact Nat.le_of_ble_eq_true rfl, by rw [hRl]; exact Nat.le_of_ble_eq_true rfl⟩ rfl rfl hl.1 (Nat.le_of_ble_eq_true rfl) dX5_asks_35 (fun rQ stQ hQ => wX5_isRoom l E hE p2 st5 rQ stQ hQ) hf (fun x12 st13 H locs hw hf => ?_)
  refine fb_zne (tgt := 43) hx hb dX5_asks_38 (by decide) hf (fun hf => ?_) (fun hf => ?_)
  · refine lv_iload_n hx hb dX5_asks_43 rfl (lv_at hl 3 rfl) ?_
    refine fb_zne (tgt := 56) hx hb dX5_asks_44 (by decide) hf (fun hf => ?_) (fun hf => ?_)
    · refine lv_iload_n hx hb dX5_asks_56 rfl (lv_at hl 3 rfl) ?_
      refine lv_iconst (v := (1 : Int32)) hx hb dX5_asks_57 (by decide) ?_
      refine fb_ine (tgt := 78) hx hb dX5_asks_58 (by decide) hf (fun hf => ?_) (fun hf => ?_)
      · refine lv_aload_n hx hb dX5_asks_78 rfl (lv_at hl 0 rfl) ?_
        refine lv_iload_n hx hb dX5_asks_79 rfl (lv_at hl 1 rfl) ?_
        refine fc_Vi (rest := []) (As := [.int p1]) X hw hm_X5_roomOf (lw_V q1971 q1973 qs78 q121 q1974) ⟨rfl, rfl⟩ ⟨by rw [hRf]; exact Nat.le_of_ble_eq_true rfl, by rw [hRl]; exact Nat.le_of_ble_eq_true rfl⟩ fc_X5 rfl (hm0 hE) rfl rfl hl.1 (Nat.le_of_ble_eq_true rfl) dX5_asks_80 (fun rQ stQ hQ => wX5_roomOf l E hE G p1 st13 rQ stQ hQ) hf (fun x14 st15 H locs hw hf => ?_)
        exact fd_i hend hw hf dX5_asks_83
      refine lv_aload_n hx hb dX5_asks_61 rfl (lv_at hl 0 rfl) ?_
      refine lv_iload_n hx hb dX5_asks_62 rfl (lv_at hl 1 rfl) ?_
      refine lv_iload_n hx hb dX5_asks_63 rfl (lv_at hl 2 rfl) ?_
      refine fc_Vi (rest := []) (As := [.int p1, .int p2]) X hw hm_X5_isBarred (lw_V q1967 q1969 qs77 q121 q1970) ⟨rfl, rfl⟩ ⟨by rw [hRf]; exact Nat.le_of_ble_eq_true rfl, by rw [hRl]; exact Nat.le_of_ble_eq_true rfl⟩ fc_X5 rfl (hm0 hE) rfl rfl hl.1 (Nat.le_of_ble_eq_true rfl) dX5_asks_64 (fun rQ stQ hQ => wX5_isBarred l E hE G p1 p2 st13 rQ stQ hQ) hf (fun x16 st17 H locs hw hf => ?_)
      refine fb_zeq (tgt := 74) hx hb dX5_asks_67 (by decide) hf (fun hf => ?_) (fun hf => ?_)
      · refine lv_iconst (v := (0 : Int32)) hx hb dX5_asks_74 (by decide) ?_
        refine lv_goto (tgt := 83) hx hb dX5_asks_75 (by decide) ?_
        exact fd_i hend hw hf dX5_asks_83
      refine lv_iconst (v := (1 : Int32)) hx hb dX5_asks_70 (by decide) ?_
      refine lv_goto (tgt := 83) hx hb dX5_asks_71 (by decide) ?_
      exact fd_i hend hw hf dX5_asks_83
    refine lv_aload_n hx hb dX5_asks_47 rfl (lv_at hl 0 rfl) ?_
    refine lv_iload_n hx hb dX5_asks_48 rfl (lv_at hl 1 rfl) ?_
    refine lv_iload_n hx hb dX5_asks_49 rfl (lv_at hl 2 rfl) ?_
    refine fc_Vi (rest := []) (As := [.int p1, .int p2]) X hw hm_X5_suitsOf (lw_V q1963 q1965 qs76 q121 q1966) ⟨rfl, rfl⟩ ⟨by rw [hRf]; exact Nat.le_of_ble_eq_true rfl, by rw [hRl]; exact Nat.le_of_ble_eq_true rfl⟩ fc_X5 rfl (hm0 hE) rfl rfl hl.1 (Nat.le_of_ble_eq_true rfl) dX5_asks_50 (fun rQ stQ hQ => wX5_suitsOf l E hE G p1 p2 st13 rQ stQ hQ) hf (fun x18 st19 H locs hw hf => ?_)
    refine lv_goto (tgt := 83) hx hb dX5_asks_53 (by decide) ?_
    exact fd_i hend hw hf dX5_asks_83
  refine lv_iconst (v := (-1 : Int32)) hx hb dX5_asks_41 (by decide) ?_
  exact fd_i hend hw hf dX5_asks_42

/-- ForestRoomsModel.tellsComing -/
def fX5_tellsComing (G : Nat) (st0 : fo_St) : Option (Int32 × fo_St) := lp3_ (fun rec4 (x1 : Int32) (x2 : Int32) (st3 : fo_St) => if (gi_ st3 2 (2 : Int32).toNatClampNeg) = (-1 : Int32) then ck_ (decide (x2 = 0 ∨ x2 = 1)) (some (x2, st3)) else ck_ (fo_in (((140 : Int32) + ((900 : Int32) * (gi_ st3 2 (2 : Int32).toNatClampNeg))) + (1 : Int32)) 5540) (if (gi_ st3 2 (((140 : Int32) + ((900 : Int32) * (gi_ st3 2 (2 : Int32).toNatClampNeg))) + (1 : Int32)).toNatClampNeg) ≤ x1 then ck_ (decide (x2 = 0 ∨ x2 = 1)) (some (x2, st3)) else if ¬ x2 = 0 then rec4 (x1 + (1 : Int32)) (1 : Int32) st3 else ck_ (fo_in ((((140 : Int32) + ((900 : Int32) * (gi_ st3 2 (2 : Int32).toNatClampNeg))) + (2 : Int32)) + ((8 : Int32) * x1)) 5540) (if ¬ (gi_ st3 2 ((((140 : Int32) + ((900 : Int32) * (gi_ st3 2 (2 : Int32).toNatClampNeg))) + (2 : Int32)) + ((8 : Int32) * x1)).toNatClampNeg) = (3 : Int32) then rec4 (x1 + (1 : Int32)) (0 : Int32) st3 else rec4 (x1 + (1 : Int32)) (1 : Int32) st3))) G (0 : Int32) (0 : Int32) st0
theorem hm_X5_tellsComing : fo_M yX5_tellsComing 0 := ⟨by decide +kernel, by decide +kernel, by decide +kernel, by decide +kernel⟩
set_option maxHeartbeats 4000000 in
theorem wX5_tellsComing (l : Launch) (E : fo_E) (hE : ∀ n, et E n = tM_ n) (G : Nat) (st0 : fo_St) (rZ : Int32) (stZ : fo_St) (hf : fX5_tellsComing G st0 = some (rZ, stZ)) : CTi l E yX5_tellsComing (ws_ yX5_tellsComing cX5_tellsComing 3 (some .boolean)) ({ frames := 0, cells := 0, slots := 0, locals := 0 }) [.ref (eb E + 0)] st0 rZ stZ := by
  refine fe_z hm_X5_tellsComing (Nat.le_of_ble_eq_true rfl) (fun p e R s m args below meth c Q hRf hRl X hend ls hl hw => ?_)
  have hx := X.1.1
  have hb := X.1.2.1
  have hl : lv_has ls 3 [(0, .ref (eb E + 0))] := hl
  unfold fX5_tellsComing at hf
  generalize s.heap = H at hw ⊢
  generalize ([] : List Loc) = locs at hw ⊢
  refine lv_iconst (v := (0 : Int32)) hx hb dX5_tellsComing_0 (by decide) ?_
  refine lv_istore_n (lv' := [(1, .int (0 : Int32)), (0, .ref (eb E + 0))]) hx hb dX5_tellsComing_1 rfl hl (by decide) rfl (fun ls hl => ?_)
  refine lv_iconst (v := (0 : Int32)) hx hb dX5_tellsComing_2 (by decide) ?_
  refine lv_istore_n (lv' := [(2, .int (0 : Int32)), (1, .int (0 : Int32)), (0, .ref (eb E + 0))]) hx hb dX5_tellsComing_3 rfl hl (by decide) rfl (fun ls hl => ?_)
  refine lp3_e (P := fun x1 x2 st3 => ∀ (H : Heap) (locs : List Loc) (ls : Array Slot), lv_has ls 3 [(2, .int x1), (1, .int x2), (0, .ref (eb E + 0))] → fo_S E s st3 H locs → W p l e R s m args below meth c H locs 0 0 Q (F0 m 4 ls [])) (fun rec4 hrec4 x1 x2 st3 hf => ?_) G _ _ _ hf H locs ls (lv_sub hl [0, 1, 2] rfl) hw
  intro H locs ls hl hw
  refine lv_aload_n hx hb dX5_tellsComing_4 rfl (lv_at hl 2 rfl) ?_
  refine fo_gets X hw fc_X5 (hm0 hE) (k := 3) (d := 2) (n2 := 2) (by decide) rfl rfl q1521 dX5_tellsComing_5 ?_
  refine lv_iconst (v := (2 : Int32)) hx hb dX5_tellsComing_8 (by decide) ?_
  refine fo_ialdK X hw (hm2 hE) dX5_tellsComing_9 (by decide) ?_
  refine lv_iconst (v := (-1 : Int32)) hx hb dX5_tellsComing_10 (by decide) ?_
  refine fb_ieq (tgt := 85) hx hb dX5_tellsComing_11 (by decide) hf (fun hf => ?_) (fun hf => ?_)
  · refine lv_iload_n hx hb dX5_tellsComing_85 rfl (lv_at hl 1 rfl) ?_
    obtain ⟨hz, hf⟩ := ck_e hf
    exact fd_z hend hw (fo_z hz).1 hf dX5_tellsComing_86
  refine lv_iload_n hx hb dX5_tellsComing_14 rfl (lv_at hl 0 rfl) ?_
  refine lv_aload_n hx hb dX5_tellsComing_15 rfl (lv_at hl 2 rfl) ?_
  refine fo_gets X hw fc_X5 (hm0 hE) (k := 3) (d := 2) (n2 := 2) (by decide) rfl rfl q1521 dX5_tellsComing_16 ?_
  refine lv_sipush (v := (140 : Int32)) hx hb dX5_tellsComing_19 (by decide) ?_
  refine lv_sipush (v := (900 : Int32)) hx hb dX5_tellsComing_22 (by decide) ?_
  refine lv_aload_n hx hb dX5_tellsComing_25 rfl (lv_at hl 2 rfl) ?_
  refine fo_gets X hw fc_X5 (hm0 hE) (k := 3) (d := 2) (n2 := 2) (by decide) rfl rfl q1521 dX5_tellsComing_26 ?_
  refine lv_iconst (v := (2 : Int32)) hx hb dX5_tellsComing_29 (by decide) ?_
  refine fo_ialdK X hw (hm2 hE) dX5_tellsComing_30 (by decide) ?_
  refine lv_imul hx hb dX5_tellsComing_31 ?_
  refine lv_iadd hx hb dX5_tellsComing_32 ?_
  refine lv_iconst (v := (1 : Int32)) hx hb dX5_tellsComing_33 (by decide) ?_
  refine lv_iadd hx hb dX5_tellsComing_34 ?_
  refine fo_iald X hw (hm2 hE) dX5_tellsComing_35 hf (fun hf => ?_)
  refine fb_ige (tgt := 85) hx hb dX5_tellsComing_36 (by decide) hf (fun hf => ?_) (fun hf => ?_)
  · refine lv_iload_n hx hb dX5_tellsComing_85 rfl (lv_at hl 1 rfl) ?_
    obtain ⟨hz, hf⟩ := ck_e hf
    exact fd_z hend hw (fo_z hz).1 hf dX5_tellsComing_86
  refine lv_iload_n hx hb dX5_tellsComing_39 rfl (lv_at hl 1 rfl) ?_
  refine fb_zne (tgt := 73) hx hb dX5_tellsComing_40 (by decide) hf (fun hf => ?_) (fun hf => ?_)
  · refine lv_iconst (v := (1 : Int32)) hx hb dX5_tellsComing_73 (by decide) ?_
    refine lv_goto (tgt := 78) hx hb dX5_tellsComing_74 (by decide) ?_
    refine lv_istore_n (lv' := [(1, .int (1 : Int32)), (2, .int x1), (0, .ref (eb E + 0))]) hx hb dX5_tellsComing_78 rfl hl (by decide) rfl (fun ls hl => ?_)
    refine fb_iinc (v := (1 : Int32)) (lv' := [(2, .int (x1 + (1 : Int32))), (1, .int (1 : Int32)), (0, .ref (eb E + 0))]) hx hb dX5_tellsComing_79 hl (k := 1) rfl (by decide) (by decide) rfl (fun ls hl => ?_)
    refine lv_goto (tgt := 4) hx hb dX5_tellsComing_82 (by decide) ?_
    exact hrec4 _ _ _ hf _ _ _ (lv_sub hl [0, 1, 2] rfl) hw
  refine lv_aload_n hx hb dX5_tellsComing_43 rfl (lv_at hl 2 rfl) ?_
  refine fo_gets X hw fc_X5 (hm0 hE) (k := 3) (d := 2) (n2 := 2) (by decide) rfl rfl q1521 dX5_tellsComing_44 ?_
  refine lv_sipush (v := (140 : Int32)) hx hb dX5_tellsComing_47 (by decide) ?_
  refine lv_sipush (v := (900 : Int32)) hx hb dX5_tellsComing_50 (by decide) ?_
  refine lv_aload_n hx hb dX5_tellsComing_53 rfl (lv_at hl 2 rfl) ?_
  refine fo_gets X hw fc_X5 (hm0 hE) (k := 3) (d := 2) (n2 := 2) (by decide) rfl rfl q1521 dX5_tellsComing_54 ?_
  refine lv_iconst (v := (2 : Int32)) hx hb dX5_tellsComing_57 (by decide) ?_
  refine fo_ialdK X hw (hm2 hE) dX5_tellsComing_58 (by decide) ?_
  refine lv_imul hx hb dX5_tellsComing_59 ?_
  refine lv_iadd hx hb dX5_tellsComing_60 ?_
  refine lv_iconst (v := (2 : Int32)) hx hb dX5_tellsComing_61 (by decide) ?_
  refine lv_iadd hx hb dX5_tellsComing_62 ?_
  refine lv_bipush (v := (8 : Int32)) hx hb dX5_tellsComing_63 (by decide) ?_
  refine lv_iload_n hx hb dX5_tellsComing_65 rfl (lv_at hl 0 rfl) ?_
  refine lv_imul hx hb dX5_tellsComing_66 ?_
  refine lv_iadd hx hb dX5_tellsComing_67 ?_
  refine fo_iald X hw (hm2 hE) dX5_tellsComing_68 hf (fun hf => ?_)
  refine lv_iconst (v := (3 : Int32)) hx hb dX5_tellsComing_69 (by decide) ?_
  refine fb_ine (tgt := 77) hx hb dX5_tellsComing_70 (by decide) hf (fun hf => ?_) (fun hf => ?_)
  · refine lv_iconst (v := (0 : Int32)) hx hb dX5_tellsComing_77 (by decide) ?_
    refine lv_istore_n (lv' := [(1, .int (0 : Int32)), (2, .int x1), (0, .ref (eb E + 0))]) hx hb dX5_tellsComing_78 rfl hl (by decide) rfl (fun ls hl => ?_)
    refine fb_iinc (v := (1 : Int32)) (lv' := [(2, .int (x1 + (1 : Int32))), (1, .int (0 : Int32)), (0, .ref (eb E + 0))]) hx hb dX5_tellsComing_79 hl (k := 1) rfl (by decide) (by decide) rfl (fun ls hl => ?_)
    refine lv_goto (tgt := 4) hx hb dX5_tellsComing_82 (by decide) ?_
    exact hrec4 _ _ _ hf _ _ _ (lv_sub hl [0, 1, 2] rfl) hw
  refine lv_iconst (v := (1 : Int32)) hx hb dX5_tellsComing_73 (by decide) ?_
  refine lv_goto (tgt := 78) hx hb dX5_tellsComing_74 (by decide) ?_
  refine lv_istore_n (lv' := [(1, .int (1 : Int32)), (2, .int x1), (0, .ref (eb E + 0))]) hx hb dX5_tellsComing_78 rfl hl (by decide) rfl (fun ls hl => ?_)
  refine fb_iinc (v := (1 : Int32)) (lv' := [(2, .int (x1 + (1 : Int32))), (1, .int (1 : Int32)), (0, .ref (eb E + 0))]) hx hb dX5_tellsComing_79 hl (k := 1) rfl (by decide) (by decide) rfl (fun ls hl => ?_)
  refine lv_goto (tgt := 4) hx hb dX5_tellsComing_82 (by decide) ?_
  exact hrec4 _ _ _ hf _ _ _ (lv_sub hl [0, 1, 2] rfl) hw

/-- ForestRoomsModel.canCome -/
def fX5_canCome (G : Nat) (p1 : Int32) (p2 : Int32) (p3 : Int32) (st0 : fo_St) : Option (Int32 × fo_St) := bd_ (fX5_tellsComing G st0) (fun x1 st2 => if x1 = 0 then bd_ (fX5_hasItsNeeds p1 p2 st2) (fun x3 st4 => ck_ (decide (x3 = 0 ∨ x3 = 1)) (some (x3, st4))) else bd_ (fX5_tells G (3 : Int32) p2 p1 p3 (-1 : Int32) (0 : Int64) st2) (fun x5 st6 => if ¬ x5 = (1 : Int64) then some ((0 : Int32), st6) else some ((1 : Int32), st6)))
theorem hm_X5_canCome : fo_M yX5_canCome 3 := ⟨by decide +kernel, by decide +kernel, by decide +kernel, by decide +kernel⟩
set_option maxHeartbeats 4000000 in
theorem wX5_canCome (l : Launch) (E : fo_E) (hE : ∀ n, et E n = tM_ n) (G : Nat) (p1 : Int32) (p2 : Int32) (p3 : Int32) (st0 : fo_St) (rZ : Int32) (stZ : fo_St) (hf : fX5_canCome G p1 p2 p3 st0 = some (rZ, stZ)) : CTi l E yX5_canCome (ws_ yX5_canCome cX5_canCome 4 (some .boolean)) ({ frames := 4, cells := 0, slots := 0, locals := 103 }) [.ref (eb E + 0), .int p1, .int p2, .int p3] st0 rZ stZ := by
  refine fe_z hm_X5_canCome (Nat.le_of_ble_eq_true rfl) (fun p e R s m args below meth c Q hRf hRl X hend ls hl hw => ?_)
  have hx := X.1.1
  have hb := X.1.2.1
  have hl : lv_has ls 4 [(0, .ref (eb E + 0)), (1, .int p1), (2, .int p2), (3, .int p3)] := hl
  unfold fX5_canCome at hf
  generalize s.heap = H at hw ⊢
  generalize ([] : List Loc) = locs at hw ⊢
  refine lv_aload_n hx hb dX5_canCome_0 rfl (lv_at hl 0 rfl) ?_
  refine fc_Vi (rest := []) (As := []) X hw hm_X5_tellsComing (lw_V q1983 q1985 qs80 q121 q1986) ⟨rfl, rfl⟩ ⟨by rw [hRf]; exact Nat.le_of_ble_eq_true rfl, by rw [hRl]; exact Nat.le_of_ble_eq_true rfl⟩ fc_X5 rfl (hm0 hE) rfl rfl hl.1 (Nat.le_of_ble_eq_true rfl) dX5_canCome_1 (fun rQ stQ hQ => wX5_tellsComing l E hE G st0 rQ stQ hQ) hf (fun x1 st2 H locs hw hf => ?_)
  refine fb_zeq (tgt := 30) hx hb dX5_canCome_4 (by decide) hf (fun hf => ?_) (fun hf => ?_)
  · refine lv_aload_n hx hb dX5_canCome_30 rfl (lv_at hl 0 rfl) ?_
    refine lv_iload_n hx hb dX5_canCome_31 rfl (lv_at hl 1 rfl) ?_
    refine lv_iload_n hx hb dX5_canCome_32 rfl (lv_at hl 2 rfl) ?_
    refine fc_Vi (rest := []) (As := [.int p1, .int p2]) X hw hm_X5_hasItsNeeds (lw_V q1765 q1767 qs45 q121 q1768) ⟨rfl, rfl⟩ ⟨by rw [hRf]; exact Nat.le_of_ble_eq_true rfl, by rw [hRl]; exact Nat.le_of_ble_eq_true rfl⟩ fc_X5 rfl (hm0 hE) rfl rfl hl.1 (Nat.le_of_ble_eq_true rfl) dX5_canCome_33 (fun rQ stQ hQ => wX5_hasItsNeeds l E hE p1 p2 st2 rQ stQ hQ) hf (fun x3 st4 H locs hw hf => ?_)
    obtain ⟨hz, hf⟩ := ck_e hf
    exact fd_z hend hw (fo_z hz).1 hf dX5_canCome_36
  refine lv_aload_n hx hb dX5_canCome_7 rfl (lv_at hl 0 rfl) ?_
  refine lv_iconst (v := (3 : Int32)) hx hb dX5_canCome_8 (by decide) ?_
  refine lv_iload_n hx hb dX5_canCome_9 rfl (lv_at hl 2 rfl) ?_
  refine lv_iload_n hx hb dX5_canCome_10 rfl (lv_at hl 1 rfl) ?_
  refine lv_iload_n hx hb dX5_canCome_11 rfl (lv_at hl 3 rfl) ?_
  refine lv_iconst (v := (-1 : Int32)) hx hb dX5_canCome_12 (by decide) ?_
  refine lv_lconst (v := (0 : Int64)) hx hb dX5_canCome_13 rfl ?_
  refine fc_Vl (rest := []) (As := [.int (3 : Int32), .int p2, .int p1, .int p3, .int (-1 : Int32), .long (0 : Int64)]) X hw hm_X5_tells (lw_V q1770 q1772 qs46 q121 q1773) ⟨rfl, rfl⟩ ⟨by rw [hRf]; exact Nat.le_of_ble_eq_true rfl, by rw [hRl]; exact Nat.le_of_ble_eq_true rfl⟩ fc_X5 rfl (hm0 hE) rfl rfl hl.1 (Nat.le_of_ble_eq_true rfl) dX5_canCome_14 (fun rQ stQ hQ => wX5_tells l E hE G (3 : Int32) p2 p1 p3 (-1 : Int32) (0 : Int64) st2 rQ stQ hQ) hf (fun x5 st6 H locs hw hf => ?_)
  refine lv_lconst (v := (1 : Int64)) hx hb dX5_canCome_17 rfl ?_
  refine fb_lne (tgt := 26) hx hb dX5_canCome_18 dX5_canCome_19 (by decide) hf (fun hf => ?_) (fun hf => ?_)
  · refine lv_iconst (v := (0 : Int32)) hx hb dX5_canCome_26 (by decide) ?_
    refine lv_goto (tgt := 36) hx hb dX5_canCome_27 (by decide) ?_
    exact fd_z hend hw rfl hf dX5_canCome_36
  refine lv_iconst (v := (1 : Int32)) hx hb dX5_canCome_22 (by decide) ?_
  refine lv_goto (tgt := 36) hx hb dX5_canCome_23 (by decide) ?_
  exact fd_z hend hw rfl hf dX5_canCome_36

/-- ForestRoomsModel.comes -/
def fX5_comes (G : Nat) (p1 : Int32) (p2 : Int32) (p3 : Int32) (st0 : fo_St) : Option (Int32 × fo_St) := lt_ (si_ st0 0 0 (0 : Int32)) (fun st1 => bd_ (fX5_in (p1.toInt64) (0 : Int64) (5 : Int64) st1) (fun x2 st3 => if x2 = 0 then some ((-1 : Int32), st3) else bd_ (fX5_isRoom p2 st3) (fun x4 st5 => if x4 = 0 then some ((-1 : Int32), st5) else bd_ (fX5_in (p3.toInt64) (1 : Int64) (99 : Int64) st5) (fun x6 st7 => if ¬ x6 = 0 then bd_ (fX5_canCome G p1 p2 p3 st7) (fun x8 st9 => if x8 = 0 then some ((0 : Int32), st9) else some ((1 : Int32), st9)) else some ((-1 : Int32), st7)))))
theorem hm_X5_comes : fo_M yX5_comes 3 := ⟨by decide +kernel, by decide +kernel, by decide +kernel, by decide +kernel⟩
set_option maxHeartbeats 4000000 in
theorem wX5_comes (l : Launch) (E : fo_E) (hE : ∀ n, et E n = tM_ n) (G : Nat) (p1 : Int32) (p2 : Int32) (p3 : Int32) (st0 : fo_St) (rZ : Int32) (stZ : fo_St) (hf : fX5_comes G p1 p2 p3 st0 = some (rZ, stZ)) : CTi l E yX5_comes (ws_ yX5_comes cX5_comes 4 (some .int)) ({ frames := 5, cells := 0, slots := 0, locals := 126 }) [.ref (eb E + 0), .int p1, .int p2, .int p3] st0 rZ stZ := by
  refine fe_i hm_X5_comes (Nat.le_of_ble_eq_true rfl) (fun p e R s m args below meth c Q hRf hRl X hend ls hl hw => ?_)
  have hx := X.1.1
  have hb := X.1.2.1
  have hl : lv_has ls 4 [(0, .ref (eb E + 0)), (1, .int p1), (2, .int p2), (3, .int p3)] := hl
  unfold fX5_comes at hf
  generalize s.heap = H at hw ⊢
  generalize ([] : List Loc) = locs at hw ⊢
  refine lv_aload_n hx hb dX5_comes_0 rfl (lv_at hl 0 rfl) ?_
  refine lv_iconst (v := (0 : Int32)) hx hb dX5_comes_1 (by decide) ?_
  refine fo_puti X hw fc_X5 (hm0 hE) (k := 0) (by decide) rfl rfl q1518 ⟨rfl, rfl⟩ dX5_comes_2 hf (fun st1 H locs hw hf => ?_)
  refine lv_iload_n hx hb dX5_comes_5 rfl (lv_at hl 1 rfl) ?_
  refine lv_i2l (v := p1.toInt64) hx hb dX5_comes_6 rfl ?_
  refine lv_lconst (v := (0 : Int64)) hx hb dX5_comes_7 rfl ?_
  refine lv_ldc2 (v := (5 : Int64)) hx hb X.1.2.2.2.1 (X.1.2.2.2.2 _ q1804) dX5_comes_8 ?_
  refine fc_Si (rest := []) (As := [.long p1.toInt64, .long (0 : Int64), .long (5 : Int64)]) X hw hm_X5_in (lw_S q1722 q1723 q121 q1724) ⟨rfl, rfl⟩ ⟨by rw [hRf]; exact Nat.le_of_ble_eq_true rfl, by rw [hRl]; exact Nat.le_of_ble_eq_true rfl⟩ rfl rfl hl.1 (Nat.le_of_ble_eq_true rfl) dX5_comes_11 (fun rQ stQ hQ => wX5_in l E hE (p1.toInt64) (0 : Int64) (5 : Int64) st1 rQ stQ hQ) hf (fun x2 st3 H locs hw hf => ?_)
  refine fb_zeq (tgt := 36) hx hb dX5_comes_14 (by decide) hf (fun hf => ?_) (fun hf => ?_)
  · refine lv_iconst (v := (-1 : Int32)) hx hb dX5_comes_36 (by decide) ?_
    refine lv_goto (tgt := 55) hx hb dX5_comes_37 (by decide) ?_
    exact fd_i hend hw hf dX5_comes_55
  refine lv_iload_n hx hb dX5_comes_17 rfl (lv_at hl 2 rfl) ?_
  refine fc_Si (rest := []) (As := [.int p2]) X hw hm_X5_isRoom (lw_S q1737 q1738 q121 q1739) ⟨rfl, rfl⟩ ⟨by rw [hRf]; exact Nat.le_of_ble_eq_true rfl, by rw [hRl]; exact Nat.le_of_ble_eq_true rfl⟩ rfl rfl hl.1 (Nat.le_of_ble_eq_true rfl) dX5_comes_18 (fun rQ stQ hQ => wX5_isRoom l E hE p2 st3 rQ stQ hQ) hf (fun x4 st5 H locs hw hf => ?_)
  refine fb_zeq (tgt := 36) hx hb dX5_comes_21 (by decide) hf (fun hf => ?_) (fun hf => ?_)
  · refine lv_iconst (v := (-1 : Int32)) hx hb dX5_comes_36 (by decide) ?_
    refine lv_goto (tgt := 55) hx hb dX5_comes_37 (by decide) ?_
    exact fd_i hend hw hf dX5_comes_55
  refine lv_iload_n hx hb dX5_comes_24 rfl (lv_at hl 3 rfl) ?_
  refine lv_i2l (v := p3.toInt64) hx hb dX5_comes_25 rfl ?_
  refine lv_lconst (v := (1 : Int64)) hx hb dX5_comes_26 rfl ?_
  refine lv_ldc2 (v := (99 : Int64)) hx hb X.1.2.2.2.1 (X.1.2.2.2.2 _ q1810) dX5_comes_27 ?_
  refine fc_Si (rest := []) (As := [.long p3.toInt64, .long (1 : Int64), .long (99 : Int64)]) X hw hm_X5_in (lw_S q1722 q1723 q121 q1724) ⟨rfl, rfl⟩ ⟨by rw [hRf]; exact Nat.le_of_ble_eq_true rfl, by rw [hRl]; exact Nat.le_of_ble_eq_true rfl⟩ rfl rfl hl.1 (Nat.le_of_ble_eq_true rfl) dX5_comes_30 (fun rQ stQ hQ => wX5_in l E hE (p3.toInt64) (1 : Int64) (99 : Int64) st5 rQ stQ hQ) hf (fun x6 st7 H locs hw hf => ?_)
  refine fb_zne (tgt := 40) hx hb dX5_comes_33 (by decide) hf (fun hf => ?_) (fun hf => ?_)
  · refine lv_aload_n hx hb dX5_comes_40 rfl (lv_at hl 0 rfl) ?_
    refine lv_iload_n hx hb dX5_comes_41 rfl (lv_at hl 1 rfl) ?_
    refine lv_iload_n hx hb dX5_comes_42 rfl (lv_at hl 2 rfl) ?_
    refine lv_iload_n hx hb dX5_comes_43 rfl (lv_at hl 3 rfl) ?_
    refine fc_Vi (rest := []) (As := [.int p1, .int p2, .int p3]) X hw hm_X5_canCome (lw_V q1979 q1981 qs79 q121 q1982) ⟨rfl, rfl⟩ ⟨by rw [hRf]; exact Nat.le_of_ble_eq_true rfl, by rw [hRl]; exact Nat.le_of_ble_eq_true rfl⟩ fc_X5 rfl (hm0 hE) rfl rfl hl.1 (Nat.le_of_ble_eq_true rfl) dX5_comes_44 (fun rQ stQ hQ => wX5_canCome l E hE G p1 p2 p3 st7 rQ stQ hQ) hf (fun x8 st9 H locs hw hf => ?_)
    refine fb_zeq (tgt := 54) hx hb dX5_comes_47 (by decide) hf (fun hf => ?_) (fun hf => ?_)
    · refine lv_iconst (v := (0 : Int32)) hx hb dX5_comes_54 (by decide) ?_
      exact fd_i hend hw hf dX5_comes_55
    refine lv_iconst (v := (1 : Int32)) hx hb dX5_comes_50 (by decide) ?_
    refine lv_goto (tgt := 55) hx hb dX5_comes_51 (by decide) ?_
    exact fd_i hend hw hf dX5_comes_55
  refine lv_iconst (v := (-1 : Int32)) hx hb dX5_comes_36 (by decide) ?_
  refine lv_goto (tgt := 55) hx hb dX5_comes_37 (by decide) ?_
  exact fd_i hend hw hf dX5_comes_55

/-- ForestRoomsModel.keepAll -/
def fX5_keepAll (G : Nat) (p1 : Int32) (st0 : fo_St) : Option fo_St := lp2_ (fun rec3 (x1 : Int32) (st2 : fo_St) => if (53 : Int32) ≤ x1 then some st2 else ck_ (fo_in ((3 : Int32) + x1) 5540) (ck_ (fo_in (((53 : Int32) * p1) + x1) 954) (lt_ (si_ st2 5 (((53 : Int32) * p1) + x1).toNatClampNeg (gi_ st2 2 ((3 : Int32) + x1).toNatClampNeg)) (fun st4 => rec3 (x1 + (1 : Int32)) st4)))) G (0 : Int32) st0
theorem hm_X5_keepAll : fo_M yX5_keepAll 1 := ⟨by decide +kernel, by decide +kernel, by decide +kernel, by decide +kernel⟩
set_option maxHeartbeats 4000000 in
theorem wX5_keepAll (l : Launch) (E : fo_E) (hE : ∀ n, et E n = tM_ n) (G : Nat) (p1 : Int32) (st0 : fo_St) (stZ : fo_St) (hf : fX5_keepAll G p1 st0 = some stZ) : CTv l E yX5_keepAll (ws_ yX5_keepAll cX5_keepAll 3 none) ({ frames := 0, cells := 0, slots := 0, locals := 0 }) [.ref (eb E + 0), .int p1] st0 stZ := by
  refine fe_v hm_X5_keepAll (Nat.le_of_ble_eq_true rfl) (fun p e R s m args below meth c Q hRf hRl X hend ls hl hw => ?_)
  have hx := X.1.1
  have hb := X.1.2.1
  have hl : lv_has ls 3 [(0, .ref (eb E + 0)), (1, .int p1)] := hl
  unfold fX5_keepAll at hf
  generalize s.heap = H at hw ⊢
  generalize ([] : List Loc) = locs at hw ⊢
  refine lv_iconst (v := (0 : Int32)) hx hb dX5_keepAll_0 (by decide) ?_
  refine lv_istore_n (lv' := [(2, .int (0 : Int32)), (0, .ref (eb E + 0)), (1, .int p1)]) hx hb dX5_keepAll_1 rfl hl (by decide) rfl (fun ls hl => ?_)
  refine lp2_e (P := fun x1 st2 => ∀ (H : Heap) (locs : List Loc) (ls : Array Slot), lv_has ls 3 [(2, .int x1), (0, .ref (eb E + 0)), (1, .int p1)] → fo_S E s st2 H locs → W p l e R s m args below meth c H locs 0 0 Q (F0 m 2 ls [])) (fun rec3 hrec3 x1 st2 hf => ?_) G _ _ hf H locs ls (lv_sub hl [0, 1, 2] rfl) hw
  intro H locs ls hl hw
  refine lv_iload_n hx hb dX5_keepAll_2 rfl (lv_at hl 0 rfl) ?_
  refine lv_bipush (v := (53 : Int32)) hx hb dX5_keepAll_3 (by decide) ?_
  refine fb_ige (tgt := 33) hx hb dX5_keepAll_5 (by decide) hf (fun hf => ?_) (fun hf => ?_)
  · exact fd_v hend hw hf dX5_keepAll_33
  refine lv_aload_n hx hb dX5_keepAll_8 rfl (lv_at hl 1 rfl) ?_
  refine fo_gets X hw fc_X5 (hm0 hE) (k := 6) (d := 5) (n2 := 5) (by decide) rfl rfl q1524 dX5_keepAll_9 ?_
  refine lv_bipush (v := (53 : Int32)) hx hb dX5_keepAll_12 (by decide) ?_
  refine lv_iload_n hx hb dX5_keepAll_14 rfl (lv_at hl 2 rfl) ?_
  refine lv_imul hx hb dX5_keepAll_15 ?_
  refine lv_iload_n hx hb dX5_keepAll_16 rfl (lv_at hl 0 rfl) ?_
  refine lv_iadd hx hb dX5_keepAll_17 ?_
  refine lv_aload_n hx hb dX5_keepAll_18 rfl (lv_at hl 1 rfl) ?_
  refine fo_gets X hw fc_X5 (hm0 hE) (k := 3) (d := 2) (n2 := 2) (by decide) rfl rfl q1521 dX5_keepAll_19 ?_
  refine lv_iconst (v := (3 : Int32)) hx hb dX5_keepAll_22 (by decide) ?_
  refine lv_iload_n hx hb dX5_keepAll_23 rfl (lv_at hl 0 rfl) ?_
  refine lv_iadd hx hb dX5_keepAll_24 ?_
  refine fo_iald X hw (hm2 hE) dX5_keepAll_25 hf (fun hf => ?_)
  refine fo_iast X hw (hm5 hE) dX5_keepAll_26 hf (fun st4 H locs hw hf => ?_)
  refine fb_iinc (v := (1 : Int32)) (lv' := [(2, .int (x1 + (1 : Int32))), (0, .ref (eb E + 0)), (1, .int p1)]) hx hb dX5_keepAll_27 hl (k := 0) rfl (by decide) (by decide) rfl (fun ls hl => ?_)
  refine lv_goto (tgt := 2) hx hb dX5_keepAll_30 (by decide) ?_
  exact hrec3 _ _ hf _ _ _ (lv_sub hl [0, 1, 2] rfl) hw

/-- ForestRoomsModel.remember -/
def fX5_remember (G : Nat) (p1 : Int32) (st0 : fo_St) : Option fo_St := if ¬ (gi_ st0 0 8) = (16 : Int32) then bv_ (fX5_keepAll G (gi_ st0 0 8) st0) (fun st2 => ck_ (fo_in (gi_ st2 0 8) 16) (lt_ (si_ st2 6 (gi_ st2 0 8).toNatClampNeg p1) (fun st3 => lt_ (si_ st3 0 8 ((gi_ st3 0 8) + (1 : Int32))) (fun st4 => some st4)))) else lp2_ (fun rec7 (x5 : Int32) (st6 : fo_St) => if (795 : Int32) ≤ x5 then lp2_ (fun rec10 (x8 : Int32) (st9 : fo_St) => if (15 : Int32) ≤ x8 then lt_ (si_ st9 0 8 ((gi_ st9 0 8) - (1 : Int32))) (fun st11 => bv_ (fX5_keepAll G (gi_ st11 0 8) st11) (fun st13 => ck_ (fo_in (gi_ st13 0 8) 16) (lt_ (si_ st13 6 (gi_ st13 0 8).toNatClampNeg p1) (fun st14 => lt_ (si_ st14 0 8 ((gi_ st14 0 8) + (1 : Int32))) (fun st15 => some st15))))) else ck_ (fo_in (x8 + (1 : Int32)) 16) (ck_ (fo_in x8 16) (lt_ (si_ st9 6 x8.toNatClampNeg (gi_ st9 6 (x8 + (1 : Int32)).toNatClampNeg)) (fun st16 => rec10 (x8 + (1 : Int32)) st16)))) G (0 : Int32) st6 else ck_ (fo_in (x5 + (53 : Int32)) 954) (ck_ (fo_in x5 954) (lt_ (si_ st6 5 x5.toNatClampNeg (gi_ st6 5 (x5 + (53 : Int32)).toNatClampNeg)) (fun st17 => rec7 (x5 + (1 : Int32)) st17)))) G (0 : Int32) st0
theorem hm_X5_remember : fo_M yX5_remember 1 := ⟨by decide +kernel, by decide +kernel, by decide +kernel, by decide +kernel⟩
set_option maxHeartbeats 4000000 in
theorem wX5_remember (l : Launch) (E : fo_E) (hE : ∀ n, et E n = tM_ n) (G : Nat) (p1 : Int32) (st0 : fo_St) (stZ : fo_St) (hf : fX5_remember G p1 st0 = some stZ) : CTv l E yX5_remember (ws_ yX5_remember cX5_remember 3 none) ({ frames := 1, cells := 0, slots := 0, locals := 22 }) [.ref (eb E + 0), .int p1] st0 stZ := by
  refine fe_v hm_X5_remember (Nat.le_of_ble_eq_true rfl) (fun p e R s m args below meth c Q hRf hRl X hend ls hl hw => ?_)
  have hx := X.1.1
  have hb := X.1.2.1
  have hl : lv_has ls 3 [(0, .ref (eb E + 0)), (1, .int p1)] := hl
  unfold fX5_remember at hf
  generalize s.heap = H at hw ⊢
  generalize ([] : List Loc) = locs at hw ⊢
  refine lv_aload_n hx hb dX5_remember_0 rfl (lv_at hl 0 rfl) ?_
  refine fo_geti X hw fc_X5 (hm0 hE) (k := 8) (by decide) rfl q1526 dX5_remember_1 ?_
  refine lv_bipush (v := (16 : Int32)) hx hb dX5_remember_4 (by decide) ?_
  refine fb_ine (tgt := 77) hx hb dX5_remember_6 (by decide) hf (fun hf => ?_) (fun hf => ?_)
  · refine lv_aload_n hx hb dX5_remember_77 rfl (lv_at hl 0 rfl) ?_
    refine lv_aload_n hx hb dX5_remember_78 rfl (lv_at hl 0 rfl) ?_
    refine fo_geti X hw fc_X5 (hm0 hE) (k := 8) (by decide) rfl q1526 dX5_remember_79 ?_
    refine fc_Vv (rest := []) (As := [.int (gi_ st0 0 8)]) X hw hm_X5_keepAll (lw_V q1999 q2001 qs83 q121 q2002) ⟨rfl, rfl⟩ ⟨by rw [hRf]; exact Nat.le_of_ble_eq_true rfl, by rw [hRl]; exact Nat.le_of_ble_eq_true rfl⟩ fc_X5 rfl (hm0 hE) rfl rfl hl.1 (Nat.le_of_ble_eq_true rfl) dX5_remember_82 (fun stQ hQ => wX5_keepAll l E hE G (gi_ st0 0 8) st0 stQ hQ) hf (fun st2 H locs hw hf => ?_)
    refine lv_aload_n hx hb dX5_remember_85 rfl (lv_at hl 0 rfl) ?_
    refine fo_gets X hw fc_X5 (hm0 hE) (k := 7) (d := 6) (n2 := 6) (by decide) rfl rfl q1525 dX5_remember_86 ?_
    refine lv_aload_n hx hb dX5_remember_89 rfl (lv_at hl 0 rfl) ?_
    refine fo_geti X hw fc_X5 (hm0 hE) (k := 8) (by decide) rfl q1526 dX5_remember_90 ?_
    refine lv_iload_n hx hb dX5_remember_93 rfl (lv_at hl 1 rfl) ?_
    refine fo_iast X hw (hm6 hE) dX5_remember_94 hf (fun st3 H locs hw hf => ?_)
    refine lv_aload_n hx hb dX5_remember_95 rfl (lv_at hl 0 rfl) ?_
    refine lv_dup hx hb dX5_remember_96 rfl ?_
    refine fo_geti X hw fc_X5 (hm0 hE) (k := 8) (by decide) rfl q1526 dX5_remember_97 ?_
    refine lv_iconst (v := (1 : Int32)) hx hb dX5_remember_100 (by decide) ?_
    refine lv_iadd hx hb dX5_remember_101 ?_
    refine fo_puti X hw fc_X5 (hm0 hE) (k := 8) (by decide) rfl rfl q1526 ⟨rfl, rfl⟩ dX5_remember_102 hf (fun st4 H locs hw hf => ?_)
    exact fd_v hend hw hf dX5_remember_105
  refine lv_iconst (v := (0 : Int32)) hx hb dX5_remember_9 (by decide) ?_
  refine lv_istore_n (lv' := [(2, .int (0 : Int32)), (0, .ref (eb E + 0)), (1, .int p1)]) hx hb dX5_remember_10 rfl hl (by decide) rfl (fun ls hl => ?_)
  refine lp2_e (P := fun x5 st6 => ∀ (H : Heap) (locs : List Loc) (ls : Array Slot), lv_has ls 3 [(2, .int x5), (0, .ref (eb E + 0)), (1, .int p1)] → fo_S E s st6 H locs → W p l e R s m args below meth c H locs 0 0 Q (F0 m 11 ls [])) (fun rec7 hrec7 x5 st6 hf => ?_) G _ _ hf H locs ls (lv_sub hl [0, 1, 2] rfl) hw
  intro H locs ls hl hw
  refine lv_iload_n hx hb dX5_remember_11 rfl (lv_at hl 0 rfl) ?_
  refine lv_sipush (v := (795 : Int32)) hx hb dX5_remember_12 (by decide) ?_
  refine fb_ige (tgt := 39) hx hb dX5_remember_15 (by decide) hf (fun hf => ?_) (fun hf => ?_)
  · refine lv_iconst (v := (0 : Int32)) hx hb dX5_remember_39 (by decide) ?_
    refine lv_istore_n (lv' := [(2, .int (0 : Int32)), (0, .ref (eb E + 0)), (1, .int p1)]) hx hb dX5_remember_40 rfl hl (by decide) rfl (fun ls hl => ?_)
    refine lp2_e (P := fun x8 st9 => ∀ (H : Heap) (locs : List Loc) (ls : Array Slot), lv_has ls 3 [(2, .int x8), (0, .ref (eb E + 0)), (1, .int p1)] → fo_S E s st9 H locs → W p l e R s m args below meth c H locs 0 0 Q (F0 m 41 ls [])) (fun rec10 hrec10 x8 st9 hf => ?_) G _ _ hf H locs ls (lv_sub hl [0, 1, 2] rfl) hw
    intro H locs ls hl hw
    refine lv_iload_n hx hb dX5_remember_41 rfl (lv_at hl 0 rfl) ?_
    refine lv_bipush (v := (15 : Int32)) hx hb dX5_remember_42 (by decide) ?_
    refine fb_ige (tgt := 67) hx hb dX5_remember_44 (by decide) hf (fun hf => ?_) (fun hf => ?_)
    · refine lv_aload_n hx hb dX5_remember_67 rfl (lv_at hl 1 rfl) ?_
      refine lv_dup hx hb dX5_remember_68 rfl ?_
      refine fo_geti X hw fc_X5 (hm0 hE) (k := 8) (by decide) rfl q1526 dX5_remember_69 ?_
      refine lv_iconst (v := (1 : Int32)) hx hb dX5_remember_72 (by decide) ?_
      refine lv_isub hx hb dX5_remember_73 ?_
      refine fo_puti X hw fc_X5 (hm0 hE) (k := 8) (by decide) rfl rfl q1526 ⟨rfl, rfl⟩ dX5_remember_74 hf (fun st11 H locs hw hf => ?_)
      refine lv_aload_n hx hb dX5_remember_77 rfl (lv_at hl 1 rfl) ?_
      refine lv_aload_n hx hb dX5_remember_78 rfl (lv_at hl 1 rfl) ?_
      refine fo_geti X hw fc_X5 (hm0 hE) (k := 8) (by decide) rfl q1526 dX5_remember_79 ?_
      refine fc_Vv (rest := []) (As := [.int (gi_ st11 0 8)]) X hw hm_X5_keepAll (lw_V q1999 q2001 qs83 q121 q2002) ⟨rfl, rfl⟩ ⟨by rw [hRf]; exact Nat.le_of_ble_eq_true rfl, by rw [hRl]; exact Nat.le_of_ble_eq_true rfl⟩ fc_X5 rfl (hm0 hE) rfl rfl hl.1 (Nat.le_of_ble_eq_true rfl) dX5_remember_82 (fun stQ hQ => wX5_keepAll l E hE G (gi_ st11 0 8) st11 stQ hQ) hf (fun st13 H locs hw hf => ?_)
      refine lv_aload_n hx hb dX5_remember_85 rfl (lv_at hl 1 rfl) ?_
      refine fo_gets X hw fc_X5 (hm0 hE) (k := 7) (d := 6) (n2 := 6) (by decide) rfl rfl q1525 dX5_remember_86 ?_
      refine lv_aload_n hx hb dX5_remember_89 rfl (lv_at hl 1 rfl) ?_
      refine fo_geti X hw fc_X5 (hm0 hE) (k := 8) (by decide) rfl q1526 dX5_remember_90 ?_
      refine lv_iload_n hx hb dX5_remember_93 rfl (lv_at hl 2 rfl) ?_
      refine fo_iast X hw (hm6 hE) dX5_remember_94 hf (fun st14 H locs hw hf => ?_)
      refine lv_aload_n hx hb dX5_remember_95 rfl (lv_at hl 1 rfl) ?_
      refine lv_dup hx hb dX5_remember_96 rfl ?_
      refine fo_geti X hw fc_X5 (hm0 hE) (k := 8) (by decide) rfl q1526 dX5_remember_97 ?_
      refine lv_iconst (v := (1 : Int32)) hx hb dX5_remember_100 (by decide) ?_
      refine lv_iadd hx hb dX5_remember_101 ?_
      refine fo_puti X hw fc_X5 (hm0 hE) (k := 8) (by decide) rfl rfl q1526 ⟨rfl, rfl⟩ dX5_remember_102 hf (fun st15 H locs hw hf => ?_)
      exact fd_v hend hw hf dX5_remember_105
    refine lv_aload_n hx hb dX5_remember_47 rfl (lv_at hl 1 rfl) ?_
    refine fo_gets X hw fc_X5 (hm0 hE) (k := 7) (d := 6) (n2 := 6) (by decide) rfl rfl q1525 dX5_remember_48 ?_
    refine lv_iload_n hx hb dX5_remember_51 rfl (lv_at hl 0 rfl) ?_
    refine lv_aload_n hx hb dX5_remember_52 rfl (lv_at hl 1 rfl) ?_
    refine fo_gets X hw fc_X5 (hm0 hE) (k := 7) (d := 6) (n2 := 6) (by decide) rfl rfl q1525 dX5_remember_53 ?_
    refine lv_iload_n hx hb dX5_remember_56 rfl (lv_at hl 0 rfl) ?_
    refine lv_iconst (v := (1 : Int32)) hx hb dX5_remember_57 (by decide) ?_
    refine lv_iadd hx hb dX5_remember_58 ?_
    refine fo_iald X hw (hm6 hE) dX5_remember_59 hf (fun hf => ?_)
    refine fo_iast X hw (hm6 hE) dX5_remember_60 hf (fun st16 H locs hw hf => ?_)
    refine fb_iinc (v := (1 : Int32)) (lv' := [(2, .int (x8 + (1 : Int32))), (0, .ref (eb E + 0)), (1, .int p1)]) hx hb dX5_remember_61 hl (k := 0) rfl (by decide) (by decide) rfl (fun ls hl => ?_)
    refine lv_goto (tgt := 41) hx hb dX5_remember_64 (by decide) ?_
    exact hrec10 _ _ hf _ _ _ (lv_sub hl [0, 1, 2] rfl) hw
  refine lv_aload_n hx hb dX5_remember_18 rfl (lv_at hl 1 rfl) ?_
  refine fo_gets X hw fc_X5 (hm0 hE) (k := 6) (d := 5) (n2 := 5) (by decide) rfl rfl q1524 dX5_remember_19 ?_
  refine lv_iload_n hx hb dX5_remember_22 rfl (lv_at hl 0 rfl) ?_
  refine lv_aload_n hx hb dX5_remember_23 rfl (lv_at hl 1 rfl) ?_
  refine fo_gets X hw fc_X5 (hm0 hE) (k := 6) (d := 5) (n2 := 5) (by decide) rfl rfl q1524 dX5_remember_24 ?_
  refine lv_iload_n hx hb dX5_remember_27 rfl (lv_at hl 0 rfl) ?_
  refine lv_bipush (v := (53 : Int32)) hx hb dX5_remember_28 (by decide) ?_
  refine lv_iadd hx hb dX5_remember_30 ?_
  refine fo_iald X hw (hm5 hE) dX5_remember_31 hf (fun hf => ?_)
  refine fo_iast X hw (hm5 hE) dX5_remember_32 hf (fun st17 H locs hw hf => ?_)
  refine fb_iinc (v := (1 : Int32)) (lv' := [(2, .int (x5 + (1 : Int32))), (0, .ref (eb E + 0)), (1, .int p1)]) hx hb dX5_remember_33 hl (k := 0) rfl (by decide) (by decide) rfl (fun ls hl => ?_)
  refine lv_goto (tgt := 11) hx hb dX5_remember_36 (by decide) ?_
  exact hrec7 _ _ hf _ _ _ (lv_sub hl [0, 1, 2] rfl) hw

/-- ForestRoomsModel.plantNow -/
def fX5_plantNow (G : Nat) (p1 : Int32) (p2 : Int32) (st0 : fo_St) : Option (Int32 × fo_St) := bd_ (fX5_in (p1.toInt64) (0 : Int64) (5 : Int64) st0) (fun x1 st2 => if x1 = 0 then some ((-1 : Int32), st2) else bd_ (fX5_isRoom p2 st2) (fun x3 st4 => if ¬ x3 = 0 then bd_ (fX5_isTree p2 st4) (fun x5 st6 => if x5 = 0 then bv_ (fX5_remember G (0 : Int32) st6) (fun st8 => ck_ (fo_in ((8 : Int32) + p2) 5540) (lt_ (si_ st8 2 ((8 : Int32) + p2).toNatClampNeg p1) (fun st9 => ck_ (fo_in ((24 : Int32) + p2) 5540) (lt_ (si_ st9 2 ((24 : Int32) + p2).toNatClampNeg (1 : Int32)) (fun st10 => some ((0 : Int32), st10)))))) else some ((-3 : Int32), st6)) else some ((-1 : Int32), st4)))
theorem hm_X5_plantNow : fo_M yX5_plantNow 2 := ⟨by decide +kernel, by decide +kernel, by decide +kernel, by decide +kernel⟩
set_option maxHeartbeats 4000000 in
theorem wX5_plantNow (l : Launch) (E : fo_E) (hE : ∀ n, et E n = tM_ n) (G : Nat) (p1 : Int32) (p2 : Int32) (st0 : fo_St) (rZ : Int32) (stZ : fo_St) (hf : fX5_plantNow G p1 p2 st0 = some (rZ, stZ)) : CTi l E yX5_plantNow (ws_ yX5_plantNow cX5_plantNow 3 (some .int)) ({ frames := 2, cells := 0, slots := 0, locals := 45 }) [.ref (eb E + 0), .int p1, .int p2] st0 rZ stZ := by
  refine fe_i hm_X5_plantNow (Nat.le_of_ble_eq_true rfl) (fun p e R s m args below meth c Q hRf hRl X hend ls hl hw => ?_)
  have hx := X.1.1
  have hb := X.1.2.1
  have hl : lv_has ls 3 [(0, .ref (eb E + 0)), (1, .int p1), (2, .int p2)] := hl
  unfold fX5_plantNow at hf
  generalize s.heap = H at hw ⊢
  generalize ([] : List Loc) = locs at hw ⊢
  refine lv_iload_n hx hb dX5_plantNow_0 rfl (lv_at hl 1 rfl) ?_
  refine lv_i2l (v := p1.toInt64) hx hb dX5_plantNow_1 rfl ?_
  refine lv_lconst (v := (0 : Int64)) hx hb dX5_plantNow_2 rfl ?_
  refine lv_ldc2 (v := (5 : Int64)) hx hb X.1.2.2.2.1 (X.1.2.2.2.2 _ q1804) dX5_plantNow_3 ?_
  refine fc_Si (rest := []) (As := [.long p1.toInt64, .long (0 : Int64), .long (5 : Int64)]) X hw hm_X5_in (lw_S q1722 q1723 q121 q1724) ⟨rfl, rfl⟩ ⟨by rw [hRf]; exact Nat.le_of_ble_eq_true rfl, by rw [hRl]; exact Nat.le_of_ble_eq_true rfl⟩ rfl rfl hl.1 (Nat.le_of_ble_eq_true rfl) dX5_plantNow_6 (fun rQ stQ hQ => wX5_in l E hE (p1.toInt64) (0 : Int64) (5 : Int64) st0 rQ stQ hQ) hf (fun x1 st2 H locs hw hf => ?_)
  refine fb_zeq (tgt := 19) hx hb dX5_plantNow_9 (by decide) hf (fun hf => ?_) (fun hf => ?_)
  · refine lv_iconst (v := (-1 : Int32)) hx hb dX5_plantNow_19 (by decide) ?_
    exact fd_i hend hw hf dX5_plantNow_20
  refine lv_iload_n hx hb dX5_plantNow_12 rfl (lv_at hl 2 rfl) ?_
  refine fc_Si (rest := []) (As := [.int p2]) X hw hm_X5_isRoom (lw_S q1737 q1738 q121 q1739) ⟨rfl, rfl⟩ ⟨by rw [hRf]; exact Nat.le_of_ble_eq_true rfl, by rw [hRl]; exact Nat.le_of_ble_eq_true rfl⟩ rfl rfl hl.1 (Nat.le_of_ble_eq_true rfl) dX5_plantNow_13 (fun rQ stQ hQ => wX5_isRoom l E hE p2 st2 rQ stQ hQ) hf (fun x3 st4 H locs hw hf => ?_)
  refine fb_zne (tgt := 21) hx hb dX5_plantNow_16 (by decide) hf (fun hf => ?_) (fun hf => ?_)
  · refine lv_aload_n hx hb dX5_plantNow_21 rfl (lv_at hl 0 rfl) ?_
    refine lv_iload_n hx hb dX5_plantNow_22 rfl (lv_at hl 2 rfl) ?_
    refine fc_Vi (rest := []) (As := [.int p2]) X hw hm_X5_isTree (lw_V q1757 q1759 qs43 q121 q1760) ⟨rfl, rfl⟩ ⟨by rw [hRf]; exact Nat.le_of_ble_eq_true rfl, by rw [hRl]; exact Nat.le_of_ble_eq_true rfl⟩ fc_X5 rfl (hm0 hE) rfl rfl hl.1 (Nat.le_of_ble_eq_true rfl) dX5_plantNow_23 (fun rQ stQ hQ => wX5_isTree l E hE p2 st4 rQ stQ hQ) hf (fun x5 st6 H locs hw hf => ?_)
    refine fb_zeq (tgt := 32) hx hb dX5_plantNow_26 (by decide) hf (fun hf => ?_) (fun hf => ?_)
    · refine lv_aload_n hx hb dX5_plantNow_32 rfl (lv_at hl 0 rfl) ?_
      refine lv_iconst (v := (0 : Int32)) hx hb dX5_plantNow_33 (by decide) ?_
      refine fc_Vv (rest := []) (As := [.int (0 : Int32)]) X hw hm_X5_remember (lw_V q1995 q1997 qs82 q121 q1998) ⟨rfl, rfl⟩ ⟨by rw [hRf]; exact Nat.le_of_ble_eq_true rfl, by rw [hRl]; exact Nat.le_of_ble_eq_true rfl⟩ fc_X5 rfl (hm0 hE) rfl rfl hl.1 (Nat.le_of_ble_eq_true rfl) dX5_plantNow_34 (fun stQ hQ => wX5_remember l E hE G (0 : Int32) st6 stQ hQ) hf (fun st8 H locs hw hf => ?_)
      refine lv_aload_n hx hb dX5_plantNow_37 rfl (lv_at hl 0 rfl) ?_
      refine fo_gets X hw fc_X5 (hm0 hE) (k := 3) (d := 2) (n2 := 2) (by decide) rfl rfl q1521 dX5_plantNow_38 ?_
      refine lv_bipush (v := (8 : Int32)) hx hb dX5_plantNow_41 (by decide) ?_
      refine lv_iload_n hx hb dX5_plantNow_43 rfl (lv_at hl 2 rfl) ?_
      refine lv_iadd hx hb dX5_plantNow_44 ?_
      refine lv_iload_n hx hb dX5_plantNow_45 rfl (lv_at hl 1 rfl) ?_
      refine fo_iast X hw (hm2 hE) dX5_plantNow_46 hf (fun st9 H locs hw hf => ?_)
      refine lv_aload_n hx hb dX5_plantNow_47 rfl (lv_at hl 0 rfl) ?_
      refine fo_gets X hw fc_X5 (hm0 hE) (k := 3) (d := 2) (n2 := 2) (by decide) rfl rfl q1521 dX5_plantNow_48 ?_
      refine lv_bipush (v := (24 : Int32)) hx hb dX5_plantNow_51 (by decide) ?_
      refine lv_iload_n hx hb dX5_plantNow_53 rfl (lv_at hl 2 rfl) ?_
      refine lv_iadd hx hb dX5_plantNow_54 ?_
      refine lv_iconst (v := (1 : Int32)) hx hb dX5_plantNow_55 (by decide) ?_
      refine fo_iast X hw (hm2 hE) dX5_plantNow_56 hf (fun st10 H locs hw hf => ?_)
      refine lv_iconst (v := (0 : Int32)) hx hb dX5_plantNow_57 (by decide) ?_
      exact fd_i hend hw hf dX5_plantNow_58
    refine lv_bipush (v := (-3 : Int32)) hx hb dX5_plantNow_29 (by decide) ?_
    exact fd_i hend hw hf dX5_plantNow_31
  refine lv_iconst (v := (-1 : Int32)) hx hb dX5_plantNow_19 (by decide) ?_
  exact fd_i hend hw hf dX5_plantNow_20

/-- ForestRoomsModel.plant -/
def fX5_plant (G : Nat) (p1 : Int32) (p2 : Int32) (st0 : fo_St) : Option (Int32 × fo_St) := lt_ (si_ st0 0 0 (0 : Int32)) (fun st1 => bd_ (fX5_plantNow G p1 p2 st1) (fun x2 st3 => bd_ (fX5_tell x2 st3) (fun x4 st5 => some (x4, st5))))
theorem hm_X5_plant : fo_M yX5_plant 2 := ⟨by decide +kernel, by decide +kernel, by decide +kernel, by decide +kernel⟩
set_option maxHeartbeats 4000000 in
theorem wX5_plant (l : Launch) (E : fo_E) (hE : ∀ n, et E n = tM_ n) (G : Nat) (p1 : Int32) (p2 : Int32) (st0 : fo_St) (rZ : Int32) (stZ : fo_St) (hf : fX5_plant G p1 p2 st0 = some (rZ, stZ)) : CTi l E yX5_plant (ws_ yX5_plant cX5_plant 3 (some .int)) ({ frames := 3, cells := 0, slots := 0, locals := 67 }) [.ref (eb E + 0), .int p1, .int p2] st0 rZ stZ := by
  refine fe_i hm_X5_plant (Nat.le_of_ble_eq_true rfl) (fun p e R s m args below meth c Q hRf hRl X hend ls hl hw => ?_)
  have hx := X.1.1
  have hb := X.1.2.1
  have hl : lv_has ls 3 [(0, .ref (eb E + 0)), (1, .int p1), (2, .int p2)] := hl
  unfold fX5_plant at hf
  generalize s.heap = H at hw ⊢
  generalize ([] : List Loc) = locs at hw ⊢
  refine lv_aload_n hx hb dX5_plant_0 rfl (lv_at hl 0 rfl) ?_
  refine lv_iconst (v := (0 : Int32)) hx hb dX5_plant_1 (by decide) ?_
  refine fo_puti X hw fc_X5 (hm0 hE) (k := 0) (by decide) rfl rfl q1518 ⟨rfl, rfl⟩ dX5_plant_2 hf (fun st1 H locs hw hf => ?_)
  refine lv_aload_n hx hb dX5_plant_5 rfl (lv_at hl 0 rfl) ?_
  refine lv_aload_n hx hb dX5_plant_6 rfl (lv_at hl 0 rfl) ?_
  refine lv_iload_n hx hb dX5_plant_7 rfl (lv_at hl 1 rfl) ?_
  refine lv_iload_n hx hb dX5_plant_8 rfl (lv_at hl 2 rfl) ?_
  refine fc_Vi (rest := [.ref (eb E + 0)]) (As := [.int p1, .int p2]) X hw hm_X5_plantNow (lw_V q1991 q1993 qs81 q121 q1994) ⟨rfl, rfl⟩ ⟨by rw [hRf]; exact Nat.le_of_ble_eq_true rfl, by rw [hRl]; exact Nat.le_of_ble_eq_true rfl⟩ fc_X5 rfl (hm0 hE) rfl rfl hl.1 (Nat.le_of_ble_eq_true rfl) dX5_plant_9 (fun rQ stQ hQ => wX5_plantNow l E hE G p1 p2 st1 rQ stQ hQ) hf (fun x2 st3 H locs hw hf => ?_)
  refine fc_Vi (rest := []) (As := [.int x2]) X hw hm_X5_tell (lw_V q1710 q1712 qs38 q121 q1713) ⟨rfl, rfl⟩ ⟨by rw [hRf]; exact Nat.le_of_ble_eq_true rfl, by rw [hRl]; exact Nat.le_of_ble_eq_true rfl⟩ fc_X5 rfl (hm0 hE) rfl rfl hl.1 (Nat.le_of_ble_eq_true rfl) dX5_plant_12 (fun rQ stQ hQ => wX5_tell l E hE x2 st3 rQ stQ hQ) hf (fun x4 st5 H locs hw hf => ?_)
  exact fd_i hend hw hf dX5_plant_15

/-- ForestRoomsModel.fell -/
def fX5_fell (p1 : Int32) (st0 : fo_St) : Option fo_St := ck_ (fo_in ((8 : Int32) + p1) 5540) (lt_ (si_ st0 2 ((8 : Int32) + p1).toNatClampNeg (-1 : Int32)) (fun st1 => ck_ (fo_in ((24 : Int32) + p1) 5540) (lt_ (si_ st1 2 ((24 : Int32) + p1).toNatClampNeg (0 : Int32)) (fun st2 => some st2))))
theorem hm_X5_fell : fo_M yX5_fell 1 := ⟨by decide +kernel, by decide +kernel, by decide +kernel, by decide +kernel⟩
set_option maxHeartbeats 4000000 in
theorem wX5_fell (l : Launch) (E : fo_E) (hE : ∀ n, et E n = tM_ n) (p1 : Int32) (st0 : fo_St) (stZ : fo_St) (hf : fX5_fell p1 st0 = some stZ) : CTv l E yX5_fell (ws_ yX5_fell cX5_fell 2 none) ({ frames := 0, cells := 0, slots := 0, locals := 0 }) [.ref (eb E + 0), .int p1] st0 stZ := by
  refine fe_v hm_X5_fell (Nat.le_of_ble_eq_true rfl) (fun p e R s m args below meth c Q hRf hRl X hend ls hl hw => ?_)
  have hx := X.1.1
  have hb := X.1.2.1
  have hl : lv_has ls 2 [(0, .ref (eb E + 0)), (1, .int p1)] := hl
  unfold fX5_fell at hf
  generalize s.heap = H at hw ⊢
  generalize ([] : List Loc) = locs at hw ⊢
  refine lv_aload_n hx hb dX5_fell_0 rfl (lv_at hl 0 rfl) ?_
  refine fo_gets X hw fc_X5 (hm0 hE) (k := 3) (d := 2) (n2 := 2) (by decide) rfl rfl q1521 dX5_fell_1 ?_
  refine lv_bipush (v := (8 : Int32)) hx hb dX5_fell_4 (by decide) ?_
  refine lv_iload_n hx hb dX5_fell_6 rfl (lv_at hl 1 rfl) ?_
  refine lv_iadd hx hb dX5_fell_7 ?_
  refine lv_iconst (v := (-1 : Int32)) hx hb dX5_fell_8 (by decide) ?_
  refine fo_iast X hw (hm2 hE) dX5_fell_9 hf (fun st1 H locs hw hf => ?_)
  refine lv_aload_n hx hb dX5_fell_10 rfl (lv_at hl 0 rfl) ?_
  refine fo_gets X hw fc_X5 (hm0 hE) (k := 3) (d := 2) (n2 := 2) (by decide) rfl rfl q1521 dX5_fell_11 ?_
  refine lv_bipush (v := (24 : Int32)) hx hb dX5_fell_14 (by decide) ?_
  refine lv_iload_n hx hb dX5_fell_16 rfl (lv_at hl 1 rfl) ?_
  refine lv_iadd hx hb dX5_fell_17 ?_
  refine lv_iconst (v := (0 : Int32)) hx hb dX5_fell_18 (by decide) ?_
  refine fo_iast X hw (hm2 hE) dX5_fell_19 hf (fun st2 H locs hw hf => ?_)
  exact fd_v hend hw hf dX5_fell_20

/-- ForestRoomsModel.pruneNow -/
def fX5_pruneNow (G : Nat) (p1 : Int32) (p2 : Int32) (st0 : fo_St) : Option (Int32 × fo_St) := bd_ (fX5_isRoom p1 st0) (fun x1 st2 => if x1 = 0 then some ((-1 : Int32), st2) else bd_ (fX5_in (p2.toInt64) (1 : Int64) (99 : Int64) st2) (fun x3 st4 => if ¬ x3 = 0 then bd_ (fX5_isTree p1 st4) (fun x5 st6 => if ¬ x5 = 0 then bv_ (fX5_remember G (1 : Int32) st6) (fun st8 => ck_ (fo_in ((24 : Int32) + p1) 5540) (ck_ (fo_in ((24 : Int32) + p1) 5540) (lt_ (si_ st8 2 ((24 : Int32) + p1).toNatClampNeg ((gi_ st8 2 ((24 : Int32) + p1).toNatClampNeg) - p2)) (fun st9 => ck_ (fo_in ((24 : Int32) + p1) 5540) (jn_ (fun (st10 : fo_St) => ck_ (fo_in ((24 : Int32) + p1) 5540) (some ((gi_ st10 2 ((24 : Int32) + p1).toNatClampNeg), st10))) (fun k11 => if 0 < (gi_ st9 2 ((24 : Int32) + p1).toNatClampNeg) then k11 st9 else bv_ (fX5_fell p1 st9) (fun st13 => k11 st13))))))) else some ((-2 : Int32), st6)) else some ((-1 : Int32), st4)))
theorem hm_X5_pruneNow : fo_M yX5_pruneNow 2 := ⟨by decide +kernel, by decide +kernel, by decide +kernel, by decide +kernel⟩
set_option maxHeartbeats 4000000 in
theorem wX5_pruneNow (l : Launch) (E : fo_E) (hE : ∀ n, et E n = tM_ n) (G : Nat) (p1 : Int32) (p2 : Int32) (st0 : fo_St) (rZ : Int32) (stZ : fo_St) (hf : fX5_pruneNow G p1 p2 st0 = some (rZ, stZ)) : CTi l E yX5_pruneNow (ws_ yX5_pruneNow cX5_pruneNow 3 (some .int)) ({ frames := 2, cells := 0, slots := 0, locals := 45 }) [.ref (eb E + 0), .int p1, .int p2] st0 rZ stZ := by
  refine fe_i hm_X5_pruneNow (Nat.le_of_ble_eq_true rfl) (fun p e R s m args below meth c Q hRf hRl X hend ls hl hw => ?_)
  have hx := X.1.1
  have hb := X.1.2.1
  have hl : lv_has ls 3 [(0, .ref (eb E + 0)), (1, .int p1), (2, .int p2)] := hl
  unfold fX5_pruneNow at hf
  generalize s.heap = H at hw ⊢
  generalize ([] : List Loc) = locs at hw ⊢
  refine lv_iload_n hx hb dX5_pruneNow_0 rfl (lv_at hl 1 rfl) ?_
  refine fc_Si (rest := []) (As := [.int p1]) X hw hm_X5_isRoom (lw_S q1737 q1738 q121 q1739) ⟨rfl, rfl⟩ ⟨by rw [hRf]; exact Nat.le_of_ble_eq_true rfl, by rw [hRl]; exact Nat.le_of_ble_eq_true rfl⟩ rfl rfl hl.1 (Nat.le_of_ble_eq_true rfl) dX5_pruneNow_1 (fun rQ stQ hQ => wX5_isRoom l E hE p1 st0 rQ stQ hQ) hf (fun x1 st2 H locs hw hf => ?_)
  refine fb_zeq (tgt := 19) hx hb dX5_pruneNow_4 (by decide) hf (fun hf => ?_) (fun hf => ?_)
  · refine lv_iconst (v := (-1 : Int32)) hx hb dX5_pruneNow_19 (by decide) ?_
    exact fd_i hend hw hf dX5_pruneNow_20
  refine lv_iload_n hx hb dX5_pruneNow_7 rfl (lv_at hl 2 rfl) ?_
  refine lv_i2l (v := p2.toInt64) hx hb dX5_pruneNow_8 rfl ?_
  refine lv_lconst (v := (1 : Int64)) hx hb dX5_pruneNow_9 rfl ?_
  refine lv_ldc2 (v := (99 : Int64)) hx hb X.1.2.2.2.1 (X.1.2.2.2.2 _ q1810) dX5_pruneNow_10 ?_
  refine fc_Si (rest := []) (As := [.long p2.toInt64, .long (1 : Int64), .long (99 : Int64)]) X hw hm_X5_in (lw_S q1722 q1723 q121 q1724) ⟨rfl, rfl⟩ ⟨by rw [hRf]; exact Nat.le_of_ble_eq_true rfl, by rw [hRl]; exact Nat.le_of_ble_eq_true rfl⟩ rfl rfl hl.1 (Nat.le_of_ble_eq_true rfl) dX5_pruneNow_13 (fun rQ stQ hQ => wX5_in l E hE (p2.toInt64) (1 : Int64) (99 : Int64) st2 rQ stQ hQ) hf (fun x3 st4 H locs hw hf => ?_)
  refine fb_zne (tgt := 21) hx hb dX5_pruneNow_16 (by decide) hf (fun hf => ?_) (fun hf => ?_)
  · refine lv_aload_n hx hb dX5_pruneNow_21 rfl (lv_at hl 0 rfl) ?_
    refine lv_iload_n hx hb dX5_pruneNow_22 rfl (lv_at hl 1 rfl) ?_
    refine fc_Vi (rest := []) (As := [.int p1]) X hw hm_X5_isTree (lw_V q1757 q1759 qs43 q121 q1760) ⟨rfl, rfl⟩ ⟨by rw [hRf]; exact Nat.le_of_ble_eq_true rfl, by rw [hRl]; exact Nat.le_of_ble_eq_true rfl⟩ fc_X5 rfl (hm0 hE) rfl rfl hl.1 (Nat.le_of_ble_eq_true rfl) dX5_pruneNow_23 (fun rQ stQ hQ => wX5_isTree l E hE p1 st4 rQ stQ hQ) hf (fun x5 st6 H locs hw hf => ?_)
    refine fb_zne (tgt := 32) hx hb dX5_pruneNow_26 (by decide) hf (fun hf => ?_) (fun hf => ?_)
    · refine lv_aload_n hx hb dX5_pruneNow_32 rfl (lv_at hl 0 rfl) ?_
      refine lv_iconst (v := (1 : Int32)) hx hb dX5_pruneNow_33 (by decide) ?_
      refine fc_Vv (rest := []) (As := [.int (1 : Int32)]) X hw hm_X5_remember (lw_V q1995 q1997 qs82 q121 q1998) ⟨rfl, rfl⟩ ⟨by rw [hRf]; exact Nat.le_of_ble_eq_true rfl, by rw [hRl]; exact Nat.le_of_ble_eq_true rfl⟩ fc_X5 rfl (hm0 hE) rfl rfl hl.1 (Nat.le_of_ble_eq_true rfl) dX5_pruneNow_34 (fun stQ hQ => wX5_remember l E hE G (1 : Int32) st6 stQ hQ) hf (fun st8 H locs hw hf => ?_)
      refine lv_aload_n hx hb dX5_pruneNow_37 rfl (lv_at hl 0 rfl) ?_
      refine fo_gets X hw fc_X5 (hm0 hE) (k := 3) (d := 2) (n2 := 2) (by decide) rfl rfl q1521 dX5_pruneNow_38 ?_
      refine lv_bipush (v := (24 : Int32)) hx hb dX5_pruneNow_41 (by decide) ?_
      refine lv_iload_n hx hb dX5_pruneNow_43 rfl (lv_at hl 1 rfl) ?_
      refine lv_iadd hx hb dX5_pruneNow_44 ?_
      refine lv_dup2_11 hx hb dX5_pruneNow_45 rfl rfl ?_
      refine fo_iald X hw (hm2 hE) dX5_pruneNow_46 hf (fun hf => ?_)
      refine lv_iload_n hx hb dX5_pruneNow_47 rfl (lv_at hl 2 rfl) ?_
      refine lv_isub hx hb dX5_pruneNow_48 ?_
      refine fo_iast X hw (hm2 hE) dX5_pruneNow_49 hf (fun st9 H locs hw hf => ?_)
      refine lv_aload_n hx hb dX5_pruneNow_50 rfl (lv_at hl 0 rfl) ?_
      refine fo_gets X hw fc_X5 (hm0 hE) (k := 3) (d := 2) (n2 := 2) (by decide) rfl rfl q1521 dX5_pruneNow_51 ?_
      refine lv_bipush (v := (24 : Int32)) hx hb dX5_pruneNow_54 (by decide) ?_
      refine lv_iload_n hx hb dX5_pruneNow_56 rfl (lv_at hl 1 rfl) ?_
      refine lv_iadd hx hb dX5_pruneNow_57 ?_
      refine fo_iald X hw (hm2 hE) dX5_pruneNow_58 hf (fun hf => ?_)
      refine jn_e hf (fun k11 ek hf => ?_)
      have hk11 : ∀  (st10 : fo_St) (H : Heap) (locs : List Loc) (ls : Array Slot), lv_has ls 3 [(0, .ref (eb E + 0)), (1, .int p1)] → fo_S E s st10 H locs → k11 st10 = some (rZ, stZ) → W p l e R s m args below meth c H locs 0 0 Q (F0 m 67 ls []) := by
        intro st10 H locs ls hl hw hf
        rw [ek] at hf
        refine lv_aload_n hx hb dX5_pruneNow_67 rfl (lv_at hl 0 rfl) ?_
        refine fo_gets X hw fc_X5 (hm0 hE) (k := 3) (d := 2) (n2 := 2) (by decide) rfl rfl q1521 dX5_pruneNow_68 ?_
        refine lv_bipush (v := (24 : Int32)) hx hb dX5_pruneNow_71 (by decide) ?_
        refine lv_iload_n hx hb dX5_pruneNow_73 rfl (lv_at hl 1 rfl) ?_
        refine lv_iadd hx hb dX5_pruneNow_74 ?_
        refine fo_iald X hw (hm2 hE) dX5_pruneNow_75 hf (fun hf => ?_)
        exact fd_i hend hw hf dX5_pruneNow_76
      clear ek
      refine fb_zgt (tgt := 67) hx hb dX5_pruneNow_59 (by decide) hf (fun hf => ?_) (fun hf => ?_)
      · exact hk11 _ _ _ _ (lv_sub hl [0, 1] rfl) hw hf
      refine lv_aload_n hx hb dX5_pruneNow_62 rfl (lv_at hl 0 rfl) ?_
      refine lv_iload_n hx hb dX5_pruneNow_63 rfl (lv_at hl 1 rfl) ?_
      refine fc_Vv (rest := []) (As := [.int p1]) X hw hm_X5_fell (lw_V q2011 q2013 qs85 q121 q2014) ⟨rfl, rfl⟩ ⟨by rw [hRf]; exact Nat.le_of_ble_eq_true rfl, by rw [hRl]; exact Nat.le_of_ble_eq_true rfl⟩ fc_X5 rfl (hm0 hE) rfl rfl hl.1 (Nat.le_of_ble_eq_true rfl) dX5_pruneNow_64 (fun stQ hQ => wX5_fell l E hE p1 st9 stQ hQ) hf (fun st13 H locs hw hf => ?_)
      exact hk11 _ _ _ _ (lv_sub hl [0, 1] rfl) hw hf
    refine lv_bipush (v := (-2 : Int32)) hx hb dX5_pruneNow_29 (by decide) ?_
    exact fd_i hend hw hf dX5_pruneNow_31
  refine lv_iconst (v := (-1 : Int32)) hx hb dX5_pruneNow_19 (by decide) ?_
  exact fd_i hend hw hf dX5_pruneNow_20

/-- ForestRoomsModel.prune -/
def fX5_prune (G : Nat) (p1 : Int32) (p2 : Int32) (st0 : fo_St) : Option (Int32 × fo_St) := lt_ (si_ st0 0 0 (0 : Int32)) (fun st1 => bd_ (fX5_pruneNow G p1 p2 st1) (fun x2 st3 => bd_ (fX5_tell x2 st3) (fun x4 st5 => some (x4, st5))))
theorem hm_X5_prune : fo_M yX5_prune 2 := ⟨by decide +kernel, by decide +kernel, by decide +kernel, by decide +kernel⟩
set_option maxHeartbeats 4000000 in
theorem wX5_prune (l : Launch) (E : fo_E) (hE : ∀ n, et E n = tM_ n) (G : Nat) (p1 : Int32) (p2 : Int32) (st0 : fo_St) (rZ : Int32) (stZ : fo_St) (hf : fX5_prune G p1 p2 st0 = some (rZ, stZ)) : CTi l E yX5_prune (ws_ yX5_prune cX5_prune 3 (some .int)) ({ frames := 3, cells := 0, slots := 0, locals := 67 }) [.ref (eb E + 0), .int p1, .int p2] st0 rZ stZ := by
  refine fe_i hm_X5_prune (Nat.le_of_ble_eq_true rfl) (fun p e R s m args below meth c Q hRf hRl X hend ls hl hw => ?_)
  have hx := X.1.1
  have hb := X.1.2.1
  have hl : lv_has ls 3 [(0, .ref (eb E + 0)), (1, .int p1), (2, .int p2)] := hl
  unfold fX5_prune at hf
  generalize s.heap = H at hw ⊢
  generalize ([] : List Loc) = locs at hw ⊢
  refine lv_aload_n hx hb dX5_prune_0 rfl (lv_at hl 0 rfl) ?_
  refine lv_iconst (v := (0 : Int32)) hx hb dX5_prune_1 (by decide) ?_
  refine fo_puti X hw fc_X5 (hm0 hE) (k := 0) (by decide) rfl rfl q1518 ⟨rfl, rfl⟩ dX5_prune_2 hf (fun st1 H locs hw hf => ?_)
  refine lv_aload_n hx hb dX5_prune_5 rfl (lv_at hl 0 rfl) ?_
  refine lv_aload_n hx hb dX5_prune_6 rfl (lv_at hl 0 rfl) ?_
  refine lv_iload_n hx hb dX5_prune_7 rfl (lv_at hl 1 rfl) ?_
  refine lv_iload_n hx hb dX5_prune_8 rfl (lv_at hl 2 rfl) ?_
  refine fc_Vi (rest := [.ref (eb E + 0)]) (As := [.int p1, .int p2]) X hw hm_X5_pruneNow (lw_V q2007 q2009 qs84 q121 q2010) ⟨rfl, rfl⟩ ⟨by rw [hRf]; exact Nat.le_of_ble_eq_true rfl, by rw [hRl]; exact Nat.le_of_ble_eq_true rfl⟩ fc_X5 rfl (hm0 hE) rfl rfl hl.1 (Nat.le_of_ble_eq_true rfl) dX5_prune_9 (fun rQ stQ hQ => wX5_pruneNow l E hE G p1 p2 st1 rQ stQ hQ) hf (fun x2 st3 H locs hw hf => ?_)
  refine fc_Vi (rest := []) (As := [.int x2]) X hw hm_X5_tell (lw_V q1710 q1712 qs38 q121 q1713) ⟨rfl, rfl⟩ ⟨by rw [hRf]; exact Nat.le_of_ble_eq_true rfl, by rw [hRl]; exact Nat.le_of_ble_eq_true rfl⟩ fc_X5 rfl (hm0 hE) rfl rfl hl.1 (Nat.le_of_ble_eq_true rfl) dX5_prune_12 (fun rQ stQ hQ => wX5_tell l E hE x2 st3 rQ stQ hQ) hf (fun x4 st5 H locs hw hf => ?_)
  exact fd_i hend hw hf dX5_prune_15

/-- ForestRoomsModel.letNow -/
def fX5_letNow (G : Nat) (p1 : Int32) (p2 : Int32) (st0 : fo_St) : Option (Int32 × fo_St) := bd_ (fX5_isRoom p1 st0) (fun x1 st2 => if x1 = 0 then some ((-1 : Int32), st2) else bd_ (fX5_in (p2.toInt64) (0 : Int64) (5 : Int64) st2) (fun x3 st4 => if ¬ x3 = 0 then ck_ (fo_in ((40 : Int32) + p1) 5540) (if ¬ (gi_ st4 2 ((40 : Int32) + p1).toNatClampNeg) = (-1 : Int32) then some ((-3 : Int32), st4) else bd_ (fX5_roomOf G p2 st4) (fun x5 st6 => if ¬ x5 = (-1 : Int32) then some ((-3 : Int32), st6) else bd_ (fX5_isLost p1 st6) (fun x7 st8 => if ¬ x7 = 0 then some ((-3 : Int32), st8) else bd_ (fX5_isBarred G p2 p1 st8) (fun x9 st10 => if x9 = 0 then bv_ (fX5_remember G (2 : Int32) st10) (fun st12 => ck_ (fo_in ((40 : Int32) + p1) 5540) (lt_ (si_ st12 2 ((40 : Int32) + p1).toNatClampNeg p2) (fun st13 => some ((0 : Int32), st13)))) else some ((-3 : Int32), st10))))) else some ((-1 : Int32), st4)))
theorem hm_X5_letNow : fo_M yX5_letNow 2 := ⟨by decide +kernel, by decide +kernel, by decide +kernel, by decide +kernel⟩
set_option maxHeartbeats 4000000 in
theorem wX5_letNow (l : Launch) (E : fo_E) (hE : ∀ n, et E n = tM_ n) (G : Nat) (p1 : Int32) (p2 : Int32) (st0 : fo_St) (rZ : Int32) (stZ : fo_St) (hf : fX5_letNow G p1 p2 st0 = some (rZ, stZ)) : CTi l E yX5_letNow (ws_ yX5_letNow cX5_letNow 3 (some .int)) ({ frames := 5, cells := 0, slots := 0, locals := 125 }) [.ref (eb E + 0), .int p1, .int p2] st0 rZ stZ := by
  refine fe_i hm_X5_letNow (Nat.le_of_ble_eq_true rfl) (fun p e R s m args below meth c Q hRf hRl X hend ls hl hw => ?_)
  have hx := X.1.1
  have hb := X.1.2.1
  have hl : lv_has ls 3 [(0, .ref (eb E + 0)), (1, .int p1), (2, .int p2)] := hl
  unfold fX5_letNow at hf
  generalize s.heap = H at hw ⊢
  generalize ([] : List Loc) = locs at hw ⊢
  refine lv_iload_n hx hb dX5_letNow_0 rfl (lv_at hl 1 rfl) ?_
  refine fc_Si (rest := []) (As := [.int p1]) X hw hm_X5_isRoom (lw_S q1737 q1738 q121 q1739) ⟨rfl, rfl⟩ ⟨by rw [hRf]; exact Nat.le_of_ble_eq_true rfl, by rw [hRl]; exact Nat.le_of_ble_eq_true rfl⟩ rfl rfl hl.1 (Nat.le_of_ble_eq_true rfl) dX5_letNow_1 (fun rQ stQ hQ => wX5_isRoom l E hE p1 st0 rQ stQ hQ) hf (fun x1 st2 H locs hw hf => ?_)
  refine fb_zeq (tgt := 19) hx hb dX5_letNow_4 (by decide) hf (fun hf => ?_) (fun hf => ?_)
  · refine lv_iconst (v := (-1 : Int32)) hx hb dX5_letNow_19 (by decide) ?_
    exact fd_i hend hw hf dX5_letNow_20
  refine lv_iload_n hx hb dX5_letNow_7 rfl (lv_at hl 2 rfl) ?_
  refine lv_i2l (v := p2.toInt64) hx hb dX5_letNow_8 rfl ?_
  refine lv_lconst (v := (0 : Int64)) hx hb dX5_letNow_9 rfl ?_
  refine lv_ldc2 (v := (5 : Int64)) hx hb X.1.2.2.2.1 (X.1.2.2.2.2 _ q1804) dX5_letNow_10 ?_
  refine fc_Si (rest := []) (As := [.long p2.toInt64, .long (0 : Int64), .long (5 : Int64)]) X hw hm_X5_in (lw_S q1722 q1723 q121 q1724) ⟨rfl, rfl⟩ ⟨by rw [hRf]; exact Nat.le_of_ble_eq_true rfl, by rw [hRl]; exact Nat.le_of_ble_eq_true rfl⟩ rfl rfl hl.1 (Nat.le_of_ble_eq_true rfl) dX5_letNow_13 (fun rQ stQ hQ => wX5_in l E hE (p2.toInt64) (0 : Int64) (5 : Int64) st2 rQ stQ hQ) hf (fun x3 st4 H locs hw hf => ?_)
  refine fb_zne (tgt := 21) hx hb dX5_letNow_16 (by decide) hf (fun hf => ?_) (fun hf => ?_)
  · refine lv_aload_n hx hb dX5_letNow_21 rfl (lv_at hl 0 rfl) ?_
    refine fo_gets X hw fc_X5 (hm0 hE) (k := 3) (d := 2) (n2 := 2) (by decide) rfl rfl q1521 dX5_letNow_22 ?_
    refine lv_bipush (v := (40 : Int32)) hx hb dX5_letNow_25 (by decide) ?_
    refine lv_iload_n hx hb dX5_letNow_27 rfl (lv_at hl 1 rfl) ?_
    refine lv_iadd hx hb dX5_letNow_28 ?_
    refine fo_iald X hw (hm2 hE) dX5_letNow_29 hf (fun hf => ?_)
    refine lv_iconst (v := (-1 : Int32)) hx hb dX5_letNow_30 (by decide) ?_
    refine fb_ine (tgt := 60) hx hb dX5_letNow_31 (by decide) hf (fun hf => ?_) (fun hf => ?_)
    · refine lv_bipush (v := (-3 : Int32)) hx hb dX5_letNow_60 (by decide) ?_
      exact fd_i hend hw hf dX5_letNow_62
    refine lv_aload_n hx hb dX5_letNow_34 rfl (lv_at hl 0 rfl) ?_
    refine lv_iload_n hx hb dX5_letNow_35 rfl (lv_at hl 2 rfl) ?_
    refine fc_Vi (rest := []) (As := [.int p2]) X hw hm_X5_roomOf (lw_V q1971 q1973 qs78 q121 q1974) ⟨rfl, rfl⟩ ⟨by rw [hRf]; exact Nat.le_of_ble_eq_true rfl, by rw [hRl]; exact Nat.le_of_ble_eq_true rfl⟩ fc_X5 rfl (hm0 hE) rfl rfl hl.1 (Nat.le_of_ble_eq_true rfl) dX5_letNow_36 (fun rQ stQ hQ => wX5_roomOf l E hE G p2 st4 rQ stQ hQ) hf (fun x5 st6 H locs hw hf => ?_)
    refine lv_iconst (v := (-1 : Int32)) hx hb dX5_letNow_39 (by decide) ?_
    refine fb_ine (tgt := 60) hx hb dX5_letNow_40 (by decide) hf (fun hf => ?_) (fun hf => ?_)
    · refine lv_bipush (v := (-3 : Int32)) hx hb dX5_letNow_60 (by decide) ?_
      exact fd_i hend hw hf dX5_letNow_62
    refine lv_aload_n hx hb dX5_letNow_43 rfl (lv_at hl 0 rfl) ?_
    refine lv_iload_n hx hb dX5_letNow_44 rfl (lv_at hl 1 rfl) ?_
    refine fc_Vi (rest := []) (As := [.int p1]) X hw hm_X5_isLost (lw_V q1753 q1755 qs42 q121 q1756) ⟨rfl, rfl⟩ ⟨by rw [hRf]; exact Nat.le_of_ble_eq_true rfl, by rw [hRl]; exact Nat.le_of_ble_eq_true rfl⟩ fc_X5 rfl (hm0 hE) rfl rfl hl.1 (Nat.le_of_ble_eq_true rfl) dX5_letNow_45 (fun rQ stQ hQ => wX5_isLost l E hE p1 st6 rQ stQ hQ) hf (fun x7 st8 H locs hw hf => ?_)
    refine fb_zne (tgt := 60) hx hb dX5_letNow_48 (by decide) hf (fun hf => ?_) (fun hf => ?_)
    · refine lv_bipush (v := (-3 : Int32)) hx hb dX5_letNow_60 (by decide) ?_
      exact fd_i hend hw hf dX5_letNow_62
    refine lv_aload_n hx hb dX5_letNow_51 rfl (lv_at hl 0 rfl) ?_
    refine lv_iload_n hx hb dX5_letNow_52 rfl (lv_at hl 2 rfl) ?_
    refine lv_iload_n hx hb dX5_letNow_53 rfl (lv_at hl 1 rfl) ?_
    refine fc_Vi (rest := []) (As := [.int p2, .int p1]) X hw hm_X5_isBarred (lw_V q1967 q1969 qs77 q121 q1970) ⟨rfl, rfl⟩ ⟨by rw [hRf]; exact Nat.le_of_ble_eq_true rfl, by rw [hRl]; exact Nat.le_of_ble_eq_true rfl⟩ fc_X5 rfl (hm0 hE) rfl rfl hl.1 (Nat.le_of_ble_eq_true rfl) dX5_letNow_54 (fun rQ stQ hQ => wX5_isBarred l E hE G p2 p1 st8 rQ stQ hQ) hf (fun x9 st10 H locs hw hf => ?_)
    refine fb_zeq (tgt := 63) hx hb dX5_letNow_57 (by decide) hf (fun hf => ?_) (fun hf => ?_)
    · refine lv_aload_n hx hb dX5_letNow_63 rfl (lv_at hl 0 rfl) ?_
      refine lv_iconst (v := (2 : Int32)) hx hb dX5_letNow_64 (by decide) ?_
      refine fc_Vv (rest := []) (As := [.int (2 : Int32)]) X hw hm_X5_remember (lw_V q1995 q1997 qs82 q121 q1998) ⟨rfl, rfl⟩ ⟨by rw [hRf]; exact Nat.le_of_ble_eq_true rfl, by rw [hRl]; exact Nat.le_of_ble_eq_true rfl⟩ fc_X5 rfl (hm0 hE) rfl rfl hl.1 (Nat.le_of_ble_eq_true rfl) dX5_letNow_65 (fun stQ hQ => wX5_remember l E hE G (2 : Int32) st10 stQ hQ) hf (fun st12 H locs hw hf => ?_)
      refine lv_aload_n hx hb dX5_letNow_68 rfl (lv_at hl 0 rfl) ?_
      refine fo_gets X hw fc_X5 (hm0 hE) (k := 3) (d := 2) (n2 := 2) (by decide) rfl rfl q1521 dX5_letNow_69 ?_
      refine lv_bipush (v := (40 : Int32)) hx hb dX5_letNow_72 (by decide) ?_
      refine lv_iload_n hx hb dX5_letNow_74 rfl (lv_at hl 1 rfl) ?_
      refine lv_iadd hx hb dX5_letNow_75 ?_
      refine lv_iload_n hx hb dX5_letNow_76 rfl (lv_at hl 2 rfl) ?_
      refine fo_iast X hw (hm2 hE) dX5_letNow_77 hf (fun st13 H locs hw hf => ?_)
      refine lv_iconst (v := (0 : Int32)) hx hb dX5_letNow_78 (by decide) ?_
      exact fd_i hend hw hf dX5_letNow_79
    refine lv_bipush (v := (-3 : Int32)) hx hb dX5_letNow_60 (by decide) ?_
    exact fd_i hend hw hf dX5_letNow_62
  refine lv_iconst (v := (-1 : Int32)) hx hb dX5_letNow_19 (by decide) ?_
  exact fd_i hend hw hf dX5_letNow_20

/-- ForestRoomsModel.let -/
def fX5_let (G : Nat) (p1 : Int32) (p2 : Int32) (st0 : fo_St) : Option (Int32 × fo_St) := lt_ (si_ st0 0 0 (0 : Int32)) (fun st1 => bd_ (fX5_letNow G p1 p2 st1) (fun x2 st3 => bd_ (fX5_tell x2 st3) (fun x4 st5 => some (x4, st5))))
theorem hm_X5_let : fo_M yX5_let 2 := ⟨by decide +kernel, by decide +kernel, by decide +kernel, by decide +kernel⟩
set_option maxHeartbeats 4000000 in
theorem wX5_let (l : Launch) (E : fo_E) (hE : ∀ n, et E n = tM_ n) (G : Nat) (p1 : Int32) (p2 : Int32) (st0 : fo_St) (rZ : Int32) (stZ : fo_St) (hf : fX5_let G p1 p2 st0 = some (rZ, stZ)) : CTi l E yX5_let (ws_ yX5_let cX5_let 3 (some .int)) ({ frames := 6, cells := 0, slots := 0, locals := 147 }) [.ref (eb E + 0), .int p1, .int p2] st0 rZ stZ := by
  refine fe_i hm_X5_let (Nat.le_of_ble_eq_true rfl) (fun p e R s m args below meth c Q hRf hRl X hend ls hl hw => ?_)
  have hx := X.1.1
  have hb := X.1.2.1
  have hl : lv_has ls 3 [(0, .ref (eb E + 0)), (1, .int p1), (2, .int p2)] := hl
  unfold fX5_let at hf
  generalize s.heap = H at hw ⊢
  generalize ([] : List Loc) = locs at hw ⊢
  refine lv_aload_n hx hb dX5_let_0 rfl (lv_at hl 0 rfl) ?_
  refine lv_iconst (v := (0 : Int32)) hx hb dX5_let_1 (by decide) ?_
  refine fo_puti X hw fc_X5 (hm0 hE) (k := 0) (by decide) rfl rfl q1518 ⟨rfl, rfl⟩ dX5_let_2 hf (fun st1 H locs hw hf => ?_)
  refine lv_aload_n hx hb dX5_let_5 rfl (lv_at hl 0 rfl) ?_
  refine lv_aload_n hx hb dX5_let_6 rfl (lv_at hl 0 rfl) ?_
  refine lv_iload_n hx hb dX5_let_7 rfl (lv_at hl 1 rfl) ?_
  refine lv_iload_n hx hb dX5_let_8 rfl (lv_at hl 2 rfl) ?_
  refine fc_Vi (rest := [.ref (eb E + 0)]) (As := [.int p1, .int p2]) X hw hm_X5_letNow (lw_V q2019 q2021 qs86 q121 q2022) ⟨rfl, rfl⟩ ⟨by rw [hRf]; exact Nat.le_of_ble_eq_true rfl, by rw [hRl]; exact Nat.le_of_ble_eq_true rfl⟩ fc_X5 rfl (hm0 hE) rfl rfl hl.1 (Nat.le_of_ble_eq_true rfl) dX5_let_9 (fun rQ stQ hQ => wX5_letNow l E hE G p1 p2 st1 rQ stQ hQ) hf (fun x2 st3 H locs hw hf => ?_)
  refine fc_Vi (rest := []) (As := [.int x2]) X hw hm_X5_tell (lw_V q1710 q1712 qs38 q121 q1713) ⟨rfl, rfl⟩ ⟨by rw [hRf]; exact Nat.le_of_ble_eq_true rfl, by rw [hRl]; exact Nat.le_of_ble_eq_true rfl⟩ fc_X5 rfl (hm0 hE) rfl rfl hl.1 (Nat.le_of_ble_eq_true rfl) dX5_let_12 (fun rQ stQ hQ => wX5_tell l E hE x2 st3 rQ stQ hQ) hf (fun x4 st5 H locs hw hf => ?_)
  exact fd_i hend hw hf dX5_let_15

/-- ForestRoomsModel.emptyNow -/
def fX5_emptyNow (G : Nat) (p1 : Int32) (st0 : fo_St) : Option (Int32 × fo_St) := bd_ (fX5_isRoom p1 st0) (fun x1 st2 => if ¬ x1 = 0 then ck_ (fo_in ((40 : Int32) + p1) 5540) (if ¬ (gi_ st2 2 ((40 : Int32) + p1).toNatClampNeg) = (-1 : Int32) then bv_ (fX5_remember G (3 : Int32) st2) (fun st4 => ck_ (fo_in ((40 : Int32) + p1) 5540) (lI_ (gi_ st4 2 ((40 : Int32) + p1).toNatClampNeg) (fun x5 => ck_ (fo_in ((40 : Int32) + p1) 5540) (lt_ (si_ st4 2 ((40 : Int32) + p1).toNatClampNeg (-1 : Int32)) (fun st6 => some (x5, st6)))))) else some ((-2 : Int32), st2)) else some ((-1 : Int32), st2))
theorem hm_X5_emptyNow : fo_M yX5_emptyNow 1 := ⟨by decide +kernel, by decide +kernel, by decide +kernel, by decide +kernel⟩
set_option maxHeartbeats 4000000 in
theorem wX5_emptyNow (l : Launch) (E : fo_E) (hE : ∀ n, et E n = tM_ n) (G : Nat) (p1 : Int32) (st0 : fo_St) (rZ : Int32) (stZ : fo_St) (hf : fX5_emptyNow G p1 st0 = some (rZ, stZ)) : CTi l E yX5_emptyNow (ws_ yX5_emptyNow cX5_emptyNow 3 (some .int)) ({ frames := 2, cells := 0, slots := 0, locals := 45 }) [.ref (eb E + 0), .int p1] st0 rZ stZ := by
  refine fe_i hm_X5_emptyNow (Nat.le_of_ble_eq_true rfl) (fun p e R s m args below meth c Q hRf hRl X hend ls hl hw => ?_)
  have hx := X.1.1
  have hb := X.1.2.1
  have hl : lv_has ls 3 [(0, .ref (eb E + 0)), (1, .int p1)] := hl
  unfold fX5_emptyNow at hf
  generalize s.heap = H at hw ⊢
  generalize ([] : List Loc) = locs at hw ⊢
  refine lv_iload_n hx hb dX5_emptyNow_0 rfl (lv_at hl 1 rfl) ?_
  refine fc_Si (rest := []) (As := [.int p1]) X hw hm_X5_isRoom (lw_S q1737 q1738 q121 q1739) ⟨rfl, rfl⟩ ⟨by rw [hRf]; exact Nat.le_of_ble_eq_true rfl, by rw [hRl]; exact Nat.le_of_ble_eq_true rfl⟩ rfl rfl hl.1 (Nat.le_of_ble_eq_true rfl) dX5_emptyNow_1 (fun rQ stQ hQ => wX5_isRoom l E hE p1 st0 rQ stQ hQ) hf (fun x1 st2 H locs hw hf => ?_)
  refine fb_zne (tgt := 9) hx hb dX5_emptyNow_4 (by decide) hf (fun hf => ?_) (fun hf => ?_)
  · refine lv_aload_n hx hb dX5_emptyNow_9 rfl (lv_at hl 0 rfl) ?_
    refine fo_gets X hw fc_X5 (hm0 hE) (k := 3) (d := 2) (n2 := 2) (by decide) rfl rfl q1521 dX5_emptyNow_10 ?_
    refine lv_bipush (v := (40 : Int32)) hx hb dX5_emptyNow_13 (by decide) ?_
    refine lv_iload_n hx hb dX5_emptyNow_15 rfl (lv_at hl 1 rfl) ?_
    refine lv_iadd hx hb dX5_emptyNow_16 ?_
    refine fo_iald X hw (hm2 hE) dX5_emptyNow_17 hf (fun hf => ?_)
    refine lv_iconst (v := (-1 : Int32)) hx hb dX5_emptyNow_18 (by decide) ?_
    refine fb_ine (tgt := 25) hx hb dX5_emptyNow_19 (by decide) hf (fun hf => ?_) (fun hf => ?_)
    · refine lv_aload_n hx hb dX5_emptyNow_25 rfl (lv_at hl 0 rfl) ?_
      refine lv_iconst (v := (3 : Int32)) hx hb dX5_emptyNow_26 (by decide) ?_
      refine fc_Vv (rest := []) (As := [.int (3 : Int32)]) X hw hm_X5_remember (lw_V q1995 q1997 qs82 q121 q1998) ⟨rfl, rfl⟩ ⟨by rw [hRf]; exact Nat.le_of_ble_eq_true rfl, by rw [hRl]; exact Nat.le_of_ble_eq_true rfl⟩ fc_X5 rfl (hm0 hE) rfl rfl hl.1 (Nat.le_of_ble_eq_true rfl) dX5_emptyNow_27 (fun stQ hQ => wX5_remember l E hE G (3 : Int32) st2 stQ hQ) hf (fun st4 H locs hw hf => ?_)
      refine lv_aload_n hx hb dX5_emptyNow_30 rfl (lv_at hl 0 rfl) ?_
      refine fo_gets X hw fc_X5 (hm0 hE) (k := 3) (d := 2) (n2 := 2) (by decide) rfl rfl q1521 dX5_emptyNow_31 ?_
      refine lv_bipush (v := (40 : Int32)) hx hb dX5_emptyNow_34 (by decide) ?_
      refine lv_iload_n hx hb dX5_emptyNow_36 rfl (lv_at hl 1 rfl) ?_
      refine lv_iadd hx hb dX5_emptyNow_37 ?_
      refine fo_iald X hw (hm2 hE) dX5_emptyNow_38 hf (fun hf => ?_)
      refine fo_tI hf (fun x5 hf => ?_)
      refine lv_istore_n (lv' := [(2, .int x5), (0, .ref (eb E + 0)), (1, .int p1)]) hx hb dX5_emptyNow_39 rfl hl (by decide) rfl (fun ls hl => ?_)
      refine lv_aload_n hx hb dX5_emptyNow_40 rfl (lv_at hl 1 rfl) ?_
      refine fo_gets X hw fc_X5 (hm0 hE) (k := 3) (d := 2) (n2 := 2) (by decide) rfl rfl q1521 dX5_emptyNow_41 ?_
      refine lv_bipush (v := (40 : Int32)) hx hb dX5_emptyNow_44 (by decide) ?_
      refine lv_iload_n hx hb dX5_emptyNow_46 rfl (lv_at hl 2 rfl) ?_
      refine lv_iadd hx hb dX5_emptyNow_47 ?_
      refine lv_iconst (v := (-1 : Int32)) hx hb dX5_emptyNow_48 (by decide) ?_
      refine fo_iast X hw (hm2 hE) dX5_emptyNow_49 hf (fun st6 H locs hw hf => ?_)
      refine lv_iload_n hx hb dX5_emptyNow_50 rfl (lv_at hl 0 rfl) ?_
      exact fd_i hend hw hf dX5_emptyNow_51
    refine lv_bipush (v := (-2 : Int32)) hx hb dX5_emptyNow_22 (by decide) ?_
    exact fd_i hend hw hf dX5_emptyNow_24
  refine lv_iconst (v := (-1 : Int32)) hx hb dX5_emptyNow_7 (by decide) ?_
  exact fd_i hend hw hf dX5_emptyNow_8

/-- ForestRoomsModel.empty -/
def fX5_empty (G : Nat) (p1 : Int32) (st0 : fo_St) : Option (Int32 × fo_St) := lt_ (si_ st0 0 0 (0 : Int32)) (fun st1 => bd_ (fX5_emptyNow G p1 st1) (fun x2 st3 => bd_ (fX5_tell x2 st3) (fun x4 st5 => some (x4, st5))))
theorem hm_X5_empty : fo_M yX5_empty 1 := ⟨by decide +kernel, by decide +kernel, by decide +kernel, by decide +kernel⟩
set_option maxHeartbeats 4000000 in
theorem wX5_empty (l : Launch) (E : fo_E) (hE : ∀ n, et E n = tM_ n) (G : Nat) (p1 : Int32) (st0 : fo_St) (rZ : Int32) (stZ : fo_St) (hf : fX5_empty G p1 st0 = some (rZ, stZ)) : CTi l E yX5_empty (ws_ yX5_empty cX5_empty 2 (some .int)) ({ frames := 3, cells := 0, slots := 0, locals := 67 }) [.ref (eb E + 0), .int p1] st0 rZ stZ := by
  refine fe_i hm_X5_empty (Nat.le_of_ble_eq_true rfl) (fun p e R s m args below meth c Q hRf hRl X hend ls hl hw => ?_)
  have hx := X.1.1
  have hb := X.1.2.1
  have hl : lv_has ls 2 [(0, .ref (eb E + 0)), (1, .int p1)] := hl
  unfold fX5_empty at hf
  generalize s.heap = H at hw ⊢
  generalize ([] : List Loc) = locs at hw ⊢
  refine lv_aload_n hx hb dX5_empty_0 rfl (lv_at hl 0 rfl) ?_
  refine lv_iconst (v := (0 : Int32)) hx hb dX5_empty_1 (by decide) ?_
  refine fo_puti X hw fc_X5 (hm0 hE) (k := 0) (by decide) rfl rfl q1518 ⟨rfl, rfl⟩ dX5_empty_2 hf (fun st1 H locs hw hf => ?_)
  refine lv_aload_n hx hb dX5_empty_5 rfl (lv_at hl 0 rfl) ?_
  refine lv_aload_n hx hb dX5_empty_6 rfl (lv_at hl 0 rfl) ?_
  refine lv_iload_n hx hb dX5_empty_7 rfl (lv_at hl 1 rfl) ?_
  refine fc_Vi (rest := [.ref (eb E + 0)]) (As := [.int p1]) X hw hm_X5_emptyNow (lw_V q2027 q2029 qs87 q121 q2030) ⟨rfl, rfl⟩ ⟨by rw [hRf]; exact Nat.le_of_ble_eq_true rfl, by rw [hRl]; exact Nat.le_of_ble_eq_true rfl⟩ fc_X5 rfl (hm0 hE) rfl rfl hl.1 (Nat.le_of_ble_eq_true rfl) dX5_empty_8 (fun rQ stQ hQ => wX5_emptyNow l E hE G p1 st1 rQ stQ hQ) hf (fun x2 st3 H locs hw hf => ?_)
  refine fc_Vi (rest := []) (As := [.int x2]) X hw hm_X5_tell (lw_V q1710 q1712 qs38 q121 q1713) ⟨rfl, rfl⟩ ⟨by rw [hRf]; exact Nat.le_of_ble_eq_true rfl, by rw [hRl]; exact Nat.le_of_ble_eq_true rfl⟩ fc_X5 rfl (hm0 hE) rfl rfl hl.1 (Nat.le_of_ble_eq_true rfl) dX5_empty_11 (fun rQ stQ hQ => wX5_tell l E hE x2 st3 rQ stQ hQ) hf (fun x4 st5 H locs hw hf => ?_)
  exact fd_i hend hw hf dX5_empty_14

/-- ForestRoomsModel.areBeside -/
def fX5_areBeside (p1 : Int32) (p2 : Int32) (st0 : fo_St) : Option (Int32 × fo_St) := lI_ ((irem_ p1 (4 : Int32)) - (irem_ p2 (4 : Int32))) (fun x1 => lI_ ((p1 / (4 : Int32)) - (p2 / (4 : Int32))) (fun x2 => if ¬ ((x1 * x1) + (x2 * x2)) = (1 : Int32) then some ((0 : Int32), st0) else some ((1 : Int32), st0)))
theorem hm_X5_areBeside : fo_M yX5_areBeside 2 := ⟨by decide +kernel, by decide +kernel, by decide +kernel, by decide +kernel⟩
set_option maxHeartbeats 4000000 in
theorem wX5_areBeside (l : Launch) (E : fo_E) (hE : ∀ n, et E n = tM_ n) (p1 : Int32) (p2 : Int32) (st0 : fo_St) (rZ : Int32) (stZ : fo_St) (hf : fX5_areBeside p1 p2 st0 = some (rZ, stZ)) : CTi l E yX5_areBeside (ws_ yX5_areBeside cX5_areBeside 4 (some .boolean)) ({ frames := 0, cells := 0, slots := 0, locals := 0 }) [.int p1, .int p2] st0 rZ stZ := by
  refine fe_z hm_X5_areBeside (Nat.le_of_ble_eq_true rfl) (fun p e R s m args below meth c Q hRf hRl X hend ls hl hw => ?_)
  have hx := X.1.1
  have hb := X.1.2.1
  have hl : lv_has ls 4 [(0, .int p1), (1, .int p2)] := hl
  unfold fX5_areBeside at hf
  generalize s.heap = H at hw ⊢
  generalize ([] : List Loc) = locs at hw ⊢
  refine lv_iload_n hx hb dX5_areBeside_0 rfl (lv_at hl 0 rfl) ?_
  refine lv_iconst (v := (4 : Int32)) hx hb dX5_areBeside_1 (by decide) ?_
  refine fb_iremK hx hb dX5_areBeside_2 (by decide) ?_
  refine lv_iload_n hx hb dX5_areBeside_3 rfl (lv_at hl 1 rfl) ?_
  refine lv_iconst (v := (4 : Int32)) hx hb dX5_areBeside_4 (by decide) ?_
  refine fb_iremK hx hb dX5_areBeside_5 (by decide) ?_
  refine lv_isub hx hb dX5_areBeside_6 ?_
  refine fo_tI hf (fun x1 hf => ?_)
  refine lv_istore_n (lv' := [(2, .int x1), (0, .int p1), (1, .int p2)]) hx hb dX5_areBeside_7 rfl hl (by decide) rfl (fun ls hl => ?_)
  refine lv_iload_n hx hb dX5_areBeside_8 rfl (lv_at hl 1 rfl) ?_
  refine lv_iconst (v := (4 : Int32)) hx hb dX5_areBeside_9 (by decide) ?_
  refine fb_idivK hx hb dX5_areBeside_10 (by decide) ?_
  refine lv_iload_n hx hb dX5_areBeside_11 rfl (lv_at hl 2 rfl) ?_
  refine lv_iconst (v := (4 : Int32)) hx hb dX5_areBeside_12 (by decide) ?_
  refine fb_idivK hx hb dX5_areBeside_13 (by decide) ?_
  refine lv_isub hx hb dX5_areBeside_14 ?_
  refine fo_tI hf (fun x2 hf => ?_)
  refine lv_istore_n (lv' := [(3, .int x2), (2, .int x1), (0, .int p1), (1, .int p2)]) hx hb dX5_areBeside_15 rfl hl (by decide) rfl (fun ls hl => ?_)
  refine lv_iload_n hx hb dX5_areBeside_16 rfl (lv_at hl 1 rfl) ?_
  refine lv_iload_n hx hb dX5_areBeside_17 rfl (lv_at hl 1 rfl) ?_
  refine lv_imul hx hb dX5_areBeside_18 ?_
  refine lv_iload_n hx hb dX5_areBeside_19 rfl (lv_at hl 0 rfl) ?_
  refine lv_iload_n hx hb dX5_areBeside_20 rfl (lv_at hl 0 rfl) ?_
  refine lv_imul hx hb dX5_areBeside_21 ?_
  refine lv_iadd hx hb dX5_areBeside_22 ?_
  refine lv_iconst (v := (1 : Int32)) hx hb dX5_areBeside_23 (by decide) ?_
  refine fb_ine (tgt := 31) hx hb dX5_areBeside_24 (by decide) hf (fun hf => ?_) (fun hf => ?_)
  · refine lv_iconst (v := (0 : Int32)) hx hb dX5_areBeside_31 (by decide) ?_
    exact fd_z hend hw rfl hf dX5_areBeside_32
  refine lv_iconst (v := (1 : Int32)) hx hb dX5_areBeside_27 (by decide) ?_
  refine lv_goto (tgt := 32) hx hb dX5_areBeside_28 (by decide) ?_
  exact fd_z hend hw rfl hf dX5_areBeside_32

/-- ForestRoomsModel.comerOf -/
def fX5_comerOf (G : Nat) (p1 : Int32) (st0 : fo_St) : Option (Int32 × fo_St) := lp2_ (fun rec3 (x1 : Int32) (st2 : fo_St) => if (6 : Int32) ≤ x1 then lp2_ (fun rec6 (x4 : Int32) (st5 : fo_St) => if (16 : Int32) ≤ x4 then lp2_ (fun rec9 (x7 : Int32) (st8 : fo_St) => if (6 : Int32) ≤ x7 then some ((-1 : Int32), st8) else ck_ (fo_in x7 6) (if (gi_ st8 23 x7.toNatClampNeg) ≤ 0 then rec9 (x7 + (1 : Int32)) st8 else ck_ (fo_in x7 6) (bd_ (fX5_canCome G x7 p1 (gi_ st8 23 x7.toNatClampNeg) st8) (fun x10 st11 => if x10 = 0 then rec9 (x7 + (1 : Int32)) st11 else some (x7, st11))))) G (0 : Int32) st5 else bd_ (fX5_areBeside p1 x4 st5) (fun x12 st13 => if x12 = 0 then rec6 (x4 + (1 : Int32)) st13 else bd_ (fX5_isTree x4 st13) (fun x14 st15 => if x14 = 0 then rec6 (x4 + (1 : Int32)) st15 else ck_ (fo_in ((24 : Int32) + x4) 5540) (bd_ (fX5_term (1 : Int32) st15) (fun x16 st17 => if (gi_ st15 2 ((24 : Int32) + x4).toNatClampNeg) < x16 then rec6 (x4 + (1 : Int32)) st17 else ck_ (fo_in ((8 : Int32) + x4) 5540) (lI_ (gi_ st17 2 ((8 : Int32) + x4).toNatClampNeg) (fun x18 => ck_ (fo_in ((24 : Int32) + x4) 5540) (ck_ (fo_in x18 6) (jn_ (fun (x19 : Int32) => ck_ (fo_in x18 6) (lt_ (si_ st17 23 x18.toNatClampNeg x19) (fun st21 => rec6 (x4 + (1 : Int32)) st21))) (fun k20 => if (gi_ st17 2 ((24 : Int32) + x4).toNatClampNeg) ≤ (gi_ st17 23 x18.toNatClampNeg) then ck_ (fo_in x18 6) (k20 (gi_ st17 23 x18.toNatClampNeg)) else ck_ (fo_in ((24 : Int32) + x4) 5540) (k20 (gi_ st17 2 ((24 : Int32) + x4).toNatClampNeg)))))))))))) G (0 : Int32) st2 else ck_ (fo_in x1 6) (lt_ (si_ st2 23 x1.toNatClampNeg (0 : Int32)) (fun st22 => rec3 (x1 + (1 : Int32)) st22))) G (0 : Int32) st0
theorem hm_X5_comerOf : fo_M yX5_comerOf 1 := ⟨by decide +kernel, by decide +kernel, by decide +kernel, by decide +kernel⟩
set_option maxHeartbeats 4000000 in
theorem wX5_comerOf (l : Launch) (E : fo_E) (hE : ∀ n, et E n = tM_ n) (G : Nat) (p1 : Int32) (st0 : fo_St) (rZ : Int32) (stZ : fo_St) (hf : fX5_comerOf G p1 st0 = some (rZ, stZ)) : CTi l E yX5_comerOf (ws_ yX5_comerOf cX5_comerOf 4 (some .int)) ({ frames := 5, cells := 0, slots := 0, locals := 126 }) [.ref (eb E + 0), .int p1] st0 rZ stZ := by
  refine fe_i hm_X5_comerOf (Nat.le_of_ble_eq_true rfl) (fun p e R s m args below meth c Q hRf hRl X hend ls hl hw => ?_)
  have hx := X.1.1
  have hb := X.1.2.1
  have hl : lv_has ls 4 [(0, .ref (eb E + 0)), (1, .int p1)] := hl
  unfold fX5_comerOf at hf
  generalize s.heap = H at hw ⊢
  generalize ([] : List Loc) = locs at hw ⊢
  refine lv_iconst (v := (0 : Int32)) hx hb dX5_comerOf_0 (by decide) ?_
  refine lv_istore_n (lv' := [(2, .int (0 : Int32)), (0, .ref (eb E + 0)), (1, .int p1)]) hx hb dX5_comerOf_1 rfl hl (by decide) rfl (fun ls hl => ?_)
  refine lp2_e (P := fun x1 st2 => ∀ (H : Heap) (locs : List Loc) (ls : Array Slot), lv_has ls 4 [(2, .int x1), (0, .ref (eb E + 0)), (1, .int p1)] → fo_S E s st2 H locs → W p l e R s m args below meth c H locs 0 0 Q (F0 m 2 ls [])) (fun rec3 hrec3 x1 st2 hf => ?_) G _ _ hf H locs ls (lv_sub hl [0, 1, 2] rfl) hw
  intro H locs ls hl hw
  refine lv_iload_n hx hb dX5_comerOf_2 rfl (lv_at hl 0 rfl) ?_
  refine lv_bipush (v := (6 : Int32)) hx hb dX5_comerOf_3 (by decide) ?_
  refine fb_ige (tgt := 21) hx hb dX5_comerOf_5 (by decide) hf (fun hf => ?_) (fun hf => ?_)
  · refine lv_iconst (v := (0 : Int32)) hx hb dX5_comerOf_21 (by decide) ?_
    refine lv_istore_n (lv' := [(2, .int (0 : Int32)), (0, .ref (eb E + 0)), (1, .int p1)]) hx hb dX5_comerOf_22 rfl hl (by decide) rfl (fun ls hl => ?_)
    refine lp2_e (P := fun x4 st5 => ∀ (H : Heap) (locs : List Loc) (ls : Array Slot), lv_has ls 4 [(2, .int x4), (0, .ref (eb E + 0)), (1, .int p1)] → fo_S E s st5 H locs → W p l e R s m args below meth c H locs 0 0 Q (F0 m 23 ls [])) (fun rec6 hrec6 x4 st5 hf => ?_) G _ _ hf H locs ls (lv_sub hl [0, 1, 2] rfl) hw
    intro H locs ls hl hw
    refine lv_iload_n hx hb dX5_comerOf_23 rfl (lv_at hl 0 rfl) ?_
    refine lv_bipush (v := (16 : Int32)) hx hb dX5_comerOf_24 (by decide) ?_
    refine fb_ige (tgt := 120) hx hb dX5_comerOf_26 (by decide) hf (fun hf => ?_) (fun hf => ?_)
    · refine lv_iconst (v := (0 : Int32)) hx hb dX5_comerOf_120 (by decide) ?_
      refine lv_istore_n (lv' := [(2, .int (0 : Int32)), (0, .ref (eb E + 0)), (1, .int p1)]) hx hb dX5_comerOf_121 rfl hl (by decide) rfl (fun ls hl => ?_)
      refine lp2_e (P := fun x7 st8 => ∀ (H : Heap) (locs : List Loc) (ls : Array Slot), lv_has ls 4 [(2, .int x7), (0, .ref (eb E + 0)), (1, .int p1)] → fo_S E s st8 H locs → W p l e R s m args below meth c H locs 0 0 Q (F0 m 122 ls [])) (fun rec9 hrec9 x7 st8 hf => ?_) G _ _ hf H locs ls (lv_sub hl [0, 1, 2] rfl) hw
      intro H locs ls hl hw
      refine lv_iload_n hx hb dX5_comerOf_122 rfl (lv_at hl 0 rfl) ?_
      refine lv_bipush (v := (6 : Int32)) hx hb dX5_comerOf_123 (by decide) ?_
      refine fb_ige (tgt := 160) hx hb dX5_comerOf_125 (by decide) hf (fun hf => ?_) (fun hf => ?_)
      · refine lv_iconst (v := (-1 : Int32)) hx hb dX5_comerOf_160 (by decide) ?_
        exact fd_i hend hw hf dX5_comerOf_161
      refine lv_aload_n hx hb dX5_comerOf_128 rfl (lv_at hl 1 rfl) ?_
      refine fo_gets X hw fc_X5 (hm0 hE) (k := 43) (d := 23) (n2 := 23) (by decide) rfl rfl q1561 dX5_comerOf_129 ?_
      refine lv_iload_n hx hb dX5_comerOf_132 rfl (lv_at hl 0 rfl) ?_
      refine fo_iald X hw (hm23 hE) dX5_comerOf_133 hf (fun hf => ?_)
      refine fb_zle (tgt := 154) hx hb dX5_comerOf_134 (by decide) hf (fun hf => ?_) (fun hf => ?_)
      · refine fb_iinc (v := (1 : Int32)) (lv' := [(2, .int (x7 + (1 : Int32))), (0, .ref (eb E + 0)), (1, .int p1)]) hx hb dX5_comerOf_154 hl (k := 0) rfl (by decide) (by decide) rfl (fun ls hl => ?_)
        refine lv_goto (tgt := 122) hx hb dX5_comerOf_157 (by decide) ?_
        exact hrec9 _ _ hf _ _ _ (lv_sub hl [0, 1, 2] rfl) hw
      refine lv_aload_n hx hb dX5_comerOf_137 rfl (lv_at hl 1 rfl) ?_
      refine lv_iload_n hx hb dX5_comerOf_138 rfl (lv_at hl 0 rfl) ?_
      refine lv_iload_n hx hb dX5_comerOf_139 rfl (lv_at hl 2 rfl) ?_
      refine lv_aload_n hx hb dX5_comerOf_140 rfl (lv_at hl 1 rfl) ?_
      refine fo_gets X hw fc_X5 (hm0 hE) (k := 43) (d := 23) (n2 := 23) (by decide) rfl rfl q1561 dX5_comerOf_141 ?_
      refine lv_iload_n hx hb dX5_comerOf_144 rfl (lv_at hl 0 rfl) ?_
      refine fo_iald X hw (hm23 hE) dX5_comerOf_145 hf (fun hf => ?_)
      refine fc_Vi (rest := []) (As := [.int x7, .int p1, .int (gi_ st8 23 x7.toNatClampNeg)]) X hw hm_X5_canCome (lw_V q1979 q1981 qs79 q121 q1982) ⟨rfl, rfl⟩ ⟨by rw [hRf]; exact Nat.le_of_ble_eq_true rfl, by rw [hRl]; exact Nat.le_of_ble_eq_true rfl⟩ fc_X5 rfl (hm0 hE) rfl rfl hl.1 (Nat.le_of_ble_eq_true rfl) dX5_comerOf_146 (fun rQ stQ hQ => wX5_canCome l E hE G x7 p1 (gi_ st8 23 x7.toNatClampNeg) st8 rQ stQ hQ) hf (fun x10 st11 H locs hw hf => ?_)
      refine fb_zeq (tgt := 154) hx hb dX5_comerOf_149 (by decide) hf (fun hf => ?_) (fun hf => ?_)
      · refine fb_iinc (v := (1 : Int32)) (lv' := [(2, .int (x7 + (1 : Int32))), (0, .ref (eb E + 0)), (1, .int p1)]) hx hb dX5_comerOf_154 hl (k := 0) rfl (by decide) (by decide) rfl (fun ls hl => ?_)
        refine lv_goto (tgt := 122) hx hb dX5_comerOf_157 (by decide) ?_
        exact hrec9 _ _ hf _ _ _ (lv_sub hl [0, 1, 2] rfl) hw
      refine lv_iload_n hx hb dX5_comerOf_152 rfl (lv_at hl 0 rfl) ?_
      exact fd_i hend hw hf dX5_comerOf_153
    refine lv_iload_n hx hb dX5_comerOf_29 rfl (lv_at hl 2 rfl) ?_
    refine lv_iload_n hx hb dX5_comerOf_30 rfl (lv_at hl 0 rfl) ?_
    refine fc_Si (rest := []) (As := [.int p1, .int x4]) X hw hm_X5_areBeside (lw_S q2047 q2048 q121 q2049) ⟨rfl, rfl⟩ ⟨by rw [hRf]; exact Nat.le_of_ble_eq_true rfl, by rw [hRl]; exact Nat.le_of_ble_eq_true rfl⟩ rfl rfl hl.1 (Nat.le_of_ble_eq_true rfl) dX5_comerOf_31 (fun rQ stQ hQ => wX5_areBeside l E hE p1 x4 st5 rQ stQ hQ) hf (fun x12 st13 H locs hw hf => ?_)
    refine fb_zeq (tgt := 114) hx hb dX5_comerOf_34 (by decide) hf (fun hf => ?_) (fun hf => ?_)
    · refine fb_iinc (v := (1 : Int32)) (lv' := [(2, .int (x4 + (1 : Int32))), (0, .ref (eb E + 0)), (1, .int p1)]) hx hb dX5_comerOf_114 hl (k := 0) rfl (by decide) (by decide) rfl (fun ls hl => ?_)
      refine lv_goto (tgt := 23) hx hb dX5_comerOf_117 (by decide) ?_
      exact hrec6 _ _ hf _ _ _ (lv_sub hl [0, 1, 2] rfl) hw
    refine lv_aload_n hx hb dX5_comerOf_37 rfl (lv_at hl 1 rfl) ?_
    refine lv_iload_n hx hb dX5_comerOf_38 rfl (lv_at hl 0 rfl) ?_
    refine fc_Vi (rest := []) (As := [.int x4]) X hw hm_X5_isTree (lw_V q1757 q1759 qs43 q121 q1760) ⟨rfl, rfl⟩ ⟨by rw [hRf]; exact Nat.le_of_ble_eq_true rfl, by rw [hRl]; exact Nat.le_of_ble_eq_true rfl⟩ fc_X5 rfl (hm0 hE) rfl rfl hl.1 (Nat.le_of_ble_eq_true rfl) dX5_comerOf_39 (fun rQ stQ hQ => wX5_isTree l E hE x4 st13 rQ stQ hQ) hf (fun x14 st15 H locs hw hf => ?_)
    refine fb_zeq (tgt := 114) hx hb dX5_comerOf_42 (by decide) hf (fun hf => ?_) (fun hf => ?_)
    · refine fb_iinc (v := (1 : Int32)) (lv' := [(2, .int (x4 + (1 : Int32))), (0, .ref (eb E + 0)), (1, .int p1)]) hx hb dX5_comerOf_114 hl (k := 0) rfl (by decide) (by decide) rfl (fun ls hl => ?_)
      refine lv_goto (tgt := 23) hx hb dX5_comerOf_117 (by decide) ?_
      exact hrec6 _ _ hf _ _ _ (lv_sub hl [0, 1, 2] rfl) hw
    refine lv_aload_n hx hb dX5_comerOf_45 rfl (lv_at hl 1 rfl) ?_
    refine fo_gets X hw fc_X5 (hm0 hE) (k := 3) (d := 2) (n2 := 2) (by decide) rfl rfl q1521 dX5_comerOf_46 ?_
    refine lv_bipush (v := (24 : Int32)) hx hb dX5_comerOf_49 (by decide) ?_
    refine lv_iload_n hx hb dX5_comerOf_51 rfl (lv_at hl 0 rfl) ?_
    refine lv_iadd hx hb dX5_comerOf_52 ?_
    refine fo_iald X hw (hm2 hE) dX5_comerOf_53 hf (fun hf => ?_)
    refine lv_aload_n hx hb dX5_comerOf_54 rfl (lv_at hl 1 rfl) ?_
    refine lv_iconst (v := (1 : Int32)) hx hb dX5_comerOf_55 (by decide) ?_
    refine fc_Vi (rest := [.int (gi_ st15 2 ((24 : Int32) + x4).toNatClampNeg)]) (As := [.int (1 : Int32)]) X hw hm_X5_term (lw_V q1774 q1776 qs47 q121 q1777) ⟨rfl, rfl⟩ ⟨by rw [hRf]; exact Nat.le_of_ble_eq_true rfl, by rw [hRl]; exact Nat.le_of_ble_eq_true rfl⟩ fc_X5 rfl (hm0 hE) rfl rfl hl.1 (Nat.le_of_ble_eq_true rfl) dX5_comerOf_56 (fun rQ stQ hQ => wX5_term l E hE (1 : Int32) st15 rQ stQ hQ) hf (fun x16 st17 H locs hw hf => ?_)
    refine fb_ilt (tgt := 114) hx hb dX5_comerOf_59 (by decide) hf (fun hf => ?_) (fun hf => ?_)
    · refine fb_iinc (v := (1 : Int32)) (lv' := [(2, .int (x4 + (1 : Int32))), (0, .ref (eb E + 0)), (1, .int p1)]) hx hb dX5_comerOf_114 hl (k := 0) rfl (by decide) (by decide) rfl (fun ls hl => ?_)
      refine lv_goto (tgt := 23) hx hb dX5_comerOf_117 (by decide) ?_
      exact hrec6 _ _ hf _ _ _ (lv_sub hl [0, 1, 2] rfl) hw
    refine lv_aload_n hx hb dX5_comerOf_62 rfl (lv_at hl 1 rfl) ?_
    refine fo_gets X hw fc_X5 (hm0 hE) (k := 3) (d := 2) (n2 := 2) (by decide) rfl rfl q1521 dX5_comerOf_63 ?_
    refine lv_bipush (v := (8 : Int32)) hx hb dX5_comerOf_66 (by decide) ?_
    refine lv_iload_n hx hb dX5_comerOf_68 rfl (lv_at hl 0 rfl) ?_
    refine lv_iadd hx hb dX5_comerOf_69 ?_
    refine fo_iald X hw (hm2 hE) dX5_comerOf_70 hf (fun hf => ?_)
    refine fo_tI hf (fun x18 hf => ?_)
    refine lv_istore_n (lv' := [(3, .int x18), (2, .int x4), (0, .ref (eb E + 0)), (1, .int p1)]) hx hb dX5_comerOf_71 rfl hl (by decide) rfl (fun ls hl => ?_)
    refine lv_aload_n hx hb dX5_comerOf_72 rfl (lv_at hl 2 rfl) ?_
    refine fo_gets X hw fc_X5 (hm0 hE) (k := 43) (d := 23) (n2 := 23) (by decide) rfl rfl q1561 dX5_comerOf_73 ?_
    refine lv_iload_n hx hb dX5_comerOf_76 rfl (lv_at hl 0 rfl) ?_
    refine lv_aload_n hx hb dX5_comerOf_77 rfl (lv_at hl 2 rfl) ?_
    refine fo_gets X hw fc_X5 (hm0 hE) (k := 3) (d := 2) (n2 := 2) (by decide) rfl rfl q1521 dX5_comerOf_78 ?_
    refine lv_bipush (v := (24 : Int32)) hx hb dX5_comerOf_81 (by decide) ?_
    refine lv_iload_n hx hb dX5_comerOf_83 rfl (lv_at hl 1 rfl) ?_
    refine lv_iadd hx hb dX5_comerOf_84 ?_
    refine fo_iald X hw (hm2 hE) dX5_comerOf_85 hf (fun hf => ?_)
    refine lv_aload_n hx hb dX5_comerOf_86 rfl (lv_at hl 2 rfl) ?_
    refine fo_gets X hw fc_X5 (hm0 hE) (k := 43) (d := 23) (n2 := 23) (by decide) rfl rfl q1561 dX5_comerOf_87 ?_
    refine lv_iload_n hx hb dX5_comerOf_90 rfl (lv_at hl 0 rfl) ?_
    refine fo_iald X hw (hm23 hE) dX5_comerOf_91 hf (fun hf => ?_)
    refine jn_e hf (fun k20 ek hf => ?_)
    have hk20 : ∀ (x19 : Int32) (H : Heap) (locs : List Loc) (ls : Array Slot), lv_has ls 4 [(2, .int x4), (0, .ref (eb E + 0)), (1, .int p1)] → fo_S E s st17 H locs → k20 x19 = some (rZ, stZ) → W p l e R s m args below meth c H locs 0 0 Q (F0 m 113 ls [.int x19, .int x18, .ref (eb E + 23)]) := by
      intro x19 H locs ls hl hw hf
      rw [ek] at hf
      refine fo_iast X hw (hm23 hE) dX5_comerOf_113 hf (fun st21 H locs hw hf => ?_)
      refine fb_iinc (v := (1 : Int32)) (lv' := [(2, .int (x4 + (1 : Int32))), (0, .ref (eb E + 0)), (1, .int p1)]) hx hb dX5_comerOf_114 hl (k := 0) rfl (by decide) (by decide) rfl (fun ls hl => ?_)
      refine lv_goto (tgt := 23) hx hb dX5_comerOf_117 (by decide) ?_
      exact hrec6 _ _ hf _ _ _ (lv_sub hl [0, 1, 2] rfl) hw
    clear ek
    refine fb_ile (tgt := 107) hx hb dX5_comerOf_92 (by decide) hf (fun hf => ?_) (fun hf => ?_)
    · refine lv_aload_n hx hb dX5_comerOf_107 rfl (lv_at hl 2 rfl) ?_
      refine fo_gets X hw fc_X5 (hm0 hE) (k := 43) (d := 23) (n2 := 23) (by decide) rfl rfl q1561 dX5_comerOf_108 ?_
      refine lv_iload_n hx hb dX5_comerOf_111 rfl (lv_at hl 0 rfl) ?_
      refine fo_iald X hw (hm23 hE) dX5_comerOf_112 hf (fun hf => ?_)
      exact hk20 _ _ _ _ (lv_sub hl [1, 2, 3] rfl) hw hf
    refine lv_aload_n hx hb dX5_comerOf_95 rfl (lv_at hl 2 rfl) ?_
    refine fo_gets X hw fc_X5 (hm0 hE) (k := 3) (d := 2) (n2 := 2) (by decide) rfl rfl q1521 dX5_comerOf_96 ?_
    refine lv_bipush (v := (24 : Int32)) hx hb dX5_comerOf_99 (by decide) ?_
    refine lv_iload_n hx hb dX5_comerOf_101 rfl (lv_at hl 1 rfl) ?_
    refine lv_iadd hx hb dX5_comerOf_102 ?_
    refine fo_iald X hw (hm2 hE) dX5_comerOf_103 hf (fun hf => ?_)
    refine lv_goto (tgt := 113) hx hb dX5_comerOf_104 (by decide) ?_
    exact hk20 _ _ _ _ (lv_sub hl [1, 2, 3] rfl) hw hf
  refine lv_aload_n hx hb dX5_comerOf_8 rfl (lv_at hl 1 rfl) ?_
  refine fo_gets X hw fc_X5 (hm0 hE) (k := 43) (d := 23) (n2 := 23) (by decide) rfl rfl q1561 dX5_comerOf_9 ?_
  refine lv_iload_n hx hb dX5_comerOf_12 rfl (lv_at hl 0 rfl) ?_
  refine lv_iconst (v := (0 : Int32)) hx hb dX5_comerOf_13 (by decide) ?_
  refine fo_iast X hw (hm23 hE) dX5_comerOf_14 hf (fun st22 H locs hw hf => ?_)
  refine fb_iinc (v := (1 : Int32)) (lv' := [(2, .int (x1 + (1 : Int32))), (0, .ref (eb E + 0)), (1, .int p1)]) hx hb dX5_comerOf_15 hl (k := 0) rfl (by decide) (by decide) rfl (fun ls hl => ?_)
  refine lv_goto (tgt := 2) hx hb dX5_comerOf_18 (by decide) ?_
  exact hrec3 _ _ hf _ _ _ (lv_sub hl [0, 1, 2] rfl) hw

/-- ForestRoomsModel.passIt -/
def fX5_passIt (G : Nat) (st0 : fo_St) : Option (Int32 × fo_St) := lp2_ (fun rec3 (x1 : Int32) (st2 : fo_St) => if (16 : Int32) ≤ x1 then lp2_ (fun rec6 (x4 : Int32) (st5 : fo_St) => if (16 : Int32) ≤ x4 then lp2_ (fun rec9 (x7 : Int32) (st8 : fo_St) => if (16 : Int32) ≤ x7 then lp3_ (fun rec13 (x10 : Int32) (x11 : Int32) (st12 : fo_St) => if (16 : Int32) ≤ x10 then lt_ (si_ st12 2 (3 : Int32).toNatClampNeg ((gi_ st12 2 (3 : Int32).toNatClampNeg) + (1 : Int32))) (fun st14 => some (x11, st14)) else ck_ (fo_in x10 16) (jn_ (fun (st15 : fo_St) => bd_ (fX5_isLost x10 st15) (fun x17 st18 => if x17 = 0 then rec13 (x10 + (1 : Int32)) x11 st18 else ck_ (fo_in ((40 : Int32) + x10) 5540) (if (gi_ st18 2 ((40 : Int32) + x10).toNatClampNeg) = (-1 : Int32) then rec13 (x10 + (1 : Int32)) x11 st18 else ck_ (fo_in ((40 : Int32) + x10) 5540) (lt_ (si_ st18 2 ((40 : Int32) + x10).toNatClampNeg (-1 : Int32)) (fun st19 => rec13 (x10 + (1 : Int32)) (x11 + (1 : Int32)) st19))))) (fun k16 => if (gi_ st12 22 x10.toNatClampNeg) = (-1 : Int32) then k16 st12 else ck_ (fo_in x10 16) (ck_ (fo_in ((8 : Int32) + x10) 5540) (lt_ (si_ st12 2 ((8 : Int32) + x10).toNatClampNeg (gi_ st12 22 x10.toNatClampNeg)) (fun st20 => ck_ (fo_in ((24 : Int32) + x10) 5540) (lt_ (si_ st20 2 ((24 : Int32) + x10).toNatClampNeg (1 : Int32)) (fun st21 => k16 st21)))))))) G (0 : Int32) (0 : Int32) st8 else bd_ (fX5_isTree x7 st8) (fun x22 st23 => jn_ (fun (x24 : Int32) (st25 : fo_St) => ck_ (fo_in x7 16) (lt_ (si_ st25 22 x7.toNatClampNeg x24) (fun st27 => rec9 (x7 + (1 : Int32)) st27))) (fun k26 => if x22 = 0 then bd_ (fX5_comerOf G x7 st23) (fun x28 st29 => k26 x28 st29) else k26 (-1 : Int32) st23))) G (0 : Int32) st5 else ck_ (fo_in ((24 : Int32) + x4) 5540) (ck_ (fo_in x4 16) (bd_ (fX5_within (((gi_ st5 2 ((24 : Int32) + x4).toNatClampNeg) + (gi_ st5 21 x4.toNatClampNeg)).toInt64) (0 : Int32) (99 : Int32) st5) (fun x30 st31 => ck_ (fo_in ((24 : Int32) + x4) 5540) (lt_ (si_ st31 2 ((24 : Int32) + x4).toNatClampNeg x30) (fun st32 => rec6 (x4 + (1 : Int32)) st32)))))) G (0 : Int32) st2 else bd_ (fX5_isTree x1 st2) (fun x33 st34 => jn_ (fun (x35 : Int32) (st36 : fo_St) => ck_ (fo_in x1 16) (lt_ (si_ st36 21 x1.toNatClampNeg x35) (fun st38 => rec3 (x1 + (1 : Int32)) st38))) (fun k37 => if x33 = 0 then k37 (0 : Int32) st34 else bd_ (fX5_growsOf G x1 st34) (fun x39 st40 => k37 x39 st40)))) G (0 : Int32) st0
theorem hm_X5_passIt : fo_M yX5_passIt 0 := ⟨by decide +kernel, by decide +kernel, by decide +kernel, by decide +kernel⟩
set_option maxHeartbeats 4000000 in
theorem wX5_passIt (l : Launch) (E : fo_E) (hE : ∀ n, et E n = tM_ n) (G : Nat) (st0 : fo_St) (rZ : Int32) (stZ : fo_St) (hf : fX5_passIt G st0 = some (rZ, stZ)) : CTi l E yX5_passIt (ws_ yX5_passIt cX5_passIt 3 (some .int)) ({ frames := 6, cells := 0, slots := 0, locals := 149 }) [.ref (eb E + 0)] st0 rZ stZ := by
  refine fe_i hm_X5_passIt (Nat.le_of_ble_eq_true rfl) (fun p e R s m args below meth c Q hRf hRl X hend ls hl hw => ?_)
  have hx := X.1.1
  have hb := X.1.2.1
  have hl : lv_has ls 3 [(0, .ref (eb E + 0))] := hl
  unfold fX5_passIt at hf
  generalize s.heap = H at hw ⊢
  generalize ([] : List Loc) = locs at hw ⊢
  refine lv_iconst (v := (0 : Int32)) hx hb dX5_passIt_0 (by decide) ?_
  refine lv_istore_n (lv' := [(1, .int (0 : Int32)), (0, .ref (eb E + 0))]) hx hb dX5_passIt_1 rfl hl (by decide) rfl (fun ls hl => ?_)
  refine lp2_e (P := fun x1 st2 => ∀ (H : Heap) (locs : List Loc) (ls : Array Slot), lv_has ls 3 [(1, .int x1), (0, .ref (eb E + 0))] → fo_S E s st2 H locs → W p l e R s m args below meth c H locs 0 0 Q (F0 m 2 ls [])) (fun rec3 hrec3 x1 st2 hf => ?_) G _ _ hf H locs ls (lv_sub hl [0, 1] rfl) hw
  intro H locs ls hl hw
  refine lv_iload_n hx hb dX5_passIt_2 rfl (lv_at hl 0 rfl) ?_
  refine lv_bipush (v := (16 : Int32)) hx hb dX5_passIt_3 (by decide) ?_
  refine fb_ige (tgt := 37) hx hb dX5_passIt_5 (by decide) hf (fun hf => ?_) (fun hf => ?_)
  · refine lv_iconst (v := (0 : Int32)) hx hb dX5_passIt_37 (by decide) ?_
    refine lv_istore_n (lv' := [(1, .int (0 : Int32)), (0, .ref (eb E + 0))]) hx hb dX5_passIt_38 rfl hl (by decide) rfl (fun ls hl => ?_)
    refine lp2_e (P := fun x4 st5 => ∀ (H : Heap) (locs : List Loc) (ls : Array Slot), lv_has ls 3 [(1, .int x4), (0, .ref (eb E + 0))] → fo_S E s st5 H locs → W p l e R s m args below meth c H locs 0 0 Q (F0 m 39 ls [])) (fun rec6 hrec6 x4 st5 hf => ?_) G _ _ hf H locs ls (lv_sub hl [0, 1] rfl) hw
    intro H locs ls hl hw
    refine lv_iload_n hx hb dX5_passIt_39 rfl (lv_at hl 0 rfl) ?_
    refine lv_bipush (v := (16 : Int32)) hx hb dX5_passIt_40 (by decide) ?_
    refine fb_ige (tgt := 83) hx hb dX5_passIt_42 (by decide) hf (fun hf => ?_) (fun hf => ?_)
    · refine lv_iconst (v := (0 : Int32)) hx hb dX5_passIt_83 (by decide) ?_
      refine lv_istore_n (lv' := [(1, .int (0 : Int32)), (0, .ref (eb E + 0))]) hx hb dX5_passIt_84 rfl hl (by decide) rfl (fun ls hl => ?_)
      refine lp2_e (P := fun x7 st8 => ∀ (H : Heap) (locs : List Loc) (ls : Array Slot), lv_has ls 3 [(1, .int x7), (0, .ref (eb E + 0))] → fo_S E s st8 H locs → W p l e R s m args below meth c H locs 0 0 Q (F0 m 85 ls [])) (fun rec9 hrec9 x7 st8 hf => ?_) G _ _ hf H locs ls (lv_sub hl [0, 1] rfl) hw
      intro H locs ls hl hw
      refine lv_iload_n hx hb dX5_passIt_85 rfl (lv_at hl 0 rfl) ?_
      refine lv_bipush (v := (16 : Int32)) hx hb dX5_passIt_86 (by decide) ?_
      refine fb_ige (tgt := 120) hx hb dX5_passIt_88 (by decide) hf (fun hf => ?_) (fun hf => ?_)
      · refine lv_iconst (v := (0 : Int32)) hx hb dX5_passIt_120 (by decide) ?_
        refine lv_istore_n (lv' := [(1, .int (0 : Int32)), (0, .ref (eb E + 0))]) hx hb dX5_passIt_121 rfl hl (by decide) rfl (fun ls hl => ?_)
        refine lv_iconst (v := (0 : Int32)) hx hb dX5_passIt_122 (by decide) ?_
        refine lv_istore_n (lv' := [(2, .int (0 : Int32)), (1, .int (0 : Int32)), (0, .ref (eb E + 0))]) hx hb dX5_passIt_123 rfl hl (by decide) rfl (fun ls hl => ?_)
        refine lp3_e (P := fun x10 x11 st12 => ∀ (H : Heap) (locs : List Loc) (ls : Array Slot), lv_has ls 3 [(2, .int x10), (1, .int x11), (0, .ref (eb E + 0))] → fo_S E s st12 H locs → W p l e R s m args below meth c H locs 0 0 Q (F0 m 124 ls [])) (fun rec13 hrec13 x10 x11 st12 hf => ?_) G _ _ _ hf H locs ls (lv_sub hl [0, 1, 2] rfl) hw
        intro H locs ls hl hw
        refine lv_iload_n hx hb dX5_passIt_124 rfl (lv_at hl 0 rfl) ?_
        refine lv_bipush (v := (16 : Int32)) hx hb dX5_passIt_125 (by decide) ?_
        refine fb_ige (tgt := 205) hx hb dX5_passIt_127 (by decide) hf (fun hf => ?_) (fun hf => ?_)
        · refine lv_aload_n hx hb dX5_passIt_205 rfl (lv_at hl 2 rfl) ?_
          refine fo_gets X hw fc_X5 (hm0 hE) (k := 3) (d := 2) (n2 := 2) (by decide) rfl rfl q1521 dX5_passIt_206 ?_
          refine lv_iconst (v := (3 : Int32)) hx hb dX5_passIt_209 (by decide) ?_
          refine lv_dup2_11 hx hb dX5_passIt_210 rfl rfl ?_
          refine fo_ialdK X hw (hm2 hE) dX5_passIt_211 (by decide) ?_
          refine lv_iconst (v := (1 : Int32)) hx hb dX5_passIt_212 (by decide) ?_
          refine lv_iadd hx hb dX5_passIt_213 ?_
          refine fo_iastK X hw (hm2 hE) dX5_passIt_214 (by decide) hf (fun st14 H locs hw hf => ?_)
          refine lv_iload_n hx hb dX5_passIt_215 rfl (lv_at hl 1 rfl) ?_
          exact fd_i hend hw hf dX5_passIt_216
        refine lv_aload_n hx hb dX5_passIt_130 rfl (lv_at hl 2 rfl) ?_
        refine fo_gets X hw fc_X5 (hm0 hE) (k := 42) (d := 22) (n2 := 22) (by decide) rfl rfl q1560 dX5_passIt_131 ?_
        refine lv_iload_n hx hb dX5_passIt_134 rfl (lv_at hl 0 rfl) ?_
        refine fo_iald X hw (hm22 hE) dX5_passIt_135 hf (fun hf => ?_)
        refine lv_iconst (v := (-1 : Int32)) hx hb dX5_passIt_136 (by decide) ?_
        refine jn_e hf (fun k16 ek hf => ?_)
        have hk16 : ∀  (st15 : fo_St) (H : Heap) (locs : List Loc) (ls : Array Slot), lv_has ls 3 [(2, .int x10), (1, .int x11), (0, .ref (eb E + 0))] → fo_S E s st15 H locs → k16 st15 = some (rZ, stZ) → W p l e R s m args below meth c H locs 0 0 Q (F0 m 165 ls []) := by
          intro st15 H locs ls hl hw hf
          rw [ek] at hf
          refine lv_aload_n hx hb dX5_passIt_165 rfl (lv_at hl 2 rfl) ?_
          refine lv_iload_n hx hb dX5_passIt_166 rfl (lv_at hl 0 rfl) ?_
          refine fc_Vi (rest := []) (As := [.int x10]) X hw hm_X5_isLost (lw_V q1753 q1755 qs42 q121 q1756) ⟨rfl, rfl⟩ ⟨by rw [hRf]; exact Nat.le_of_ble_eq_true rfl, by rw [hRl]; exact Nat.le_of_ble_eq_true rfl⟩ fc_X5 rfl (hm0 hE) rfl rfl hl.1 (Nat.le_of_ble_eq_true rfl) dX5_passIt_167 (fun rQ stQ hQ => wX5_isLost l E hE x10 st15 rQ stQ hQ) hf (fun x17 st18 H locs hw hf => ?_)
          refine fb_zeq (tgt := 199) hx hb dX5_passIt_170 (by decide) hf (fun hf => ?_) (fun hf => ?_)
          · refine fb_iinc (v := (1 : Int32)) (lv' := [(2, .int (x10 + (1 : Int32))), (1, .int x11), (0, .ref (eb E + 0))]) hx hb dX5_passIt_199 hl (k := 0) rfl (by decide) (by decide) rfl (fun ls hl => ?_)
            refine lv_goto (tgt := 124) hx hb dX5_passIt_202 (by decide) ?_
            exact hrec13 _ _ _ hf _ _ _ (lv_sub hl [0, 1, 2] rfl) hw
          refine lv_aload_n hx hb dX5_passIt_173 rfl (lv_at hl 2 rfl) ?_
          refine fo_gets X hw fc_X5 (hm0 hE) (k := 3) (d := 2) (n2 := 2) (by decide) rfl rfl q1521 dX5_passIt_174 ?_
          refine lv_bipush (v := (40 : Int32)) hx hb dX5_passIt_177 (by decide) ?_
          refine lv_iload_n hx hb dX5_passIt_179 rfl (lv_at hl 0 rfl) ?_
          refine lv_iadd hx hb dX5_passIt_180 ?_
          refine fo_iald X hw (hm2 hE) dX5_passIt_181 hf (fun hf => ?_)
          refine lv_iconst (v := (-1 : Int32)) hx hb dX5_passIt_182 (by decide) ?_
          refine fb_ieq (tgt := 199) hx hb dX5_passIt_183 (by decide) hf (fun hf => ?_) (fun hf => ?_)
          · refine fb_iinc (v := (1 : Int32)) (lv' := [(2, .int (x10 + (1 : Int32))), (1, .int x11), (0, .ref (eb E + 0))]) hx hb dX5_passIt_199 hl (k := 0) rfl (by decide) (by decide) rfl (fun ls hl => ?_)
            refine lv_goto (tgt := 124) hx hb dX5_passIt_202 (by decide) ?_
            exact hrec13 _ _ _ hf _ _ _ (lv_sub hl [0, 1, 2] rfl) hw
          refine lv_aload_n hx hb dX5_passIt_186 rfl (lv_at hl 2 rfl) ?_
          refine fo_gets X hw fc_X5 (hm0 hE) (k := 3) (d := 2) (n2 := 2) (by decide) rfl rfl q1521 dX5_passIt_187 ?_
          refine lv_bipush (v := (40 : Int32)) hx hb dX5_passIt_190 (by decide) ?_
          refine lv_iload_n hx hb dX5_passIt_192 rfl (lv_at hl 0 rfl) ?_
          refine lv_iadd hx hb dX5_passIt_193 ?_
          refine lv_iconst (v := (-1 : Int32)) hx hb dX5_passIt_194 (by decide) ?_
          refine fo_iast X hw (hm2 hE) dX5_passIt_195 hf (fun st19 H locs hw hf => ?_)
          refine fb_iinc (v := (1 : Int32)) (lv' := [(1, .int (x11 + (1 : Int32))), (2, .int x10), (0, .ref (eb E + 0))]) hx hb dX5_passIt_196 hl (k := 1) rfl (by decide) (by decide) rfl (fun ls hl => ?_)
          refine fb_iinc (v := (1 : Int32)) (lv' := [(2, .int (x10 + (1 : Int32))), (1, .int (x11 + (1 : Int32))), (0, .ref (eb E + 0))]) hx hb dX5_passIt_199 hl (k := 1) rfl (by decide) (by decide) rfl (fun ls hl => ?_)
          refine lv_goto (tgt := 124) hx hb dX5_passIt_202 (by decide) ?_
          exact hrec13 _ _ _ hf _ _ _ (lv_sub hl [0, 1, 2] rfl) hw
        clear ek
        refine fb_ieq (tgt := 165) hx hb dX5_passIt_137 (by decide) hf (fun hf => ?_) (fun hf => ?_)
        · exact hk16 _ _ _ _ (lv_sub hl [0, 1, 2] rfl) hw hf
        refine lv_aload_n hx hb dX5_passIt_140 rfl (lv_at hl 2 rfl) ?_
        refine fo_gets X hw fc_X5 (hm0 hE) (k := 3) (d := 2) (n2 := 2) (by decide) rfl rfl q1521 dX5_passIt_141 ?_
        refine lv_bipush (v := (8 : Int32)) hx hb dX5_passIt_144 (by decide) ?_
        refine lv_iload_n hx hb dX5_passIt_146 rfl (lv_at hl 0 rfl) ?_
        refine lv_iadd hx hb dX5_passIt_147 ?_
        refine lv_aload_n hx hb dX5_passIt_148 rfl (lv_at hl 2 rfl) ?_
        refine fo_gets X hw fc_X5 (hm0 hE) (k := 42) (d := 22) (n2 := 22) (by decide) rfl rfl q1560 dX5_passIt_149 ?_
        refine lv_iload_n hx hb dX5_passIt_152 rfl (lv_at hl 0 rfl) ?_
        refine fo_iald X hw (hm22 hE) dX5_passIt_153 hf (fun hf => ?_)
        refine fo_iast X hw (hm2 hE) dX5_passIt_154 hf (fun st20 H locs hw hf => ?_)
        refine lv_aload_n hx hb dX5_passIt_155 rfl (lv_at hl 2 rfl) ?_
        refine fo_gets X hw fc_X5 (hm0 hE) (k := 3) (d := 2) (n2 := 2) (by decide) rfl rfl q1521 dX5_passIt_156 ?_
        refine lv_bipush (v := (24 : Int32)) hx hb dX5_passIt_159 (by decide) ?_
        refine lv_iload_n hx hb dX5_passIt_161 rfl (lv_at hl 0 rfl) ?_
        refine lv_iadd hx hb dX5_passIt_162 ?_
        refine lv_iconst (v := (1 : Int32)) hx hb dX5_passIt_163 (by decide) ?_
        refine fo_iast X hw (hm2 hE) dX5_passIt_164 hf (fun st21 H locs hw hf => ?_)
        exact hk16 _ _ _ _ (lv_sub hl [0, 1, 2] rfl) hw hf
      refine lv_aload_n hx hb dX5_passIt_91 rfl (lv_at hl 1 rfl) ?_
      refine fo_gets X hw fc_X5 (hm0 hE) (k := 42) (d := 22) (n2 := 22) (by decide) rfl rfl q1560 dX5_passIt_92 ?_
      refine lv_iload_n hx hb dX5_passIt_95 rfl (lv_at hl 0 rfl) ?_
      refine lv_aload_n hx hb dX5_passIt_96 rfl (lv_at hl 1 rfl) ?_
      refine lv_iload_n hx hb dX5_passIt_97 rfl (lv_at hl 0 rfl) ?_
      refine fc_Vi (rest := [.int x7, .ref (eb E + 22)]) (As := [.int x7]) X hw hm_X5_isTree (lw_V q1757 q1759 qs43 q121 q1760) ⟨rfl, rfl⟩ ⟨by rw [hRf]; exact Nat.le_of_ble_eq_true rfl, by rw [hRl]; exact Nat.le_of_ble_eq_true rfl⟩ fc_X5 rfl (hm0 hE) rfl rfl hl.1 (Nat.le_of_ble_eq_true rfl) dX5_passIt_98 (fun rQ stQ hQ => wX5_isTree l E hE x7 st8 rQ stQ hQ) hf (fun x22 st23 H locs hw hf => ?_)
      refine jn_e hf (fun k26 ek hf => ?_)
      have hk26 : ∀ (x24 : Int32) (st25 : fo_St) (H : Heap) (locs : List Loc) (ls : Array Slot), lv_has ls 3 [(1, .int x7), (0, .ref (eb E + 0))] → fo_S E s st25 H locs → k26 x24 st25 = some (rZ, stZ) → W p l e R s m args below meth c H locs 0 0 Q (F0 m 113 ls [.int x24, .int x7, .ref (eb E + 22)]) := by
        intro x24 st25 H locs ls hl hw hf
        rw [ek] at hf
        refine fo_iast X hw (hm22 hE) dX5_passIt_113 hf (fun st27 H locs hw hf => ?_)
        refine fb_iinc (v := (1 : Int32)) (lv' := [(1, .int (x7 + (1 : Int32))), (0, .ref (eb E + 0))]) hx hb dX5_passIt_114 hl (k := 0) rfl (by decide) (by decide) rfl (fun ls hl => ?_)
        refine lv_goto (tgt := 85) hx hb dX5_passIt_117 (by decide) ?_
        exact hrec9 _ _ hf _ _ _ (lv_sub hl [0, 1] rfl) hw
      clear ek
      refine fb_zeq (tgt := 108) hx hb dX5_passIt_101 (by decide) hf (fun hf => ?_) (fun hf => ?_)
      · refine lv_aload_n hx hb dX5_passIt_108 rfl (lv_at hl 1 rfl) ?_
        refine lv_iload_n hx hb dX5_passIt_109 rfl (lv_at hl 0 rfl) ?_
        refine fc_Vi (rest := [.int x7, .ref (eb E + 22)]) (As := [.int x7]) X hw hm_X5_comerOf (lw_V q2043 q2045 qs90 q121 q2046) ⟨rfl, rfl⟩ ⟨by rw [hRf]; exact Nat.le_of_ble_eq_true rfl, by rw [hRl]; exact Nat.le_of_ble_eq_true rfl⟩ fc_X5 rfl (hm0 hE) rfl rfl hl.1 (Nat.le_of_ble_eq_true rfl) dX5_passIt_110 (fun rQ stQ hQ => wX5_comerOf l E hE G x7 st23 rQ stQ hQ) hf (fun x28 st29 H locs hw hf => ?_)
        exact hk26 _ _ _ _ _ (lv_sub hl [0, 1] rfl) hw hf
      refine lv_iconst (v := (-1 : Int32)) hx hb dX5_passIt_104 (by decide) ?_
      refine lv_goto (tgt := 113) hx hb dX5_passIt_105 (by decide) ?_
      exact hk26 _ _ _ _ _ (lv_sub hl [0, 1] rfl) hw hf
    refine lv_aload_n hx hb dX5_passIt_45 rfl (lv_at hl 1 rfl) ?_
    refine fo_gets X hw fc_X5 (hm0 hE) (k := 3) (d := 2) (n2 := 2) (by decide) rfl rfl q1521 dX5_passIt_46 ?_
    refine lv_bipush (v := (24 : Int32)) hx hb dX5_passIt_49 (by decide) ?_
    refine lv_iload_n hx hb dX5_passIt_51 rfl (lv_at hl 0 rfl) ?_
    refine lv_iadd hx hb dX5_passIt_52 ?_
    refine lv_aload_n hx hb dX5_passIt_53 rfl (lv_at hl 1 rfl) ?_
    refine fo_gets X hw fc_X5 (hm0 hE) (k := 3) (d := 2) (n2 := 2) (by decide) rfl rfl q1521 dX5_passIt_54 ?_
    refine lv_bipush (v := (24 : Int32)) hx hb dX5_passIt_57 (by decide) ?_
    refine lv_iload_n hx hb dX5_passIt_59 rfl (lv_at hl 0 rfl) ?_
    refine lv_iadd hx hb dX5_passIt_60 ?_
    refine fo_iald X hw (hm2 hE) dX5_passIt_61 hf (fun hf => ?_)
    refine lv_aload_n hx hb dX5_passIt_62 rfl (lv_at hl 1 rfl) ?_
    refine fo_gets X hw fc_X5 (hm0 hE) (k := 41) (d := 21) (n2 := 21) (by decide) rfl rfl q1559 dX5_passIt_63 ?_
    refine lv_iload_n hx hb dX5_passIt_66 rfl (lv_at hl 0 rfl) ?_
    refine fo_iald X hw (hm21 hE) dX5_passIt_67 hf (fun hf => ?_)
    refine lv_iadd hx hb dX5_passIt_68 ?_
    refine lv_i2l (v := ((gi_ st5 2 ((24 : Int32) + x4).toNatClampNeg) + (gi_ st5 21 x4.toNatClampNeg)).toInt64) hx hb dX5_passIt_69 rfl ?_
    refine lv_iconst (v := (0 : Int32)) hx hb dX5_passIt_70 (by decide) ?_
    refine lv_bipush (v := (99 : Int32)) hx hb dX5_passIt_71 (by decide) ?_
    refine fc_Si (rest := [.int ((24 : Int32) + x4), .ref (eb E + 2)]) (As := [.long ((gi_ st5 2 ((24 : Int32) + x4).toNatClampNeg) + (gi_ st5 21 x4.toNatClampNeg)).toInt64, .int (0 : Int32), .int (99 : Int32)]) X hw hm_X5_within (lw_S q1793 q1794 q121 q1795) ⟨rfl, rfl⟩ ⟨by rw [hRf]; exact Nat.le_of_ble_eq_true rfl, by rw [hRl]; exact Nat.le_of_ble_eq_true rfl⟩ rfl rfl hl.1 (Nat.le_of_ble_eq_true rfl) dX5_passIt_73 (fun rQ stQ hQ => wX5_within l E hE (((gi_ st5 2 ((24 : Int32) + x4).toNatClampNeg) + (gi_ st5 21 x4.toNatClampNeg)).toInt64) (0 : Int32) (99 : Int32) st5 rQ stQ hQ) hf (fun x30 st31 H locs hw hf => ?_)
    refine fo_iast X hw (hm2 hE) dX5_passIt_76 hf (fun st32 H locs hw hf => ?_)
    refine fb_iinc (v := (1 : Int32)) (lv' := [(1, .int (x4 + (1 : Int32))), (0, .ref (eb E + 0))]) hx hb dX5_passIt_77 hl (k := 0) rfl (by decide) (by decide) rfl (fun ls hl => ?_)
    refine lv_goto (tgt := 39) hx hb dX5_passIt_80 (by decide) ?_
    exact hrec6 _ _ hf _ _ _ (lv_sub hl [0, 1] rfl) hw
  refine lv_aload_n hx hb dX5_passIt_8 rfl (lv_at hl 1 rfl) ?_
  refine fo_gets X hw fc_X5 (hm0 hE) (k := 41) (d := 21) (n2 := 21) (by decide) rfl rfl q1559 dX5_passIt_9 ?_
  refine lv_iload_n hx hb dX5_passIt_12 rfl (lv_at hl 0 rfl) ?_
  refine lv_aload_n hx hb dX5_passIt_13 rfl (lv_at hl 1 rfl) ?_
  refine lv_iload_n hx hb dX5_passIt_14 rfl (lv_at hl 0 rfl) ?_
  refine fc_Vi (rest := [.int x1, .ref (eb E + 21)]) (As := [.int x1]) X hw hm_X5_isTree (lw_V q1757 q1759 qs43 q121 q1760) ⟨rfl, rfl⟩ ⟨by rw [hRf]; exact Nat.le_of_ble_eq_true rfl, by rw [hRl]; exact Nat.le_of_ble_eq_true rfl⟩ fc_X5 rfl (hm0 hE) rfl rfl hl.1 (Nat.le_of_ble_eq_true rfl) dX5_passIt_15 (fun rQ stQ hQ => wX5_isTree l E hE x1 st2 rQ stQ hQ) hf (fun x33 st34 H locs hw hf => ?_)
  refine jn_e hf (fun k37 ek hf => ?_)
  have hk37 : ∀ (x35 : Int32) (st36 : fo_St) (H : Heap) (locs : List Loc) (ls : Array Slot), lv_has ls 3 [(1, .int x1), (0, .ref (eb E + 0))] → fo_S E s st36 H locs → k37 x35 st36 = some (rZ, stZ) → W p l e R s m args below meth c H locs 0 0 Q (F0 m 30 ls [.int x35, .int x1, .ref (eb E + 21)]) := by
    intro x35 st36 H locs ls hl hw hf
    rw [ek] at hf
    refine fo_iast X hw (hm21 hE) dX5_passIt_30 hf (fun st38 H locs hw hf => ?_)
    refine fb_iinc (v := (1 : Int32)) (lv' := [(1, .int (x1 + (1 : Int32))), (0, .ref (eb E + 0))]) hx hb dX5_passIt_31 hl (k := 0) rfl (by decide) (by decide) rfl (fun ls hl => ?_)
    refine lv_goto (tgt := 2) hx hb dX5_passIt_34 (by decide) ?_
    exact hrec3 _ _ hf _ _ _ (lv_sub hl [0, 1] rfl) hw
  clear ek
  refine fb_zeq (tgt := 29) hx hb dX5_passIt_18 (by decide) hf (fun hf => ?_) (fun hf => ?_)
  · refine lv_iconst (v := (0 : Int32)) hx hb dX5_passIt_29 (by decide) ?_
    exact hk37 _ _ _ _ _ (lv_sub hl [0, 1] rfl) hw hf
  refine lv_aload_n hx hb dX5_passIt_21 rfl (lv_at hl 1 rfl) ?_
  refine lv_iload_n hx hb dX5_passIt_22 rfl (lv_at hl 0 rfl) ?_
  refine fc_Vi (rest := [.int x1, .ref (eb E + 21)]) (As := [.int x1]) X hw hm_X5_growsOf (lw_V q1761 q1763 qs44 q121 q1764) ⟨rfl, rfl⟩ ⟨by rw [hRf]; exact Nat.le_of_ble_eq_true rfl, by rw [hRl]; exact Nat.le_of_ble_eq_true rfl⟩ fc_X5 rfl (hm0 hE) rfl rfl hl.1 (Nat.le_of_ble_eq_true rfl) dX5_passIt_23 (fun rQ stQ hQ => wX5_growsOf l E hE G x1 st34 rQ stQ hQ) hf (fun x39 st40 H locs hw hf => ?_)
  refine lv_goto (tgt := 30) hx hb dX5_passIt_26 (by decide) ?_
  exact hk37 _ _ _ _ _ (lv_sub hl [0, 1] rfl) hw hf

/-- ForestRoomsModel.passNow -/
def fX5_passNow (G : Nat) (st0 : fo_St) : Option (Int32 × fo_St) := bd_ (fX5_term (0 : Int32) st0) (fun x1 st2 => if ¬ x1 = (999 : Int32) then bv_ (fX5_remember G (4 : Int32) st2) (fun st4 => bd_ (fX5_passIt G st4) (fun x5 st6 => some (x5, st6))) else some ((-3 : Int32), st2))
theorem hm_X5_passNow : fo_M yX5_passNow 0 := ⟨by decide +kernel, by decide +kernel, by decide +kernel, by decide +kernel⟩
set_option maxHeartbeats 4000000 in
theorem wX5_passNow (l : Launch) (E : fo_E) (hE : ∀ n, et E n = tM_ n) (G : Nat) (st0 : fo_St) (rZ : Int32) (stZ : fo_St) (hf : fX5_passNow G st0 = some (rZ, stZ)) : CTi l E yX5_passNow (ws_ yX5_passNow cX5_passNow 1 (some .int)) ({ frames := 7, cells := 0, slots := 0, locals := 171 }) [.ref (eb E + 0)] st0 rZ stZ := by
  refine fe_i hm_X5_passNow (Nat.le_of_ble_eq_true rfl) (fun p e R s m args below meth c Q hRf hRl X hend ls hl hw => ?_)
  have hx := X.1.1
  have hb := X.1.2.1
  have hl : lv_has ls 1 [(0, .ref (eb E + 0))] := hl
  unfold fX5_passNow at hf
  generalize s.heap = H at hw ⊢
  generalize ([] : List Loc) = locs at hw ⊢
  refine lv_aload_n hx hb dX5_passNow_0 rfl (lv_at hl 0 rfl) ?_
  refine lv_iconst (v := (0 : Int32)) hx hb dX5_passNow_1 (by decide) ?_
  refine fc_Vi (rest := []) (As := [.int (0 : Int32)]) X hw hm_X5_term (lw_V q1774 q1776 qs47 q121 q1777) ⟨rfl, rfl⟩ ⟨by rw [hRf]; exact Nat.le_of_ble_eq_true rfl, by rw [hRl]; exact Nat.le_of_ble_eq_true rfl⟩ fc_X5 rfl (hm0 hE) rfl rfl hl.1 (Nat.le_of_ble_eq_true rfl) dX5_passNow_2 (fun rQ stQ hQ => wX5_term l E hE (0 : Int32) st0 rQ stQ hQ) hf (fun x1 st2 H locs hw hf => ?_)
  refine lv_sipush (v := (999 : Int32)) hx hb dX5_passNow_5 (by decide) ?_
  refine fb_ine (tgt := 14) hx hb dX5_passNow_8 (by decide) hf (fun hf => ?_) (fun hf => ?_)
  · refine lv_aload_n hx hb dX5_passNow_14 rfl (lv_at hl 0 rfl) ?_
    refine lv_iconst (v := (4 : Int32)) hx hb dX5_passNow_15 (by decide) ?_
    refine fc_Vv (rest := []) (As := [.int (4 : Int32)]) X hw hm_X5_remember (lw_V q1995 q1997 qs82 q121 q1998) ⟨rfl, rfl⟩ ⟨by rw [hRf]; exact Nat.le_of_ble_eq_true rfl, by rw [hRl]; exact Nat.le_of_ble_eq_true rfl⟩ fc_X5 rfl (hm0 hE) rfl rfl hl.1 (Nat.le_of_ble_eq_true rfl) dX5_passNow_16 (fun stQ hQ => wX5_remember l E hE G (4 : Int32) st2 stQ hQ) hf (fun st4 H locs hw hf => ?_)
    refine lv_aload_n hx hb dX5_passNow_19 rfl (lv_at hl 0 rfl) ?_
    refine fc_Vi (rest := []) (As := []) X hw hm_X5_passIt (lw_V q2039 q2041 qs89 q121 q2042) ⟨rfl, rfl⟩ ⟨by rw [hRf]; exact Nat.le_of_ble_eq_true rfl, by rw [hRl]; exact Nat.le_of_ble_eq_true rfl⟩ fc_X5 rfl (hm0 hE) rfl rfl hl.1 (Nat.le_of_ble_eq_true rfl) dX5_passNow_20 (fun rQ stQ hQ => wX5_passIt l E hE G st4 rQ stQ hQ) hf (fun x5 st6 H locs hw hf => ?_)
    exact fd_i hend hw hf dX5_passNow_23
  refine lv_bipush (v := (-3 : Int32)) hx hb dX5_passNow_11 (by decide) ?_
  exact fd_i hend hw hf dX5_passNow_13

/-- ForestRoomsModel.pass -/
def fX5_pass (G : Nat) (st0 : fo_St) : Option (Int32 × fo_St) := lt_ (si_ st0 0 0 (0 : Int32)) (fun st1 => bd_ (fX5_passNow G st1) (fun x2 st3 => bd_ (fX5_tell x2 st3) (fun x4 st5 => some (x4, st5))))
theorem hm_X5_pass : fo_M yX5_pass 0 := ⟨by decide +kernel, by decide +kernel, by decide +kernel, by decide +kernel⟩
set_option maxHeartbeats 4000000 in
theorem wX5_pass (l : Launch) (E : fo_E) (hE : ∀ n, et E n = tM_ n) (G : Nat) (st0 : fo_St) (rZ : Int32) (stZ : fo_St) (hf : fX5_pass G st0 = some (rZ, stZ)) : CTi l E yX5_pass (ws_ yX5_pass cX5_pass 1 (some .int)) ({ frames := 8, cells := 0, slots := 0, locals := 191 }) [.ref (eb E + 0)] st0 rZ stZ := by
  refine fe_i hm_X5_pass (Nat.le_of_ble_eq_true rfl) (fun p e R s m args below meth c Q hRf hRl X hend ls hl hw => ?_)
  have hx := X.1.1
  have hb := X.1.2.1
  have hl : lv_has ls 1 [(0, .ref (eb E + 0))] := hl
  unfold fX5_pass at hf
  generalize s.heap = H at hw ⊢
  generalize ([] : List Loc) = locs at hw ⊢
  refine lv_aload_n hx hb dX5_pass_0 rfl (lv_at hl 0 rfl) ?_
  refine lv_iconst (v := (0 : Int32)) hx hb dX5_pass_1 (by decide) ?_
  refine fo_puti X hw fc_X5 (hm0 hE) (k := 0) (by decide) rfl rfl q1518 ⟨rfl, rfl⟩ dX5_pass_2 hf (fun st1 H locs hw hf => ?_)
  refine lv_aload_n hx hb dX5_pass_5 rfl (lv_at hl 0 rfl) ?_
  refine lv_aload_n hx hb dX5_pass_6 rfl (lv_at hl 0 rfl) ?_
  refine fc_Vi (rest := [.ref (eb E + 0)]) (As := []) X hw hm_X5_passNow (lw_V q2035 q2037 qs88 q121 q2038) ⟨rfl, rfl⟩ ⟨by rw [hRf]; exact Nat.le_of_ble_eq_true rfl, by rw [hRl]; exact Nat.le_of_ble_eq_true rfl⟩ fc_X5 rfl (hm0 hE) rfl rfl hl.1 (Nat.le_of_ble_eq_true rfl) dX5_pass_7 (fun rQ stQ hQ => wX5_passNow l E hE G st1 rQ stQ hQ) hf (fun x2 st3 H locs hw hf => ?_)
  refine fc_Vi (rest := []) (As := [.int x2]) X hw hm_X5_tell (lw_V q1710 q1712 qs38 q121 q1713) ⟨rfl, rfl⟩ ⟨by rw [hRf]; exact Nat.le_of_ble_eq_true rfl, by rw [hRl]; exact Nat.le_of_ble_eq_true rfl⟩ fc_X5 rfl (hm0 hE) rfl rfl hl.1 (Nat.le_of_ble_eq_true rfl) dX5_pass_10 (fun rQ stQ hQ => wX5_tell l E hE x2 st3 rQ stQ hQ) hf (fun x4 st5 H locs hw hf => ?_)
  exact fd_i hend hw hf dX5_pass_13

/-- ForestRoomsModel.housed -/
def fX5_housed (G : Nat) (st0 : fo_St) : Option (Int32 × fo_St) := lp3_ (fun rec4 (x1 : Int32) (x2 : Int32) (st3 : fo_St) => if (16 : Int32) ≤ x1 then some (x2, st3) else ck_ (fo_in ((40 : Int32) + x1) 5540) (if (gi_ st3 2 ((40 : Int32) + x1).toNatClampNeg) = (-1 : Int32) then lI_ (x2 + (0 : Int32)) (fun x5 => rec4 (x1 + (1 : Int32)) x5 st3) else lI_ (x2 + (1 : Int32)) (fun x6 => rec4 (x1 + (1 : Int32)) x6 st3))) G (0 : Int32) (0 : Int32) st0
theorem hm_X5_housed : fo_M yX5_housed 0 := ⟨by decide +kernel, by decide +kernel, by decide +kernel, by decide +kernel⟩
set_option maxHeartbeats 4000000 in
theorem wX5_housed (l : Launch) (E : fo_E) (hE : ∀ n, et E n = tM_ n) (G : Nat) (st0 : fo_St) (rZ : Int32) (stZ : fo_St) (hf : fX5_housed G st0 = some (rZ, stZ)) : CTi l E yX5_housed (ws_ yX5_housed cX5_housed 3 (some .int)) ({ frames := 0, cells := 0, slots := 0, locals := 0 }) [.ref (eb E + 0)] st0 rZ stZ := by
  refine fe_i hm_X5_housed (Nat.le_of_ble_eq_true rfl) (fun p e R s m args below meth c Q hRf hRl X hend ls hl hw => ?_)
  have hx := X.1.1
  have hb := X.1.2.1
  have hl : lv_has ls 3 [(0, .ref (eb E + 0))] := hl
  unfold fX5_housed at hf
  generalize s.heap = H at hw ⊢
  generalize ([] : List Loc) = locs at hw ⊢
  refine lv_iconst (v := (0 : Int32)) hx hb dX5_housed_0 (by decide) ?_
  refine lv_istore_n (lv' := [(1, .int (0 : Int32)), (0, .ref (eb E + 0))]) hx hb dX5_housed_1 rfl hl (by decide) rfl (fun ls hl => ?_)
  refine lv_iconst (v := (0 : Int32)) hx hb dX5_housed_2 (by decide) ?_
  refine lv_istore_n (lv' := [(2, .int (0 : Int32)), (1, .int (0 : Int32)), (0, .ref (eb E + 0))]) hx hb dX5_housed_3 rfl hl (by decide) rfl (fun ls hl => ?_)
  refine lp3_e (P := fun x1 x2 st3 => ∀ (H : Heap) (locs : List Loc) (ls : Array Slot), lv_has ls 3 [(2, .int x1), (1, .int x2), (0, .ref (eb E + 0))] → fo_S E s st3 H locs → W p l e R s m args below meth c H locs 0 0 Q (F0 m 4 ls [])) (fun rec4 hrec4 x1 x2 st3 hf => ?_) G _ _ _ hf H locs ls (lv_sub hl [0, 1, 2] rfl) hw
  intro H locs ls hl hw
  refine lv_iload_n hx hb dX5_housed_4 rfl (lv_at hl 0 rfl) ?_
  refine lv_bipush (v := (16 : Int32)) hx hb dX5_housed_5 (by decide) ?_
  refine fb_ige (tgt := 37) hx hb dX5_housed_7 (by decide) hf (fun hf => ?_) (fun hf => ?_)
  · refine lv_iload_n hx hb dX5_housed_37 rfl (lv_at hl 1 rfl) ?_
    exact fd_i hend hw hf dX5_housed_38
  refine lv_iload_n hx hb dX5_housed_10 rfl (lv_at hl 1 rfl) ?_
  refine lv_aload_n hx hb dX5_housed_11 rfl (lv_at hl 2 rfl) ?_
  refine fo_gets X hw fc_X5 (hm0 hE) (k := 3) (d := 2) (n2 := 2) (by decide) rfl rfl q1521 dX5_housed_12 ?_
  refine lv_bipush (v := (40 : Int32)) hx hb dX5_housed_15 (by decide) ?_
  refine lv_iload_n hx hb dX5_housed_17 rfl (lv_at hl 0 rfl) ?_
  refine lv_iadd hx hb dX5_housed_18 ?_
  refine fo_iald X hw (hm2 hE) dX5_housed_19 hf (fun hf => ?_)
  refine lv_iconst (v := (-1 : Int32)) hx hb dX5_housed_20 (by decide) ?_
  refine fb_ieq (tgt := 28) hx hb dX5_housed_21 (by decide) hf (fun hf => ?_) (fun hf => ?_)
  · refine lv_iconst (v := (0 : Int32)) hx hb dX5_housed_28 (by decide) ?_
    refine lv_iadd hx hb dX5_housed_29 ?_
    refine fo_tI hf (fun x5 hf => ?_)
    refine lv_istore_n (lv' := [(1, .int x5), (2, .int x1), (0, .ref (eb E + 0))]) hx hb dX5_housed_30 rfl hl (by decide) rfl (fun ls hl => ?_)
    refine fb_iinc (v := (1 : Int32)) (lv' := [(2, .int (x1 + (1 : Int32))), (1, .int x5), (0, .ref (eb E + 0))]) hx hb dX5_housed_31 hl (k := 1) rfl (by decide) (by decide) rfl (fun ls hl => ?_)
    refine lv_goto (tgt := 4) hx hb dX5_housed_34 (by decide) ?_
    exact hrec4 _ _ _ hf _ _ _ (lv_sub hl [0, 1, 2] rfl) hw
  refine lv_iconst (v := (1 : Int32)) hx hb dX5_housed_24 (by decide) ?_
  refine lv_goto (tgt := 29) hx hb dX5_housed_25 (by decide) ?_
  refine lv_iadd hx hb dX5_housed_29 ?_
  refine fo_tI hf (fun x6 hf => ?_)
  refine lv_istore_n (lv' := [(1, .int x6), (2, .int x1), (0, .ref (eb E + 0))]) hx hb dX5_housed_30 rfl hl (by decide) rfl (fun ls hl => ?_)
  refine fb_iinc (v := (1 : Int32)) (lv' := [(2, .int (x1 + (1 : Int32))), (1, .int x6), (0, .ref (eb E + 0))]) hx hb dX5_housed_31 hl (k := 1) rfl (by decide) (by decide) rfl (fun ls hl => ?_)
  refine lv_goto (tgt := 4) hx hb dX5_housed_34 (by decide) ?_
  exact hrec4 _ _ _ hf _ _ _ (lv_sub hl [0, 1, 2] rfl) hw

/-- ForestRoomsModel.will -/
def fX5_will (G : Nat) (p1 : Int32) (p2 : Int32) (p3 : Int32) (st0 : fo_St) : Option (Int32 × fo_St) := lt_ (si_ st0 0 0 (0 : Int32)) (fun st1 => bd_ (fX5_in (p1.toInt64) (0 : Int64) (60 : Int64) st1) (fun x2 st3 => if x2 = 0 then some ((-1 : Int32), st3) else bd_ (fX5_in (p3.toInt64) (0 : Int64) (3 : Int64) st3) (fun x4 st5 => if x4 = 0 then some ((-1 : Int32), st5) else if (3 : Int32) ≤ p3 then bv_ (fX5_keepAll G (16 : Int32) st5) (fun st7 => lp2_ (fun rec10 (x8 : Int32) (st9 : fo_St) => if p1 ≤ x8 then jn_ (fun (x11 : Int32) (st12 : fo_St) => bv_ (fX5_putBack G (16 : Int32) st12) (fun st15 => some (x11, st15))) (fun k13 => if ¬ p3 = 0 then if ¬ p3 = (1 : Int32) then if ¬ p3 = (2 : Int32) then bd_ (fX5_housed G st9) (fun x16 st17 => k13 x16 st17) else bd_ (fX5_isLost p2 st9) (fun x18 st19 => if x18 = 0 then k13 (0 : Int32) st19 else k13 (1 : Int32) st19) else ck_ (fo_in ((24 : Int32) + p2) 5540) (k13 (gi_ st9 2 ((24 : Int32) + p2).toNatClampNeg) st9) else ck_ (fo_in ((8 : Int32) + p2) 5540) (k13 (gi_ st9 2 ((8 : Int32) + p2).toNatClampNeg) st9)) else bd_ (fX5_passIt G st9) (fun x20 st21 => rec10 (x8 + (1 : Int32)) st21)) G (0 : Int32) st7) else bd_ (fX5_isRoom p2 st5) (fun x22 st23 => if ¬ x22 = 0 then bv_ (fX5_keepAll G (16 : Int32) st23) (fun st25 => lp2_ (fun rec28 (x26 : Int32) (st27 : fo_St) => if p1 ≤ x26 then jn_ (fun (x29 : Int32) (st30 : fo_St) => bv_ (fX5_putBack G (16 : Int32) st30) (fun st33 => some (x29, st33))) (fun k31 => if ¬ p3 = 0 then if ¬ p3 = (1 : Int32) then if ¬ p3 = (2 : Int32) then bd_ (fX5_housed G st27) (fun x34 st35 => k31 x34 st35) else bd_ (fX5_isLost p2 st27) (fun x36 st37 => if x36 = 0 then k31 (0 : Int32) st37 else k31 (1 : Int32) st37) else ck_ (fo_in ((24 : Int32) + p2) 5540) (k31 (gi_ st27 2 ((24 : Int32) + p2).toNatClampNeg) st27) else ck_ (fo_in ((8 : Int32) + p2) 5540) (k31 (gi_ st27 2 ((8 : Int32) + p2).toNatClampNeg) st27)) else bd_ (fX5_passIt G st27) (fun x38 st39 => rec28 (x26 + (1 : Int32)) st39)) G (0 : Int32) st25) else some ((-1 : Int32), st23)))))
theorem hm_X5_will : fo_M yX5_will 3 := ⟨by decide +kernel, by decide +kernel, by decide +kernel, by decide +kernel⟩
set_option maxHeartbeats 4000000 in
theorem wX5_will (l : Launch) (E : fo_E) (hE : ∀ n, et E n = tM_ n) (G : Nat) (p1 : Int32) (p2 : Int32) (p3 : Int32) (st0 : fo_St) (rZ : Int32) (stZ : fo_St) (hf : fX5_will G p1 p2 p3 st0 = some (rZ, stZ)) : CTi l E yX5_will (ws_ yX5_will cX5_will 5 (some .int)) ({ frames := 7, cells := 0, slots := 0, locals := 171 }) [.ref (eb E + 0), .int p1, .int p2, .int p3] st0 rZ stZ := by
  refine fe_i hm_X5_will (Nat.le_of_ble_eq_true rfl) (fun p e R s m args below meth c Q hRf hRl X hend ls hl hw => ?_)
  have hx := X.1.1
  have hb := X.1.2.1
  have hl : lv_has ls 5 [(0, .ref (eb E + 0)), (1, .int p1), (2, .int p2), (3, .int p3)] := hl
  unfold fX5_will at hf
  generalize s.heap = H at hw ⊢
  generalize ([] : List Loc) = locs at hw ⊢
  refine lv_aload_n hx hb dX5_will_0 rfl (lv_at hl 0 rfl) ?_
  refine lv_iconst (v := (0 : Int32)) hx hb dX5_will_1 (by decide) ?_
  refine fo_puti X hw fc_X5 (hm0 hE) (k := 0) (by decide) rfl rfl q1518 ⟨rfl, rfl⟩ dX5_will_2 hf (fun st1 H locs hw hf => ?_)
  refine lv_iload_n hx hb dX5_will_5 rfl (lv_at hl 1 rfl) ?_
  refine lv_i2l (v := p1.toInt64) hx hb dX5_will_6 rfl ?_
  refine lv_lconst (v := (0 : Int64)) hx hb dX5_will_7 rfl ?_
  refine lv_ldc2 (v := (60 : Int64)) hx hb X.1.2.2.2.1 (X.1.2.2.2.2 _ q2054) dX5_will_8 ?_
  refine fc_Si (rest := []) (As := [.long p1.toInt64, .long (0 : Int64), .long (60 : Int64)]) X hw hm_X5_in (lw_S q1722 q1723 q121 q1724) ⟨rfl, rfl⟩ ⟨by rw [hRf]; exact Nat.le_of_ble_eq_true rfl, by rw [hRl]; exact Nat.le_of_ble_eq_true rfl⟩ rfl rfl hl.1 (Nat.le_of_ble_eq_true rfl) dX5_will_11 (fun rQ stQ hQ => wX5_in l E hE (p1.toInt64) (0 : Int64) (60 : Int64) st1 rQ stQ hQ) hf (fun x2 st3 H locs hw hf => ?_)
  refine fb_zeq (tgt := 41) hx hb dX5_will_14 (by decide) hf (fun hf => ?_) (fun hf => ?_)
  · refine lv_iconst (v := (-1 : Int32)) hx hb dX5_will_41 (by decide) ?_
    exact fd_i hend hw hf dX5_will_42
  refine lv_iload_n hx hb dX5_will_17 rfl (lv_at hl 3 rfl) ?_
  refine lv_i2l (v := p3.toInt64) hx hb dX5_will_18 rfl ?_
  refine lv_lconst (v := (0 : Int64)) hx hb dX5_will_19 rfl ?_
  refine lv_ldc2 (v := (3 : Int64)) hx hb X.1.2.2.2.1 (X.1.2.2.2.2 _ q1769) dX5_will_20 ?_
  refine fc_Si (rest := []) (As := [.long p3.toInt64, .long (0 : Int64), .long (3 : Int64)]) X hw hm_X5_in (lw_S q1722 q1723 q121 q1724) ⟨rfl, rfl⟩ ⟨by rw [hRf]; exact Nat.le_of_ble_eq_true rfl, by rw [hRl]; exact Nat.le_of_ble_eq_true rfl⟩ rfl rfl hl.1 (Nat.le_of_ble_eq_true rfl) dX5_will_23 (fun rQ stQ hQ => wX5_in l E hE (p3.toInt64) (0 : Int64) (3 : Int64) st3 rQ stQ hQ) hf (fun x4 st5 H locs hw hf => ?_)
  refine fb_zeq (tgt := 41) hx hb dX5_will_26 (by decide) hf (fun hf => ?_) (fun hf => ?_)
  · refine lv_iconst (v := (-1 : Int32)) hx hb dX5_will_41 (by decide) ?_
    exact fd_i hend hw hf dX5_will_42
  refine lv_iload_n hx hb dX5_will_29 rfl (lv_at hl 3 rfl) ?_
  refine lv_iconst (v := (3 : Int32)) hx hb dX5_will_30 (by decide) ?_
  refine fb_ige (tgt := 43) hx hb dX5_will_31 (by decide) hf (fun hf => ?_) (fun hf => ?_)
  · refine lv_aload_n hx hb dX5_will_43 rfl (lv_at hl 0 rfl) ?_
    refine lv_bipush (v := (16 : Int32)) hx hb dX5_will_44 (by decide) ?_
    refine fc_Vv (rest := []) (As := [.int (16 : Int32)]) X hw hm_X5_keepAll (lw_V q1999 q2001 qs83 q121 q2002) ⟨rfl, rfl⟩ ⟨by rw [hRf]; exact Nat.le_of_ble_eq_true rfl, by rw [hRl]; exact Nat.le_of_ble_eq_true rfl⟩ fc_X5 rfl (hm0 hE) rfl rfl hl.1 (Nat.le_of_ble_eq_true rfl) dX5_will_46 (fun stQ hQ => wX5_keepAll l E hE G (16 : Int32) st5 stQ hQ) hf (fun st7 H locs hw hf => ?_)
    refine lv_iconst (v := (0 : Int32)) hx hb dX5_will_49 (by decide) ?_
    refine lv_istore (lv' := [(4, .int (0 : Int32)), (0, .ref (eb E + 0)), (1, .int p1), (2, .int p2), (3, .int p3)]) hx hb dX5_will_50 hl (by decide) rfl (fun ls hl => ?_)
    refine lp2_e (P := fun x8 st9 => ∀ (H : Heap) (locs : List Loc) (ls : Array Slot), lv_has ls 5 [(4, .int x8), (0, .ref (eb E + 0)), (1, .int p1), (2, .int p2), (3, .int p3)] → fo_S E s st9 H locs → W p l e R s m args below meth c H locs 0 0 Q (F0 m 52 ls [])) (fun rec10 hrec10 x8 st9 hf => ?_) G _ _ hf H locs ls (lv_sub hl [0, 1, 2, 3, 4] rfl) hw
    intro H locs ls hl hw
    refine lv_iload hx hb dX5_will_52 (lv_at hl 0 rfl) ?_
    refine lv_iload_n hx hb dX5_will_54 rfl (lv_at hl 2 rfl) ?_
    refine fb_ige (tgt := 69) hx hb dX5_will_55 (by decide) hf (fun hf => ?_) (fun hf => ?_)
    · refine lv_iload_n hx hb dX5_will_69 rfl (lv_at hl 4 rfl) ?_
      refine jn_e hf (fun k13 ek hf => ?_)
      have hk13 : ∀ (x11 : Int32) (st12 : fo_St) (H : Heap) (locs : List Loc) (ls : Array Slot), lv_has ls 5 [(0, .ref (eb E + 0))] → fo_S E s st12 H locs → k13 x11 st12 = some (rZ, stZ) → W p l e R s m args below meth c H locs 0 0 Q (F0 m 127 ls [.int x11]) := by
        intro x11 st12 H locs ls hl hw hf
        rw [ek] at hf
        refine lv_istore (lv' := [(4, .int x11), (0, .ref (eb E + 0))]) hx hb dX5_will_127 hl (by decide) rfl (fun ls hl => ?_)
        refine lv_aload_n hx hb dX5_will_129 rfl (lv_at hl 1 rfl) ?_
        refine lv_bipush (v := (16 : Int32)) hx hb dX5_will_130 (by decide) ?_
        refine fc_Vv (rest := []) (As := [.int (16 : Int32)]) X hw hm_X5_putBack (lw_V q1714 q1716 qs39 q121 q1717) ⟨rfl, rfl⟩ ⟨by rw [hRf]; exact Nat.le_of_ble_eq_true rfl, by rw [hRl]; exact Nat.le_of_ble_eq_true rfl⟩ fc_X5 rfl (hm0 hE) rfl rfl hl.1 (Nat.le_of_ble_eq_true rfl) dX5_will_132 (fun stQ hQ => wX5_putBack l E hE G (16 : Int32) st12 stQ hQ) hf (fun st15 H locs hw hf => ?_)
        refine lv_iload hx hb dX5_will_135 (lv_at hl 0 rfl) ?_
        exact fd_i hend hw hf dX5_will_137
      clear ek
      refine fb_zne (tgt := 85) hx hb dX5_will_70 (by decide) hf (fun hf => ?_) (fun hf => ?_)
      · refine lv_iload_n hx hb dX5_will_85 rfl (lv_at hl 4 rfl) ?_
        refine lv_iconst (v := (1 : Int32)) hx hb dX5_will_86 (by decide) ?_
        refine fb_ine (tgt := 102) hx hb dX5_will_87 (by decide) hf (fun hf => ?_) (fun hf => ?_)
        · refine lv_iload_n hx hb dX5_will_102 rfl (lv_at hl 4 rfl) ?_
          refine lv_iconst (v := (2 : Int32)) hx hb dX5_will_103 (by decide) ?_
          refine fb_ine (tgt := 123) hx hb dX5_will_104 (by decide) hf (fun hf => ?_) (fun hf => ?_)
          · refine lv_aload_n hx hb dX5_will_123 rfl (lv_at hl 1 rfl) ?_
            refine fc_Vi (rest := []) (As := []) X hw hm_X5_housed (lw_V q2055 q2057 qs91 q121 q2058) ⟨rfl, rfl⟩ ⟨by rw [hRf]; exact Nat.le_of_ble_eq_true rfl, by rw [hRl]; exact Nat.le_of_ble_eq_true rfl⟩ fc_X5 rfl (hm0 hE) rfl rfl hl.1 (Nat.le_of_ble_eq_true rfl) dX5_will_124 (fun rQ stQ hQ => wX5_housed l E hE G st9 rQ stQ hQ) hf (fun x16 st17 H locs hw hf => ?_)
            exact hk13 _ _ _ _ _ (lv_sub hl [1] rfl) hw hf
          refine lv_aload_n hx hb dX5_will_107 rfl (lv_at hl 1 rfl) ?_
          refine lv_iload_n hx hb dX5_will_108 rfl (lv_at hl 3 rfl) ?_
          refine fc_Vi (rest := []) (As := [.int p2]) X hw hm_X5_isLost (lw_V q1753 q1755 qs42 q121 q1756) ⟨rfl, rfl⟩ ⟨by rw [hRf]; exact Nat.le_of_ble_eq_true rfl, by rw [hRl]; exact Nat.le_of_ble_eq_true rfl⟩ fc_X5 rfl (hm0 hE) rfl rfl hl.1 (Nat.le_of_ble_eq_true rfl) dX5_will_109 (fun rQ stQ hQ => wX5_isLost l E hE p2 st9 rQ stQ hQ) hf (fun x18 st19 H locs hw hf => ?_)
          refine fb_zeq (tgt := 119) hx hb dX5_will_112 (by decide) hf (fun hf => ?_) (fun hf => ?_)
          · refine lv_iconst (v := (0 : Int32)) hx hb dX5_will_119 (by decide) ?_
            refine lv_goto (tgt := 127) hx hb dX5_will_120 (by decide) ?_
            exact hk13 _ _ _ _ _ (lv_sub hl [1] rfl) hw hf
          refine lv_iconst (v := (1 : Int32)) hx hb dX5_will_115 (by decide) ?_
          refine lv_goto (tgt := 127) hx hb dX5_will_116 (by decide) ?_
          exact hk13 _ _ _ _ _ (lv_sub hl [1] rfl) hw hf
        refine lv_aload_n hx hb dX5_will_90 rfl (lv_at hl 1 rfl) ?_
        refine fo_gets X hw fc_X5 (hm0 hE) (k := 3) (d := 2) (n2 := 2) (by decide) rfl rfl q1521 dX5_will_91 ?_
        refine lv_bipush (v := (24 : Int32)) hx hb dX5_will_94 (by decide) ?_
        refine lv_iload_n hx hb dX5_will_96 rfl (lv_at hl 3 rfl) ?_
        refine lv_iadd hx hb dX5_will_97 ?_
        refine fo_iald X hw (hm2 hE) dX5_will_98 hf (fun hf => ?_)
        refine lv_goto (tgt := 127) hx hb dX5_will_99 (by decide) ?_
        exact hk13 _ _ _ _ _ (lv_sub hl [1] rfl) hw hf
      refine lv_aload_n hx hb dX5_will_73 rfl (lv_at hl 1 rfl) ?_
      refine fo_gets X hw fc_X5 (hm0 hE) (k := 3) (d := 2) (n2 := 2) (by decide) rfl rfl q1521 dX5_will_74 ?_
      refine lv_bipush (v := (8 : Int32)) hx hb dX5_will_77 (by decide) ?_
      refine lv_iload_n hx hb dX5_will_79 rfl (lv_at hl 3 rfl) ?_
      refine lv_iadd hx hb dX5_will_80 ?_
      refine fo_iald X hw (hm2 hE) dX5_will_81 hf (fun hf => ?_)
      refine lv_goto (tgt := 127) hx hb dX5_will_82 (by decide) ?_
      exact hk13 _ _ _ _ _ (lv_sub hl [1] rfl) hw hf
    refine lv_aload_n hx hb dX5_will_58 rfl (lv_at hl 1 rfl) ?_
    refine fc_Vi (rest := []) (As := []) X hw hm_X5_passIt (lw_V q2039 q2041 qs89 q121 q2042) ⟨rfl, rfl⟩ ⟨by rw [hRf]; exact Nat.le_of_ble_eq_true rfl, by rw [hRl]; exact Nat.le_of_ble_eq_true rfl⟩ fc_X5 rfl (hm0 hE) rfl rfl hl.1 (Nat.le_of_ble_eq_true rfl) dX5_will_59 (fun rQ stQ hQ => wX5_passIt l E hE G st9 rQ stQ hQ) hf (fun x20 st21 H locs hw hf => ?_)
    refine lv_pop hx hb dX5_will_62 rfl ?_
    refine fb_iinc (v := (1 : Int32)) (lv' := [(4, .int (x8 + (1 : Int32))), (0, .ref (eb E + 0)), (1, .int p1), (2, .int p2), (3, .int p3)]) hx hb dX5_will_63 hl (k := 0) rfl (by decide) (by decide) rfl (fun ls hl => ?_)
    refine lv_goto (tgt := 52) hx hb dX5_will_66 (by decide) ?_
    exact hrec10 _ _ hf _ _ _ (lv_sub hl [0, 1, 2, 3, 4] rfl) hw
  refine lv_iload_n hx hb dX5_will_34 rfl (lv_at hl 2 rfl) ?_
  refine fc_Si (rest := []) (As := [.int p2]) X hw hm_X5_isRoom (lw_S q1737 q1738 q121 q1739) ⟨rfl, rfl⟩ ⟨by rw [hRf]; exact Nat.le_of_ble_eq_true rfl, by rw [hRl]; exact Nat.le_of_ble_eq_true rfl⟩ rfl rfl hl.1 (Nat.le_of_ble_eq_true rfl) dX5_will_35 (fun rQ stQ hQ => wX5_isRoom l E hE p2 st5 rQ stQ hQ) hf (fun x22 st23 H locs hw hf => ?_)
  refine fb_zne (tgt := 43) hx hb dX5_will_38 (by decide) hf (fun hf => ?_) (fun hf => ?_)
  · refine lv_aload_n hx hb dX5_will_43 rfl (lv_at hl 0 rfl) ?_
    refine lv_bipush (v := (16 : Int32)) hx hb dX5_will_44 (by decide) ?_
    refine fc_Vv (rest := []) (As := [.int (16 : Int32)]) X hw hm_X5_keepAll (lw_V q1999 q2001 qs83 q121 q2002) ⟨rfl, rfl⟩ ⟨by rw [hRf]; exact Nat.le_of_ble_eq_true rfl, by rw [hRl]; exact Nat.le_of_ble_eq_true rfl⟩ fc_X5 rfl (hm0 hE) rfl rfl hl.1 (Nat.le_of_ble_eq_true rfl) dX5_will_46 (fun stQ hQ => wX5_keepAll l E hE G (16 : Int32) st23 stQ hQ) hf (fun st25 H locs hw hf => ?_)
    refine lv_iconst (v := (0 : Int32)) hx hb dX5_will_49 (by decide) ?_
    refine lv_istore (lv' := [(4, .int (0 : Int32)), (0, .ref (eb E + 0)), (1, .int p1), (2, .int p2), (3, .int p3)]) hx hb dX5_will_50 hl (by decide) rfl (fun ls hl => ?_)
    refine lp2_e (P := fun x26 st27 => ∀ (H : Heap) (locs : List Loc) (ls : Array Slot), lv_has ls 5 [(4, .int x26), (0, .ref (eb E + 0)), (1, .int p1), (2, .int p2), (3, .int p3)] → fo_S E s st27 H locs → W p l e R s m args below meth c H locs 0 0 Q (F0 m 52 ls [])) (fun rec28 hrec28 x26 st27 hf => ?_) G _ _ hf H locs ls (lv_sub hl [0, 1, 2, 3, 4] rfl) hw
    intro H locs ls hl hw
    refine lv_iload hx hb dX5_will_52 (lv_at hl 0 rfl) ?_
    refine lv_iload_n hx hb dX5_will_54 rfl (lv_at hl 2 rfl) ?_
    refine fb_ige (tgt := 69) hx hb dX5_will_55 (by decide) hf (fun hf => ?_) (fun hf => ?_)
    · refine lv_iload_n hx hb dX5_will_69 rfl (lv_at hl 4 rfl) ?_
      refine jn_e hf (fun k31 ek hf => ?_)
      have hk31 : ∀ (x29 : Int32) (st30 : fo_St) (H : Heap) (locs : List Loc) (ls : Array Slot), lv_has ls 5 [(0, .ref (eb E + 0))] → fo_S E s st30 H locs → k31 x29 st30 = some (rZ, stZ) → W p l e R s m args below meth c H locs 0 0 Q (F0 m 127 ls [.int x29]) := by
        intro x29 st30 H locs ls hl hw hf
        rw [ek] at hf
        refine lv_istore (lv' := [(4, .int x29), (0, .ref (eb E + 0))]) hx hb dX5_will_127 hl (by decide) rfl (fun ls hl => ?_)
        refine lv_aload_n hx hb dX5_will_129 rfl (lv_at hl 1 rfl) ?_
        refine lv_bipush (v := (16 : Int32)) hx hb dX5_will_130 (by decide) ?_
        refine fc_Vv (rest := []) (As := [.int (16 : Int32)]) X hw hm_X5_putBack (lw_V q1714 q1716 qs39 q121 q1717) ⟨rfl, rfl⟩ ⟨by rw [hRf]; exact Nat.le_of_ble_eq_true rfl, by rw [hRl]; exact Nat.le_of_ble_eq_true rfl⟩ fc_X5 rfl (hm0 hE) rfl rfl hl.1 (Nat.le_of_ble_eq_true rfl) dX5_will_132 (fun stQ hQ => wX5_putBack l E hE G (16 : Int32) st30 stQ hQ) hf (fun st33 H locs hw hf => ?_)
        refine lv_iload hx hb dX5_will_135 (lv_at hl 0 rfl) ?_
        exact fd_i hend hw hf dX5_will_137
      clear ek
      refine fb_zne (tgt := 85) hx hb dX5_will_70 (by decide) hf (fun hf => ?_) (fun hf => ?_)
      · refine lv_iload_n hx hb dX5_will_85 rfl (lv_at hl 4 rfl) ?_
        refine lv_iconst (v := (1 : Int32)) hx hb dX5_will_86 (by decide) ?_
        refine fb_ine (tgt := 102) hx hb dX5_will_87 (by decide) hf (fun hf => ?_) (fun hf => ?_)
        · refine lv_iload_n hx hb dX5_will_102 rfl (lv_at hl 4 rfl) ?_
          refine lv_iconst (v := (2 : Int32)) hx hb dX5_will_103 (by decide) ?_
          refine fb_ine (tgt := 123) hx hb dX5_will_104 (by decide) hf (fun hf => ?_) (fun hf => ?_)
          · refine lv_aload_n hx hb dX5_will_123 rfl (lv_at hl 1 rfl) ?_
            refine fc_Vi (rest := []) (As := []) X hw hm_X5_housed (lw_V q2055 q2057 qs91 q121 q2058) ⟨rfl, rfl⟩ ⟨by rw [hRf]; exact Nat.le_of_ble_eq_true rfl, by rw [hRl]; exact Nat.le_of_ble_eq_true rfl⟩ fc_X5 rfl (hm0 hE) rfl rfl hl.1 (Nat.le_of_ble_eq_true rfl) dX5_will_124 (fun rQ stQ hQ => wX5_housed l E hE G st27 rQ stQ hQ) hf (fun x34 st35 H locs hw hf => ?_)
            exact hk31 _ _ _ _ _ (lv_sub hl [1] rfl) hw hf
          refine lv_aload_n hx hb dX5_will_107 rfl (lv_at hl 1 rfl) ?_
          refine lv_iload_n hx hb dX5_will_108 rfl (lv_at hl 3 rfl) ?_
          refine fc_Vi (rest := []) (As := [.int p2]) X hw hm_X5_isLost (lw_V q1753 q1755 qs42 q121 q1756) ⟨rfl, rfl⟩ ⟨by rw [hRf]; exact Nat.le_of_ble_eq_true rfl, by rw [hRl]; exact Nat.le_of_ble_eq_true rfl⟩ fc_X5 rfl (hm0 hE) rfl rfl hl.1 (Nat.le_of_ble_eq_true rfl) dX5_will_109 (fun rQ stQ hQ => wX5_isLost l E hE p2 st27 rQ stQ hQ) hf (fun x36 st37 H locs hw hf => ?_)
          refine fb_zeq (tgt := 119) hx hb dX5_will_112 (by decide) hf (fun hf => ?_) (fun hf => ?_)
          · refine lv_iconst (v := (0 : Int32)) hx hb dX5_will_119 (by decide) ?_
            refine lv_goto (tgt := 127) hx hb dX5_will_120 (by decide) ?_
            exact hk31 _ _ _ _ _ (lv_sub hl [1] rfl) hw hf
          refine lv_iconst (v := (1 : Int32)) hx hb dX5_will_115 (by decide) ?_
          refine lv_goto (tgt := 127) hx hb dX5_will_116 (by decide) ?_
          exact hk31 _ _ _ _ _ (lv_sub hl [1] rfl) hw hf
        refine lv_aload_n hx hb dX5_will_90 rfl (lv_at hl 1 rfl) ?_
        refine fo_gets X hw fc_X5 (hm0 hE) (k := 3) (d := 2) (n2 := 2) (by decide) rfl rfl q1521 dX5_will_91 ?_
        refine lv_bipush (v := (24 : Int32)) hx hb dX5_will_94 (by decide) ?_
        refine lv_iload_n hx hb dX5_will_96 rfl (lv_at hl 3 rfl) ?_
        refine lv_iadd hx hb dX5_will_97 ?_
        refine fo_iald X hw (hm2 hE) dX5_will_98 hf (fun hf => ?_)
        refine lv_goto (tgt := 127) hx hb dX5_will_99 (by decide) ?_
        exact hk31 _ _ _ _ _ (lv_sub hl [1] rfl) hw hf
      refine lv_aload_n hx hb dX5_will_73 rfl (lv_at hl 1 rfl) ?_
      refine fo_gets X hw fc_X5 (hm0 hE) (k := 3) (d := 2) (n2 := 2) (by decide) rfl rfl q1521 dX5_will_74 ?_
      refine lv_bipush (v := (8 : Int32)) hx hb dX5_will_77 (by decide) ?_
      refine lv_iload_n hx hb dX5_will_79 rfl (lv_at hl 3 rfl) ?_
      refine lv_iadd hx hb dX5_will_80 ?_
      refine fo_iald X hw (hm2 hE) dX5_will_81 hf (fun hf => ?_)
      refine lv_goto (tgt := 127) hx hb dX5_will_82 (by decide) ?_
      exact hk31 _ _ _ _ _ (lv_sub hl [1] rfl) hw hf
    refine lv_aload_n hx hb dX5_will_58 rfl (lv_at hl 1 rfl) ?_
    refine fc_Vi (rest := []) (As := []) X hw hm_X5_passIt (lw_V q2039 q2041 qs89 q121 q2042) ⟨rfl, rfl⟩ ⟨by rw [hRf]; exact Nat.le_of_ble_eq_true rfl, by rw [hRl]; exact Nat.le_of_ble_eq_true rfl⟩ fc_X5 rfl (hm0 hE) rfl rfl hl.1 (Nat.le_of_ble_eq_true rfl) dX5_will_59 (fun rQ stQ hQ => wX5_passIt l E hE G st27 rQ stQ hQ) hf (fun x38 st39 H locs hw hf => ?_)
    refine lv_pop hx hb dX5_will_62 rfl ?_
    refine fb_iinc (v := (1 : Int32)) (lv' := [(4, .int (x26 + (1 : Int32))), (0, .ref (eb E + 0)), (1, .int p1), (2, .int p2), (3, .int p3)]) hx hb dX5_will_63 hl (k := 0) rfl (by decide) (by decide) rfl (fun ls hl => ?_)
    refine lv_goto (tgt := 52) hx hb dX5_will_66 (by decide) ?_
    exact hrec28 _ _ hf _ _ _ (lv_sub hl [0, 1, 2, 3, 4] rfl) hw
  refine lv_iconst (v := (-1 : Int32)) hx hb dX5_will_41 (by decide) ?_
  exact fd_i hend hw hf dX5_will_42

/-- ForestRoomsModel.lostRooms -/
def fX5_lostRooms (G : Nat) (st0 : fo_St) : Option (Int32 × fo_St) := lp3_ (fun rec4 (x1 : Int32) (x2 : Int32) (st3 : fo_St) => if (16 : Int32) ≤ x1 then some (x2, st3) else bd_ (fX5_isLost x1 st3) (fun x5 st6 => if x5 = 0 then lI_ (x2 + (0 : Int32)) (fun x7 => rec4 (x1 + (1 : Int32)) x7 st6) else lI_ (x2 + (1 : Int32)) (fun x8 => rec4 (x1 + (1 : Int32)) x8 st6))) G (0 : Int32) (0 : Int32) st0
theorem hm_X5_lostRooms : fo_M yX5_lostRooms 0 := ⟨by decide +kernel, by decide +kernel, by decide +kernel, by decide +kernel⟩
set_option maxHeartbeats 4000000 in
theorem wX5_lostRooms (l : Launch) (E : fo_E) (hE : ∀ n, et E n = tM_ n) (G : Nat) (st0 : fo_St) (rZ : Int32) (stZ : fo_St) (hf : fX5_lostRooms G st0 = some (rZ, stZ)) : CTi l E yX5_lostRooms (ws_ yX5_lostRooms cX5_lostRooms 3 (some .int)) ({ frames := 1, cells := 0, slots := 0, locals := 21 }) [.ref (eb E + 0)] st0 rZ stZ := by
  refine fe_i hm_X5_lostRooms (Nat.le_of_ble_eq_true rfl) (fun p e R s m args below meth c Q hRf hRl X hend ls hl hw => ?_)
  have hx := X.1.1
  have hb := X.1.2.1
  have hl : lv_has ls 3 [(0, .ref (eb E + 0))] := hl
  unfold fX5_lostRooms at hf
  generalize s.heap = H at hw ⊢
  generalize ([] : List Loc) = locs at hw ⊢
  refine lv_iconst (v := (0 : Int32)) hx hb dX5_lostRooms_0 (by decide) ?_
  refine lv_istore_n (lv' := [(1, .int (0 : Int32)), (0, .ref (eb E + 0))]) hx hb dX5_lostRooms_1 rfl hl (by decide) rfl (fun ls hl => ?_)
  refine lv_iconst (v := (0 : Int32)) hx hb dX5_lostRooms_2 (by decide) ?_
  refine lv_istore_n (lv' := [(2, .int (0 : Int32)), (1, .int (0 : Int32)), (0, .ref (eb E + 0))]) hx hb dX5_lostRooms_3 rfl hl (by decide) rfl (fun ls hl => ?_)
  refine lp3_e (P := fun x1 x2 st3 => ∀ (H : Heap) (locs : List Loc) (ls : Array Slot), lv_has ls 3 [(2, .int x1), (1, .int x2), (0, .ref (eb E + 0))] → fo_S E s st3 H locs → W p l e R s m args below meth c H locs 0 0 Q (F0 m 4 ls [])) (fun rec4 hrec4 x1 x2 st3 hf => ?_) G _ _ _ hf H locs ls (lv_sub hl [0, 1, 2] rfl) hw
  intro H locs ls hl hw
  refine lv_iload_n hx hb dX5_lostRooms_4 rfl (lv_at hl 0 rfl) ?_
  refine lv_bipush (v := (16 : Int32)) hx hb dX5_lostRooms_5 (by decide) ?_
  refine fb_ige (tgt := 32) hx hb dX5_lostRooms_7 (by decide) hf (fun hf => ?_) (fun hf => ?_)
  · refine lv_iload_n hx hb dX5_lostRooms_32 rfl (lv_at hl 1 rfl) ?_
    exact fd_i hend hw hf dX5_lostRooms_33
  refine lv_iload_n hx hb dX5_lostRooms_10 rfl (lv_at hl 1 rfl) ?_
  refine lv_aload_n hx hb dX5_lostRooms_11 rfl (lv_at hl 2 rfl) ?_
  refine lv_iload_n hx hb dX5_lostRooms_12 rfl (lv_at hl 0 rfl) ?_
  refine fc_Vi (rest := [.int x2]) (As := [.int x1]) X hw hm_X5_isLost (lw_V q1753 q1755 qs42 q121 q1756) ⟨rfl, rfl⟩ ⟨by rw [hRf]; exact Nat.le_of_ble_eq_true rfl, by rw [hRl]; exact Nat.le_of_ble_eq_true rfl⟩ fc_X5 rfl (hm0 hE) rfl rfl hl.1 (Nat.le_of_ble_eq_true rfl) dX5_lostRooms_13 (fun rQ stQ hQ => wX5_isLost l E hE x1 st3 rQ stQ hQ) hf (fun x5 st6 H locs hw hf => ?_)
  refine fb_zeq (tgt := 23) hx hb dX5_lostRooms_16 (by decide) hf (fun hf => ?_) (fun hf => ?_)
  · refine lv_iconst (v := (0 : Int32)) hx hb dX5_lostRooms_23 (by decide) ?_
    refine lv_iadd hx hb dX5_lostRooms_24 ?_
    refine fo_tI hf (fun x7 hf => ?_)
    refine lv_istore_n (lv' := [(1, .int x7), (2, .int x1), (0, .ref (eb E + 0))]) hx hb dX5_lostRooms_25 rfl hl (by decide) rfl (fun ls hl => ?_)
    refine fb_iinc (v := (1 : Int32)) (lv' := [(2, .int (x1 + (1 : Int32))), (1, .int x7), (0, .ref (eb E + 0))]) hx hb dX5_lostRooms_26 hl (k := 1) rfl (by decide) (by decide) rfl (fun ls hl => ?_)
    refine lv_goto (tgt := 4) hx hb dX5_lostRooms_29 (by decide) ?_
    exact hrec4 _ _ _ hf _ _ _ (lv_sub hl [0, 1, 2] rfl) hw
  refine lv_iconst (v := (1 : Int32)) hx hb dX5_lostRooms_19 (by decide) ?_
  refine lv_goto (tgt := 24) hx hb dX5_lostRooms_20 (by decide) ?_
  refine lv_iadd hx hb dX5_lostRooms_24 ?_
  refine fo_tI hf (fun x8 hf => ?_)
  refine lv_istore_n (lv' := [(1, .int x8), (2, .int x1), (0, .ref (eb E + 0))]) hx hb dX5_lostRooms_25 rfl hl (by decide) rfl (fun ls hl => ?_)
  refine fb_iinc (v := (1 : Int32)) (lv' := [(2, .int (x1 + (1 : Int32))), (1, .int x8), (0, .ref (eb E + 0))]) hx hb dX5_lostRooms_26 hl (k := 1) rfl (by decide) (by decide) rfl (fun ls hl => ?_)
  refine lv_goto (tgt := 4) hx hb dX5_lostRooms_29 (by decide) ?_
  exact hrec4 _ _ _ hf _ _ _ (lv_sub hl [0, 1, 2] rfl) hw

/-- ForestRoomsModel.wood -/
def fX5_wood (G : Nat) (st0 : fo_St) : Option (Int32 × fo_St) := lt_ (si_ st0 0 0 (0 : Int32)) (fun st1 => bv_ (fX5_keepAll G (16 : Int32) st1) (fun st3 => jn_ (fun (x4 : Int32) (st5 : fo_St) => bv_ (fX5_putBack G (16 : Int32) st5) (fun st8 => if x4 ≤ (200 : Int32) then some (x4, st8) else some ((-1 : Int32), st8))) (fun k6 => lp2_ (fun rec11 (x9 : Int32) (st10 : fo_St) => bd_ (fX5_lostRooms G st10) (fun x12 st13 => if (16 : Int32) ≤ x12 then k6 x9 st13 else if (200 : Int32) < x9 then k6 x9 st13 else bd_ (fX5_passIt G st13) (fun x14 st15 => rec11 (x9 + (1 : Int32)) st15))) G (0 : Int32) st3)))
theorem hm_X5_wood : fo_M yX5_wood 0 := ⟨by decide +kernel, by decide +kernel, by decide +kernel, by decide +kernel⟩
set_option maxHeartbeats 4000000 in
theorem wX5_wood (l : Launch) (E : fo_E) (hE : ∀ n, et E n = tM_ n) (G : Nat) (st0 : fo_St) (rZ : Int32) (stZ : fo_St) (hf : fX5_wood G st0 = some (rZ, stZ)) : CTi l E yX5_wood (ws_ yX5_wood cX5_wood 2 (some .int)) ({ frames := 7, cells := 0, slots := 0, locals := 171 }) [.ref (eb E + 0)] st0 rZ stZ := by
  refine fe_i hm_X5_wood (Nat.le_of_ble_eq_true rfl) (fun p e R s m args below meth c Q hRf hRl X hend ls hl hw => ?_)
  have hx := X.1.1
  have hb := X.1.2.1
  have hl : lv_has ls 2 [(0, .ref (eb E + 0))] := hl
  unfold fX5_wood at hf
  generalize s.heap = H at hw ⊢
  generalize ([] : List Loc) = locs at hw ⊢
  refine lv_aload_n hx hb dX5_wood_0 rfl (lv_at hl 0 rfl) ?_
  refine lv_iconst (v := (0 : Int32)) hx hb dX5_wood_1 (by decide) ?_
  refine fo_puti X hw fc_X5 (hm0 hE) (k := 0) (by decide) rfl rfl q1518 ⟨rfl, rfl⟩ dX5_wood_2 hf (fun st1 H locs hw hf => ?_)
  refine lv_aload_n hx hb dX5_wood_5 rfl (lv_at hl 0 rfl) ?_
  refine lv_bipush (v := (16 : Int32)) hx hb dX5_wood_6 (by decide) ?_
  refine fc_Vv (rest := []) (As := [.int (16 : Int32)]) X hw hm_X5_keepAll (lw_V q1999 q2001 qs83 q121 q2002) ⟨rfl, rfl⟩ ⟨by rw [hRf]; exact Nat.le_of_ble_eq_true rfl, by rw [hRl]; exact Nat.le_of_ble_eq_true rfl⟩ fc_X5 rfl (hm0 hE) rfl rfl hl.1 (Nat.le_of_ble_eq_true rfl) dX5_wood_8 (fun stQ hQ => wX5_keepAll l E hE G (16 : Int32) st1 stQ hQ) hf (fun st3 H locs hw hf => ?_)
  refine lv_iconst (v := (0 : Int32)) hx hb dX5_wood_11 (by decide) ?_
  refine lv_istore_n (lv' := [(1, .int (0 : Int32)), (0, .ref (eb E + 0))]) hx hb dX5_wood_12 rfl hl (by decide) rfl (fun ls hl => ?_)
  refine jn_e hf (fun k6 ek hf => ?_)
  have hk6 : ∀ (x4 : Int32) (st5 : fo_St) (H : Heap) (locs : List Loc) (ls : Array Slot), lv_has ls 2 [(1, .int x4), (0, .ref (eb E + 0))] → fo_S E s st5 H locs → k6 x4 st5 = some (rZ, stZ) → W p l e R s m args below meth c H locs 0 0 Q (F0 m 40 ls []) := by
    intro x4 st5 H locs ls hl hw hf
    rw [ek] at hf
    refine lv_aload_n hx hb dX5_wood_40 rfl (lv_at hl 1 rfl) ?_
    refine lv_bipush (v := (16 : Int32)) hx hb dX5_wood_41 (by decide) ?_
    refine fc_Vv (rest := []) (As := [.int (16 : Int32)]) X hw hm_X5_putBack (lw_V q1714 q1716 qs39 q121 q1717) ⟨rfl, rfl⟩ ⟨by rw [hRf]; exact Nat.le_of_ble_eq_true rfl, by rw [hRl]; exact Nat.le_of_ble_eq_true rfl⟩ fc_X5 rfl (hm0 hE) rfl rfl hl.1 (Nat.le_of_ble_eq_true rfl) dX5_wood_43 (fun stQ hQ => wX5_putBack l E hE G (16 : Int32) st5 stQ hQ) hf (fun st8 H locs hw hf => ?_)
    refine lv_iload_n hx hb dX5_wood_46 rfl (lv_at hl 0 rfl) ?_
    refine lv_sipush (v := (200 : Int32)) hx hb dX5_wood_47 (by decide) ?_
    refine fb_ile (tgt := 57) hx hb dX5_wood_50 (by decide) hf (fun hf => ?_) (fun hf => ?_)
    · refine lv_iload_n hx hb dX5_wood_57 rfl (lv_at hl 0 rfl) ?_
      exact fd_i hend hw hf dX5_wood_58
    refine lv_iconst (v := (-1 : Int32)) hx hb dX5_wood_53 (by decide) ?_
    refine lv_goto (tgt := 58) hx hb dX5_wood_54 (by decide) ?_
    exact fd_i hend hw hf dX5_wood_58
  clear ek
  refine lp2_e (P := fun x9 st10 => ∀ (H : Heap) (locs : List Loc) (ls : Array Slot), lv_has ls 2 [(1, .int x9), (0, .ref (eb E + 0))] → fo_S E s st10 H locs → W p l e R s m args below meth c H locs 0 0 Q (F0 m 13 ls [])) (fun rec11 hrec11 x9 st10 hf => ?_) G _ _ hf H locs ls (lv_sub hl [0, 1] rfl) hw
  intro H locs ls hl hw
  refine lv_aload_n hx hb dX5_wood_13 rfl (lv_at hl 1 rfl) ?_
  refine fc_Vi (rest := []) (As := []) X hw hm_X5_lostRooms (lw_V q2063 q2065 qs92 q121 q2066) ⟨rfl, rfl⟩ ⟨by rw [hRf]; exact Nat.le_of_ble_eq_true rfl, by rw [hRl]; exact Nat.le_of_ble_eq_true rfl⟩ fc_X5 rfl (hm0 hE) rfl rfl hl.1 (Nat.le_of_ble_eq_true rfl) dX5_wood_14 (fun rQ stQ hQ => wX5_lostRooms l E hE G st10 rQ stQ hQ) hf (fun x12 st13 H locs hw hf => ?_)
  refine lv_bipush (v := (16 : Int32)) hx hb dX5_wood_17 (by decide) ?_
  refine fb_ige (tgt := 40) hx hb dX5_wood_19 (by decide) hf (fun hf => ?_) (fun hf => ?_)
  · exact hk6 _ _ _ _ _ (lv_sub hl [0, 1] rfl) hw hf
  refine lv_iload_n hx hb dX5_wood_22 rfl (lv_at hl 0 rfl) ?_
  refine lv_sipush (v := (200 : Int32)) hx hb dX5_wood_23 (by decide) ?_
  refine fb_igt (tgt := 40) hx hb dX5_wood_26 (by decide) hf (fun hf => ?_) (fun hf => ?_)
  · exact hk6 _ _ _ _ _ (lv_sub hl [0, 1] rfl) hw hf
  refine lv_aload_n hx hb dX5_wood_29 rfl (lv_at hl 1 rfl) ?_
  refine fc_Vi (rest := []) (As := []) X hw hm_X5_passIt (lw_V q2039 q2041 qs89 q121 q2042) ⟨rfl, rfl⟩ ⟨by rw [hRf]; exact Nat.le_of_ble_eq_true rfl, by rw [hRl]; exact Nat.le_of_ble_eq_true rfl⟩ fc_X5 rfl (hm0 hE) rfl rfl hl.1 (Nat.le_of_ble_eq_true rfl) dX5_wood_30 (fun rQ stQ hQ => wX5_passIt l E hE G st13 rQ stQ hQ) hf (fun x14 st15 H locs hw hf => ?_)
  refine lv_pop hx hb dX5_wood_33 rfl ?_
  refine fb_iinc (v := (1 : Int32)) (lv' := [(1, .int (x9 + (1 : Int32))), (0, .ref (eb E + 0))]) hx hb dX5_wood_34 hl (k := 0) rfl (by decide) (by decide) rfl (fun ls hl => ?_)
  refine lv_goto (tgt := 13) hx hb dX5_wood_37 (by decide) ?_
  exact hrec11 _ _ hf _ _ _ (lv_sub hl [0, 1] rfl) hw

/-- ForestRoomsModel.ones -/
def fX5_ones (G : Nat) (p1 : Int32) (st0 : fo_St) : Option (Int32 × fo_St) := lp3_ (fun rec4 (x1 : Int32) (x2 : Int32) (st3 : fo_St) => if (16 : Int32) ≤ x1 then some (x2, st3) else lI_ (x2 + ((p1 >>> (x1 &&& 31)) &&& (1 : Int32))) (fun x5 => rec4 (x1 + (1 : Int32)) x5 st3)) G (0 : Int32) (0 : Int32) st0
theorem hm_X5_ones : fo_M yX5_ones 1 := ⟨by decide +kernel, by decide +kernel, by decide +kernel, by decide +kernel⟩
set_option maxHeartbeats 4000000 in
theorem wX5_ones (l : Launch) (E : fo_E) (hE : ∀ n, et E n = tM_ n) (G : Nat) (p1 : Int32) (st0 : fo_St) (rZ : Int32) (stZ : fo_St) (hf : fX5_ones G p1 st0 = some (rZ, stZ)) : CTi l E yX5_ones (ws_ yX5_ones cX5_ones 3 (some .int)) ({ frames := 0, cells := 0, slots := 0, locals := 0 }) [.int p1] st0 rZ stZ := by
  refine fe_i hm_X5_ones (Nat.le_of_ble_eq_true rfl) (fun p e R s m args below meth c Q hRf hRl X hend ls hl hw => ?_)
  have hx := X.1.1
  have hb := X.1.2.1
  have hl : lv_has ls 3 [(0, .int p1)] := hl
  unfold fX5_ones at hf
  generalize s.heap = H at hw ⊢
  generalize ([] : List Loc) = locs at hw ⊢
  refine lv_iconst (v := (0 : Int32)) hx hb dX5_ones_0 (by decide) ?_
  refine lv_istore_n (lv' := [(1, .int (0 : Int32)), (0, .int p1)]) hx hb dX5_ones_1 rfl hl (by decide) rfl (fun ls hl => ?_)
  refine lv_iconst (v := (0 : Int32)) hx hb dX5_ones_2 (by decide) ?_
  refine lv_istore_n (lv' := [(2, .int (0 : Int32)), (1, .int (0 : Int32)), (0, .int p1)]) hx hb dX5_ones_3 rfl hl (by decide) rfl (fun ls hl => ?_)
  refine lp3_e (P := fun x1 x2 st3 => ∀ (H : Heap) (locs : List Loc) (ls : Array Slot), lv_has ls 3 [(2, .int x1), (1, .int x2), (0, .int p1)] → fo_S E s st3 H locs → W p l e R s m args below meth c H locs 0 0 Q (F0 m 4 ls [])) (fun rec4 hrec4 x1 x2 st3 hf => ?_) G _ _ _ hf H locs ls (lv_sub hl [0, 1, 2] rfl) hw
  intro H locs ls hl hw
  refine lv_iload_n hx hb dX5_ones_4 rfl (lv_at hl 0 rfl) ?_
  refine lv_bipush (v := (16 : Int32)) hx hb dX5_ones_5 (by decide) ?_
  refine fb_ige (tgt := 24) hx hb dX5_ones_7 (by decide) hf (fun hf => ?_) (fun hf => ?_)
  · refine lv_iload_n hx hb dX5_ones_24 rfl (lv_at hl 1 rfl) ?_
    exact fd_i hend hw hf dX5_ones_25
  refine lv_iload_n hx hb dX5_ones_10 rfl (lv_at hl 1 rfl) ?_
  refine lv_iload_n hx hb dX5_ones_11 rfl (lv_at hl 2 rfl) ?_
  refine lv_iload_n hx hb dX5_ones_12 rfl (lv_at hl 0 rfl) ?_
  refine lv_ishr hx hb dX5_ones_13 ?_
  refine lv_iconst (v := (1 : Int32)) hx hb dX5_ones_14 (by decide) ?_
  refine lv_iand hx hb dX5_ones_15 ?_
  refine lv_iadd hx hb dX5_ones_16 ?_
  refine fo_tI hf (fun x5 hf => ?_)
  refine lv_istore_n (lv' := [(1, .int x5), (2, .int x1), (0, .int p1)]) hx hb dX5_ones_17 rfl hl (by decide) rfl (fun ls hl => ?_)
  refine fb_iinc (v := (1 : Int32)) (lv' := [(2, .int (x1 + (1 : Int32))), (1, .int x5), (0, .int p1)]) hx hb dX5_ones_18 hl (k := 1) rfl (by decide) (by decide) rfl (fun ls hl => ?_)
  refine lv_goto (tgt := 4) hx hb dX5_ones_21 (by decide) ?_
  exact hrec4 _ _ _ hf _ _ _ (lv_sub hl [0, 1, 2] rfl) hw

/-- ForestRoomsModel.is -/
def fX5_is (p1 : Int32) (p2 : Int32) (st0 : fo_St) : Option (Int32 × fo_St) := if ¬ ((p1 >>> (p2 &&& 31)) &&& (1 : Int32)) = (1 : Int32) then some ((0 : Int32), st0) else some ((1 : Int32), st0)
theorem hm_X5_is : fo_M yX5_is 2 := ⟨by decide +kernel, by decide +kernel, by decide +kernel, by decide +kernel⟩
set_option maxHeartbeats 4000000 in
theorem wX5_is (l : Launch) (E : fo_E) (hE : ∀ n, et E n = tM_ n) (p1 : Int32) (p2 : Int32) (st0 : fo_St) (rZ : Int32) (stZ : fo_St) (hf : fX5_is p1 p2 st0 = some (rZ, stZ)) : CTi l E yX5_is (ws_ yX5_is cX5_is 2 (some .boolean)) ({ frames := 0, cells := 0, slots := 0, locals := 0 }) [.int p1, .int p2] st0 rZ stZ := by
  refine fe_z hm_X5_is (Nat.le_of_ble_eq_true rfl) (fun p e R s m args below meth c Q hRf hRl X hend ls hl hw => ?_)
  have hx := X.1.1
  have hb := X.1.2.1
  have hl : lv_has ls 2 [(0, .int p1), (1, .int p2)] := hl
  unfold fX5_is at hf
  generalize s.heap = H at hw ⊢
  generalize ([] : List Loc) = locs at hw ⊢
  refine lv_iload_n hx hb dX5_is_0 rfl (lv_at hl 0 rfl) ?_
  refine lv_iload_n hx hb dX5_is_1 rfl (lv_at hl 1 rfl) ?_
  refine lv_ishr hx hb dX5_is_2 ?_
  refine lv_iconst (v := (1 : Int32)) hx hb dX5_is_3 (by decide) ?_
  refine lv_iand hx hb dX5_is_4 ?_
  refine lv_iconst (v := (1 : Int32)) hx hb dX5_is_5 (by decide) ?_
  refine fb_ine (tgt := 13) hx hb dX5_is_6 (by decide) hf (fun hf => ?_) (fun hf => ?_)
  · refine lv_iconst (v := (0 : Int32)) hx hb dX5_is_13 (by decide) ?_
    exact fd_z hend hw rfl hf dX5_is_14
  refine lv_iconst (v := (1 : Int32)) hx hb dX5_is_9 (by decide) ?_
  refine lv_goto (tgt := 14) hx hb dX5_is_10 (by decide) ?_
  exact fd_z hend hw rfl hf dX5_is_14

/-- ForestRoomsModel.isKeptBy -/
def fX5_isKeptBy (G : Nat) (p1 : Int32) (p2 : Int32) (p3 : Int32) (st0 : fo_St) : Option (Int32 × fo_St) := bv_ (fX5_keepAll G (16 : Int32) st0) (fun st2 => lp2_ (fun rec5 (x3 : Int32) (st4 : fo_St) => if (16 : Int32) ≤ x3 then bd_ (fX5_isLost p1 st4) (fun x6 st7 => jn_ (fun (x8 : Int32) => jn_ (fun (x10 : Int32) (st11 : fo_St) => bv_ (fX5_putBack G (16 : Int32) st11) (fun st14 => ck_ (decide (x10 = 0 ∨ x10 = 1)) (some (x10, st14)))) (fun k12 => lp3_ (fun rec18 (x15 : Int32) (x16 : Int32) (st17 : fo_St) => if p2 ≤ x15 then k12 x16 st17 else if x16 = 0 then k12 x16 st17 else bd_ (fX5_passIt G st17) (fun x19 st20 => bd_ (fX5_isLost p1 st20) (fun x21 st22 => if ¬ x21 = 0 then rec18 (x15 + (1 : Int32)) (0 : Int32) st22 else rec18 (x15 + (1 : Int32)) (1 : Int32) st22))) G (0 : Int32) x8 st7)) (fun k9 => if ¬ x6 = 0 then k9 (0 : Int32) else k9 (1 : Int32))) else bd_ (fX5_is p3 x3 st4) (fun x23 st24 => if x23 = 0 then rec5 (x3 + (1 : Int32)) st24 else bv_ (fX5_fell x3 st24) (fun st26 => rec5 (x3 + (1 : Int32)) st26))) G (0 : Int32) st2)
theorem hm_X5_isKeptBy : fo_M yX5_isKeptBy 3 := ⟨by decide +kernel, by decide +kernel, by decide +kernel, by decide +kernel⟩
set_option maxHeartbeats 4000000 in
theorem wX5_isKeptBy (l : Launch) (E : fo_E) (hE : ∀ n, et E n = tM_ n) (G : Nat) (p1 : Int32) (p2 : Int32) (p3 : Int32) (st0 : fo_St) (rZ : Int32) (stZ : fo_St) (hf : fX5_isKeptBy G p1 p2 p3 st0 = some (rZ, stZ)) : CTi l E yX5_isKeptBy (ws_ yX5_isKeptBy cX5_isKeptBy 6 (some .boolean)) ({ frames := 7, cells := 0, slots := 0, locals := 171 }) [.ref (eb E + 0), .int p1, .int p2, .int p3] st0 rZ stZ := by
  refine fe_z hm_X5_isKeptBy (Nat.le_of_ble_eq_true rfl) (fun p e R s m args below meth c Q hRf hRl X hend ls hl hw => ?_)
  have hx := X.1.1
  have hb := X.1.2.1
  have hl : lv_has ls 6 [(0, .ref (eb E + 0)), (1, .int p1), (2, .int p2), (3, .int p3)] := hl
  unfold fX5_isKeptBy at hf
  generalize s.heap = H at hw ⊢
  generalize ([] : List Loc) = locs at hw ⊢
  refine lv_aload_n hx hb dX5_isKeptBy_0 rfl (lv_at hl 0 rfl) ?_
  refine lv_bipush (v := (16 : Int32)) hx hb dX5_isKeptBy_1 (by decide) ?_
  refine fc_Vv (rest := []) (As := [.int (16 : Int32)]) X hw hm_X5_keepAll (lw_V q1999 q2001 qs83 q121 q2002) ⟨rfl, rfl⟩ ⟨by rw [hRf]; exact Nat.le_of_ble_eq_true rfl, by rw [hRl]; exact Nat.le_of_ble_eq_true rfl⟩ fc_X5 rfl (hm0 hE) rfl rfl hl.1 (Nat.le_of_ble_eq_true rfl) dX5_isKeptBy_3 (fun stQ hQ => wX5_keepAll l E hE G (16 : Int32) st0 stQ hQ) hf (fun st2 H locs hw hf => ?_)
  refine lv_iconst (v := (0 : Int32)) hx hb dX5_isKeptBy_6 (by decide) ?_
  refine lv_istore (lv' := [(4, .int (0 : Int32)), (0, .ref (eb E + 0)), (1, .int p1), (2, .int p2), (3, .int p3)]) hx hb dX5_isKeptBy_7 hl (by decide) rfl (fun ls hl => ?_)
  refine lp2_e (P := fun x3 st4 => ∀ (H : Heap) (locs : List Loc) (ls : Array Slot), lv_has ls 6 [(4, .int x3), (0, .ref (eb E + 0)), (1, .int p1), (2, .int p2), (3, .int p3)] → fo_S E s st4 H locs → W p l e R s m args below meth c H locs 0 0 Q (F0 m 9 ls [])) (fun rec5 hrec5 x3 st4 hf => ?_) G _ _ hf H locs ls (lv_sub hl [0, 1, 2, 3, 4] rfl) hw
  intro H locs ls hl hw
  refine lv_iload hx hb dX5_isKeptBy_9 (lv_at hl 0 rfl) ?_
  refine lv_bipush (v := (16 : Int32)) hx hb dX5_isKeptBy_11 (by decide) ?_
  refine fb_ige (tgt := 37) hx hb dX5_isKeptBy_13 (by decide) hf (fun hf => ?_) (fun hf => ?_)
  · refine lv_aload_n hx hb dX5_isKeptBy_37 rfl (lv_at hl 1 rfl) ?_
    refine lv_iload_n hx hb dX5_isKeptBy_38 rfl (lv_at hl 2 rfl) ?_
    refine fc_Vi (rest := []) (As := [.int p1]) X hw hm_X5_isLost (lw_V q1753 q1755 qs42 q121 q1756) ⟨rfl, rfl⟩ ⟨by rw [hRf]; exact Nat.le_of_ble_eq_true rfl, by rw [hRl]; exact Nat.le_of_ble_eq_true rfl⟩ fc_X5 rfl (hm0 hE) rfl rfl hl.1 (Nat.le_of_ble_eq_true rfl) dX5_isKeptBy_39 (fun rQ stQ hQ => wX5_isLost l E hE p1 st4 rQ stQ hQ) hf (fun x6 st7 H locs hw hf => ?_)
    refine jn_e hf (fun k9 ek hf => ?_)
    have hk9 : ∀ (x8 : Int32) (H : Heap) (locs : List Loc) (ls : Array Slot), lv_has ls 6 [(0, .ref (eb E + 0)), (1, .int p1), (2, .int p2)] → fo_S E s st7 H locs → k9 x8 = some (rZ, stZ) → W p l e R s m args below meth c H locs 0 0 Q (F0 m 50 ls [.int x8]) := by
      intro x8 H locs ls hl hw hf
      rw [ek] at hf
      refine lv_istore (lv' := [(4, .int x8), (0, .ref (eb E + 0)), (1, .int p1), (2, .int p2)]) hx hb dX5_isKeptBy_50 hl (by decide) rfl (fun ls hl => ?_)
      refine lv_iconst (v := (0 : Int32)) hx hb dX5_isKeptBy_52 (by decide) ?_
      refine lv_istore (lv' := [(5, .int (0 : Int32)), (4, .int x8), (0, .ref (eb E + 0)), (1, .int p1), (2, .int p2)]) hx hb dX5_isKeptBy_53 hl (by decide) rfl (fun ls hl => ?_)
      refine jn_e hf (fun k12 ek hf => ?_)
      have hk12 : ∀ (x10 : Int32) (st11 : fo_St) (H : Heap) (locs : List Loc) (ls : Array Slot), lv_has ls 6 [(4, .int x10), (0, .ref (eb E + 0))] → fo_S E s st11 H locs → k12 x10 st11 = some (rZ, stZ) → W p l e R s m args below meth c H locs 0 0 Q (F0 m 92 ls []) := by
        intro x10 st11 H locs ls hl hw hf
        rw [ek] at hf
        refine lv_aload_n hx hb dX5_isKeptBy_92 rfl (lv_at hl 1 rfl) ?_
        refine lv_bipush (v := (16 : Int32)) hx hb dX5_isKeptBy_93 (by decide) ?_
        refine fc_Vv (rest := []) (As := [.int (16 : Int32)]) X hw hm_X5_putBack (lw_V q1714 q1716 qs39 q121 q1717) ⟨rfl, rfl⟩ ⟨by rw [hRf]; exact Nat.le_of_ble_eq_true rfl, by rw [hRl]; exact Nat.le_of_ble_eq_true rfl⟩ fc_X5 rfl (hm0 hE) rfl rfl hl.1 (Nat.le_of_ble_eq_true rfl) dX5_isKeptBy_95 (fun stQ hQ => wX5_putBack l E hE G (16 : Int32) st11 stQ hQ) hf (fun st14 H locs hw hf => ?_)
        refine lv_iload hx hb dX5_isKeptBy_98 (lv_at hl 0 rfl) ?_
        obtain ⟨hz, hf⟩ := ck_e hf
        exact fd_z hend hw (fo_z hz).1 hf dX5_isKeptBy_100
      clear ek
      refine lp3_e (P := fun x15 x16 st17 => ∀ (H : Heap) (locs : List Loc) (ls : Array Slot), lv_has ls 6 [(5, .int x15), (4, .int x16), (0, .ref (eb E + 0)), (1, .int p1), (2, .int p2)] → fo_S E s st17 H locs → W p l e R s m args below meth c H locs 0 0 Q (F0 m 55 ls [])) (fun rec18 hrec18 x15 x16 st17 hf => ?_) G _ _ _ hf H locs ls (lv_sub hl [0, 1, 2, 3, 4] rfl) hw
      intro H locs ls hl hw
      refine lv_iload hx hb dX5_isKeptBy_55 (lv_at hl 0 rfl) ?_
      refine lv_iload_n hx hb dX5_isKeptBy_57 rfl (lv_at hl 4 rfl) ?_
      refine fb_ige (tgt := 92) hx hb dX5_isKeptBy_58 (by decide) hf (fun hf => ?_) (fun hf => ?_)
      · exact hk12 _ _ _ _ _ (lv_sub hl [1, 2] rfl) hw hf
      refine lv_iload hx hb dX5_isKeptBy_61 (lv_at hl 1 rfl) ?_
      refine fb_zeq (tgt := 92) hx hb dX5_isKeptBy_63 (by decide) hf (fun hf => ?_) (fun hf => ?_)
      · exact hk12 _ _ _ _ _ (lv_sub hl [1, 2] rfl) hw hf
      refine lv_aload_n hx hb dX5_isKeptBy_66 rfl (lv_at hl 2 rfl) ?_
      refine fc_Vi (rest := []) (As := []) X hw hm_X5_passIt (lw_V q2039 q2041 qs89 q121 q2042) ⟨rfl, rfl⟩ ⟨by rw [hRf]; exact Nat.le_of_ble_eq_true rfl, by rw [hRl]; exact Nat.le_of_ble_eq_true rfl⟩ fc_X5 rfl (hm0 hE) rfl rfl hl.1 (Nat.le_of_ble_eq_true rfl) dX5_isKeptBy_67 (fun rQ stQ hQ => wX5_passIt l E hE G st17 rQ stQ hQ) hf (fun x19 st20 H locs hw hf => ?_)
      refine lv_pop hx hb dX5_isKeptBy_70 rfl ?_
      refine lv_aload_n hx hb dX5_isKeptBy_71 rfl (lv_at hl 2 rfl) ?_
      refine lv_iload_n hx hb dX5_isKeptBy_72 rfl (lv_at hl 3 rfl) ?_
      refine fc_Vi (rest := []) (As := [.int p1]) X hw hm_X5_isLost (lw_V q1753 q1755 qs42 q121 q1756) ⟨rfl, rfl⟩ ⟨by rw [hRf]; exact Nat.le_of_ble_eq_true rfl, by rw [hRl]; exact Nat.le_of_ble_eq_true rfl⟩ fc_X5 rfl (hm0 hE) rfl rfl hl.1 (Nat.le_of_ble_eq_true rfl) dX5_isKeptBy_73 (fun rQ stQ hQ => wX5_isLost l E hE p1 st20 rQ stQ hQ) hf (fun x21 st22 H locs hw hf => ?_)
      refine fb_zne (tgt := 83) hx hb dX5_isKeptBy_76 (by decide) hf (fun hf => ?_) (fun hf => ?_)
      · refine lv_iconst (v := (0 : Int32)) hx hb dX5_isKeptBy_83 (by decide) ?_
        refine lv_istore (lv' := [(4, .int (0 : Int32)), (5, .int x15), (0, .ref (eb E + 0)), (1, .int p1), (2, .int p2)]) hx hb dX5_isKeptBy_84 hl (by decide) rfl (fun ls hl => ?_)
        refine fb_iinc (v := (1 : Int32)) (lv' := [(5, .int (x15 + (1 : Int32))), (4, .int (0 : Int32)), (0, .ref (eb E + 0)), (1, .int p1), (2, .int p2)]) hx hb dX5_isKeptBy_86 hl (k := 1) rfl (by decide) (by decide) rfl (fun ls hl => ?_)
        refine lv_goto (tgt := 55) hx hb dX5_isKeptBy_89 (by decide) ?_
        exact hrec18 _ _ _ hf _ _ _ (lv_sub hl [0, 1, 2, 3, 4] rfl) hw
      refine lv_iconst (v := (1 : Int32)) hx hb dX5_isKeptBy_79 (by decide) ?_
      refine lv_goto (tgt := 84) hx hb dX5_isKeptBy_80 (by decide) ?_
      refine lv_istore (lv' := [(4, .int (1 : Int32)), (5, .int x15), (0, .ref (eb E + 0)), (1, .int p1), (2, .int p2)]) hx hb dX5_isKeptBy_84 hl (by decide) rfl (fun ls hl => ?_)
      refine fb_iinc (v := (1 : Int32)) (lv' := [(5, .int (x15 + (1 : Int32))), (4, .int (1 : Int32)), (0, .ref (eb E + 0)), (1, .int p1), (2, .int p2)]) hx hb dX5_isKeptBy_86 hl (k := 1) rfl (by decide) (by decide) rfl (fun ls hl => ?_)
      refine lv_goto (tgt := 55) hx hb dX5_isKeptBy_89 (by decide) ?_
      exact hrec18 _ _ _ hf _ _ _ (lv_sub hl [0, 1, 2, 3, 4] rfl) hw
    clear ek
    refine fb_zne (tgt := 49) hx hb dX5_isKeptBy_42 (by decide) hf (fun hf => ?_) (fun hf => ?_)
    · refine lv_iconst (v := (0 : Int32)) hx hb dX5_isKeptBy_49 (by decide) ?_
      exact hk9 _ _ _ _ (lv_sub hl [1, 2, 3] rfl) hw hf
    refine lv_iconst (v := (1 : Int32)) hx hb dX5_isKeptBy_45 (by decide) ?_
    refine lv_goto (tgt := 50) hx hb dX5_isKeptBy_46 (by decide) ?_
    exact hk9 _ _ _ _ (lv_sub hl [1, 2, 3] rfl) hw hf
  refine lv_iload_n hx hb dX5_isKeptBy_16 rfl (lv_at hl 4 rfl) ?_
  refine lv_iload hx hb dX5_isKeptBy_17 (lv_at hl 0 rfl) ?_
  refine fc_Si (rest := []) (As := [.int p3, .int x3]) X hw hm_X5_is (lw_S q2079 q2080 q121 q2081) ⟨rfl, rfl⟩ ⟨by rw [hRf]; exact Nat.le_of_ble_eq_true rfl, by rw [hRl]; exact Nat.le_of_ble_eq_true rfl⟩ rfl rfl hl.1 (Nat.le_of_ble_eq_true rfl) dX5_isKeptBy_19 (fun rQ stQ hQ => wX5_is l E hE p3 x3 st4 rQ stQ hQ) hf (fun x23 st24 H locs hw hf => ?_)
  refine fb_zeq (tgt := 31) hx hb dX5_isKeptBy_22 (by decide) hf (fun hf => ?_) (fun hf => ?_)
  · refine fb_iinc (v := (1 : Int32)) (lv' := [(4, .int (x3 + (1 : Int32))), (0, .ref (eb E + 0)), (1, .int p1), (2, .int p2), (3, .int p3)]) hx hb dX5_isKeptBy_31 hl (k := 0) rfl (by decide) (by decide) rfl (fun ls hl => ?_)
    refine lv_goto (tgt := 9) hx hb dX5_isKeptBy_34 (by decide) ?_
    exact hrec5 _ _ hf _ _ _ (lv_sub hl [0, 1, 2, 3, 4] rfl) hw
  refine lv_aload_n hx hb dX5_isKeptBy_25 rfl (lv_at hl 1 rfl) ?_
  refine lv_iload hx hb dX5_isKeptBy_26 (lv_at hl 0 rfl) ?_
  refine fc_Vv (rest := []) (As := [.int x3]) X hw hm_X5_fell (lw_V q2011 q2013 qs85 q121 q2014) ⟨rfl, rfl⟩ ⟨by rw [hRf]; exact Nat.le_of_ble_eq_true rfl, by rw [hRl]; exact Nat.le_of_ble_eq_true rfl⟩ fc_X5 rfl (hm0 hE) rfl rfl hl.1 (Nat.le_of_ble_eq_true rfl) dX5_isKeptBy_28 (fun stQ hQ => wX5_fell l E hE x3 st24 stQ hQ) hf (fun st26 H locs hw hf => ?_)
  refine fb_iinc (v := (1 : Int32)) (lv' := [(4, .int (x3 + (1 : Int32))), (0, .ref (eb E + 0)), (1, .int p1), (2, .int p2), (3, .int p3)]) hx hb dX5_isKeptBy_31 hl (k := 0) rfl (by decide) (by decide) rfl (fun ls hl => ?_)
  refine lv_goto (tgt := 9) hx hb dX5_isKeptBy_34 (by decide) ?_
  exact hrec5 _ _ hf _ _ _ (lv_sub hl [0, 1, 2, 3, 4] rfl) hw

/-- ForestRoomsModel.keep -/
def fX5_keep (G : Nat) (p1 : Int32) (p2 : Int32) (p3 : Int32) (st0 : fo_St) : Option (Int32 × fo_St) := lt_ (si_ st0 0 0 (0 : Int32)) (fun st1 => bd_ (fX5_isRoom p1 st1) (fun x2 st3 => if x2 = 0 then some ((-1 : Int32), st3) else bd_ (fX5_in (p2.toInt64) (0 : Int64) (20 : Int64) st3) (fun x4 st5 => if x4 = 0 then some ((-1 : Int32), st5) else bd_ (fX5_in (p3.toInt64) (0 : Int64) (1 : Int64) st5) (fun x6 st7 => if ¬ x6 = 0 then lp3_ (fun rec11 (x8 : Int32) (x9 : Int32) (st10 : fo_St) => if (16 : Int32) ≤ x8 then lp2_ (fun rec14 (x12 : Int32) (st13 : fo_St) => if (4 : Int32) ≤ x12 then some ((-1 : Int32), st13) else lp2_ (fun rec17 (x15 : Int32) (st16 : fo_St) => if (65536 : Int32) ≤ x15 then rec14 (x12 + (1 : Int32)) st16 else if ¬ (x15 &&& (x9 ^^^ (-1 : Int32))) = 0 then rec17 (x15 + (1 : Int32)) st16 else bd_ (fX5_ones G x15 st16) (fun x18 st19 => if ¬ x18 = x12 then rec17 (x15 + (1 : Int32)) st19 else bd_ (fX5_isKeptBy G p1 p2 x15 st19) (fun x20 st21 => if x20 = 0 then rec17 (x15 + (1 : Int32)) st21 else if ¬ p3 = 0 then some (x15, st21) else some (x12, st21)))) G (0 : Int32) st13) G (0 : Int32) st10 else bd_ (fX5_isTree x8 st10) (fun x22 st23 => if x22 = 0 then lI_ (x9 ||| (0 : Int32)) (fun x24 => rec11 (x8 + (1 : Int32)) x24 st23) else lI_ (x9 ||| ((1 : Int32) <<< (x8 &&& 31))) (fun x25 => rec11 (x8 + (1 : Int32)) x25 st23))) G (0 : Int32) (0 : Int32) st7 else some ((-1 : Int32), st7)))))
theorem hm_X5_keep : fo_M yX5_keep 3 := ⟨by decide +kernel, by decide +kernel, by decide +kernel, by decide +kernel⟩
set_option maxHeartbeats 4000000 in
theorem wX5_keep (l : Launch) (E : fo_E) (hE : ∀ n, et E n = tM_ n) (G : Nat) (p1 : Int32) (p2 : Int32) (p3 : Int32) (st0 : fo_St) (rZ : Int32) (stZ : fo_St) (hf : fX5_keep G p1 p2 p3 st0 = some (rZ, stZ)) : CTi l E yX5_keep (ws_ yX5_keep cX5_keep 7 (some .int)) ({ frames := 8, cells := 0, slots := 0, locals := 196 }) [.ref (eb E + 0), .int p1, .int p2, .int p3] st0 rZ stZ := by
  refine fe_i hm_X5_keep (Nat.le_of_ble_eq_true rfl) (fun p e R s m args below meth c Q hRf hRl X hend ls hl hw => ?_)
  have hx := X.1.1
  have hb := X.1.2.1
  have hl : lv_has ls 7 [(0, .ref (eb E + 0)), (1, .int p1), (2, .int p2), (3, .int p3)] := hl
  unfold fX5_keep at hf
  generalize s.heap = H at hw ⊢
  generalize ([] : List Loc) = locs at hw ⊢
  refine lv_aload_n hx hb dX5_keep_0 rfl (lv_at hl 0 rfl) ?_
  refine lv_iconst (v := (0 : Int32)) hx hb dX5_keep_1 (by decide) ?_
  refine fo_puti X hw fc_X5 (hm0 hE) (k := 0) (by decide) rfl rfl q1518 ⟨rfl, rfl⟩ dX5_keep_2 hf (fun st1 H locs hw hf => ?_)
  refine lv_iload_n hx hb dX5_keep_5 rfl (lv_at hl 1 rfl) ?_
  refine fc_Si (rest := []) (As := [.int p1]) X hw hm_X5_isRoom (lw_S q1737 q1738 q121 q1739) ⟨rfl, rfl⟩ ⟨by rw [hRf]; exact Nat.le_of_ble_eq_true rfl, by rw [hRl]; exact Nat.le_of_ble_eq_true rfl⟩ rfl rfl hl.1 (Nat.le_of_ble_eq_true rfl) dX5_keep_6 (fun rQ stQ hQ => wX5_isRoom l E hE p1 st1 rQ stQ hQ) hf (fun x2 st3 H locs hw hf => ?_)
  refine fb_zeq (tgt := 34) hx hb dX5_keep_9 (by decide) hf (fun hf => ?_) (fun hf => ?_)
  · refine lv_iconst (v := (-1 : Int32)) hx hb dX5_keep_34 (by decide) ?_
    exact fd_i hend hw hf dX5_keep_35
  refine lv_iload_n hx hb dX5_keep_12 rfl (lv_at hl 2 rfl) ?_
  refine lv_i2l (v := p2.toInt64) hx hb dX5_keep_13 rfl ?_
  refine lv_lconst (v := (0 : Int64)) hx hb dX5_keep_14 rfl ?_
  refine lv_ldc2 (v := (20 : Int64)) hx hb X.1.2.2.2.1 (X.1.2.2.2.2 _ q1939) dX5_keep_15 ?_
  refine fc_Si (rest := []) (As := [.long p2.toInt64, .long (0 : Int64), .long (20 : Int64)]) X hw hm_X5_in (lw_S q1722 q1723 q121 q1724) ⟨rfl, rfl⟩ ⟨by rw [hRf]; exact Nat.le_of_ble_eq_true rfl, by rw [hRl]; exact Nat.le_of_ble_eq_true rfl⟩ rfl rfl hl.1 (Nat.le_of_ble_eq_true rfl) dX5_keep_18 (fun rQ stQ hQ => wX5_in l E hE (p2.toInt64) (0 : Int64) (20 : Int64) st3 rQ stQ hQ) hf (fun x4 st5 H locs hw hf => ?_)
  refine fb_zeq (tgt := 34) hx hb dX5_keep_21 (by decide) hf (fun hf => ?_) (fun hf => ?_)
  · refine lv_iconst (v := (-1 : Int32)) hx hb dX5_keep_34 (by decide) ?_
    exact fd_i hend hw hf dX5_keep_35
  refine lv_iload_n hx hb dX5_keep_24 rfl (lv_at hl 3 rfl) ?_
  refine lv_i2l (v := p3.toInt64) hx hb dX5_keep_25 rfl ?_
  refine lv_lconst (v := (0 : Int64)) hx hb dX5_keep_26 rfl ?_
  refine lv_lconst (v := (1 : Int64)) hx hb dX5_keep_27 rfl ?_
  refine fc_Si (rest := []) (As := [.long p3.toInt64, .long (0 : Int64), .long (1 : Int64)]) X hw hm_X5_in (lw_S q1722 q1723 q121 q1724) ⟨rfl, rfl⟩ ⟨by rw [hRf]; exact Nat.le_of_ble_eq_true rfl, by rw [hRl]; exact Nat.le_of_ble_eq_true rfl⟩ rfl rfl hl.1 (Nat.le_of_ble_eq_true rfl) dX5_keep_28 (fun rQ stQ hQ => wX5_in l E hE (p3.toInt64) (0 : Int64) (1 : Int64) st5 rQ stQ hQ) hf (fun x6 st7 H locs hw hf => ?_)
  refine fb_zne (tgt := 36) hx hb dX5_keep_31 (by decide) hf (fun hf => ?_) (fun hf => ?_)
  · refine lv_iconst (v := (0 : Int32)) hx hb dX5_keep_36 (by decide) ?_
    refine lv_istore (lv' := [(4, .int (0 : Int32)), (0, .ref (eb E + 0)), (1, .int p1), (2, .int p2), (3, .int p3)]) hx hb dX5_keep_37 hl (by decide) rfl (fun ls hl => ?_)
    refine lv_iconst (v := (0 : Int32)) hx hb dX5_keep_39 (by decide) ?_
    refine lv_istore (lv' := [(5, .int (0 : Int32)), (4, .int (0 : Int32)), (0, .ref (eb E + 0)), (1, .int p1), (2, .int p2), (3, .int p3)]) hx hb dX5_keep_40 hl (by decide) rfl (fun ls hl => ?_)
    refine lp3_e (P := fun x8 x9 st10 => ∀ (H : Heap) (locs : List Loc) (ls : Array Slot), lv_has ls 7 [(5, .int x8), (4, .int x9), (0, .ref (eb E + 0)), (1, .int p1), (2, .int p2), (3, .int p3)] → fo_S E s st10 H locs → W p l e R s m args below meth c H locs 0 0 Q (F0 m 42 ls [])) (fun rec11 hrec11 x8 x9 st10 hf => ?_) G _ _ _ hf H locs ls (lv_sub hl [0, 1, 2, 3, 4, 5] rfl) hw
    intro H locs ls hl hw
    refine lv_iload hx hb dX5_keep_42 (lv_at hl 0 rfl) ?_
    refine lv_bipush (v := (16 : Int32)) hx hb dX5_keep_44 (by decide) ?_
    refine fb_ige (tgt := 77) hx hb dX5_keep_46 (by decide) hf (fun hf => ?_) (fun hf => ?_)
    · refine lv_iconst (v := (0 : Int32)) hx hb dX5_keep_77 (by decide) ?_
      refine lv_istore (lv' := [(5, .int (0 : Int32)), (4, .int x9), (0, .ref (eb E + 0)), (1, .int p1), (2, .int p2), (3, .int p3)]) hx hb dX5_keep_78 hl (by decide) rfl (fun ls hl => ?_)
      refine lp2_e (P := fun x12 st13 => ∀ (H : Heap) (locs : List Loc) (ls : Array Slot), lv_has ls 7 [(5, .int x12), (4, .int x9), (0, .ref (eb E + 0)), (1, .int p1), (2, .int p2), (3, .int p3)] → fo_S E s st13 H locs → W p l e R s m args below meth c H locs 0 0 Q (F0 m 80 ls [])) (fun rec14 hrec14 x12 st13 hf => ?_) G _ _ hf H locs ls (lv_sub hl [0, 1, 2, 3, 4, 5] rfl) hw
      intro H locs ls hl hw
      refine lv_iload hx hb dX5_keep_80 (lv_at hl 0 rfl) ?_
      refine lv_iconst (v := (4 : Int32)) hx hb dX5_keep_82 (by decide) ?_
      refine fb_ige (tgt := 152) hx hb dX5_keep_83 (by decide) hf (fun hf => ?_) (fun hf => ?_)
      · refine lv_iconst (v := (-1 : Int32)) hx hb dX5_keep_152 (by decide) ?_
        exact fd_i hend hw hf dX5_keep_153
      refine lv_iconst (v := (0 : Int32)) hx hb dX5_keep_86 (by decide) ?_
      refine lv_istore (lv' := [(6, .int (0 : Int32)), (5, .int x12), (4, .int x9), (0, .ref (eb E + 0)), (1, .int p1), (2, .int p2), (3, .int p3)]) hx hb dX5_keep_87 hl (by decide) rfl (fun ls hl => ?_)
      refine lp2_e (P := fun x15 st16 => ∀ (H : Heap) (locs : List Loc) (ls : Array Slot), lv_has ls 7 [(6, .int x15), (5, .int x12), (4, .int x9), (0, .ref (eb E + 0)), (1, .int p1), (2, .int p2), (3, .int p3)] → fo_S E s st16 H locs → W p l e R s m args below meth c H locs 0 0 Q (F0 m 89 ls [])) (fun rec17 hrec17 x15 st16 hf => ?_) G _ _ hf H locs ls (lv_sub hl [0, 1, 2, 3, 4, 5, 6] rfl) hw
      intro H locs ls hl hw
      refine lv_iload hx hb dX5_keep_89 (lv_at hl 0 rfl) ?_
      refine lv_ldcw (v := (65536 : Int32)) hx hb X.1.2.2.2.1 (X.1.2.2.2.2 _ q2071) dX5_keep_91 ?_
      refine fb_ige (tgt := 146) hx hb dX5_keep_94 (by decide) hf (fun hf => ?_) (fun hf => ?_)
      · refine fb_iinc (v := (1 : Int32)) (lv' := [(5, .int (x12 + (1 : Int32))), (6, .int x15), (4, .int x9), (0, .ref (eb E + 0)), (1, .int p1), (2, .int p2), (3, .int p3)]) hx hb dX5_keep_146 hl (k := 1) rfl (by decide) (by decide) rfl (fun ls hl => ?_)
        refine lv_goto (tgt := 80) hx hb dX5_keep_149 (by decide) ?_
        exact hrec14 _ _ hf _ _ _ (lv_sub hl [0, 2, 3, 4, 5, 6] rfl) hw
      refine lv_iload hx hb dX5_keep_97 (lv_at hl 0 rfl) ?_
      refine lv_iload hx hb dX5_keep_99 (lv_at hl 2 rfl) ?_
      refine lv_iconst (v := (-1 : Int32)) hx hb dX5_keep_101 (by decide) ?_
      refine lv_ixor hx hb dX5_keep_102 ?_
      refine lv_iand hx hb dX5_keep_103 ?_
      refine fb_zne (tgt := 140) hx hb dX5_keep_104 (by decide) hf (fun hf => ?_) (fun hf => ?_)
      · refine fb_iinc (v := (1 : Int32)) (lv' := [(6, .int (x15 + (1 : Int32))), (5, .int x12), (4, .int x9), (0, .ref (eb E + 0)), (1, .int p1), (2, .int p2), (3, .int p3)]) hx hb dX5_keep_140 hl (k := 0) rfl (by decide) (by decide) rfl (fun ls hl => ?_)
        refine lv_goto (tgt := 89) hx hb dX5_keep_143 (by decide) ?_
        exact hrec17 _ _ hf _ _ _ (lv_sub hl [0, 1, 2, 3, 4, 5, 6] rfl) hw
      refine lv_iload hx hb dX5_keep_107 (lv_at hl 0 rfl) ?_
      refine fc_Si (rest := []) (As := [.int x15]) X hw hm_X5_ones (lw_S q2072 q2073 q121 q2074) ⟨rfl, rfl⟩ ⟨by rw [hRf]; exact Nat.le_of_ble_eq_true rfl, by rw [hRl]; exact Nat.le_of_ble_eq_true rfl⟩ rfl rfl hl.1 (Nat.le_of_ble_eq_true rfl) dX5_keep_109 (fun rQ stQ hQ => wX5_ones l E hE G x15 st16 rQ stQ hQ) hf (fun x18 st19 H locs hw hf => ?_)
      refine lv_iload hx hb dX5_keep_112 (lv_at hl 1 rfl) ?_
      refine fb_ine (tgt := 140) hx hb dX5_keep_114 (by decide) hf (fun hf => ?_) (fun hf => ?_)
      · refine fb_iinc (v := (1 : Int32)) (lv' := [(6, .int (x15 + (1 : Int32))), (5, .int x12), (4, .int x9), (0, .ref (eb E + 0)), (1, .int p1), (2, .int p2), (3, .int p3)]) hx hb dX5_keep_140 hl (k := 0) rfl (by decide) (by decide) rfl (fun ls hl => ?_)
        refine lv_goto (tgt := 89) hx hb dX5_keep_143 (by decide) ?_
        exact hrec17 _ _ hf _ _ _ (lv_sub hl [0, 1, 2, 3, 4, 5, 6] rfl) hw
      refine lv_aload_n hx hb dX5_keep_117 rfl (lv_at hl 3 rfl) ?_
      refine lv_iload_n hx hb dX5_keep_118 rfl (lv_at hl 4 rfl) ?_
      refine lv_iload_n hx hb dX5_keep_119 rfl (lv_at hl 5 rfl) ?_
      refine lv_iload hx hb dX5_keep_120 (lv_at hl 0 rfl) ?_
      refine fc_Vi (rest := []) (As := [.int p1, .int p2, .int x15]) X hw hm_X5_isKeptBy (lw_V q2075 q2077 qs93 q121 q2078) ⟨rfl, rfl⟩ ⟨by rw [hRf]; exact Nat.le_of_ble_eq_true rfl, by rw [hRl]; exact Nat.le_of_ble_eq_true rfl⟩ fc_X5 rfl (hm0 hE) rfl rfl hl.1 (Nat.le_of_ble_eq_true rfl) dX5_keep_122 (fun rQ stQ hQ => wX5_isKeptBy l E hE G p1 p2 x15 st19 rQ stQ hQ) hf (fun x20 st21 H locs hw hf => ?_)
      refine fb_zeq (tgt := 140) hx hb dX5_keep_125 (by decide) hf (fun hf => ?_) (fun hf => ?_)
      · refine fb_iinc (v := (1 : Int32)) (lv' := [(6, .int (x15 + (1 : Int32))), (5, .int x12), (4, .int x9), (0, .ref (eb E + 0)), (1, .int p1), (2, .int p2), (3, .int p3)]) hx hb dX5_keep_140 hl (k := 0) rfl (by decide) (by decide) rfl (fun ls hl => ?_)
        refine lv_goto (tgt := 89) hx hb dX5_keep_143 (by decide) ?_
        exact hrec17 _ _ hf _ _ _ (lv_sub hl [0, 1, 2, 3, 4, 5, 6] rfl) hw
      refine lv_iload_n hx hb dX5_keep_128 rfl (lv_at hl 6 rfl) ?_
      refine fb_zne (tgt := 137) hx hb dX5_keep_129 (by decide) hf (fun hf => ?_) (fun hf => ?_)
      · refine lv_iload hx hb dX5_keep_137 (lv_at hl 0 rfl) ?_
        exact fd_i hend hw hf dX5_keep_139
      refine lv_iload hx hb dX5_keep_132 (lv_at hl 1 rfl) ?_
      refine lv_goto (tgt := 139) hx hb dX5_keep_134 (by decide) ?_
      exact fd_i hend hw hf dX5_keep_139
    refine lv_iload hx hb dX5_keep_49 (lv_at hl 1 rfl) ?_
    refine lv_aload_n hx hb dX5_keep_51 rfl (lv_at hl 2 rfl) ?_
    refine lv_iload hx hb dX5_keep_52 (lv_at hl 0 rfl) ?_
    refine fc_Vi (rest := [.int x9]) (As := [.int x8]) X hw hm_X5_isTree (lw_V q1757 q1759 qs43 q121 q1760) ⟨rfl, rfl⟩ ⟨by rw [hRf]; exact Nat.le_of_ble_eq_true rfl, by rw [hRl]; exact Nat.le_of_ble_eq_true rfl⟩ fc_X5 rfl (hm0 hE) rfl rfl hl.1 (Nat.le_of_ble_eq_true rfl) dX5_keep_54 (fun rQ stQ hQ => wX5_isTree l E hE x8 st10 rQ stQ hQ) hf (fun x22 st23 H locs hw hf => ?_)
    refine fb_zeq (tgt := 67) hx hb dX5_keep_57 (by decide) hf (fun hf => ?_) (fun hf => ?_)
    · refine lv_iconst (v := (0 : Int32)) hx hb dX5_keep_67 (by decide) ?_
      refine lv_ior hx hb dX5_keep_68 ?_
      refine fo_tI hf (fun x24 hf => ?_)
      refine lv_istore (lv' := [(4, .int x24), (5, .int x8), (0, .ref (eb E + 0)), (1, .int p1), (2, .int p2), (3, .int p3)]) hx hb dX5_keep_69 hl (by decide) rfl (fun ls hl => ?_)
      refine fb_iinc (v := (1 : Int32)) (lv' := [(5, .int (x8 + (1 : Int32))), (4, .int x24), (0, .ref (eb E + 0)), (1, .int p1), (2, .int p2), (3, .int p3)]) hx hb dX5_keep_71 hl (k := 1) rfl (by decide) (by decide) rfl (fun ls hl => ?_)
      refine lv_goto (tgt := 42) hx hb dX5_keep_74 (by decide) ?_
      exact hrec11 _ _ _ hf _ _ _ (lv_sub hl [0, 1, 2, 3, 4, 5] rfl) hw
    refine lv_iconst (v := (1 : Int32)) hx hb dX5_keep_60 (by decide) ?_
    refine lv_iload hx hb dX5_keep_61 (lv_at hl 0 rfl) ?_
    refine lv_ishl hx hb dX5_keep_63 ?_
    refine lv_goto (tgt := 68) hx hb dX5_keep_64 (by decide) ?_
    refine lv_ior hx hb dX5_keep_68 ?_
    refine fo_tI hf (fun x25 hf => ?_)
    refine lv_istore (lv' := [(4, .int x25), (5, .int x8), (0, .ref (eb E + 0)), (1, .int p1), (2, .int p2), (3, .int p3)]) hx hb dX5_keep_69 hl (by decide) rfl (fun ls hl => ?_)
    refine fb_iinc (v := (1 : Int32)) (lv' := [(5, .int (x8 + (1 : Int32))), (4, .int x25), (0, .ref (eb E + 0)), (1, .int p1), (2, .int p2), (3, .int p3)]) hx hb dX5_keep_71 hl (k := 1) rfl (by decide) (by decide) rfl (fun ls hl => ?_)
    refine lv_goto (tgt := 42) hx hb dX5_keep_74 (by decide) ?_
    exact hrec11 _ _ _ hf _ _ _ (lv_sub hl [0, 1, 2, 3, 4, 5] rfl) hw
  refine lv_iconst (v := (-1 : Int32)) hx hb dX5_keep_34 (by decide) ?_
  exact fd_i hend hw hf dX5_keep_35

/-- ForestRoomsModel.laySuits -/
def fX5_laySuits (G : Nat) (p1 : Int32) (st0 : fo_St) : Option fo_St := lp2_ (fun rec3 (x1 : Int32) (st2 : fo_St) => if p1 ≤ x1 then ck_ (fo_in p1 7) (lt_ (si_ st2 28 p1.toNatClampNeg (0 : Int32)) (fun st4 => lI_ (p1 - (1 : Int32)) (fun x5 => lp2_ (fun rec8 (x6 : Int32) (st7 : fo_St) => if x6 < 0 then some st7 else lp3_ (fun rec12 (x9 : Int32) (x10 : Int32) (st11 : fo_St) => if (16 : Int32) ≤ x9 then ck_ (fo_in (x6 + (1 : Int32)) 7) (ck_ (fo_in x6 7) (lt_ (si_ st11 28 x6.toNatClampNeg ((gi_ st11 28 (x6 + (1 : Int32)).toNatClampNeg) + x10)) (fun st13 => rec8 (x6 + (-1 : Int32)) st13))) else ck_ (fo_in (((16 : Int32) * x6) + x9) 96) (if (gi_ st11 24 (((16 : Int32) * x6) + x9).toNatClampNeg) ≤ x10 then rec12 (x9 + (1 : Int32)) x10 st11 else ck_ (fo_in (((16 : Int32) * x6) + x9) 96) (lI_ (gi_ st11 24 (((16 : Int32) * x6) + x9).toNatClampNeg) (fun x14 => rec12 (x9 + (1 : Int32)) x14 st11)))) G (0 : Int32) (0 : Int32) st7) G x5 st4))) else lp2_ (fun rec17 (x15 : Int32) (st16 : fo_St) => if (16 : Int32) ≤ x15 then rec3 (x1 + (1 : Int32)) st16 else bd_ (fX5_isLost x15 st16) (fun x18 st19 => jn_ (fun (x20 : Int32) (st21 : fo_St) => ck_ (fo_in (((16 : Int32) * x1) + x15) 96) (lt_ (si_ st21 24 (((16 : Int32) * x1) + x15).toNatClampNeg x20) (fun st23 => rec17 (x15 + (1 : Int32)) st23))) (fun k22 => if ¬ x18 = 0 then k22 (-1 : Int32) st19 else ck_ (fo_in x1 6) (bd_ (fX5_isBarred G (gi_ st19 25 x1.toNatClampNeg) x15 st19) (fun x24 st25 => if x24 = 0 then ck_ (fo_in x1 6) (bd_ (fX5_suitsOf G (gi_ st25 25 x1.toNatClampNeg) x15 st25) (fun x26 st27 => k22 x26 st27)) else k22 (-1 : Int32) st25))))) G (0 : Int32) st2) G (0 : Int32) st0
theorem hm_X5_laySuits : fo_M yX5_laySuits 1 := ⟨by decide +kernel, by decide +kernel, by decide +kernel, by decide +kernel⟩
set_option maxHeartbeats 4000000 in
theorem wX5_laySuits (l : Launch) (E : fo_E) (hE : ∀ n, et E n = tM_ n) (G : Nat) (p1 : Int32) (st0 : fo_St) (stZ : fo_St) (hf : fX5_laySuits G p1 st0 = some stZ) : CTv l E yX5_laySuits (ws_ yX5_laySuits cX5_laySuits 5 none) ({ frames := 5, cells := 0, slots := 0, locals := 125 }) [.ref (eb E + 0), .int p1] st0 stZ := by
  refine fe_v hm_X5_laySuits (Nat.le_of_ble_eq_true rfl) (fun p e R s m args below meth c Q hRf hRl X hend ls hl hw => ?_)
  have hx := X.1.1
  have hb := X.1.2.1
  have hl : lv_has ls 5 [(0, .ref (eb E + 0)), (1, .int p1)] := hl
  unfold fX5_laySuits at hf
  generalize s.heap = H at hw ⊢
  generalize ([] : List Loc) = locs at hw ⊢
  refine lv_iconst (v := (0 : Int32)) hx hb dX5_laySuits_0 (by decide) ?_
  refine lv_istore_n (lv' := [(2, .int (0 : Int32)), (0, .ref (eb E + 0)), (1, .int p1)]) hx hb dX5_laySuits_1 rfl hl (by decide) rfl (fun ls hl => ?_)
  refine lp2_e (P := fun x1 st2 => ∀ (H : Heap) (locs : List Loc) (ls : Array Slot), lv_has ls 5 [(2, .int x1), (0, .ref (eb E + 0)), (1, .int p1)] → fo_S E s st2 H locs → W p l e R s m args below meth c H locs 0 0 Q (F0 m 2 ls [])) (fun rec3 hrec3 x1 st2 hf => ?_) G _ _ hf H locs ls (lv_sub hl [0, 1, 2] rfl) hw
  intro H locs ls hl hw
  refine lv_iload_n hx hb dX5_laySuits_2 rfl (lv_at hl 0 rfl) ?_
  refine lv_iload_n hx hb dX5_laySuits_3 rfl (lv_at hl 2 rfl) ?_
  refine fb_ige (tgt := 75) hx hb dX5_laySuits_4 (by decide) hf (fun hf => ?_) (fun hf => ?_)
  · refine lv_aload_n hx hb dX5_laySuits_75 rfl (lv_at hl 1 rfl) ?_
    refine fo_gets X hw fc_X5 (hm0 hE) (k := 48) (d := 28) (n2 := 28) (by decide) rfl rfl q1566 dX5_laySuits_76 ?_
    refine lv_iload_n hx hb dX5_laySuits_79 rfl (lv_at hl 2 rfl) ?_
    refine lv_iconst (v := (0 : Int32)) hx hb dX5_laySuits_80 (by decide) ?_
    refine fo_iast X hw (hm28 hE) dX5_laySuits_81 hf (fun st4 H locs hw hf => ?_)
    refine lv_iload_n hx hb dX5_laySuits_82 rfl (lv_at hl 2 rfl) ?_
    refine lv_iconst (v := (1 : Int32)) hx hb dX5_laySuits_83 (by decide) ?_
    refine lv_isub hx hb dX5_laySuits_84 ?_
    refine fo_tI hf (fun x5 hf => ?_)
    refine lv_istore_n (lv' := [(2, .int x5), (0, .ref (eb E + 0)), (1, .int p1)]) hx hb dX5_laySuits_85 rfl hl (by decide) rfl (fun ls hl => ?_)
    refine lp2_e (P := fun x6 st7 => ∀ (H : Heap) (locs : List Loc) (ls : Array Slot), lv_has ls 5 [(2, .int x6), (0, .ref (eb E + 0))] → fo_S E s st7 H locs → W p l e R s m args below meth c H locs 0 0 Q (F0 m 86 ls [])) (fun rec8 hrec8 x6 st7 hf => ?_) G _ _ hf H locs ls (lv_sub hl [0, 1] rfl) hw
    intro H locs ls hl hw
    refine lv_iload_n hx hb dX5_laySuits_86 rfl (lv_at hl 0 rfl) ?_
    refine fb_zlt (tgt := 163) hx hb dX5_laySuits_87 (by decide) hf (fun hf => ?_) (fun hf => ?_)
    · exact fd_v hend hw hf dX5_laySuits_163
    refine lv_iconst (v := (0 : Int32)) hx hb dX5_laySuits_90 (by decide) ?_
    refine lv_istore_n (lv' := [(3, .int (0 : Int32)), (2, .int x6), (0, .ref (eb E + 0))]) hx hb dX5_laySuits_91 rfl hl (by decide) rfl (fun ls hl => ?_)
    refine lv_iconst (v := (0 : Int32)) hx hb dX5_laySuits_92 (by decide) ?_
    refine lv_istore (lv' := [(4, .int (0 : Int32)), (3, .int (0 : Int32)), (2, .int x6), (0, .ref (eb E + 0))]) hx hb dX5_laySuits_93 hl (by decide) rfl (fun ls hl => ?_)
    refine lp3_e (P := fun x9 x10 st11 => ∀ (H : Heap) (locs : List Loc) (ls : Array Slot), lv_has ls 5 [(4, .int x9), (3, .int x10), (2, .int x6), (0, .ref (eb E + 0))] → fo_S E s st11 H locs → W p l e R s m args below meth c H locs 0 0 Q (F0 m 95 ls [])) (fun rec12 hrec12 x9 x10 st11 hf => ?_) G _ _ _ hf H locs ls (lv_sub hl [0, 1, 2, 3] rfl) hw
    intro H locs ls hl hw
    refine lv_iload hx hb dX5_laySuits_95 (lv_at hl 0 rfl) ?_
    refine lv_bipush (v := (16 : Int32)) hx hb dX5_laySuits_97 (by decide) ?_
    refine fb_ige (tgt := 141) hx hb dX5_laySuits_99 (by decide) hf (fun hf => ?_) (fun hf => ?_)
    · refine lv_aload_n hx hb dX5_laySuits_141 rfl (lv_at hl 3 rfl) ?_
      refine fo_gets X hw fc_X5 (hm0 hE) (k := 48) (d := 28) (n2 := 28) (by decide) rfl rfl q1566 dX5_laySuits_142 ?_
      refine lv_iload_n hx hb dX5_laySuits_145 rfl (lv_at hl 2 rfl) ?_
      refine lv_aload_n hx hb dX5_laySuits_146 rfl (lv_at hl 3 rfl) ?_
      refine fo_gets X hw fc_X5 (hm0 hE) (k := 48) (d := 28) (n2 := 28) (by decide) rfl rfl q1566 dX5_laySuits_147 ?_
      refine lv_iload_n hx hb dX5_laySuits_150 rfl (lv_at hl 2 rfl) ?_
      refine lv_iconst (v := (1 : Int32)) hx hb dX5_laySuits_151 (by decide) ?_
      refine lv_iadd hx hb dX5_laySuits_152 ?_
      refine fo_iald X hw (hm28 hE) dX5_laySuits_153 hf (fun hf => ?_)
      refine lv_iload_n hx hb dX5_laySuits_154 rfl (lv_at hl 1 rfl) ?_
      refine lv_iadd hx hb dX5_laySuits_155 ?_
      refine fo_iast X hw (hm28 hE) dX5_laySuits_156 hf (fun st13 H locs hw hf => ?_)
      refine fb_iinc (v := (-1 : Int32)) (lv' := [(2, .int (x6 + (-1 : Int32))), (4, .int x9), (3, .int x10), (0, .ref (eb E + 0))]) hx hb dX5_laySuits_157 hl (k := 2) rfl (by decide) (by decide) rfl (fun ls hl => ?_)
      refine lv_goto (tgt := 86) hx hb dX5_laySuits_160 (by decide) ?_
      exact hrec8 _ _ hf _ _ _ (lv_sub hl [0, 3] rfl) hw
    refine lv_aload_n hx hb dX5_laySuits_102 rfl (lv_at hl 3 rfl) ?_
    refine fo_gets X hw fc_X5 (hm0 hE) (k := 44) (d := 24) (n2 := 24) (by decide) rfl rfl q1562 dX5_laySuits_103 ?_
    refine lv_bipush (v := (16 : Int32)) hx hb dX5_laySuits_106 (by decide) ?_
    refine lv_iload_n hx hb dX5_laySuits_108 rfl (lv_at hl 2 rfl) ?_
    refine lv_imul hx hb dX5_laySuits_109 ?_
    refine lv_iload hx hb dX5_laySuits_110 (lv_at hl 0 rfl) ?_
    refine lv_iadd hx hb dX5_laySuits_112 ?_
    refine fo_iald X hw (hm24 hE) dX5_laySuits_113 hf (fun hf => ?_)
    refine lv_iload_n hx hb dX5_laySuits_114 rfl (lv_at hl 1 rfl) ?_
    refine fb_ile (tgt := 133) hx hb dX5_laySuits_115 (by decide) hf (fun hf => ?_) (fun hf => ?_)
    · refine lv_iload_n hx hb dX5_laySuits_133 rfl (lv_at hl 1 rfl) ?_
      refine lv_istore_n (lv' := [(3, .int x10), (4, .int x9), (2, .int x6), (0, .ref (eb E + 0))]) hx hb dX5_laySuits_134 rfl hl (by decide) rfl (fun ls hl => ?_)
      refine fb_iinc (v := (1 : Int32)) (lv' := [(4, .int (x9 + (1 : Int32))), (3, .int x10), (2, .int x6), (0, .ref (eb E + 0))]) hx hb dX5_laySuits_135 hl (k := 1) rfl (by decide) (by decide) rfl (fun ls hl => ?_)
      refine lv_goto (tgt := 95) hx hb dX5_laySuits_138 (by decide) ?_
      exact hrec12 _ _ _ hf _ _ _ (lv_sub hl [0, 1, 2, 3] rfl) hw
    refine lv_aload_n hx hb dX5_laySuits_118 rfl (lv_at hl 3 rfl) ?_
    refine fo_gets X hw fc_X5 (hm0 hE) (k := 44) (d := 24) (n2 := 24) (by decide) rfl rfl q1562 dX5_laySuits_119 ?_
    refine lv_bipush (v := (16 : Int32)) hx hb dX5_laySuits_122 (by decide) ?_
    refine lv_iload_n hx hb dX5_laySuits_124 rfl (lv_at hl 2 rfl) ?_
    refine lv_imul hx hb dX5_laySuits_125 ?_
    refine lv_iload hx hb dX5_laySuits_126 (lv_at hl 0 rfl) ?_
    refine lv_iadd hx hb dX5_laySuits_128 ?_
    refine fo_iald X hw (hm24 hE) dX5_laySuits_129 hf (fun hf => ?_)
    refine lv_goto (tgt := 134) hx hb dX5_laySuits_130 (by decide) ?_
    refine fo_tI hf (fun x14 hf => ?_)
    refine lv_istore_n (lv' := [(3, .int x14), (4, .int x9), (2, .int x6), (0, .ref (eb E + 0))]) hx hb dX5_laySuits_134 rfl hl (by decide) rfl (fun ls hl => ?_)
    refine fb_iinc (v := (1 : Int32)) (lv' := [(4, .int (x9 + (1 : Int32))), (3, .int x14), (2, .int x6), (0, .ref (eb E + 0))]) hx hb dX5_laySuits_135 hl (k := 1) rfl (by decide) (by decide) rfl (fun ls hl => ?_)
    refine lv_goto (tgt := 95) hx hb dX5_laySuits_138 (by decide) ?_
    exact hrec12 _ _ _ hf _ _ _ (lv_sub hl [0, 1, 2, 3] rfl) hw
  refine lv_iconst (v := (0 : Int32)) hx hb dX5_laySuits_7 (by decide) ?_
  refine lv_istore_n (lv' := [(3, .int (0 : Int32)), (2, .int x1), (0, .ref (eb E + 0)), (1, .int p1)]) hx hb dX5_laySuits_8 rfl hl (by decide) rfl (fun ls hl => ?_)
  refine lp2_e (P := fun x15 st16 => ∀ (H : Heap) (locs : List Loc) (ls : Array Slot), lv_has ls 5 [(3, .int x15), (2, .int x1), (0, .ref (eb E + 0)), (1, .int p1)] → fo_S E s st16 H locs → W p l e R s m args below meth c H locs 0 0 Q (F0 m 9 ls [])) (fun rec17 hrec17 x15 st16 hf => ?_) G _ _ hf H locs ls (lv_sub hl [0, 1, 2, 3] rfl) hw
  intro H locs ls hl hw
  refine lv_iload_n hx hb dX5_laySuits_9 rfl (lv_at hl 0 rfl) ?_
  refine lv_bipush (v := (16 : Int32)) hx hb dX5_laySuits_10 (by decide) ?_
  refine fb_ige (tgt := 69) hx hb dX5_laySuits_12 (by decide) hf (fun hf => ?_) (fun hf => ?_)
  · refine fb_iinc (v := (1 : Int32)) (lv' := [(2, .int (x1 + (1 : Int32))), (3, .int x15), (0, .ref (eb E + 0)), (1, .int p1)]) hx hb dX5_laySuits_69 hl (k := 1) rfl (by decide) (by decide) rfl (fun ls hl => ?_)
    refine lv_goto (tgt := 2) hx hb dX5_laySuits_72 (by decide) ?_
    exact hrec3 _ _ hf _ _ _ (lv_sub hl [0, 2, 3] rfl) hw
  refine lv_aload_n hx hb dX5_laySuits_15 rfl (lv_at hl 2 rfl) ?_
  refine fo_gets X hw fc_X5 (hm0 hE) (k := 44) (d := 24) (n2 := 24) (by decide) rfl rfl q1562 dX5_laySuits_16 ?_
  refine lv_bipush (v := (16 : Int32)) hx hb dX5_laySuits_19 (by decide) ?_
  refine lv_iload_n hx hb dX5_laySuits_21 rfl (lv_at hl 1 rfl) ?_
  refine lv_imul hx hb dX5_laySuits_22 ?_
  refine lv_iload_n hx hb dX5_laySuits_23 rfl (lv_at hl 0 rfl) ?_
  refine lv_iadd hx hb dX5_laySuits_24 ?_
  refine lv_aload_n hx hb dX5_laySuits_25 rfl (lv_at hl 2 rfl) ?_
  refine lv_iload_n hx hb dX5_laySuits_26 rfl (lv_at hl 0 rfl) ?_
  refine fc_Vi (rest := [.int (((16 : Int32) * x1) + x15), .ref (eb E + 24)]) (As := [.int x15]) X hw hm_X5_isLost (lw_V q1753 q1755 qs42 q121 q1756) ⟨rfl, rfl⟩ ⟨by rw [hRf]; exact Nat.le_of_ble_eq_true rfl, by rw [hRl]; exact Nat.le_of_ble_eq_true rfl⟩ fc_X5 rfl (hm0 hE) rfl rfl hl.1 (Nat.le_of_ble_eq_true rfl) dX5_laySuits_27 (fun rQ stQ hQ => wX5_isLost l E hE x15 st16 rQ stQ hQ) hf (fun x18 st19 H locs hw hf => ?_)
  refine jn_e hf (fun k22 ek hf => ?_)
  have hk22 : ∀ (x20 : Int32) (st21 : fo_St) (H : Heap) (locs : List Loc) (ls : Array Slot), lv_has ls 5 [(3, .int x15), (2, .int x1), (0, .ref (eb E + 0)), (1, .int p1)] → fo_S E s st21 H locs → k22 x20 st21 = some stZ → W p l e R s m args below meth c H locs 0 0 Q (F0 m 62 ls [.int x20, .int (((16 : Int32) * x1) + x15), .ref (eb E + 24)]) := by
    intro x20 st21 H locs ls hl hw hf
    rw [ek] at hf
    refine fo_iast X hw (hm24 hE) dX5_laySuits_62 hf (fun st23 H locs hw hf => ?_)
    refine fb_iinc (v := (1 : Int32)) (lv' := [(3, .int (x15 + (1 : Int32))), (2, .int x1), (0, .ref (eb E + 0)), (1, .int p1)]) hx hb dX5_laySuits_63 hl (k := 0) rfl (by decide) (by decide) rfl (fun ls hl => ?_)
    refine lv_goto (tgt := 9) hx hb dX5_laySuits_66 (by decide) ?_
    exact hrec17 _ _ hf _ _ _ (lv_sub hl [0, 1, 2, 3] rfl) hw
  clear ek
  refine fb_zne (tgt := 47) hx hb dX5_laySuits_30 (by decide) hf (fun hf => ?_) (fun hf => ?_)
  · refine lv_iconst (v := (-1 : Int32)) hx hb dX5_laySuits_47 (by decide) ?_
    refine lv_goto (tgt := 62) hx hb dX5_laySuits_48 (by decide) ?_
    exact hk22 _ _ _ _ _ (lv_sub hl [0, 1, 2, 3] rfl) hw hf
  refine lv_aload_n hx hb dX5_laySuits_33 rfl (lv_at hl 2 rfl) ?_
  refine lv_aload_n hx hb dX5_laySuits_34 rfl (lv_at hl 2 rfl) ?_
  refine fo_gets X hw fc_X5 (hm0 hE) (k := 45) (d := 25) (n2 := 25) (by decide) rfl rfl q1563 dX5_laySuits_35 ?_
  refine lv_iload_n hx hb dX5_laySuits_38 rfl (lv_at hl 1 rfl) ?_
  refine fo_iald X hw (hm25 hE) dX5_laySuits_39 hf (fun hf => ?_)
  refine lv_iload_n hx hb dX5_laySuits_40 rfl (lv_at hl 0 rfl) ?_
  refine fc_Vi (rest := [.int (((16 : Int32) * x1) + x15), .ref (eb E + 24)]) (As := [.int (gi_ st19 25 x1.toNatClampNeg), .int x15]) X hw hm_X5_isBarred (lw_V q1967 q1969 qs77 q121 q1970) ⟨rfl, rfl⟩ ⟨by rw [hRf]; exact Nat.le_of_ble_eq_true rfl, by rw [hRl]; exact Nat.le_of_ble_eq_true rfl⟩ fc_X5 rfl (hm0 hE) rfl rfl hl.1 (Nat.le_of_ble_eq_true rfl) dX5_laySuits_41 (fun rQ stQ hQ => wX5_isBarred l E hE G (gi_ st19 25 x1.toNatClampNeg) x15 st19 rQ stQ hQ) hf (fun x24 st25 H locs hw hf => ?_)
  refine fb_zeq (tgt := 51) hx hb dX5_laySuits_44 (by decide) hf (fun hf => ?_) (fun hf => ?_)
  · refine lv_aload_n hx hb dX5_laySuits_51 rfl (lv_at hl 2 rfl) ?_
    refine lv_aload_n hx hb dX5_laySuits_52 rfl (lv_at hl 2 rfl) ?_
    refine fo_gets X hw fc_X5 (hm0 hE) (k := 45) (d := 25) (n2 := 25) (by decide) rfl rfl q1563 dX5_laySuits_53 ?_
    refine lv_iload_n hx hb dX5_laySuits_56 rfl (lv_at hl 1 rfl) ?_
    refine fo_iald X hw (hm25 hE) dX5_laySuits_57 hf (fun hf => ?_)
    refine lv_iload_n hx hb dX5_laySuits_58 rfl (lv_at hl 0 rfl) ?_
    refine fc_Vi (rest := [.int (((16 : Int32) * x1) + x15), .ref (eb E + 24)]) (As := [.int (gi_ st25 25 x1.toNatClampNeg), .int x15]) X hw hm_X5_suitsOf (lw_V q1963 q1965 qs76 q121 q1966) ⟨rfl, rfl⟩ ⟨by rw [hRf]; exact Nat.le_of_ble_eq_true rfl, by rw [hRl]; exact Nat.le_of_ble_eq_true rfl⟩ fc_X5 rfl (hm0 hE) rfl rfl hl.1 (Nat.le_of_ble_eq_true rfl) dX5_laySuits_59 (fun rQ stQ hQ => wX5_suitsOf l E hE G (gi_ st25 25 x1.toNatClampNeg) x15 st25 rQ stQ hQ) hf (fun x26 st27 H locs hw hf => ?_)
    exact hk22 _ _ _ _ _ (lv_sub hl [0, 1, 2, 3] rfl) hw hf
  refine lv_iconst (v := (-1 : Int32)) hx hb dX5_laySuits_47 (by decide) ?_
  refine lv_goto (tgt := 62) hx hb dX5_laySuits_48 (by decide) ?_
  exact hk22 _ _ _ _ _ (lv_sub hl [0, 1, 2, 3] rfl) hw hf

/-- ForestRoomsModel.isSpare -/
def fX5_isSpare (G : Nat) (p1 : Int32) (st0 : fo_St) : Option (Int32 × fo_St) := ck_ (fo_in p1 7) (ck_ (fo_in (((16 : Int32) * p1) + (gi_ st0 26 p1.toNatClampNeg)) 96) (jn_ (fun (x1 : Int32) => lp3_ (fun rec6 (x3 : Int32) (x4 : Int32) (st5 : fo_St) => if p1 ≤ x3 then ck_ (decide (x4 = 0 ∨ x4 = 1)) (some (x4, st5)) else if x4 = 0 then rec6 (x3 + (1 : Int32)) (0 : Int32) st5 else ck_ (fo_in x3 7) (ck_ (fo_in p1 7) (if (gi_ st5 26 x3.toNatClampNeg) = (gi_ st5 26 p1.toNatClampNeg) then rec6 (x3 + (1 : Int32)) (0 : Int32) st5 else rec6 (x3 + (1 : Int32)) (1 : Int32) st5))) G (0 : Int32) x1 st0) (fun k2 => if (gi_ st0 24 (((16 : Int32) * p1) + (gi_ st0 26 p1.toNatClampNeg)).toNatClampNeg) = (-1 : Int32) then k2 (0 : Int32) else k2 (1 : Int32))))
theorem hm_X5_isSpare : fo_M yX5_isSpare 1 := ⟨by decide +kernel, by decide +kernel, by decide +kernel, by decide +kernel⟩
set_option maxHeartbeats 4000000 in
theorem wX5_isSpare (l : Launch) (E : fo_E) (hE : ∀ n, et E n = tM_ n) (G : Nat) (p1 : Int32) (st0 : fo_St) (rZ : Int32) (stZ : fo_St) (hf : fX5_isSpare G p1 st0 = some (rZ, stZ)) : CTi l E yX5_isSpare (ws_ yX5_isSpare cX5_isSpare 4 (some .boolean)) ({ frames := 0, cells := 0, slots := 0, locals := 0 }) [.ref (eb E + 0), .int p1] st0 rZ stZ := by
  refine fe_z hm_X5_isSpare (Nat.le_of_ble_eq_true rfl) (fun p e R s m args below meth c Q hRf hRl X hend ls hl hw => ?_)
  have hx := X.1.1
  have hb := X.1.2.1
  have hl : lv_has ls 4 [(0, .ref (eb E + 0)), (1, .int p1)] := hl
  unfold fX5_isSpare at hf
  generalize s.heap = H at hw ⊢
  generalize ([] : List Loc) = locs at hw ⊢
  refine lv_aload_n hx hb dX5_isSpare_0 rfl (lv_at hl 0 rfl) ?_
  refine fo_gets X hw fc_X5 (hm0 hE) (k := 44) (d := 24) (n2 := 24) (by decide) rfl rfl q1562 dX5_isSpare_1 ?_
  refine lv_bipush (v := (16 : Int32)) hx hb dX5_isSpare_4 (by decide) ?_
  refine lv_iload_n hx hb dX5_isSpare_6 rfl (lv_at hl 1 rfl) ?_
  refine lv_imul hx hb dX5_isSpare_7 ?_
  refine lv_aload_n hx hb dX5_isSpare_8 rfl (lv_at hl 0 rfl) ?_
  refine fo_gets X hw fc_X5 (hm0 hE) (k := 46) (d := 26) (n2 := 26) (by decide) rfl rfl q1564 dX5_isSpare_9 ?_
  refine lv_iload_n hx hb dX5_isSpare_12 rfl (lv_at hl 1 rfl) ?_
  refine fo_iald X hw (hm26 hE) dX5_isSpare_13 hf (fun hf => ?_)
  refine lv_iadd hx hb dX5_isSpare_14 ?_
  refine fo_iald X hw (hm24 hE) dX5_isSpare_15 hf (fun hf => ?_)
  refine lv_iconst (v := (-1 : Int32)) hx hb dX5_isSpare_16 (by decide) ?_
  refine jn_e hf (fun k2 ek hf => ?_)
  have hk2 : ∀ (x1 : Int32) (H : Heap) (locs : List Loc) (ls : Array Slot), lv_has ls 4 [(0, .ref (eb E + 0)), (1, .int p1)] → fo_S E s st0 H locs → k2 x1 = some (rZ, stZ) → W p l e R s m args below meth c H locs 0 0 Q (F0 m 25 ls [.int x1]) := by
    intro x1 H locs ls hl hw hf
    rw [ek] at hf
    refine lv_istore_n (lv' := [(2, .int x1), (0, .ref (eb E + 0)), (1, .int p1)]) hx hb dX5_isSpare_25 rfl hl (by decide) rfl (fun ls hl => ?_)
    refine lv_iconst (v := (0 : Int32)) hx hb dX5_isSpare_26 (by decide) ?_
    refine lv_istore_n (lv' := [(3, .int (0 : Int32)), (2, .int x1), (0, .ref (eb E + 0)), (1, .int p1)]) hx hb dX5_isSpare_27 rfl hl (by decide) rfl (fun ls hl => ?_)
    refine lp3_e (P := fun x3 x4 st5 => ∀ (H : Heap) (locs : List Loc) (ls : Array Slot), lv_has ls 4 [(3, .int x3), (2, .int x4), (0, .ref (eb E + 0)), (1, .int p1)] → fo_S E s st5 H locs → W p l e R s m args below meth c H locs 0 0 Q (F0 m 28 ls [])) (fun rec6 hrec6 x3 x4 st5 hf => ?_) G _ _ _ hf H locs ls (lv_sub hl [0, 1, 2, 3] rfl) hw
    intro H locs ls hl hw
    refine lv_iload_n hx hb dX5_isSpare_28 rfl (lv_at hl 0 rfl) ?_
    refine lv_iload_n hx hb dX5_isSpare_29 rfl (lv_at hl 3 rfl) ?_
    refine fb_ige (tgt := 64) hx hb dX5_isSpare_30 (by decide) hf (fun hf => ?_) (fun hf => ?_)
    · refine lv_iload_n hx hb dX5_isSpare_64 rfl (lv_at hl 1 rfl) ?_
      obtain ⟨hz, hf⟩ := ck_e hf
      exact fd_z hend hw (fo_z hz).1 hf dX5_isSpare_65
    refine lv_iload_n hx hb dX5_isSpare_33 rfl (lv_at hl 1 rfl) ?_
    refine fb_zeq (tgt := 56) hx hb dX5_isSpare_34 (by decide) hf (fun hf => ?_) (fun hf => ?_)
    · refine lv_iconst (v := (0 : Int32)) hx hb dX5_isSpare_56 (by decide) ?_
      refine lv_istore_n (lv' := [(2, .int (0 : Int32)), (3, .int x3), (0, .ref (eb E + 0)), (1, .int p1)]) hx hb dX5_isSpare_57 rfl hl (by decide) rfl (fun ls hl => ?_)
      refine fb_iinc (v := (1 : Int32)) (lv' := [(3, .int (x3 + (1 : Int32))), (2, .int (0 : Int32)), (0, .ref (eb E + 0)), (1, .int p1)]) hx hb dX5_isSpare_58 hl (k := 1) rfl (by decide) (by decide) rfl (fun ls hl => ?_)
      refine lv_goto (tgt := 28) hx hb dX5_isSpare_61 (by decide) ?_
      exact hrec6 _ _ _ hf _ _ _ (lv_sub hl [0, 1, 2, 3] rfl) hw
    refine lv_aload_n hx hb dX5_isSpare_37 rfl (lv_at hl 2 rfl) ?_
    refine fo_gets X hw fc_X5 (hm0 hE) (k := 46) (d := 26) (n2 := 26) (by decide) rfl rfl q1564 dX5_isSpare_38 ?_
    refine lv_iload_n hx hb dX5_isSpare_41 rfl (lv_at hl 0 rfl) ?_
    refine fo_iald X hw (hm26 hE) dX5_isSpare_42 hf (fun hf => ?_)
    refine lv_aload_n hx hb dX5_isSpare_43 rfl (lv_at hl 2 rfl) ?_
    refine fo_gets X hw fc_X5 (hm0 hE) (k := 46) (d := 26) (n2 := 26) (by decide) rfl rfl q1564 dX5_isSpare_44 ?_
    refine lv_iload_n hx hb dX5_isSpare_47 rfl (lv_at hl 3 rfl) ?_
    refine fo_iald X hw (hm26 hE) dX5_isSpare_48 hf (fun hf => ?_)
    refine fb_ieq (tgt := 56) hx hb dX5_isSpare_49 (by decide) hf (fun hf => ?_) (fun hf => ?_)
    · refine lv_iconst (v := (0 : Int32)) hx hb dX5_isSpare_56 (by decide) ?_
      refine lv_istore_n (lv' := [(2, .int (0 : Int32)), (3, .int x3), (0, .ref (eb E + 0)), (1, .int p1)]) hx hb dX5_isSpare_57 rfl hl (by decide) rfl (fun ls hl => ?_)
      refine fb_iinc (v := (1 : Int32)) (lv' := [(3, .int (x3 + (1 : Int32))), (2, .int (0 : Int32)), (0, .ref (eb E + 0)), (1, .int p1)]) hx hb dX5_isSpare_58 hl (k := 1) rfl (by decide) (by decide) rfl (fun ls hl => ?_)
      refine lv_goto (tgt := 28) hx hb dX5_isSpare_61 (by decide) ?_
      exact hrec6 _ _ _ hf _ _ _ (lv_sub hl [0, 1, 2, 3] rfl) hw
    refine lv_iconst (v := (1 : Int32)) hx hb dX5_isSpare_52 (by decide) ?_
    refine lv_goto (tgt := 57) hx hb dX5_isSpare_53 (by decide) ?_
    refine lv_istore_n (lv' := [(2, .int (1 : Int32)), (3, .int x3), (0, .ref (eb E + 0)), (1, .int p1)]) hx hb dX5_isSpare_57 rfl hl (by decide) rfl (fun ls hl => ?_)
    refine fb_iinc (v := (1 : Int32)) (lv' := [(3, .int (x3 + (1 : Int32))), (2, .int (1 : Int32)), (0, .ref (eb E + 0)), (1, .int p1)]) hx hb dX5_isSpare_58 hl (k := 1) rfl (by decide) (by decide) rfl (fun ls hl => ?_)
    refine lv_goto (tgt := 28) hx hb dX5_isSpare_61 (by decide) ?_
    exact hrec6 _ _ _ hf _ _ _ (lv_sub hl [0, 1, 2, 3] rfl) hw
  clear ek
  refine fb_ieq (tgt := 24) hx hb dX5_isSpare_17 (by decide) hf (fun hf => ?_) (fun hf => ?_)
  · refine lv_iconst (v := (0 : Int32)) hx hb dX5_isSpare_24 (by decide) ?_
    exact hk2 _ _ _ _ (lv_sub hl [0, 1] rfl) hw hf
  refine lv_iconst (v := (1 : Int32)) hx hb dX5_isSpare_20 (by decide) ?_
  refine lv_goto (tgt := 25) hx hb dX5_isSpare_21 (by decide) ?_
  exact hk2 _ _ _ _ (lv_sub hl [0, 1] rfl) hw hf

/-- ForestRoomsModel.findHomes -/
def fX5_findHomes (G : Nat) (p1 : Int32) (st0 : fo_St) : Option (Int32 × fo_St) := bv_ (fX5_laySuits G p1 st0) (fun st2 => jn_ (fun (x3 : Int32) => jn_ (fun (x5 : Int32) => lt_ (si_ st2 26 (0 : Int32).toNatClampNeg (-1 : Int32)) (fun st7 => lp3_ (fun rec11 (x8 : Int32) (x9 : Int32) (st10 : fo_St) => if x8 < 0 then some (x9, st10) else ck_ (fo_in x8 7) (ck_ (fo_in x8 7) (lt_ (si_ st10 26 x8.toNatClampNeg ((gi_ st10 26 x8.toNatClampNeg) + (1 : Int32))) (fun st12 => ck_ (fo_in x8 7) (if ¬ (gi_ st12 26 x8.toNatClampNeg) = (16 : Int32) then bd_ (fX5_isSpare G x8 st12) (fun x13 st14 => if x13 = 0 then rec11 x8 x9 st14 else ck_ (fo_in x8 7) (ck_ (fo_in x8 7) (ck_ (fo_in (((16 : Int32) * x8) + (gi_ st14 26 x8.toNatClampNeg)) 96) (ck_ (fo_in (x8 + (1 : Int32)) 7) (lt_ (si_ st14 29 (x8 + (1 : Int32)).toNatClampNeg ((gi_ st14 29 x8.toNatClampNeg) + (gi_ st14 24 (((16 : Int32) * x8) + (gi_ st14 26 x8.toNatClampNeg)).toNatClampNeg))) (fun st15 => ck_ (fo_in (x8 + (1 : Int32)) 7) (ck_ (fo_in (x8 + (1 : Int32)) 7) (if ((gi_ st15 29 (x8 + (1 : Int32)).toNatClampNeg) + (gi_ st15 28 (x8 + (1 : Int32)).toNatClampNeg)) ≤ x9 then rec11 x8 x9 st15 else if ¬ x8 = (p1 - (1 : Int32)) then ck_ (fo_in (x8 + (1 : Int32)) 7) (lt_ (si_ st15 26 (x8 + (1 : Int32)).toNatClampNeg (-1 : Int32)) (fun st16 => rec11 (x8 + (1 : Int32)) x9 st16)) else ck_ (fo_in p1 7) (lI_ (gi_ st15 29 p1.toNatClampNeg) (fun x17 => lp2_ (fun rec20 (x18 : Int32) (st19 : fo_St) => if p1 ≤ x18 then rec11 x8 x17 st19 else ck_ (fo_in x18 7) (ck_ (fo_in x18 6) (lt_ (si_ st19 27 x18.toNatClampNeg (gi_ st19 26 x18.toNatClampNeg)) (fun st21 => rec20 (x18 + (1 : Int32)) st21)))) G (0 : Int32) st15)))))))))) else rec11 (x8 + (-1 : Int32)) x9 st12))))) G x5 x3 st7)) (fun k6 => if ¬ p1 = 0 then k6 (0 : Int32) else k6 (-1 : Int32))) (fun k4 => if ¬ p1 = 0 then k4 (-1 : Int32) else k4 (0 : Int32)))
theorem hm_X5_findHomes : fo_M yX5_findHomes 1 := ⟨by decide +kernel, by decide +kernel, by decide +kernel, by decide +kernel⟩
set_option maxHeartbeats 4000000 in
theorem wX5_findHomes (l : Launch) (E : fo_E) (hE : ∀ n, et E n = tM_ n) (G : Nat) (p1 : Int32) (st0 : fo_St) (rZ : Int32) (stZ : fo_St) (hf : fX5_findHomes G p1 st0 = some (rZ, stZ)) : CTi l E yX5_findHomes (ws_ yX5_findHomes cX5_findHomes 5 (some .int)) ({ frames := 6, cells := 0, slots := 0, locals := 149 }) [.ref (eb E + 0), .int p1] st0 rZ stZ := by
  refine fe_i hm_X5_findHomes (Nat.le_of_ble_eq_true rfl) (fun p e R s m args below meth c Q hRf hRl X hend ls hl hw => ?_)
  have hx := X.1.1
  have hb := X.1.2.1
  have hl : lv_has ls 5 [(0, .ref (eb E + 0)), (1, .int p1)] := hl
  unfold fX5_findHomes at hf
  generalize s.heap = H at hw ⊢
  generalize ([] : List Loc) = locs at hw ⊢
  refine lv_aload_n hx hb dX5_findHomes_0 rfl (lv_at hl 0 rfl) ?_
  refine lv_iload_n hx hb dX5_findHomes_1 rfl (lv_at hl 1 rfl) ?_
  refine fc_Vv (rest := []) (As := [.int p1]) X hw hm_X5_laySuits (lw_V q2092 q2094 qs95 q121 q2095) ⟨rfl, rfl⟩ ⟨by rw [hRf]; exact Nat.le_of_ble_eq_true rfl, by rw [hRl]; exact Nat.le_of_ble_eq_true rfl⟩ fc_X5 rfl (hm0 hE) rfl rfl hl.1 (Nat.le_of_ble_eq_true rfl) dX5_findHomes_2 (fun stQ hQ => wX5_laySuits l E hE G p1 st0 stQ hQ) hf (fun st2 H locs hw hf => ?_)
  refine lv_iload_n hx hb dX5_findHomes_5 rfl (lv_at hl 1 rfl) ?_
  refine jn_e hf (fun k4 ek hf => ?_)
  have hk4 : ∀ (x3 : Int32) (H : Heap) (locs : List Loc) (ls : Array Slot), lv_has ls 5 [(0, .ref (eb E + 0)), (1, .int p1)] → fo_S E s st2 H locs → k4 x3 = some (rZ, stZ) → W p l e R s m args below meth c H locs 0 0 Q (F0 m 14 ls [.int x3]) := by
    intro x3 H locs ls hl hw hf
    rw [ek] at hf
    refine lv_istore_n (lv' := [(2, .int x3), (0, .ref (eb E + 0)), (1, .int p1)]) hx hb dX5_findHomes_14 rfl hl (by decide) rfl (fun ls hl => ?_)
    refine lv_iload_n hx hb dX5_findHomes_15 rfl (lv_at hl 2 rfl) ?_
    refine jn_e hf (fun k6 ek hf => ?_)
    have hk6 : ∀ (x5 : Int32) (H : Heap) (locs : List Loc) (ls : Array Slot), lv_has ls 5 [(2, .int x3), (0, .ref (eb E + 0)), (1, .int p1)] → fo_S E s st2 H locs → k6 x5 = some (rZ, stZ) → W p l e R s m args below meth c H locs 0 0 Q (F0 m 24 ls [.int x5]) := by
      intro x5 H locs ls hl hw hf
      rw [ek] at hf
      refine lv_istore_n (lv' := [(3, .int x5), (2, .int x3), (0, .ref (eb E + 0)), (1, .int p1)]) hx hb dX5_findHomes_24 rfl hl (by decide) rfl (fun ls hl => ?_)
      refine lv_aload_n hx hb dX5_findHomes_25 rfl (lv_at hl 2 rfl) ?_
      refine fo_gets X hw fc_X5 (hm0 hE) (k := 46) (d := 26) (n2 := 26) (by decide) rfl rfl q1564 dX5_findHomes_26 ?_
      refine lv_iconst (v := (0 : Int32)) hx hb dX5_findHomes_29 (by decide) ?_
      refine lv_iconst (v := (-1 : Int32)) hx hb dX5_findHomes_30 (by decide) ?_
      refine fo_iastK X hw (hm26 hE) dX5_findHomes_31 (by decide) hf (fun st7 H locs hw hf => ?_)
      refine lp3_e (P := fun x8 x9 st10 => ∀ (H : Heap) (locs : List Loc) (ls : Array Slot), lv_has ls 5 [(3, .int x8), (2, .int x9), (0, .ref (eb E + 0)), (1, .int p1)] → fo_S E s st10 H locs → W p l e R s m args below meth c H locs 0 0 Q (F0 m 32 ls [])) (fun rec11 hrec11 x8 x9 st10 hf => ?_) G _ _ _ hf H locs ls (lv_sub hl [0, 1, 2, 3] rfl) hw
      intro H locs ls hl hw
      refine lv_iload_n hx hb dX5_findHomes_32 rfl (lv_at hl 0 rfl) ?_
      refine fb_zlt (tgt := 182) hx hb dX5_findHomes_33 (by decide) hf (fun hf => ?_) (fun hf => ?_)
      · refine lv_iload_n hx hb dX5_findHomes_182 rfl (lv_at hl 1 rfl) ?_
        exact fd_i hend hw hf dX5_findHomes_183
      refine lv_aload_n hx hb dX5_findHomes_36 rfl (lv_at hl 2 rfl) ?_
      refine fo_gets X hw fc_X5 (hm0 hE) (k := 46) (d := 26) (n2 := 26) (by decide) rfl rfl q1564 dX5_findHomes_37 ?_
      refine lv_iload_n hx hb dX5_findHomes_40 rfl (lv_at hl 0 rfl) ?_
      refine lv_dup2_11 hx hb dX5_findHomes_41 rfl rfl ?_
      refine fo_iald X hw (hm26 hE) dX5_findHomes_42 hf (fun hf => ?_)
      refine lv_iconst (v := (1 : Int32)) hx hb dX5_findHomes_43 (by decide) ?_
      refine lv_iadd hx hb dX5_findHomes_44 ?_
      refine fo_iast X hw (hm26 hE) dX5_findHomes_45 hf (fun st12 H locs hw hf => ?_)
      refine lv_aload_n hx hb dX5_findHomes_46 rfl (lv_at hl 2 rfl) ?_
      refine fo_gets X hw fc_X5 (hm0 hE) (k := 46) (d := 26) (n2 := 26) (by decide) rfl rfl q1564 dX5_findHomes_47 ?_
      refine lv_iload_n hx hb dX5_findHomes_50 rfl (lv_at hl 0 rfl) ?_
      refine fo_iald X hw (hm26 hE) dX5_findHomes_51 hf (fun hf => ?_)
      refine lv_bipush (v := (16 : Int32)) hx hb dX5_findHomes_52 (by decide) ?_
      refine fb_ine (tgt := 63) hx hb dX5_findHomes_54 (by decide) hf (fun hf => ?_) (fun hf => ?_)
      · refine lv_aload_n hx hb dX5_findHomes_63 rfl (lv_at hl 2 rfl) ?_
        refine lv_iload_n hx hb dX5_findHomes_64 rfl (lv_at hl 0 rfl) ?_
        refine fc_Vi (rest := []) (As := [.int x8]) X hw hm_X5_isSpare (lw_V q2096 q2098 qs96 q121 q2099) ⟨rfl, rfl⟩ ⟨by rw [hRf]; exact Nat.le_of_ble_eq_true rfl, by rw [hRl]; exact Nat.le_of_ble_eq_true rfl⟩ fc_X5 rfl (hm0 hE) rfl rfl hl.1 (Nat.le_of_ble_eq_true rfl) dX5_findHomes_65 (fun rQ stQ hQ => wX5_isSpare l E hE G x8 st12 rQ stQ hQ) hf (fun x13 st14 H locs hw hf => ?_)
        refine fb_zeq (tgt := 32) hx hb dX5_findHomes_68 (by decide) hf (fun hf => ?_) (fun hf => ?_)
        · exact hrec11 _ _ _ hf _ _ _ (lv_sub hl [0, 1, 2, 3] rfl) hw
        refine lv_aload_n hx hb dX5_findHomes_71 rfl (lv_at hl 2 rfl) ?_
        refine fo_gets X hw fc_X5 (hm0 hE) (k := 49) (d := 29) (n2 := 29) (by decide) rfl rfl q1567 dX5_findHomes_72 ?_
        refine lv_iload_n hx hb dX5_findHomes_75 rfl (lv_at hl 0 rfl) ?_
        refine lv_iconst (v := (1 : Int32)) hx hb dX5_findHomes_76 (by decide) ?_
        refine lv_iadd hx hb dX5_findHomes_77 ?_
        refine lv_aload_n hx hb dX5_findHomes_78 rfl (lv_at hl 2 rfl) ?_
        refine fo_gets X hw fc_X5 (hm0 hE) (k := 49) (d := 29) (n2 := 29) (by decide) rfl rfl q1567 dX5_findHomes_79 ?_
        refine lv_iload_n hx hb dX5_findHomes_82 rfl (lv_at hl 0 rfl) ?_
        refine fo_iald X hw (hm29 hE) dX5_findHomes_83 hf (fun hf => ?_)
        refine lv_aload_n hx hb dX5_findHomes_84 rfl (lv_at hl 2 rfl) ?_
        refine fo_gets X hw fc_X5 (hm0 hE) (k := 44) (d := 24) (n2 := 24) (by decide) rfl rfl q1562 dX5_findHomes_85 ?_
        refine lv_bipush (v := (16 : Int32)) hx hb dX5_findHomes_88 (by decide) ?_
        refine lv_iload_n hx hb dX5_findHomes_90 rfl (lv_at hl 0 rfl) ?_
        refine lv_imul hx hb dX5_findHomes_91 ?_
        refine lv_aload_n hx hb dX5_findHomes_92 rfl (lv_at hl 2 rfl) ?_
        refine fo_gets X hw fc_X5 (hm0 hE) (k := 46) (d := 26) (n2 := 26) (by decide) rfl rfl q1564 dX5_findHomes_93 ?_
        refine lv_iload_n hx hb dX5_findHomes_96 rfl (lv_at hl 0 rfl) ?_
        refine fo_iald X hw (hm26 hE) dX5_findHomes_97 hf (fun hf => ?_)
        refine lv_iadd hx hb dX5_findHomes_98 ?_
        refine fo_iald X hw (hm24 hE) dX5_findHomes_99 hf (fun hf => ?_)
        refine lv_iadd hx hb dX5_findHomes_100 ?_
        refine fo_iast X hw (hm29 hE) dX5_findHomes_101 hf (fun st15 H locs hw hf => ?_)
        refine lv_aload_n hx hb dX5_findHomes_102 rfl (lv_at hl 2 rfl) ?_
        refine fo_gets X hw fc_X5 (hm0 hE) (k := 49) (d := 29) (n2 := 29) (by decide) rfl rfl q1567 dX5_findHomes_103 ?_
        refine lv_iload_n hx hb dX5_findHomes_106 rfl (lv_at hl 0 rfl) ?_
        refine lv_iconst (v := (1 : Int32)) hx hb dX5_findHomes_107 (by decide) ?_
        refine lv_iadd hx hb dX5_findHomes_108 ?_
        refine fo_iald X hw (hm29 hE) dX5_findHomes_109 hf (fun hf => ?_)
        refine lv_aload_n hx hb dX5_findHomes_110 rfl (lv_at hl 2 rfl) ?_
        refine fo_gets X hw fc_X5 (hm0 hE) (k := 48) (d := 28) (n2 := 28) (by decide) rfl rfl q1566 dX5_findHomes_111 ?_
        refine lv_iload_n hx hb dX5_findHomes_114 rfl (lv_at hl 0 rfl) ?_
        refine lv_iconst (v := (1 : Int32)) hx hb dX5_findHomes_115 (by decide) ?_
        refine lv_iadd hx hb dX5_findHomes_116 ?_
        refine fo_iald X hw (hm28 hE) dX5_findHomes_117 hf (fun hf => ?_)
        refine lv_iadd hx hb dX5_findHomes_118 ?_
        refine lv_iload_n hx hb dX5_findHomes_119 rfl (lv_at hl 1 rfl) ?_
        refine fb_ile (tgt := 32) hx hb dX5_findHomes_120 (by decide) hf (fun hf => ?_) (fun hf => ?_)
        · exact hrec11 _ _ _ hf _ _ _ (lv_sub hl [0, 1, 2, 3] rfl) hw
        refine lv_iload_n hx hb dX5_findHomes_123 rfl (lv_at hl 0 rfl) ?_
        refine lv_iload_n hx hb dX5_findHomes_124 rfl (lv_at hl 3 rfl) ?_
        refine lv_iconst (v := (1 : Int32)) hx hb dX5_findHomes_125 (by decide) ?_
        refine lv_isub hx hb dX5_findHomes_126 ?_
        refine fb_ine (tgt := 169) hx hb dX5_findHomes_127 (by decide) hf (fun hf => ?_) (fun hf => ?_)
        · refine fb_iinc (v := (1 : Int32)) (lv' := [(3, .int (x8 + (1 : Int32))), (2, .int x9), (0, .ref (eb E + 0)), (1, .int p1)]) hx hb dX5_findHomes_169 hl (k := 0) rfl (by decide) (by decide) rfl (fun ls hl => ?_)
          refine lv_aload_n hx hb dX5_findHomes_172 rfl (lv_at hl 2 rfl) ?_
          refine fo_gets X hw fc_X5 (hm0 hE) (k := 46) (d := 26) (n2 := 26) (by decide) rfl rfl q1564 dX5_findHomes_173 ?_
          refine lv_iload_n hx hb dX5_findHomes_176 rfl (lv_at hl 0 rfl) ?_
          refine lv_iconst (v := (-1 : Int32)) hx hb dX5_findHomes_177 (by decide) ?_
          refine fo_iast X hw (hm26 hE) dX5_findHomes_178 hf (fun st16 H locs hw hf => ?_)
          refine lv_goto (tgt := 32) hx hb dX5_findHomes_179 (by decide) ?_
          exact hrec11 _ _ _ hf _ _ _ (lv_sub hl [0, 1, 2, 3] rfl) hw
        refine lv_aload_n hx hb dX5_findHomes_130 rfl (lv_at hl 2 rfl) ?_
        refine fo_gets X hw fc_X5 (hm0 hE) (k := 49) (d := 29) (n2 := 29) (by decide) rfl rfl q1567 dX5_findHomes_131 ?_
        refine lv_iload_n hx hb dX5_findHomes_134 rfl (lv_at hl 3 rfl) ?_
        refine fo_iald X hw (hm29 hE) dX5_findHomes_135 hf (fun hf => ?_)
        refine fo_tI hf (fun x17 hf => ?_)
        refine lv_istore_n (lv' := [(2, .int x17), (3, .int x8), (0, .ref (eb E + 0)), (1, .int p1)]) hx hb dX5_findHomes_136 rfl hl (by decide) rfl (fun ls hl => ?_)
        refine lv_iconst (v := (0 : Int32)) hx hb dX5_findHomes_137 (by decide) ?_
        refine lv_istore (lv' := [(4, .int (0 : Int32)), (2, .int x17), (3, .int x8), (0, .ref (eb E + 0)), (1, .int p1)]) hx hb dX5_findHomes_138 hl (by decide) rfl (fun ls hl => ?_)
        refine lp2_e (P := fun x18 st19 => ∀ (H : Heap) (locs : List Loc) (ls : Array Slot), lv_has ls 5 [(4, .int x18), (2, .int x17), (3, .int x8), (0, .ref (eb E + 0)), (1, .int p1)] → fo_S E s st19 H locs → W p l e R s m args below meth c H locs 0 0 Q (F0 m 140 ls [])) (fun rec20 hrec20 x18 st19 hf => ?_) G _ _ hf H locs ls (lv_sub hl [0, 1, 2, 3, 4] rfl) hw
        intro H locs ls hl hw
        refine lv_iload hx hb dX5_findHomes_140 (lv_at hl 0 rfl) ?_
        refine lv_iload_n hx hb dX5_findHomes_142 rfl (lv_at hl 4 rfl) ?_
        refine fb_ige (tgt := 166) hx hb dX5_findHomes_143 (by decide) hf (fun hf => ?_) (fun hf => ?_)
        · refine lv_goto (tgt := 32) hx hb dX5_findHomes_166 (by decide) ?_
          exact hrec11 _ _ _ hf _ _ _ (lv_sub hl [2, 1, 3, 4] rfl) hw
        refine lv_aload_n hx hb dX5_findHomes_146 rfl (lv_at hl 3 rfl) ?_
        refine fo_gets X hw fc_X5 (hm0 hE) (k := 47) (d := 27) (n2 := 27) (by decide) rfl rfl q1565 dX5_findHomes_147 ?_
        refine lv_iload hx hb dX5_findHomes_150 (lv_at hl 0 rfl) ?_
        refine lv_aload_n hx hb dX5_findHomes_152 rfl (lv_at hl 3 rfl) ?_
        refine fo_gets X hw fc_X5 (hm0 hE) (k := 46) (d := 26) (n2 := 26) (by decide) rfl rfl q1564 dX5_findHomes_153 ?_
        refine lv_iload hx hb dX5_findHomes_156 (lv_at hl 0 rfl) ?_
        refine fo_iald X hw (hm26 hE) dX5_findHomes_158 hf (fun hf => ?_)
        refine fo_iast X hw (hm27 hE) dX5_findHomes_159 hf (fun st21 H locs hw hf => ?_)
        refine fb_iinc (v := (1 : Int32)) (lv' := [(4, .int (x18 + (1 : Int32))), (2, .int x17), (3, .int x8), (0, .ref (eb E + 0)), (1, .int p1)]) hx hb dX5_findHomes_160 hl (k := 0) rfl (by decide) (by decide) rfl (fun ls hl => ?_)
        refine lv_goto (tgt := 140) hx hb dX5_findHomes_163 (by decide) ?_
        exact hrec20 _ _ hf _ _ _ (lv_sub hl [0, 1, 2, 3, 4] rfl) hw
      refine fb_iinc (v := (-1 : Int32)) (lv' := [(3, .int (x8 + (-1 : Int32))), (2, .int x9), (0, .ref (eb E + 0)), (1, .int p1)]) hx hb dX5_findHomes_57 hl (k := 0) rfl (by decide) (by decide) rfl (fun ls hl => ?_)
      refine lv_goto (tgt := 32) hx hb dX5_findHomes_60 (by decide) ?_
      exact hrec11 _ _ _ hf _ _ _ (lv_sub hl [0, 1, 2, 3] rfl) hw
    clear ek
    refine fb_zne (tgt := 23) hx hb dX5_findHomes_16 (by decide) hf (fun hf => ?_) (fun hf => ?_)
    · refine lv_iconst (v := (0 : Int32)) hx hb dX5_findHomes_23 (by decide) ?_
      exact hk6 _ _ _ _ (lv_sub hl [0, 1, 2] rfl) hw hf
    refine lv_iconst (v := (-1 : Int32)) hx hb dX5_findHomes_19 (by decide) ?_
    refine lv_goto (tgt := 24) hx hb dX5_findHomes_20 (by decide) ?_
    exact hk6 _ _ _ _ (lv_sub hl [0, 1, 2] rfl) hw hf
  clear ek
  refine fb_zne (tgt := 13) hx hb dX5_findHomes_6 (by decide) hf (fun hf => ?_) (fun hf => ?_)
  · refine lv_iconst (v := (-1 : Int32)) hx hb dX5_findHomes_13 (by decide) ?_
    exact hk4 _ _ _ _ (lv_sub hl [0, 1] rfl) hw hf
  refine lv_iconst (v := (0 : Int32)) hx hb dX5_findHomes_9 (by decide) ?_
  refine lv_goto (tgt := 14) hx hb dX5_findHomes_10 (by decide) ?_
  exact hk4 _ _ _ _ (lv_sub hl [0, 1] rfl) hw hf

/-- ForestRoomsModel.homes -/
def fX5_homes (G : Nat) (p1 : Int32) (p2 : Int32) (st0 : fo_St) : Option (Int32 × fo_St) := lt_ (si_ st0 0 0 (0 : Int32)) (fun st1 => bd_ (fX5_in (p1.toInt64) (0 : Int64) (63 : Int64) st1) (fun x2 st3 => if x2 = 0 then some ((-1 : Int32), st3) else bd_ (fX5_in (p2.toInt64) (0 : Int64) (6 : Int64) st3) (fun x4 st5 => if x4 = 0 then some ((-1 : Int32), st5) else if p2 ≤ 0 then lp4_ (fun rec10 (x6 : Int32) (x7 : Int32) (x8 : Int32) (st9 : fo_St) => if (6 : Int32) ≤ x6 then bd_ (fX5_findHomes G x8 st9) (fun x11 st12 => if x11 = (-1 : Int32) then some (x11, st12) else if ¬ p2 = 0 then ck_ (fo_in x7 6) (some ((gi_ st12 27 x7.toNatClampNeg), st12)) else some (x11, st12)) else bd_ (fX5_is p1 x6 st9) (fun x13 st14 => if x13 = 0 then rec10 (x6 + (1 : Int32)) x7 x8 st14 else jn_ (fun (x15 : Int32) => ck_ (fo_in x8 6) (lt_ (si_ st14 25 x8.toNatClampNeg x6) (fun st17 => rec10 (x6 + (1 : Int32)) x15 (x8 + (1 : Int32)) st17))) (fun k16 => if ¬ x6 = (p2 - (1 : Int32)) then k16 x7 else k16 x8))) G (0 : Int32) (0 : Int32) (0 : Int32) st5 else bd_ (fX5_is p1 (p2 - (1 : Int32)) st5) (fun x18 st19 => if ¬ x18 = 0 then lp4_ (fun rec24 (x20 : Int32) (x21 : Int32) (x22 : Int32) (st23 : fo_St) => if (6 : Int32) ≤ x20 then bd_ (fX5_findHomes G x22 st23) (fun x25 st26 => if x25 = (-1 : Int32) then some (x25, st26) else if ¬ p2 = 0 then ck_ (fo_in x21 6) (some ((gi_ st26 27 x21.toNatClampNeg), st26)) else some (x25, st26)) else bd_ (fX5_is p1 x20 st23) (fun x27 st28 => if x27 = 0 then rec24 (x20 + (1 : Int32)) x21 x22 st28 else jn_ (fun (x29 : Int32) => ck_ (fo_in x22 6) (lt_ (si_ st28 25 x22.toNatClampNeg x20) (fun st31 => rec24 (x20 + (1 : Int32)) x29 (x22 + (1 : Int32)) st31))) (fun k30 => if ¬ x20 = (p2 - (1 : Int32)) then k30 x21 else k30 x22))) G (0 : Int32) (0 : Int32) (0 : Int32) st19 else some ((-1 : Int32), st19)))))
theorem hm_X5_homes : fo_M yX5_homes 2 := ⟨by decide +kernel, by decide +kernel, by decide +kernel, by decide +kernel⟩
set_option maxHeartbeats 4000000 in
theorem wX5_homes (l : Launch) (E : fo_E) (hE : ∀ n, et E n = tM_ n) (G : Nat) (p1 : Int32) (p2 : Int32) (st0 : fo_St) (rZ : Int32) (stZ : fo_St) (hf : fX5_homes G p1 p2 st0 = some (rZ, stZ)) : CTi l E yX5_homes (ws_ yX5_homes cX5_homes 6 (some .int)) ({ frames := 7, cells := 0, slots := 0, locals := 173 }) [.ref (eb E + 0), .int p1, .int p2] st0 rZ stZ := by
  refine fe_i hm_X5_homes (Nat.le_of_ble_eq_true rfl) (fun p e R s m args below meth c Q hRf hRl X hend ls hl hw => ?_)
  have hx := X.1.1
  have hb := X.1.2.1
  have hl : lv_has ls 6 [(0, .ref (eb E + 0)), (1, .int p1), (2, .int p2)] := hl
  unfold fX5_homes at hf
  generalize s.heap = H at hw ⊢
  generalize ([] : List Loc) = locs at hw ⊢
  refine lv_aload_n hx hb dX5_homes_0 rfl (lv_at hl 0 rfl) ?_
  refine lv_iconst (v := (0 : Int32)) hx hb dX5_homes_1 (by decide) ?_
  refine fo_puti X hw fc_X5 (hm0 hE) (k := 0) (by decide) rfl rfl q1518 ⟨rfl, rfl⟩ dX5_homes_2 hf (fun st1 H locs hw hf => ?_)
  refine lv_iload_n hx hb dX5_homes_5 rfl (lv_at hl 1 rfl) ?_
  refine lv_i2l (v := p1.toInt64) hx hb dX5_homes_6 rfl ?_
  refine lv_lconst (v := (0 : Int64)) hx hb dX5_homes_7 rfl ?_
  refine lv_ldc2 (v := (63 : Int64)) hx hb X.1.2.2.2.1 (X.1.2.2.2.2 _ q2086) dX5_homes_8 ?_
  refine fc_Si (rest := []) (As := [.long p1.toInt64, .long (0 : Int64), .long (63 : Int64)]) X hw hm_X5_in (lw_S q1722 q1723 q121 q1724) ⟨rfl, rfl⟩ ⟨by rw [hRf]; exact Nat.le_of_ble_eq_true rfl, by rw [hRl]; exact Nat.le_of_ble_eq_true rfl⟩ rfl rfl hl.1 (Nat.le_of_ble_eq_true rfl) dX5_homes_11 (fun rQ stQ hQ => wX5_in l E hE (p1.toInt64) (0 : Int64) (63 : Int64) st1 rQ stQ hQ) hf (fun x2 st3 H locs hw hf => ?_)
  refine fb_zeq (tgt := 43) hx hb dX5_homes_14 (by decide) hf (fun hf => ?_) (fun hf => ?_)
  · refine lv_iconst (v := (-1 : Int32)) hx hb dX5_homes_43 (by decide) ?_
    exact fd_i hend hw hf dX5_homes_44
  refine lv_iload_n hx hb dX5_homes_17 rfl (lv_at hl 2 rfl) ?_
  refine lv_i2l (v := p2.toInt64) hx hb dX5_homes_18 rfl ?_
  refine lv_lconst (v := (0 : Int64)) hx hb dX5_homes_19 rfl ?_
  refine lv_ldc2 (v := (6 : Int64)) hx hb X.1.2.2.2.1 (X.1.2.2.2.2 _ q2087) dX5_homes_20 ?_
  refine fc_Si (rest := []) (As := [.long p2.toInt64, .long (0 : Int64), .long (6 : Int64)]) X hw hm_X5_in (lw_S q1722 q1723 q121 q1724) ⟨rfl, rfl⟩ ⟨by rw [hRf]; exact Nat.le_of_ble_eq_true rfl, by rw [hRl]; exact Nat.le_of_ble_eq_true rfl⟩ rfl rfl hl.1 (Nat.le_of_ble_eq_true rfl) dX5_homes_23 (fun rQ stQ hQ => wX5_in l E hE (p2.toInt64) (0 : Int64) (6 : Int64) st3 rQ stQ hQ) hf (fun x4 st5 H locs hw hf => ?_)
  refine fb_zeq (tgt := 43) hx hb dX5_homes_26 (by decide) hf (fun hf => ?_) (fun hf => ?_)
  · refine lv_iconst (v := (-1 : Int32)) hx hb dX5_homes_43 (by decide) ?_
    exact fd_i hend hw hf dX5_homes_44
  refine lv_iload_n hx hb dX5_homes_29 rfl (lv_at hl 2 rfl) ?_
  refine fb_zle (tgt := 45) hx hb dX5_homes_30 (by decide) hf (fun hf => ?_) (fun hf => ?_)
  · refine lv_iconst (v := (0 : Int32)) hx hb dX5_homes_45 (by decide) ?_
    refine lv_istore_n (lv' := [(3, .int (0 : Int32)), (0, .ref (eb E + 0)), (1, .int p1), (2, .int p2)]) hx hb dX5_homes_46 rfl hl (by decide) rfl (fun ls hl => ?_)
    refine lv_iconst (v := (0 : Int32)) hx hb dX5_homes_47 (by decide) ?_
    refine lv_istore (lv' := [(4, .int (0 : Int32)), (3, .int (0 : Int32)), (0, .ref (eb E + 0)), (1, .int p1), (2, .int p2)]) hx hb dX5_homes_48 hl (by decide) rfl (fun ls hl => ?_)
    refine lv_iconst (v := (0 : Int32)) hx hb dX5_homes_50 (by decide) ?_
    refine lv_istore (lv' := [(5, .int (0 : Int32)), (4, .int (0 : Int32)), (3, .int (0 : Int32)), (0, .ref (eb E + 0)), (1, .int p1), (2, .int p2)]) hx hb dX5_homes_51 hl (by decide) rfl (fun ls hl => ?_)
    refine lp4_e (P := fun x6 x7 x8 st9 => ∀ (H : Heap) (locs : List Loc) (ls : Array Slot), lv_has ls 6 [(5, .int x6), (4, .int x7), (3, .int x8), (0, .ref (eb E + 0)), (1, .int p1), (2, .int p2)] → fo_S E s st9 H locs → W p l e R s m args below meth c H locs 0 0 Q (F0 m 53 ls [])) (fun rec10 hrec10 x6 x7 x8 st9 hf => ?_) G _ _ _ _ hf H locs ls (lv_sub hl [0, 1, 2, 3, 4, 5] rfl) hw
    intro H locs ls hl hw
    refine lv_iload hx hb dX5_homes_53 (lv_at hl 0 rfl) ?_
    refine lv_bipush (v := (6 : Int32)) hx hb dX5_homes_55 (by decide) ?_
    refine fb_ige (tgt := 102) hx hb dX5_homes_57 (by decide) hf (fun hf => ?_) (fun hf => ?_)
    · refine lv_aload_n hx hb dX5_homes_102 rfl (lv_at hl 3 rfl) ?_
      refine lv_iload_n hx hb dX5_homes_103 rfl (lv_at hl 2 rfl) ?_
      refine fc_Vi (rest := []) (As := [.int x8]) X hw hm_X5_findHomes (lw_V q2088 q2090 qs94 q121 q2091) ⟨rfl, rfl⟩ ⟨by rw [hRf]; exact Nat.le_of_ble_eq_true rfl, by rw [hRl]; exact Nat.le_of_ble_eq_true rfl⟩ fc_X5 rfl (hm0 hE) rfl rfl hl.1 (Nat.le_of_ble_eq_true rfl) dX5_homes_104 (fun rQ stQ hQ => wX5_findHomes l E hE G x8 st9 rQ stQ hQ) hf (fun x11 st12 H locs hw hf => ?_)
      refine lv_istore (lv' := [(5, .int x11), (4, .int x7), (3, .int x8), (0, .ref (eb E + 0)), (1, .int p1), (2, .int p2)]) hx hb dX5_homes_107 hl (by decide) rfl (fun ls hl => ?_)
      refine lv_iload hx hb dX5_homes_109 (lv_at hl 0 rfl) ?_
      refine lv_iconst (v := (-1 : Int32)) hx hb dX5_homes_111 (by decide) ?_
      refine fb_ieq (tgt := 119) hx hb dX5_homes_112 (by decide) hf (fun hf => ?_) (fun hf => ?_)
      · refine lv_iload hx hb dX5_homes_119 (lv_at hl 0 rfl) ?_
        refine lv_goto (tgt := 131) hx hb dX5_homes_121 (by decide) ?_
        exact fd_i hend hw hf dX5_homes_131
      refine lv_iload_n hx hb dX5_homes_115 rfl (lv_at hl 5 rfl) ?_
      refine fb_zne (tgt := 124) hx hb dX5_homes_116 (by decide) hf (fun hf => ?_) (fun hf => ?_)
      · refine lv_aload_n hx hb dX5_homes_124 rfl (lv_at hl 3 rfl) ?_
        refine fo_gets X hw fc_X5 (hm0 hE) (k := 47) (d := 27) (n2 := 27) (by decide) rfl rfl q1565 dX5_homes_125 ?_
        refine lv_iload hx hb dX5_homes_128 (lv_at hl 1 rfl) ?_
        refine fo_iald X hw (hm27 hE) dX5_homes_130 hf (fun hf => ?_)
        exact fd_i hend hw hf dX5_homes_131
      refine lv_iload hx hb dX5_homes_119 (lv_at hl 0 rfl) ?_
      refine lv_goto (tgt := 131) hx hb dX5_homes_121 (by decide) ?_
      exact fd_i hend hw hf dX5_homes_131
    refine lv_iload_n hx hb dX5_homes_60 rfl (lv_at hl 4 rfl) ?_
    refine lv_iload hx hb dX5_homes_61 (lv_at hl 0 rfl) ?_
    refine fc_Si (rest := []) (As := [.int p1, .int x6]) X hw hm_X5_is (lw_S q2079 q2080 q121 q2081) ⟨rfl, rfl⟩ ⟨by rw [hRf]; exact Nat.le_of_ble_eq_true rfl, by rw [hRl]; exact Nat.le_of_ble_eq_true rfl⟩ rfl rfl hl.1 (Nat.le_of_ble_eq_true rfl) dX5_homes_63 (fun rQ stQ hQ => wX5_is l E hE p1 x6 st9 rQ stQ hQ) hf (fun x13 st14 H locs hw hf => ?_)
    refine fb_zeq (tgt := 96) hx hb dX5_homes_66 (by decide) hf (fun hf => ?_) (fun hf => ?_)
    · refine fb_iinc (v := (1 : Int32)) (lv' := [(5, .int (x6 + (1 : Int32))), (4, .int x7), (3, .int x8), (0, .ref (eb E + 0)), (1, .int p1), (2, .int p2)]) hx hb dX5_homes_96 hl (k := 0) rfl (by decide) (by decide) rfl (fun ls hl => ?_)
      refine lv_goto (tgt := 53) hx hb dX5_homes_99 (by decide) ?_
      exact hrec10 _ _ _ _ hf _ _ _ (lv_sub hl [0, 1, 2, 3, 4, 5] rfl) hw
    refine lv_iload hx hb dX5_homes_69 (lv_at hl 0 rfl) ?_
    refine lv_iload_n hx hb dX5_homes_71 rfl (lv_at hl 5 rfl) ?_
    refine lv_iconst (v := (1 : Int32)) hx hb dX5_homes_72 (by decide) ?_
    refine lv_isub hx hb dX5_homes_73 ?_
    refine jn_e hf (fun k16 ek hf => ?_)
    have hk16 : ∀ (x15 : Int32) (H : Heap) (locs : List Loc) (ls : Array Slot), lv_has ls 6 [(5, .int x6), (3, .int x8), (0, .ref (eb E + 0)), (1, .int p1), (2, .int p2)] → fo_S E s st14 H locs → k16 x15 = some (rZ, stZ) → W p l e R s m args below meth c H locs 0 0 Q (F0 m 83 ls [.int x15]) := by
      intro x15 H locs ls hl hw hf
      rw [ek] at hf
      refine lv_istore (lv' := [(4, .int x15), (5, .int x6), (3, .int x8), (0, .ref (eb E + 0)), (1, .int p1), (2, .int p2)]) hx hb dX5_homes_83 hl (by decide) rfl (fun ls hl => ?_)
      refine lv_aload_n hx hb dX5_homes_85 rfl (lv_at hl 3 rfl) ?_
      refine fo_gets X hw fc_X5 (hm0 hE) (k := 45) (d := 25) (n2 := 25) (by decide) rfl rfl q1563 dX5_homes_86 ?_
      refine lv_iload_n hx hb dX5_homes_89 rfl (lv_at hl 2 rfl) ?_
      refine lv_iload hx hb dX5_homes_90 (lv_at hl 1 rfl) ?_
      refine fo_iast X hw (hm25 hE) dX5_homes_92 hf (fun st17 H locs hw hf => ?_)
      refine fb_iinc (v := (1 : Int32)) (lv' := [(3, .int (x8 + (1 : Int32))), (4, .int x15), (5, .int x6), (0, .ref (eb E + 0)), (1, .int p1), (2, .int p2)]) hx hb dX5_homes_93 hl (k := 2) rfl (by decide) (by decide) rfl (fun ls hl => ?_)
      refine fb_iinc (v := (1 : Int32)) (lv' := [(5, .int (x6 + (1 : Int32))), (3, .int (x8 + (1 : Int32))), (4, .int x15), (0, .ref (eb E + 0)), (1, .int p1), (2, .int p2)]) hx hb dX5_homes_96 hl (k := 2) rfl (by decide) (by decide) rfl (fun ls hl => ?_)
      refine lv_goto (tgt := 53) hx hb dX5_homes_99 (by decide) ?_
      exact hrec10 _ _ _ _ hf _ _ _ (lv_sub hl [0, 2, 1, 3, 4, 5] rfl) hw
    clear ek
    refine fb_ine (tgt := 81) hx hb dX5_homes_74 (by decide) hf (fun hf => ?_) (fun hf => ?_)
    · refine lv_iload hx hb dX5_homes_81 (lv_at hl 1 rfl) ?_
      exact hk16 _ _ _ _ (lv_sub hl [0, 2, 3, 4, 5] rfl) hw hf
    refine lv_iload_n hx hb dX5_homes_77 rfl (lv_at hl 2 rfl) ?_
    refine lv_goto (tgt := 83) hx hb dX5_homes_78 (by decide) ?_
    exact hk16 _ _ _ _ (lv_sub hl [0, 2, 3, 4, 5] rfl) hw hf
  refine lv_iload_n hx hb dX5_homes_33 rfl (lv_at hl 1 rfl) ?_
  refine lv_iload_n hx hb dX5_homes_34 rfl (lv_at hl 2 rfl) ?_
  refine lv_iconst (v := (1 : Int32)) hx hb dX5_homes_35 (by decide) ?_
  refine lv_isub hx hb dX5_homes_36 ?_
  refine fc_Si (rest := []) (As := [.int p1, .int (p2 - (1 : Int32))]) X hw hm_X5_is (lw_S q2079 q2080 q121 q2081) ⟨rfl, rfl⟩ ⟨by rw [hRf]; exact Nat.le_of_ble_eq_true rfl, by rw [hRl]; exact Nat.le_of_ble_eq_true rfl⟩ rfl rfl hl.1 (Nat.le_of_ble_eq_true rfl) dX5_homes_37 (fun rQ stQ hQ => wX5_is l E hE p1 (p2 - (1 : Int32)) st5 rQ stQ hQ) hf (fun x18 st19 H locs hw hf => ?_)
  refine fb_zne (tgt := 45) hx hb dX5_homes_40 (by decide) hf (fun hf => ?_) (fun hf => ?_)
  · refine lv_iconst (v := (0 : Int32)) hx hb dX5_homes_45 (by decide) ?_
    refine lv_istore_n (lv' := [(3, .int (0 : Int32)), (0, .ref (eb E + 0)), (1, .int p1), (2, .int p2)]) hx hb dX5_homes_46 rfl hl (by decide) rfl (fun ls hl => ?_)
    refine lv_iconst (v := (0 : Int32)) hx hb dX5_homes_47 (by decide) ?_
    refine lv_istore (lv' := [(4, .int (0 : Int32)), (3, .int (0 : Int32)), (0, .ref (eb E + 0)), (1, .int p1), (2, .int p2)]) hx hb dX5_homes_48 hl (by decide) rfl (fun ls hl => ?_)
    refine lv_iconst (v := (0 : Int32)) hx hb dX5_homes_50 (by decide) ?_
    refine lv_istore (lv' := [(5, .int (0 : Int32)), (4, .int (0 : Int32)), (3, .int (0 : Int32)), (0, .ref (eb E + 0)), (1, .int p1), (2, .int p2)]) hx hb dX5_homes_51 hl (by decide) rfl (fun ls hl => ?_)
    refine lp4_e (P := fun x20 x21 x22 st23 => ∀ (H : Heap) (locs : List Loc) (ls : Array Slot), lv_has ls 6 [(5, .int x20), (4, .int x21), (3, .int x22), (0, .ref (eb E + 0)), (1, .int p1), (2, .int p2)] → fo_S E s st23 H locs → W p l e R s m args below meth c H locs 0 0 Q (F0 m 53 ls [])) (fun rec24 hrec24 x20 x21 x22 st23 hf => ?_) G _ _ _ _ hf H locs ls (lv_sub hl [0, 1, 2, 3, 4, 5] rfl) hw
    intro H locs ls hl hw
    refine lv_iload hx hb dX5_homes_53 (lv_at hl 0 rfl) ?_
    refine lv_bipush (v := (6 : Int32)) hx hb dX5_homes_55 (by decide) ?_
    refine fb_ige (tgt := 102) hx hb dX5_homes_57 (by decide) hf (fun hf => ?_) (fun hf => ?_)
    · refine lv_aload_n hx hb dX5_homes_102 rfl (lv_at hl 3 rfl) ?_
      refine lv_iload_n hx hb dX5_homes_103 rfl (lv_at hl 2 rfl) ?_
      refine fc_Vi (rest := []) (As := [.int x22]) X hw hm_X5_findHomes (lw_V q2088 q2090 qs94 q121 q2091) ⟨rfl, rfl⟩ ⟨by rw [hRf]; exact Nat.le_of_ble_eq_true rfl, by rw [hRl]; exact Nat.le_of_ble_eq_true rfl⟩ fc_X5 rfl (hm0 hE) rfl rfl hl.1 (Nat.le_of_ble_eq_true rfl) dX5_homes_104 (fun rQ stQ hQ => wX5_findHomes l E hE G x22 st23 rQ stQ hQ) hf (fun x25 st26 H locs hw hf => ?_)
      refine lv_istore (lv' := [(5, .int x25), (4, .int x21), (3, .int x22), (0, .ref (eb E + 0)), (1, .int p1), (2, .int p2)]) hx hb dX5_homes_107 hl (by decide) rfl (fun ls hl => ?_)
      refine lv_iload hx hb dX5_homes_109 (lv_at hl 0 rfl) ?_
      refine lv_iconst (v := (-1 : Int32)) hx hb dX5_homes_111 (by decide) ?_
      refine fb_ieq (tgt := 119) hx hb dX5_homes_112 (by decide) hf (fun hf => ?_) (fun hf => ?_)
      · refine lv_iload hx hb dX5_homes_119 (lv_at hl 0 rfl) ?_
        refine lv_goto (tgt := 131) hx hb dX5_homes_121 (by decide) ?_
        exact fd_i hend hw hf dX5_homes_131
      refine lv_iload_n hx hb dX5_homes_115 rfl (lv_at hl 5 rfl) ?_
      refine fb_zne (tgt := 124) hx hb dX5_homes_116 (by decide) hf (fun hf => ?_) (fun hf => ?_)
      · refine lv_aload_n hx hb dX5_homes_124 rfl (lv_at hl 3 rfl) ?_
        refine fo_gets X hw fc_X5 (hm0 hE) (k := 47) (d := 27) (n2 := 27) (by decide) rfl rfl q1565 dX5_homes_125 ?_
        refine lv_iload hx hb dX5_homes_128 (lv_at hl 1 rfl) ?_
        refine fo_iald X hw (hm27 hE) dX5_homes_130 hf (fun hf => ?_)
        exact fd_i hend hw hf dX5_homes_131
      refine lv_iload hx hb dX5_homes_119 (lv_at hl 0 rfl) ?_
      refine lv_goto (tgt := 131) hx hb dX5_homes_121 (by decide) ?_
      exact fd_i hend hw hf dX5_homes_131
    refine lv_iload_n hx hb dX5_homes_60 rfl (lv_at hl 4 rfl) ?_
    refine lv_iload hx hb dX5_homes_61 (lv_at hl 0 rfl) ?_
    refine fc_Si (rest := []) (As := [.int p1, .int x20]) X hw hm_X5_is (lw_S q2079 q2080 q121 q2081) ⟨rfl, rfl⟩ ⟨by rw [hRf]; exact Nat.le_of_ble_eq_true rfl, by rw [hRl]; exact Nat.le_of_ble_eq_true rfl⟩ rfl rfl hl.1 (Nat.le_of_ble_eq_true rfl) dX5_homes_63 (fun rQ stQ hQ => wX5_is l E hE p1 x20 st23 rQ stQ hQ) hf (fun x27 st28 H locs hw hf => ?_)
    refine fb_zeq (tgt := 96) hx hb dX5_homes_66 (by decide) hf (fun hf => ?_) (fun hf => ?_)
    · refine fb_iinc (v := (1 : Int32)) (lv' := [(5, .int (x20 + (1 : Int32))), (4, .int x21), (3, .int x22), (0, .ref (eb E + 0)), (1, .int p1), (2, .int p2)]) hx hb dX5_homes_96 hl (k := 0) rfl (by decide) (by decide) rfl (fun ls hl => ?_)
      refine lv_goto (tgt := 53) hx hb dX5_homes_99 (by decide) ?_
      exact hrec24 _ _ _ _ hf _ _ _ (lv_sub hl [0, 1, 2, 3, 4, 5] rfl) hw
    refine lv_iload hx hb dX5_homes_69 (lv_at hl 0 rfl) ?_
    refine lv_iload_n hx hb dX5_homes_71 rfl (lv_at hl 5 rfl) ?_
    refine lv_iconst (v := (1 : Int32)) hx hb dX5_homes_72 (by decide) ?_
    refine lv_isub hx hb dX5_homes_73 ?_
    refine jn_e hf (fun k30 ek hf => ?_)
    have hk30 : ∀ (x29 : Int32) (H : Heap) (locs : List Loc) (ls : Array Slot), lv_has ls 6 [(5, .int x20), (3, .int x22), (0, .ref (eb E + 0)), (1, .int p1), (2, .int p2)] → fo_S E s st28 H locs → k30 x29 = some (rZ, stZ) → W p l e R s m args below meth c H locs 0 0 Q (F0 m 83 ls [.int x29]) := by
      intro x29 H locs ls hl hw hf
      rw [ek] at hf
      refine lv_istore (lv' := [(4, .int x29), (5, .int x20), (3, .int x22), (0, .ref (eb E + 0)), (1, .int p1), (2, .int p2)]) hx hb dX5_homes_83 hl (by decide) rfl (fun ls hl => ?_)
      refine lv_aload_n hx hb dX5_homes_85 rfl (lv_at hl 3 rfl) ?_
      refine fo_gets X hw fc_X5 (hm0 hE) (k := 45) (d := 25) (n2 := 25) (by decide) rfl rfl q1563 dX5_homes_86 ?_
      refine lv_iload_n hx hb dX5_homes_89 rfl (lv_at hl 2 rfl) ?_
      refine lv_iload hx hb dX5_homes_90 (lv_at hl 1 rfl) ?_
      refine fo_iast X hw (hm25 hE) dX5_homes_92 hf (fun st31 H locs hw hf => ?_)
      refine fb_iinc (v := (1 : Int32)) (lv' := [(3, .int (x22 + (1 : Int32))), (4, .int x29), (5, .int x20), (0, .ref (eb E + 0)), (1, .int p1), (2, .int p2)]) hx hb dX5_homes_93 hl (k := 2) rfl (by decide) (by decide) rfl (fun ls hl => ?_)
      refine fb_iinc (v := (1 : Int32)) (lv' := [(5, .int (x20 + (1 : Int32))), (3, .int (x22 + (1 : Int32))), (4, .int x29), (0, .ref (eb E + 0)), (1, .int p1), (2, .int p2)]) hx hb dX5_homes_96 hl (k := 2) rfl (by decide) (by decide) rfl (fun ls hl => ?_)
      refine lv_goto (tgt := 53) hx hb dX5_homes_99 (by decide) ?_
      exact hrec24 _ _ _ _ hf _ _ _ (lv_sub hl [0, 2, 1, 3, 4, 5] rfl) hw
    clear ek
    refine fb_ine (tgt := 81) hx hb dX5_homes_74 (by decide) hf (fun hf => ?_) (fun hf => ?_)
    · refine lv_iload hx hb dX5_homes_81 (lv_at hl 1 rfl) ?_
      exact hk30 _ _ _ _ (lv_sub hl [0, 2, 3, 4, 5] rfl) hw hf
    refine lv_iload_n hx hb dX5_homes_77 rfl (lv_at hl 2 rfl) ?_
    refine lv_goto (tgt := 83) hx hb dX5_homes_78 (by decide) ?_
    exact hk30 _ _ _ _ (lv_sub hl [0, 2, 3, 4, 5] rfl) hw hf
  refine lv_iconst (v := (-1 : Int32)) hx hb dX5_homes_43 (by decide) ?_
  exact fd_i hend hw hf dX5_homes_44

/-- ForestRoomsModel.sight -/
def fX5_sight (p1 : Int32) (p2 : Int32) (p3 : Int32) (st0 : fo_St) : Option (Int32 × fo_St) := lt_ (si_ st0 0 0 (0 : Int32)) (fun st1 => bd_ (fX5_in (p1.toInt64) (0 : Int64) (9 : Int64) st1) (fun x2 st3 => if x2 = 0 then bd_ (fX5_tell (-1 : Int32) st3) (fun x4 st5 => some (x4, st5)) else bd_ (fX5_isRoom p2 st3) (fun x6 st7 => if x6 = 0 then bd_ (fX5_tell (-1 : Int32) st7) (fun x8 st9 => some (x8, st9)) else bd_ (fX5_in (p3.toInt64) (-1 : Int64) (5 : Int64) st7) (fun x10 st11 => if ¬ x10 = 0 then lI_ (gi_ st11 2 (0 : Int32).toNatClampNeg) (fun x12 => if ¬ x12 = (8 : Int32) then ck_ (fo_in ((116 : Int32) + ((3 : Int32) * x12)) 5540) (lt_ (si_ st11 2 ((116 : Int32) + ((3 : Int32) * x12)).toNatClampNeg p1) (fun st13 => ck_ (fo_in (((116 : Int32) + ((3 : Int32) * x12)) + (1 : Int32)) 5540) (lt_ (si_ st13 2 (((116 : Int32) + ((3 : Int32) * x12)) + (1 : Int32)).toNatClampNeg p2) (fun st14 => ck_ (fo_in (((116 : Int32) + ((3 : Int32) * x12)) + (2 : Int32)) 5540) (lt_ (si_ st14 2 (((116 : Int32) + ((3 : Int32) * x12)) + (2 : Int32)).toNatClampNeg p3) (fun st15 => lt_ (si_ st15 2 (0 : Int32).toNatClampNeg ((gi_ st15 2 (0 : Int32).toNatClampNeg) + (1 : Int32))) (fun st16 => bd_ (fX5_tell (x12 + (1 : Int32)) st16) (fun x17 st18 => some (x17, st18))))))))) else bd_ (fX5_tell (-5 : Int32) st11) (fun x19 st20 => some (x19, st20))) else bd_ (fX5_tell (-1 : Int32) st11) (fun x21 st22 => some (x21, st22))))))
theorem hm_X5_sight : fo_M yX5_sight 3 := ⟨by decide +kernel, by decide +kernel, by decide +kernel, by decide +kernel⟩
set_option maxHeartbeats 4000000 in
theorem wX5_sight (l : Launch) (E : fo_E) (hE : ∀ n, et E n = tM_ n) (p1 : Int32) (p2 : Int32) (p3 : Int32) (st0 : fo_St) (rZ : Int32) (stZ : fo_St) (hf : fX5_sight p1 p2 p3 st0 = some (rZ, stZ)) : CTi l E yX5_sight (ws_ yX5_sight cX5_sight 5 (some .int)) ({ frames := 2, cells := 0, slots := 0, locals := 45 }) [.ref (eb E + 0), .int p1, .int p2, .int p3] st0 rZ stZ := by
  refine fe_i hm_X5_sight (Nat.le_of_ble_eq_true rfl) (fun p e R s m args below meth c Q hRf hRl X hend ls hl hw => ?_)
  have hx := X.1.1
  have hb := X.1.2.1
  have hl : lv_has ls 5 [(0, .ref (eb E + 0)), (1, .int p1), (2, .int p2), (3, .int p3)] := hl
  unfold fX5_sight at hf
  generalize s.heap = H at hw ⊢
  generalize ([] : List Loc) = locs at hw ⊢
  refine lv_aload_n hx hb dX5_sight_0 rfl (lv_at hl 0 rfl) ?_
  refine lv_iconst (v := (0 : Int32)) hx hb dX5_sight_1 (by decide) ?_
  refine fo_puti X hw fc_X5 (hm0 hE) (k := 0) (by decide) rfl rfl q1518 ⟨rfl, rfl⟩ dX5_sight_2 hf (fun st1 H locs hw hf => ?_)
  refine lv_iload_n hx hb dX5_sight_5 rfl (lv_at hl 1 rfl) ?_
  refine lv_i2l (v := p1.toInt64) hx hb dX5_sight_6 rfl ?_
  refine lv_lconst (v := (0 : Int64)) hx hb dX5_sight_7 rfl ?_
  refine lv_ldc2 (v := (9 : Int64)) hx hb X.1.2.2.2.1 (X.1.2.2.2.2 _ q1744) dX5_sight_8 ?_
  refine fc_Si (rest := []) (As := [.long p1.toInt64, .long (0 : Int64), .long (9 : Int64)]) X hw hm_X5_in (lw_S q1722 q1723 q121 q1724) ⟨rfl, rfl⟩ ⟨by rw [hRf]; exact Nat.le_of_ble_eq_true rfl, by rw [hRl]; exact Nat.le_of_ble_eq_true rfl⟩ rfl rfl hl.1 (Nat.le_of_ble_eq_true rfl) dX5_sight_11 (fun rQ stQ hQ => wX5_in l E hE (p1.toInt64) (0 : Int64) (9 : Int64) st1 rQ stQ hQ) hf (fun x2 st3 H locs hw hf => ?_)
  refine fb_zeq (tgt := 38) hx hb dX5_sight_14 (by decide) hf (fun hf => ?_) (fun hf => ?_)
  · refine lv_aload_n hx hb dX5_sight_38 rfl (lv_at hl 0 rfl) ?_
    refine lv_iconst (v := (-1 : Int32)) hx hb dX5_sight_39 (by decide) ?_
    refine fc_Vi (rest := []) (As := [.int (-1 : Int32)]) X hw hm_X5_tell (lw_V q1710 q1712 qs38 q121 q1713) ⟨rfl, rfl⟩ ⟨by rw [hRf]; exact Nat.le_of_ble_eq_true rfl, by rw [hRl]; exact Nat.le_of_ble_eq_true rfl⟩ fc_X5 rfl (hm0 hE) rfl rfl hl.1 (Nat.le_of_ble_eq_true rfl) dX5_sight_40 (fun rQ stQ hQ => wX5_tell l E hE (-1 : Int32) st3 rQ stQ hQ) hf (fun x4 st5 H locs hw hf => ?_)
    exact fd_i hend hw hf dX5_sight_43
  refine lv_iload_n hx hb dX5_sight_17 rfl (lv_at hl 2 rfl) ?_
  refine fc_Si (rest := []) (As := [.int p2]) X hw hm_X5_isRoom (lw_S q1737 q1738 q121 q1739) ⟨rfl, rfl⟩ ⟨by rw [hRf]; exact Nat.le_of_ble_eq_true rfl, by rw [hRl]; exact Nat.le_of_ble_eq_true rfl⟩ rfl rfl hl.1 (Nat.le_of_ble_eq_true rfl) dX5_sight_18 (fun rQ stQ hQ => wX5_isRoom l E hE p2 st3 rQ stQ hQ) hf (fun x6 st7 H locs hw hf => ?_)
  refine fb_zeq (tgt := 38) hx hb dX5_sight_21 (by decide) hf (fun hf => ?_) (fun hf => ?_)
  · refine lv_aload_n hx hb dX5_sight_38 rfl (lv_at hl 0 rfl) ?_
    refine lv_iconst (v := (-1 : Int32)) hx hb dX5_sight_39 (by decide) ?_
    refine fc_Vi (rest := []) (As := [.int (-1 : Int32)]) X hw hm_X5_tell (lw_V q1710 q1712 qs38 q121 q1713) ⟨rfl, rfl⟩ ⟨by rw [hRf]; exact Nat.le_of_ble_eq_true rfl, by rw [hRl]; exact Nat.le_of_ble_eq_true rfl⟩ fc_X5 rfl (hm0 hE) rfl rfl hl.1 (Nat.le_of_ble_eq_true rfl) dX5_sight_40 (fun rQ stQ hQ => wX5_tell l E hE (-1 : Int32) st7 rQ stQ hQ) hf (fun x8 st9 H locs hw hf => ?_)
    exact fd_i hend hw hf dX5_sight_43
  refine lv_iload_n hx hb dX5_sight_24 rfl (lv_at hl 3 rfl) ?_
  refine lv_i2l (v := p3.toInt64) hx hb dX5_sight_25 rfl ?_
  refine lv_ldc2 (v := (-1 : Int64)) hx hb X.1.2.2.2.1 (X.1.2.2.2.2 _ q1778) dX5_sight_26 ?_
  refine lv_ldc2 (v := (5 : Int64)) hx hb X.1.2.2.2.1 (X.1.2.2.2.2 _ q1804) dX5_sight_29 ?_
  refine fc_Si (rest := []) (As := [.long p3.toInt64, .long (-1 : Int64), .long (5 : Int64)]) X hw hm_X5_in (lw_S q1722 q1723 q121 q1724) ⟨rfl, rfl⟩ ⟨by rw [hRf]; exact Nat.le_of_ble_eq_true rfl, by rw [hRl]; exact Nat.le_of_ble_eq_true rfl⟩ rfl rfl hl.1 (Nat.le_of_ble_eq_true rfl) dX5_sight_32 (fun rQ stQ hQ => wX5_in l E hE (p3.toInt64) (-1 : Int64) (5 : Int64) st7 rQ stQ hQ) hf (fun x10 st11 H locs hw hf => ?_)
  refine fb_zne (tgt := 44) hx hb dX5_sight_35 (by decide) hf (fun hf => ?_) (fun hf => ?_)
  · refine lv_aload_n hx hb dX5_sight_44 rfl (lv_at hl 0 rfl) ?_
    refine fo_gets X hw fc_X5 (hm0 hE) (k := 3) (d := 2) (n2 := 2) (by decide) rfl rfl q1521 dX5_sight_45 ?_
    refine lv_iconst (v := (0 : Int32)) hx hb dX5_sight_48 (by decide) ?_
    refine fo_ialdK X hw (hm2 hE) dX5_sight_49 (by decide) ?_
    refine fo_tI hf (fun x12 hf => ?_)
    refine lv_istore (lv' := [(4, .int x12), (0, .ref (eb E + 0)), (1, .int p1), (2, .int p2), (3, .int p3)]) hx hb dX5_sight_50 hl (by decide) rfl (fun ls hl => ?_)
    refine lv_iload hx hb dX5_sight_52 (lv_at hl 0 rfl) ?_
    refine lv_bipush (v := (8 : Int32)) hx hb dX5_sight_54 (by decide) ?_
    refine fb_ine (tgt := 66) hx hb dX5_sight_56 (by decide) hf (fun hf => ?_) (fun hf => ?_)
    · refine lv_aload_n hx hb dX5_sight_66 rfl (lv_at hl 1 rfl) ?_
      refine fo_gets X hw fc_X5 (hm0 hE) (k := 3) (d := 2) (n2 := 2) (by decide) rfl rfl q1521 dX5_sight_67 ?_
      refine lv_bipush (v := (116 : Int32)) hx hb dX5_sight_70 (by decide) ?_
      refine lv_iconst (v := (3 : Int32)) hx hb dX5_sight_72 (by decide) ?_
      refine lv_iload hx hb dX5_sight_73 (lv_at hl 0 rfl) ?_
      refine lv_imul hx hb dX5_sight_75 ?_
      refine lv_iadd hx hb dX5_sight_76 ?_
      refine lv_iload_n hx hb dX5_sight_77 rfl (lv_at hl 2 rfl) ?_
      refine fo_iast X hw (hm2 hE) dX5_sight_78 hf (fun st13 H locs hw hf => ?_)
      refine lv_aload_n hx hb dX5_sight_79 rfl (lv_at hl 1 rfl) ?_
      refine fo_gets X hw fc_X5 (hm0 hE) (k := 3) (d := 2) (n2 := 2) (by decide) rfl rfl q1521 dX5_sight_80 ?_
      refine lv_bipush (v := (116 : Int32)) hx hb dX5_sight_83 (by decide) ?_
      refine lv_iconst (v := (3 : Int32)) hx hb dX5_sight_85 (by decide) ?_
      refine lv_iload hx hb dX5_sight_86 (lv_at hl 0 rfl) ?_
      refine lv_imul hx hb dX5_sight_88 ?_
      refine lv_iadd hx hb dX5_sight_89 ?_
      refine lv_iconst (v := (1 : Int32)) hx hb dX5_sight_90 (by decide) ?_
      refine lv_iadd hx hb dX5_sight_91 ?_
      refine lv_iload_n hx hb dX5_sight_92 rfl (lv_at hl 3 rfl) ?_
      refine fo_iast X hw (hm2 hE) dX5_sight_93 hf (fun st14 H locs hw hf => ?_)
      refine lv_aload_n hx hb dX5_sight_94 rfl (lv_at hl 1 rfl) ?_
      refine fo_gets X hw fc_X5 (hm0 hE) (k := 3) (d := 2) (n2 := 2) (by decide) rfl rfl q1521 dX5_sight_95 ?_
      refine lv_bipush (v := (116 : Int32)) hx hb dX5_sight_98 (by decide) ?_
      refine lv_iconst (v := (3 : Int32)) hx hb dX5_sight_100 (by decide) ?_
      refine lv_iload hx hb dX5_sight_101 (lv_at hl 0 rfl) ?_
      refine lv_imul hx hb dX5_sight_103 ?_
      refine lv_iadd hx hb dX5_sight_104 ?_
      refine lv_iconst (v := (2 : Int32)) hx hb dX5_sight_105 (by decide) ?_
      refine lv_iadd hx hb dX5_sight_106 ?_
      refine lv_iload_n hx hb dX5_sight_107 rfl (lv_at hl 4 rfl) ?_
      refine fo_iast X hw (hm2 hE) dX5_sight_108 hf (fun st15 H locs hw hf => ?_)
      refine lv_aload_n hx hb dX5_sight_109 rfl (lv_at hl 1 rfl) ?_
      refine fo_gets X hw fc_X5 (hm0 hE) (k := 3) (d := 2) (n2 := 2) (by decide) rfl rfl q1521 dX5_sight_110 ?_
      refine lv_iconst (v := (0 : Int32)) hx hb dX5_sight_113 (by decide) ?_
      refine lv_dup2_11 hx hb dX5_sight_114 rfl rfl ?_
      refine fo_ialdK X hw (hm2 hE) dX5_sight_115 (by decide) ?_
      refine lv_iconst (v := (1 : Int32)) hx hb dX5_sight_116 (by decide) ?_
      refine lv_iadd hx hb dX5_sight_117 ?_
      refine fo_iastK X hw (hm2 hE) dX5_sight_118 (by decide) hf (fun st16 H locs hw hf => ?_)
      refine lv_aload_n hx hb dX5_sight_119 rfl (lv_at hl 1 rfl) ?_
      refine lv_iload hx hb dX5_sight_120 (lv_at hl 0 rfl) ?_
      refine lv_iconst (v := (1 : Int32)) hx hb dX5_sight_122 (by decide) ?_
      refine lv_iadd hx hb dX5_sight_123 ?_
      refine fc_Vi (rest := []) (As := [.int (x12 + (1 : Int32))]) X hw hm_X5_tell (lw_V q1710 q1712 qs38 q121 q1713) ⟨rfl, rfl⟩ ⟨by rw [hRf]; exact Nat.le_of_ble_eq_true rfl, by rw [hRl]; exact Nat.le_of_ble_eq_true rfl⟩ fc_X5 rfl (hm0 hE) rfl rfl hl.1 (Nat.le_of_ble_eq_true rfl) dX5_sight_124 (fun rQ stQ hQ => wX5_tell l E hE (x12 + (1 : Int32)) st16 rQ stQ hQ) hf (fun x17 st18 H locs hw hf => ?_)
      exact fd_i hend hw hf dX5_sight_127
    refine lv_aload_n hx hb dX5_sight_59 rfl (lv_at hl 1 rfl) ?_
    refine lv_bipush (v := (-5 : Int32)) hx hb dX5_sight_60 (by decide) ?_
    refine fc_Vi (rest := []) (As := [.int (-5 : Int32)]) X hw hm_X5_tell (lw_V q1710 q1712 qs38 q121 q1713) ⟨rfl, rfl⟩ ⟨by rw [hRf]; exact Nat.le_of_ble_eq_true rfl, by rw [hRl]; exact Nat.le_of_ble_eq_true rfl⟩ fc_X5 rfl (hm0 hE) rfl rfl hl.1 (Nat.le_of_ble_eq_true rfl) dX5_sight_62 (fun rQ stQ hQ => wX5_tell l E hE (-5 : Int32) st11 rQ stQ hQ) hf (fun x19 st20 H locs hw hf => ?_)
    exact fd_i hend hw hf dX5_sight_65
  refine lv_aload_n hx hb dX5_sight_38 rfl (lv_at hl 0 rfl) ?_
  refine lv_iconst (v := (-1 : Int32)) hx hb dX5_sight_39 (by decide) ?_
  refine fc_Vi (rest := []) (As := [.int (-1 : Int32)]) X hw hm_X5_tell (lw_V q1710 q1712 qs38 q121 q1713) ⟨rfl, rfl⟩ ⟨by rw [hRf]; exact Nat.le_of_ble_eq_true rfl, by rw [hRl]; exact Nat.le_of_ble_eq_true rfl⟩ fc_X5 rfl (hm0 hE) rfl rfl hl.1 (Nat.le_of_ble_eq_true rfl) dX5_sight_40 (fun rQ stQ hQ => wX5_tell l E hE (-1 : Int32) st11 rQ stQ hQ) hf (fun x21 st22 H locs hw hf => ?_)
  exact fd_i hend hw hf dX5_sight_43

/-- ForestRoomsModel.forget -/
def fX5_forget (st0 : fo_St) : Option (Int32 × fo_St) := lt_ (si_ st0 0 0 (0 : Int32)) (fun st1 => lI_ (gi_ st1 2 (0 : Int32).toNatClampNeg) (fun x2 => lt_ (si_ st1 2 (0 : Int32).toNatClampNeg (0 : Int32)) (fun st3 => some (x2, st3))))
theorem hm_X5_forget : fo_M yX5_forget 0 := ⟨by decide +kernel, by decide +kernel, by decide +kernel, by decide +kernel⟩
set_option maxHeartbeats 4000000 in
theorem wX5_forget (l : Launch) (E : fo_E) (hE : ∀ n, et E n = tM_ n) (st0 : fo_St) (rZ : Int32) (stZ : fo_St) (hf : fX5_forget st0 = some (rZ, stZ)) : CTi l E yX5_forget (ws_ yX5_forget cX5_forget 2 (some .int)) ({ frames := 0, cells := 0, slots := 0, locals := 0 }) [.ref (eb E + 0)] st0 rZ stZ := by
  refine fe_i hm_X5_forget (Nat.le_of_ble_eq_true rfl) (fun p e R s m args below meth c Q hRf hRl X hend ls hl hw => ?_)
  have hx := X.1.1
  have hb := X.1.2.1
  have hl : lv_has ls 2 [(0, .ref (eb E + 0))] := hl
  unfold fX5_forget at hf
  generalize s.heap = H at hw ⊢
  generalize ([] : List Loc) = locs at hw ⊢
  refine lv_aload_n hx hb dX5_forget_0 rfl (lv_at hl 0 rfl) ?_
  refine lv_iconst (v := (0 : Int32)) hx hb dX5_forget_1 (by decide) ?_
  refine fo_puti X hw fc_X5 (hm0 hE) (k := 0) (by decide) rfl rfl q1518 ⟨rfl, rfl⟩ dX5_forget_2 hf (fun st1 H locs hw hf => ?_)
  refine lv_aload_n hx hb dX5_forget_5 rfl (lv_at hl 0 rfl) ?_
  refine fo_gets X hw fc_X5 (hm0 hE) (k := 3) (d := 2) (n2 := 2) (by decide) rfl rfl q1521 dX5_forget_6 ?_
  refine lv_iconst (v := (0 : Int32)) hx hb dX5_forget_9 (by decide) ?_
  refine fo_ialdK X hw (hm2 hE) dX5_forget_10 (by decide) ?_
  refine fo_tI hf (fun x2 hf => ?_)
  refine lv_istore_n (lv' := [(1, .int x2), (0, .ref (eb E + 0))]) hx hb dX5_forget_11 rfl hl (by decide) rfl (fun ls hl => ?_)
  refine lv_aload_n hx hb dX5_forget_12 rfl (lv_at hl 1 rfl) ?_
  refine fo_gets X hw fc_X5 (hm0 hE) (k := 3) (d := 2) (n2 := 2) (by decide) rfl rfl q1521 dX5_forget_13 ?_
  refine lv_iconst (v := (0 : Int32)) hx hb dX5_forget_16 (by decide) ?_
  refine lv_iconst (v := (0 : Int32)) hx hb dX5_forget_17 (by decide) ?_
  refine fo_iastK X hw (hm2 hE) dX5_forget_18 (by decide) hf (fun st3 H locs hw hf => ?_)
  refine lv_iload_n hx hb dX5_forget_19 rfl (lv_at hl 0 rfl) ?_
  exact fd_i hend hw hf dX5_forget_20

/-- ForestRoomsModel.hide -/
def fX5_hide (p1 : Int32) (st0 : fo_St) : Option fo_St := ck_ (fo_in ((8 : Int32) + (p1 / (6 : Int32))) 5540) (lt_ (si_ st0 2 ((8 : Int32) + (p1 / (6 : Int32))).toNatClampNeg (irem_ p1 (6 : Int32))) (fun st1 => ck_ (fo_in ((24 : Int32) + (p1 / (6 : Int32))) 5540) (lt_ (si_ st1 2 ((24 : Int32) + (p1 / (6 : Int32))).toNatClampNeg (1 : Int32)) (fun st2 => some st2))))
theorem hm_X5_hide : fo_M yX5_hide 1 := ⟨by decide +kernel, by decide +kernel, by decide +kernel, by decide +kernel⟩
set_option maxHeartbeats 4000000 in
theorem wX5_hide (l : Launch) (E : fo_E) (hE : ∀ n, et E n = tM_ n) (p1 : Int32) (st0 : fo_St) (stZ : fo_St) (hf : fX5_hide p1 st0 = some stZ) : CTv l E yX5_hide (ws_ yX5_hide cX5_hide 2 none) ({ frames := 0, cells := 0, slots := 0, locals := 0 }) [.ref (eb E + 0), .int p1] st0 stZ := by
  refine fe_v hm_X5_hide (Nat.le_of_ble_eq_true rfl) (fun p e R s m args below meth c Q hRf hRl X hend ls hl hw => ?_)
  have hx := X.1.1
  have hb := X.1.2.1
  have hl : lv_has ls 2 [(0, .ref (eb E + 0)), (1, .int p1)] := hl
  unfold fX5_hide at hf
  generalize s.heap = H at hw ⊢
  generalize ([] : List Loc) = locs at hw ⊢
  refine lv_aload_n hx hb dX5_hide_0 rfl (lv_at hl 0 rfl) ?_
  refine fo_gets X hw fc_X5 (hm0 hE) (k := 3) (d := 2) (n2 := 2) (by decide) rfl rfl q1521 dX5_hide_1 ?_
  refine lv_bipush (v := (8 : Int32)) hx hb dX5_hide_4 (by decide) ?_
  refine lv_iload_n hx hb dX5_hide_6 rfl (lv_at hl 1 rfl) ?_
  refine lv_bipush (v := (6 : Int32)) hx hb dX5_hide_7 (by decide) ?_
  refine fb_idivK hx hb dX5_hide_9 (by decide) ?_
  refine lv_iadd hx hb dX5_hide_10 ?_
  refine lv_iload_n hx hb dX5_hide_11 rfl (lv_at hl 1 rfl) ?_
  refine lv_bipush (v := (6 : Int32)) hx hb dX5_hide_12 (by decide) ?_
  refine fb_iremK hx hb dX5_hide_14 (by decide) ?_
  refine fo_iast X hw (hm2 hE) dX5_hide_15 hf (fun st1 H locs hw hf => ?_)
  refine lv_aload_n hx hb dX5_hide_16 rfl (lv_at hl 0 rfl) ?_
  refine fo_gets X hw fc_X5 (hm0 hE) (k := 3) (d := 2) (n2 := 2) (by decide) rfl rfl q1521 dX5_hide_17 ?_
  refine lv_bipush (v := (24 : Int32)) hx hb dX5_hide_20 (by decide) ?_
  refine lv_iload_n hx hb dX5_hide_22 rfl (lv_at hl 1 rfl) ?_
  refine lv_bipush (v := (6 : Int32)) hx hb dX5_hide_23 (by decide) ?_
  refine fb_idivK hx hb dX5_hide_25 (by decide) ?_
  refine lv_iadd hx hb dX5_hide_26 ?_
  refine lv_iconst (v := (1 : Int32)) hx hb dX5_hide_27 (by decide) ?_
  refine fo_iast X hw (hm2 hE) dX5_hide_28 hf (fun st2 H locs hw hf => ?_)
  exact fd_v hend hw hf dX5_hide_29

/-- ForestRoomsModel.isAsSeen -/
def fX5_isAsSeen (G : Nat) (p1 : Int32) (st0 : fo_St) : Option (Int32 × fo_St) := lp3_ (fun rec4 (x1 : Int32) (x2 : Int32) (st3 : fo_St) => if (gi_ st3 2 (0 : Int32).toNatClampNeg) ≤ x1 then ck_ (decide (x2 = 0 ∨ x2 = 1)) (some (x2, st3)) else lI_ ((116 : Int32) + ((3 : Int32) * x1)) (fun x5 => if x2 = 0 then rec4 (x1 + (1 : Int32)) (0 : Int32) st3 else ck_ (fo_in x5 5540) (if ¬ (gi_ st3 2 x5.toNatClampNeg) = p1 then rec4 (x1 + (1 : Int32)) (1 : Int32) st3 else ck_ (fo_in (x5 + (1 : Int32)) 5540) (ck_ (fo_in ((8 : Int32) + (gi_ st3 2 (x5 + (1 : Int32)).toNatClampNeg)) 5540) (ck_ (fo_in (x5 + (2 : Int32)) 5540) (if ¬ (gi_ st3 2 ((8 : Int32) + (gi_ st3 2 (x5 + (1 : Int32)).toNatClampNeg)).toNatClampNeg) = (gi_ st3 2 (x5 + (2 : Int32)).toNatClampNeg) then rec4 (x1 + (1 : Int32)) (0 : Int32) st3 else rec4 (x1 + (1 : Int32)) (1 : Int32) st3)))))) G (0 : Int32) (1 : Int32) st0
theorem hm_X5_isAsSeen : fo_M yX5_isAsSeen 1 := ⟨by decide +kernel, by decide +kernel, by decide +kernel, by decide +kernel⟩
set_option maxHeartbeats 4000000 in
theorem wX5_isAsSeen (l : Launch) (E : fo_E) (hE : ∀ n, et E n = tM_ n) (G : Nat) (p1 : Int32) (st0 : fo_St) (rZ : Int32) (stZ : fo_St) (hf : fX5_isAsSeen G p1 st0 = some (rZ, stZ)) : CTi l E yX5_isAsSeen (ws_ yX5_isAsSeen cX5_isAsSeen 5 (some .boolean)) ({ frames := 0, cells := 0, slots := 0, locals := 0 }) [.ref (eb E + 0), .int p1] st0 rZ stZ := by
  refine fe_z hm_X5_isAsSeen (Nat.le_of_ble_eq_true rfl) (fun p e R s m args below meth c Q hRf hRl X hend ls hl hw => ?_)
  have hx := X.1.1
  have hb := X.1.2.1
  have hl : lv_has ls 5 [(0, .ref (eb E + 0)), (1, .int p1)] := hl
  unfold fX5_isAsSeen at hf
  generalize s.heap = H at hw ⊢
  generalize ([] : List Loc) = locs at hw ⊢
  refine lv_iconst (v := (1 : Int32)) hx hb dX5_isAsSeen_0 (by decide) ?_
  refine lv_istore_n (lv' := [(2, .int (1 : Int32)), (0, .ref (eb E + 0)), (1, .int p1)]) hx hb dX5_isAsSeen_1 rfl hl (by decide) rfl (fun ls hl => ?_)
  refine lv_iconst (v := (0 : Int32)) hx hb dX5_isAsSeen_2 (by decide) ?_
  refine lv_istore_n (lv' := [(3, .int (0 : Int32)), (2, .int (1 : Int32)), (0, .ref (eb E + 0)), (1, .int p1)]) hx hb dX5_isAsSeen_3 rfl hl (by decide) rfl (fun ls hl => ?_)
  refine lp3_e (P := fun x1 x2 st3 => ∀ (H : Heap) (locs : List Loc) (ls : Array Slot), lv_has ls 5 [(3, .int x1), (2, .int x2), (0, .ref (eb E + 0)), (1, .int p1)] → fo_S E s st3 H locs → W p l e R s m args below meth c H locs 0 0 Q (F0 m 4 ls [])) (fun rec4 hrec4 x1 x2 st3 hf => ?_) G _ _ _ hf H locs ls (lv_sub hl [0, 1, 2, 3] rfl) hw
  intro H locs ls hl hw
  refine lv_iload_n hx hb dX5_isAsSeen_4 rfl (lv_at hl 0 rfl) ?_
  refine lv_aload_n hx hb dX5_isAsSeen_5 rfl (lv_at hl 2 rfl) ?_
  refine fo_gets X hw fc_X5 (hm0 hE) (k := 3) (d := 2) (n2 := 2) (by decide) rfl rfl q1521 dX5_isAsSeen_6 ?_
  refine lv_iconst (v := (0 : Int32)) hx hb dX5_isAsSeen_9 (by decide) ?_
  refine fo_ialdK X hw (hm2 hE) dX5_isAsSeen_10 (by decide) ?_
  refine fb_ige (tgt := 78) hx hb dX5_isAsSeen_11 (by decide) hf (fun hf => ?_) (fun hf => ?_)
  · refine lv_iload_n hx hb dX5_isAsSeen_78 rfl (lv_at hl 1 rfl) ?_
    obtain ⟨hz, hf⟩ := ck_e hf
    exact fd_z hend hw (fo_z hz).1 hf dX5_isAsSeen_79
  refine lv_bipush (v := (116 : Int32)) hx hb dX5_isAsSeen_14 (by decide) ?_
  refine lv_iconst (v := (3 : Int32)) hx hb dX5_isAsSeen_16 (by decide) ?_
  refine lv_iload_n hx hb dX5_isAsSeen_17 rfl (lv_at hl 0 rfl) ?_
  refine lv_imul hx hb dX5_isAsSeen_18 ?_
  refine lv_iadd hx hb dX5_isAsSeen_19 ?_
  refine fo_tI hf (fun x5 hf => ?_)
  refine lv_istore (lv' := [(4, .int x5), (3, .int x1), (2, .int x2), (0, .ref (eb E + 0)), (1, .int p1)]) hx hb dX5_isAsSeen_20 hl (by decide) rfl (fun ls hl => ?_)
  refine lv_iload_n hx hb dX5_isAsSeen_22 rfl (lv_at hl 2 rfl) ?_
  refine fb_zeq (tgt := 70) hx hb dX5_isAsSeen_23 (by decide) hf (fun hf => ?_) (fun hf => ?_)
  · refine lv_iconst (v := (0 : Int32)) hx hb dX5_isAsSeen_70 (by decide) ?_
    refine lv_istore_n (lv' := [(2, .int (0 : Int32)), (4, .int x5), (3, .int x1), (0, .ref (eb E + 0)), (1, .int p1)]) hx hb dX5_isAsSeen_71 rfl hl (by decide) rfl (fun ls hl => ?_)
    refine fb_iinc (v := (1 : Int32)) (lv' := [(3, .int (x1 + (1 : Int32))), (2, .int (0 : Int32)), (4, .int x5), (0, .ref (eb E + 0)), (1, .int p1)]) hx hb dX5_isAsSeen_72 hl (k := 2) rfl (by decide) (by decide) rfl (fun ls hl => ?_)
    refine lv_goto (tgt := 4) hx hb dX5_isAsSeen_75 (by decide) ?_
    exact hrec4 _ _ _ hf _ _ _ (lv_sub hl [0, 1, 3, 4] rfl) hw
  refine lv_aload_n hx hb dX5_isAsSeen_26 rfl (lv_at hl 3 rfl) ?_
  refine fo_gets X hw fc_X5 (hm0 hE) (k := 3) (d := 2) (n2 := 2) (by decide) rfl rfl q1521 dX5_isAsSeen_27 ?_
  refine lv_iload hx hb dX5_isAsSeen_30 (lv_at hl 0 rfl) ?_
  refine fo_iald X hw (hm2 hE) dX5_isAsSeen_32 hf (fun hf => ?_)
  refine lv_iload_n hx hb dX5_isAsSeen_33 rfl (lv_at hl 4 rfl) ?_
  refine fb_ine (tgt := 66) hx hb dX5_isAsSeen_34 (by decide) hf (fun hf => ?_) (fun hf => ?_)
  · refine lv_iconst (v := (1 : Int32)) hx hb dX5_isAsSeen_66 (by decide) ?_
    refine lv_goto (tgt := 71) hx hb dX5_isAsSeen_67 (by decide) ?_
    refine lv_istore_n (lv' := [(2, .int (1 : Int32)), (4, .int x5), (3, .int x1), (0, .ref (eb E + 0)), (1, .int p1)]) hx hb dX5_isAsSeen_71 rfl hl (by decide) rfl (fun ls hl => ?_)
    refine fb_iinc (v := (1 : Int32)) (lv' := [(3, .int (x1 + (1 : Int32))), (2, .int (1 : Int32)), (4, .int x5), (0, .ref (eb E + 0)), (1, .int p1)]) hx hb dX5_isAsSeen_72 hl (k := 2) rfl (by decide) (by decide) rfl (fun ls hl => ?_)
    refine lv_goto (tgt := 4) hx hb dX5_isAsSeen_75 (by decide) ?_
    exact hrec4 _ _ _ hf _ _ _ (lv_sub hl [0, 1, 3, 4] rfl) hw
  refine lv_aload_n hx hb dX5_isAsSeen_37 rfl (lv_at hl 3 rfl) ?_
  refine fo_gets X hw fc_X5 (hm0 hE) (k := 3) (d := 2) (n2 := 2) (by decide) rfl rfl q1521 dX5_isAsSeen_38 ?_
  refine lv_bipush (v := (8 : Int32)) hx hb dX5_isAsSeen_41 (by decide) ?_
  refine lv_aload_n hx hb dX5_isAsSeen_43 rfl (lv_at hl 3 rfl) ?_
  refine fo_gets X hw fc_X5 (hm0 hE) (k := 3) (d := 2) (n2 := 2) (by decide) rfl rfl q1521 dX5_isAsSeen_44 ?_
  refine lv_iload hx hb dX5_isAsSeen_47 (lv_at hl 0 rfl) ?_
  refine lv_iconst (v := (1 : Int32)) hx hb dX5_isAsSeen_49 (by decide) ?_
  refine lv_iadd hx hb dX5_isAsSeen_50 ?_
  refine fo_iald X hw (hm2 hE) dX5_isAsSeen_51 hf (fun hf => ?_)
  refine lv_iadd hx hb dX5_isAsSeen_52 ?_
  refine fo_iald X hw (hm2 hE) dX5_isAsSeen_53 hf (fun hf => ?_)
  refine lv_aload_n hx hb dX5_isAsSeen_54 rfl (lv_at hl 3 rfl) ?_
  refine fo_gets X hw fc_X5 (hm0 hE) (k := 3) (d := 2) (n2 := 2) (by decide) rfl rfl q1521 dX5_isAsSeen_55 ?_
  refine lv_iload hx hb dX5_isAsSeen_58 (lv_at hl 0 rfl) ?_
  refine lv_iconst (v := (2 : Int32)) hx hb dX5_isAsSeen_60 (by decide) ?_
  refine lv_iadd hx hb dX5_isAsSeen_61 ?_
  refine fo_iald X hw (hm2 hE) dX5_isAsSeen_62 hf (fun hf => ?_)
  refine fb_ine (tgt := 70) hx hb dX5_isAsSeen_63 (by decide) hf (fun hf => ?_) (fun hf => ?_)
  · refine lv_iconst (v := (0 : Int32)) hx hb dX5_isAsSeen_70 (by decide) ?_
    refine lv_istore_n (lv' := [(2, .int (0 : Int32)), (4, .int x5), (3, .int x1), (0, .ref (eb E + 0)), (1, .int p1)]) hx hb dX5_isAsSeen_71 rfl hl (by decide) rfl (fun ls hl => ?_)
    refine fb_iinc (v := (1 : Int32)) (lv' := [(3, .int (x1 + (1 : Int32))), (2, .int (0 : Int32)), (4, .int x5), (0, .ref (eb E + 0)), (1, .int p1)]) hx hb dX5_isAsSeen_72 hl (k := 2) rfl (by decide) (by decide) rfl (fun ls hl => ?_)
    refine lv_goto (tgt := 4) hx hb dX5_isAsSeen_75 (by decide) ?_
    exact hrec4 _ _ _ hf _ _ _ (lv_sub hl [0, 1, 3, 4] rfl) hw
  refine lv_iconst (v := (1 : Int32)) hx hb dX5_isAsSeen_66 (by decide) ?_
  refine lv_goto (tgt := 71) hx hb dX5_isAsSeen_67 (by decide) ?_
  refine lv_istore_n (lv' := [(2, .int (1 : Int32)), (4, .int x5), (3, .int x1), (0, .ref (eb E + 0)), (1, .int p1)]) hx hb dX5_isAsSeen_71 rfl hl (by decide) rfl (fun ls hl => ?_)
  refine fb_iinc (v := (1 : Int32)) (lv' := [(3, .int (x1 + (1 : Int32))), (2, .int (1 : Int32)), (4, .int x5), (0, .ref (eb E + 0)), (1, .int p1)]) hx hb dX5_isAsSeen_72 hl (k := 2) rfl (by decide) (by decide) rfl (fun ls hl => ?_)
  refine lv_goto (tgt := 4) hx hb dX5_isAsSeen_75 (by decide) ?_
  exact hrec4 _ _ _ hf _ _ _ (lv_sub hl [0, 1, 3, 4] rfl) hw

/-- ForestRoomsModel.isHidden -/
def fX5_isHidden (G : Nat) (p1 : Int32) (st0 : fo_St) : Option (Int32 × fo_St) := bd_ (fX5_isTree (p1 / (6 : Int32)) st0) (fun x1 st2 => if x1 = 0 then lp3_ (fun rec6 (x3 : Int32) (x4 : Int32) (st5 : fo_St) => if (gi_ st5 2 (0 : Int32).toNatClampNeg) ≤ x3 then bv_ (fX5_keepAll G (16 : Int32) st5) (fun st8 => bv_ (fX5_hide p1 st8) (fun st10 => bd_ (fX5_isAsSeen G (0 : Int32) st10) (fun x11 st12 => jn_ (fun (x13 : Int32) (st14 : fo_St) => bv_ (fX5_putBack G (16 : Int32) st14) (fun st17 => ck_ (decide (x13 = 0 ∨ x13 = 1)) (some (x13, st17)))) (fun k15 => lp3_ (fun rec21 (x18 : Int32) (x19 : Int32) (st20 : fo_St) => if x4 < x18 then k15 x19 st20 else if x19 = 0 then k15 x19 st20 else bd_ (fX5_passIt G st20) (fun x22 st23 => bd_ (fX5_isAsSeen G x18 st23) (fun x24 st25 => rec21 (x18 + (1 : Int32)) x24 st25))) G (1 : Int32) x11 st12)))) else ck_ (fo_in ((116 : Int32) + ((3 : Int32) * x3)) 5540) (if (gi_ st5 2 ((116 : Int32) + ((3 : Int32) * x3)).toNatClampNeg) ≤ x4 then rec6 (x3 + (1 : Int32)) x4 st5 else ck_ (fo_in ((116 : Int32) + ((3 : Int32) * x3)) 5540) (lI_ (gi_ st5 2 ((116 : Int32) + ((3 : Int32) * x3)).toNatClampNeg) (fun x26 => rec6 (x3 + (1 : Int32)) x26 st5)))) G (0 : Int32) (0 : Int32) st2 else some ((0 : Int32), st2))
theorem hm_X5_isHidden : fo_M yX5_isHidden 1 := ⟨by decide +kernel, by decide +kernel, by decide +kernel, by decide +kernel⟩
set_option maxHeartbeats 4000000 in
theorem wX5_isHidden (l : Launch) (E : fo_E) (hE : ∀ n, et E n = tM_ n) (G : Nat) (p1 : Int32) (st0 : fo_St) (rZ : Int32) (stZ : fo_St) (hf : fX5_isHidden G p1 st0 = some (rZ, stZ)) : CTi l E yX5_isHidden (ws_ yX5_isHidden cX5_isHidden 5 (some .boolean)) ({ frames := 7, cells := 0, slots := 0, locals := 171 }) [.ref (eb E + 0), .int p1] st0 rZ stZ := by
  refine fe_z hm_X5_isHidden (Nat.le_of_ble_eq_true rfl) (fun p e R s m args below meth c Q hRf hRl X hend ls hl hw => ?_)
  have hx := X.1.1
  have hb := X.1.2.1
  have hl : lv_has ls 5 [(0, .ref (eb E + 0)), (1, .int p1)] := hl
  unfold fX5_isHidden at hf
  generalize s.heap = H at hw ⊢
  generalize ([] : List Loc) = locs at hw ⊢
  refine lv_aload_n hx hb dX5_isHidden_0 rfl (lv_at hl 0 rfl) ?_
  refine lv_iload_n hx hb dX5_isHidden_1 rfl (lv_at hl 1 rfl) ?_
  refine lv_bipush (v := (6 : Int32)) hx hb dX5_isHidden_2 (by decide) ?_
  refine fb_idivK hx hb dX5_isHidden_4 (by decide) ?_
  refine fc_Vi (rest := []) (As := [.int (p1 / (6 : Int32))]) X hw hm_X5_isTree (lw_V q1757 q1759 qs43 q121 q1760) ⟨rfl, rfl⟩ ⟨by rw [hRf]; exact Nat.le_of_ble_eq_true rfl, by rw [hRl]; exact Nat.le_of_ble_eq_true rfl⟩ fc_X5 rfl (hm0 hE) rfl rfl hl.1 (Nat.le_of_ble_eq_true rfl) dX5_isHidden_5 (fun rQ stQ hQ => wX5_isTree l E hE (p1 / (6 : Int32)) st0 rQ stQ hQ) hf (fun x1 st2 H locs hw hf => ?_)
  refine fb_zeq (tgt := 13) hx hb dX5_isHidden_8 (by decide) hf (fun hf => ?_) (fun hf => ?_)
  · refine lv_iconst (v := (0 : Int32)) hx hb dX5_isHidden_13 (by decide) ?_
    refine lv_istore_n (lv' := [(2, .int (0 : Int32)), (0, .ref (eb E + 0)), (1, .int p1)]) hx hb dX5_isHidden_14 rfl hl (by decide) rfl (fun ls hl => ?_)
    refine lv_iconst (v := (0 : Int32)) hx hb dX5_isHidden_15 (by decide) ?_
    refine lv_istore_n (lv' := [(3, .int (0 : Int32)), (2, .int (0 : Int32)), (0, .ref (eb E + 0)), (1, .int p1)]) hx hb dX5_isHidden_16 rfl hl (by decide) rfl (fun ls hl => ?_)
    refine lp3_e (P := fun x3 x4 st5 => ∀ (H : Heap) (locs : List Loc) (ls : Array Slot), lv_has ls 5 [(3, .int x3), (2, .int x4), (0, .ref (eb E + 0)), (1, .int p1)] → fo_S E s st5 H locs → W p l e R s m args below meth c H locs 0 0 Q (F0 m 17 ls [])) (fun rec6 hrec6 x3 x4 st5 hf => ?_) G _ _ _ hf H locs ls (lv_sub hl [0, 1, 2, 3] rfl) hw
    intro H locs ls hl hw
    refine lv_iload_n hx hb dX5_isHidden_17 rfl (lv_at hl 0 rfl) ?_
    refine lv_aload_n hx hb dX5_isHidden_18 rfl (lv_at hl 2 rfl) ?_
    refine fo_gets X hw fc_X5 (hm0 hE) (k := 3) (d := 2) (n2 := 2) (by decide) rfl rfl q1521 dX5_isHidden_19 ?_
    refine lv_iconst (v := (0 : Int32)) hx hb dX5_isHidden_22 (by decide) ?_
    refine fo_ialdK X hw (hm2 hE) dX5_isHidden_23 (by decide) ?_
    refine fb_ige (tgt := 64) hx hb dX5_isHidden_24 (by decide) hf (fun hf => ?_) (fun hf => ?_)
    · refine lv_aload_n hx hb dX5_isHidden_64 rfl (lv_at hl 2 rfl) ?_
      refine lv_bipush (v := (16 : Int32)) hx hb dX5_isHidden_65 (by decide) ?_
      refine fc_Vv (rest := []) (As := [.int (16 : Int32)]) X hw hm_X5_keepAll (lw_V q1999 q2001 qs83 q121 q2002) ⟨rfl, rfl⟩ ⟨by rw [hRf]; exact Nat.le_of_ble_eq_true rfl, by rw [hRl]; exact Nat.le_of_ble_eq_true rfl⟩ fc_X5 rfl (hm0 hE) rfl rfl hl.1 (Nat.le_of_ble_eq_true rfl) dX5_isHidden_67 (fun stQ hQ => wX5_keepAll l E hE G (16 : Int32) st5 stQ hQ) hf (fun st8 H locs hw hf => ?_)
      refine lv_aload_n hx hb dX5_isHidden_70 rfl (lv_at hl 2 rfl) ?_
      refine lv_iload_n hx hb dX5_isHidden_71 rfl (lv_at hl 3 rfl) ?_
      refine fc_Vv (rest := []) (As := [.int p1]) X hw hm_X5_hide (lw_V q2116 q2118 qs98 q121 q2119) ⟨rfl, rfl⟩ ⟨by rw [hRf]; exact Nat.le_of_ble_eq_true rfl, by rw [hRl]; exact Nat.le_of_ble_eq_true rfl⟩ fc_X5 rfl (hm0 hE) rfl rfl hl.1 (Nat.le_of_ble_eq_true rfl) dX5_isHidden_72 (fun stQ hQ => wX5_hide l E hE p1 st8 stQ hQ) hf (fun st10 H locs hw hf => ?_)
      refine lv_aload_n hx hb dX5_isHidden_75 rfl (lv_at hl 2 rfl) ?_
      refine lv_iconst (v := (0 : Int32)) hx hb dX5_isHidden_76 (by decide) ?_
      refine fc_Vi (rest := []) (As := [.int (0 : Int32)]) X hw hm_X5_isAsSeen (lw_V q2120 q2122 qs99 q121 q2123) ⟨rfl, rfl⟩ ⟨by rw [hRf]; exact Nat.le_of_ble_eq_true rfl, by rw [hRl]; exact Nat.le_of_ble_eq_true rfl⟩ fc_X5 rfl (hm0 hE) rfl rfl hl.1 (Nat.le_of_ble_eq_true rfl) dX5_isHidden_77 (fun rQ stQ hQ => wX5_isAsSeen l E hE G (0 : Int32) st10 rQ stQ hQ) hf (fun x11 st12 H locs hw hf => ?_)
      refine lv_istore_n (lv' := [(3, .int x11), (2, .int x4), (0, .ref (eb E + 0)), (1, .int p1)]) hx hb dX5_isHidden_80 rfl hl (by decide) rfl (fun ls hl => ?_)
      refine lv_iconst (v := (1 : Int32)) hx hb dX5_isHidden_81 (by decide) ?_
      refine lv_istore (lv' := [(4, .int (1 : Int32)), (3, .int x11), (2, .int x4), (0, .ref (eb E + 0)), (1, .int p1)]) hx hb dX5_isHidden_82 hl (by decide) rfl (fun ls hl => ?_)
      refine jn_e hf (fun k15 ek hf => ?_)
      have hk15 : ∀ (x13 : Int32) (st14 : fo_St) (H : Heap) (locs : List Loc) (ls : Array Slot), lv_has ls 5 [(3, .int x13), (0, .ref (eb E + 0))] → fo_S E s st14 H locs → k15 x13 st14 = some (rZ, stZ) → W p l e R s m args below meth c H locs 0 0 Q (F0 m 112 ls []) := by
        intro x13 st14 H locs ls hl hw hf
        rw [ek] at hf
        refine lv_aload_n hx hb dX5_isHidden_112 rfl (lv_at hl 1 rfl) ?_
        refine lv_bipush (v := (16 : Int32)) hx hb dX5_isHidden_113 (by decide) ?_
        refine fc_Vv (rest := []) (As := [.int (16 : Int32)]) X hw hm_X5_putBack (lw_V q1714 q1716 qs39 q121 q1717) ⟨rfl, rfl⟩ ⟨by rw [hRf]; exact Nat.le_of_ble_eq_true rfl, by rw [hRl]; exact Nat.le_of_ble_eq_true rfl⟩ fc_X5 rfl (hm0 hE) rfl rfl hl.1 (Nat.le_of_ble_eq_true rfl) dX5_isHidden_115 (fun stQ hQ => wX5_putBack l E hE G (16 : Int32) st14 stQ hQ) hf (fun st17 H locs hw hf => ?_)
        refine lv_iload_n hx hb dX5_isHidden_118 rfl (lv_at hl 0 rfl) ?_
        obtain ⟨hz, hf⟩ := ck_e hf
        exact fd_z hend hw (fo_z hz).1 hf dX5_isHidden_119
      clear ek
      refine lp3_e (P := fun x18 x19 st20 => ∀ (H : Heap) (locs : List Loc) (ls : Array Slot), lv_has ls 5 [(4, .int x18), (3, .int x19), (2, .int x4), (0, .ref (eb E + 0))] → fo_S E s st20 H locs → W p l e R s m args below meth c H locs 0 0 Q (F0 m 84 ls [])) (fun rec21 hrec21 x18 x19 st20 hf => ?_) G _ _ _ hf H locs ls (lv_sub hl [0, 1, 2, 3] rfl) hw
      intro H locs ls hl hw
      refine lv_iload hx hb dX5_isHidden_84 (lv_at hl 0 rfl) ?_
      refine lv_iload_n hx hb dX5_isHidden_86 rfl (lv_at hl 2 rfl) ?_
      refine fb_igt (tgt := 112) hx hb dX5_isHidden_87 (by decide) hf (fun hf => ?_) (fun hf => ?_)
      · exact hk15 _ _ _ _ _ (lv_sub hl [1, 3] rfl) hw hf
      refine lv_iload_n hx hb dX5_isHidden_90 rfl (lv_at hl 1 rfl) ?_
      refine fb_zeq (tgt := 112) hx hb dX5_isHidden_91 (by decide) hf (fun hf => ?_) (fun hf => ?_)
      · exact hk15 _ _ _ _ _ (lv_sub hl [1, 3] rfl) hw hf
      refine lv_aload_n hx hb dX5_isHidden_94 rfl (lv_at hl 3 rfl) ?_
      refine fc_Vi (rest := []) (As := []) X hw hm_X5_passIt (lw_V q2039 q2041 qs89 q121 q2042) ⟨rfl, rfl⟩ ⟨by rw [hRf]; exact Nat.le_of_ble_eq_true rfl, by rw [hRl]; exact Nat.le_of_ble_eq_true rfl⟩ fc_X5 rfl (hm0 hE) rfl rfl hl.1 (Nat.le_of_ble_eq_true rfl) dX5_isHidden_95 (fun rQ stQ hQ => wX5_passIt l E hE G st20 rQ stQ hQ) hf (fun x22 st23 H locs hw hf => ?_)
      refine lv_pop hx hb dX5_isHidden_98 rfl ?_
      refine lv_aload_n hx hb dX5_isHidden_99 rfl (lv_at hl 3 rfl) ?_
      refine lv_iload hx hb dX5_isHidden_100 (lv_at hl 0 rfl) ?_
      refine fc_Vi (rest := []) (As := [.int x18]) X hw hm_X5_isAsSeen (lw_V q2120 q2122 qs99 q121 q2123) ⟨rfl, rfl⟩ ⟨by rw [hRf]; exact Nat.le_of_ble_eq_true rfl, by rw [hRl]; exact Nat.le_of_ble_eq_true rfl⟩ fc_X5 rfl (hm0 hE) rfl rfl hl.1 (Nat.le_of_ble_eq_true rfl) dX5_isHidden_102 (fun rQ stQ hQ => wX5_isAsSeen l E hE G x18 st23 rQ stQ hQ) hf (fun x24 st25 H locs hw hf => ?_)
      refine lv_istore_n (lv' := [(3, .int x24), (4, .int x18), (2, .int x4), (0, .ref (eb E + 0))]) hx hb dX5_isHidden_105 rfl hl (by decide) rfl (fun ls hl => ?_)
      refine fb_iinc (v := (1 : Int32)) (lv' := [(4, .int (x18 + (1 : Int32))), (3, .int x24), (2, .int x4), (0, .ref (eb E + 0))]) hx hb dX5_isHidden_106 hl (k := 1) rfl (by decide) (by decide) rfl (fun ls hl => ?_)
      refine lv_goto (tgt := 84) hx hb dX5_isHidden_109 (by decide) ?_
      exact hrec21 _ _ _ hf _ _ _ (lv_sub hl [0, 1, 2, 3] rfl) hw
    refine lv_aload_n hx hb dX5_isHidden_27 rfl (lv_at hl 2 rfl) ?_
    refine fo_gets X hw fc_X5 (hm0 hE) (k := 3) (d := 2) (n2 := 2) (by decide) rfl rfl q1521 dX5_isHidden_28 ?_
    refine lv_bipush (v := (116 : Int32)) hx hb dX5_isHidden_31 (by decide) ?_
    refine lv_iconst (v := (3 : Int32)) hx hb dX5_isHidden_33 (by decide) ?_
    refine lv_iload_n hx hb dX5_isHidden_34 rfl (lv_at hl 0 rfl) ?_
    refine lv_imul hx hb dX5_isHidden_35 ?_
    refine lv_iadd hx hb dX5_isHidden_36 ?_
    refine fo_iald X hw (hm2 hE) dX5_isHidden_37 hf (fun hf => ?_)
    refine lv_iload_n hx hb dX5_isHidden_38 rfl (lv_at hl 1 rfl) ?_
    refine fb_ile (tgt := 56) hx hb dX5_isHidden_39 (by decide) hf (fun hf => ?_) (fun hf => ?_)
    · refine lv_iload_n hx hb dX5_isHidden_56 rfl (lv_at hl 1 rfl) ?_
      refine lv_istore_n (lv' := [(2, .int x4), (3, .int x3), (0, .ref (eb E + 0)), (1, .int p1)]) hx hb dX5_isHidden_57 rfl hl (by decide) rfl (fun ls hl => ?_)
      refine fb_iinc (v := (1 : Int32)) (lv' := [(3, .int (x3 + (1 : Int32))), (2, .int x4), (0, .ref (eb E + 0)), (1, .int p1)]) hx hb dX5_isHidden_58 hl (k := 1) rfl (by decide) (by decide) rfl (fun ls hl => ?_)
      refine lv_goto (tgt := 17) hx hb dX5_isHidden_61 (by decide) ?_
      exact hrec6 _ _ _ hf _ _ _ (lv_sub hl [0, 1, 2, 3] rfl) hw
    refine lv_aload_n hx hb dX5_isHidden_42 rfl (lv_at hl 2 rfl) ?_
    refine fo_gets X hw fc_X5 (hm0 hE) (k := 3) (d := 2) (n2 := 2) (by decide) rfl rfl q1521 dX5_isHidden_43 ?_
    refine lv_bipush (v := (116 : Int32)) hx hb dX5_isHidden_46 (by decide) ?_
    refine lv_iconst (v := (3 : Int32)) hx hb dX5_isHidden_48 (by decide) ?_
    refine lv_iload_n hx hb dX5_isHidden_49 rfl (lv_at hl 0 rfl) ?_
    refine lv_imul hx hb dX5_isHidden_50 ?_
    refine lv_iadd hx hb dX5_isHidden_51 ?_
    refine fo_iald X hw (hm2 hE) dX5_isHidden_52 hf (fun hf => ?_)
    refine lv_goto (tgt := 57) hx hb dX5_isHidden_53 (by decide) ?_
    refine fo_tI hf (fun x26 hf => ?_)
    refine lv_istore_n (lv' := [(2, .int x26), (3, .int x3), (0, .ref (eb E + 0)), (1, .int p1)]) hx hb dX5_isHidden_57 rfl hl (by decide) rfl (fun ls hl => ?_)
    refine fb_iinc (v := (1 : Int32)) (lv' := [(3, .int (x3 + (1 : Int32))), (2, .int x26), (0, .ref (eb E + 0)), (1, .int p1)]) hx hb dX5_isHidden_58 hl (k := 1) rfl (by decide) (by decide) rfl (fun ls hl => ?_)
    refine lv_goto (tgt := 17) hx hb dX5_isHidden_61 (by decide) ?_
    exact hrec6 _ _ _ hf _ _ _ (lv_sub hl [0, 1, 2, 3] rfl) hw
  refine lv_iconst (v := (0 : Int32)) hx hb dX5_isHidden_11 (by decide) ?_
  exact fd_z hend hw rfl hf dX5_isHidden_12

/-- ForestRoomsModel.hidden -/
def fX5_hidden (G : Nat) (p1 : Int32) (st0 : fo_St) : Option (Int32 × fo_St) := lt_ (si_ st0 0 0 (0 : Int32)) (fun st1 => lp4_ (fun rec6 (x2 : Int32) (x3 : Int32) (x4 : Int32) (st5 : fo_St) => if (96 : Int32) ≤ x2 then if ¬ p1 = (-1 : Int32) then some (x3, st5) else some (x4, st5) else bd_ (fX5_isHidden G x2 st5) (fun x7 st8 => if x7 = 0 then rec6 (x2 + (1 : Int32)) x3 x4 st8 else if ¬ x4 = p1 then rec6 (x2 + (1 : Int32)) x3 (x4 + (1 : Int32)) st8 else rec6 (x2 + (1 : Int32)) x2 (x4 + (1 : Int32)) st8)) G (0 : Int32) (-1 : Int32) (0 : Int32) st1)
theorem hm_X5_hidden : fo_M yX5_hidden 1 := ⟨by decide +kernel, by decide +kernel, by decide +kernel, by decide +kernel⟩
set_option maxHeartbeats 4000000 in
theorem wX5_hidden (l : Launch) (E : fo_E) (hE : ∀ n, et E n = tM_ n) (G : Nat) (p1 : Int32) (st0 : fo_St) (rZ : Int32) (stZ : fo_St) (hf : fX5_hidden G p1 st0 = some (rZ, stZ)) : CTi l E yX5_hidden (ws_ yX5_hidden cX5_hidden 5 (some .int)) ({ frames := 8, cells := 0, slots := 0, locals := 195 }) [.ref (eb E + 0), .int p1] st0 rZ stZ := by
  refine fe_i hm_X5_hidden (Nat.le_of_ble_eq_true rfl) (fun p e R s m args below meth c Q hRf hRl X hend ls hl hw => ?_)
  have hx := X.1.1
  have hb := X.1.2.1
  have hl : lv_has ls 5 [(0, .ref (eb E + 0)), (1, .int p1)] := hl
  unfold fX5_hidden at hf
  generalize s.heap = H at hw ⊢
  generalize ([] : List Loc) = locs at hw ⊢
  refine lv_aload_n hx hb dX5_hidden_0 rfl (lv_at hl 0 rfl) ?_
  refine lv_iconst (v := (0 : Int32)) hx hb dX5_hidden_1 (by decide) ?_
  refine fo_puti X hw fc_X5 (hm0 hE) (k := 0) (by decide) rfl rfl q1518 ⟨rfl, rfl⟩ dX5_hidden_2 hf (fun st1 H locs hw hf => ?_)
  refine lv_iconst (v := (0 : Int32)) hx hb dX5_hidden_5 (by decide) ?_
  refine lv_istore_n (lv' := [(2, .int (0 : Int32)), (0, .ref (eb E + 0)), (1, .int p1)]) hx hb dX5_hidden_6 rfl hl (by decide) rfl (fun ls hl => ?_)
  refine lv_iconst (v := (-1 : Int32)) hx hb dX5_hidden_7 (by decide) ?_
  refine lv_istore_n (lv' := [(3, .int (-1 : Int32)), (2, .int (0 : Int32)), (0, .ref (eb E + 0)), (1, .int p1)]) hx hb dX5_hidden_8 rfl hl (by decide) rfl (fun ls hl => ?_)
  refine lv_iconst (v := (0 : Int32)) hx hb dX5_hidden_9 (by decide) ?_
  refine lv_istore (lv' := [(4, .int (0 : Int32)), (3, .int (-1 : Int32)), (2, .int (0 : Int32)), (0, .ref (eb E + 0)), (1, .int p1)]) hx hb dX5_hidden_10 hl (by decide) rfl (fun ls hl => ?_)
  refine lp4_e (P := fun x2 x3 x4 st5 => ∀ (H : Heap) (locs : List Loc) (ls : Array Slot), lv_has ls 5 [(4, .int x2), (3, .int x3), (2, .int x4), (0, .ref (eb E + 0)), (1, .int p1)] → fo_S E s st5 H locs → W p l e R s m args below meth c H locs 0 0 Q (F0 m 12 ls [])) (fun rec6 hrec6 x2 x3 x4 st5 hf => ?_) G _ _ _ _ hf H locs ls (lv_sub hl [0, 1, 2, 3, 4] rfl) hw
  intro H locs ls hl hw
  refine lv_iload hx hb dX5_hidden_12 (lv_at hl 0 rfl) ?_
  refine lv_bipush (v := (96 : Int32)) hx hb dX5_hidden_14 (by decide) ?_
  refine fb_ige (tgt := 49) hx hb dX5_hidden_16 (by decide) hf (fun hf => ?_) (fun hf => ?_)
  · refine lv_iload_n hx hb dX5_hidden_49 rfl (lv_at hl 4 rfl) ?_
    refine lv_iconst (v := (-1 : Int32)) hx hb dX5_hidden_50 (by decide) ?_
    refine fb_ine (tgt := 58) hx hb dX5_hidden_51 (by decide) hf (fun hf => ?_) (fun hf => ?_)
    · refine lv_iload_n hx hb dX5_hidden_58 rfl (lv_at hl 1 rfl) ?_
      exact fd_i hend hw hf dX5_hidden_59
    refine lv_iload_n hx hb dX5_hidden_54 rfl (lv_at hl 2 rfl) ?_
    refine lv_goto (tgt := 59) hx hb dX5_hidden_55 (by decide) ?_
    exact fd_i hend hw hf dX5_hidden_59
  refine lv_aload_n hx hb dX5_hidden_19 rfl (lv_at hl 3 rfl) ?_
  refine lv_iload hx hb dX5_hidden_20 (lv_at hl 0 rfl) ?_
  refine fc_Vi (rest := []) (As := [.int x2]) X hw hm_X5_isHidden (lw_V q2112 q2114 qs97 q121 q2115) ⟨rfl, rfl⟩ ⟨by rw [hRf]; exact Nat.le_of_ble_eq_true rfl, by rw [hRl]; exact Nat.le_of_ble_eq_true rfl⟩ fc_X5 rfl (hm0 hE) rfl rfl hl.1 (Nat.le_of_ble_eq_true rfl) dX5_hidden_22 (fun rQ stQ hQ => wX5_isHidden l E hE G x2 st5 rQ stQ hQ) hf (fun x7 st8 H locs hw hf => ?_)
  refine fb_zeq (tgt := 43) hx hb dX5_hidden_25 (by decide) hf (fun hf => ?_) (fun hf => ?_)
  · refine fb_iinc (v := (1 : Int32)) (lv' := [(4, .int (x2 + (1 : Int32))), (3, .int x3), (2, .int x4), (0, .ref (eb E + 0)), (1, .int p1)]) hx hb dX5_hidden_43 hl (k := 0) rfl (by decide) (by decide) rfl (fun ls hl => ?_)
    refine lv_goto (tgt := 12) hx hb dX5_hidden_46 (by decide) ?_
    exact hrec6 _ _ _ _ hf _ _ _ (lv_sub hl [0, 1, 2, 3, 4] rfl) hw
  refine lv_iload_n hx hb dX5_hidden_28 rfl (lv_at hl 2 rfl) ?_
  refine lv_iload_n hx hb dX5_hidden_29 rfl (lv_at hl 4 rfl) ?_
  refine fb_ine (tgt := 38) hx hb dX5_hidden_30 (by decide) hf (fun hf => ?_) (fun hf => ?_)
  · refine lv_iload_n hx hb dX5_hidden_38 rfl (lv_at hl 1 rfl) ?_
    refine lv_istore_n (lv' := [(3, .int x3), (4, .int x2), (2, .int x4), (0, .ref (eb E + 0)), (1, .int p1)]) hx hb dX5_hidden_39 rfl hl (by decide) rfl (fun ls hl => ?_)
    refine fb_iinc (v := (1 : Int32)) (lv' := [(2, .int (x4 + (1 : Int32))), (3, .int x3), (4, .int x2), (0, .ref (eb E + 0)), (1, .int p1)]) hx hb dX5_hidden_40 hl (k := 2) rfl (by decide) (by decide) rfl (fun ls hl => ?_)
    refine fb_iinc (v := (1 : Int32)) (lv' := [(4, .int (x2 + (1 : Int32))), (2, .int (x4 + (1 : Int32))), (3, .int x3), (0, .ref (eb E + 0)), (1, .int p1)]) hx hb dX5_hidden_43 hl (k := 2) rfl (by decide) (by decide) rfl (fun ls hl => ?_)
    refine lv_goto (tgt := 12) hx hb dX5_hidden_46 (by decide) ?_
    exact hrec6 _ _ _ _ hf _ _ _ (lv_sub hl [0, 2, 1, 3, 4] rfl) hw
  refine lv_iload hx hb dX5_hidden_33 (lv_at hl 0 rfl) ?_
  refine lv_goto (tgt := 39) hx hb dX5_hidden_35 (by decide) ?_
  refine lv_istore_n (lv' := [(3, .int x2), (4, .int x2), (2, .int x4), (0, .ref (eb E + 0)), (1, .int p1)]) hx hb dX5_hidden_39 rfl hl (by decide) rfl (fun ls hl => ?_)
  refine fb_iinc (v := (1 : Int32)) (lv' := [(2, .int (x4 + (1 : Int32))), (3, .int x2), (4, .int x2), (0, .ref (eb E + 0)), (1, .int p1)]) hx hb dX5_hidden_40 hl (k := 2) rfl (by decide) (by decide) rfl (fun ls hl => ?_)
  refine fb_iinc (v := (1 : Int32)) (lv' := [(4, .int (x2 + (1 : Int32))), (2, .int (x4 + (1 : Int32))), (3, .int x2), (0, .ref (eb E + 0)), (1, .int p1)]) hx hb dX5_hidden_43 hl (k := 2) rfl (by decide) (by decide) rfl (fun ls hl => ?_)
  refine lv_goto (tgt := 12) hx hb dX5_hidden_46 (by decide) ?_
  exact hrec6 _ _ _ _ hf _ _ _ (lv_sub hl [0, 2, 1, 3, 4] rfl) hw

/-- ForestRoomsModel.show -/
def fX5_show (G : Nat) (p1 : Int32) (p2 : Int32) (st0 : fo_St) : Option fo_St := bv_ (fX5_keepAll G (16 : Int32) st0) (fun st2 => bv_ (fX5_hide p1 st2) (fun st4 => lp2_ (fun rec7 (x5 : Int32) (st6 : fo_St) => if p2 ≤ x5 then lp2_ (fun rec10 (x8 : Int32) (st9 : fo_St) => if (16 : Int32) ≤ x8 then bv_ (fX5_putBack G (16 : Int32) st9) (fun st12 => some st12) else ck_ (fo_in ((8 : Int32) + x8) 5540) (ck_ (fo_in ((((7 : Int32) * x8) + (1 : Int32)) + (gi_ st9 2 ((8 : Int32) + x8).toNatClampNeg)) 112) (ck_ (fo_in ((((7 : Int32) * x8) + (1 : Int32)) + (gi_ st9 2 ((8 : Int32) + x8).toNatClampNeg)) 112) (lt_ (si_ st9 30 ((((7 : Int32) * x8) + (1 : Int32)) + (gi_ st9 2 ((8 : Int32) + x8).toNatClampNeg)).toNatClampNeg ((gi_ st9 30 ((((7 : Int32) * x8) + (1 : Int32)) + (gi_ st9 2 ((8 : Int32) + x8).toNatClampNeg)).toNatClampNeg) + (1 : Int32))) (fun st13 => rec10 (x8 + (1 : Int32)) st13))))) G (0 : Int32) st6 else bd_ (fX5_passIt G st6) (fun x14 st15 => rec7 (x5 + (1 : Int32)) st15)) G (0 : Int32) st4))
theorem hm_X5_show : fo_M yX5_show 2 := ⟨by decide +kernel, by decide +kernel, by decide +kernel, by decide +kernel⟩
set_option maxHeartbeats 4000000 in
theorem wX5_show (l : Launch) (E : fo_E) (hE : ∀ n, et E n = tM_ n) (G : Nat) (p1 : Int32) (p2 : Int32) (st0 : fo_St) (stZ : fo_St) (hf : fX5_show G p1 p2 st0 = some stZ) : CTv l E yX5_show (ws_ yX5_show cX5_show 4 none) ({ frames := 7, cells := 0, slots := 0, locals := 171 }) [.ref (eb E + 0), .int p1, .int p2] st0 stZ := by
  refine fe_v hm_X5_show (Nat.le_of_ble_eq_true rfl) (fun p e R s m args below meth c Q hRf hRl X hend ls hl hw => ?_)
  have hx := X.1.1
  have hb := X.1.2.1
  have hl : lv_has ls 4 [(0, .ref (eb E + 0)), (1, .int p1), (2, .int p2)] := hl
  unfold fX5_show at hf
  generalize s.heap = H at hw ⊢
  generalize ([] : List Loc) = locs at hw ⊢
  refine lv_aload_n hx hb dX5_show_0 rfl (lv_at hl 0 rfl) ?_
  refine lv_bipush (v := (16 : Int32)) hx hb dX5_show_1 (by decide) ?_
  refine fc_Vv (rest := []) (As := [.int (16 : Int32)]) X hw hm_X5_keepAll (lw_V q1999 q2001 qs83 q121 q2002) ⟨rfl, rfl⟩ ⟨by rw [hRf]; exact Nat.le_of_ble_eq_true rfl, by rw [hRl]; exact Nat.le_of_ble_eq_true rfl⟩ fc_X5 rfl (hm0 hE) rfl rfl hl.1 (Nat.le_of_ble_eq_true rfl) dX5_show_3 (fun stQ hQ => wX5_keepAll l E hE G (16 : Int32) st0 stQ hQ) hf (fun st2 H locs hw hf => ?_)
  refine lv_aload_n hx hb dX5_show_6 rfl (lv_at hl 0 rfl) ?_
  refine lv_iload_n hx hb dX5_show_7 rfl (lv_at hl 1 rfl) ?_
  refine fc_Vv (rest := []) (As := [.int p1]) X hw hm_X5_hide (lw_V q2116 q2118 qs98 q121 q2119) ⟨rfl, rfl⟩ ⟨by rw [hRf]; exact Nat.le_of_ble_eq_true rfl, by rw [hRl]; exact Nat.le_of_ble_eq_true rfl⟩ fc_X5 rfl (hm0 hE) rfl rfl hl.1 (Nat.le_of_ble_eq_true rfl) dX5_show_8 (fun stQ hQ => wX5_hide l E hE p1 st2 stQ hQ) hf (fun st4 H locs hw hf => ?_)
  refine lv_iconst (v := (0 : Int32)) hx hb dX5_show_11 (by decide) ?_
  refine lv_istore_n (lv' := [(3, .int (0 : Int32)), (0, .ref (eb E + 0)), (1, .int p1), (2, .int p2)]) hx hb dX5_show_12 rfl hl (by decide) rfl (fun ls hl => ?_)
  refine lp2_e (P := fun x5 st6 => ∀ (H : Heap) (locs : List Loc) (ls : Array Slot), lv_has ls 4 [(3, .int x5), (0, .ref (eb E + 0)), (2, .int p2)] → fo_S E s st6 H locs → W p l e R s m args below meth c H locs 0 0 Q (F0 m 13 ls [])) (fun rec7 hrec7 x5 st6 hf => ?_) G _ _ hf H locs ls (lv_sub hl [0, 1, 3] rfl) hw
  intro H locs ls hl hw
  refine lv_iload_n hx hb dX5_show_13 rfl (lv_at hl 0 rfl) ?_
  refine lv_iload_n hx hb dX5_show_14 rfl (lv_at hl 2 rfl) ?_
  refine fb_ige (tgt := 29) hx hb dX5_show_15 (by decide) hf (fun hf => ?_) (fun hf => ?_)
  · refine lv_iconst (v := (0 : Int32)) hx hb dX5_show_29 (by decide) ?_
    refine lv_istore_n (lv' := [(3, .int (0 : Int32)), (0, .ref (eb E + 0)), (2, .int p2)]) hx hb dX5_show_30 rfl hl (by decide) rfl (fun ls hl => ?_)
    refine lp2_e (P := fun x8 st9 => ∀ (H : Heap) (locs : List Loc) (ls : Array Slot), lv_has ls 4 [(3, .int x8), (0, .ref (eb E + 0))] → fo_S E s st9 H locs → W p l e R s m args below meth c H locs 0 0 Q (F0 m 31 ls [])) (fun rec10 hrec10 x8 st9 hf => ?_) G _ _ hf H locs ls (lv_sub hl [0, 1] rfl) hw
    intro H locs ls hl hw
    refine lv_iload_n hx hb dX5_show_31 rfl (lv_at hl 0 rfl) ?_
    refine lv_bipush (v := (16 : Int32)) hx hb dX5_show_32 (by decide) ?_
    refine fb_ige (tgt := 68) hx hb dX5_show_34 (by decide) hf (fun hf => ?_) (fun hf => ?_)
    · refine lv_aload_n hx hb dX5_show_68 rfl (lv_at hl 1 rfl) ?_
      refine lv_bipush (v := (16 : Int32)) hx hb dX5_show_69 (by decide) ?_
      refine fc_Vv (rest := []) (As := [.int (16 : Int32)]) X hw hm_X5_putBack (lw_V q1714 q1716 qs39 q121 q1717) ⟨rfl, rfl⟩ ⟨by rw [hRf]; exact Nat.le_of_ble_eq_true rfl, by rw [hRl]; exact Nat.le_of_ble_eq_true rfl⟩ fc_X5 rfl (hm0 hE) rfl rfl hl.1 (Nat.le_of_ble_eq_true rfl) dX5_show_71 (fun stQ hQ => wX5_putBack l E hE G (16 : Int32) st9 stQ hQ) hf (fun st12 H locs hw hf => ?_)
      exact fd_v hend hw hf dX5_show_74
    refine lv_aload_n hx hb dX5_show_37 rfl (lv_at hl 1 rfl) ?_
    refine fo_gets X hw fc_X5 (hm0 hE) (k := 50) (d := 30) (n2 := 30) (by decide) rfl rfl q1568 dX5_show_38 ?_
    refine lv_bipush (v := (7 : Int32)) hx hb dX5_show_41 (by decide) ?_
    refine lv_iload_n hx hb dX5_show_43 rfl (lv_at hl 0 rfl) ?_
    refine lv_imul hx hb dX5_show_44 ?_
    refine lv_iconst (v := (1 : Int32)) hx hb dX5_show_45 (by decide) ?_
    refine lv_iadd hx hb dX5_show_46 ?_
    refine lv_aload_n hx hb dX5_show_47 rfl (lv_at hl 1 rfl) ?_
    refine fo_gets X hw fc_X5 (hm0 hE) (k := 3) (d := 2) (n2 := 2) (by decide) rfl rfl q1521 dX5_show_48 ?_
    refine lv_bipush (v := (8 : Int32)) hx hb dX5_show_51 (by decide) ?_
    refine lv_iload_n hx hb dX5_show_53 rfl (lv_at hl 0 rfl) ?_
    refine lv_iadd hx hb dX5_show_54 ?_
    refine fo_iald X hw (hm2 hE) dX5_show_55 hf (fun hf => ?_)
    refine lv_iadd hx hb dX5_show_56 ?_
    refine lv_dup2_11 hx hb dX5_show_57 rfl rfl ?_
    refine fo_iald X hw (hm30 hE) dX5_show_58 hf (fun hf => ?_)
    refine lv_iconst (v := (1 : Int32)) hx hb dX5_show_59 (by decide) ?_
    refine lv_iadd hx hb dX5_show_60 ?_
    refine fo_iast X hw (hm30 hE) dX5_show_61 hf (fun st13 H locs hw hf => ?_)
    refine fb_iinc (v := (1 : Int32)) (lv' := [(3, .int (x8 + (1 : Int32))), (0, .ref (eb E + 0))]) hx hb dX5_show_62 hl (k := 0) rfl (by decide) (by decide) rfl (fun ls hl => ?_)
    refine lv_goto (tgt := 31) hx hb dX5_show_65 (by decide) ?_
    exact hrec10 _ _ hf _ _ _ (lv_sub hl [0, 1] rfl) hw
  refine lv_aload_n hx hb dX5_show_18 rfl (lv_at hl 1 rfl) ?_
  refine fc_Vi (rest := []) (As := []) X hw hm_X5_passIt (lw_V q2039 q2041 qs89 q121 q2042) ⟨rfl, rfl⟩ ⟨by rw [hRf]; exact Nat.le_of_ble_eq_true rfl, by rw [hRl]; exact Nat.le_of_ble_eq_true rfl⟩ fc_X5 rfl (hm0 hE) rfl rfl hl.1 (Nat.le_of_ble_eq_true rfl) dX5_show_19 (fun rQ stQ hQ => wX5_passIt l E hE G st6 rQ stQ hQ) hf (fun x14 st15 H locs hw hf => ?_)
  refine lv_pop hx hb dX5_show_22 rfl ?_
  refine fb_iinc (v := (1 : Int32)) (lv' := [(3, .int (x5 + (1 : Int32))), (0, .ref (eb E + 0)), (2, .int p2)]) hx hb dX5_show_23 hl (k := 0) rfl (by decide) (by decide) rfl (fun ls hl => ?_)
  refine lv_goto (tgt := 13) hx hb dX5_show_26 (by decide) ?_
  exact hrec7 _ _ hf _ _ _ (lv_sub hl [0, 1, 2] rfl) hw

/-- ForestRoomsModel.next -/
def fX5_next (G : Nat) (p1 : Int32) (p2 : Int32) (st0 : fo_St) : Option (Int32 × fo_St) := lt_ (si_ st0 0 0 (0 : Int32)) (fun st1 => bd_ (fX5_in (p1.toInt64) (0 : Int64) (20 : Int64) st1) (fun x2 st3 => if x2 = 0 then some ((-1 : Int32), st3) else bd_ (fX5_in (p2.toInt64) (0 : Int64) (1 : Int64) st3) (fun x4 st5 => if ¬ x4 = 0 then lp2_ (fun rec8 (x6 : Int32) (st7 : fo_St) => if (112 : Int32) ≤ x6 then lp3_ (fun rec12 (x9 : Int32) (x10 : Int32) (st11 : fo_St) => if (96 : Int32) ≤ x9 then lp4_ (fun rec17 (x13 : Int32) (x14 : Int32) (x15 : Int32) (st16 : fo_St) => if (16 : Int32) ≤ x13 then if ¬ x10 = 0 then if ¬ p2 = 0 then some (x15, st16) else some (x14, st16) else some ((-1 : Int32), st16) else lp3_ (fun rec21 (x18 : Int32) (x19 : Int32) (st20 : fo_St) => if (7 : Int32) ≤ x18 then jn_ (fun (x22 : Int32) => if x15 ≤ x19 then rec17 (x13 + (1 : Int32)) x22 x15 st20 else rec17 (x13 + (1 : Int32)) x22 x19 st20) (fun k23 => if x15 ≤ x19 then k23 x14 else k23 x13) else ck_ (fo_in (((7 : Int32) * x13) + x18) 112) (if (gi_ st20 30 (((7 : Int32) * x13) + x18).toNatClampNeg) ≤ x19 then rec21 (x18 + (1 : Int32)) x19 st20 else ck_ (fo_in (((7 : Int32) * x13) + x18) 112) (lI_ (gi_ st20 30 (((7 : Int32) * x13) + x18).toNatClampNeg) (fun x24 => rec21 (x18 + (1 : Int32)) x24 st20)))) G (0 : Int32) (0 : Int32) st16) G (0 : Int32) (-1 : Int32) (100000000 : Int32) st11 else bd_ (fX5_isHidden G x9 st11) (fun x25 st26 => if x25 = 0 then rec12 (x9 + (1 : Int32)) x10 st26 else bv_ (fX5_show G x9 p1 st26) (fun st28 => rec12 (x9 + (1 : Int32)) (1 : Int32) st28))) G (0 : Int32) (0 : Int32) st7 else ck_ (fo_in x6 112) (lt_ (si_ st7 30 x6.toNatClampNeg (0 : Int32)) (fun st29 => rec8 (x6 + (1 : Int32)) st29))) G (0 : Int32) st5 else some ((-1 : Int32), st5))))
theorem hm_X5_next : fo_M yX5_next 2 := ⟨by decide +kernel, by decide +kernel, by decide +kernel, by decide +kernel⟩
set_option maxHeartbeats 4000000 in
theorem wX5_next (l : Launch) (E : fo_E) (hE : ∀ n, et E n = tM_ n) (G : Nat) (p1 : Int32) (p2 : Int32) (st0 : fo_St) (rZ : Int32) (stZ : fo_St) (hf : fX5_next G p1 p2 st0 = some (rZ, stZ)) : CTi l E yX5_next (ws_ yX5_next cX5_next 9 (some .int)) ({ frames := 8, cells := 0, slots := 0, locals := 195 }) [.ref (eb E + 0), .int p1, .int p2] st0 rZ stZ := by
  refine fe_i hm_X5_next (Nat.le_of_ble_eq_true rfl) (fun p e R s m args below meth c Q hRf hRl X hend ls hl hw => ?_)
  have hx := X.1.1
  have hb := X.1.2.1
  have hl : lv_has ls 9 [(0, .ref (eb E + 0)), (1, .int p1), (2, .int p2)] := hl
  unfold fX5_next at hf
  generalize s.heap = H at hw ⊢
  generalize ([] : List Loc) = locs at hw ⊢
  refine lv_aload_n hx hb dX5_next_0 rfl (lv_at hl 0 rfl) ?_
  refine lv_iconst (v := (0 : Int32)) hx hb dX5_next_1 (by decide) ?_
  refine fo_puti X hw fc_X5 (hm0 hE) (k := 0) (by decide) rfl rfl q1518 ⟨rfl, rfl⟩ dX5_next_2 hf (fun st1 H locs hw hf => ?_)
  refine lv_iload_n hx hb dX5_next_5 rfl (lv_at hl 1 rfl) ?_
  refine lv_i2l (v := p1.toInt64) hx hb dX5_next_6 rfl ?_
  refine lv_lconst (v := (0 : Int64)) hx hb dX5_next_7 rfl ?_
  refine lv_ldc2 (v := (20 : Int64)) hx hb X.1.2.2.2.1 (X.1.2.2.2.2 _ q1939) dX5_next_8 ?_
  refine fc_Si (rest := []) (As := [.long p1.toInt64, .long (0 : Int64), .long (20 : Int64)]) X hw hm_X5_in (lw_S q1722 q1723 q121 q1724) ⟨rfl, rfl⟩ ⟨by rw [hRf]; exact Nat.le_of_ble_eq_true rfl, by rw [hRl]; exact Nat.le_of_ble_eq_true rfl⟩ rfl rfl hl.1 (Nat.le_of_ble_eq_true rfl) dX5_next_11 (fun rQ stQ hQ => wX5_in l E hE (p1.toInt64) (0 : Int64) (20 : Int64) st1 rQ stQ hQ) hf (fun x2 st3 H locs hw hf => ?_)
  refine fb_zeq (tgt := 27) hx hb dX5_next_14 (by decide) hf (fun hf => ?_) (fun hf => ?_)
  · refine lv_iconst (v := (-1 : Int32)) hx hb dX5_next_27 (by decide) ?_
    exact fd_i hend hw hf dX5_next_28
  refine lv_iload_n hx hb dX5_next_17 rfl (lv_at hl 2 rfl) ?_
  refine lv_i2l (v := p2.toInt64) hx hb dX5_next_18 rfl ?_
  refine lv_lconst (v := (0 : Int64)) hx hb dX5_next_19 rfl ?_
  refine lv_lconst (v := (1 : Int64)) hx hb dX5_next_20 rfl ?_
  refine fc_Si (rest := []) (As := [.long p2.toInt64, .long (0 : Int64), .long (1 : Int64)]) X hw hm_X5_in (lw_S q1722 q1723 q121 q1724) ⟨rfl, rfl⟩ ⟨by rw [hRf]; exact Nat.le_of_ble_eq_true rfl, by rw [hRl]; exact Nat.le_of_ble_eq_true rfl⟩ rfl rfl hl.1 (Nat.le_of_ble_eq_true rfl) dX5_next_21 (fun rQ stQ hQ => wX5_in l E hE (p2.toInt64) (0 : Int64) (1 : Int64) st3 rQ stQ hQ) hf (fun x4 st5 H locs hw hf => ?_)
  refine fb_zne (tgt := 29) hx hb dX5_next_24 (by decide) hf (fun hf => ?_) (fun hf => ?_)
  · refine lv_iconst (v := (0 : Int32)) hx hb dX5_next_29 (by decide) ?_
    refine lv_istore_n (lv' := [(3, .int (0 : Int32)), (0, .ref (eb E + 0)), (1, .int p1), (2, .int p2)]) hx hb dX5_next_30 rfl hl (by decide) rfl (fun ls hl => ?_)
    refine lp2_e (P := fun x6 st7 => ∀ (H : Heap) (locs : List Loc) (ls : Array Slot), lv_has ls 9 [(3, .int x6), (0, .ref (eb E + 0)), (1, .int p1), (2, .int p2)] → fo_S E s st7 H locs → W p l e R s m args below meth c H locs 0 0 Q (F0 m 31 ls [])) (fun rec8 hrec8 x6 st7 hf => ?_) G _ _ hf H locs ls (lv_sub hl [0, 1, 2, 3] rfl) hw
    intro H locs ls hl hw
    refine lv_iload_n hx hb dX5_next_31 rfl (lv_at hl 0 rfl) ?_
    refine lv_bipush (v := (112 : Int32)) hx hb dX5_next_32 (by decide) ?_
    refine fb_ige (tgt := 50) hx hb dX5_next_34 (by decide) hf (fun hf => ?_) (fun hf => ?_)
    · refine lv_iconst (v := (0 : Int32)) hx hb dX5_next_50 (by decide) ?_
      refine lv_istore_n (lv' := [(3, .int (0 : Int32)), (0, .ref (eb E + 0)), (1, .int p1), (2, .int p2)]) hx hb dX5_next_51 rfl hl (by decide) rfl (fun ls hl => ?_)
      refine lv_iconst (v := (0 : Int32)) hx hb dX5_next_52 (by decide) ?_
      refine lv_istore (lv' := [(4, .int (0 : Int32)), (3, .int (0 : Int32)), (0, .ref (eb E + 0)), (1, .int p1), (2, .int p2)]) hx hb dX5_next_53 hl (by decide) rfl (fun ls hl => ?_)
      refine lp3_e (P := fun x9 x10 st11 => ∀ (H : Heap) (locs : List Loc) (ls : Array Slot), lv_has ls 9 [(4, .int x9), (3, .int x10), (0, .ref (eb E + 0)), (1, .int p1), (2, .int p2)] → fo_S E s st11 H locs → W p l e R s m args below meth c H locs 0 0 Q (F0 m 55 ls [])) (fun rec12 hrec12 x9 x10 st11 hf => ?_) G _ _ _ hf H locs ls (lv_sub hl [0, 1, 2, 3, 4] rfl) hw
      intro H locs ls hl hw
      refine lv_iload hx hb dX5_next_55 (lv_at hl 0 rfl) ?_
      refine lv_bipush (v := (96 : Int32)) hx hb dX5_next_57 (by decide) ?_
      refine fb_ige (tgt := 86) hx hb dX5_next_59 (by decide) hf (fun hf => ?_) (fun hf => ?_)
      · refine lv_ldcw (v := (100000000 : Int32)) hx hb X.1.2.2.2.1 (X.1.2.2.2.2 _ q2132) dX5_next_86 ?_
        refine lv_istore (lv' := [(4, .int (100000000 : Int32)), (3, .int x10), (0, .ref (eb E + 0)), (1, .int p1), (2, .int p2)]) hx hb dX5_next_89 hl (by decide) rfl (fun ls hl => ?_)
        refine lv_iconst (v := (-1 : Int32)) hx hb dX5_next_91 (by decide) ?_
        refine lv_istore (lv' := [(5, .int (-1 : Int32)), (4, .int (100000000 : Int32)), (3, .int x10), (0, .ref (eb E + 0)), (1, .int p1), (2, .int p2)]) hx hb dX5_next_92 hl (by decide) rfl (fun ls hl => ?_)
        refine lv_iconst (v := (0 : Int32)) hx hb dX5_next_94 (by decide) ?_
        refine lv_istore (lv' := [(6, .int (0 : Int32)), (5, .int (-1 : Int32)), (4, .int (100000000 : Int32)), (3, .int x10), (0, .ref (eb E + 0)), (1, .int p1), (2, .int p2)]) hx hb dX5_next_95 hl (by decide) rfl (fun ls hl => ?_)
        refine lp4_e (P := fun x13 x14 x15 st16 => ∀ (H : Heap) (locs : List Loc) (ls : Array Slot), lv_has ls 9 [(6, .int x13), (5, .int x14), (4, .int x15), (3, .int x10), (0, .ref (eb E + 0)), (2, .int p2)] → fo_S E s st16 H locs → W p l e R s m args below meth c H locs 0 0 Q (F0 m 97 ls [])) (fun rec17 hrec17 x13 x14 x15 st16 hf => ?_) G _ _ _ _ hf H locs ls (lv_sub hl [0, 1, 2, 3, 4, 6] rfl) hw
        intro H locs ls hl hw
        refine lv_iload hx hb dX5_next_97 (lv_at hl 0 rfl) ?_
        refine lv_bipush (v := (16 : Int32)) hx hb dX5_next_99 (by decide) ?_
        refine fb_ige (tgt := 199) hx hb dX5_next_101 (by decide) hf (fun hf => ?_) (fun hf => ?_)
        · refine lv_iload_n hx hb dX5_next_199 rfl (lv_at hl 3 rfl) ?_
          refine fb_zne (tgt := 207) hx hb dX5_next_200 (by decide) hf (fun hf => ?_) (fun hf => ?_)
          · refine lv_iload_n hx hb dX5_next_207 rfl (lv_at hl 5 rfl) ?_
            refine fb_zne (tgt := 216) hx hb dX5_next_208 (by decide) hf (fun hf => ?_) (fun hf => ?_)
            · refine lv_iload hx hb dX5_next_216 (lv_at hl 2 rfl) ?_
              exact fd_i hend hw hf dX5_next_218
            refine lv_iload hx hb dX5_next_211 (lv_at hl 1 rfl) ?_
            refine lv_goto (tgt := 218) hx hb dX5_next_213 (by decide) ?_
            exact fd_i hend hw hf dX5_next_218
          refine lv_iconst (v := (-1 : Int32)) hx hb dX5_next_203 (by decide) ?_
          refine lv_goto (tgt := 218) hx hb dX5_next_204 (by decide) ?_
          exact fd_i hend hw hf dX5_next_218
        refine lv_iconst (v := (0 : Int32)) hx hb dX5_next_104 (by decide) ?_
        refine lv_istore (lv' := [(7, .int (0 : Int32)), (6, .int x13), (5, .int x14), (4, .int x15), (3, .int x10), (0, .ref (eb E + 0)), (2, .int p2)]) hx hb dX5_next_105 hl (by decide) rfl (fun ls hl => ?_)
        refine lv_iconst (v := (0 : Int32)) hx hb dX5_next_107 (by decide) ?_
        refine lv_istore (lv' := [(8, .int (0 : Int32)), (7, .int (0 : Int32)), (6, .int x13), (5, .int x14), (4, .int x15), (3, .int x10), (0, .ref (eb E + 0)), (2, .int p2)]) hx hb dX5_next_108 hl (by decide) rfl (fun ls hl => ?_)
        refine lp3_e (P := fun x18 x19 st20 => ∀ (H : Heap) (locs : List Loc) (ls : Array Slot), lv_has ls 9 [(8, .int x18), (7, .int x19), (6, .int x13), (5, .int x14), (4, .int x15), (3, .int x10), (0, .ref (eb E + 0)), (2, .int p2)] → fo_S E s st20 H locs → W p l e R s m args below meth c H locs 0 0 Q (F0 m 110 ls [])) (fun rec21 hrec21 x18 x19 st20 hf => ?_) G _ _ _ hf H locs ls (lv_sub hl [0, 1, 2, 3, 4, 5, 6, 7] rfl) hw
        intro H locs ls hl hw
        refine lv_iload hx hb dX5_next_110 (lv_at hl 0 rfl) ?_
        refine lv_bipush (v := (7 : Int32)) hx hb dX5_next_112 (by decide) ?_
        refine fb_ige (tgt := 161) hx hb dX5_next_114 (by decide) hf (fun hf => ?_) (fun hf => ?_)
        · refine lv_iload hx hb dX5_next_161 (lv_at hl 1 rfl) ?_
          refine lv_iload hx hb dX5_next_163 (lv_at hl 4 rfl) ?_
          refine jn_e hf (fun k23 ek hf => ?_)
          have hk23 : ∀ (x22 : Int32) (H : Heap) (locs : List Loc) (ls : Array Slot), lv_has ls 9 [(7, .int x19), (6, .int x13), (4, .int x15), (3, .int x10), (0, .ref (eb E + 0)), (2, .int p2)] → fo_S E s st20 H locs → k23 x22 = some (rZ, stZ) → W p l e R s m args below meth c H locs 0 0 Q (F0 m 175 ls [.int x22]) := by
            intro x22 H locs ls hl hw hf
            rw [ek] at hf
            refine lv_istore (lv' := [(5, .int x22), (7, .int x19), (6, .int x13), (4, .int x15), (3, .int x10), (0, .ref (eb E + 0)), (2, .int p2)]) hx hb dX5_next_175 hl (by decide) rfl (fun ls hl => ?_)
            refine lv_iload hx hb dX5_next_177 (lv_at hl 1 rfl) ?_
            refine lv_iload hx hb dX5_next_179 (lv_at hl 3 rfl) ?_
            refine fb_ige (tgt := 189) hx hb dX5_next_181 (by decide) hf (fun hf => ?_) (fun hf => ?_)
            · refine lv_iload hx hb dX5_next_189 (lv_at hl 3 rfl) ?_
              refine lv_istore (lv' := [(4, .int x15), (5, .int x22), (7, .int x19), (6, .int x13), (3, .int x10), (0, .ref (eb E + 0)), (2, .int p2)]) hx hb dX5_next_191 hl (by decide) rfl (fun ls hl => ?_)
              refine fb_iinc (v := (1 : Int32)) (lv' := [(6, .int (x13 + (1 : Int32))), (4, .int x15), (5, .int x22), (7, .int x19), (3, .int x10), (0, .ref (eb E + 0)), (2, .int p2)]) hx hb dX5_next_193 hl (k := 3) rfl (by decide) (by decide) rfl (fun ls hl => ?_)
              refine lv_goto (tgt := 97) hx hb dX5_next_196 (by decide) ?_
              exact hrec17 _ _ _ _ hf _ _ _ (lv_sub hl [0, 2, 1, 4, 5, 6] rfl) hw
            refine lv_iload hx hb dX5_next_184 (lv_at hl 1 rfl) ?_
            refine lv_goto (tgt := 191) hx hb dX5_next_186 (by decide) ?_
            refine lv_istore (lv' := [(4, .int x19), (5, .int x22), (7, .int x19), (6, .int x13), (3, .int x10), (0, .ref (eb E + 0)), (2, .int p2)]) hx hb dX5_next_191 hl (by decide) rfl (fun ls hl => ?_)
            refine fb_iinc (v := (1 : Int32)) (lv' := [(6, .int (x13 + (1 : Int32))), (4, .int x19), (5, .int x22), (7, .int x19), (3, .int x10), (0, .ref (eb E + 0)), (2, .int p2)]) hx hb dX5_next_193 hl (k := 3) rfl (by decide) (by decide) rfl (fun ls hl => ?_)
            refine lv_goto (tgt := 97) hx hb dX5_next_196 (by decide) ?_
            exact hrec17 _ _ _ _ hf _ _ _ (lv_sub hl [0, 2, 1, 4, 5, 6] rfl) hw
          clear ek
          refine fb_ige (tgt := 173) hx hb dX5_next_165 (by decide) hf (fun hf => ?_) (fun hf => ?_)
          · refine lv_iload hx hb dX5_next_173 (lv_at hl 3 rfl) ?_
            exact hk23 _ _ _ _ (lv_sub hl [1, 2, 4, 5, 6, 7] rfl) hw hf
          refine lv_iload hx hb dX5_next_168 (lv_at hl 2 rfl) ?_
          refine lv_goto (tgt := 175) hx hb dX5_next_170 (by decide) ?_
          exact hk23 _ _ _ _ (lv_sub hl [1, 2, 4, 5, 6, 7] rfl) hw hf
        refine lv_aload_n hx hb dX5_next_117 rfl (lv_at hl 6 rfl) ?_
        refine fo_gets X hw fc_X5 (hm0 hE) (k := 50) (d := 30) (n2 := 30) (by decide) rfl rfl q1568 dX5_next_118 ?_
        refine lv_bipush (v := (7 : Int32)) hx hb dX5_next_121 (by decide) ?_
        refine lv_iload hx hb dX5_next_123 (lv_at hl 2 rfl) ?_
        refine lv_imul hx hb dX5_next_125 ?_
        refine lv_iload hx hb dX5_next_126 (lv_at hl 0 rfl) ?_
        refine lv_iadd hx hb dX5_next_128 ?_
        refine fo_iald X hw (hm30 hE) dX5_next_129 hf (fun hf => ?_)
        refine lv_iload hx hb dX5_next_130 (lv_at hl 1 rfl) ?_
        refine fb_ile (tgt := 151) hx hb dX5_next_132 (by decide) hf (fun hf => ?_) (fun hf => ?_)
        · refine lv_iload hx hb dX5_next_151 (lv_at hl 1 rfl) ?_
          refine lv_istore (lv' := [(7, .int x19), (8, .int x18), (6, .int x13), (5, .int x14), (4, .int x15), (3, .int x10), (0, .ref (eb E + 0)), (2, .int p2)]) hx hb dX5_next_153 hl (by decide) rfl (fun ls hl => ?_)
          refine fb_iinc (v := (1 : Int32)) (lv' := [(8, .int (x18 + (1 : Int32))), (7, .int x19), (6, .int x13), (5, .int x14), (4, .int x15), (3, .int x10), (0, .ref (eb E + 0)), (2, .int p2)]) hx hb dX5_next_155 hl (k := 1) rfl (by decide) (by decide) rfl (fun ls hl => ?_)
          refine lv_goto (tgt := 110) hx hb dX5_next_158 (by decide) ?_
          exact hrec21 _ _ _ hf _ _ _ (lv_sub hl [0, 1, 2, 3, 4, 5, 6, 7] rfl) hw
        refine lv_aload_n hx hb dX5_next_135 rfl (lv_at hl 6 rfl) ?_
        refine fo_gets X hw fc_X5 (hm0 hE) (k := 50) (d := 30) (n2 := 30) (by decide) rfl rfl q1568 dX5_next_136 ?_
        refine lv_bipush (v := (7 : Int32)) hx hb dX5_next_139 (by decide) ?_
        refine lv_iload hx hb dX5_next_141 (lv_at hl 2 rfl) ?_
        refine lv_imul hx hb dX5_next_143 ?_
        refine lv_iload hx hb dX5_next_144 (lv_at hl 0 rfl) ?_
        refine lv_iadd hx hb dX5_next_146 ?_
        refine fo_iald X hw (hm30 hE) dX5_next_147 hf (fun hf => ?_)
        refine lv_goto (tgt := 153) hx hb dX5_next_148 (by decide) ?_
        refine fo_tI hf (fun x24 hf => ?_)
        refine lv_istore (lv' := [(7, .int x24), (8, .int x18), (6, .int x13), (5, .int x14), (4, .int x15), (3, .int x10), (0, .ref (eb E + 0)), (2, .int p2)]) hx hb dX5_next_153 hl (by decide) rfl (fun ls hl => ?_)
        refine fb_iinc (v := (1 : Int32)) (lv' := [(8, .int (x18 + (1 : Int32))), (7, .int x24), (6, .int x13), (5, .int x14), (4, .int x15), (3, .int x10), (0, .ref (eb E + 0)), (2, .int p2)]) hx hb dX5_next_155 hl (k := 1) rfl (by decide) (by decide) rfl (fun ls hl => ?_)
        refine lv_goto (tgt := 110) hx hb dX5_next_158 (by decide) ?_
        exact hrec21 _ _ _ hf _ _ _ (lv_sub hl [0, 1, 2, 3, 4, 5, 6, 7] rfl) hw
      refine lv_aload_n hx hb dX5_next_62 rfl (lv_at hl 2 rfl) ?_
      refine lv_iload hx hb dX5_next_63 (lv_at hl 0 rfl) ?_
      refine fc_Vi (rest := []) (As := [.int x9]) X hw hm_X5_isHidden (lw_V q2112 q2114 qs97 q121 q2115) ⟨rfl, rfl⟩ ⟨by rw [hRf]; exact Nat.le_of_ble_eq_true rfl, by rw [hRl]; exact Nat.le_of_ble_eq_true rfl⟩ fc_X5 rfl (hm0 hE) rfl rfl hl.1 (Nat.le_of_ble_eq_true rfl) dX5_next_65 (fun rQ stQ hQ => wX5_isHidden l E hE G x9 st11 rQ stQ hQ) hf (fun x25 st26 H locs hw hf => ?_)
      refine fb_zeq (tgt := 80) hx hb dX5_next_68 (by decide) hf (fun hf => ?_) (fun hf => ?_)
      · refine fb_iinc (v := (1 : Int32)) (lv' := [(4, .int (x9 + (1 : Int32))), (3, .int x10), (0, .ref (eb E + 0)), (1, .int p1), (2, .int p2)]) hx hb dX5_next_80 hl (k := 0) rfl (by decide) (by decide) rfl (fun ls hl => ?_)
        refine lv_goto (tgt := 55) hx hb dX5_next_83 (by decide) ?_
        exact hrec12 _ _ _ hf _ _ _ (lv_sub hl [0, 1, 2, 3, 4] rfl) hw
      refine lv_iconst (v := (1 : Int32)) hx hb dX5_next_71 (by decide) ?_
      refine lv_istore_n (lv' := [(3, .int (1 : Int32)), (4, .int x9), (0, .ref (eb E + 0)), (1, .int p1), (2, .int p2)]) hx hb dX5_next_72 rfl hl (by decide) rfl (fun ls hl => ?_)
      refine lv_aload_n hx hb dX5_next_73 rfl (lv_at hl 2 rfl) ?_
      refine lv_iload hx hb dX5_next_74 (lv_at hl 1 rfl) ?_
      refine lv_iload_n hx hb dX5_next_76 rfl (lv_at hl 3 rfl) ?_
      refine fc_Vv (rest := []) (As := [.int x9, .int p1]) X hw hm_X5_show (lw_V q2128 q2130 qs100 q121 q2131) ⟨rfl, rfl⟩ ⟨by rw [hRf]; exact Nat.le_of_ble_eq_true rfl, by rw [hRl]; exact Nat.le_of_ble_eq_true rfl⟩ fc_X5 rfl (hm0 hE) rfl rfl hl.1 (Nat.le_of_ble_eq_true rfl) dX5_next_77 (fun stQ hQ => wX5_show l E hE G x9 p1 st26 stQ hQ) hf (fun st28 H locs hw hf => ?_)
      refine fb_iinc (v := (1 : Int32)) (lv' := [(4, .int (x9 + (1 : Int32))), (3, .int (1 : Int32)), (0, .ref (eb E + 0)), (1, .int p1), (2, .int p2)]) hx hb dX5_next_80 hl (k := 1) rfl (by decide) (by decide) rfl (fun ls hl => ?_)
      refine lv_goto (tgt := 55) hx hb dX5_next_83 (by decide) ?_
      exact hrec12 _ _ _ hf _ _ _ (lv_sub hl [0, 1, 2, 3, 4] rfl) hw
    refine lv_aload_n hx hb dX5_next_37 rfl (lv_at hl 1 rfl) ?_
    refine fo_gets X hw fc_X5 (hm0 hE) (k := 50) (d := 30) (n2 := 30) (by decide) rfl rfl q1568 dX5_next_38 ?_
    refine lv_iload_n hx hb dX5_next_41 rfl (lv_at hl 0 rfl) ?_
    refine lv_iconst (v := (0 : Int32)) hx hb dX5_next_42 (by decide) ?_
    refine fo_iast X hw (hm30 hE) dX5_next_43 hf (fun st29 H locs hw hf => ?_)
    refine fb_iinc (v := (1 : Int32)) (lv' := [(3, .int (x6 + (1 : Int32))), (0, .ref (eb E + 0)), (1, .int p1), (2, .int p2)]) hx hb dX5_next_44 hl (k := 0) rfl (by decide) (by decide) rfl (fun ls hl => ?_)
    refine lv_goto (tgt := 31) hx hb dX5_next_47 (by decide) ?_
    exact hrec8 _ _ hf _ _ _ (lv_sub hl [0, 1, 2, 3] rfl) hw
  refine lv_iconst (v := (-1 : Int32)) hx hb dX5_next_27 (by decide) ?_
  exact fd_i hend hw hf dX5_next_28

/-- ForestRoomsModel.lit -/
def fX5_lit (G : Nat) (p1 : Int32) (st0 : fo_St) : Option (Int32 × fo_St) := lp3_ (fun rec4 (x1 : Int32) (x2 : Int32) (st3 : fo_St) => if (16 : Int32) ≤ x1 then some (x2, st3) else lp3_ (fun rec8 (x5 : Int32) (x6 : Int32) (st7 : fo_St) => if (16 : Int32) ≤ x5 then rec4 (x1 + (1 : Int32)) x6 st7 else bd_ (fX5_is p1 x1 st7) (fun x9 st10 => if x9 = 0 then lI_ (x6 ||| (0 : Int32)) (fun x11 => rec8 (x5 + (1 : Int32)) x11 st10) else bd_ (fX5_areBeside x1 x5 st10) (fun x12 st13 => if x12 = 0 then lI_ (x6 ||| (0 : Int32)) (fun x14 => rec8 (x5 + (1 : Int32)) x14 st13) else lI_ (x6 ||| ((1 : Int32) <<< (x5 &&& 31))) (fun x15 => rec8 (x5 + (1 : Int32)) x15 st13)))) G (0 : Int32) x2 st3) G (0 : Int32) p1 st0
theorem hm_X5_lit : fo_M yX5_lit 1 := ⟨by decide +kernel, by decide +kernel, by decide +kernel, by decide +kernel⟩
set_option maxHeartbeats 4000000 in
theorem wX5_lit (l : Launch) (E : fo_E) (hE : ∀ n, et E n = tM_ n) (G : Nat) (p1 : Int32) (st0 : fo_St) (rZ : Int32) (stZ : fo_St) (hf : fX5_lit G p1 st0 = some (rZ, stZ)) : CTi l E yX5_lit (ws_ yX5_lit cX5_lit 4 (some .int)) ({ frames := 1, cells := 0, slots := 0, locals := 23 }) [.int p1] st0 rZ stZ := by
  refine fe_i hm_X5_lit (Nat.le_of_ble_eq_true rfl) (fun p e R s m args below meth c Q hRf hRl X hend ls hl hw => ?_)
  have hx := X.1.1
  have hb := X.1.2.1
  have hl : lv_has ls 4 [(0, .int p1)] := hl
  unfold fX5_lit at hf
  generalize s.heap = H at hw ⊢
  generalize ([] : List Loc) = locs at hw ⊢
  refine lv_iload_n hx hb dX5_lit_0 rfl (lv_at hl 0 rfl) ?_
  refine lv_istore_n (lv' := [(1, .int p1), (0, .int p1)]) hx hb dX5_lit_1 rfl hl (by decide) rfl (fun ls hl => ?_)
  refine lv_iconst (v := (0 : Int32)) hx hb dX5_lit_2 (by decide) ?_
  refine lv_istore_n (lv' := [(2, .int (0 : Int32)), (1, .int p1), (0, .int p1)]) hx hb dX5_lit_3 rfl hl (by decide) rfl (fun ls hl => ?_)
  refine lp3_e (P := fun x1 x2 st3 => ∀ (H : Heap) (locs : List Loc) (ls : Array Slot), lv_has ls 4 [(2, .int x1), (1, .int x2), (0, .int p1)] → fo_S E s st3 H locs → W p l e R s m args below meth c H locs 0 0 Q (F0 m 4 ls [])) (fun rec4 hrec4 x1 x2 st3 hf => ?_) G _ _ _ hf H locs ls (lv_sub hl [0, 1, 2] rfl) hw
  intro H locs ls hl hw
  refine lv_iload_n hx hb dX5_lit_4 rfl (lv_at hl 0 rfl) ?_
  refine lv_bipush (v := (16 : Int32)) hx hb dX5_lit_5 (by decide) ?_
  refine fb_ige (tgt := 56) hx hb dX5_lit_7 (by decide) hf (fun hf => ?_) (fun hf => ?_)
  · refine lv_iload_n hx hb dX5_lit_56 rfl (lv_at hl 1 rfl) ?_
    exact fd_i hend hw hf dX5_lit_57
  refine lv_iconst (v := (0 : Int32)) hx hb dX5_lit_10 (by decide) ?_
  refine lv_istore_n (lv' := [(3, .int (0 : Int32)), (2, .int x1), (1, .int x2), (0, .int p1)]) hx hb dX5_lit_11 rfl hl (by decide) rfl (fun ls hl => ?_)
  refine lp3_e (P := fun x5 x6 st7 => ∀ (H : Heap) (locs : List Loc) (ls : Array Slot), lv_has ls 4 [(3, .int x5), (2, .int x1), (1, .int x6), (0, .int p1)] → fo_S E s st7 H locs → W p l e R s m args below meth c H locs 0 0 Q (F0 m 12 ls [])) (fun rec8 hrec8 x5 x6 st7 hf => ?_) G _ _ _ hf H locs ls (lv_sub hl [0, 1, 2, 3] rfl) hw
  intro H locs ls hl hw
  refine lv_iload_n hx hb dX5_lit_12 rfl (lv_at hl 0 rfl) ?_
  refine lv_bipush (v := (16 : Int32)) hx hb dX5_lit_13 (by decide) ?_
  refine fb_ige (tgt := 50) hx hb dX5_lit_15 (by decide) hf (fun hf => ?_) (fun hf => ?_)
  · refine fb_iinc (v := (1 : Int32)) (lv' := [(2, .int (x1 + (1 : Int32))), (3, .int x5), (1, .int x6), (0, .int p1)]) hx hb dX5_lit_50 hl (k := 1) rfl (by decide) (by decide) rfl (fun ls hl => ?_)
    refine lv_goto (tgt := 4) hx hb dX5_lit_53 (by decide) ?_
    exact hrec4 _ _ _ hf _ _ _ (lv_sub hl [0, 2, 3] rfl) hw
  refine lv_iload_n hx hb dX5_lit_18 rfl (lv_at hl 2 rfl) ?_
  refine lv_iload_n hx hb dX5_lit_19 rfl (lv_at hl 3 rfl) ?_
  refine lv_iload_n hx hb dX5_lit_20 rfl (lv_at hl 1 rfl) ?_
  refine fc_Si (rest := [.int x6]) (As := [.int p1, .int x1]) X hw hm_X5_is (lw_S q2079 q2080 q121 q2081) ⟨rfl, rfl⟩ ⟨by rw [hRf]; exact Nat.le_of_ble_eq_true rfl, by rw [hRl]; exact Nat.le_of_ble_eq_true rfl⟩ rfl rfl hl.1 (Nat.le_of_ble_eq_true rfl) dX5_lit_21 (fun rQ stQ hQ => wX5_is l E hE p1 x1 st7 rQ stQ hQ) hf (fun x9 st10 H locs hw hf => ?_)
  refine fb_zeq (tgt := 41) hx hb dX5_lit_24 (by decide) hf (fun hf => ?_) (fun hf => ?_)
  · refine lv_iconst (v := (0 : Int32)) hx hb dX5_lit_41 (by decide) ?_
    refine lv_ior hx hb dX5_lit_42 ?_
    refine fo_tI hf (fun x11 hf => ?_)
    refine lv_istore_n (lv' := [(1, .int x11), (3, .int x5), (2, .int x1), (0, .int p1)]) hx hb dX5_lit_43 rfl hl (by decide) rfl (fun ls hl => ?_)
    refine fb_iinc (v := (1 : Int32)) (lv' := [(3, .int (x5 + (1 : Int32))), (1, .int x11), (2, .int x1), (0, .int p1)]) hx hb dX5_lit_44 hl (k := 1) rfl (by decide) (by decide) rfl (fun ls hl => ?_)
    refine lv_goto (tgt := 12) hx hb dX5_lit_47 (by decide) ?_
    exact hrec8 _ _ _ hf _ _ _ (lv_sub hl [0, 2, 1, 3] rfl) hw
  refine lv_iload_n hx hb dX5_lit_27 rfl (lv_at hl 1 rfl) ?_
  refine lv_iload_n hx hb dX5_lit_28 rfl (lv_at hl 0 rfl) ?_
  refine fc_Si (rest := [.int x6]) (As := [.int x1, .int x5]) X hw hm_X5_areBeside (lw_S q2047 q2048 q121 q2049) ⟨rfl, rfl⟩ ⟨by rw [hRf]; exact Nat.le_of_ble_eq_true rfl, by rw [hRl]; exact Nat.le_of_ble_eq_true rfl⟩ rfl rfl hl.1 (Nat.le_of_ble_eq_true rfl) dX5_lit_29 (fun rQ stQ hQ => wX5_areBeside l E hE x1 x5 st10 rQ stQ hQ) hf (fun x12 st13 H locs hw hf => ?_)
  refine fb_zeq (tgt := 41) hx hb dX5_lit_32 (by decide) hf (fun hf => ?_) (fun hf => ?_)
  · refine lv_iconst (v := (0 : Int32)) hx hb dX5_lit_41 (by decide) ?_
    refine lv_ior hx hb dX5_lit_42 ?_
    refine fo_tI hf (fun x14 hf => ?_)
    refine lv_istore_n (lv' := [(1, .int x14), (3, .int x5), (2, .int x1), (0, .int p1)]) hx hb dX5_lit_43 rfl hl (by decide) rfl (fun ls hl => ?_)
    refine fb_iinc (v := (1 : Int32)) (lv' := [(3, .int (x5 + (1 : Int32))), (1, .int x14), (2, .int x1), (0, .int p1)]) hx hb dX5_lit_44 hl (k := 1) rfl (by decide) (by decide) rfl (fun ls hl => ?_)
    refine lv_goto (tgt := 12) hx hb dX5_lit_47 (by decide) ?_
    exact hrec8 _ _ _ hf _ _ _ (lv_sub hl [0, 2, 1, 3] rfl) hw
  refine lv_iconst (v := (1 : Int32)) hx hb dX5_lit_35 (by decide) ?_
  refine lv_iload_n hx hb dX5_lit_36 rfl (lv_at hl 0 rfl) ?_
  refine lv_ishl hx hb dX5_lit_37 ?_
  refine lv_goto (tgt := 42) hx hb dX5_lit_38 (by decide) ?_
  refine lv_ior hx hb dX5_lit_42 ?_
  refine fo_tI hf (fun x15 hf => ?_)
  refine lv_istore_n (lv' := [(1, .int x15), (3, .int x5), (2, .int x1), (0, .int p1)]) hx hb dX5_lit_43 rfl hl (by decide) rfl (fun ls hl => ?_)
  refine fb_iinc (v := (1 : Int32)) (lv' := [(3, .int (x5 + (1 : Int32))), (1, .int x15), (2, .int x1), (0, .int p1)]) hx hb dX5_lit_44 hl (k := 1) rfl (by decide) (by decide) rfl (fun ls hl => ?_)
  refine lv_goto (tgt := 12) hx hb dX5_lit_47 (by decide) ?_
  exact hrec8 _ _ _ hf _ _ _ (lv_sub hl [0, 2, 1, 3] rfl) hw

/-- ForestRoomsModel.roofs -/
def fX5_roofs (G : Nat) (p1 : Int32) (p2 : Int32) (st0 : fo_St) : Option (Int32 × fo_St) := lt_ (si_ st0 0 0 (0 : Int32)) (fun st1 => bd_ (fX5_in (p1.toInt64) (0 : Int64) (65535 : Int64) st1) (fun x2 st3 => if x2 = 0 then some ((-1 : Int32), st3) else bd_ (fX5_in (p2.toInt64) (0 : Int64) (1 : Int64) st3) (fun x4 st5 => if ¬ x4 = 0 then lp4_ (fun rec10 (x6 : Int32) (x7 : Int32) (x8 : Int32) (st9 : fo_St) => if (65536 : Int32) ≤ x6 then if ¬ p2 = 0 then some (x7, st9) else some (x8, st9) else bd_ (fX5_ones G x6 st9) (fun x11 st12 => if x8 ≤ x11 then rec10 (x6 + (1 : Int32)) x7 x8 st12 else bd_ (fX5_lit G x6 st12) (fun x13 st14 => if ¬ (p1 &&& (x13 ^^^ (-1 : Int32))) = 0 then rec10 (x6 + (1 : Int32)) x7 x8 st14 else rec10 (x6 + (1 : Int32)) x6 x11 st14))) G (0 : Int32) (0 : Int32) (100000000 : Int32) st5 else some ((-1 : Int32), st5))))
theorem hm_X5_roofs : fo_M yX5_roofs 2 := ⟨by decide +kernel, by decide +kernel, by decide +kernel, by decide +kernel⟩
set_option maxHeartbeats 4000000 in
theorem wX5_roofs (l : Launch) (E : fo_E) (hE : ∀ n, et E n = tM_ n) (G : Nat) (p1 : Int32) (p2 : Int32) (st0 : fo_St) (rZ : Int32) (stZ : fo_St) (hf : fX5_roofs G p1 p2 st0 = some (rZ, stZ)) : CTi l E yX5_roofs (ws_ yX5_roofs cX5_roofs 7 (some .int)) ({ frames := 2, cells := 0, slots := 0, locals := 46 }) [.ref (eb E + 0), .int p1, .int p2] st0 rZ stZ := by
  refine fe_i hm_X5_roofs (Nat.le_of_ble_eq_true rfl) (fun p e R s m args below meth c Q hRf hRl X hend ls hl hw => ?_)
  have hx := X.1.1
  have hb := X.1.2.1
  have hl : lv_has ls 7 [(0, .ref (eb E + 0)), (1, .int p1), (2, .int p2)] := hl
  unfold fX5_roofs at hf
  generalize s.heap = H at hw ⊢
  generalize ([] : List Loc) = locs at hw ⊢
  refine lv_aload_n hx hb dX5_roofs_0 rfl (lv_at hl 0 rfl) ?_
  refine lv_iconst (v := (0 : Int32)) hx hb dX5_roofs_1 (by decide) ?_
  refine fo_puti X hw fc_X5 (hm0 hE) (k := 0) (by decide) rfl rfl q1518 ⟨rfl, rfl⟩ dX5_roofs_2 hf (fun st1 H locs hw hf => ?_)
  refine lv_iload_n hx hb dX5_roofs_5 rfl (lv_at hl 1 rfl) ?_
  refine lv_i2l (v := p1.toInt64) hx hb dX5_roofs_6 rfl ?_
  refine lv_lconst (v := (0 : Int64)) hx hb dX5_roofs_7 rfl ?_
  refine lv_ldc2 (v := (65535 : Int64)) hx hb X.1.2.2.2.1 (X.1.2.2.2.2 _ q2137) dX5_roofs_8 ?_
  refine fc_Si (rest := []) (As := [.long p1.toInt64, .long (0 : Int64), .long (65535 : Int64)]) X hw hm_X5_in (lw_S q1722 q1723 q121 q1724) ⟨rfl, rfl⟩ ⟨by rw [hRf]; exact Nat.le_of_ble_eq_true rfl, by rw [hRl]; exact Nat.le_of_ble_eq_true rfl⟩ rfl rfl hl.1 (Nat.le_of_ble_eq_true rfl) dX5_roofs_11 (fun rQ stQ hQ => wX5_in l E hE (p1.toInt64) (0 : Int64) (65535 : Int64) st1 rQ stQ hQ) hf (fun x2 st3 H locs hw hf => ?_)
  refine fb_zeq (tgt := 27) hx hb dX5_roofs_14 (by decide) hf (fun hf => ?_) (fun hf => ?_)
  · refine lv_iconst (v := (-1 : Int32)) hx hb dX5_roofs_27 (by decide) ?_
    exact fd_i hend hw hf dX5_roofs_28
  refine lv_iload_n hx hb dX5_roofs_17 rfl (lv_at hl 2 rfl) ?_
  refine lv_i2l (v := p2.toInt64) hx hb dX5_roofs_18 rfl ?_
  refine lv_lconst (v := (0 : Int64)) hx hb dX5_roofs_19 rfl ?_
  refine lv_lconst (v := (1 : Int64)) hx hb dX5_roofs_20 rfl ?_
  refine fc_Si (rest := []) (As := [.long p2.toInt64, .long (0 : Int64), .long (1 : Int64)]) X hw hm_X5_in (lw_S q1722 q1723 q121 q1724) ⟨rfl, rfl⟩ ⟨by rw [hRf]; exact Nat.le_of_ble_eq_true rfl, by rw [hRl]; exact Nat.le_of_ble_eq_true rfl⟩ rfl rfl hl.1 (Nat.le_of_ble_eq_true rfl) dX5_roofs_21 (fun rQ stQ hQ => wX5_in l E hE (p2.toInt64) (0 : Int64) (1 : Int64) st3 rQ stQ hQ) hf (fun x4 st5 H locs hw hf => ?_)
  refine fb_zne (tgt := 29) hx hb dX5_roofs_24 (by decide) hf (fun hf => ?_) (fun hf => ?_)
  · refine lv_ldcw (v := (100000000 : Int32)) hx hb X.1.2.2.2.1 (X.1.2.2.2.2 _ q2132) dX5_roofs_29 ?_
    refine lv_istore_n (lv' := [(3, .int (100000000 : Int32)), (0, .ref (eb E + 0)), (1, .int p1), (2, .int p2)]) hx hb dX5_roofs_32 rfl hl (by decide) rfl (fun ls hl => ?_)
    refine lv_iconst (v := (0 : Int32)) hx hb dX5_roofs_33 (by decide) ?_
    refine lv_istore (lv' := [(4, .int (0 : Int32)), (3, .int (100000000 : Int32)), (0, .ref (eb E + 0)), (1, .int p1), (2, .int p2)]) hx hb dX5_roofs_34 hl (by decide) rfl (fun ls hl => ?_)
    refine lv_iconst (v := (0 : Int32)) hx hb dX5_roofs_36 (by decide) ?_
    refine lv_istore (lv' := [(5, .int (0 : Int32)), (4, .int (0 : Int32)), (3, .int (100000000 : Int32)), (0, .ref (eb E + 0)), (1, .int p1), (2, .int p2)]) hx hb dX5_roofs_37 hl (by decide) rfl (fun ls hl => ?_)
    refine lp4_e (P := fun x6 x7 x8 st9 => ∀ (H : Heap) (locs : List Loc) (ls : Array Slot), lv_has ls 7 [(5, .int x6), (4, .int x7), (3, .int x8), (1, .int p1), (2, .int p2)] → fo_S E s st9 H locs → W p l e R s m args below meth c H locs 0 0 Q (F0 m 39 ls [])) (fun rec10 hrec10 x6 x7 x8 st9 hf => ?_) G _ _ _ _ hf H locs ls (lv_sub hl [0, 1, 2, 4, 5] rfl) hw
    intro H locs ls hl hw
    refine lv_iload hx hb dX5_roofs_39 (lv_at hl 0 rfl) ?_
    refine lv_ldcw (v := (65536 : Int32)) hx hb X.1.2.2.2.1 (X.1.2.2.2.2 _ q2071) dX5_roofs_41 ?_
    refine fb_ige (tgt := 85) hx hb dX5_roofs_44 (by decide) hf (fun hf => ?_) (fun hf => ?_)
    · refine lv_iload_n hx hb dX5_roofs_85 rfl (lv_at hl 4 rfl) ?_
      refine fb_zne (tgt := 93) hx hb dX5_roofs_86 (by decide) hf (fun hf => ?_) (fun hf => ?_)
      · refine lv_iload hx hb dX5_roofs_93 (lv_at hl 1 rfl) ?_
        exact fd_i hend hw hf dX5_roofs_95
      refine lv_iload_n hx hb dX5_roofs_89 rfl (lv_at hl 2 rfl) ?_
      refine lv_goto (tgt := 95) hx hb dX5_roofs_90 (by decide) ?_
      exact fd_i hend hw hf dX5_roofs_95
    refine lv_iload hx hb dX5_roofs_47 (lv_at hl 0 rfl) ?_
    refine fc_Si (rest := []) (As := [.int x6]) X hw hm_X5_ones (lw_S q2072 q2073 q121 q2074) ⟨rfl, rfl⟩ ⟨by rw [hRf]; exact Nat.le_of_ble_eq_true rfl, by rw [hRl]; exact Nat.le_of_ble_eq_true rfl⟩ rfl rfl hl.1 (Nat.le_of_ble_eq_true rfl) dX5_roofs_49 (fun rQ stQ hQ => wX5_ones l E hE G x6 st9 rQ stQ hQ) hf (fun x11 st12 H locs hw hf => ?_)
    refine lv_istore (lv' := [(6, .int x11), (5, .int x6), (4, .int x7), (3, .int x8), (1, .int p1), (2, .int p2)]) hx hb dX5_roofs_52 hl (by decide) rfl (fun ls hl => ?_)
    refine lv_iload hx hb dX5_roofs_54 (lv_at hl 0 rfl) ?_
    refine lv_iload_n hx hb dX5_roofs_56 rfl (lv_at hl 3 rfl) ?_
    refine fb_ige (tgt := 79) hx hb dX5_roofs_57 (by decide) hf (fun hf => ?_) (fun hf => ?_)
    · refine fb_iinc (v := (1 : Int32)) (lv' := [(5, .int (x6 + (1 : Int32))), (6, .int x11), (4, .int x7), (3, .int x8), (1, .int p1), (2, .int p2)]) hx hb dX5_roofs_79 hl (k := 1) rfl (by decide) (by decide) rfl (fun ls hl => ?_)
      refine lv_goto (tgt := 39) hx hb dX5_roofs_82 (by decide) ?_
      exact hrec10 _ _ _ _ hf _ _ _ (lv_sub hl [0, 2, 3, 4, 5] rfl) hw
    refine lv_iload_n hx hb dX5_roofs_60 rfl (lv_at hl 4 rfl) ?_
    refine lv_iload hx hb dX5_roofs_61 (lv_at hl 1 rfl) ?_
    refine fc_Si (rest := [.int p1]) (As := [.int x6]) X hw hm_X5_lit (lw_S q2138 q2139 q121 q2140) ⟨rfl, rfl⟩ ⟨by rw [hRf]; exact Nat.le_of_ble_eq_true rfl, by rw [hRl]; exact Nat.le_of_ble_eq_true rfl⟩ rfl rfl hl.1 (Nat.le_of_ble_eq_true rfl) dX5_roofs_63 (fun rQ stQ hQ => wX5_lit l E hE G x6 st12 rQ stQ hQ) hf (fun x13 st14 H locs hw hf => ?_)
    refine lv_iconst (v := (-1 : Int32)) hx hb dX5_roofs_66 (by decide) ?_
    refine lv_ixor hx hb dX5_roofs_67 ?_
    refine lv_iand hx hb dX5_roofs_68 ?_
    refine fb_zne (tgt := 79) hx hb dX5_roofs_69 (by decide) hf (fun hf => ?_) (fun hf => ?_)
    · refine fb_iinc (v := (1 : Int32)) (lv' := [(5, .int (x6 + (1 : Int32))), (6, .int x11), (4, .int x7), (3, .int x8), (1, .int p1), (2, .int p2)]) hx hb dX5_roofs_79 hl (k := 1) rfl (by decide) (by decide) rfl (fun ls hl => ?_)
      refine lv_goto (tgt := 39) hx hb dX5_roofs_82 (by decide) ?_
      exact hrec10 _ _ _ _ hf _ _ _ (lv_sub hl [0, 2, 3, 4, 5] rfl) hw
    refine lv_iload hx hb dX5_roofs_72 (lv_at hl 0 rfl) ?_
    refine lv_istore_n (lv' := [(3, .int x11), (6, .int x11), (5, .int x6), (4, .int x7), (1, .int p1), (2, .int p2)]) hx hb dX5_roofs_74 rfl hl (by decide) rfl (fun ls hl => ?_)
    refine lv_iload hx hb dX5_roofs_75 (lv_at hl 2 rfl) ?_
    refine lv_istore (lv' := [(4, .int x6), (3, .int x11), (6, .int x11), (5, .int x6), (1, .int p1), (2, .int p2)]) hx hb dX5_roofs_77 hl (by decide) rfl (fun ls hl => ?_)
    refine fb_iinc (v := (1 : Int32)) (lv' := [(5, .int (x6 + (1 : Int32))), (4, .int x6), (3, .int x11), (6, .int x11), (1, .int p1), (2, .int p2)]) hx hb dX5_roofs_79 hl (k := 3) rfl (by decide) (by decide) rfl (fun ls hl => ?_)
    refine lv_goto (tgt := 39) hx hb dX5_roofs_82 (by decide) ?_
    exact hrec10 _ _ _ _ hf _ _ _ (lv_sub hl [0, 1, 2, 4, 5] rfl) hw
  refine lv_iconst (v := (-1 : Int32)) hx hb dX5_roofs_27 (by decide) ?_
  exact fd_i hend hw hf dX5_roofs_28

/-- ForestRoomsModel.stepsFrom -/
def fX5_stepsFrom (G : Nat) (p1 : Int32) (p2 : Int32) (st0 : fo_St) : Option (Int32 × fo_St) := lp3_ (fun rec4 (x1 : Int32) (x2 : Int32) (st3 : fo_St) => if (16 : Int32) ≤ x1 then lI_ (x2 &&& ((1 : Int32) <<< (p1 &&& 31))) (fun x5 => jn_ (fun (x6 : Int32) => jn_ (fun (x8 : Int32) (x9 : Int32) (st10 : fo_St) => bd_ (fX5_is x9 (0 : Int32) st10) (fun x12 st13 => if x12 = 0 then some ((100000000 : Int32), st13) else some (x8, st13))) (fun k11 => lp4_ (fun rec18 (x14 : Int32) (x15 : Int32) (x16 : Int32) (st17 : fo_St) => if x14 = 0 then k11 x15 x16 st17 else bd_ (fX5_is x16 (0 : Int32) st17) (fun x19 st20 => if ¬ x19 = 0 then k11 x15 x16 st20 else bd_ (fX5_lit G x16 st20) (fun x21 st22 => lI_ (x21 &&& x2) (fun x23 => if x23 = x16 then rec18 (0 : Int32) (x15 + (1 : Int32)) x23 st22 else rec18 (1 : Int32) (x15 + (1 : Int32)) x23 st22)))) G x6 (0 : Int32) x5 st3)) (fun k7 => if x5 = 0 then k7 (0 : Int32) else k7 (1 : Int32))) else ck_ (fo_in ((24 : Int32) + x1) 5540) (bd_ (fX5_term (2 : Int32) st3) (fun x24 st25 => if x24 < (gi_ st3 2 ((24 : Int32) + x1).toNatClampNeg) then lI_ (x2 ||| (0 : Int32)) (fun x26 => rec4 (x1 + (1 : Int32)) x26 st25) else bd_ (fX5_is p2 x1 st25) (fun x27 st28 => if ¬ x27 = 0 then lI_ (x2 ||| (0 : Int32)) (fun x29 => rec4 (x1 + (1 : Int32)) x29 st28) else lI_ (x2 ||| ((1 : Int32) <<< (x1 &&& 31))) (fun x30 => rec4 (x1 + (1 : Int32)) x30 st28))))) G (0 : Int32) (0 : Int32) st0
theorem hm_X5_stepsFrom : fo_M yX5_stepsFrom 2 := ⟨by decide +kernel, by decide +kernel, by decide +kernel, by decide +kernel⟩
set_option maxHeartbeats 4000000 in
theorem wX5_stepsFrom (l : Launch) (E : fo_E) (hE : ∀ n, et E n = tM_ n) (G : Nat) (p1 : Int32) (p2 : Int32) (st0 : fo_St) (rZ : Int32) (stZ : fo_St) (hf : fX5_stepsFrom G p1 p2 st0 = some (rZ, stZ)) : CTi l E yX5_stepsFrom (ws_ yX5_stepsFrom cX5_stepsFrom 8 (some .int)) ({ frames := 2, cells := 0, slots := 0, locals := 46 }) [.ref (eb E + 0), .int p1, .int p2] st0 rZ stZ := by
  refine fe_i hm_X5_stepsFrom (Nat.le_of_ble_eq_true rfl) (fun p e R s m args below meth c Q hRf hRl X hend ls hl hw => ?_)
  have hx := X.1.1
  have hb := X.1.2.1
  have hl : lv_has ls 8 [(0, .ref (eb E + 0)), (1, .int p1), (2, .int p2)] := hl
  unfold fX5_stepsFrom at hf
  generalize s.heap = H at hw ⊢
  generalize ([] : List Loc) = locs at hw ⊢
  refine lv_iconst (v := (0 : Int32)) hx hb dX5_stepsFrom_0 (by decide) ?_
  refine lv_istore_n (lv' := [(3, .int (0 : Int32)), (0, .ref (eb E + 0)), (1, .int p1), (2, .int p2)]) hx hb dX5_stepsFrom_1 rfl hl (by decide) rfl (fun ls hl => ?_)
  refine lv_iconst (v := (0 : Int32)) hx hb dX5_stepsFrom_2 (by decide) ?_
  refine lv_istore (lv' := [(4, .int (0 : Int32)), (3, .int (0 : Int32)), (0, .ref (eb E + 0)), (1, .int p1), (2, .int p2)]) hx hb dX5_stepsFrom_3 hl (by decide) rfl (fun ls hl => ?_)
  refine lp3_e (P := fun x1 x2 st3 => ∀ (H : Heap) (locs : List Loc) (ls : Array Slot), lv_has ls 8 [(4, .int x1), (3, .int x2), (0, .ref (eb E + 0)), (1, .int p1), (2, .int p2)] → fo_S E s st3 H locs → W p l e R s m args below meth c H locs 0 0 Q (F0 m 5 ls [])) (fun rec4 hrec4 x1 x2 st3 hf => ?_) G _ _ _ hf H locs ls (lv_sub hl [0, 1, 2, 3, 4] rfl) hw
  intro H locs ls hl hw
  refine lv_iload hx hb dX5_stepsFrom_5 (lv_at hl 0 rfl) ?_
  refine lv_bipush (v := (16 : Int32)) hx hb dX5_stepsFrom_7 (by decide) ?_
  refine fb_ige (tgt := 56) hx hb dX5_stepsFrom_9 (by decide) hf (fun hf => ?_) (fun hf => ?_)
  · refine lv_iload_n hx hb dX5_stepsFrom_56 rfl (lv_at hl 1 rfl) ?_
    refine lv_iconst (v := (1 : Int32)) hx hb dX5_stepsFrom_57 (by decide) ?_
    refine lv_iload_n hx hb dX5_stepsFrom_58 rfl (lv_at hl 3 rfl) ?_
    refine lv_ishl hx hb dX5_stepsFrom_59 ?_
    refine lv_iand hx hb dX5_stepsFrom_60 ?_
    refine fo_tI hf (fun x5 hf => ?_)
    refine lv_istore (lv' := [(4, .int x5), (3, .int x2), (0, .ref (eb E + 0)), (1, .int p1), (2, .int p2)]) hx hb dX5_stepsFrom_61 hl (by decide) rfl (fun ls hl => ?_)
    refine lv_iconst (v := (0 : Int32)) hx hb dX5_stepsFrom_63 (by decide) ?_
    refine lv_istore (lv' := [(5, .int (0 : Int32)), (4, .int x5), (3, .int x2), (0, .ref (eb E + 0)), (1, .int p1), (2, .int p2)]) hx hb dX5_stepsFrom_64 hl (by decide) rfl (fun ls hl => ?_)
    refine lv_iload hx hb dX5_stepsFrom_66 (lv_at hl 1 rfl) ?_
    refine jn_e hf (fun k7 ek hf => ?_)
    have hk7 : ∀ (x6 : Int32) (H : Heap) (locs : List Loc) (ls : Array Slot), lv_has ls 8 [(5, .int (0 : Int32)), (4, .int x5), (3, .int x2)] → fo_S E s st3 H locs → k7 x6 = some (rZ, stZ) → W p l e R s m args below meth c H locs 0 0 Q (F0 m 76 ls [.int x6]) := by
      intro x6 H locs ls hl hw hf
      rw [ek] at hf
      refine lv_istore (lv' := [(6, .int x6), (5, .int (0 : Int32)), (4, .int x5), (3, .int x2)]) hx hb dX5_stepsFrom_76 hl (by decide) rfl (fun ls hl => ?_)
      refine jn_e hf (fun k11 ek hf => ?_)
      have hk11 : ∀ (x8 : Int32) (x9 : Int32) (st10 : fo_St) (H : Heap) (locs : List Loc) (ls : Array Slot), lv_has ls 8 [(5, .int x8), (4, .int x9)] → fo_S E s st10 H locs → k11 x8 x9 st10 = some (rZ, stZ) → W p l e R s m args below meth c H locs 0 0 Q (F0 m 125 ls []) := by
        intro x8 x9 st10 H locs ls hl hw hf
        rw [ek] at hf
        refine lv_iload hx hb dX5_stepsFrom_125 (lv_at hl 1 rfl) ?_
        refine lv_iconst (v := (0 : Int32)) hx hb dX5_stepsFrom_127 (by decide) ?_
        refine fc_Si (rest := []) (As := [.int x9, .int (0 : Int32)]) X hw hm_X5_is (lw_S q2079 q2080 q121 q2081) ⟨rfl, rfl⟩ ⟨by rw [hRf]; exact Nat.le_of_ble_eq_true rfl, by rw [hRl]; exact Nat.le_of_ble_eq_true rfl⟩ rfl rfl hl.1 (Nat.le_of_ble_eq_true rfl) dX5_stepsFrom_128 (fun rQ stQ hQ => wX5_is l E hE x9 (0 : Int32) st10 rQ stQ hQ) hf (fun x12 st13 H locs hw hf => ?_)
        refine fb_zeq (tgt := 139) hx hb dX5_stepsFrom_131 (by decide) hf (fun hf => ?_) (fun hf => ?_)
        · refine lv_ldcw (v := (100000000 : Int32)) hx hb X.1.2.2.2.1 (X.1.2.2.2.2 _ q2132) dX5_stepsFrom_139 ?_
          exact fd_i hend hw hf dX5_stepsFrom_142
        refine lv_iload hx hb dX5_stepsFrom_134 (lv_at hl 0 rfl) ?_
        refine lv_goto (tgt := 142) hx hb dX5_stepsFrom_136 (by decide) ?_
        exact fd_i hend hw hf dX5_stepsFrom_142
      clear ek
      refine lp4_e (P := fun x14 x15 x16 st17 => ∀ (H : Heap) (locs : List Loc) (ls : Array Slot), lv_has ls 8 [(6, .int x14), (5, .int x15), (4, .int x16), (3, .int x2)] → fo_S E s st17 H locs → W p l e R s m args below meth c H locs 0 0 Q (F0 m 78 ls [])) (fun rec18 hrec18 x14 x15 x16 st17 hf => ?_) G _ _ _ _ hf H locs ls (lv_sub hl [0, 1, 2, 3] rfl) hw
      intro H locs ls hl hw
      refine lv_iload hx hb dX5_stepsFrom_78 (lv_at hl 0 rfl) ?_
      refine fb_zeq (tgt := 125) hx hb dX5_stepsFrom_80 (by decide) hf (fun hf => ?_) (fun hf => ?_)
      · exact hk11 _ _ _ _ _ _ (lv_sub hl [1, 2] rfl) hw hf
      refine lv_iload hx hb dX5_stepsFrom_83 (lv_at hl 2 rfl) ?_
      refine lv_iconst (v := (0 : Int32)) hx hb dX5_stepsFrom_85 (by decide) ?_
      refine fc_Si (rest := []) (As := [.int x16, .int (0 : Int32)]) X hw hm_X5_is (lw_S q2079 q2080 q121 q2081) ⟨rfl, rfl⟩ ⟨by rw [hRf]; exact Nat.le_of_ble_eq_true rfl, by rw [hRl]; exact Nat.le_of_ble_eq_true rfl⟩ rfl rfl hl.1 (Nat.le_of_ble_eq_true rfl) dX5_stepsFrom_86 (fun rQ stQ hQ => wX5_is l E hE x16 (0 : Int32) st17 rQ stQ hQ) hf (fun x19 st20 H locs hw hf => ?_)
      refine fb_zne (tgt := 125) hx hb dX5_stepsFrom_89 (by decide) hf (fun hf => ?_) (fun hf => ?_)
      · exact hk11 _ _ _ _ _ _ (lv_sub hl [1, 2] rfl) hw hf
      refine lv_iload hx hb dX5_stepsFrom_92 (lv_at hl 2 rfl) ?_
      refine fc_Si (rest := []) (As := [.int x16]) X hw hm_X5_lit (lw_S q2138 q2139 q121 q2140) ⟨rfl, rfl⟩ ⟨by rw [hRf]; exact Nat.le_of_ble_eq_true rfl, by rw [hRl]; exact Nat.le_of_ble_eq_true rfl⟩ rfl rfl hl.1 (Nat.le_of_ble_eq_true rfl) dX5_stepsFrom_94 (fun rQ stQ hQ => wX5_lit l E hE G x16 st20 rQ stQ hQ) hf (fun x21 st22 H locs hw hf => ?_)
      refine lv_iload_n hx hb dX5_stepsFrom_97 rfl (lv_at hl 3 rfl) ?_
      refine lv_iand hx hb dX5_stepsFrom_98 ?_
      refine fo_tI hf (fun x23 hf => ?_)
      refine lv_istore (lv' := [(7, .int x23), (6, .int x14), (5, .int x15), (4, .int x16), (3, .int x2)]) hx hb dX5_stepsFrom_99 hl (by decide) rfl (fun ls hl => ?_)
      refine lv_iload hx hb dX5_stepsFrom_101 (lv_at hl 0 rfl) ?_
      refine lv_iload hx hb dX5_stepsFrom_103 (lv_at hl 3 rfl) ?_
      refine fb_ieq (tgt := 112) hx hb dX5_stepsFrom_105 (by decide) hf (fun hf => ?_) (fun hf => ?_)
      · refine lv_iconst (v := (0 : Int32)) hx hb dX5_stepsFrom_112 (by decide) ?_
        refine lv_istore (lv' := [(6, .int (0 : Int32)), (7, .int x23), (5, .int x15), (4, .int x16), (3, .int x2)]) hx hb dX5_stepsFrom_113 hl (by decide) rfl (fun ls hl => ?_)
        refine lv_iload hx hb dX5_stepsFrom_115 (lv_at hl 1 rfl) ?_
        refine lv_istore (lv' := [(4, .int x23), (6, .int (0 : Int32)), (7, .int x23), (5, .int x15), (3, .int x2)]) hx hb dX5_stepsFrom_117 hl (by decide) rfl (fun ls hl => ?_)
        refine fb_iinc (v := (1 : Int32)) (lv' := [(5, .int (x15 + (1 : Int32))), (4, .int x23), (6, .int (0 : Int32)), (7, .int x23), (3, .int x2)]) hx hb dX5_stepsFrom_119 hl (k := 3) rfl (by decide) (by decide) rfl (fun ls hl => ?_)
        refine lv_goto (tgt := 78) hx hb dX5_stepsFrom_122 (by decide) ?_
        exact hrec18 _ _ _ _ hf _ _ _ (lv_sub hl [2, 0, 1, 4] rfl) hw
      refine lv_iconst (v := (1 : Int32)) hx hb dX5_stepsFrom_108 (by decide) ?_
      refine lv_goto (tgt := 113) hx hb dX5_stepsFrom_109 (by decide) ?_
      refine lv_istore (lv' := [(6, .int (1 : Int32)), (7, .int x23), (5, .int x15), (4, .int x16), (3, .int x2)]) hx hb dX5_stepsFrom_113 hl (by decide) rfl (fun ls hl => ?_)
      refine lv_iload hx hb dX5_stepsFrom_115 (lv_at hl 1 rfl) ?_
      refine lv_istore (lv' := [(4, .int x23), (6, .int (1 : Int32)), (7, .int x23), (5, .int x15), (3, .int x2)]) hx hb dX5_stepsFrom_117 hl (by decide) rfl (fun ls hl => ?_)
      refine fb_iinc (v := (1 : Int32)) (lv' := [(5, .int (x15 + (1 : Int32))), (4, .int x23), (6, .int (1 : Int32)), (7, .int x23), (3, .int x2)]) hx hb dX5_stepsFrom_119 hl (k := 3) rfl (by decide) (by decide) rfl (fun ls hl => ?_)
      refine lv_goto (tgt := 78) hx hb dX5_stepsFrom_122 (by decide) ?_
      exact hrec18 _ _ _ _ hf _ _ _ (lv_sub hl [2, 0, 1, 4] rfl) hw
    clear ek
    refine fb_zeq (tgt := 75) hx hb dX5_stepsFrom_68 (by decide) hf (fun hf => ?_) (fun hf => ?_)
    · refine lv_iconst (v := (0 : Int32)) hx hb dX5_stepsFrom_75 (by decide) ?_
      exact hk7 _ _ _ _ (lv_sub hl [0, 1, 2] rfl) hw hf
    refine lv_iconst (v := (1 : Int32)) hx hb dX5_stepsFrom_71 (by decide) ?_
    refine lv_goto (tgt := 76) hx hb dX5_stepsFrom_72 (by decide) ?_
    exact hk7 _ _ _ _ (lv_sub hl [0, 1, 2] rfl) hw hf
  refine lv_iload_n hx hb dX5_stepsFrom_12 rfl (lv_at hl 1 rfl) ?_
  refine lv_aload_n hx hb dX5_stepsFrom_13 rfl (lv_at hl 2 rfl) ?_
  refine fo_gets X hw fc_X5 (hm0 hE) (k := 3) (d := 2) (n2 := 2) (by decide) rfl rfl q1521 dX5_stepsFrom_14 ?_
  refine lv_bipush (v := (24 : Int32)) hx hb dX5_stepsFrom_17 (by decide) ?_
  refine lv_iload hx hb dX5_stepsFrom_19 (lv_at hl 0 rfl) ?_
  refine lv_iadd hx hb dX5_stepsFrom_21 ?_
  refine fo_iald X hw (hm2 hE) dX5_stepsFrom_22 hf (fun hf => ?_)
  refine lv_aload_n hx hb dX5_stepsFrom_23 rfl (lv_at hl 2 rfl) ?_
  refine lv_iconst (v := (2 : Int32)) hx hb dX5_stepsFrom_24 (by decide) ?_
  refine fc_Vi (rest := [.int (gi_ st3 2 ((24 : Int32) + x1).toNatClampNeg), .int x2]) (As := [.int (2 : Int32)]) X hw hm_X5_term (lw_V q1774 q1776 qs47 q121 q1777) ⟨rfl, rfl⟩ ⟨by rw [hRf]; exact Nat.le_of_ble_eq_true rfl, by rw [hRl]; exact Nat.le_of_ble_eq_true rfl⟩ fc_X5 rfl (hm0 hE) rfl rfl hl.1 (Nat.le_of_ble_eq_true rfl) dX5_stepsFrom_25 (fun rQ stQ hQ => wX5_term l E hE (2 : Int32) st3 rQ stQ hQ) hf (fun x24 st25 H locs hw hf => ?_)
  refine fb_igt (tgt := 47) hx hb dX5_stepsFrom_28 (by decide) hf (fun hf => ?_) (fun hf => ?_)
  · refine lv_iconst (v := (0 : Int32)) hx hb dX5_stepsFrom_47 (by decide) ?_
    refine lv_ior hx hb dX5_stepsFrom_48 ?_
    refine fo_tI hf (fun x26 hf => ?_)
    refine lv_istore_n (lv' := [(3, .int x26), (4, .int x1), (0, .ref (eb E + 0)), (1, .int p1), (2, .int p2)]) hx hb dX5_stepsFrom_49 rfl hl (by decide) rfl (fun ls hl => ?_)
    refine fb_iinc (v := (1 : Int32)) (lv' := [(4, .int (x1 + (1 : Int32))), (3, .int x26), (0, .ref (eb E + 0)), (1, .int p1), (2, .int p2)]) hx hb dX5_stepsFrom_50 hl (k := 1) rfl (by decide) (by decide) rfl (fun ls hl => ?_)
    refine lv_goto (tgt := 5) hx hb dX5_stepsFrom_53 (by decide) ?_
    exact hrec4 _ _ _ hf _ _ _ (lv_sub hl [0, 1, 2, 3, 4] rfl) hw
  refine lv_iload_n hx hb dX5_stepsFrom_31 rfl (lv_at hl 4 rfl) ?_
  refine lv_iload hx hb dX5_stepsFrom_32 (lv_at hl 0 rfl) ?_
  refine fc_Si (rest := [.int x2]) (As := [.int p2, .int x1]) X hw hm_X5_is (lw_S q2079 q2080 q121 q2081) ⟨rfl, rfl⟩ ⟨by rw [hRf]; exact Nat.le_of_ble_eq_true rfl, by rw [hRl]; exact Nat.le_of_ble_eq_true rfl⟩ rfl rfl hl.1 (Nat.le_of_ble_eq_true rfl) dX5_stepsFrom_34 (fun rQ stQ hQ => wX5_is l E hE p2 x1 st25 rQ stQ hQ) hf (fun x27 st28 H locs hw hf => ?_)
  refine fb_zne (tgt := 47) hx hb dX5_stepsFrom_37 (by decide) hf (fun hf => ?_) (fun hf => ?_)
  · refine lv_iconst (v := (0 : Int32)) hx hb dX5_stepsFrom_47 (by decide) ?_
    refine lv_ior hx hb dX5_stepsFrom_48 ?_
    refine fo_tI hf (fun x29 hf => ?_)
    refine lv_istore_n (lv' := [(3, .int x29), (4, .int x1), (0, .ref (eb E + 0)), (1, .int p1), (2, .int p2)]) hx hb dX5_stepsFrom_49 rfl hl (by decide) rfl (fun ls hl => ?_)
    refine fb_iinc (v := (1 : Int32)) (lv' := [(4, .int (x1 + (1 : Int32))), (3, .int x29), (0, .ref (eb E + 0)), (1, .int p1), (2, .int p2)]) hx hb dX5_stepsFrom_50 hl (k := 1) rfl (by decide) (by decide) rfl (fun ls hl => ?_)
    refine lv_goto (tgt := 5) hx hb dX5_stepsFrom_53 (by decide) ?_
    exact hrec4 _ _ _ hf _ _ _ (lv_sub hl [0, 1, 2, 3, 4] rfl) hw
  refine lv_iconst (v := (1 : Int32)) hx hb dX5_stepsFrom_40 (by decide) ?_
  refine lv_iload hx hb dX5_stepsFrom_41 (lv_at hl 0 rfl) ?_
  refine lv_ishl hx hb dX5_stepsFrom_43 ?_
  refine lv_goto (tgt := 48) hx hb dX5_stepsFrom_44 (by decide) ?_
  refine lv_ior hx hb dX5_stepsFrom_48 ?_
  refine fo_tI hf (fun x30 hf => ?_)
  refine lv_istore_n (lv' := [(3, .int x30), (4, .int x1), (0, .ref (eb E + 0)), (1, .int p1), (2, .int p2)]) hx hb dX5_stepsFrom_49 rfl hl (by decide) rfl (fun ls hl => ?_)
  refine fb_iinc (v := (1 : Int32)) (lv' := [(4, .int (x1 + (1 : Int32))), (3, .int x30), (0, .ref (eb E + 0)), (1, .int p1), (2, .int p2)]) hx hb dX5_stepsFrom_50 hl (k := 1) rfl (by decide) (by decide) rfl (fun ls hl => ?_)
  refine lv_goto (tgt := 5) hx hb dX5_stepsFrom_53 (by decide) ?_
  exact hrec4 _ _ _ hf _ _ _ (lv_sub hl [0, 1, 2, 3, 4] rfl) hw

/-- ForestRoomsModel.way -/
def fX5_way (G : Nat) (p1 : Int32) (st0 : fo_St) : Option (Int32 × fo_St) := lt_ (si_ st0 0 0 (0 : Int32)) (fun st1 => bd_ (fX5_isRoom p1 st1) (fun x2 st3 => if ¬ x2 = 0 then bd_ (fX5_stepsFrom G p1 (0 : Int32) st3) (fun x4 st5 => if ¬ x4 = (100000000 : Int32) then some (x4, st5) else some ((-1 : Int32), st5)) else some ((-1 : Int32), st3)))
theorem hm_X5_way : fo_M yX5_way 1 := ⟨by decide +kernel, by decide +kernel, by decide +kernel, by decide +kernel⟩
set_option maxHeartbeats 4000000 in
theorem wX5_way (l : Launch) (E : fo_E) (hE : ∀ n, et E n = tM_ n) (G : Nat) (p1 : Int32) (st0 : fo_St) (rZ : Int32) (stZ : fo_St) (hf : fX5_way G p1 st0 = some (rZ, stZ)) : CTi l E yX5_way (ws_ yX5_way cX5_way 3 (some .int)) ({ frames := 3, cells := 0, slots := 0, locals := 73 }) [.ref (eb E + 0), .int p1] st0 rZ stZ := by
  refine fe_i hm_X5_way (Nat.le_of_ble_eq_true rfl) (fun p e R s m args below meth c Q hRf hRl X hend ls hl hw => ?_)
  have hx := X.1.1
  have hb := X.1.2.1
  have hl : lv_has ls 3 [(0, .ref (eb E + 0)), (1, .int p1)] := hl
  unfold fX5_way at hf
  generalize s.heap = H at hw ⊢
  generalize ([] : List Loc) = locs at hw ⊢
  refine lv_aload_n hx hb dX5_way_0 rfl (lv_at hl 0 rfl) ?_
  refine lv_iconst (v := (0 : Int32)) hx hb dX5_way_1 (by decide) ?_
  refine fo_puti X hw fc_X5 (hm0 hE) (k := 0) (by decide) rfl rfl q1518 ⟨rfl, rfl⟩ dX5_way_2 hf (fun st1 H locs hw hf => ?_)
  refine lv_iload_n hx hb dX5_way_5 rfl (lv_at hl 1 rfl) ?_
  refine fc_Si (rest := []) (As := [.int p1]) X hw hm_X5_isRoom (lw_S q1737 q1738 q121 q1739) ⟨rfl, rfl⟩ ⟨by rw [hRf]; exact Nat.le_of_ble_eq_true rfl, by rw [hRl]; exact Nat.le_of_ble_eq_true rfl⟩ rfl rfl hl.1 (Nat.le_of_ble_eq_true rfl) dX5_way_6 (fun rQ stQ hQ => wX5_isRoom l E hE p1 st1 rQ stQ hQ) hf (fun x2 st3 H locs hw hf => ?_)
  refine fb_zne (tgt := 14) hx hb dX5_way_9 (by decide) hf (fun hf => ?_) (fun hf => ?_)
  · refine lv_aload_n hx hb dX5_way_14 rfl (lv_at hl 0 rfl) ?_
    refine lv_iload_n hx hb dX5_way_15 rfl (lv_at hl 1 rfl) ?_
    refine lv_iconst (v := (0 : Int32)) hx hb dX5_way_16 (by decide) ?_
    refine fc_Vi (rest := []) (As := [.int p1, .int (0 : Int32)]) X hw hm_X5_stepsFrom (lw_V q2145 q2147 qs101 q121 q2148) ⟨rfl, rfl⟩ ⟨by rw [hRf]; exact Nat.le_of_ble_eq_true rfl, by rw [hRl]; exact Nat.le_of_ble_eq_true rfl⟩ fc_X5 rfl (hm0 hE) rfl rfl hl.1 (Nat.le_of_ble_eq_true rfl) dX5_way_17 (fun rQ stQ hQ => wX5_stepsFrom l E hE G p1 (0 : Int32) st3 rQ stQ hQ) hf (fun x4 st5 H locs hw hf => ?_)
    refine lv_istore_n (lv' := [(2, .int x4), (0, .ref (eb E + 0)), (1, .int p1)]) hx hb dX5_way_20 rfl hl (by decide) rfl (fun ls hl => ?_)
    refine lv_iload_n hx hb dX5_way_21 rfl (lv_at hl 0 rfl) ?_
    refine lv_ldcw (v := (100000000 : Int32)) hx hb X.1.2.2.2.1 (X.1.2.2.2.2 _ q2132) dX5_way_22 ?_
    refine fb_ine (tgt := 32) hx hb dX5_way_25 (by decide) hf (fun hf => ?_) (fun hf => ?_)
    · refine lv_iload_n hx hb dX5_way_32 rfl (lv_at hl 0 rfl) ?_
      exact fd_i hend hw hf dX5_way_33
    refine lv_iconst (v := (-1 : Int32)) hx hb dX5_way_28 (by decide) ?_
    refine lv_goto (tgt := 33) hx hb dX5_way_29 (by decide) ?_
    exact fd_i hend hw hf dX5_way_33
  refine lv_iconst (v := (-1 : Int32)) hx hb dX5_way_12 (by decide) ?_
  exact fd_i hend hw hf dX5_way_13

/-- ForestRoomsModel.cut -/
def fX5_cut (G : Nat) (p1 : Int32) (p2 : Int32) (st0 : fo_St) : Option (Int32 × fo_St) := lt_ (si_ st0 0 0 (0 : Int32)) (fun st1 => bd_ (fX5_in (p1.toInt64) (1 : Int64) (15 : Int64) st1) (fun x2 st3 => if x2 = 0 then some ((-1 : Int32), st3) else bd_ (fX5_in (p2.toInt64) (0 : Int64) (1 : Int64) st3) (fun x4 st5 => if ¬ x4 = 0 then lp2_ (fun rec8 (x6 : Int32) (st7 : fo_St) => if (3 : Int32) ≤ x6 then some ((-1 : Int32), st7) else lp2_ (fun rec11 (x9 : Int32) (st10 : fo_St) => if (65536 : Int32) ≤ x9 then rec8 (x6 + (1 : Int32)) st10 else bd_ (fX5_is x9 (0 : Int32) st10) (fun x12 st13 => if ¬ x12 = 0 then rec11 (x9 + (1 : Int32)) st13 else bd_ (fX5_is x9 p1 st13) (fun x14 st15 => if ¬ x14 = 0 then rec11 (x9 + (1 : Int32)) st15 else bd_ (fX5_ones G x9 st15) (fun x16 st17 => if ¬ x16 = x6 then rec11 (x9 + (1 : Int32)) st17 else bd_ (fX5_stepsFrom G p1 x9 st17) (fun x18 st19 => if ¬ x18 = (100000000 : Int32) then rec11 (x9 + (1 : Int32)) st19 else if ¬ p2 = 0 then some (x9, st19) else some (x6, st19)))))) G (0 : Int32) st7) G (0 : Int32) st5 else some ((-1 : Int32), st5))))
theorem hm_X5_cut : fo_M yX5_cut 2 := ⟨by decide +kernel, by decide +kernel, by decide +kernel, by decide +kernel⟩
set_option maxHeartbeats 4000000 in
theorem wX5_cut (l : Launch) (E : fo_E) (hE : ∀ n, et E n = tM_ n) (G : Nat) (p1 : Int32) (p2 : Int32) (st0 : fo_St) (rZ : Int32) (stZ : fo_St) (hf : fX5_cut G p1 p2 st0 = some (rZ, stZ)) : CTi l E yX5_cut (ws_ yX5_cut cX5_cut 5 (some .int)) ({ frames := 3, cells := 0, slots := 0, locals := 73 }) [.ref (eb E + 0), .int p1, .int p2] st0 rZ stZ := by
  refine fe_i hm_X5_cut (Nat.le_of_ble_eq_true rfl) (fun p e R s m args below meth c Q hRf hRl X hend ls hl hw => ?_)
  have hx := X.1.1
  have hb := X.1.2.1
  have hl : lv_has ls 5 [(0, .ref (eb E + 0)), (1, .int p1), (2, .int p2)] := hl
  unfold fX5_cut at hf
  generalize s.heap = H at hw ⊢
  generalize ([] : List Loc) = locs at hw ⊢
  refine lv_aload_n hx hb dX5_cut_0 rfl (lv_at hl 0 rfl) ?_
  refine lv_iconst (v := (0 : Int32)) hx hb dX5_cut_1 (by decide) ?_
  refine fo_puti X hw fc_X5 (hm0 hE) (k := 0) (by decide) rfl rfl q1518 ⟨rfl, rfl⟩ dX5_cut_2 hf (fun st1 H locs hw hf => ?_)
  refine lv_iload_n hx hb dX5_cut_5 rfl (lv_at hl 1 rfl) ?_
  refine lv_i2l (v := p1.toInt64) hx hb dX5_cut_6 rfl ?_
  refine lv_lconst (v := (1 : Int64)) hx hb dX5_cut_7 rfl ?_
  refine lv_ldc2 (v := (15 : Int64)) hx hb X.1.2.2.2.1 (X.1.2.2.2.2 _ q1740) dX5_cut_8 ?_
  refine fc_Si (rest := []) (As := [.long p1.toInt64, .long (1 : Int64), .long (15 : Int64)]) X hw hm_X5_in (lw_S q1722 q1723 q121 q1724) ⟨rfl, rfl⟩ ⟨by rw [hRf]; exact Nat.le_of_ble_eq_true rfl, by rw [hRl]; exact Nat.le_of_ble_eq_true rfl⟩ rfl rfl hl.1 (Nat.le_of_ble_eq_true rfl) dX5_cut_11 (fun rQ stQ hQ => wX5_in l E hE (p1.toInt64) (1 : Int64) (15 : Int64) st1 rQ stQ hQ) hf (fun x2 st3 H locs hw hf => ?_)
  refine fb_zeq (tgt := 27) hx hb dX5_cut_14 (by decide) hf (fun hf => ?_) (fun hf => ?_)
  · refine lv_iconst (v := (-1 : Int32)) hx hb dX5_cut_27 (by decide) ?_
    exact fd_i hend hw hf dX5_cut_28
  refine lv_iload_n hx hb dX5_cut_17 rfl (lv_at hl 2 rfl) ?_
  refine lv_i2l (v := p2.toInt64) hx hb dX5_cut_18 rfl ?_
  refine lv_lconst (v := (0 : Int64)) hx hb dX5_cut_19 rfl ?_
  refine lv_lconst (v := (1 : Int64)) hx hb dX5_cut_20 rfl ?_
  refine fc_Si (rest := []) (As := [.long p2.toInt64, .long (0 : Int64), .long (1 : Int64)]) X hw hm_X5_in (lw_S q1722 q1723 q121 q1724) ⟨rfl, rfl⟩ ⟨by rw [hRf]; exact Nat.le_of_ble_eq_true rfl, by rw [hRl]; exact Nat.le_of_ble_eq_true rfl⟩ rfl rfl hl.1 (Nat.le_of_ble_eq_true rfl) dX5_cut_21 (fun rQ stQ hQ => wX5_in l E hE (p2.toInt64) (0 : Int64) (1 : Int64) st3 rQ stQ hQ) hf (fun x4 st5 H locs hw hf => ?_)
  refine fb_zne (tgt := 29) hx hb dX5_cut_24 (by decide) hf (fun hf => ?_) (fun hf => ?_)
  · refine lv_iconst (v := (0 : Int32)) hx hb dX5_cut_29 (by decide) ?_
    refine lv_istore_n (lv' := [(3, .int (0 : Int32)), (0, .ref (eb E + 0)), (1, .int p1), (2, .int p2)]) hx hb dX5_cut_30 rfl hl (by decide) rfl (fun ls hl => ?_)
    refine lp2_e (P := fun x6 st7 => ∀ (H : Heap) (locs : List Loc) (ls : Array Slot), lv_has ls 5 [(3, .int x6), (0, .ref (eb E + 0)), (1, .int p1), (2, .int p2)] → fo_S E s st7 H locs → W p l e R s m args below meth c H locs 0 0 Q (F0 m 31 ls [])) (fun rec8 hrec8 x6 st7 hf => ?_) G _ _ hf H locs ls (lv_sub hl [0, 1, 2, 3] rfl) hw
    intro H locs ls hl hw
    refine lv_iload_n hx hb dX5_cut_31 rfl (lv_at hl 0 rfl) ?_
    refine lv_iconst (v := (3 : Int32)) hx hb dX5_cut_32 (by decide) ?_
    refine fb_ige (tgt := 110) hx hb dX5_cut_33 (by decide) hf (fun hf => ?_) (fun hf => ?_)
    · refine lv_iconst (v := (-1 : Int32)) hx hb dX5_cut_110 (by decide) ?_
      exact fd_i hend hw hf dX5_cut_111
    refine lv_iconst (v := (0 : Int32)) hx hb dX5_cut_36 (by decide) ?_
    refine lv_istore (lv' := [(4, .int (0 : Int32)), (3, .int x6), (0, .ref (eb E + 0)), (1, .int p1), (2, .int p2)]) hx hb dX5_cut_37 hl (by decide) rfl (fun ls hl => ?_)
    refine lp2_e (P := fun x9 st10 => ∀ (H : Heap) (locs : List Loc) (ls : Array Slot), lv_has ls 5 [(4, .int x9), (3, .int x6), (0, .ref (eb E + 0)), (1, .int p1), (2, .int p2)] → fo_S E s st10 H locs → W p l e R s m args below meth c H locs 0 0 Q (F0 m 39 ls [])) (fun rec11 hrec11 x9 st10 hf => ?_) G _ _ hf H locs ls (lv_sub hl [0, 1, 2, 3, 4] rfl) hw
    intro H locs ls hl hw
    refine lv_iload hx hb dX5_cut_39 (lv_at hl 0 rfl) ?_
    refine lv_ldcw (v := (65536 : Int32)) hx hb X.1.2.2.2.1 (X.1.2.2.2.2 _ q2071) dX5_cut_41 ?_
    refine fb_ige (tgt := 104) hx hb dX5_cut_44 (by decide) hf (fun hf => ?_) (fun hf => ?_)
    · refine fb_iinc (v := (1 : Int32)) (lv' := [(3, .int (x6 + (1 : Int32))), (4, .int x9), (0, .ref (eb E + 0)), (1, .int p1), (2, .int p2)]) hx hb dX5_cut_104 hl (k := 1) rfl (by decide) (by decide) rfl (fun ls hl => ?_)
      refine lv_goto (tgt := 31) hx hb dX5_cut_107 (by decide) ?_
      exact hrec8 _ _ hf _ _ _ (lv_sub hl [0, 2, 3, 4] rfl) hw
    refine lv_iload hx hb dX5_cut_47 (lv_at hl 0 rfl) ?_
    refine lv_iconst (v := (0 : Int32)) hx hb dX5_cut_49 (by decide) ?_
    refine fc_Si (rest := []) (As := [.int x9, .int (0 : Int32)]) X hw hm_X5_is (lw_S q2079 q2080 q121 q2081) ⟨rfl, rfl⟩ ⟨by rw [hRf]; exact Nat.le_of_ble_eq_true rfl, by rw [hRl]; exact Nat.le_of_ble_eq_true rfl⟩ rfl rfl hl.1 (Nat.le_of_ble_eq_true rfl) dX5_cut_50 (fun rQ stQ hQ => wX5_is l E hE x9 (0 : Int32) st10 rQ stQ hQ) hf (fun x12 st13 H locs hw hf => ?_)
    refine fb_zne (tgt := 98) hx hb dX5_cut_53 (by decide) hf (fun hf => ?_) (fun hf => ?_)
    · refine fb_iinc (v := (1 : Int32)) (lv' := [(4, .int (x9 + (1 : Int32))), (3, .int x6), (0, .ref (eb E + 0)), (1, .int p1), (2, .int p2)]) hx hb dX5_cut_98 hl (k := 0) rfl (by decide) (by decide) rfl (fun ls hl => ?_)
      refine lv_goto (tgt := 39) hx hb dX5_cut_101 (by decide) ?_
      exact hrec11 _ _ hf _ _ _ (lv_sub hl [0, 1, 2, 3, 4] rfl) hw
    refine lv_iload hx hb dX5_cut_56 (lv_at hl 0 rfl) ?_
    refine lv_iload_n hx hb dX5_cut_58 rfl (lv_at hl 3 rfl) ?_
    refine fc_Si (rest := []) (As := [.int x9, .int p1]) X hw hm_X5_is (lw_S q2079 q2080 q121 q2081) ⟨rfl, rfl⟩ ⟨by rw [hRf]; exact Nat.le_of_ble_eq_true rfl, by rw [hRl]; exact Nat.le_of_ble_eq_true rfl⟩ rfl rfl hl.1 (Nat.le_of_ble_eq_true rfl) dX5_cut_59 (fun rQ stQ hQ => wX5_is l E hE x9 p1 st13 rQ stQ hQ) hf (fun x14 st15 H locs hw hf => ?_)
    refine fb_zne (tgt := 98) hx hb dX5_cut_62 (by decide) hf (fun hf => ?_) (fun hf => ?_)
    · refine fb_iinc (v := (1 : Int32)) (lv' := [(4, .int (x9 + (1 : Int32))), (3, .int x6), (0, .ref (eb E + 0)), (1, .int p1), (2, .int p2)]) hx hb dX5_cut_98 hl (k := 0) rfl (by decide) (by decide) rfl (fun ls hl => ?_)
      refine lv_goto (tgt := 39) hx hb dX5_cut_101 (by decide) ?_
      exact hrec11 _ _ hf _ _ _ (lv_sub hl [0, 1, 2, 3, 4] rfl) hw
    refine lv_iload hx hb dX5_cut_65 (lv_at hl 0 rfl) ?_
    refine fc_Si (rest := []) (As := [.int x9]) X hw hm_X5_ones (lw_S q2072 q2073 q121 q2074) ⟨rfl, rfl⟩ ⟨by rw [hRf]; exact Nat.le_of_ble_eq_true rfl, by rw [hRl]; exact Nat.le_of_ble_eq_true rfl⟩ rfl rfl hl.1 (Nat.le_of_ble_eq_true rfl) dX5_cut_67 (fun rQ stQ hQ => wX5_ones l E hE G x9 st15 rQ stQ hQ) hf (fun x16 st17 H locs hw hf => ?_)
    refine lv_iload_n hx hb dX5_cut_70 rfl (lv_at hl 1 rfl) ?_
    refine fb_ine (tgt := 98) hx hb dX5_cut_71 (by decide) hf (fun hf => ?_) (fun hf => ?_)
    · refine fb_iinc (v := (1 : Int32)) (lv' := [(4, .int (x9 + (1 : Int32))), (3, .int x6), (0, .ref (eb E + 0)), (1, .int p1), (2, .int p2)]) hx hb dX5_cut_98 hl (k := 0) rfl (by decide) (by decide) rfl (fun ls hl => ?_)
      refine lv_goto (tgt := 39) hx hb dX5_cut_101 (by decide) ?_
      exact hrec11 _ _ hf _ _ _ (lv_sub hl [0, 1, 2, 3, 4] rfl) hw
    refine lv_aload_n hx hb dX5_cut_74 rfl (lv_at hl 2 rfl) ?_
    refine lv_iload_n hx hb dX5_cut_75 rfl (lv_at hl 3 rfl) ?_
    refine lv_iload hx hb dX5_cut_76 (lv_at hl 0 rfl) ?_
    refine fc_Vi (rest := []) (As := [.int p1, .int x9]) X hw hm_X5_stepsFrom (lw_V q2145 q2147 qs101 q121 q2148) ⟨rfl, rfl⟩ ⟨by rw [hRf]; exact Nat.le_of_ble_eq_true rfl, by rw [hRl]; exact Nat.le_of_ble_eq_true rfl⟩ fc_X5 rfl (hm0 hE) rfl rfl hl.1 (Nat.le_of_ble_eq_true rfl) dX5_cut_78 (fun rQ stQ hQ => wX5_stepsFrom l E hE G p1 x9 st17 rQ stQ hQ) hf (fun x18 st19 H locs hw hf => ?_)
    refine lv_ldcw (v := (100000000 : Int32)) hx hb X.1.2.2.2.1 (X.1.2.2.2.2 _ q2132) dX5_cut_81 ?_
    refine fb_ine (tgt := 98) hx hb dX5_cut_84 (by decide) hf (fun hf => ?_) (fun hf => ?_)
    · refine fb_iinc (v := (1 : Int32)) (lv' := [(4, .int (x9 + (1 : Int32))), (3, .int x6), (0, .ref (eb E + 0)), (1, .int p1), (2, .int p2)]) hx hb dX5_cut_98 hl (k := 0) rfl (by decide) (by decide) rfl (fun ls hl => ?_)
      refine lv_goto (tgt := 39) hx hb dX5_cut_101 (by decide) ?_
      exact hrec11 _ _ hf _ _ _ (lv_sub hl [0, 1, 2, 3, 4] rfl) hw
    refine lv_iload_n hx hb dX5_cut_87 rfl (lv_at hl 4 rfl) ?_
    refine fb_zne (tgt := 95) hx hb dX5_cut_88 (by decide) hf (fun hf => ?_) (fun hf => ?_)
    · refine lv_iload hx hb dX5_cut_95 (lv_at hl 0 rfl) ?_
      exact fd_i hend hw hf dX5_cut_97
    refine lv_iload_n hx hb dX5_cut_91 rfl (lv_at hl 1 rfl) ?_
    refine lv_goto (tgt := 97) hx hb dX5_cut_92 (by decide) ?_
    exact fd_i hend hw hf dX5_cut_97
  refine lv_iconst (v := (-1 : Int32)) hx hb dX5_cut_27 (by decide) ?_
  exact fd_i hend hw hf dX5_cut_28

/-- ForestRoomsModel.share -/
def fX5_share (G : Nat) (p1 : Int32) (p2 : Int32) (st0 : fo_St) : Option (Int32 × fo_St) := lt_ (si_ st0 0 0 (0 : Int32)) (fun st1 => bd_ (fX5_in (p1.toInt64) (0 : Int64) (99999 : Int64) st1) (fun x2 st3 => if x2 = 0 then some ((-1 : Int32), st3) else bd_ (fX5_isRoom p2 st3) (fun x4 st5 => if ¬ x4 = 0 then lp3_ (fun rec9 (x6 : Int32) (x7 : Int64) (st8 : fo_St) => if (16 : Int32) ≤ x6 then if ¬ x7 = (0 : Int64) then lp3_ (fun rec13 (x10 : Int32) (x11 : Int32) (st12 : fo_St) => if (16 : Int32) ≤ x10 then lp2_ (fun rec16 (x14 : Int32) (st15 : fo_St) => if x14 ≤ 0 then ck_ (fo_in p2 16) (some ((gi_ st15 31 p2.toNatClampNeg), st15)) else lp3_ (fun rec20 (x17 : Int32) (x18 : Int32) (st19 : fo_St) => if (16 : Int32) ≤ x17 then ck_ (fo_in x18 16) (ck_ (fo_in x18 16) (lt_ (si_ st19 31 x18.toNatClampNeg ((gi_ st19 31 x18.toNatClampNeg) + (1 : Int32))) (fun st21 => ck_ (fo_in x18 16) (lt_ (sl_ st21 32 x18.toNatClampNeg (-1 : Int64)) (fun st22 => rec16 (x14 + (-1 : Int32)) st22))))) else ck_ (fo_in x17 16) (ck_ (fo_in x18 16) (if (gl_ st19 32 x17.toNatClampNeg) ≤ (gl_ st19 32 x18.toNatClampNeg) then rec20 (x17 + (1 : Int32)) x18 st19 else rec20 (x17 + (1 : Int32)) x17 st19))) G (1 : Int32) (0 : Int32) st15) G x11 st12 else ck_ (fo_in x10 16) (ck_ (decide (¬ x7 = 0)) (ck_ (fo_in x10 16) (lt_ (sl_ st12 32 x10.toNatClampNeg (lrem_ (p1.toInt64 * (gi_ st12 31 x10.toNatClampNeg).toInt64) x7)) (fun st23 => ck_ (fo_in x10 16) (ck_ (decide (¬ x7 = 0)) (ck_ (fo_in x10 16) (lt_ (si_ st23 31 x10.toNatClampNeg (((p1.toInt64 * (gi_ st23 31 x10.toNatClampNeg).toInt64) / x7).toInt32)) (fun st24 => ck_ (fo_in x10 16) (lI_ (x11 - (gi_ st24 31 x10.toNatClampNeg)) (fun x25 => rec13 (x10 + (1 : Int32)) x25 st24))))))))))) G (0 : Int32) p1 st8 else some ((-1 : Int32), st8) else bd_ (fX5_isTree x6 st8) (fun x26 st27 => jn_ (fun (x28 : Int32) (st29 : fo_St) => ck_ (fo_in x6 16) (lt_ (si_ st29 31 x6.toNatClampNeg x28) (fun st31 => ck_ (fo_in x6 16) (lL_ (x7 + (gi_ st31 31 x6.toNatClampNeg).toInt64) (fun x32 => rec9 (x6 + (1 : Int32)) x32 st31))))) (fun k30 => if x26 = 0 then k30 (0 : Int32) st27 else bd_ (fX5_leavesOf G x6 st27) (fun x33 st34 => k30 x33 st34)))) G (0 : Int32) (0 : Int64) st5 else some ((-1 : Int32), st5))))
theorem hm_X5_share : fo_M yX5_share 2 := ⟨by decide +kernel, by decide +kernel, by decide +kernel, by decide +kernel⟩
set_option maxHeartbeats 4000000 in
theorem wX5_share (l : Launch) (E : fo_E) (hE : ∀ n, et E n = tM_ n) (G : Nat) (p1 : Int32) (p2 : Int32) (st0 : fo_St) (rZ : Int32) (stZ : fo_St) (hf : fX5_share G p1 p2 st0 = some (rZ, stZ)) : CTi l E yX5_share (ws_ yX5_share cX5_share 8 (some .int)) ({ frames := 5, cells := 0, slots := 0, locals := 124 }) [.ref (eb E + 0), .int p1, .int p2] st0 rZ stZ := by
  refine fe_i hm_X5_share (Nat.le_of_ble_eq_true rfl) (fun p e R s m args below meth c Q hRf hRl X hend ls hl hw => ?_)
  have hx := X.1.1
  have hb := X.1.2.1
  have hl : lv_has ls 8 [(0, .ref (eb E + 0)), (1, .int p1), (2, .int p2)] := hl
  unfold fX5_share at hf
  generalize s.heap = H at hw ⊢
  generalize ([] : List Loc) = locs at hw ⊢
  refine lv_aload_n hx hb dX5_share_0 rfl (lv_at hl 0 rfl) ?_
  refine lv_iconst (v := (0 : Int32)) hx hb dX5_share_1 (by decide) ?_
  refine fo_puti X hw fc_X5 (hm0 hE) (k := 0) (by decide) rfl rfl q1518 ⟨rfl, rfl⟩ dX5_share_2 hf (fun st1 H locs hw hf => ?_)
  refine lv_iload_n hx hb dX5_share_5 rfl (lv_at hl 1 rfl) ?_
  refine lv_i2l (v := p1.toInt64) hx hb dX5_share_6 rfl ?_
  refine lv_lconst (v := (0 : Int64)) hx hb dX5_share_7 rfl ?_
  refine lv_ldc2 (v := (99999 : Int64)) hx hb X.1.2.2.2.1 (X.1.2.2.2.2 _ q2157) dX5_share_8 ?_
  refine fc_Si (rest := []) (As := [.long p1.toInt64, .long (0 : Int64), .long (99999 : Int64)]) X hw hm_X5_in (lw_S q1722 q1723 q121 q1724) ⟨rfl, rfl⟩ ⟨by rw [hRf]; exact Nat.le_of_ble_eq_true rfl, by rw [hRl]; exact Nat.le_of_ble_eq_true rfl⟩ rfl rfl hl.1 (Nat.le_of_ble_eq_true rfl) dX5_share_11 (fun rQ stQ hQ => wX5_in l E hE (p1.toInt64) (0 : Int64) (99999 : Int64) st1 rQ stQ hQ) hf (fun x2 st3 H locs hw hf => ?_)
  refine fb_zeq (tgt := 24) hx hb dX5_share_14 (by decide) hf (fun hf => ?_) (fun hf => ?_)
  · refine lv_iconst (v := (-1 : Int32)) hx hb dX5_share_24 (by decide) ?_
    exact fd_i hend hw hf dX5_share_25
  refine lv_iload_n hx hb dX5_share_17 rfl (lv_at hl 2 rfl) ?_
  refine fc_Si (rest := []) (As := [.int p2]) X hw hm_X5_isRoom (lw_S q1737 q1738 q121 q1739) ⟨rfl, rfl⟩ ⟨by rw [hRf]; exact Nat.le_of_ble_eq_true rfl, by rw [hRl]; exact Nat.le_of_ble_eq_true rfl⟩ rfl rfl hl.1 (Nat.le_of_ble_eq_true rfl) dX5_share_18 (fun rQ stQ hQ => wX5_isRoom l E hE p2 st3 rQ stQ hQ) hf (fun x4 st5 H locs hw hf => ?_)
  refine fb_zne (tgt := 26) hx hb dX5_share_21 (by decide) hf (fun hf => ?_) (fun hf => ?_)
  · refine lv_lconst (v := (0 : Int64)) hx hb dX5_share_26 rfl ?_
    refine lv_lstore_n (lv' := [(3, .long (0 : Int64)), (0, .ref (eb E + 0)), (1, .int p1), (2, .int p2)]) hx hb dX5_share_27 rfl hl (by decide) rfl (fun ls hl => ?_)
    refine lv_iconst (v := (0 : Int32)) hx hb dX5_share_28 (by decide) ?_
    refine lv_istore (lv' := [(5, .int (0 : Int32)), (3, .long (0 : Int64)), (0, .ref (eb E + 0)), (1, .int p1), (2, .int p2)]) hx hb dX5_share_29 hl (by decide) rfl (fun ls hl => ?_)
    refine lp3_e (P := fun x6 x7 st8 => ∀ (H : Heap) (locs : List Loc) (ls : Array Slot), lv_has ls 8 [(5, .int x6), (3, .long x7), (0, .ref (eb E + 0)), (1, .int p1), (2, .int p2)] → fo_S E s st8 H locs → W p l e R s m args below meth c H locs 0 0 Q (F0 m 31 ls [])) (fun rec9 hrec9 x6 x7 st8 hf => ?_) G _ _ _ hf H locs ls (lv_sub hl [0, 1, 2, 3, 4] rfl) hw
    intro H locs ls hl hw
    refine lv_iload hx hb dX5_share_31 (lv_at hl 0 rfl) ?_
    refine lv_bipush (v := (16 : Int32)) hx hb dX5_share_33 (by decide) ?_
    refine fb_ige (tgt := 81) hx hb dX5_share_35 (by decide) hf (fun hf => ?_) (fun hf => ?_)
    · refine lv_lload_n hx hb dX5_share_81 rfl (lv_at hl 1 rfl) ?_
      refine lv_lconst (v := (0 : Int64)) hx hb dX5_share_82 rfl ?_
      refine fb_lne (tgt := 89) hx hb dX5_share_83 dX5_share_84 (by decide) hf (fun hf => ?_) (fun hf => ?_)
      · refine lv_iload_n hx hb dX5_share_89 rfl (lv_at hl 3 rfl) ?_
        refine lv_istore (lv' := [(5, .int p1), (3, .long x7), (0, .ref (eb E + 0)), (1, .int p1), (2, .int p2)]) hx hb dX5_share_90 hl (by decide) rfl (fun ls hl => ?_)
        refine lv_iconst (v := (0 : Int32)) hx hb dX5_share_92 (by decide) ?_
        refine lv_istore (lv' := [(6, .int (0 : Int32)), (5, .int p1), (3, .long x7), (0, .ref (eb E + 0)), (1, .int p1), (2, .int p2)]) hx hb dX5_share_93 hl (by decide) rfl (fun ls hl => ?_)
        refine lp3_e (P := fun x10 x11 st12 => ∀ (H : Heap) (locs : List Loc) (ls : Array Slot), lv_has ls 8 [(6, .int x10), (5, .int x11), (3, .long x7), (0, .ref (eb E + 0)), (1, .int p1), (2, .int p2)] → fo_S E s st12 H locs → W p l e R s m args below meth c H locs 0 0 Q (F0 m 95 ls [])) (fun rec13 hrec13 x10 x11 st12 hf => ?_) G _ _ _ hf H locs ls (lv_sub hl [0, 1, 2, 3, 4, 5] rfl) hw
        intro H locs ls hl hw
        refine lv_iload hx hb dX5_share_95 (lv_at hl 0 rfl) ?_
        refine lv_bipush (v := (16 : Int32)) hx hb dX5_share_97 (by decide) ?_
        refine fb_ige (tgt := 161) hx hb dX5_share_99 (by decide) hf (fun hf => ?_) (fun hf => ?_)
        · refine lp2_e (P := fun x14 st15 => ∀ (H : Heap) (locs : List Loc) (ls : Array Slot), lv_has ls 8 [(5, .int x14), (0, .ref (eb E + 0)), (2, .int p2)] → fo_S E s st15 H locs → W p l e R s m args below meth c H locs 0 0 Q (F0 m 161 ls [])) (fun rec16 hrec16 x14 st15 hf => ?_) G _ _ hf H locs ls (lv_sub hl [1, 3, 5] rfl) hw
          intro H locs ls hl hw
          refine lv_iload hx hb dX5_share_161 (lv_at hl 0 rfl) ?_
          refine fb_zle (tgt := 239) hx hb dX5_share_163 (by decide) hf (fun hf => ?_) (fun hf => ?_)
          · refine lv_aload_n hx hb dX5_share_239 rfl (lv_at hl 1 rfl) ?_
            refine fo_gets X hw fc_X5 (hm0 hE) (k := 51) (d := 31) (n2 := 31) (by decide) rfl rfl q1569 dX5_share_240 ?_
            refine lv_iload_n hx hb dX5_share_243 rfl (lv_at hl 2 rfl) ?_
            refine fo_iald X hw (hm31 hE) dX5_share_244 hf (fun hf => ?_)
            exact fd_i hend hw hf dX5_share_245
          refine lv_iconst (v := (0 : Int32)) hx hb dX5_share_166 (by decide) ?_
          refine lv_istore (lv' := [(6, .int (0 : Int32)), (5, .int x14), (0, .ref (eb E + 0)), (2, .int p2)]) hx hb dX5_share_167 hl (by decide) rfl (fun ls hl => ?_)
          refine lv_iconst (v := (1 : Int32)) hx hb dX5_share_169 (by decide) ?_
          refine lv_istore (lv' := [(7, .int (1 : Int32)), (6, .int (0 : Int32)), (5, .int x14), (0, .ref (eb E + 0)), (2, .int p2)]) hx hb dX5_share_170 hl (by decide) rfl (fun ls hl => ?_)
          refine lp3_e (P := fun x17 x18 st19 => ∀ (H : Heap) (locs : List Loc) (ls : Array Slot), lv_has ls 8 [(7, .int x17), (6, .int x18), (5, .int x14), (0, .ref (eb E + 0)), (2, .int p2)] → fo_S E s st19 H locs → W p l e R s m args below meth c H locs 0 0 Q (F0 m 172 ls [])) (fun rec20 hrec20 x17 x18 st19 hf => ?_) G _ _ _ hf H locs ls (lv_sub hl [0, 1, 2, 3, 4] rfl) hw
          intro H locs ls hl hw
          refine lv_iload hx hb dX5_share_172 (lv_at hl 0 rfl) ?_
          refine lv_bipush (v := (16 : Int32)) hx hb dX5_share_174 (by decide) ?_
          refine fb_ige (tgt := 212) hx hb dX5_share_176 (by decide) hf (fun hf => ?_) (fun hf => ?_)
          · refine lv_aload_n hx hb dX5_share_212 rfl (lv_at hl 3 rfl) ?_
            refine fo_gets X hw fc_X5 (hm0 hE) (k := 51) (d := 31) (n2 := 31) (by decide) rfl rfl q1569 dX5_share_213 ?_
            refine lv_iload hx hb dX5_share_216 (lv_at hl 1 rfl) ?_
            refine lv_dup2_11 hx hb dX5_share_218 rfl rfl ?_
            refine fo_iald X hw (hm31 hE) dX5_share_219 hf (fun hf => ?_)
            refine lv_iconst (v := (1 : Int32)) hx hb dX5_share_220 (by decide) ?_
            refine lv_iadd hx hb dX5_share_221 ?_
            refine fo_iast X hw (hm31 hE) dX5_share_222 hf (fun st21 H locs hw hf => ?_)
            refine lv_aload_n hx hb dX5_share_223 rfl (lv_at hl 3 rfl) ?_
            refine fo_gets X hw fc_X5 (hm0 hE) (k := 52) (d := 32) (n2 := 32) (by decide) rfl rfl q1570 dX5_share_224 ?_
            refine lv_iload hx hb dX5_share_227 (lv_at hl 1 rfl) ?_
            refine lv_ldc2 (v := (-1 : Int64)) hx hb X.1.2.2.2.1 (X.1.2.2.2.2 _ q1778) dX5_share_229 ?_
            refine fo_last X hw (hm32 hE) dX5_share_232 hf (fun st22 H locs hw hf => ?_)
            refine fb_iinc (v := (-1 : Int32)) (lv' := [(5, .int (x14 + (-1 : Int32))), (7, .int x17), (6, .int x18), (0, .ref (eb E + 0)), (2, .int p2)]) hx hb dX5_share_233 hl (k := 2) rfl (by decide) (by decide) rfl (fun ls hl => ?_)
            refine lv_goto (tgt := 161) hx hb dX5_share_236 (by decide) ?_
            exact hrec16 _ _ hf _ _ _ (lv_sub hl [0, 3, 4] rfl) hw
          refine lv_aload_n hx hb dX5_share_179 rfl (lv_at hl 3 rfl) ?_
          refine fo_gets X hw fc_X5 (hm0 hE) (k := 52) (d := 32) (n2 := 32) (by decide) rfl rfl q1570 dX5_share_180 ?_
          refine lv_iload hx hb dX5_share_183 (lv_at hl 0 rfl) ?_
          refine fo_lald X hw (hm32 hE) dX5_share_185 hf (fun hf => ?_)
          refine lv_aload_n hx hb dX5_share_186 rfl (lv_at hl 3 rfl) ?_
          refine fo_gets X hw fc_X5 (hm0 hE) (k := 52) (d := 32) (n2 := 32) (by decide) rfl rfl q1570 dX5_share_187 ?_
          refine lv_iload hx hb dX5_share_190 (lv_at hl 1 rfl) ?_
          refine fo_lald X hw (hm32 hE) dX5_share_192 hf (fun hf => ?_)
          refine fb_lle (tgt := 202) hx hb dX5_share_193 dX5_share_194 (by decide) hf (fun hf => ?_) (fun hf => ?_)
          · refine lv_iload hx hb dX5_share_202 (lv_at hl 1 rfl) ?_
            refine lv_istore (lv' := [(6, .int x18), (7, .int x17), (5, .int x14), (0, .ref (eb E + 0)), (2, .int p2)]) hx hb dX5_share_204 hl (by decide) rfl (fun ls hl => ?_)
            refine fb_iinc (v := (1 : Int32)) (lv' := [(7, .int (x17 + (1 : Int32))), (6, .int x18), (5, .int x14), (0, .ref (eb E + 0)), (2, .int p2)]) hx hb dX5_share_206 hl (k := 1) rfl (by decide) (by decide) rfl (fun ls hl => ?_)
            refine lv_goto (tgt := 172) hx hb dX5_share_209 (by decide) ?_
            exact hrec20 _ _ _ hf _ _ _ (lv_sub hl [0, 1, 2, 3, 4] rfl) hw
          refine lv_iload hx hb dX5_share_197 (lv_at hl 0 rfl) ?_
          refine lv_goto (tgt := 204) hx hb dX5_share_199 (by decide) ?_
          refine lv_istore (lv' := [(6, .int x17), (7, .int x17), (5, .int x14), (0, .ref (eb E + 0)), (2, .int p2)]) hx hb dX5_share_204 hl (by decide) rfl (fun ls hl => ?_)
          refine fb_iinc (v := (1 : Int32)) (lv' := [(7, .int (x17 + (1 : Int32))), (6, .int x17), (5, .int x14), (0, .ref (eb E + 0)), (2, .int p2)]) hx hb dX5_share_206 hl (k := 1) rfl (by decide) (by decide) rfl (fun ls hl => ?_)
          refine lv_goto (tgt := 172) hx hb dX5_share_209 (by decide) ?_
          exact hrec20 _ _ _ hf _ _ _ (lv_sub hl [0, 1, 2, 3, 4] rfl) hw
        refine lv_aload_n hx hb dX5_share_102 rfl (lv_at hl 3 rfl) ?_
        refine fo_gets X hw fc_X5 (hm0 hE) (k := 52) (d := 32) (n2 := 32) (by decide) rfl rfl q1570 dX5_share_103 ?_
        refine lv_iload hx hb dX5_share_106 (lv_at hl 0 rfl) ?_
        refine lv_iload_n hx hb dX5_share_108 rfl (lv_at hl 4 rfl) ?_
        refine lv_i2l (v := p1.toInt64) hx hb dX5_share_109 rfl ?_
        refine lv_aload_n hx hb dX5_share_110 rfl (lv_at hl 3 rfl) ?_
        refine fo_gets X hw fc_X5 (hm0 hE) (k := 51) (d := 31) (n2 := 31) (by decide) rfl rfl q1569 dX5_share_111 ?_
        refine lv_iload hx hb dX5_share_114 (lv_at hl 0 rfl) ?_
        refine fo_iald X hw (hm31 hE) dX5_share_116 hf (fun hf => ?_)
        refine lv_i2l (v := (gi_ st12 31 x10.toNatClampNeg).toInt64) hx hb dX5_share_117 rfl ?_
        refine lv_lmul hx hb dX5_share_118 ?_
        refine lv_lload_n hx hb dX5_share_119 rfl (lv_at hl 2 rfl) ?_
        refine fb_lremC hx hb dX5_share_120 hf (fun hf => ?_)
        refine fo_last X hw (hm32 hE) dX5_share_121 hf (fun st23 H locs hw hf => ?_)
        refine lv_aload_n hx hb dX5_share_122 rfl (lv_at hl 3 rfl) ?_
        refine fo_gets X hw fc_X5 (hm0 hE) (k := 51) (d := 31) (n2 := 31) (by decide) rfl rfl q1569 dX5_share_123 ?_
        refine lv_iload hx hb dX5_share_126 (lv_at hl 0 rfl) ?_
        refine lv_iload_n hx hb dX5_share_128 rfl (lv_at hl 4 rfl) ?_
        refine lv_i2l (v := p1.toInt64) hx hb dX5_share_129 rfl ?_
        refine lv_aload_n hx hb dX5_share_130 rfl (lv_at hl 3 rfl) ?_
        refine fo_gets X hw fc_X5 (hm0 hE) (k := 51) (d := 31) (n2 := 31) (by decide) rfl rfl q1569 dX5_share_131 ?_
        refine lv_iload hx hb dX5_share_134 (lv_at hl 0 rfl) ?_
        refine fo_iald X hw (hm31 hE) dX5_share_136 hf (fun hf => ?_)
        refine lv_i2l (v := (gi_ st23 31 x10.toNatClampNeg).toInt64) hx hb dX5_share_137 rfl ?_
        refine lv_lmul hx hb dX5_share_138 ?_
        refine lv_lload_n hx hb dX5_share_139 rfl (lv_at hl 2 rfl) ?_
        refine fb_ldivC hx hb dX5_share_140 hf (fun hf => ?_)
        refine lv_l2i (v := ((p1.toInt64 * (gi_ st23 31 x10.toNatClampNeg).toInt64) / x7).toInt32) hx hb dX5_share_141 rfl ?_
        refine fo_iast X hw (hm31 hE) dX5_share_142 hf (fun st24 H locs hw hf => ?_)
        refine lv_iload hx hb dX5_share_143 (lv_at hl 1 rfl) ?_
        refine lv_aload_n hx hb dX5_share_145 rfl (lv_at hl 3 rfl) ?_
        refine fo_gets X hw fc_X5 (hm0 hE) (k := 51) (d := 31) (n2 := 31) (by decide) rfl rfl q1569 dX5_share_146 ?_
        refine lv_iload hx hb dX5_share_149 (lv_at hl 0 rfl) ?_
        refine fo_iald X hw (hm31 hE) dX5_share_151 hf (fun hf => ?_)
        refine lv_isub hx hb dX5_share_152 ?_
        refine fo_tI hf (fun x25 hf => ?_)
        refine lv_istore (lv' := [(5, .int x25), (6, .int x10), (3, .long x7), (0, .ref (eb E + 0)), (1, .int p1), (2, .int p2)]) hx hb dX5_share_153 hl (by decide) rfl (fun ls hl => ?_)
        refine fb_iinc (v := (1 : Int32)) (lv' := [(6, .int (x10 + (1 : Int32))), (5, .int x25), (3, .long x7), (0, .ref (eb E + 0)), (1, .int p1), (2, .int p2)]) hx hb dX5_share_155 hl (k := 1) rfl (by decide) (by decide) rfl (fun ls hl => ?_)
        refine lv_goto (tgt := 95) hx hb dX5_share_158 (by decide) ?_
        exact hrec13 _ _ _ hf _ _ _ (lv_sub hl [0, 1, 2, 3, 4, 5] rfl) hw
      refine lv_iconst (v := (-1 : Int32)) hx hb dX5_share_87 (by decide) ?_
      exact fd_i hend hw hf dX5_share_88
    refine lv_aload_n hx hb dX5_share_38 rfl (lv_at hl 2 rfl) ?_
    refine fo_gets X hw fc_X5 (hm0 hE) (k := 51) (d := 31) (n2 := 31) (by decide) rfl rfl q1569 dX5_share_39 ?_
    refine lv_iload hx hb dX5_share_42 (lv_at hl 0 rfl) ?_
    refine lv_aload_n hx hb dX5_share_44 rfl (lv_at hl 2 rfl) ?_
    refine lv_iload hx hb dX5_share_45 (lv_at hl 0 rfl) ?_
    refine fc_Vi (rest := [.int x6, .ref (eb E + 31)]) (As := [.int x6]) X hw hm_X5_isTree (lw_V q1757 q1759 qs43 q121 q1760) ⟨rfl, rfl⟩ ⟨by rw [hRf]; exact Nat.le_of_ble_eq_true rfl, by rw [hRl]; exact Nat.le_of_ble_eq_true rfl⟩ fc_X5 rfl (hm0 hE) rfl rfl hl.1 (Nat.le_of_ble_eq_true rfl) dX5_share_47 (fun rQ stQ hQ => wX5_isTree l E hE x6 st8 rQ stQ hQ) hf (fun x26 st27 H locs hw hf => ?_)
    refine jn_e hf (fun k30 ek hf => ?_)
    have hk30 : ∀ (x28 : Int32) (st29 : fo_St) (H : Heap) (locs : List Loc) (ls : Array Slot), lv_has ls 8 [(5, .int x6), (3, .long x7), (0, .ref (eb E + 0)), (1, .int p1), (2, .int p2)] → fo_S E s st29 H locs → k30 x28 st29 = some (rZ, stZ) → W p l e R s m args below meth c H locs 0 0 Q (F0 m 63 ls [.int x28, .int x6, .ref (eb E + 31)]) := by
      intro x28 st29 H locs ls hl hw hf
      rw [ek] at hf
      refine fo_iast X hw (hm31 hE) dX5_share_63 hf (fun st31 H locs hw hf => ?_)
      refine lv_lload_n hx hb dX5_share_64 rfl (lv_at hl 1 rfl) ?_
      refine lv_aload_n hx hb dX5_share_65 rfl (lv_at hl 2 rfl) ?_
      refine fo_gets X hw fc_X5 (hm0 hE) (k := 51) (d := 31) (n2 := 31) (by decide) rfl rfl q1569 dX5_share_66 ?_
      refine lv_iload hx hb dX5_share_69 (lv_at hl 0 rfl) ?_
      refine fo_iald X hw (hm31 hE) dX5_share_71 hf (fun hf => ?_)
      refine lv_i2l (v := (gi_ st31 31 x6.toNatClampNeg).toInt64) hx hb dX5_share_72 rfl ?_
      refine lv_ladd hx hb dX5_share_73 ?_
      refine fo_tL hf (fun x32 hf => ?_)
      refine lv_lstore_n (lv' := [(3, .long x32), (5, .int x6), (0, .ref (eb E + 0)), (1, .int p1), (2, .int p2)]) hx hb dX5_share_74 rfl hl (by decide) rfl (fun ls hl => ?_)
      refine fb_iinc (v := (1 : Int32)) (lv' := [(5, .int (x6 + (1 : Int32))), (3, .long x32), (0, .ref (eb E + 0)), (1, .int p1), (2, .int p2)]) hx hb dX5_share_75 hl (k := 1) rfl (by decide) (by decide) rfl (fun ls hl => ?_)
      refine lv_goto (tgt := 31) hx hb dX5_share_78 (by decide) ?_
      exact hrec9 _ _ _ hf _ _ _ (lv_sub hl [0, 1, 2, 3, 4] rfl) hw
    clear ek
    refine fb_zeq (tgt := 62) hx hb dX5_share_50 (by decide) hf (fun hf => ?_) (fun hf => ?_)
    · refine lv_iconst (v := (0 : Int32)) hx hb dX5_share_62 (by decide) ?_
      exact hk30 _ _ _ _ _ (lv_sub hl [0, 1, 2, 3, 4] rfl) hw hf
    refine lv_aload_n hx hb dX5_share_53 rfl (lv_at hl 2 rfl) ?_
    refine lv_iload hx hb dX5_share_54 (lv_at hl 0 rfl) ?_
    refine fc_Vi (rest := [.int x6, .ref (eb E + 31)]) (As := [.int x6]) X hw hm_X5_leavesOf (lw_V q1796 q1798 qs51 q121 q1799) ⟨rfl, rfl⟩ ⟨by rw [hRf]; exact Nat.le_of_ble_eq_true rfl, by rw [hRl]; exact Nat.le_of_ble_eq_true rfl⟩ fc_X5 rfl (hm0 hE) rfl rfl hl.1 (Nat.le_of_ble_eq_true rfl) dX5_share_56 (fun rQ stQ hQ => wX5_leavesOf l E hE G x6 st27 rQ stQ hQ) hf (fun x33 st34 H locs hw hf => ?_)
    refine lv_goto (tgt := 63) hx hb dX5_share_59 (by decide) ?_
    exact hk30 _ _ _ _ _ (lv_sub hl [0, 1, 2, 3, 4] rfl) hw hf
  refine lv_iconst (v := (-1 : Int32)) hx hb dX5_share_24 (by decide) ?_
  exact fd_i hend hw hf dX5_share_25

/-- ForestRoomsModel.game -/
def fX5_game (G : Nat) (p1 : Int32) (p2 : Int32) (st0 : fo_St) : Option (Int32 × fo_St) := lt_ (si_ st0 0 0 (0 : Int32)) (fun st1 => bd_ (fX5_in (p1.toInt64) (0 : Int64) (65535 : Int64) st1) (fun x2 st3 => if x2 = 0 then some ((-1 : Int32), st3) else bd_ (fX5_in (p2.toInt64) (0 : Int64) (2 : Int64) st3) (fun x4 st5 => if ¬ x4 = 0 then lp3_ (fun rec9 (x6 : Int32) (x7 : Int32) (st8 : fo_St) => if (16 : Int32) ≤ x6 then if p2 = 0 then if ¬ p2 = 0 then some ((-1 : Int32), st8) else if ¬ x7 = 0 then some ((1 : Int32), st8) else some ((0 : Int32), st8) else if ¬ x7 = 0 then lp2_ (fun rec12 (x10 : Int32) (st11 : fo_St) => if (16 : Int32) ≤ x10 then some ((-1 : Int32), st11) else lp2_ (fun rec15 (x13 : Int32) (st14 : fo_St) => if (4 : Int32) ≤ x13 then rec12 (x10 + (1 : Int32)) st14 else bd_ (fX5_is p1 x10 st14) (fun x16 st17 => if x16 = 0 then rec12 (x10 + (1 : Int32)) st17 else ck_ (fo_in ((24 : Int32) + x10) 5540) (lI_ ((gi_ st17 2 ((24 : Int32) + x10).toNatClampNeg) / (10 : Int32)) (fun x18 => if x18 < x13 then rec15 (x13 + (1 : Int32)) st17 else if ¬ ((x7 ^^^ (irem_ x18 (4 : Int32))) ^^^ (irem_ (x18 - x13) (4 : Int32))) = 0 then rec15 (x13 + (1 : Int32)) st17 else if ¬ p2 = (1 : Int32) then some (((10 : Int32) * x13), st17) else some (x10, st17))))) G (1 : Int32) st11) G (0 : Int32) st8 else if ¬ p2 = 0 then some ((-1 : Int32), st8) else if ¬ x7 = 0 then some ((1 : Int32), st8) else some ((0 : Int32), st8) else bd_ (fX5_is p1 x6 st8) (fun x19 st20 => if x19 = 0 then lI_ (x7 ^^^ (0 : Int32)) (fun x21 => rec9 (x6 + (1 : Int32)) x21 st20) else ck_ (fo_in ((24 : Int32) + x6) 5540) (lI_ (x7 ^^^ (irem_ ((gi_ st20 2 ((24 : Int32) + x6).toNatClampNeg) / (10 : Int32)) (4 : Int32))) (fun x22 => rec9 (x6 + (1 : Int32)) x22 st20)))) G (0 : Int32) (0 : Int32) st5 else some ((-1 : Int32), st5))))
theorem hm_X5_game : fo_M yX5_game 2 := ⟨by decide +kernel, by decide +kernel, by decide +kernel, by decide +kernel⟩
set_option maxHeartbeats 4000000 in
theorem wX5_game (l : Launch) (E : fo_E) (hE : ∀ n, et E n = tM_ n) (G : Nat) (p1 : Int32) (p2 : Int32) (st0 : fo_St) (rZ : Int32) (stZ : fo_St) (hf : fX5_game G p1 p2 st0 = some (rZ, stZ)) : CTi l E yX5_game (ws_ yX5_game cX5_game 7 (some .int)) ({ frames := 1, cells := 0, slots := 0, locals := 25 }) [.ref (eb E + 0), .int p1, .int p2] st0 rZ stZ := by
  refine fe_i hm_X5_game (Nat.le_of_ble_eq_true rfl) (fun p e R s m args below meth c Q hRf hRl X hend ls hl hw => ?_)
  have hx := X.1.1
  have hb := X.1.2.1
  have hl : lv_has ls 7 [(0, .ref (eb E + 0)), (1, .int p1), (2, .int p2)] := hl
  unfold fX5_game at hf
  generalize s.heap = H at hw ⊢
  generalize ([] : List Loc) = locs at hw ⊢
  refine lv_aload_n hx hb dX5_game_0 rfl (lv_at hl 0 rfl) ?_
  refine lv_iconst (v := (0 : Int32)) hx hb dX5_game_1 (by decide) ?_
  refine fo_puti X hw fc_X5 (hm0 hE) (k := 0) (by decide) rfl rfl q1518 ⟨rfl, rfl⟩ dX5_game_2 hf (fun st1 H locs hw hf => ?_)
  refine lv_iload_n hx hb dX5_game_5 rfl (lv_at hl 1 rfl) ?_
  refine lv_i2l (v := p1.toInt64) hx hb dX5_game_6 rfl ?_
  refine lv_lconst (v := (0 : Int64)) hx hb dX5_game_7 rfl ?_
  refine lv_ldc2 (v := (65535 : Int64)) hx hb X.1.2.2.2.1 (X.1.2.2.2.2 _ q2137) dX5_game_8 ?_
  refine fc_Si (rest := []) (As := [.long p1.toInt64, .long (0 : Int64), .long (65535 : Int64)]) X hw hm_X5_in (lw_S q1722 q1723 q121 q1724) ⟨rfl, rfl⟩ ⟨by rw [hRf]; exact Nat.le_of_ble_eq_true rfl, by rw [hRl]; exact Nat.le_of_ble_eq_true rfl⟩ rfl rfl hl.1 (Nat.le_of_ble_eq_true rfl) dX5_game_11 (fun rQ stQ hQ => wX5_in l E hE (p1.toInt64) (0 : Int64) (65535 : Int64) st1 rQ stQ hQ) hf (fun x2 st3 H locs hw hf => ?_)
  refine fb_zeq (tgt := 29) hx hb dX5_game_14 (by decide) hf (fun hf => ?_) (fun hf => ?_)
  · refine lv_iconst (v := (-1 : Int32)) hx hb dX5_game_29 (by decide) ?_
    exact fd_i hend hw hf dX5_game_30
  refine lv_iload_n hx hb dX5_game_17 rfl (lv_at hl 2 rfl) ?_
  refine lv_i2l (v := p2.toInt64) hx hb dX5_game_18 rfl ?_
  refine lv_lconst (v := (0 : Int64)) hx hb dX5_game_19 rfl ?_
  refine lv_ldc2 (v := (2 : Int64)) hx hb X.1.2.2.2.1 (X.1.2.2.2.2 _ q1962) dX5_game_20 ?_
  refine fc_Si (rest := []) (As := [.long p2.toInt64, .long (0 : Int64), .long (2 : Int64)]) X hw hm_X5_in (lw_S q1722 q1723 q121 q1724) ⟨rfl, rfl⟩ ⟨by rw [hRf]; exact Nat.le_of_ble_eq_true rfl, by rw [hRl]; exact Nat.le_of_ble_eq_true rfl⟩ rfl rfl hl.1 (Nat.le_of_ble_eq_true rfl) dX5_game_23 (fun rQ stQ hQ => wX5_in l E hE (p2.toInt64) (0 : Int64) (2 : Int64) st3 rQ stQ hQ) hf (fun x4 st5 H locs hw hf => ?_)
  refine fb_zne (tgt := 31) hx hb dX5_game_26 (by decide) hf (fun hf => ?_) (fun hf => ?_)
  · refine lv_iconst (v := (0 : Int32)) hx hb dX5_game_31 (by decide) ?_
    refine lv_istore_n (lv' := [(3, .int (0 : Int32)), (0, .ref (eb E + 0)), (1, .int p1), (2, .int p2)]) hx hb dX5_game_32 rfl hl (by decide) rfl (fun ls hl => ?_)
    refine lv_iconst (v := (0 : Int32)) hx hb dX5_game_33 (by decide) ?_
    refine lv_istore (lv' := [(4, .int (0 : Int32)), (3, .int (0 : Int32)), (0, .ref (eb E + 0)), (1, .int p1), (2, .int p2)]) hx hb dX5_game_34 hl (by decide) rfl (fun ls hl => ?_)
    refine lp3_e (P := fun x6 x7 st8 => ∀ (H : Heap) (locs : List Loc) (ls : Array Slot), lv_has ls 7 [(4, .int x6), (3, .int x7), (0, .ref (eb E + 0)), (1, .int p1), (2, .int p2)] → fo_S E s st8 H locs → W p l e R s m args below meth c H locs 0 0 Q (F0 m 36 ls [])) (fun rec9 hrec9 x6 x7 st8 hf => ?_) G _ _ _ hf H locs ls (lv_sub hl [0, 1, 2, 3, 4] rfl) hw
    intro H locs ls hl hw
    refine lv_iload hx hb dX5_game_36 (lv_at hl 0 rfl) ?_
    refine lv_bipush (v := (16 : Int32)) hx hb dX5_game_38 (by decide) ?_
    refine fb_ige (tgt := 80) hx hb dX5_game_40 (by decide) hf (fun hf => ?_) (fun hf => ?_)
    · refine lv_iload_n hx hb dX5_game_80 rfl (lv_at hl 4 rfl) ?_
      refine fb_zeq (tgt := 88) hx hb dX5_game_81 (by decide) hf (fun hf => ?_) (fun hf => ?_)
      · refine lv_iload_n hx hb dX5_game_88 rfl (lv_at hl 4 rfl) ?_
        refine fb_zne (tgt := 104) hx hb dX5_game_89 (by decide) hf (fun hf => ?_) (fun hf => ?_)
        · refine lv_iconst (v := (-1 : Int32)) hx hb dX5_game_104 (by decide) ?_
          exact fd_i hend hw hf dX5_game_105
        refine lv_iload_n hx hb dX5_game_92 rfl (lv_at hl 1 rfl) ?_
        refine fb_zne (tgt := 100) hx hb dX5_game_93 (by decide) hf (fun hf => ?_) (fun hf => ?_)
        · refine lv_iconst (v := (1 : Int32)) hx hb dX5_game_100 (by decide) ?_
          refine lv_goto (tgt := 105) hx hb dX5_game_101 (by decide) ?_
          exact fd_i hend hw hf dX5_game_105
        refine lv_iconst (v := (0 : Int32)) hx hb dX5_game_96 (by decide) ?_
        refine lv_goto (tgt := 105) hx hb dX5_game_97 (by decide) ?_
        exact fd_i hend hw hf dX5_game_105
      refine lv_iload_n hx hb dX5_game_84 rfl (lv_at hl 1 rfl) ?_
      refine fb_zne (tgt := 106) hx hb dX5_game_85 (by decide) hf (fun hf => ?_) (fun hf => ?_)
      · refine lv_iconst (v := (0 : Int32)) hx hb dX5_game_106 (by decide) ?_
        refine lv_istore (lv' := [(4, .int (0 : Int32)), (3, .int x7), (0, .ref (eb E + 0)), (1, .int p1), (2, .int p2)]) hx hb dX5_game_107 hl (by decide) rfl (fun ls hl => ?_)
        refine lp2_e (P := fun x10 st11 => ∀ (H : Heap) (locs : List Loc) (ls : Array Slot), lv_has ls 7 [(4, .int x10), (3, .int x7), (0, .ref (eb E + 0)), (1, .int p1), (2, .int p2)] → fo_S E s st11 H locs → W p l e R s m args below meth c H locs 0 0 Q (F0 m 109 ls [])) (fun rec12 hrec12 x10 st11 hf => ?_) G _ _ hf H locs ls (lv_sub hl [0, 1, 2, 3, 4] rfl) hw
        intro H locs ls hl hw
        refine lv_iload hx hb dX5_game_109 (lv_at hl 0 rfl) ?_
        refine lv_bipush (v := (16 : Int32)) hx hb dX5_game_111 (by decide) ?_
        refine fb_ige (tgt := 201) hx hb dX5_game_113 (by decide) hf (fun hf => ?_) (fun hf => ?_)
        · refine lv_iconst (v := (-1 : Int32)) hx hb dX5_game_201 (by decide) ?_
          exact fd_i hend hw hf dX5_game_202
        refine lv_iconst (v := (1 : Int32)) hx hb dX5_game_116 (by decide) ?_
        refine lv_istore (lv' := [(5, .int (1 : Int32)), (4, .int x10), (3, .int x7), (0, .ref (eb E + 0)), (1, .int p1), (2, .int p2)]) hx hb dX5_game_117 hl (by decide) rfl (fun ls hl => ?_)
        refine lp2_e (P := fun x13 st14 => ∀ (H : Heap) (locs : List Loc) (ls : Array Slot), lv_has ls 7 [(5, .int x13), (4, .int x10), (3, .int x7), (0, .ref (eb E + 0)), (1, .int p1), (2, .int p2)] → fo_S E s st14 H locs → W p l e R s m args below meth c H locs 0 0 Q (F0 m 119 ls [])) (fun rec15 hrec15 x13 st14 hf => ?_) G _ _ hf H locs ls (lv_sub hl [0, 1, 2, 3, 4, 5] rfl) hw
        intro H locs ls hl hw
        refine lv_iload hx hb dX5_game_119 (lv_at hl 0 rfl) ?_
        refine lv_iconst (v := (4 : Int32)) hx hb dX5_game_121 (by decide) ?_
        refine fb_ige (tgt := 195) hx hb dX5_game_122 (by decide) hf (fun hf => ?_) (fun hf => ?_)
        · refine fb_iinc (v := (1 : Int32)) (lv' := [(4, .int (x10 + (1 : Int32))), (5, .int x13), (3, .int x7), (0, .ref (eb E + 0)), (1, .int p1), (2, .int p2)]) hx hb dX5_game_195 hl (k := 1) rfl (by decide) (by decide) rfl (fun ls hl => ?_)
          refine lv_goto (tgt := 109) hx hb dX5_game_198 (by decide) ?_
          exact hrec12 _ _ hf _ _ _ (lv_sub hl [0, 2, 3, 4, 5] rfl) hw
        refine lv_iload_n hx hb dX5_game_125 rfl (lv_at hl 4 rfl) ?_
        refine lv_iload hx hb dX5_game_126 (lv_at hl 1 rfl) ?_
        refine fc_Si (rest := []) (As := [.int p1, .int x10]) X hw hm_X5_is (lw_S q2079 q2080 q121 q2081) ⟨rfl, rfl⟩ ⟨by rw [hRf]; exact Nat.le_of_ble_eq_true rfl, by rw [hRl]; exact Nat.le_of_ble_eq_true rfl⟩ rfl rfl hl.1 (Nat.le_of_ble_eq_true rfl) dX5_game_128 (fun rQ stQ hQ => wX5_is l E hE p1 x10 st14 rQ stQ hQ) hf (fun x16 st17 H locs hw hf => ?_)
        refine fb_zeq (tgt := 195) hx hb dX5_game_131 (by decide) hf (fun hf => ?_) (fun hf => ?_)
        · refine fb_iinc (v := (1 : Int32)) (lv' := [(4, .int (x10 + (1 : Int32))), (5, .int x13), (3, .int x7), (0, .ref (eb E + 0)), (1, .int p1), (2, .int p2)]) hx hb dX5_game_195 hl (k := 1) rfl (by decide) (by decide) rfl (fun ls hl => ?_)
          refine lv_goto (tgt := 109) hx hb dX5_game_198 (by decide) ?_
          exact hrec12 _ _ hf _ _ _ (lv_sub hl [0, 2, 3, 4, 5] rfl) hw
        refine lv_aload_n hx hb dX5_game_134 rfl (lv_at hl 3 rfl) ?_
        refine fo_gets X hw fc_X5 (hm0 hE) (k := 3) (d := 2) (n2 := 2) (by decide) rfl rfl q1521 dX5_game_135 ?_
        refine lv_bipush (v := (24 : Int32)) hx hb dX5_game_138 (by decide) ?_
        refine lv_iload hx hb dX5_game_140 (lv_at hl 1 rfl) ?_
        refine lv_iadd hx hb dX5_game_142 ?_
        refine fo_iald X hw (hm2 hE) dX5_game_143 hf (fun hf => ?_)
        refine lv_bipush (v := (10 : Int32)) hx hb dX5_game_144 (by decide) ?_
        refine fb_idivK hx hb dX5_game_146 (by decide) ?_
        refine fo_tI hf (fun x18 hf => ?_)
        refine lv_istore (lv' := [(6, .int x18), (5, .int x13), (4, .int x10), (3, .int x7), (0, .ref (eb E + 0)), (1, .int p1), (2, .int p2)]) hx hb dX5_game_147 hl (by decide) rfl (fun ls hl => ?_)
        refine lv_iload hx hb dX5_game_149 (lv_at hl 0 rfl) ?_
        refine lv_iload hx hb dX5_game_151 (lv_at hl 1 rfl) ?_
        refine fb_ilt (tgt := 189) hx hb dX5_game_153 (by decide) hf (fun hf => ?_) (fun hf => ?_)
        · refine fb_iinc (v := (1 : Int32)) (lv' := [(5, .int (x13 + (1 : Int32))), (6, .int x18), (4, .int x10), (3, .int x7), (0, .ref (eb E + 0)), (1, .int p1), (2, .int p2)]) hx hb dX5_game_189 hl (k := 1) rfl (by decide) (by decide) rfl (fun ls hl => ?_)
          refine lv_goto (tgt := 119) hx hb dX5_game_192 (by decide) ?_
          exact hrec15 _ _ hf _ _ _ (lv_sub hl [0, 2, 3, 4, 5, 6] rfl) hw
        refine lv_iload_n hx hb dX5_game_156 rfl (lv_at hl 3 rfl) ?_
        refine lv_iload hx hb dX5_game_157 (lv_at hl 0 rfl) ?_
        refine lv_iconst (v := (4 : Int32)) hx hb dX5_game_159 (by decide) ?_
        refine fb_iremK hx hb dX5_game_160 (by decide) ?_
        refine lv_ixor hx hb dX5_game_161 ?_
        refine lv_iload hx hb dX5_game_162 (lv_at hl 0 rfl) ?_
        refine lv_iload hx hb dX5_game_164 (lv_at hl 1 rfl) ?_
        refine lv_isub hx hb dX5_game_166 ?_
        refine lv_iconst (v := (4 : Int32)) hx hb dX5_game_167 (by decide) ?_
        refine fb_iremK hx hb dX5_game_168 (by decide) ?_
        refine lv_ixor hx hb dX5_game_169 ?_
        refine fb_zne (tgt := 189) hx hb dX5_game_170 (by decide) hf (fun hf => ?_) (fun hf => ?_)
        · refine fb_iinc (v := (1 : Int32)) (lv' := [(5, .int (x13 + (1 : Int32))), (6, .int x18), (4, .int x10), (3, .int x7), (0, .ref (eb E + 0)), (1, .int p1), (2, .int p2)]) hx hb dX5_game_189 hl (k := 1) rfl (by decide) (by decide) rfl (fun ls hl => ?_)
          refine lv_goto (tgt := 119) hx hb dX5_game_192 (by decide) ?_
          exact hrec15 _ _ hf _ _ _ (lv_sub hl [0, 2, 3, 4, 5, 6] rfl) hw
        refine lv_iload_n hx hb dX5_game_173 rfl (lv_at hl 6 rfl) ?_
        refine lv_iconst (v := (1 : Int32)) hx hb dX5_game_174 (by decide) ?_
        refine fb_ine (tgt := 183) hx hb dX5_game_175 (by decide) hf (fun hf => ?_) (fun hf => ?_)
        · refine lv_bipush (v := (10 : Int32)) hx hb dX5_game_183 (by decide) ?_
          refine lv_iload hx hb dX5_game_185 (lv_at hl 1 rfl) ?_
          refine lv_imul hx hb dX5_game_187 ?_
          exact fd_i hend hw hf dX5_game_188
        refine lv_iload hx hb dX5_game_178 (lv_at hl 2 rfl) ?_
        refine lv_goto (tgt := 188) hx hb dX5_game_180 (by decide) ?_
        exact fd_i hend hw hf dX5_game_188
      refine lv_iload_n hx hb dX5_game_88 rfl (lv_at hl 4 rfl) ?_
      refine fb_zne (tgt := 104) hx hb dX5_game_89 (by decide) hf (fun hf => ?_) (fun hf => ?_)
      · refine lv_iconst (v := (-1 : Int32)) hx hb dX5_game_104 (by decide) ?_
        exact fd_i hend hw hf dX5_game_105
      refine lv_iload_n hx hb dX5_game_92 rfl (lv_at hl 1 rfl) ?_
      refine fb_zne (tgt := 100) hx hb dX5_game_93 (by decide) hf (fun hf => ?_) (fun hf => ?_)
      · refine lv_iconst (v := (1 : Int32)) hx hb dX5_game_100 (by decide) ?_
        refine lv_goto (tgt := 105) hx hb dX5_game_101 (by decide) ?_
        exact fd_i hend hw hf dX5_game_105
      refine lv_iconst (v := (0 : Int32)) hx hb dX5_game_96 (by decide) ?_
      refine lv_goto (tgt := 105) hx hb dX5_game_97 (by decide) ?_
      exact fd_i hend hw hf dX5_game_105
    refine lv_iload_n hx hb dX5_game_43 rfl (lv_at hl 1 rfl) ?_
    refine lv_iload_n hx hb dX5_game_44 rfl (lv_at hl 3 rfl) ?_
    refine lv_iload hx hb dX5_game_45 (lv_at hl 0 rfl) ?_
    refine fc_Si (rest := [.int x7]) (As := [.int p1, .int x6]) X hw hm_X5_is (lw_S q2079 q2080 q121 q2081) ⟨rfl, rfl⟩ ⟨by rw [hRf]; exact Nat.le_of_ble_eq_true rfl, by rw [hRl]; exact Nat.le_of_ble_eq_true rfl⟩ rfl rfl hl.1 (Nat.le_of_ble_eq_true rfl) dX5_game_47 (fun rQ stQ hQ => wX5_is l E hE p1 x6 st8 rQ stQ hQ) hf (fun x19 st20 H locs hw hf => ?_)
    refine fb_zeq (tgt := 71) hx hb dX5_game_50 (by decide) hf (fun hf => ?_) (fun hf => ?_)
    · refine lv_iconst (v := (0 : Int32)) hx hb dX5_game_71 (by decide) ?_
      refine lv_ixor hx hb dX5_game_72 ?_
      refine fo_tI hf (fun x21 hf => ?_)
      refine lv_istore_n (lv' := [(3, .int x21), (4, .int x6), (0, .ref (eb E + 0)), (1, .int p1), (2, .int p2)]) hx hb dX5_game_73 rfl hl (by decide) rfl (fun ls hl => ?_)
      refine fb_iinc (v := (1 : Int32)) (lv' := [(4, .int (x6 + (1 : Int32))), (3, .int x21), (0, .ref (eb E + 0)), (1, .int p1), (2, .int p2)]) hx hb dX5_game_74 hl (k := 1) rfl (by decide) (by decide) rfl (fun ls hl => ?_)
      refine lv_goto (tgt := 36) hx hb dX5_game_77 (by decide) ?_
      exact hrec9 _ _ _ hf _ _ _ (lv_sub hl [0, 1, 2, 3, 4] rfl) hw
    refine lv_aload_n hx hb dX5_game_53 rfl (lv_at hl 2 rfl) ?_
    refine fo_gets X hw fc_X5 (hm0 hE) (k := 3) (d := 2) (n2 := 2) (by decide) rfl rfl q1521 dX5_game_54 ?_
    refine lv_bipush (v := (24 : Int32)) hx hb dX5_game_57 (by decide) ?_
    refine lv_iload hx hb dX5_game_59 (lv_at hl 0 rfl) ?_
    refine lv_iadd hx hb dX5_game_61 ?_
    refine fo_iald X hw (hm2 hE) dX5_game_62 hf (fun hf => ?_)
    refine lv_bipush (v := (10 : Int32)) hx hb dX5_game_63 (by decide) ?_
    refine fb_idivK hx hb dX5_game_65 (by decide) ?_
    refine lv_iconst (v := (4 : Int32)) hx hb dX5_game_66 (by decide) ?_
    refine fb_iremK hx hb dX5_game_67 (by decide) ?_
    refine lv_goto (tgt := 72) hx hb dX5_game_68 (by decide) ?_
    refine lv_ixor hx hb dX5_game_72 ?_
    refine fo_tI hf (fun x22 hf => ?_)
    refine lv_istore_n (lv' := [(3, .int x22), (4, .int x6), (0, .ref (eb E + 0)), (1, .int p1), (2, .int p2)]) hx hb dX5_game_73 rfl hl (by decide) rfl (fun ls hl => ?_)
    refine fb_iinc (v := (1 : Int32)) (lv' := [(4, .int (x6 + (1 : Int32))), (3, .int x22), (0, .ref (eb E + 0)), (1, .int p1), (2, .int p2)]) hx hb dX5_game_74 hl (k := 1) rfl (by decide) (by decide) rfl (fun ls hl => ?_)
    refine lv_goto (tgt := 36) hx hb dX5_game_77 (by decide) ?_
    exact hrec9 _ _ _ hf _ _ _ (lv_sub hl [0, 1, 2, 3, 4] rfl) hw
  refine lv_iconst (v := (-1 : Int32)) hx hb dX5_game_29 (by decide) ?_
  exact fd_i hend hw hf dX5_game_30

/-- ForestRoomsModel.readSum -/
def fX5_readSum (G : Nat) (p1 : Int32) (st0 : fo_St) : Option fo_St := ck_ (fo_in p1 96) (lt_ (si_ st0 34 p1.toNatClampNeg (gi_ st0 0 23)) (fun st1 => jn_ (fun (st2 : fo_St) => ck_ (fo_in (p1 + (1 : Int32)) 96) (lt_ (si_ st2 34 (p1 + (1 : Int32)).toNatClampNeg (gi_ st2 0 23)) (fun st4 => some st4))) (fun k3 => if ¬ (gi_ st1 0 19) = 0 then k3 st1 else bv_ (fX5_readExpression G (0 : Int32) st1) (fun st6 => k3 st6))))
theorem hm_X5_readSum : fo_M yX5_readSum 1 := ⟨by decide +kernel, by decide +kernel, by decide +kernel, by decide +kernel⟩
set_option maxHeartbeats 4000000 in
theorem wX5_readSum (l : Launch) (E : fo_E) (hE : ∀ n, et E n = tM_ n) (G : Nat) (p1 : Int32) (st0 : fo_St) (stZ : fo_St) (hf : fX5_readSum G p1 st0 = some stZ) : CTv l E yX5_readSum (ws_ yX5_readSum cX5_readSum 2 none) ({ frames := 7, cells := 0, slots := 0, locals := 151 }) [.ref (eb E + 0), .int p1] st0 stZ := by
  refine fe_v hm_X5_readSum (Nat.le_of_ble_eq_true rfl) (fun p e R s m args below meth c Q hRf hRl X hend ls hl hw => ?_)
  have hx := X.1.1
  have hb := X.1.2.1
  have hl : lv_has ls 2 [(0, .ref (eb E + 0)), (1, .int p1)] := hl
  unfold fX5_readSum at hf
  generalize s.heap = H at hw ⊢
  generalize ([] : List Loc) = locs at hw ⊢
  refine lv_aload_n hx hb dX5_readSum_0 rfl (lv_at hl 0 rfl) ?_
  refine fo_gets X hw fc_X5 (hm0 hE) (k := 54) (d := 34) (n2 := 34) (by decide) rfl rfl q1572 dX5_readSum_1 ?_
  refine lv_iload_n hx hb dX5_readSum_4 rfl (lv_at hl 1 rfl) ?_
  refine lv_aload_n hx hb dX5_readSum_5 rfl (lv_at hl 0 rfl) ?_
  refine fo_geti X hw fc_X5 (hm0 hE) (k := 23) (by decide) rfl q1541 dX5_readSum_6 ?_
  refine fo_iast X hw (hm34 hE) dX5_readSum_9 hf (fun st1 H locs hw hf => ?_)
  refine lv_aload_n hx hb dX5_readSum_10 rfl (lv_at hl 0 rfl) ?_
  refine fo_geti X hw fc_X5 (hm0 hE) (k := 19) (by decide) rfl q1537 dX5_readSum_11 ?_
  refine jn_e hf (fun k3 ek hf => ?_)
  have hk3 : ∀  (st2 : fo_St) (H : Heap) (locs : List Loc) (ls : Array Slot), lv_has ls 2 [(0, .ref (eb E + 0)), (1, .int p1)] → fo_S E s st2 H locs → k3 st2 = some stZ → W p l e R s m args below meth c H locs 0 0 Q (F0 m 22 ls []) := by
    intro st2 H locs ls hl hw hf
    rw [ek] at hf
    refine lv_aload_n hx hb dX5_readSum_22 rfl (lv_at hl 0 rfl) ?_
    refine fo_gets X hw fc_X5 (hm0 hE) (k := 54) (d := 34) (n2 := 34) (by decide) rfl rfl q1572 dX5_readSum_23 ?_
    refine lv_iload_n hx hb dX5_readSum_26 rfl (lv_at hl 1 rfl) ?_
    refine lv_iconst (v := (1 : Int32)) hx hb dX5_readSum_27 (by decide) ?_
    refine lv_iadd hx hb dX5_readSum_28 ?_
    refine lv_aload_n hx hb dX5_readSum_29 rfl (lv_at hl 0 rfl) ?_
    refine fo_geti X hw fc_X5 (hm0 hE) (k := 23) (by decide) rfl q1541 dX5_readSum_30 ?_
    refine fo_iast X hw (hm34 hE) dX5_readSum_33 hf (fun st4 H locs hw hf => ?_)
    exact fd_v hend hw hf dX5_readSum_34
  clear ek
  refine fb_zne (tgt := 22) hx hb dX5_readSum_14 (by decide) hf (fun hf => ?_) (fun hf => ?_)
  · exact hk3 _ _ _ _ (lv_sub hl [0, 1] rfl) hw hf
  refine lv_aload_n hx hb dX5_readSum_17 rfl (lv_at hl 0 rfl) ?_
  refine lv_iconst (v := (0 : Int32)) hx hb dX5_readSum_18 (by decide) ?_
  refine fc_Vv (rest := []) (As := [.int (0 : Int32)]) X hw hm_X5_readExpression (lw_V q1874 q1876 qs59 q121 q1877) ⟨rfl, rfl⟩ ⟨by rw [hRf]; exact Nat.le_of_ble_eq_true rfl, by rw [hRl]; exact Nat.le_of_ble_eq_true rfl⟩ fc_X5 rfl (hm0 hE) rfl rfl hl.1 (Nat.le_of_ble_eq_true rfl) dX5_readSum_19 (fun stQ hQ => wX5_readExpression l E hE G (0 : Int32) st1 stQ hQ) hf (fun st6 H locs hw hf => ?_)
  exact hk3 _ _ _ _ (lv_sub hl [0, 1] rfl) hw hf

/-- ForestRoomsModel.readOrder -/
def fX5_readOrder (G : Nat) (st0 : fo_St) : Option fo_St := lp3_ (fun rec4 (x1 : Int32) (x2 : Int32) (st3 : fo_St) => if (5 : Int32) ≤ x1 then jn_ (fun (x5 : Int32) => bv_ (fX5_must G x5 st3) (fun st8 => if (gi_ st8 0 19) = 0 then lI_ ((8 : Int32) * (gi_ st8 0 21)) (fun x9 => lt_ (si_ st8 0 21 ((gi_ st8 0 21) + (1 : Int32))) (fun st10 => lp2_ (fun rec13 (x11 : Int32) (st12 : fo_St) => if (8 : Int32) ≤ x11 then ck_ (fo_in x9 96) (lt_ (si_ st12 34 x9.toNatClampNeg x2) (fun st14 => jn_ (fun (st15 : fo_St) => jn_ (fun (st17 : fo_St) => ck_ (fo_in (x9 + (7 : Int32)) 96) (lt_ (si_ st17 34 (x9 + (7 : Int32)).toNatClampNeg (1 : Int32)) (fun st19 => jn_ (fun (st20 : fo_St) => ck_ (fo_in (x9 + (5 : Int32)) 96) (lt_ (si_ st20 34 (x9 + (5 : Int32)).toNatClampNeg (gi_ st20 0 23)) (fun st22 => jn_ (fun (st23 : fo_St) => ck_ (fo_in (x9 + (6 : Int32)) 96) (lt_ (si_ st23 34 (x9 + (6 : Int32)).toNatClampNeg (gi_ st23 0 23)) (fun st25 => some st25))) (fun k24 => if ¬ (gi_ st22 0 19) = 0 then k24 st22 else bd_ (fX5_isWord (294 : Int64) st22) (fun x26 st27 => if x26 = 0 then k24 st27 else bv_ (fX5_nextToken G st27) (fun st29 => bv_ (fX5_readExpression G (1 : Int32) st29) (fun st31 => k24 st31))))))) (fun k21 => if ¬ (gi_ st19 0 19) = 0 then k21 st19 else bd_ (fX5_isWord (21279923 : Int64) st19) (fun x32 st33 => if x32 = 0 then k21 st33 else bv_ (fX5_nextToken G st33) (fun st35 => bd_ (fX5_number G (1 : Int64) (20 : Int64) st35) (fun x36 st37 => ck_ (fo_in (x9 + (7 : Int32)) 96) (lt_ (si_ st37 34 (x9 + (7 : Int32)).toNatClampNeg x36) (fun st38 => k21 st38))))))))) (fun k18 => if (3 : Int32) ≤ x2 then k18 st15 else jn_ (fun (st39 : fo_St) => bv_ (fX5_readSum G (x9 + (3 : Int32)) st39) (fun st42 => k18 st42)) (fun k40 => if ¬ (gi_ st15 0 19) = 0 then k40 st15 else jn_ (fun (x43 : Int64) => bd_ (fX5_isWord x43 st15) (fun x45 st46 => bv_ (fX5_must G x45 st46) (fun st48 => k40 st48))) (fun k44 => if ¬ x2 = 0 then if ¬ x2 = (1 : Int32) then k44 (655 : Int64) else k44 (89 : Int64) else k44 (302 : Int64))))) (fun k16 => if x2 = (4 : Int32) then k16 st14 else bv_ (fX5_readSum G (x9 + (1 : Int32)) st14) (fun st50 => k16 st50)))) else ck_ (fo_in (x9 + x11) 96) (lt_ (si_ st12 34 (x9 + x11).toNatClampNeg (0 : Int32)) (fun st51 => rec13 (x11 + (1 : Int32)) st51))) G (0 : Int32) st10)) else some st8)) (fun k6 => if x2 = (-1 : Int32) then k6 (0 : Int32) else if (12 : Int32) ≤ (gi_ st3 0 21) then k6 (0 : Int32) else k6 (1 : Int32)) else ck_ (fo_in x1 5) (bd_ (fX5_isWord (gl_ st3 33 x1.toNatClampNeg) st3) (fun x52 st53 => if x52 = 0 then rec4 (x1 + (1 : Int32)) x2 st53 else rec4 (x1 + (1 : Int32)) x1 st53))) G (0 : Int32) (-1 : Int32) st0
theorem hm_X5_readOrder : fo_M yX5_readOrder 0 := ⟨by decide +kernel, by decide +kernel, by decide +kernel, by decide +kernel⟩
set_option maxHeartbeats 4000000 in
theorem wX5_readOrder (l : Launch) (E : fo_E) (hE : ∀ n, et E n = tM_ n) (G : Nat) (st0 : fo_St) (stZ : fo_St) (hf : fX5_readOrder G st0 = some stZ) : CTv l E yX5_readOrder (ws_ yX5_readOrder cX5_readOrder 4 none) ({ frames := 8, cells := 0, slots := 0, locals := 172 }) [.ref (eb E + 0)] st0 stZ := by
  refine fe_v hm_X5_readOrder (Nat.le_of_ble_eq_true rfl) (fun p e R s m args below meth c Q hRf hRl X hend ls hl hw => ?_)
  have hx := X.1.1
  have hb := X.1.2.1
  have hl : lv_has ls 4 [(0, .ref (eb E + 0))] := hl
  unfold fX5_readOrder at hf
  generalize s.heap = H at hw ⊢
  generalize ([] : List Loc) = locs at hw ⊢
  refine lv_iconst (v := (-1 : Int32)) hx hb dX5_readOrder_0 (by decide) ?_
  refine lv_istore_n (lv' := [(1, .int (-1 : Int32)), (0, .ref (eb E + 0))]) hx hb dX5_readOrder_1 rfl hl (by decide) rfl (fun ls hl => ?_)
  refine lv_iconst (v := (0 : Int32)) hx hb dX5_readOrder_2 (by decide) ?_
  refine lv_istore_n (lv' := [(2, .int (0 : Int32)), (1, .int (-1 : Int32)), (0, .ref (eb E + 0))]) hx hb dX5_readOrder_3 rfl hl (by decide) rfl (fun ls hl => ?_)
  refine lp3_e (P := fun x1 x2 st3 => ∀ (H : Heap) (locs : List Loc) (ls : Array Slot), lv_has ls 4 [(2, .int x1), (1, .int x2), (0, .ref (eb E + 0))] → fo_S E s st3 H locs → W p l e R s m args below meth c H locs 0 0 Q (F0 m 4 ls [])) (fun rec4 hrec4 x1 x2 st3 hf => ?_) G _ _ _ hf H locs ls (lv_sub hl [0, 1, 2] rfl) hw
  intro H locs ls hl hw
  refine lv_iload_n hx hb dX5_readOrder_4 rfl (lv_at hl 0 rfl) ?_
  refine lv_iconst (v := (5 : Int32)) hx hb dX5_readOrder_5 (by decide) ?_
  refine fb_ige (tgt := 34) hx hb dX5_readOrder_6 (by decide) hf (fun hf => ?_) (fun hf => ?_)
  · refine lv_aload_n hx hb dX5_readOrder_34 rfl (lv_at hl 2 rfl) ?_
    refine lv_iload_n hx hb dX5_readOrder_35 rfl (lv_at hl 1 rfl) ?_
    refine lv_iconst (v := (-1 : Int32)) hx hb dX5_readOrder_36 (by decide) ?_
    refine jn_e hf (fun k6 ek hf => ?_)
    have hk6 : ∀ (x5 : Int32) (H : Heap) (locs : List Loc) (ls : Array Slot), lv_has ls 4 [(1, .int x2), (0, .ref (eb E + 0))] → fo_S E s st3 H locs → k6 x5 = some stZ → W p l e R s m args below meth c H locs 0 0 Q (F0 m 54 ls [.int x5, .ref (eb E + 0)]) := by
      intro x5 H locs ls hl hw hf
      rw [ek] at hf
      refine fc_Vv (rest := []) (As := [.int x5]) X hw hm_X5_must (lw_V q1870 q1872 qs58 q121 q1873) ⟨rfl, rfl⟩ ⟨by rw [hRf]; exact Nat.le_of_ble_eq_true rfl, by rw [hRl]; exact Nat.le_of_ble_eq_true rfl⟩ fc_X5 rfl (hm0 hE) rfl rfl hl.1 (Nat.le_of_ble_eq_true rfl) dX5_readOrder_54 (fun stQ hQ => wX5_must l E hE G x5 st3 stQ hQ) hf (fun st8 H locs hw hf => ?_)
      refine lv_aload_n hx hb dX5_readOrder_57 rfl (lv_at hl 1 rfl) ?_
      refine fo_geti X hw fc_X5 (hm0 hE) (k := 19) (by decide) rfl q1537 dX5_readOrder_58 ?_
      refine fb_zeq (tgt := 65) hx hb dX5_readOrder_61 (by decide) hf (fun hf => ?_) (fun hf => ?_)
      · refine lv_bipush (v := (8 : Int32)) hx hb dX5_readOrder_65 (by decide) ?_
        refine lv_aload_n hx hb dX5_readOrder_67 rfl (lv_at hl 1 rfl) ?_
        refine fo_geti X hw fc_X5 (hm0 hE) (k := 21) (by decide) rfl q1539 dX5_readOrder_68 ?_
        refine lv_imul hx hb dX5_readOrder_71 ?_
        refine fo_tI hf (fun x9 hf => ?_)
        refine lv_istore_n (lv' := [(2, .int x9), (1, .int x2), (0, .ref (eb E + 0))]) hx hb dX5_readOrder_72 rfl hl (by decide) rfl (fun ls hl => ?_)
        refine lv_aload_n hx hb dX5_readOrder_73 rfl (lv_at hl 2 rfl) ?_
        refine lv_dup hx hb dX5_readOrder_74 rfl ?_
        refine fo_geti X hw fc_X5 (hm0 hE) (k := 21) (by decide) rfl q1539 dX5_readOrder_75 ?_
        refine lv_iconst (v := (1 : Int32)) hx hb dX5_readOrder_78 (by decide) ?_
        refine lv_iadd hx hb dX5_readOrder_79 ?_
        refine fo_puti X hw fc_X5 (hm0 hE) (k := 21) (by decide) rfl rfl q1539 ⟨rfl, rfl⟩ dX5_readOrder_80 hf (fun st10 H locs hw hf => ?_)
        refine lv_iconst (v := (0 : Int32)) hx hb dX5_readOrder_83 (by decide) ?_
        refine lv_istore_n (lv' := [(3, .int (0 : Int32)), (2, .int x9), (1, .int x2), (0, .ref (eb E + 0))]) hx hb dX5_readOrder_84 rfl hl (by decide) rfl (fun ls hl => ?_)
        refine lp2_e (P := fun x11 st12 => ∀ (H : Heap) (locs : List Loc) (ls : Array Slot), lv_has ls 4 [(3, .int x11), (2, .int x9), (1, .int x2), (0, .ref (eb E + 0))] → fo_S E s st12 H locs → W p l e R s m args below meth c H locs 0 0 Q (F0 m 85 ls [])) (fun rec13 hrec13 x11 st12 hf => ?_) G _ _ hf H locs ls (lv_sub hl [0, 1, 2, 3] rfl) hw
        intro H locs ls hl hw
        refine lv_iload_n hx hb dX5_readOrder_85 rfl (lv_at hl 0 rfl) ?_
        refine lv_bipush (v := (8 : Int32)) hx hb dX5_readOrder_86 (by decide) ?_
        refine fb_ige (tgt := 106) hx hb dX5_readOrder_88 (by decide) hf (fun hf => ?_) (fun hf => ?_)
        · refine lv_aload_n hx hb dX5_readOrder_106 rfl (lv_at hl 3 rfl) ?_
          refine fo_gets X hw fc_X5 (hm0 hE) (k := 54) (d := 34) (n2 := 34) (by decide) rfl rfl q1572 dX5_readOrder_107 ?_
          refine lv_iload_n hx hb dX5_readOrder_110 rfl (lv_at hl 1 rfl) ?_
          refine lv_iload_n hx hb dX5_readOrder_111 rfl (lv_at hl 2 rfl) ?_
          refine fo_iast X hw (hm34 hE) dX5_readOrder_112 hf (fun st14 H locs hw hf => ?_)
          refine lv_iload_n hx hb dX5_readOrder_113 rfl (lv_at hl 2 rfl) ?_
          refine lv_iconst (v := (4 : Int32)) hx hb dX5_readOrder_114 (by decide) ?_
          refine jn_e hf (fun k16 ek hf => ?_)
          have hk16 : ∀  (st15 : fo_St) (H : Heap) (locs : List Loc) (ls : Array Slot), lv_has ls 4 [(2, .int x9), (1, .int x2), (0, .ref (eb E + 0))] → fo_S E s st15 H locs → k16 st15 = some stZ → W p l e R s m args below meth c H locs 0 0 Q (F0 m 125 ls []) := by
            intro st15 H locs ls hl hw hf
            rw [ek] at hf
            refine lv_iload_n hx hb dX5_readOrder_125 rfl (lv_at hl 1 rfl) ?_
            refine lv_iconst (v := (3 : Int32)) hx hb dX5_readOrder_126 (by decide) ?_
            refine jn_e hf (fun k18 ek hf => ?_)
            have hk18 : ∀  (st17 : fo_St) (H : Heap) (locs : List Loc) (ls : Array Slot), lv_has ls 4 [(2, .int x9), (0, .ref (eb E + 0))] → fo_S E s st17 H locs → k18 st17 = some stZ → W p l e R s m args below meth c H locs 0 0 Q (F0 m 176 ls []) := by
              intro st17 H locs ls hl hw hf
              rw [ek] at hf
              refine lv_aload_n hx hb dX5_readOrder_176 rfl (lv_at hl 1 rfl) ?_
              refine fo_gets X hw fc_X5 (hm0 hE) (k := 54) (d := 34) (n2 := 34) (by decide) rfl rfl q1572 dX5_readOrder_177 ?_
              refine lv_iload_n hx hb dX5_readOrder_180 rfl (lv_at hl 0 rfl) ?_
              refine lv_bipush (v := (7 : Int32)) hx hb dX5_readOrder_181 (by decide) ?_
              refine lv_iadd hx hb dX5_readOrder_183 ?_
              refine lv_iconst (v := (1 : Int32)) hx hb dX5_readOrder_184 (by decide) ?_
              refine fo_iast X hw (hm34 hE) dX5_readOrder_185 hf (fun st19 H locs hw hf => ?_)
              refine lv_aload_n hx hb dX5_readOrder_186 rfl (lv_at hl 1 rfl) ?_
              refine fo_geti X hw fc_X5 (hm0 hE) (k := 19) (by decide) rfl q1537 dX5_readOrder_187 ?_
              refine jn_e hf (fun k21 ek hf => ?_)
              have hk21 : ∀  (st20 : fo_St) (H : Heap) (locs : List Loc) (ls : Array Slot), lv_has ls 4 [(2, .int x9), (0, .ref (eb E + 0))] → fo_S E s st20 H locs → k21 st20 = some stZ → W p l e R s m args below meth c H locs 0 0 Q (F0 m 224 ls []) := by
                intro st20 H locs ls hl hw hf
                rw [ek] at hf
                refine lv_aload_n hx hb dX5_readOrder_224 rfl (lv_at hl 1 rfl) ?_
                refine fo_gets X hw fc_X5 (hm0 hE) (k := 54) (d := 34) (n2 := 34) (by decide) rfl rfl q1572 dX5_readOrder_225 ?_
                refine lv_iload_n hx hb dX5_readOrder_228 rfl (lv_at hl 0 rfl) ?_
                refine lv_iconst (v := (5 : Int32)) hx hb dX5_readOrder_229 (by decide) ?_
                refine lv_iadd hx hb dX5_readOrder_230 ?_
                refine lv_aload_n hx hb dX5_readOrder_231 rfl (lv_at hl 1 rfl) ?_
                refine fo_geti X hw fc_X5 (hm0 hE) (k := 23) (by decide) rfl q1541 dX5_readOrder_232 ?_
                refine fo_iast X hw (hm34 hE) dX5_readOrder_235 hf (fun st22 H locs hw hf => ?_)
                refine lv_aload_n hx hb dX5_readOrder_236 rfl (lv_at hl 1 rfl) ?_
                refine fo_geti X hw fc_X5 (hm0 hE) (k := 19) (by decide) rfl q1537 dX5_readOrder_237 ?_
                refine jn_e hf (fun k24 ek hf => ?_)
                have hk24 : ∀  (st23 : fo_St) (H : Heap) (locs : List Loc) (ls : Array Slot), lv_has ls 4 [(2, .int x9), (0, .ref (eb E + 0))] → fo_S E s st23 H locs → k24 st23 = some stZ → W p l e R s m args below meth c H locs 0 0 Q (F0 m 262 ls []) := by
                  intro st23 H locs ls hl hw hf
                  rw [ek] at hf
                  refine lv_aload_n hx hb dX5_readOrder_262 rfl (lv_at hl 1 rfl) ?_
                  refine fo_gets X hw fc_X5 (hm0 hE) (k := 54) (d := 34) (n2 := 34) (by decide) rfl rfl q1572 dX5_readOrder_263 ?_
                  refine lv_iload_n hx hb dX5_readOrder_266 rfl (lv_at hl 0 rfl) ?_
                  refine lv_bipush (v := (6 : Int32)) hx hb dX5_readOrder_267 (by decide) ?_
                  refine lv_iadd hx hb dX5_readOrder_269 ?_
                  refine lv_aload_n hx hb dX5_readOrder_270 rfl (lv_at hl 1 rfl) ?_
                  refine fo_geti X hw fc_X5 (hm0 hE) (k := 23) (by decide) rfl q1541 dX5_readOrder_271 ?_
                  refine fo_iast X hw (hm34 hE) dX5_readOrder_274 hf (fun st25 H locs hw hf => ?_)
                  exact fd_v hend hw hf dX5_readOrder_275
                clear ek
                refine fb_zne (tgt := 262) hx hb dX5_readOrder_240 (by decide) hf (fun hf => ?_) (fun hf => ?_)
                · exact hk24 _ _ _ _ (lv_sub hl [0, 1] rfl) hw hf
                refine lv_aload_n hx hb dX5_readOrder_243 rfl (lv_at hl 1 rfl) ?_
                refine lv_ldc2 (v := (294 : Int64)) hx hb X.1.2.2.2.1 (X.1.2.2.2.2 _ q1949) dX5_readOrder_244 ?_
                refine fc_Vi (rest := []) (As := [.long (294 : Int64)]) X hw hm_X5_isWord (lw_V q1866 q1868 qs57 q121 q1869) ⟨rfl, rfl⟩ ⟨by rw [hRf]; exact Nat.le_of_ble_eq_true rfl, by rw [hRl]; exact Nat.le_of_ble_eq_true rfl⟩ fc_X5 rfl (hm0 hE) rfl rfl hl.1 (Nat.le_of_ble_eq_true rfl) dX5_readOrder_247 (fun rQ stQ hQ => wX5_isWord l E hE (294 : Int64) st22 rQ stQ hQ) hf (fun x26 st27 H locs hw hf => ?_)
                refine fb_zeq (tgt := 262) hx hb dX5_readOrder_250 (by decide) hf (fun hf => ?_) (fun hf => ?_)
                · exact hk24 _ _ _ _ (lv_sub hl [0, 1] rfl) hw hf
                refine lv_aload_n hx hb dX5_readOrder_253 rfl (lv_at hl 1 rfl) ?_
                refine fc_Vv (rest := []) (As := []) X hw hm_X5_nextToken (lw_V q1848 q1850 qs55 q121 q1851) ⟨rfl, rfl⟩ ⟨by rw [hRf]; exact Nat.le_of_ble_eq_true rfl, by rw [hRl]; exact Nat.le_of_ble_eq_true rfl⟩ fc_X5 rfl (hm0 hE) rfl rfl hl.1 (Nat.le_of_ble_eq_true rfl) dX5_readOrder_254 (fun stQ hQ => wX5_nextToken l E hE G st27 stQ hQ) hf (fun st29 H locs hw hf => ?_)
                refine lv_aload_n hx hb dX5_readOrder_257 rfl (lv_at hl 1 rfl) ?_
                refine lv_iconst (v := (1 : Int32)) hx hb dX5_readOrder_258 (by decide) ?_
                refine fc_Vv (rest := []) (As := [.int (1 : Int32)]) X hw hm_X5_readExpression (lw_V q1874 q1876 qs59 q121 q1877) ⟨rfl, rfl⟩ ⟨by rw [hRf]; exact Nat.le_of_ble_eq_true rfl, by rw [hRl]; exact Nat.le_of_ble_eq_true rfl⟩ fc_X5 rfl (hm0 hE) rfl rfl hl.1 (Nat.le_of_ble_eq_true rfl) dX5_readOrder_259 (fun stQ hQ => wX5_readExpression l E hE G (1 : Int32) st29 stQ hQ) hf (fun st31 H locs hw hf => ?_)
                exact hk24 _ _ _ _ (lv_sub hl [0, 1] rfl) hw hf
              clear ek
              refine fb_zne (tgt := 224) hx hb dX5_readOrder_190 (by decide) hf (fun hf => ?_) (fun hf => ?_)
              · exact hk21 _ _ _ _ (lv_sub hl [0, 1] rfl) hw hf
              refine lv_aload_n hx hb dX5_readOrder_193 rfl (lv_at hl 1 rfl) ?_
              refine lv_ldc2 (v := (21279923 : Int64)) hx hb X.1.2.2.2.1 (X.1.2.2.2.2 _ q2177) dX5_readOrder_194 ?_
              refine fc_Vi (rest := []) (As := [.long (21279923 : Int64)]) X hw hm_X5_isWord (lw_V q1866 q1868 qs57 q121 q1869) ⟨rfl, rfl⟩ ⟨by rw [hRf]; exact Nat.le_of_ble_eq_true rfl, by rw [hRl]; exact Nat.le_of_ble_eq_true rfl⟩ fc_X5 rfl (hm0 hE) rfl rfl hl.1 (Nat.le_of_ble_eq_true rfl) dX5_readOrder_197 (fun rQ stQ hQ => wX5_isWord l E hE (21279923 : Int64) st19 rQ stQ hQ) hf (fun x32 st33 H locs hw hf => ?_)
              refine fb_zeq (tgt := 224) hx hb dX5_readOrder_200 (by decide) hf (fun hf => ?_) (fun hf => ?_)
              · exact hk21 _ _ _ _ (lv_sub hl [0, 1] rfl) hw hf
              refine lv_aload_n hx hb dX5_readOrder_203 rfl (lv_at hl 1 rfl) ?_
              refine fc_Vv (rest := []) (As := []) X hw hm_X5_nextToken (lw_V q1848 q1850 qs55 q121 q1851) ⟨rfl, rfl⟩ ⟨by rw [hRf]; exact Nat.le_of_ble_eq_true rfl, by rw [hRl]; exact Nat.le_of_ble_eq_true rfl⟩ fc_X5 rfl (hm0 hE) rfl rfl hl.1 (Nat.le_of_ble_eq_true rfl) dX5_readOrder_204 (fun stQ hQ => wX5_nextToken l E hE G st33 stQ hQ) hf (fun st35 H locs hw hf => ?_)
              refine lv_aload_n hx hb dX5_readOrder_207 rfl (lv_at hl 1 rfl) ?_
              refine fo_gets X hw fc_X5 (hm0 hE) (k := 54) (d := 34) (n2 := 34) (by decide) rfl rfl q1572 dX5_readOrder_208 ?_
              refine lv_iload_n hx hb dX5_readOrder_211 rfl (lv_at hl 0 rfl) ?_
              refine lv_bipush (v := (7 : Int32)) hx hb dX5_readOrder_212 (by decide) ?_
              refine lv_iadd hx hb dX5_readOrder_214 ?_
              refine lv_aload_n hx hb dX5_readOrder_215 rfl (lv_at hl 1 rfl) ?_
              refine lv_lconst (v := (1 : Int64)) hx hb dX5_readOrder_216 rfl ?_
              refine lv_ldc2 (v := (20 : Int64)) hx hb X.1.2.2.2.1 (X.1.2.2.2.2 _ q1939) dX5_readOrder_217 ?_
              refine fc_Vi (rest := [.int (x9 + (7 : Int32)), .ref (eb E + 34)]) (As := [.long (1 : Int64), .long (20 : Int64)]) X hw hm_X5_number (lw_V q1916 q1918 qs69 q121 q1919) ⟨rfl, rfl⟩ ⟨by rw [hRf]; exact Nat.le_of_ble_eq_true rfl, by rw [hRl]; exact Nat.le_of_ble_eq_true rfl⟩ fc_X5 rfl (hm0 hE) rfl rfl hl.1 (Nat.le_of_ble_eq_true rfl) dX5_readOrder_220 (fun rQ stQ hQ => wX5_number l E hE G (1 : Int64) (20 : Int64) st35 rQ stQ hQ) hf (fun x36 st37 H locs hw hf => ?_)
              refine fo_iast X hw (hm34 hE) dX5_readOrder_223 hf (fun st38 H locs hw hf => ?_)
              exact hk21 _ _ _ _ (lv_sub hl [0, 1] rfl) hw hf
            clear ek
            refine fb_ige (tgt := 176) hx hb dX5_readOrder_127 (by decide) hf (fun hf => ?_) (fun hf => ?_)
            · exact hk18 _ _ _ _ (lv_sub hl [0, 2] rfl) hw hf
            refine lv_aload_n hx hb dX5_readOrder_130 rfl (lv_at hl 2 rfl) ?_
            refine fo_geti X hw fc_X5 (hm0 hE) (k := 19) (by decide) rfl q1537 dX5_readOrder_131 ?_
            refine jn_e hf (fun k40 ek hf => ?_)
            have hk40 : ∀  (st39 : fo_St) (H : Heap) (locs : List Loc) (ls : Array Slot), lv_has ls 4 [(2, .int x9), (0, .ref (eb E + 0))] → fo_S E s st39 H locs → k40 st39 = some stZ → W p l e R s m args below meth c H locs 0 0 Q (F0 m 169 ls []) := by
              intro st39 H locs ls hl hw hf
              rw [ek] at hf
              refine lv_aload_n hx hb dX5_readOrder_169 rfl (lv_at hl 1 rfl) ?_
              refine lv_iload_n hx hb dX5_readOrder_170 rfl (lv_at hl 0 rfl) ?_
              refine lv_iconst (v := (3 : Int32)) hx hb dX5_readOrder_171 (by decide) ?_
              refine lv_iadd hx hb dX5_readOrder_172 ?_
              refine fc_Vv (rest := []) (As := [.int (x9 + (3 : Int32))]) X hw hm_X5_readSum (lw_V q2170 q2172 qs103 q121 q2173) ⟨rfl, rfl⟩ ⟨by rw [hRf]; exact Nat.le_of_ble_eq_true rfl, by rw [hRl]; exact Nat.le_of_ble_eq_true rfl⟩ fc_X5 rfl (hm0 hE) rfl rfl hl.1 (Nat.le_of_ble_eq_true rfl) dX5_readOrder_173 (fun stQ hQ => wX5_readSum l E hE G (x9 + (3 : Int32)) st39 stQ hQ) hf (fun st42 H locs hw hf => ?_)
              exact hk18 _ _ _ _ (lv_sub hl [0, 1] rfl) hw hf
            clear ek
            refine fb_zne (tgt := 169) hx hb dX5_readOrder_134 (by decide) hf (fun hf => ?_) (fun hf => ?_)
            · exact hk40 _ _ _ _ (lv_sub hl [0, 2] rfl) hw hf
            refine lv_aload_n hx hb dX5_readOrder_137 rfl (lv_at hl 2 rfl) ?_
            refine lv_aload_n hx hb dX5_readOrder_138 rfl (lv_at hl 2 rfl) ?_
            refine lv_iload_n hx hb dX5_readOrder_139 rfl (lv_at hl 1 rfl) ?_
            refine jn_e hf (fun k44 ek hf => ?_)
            have hk44 : ∀ (x43 : Int64) (H : Heap) (locs : List Loc) (ls : Array Slot), lv_has ls 4 [(2, .int x9), (0, .ref (eb E + 0))] → fo_S E s st15 H locs → k44 x43 = some stZ → W p l e R s m args below meth c H locs 0 0 Q (F0 m 163 ls [.long x43, .ref (eb E + 0), .ref (eb E + 0)]) := by
              intro x43 H locs ls hl hw hf
              rw [ek] at hf
              refine fc_Vi (rest := [.ref (eb E + 0)]) (As := [.long x43]) X hw hm_X5_isWord (lw_V q1866 q1868 qs57 q121 q1869) ⟨rfl, rfl⟩ ⟨by rw [hRf]; exact Nat.le_of_ble_eq_true rfl, by rw [hRl]; exact Nat.le_of_ble_eq_true rfl⟩ fc_X5 rfl (hm0 hE) rfl rfl hl.1 (Nat.le_of_ble_eq_true rfl) dX5_readOrder_163 (fun rQ stQ hQ => wX5_isWord l E hE x43 st15 rQ stQ hQ) hf (fun x45 st46 H locs hw hf => ?_)
              refine fc_Vv (rest := []) (As := [.int x45]) X hw hm_X5_must (lw_V q1870 q1872 qs58 q121 q1873) ⟨rfl, rfl⟩ ⟨by rw [hRf]; exact Nat.le_of_ble_eq_true rfl, by rw [hRl]; exact Nat.le_of_ble_eq_true rfl⟩ fc_X5 rfl (hm0 hE) rfl rfl hl.1 (Nat.le_of_ble_eq_true rfl) dX5_readOrder_166 (fun stQ hQ => wX5_must l E hE G x45 st46 stQ hQ) hf (fun st48 H locs hw hf => ?_)
              exact hk40 _ _ _ _ (lv_sub hl [0, 1] rfl) hw hf
            clear ek
            refine fb_zne (tgt := 149) hx hb dX5_readOrder_140 (by decide) hf (fun hf => ?_) (fun hf => ?_)
            · refine lv_iload_n hx hb dX5_readOrder_149 rfl (lv_at hl 1 rfl) ?_
              refine lv_iconst (v := (1 : Int32)) hx hb dX5_readOrder_150 (by decide) ?_
              refine fb_ine (tgt := 160) hx hb dX5_readOrder_151 (by decide) hf (fun hf => ?_) (fun hf => ?_)
              · refine lv_ldc2 (v := (655 : Int64)) hx hb X.1.2.2.2.1 (X.1.2.2.2.2 _ q2176) dX5_readOrder_160 ?_
                exact hk44 _ _ _ _ (lv_sub hl [0, 2] rfl) hw hf
              refine lv_ldc2 (v := (89 : Int64)) hx hb X.1.2.2.2.1 (X.1.2.2.2.2 _ q2175) dX5_readOrder_154 ?_
              refine lv_goto (tgt := 163) hx hb dX5_readOrder_157 (by decide) ?_
              exact hk44 _ _ _ _ (lv_sub hl [0, 2] rfl) hw hf
            refine lv_ldc2 (v := (302 : Int64)) hx hb X.1.2.2.2.1 (X.1.2.2.2.2 _ q2174) dX5_readOrder_143 ?_
            refine lv_goto (tgt := 163) hx hb dX5_readOrder_146 (by decide) ?_
            exact hk44 _ _ _ _ (lv_sub hl [0, 2] rfl) hw hf
          clear ek
          refine fb_ieq (tgt := 125) hx hb dX5_readOrder_115 (by decide) hf (fun hf => ?_) (fun hf => ?_)
          · exact hk16 _ _ _ _ (lv_sub hl [1, 2, 3] rfl) hw hf
          refine lv_aload_n hx hb dX5_readOrder_118 rfl (lv_at hl 3 rfl) ?_
          refine lv_iload_n hx hb dX5_readOrder_119 rfl (lv_at hl 1 rfl) ?_
          refine lv_iconst (v := (1 : Int32)) hx hb dX5_readOrder_120 (by decide) ?_
          refine lv_iadd hx hb dX5_readOrder_121 ?_
          refine fc_Vv (rest := []) (As := [.int (x9 + (1 : Int32))]) X hw hm_X5_readSum (lw_V q2170 q2172 qs103 q121 q2173) ⟨rfl, rfl⟩ ⟨by rw [hRf]; exact Nat.le_of_ble_eq_true rfl, by rw [hRl]; exact Nat.le_of_ble_eq_true rfl⟩ fc_X5 rfl (hm0 hE) rfl rfl hl.1 (Nat.le_of_ble_eq_true rfl) dX5_readOrder_122 (fun stQ hQ => wX5_readSum l E hE G (x9 + (1 : Int32)) st14 stQ hQ) hf (fun st50 H locs hw hf => ?_)
          exact hk16 _ _ _ _ (lv_sub hl [1, 2, 3] rfl) hw hf
        refine lv_aload_n hx hb dX5_readOrder_91 rfl (lv_at hl 3 rfl) ?_
        refine fo_gets X hw fc_X5 (hm0 hE) (k := 54) (d := 34) (n2 := 34) (by decide) rfl rfl q1572 dX5_readOrder_92 ?_
        refine lv_iload_n hx hb dX5_readOrder_95 rfl (lv_at hl 1 rfl) ?_
        refine lv_iload_n hx hb dX5_readOrder_96 rfl (lv_at hl 0 rfl) ?_
        refine lv_iadd hx hb dX5_readOrder_97 ?_
        refine lv_iconst (v := (0 : Int32)) hx hb dX5_readOrder_98 (by decide) ?_
        refine fo_iast X hw (hm34 hE) dX5_readOrder_99 hf (fun st51 H locs hw hf => ?_)
        refine fb_iinc (v := (1 : Int32)) (lv' := [(3, .int (x11 + (1 : Int32))), (2, .int x9), (1, .int x2), (0, .ref (eb E + 0))]) hx hb dX5_readOrder_100 hl (k := 0) rfl (by decide) (by decide) rfl (fun ls hl => ?_)
        refine lv_goto (tgt := 85) hx hb dX5_readOrder_103 (by decide) ?_
        exact hrec13 _ _ hf _ _ _ (lv_sub hl [0, 1, 2, 3] rfl) hw
      exact fd_v hend hw hf dX5_readOrder_64
    clear ek
    refine fb_ieq (tgt := 53) hx hb dX5_readOrder_37 (by decide) hf (fun hf => ?_) (fun hf => ?_)
    · refine lv_iconst (v := (0 : Int32)) hx hb dX5_readOrder_53 (by decide) ?_
      exact hk6 _ _ _ _ (lv_sub hl [1, 2] rfl) hw hf
    refine lv_aload_n hx hb dX5_readOrder_40 rfl (lv_at hl 2 rfl) ?_
    refine fo_geti X hw fc_X5 (hm0 hE) (k := 21) (by decide) rfl q1539 dX5_readOrder_41 ?_
    refine lv_bipush (v := (12 : Int32)) hx hb dX5_readOrder_44 (by decide) ?_
    refine fb_ige (tgt := 53) hx hb dX5_readOrder_46 (by decide) hf (fun hf => ?_) (fun hf => ?_)
    · refine lv_iconst (v := (0 : Int32)) hx hb dX5_readOrder_53 (by decide) ?_
      exact hk6 _ _ _ _ (lv_sub hl [1, 2] rfl) hw hf
    refine lv_iconst (v := (1 : Int32)) hx hb dX5_readOrder_49 (by decide) ?_
    refine lv_goto (tgt := 54) hx hb dX5_readOrder_50 (by decide) ?_
    exact hk6 _ _ _ _ (lv_sub hl [1, 2] rfl) hw hf
  refine lv_aload_n hx hb dX5_readOrder_9 rfl (lv_at hl 2 rfl) ?_
  refine lv_aload_n hx hb dX5_readOrder_10 rfl (lv_at hl 2 rfl) ?_
  refine fo_gets X hw fc_X5 (hm0 hE) (k := 53) (d := 33) (n2 := 33) (by decide) rfl rfl q1571 dX5_readOrder_11 ?_
  refine lv_iload_n hx hb dX5_readOrder_14 rfl (lv_at hl 0 rfl) ?_
  refine fo_lald X hw (hm33 hE) dX5_readOrder_15 hf (fun hf => ?_)
  refine fc_Vi (rest := []) (As := [.long (gl_ st3 33 x1.toNatClampNeg)]) X hw hm_X5_isWord (lw_V q1866 q1868 qs57 q121 q1869) ⟨rfl, rfl⟩ ⟨by rw [hRf]; exact Nat.le_of_ble_eq_true rfl, by rw [hRl]; exact Nat.le_of_ble_eq_true rfl⟩ fc_X5 rfl (hm0 hE) rfl rfl hl.1 (Nat.le_of_ble_eq_true rfl) dX5_readOrder_16 (fun rQ stQ hQ => wX5_isWord l E hE (gl_ st3 33 x1.toNatClampNeg) st3 rQ stQ hQ) hf (fun x52 st53 H locs hw hf => ?_)
  refine fb_zeq (tgt := 26) hx hb dX5_readOrder_19 (by decide) hf (fun hf => ?_) (fun hf => ?_)
  · refine lv_iload_n hx hb dX5_readOrder_26 rfl (lv_at hl 1 rfl) ?_
    refine lv_istore_n (lv' := [(1, .int x2), (2, .int x1), (0, .ref (eb E + 0))]) hx hb dX5_readOrder_27 rfl hl (by decide) rfl (fun ls hl => ?_)
    refine fb_iinc (v := (1 : Int32)) (lv' := [(2, .int (x1 + (1 : Int32))), (1, .int x2), (0, .ref (eb E + 0))]) hx hb dX5_readOrder_28 hl (k := 1) rfl (by decide) (by decide) rfl (fun ls hl => ?_)
    refine lv_goto (tgt := 4) hx hb dX5_readOrder_31 (by decide) ?_
    exact hrec4 _ _ _ hf _ _ _ (lv_sub hl [0, 1, 2] rfl) hw
  refine lv_iload_n hx hb dX5_readOrder_22 rfl (lv_at hl 0 rfl) ?_
  refine lv_goto (tgt := 27) hx hb dX5_readOrder_23 (by decide) ?_
  refine lv_istore_n (lv' := [(1, .int x1), (2, .int x1), (0, .ref (eb E + 0))]) hx hb dX5_readOrder_27 rfl hl (by decide) rfl (fun ls hl => ?_)
  refine fb_iinc (v := (1 : Int32)) (lv' := [(2, .int (x1 + (1 : Int32))), (1, .int x1), (0, .ref (eb E + 0))]) hx hb dX5_readOrder_28 hl (k := 1) rfl (by decide) (by decide) rfl (fun ls hl => ?_)
  refine lv_goto (tgt := 4) hx hb dX5_readOrder_31 (by decide) ?_
  exact hrec4 _ _ _ hf _ _ _ (lv_sub hl [0, 1, 2] rfl) hw

/-- ForestRoomsModel.trees -/
def fX5_trees (G : Nat) (st0 : fo_St) : Option (Int32 × fo_St) := lp3_ (fun rec4 (x1 : Int32) (x2 : Int32) (st3 : fo_St) => if (16 : Int32) ≤ x1 then some (x2, st3) else bd_ (fX5_isTree x1 st3) (fun x5 st6 => if x5 = 0 then lI_ (x2 + (0 : Int32)) (fun x7 => rec4 (x1 + (1 : Int32)) x7 st6) else lI_ (x2 + (1 : Int32)) (fun x8 => rec4 (x1 + (1 : Int32)) x8 st6))) G (0 : Int32) (0 : Int32) st0
theorem hm_X5_trees : fo_M yX5_trees 0 := ⟨by decide +kernel, by decide +kernel, by decide +kernel, by decide +kernel⟩
set_option maxHeartbeats 4000000 in
theorem wX5_trees (l : Launch) (E : fo_E) (hE : ∀ n, et E n = tM_ n) (G : Nat) (st0 : fo_St) (rZ : Int32) (stZ : fo_St) (hf : fX5_trees G st0 = some (rZ, stZ)) : CTi l E yX5_trees (ws_ yX5_trees cX5_trees 3 (some .int)) ({ frames := 1, cells := 0, slots := 0, locals := 21 }) [.ref (eb E + 0)] st0 rZ stZ := by
  refine fe_i hm_X5_trees (Nat.le_of_ble_eq_true rfl) (fun p e R s m args below meth c Q hRf hRl X hend ls hl hw => ?_)
  have hx := X.1.1
  have hb := X.1.2.1
  have hl : lv_has ls 3 [(0, .ref (eb E + 0))] := hl
  unfold fX5_trees at hf
  generalize s.heap = H at hw ⊢
  generalize ([] : List Loc) = locs at hw ⊢
  refine lv_iconst (v := (0 : Int32)) hx hb dX5_trees_0 (by decide) ?_
  refine lv_istore_n (lv' := [(1, .int (0 : Int32)), (0, .ref (eb E + 0))]) hx hb dX5_trees_1 rfl hl (by decide) rfl (fun ls hl => ?_)
  refine lv_iconst (v := (0 : Int32)) hx hb dX5_trees_2 (by decide) ?_
  refine lv_istore_n (lv' := [(2, .int (0 : Int32)), (1, .int (0 : Int32)), (0, .ref (eb E + 0))]) hx hb dX5_trees_3 rfl hl (by decide) rfl (fun ls hl => ?_)
  refine lp3_e (P := fun x1 x2 st3 => ∀ (H : Heap) (locs : List Loc) (ls : Array Slot), lv_has ls 3 [(2, .int x1), (1, .int x2), (0, .ref (eb E + 0))] → fo_S E s st3 H locs → W p l e R s m args below meth c H locs 0 0 Q (F0 m 4 ls [])) (fun rec4 hrec4 x1 x2 st3 hf => ?_) G _ _ _ hf H locs ls (lv_sub hl [0, 1, 2] rfl) hw
  intro H locs ls hl hw
  refine lv_iload_n hx hb dX5_trees_4 rfl (lv_at hl 0 rfl) ?_
  refine lv_bipush (v := (16 : Int32)) hx hb dX5_trees_5 (by decide) ?_
  refine fb_ige (tgt := 32) hx hb dX5_trees_7 (by decide) hf (fun hf => ?_) (fun hf => ?_)
  · refine lv_iload_n hx hb dX5_trees_32 rfl (lv_at hl 1 rfl) ?_
    exact fd_i hend hw hf dX5_trees_33
  refine lv_iload_n hx hb dX5_trees_10 rfl (lv_at hl 1 rfl) ?_
  refine lv_aload_n hx hb dX5_trees_11 rfl (lv_at hl 2 rfl) ?_
  refine lv_iload_n hx hb dX5_trees_12 rfl (lv_at hl 0 rfl) ?_
  refine fc_Vi (rest := [.int x2]) (As := [.int x1]) X hw hm_X5_isTree (lw_V q1757 q1759 qs43 q121 q1760) ⟨rfl, rfl⟩ ⟨by rw [hRf]; exact Nat.le_of_ble_eq_true rfl, by rw [hRl]; exact Nat.le_of_ble_eq_true rfl⟩ fc_X5 rfl (hm0 hE) rfl rfl hl.1 (Nat.le_of_ble_eq_true rfl) dX5_trees_13 (fun rQ stQ hQ => wX5_isTree l E hE x1 st3 rQ stQ hQ) hf (fun x5 st6 H locs hw hf => ?_)
  refine fb_zeq (tgt := 23) hx hb dX5_trees_16 (by decide) hf (fun hf => ?_) (fun hf => ?_)
  · refine lv_iconst (v := (0 : Int32)) hx hb dX5_trees_23 (by decide) ?_
    refine lv_iadd hx hb dX5_trees_24 ?_
    refine fo_tI hf (fun x7 hf => ?_)
    refine lv_istore_n (lv' := [(1, .int x7), (2, .int x1), (0, .ref (eb E + 0))]) hx hb dX5_trees_25 rfl hl (by decide) rfl (fun ls hl => ?_)
    refine fb_iinc (v := (1 : Int32)) (lv' := [(2, .int (x1 + (1 : Int32))), (1, .int x7), (0, .ref (eb E + 0))]) hx hb dX5_trees_26 hl (k := 1) rfl (by decide) (by decide) rfl (fun ls hl => ?_)
    refine lv_goto (tgt := 4) hx hb dX5_trees_29 (by decide) ?_
    exact hrec4 _ _ _ hf _ _ _ (lv_sub hl [0, 1, 2] rfl) hw
  refine lv_iconst (v := (1 : Int32)) hx hb dX5_trees_19 (by decide) ?_
  refine lv_goto (tgt := 24) hx hb dX5_trees_20 (by decide) ?_
  refine lv_iadd hx hb dX5_trees_24 ?_
  refine fo_tI hf (fun x8 hf => ?_)
  refine lv_istore_n (lv' := [(1, .int x8), (2, .int x1), (0, .ref (eb E + 0))]) hx hb dX5_trees_25 rfl hl (by decide) rfl (fun ls hl => ?_)
  refine fb_iinc (v := (1 : Int32)) (lv' := [(2, .int (x1 + (1 : Int32))), (1, .int x8), (0, .ref (eb E + 0))]) hx hb dX5_trees_26 hl (k := 1) rfl (by decide) (by decide) rfl (fun ls hl => ?_)
  refine lv_goto (tgt := 4) hx hb dX5_trees_29 (by decide) ?_
  exact hrec4 _ _ _ hf _ _ _ (lv_sub hl [0, 1, 2] rfl) hw

/-- ForestRoomsModel.sumOf -/
def fX5_sumOf (G : Nat) (p1 : Int32) (st0 : fo_St) : Option (Int32 × fo_St) := if ¬ (gi_ st0 0 58) = 0 then some ((-1 : Int32), st0) else ck_ (fo_in p1 96) (ck_ (fo_in (p1 + (1 : Int32)) 96) (if ¬ (gi_ st0 34 p1.toNatClampNeg) = (gi_ st0 34 (p1 + (1 : Int32)).toNatClampNeg) then lt_ (si_ st0 0 20 (1 : Int32)) (fun st1 => ck_ (fo_in p1 96) (ck_ (fo_in (p1 + (1 : Int32)) 96) (bv_ (fX5_reckonAll G (gi_ st1 34 p1.toNatClampNeg) (gi_ st1 34 (p1 + (1 : Int32)).toNatClampNeg) st1) (fun st3 => lt_ (si_ st3 0 20 (0 : Int32)) (fun st4 => ck_ (decide ((gi_ st4 0 38) = 0 ∨ (gi_ st4 0 38) = 1)) (lt_ (si_ st4 0 58 (gi_ st4 0 38)) (fun st5 => some ((gl_ st5 0 39).toInt32, st5)))))))) else some ((-1 : Int32), st0)))
theorem hm_X5_sumOf : fo_M yX5_sumOf 1 := ⟨by decide +kernel, by decide +kernel, by decide +kernel, by decide +kernel⟩
set_option maxHeartbeats 4000000 in
theorem wX5_sumOf (l : Launch) (E : fo_E) (hE : ∀ n, et E n = tM_ n) (G : Nat) (p1 : Int32) (st0 : fo_St) (rZ : Int32) (stZ : fo_St) (hf : fX5_sumOf G p1 st0 = some (rZ, stZ)) : CTi l E yX5_sumOf (ws_ yX5_sumOf cX5_sumOf 2 (some .int)) ({ frames := 2, cells := 0, slots := 0, locals := 51 }) [.ref (eb E + 0), .int p1] st0 rZ stZ := by
  refine fe_i hm_X5_sumOf (Nat.le_of_ble_eq_true rfl) (fun p e R s m args below meth c Q hRf hRl X hend ls hl hw => ?_)
  have hx := X.1.1
  have hb := X.1.2.1
  have hl : lv_has ls 2 [(0, .ref (eb E + 0)), (1, .int p1)] := hl
  unfold fX5_sumOf at hf
  generalize s.heap = H at hw ⊢
  generalize ([] : List Loc) = locs at hw ⊢
  refine lv_aload_n hx hb dX5_sumOf_0 rfl (lv_at hl 0 rfl) ?_
  refine fo_geti X hw fc_X5 (hm0 hE) (k := 58) (by decide) rfl q1576 dX5_sumOf_1 ?_
  refine fb_zne (tgt := 24) hx hb dX5_sumOf_4 (by decide) hf (fun hf => ?_) (fun hf => ?_)
  · refine lv_iconst (v := (-1 : Int32)) hx hb dX5_sumOf_24 (by decide) ?_
    exact fd_i hend hw hf dX5_sumOf_25
  refine lv_aload_n hx hb dX5_sumOf_7 rfl (lv_at hl 0 rfl) ?_
  refine fo_gets X hw fc_X5 (hm0 hE) (k := 54) (d := 34) (n2 := 34) (by decide) rfl rfl q1572 dX5_sumOf_8 ?_
  refine lv_iload_n hx hb dX5_sumOf_11 rfl (lv_at hl 1 rfl) ?_
  refine fo_iald X hw (hm34 hE) dX5_sumOf_12 hf (fun hf => ?_)
  refine lv_aload_n hx hb dX5_sumOf_13 rfl (lv_at hl 0 rfl) ?_
  refine fo_gets X hw fc_X5 (hm0 hE) (k := 54) (d := 34) (n2 := 34) (by decide) rfl rfl q1572 dX5_sumOf_14 ?_
  refine lv_iload_n hx hb dX5_sumOf_17 rfl (lv_at hl 1 rfl) ?_
  refine lv_iconst (v := (1 : Int32)) hx hb dX5_sumOf_18 (by decide) ?_
  refine lv_iadd hx hb dX5_sumOf_19 ?_
  refine fo_iald X hw (hm34 hE) dX5_sumOf_20 hf (fun hf => ?_)
  refine fb_ine (tgt := 26) hx hb dX5_sumOf_21 (by decide) hf (fun hf => ?_) (fun hf => ?_)
  · refine lv_aload_n hx hb dX5_sumOf_26 rfl (lv_at hl 0 rfl) ?_
    refine lv_iconst (v := (1 : Int32)) hx hb dX5_sumOf_27 (by decide) ?_
    refine fo_puti X hw fc_X5 (hm0 hE) (k := 20) (by decide) rfl rfl q1538 ⟨rfl, rfl⟩ dX5_sumOf_28 hf (fun st1 H locs hw hf => ?_)
    refine lv_aload_n hx hb dX5_sumOf_31 rfl (lv_at hl 0 rfl) ?_
    refine lv_aload_n hx hb dX5_sumOf_32 rfl (lv_at hl 0 rfl) ?_
    refine fo_gets X hw fc_X5 (hm0 hE) (k := 54) (d := 34) (n2 := 34) (by decide) rfl rfl q1572 dX5_sumOf_33 ?_
    refine lv_iload_n hx hb dX5_sumOf_36 rfl (lv_at hl 1 rfl) ?_
    refine fo_iald X hw (hm34 hE) dX5_sumOf_37 hf (fun hf => ?_)
    refine lv_aload_n hx hb dX5_sumOf_38 rfl (lv_at hl 0 rfl) ?_
    refine fo_gets X hw fc_X5 (hm0 hE) (k := 54) (d := 34) (n2 := 34) (by decide) rfl rfl q1572 dX5_sumOf_39 ?_
    refine lv_iload_n hx hb dX5_sumOf_42 rfl (lv_at hl 1 rfl) ?_
    refine lv_iconst (v := (1 : Int32)) hx hb dX5_sumOf_43 (by decide) ?_
    refine lv_iadd hx hb dX5_sumOf_44 ?_
    refine fo_iald X hw (hm34 hE) dX5_sumOf_45 hf (fun hf => ?_)
    refine fc_Vv (rest := []) (As := [.int (gi_ st1 34 p1.toNatClampNeg), .int (gi_ st1 34 (p1 + (1 : Int32)).toNatClampNeg)]) X hw hm_X5_reckonAll (lw_V q1783 q1785 qs49 q121 q1786) ⟨rfl, rfl⟩ ⟨by rw [hRf]; exact Nat.le_of_ble_eq_true rfl, by rw [hRl]; exact Nat.le_of_ble_eq_true rfl⟩ fc_X5 rfl (hm0 hE) rfl rfl hl.1 (Nat.le_of_ble_eq_true rfl) dX5_sumOf_46 (fun stQ hQ => wX5_reckonAll l E hE G (gi_ st1 34 p1.toNatClampNeg) (gi_ st1 34 (p1 + (1 : Int32)).toNatClampNeg) st1 stQ hQ) hf (fun st3 H locs hw hf => ?_)
    refine lv_aload_n hx hb dX5_sumOf_49 rfl (lv_at hl 0 rfl) ?_
    refine lv_iconst (v := (0 : Int32)) hx hb dX5_sumOf_50 (by decide) ?_
    refine fo_puti X hw fc_X5 (hm0 hE) (k := 20) (by decide) rfl rfl q1538 ⟨rfl, rfl⟩ dX5_sumOf_51 hf (fun st4 H locs hw hf => ?_)
    refine lv_aload_n hx hb dX5_sumOf_54 rfl (lv_at hl 0 rfl) ?_
    refine lv_aload_n hx hb dX5_sumOf_55 rfl (lv_at hl 0 rfl) ?_
    refine fo_geti X hw fc_X5 (hm0 hE) (k := 38) (by decide) rfl q1556 dX5_sumOf_56 ?_
    obtain ⟨hz, hf⟩ := ck_e hf
    refine fo_puti X hw fc_X5 (hm0 hE) (k := 58) (by decide) rfl rfl q1576 (fo_z hz) dX5_sumOf_59 hf (fun st5 H locs hw hf => ?_)
    refine lv_aload_n hx hb dX5_sumOf_62 rfl (lv_at hl 0 rfl) ?_
    refine fo_getl X hw fc_X5 (hm0 hE) (k := 39) (by decide) rfl q1557 dX5_sumOf_63 ?_
    refine lv_l2i (v := (gl_ st5 0 39).toInt32) hx hb dX5_sumOf_66 rfl ?_
    exact fd_i hend hw hf dX5_sumOf_67
  refine lv_iconst (v := (-1 : Int32)) hx hb dX5_sumOf_24 (by decide) ?_
  exact fd_i hend hw hf dX5_sumOf_25

/-- ForestRoomsModel.act -/
def fX5_act (G : Nat) (p1 : Int32) (p2 : Int32) (p3 : Int32) (st0 : fo_St) : Option (Int32 × fo_St) := if p1 = (0 : Int32) then bd_ (fX5_plantNow G p2 p3 st0) (fun x1 st2 => some (x1, st2)) else if p1 = (1 : Int32) then bd_ (fX5_pruneNow G p2 p3 st0) (fun x3 st4 => some (x3, st4)) else if p1 = (2 : Int32) then bd_ (fX5_letNow G p2 p3 st0) (fun x5 st6 => some (x5, st6)) else if p1 = (3 : Int32) then bd_ (fX5_emptyNow G p2 st0) (fun x7 st8 => some (x7, st8)) else bd_ (fX5_passNow G st0) (fun x9 st10 => some (x9, st10))
theorem hm_X5_act : fo_M yX5_act 3 := ⟨by decide +kernel, by decide +kernel, by decide +kernel, by decide +kernel⟩
set_option maxHeartbeats 4000000 in
theorem wX5_act (l : Launch) (E : fo_E) (hE : ∀ n, et E n = tM_ n) (G : Nat) (p1 : Int32) (p2 : Int32) (p3 : Int32) (st0 : fo_St) (rZ : Int32) (stZ : fo_St) (hf : fX5_act G p1 p2 p3 st0 = some (rZ, stZ)) : CTi l E yX5_act (ws_ yX5_act cX5_act 4 (some .int)) ({ frames := 8, cells := 0, slots := 0, locals := 191 }) [.ref (eb E + 0), .int p1, .int p2, .int p3] st0 rZ stZ := by
  refine fe_i hm_X5_act (Nat.le_of_ble_eq_true rfl) (fun p e R s m args below meth c Q hRf hRl X hend ls hl hw => ?_)
  have hx := X.1.1
  have hb := X.1.2.1
  have hl : lv_has ls 4 [(0, .ref (eb E + 0)), (1, .int p1), (2, .int p2), (3, .int p3)] := hl
  unfold fX5_act at hf
  generalize s.heap = H at hw ⊢
  generalize ([] : List Loc) = locs at hw ⊢
  refine lv_iload_n hx hb dX5_act_0 rfl (lv_at hl 1 rfl) ?_
  refine sw_e hf (fun e0 hf => ?_) (fun n0 hf => ?_)
  · refine lv_tableIn (tgt := 32) hx hb dX5_act_1 (by rw [e0]; decide) (by rw [e0]; decide) (off := 31) (by rw [e0]; decide) (by decide) ?_
    refine lv_aload_n hx hb dX5_act_32 rfl (lv_at hl 0 rfl) ?_
    refine lv_iload_n hx hb dX5_act_33 rfl (lv_at hl 2 rfl) ?_
    refine lv_iload_n hx hb dX5_act_34 rfl (lv_at hl 3 rfl) ?_
    refine fc_Vi (rest := []) (As := [.int p2, .int p3]) X hw hm_X5_plantNow (lw_V q1991 q1993 qs81 q121 q1994) ⟨rfl, rfl⟩ ⟨by rw [hRf]; exact Nat.le_of_ble_eq_true rfl, by rw [hRl]; exact Nat.le_of_ble_eq_true rfl⟩ fc_X5 rfl (hm0 hE) rfl rfl hl.1 (Nat.le_of_ble_eq_true rfl) dX5_act_35 (fun rQ stQ hQ => wX5_plantNow l E hE G p2 p3 st0 rQ stQ hQ) hf (fun x1 st2 H locs hw hf => ?_)
    exact fd_i hend hw hf dX5_act_38
  refine sw_e hf (fun e0 hf => ?_) (fun n1 hf => ?_)
  · refine lv_tableIn (tgt := 39) hx hb dX5_act_1 (by rw [e0]; decide) (by rw [e0]; decide) (off := 38) (by rw [e0]; decide) (by decide) ?_
    refine lv_aload_n hx hb dX5_act_39 rfl (lv_at hl 0 rfl) ?_
    refine lv_iload_n hx hb dX5_act_40 rfl (lv_at hl 2 rfl) ?_
    refine lv_iload_n hx hb dX5_act_41 rfl (lv_at hl 3 rfl) ?_
    refine fc_Vi (rest := []) (As := [.int p2, .int p3]) X hw hm_X5_pruneNow (lw_V q2007 q2009 qs84 q121 q2010) ⟨rfl, rfl⟩ ⟨by rw [hRf]; exact Nat.le_of_ble_eq_true rfl, by rw [hRl]; exact Nat.le_of_ble_eq_true rfl⟩ fc_X5 rfl (hm0 hE) rfl rfl hl.1 (Nat.le_of_ble_eq_true rfl) dX5_act_42 (fun rQ stQ hQ => wX5_pruneNow l E hE G p2 p3 st0 rQ stQ hQ) hf (fun x3 st4 H locs hw hf => ?_)
    exact fd_i hend hw hf dX5_act_45
  refine sw_e hf (fun e0 hf => ?_) (fun n2 hf => ?_)
  · refine lv_tableIn (tgt := 46) hx hb dX5_act_1 (by rw [e0]; decide) (by rw [e0]; decide) (off := 45) (by rw [e0]; decide) (by decide) ?_
    refine lv_aload_n hx hb dX5_act_46 rfl (lv_at hl 0 rfl) ?_
    refine lv_iload_n hx hb dX5_act_47 rfl (lv_at hl 2 rfl) ?_
    refine lv_iload_n hx hb dX5_act_48 rfl (lv_at hl 3 rfl) ?_
    refine fc_Vi (rest := []) (As := [.int p2, .int p3]) X hw hm_X5_letNow (lw_V q2019 q2021 qs86 q121 q2022) ⟨rfl, rfl⟩ ⟨by rw [hRf]; exact Nat.le_of_ble_eq_true rfl, by rw [hRl]; exact Nat.le_of_ble_eq_true rfl⟩ fc_X5 rfl (hm0 hE) rfl rfl hl.1 (Nat.le_of_ble_eq_true rfl) dX5_act_49 (fun rQ stQ hQ => wX5_letNow l E hE G p2 p3 st0 rQ stQ hQ) hf (fun x5 st6 H locs hw hf => ?_)
    exact fd_i hend hw hf dX5_act_52
  refine sw_e hf (fun e0 hf => ?_) (fun n3 hf => ?_)
  · refine lv_tableIn (tgt := 53) hx hb dX5_act_1 (by rw [e0]; decide) (by rw [e0]; decide) (off := 52) (by rw [e0]; decide) (by decide) ?_
    refine lv_aload_n hx hb dX5_act_53 rfl (lv_at hl 0 rfl) ?_
    refine lv_iload_n hx hb dX5_act_54 rfl (lv_at hl 2 rfl) ?_
    refine fc_Vi (rest := []) (As := [.int p2]) X hw hm_X5_emptyNow (lw_V q2027 q2029 qs87 q121 q2030) ⟨rfl, rfl⟩ ⟨by rw [hRf]; exact Nat.le_of_ble_eq_true rfl, by rw [hRl]; exact Nat.le_of_ble_eq_true rfl⟩ fc_X5 rfl (hm0 hE) rfl rfl hl.1 (Nat.le_of_ble_eq_true rfl) dX5_act_55 (fun rQ stQ hQ => wX5_emptyNow l E hE G p2 st0 rQ stQ hQ) hf (fun x7 st8 H locs hw hf => ?_)
    exact fd_i hend hw hf dX5_act_58
  refine lv_tableOut (tgt := 59) hx hb dX5_act_1 (by have g0 := lv_neT n0 (a := 0) (by decide); have g1 := lv_neT n1 (a := 1) (by decide); have g2 := lv_neT n2 (a := 2) (by decide); have g3 := lv_neT n3 (a := 3) (by decide); omega) (by decide) ?_
  refine lv_aload_n hx hb dX5_act_59 rfl (lv_at hl 0 rfl) ?_
  refine fc_Vi (rest := []) (As := []) X hw hm_X5_passNow (lw_V q2035 q2037 qs88 q121 q2038) ⟨rfl, rfl⟩ ⟨by rw [hRf]; exact Nat.le_of_ble_eq_true rfl, by rw [hRl]; exact Nat.le_of_ble_eq_true rfl⟩ fc_X5 rfl (hm0 hE) rfl rfl hl.1 (Nat.le_of_ble_eq_true rfl) dX5_act_60 (fun rQ stQ hQ => wX5_passNow l E hE G st0 rQ stQ hQ) hf (fun x9 st10 H locs hw hf => ?_)
  exact fd_i hend hw hf dX5_act_63

/-- ForestRoomsModel.run -/
def fX5_run (G : Nat) (p1 : Int32) (st0 : fo_St) : Option (Int32 × fo_St) := bd_ (fX5_term (0 : Int32) st0) (fun x1 st2 => lt_ (sl_ st2 19 (1 : Int32).toNatClampNeg (x1.toInt64)) (fun st3 => bd_ (fX5_trees G st3) (fun x4 st5 => lt_ (sl_ st5 19 (2 : Int32).toNatClampNeg (x4.toInt64)) (fun st6 => lt_ (sl_ st6 19 (3 : Int32).toNatClampNeg ((gi_ st6 0 55).toInt64)) (fun st7 => lt_ (sl_ st7 19 (4 : Int32).toNatClampNeg ((gi_ st7 0 56).toInt64)) (fun st8 => lt_ (si_ st8 0 58 (0 : Int32)) (fun st9 => ck_ (fo_in (p1 + (5 : Int32)) 96) (ck_ (fo_in (p1 + (6 : Int32)) 96) (if (gi_ st9 34 (p1 + (6 : Int32)).toNatClampNeg) ≤ (gi_ st9 34 (p1 + (5 : Int32)).toNatClampNeg) then bd_ (fX5_sumOf G (p1 + (1 : Int32)) st9) (fun x10 st11 => bd_ (fX5_sumOf G (p1 + (3 : Int32)) st11) (fun x12 st13 => if (gi_ st13 0 58) = 0 then ck_ (fo_in p1 96) (bd_ (fX5_act G (gi_ st13 34 p1.toNatClampNeg) x10 x12 st13) (fun x14 st15 => if 0 ≤ x14 then ck_ (fo_in p1 96) (jn_ (fun (x16 : Int32) (st17 : fo_St) => lt_ (si_ st17 0 56 x16) (fun st19 => lt_ (si_ st19 0 55 ((gi_ st19 0 55) + (1 : Int32))) (fun st20 => some ((0 : Int32), st20)))) (fun k18 => if ¬ (gi_ st15 34 p1.toNatClampNeg) = (4 : Int32) then k18 (gi_ st15 0 56) st15 else bd_ (fX5_lostRooms G st15) (fun x21 st22 => k18 x21 st22))) else some ((-3 : Int32), st15))) else some ((-3 : Int32), st13))) else bd_ (fX5_sumOf G (p1 + (5 : Int32)) st9) (fun x23 st24 => if ¬ (gi_ st24 0 58) = 0 then some ((0 : Int32), st24) else if ¬ x23 = 0 then bd_ (fX5_sumOf G (p1 + (1 : Int32)) st24) (fun x25 st26 => bd_ (fX5_sumOf G (p1 + (3 : Int32)) st26) (fun x27 st28 => if (gi_ st28 0 58) = 0 then ck_ (fo_in p1 96) (bd_ (fX5_act G (gi_ st28 34 p1.toNatClampNeg) x25 x27 st28) (fun x29 st30 => if 0 ≤ x29 then ck_ (fo_in p1 96) (jn_ (fun (x31 : Int32) (st32 : fo_St) => lt_ (si_ st32 0 56 x31) (fun st34 => lt_ (si_ st34 0 55 ((gi_ st34 0 55) + (1 : Int32))) (fun st35 => some ((0 : Int32), st35)))) (fun k33 => if ¬ (gi_ st30 34 p1.toNatClampNeg) = (4 : Int32) then k33 (gi_ st30 0 56) st30 else bd_ (fX5_lostRooms G st30) (fun x36 st37 => k33 x36 st37))) else some ((-3 : Int32), st30))) else some ((-3 : Int32), st28))) else some ((0 : Int32), st24)))))))))))
theorem hm_X5_run : fo_M yX5_run 1 := ⟨by decide +kernel, by decide +kernel, by decide +kernel, by decide +kernel⟩
set_option maxHeartbeats 4000000 in
theorem wX5_run (l : Launch) (E : fo_E) (hE : ∀ n, et E n = tM_ n) (G : Nat) (p1 : Int32) (st0 : fo_St) (rZ : Int32) (stZ : fo_St) (hf : fX5_run G p1 st0 = some (rZ, stZ)) : CTi l E yX5_run (ws_ yX5_run cX5_run 5 (some .int)) ({ frames := 9, cells := 0, slots := 0, locals := 214 }) [.ref (eb E + 0), .int p1] st0 rZ stZ := by
  refine fe_i hm_X5_run (Nat.le_of_ble_eq_true rfl) (fun p e R s m args below meth c Q hRf hRl X hend ls hl hw => ?_)
  have hx := X.1.1
  have hb := X.1.2.1
  have hl : lv_has ls 5 [(0, .ref (eb E + 0)), (1, .int p1)] := hl
  unfold fX5_run at hf
  generalize s.heap = H at hw ⊢
  generalize ([] : List Loc) = locs at hw ⊢
  refine lv_aload_n hx hb dX5_run_0 rfl (lv_at hl 0 rfl) ?_
  refine fo_gets X hw fc_X5 (hm0 hE) (k := 36) (d := 19) (n2 := 19) (by decide) rfl rfl q1554 dX5_run_1 ?_
  refine lv_iconst (v := (1 : Int32)) hx hb dX5_run_4 (by decide) ?_
  refine lv_aload_n hx hb dX5_run_5 rfl (lv_at hl 0 rfl) ?_
  refine lv_iconst (v := (0 : Int32)) hx hb dX5_run_6 (by decide) ?_
  refine fc_Vi (rest := [.int (1 : Int32), .ref (eb E + 19)]) (As := [.int (0 : Int32)]) X hw hm_X5_term (lw_V q1774 q1776 qs47 q121 q1777) ⟨rfl, rfl⟩ ⟨by rw [hRf]; exact Nat.le_of_ble_eq_true rfl, by rw [hRl]; exact Nat.le_of_ble_eq_true rfl⟩ fc_X5 rfl (hm0 hE) rfl rfl hl.1 (Nat.le_of_ble_eq_true rfl) dX5_run_7 (fun rQ stQ hQ => wX5_term l E hE (0 : Int32) st0 rQ stQ hQ) hf (fun x1 st2 H locs hw hf => ?_)
  refine lv_i2l (v := x1.toInt64) hx hb dX5_run_10 rfl ?_
  refine fo_lastK X hw (hm19 hE) dX5_run_11 (by decide) hf (fun st3 H locs hw hf => ?_)
  refine lv_aload_n hx hb dX5_run_12 rfl (lv_at hl 0 rfl) ?_
  refine fo_gets X hw fc_X5 (hm0 hE) (k := 36) (d := 19) (n2 := 19) (by decide) rfl rfl q1554 dX5_run_13 ?_
  refine lv_iconst (v := (2 : Int32)) hx hb dX5_run_16 (by decide) ?_
  refine lv_aload_n hx hb dX5_run_17 rfl (lv_at hl 0 rfl) ?_
  refine fc_Vi (rest := [.int (2 : Int32), .ref (eb E + 19)]) (As := []) X hw hm_X5_trees (lw_V q2182 q2184 qs105 q121 q2185) ⟨rfl, rfl⟩ ⟨by rw [hRf]; exact Nat.le_of_ble_eq_true rfl, by rw [hRl]; exact Nat.le_of_ble_eq_true rfl⟩ fc_X5 rfl (hm0 hE) rfl rfl hl.1 (Nat.le_of_ble_eq_true rfl) dX5_run_18 (fun rQ stQ hQ => wX5_trees l E hE G st3 rQ stQ hQ) hf (fun x4 st5 H locs hw hf => ?_)
  refine lv_i2l (v := x4.toInt64) hx hb dX5_run_21 rfl ?_
  refine fo_lastK X hw (hm19 hE) dX5_run_22 (by decide) hf (fun st6 H locs hw hf => ?_)
  refine lv_aload_n hx hb dX5_run_23 rfl (lv_at hl 0 rfl) ?_
  refine fo_gets X hw fc_X5 (hm0 hE) (k := 36) (d := 19) (n2 := 19) (by decide) rfl rfl q1554 dX5_run_24 ?_
  refine lv_iconst (v := (3 : Int32)) hx hb dX5_run_27 (by decide) ?_
  refine lv_aload_n hx hb dX5_run_28 rfl (lv_at hl 0 rfl) ?_
  refine fo_geti X hw fc_X5 (hm0 hE) (k := 55) (by decide) rfl q1573 dX5_run_29 ?_
  refine lv_i2l (v := (gi_ st6 0 55).toInt64) hx hb dX5_run_32 rfl ?_
  refine fo_lastK X hw (hm19 hE) dX5_run_33 (by decide) hf (fun st7 H locs hw hf => ?_)
  refine lv_aload_n hx hb dX5_run_34 rfl (lv_at hl 0 rfl) ?_
  refine fo_gets X hw fc_X5 (hm0 hE) (k := 36) (d := 19) (n2 := 19) (by decide) rfl rfl q1554 dX5_run_35 ?_
  refine lv_iconst (v := (4 : Int32)) hx hb dX5_run_38 (by decide) ?_
  refine lv_aload_n hx hb dX5_run_39 rfl (lv_at hl 0 rfl) ?_
  refine fo_geti X hw fc_X5 (hm0 hE) (k := 56) (by decide) rfl q1574 dX5_run_40 ?_
  refine lv_i2l (v := (gi_ st7 0 56).toInt64) hx hb dX5_run_43 rfl ?_
  refine fo_lastK X hw (hm19 hE) dX5_run_44 (by decide) hf (fun st8 H locs hw hf => ?_)
  refine lv_aload_n hx hb dX5_run_45 rfl (lv_at hl 0 rfl) ?_
  refine lv_iconst (v := (0 : Int32)) hx hb dX5_run_46 (by decide) ?_
  refine fo_puti X hw fc_X5 (hm0 hE) (k := 58) (by decide) rfl rfl q1576 ⟨rfl, rfl⟩ dX5_run_47 hf (fun st9 H locs hw hf => ?_)
  refine lv_aload_n hx hb dX5_run_50 rfl (lv_at hl 0 rfl) ?_
  refine fo_gets X hw fc_X5 (hm0 hE) (k := 54) (d := 34) (n2 := 34) (by decide) rfl rfl q1572 dX5_run_51 ?_
  refine lv_iload_n hx hb dX5_run_54 rfl (lv_at hl 1 rfl) ?_
  refine lv_iconst (v := (5 : Int32)) hx hb dX5_run_55 (by decide) ?_
  refine lv_iadd hx hb dX5_run_56 ?_
  refine fo_iald X hw (hm34 hE) dX5_run_57 hf (fun hf => ?_)
  refine lv_aload_n hx hb dX5_run_58 rfl (lv_at hl 0 rfl) ?_
  refine fo_gets X hw fc_X5 (hm0 hE) (k := 54) (d := 34) (n2 := 34) (by decide) rfl rfl q1572 dX5_run_59 ?_
  refine lv_iload_n hx hb dX5_run_62 rfl (lv_at hl 1 rfl) ?_
  refine lv_bipush (v := (6 : Int32)) hx hb dX5_run_63 (by decide) ?_
  refine lv_iadd hx hb dX5_run_65 ?_
  refine fo_iald X hw (hm34 hE) dX5_run_66 hf (fun hf => ?_)
  refine fb_ige (tgt := 91) hx hb dX5_run_67 (by decide) hf (fun hf => ?_) (fun hf => ?_)
  · refine lv_aload_n hx hb dX5_run_91 rfl (lv_at hl 0 rfl) ?_
    refine lv_iload_n hx hb dX5_run_92 rfl (lv_at hl 1 rfl) ?_
    refine lv_iconst (v := (1 : Int32)) hx hb dX5_run_93 (by decide) ?_
    refine lv_iadd hx hb dX5_run_94 ?_
    refine fc_Vi (rest := []) (As := [.int (p1 + (1 : Int32))]) X hw hm_X5_sumOf (lw_V q2186 q2188 qs106 q121 q2189) ⟨rfl, rfl⟩ ⟨by rw [hRf]; exact Nat.le_of_ble_eq_true rfl, by rw [hRl]; exact Nat.le_of_ble_eq_true rfl⟩ fc_X5 rfl (hm0 hE) rfl rfl hl.1 (Nat.le_of_ble_eq_true rfl) dX5_run_95 (fun rQ stQ hQ => wX5_sumOf l E hE G (p1 + (1 : Int32)) st9 rQ stQ hQ) hf (fun x10 st11 H locs hw hf => ?_)
    refine lv_istore_n (lv' := [(2, .int x10), (0, .ref (eb E + 0)), (1, .int p1)]) hx hb dX5_run_98 rfl hl (by decide) rfl (fun ls hl => ?_)
    refine lv_aload_n hx hb dX5_run_99 rfl (lv_at hl 1 rfl) ?_
    refine lv_iload_n hx hb dX5_run_100 rfl (lv_at hl 2 rfl) ?_
    refine lv_iconst (v := (3 : Int32)) hx hb dX5_run_101 (by decide) ?_
    refine lv_iadd hx hb dX5_run_102 ?_
    refine fc_Vi (rest := []) (As := [.int (p1 + (3 : Int32))]) X hw hm_X5_sumOf (lw_V q2186 q2188 qs106 q121 q2189) ⟨rfl, rfl⟩ ⟨by rw [hRf]; exact Nat.le_of_ble_eq_true rfl, by rw [hRl]; exact Nat.le_of_ble_eq_true rfl⟩ fc_X5 rfl (hm0 hE) rfl rfl hl.1 (Nat.le_of_ble_eq_true rfl) dX5_run_103 (fun rQ stQ hQ => wX5_sumOf l E hE G (p1 + (3 : Int32)) st11 rQ stQ hQ) hf (fun x12 st13 H locs hw hf => ?_)
    refine lv_istore_n (lv' := [(3, .int x12), (2, .int x10), (0, .ref (eb E + 0)), (1, .int p1)]) hx hb dX5_run_106 rfl hl (by decide) rfl (fun ls hl => ?_)
    refine lv_aload_n hx hb dX5_run_107 rfl (lv_at hl 2 rfl) ?_
    refine fo_geti X hw fc_X5 (hm0 hE) (k := 58) (by decide) rfl q1576 dX5_run_108 ?_
    refine fb_zeq (tgt := 117) hx hb dX5_run_111 (by decide) hf (fun hf => ?_) (fun hf => ?_)
    · refine lv_aload_n hx hb dX5_run_117 rfl (lv_at hl 2 rfl) ?_
      refine lv_aload_n hx hb dX5_run_118 rfl (lv_at hl 2 rfl) ?_
      refine fo_gets X hw fc_X5 (hm0 hE) (k := 54) (d := 34) (n2 := 34) (by decide) rfl rfl q1572 dX5_run_119 ?_
      refine lv_iload_n hx hb dX5_run_122 rfl (lv_at hl 3 rfl) ?_
      refine fo_iald X hw (hm34 hE) dX5_run_123 hf (fun hf => ?_)
      refine lv_iload_n hx hb dX5_run_124 rfl (lv_at hl 1 rfl) ?_
      refine lv_iload_n hx hb dX5_run_125 rfl (lv_at hl 0 rfl) ?_
      refine fc_Vi (rest := []) (As := [.int (gi_ st13 34 p1.toNatClampNeg), .int x10, .int x12]) X hw hm_X5_act (lw_V q2190 q2192 qs107 q121 q2193) ⟨rfl, rfl⟩ ⟨by rw [hRf]; exact Nat.le_of_ble_eq_true rfl, by rw [hRl]; exact Nat.le_of_ble_eq_true rfl⟩ fc_X5 rfl (hm0 hE) rfl rfl hl.1 (Nat.le_of_ble_eq_true rfl) dX5_run_126 (fun rQ stQ hQ => wX5_act l E hE G (gi_ st13 34 p1.toNatClampNeg) x10 x12 st13 rQ stQ hQ) hf (fun x14 st15 H locs hw hf => ?_)
      refine lv_istore (lv' := [(4, .int x14), (3, .int x12), (2, .int x10), (0, .ref (eb E + 0)), (1, .int p1)]) hx hb dX5_run_129 hl (by decide) rfl (fun ls hl => ?_)
      refine lv_iload hx hb dX5_run_131 (lv_at hl 0 rfl) ?_
      refine fb_zge (tgt := 139) hx hb dX5_run_133 (by decide) hf (fun hf => ?_) (fun hf => ?_)
      · refine lv_aload_n hx hb dX5_run_139 rfl (lv_at hl 3 rfl) ?_
        refine lv_aload_n hx hb dX5_run_140 rfl (lv_at hl 3 rfl) ?_
        refine fo_gets X hw fc_X5 (hm0 hE) (k := 54) (d := 34) (n2 := 34) (by decide) rfl rfl q1572 dX5_run_141 ?_
        refine lv_iload_n hx hb dX5_run_144 rfl (lv_at hl 4 rfl) ?_
        refine fo_iald X hw (hm34 hE) dX5_run_145 hf (fun hf => ?_)
        refine lv_iconst (v := (4 : Int32)) hx hb dX5_run_146 (by decide) ?_
        refine jn_e hf (fun k18 ek hf => ?_)
        have hk18 : ∀ (x16 : Int32) (st17 : fo_St) (H : Heap) (locs : List Loc) (ls : Array Slot), lv_has ls 5 [(0, .ref (eb E + 0))] → fo_S E s st17 H locs → k18 x16 st17 = some (rZ, stZ) → W p l e R s m args below meth c H locs 0 0 Q (F0 m 161 ls [.int x16, .ref (eb E + 0)]) := by
          intro x16 st17 H locs ls hl hw hf
          rw [ek] at hf
          refine fo_puti X hw fc_X5 (hm0 hE) (k := 56) (by decide) rfl rfl q1574 ⟨rfl, rfl⟩ dX5_run_161 hf (fun st19 H locs hw hf => ?_)
          refine lv_aload_n hx hb dX5_run_164 rfl (lv_at hl 0 rfl) ?_
          refine lv_dup hx hb dX5_run_165 rfl ?_
          refine fo_geti X hw fc_X5 (hm0 hE) (k := 55) (by decide) rfl q1573 dX5_run_166 ?_
          refine lv_iconst (v := (1 : Int32)) hx hb dX5_run_169 (by decide) ?_
          refine lv_iadd hx hb dX5_run_170 ?_
          refine fo_puti X hw fc_X5 (hm0 hE) (k := 55) (by decide) rfl rfl q1573 ⟨rfl, rfl⟩ dX5_run_171 hf (fun st20 H locs hw hf => ?_)
          refine lv_iconst (v := (0 : Int32)) hx hb dX5_run_174 (by decide) ?_
          exact fd_i hend hw hf dX5_run_175
        clear ek
        refine fb_ine (tgt := 157) hx hb dX5_run_147 (by decide) hf (fun hf => ?_) (fun hf => ?_)
        · refine lv_aload_n hx hb dX5_run_157 rfl (lv_at hl 3 rfl) ?_
          refine fo_geti X hw fc_X5 (hm0 hE) (k := 56) (by decide) rfl q1574 dX5_run_158 ?_
          exact hk18 _ _ _ _ _ (lv_sub hl [3] rfl) hw hf
        refine lv_aload_n hx hb dX5_run_150 rfl (lv_at hl 3 rfl) ?_
        refine fc_Vi (rest := [.ref (eb E + 0)]) (As := []) X hw hm_X5_lostRooms (lw_V q2063 q2065 qs92 q121 q2066) ⟨rfl, rfl⟩ ⟨by rw [hRf]; exact Nat.le_of_ble_eq_true rfl, by rw [hRl]; exact Nat.le_of_ble_eq_true rfl⟩ fc_X5 rfl (hm0 hE) rfl rfl hl.1 (Nat.le_of_ble_eq_true rfl) dX5_run_151 (fun rQ stQ hQ => wX5_lostRooms l E hE G st15 rQ stQ hQ) hf (fun x21 st22 H locs hw hf => ?_)
        refine lv_goto (tgt := 161) hx hb dX5_run_154 (by decide) ?_
        exact hk18 _ _ _ _ _ (lv_sub hl [3] rfl) hw hf
      refine lv_bipush (v := (-3 : Int32)) hx hb dX5_run_136 (by decide) ?_
      exact fd_i hend hw hf dX5_run_138
    refine lv_bipush (v := (-3 : Int32)) hx hb dX5_run_114 (by decide) ?_
    exact fd_i hend hw hf dX5_run_116
  refine lv_aload_n hx hb dX5_run_70 rfl (lv_at hl 0 rfl) ?_
  refine lv_iload_n hx hb dX5_run_71 rfl (lv_at hl 1 rfl) ?_
  refine lv_iconst (v := (5 : Int32)) hx hb dX5_run_72 (by decide) ?_
  refine lv_iadd hx hb dX5_run_73 ?_
  refine fc_Vi (rest := []) (As := [.int (p1 + (5 : Int32))]) X hw hm_X5_sumOf (lw_V q2186 q2188 qs106 q121 q2189) ⟨rfl, rfl⟩ ⟨by rw [hRf]; exact Nat.le_of_ble_eq_true rfl, by rw [hRl]; exact Nat.le_of_ble_eq_true rfl⟩ fc_X5 rfl (hm0 hE) rfl rfl hl.1 (Nat.le_of_ble_eq_true rfl) dX5_run_74 (fun rQ stQ hQ => wX5_sumOf l E hE G (p1 + (5 : Int32)) st9 rQ stQ hQ) hf (fun x23 st24 H locs hw hf => ?_)
  refine lv_istore_n (lv' := [(2, .int x23), (0, .ref (eb E + 0)), (1, .int p1)]) hx hb dX5_run_77 rfl hl (by decide) rfl (fun ls hl => ?_)
  refine lv_aload_n hx hb dX5_run_78 rfl (lv_at hl 1 rfl) ?_
  refine fo_geti X hw fc_X5 (hm0 hE) (k := 58) (by decide) rfl q1576 dX5_run_79 ?_
  refine fb_zne (tgt := 89) hx hb dX5_run_82 (by decide) hf (fun hf => ?_) (fun hf => ?_)
  · refine lv_iconst (v := (0 : Int32)) hx hb dX5_run_89 (by decide) ?_
    exact fd_i hend hw hf dX5_run_90
  refine lv_iload_n hx hb dX5_run_85 rfl (lv_at hl 0 rfl) ?_
  refine fb_zne (tgt := 91) hx hb dX5_run_86 (by decide) hf (fun hf => ?_) (fun hf => ?_)
  · refine lv_aload_n hx hb dX5_run_91 rfl (lv_at hl 1 rfl) ?_
    refine lv_iload_n hx hb dX5_run_92 rfl (lv_at hl 2 rfl) ?_
    refine lv_iconst (v := (1 : Int32)) hx hb dX5_run_93 (by decide) ?_
    refine lv_iadd hx hb dX5_run_94 ?_
    refine fc_Vi (rest := []) (As := [.int (p1 + (1 : Int32))]) X hw hm_X5_sumOf (lw_V q2186 q2188 qs106 q121 q2189) ⟨rfl, rfl⟩ ⟨by rw [hRf]; exact Nat.le_of_ble_eq_true rfl, by rw [hRl]; exact Nat.le_of_ble_eq_true rfl⟩ fc_X5 rfl (hm0 hE) rfl rfl hl.1 (Nat.le_of_ble_eq_true rfl) dX5_run_95 (fun rQ stQ hQ => wX5_sumOf l E hE G (p1 + (1 : Int32)) st24 rQ stQ hQ) hf (fun x25 st26 H locs hw hf => ?_)
    refine lv_istore_n (lv' := [(2, .int x25), (0, .ref (eb E + 0)), (1, .int p1)]) hx hb dX5_run_98 rfl hl (by decide) rfl (fun ls hl => ?_)
    refine lv_aload_n hx hb dX5_run_99 rfl (lv_at hl 1 rfl) ?_
    refine lv_iload_n hx hb dX5_run_100 rfl (lv_at hl 2 rfl) ?_
    refine lv_iconst (v := (3 : Int32)) hx hb dX5_run_101 (by decide) ?_
    refine lv_iadd hx hb dX5_run_102 ?_
    refine fc_Vi (rest := []) (As := [.int (p1 + (3 : Int32))]) X hw hm_X5_sumOf (lw_V q2186 q2188 qs106 q121 q2189) ⟨rfl, rfl⟩ ⟨by rw [hRf]; exact Nat.le_of_ble_eq_true rfl, by rw [hRl]; exact Nat.le_of_ble_eq_true rfl⟩ fc_X5 rfl (hm0 hE) rfl rfl hl.1 (Nat.le_of_ble_eq_true rfl) dX5_run_103 (fun rQ stQ hQ => wX5_sumOf l E hE G (p1 + (3 : Int32)) st26 rQ stQ hQ) hf (fun x27 st28 H locs hw hf => ?_)
    refine lv_istore_n (lv' := [(3, .int x27), (2, .int x25), (0, .ref (eb E + 0)), (1, .int p1)]) hx hb dX5_run_106 rfl hl (by decide) rfl (fun ls hl => ?_)
    refine lv_aload_n hx hb dX5_run_107 rfl (lv_at hl 2 rfl) ?_
    refine fo_geti X hw fc_X5 (hm0 hE) (k := 58) (by decide) rfl q1576 dX5_run_108 ?_
    refine fb_zeq (tgt := 117) hx hb dX5_run_111 (by decide) hf (fun hf => ?_) (fun hf => ?_)
    · refine lv_aload_n hx hb dX5_run_117 rfl (lv_at hl 2 rfl) ?_
      refine lv_aload_n hx hb dX5_run_118 rfl (lv_at hl 2 rfl) ?_
      refine fo_gets X hw fc_X5 (hm0 hE) (k := 54) (d := 34) (n2 := 34) (by decide) rfl rfl q1572 dX5_run_119 ?_
      refine lv_iload_n hx hb dX5_run_122 rfl (lv_at hl 3 rfl) ?_
      refine fo_iald X hw (hm34 hE) dX5_run_123 hf (fun hf => ?_)
      refine lv_iload_n hx hb dX5_run_124 rfl (lv_at hl 1 rfl) ?_
      refine lv_iload_n hx hb dX5_run_125 rfl (lv_at hl 0 rfl) ?_
      refine fc_Vi (rest := []) (As := [.int (gi_ st28 34 p1.toNatClampNeg), .int x25, .int x27]) X hw hm_X5_act (lw_V q2190 q2192 qs107 q121 q2193) ⟨rfl, rfl⟩ ⟨by rw [hRf]; exact Nat.le_of_ble_eq_true rfl, by rw [hRl]; exact Nat.le_of_ble_eq_true rfl⟩ fc_X5 rfl (hm0 hE) rfl rfl hl.1 (Nat.le_of_ble_eq_true rfl) dX5_run_126 (fun rQ stQ hQ => wX5_act l E hE G (gi_ st28 34 p1.toNatClampNeg) x25 x27 st28 rQ stQ hQ) hf (fun x29 st30 H locs hw hf => ?_)
      refine lv_istore (lv' := [(4, .int x29), (3, .int x27), (2, .int x25), (0, .ref (eb E + 0)), (1, .int p1)]) hx hb dX5_run_129 hl (by decide) rfl (fun ls hl => ?_)
      refine lv_iload hx hb dX5_run_131 (lv_at hl 0 rfl) ?_
      refine fb_zge (tgt := 139) hx hb dX5_run_133 (by decide) hf (fun hf => ?_) (fun hf => ?_)
      · refine lv_aload_n hx hb dX5_run_139 rfl (lv_at hl 3 rfl) ?_
        refine lv_aload_n hx hb dX5_run_140 rfl (lv_at hl 3 rfl) ?_
        refine fo_gets X hw fc_X5 (hm0 hE) (k := 54) (d := 34) (n2 := 34) (by decide) rfl rfl q1572 dX5_run_141 ?_
        refine lv_iload_n hx hb dX5_run_144 rfl (lv_at hl 4 rfl) ?_
        refine fo_iald X hw (hm34 hE) dX5_run_145 hf (fun hf => ?_)
        refine lv_iconst (v := (4 : Int32)) hx hb dX5_run_146 (by decide) ?_
        refine jn_e hf (fun k33 ek hf => ?_)
        have hk33 : ∀ (x31 : Int32) (st32 : fo_St) (H : Heap) (locs : List Loc) (ls : Array Slot), lv_has ls 5 [(0, .ref (eb E + 0))] → fo_S E s st32 H locs → k33 x31 st32 = some (rZ, stZ) → W p l e R s m args below meth c H locs 0 0 Q (F0 m 161 ls [.int x31, .ref (eb E + 0)]) := by
          intro x31 st32 H locs ls hl hw hf
          rw [ek] at hf
          refine fo_puti X hw fc_X5 (hm0 hE) (k := 56) (by decide) rfl rfl q1574 ⟨rfl, rfl⟩ dX5_run_161 hf (fun st34 H locs hw hf => ?_)
          refine lv_aload_n hx hb dX5_run_164 rfl (lv_at hl 0 rfl) ?_
          refine lv_dup hx hb dX5_run_165 rfl ?_
          refine fo_geti X hw fc_X5 (hm0 hE) (k := 55) (by decide) rfl q1573 dX5_run_166 ?_
          refine lv_iconst (v := (1 : Int32)) hx hb dX5_run_169 (by decide) ?_
          refine lv_iadd hx hb dX5_run_170 ?_
          refine fo_puti X hw fc_X5 (hm0 hE) (k := 55) (by decide) rfl rfl q1573 ⟨rfl, rfl⟩ dX5_run_171 hf (fun st35 H locs hw hf => ?_)
          refine lv_iconst (v := (0 : Int32)) hx hb dX5_run_174 (by decide) ?_
          exact fd_i hend hw hf dX5_run_175
        clear ek
        refine fb_ine (tgt := 157) hx hb dX5_run_147 (by decide) hf (fun hf => ?_) (fun hf => ?_)
        · refine lv_aload_n hx hb dX5_run_157 rfl (lv_at hl 3 rfl) ?_
          refine fo_geti X hw fc_X5 (hm0 hE) (k := 56) (by decide) rfl q1574 dX5_run_158 ?_
          exact hk33 _ _ _ _ _ (lv_sub hl [3] rfl) hw hf
        refine lv_aload_n hx hb dX5_run_150 rfl (lv_at hl 3 rfl) ?_
        refine fc_Vi (rest := [.ref (eb E + 0)]) (As := []) X hw hm_X5_lostRooms (lw_V q2063 q2065 qs92 q121 q2066) ⟨rfl, rfl⟩ ⟨by rw [hRf]; exact Nat.le_of_ble_eq_true rfl, by rw [hRl]; exact Nat.le_of_ble_eq_true rfl⟩ fc_X5 rfl (hm0 hE) rfl rfl hl.1 (Nat.le_of_ble_eq_true rfl) dX5_run_151 (fun rQ stQ hQ => wX5_lostRooms l E hE G st30 rQ stQ hQ) hf (fun x36 st37 H locs hw hf => ?_)
        refine lv_goto (tgt := 161) hx hb dX5_run_154 (by decide) ?_
        exact hk33 _ _ _ _ _ (lv_sub hl [3] rfl) hw hf
      refine lv_bipush (v := (-3 : Int32)) hx hb dX5_run_136 (by decide) ?_
      exact fd_i hend hw hf dX5_run_138
    refine lv_bipush (v := (-3 : Int32)) hx hb dX5_run_114 (by decide) ?_
    exact fd_i hend hw hf dX5_run_116
  refine lv_iconst (v := (0 : Int32)) hx hb dX5_run_89 (by decide) ?_
  exact fd_i hend hw hf dX5_run_90

/-- ForestRoomsModel.giveBack -/
def fX5_giveBack (G : Nat) (p1 : Int32) (st0 : fo_St) : Option fo_St := bv_ (fX5_putBack G (17 : Int32) st0) (fun st2 => lp2_ (fun rec5 (x3 : Int32) (st4 : fo_St) => if (848 : Int32) ≤ x3 then lp2_ (fun rec8 (x6 : Int32) (st7 : fo_St) => if (16 : Int32) ≤ x6 then lt_ (si_ st7 0 8 p1) (fun st9 => some st9) else ck_ (fo_in x6 16) (ck_ (fo_in x6 16) (lt_ (si_ st7 6 x6.toNatClampNeg (gi_ st7 8 x6.toNatClampNeg)) (fun st10 => rec8 (x6 + (1 : Int32)) st10)))) G (0 : Int32) st4 else ck_ (fo_in x3 848) (ck_ (fo_in x3 954) (lt_ (si_ st4 5 x3.toNatClampNeg (gi_ st4 7 x3.toNatClampNeg)) (fun st11 => rec5 (x3 + (1 : Int32)) st11)))) G (0 : Int32) st2)
theorem hm_X5_giveBack : fo_M yX5_giveBack 1 := ⟨by decide +kernel, by decide +kernel, by decide +kernel, by decide +kernel⟩
set_option maxHeartbeats 4000000 in
theorem wX5_giveBack (l : Launch) (E : fo_E) (hE : ∀ n, et E n = tM_ n) (G : Nat) (p1 : Int32) (st0 : fo_St) (stZ : fo_St) (hf : fX5_giveBack G p1 st0 = some stZ) : CTv l E yX5_giveBack (ws_ yX5_giveBack cX5_giveBack 3 none) ({ frames := 1, cells := 0, slots := 0, locals := 22 }) [.ref (eb E + 0), .int p1] st0 stZ := by
  refine fe_v hm_X5_giveBack (Nat.le_of_ble_eq_true rfl) (fun p e R s m args below meth c Q hRf hRl X hend ls hl hw => ?_)
  have hx := X.1.1
  have hb := X.1.2.1
  have hl : lv_has ls 3 [(0, .ref (eb E + 0)), (1, .int p1)] := hl
  unfold fX5_giveBack at hf
  generalize s.heap = H at hw ⊢
  generalize ([] : List Loc) = locs at hw ⊢
  refine lv_aload_n hx hb dX5_giveBack_0 rfl (lv_at hl 0 rfl) ?_
  refine lv_bipush (v := (17 : Int32)) hx hb dX5_giveBack_1 (by decide) ?_
  refine fc_Vv (rest := []) (As := [.int (17 : Int32)]) X hw hm_X5_putBack (lw_V q1714 q1716 qs39 q121 q1717) ⟨rfl, rfl⟩ ⟨by rw [hRf]; exact Nat.le_of_ble_eq_true rfl, by rw [hRl]; exact Nat.le_of_ble_eq_true rfl⟩ fc_X5 rfl (hm0 hE) rfl rfl hl.1 (Nat.le_of_ble_eq_true rfl) dX5_giveBack_3 (fun stQ hQ => wX5_putBack l E hE G (17 : Int32) st0 stQ hQ) hf (fun st2 H locs hw hf => ?_)
  refine lv_iconst (v := (0 : Int32)) hx hb dX5_giveBack_6 (by decide) ?_
  refine lv_istore_n (lv' := [(2, .int (0 : Int32)), (0, .ref (eb E + 0)), (1, .int p1)]) hx hb dX5_giveBack_7 rfl hl (by decide) rfl (fun ls hl => ?_)
  refine lp2_e (P := fun x3 st4 => ∀ (H : Heap) (locs : List Loc) (ls : Array Slot), lv_has ls 3 [(2, .int x3), (0, .ref (eb E + 0)), (1, .int p1)] → fo_S E s st4 H locs → W p l e R s m args below meth c H locs 0 0 Q (F0 m 8 ls [])) (fun rec5 hrec5 x3 st4 hf => ?_) G _ _ hf H locs ls (lv_sub hl [0, 1, 2] rfl) hw
  intro H locs ls hl hw
  refine lv_iload_n hx hb dX5_giveBack_8 rfl (lv_at hl 0 rfl) ?_
  refine lv_sipush (v := (848 : Int32)) hx hb dX5_giveBack_9 (by decide) ?_
  refine fb_ige (tgt := 33) hx hb dX5_giveBack_12 (by decide) hf (fun hf => ?_) (fun hf => ?_)
  · refine lv_iconst (v := (0 : Int32)) hx hb dX5_giveBack_33 (by decide) ?_
    refine lv_istore_n (lv' := [(2, .int (0 : Int32)), (0, .ref (eb E + 0)), (1, .int p1)]) hx hb dX5_giveBack_34 rfl hl (by decide) rfl (fun ls hl => ?_)
    refine lp2_e (P := fun x6 st7 => ∀ (H : Heap) (locs : List Loc) (ls : Array Slot), lv_has ls 3 [(2, .int x6), (0, .ref (eb E + 0)), (1, .int p1)] → fo_S E s st7 H locs → W p l e R s m args below meth c H locs 0 0 Q (F0 m 35 ls [])) (fun rec8 hrec8 x6 st7 hf => ?_) G _ _ hf H locs ls (lv_sub hl [0, 1, 2] rfl) hw
    intro H locs ls hl hw
    refine lv_iload_n hx hb dX5_giveBack_35 rfl (lv_at hl 0 rfl) ?_
    refine lv_bipush (v := (16 : Int32)) hx hb dX5_giveBack_36 (by decide) ?_
    refine fb_ige (tgt := 59) hx hb dX5_giveBack_38 (by decide) hf (fun hf => ?_) (fun hf => ?_)
    · refine lv_aload_n hx hb dX5_giveBack_59 rfl (lv_at hl 1 rfl) ?_
      refine lv_iload_n hx hb dX5_giveBack_60 rfl (lv_at hl 2 rfl) ?_
      refine fo_puti X hw fc_X5 (hm0 hE) (k := 8) (by decide) rfl rfl q1526 ⟨rfl, rfl⟩ dX5_giveBack_61 hf (fun st9 H locs hw hf => ?_)
      exact fd_v hend hw hf dX5_giveBack_64
    refine lv_aload_n hx hb dX5_giveBack_41 rfl (lv_at hl 1 rfl) ?_
    refine fo_gets X hw fc_X5 (hm0 hE) (k := 7) (d := 6) (n2 := 6) (by decide) rfl rfl q1525 dX5_giveBack_42 ?_
    refine lv_iload_n hx hb dX5_giveBack_45 rfl (lv_at hl 0 rfl) ?_
    refine lv_aload_n hx hb dX5_giveBack_46 rfl (lv_at hl 1 rfl) ?_
    refine fo_gets X hw fc_X5 (hm0 hE) (k := 10) (d := 8) (n2 := 8) (by decide) rfl rfl q1528 dX5_giveBack_47 ?_
    refine lv_iload_n hx hb dX5_giveBack_50 rfl (lv_at hl 0 rfl) ?_
    refine fo_iald X hw (hm8 hE) dX5_giveBack_51 hf (fun hf => ?_)
    refine fo_iast X hw (hm6 hE) dX5_giveBack_52 hf (fun st10 H locs hw hf => ?_)
    refine fb_iinc (v := (1 : Int32)) (lv' := [(2, .int (x6 + (1 : Int32))), (0, .ref (eb E + 0)), (1, .int p1)]) hx hb dX5_giveBack_53 hl (k := 0) rfl (by decide) (by decide) rfl (fun ls hl => ?_)
    refine lv_goto (tgt := 35) hx hb dX5_giveBack_56 (by decide) ?_
    exact hrec8 _ _ hf _ _ _ (lv_sub hl [0, 1, 2] rfl) hw
  refine lv_aload_n hx hb dX5_giveBack_15 rfl (lv_at hl 1 rfl) ?_
  refine fo_gets X hw fc_X5 (hm0 hE) (k := 6) (d := 5) (n2 := 5) (by decide) rfl rfl q1524 dX5_giveBack_16 ?_
  refine lv_iload_n hx hb dX5_giveBack_19 rfl (lv_at hl 0 rfl) ?_
  refine lv_aload_n hx hb dX5_giveBack_20 rfl (lv_at hl 1 rfl) ?_
  refine fo_gets X hw fc_X5 (hm0 hE) (k := 9) (d := 7) (n2 := 7) (by decide) rfl rfl q1527 dX5_giveBack_21 ?_
  refine lv_iload_n hx hb dX5_giveBack_24 rfl (lv_at hl 0 rfl) ?_
  refine fo_iald X hw (hm7 hE) dX5_giveBack_25 hf (fun hf => ?_)
  refine fo_iast X hw (hm5 hE) dX5_giveBack_26 hf (fun st11 H locs hw hf => ?_)
  refine fb_iinc (v := (1 : Int32)) (lv' := [(2, .int (x3 + (1 : Int32))), (0, .ref (eb E + 0)), (1, .int p1)]) hx hb dX5_giveBack_27 hl (k := 0) rfl (by decide) (by decide) rfl (fun ls hl => ?_)
  refine lv_goto (tgt := 8) hx hb dX5_giveBack_30 (by decide) ?_
  exact hrec5 _ _ hf _ _ _ (lv_sub hl [0, 1, 2] rfl) hw

/-- ForestRoomsModel.orders -/
def fX5_orders (G : Nat) (st0 : fo_St) : Option (Int32 × fo_St) := lt_ (si_ st0 0 0 (0 : Int32)) (fun st1 => lt_ (si_ st1 0 57 (-1 : Int32)) (fun st2 => bv_ (fX5_beginText G (1 : Int32) st2) (fun st4 => bv_ (fX5_readOrder G st4) (fun st6 => jn_ (fun (st7 : fo_St) => bv_ (fX5_endText G st7) (fun st10 => if (gi_ st10 0 19) = 0 then bv_ (fX5_keepAll G (17 : Int32) st10) (fun st12 => lI_ (gi_ st12 0 8) (fun x13 => lp2_ (fun rec16 (x14 : Int32) (st15 : fo_St) => if (848 : Int32) ≤ x14 then lp2_ (fun rec19 (x17 : Int32) (st18 : fo_St) => if (16 : Int32) ≤ x17 then lt_ (si_ st18 0 55 (0 : Int32)) (fun st20 => lt_ (si_ st20 0 56 (-1 : Int32)) (fun st21 => lp2_ (fun rec24 (x22 : Int32) (st23 : fo_St) => if (gi_ st23 0 21) ≤ x22 then bd_ (fX5_tell (gi_ st23 0 55) st23) (fun x25 st26 => some (x25, st26)) else lp2_ (fun rec29 (x27 : Int32) (st28 : fo_St) => ck_ (fo_in (((8 : Int32) * x22) + (7 : Int32)) 96) (if (gi_ st28 34 (((8 : Int32) * x22) + (7 : Int32)).toNatClampNeg) ≤ x27 then rec24 (x22 + (1 : Int32)) st28 else bd_ (fX5_run G ((8 : Int32) * x22) st28) (fun x30 st31 => if 0 ≤ x30 then rec29 (x27 + (1 : Int32)) st31 else bv_ (fX5_giveBack G x13 st31) (fun st33 => lt_ (si_ st33 0 57 x22) (fun st34 => bd_ (fX5_tell (-3 : Int32) st34) (fun x35 st36 => some (x35, st36))))))) G (0 : Int32) st23) G (0 : Int32) st21)) else ck_ (fo_in x17 16) (ck_ (fo_in x17 16) (lt_ (si_ st18 8 x17.toNatClampNeg (gi_ st18 6 x17.toNatClampNeg)) (fun st37 => rec19 (x17 + (1 : Int32)) st37)))) G (0 : Int32) st15 else ck_ (fo_in x14 954) (ck_ (fo_in x14 848) (lt_ (si_ st15 7 x14.toNatClampNeg (gi_ st15 5 x14.toNatClampNeg)) (fun st38 => rec16 (x14 + (1 : Int32)) st38)))) G (0 : Int32) st12)) else bd_ (fX5_tell (-6 : Int32) st10) (fun x39 st40 => some (x39, st40)))) (fun k8 => lp1_ (fun rec42 (st41 : fo_St) => if ¬ (gi_ st41 0 19) = 0 then k8 st41 else bd_ (fX5_isSign (59 : Int32) st41) (fun x43 st44 => if x43 = 0 then k8 st44 else bv_ (fX5_nextToken G st44) (fun st46 => bv_ (fX5_readOrder G st46) (fun st48 => rec42 st48)))) G st6)))))
theorem hm_X5_orders : fo_M yX5_orders 0 := ⟨by decide +kernel, by decide +kernel, by decide +kernel, by decide +kernel⟩
set_option maxHeartbeats 4000000 in
theorem wX5_orders (l : Launch) (E : fo_E) (hE : ∀ n, et E n = tM_ n) (G : Nat) (st0 : fo_St) (rZ : Int32) (stZ : fo_St) (hf : fX5_orders G st0 = some (rZ, stZ)) : CTi l E yX5_orders (ws_ yX5_orders cX5_orders 4 (some .int)) ({ frames := 10, cells := 0, slots := 0, locals := 238 }) [.ref (eb E + 0)] st0 rZ stZ := by
  refine fe_i hm_X5_orders (Nat.le_of_ble_eq_true rfl) (fun p e R s m args below meth c Q hRf hRl X hend ls hl hw => ?_)
  have hx := X.1.1
  have hb := X.1.2.1
  have hl : lv_has ls 4 [(0, .ref (eb E + 0))] := hl
  unfold fX5_orders at hf
  generalize s.heap = H at hw ⊢
  generalize ([] : List Loc) = locs at hw ⊢
  refine lv_aload_n hx hb dX5_orders_0 rfl (lv_at hl 0 rfl) ?_
  refine lv_iconst (v := (0 : Int32)) hx hb dX5_orders_1 (by decide) ?_
  refine fo_puti X hw fc_X5 (hm0 hE) (k := 0) (by decide) rfl rfl q1518 ⟨rfl, rfl⟩ dX5_orders_2 hf (fun st1 H locs hw hf => ?_)
  refine lv_aload_n hx hb dX5_orders_5 rfl (lv_at hl 0 rfl) ?_
  refine lv_iconst (v := (-1 : Int32)) hx hb dX5_orders_6 (by decide) ?_
  refine fo_puti X hw fc_X5 (hm0 hE) (k := 57) (by decide) rfl rfl q1575 ⟨rfl, rfl⟩ dX5_orders_7 hf (fun st2 H locs hw hf => ?_)
  refine lv_aload_n hx hb dX5_orders_10 rfl (lv_at hl 0 rfl) ?_
  refine lv_iconst (v := (1 : Int32)) hx hb dX5_orders_11 (by decide) ?_
  refine fc_Vv (rest := []) (As := [.int (1 : Int32)]) X hw hm_X5_beginText (lw_V q1840 q1842 qs53 q121 q1843) ⟨rfl, rfl⟩ ⟨by rw [hRf]; exact Nat.le_of_ble_eq_true rfl, by rw [hRl]; exact Nat.le_of_ble_eq_true rfl⟩ fc_X5 rfl (hm0 hE) rfl rfl hl.1 (Nat.le_of_ble_eq_true rfl) dX5_orders_12 (fun stQ hQ => wX5_beginText l E hE G (1 : Int32) st2 stQ hQ) hf (fun st4 H locs hw hf => ?_)
  refine lv_aload_n hx hb dX5_orders_15 rfl (lv_at hl 0 rfl) ?_
  refine fc_Vv (rest := []) (As := []) X hw hm_X5_readOrder (lw_V q2166 q2168 qs102 q121 q2169) ⟨rfl, rfl⟩ ⟨by rw [hRf]; exact Nat.le_of_ble_eq_true rfl, by rw [hRl]; exact Nat.le_of_ble_eq_true rfl⟩ fc_X5 rfl (hm0 hE) rfl rfl hl.1 (Nat.le_of_ble_eq_true rfl) dX5_orders_16 (fun stQ hQ => wX5_readOrder l E hE G st4 stQ hQ) hf (fun st6 H locs hw hf => ?_)
  refine jn_e hf (fun k8 ek hf => ?_)
  have hk8 : ∀  (st7 : fo_St) (H : Heap) (locs : List Loc) (ls : Array Slot), lv_has ls 4 [(0, .ref (eb E + 0))] → fo_S E s st7 H locs → k8 st7 = some (rZ, stZ) → W p l e R s m args below meth c H locs 0 0 Q (F0 m 46 ls []) := by
    intro st7 H locs ls hl hw hf
    rw [ek] at hf
    refine lv_aload_n hx hb dX5_orders_46 rfl (lv_at hl 0 rfl) ?_
    refine fc_Vv (rest := []) (As := []) X hw hm_X5_endText (lw_V q1950 q1952 qs75 q121 q1953) ⟨rfl, rfl⟩ ⟨by rw [hRf]; exact Nat.le_of_ble_eq_true rfl, by rw [hRl]; exact Nat.le_of_ble_eq_true rfl⟩ fc_X5 rfl (hm0 hE) rfl rfl hl.1 (Nat.le_of_ble_eq_true rfl) dX5_orders_47 (fun stQ hQ => wX5_endText l E hE G st7 stQ hQ) hf (fun st10 H locs hw hf => ?_)
    refine lv_aload_n hx hb dX5_orders_50 rfl (lv_at hl 0 rfl) ?_
    refine fo_geti X hw fc_X5 (hm0 hE) (k := 19) (by decide) rfl q1537 dX5_orders_51 ?_
    refine fb_zeq (tgt := 64) hx hb dX5_orders_54 (by decide) hf (fun hf => ?_) (fun hf => ?_)
    · refine lv_aload_n hx hb dX5_orders_64 rfl (lv_at hl 0 rfl) ?_
      refine lv_bipush (v := (17 : Int32)) hx hb dX5_orders_65 (by decide) ?_
      refine fc_Vv (rest := []) (As := [.int (17 : Int32)]) X hw hm_X5_keepAll (lw_V q1999 q2001 qs83 q121 q2002) ⟨rfl, rfl⟩ ⟨by rw [hRf]; exact Nat.le_of_ble_eq_true rfl, by rw [hRl]; exact Nat.le_of_ble_eq_true rfl⟩ fc_X5 rfl (hm0 hE) rfl rfl hl.1 (Nat.le_of_ble_eq_true rfl) dX5_orders_67 (fun stQ hQ => wX5_keepAll l E hE G (17 : Int32) st10 stQ hQ) hf (fun st12 H locs hw hf => ?_)
      refine lv_aload_n hx hb dX5_orders_70 rfl (lv_at hl 0 rfl) ?_
      refine fo_geti X hw fc_X5 (hm0 hE) (k := 8) (by decide) rfl q1526 dX5_orders_71 ?_
      refine fo_tI hf (fun x13 hf => ?_)
      refine lv_istore_n (lv' := [(1, .int x13), (0, .ref (eb E + 0))]) hx hb dX5_orders_74 rfl hl (by decide) rfl (fun ls hl => ?_)
      refine lv_iconst (v := (0 : Int32)) hx hb dX5_orders_75 (by decide) ?_
      refine lv_istore_n (lv' := [(2, .int (0 : Int32)), (1, .int x13), (0, .ref (eb E + 0))]) hx hb dX5_orders_76 rfl hl (by decide) rfl (fun ls hl => ?_)
      refine lp2_e (P := fun x14 st15 => ∀ (H : Heap) (locs : List Loc) (ls : Array Slot), lv_has ls 4 [(2, .int x14), (1, .int x13), (0, .ref (eb E + 0))] → fo_S E s st15 H locs → W p l e R s m args below meth c H locs 0 0 Q (F0 m 77 ls [])) (fun rec16 hrec16 x14 st15 hf => ?_) G _ _ hf H locs ls (lv_sub hl [0, 1, 2] rfl) hw
      intro H locs ls hl hw
      refine lv_iload_n hx hb dX5_orders_77 rfl (lv_at hl 0 rfl) ?_
      refine lv_sipush (v := (848 : Int32)) hx hb dX5_orders_78 (by decide) ?_
      refine fb_ige (tgt := 102) hx hb dX5_orders_81 (by decide) hf (fun hf => ?_) (fun hf => ?_)
      · refine lv_iconst (v := (0 : Int32)) hx hb dX5_orders_102 (by decide) ?_
        refine lv_istore_n (lv' := [(2, .int (0 : Int32)), (1, .int x13), (0, .ref (eb E + 0))]) hx hb dX5_orders_103 rfl hl (by decide) rfl (fun ls hl => ?_)
        refine lp2_e (P := fun x17 st18 => ∀ (H : Heap) (locs : List Loc) (ls : Array Slot), lv_has ls 4 [(2, .int x17), (1, .int x13), (0, .ref (eb E + 0))] → fo_S E s st18 H locs → W p l e R s m args below meth c H locs 0 0 Q (F0 m 104 ls [])) (fun rec19 hrec19 x17 st18 hf => ?_) G _ _ hf H locs ls (lv_sub hl [0, 1, 2] rfl) hw
        intro H locs ls hl hw
        refine lv_iload_n hx hb dX5_orders_104 rfl (lv_at hl 0 rfl) ?_
        refine lv_bipush (v := (16 : Int32)) hx hb dX5_orders_105 (by decide) ?_
        refine fb_ige (tgt := 128) hx hb dX5_orders_107 (by decide) hf (fun hf => ?_) (fun hf => ?_)
        · refine lv_aload_n hx hb dX5_orders_128 rfl (lv_at hl 2 rfl) ?_
          refine lv_iconst (v := (0 : Int32)) hx hb dX5_orders_129 (by decide) ?_
          refine fo_puti X hw fc_X5 (hm0 hE) (k := 55) (by decide) rfl rfl q1573 ⟨rfl, rfl⟩ dX5_orders_130 hf (fun st20 H locs hw hf => ?_)
          refine lv_aload_n hx hb dX5_orders_133 rfl (lv_at hl 2 rfl) ?_
          refine lv_iconst (v := (-1 : Int32)) hx hb dX5_orders_134 (by decide) ?_
          refine fo_puti X hw fc_X5 (hm0 hE) (k := 56) (by decide) rfl rfl q1574 ⟨rfl, rfl⟩ dX5_orders_135 hf (fun st21 H locs hw hf => ?_)
          refine lv_iconst (v := (0 : Int32)) hx hb dX5_orders_138 (by decide) ?_
          refine lv_istore_n (lv' := [(2, .int (0 : Int32)), (1, .int x13), (0, .ref (eb E + 0))]) hx hb dX5_orders_139 rfl hl (by decide) rfl (fun ls hl => ?_)
          refine lp2_e (P := fun x22 st23 => ∀ (H : Heap) (locs : List Loc) (ls : Array Slot), lv_has ls 4 [(2, .int x22), (1, .int x13), (0, .ref (eb E + 0))] → fo_S E s st23 H locs → W p l e R s m args below meth c H locs 0 0 Q (F0 m 140 ls [])) (fun rec24 hrec24 x22 st23 hf => ?_) G _ _ hf H locs ls (lv_sub hl [0, 1, 2] rfl) hw
          intro H locs ls hl hw
          refine lv_iload_n hx hb dX5_orders_140 rfl (lv_at hl 0 rfl) ?_
          refine lv_aload_n hx hb dX5_orders_141 rfl (lv_at hl 2 rfl) ?_
          refine fo_geti X hw fc_X5 (hm0 hE) (k := 21) (by decide) rfl q1539 dX5_orders_142 ?_
          refine fb_ige (tgt := 206) hx hb dX5_orders_145 (by decide) hf (fun hf => ?_) (fun hf => ?_)
          · refine lv_aload_n hx hb dX5_orders_206 rfl (lv_at hl 2 rfl) ?_
            refine lv_aload_n hx hb dX5_orders_207 rfl (lv_at hl 2 rfl) ?_
            refine fo_geti X hw fc_X5 (hm0 hE) (k := 55) (by decide) rfl q1573 dX5_orders_208 ?_
            refine fc_Vi (rest := []) (As := [.int (gi_ st23 0 55)]) X hw hm_X5_tell (lw_V q1710 q1712 qs38 q121 q1713) ⟨rfl, rfl⟩ ⟨by rw [hRf]; exact Nat.le_of_ble_eq_true rfl, by rw [hRl]; exact Nat.le_of_ble_eq_true rfl⟩ fc_X5 rfl (hm0 hE) rfl rfl hl.1 (Nat.le_of_ble_eq_true rfl) dX5_orders_211 (fun rQ stQ hQ => wX5_tell l E hE (gi_ st23 0 55) st23 rQ stQ hQ) hf (fun x25 st26 H locs hw hf => ?_)
            exact fd_i hend hw hf dX5_orders_214
          refine lv_iconst (v := (0 : Int32)) hx hb dX5_orders_148 (by decide) ?_
          refine lv_istore_n (lv' := [(3, .int (0 : Int32)), (2, .int x22), (1, .int x13), (0, .ref (eb E + 0))]) hx hb dX5_orders_149 rfl hl (by decide) rfl (fun ls hl => ?_)
          refine lp2_e (P := fun x27 st28 => ∀ (H : Heap) (locs : List Loc) (ls : Array Slot), lv_has ls 4 [(3, .int x27), (2, .int x22), (1, .int x13), (0, .ref (eb E + 0))] → fo_S E s st28 H locs → W p l e R s m args below meth c H locs 0 0 Q (F0 m 150 ls [])) (fun rec29 hrec29 x27 st28 hf => ?_) G _ _ hf H locs ls (lv_sub hl [0, 1, 2, 3] rfl) hw
          intro H locs ls hl hw
          refine lv_iload_n hx hb dX5_orders_150 rfl (lv_at hl 0 rfl) ?_
          refine lv_aload_n hx hb dX5_orders_151 rfl (lv_at hl 3 rfl) ?_
          refine fo_gets X hw fc_X5 (hm0 hE) (k := 54) (d := 34) (n2 := 34) (by decide) rfl rfl q1572 dX5_orders_152 ?_
          refine lv_bipush (v := (8 : Int32)) hx hb dX5_orders_155 (by decide) ?_
          refine lv_iload_n hx hb dX5_orders_157 rfl (lv_at hl 1 rfl) ?_
          refine lv_imul hx hb dX5_orders_158 ?_
          refine lv_bipush (v := (7 : Int32)) hx hb dX5_orders_159 (by decide) ?_
          refine lv_iadd hx hb dX5_orders_161 ?_
          refine fo_iald X hw (hm34 hE) dX5_orders_162 hf (fun hf => ?_)
          refine fb_ige (tgt := 200) hx hb dX5_orders_163 (by decide) hf (fun hf => ?_) (fun hf => ?_)
          · refine fb_iinc (v := (1 : Int32)) (lv' := [(2, .int (x22 + (1 : Int32))), (3, .int x27), (1, .int x13), (0, .ref (eb E + 0))]) hx hb dX5_orders_200 hl (k := 1) rfl (by decide) (by decide) rfl (fun ls hl => ?_)
            refine lv_goto (tgt := 140) hx hb dX5_orders_203 (by decide) ?_
            exact hrec24 _ _ hf _ _ _ (lv_sub hl [0, 2, 3] rfl) hw
          refine lv_aload_n hx hb dX5_orders_166 rfl (lv_at hl 3 rfl) ?_
          refine lv_bipush (v := (8 : Int32)) hx hb dX5_orders_167 (by decide) ?_
          refine lv_iload_n hx hb dX5_orders_169 rfl (lv_at hl 1 rfl) ?_
          refine lv_imul hx hb dX5_orders_170 ?_
          refine fc_Vi (rest := []) (As := [.int ((8 : Int32) * x22)]) X hw hm_X5_run (lw_V q2178 q2180 qs104 q121 q2181) ⟨rfl, rfl⟩ ⟨by rw [hRf]; exact Nat.le_of_ble_eq_true rfl, by rw [hRl]; exact Nat.le_of_ble_eq_true rfl⟩ fc_X5 rfl (hm0 hE) rfl rfl hl.1 (Nat.le_of_ble_eq_true rfl) dX5_orders_171 (fun rQ stQ hQ => wX5_run l E hE G ((8 : Int32) * x22) st28 rQ stQ hQ) hf (fun x30 st31 H locs hw hf => ?_)
          refine fb_zge (tgt := 194) hx hb dX5_orders_174 (by decide) hf (fun hf => ?_) (fun hf => ?_)
          · refine fb_iinc (v := (1 : Int32)) (lv' := [(3, .int (x27 + (1 : Int32))), (2, .int x22), (1, .int x13), (0, .ref (eb E + 0))]) hx hb dX5_orders_194 hl (k := 0) rfl (by decide) (by decide) rfl (fun ls hl => ?_)
            refine lv_goto (tgt := 150) hx hb dX5_orders_197 (by decide) ?_
            exact hrec29 _ _ hf _ _ _ (lv_sub hl [0, 1, 2, 3] rfl) hw
          refine lv_aload_n hx hb dX5_orders_177 rfl (lv_at hl 3 rfl) ?_
          refine lv_iload_n hx hb dX5_orders_178 rfl (lv_at hl 2 rfl) ?_
          refine fc_Vv (rest := []) (As := [.int x13]) X hw hm_X5_giveBack (lw_V q2194 q2196 qs108 q121 q2197) ⟨rfl, rfl⟩ ⟨by rw [hRf]; exact Nat.le_of_ble_eq_true rfl, by rw [hRl]; exact Nat.le_of_ble_eq_true rfl⟩ fc_X5 rfl (hm0 hE) rfl rfl hl.1 (Nat.le_of_ble_eq_true rfl) dX5_orders_179 (fun stQ hQ => wX5_giveBack l E hE G x13 st31 stQ hQ) hf (fun st33 H locs hw hf => ?_)
          refine lv_aload_n hx hb dX5_orders_182 rfl (lv_at hl 3 rfl) ?_
          refine lv_iload_n hx hb dX5_orders_183 rfl (lv_at hl 1 rfl) ?_
          refine fo_puti X hw fc_X5 (hm0 hE) (k := 57) (by decide) rfl rfl q1575 ⟨rfl, rfl⟩ dX5_orders_184 hf (fun st34 H locs hw hf => ?_)
          refine lv_aload_n hx hb dX5_orders_187 rfl (lv_at hl 3 rfl) ?_
          refine lv_bipush (v := (-3 : Int32)) hx hb dX5_orders_188 (by decide) ?_
          refine fc_Vi (rest := []) (As := [.int (-3 : Int32)]) X hw hm_X5_tell (lw_V q1710 q1712 qs38 q121 q1713) ⟨rfl, rfl⟩ ⟨by rw [hRf]; exact Nat.le_of_ble_eq_true rfl, by rw [hRl]; exact Nat.le_of_ble_eq_true rfl⟩ fc_X5 rfl (hm0 hE) rfl rfl hl.1 (Nat.le_of_ble_eq_true rfl) dX5_orders_190 (fun rQ stQ hQ => wX5_tell l E hE (-3 : Int32) st34 rQ stQ hQ) hf (fun x35 st36 H locs hw hf => ?_)
          exact fd_i hend hw hf dX5_orders_193
        refine lv_aload_n hx hb dX5_orders_110 rfl (lv_at hl 2 rfl) ?_
        refine fo_gets X hw fc_X5 (hm0 hE) (k := 10) (d := 8) (n2 := 8) (by decide) rfl rfl q1528 dX5_orders_111 ?_
        refine lv_iload_n hx hb dX5_orders_114 rfl (lv_at hl 0 rfl) ?_
        refine lv_aload_n hx hb dX5_orders_115 rfl (lv_at hl 2 rfl) ?_
        refine fo_gets X hw fc_X5 (hm0 hE) (k := 7) (d := 6) (n2 := 6) (by decide) rfl rfl q1525 dX5_orders_116 ?_
        refine lv_iload_n hx hb dX5_orders_119 rfl (lv_at hl 0 rfl) ?_
        refine fo_iald X hw (hm6 hE) dX5_orders_120 hf (fun hf => ?_)
        refine fo_iast X hw (hm8 hE) dX5_orders_121 hf (fun st37 H locs hw hf => ?_)
        refine fb_iinc (v := (1 : Int32)) (lv' := [(2, .int (x17 + (1 : Int32))), (1, .int x13), (0, .ref (eb E + 0))]) hx hb dX5_orders_122 hl (k := 0) rfl (by decide) (by decide) rfl (fun ls hl => ?_)
        refine lv_goto (tgt := 104) hx hb dX5_orders_125 (by decide) ?_
        exact hrec19 _ _ hf _ _ _ (lv_sub hl [0, 1, 2] rfl) hw
      refine lv_aload_n hx hb dX5_orders_84 rfl (lv_at hl 2 rfl) ?_
      refine fo_gets X hw fc_X5 (hm0 hE) (k := 9) (d := 7) (n2 := 7) (by decide) rfl rfl q1527 dX5_orders_85 ?_
      refine lv_iload_n hx hb dX5_orders_88 rfl (lv_at hl 0 rfl) ?_
      refine lv_aload_n hx hb dX5_orders_89 rfl (lv_at hl 2 rfl) ?_
      refine fo_gets X hw fc_X5 (hm0 hE) (k := 6) (d := 5) (n2 := 5) (by decide) rfl rfl q1524 dX5_orders_90 ?_
      refine lv_iload_n hx hb dX5_orders_93 rfl (lv_at hl 0 rfl) ?_
      refine fo_iald X hw (hm5 hE) dX5_orders_94 hf (fun hf => ?_)
      refine fo_iast X hw (hm7 hE) dX5_orders_95 hf (fun st38 H locs hw hf => ?_)
      refine fb_iinc (v := (1 : Int32)) (lv' := [(2, .int (x14 + (1 : Int32))), (1, .int x13), (0, .ref (eb E + 0))]) hx hb dX5_orders_96 hl (k := 0) rfl (by decide) (by decide) rfl (fun ls hl => ?_)
      refine lv_goto (tgt := 77) hx hb dX5_orders_99 (by decide) ?_
      exact hrec16 _ _ hf _ _ _ (lv_sub hl [0, 1, 2] rfl) hw
    refine lv_aload_n hx hb dX5_orders_57 rfl (lv_at hl 0 rfl) ?_
    refine lv_bipush (v := (-6 : Int32)) hx hb dX5_orders_58 (by decide) ?_
    refine fc_Vi (rest := []) (As := [.int (-6 : Int32)]) X hw hm_X5_tell (lw_V q1710 q1712 qs38 q121 q1713) ⟨rfl, rfl⟩ ⟨by rw [hRf]; exact Nat.le_of_ble_eq_true rfl, by rw [hRl]; exact Nat.le_of_ble_eq_true rfl⟩ fc_X5 rfl (hm0 hE) rfl rfl hl.1 (Nat.le_of_ble_eq_true rfl) dX5_orders_60 (fun rQ stQ hQ => wX5_tell l E hE (-6 : Int32) st10 rQ stQ hQ) hf (fun x39 st40 H locs hw hf => ?_)
    exact fd_i hend hw hf dX5_orders_63
  clear ek
  refine lp1_e (P := fun st41 => ∀ (H : Heap) (locs : List Loc) (ls : Array Slot), lv_has ls 4 [(0, .ref (eb E + 0))] → fo_S E s st41 H locs → W p l e R s m args below meth c H locs 0 0 Q (F0 m 19 ls [])) (fun rec42 hrec42 st41 hf => ?_) G _ hf H locs ls (lv_sub hl [0] rfl) hw
  intro H locs ls hl hw
  refine lv_aload_n hx hb dX5_orders_19 rfl (lv_at hl 0 rfl) ?_
  refine fo_geti X hw fc_X5 (hm0 hE) (k := 19) (by decide) rfl q1537 dX5_orders_20 ?_
  refine fb_zne (tgt := 46) hx hb dX5_orders_23 (by decide) hf (fun hf => ?_) (fun hf => ?_)
  · exact hk8 _ _ _ _ (lv_sub hl [0] rfl) hw hf
  refine lv_aload_n hx hb dX5_orders_26 rfl (lv_at hl 0 rfl) ?_
  refine lv_bipush (v := (59 : Int32)) hx hb dX5_orders_27 (by decide) ?_
  refine fc_Vi (rest := []) (As := [.int (59 : Int32)]) X hw hm_X5_isSign (lw_V q1887 q1889 qs62 q121 q1890) ⟨rfl, rfl⟩ ⟨by rw [hRf]; exact Nat.le_of_ble_eq_true rfl, by rw [hRl]; exact Nat.le_of_ble_eq_true rfl⟩ fc_X5 rfl (hm0 hE) rfl rfl hl.1 (Nat.le_of_ble_eq_true rfl) dX5_orders_29 (fun rQ stQ hQ => wX5_isSign l E hE (59 : Int32) st41 rQ stQ hQ) hf (fun x43 st44 H locs hw hf => ?_)
  refine fb_zeq (tgt := 46) hx hb dX5_orders_32 (by decide) hf (fun hf => ?_) (fun hf => ?_)
  · exact hk8 _ _ _ _ (lv_sub hl [0] rfl) hw hf
  refine lv_aload_n hx hb dX5_orders_35 rfl (lv_at hl 0 rfl) ?_
  refine fc_Vv (rest := []) (As := []) X hw hm_X5_nextToken (lw_V q1848 q1850 qs55 q121 q1851) ⟨rfl, rfl⟩ ⟨by rw [hRf]; exact Nat.le_of_ble_eq_true rfl, by rw [hRl]; exact Nat.le_of_ble_eq_true rfl⟩ fc_X5 rfl (hm0 hE) rfl rfl hl.1 (Nat.le_of_ble_eq_true rfl) dX5_orders_36 (fun stQ hQ => wX5_nextToken l E hE G st44 stQ hQ) hf (fun st46 H locs hw hf => ?_)
  refine lv_aload_n hx hb dX5_orders_39 rfl (lv_at hl 0 rfl) ?_
  refine fc_Vv (rest := []) (As := []) X hw hm_X5_readOrder (lw_V q2166 q2168 qs102 q121 q2169) ⟨rfl, rfl⟩ ⟨by rw [hRf]; exact Nat.le_of_ble_eq_true rfl, by rw [hRl]; exact Nat.le_of_ble_eq_true rfl⟩ fc_X5 rfl (hm0 hE) rfl rfl hl.1 (Nat.le_of_ble_eq_true rfl) dX5_orders_40 (fun stQ hQ => wX5_readOrder l E hE G st46 stQ hQ) hf (fun st48 H locs hw hf => ?_)
  refine lv_goto (tgt := 19) hx hb dX5_orders_43 (by decide) ?_
  exact hrec42 _ hf _ _ _ (lv_sub hl [0] rfl) hw

/-- ForestRoomsModel.stopped -/
def fX5_stopped (st0 : fo_St) : Option (Int32 × fo_St) := lt_ (si_ st0 0 0 (0 : Int32)) (fun st1 => some ((gi_ st1 0 57), st1))
theorem hm_X5_stopped : fo_M yX5_stopped 0 := ⟨by decide +kernel, by decide +kernel, by decide +kernel, by decide +kernel⟩
set_option maxHeartbeats 4000000 in
theorem wX5_stopped (l : Launch) (E : fo_E) (hE : ∀ n, et E n = tM_ n) (st0 : fo_St) (rZ : Int32) (stZ : fo_St) (hf : fX5_stopped st0 = some (rZ, stZ)) : CTi l E yX5_stopped (ws_ yX5_stopped cX5_stopped 1 (some .int)) ({ frames := 0, cells := 0, slots := 0, locals := 0 }) [.ref (eb E + 0)] st0 rZ stZ := by
  refine fe_i hm_X5_stopped (Nat.le_of_ble_eq_true rfl) (fun p e R s m args below meth c Q hRf hRl X hend ls hl hw => ?_)
  have hx := X.1.1
  have hb := X.1.2.1
  have hl : lv_has ls 1 [(0, .ref (eb E + 0))] := hl
  unfold fX5_stopped at hf
  generalize s.heap = H at hw ⊢
  generalize ([] : List Loc) = locs at hw ⊢
  refine lv_aload_n hx hb dX5_stopped_0 rfl (lv_at hl 0 rfl) ?_
  refine lv_iconst (v := (0 : Int32)) hx hb dX5_stopped_1 (by decide) ?_
  refine fo_puti X hw fc_X5 (hm0 hE) (k := 0) (by decide) rfl rfl q1518 ⟨rfl, rfl⟩ dX5_stopped_2 hf (fun st1 H locs hw hf => ?_)
  refine lv_aload_n hx hb dX5_stopped_5 rfl (lv_at hl 0 rfl) ?_
  refine fo_geti X hw fc_X5 (hm0 hE) (k := 57) (by decide) rfl q1575 dX5_stopped_6 ?_
  exact fd_i hend hw hf dX5_stopped_9

/-- ForestRoomsModel.draw -/
def fX5_draw (p1 : Int32) (st0 : fo_St) : Option (Int32 × fo_St) := lt_ (sl_ st0 0 59 (lrem_ (((gl_ st0 0 59) * (1103 : Int64)) + (12345 : Int64)) (1000003 : Int64))) (fun st1 => ck_ (decide (¬ p1.toInt64 = 0)) (some ((lrem_ (gl_ st1 0 59) (p1.toInt64)).toInt32, st1)))
theorem hm_X5_draw : fo_M yX5_draw 1 := ⟨by decide +kernel, by decide +kernel, by decide +kernel, by decide +kernel⟩
set_option maxHeartbeats 4000000 in
theorem wX5_draw (l : Launch) (E : fo_E) (hE : ∀ n, et E n = tM_ n) (p1 : Int32) (st0 : fo_St) (rZ : Int32) (stZ : fo_St) (hf : fX5_draw p1 st0 = some (rZ, stZ)) : CTi l E yX5_draw (ws_ yX5_draw cX5_draw 2 (some .int)) ({ frames := 0, cells := 0, slots := 0, locals := 0 }) [.ref (eb E + 0), .int p1] st0 rZ stZ := by
  refine fe_i hm_X5_draw (Nat.le_of_ble_eq_true rfl) (fun p e R s m args below meth c Q hRf hRl X hend ls hl hw => ?_)
  have hx := X.1.1
  have hb := X.1.2.1
  have hl : lv_has ls 2 [(0, .ref (eb E + 0)), (1, .int p1)] := hl
  unfold fX5_draw at hf
  generalize s.heap = H at hw ⊢
  generalize ([] : List Loc) = locs at hw ⊢
  refine lv_aload_n hx hb dX5_draw_0 rfl (lv_at hl 0 rfl) ?_
  refine lv_aload_n hx hb dX5_draw_1 rfl (lv_at hl 0 rfl) ?_
  refine fo_getl X hw fc_X5 (hm0 hE) (k := 59) (by decide) rfl q1577 dX5_draw_2 ?_
  refine lv_ldc2 (v := (1103 : Int64)) hx hb X.1.2.2.2.1 (X.1.2.2.2.2 _ q2210) dX5_draw_5 ?_
  refine lv_lmul hx hb dX5_draw_8 ?_
  refine lv_ldc2 (v := (12345 : Int64)) hx hb X.1.2.2.2.1 (X.1.2.2.2.2 _ q2211) dX5_draw_9 ?_
  refine lv_ladd hx hb dX5_draw_12 ?_
  refine lv_ldc2 (v := (1000003 : Int64)) hx hb X.1.2.2.2.1 (X.1.2.2.2.2 _ q2212) dX5_draw_13 ?_
  refine fb_lremK hx hb dX5_draw_16 (by decide) ?_
  refine fo_putl X hw fc_X5 (hm0 hE) (k := 59) (by decide) rfl rfl q1577 ⟨rfl, rfl⟩ dX5_draw_17 hf (fun st1 H locs hw hf => ?_)
  refine lv_aload_n hx hb dX5_draw_20 rfl (lv_at hl 0 rfl) ?_
  refine fo_getl X hw fc_X5 (hm0 hE) (k := 59) (by decide) rfl q1577 dX5_draw_21 ?_
  refine lv_iload_n hx hb dX5_draw_24 rfl (lv_at hl 1 rfl) ?_
  refine lv_i2l (v := p1.toInt64) hx hb dX5_draw_25 rfl ?_
  refine fb_lremC hx hb dX5_draw_26 hf (fun hf => ?_)
  refine lv_l2i (v := (lrem_ (gl_ st1 0 59) (p1.toInt64)).toInt32) hx hb dX5_draw_27 rfl ?_
  exact fd_i hend hw hf dX5_draw_28

/-- ForestRoomsModel.decade -/
def fX5_decade (G : Nat) (p1 : Int32) (p2 : Int32) (st0 : fo_St) : Option (Int32 × fo_St) := lt_ (si_ st0 0 0 (0 : Int32)) (fun st1 => bd_ (fX5_in (p1.toInt64) (0 : Int64) (1000000 : Int64) st1) (fun x2 st3 => if x2 = 0 then bd_ (fX5_tell (-1 : Int32) st3) (fun x4 st5 => some (x4, st5)) else bd_ (fX5_in (p2.toInt64) (1 : Int64) (60 : Int64) st3) (fun x6 st7 => if ¬ x6 = 0 then bv_ (fX5_keepAll G (16 : Int32) st7) (fun st9 => lt_ (sl_ st9 0 59 (p1.toInt64)) (fun st10 => lt_ (si_ st10 0 61 (1 : Int32)) (fun st11 => jn_ (fun (x12 : Int32) (st13 : fo_St) => lp2_ (fun rec17 (x15 : Int32) (st16 : fo_St) => if (16 : Int32) ≤ x15 then bv_ (fX5_putBack G (16 : Int32) st16) (fun st19 => bd_ (fX5_tell x12 st19) (fun x20 st21 => some (x20, st21))) else ck_ (fo_in ((8 : Int32) + x15) 5540) (ck_ (fo_in ((2 : Int32) * x15) 32) (lt_ (si_ st16 35 ((2 : Int32) * x15).toNatClampNeg (gi_ st16 2 ((8 : Int32) + x15).toNatClampNeg)) (fun st22 => ck_ (fo_in ((24 : Int32) + x15) 5540) (ck_ (fo_in (((2 : Int32) * x15) + (1 : Int32)) 32) (lt_ (si_ st22 35 (((2 : Int32) * x15) + (1 : Int32)).toNatClampNeg (gi_ st22 2 ((24 : Int32) + x15).toNatClampNeg)) (fun st23 => rec17 (x15 + (1 : Int32)) st23))))))) G (0 : Int32) st13) (fun k14 => lp3_ (fun rec27 (x24 : Int32) (x25 : Int32) (st26 : fo_St) => if p2 ≤ x24 then k14 x25 st26 else bd_ (fX5_term (0 : Int32) st26) (fun x28 st29 => if (999 : Int32) ≤ x28 then k14 x25 st29 else bd_ (fX5_draw (16 : Int32) st29) (fun x30 st31 => bd_ (fX5_draw (10 : Int32) st31) (fun x32 st33 => bd_ (fX5_term (3 : Int32) st33) (fun x34 st35 => jn_ (fun (st36 : fo_St) => bd_ (fX5_passIt G st36) (fun x38 st39 => lI_ (x25 + x38) (fun x40 => rec27 (x24 + (1 : Int32)) x40 st39))) (fun k37 => if x34 ≤ x32 then k37 st35 else bv_ (fX5_fell x30 st35) (fun st42 => k37 st42))))))) G (0 : Int32) (0 : Int32) st11)))) else bd_ (fX5_tell (-1 : Int32) st7) (fun x43 st44 => some (x43, st44)))))
theorem hm_X5_decade : fo_M yX5_decade 2 := ⟨by decide +kernel, by decide +kernel, by decide +kernel, by decide +kernel⟩
set_option maxHeartbeats 4000000 in
theorem wX5_decade (l : Launch) (E : fo_E) (hE : ∀ n, et E n = tM_ n) (G : Nat) (p1 : Int32) (p2 : Int32) (st0 : fo_St) (rZ : Int32) (stZ : fo_St) (hf : fX5_decade G p1 p2 st0 = some (rZ, stZ)) : CTi l E yX5_decade (ws_ yX5_decade cX5_decade 6 (some .int)) ({ frames := 7, cells := 0, slots := 0, locals := 171 }) [.ref (eb E + 0), .int p1, .int p2] st0 rZ stZ := by
  refine fe_i hm_X5_decade (Nat.le_of_ble_eq_true rfl) (fun p e R s m args below meth c Q hRf hRl X hend ls hl hw => ?_)
  have hx := X.1.1
  have hb := X.1.2.1
  have hl : lv_has ls 6 [(0, .ref (eb E + 0)), (1, .int p1), (2, .int p2)] := hl
  unfold fX5_decade at hf
  generalize s.heap = H at hw ⊢
  generalize ([] : List Loc) = locs at hw ⊢
  refine lv_aload_n hx hb dX5_decade_0 rfl (lv_at hl 0 rfl) ?_
  refine lv_iconst (v := (0 : Int32)) hx hb dX5_decade_1 (by decide) ?_
  refine fo_puti X hw fc_X5 (hm0 hE) (k := 0) (by decide) rfl rfl q1518 ⟨rfl, rfl⟩ dX5_decade_2 hf (fun st1 H locs hw hf => ?_)
  refine lv_iload_n hx hb dX5_decade_5 rfl (lv_at hl 1 rfl) ?_
  refine lv_i2l (v := p1.toInt64) hx hb dX5_decade_6 rfl ?_
  refine lv_lconst (v := (0 : Int64)) hx hb dX5_decade_7 rfl ?_
  refine lv_ldc2 (v := (1000000 : Int64)) hx hb X.1.2.2.2.1 (X.1.2.2.2.2 _ q1860) dX5_decade_8 ?_
  refine fc_Si (rest := []) (As := [.long p1.toInt64, .long (0 : Int64), .long (1000000 : Int64)]) X hw hm_X5_in (lw_S q1722 q1723 q121 q1724) ⟨rfl, rfl⟩ ⟨by rw [hRf]; exact Nat.le_of_ble_eq_true rfl, by rw [hRl]; exact Nat.le_of_ble_eq_true rfl⟩ rfl rfl hl.1 (Nat.le_of_ble_eq_true rfl) dX5_decade_11 (fun rQ stQ hQ => wX5_in l E hE (p1.toInt64) (0 : Int64) (1000000 : Int64) st1 rQ stQ hQ) hf (fun x2 st3 H locs hw hf => ?_)
  refine fb_zeq (tgt := 29) hx hb dX5_decade_14 (by decide) hf (fun hf => ?_) (fun hf => ?_)
  · refine lv_aload_n hx hb dX5_decade_29 rfl (lv_at hl 0 rfl) ?_
    refine lv_iconst (v := (-1 : Int32)) hx hb dX5_decade_30 (by decide) ?_
    refine fc_Vi (rest := []) (As := [.int (-1 : Int32)]) X hw hm_X5_tell (lw_V q1710 q1712 qs38 q121 q1713) ⟨rfl, rfl⟩ ⟨by rw [hRf]; exact Nat.le_of_ble_eq_true rfl, by rw [hRl]; exact Nat.le_of_ble_eq_true rfl⟩ fc_X5 rfl (hm0 hE) rfl rfl hl.1 (Nat.le_of_ble_eq_true rfl) dX5_decade_31 (fun rQ stQ hQ => wX5_tell l E hE (-1 : Int32) st3 rQ stQ hQ) hf (fun x4 st5 H locs hw hf => ?_)
    exact fd_i hend hw hf dX5_decade_34
  refine lv_iload_n hx hb dX5_decade_17 rfl (lv_at hl 2 rfl) ?_
  refine lv_i2l (v := p2.toInt64) hx hb dX5_decade_18 rfl ?_
  refine lv_lconst (v := (1 : Int64)) hx hb dX5_decade_19 rfl ?_
  refine lv_ldc2 (v := (60 : Int64)) hx hb X.1.2.2.2.1 (X.1.2.2.2.2 _ q2054) dX5_decade_20 ?_
  refine fc_Si (rest := []) (As := [.long p2.toInt64, .long (1 : Int64), .long (60 : Int64)]) X hw hm_X5_in (lw_S q1722 q1723 q121 q1724) ⟨rfl, rfl⟩ ⟨by rw [hRf]; exact Nat.le_of_ble_eq_true rfl, by rw [hRl]; exact Nat.le_of_ble_eq_true rfl⟩ rfl rfl hl.1 (Nat.le_of_ble_eq_true rfl) dX5_decade_23 (fun rQ stQ hQ => wX5_in l E hE (p2.toInt64) (1 : Int64) (60 : Int64) st3 rQ stQ hQ) hf (fun x6 st7 H locs hw hf => ?_)
  refine fb_zne (tgt := 35) hx hb dX5_decade_26 (by decide) hf (fun hf => ?_) (fun hf => ?_)
  · refine lv_aload_n hx hb dX5_decade_35 rfl (lv_at hl 0 rfl) ?_
    refine lv_bipush (v := (16 : Int32)) hx hb dX5_decade_36 (by decide) ?_
    refine fc_Vv (rest := []) (As := [.int (16 : Int32)]) X hw hm_X5_keepAll (lw_V q1999 q2001 qs83 q121 q2002) ⟨rfl, rfl⟩ ⟨by rw [hRf]; exact Nat.le_of_ble_eq_true rfl, by rw [hRl]; exact Nat.le_of_ble_eq_true rfl⟩ fc_X5 rfl (hm0 hE) rfl rfl hl.1 (Nat.le_of_ble_eq_true rfl) dX5_decade_38 (fun stQ hQ => wX5_keepAll l E hE G (16 : Int32) st7 stQ hQ) hf (fun st9 H locs hw hf => ?_)
    refine lv_aload_n hx hb dX5_decade_41 rfl (lv_at hl 0 rfl) ?_
    refine lv_iload_n hx hb dX5_decade_42 rfl (lv_at hl 1 rfl) ?_
    refine lv_i2l (v := p1.toInt64) hx hb dX5_decade_43 rfl ?_
    refine fo_putl X hw fc_X5 (hm0 hE) (k := 59) (by decide) rfl rfl q1577 ⟨rfl, rfl⟩ dX5_decade_44 hf (fun st10 H locs hw hf => ?_)
    refine lv_aload_n hx hb dX5_decade_47 rfl (lv_at hl 0 rfl) ?_
    refine lv_iconst (v := (1 : Int32)) hx hb dX5_decade_48 (by decide) ?_
    refine fo_puti X hw fc_X5 (hm0 hE) (k := 61) (by decide) rfl rfl q1579 ⟨rfl, rfl⟩ dX5_decade_49 hf (fun st11 H locs hw hf => ?_)
    refine lv_iconst (v := (0 : Int32)) hx hb dX5_decade_52 (by decide) ?_
    refine lv_istore_n (lv' := [(3, .int (0 : Int32)), (0, .ref (eb E + 0)), (1, .int p1), (2, .int p2)]) hx hb dX5_decade_53 rfl hl (by decide) rfl (fun ls hl => ?_)
    refine lv_iconst (v := (0 : Int32)) hx hb dX5_decade_54 (by decide) ?_
    refine lv_istore (lv' := [(4, .int (0 : Int32)), (3, .int (0 : Int32)), (0, .ref (eb E + 0)), (1, .int p1), (2, .int p2)]) hx hb dX5_decade_55 hl (by decide) rfl (fun ls hl => ?_)
    refine jn_e hf (fun k14 ek hf => ?_)
    have hk14 : ∀ (x12 : Int32) (st13 : fo_St) (H : Heap) (locs : List Loc) (ls : Array Slot), lv_has ls 6 [(3, .int x12), (0, .ref (eb E + 0))] → fo_S E s st13 H locs → k14 x12 st13 = some (rZ, stZ) → W p l e R s m args below meth c H locs 0 0 Q (F0 m 115 ls []) := by
      intro x12 st13 H locs ls hl hw hf
      rw [ek] at hf
      refine lv_iconst (v := (0 : Int32)) hx hb dX5_decade_115 (by decide) ?_
      refine lv_istore (lv' := [(4, .int (0 : Int32)), (3, .int x12), (0, .ref (eb E + 0))]) hx hb dX5_decade_116 hl (by decide) rfl (fun ls hl => ?_)
      refine lp2_e (P := fun x15 st16 => ∀ (H : Heap) (locs : List Loc) (ls : Array Slot), lv_has ls 6 [(4, .int x15), (3, .int x12), (0, .ref (eb E + 0))] → fo_S E s st16 H locs → W p l e R s m args below meth c H locs 0 0 Q (F0 m 118 ls [])) (fun rec17 hrec17 x15 st16 hf => ?_) G _ _ hf H locs ls (lv_sub hl [0, 1, 2] rfl) hw
      intro H locs ls hl hw
      refine lv_iload hx hb dX5_decade_118 (lv_at hl 0 rfl) ?_
      refine lv_bipush (v := (16 : Int32)) hx hb dX5_decade_120 (by decide) ?_
      refine fb_ige (tgt := 171) hx hb dX5_decade_122 (by decide) hf (fun hf => ?_) (fun hf => ?_)
      · refine lv_aload_n hx hb dX5_decade_171 rfl (lv_at hl 2 rfl) ?_
        refine lv_bipush (v := (16 : Int32)) hx hb dX5_decade_172 (by decide) ?_
        refine fc_Vv (rest := []) (As := [.int (16 : Int32)]) X hw hm_X5_putBack (lw_V q1714 q1716 qs39 q121 q1717) ⟨rfl, rfl⟩ ⟨by rw [hRf]; exact Nat.le_of_ble_eq_true rfl, by rw [hRl]; exact Nat.le_of_ble_eq_true rfl⟩ fc_X5 rfl (hm0 hE) rfl rfl hl.1 (Nat.le_of_ble_eq_true rfl) dX5_decade_174 (fun stQ hQ => wX5_putBack l E hE G (16 : Int32) st16 stQ hQ) hf (fun st19 H locs hw hf => ?_)
        refine lv_aload_n hx hb dX5_decade_177 rfl (lv_at hl 2 rfl) ?_
        refine lv_iload_n hx hb dX5_decade_178 rfl (lv_at hl 1 rfl) ?_
        refine fc_Vi (rest := []) (As := [.int x12]) X hw hm_X5_tell (lw_V q1710 q1712 qs38 q121 q1713) ⟨rfl, rfl⟩ ⟨by rw [hRf]; exact Nat.le_of_ble_eq_true rfl, by rw [hRl]; exact Nat.le_of_ble_eq_true rfl⟩ fc_X5 rfl (hm0 hE) rfl rfl hl.1 (Nat.le_of_ble_eq_true rfl) dX5_decade_179 (fun rQ stQ hQ => wX5_tell l E hE x12 st19 rQ stQ hQ) hf (fun x20 st21 H locs hw hf => ?_)
        exact fd_i hend hw hf dX5_decade_182
      refine lv_aload_n hx hb dX5_decade_125 rfl (lv_at hl 2 rfl) ?_
      refine fo_gets X hw fc_X5 (hm0 hE) (k := 60) (d := 35) (n2 := 35) (by decide) rfl rfl q1578 dX5_decade_126 ?_
      refine lv_iconst (v := (2 : Int32)) hx hb dX5_decade_129 (by decide) ?_
      refine lv_iload hx hb dX5_decade_130 (lv_at hl 0 rfl) ?_
      refine lv_imul hx hb dX5_decade_132 ?_
      refine lv_aload_n hx hb dX5_decade_133 rfl (lv_at hl 2 rfl) ?_
      refine fo_gets X hw fc_X5 (hm0 hE) (k := 3) (d := 2) (n2 := 2) (by decide) rfl rfl q1521 dX5_decade_134 ?_
      refine lv_bipush (v := (8 : Int32)) hx hb dX5_decade_137 (by decide) ?_
      refine lv_iload hx hb dX5_decade_139 (lv_at hl 0 rfl) ?_
      refine lv_iadd hx hb dX5_decade_141 ?_
      refine fo_iald X hw (hm2 hE) dX5_decade_142 hf (fun hf => ?_)
      refine fo_iast X hw (hm35 hE) dX5_decade_143 hf (fun st22 H locs hw hf => ?_)
      refine lv_aload_n hx hb dX5_decade_144 rfl (lv_at hl 2 rfl) ?_
      refine fo_gets X hw fc_X5 (hm0 hE) (k := 60) (d := 35) (n2 := 35) (by decide) rfl rfl q1578 dX5_decade_145 ?_
      refine lv_iconst (v := (2 : Int32)) hx hb dX5_decade_148 (by decide) ?_
      refine lv_iload hx hb dX5_decade_149 (lv_at hl 0 rfl) ?_
      refine lv_imul hx hb dX5_decade_151 ?_
      refine lv_iconst (v := (1 : Int32)) hx hb dX5_decade_152 (by decide) ?_
      refine lv_iadd hx hb dX5_decade_153 ?_
      refine lv_aload_n hx hb dX5_decade_154 rfl (lv_at hl 2 rfl) ?_
      refine fo_gets X hw fc_X5 (hm0 hE) (k := 3) (d := 2) (n2 := 2) (by decide) rfl rfl q1521 dX5_decade_155 ?_
      refine lv_bipush (v := (24 : Int32)) hx hb dX5_decade_158 (by decide) ?_
      refine lv_iload hx hb dX5_decade_160 (lv_at hl 0 rfl) ?_
      refine lv_iadd hx hb dX5_decade_162 ?_
      refine fo_iald X hw (hm2 hE) dX5_decade_163 hf (fun hf => ?_)
      refine fo_iast X hw (hm35 hE) dX5_decade_164 hf (fun st23 H locs hw hf => ?_)
      refine fb_iinc (v := (1 : Int32)) (lv' := [(4, .int (x15 + (1 : Int32))), (3, .int x12), (0, .ref (eb E + 0))]) hx hb dX5_decade_165 hl (k := 0) rfl (by decide) (by decide) rfl (fun ls hl => ?_)
      refine lv_goto (tgt := 118) hx hb dX5_decade_168 (by decide) ?_
      exact hrec17 _ _ hf _ _ _ (lv_sub hl [0, 1, 2] rfl) hw
    clear ek
    refine lp3_e (P := fun x24 x25 st26 => ∀ (H : Heap) (locs : List Loc) (ls : Array Slot), lv_has ls 6 [(4, .int x24), (3, .int x25), (0, .ref (eb E + 0)), (2, .int p2)] → fo_S E s st26 H locs → W p l e R s m args below meth c H locs 0 0 Q (F0 m 57 ls [])) (fun rec27 hrec27 x24 x25 st26 hf => ?_) G _ _ _ hf H locs ls (lv_sub hl [0, 1, 2, 4] rfl) hw
    intro H locs ls hl hw
    refine lv_iload hx hb dX5_decade_57 (lv_at hl 0 rfl) ?_
    refine lv_iload_n hx hb dX5_decade_59 rfl (lv_at hl 3 rfl) ?_
    refine fb_ige (tgt := 115) hx hb dX5_decade_60 (by decide) hf (fun hf => ?_) (fun hf => ?_)
    · exact hk14 _ _ _ _ _ (lv_sub hl [1, 2] rfl) hw hf
    refine lv_aload_n hx hb dX5_decade_63 rfl (lv_at hl 2 rfl) ?_
    refine lv_iconst (v := (0 : Int32)) hx hb dX5_decade_64 (by decide) ?_
    refine fc_Vi (rest := []) (As := [.int (0 : Int32)]) X hw hm_X5_term (lw_V q1774 q1776 qs47 q121 q1777) ⟨rfl, rfl⟩ ⟨by rw [hRf]; exact Nat.le_of_ble_eq_true rfl, by rw [hRl]; exact Nat.le_of_ble_eq_true rfl⟩ fc_X5 rfl (hm0 hE) rfl rfl hl.1 (Nat.le_of_ble_eq_true rfl) dX5_decade_65 (fun rQ stQ hQ => wX5_term l E hE (0 : Int32) st26 rQ stQ hQ) hf (fun x28 st29 H locs hw hf => ?_)
    refine lv_sipush (v := (999 : Int32)) hx hb dX5_decade_68 (by decide) ?_
    refine fb_ige (tgt := 115) hx hb dX5_decade_71 (by decide) hf (fun hf => ?_) (fun hf => ?_)
    · exact hk14 _ _ _ _ _ (lv_sub hl [1, 2] rfl) hw hf
    refine lv_aload_n hx hb dX5_decade_74 rfl (lv_at hl 2 rfl) ?_
    refine lv_bipush (v := (16 : Int32)) hx hb dX5_decade_75 (by decide) ?_
    refine fc_Vi (rest := []) (As := [.int (16 : Int32)]) X hw hm_X5_draw (lw_V q2206 q2208 qs109 q121 q2209) ⟨rfl, rfl⟩ ⟨by rw [hRf]; exact Nat.le_of_ble_eq_true rfl, by rw [hRl]; exact Nat.le_of_ble_eq_true rfl⟩ fc_X5 rfl (hm0 hE) rfl rfl hl.1 (Nat.le_of_ble_eq_true rfl) dX5_decade_77 (fun rQ stQ hQ => wX5_draw l E hE (16 : Int32) st29 rQ stQ hQ) hf (fun x30 st31 H locs hw hf => ?_)
    refine lv_istore (lv' := [(5, .int x30), (4, .int x24), (3, .int x25), (0, .ref (eb E + 0)), (2, .int p2)]) hx hb dX5_decade_80 hl (by decide) rfl (fun ls hl => ?_)
    refine lv_aload_n hx hb dX5_decade_82 rfl (lv_at hl 3 rfl) ?_
    refine lv_bipush (v := (10 : Int32)) hx hb dX5_decade_83 (by decide) ?_
    refine fc_Vi (rest := []) (As := [.int (10 : Int32)]) X hw hm_X5_draw (lw_V q2206 q2208 qs109 q121 q2209) ⟨rfl, rfl⟩ ⟨by rw [hRf]; exact Nat.le_of_ble_eq_true rfl, by rw [hRl]; exact Nat.le_of_ble_eq_true rfl⟩ fc_X5 rfl (hm0 hE) rfl rfl hl.1 (Nat.le_of_ble_eq_true rfl) dX5_decade_85 (fun rQ stQ hQ => wX5_draw l E hE (10 : Int32) st31 rQ stQ hQ) hf (fun x32 st33 H locs hw hf => ?_)
    refine lv_aload_n hx hb dX5_decade_88 rfl (lv_at hl 3 rfl) ?_
    refine lv_iconst (v := (3 : Int32)) hx hb dX5_decade_89 (by decide) ?_
    refine fc_Vi (rest := [.int x32]) (As := [.int (3 : Int32)]) X hw hm_X5_term (lw_V q1774 q1776 qs47 q121 q1777) ⟨rfl, rfl⟩ ⟨by rw [hRf]; exact Nat.le_of_ble_eq_true rfl, by rw [hRl]; exact Nat.le_of_ble_eq_true rfl⟩ fc_X5 rfl (hm0 hE) rfl rfl hl.1 (Nat.le_of_ble_eq_true rfl) dX5_decade_90 (fun rQ stQ hQ => wX5_term l E hE (3 : Int32) st33 rQ stQ hQ) hf (fun x34 st35 H locs hw hf => ?_)
    refine jn_e hf (fun k37 ek hf => ?_)
    have hk37 : ∀  (st36 : fo_St) (H : Heap) (locs : List Loc) (ls : Array Slot), lv_has ls 6 [(4, .int x24), (3, .int x25), (0, .ref (eb E + 0)), (2, .int p2)] → fo_S E s st36 H locs → k37 st36 = some (rZ, stZ) → W p l e R s m args below meth c H locs 0 0 Q (F0 m 102 ls []) := by
      intro st36 H locs ls hl hw hf
      rw [ek] at hf
      refine lv_iload_n hx hb dX5_decade_102 rfl (lv_at hl 1 rfl) ?_
      refine lv_aload_n hx hb dX5_decade_103 rfl (lv_at hl 2 rfl) ?_
      refine fc_Vi (rest := [.int x25]) (As := []) X hw hm_X5_passIt (lw_V q2039 q2041 qs89 q121 q2042) ⟨rfl, rfl⟩ ⟨by rw [hRf]; exact Nat.le_of_ble_eq_true rfl, by rw [hRl]; exact Nat.le_of_ble_eq_true rfl⟩ fc_X5 rfl (hm0 hE) rfl rfl hl.1 (Nat.le_of_ble_eq_true rfl) dX5_decade_104 (fun rQ stQ hQ => wX5_passIt l E hE G st36 rQ stQ hQ) hf (fun x38 st39 H locs hw hf => ?_)
      refine lv_iadd hx hb dX5_decade_107 ?_
      refine fo_tI hf (fun x40 hf => ?_)
      refine lv_istore_n (lv' := [(3, .int x40), (4, .int x24), (0, .ref (eb E + 0)), (2, .int p2)]) hx hb dX5_decade_108 rfl hl (by decide) rfl (fun ls hl => ?_)
      refine fb_iinc (v := (1 : Int32)) (lv' := [(4, .int (x24 + (1 : Int32))), (3, .int x40), (0, .ref (eb E + 0)), (2, .int p2)]) hx hb dX5_decade_109 hl (k := 1) rfl (by decide) (by decide) rfl (fun ls hl => ?_)
      refine lv_goto (tgt := 57) hx hb dX5_decade_112 (by decide) ?_
      exact hrec27 _ _ _ hf _ _ _ (lv_sub hl [0, 1, 2, 3] rfl) hw
    clear ek
    refine fb_ige (tgt := 102) hx hb dX5_decade_93 (by decide) hf (fun hf => ?_) (fun hf => ?_)
    · exact hk37 _ _ _ _ (lv_sub hl [1, 2, 3, 4] rfl) hw hf
    refine lv_aload_n hx hb dX5_decade_96 rfl (lv_at hl 3 rfl) ?_
    refine lv_iload hx hb dX5_decade_97 (lv_at hl 0 rfl) ?_
    refine fc_Vv (rest := []) (As := [.int x30]) X hw hm_X5_fell (lw_V q2011 q2013 qs85 q121 q2014) ⟨rfl, rfl⟩ ⟨by rw [hRf]; exact Nat.le_of_ble_eq_true rfl, by rw [hRl]; exact Nat.le_of_ble_eq_true rfl⟩ fc_X5 rfl (hm0 hE) rfl rfl hl.1 (Nat.le_of_ble_eq_true rfl) dX5_decade_99 (fun stQ hQ => wX5_fell l E hE x30 st35 stQ hQ) hf (fun st42 H locs hw hf => ?_)
    exact hk37 _ _ _ _ (lv_sub hl [1, 2, 3, 4] rfl) hw hf
  refine lv_aload_n hx hb dX5_decade_29 rfl (lv_at hl 0 rfl) ?_
  refine lv_iconst (v := (-1 : Int32)) hx hb dX5_decade_30 (by decide) ?_
  refine fc_Vi (rest := []) (As := [.int (-1 : Int32)]) X hw hm_X5_tell (lw_V q1710 q1712 qs38 q121 q1713) ⟨rfl, rfl⟩ ⟨by rw [hRf]; exact Nat.le_of_ble_eq_true rfl, by rw [hRl]; exact Nat.le_of_ble_eq_true rfl⟩ fc_X5 rfl (hm0 hE) rfl rfl hl.1 (Nat.le_of_ble_eq_true rfl) dX5_decade_31 (fun rQ stQ hQ => wX5_tell l E hE (-1 : Int32) st7 rQ stQ hQ) hf (fun x43 st44 H locs hw hf => ?_)
  exact fd_i hend hw hf dX5_decade_34

/-- ForestRoomsModel.drawn -/
def fX5_drawn (p1 : Int32) (p2 : Int32) (st0 : fo_St) : Option (Int32 × fo_St) := lt_ (si_ st0 0 0 (0 : Int32)) (fun st1 => if (gi_ st1 0 61) = 0 then some ((-1 : Int32), st1) else bd_ (fX5_isRoom p1 st1) (fun x2 st3 => if x2 = 0 then some ((-1 : Int32), st3) else bd_ (fX5_in (p2.toInt64) (0 : Int64) (1 : Int64) st3) (fun x4 st5 => if x4 = 0 then some ((-1 : Int32), st5) else ck_ (fo_in (((2 : Int32) * p1) + p2) 32) (some ((gi_ st5 35 (((2 : Int32) * p1) + p2).toNatClampNeg), st5)))))
theorem hm_X5_drawn : fo_M yX5_drawn 2 := ⟨by decide +kernel, by decide +kernel, by decide +kernel, by decide +kernel⟩
set_option maxHeartbeats 4000000 in
theorem wX5_drawn (l : Launch) (E : fo_E) (hE : ∀ n, et E n = tM_ n) (p1 : Int32) (p2 : Int32) (st0 : fo_St) (rZ : Int32) (stZ : fo_St) (hf : fX5_drawn p1 p2 st0 = some (rZ, stZ)) : CTi l E yX5_drawn (ws_ yX5_drawn cX5_drawn 3 (some .int)) ({ frames := 2, cells := 0, slots := 0, locals := 45 }) [.ref (eb E + 0), .int p1, .int p2] st0 rZ stZ := by
  refine fe_i hm_X5_drawn (Nat.le_of_ble_eq_true rfl) (fun p e R s m args below meth c Q hRf hRl X hend ls hl hw => ?_)
  have hx := X.1.1
  have hb := X.1.2.1
  have hl : lv_has ls 3 [(0, .ref (eb E + 0)), (1, .int p1), (2, .int p2)] := hl
  unfold fX5_drawn at hf
  generalize s.heap = H at hw ⊢
  generalize ([] : List Loc) = locs at hw ⊢
  refine lv_aload_n hx hb dX5_drawn_0 rfl (lv_at hl 0 rfl) ?_
  refine lv_iconst (v := (0 : Int32)) hx hb dX5_drawn_1 (by decide) ?_
  refine fo_puti X hw fc_X5 (hm0 hE) (k := 0) (by decide) rfl rfl q1518 ⟨rfl, rfl⟩ dX5_drawn_2 hf (fun st1 H locs hw hf => ?_)
  refine lv_aload_n hx hb dX5_drawn_5 rfl (lv_at hl 0 rfl) ?_
  refine fo_geti X hw fc_X5 (hm0 hE) (k := 61) (by decide) rfl q1579 dX5_drawn_6 ?_
  refine fb_zeq (tgt := 42) hx hb dX5_drawn_9 (by decide) hf (fun hf => ?_) (fun hf => ?_)
  · refine lv_iconst (v := (-1 : Int32)) hx hb dX5_drawn_42 (by decide) ?_
    exact fd_i hend hw hf dX5_drawn_43
  refine lv_iload_n hx hb dX5_drawn_12 rfl (lv_at hl 1 rfl) ?_
  refine fc_Si (rest := []) (As := [.int p1]) X hw hm_X5_isRoom (lw_S q1737 q1738 q121 q1739) ⟨rfl, rfl⟩ ⟨by rw [hRf]; exact Nat.le_of_ble_eq_true rfl, by rw [hRl]; exact Nat.le_of_ble_eq_true rfl⟩ rfl rfl hl.1 (Nat.le_of_ble_eq_true rfl) dX5_drawn_13 (fun rQ stQ hQ => wX5_isRoom l E hE p1 st1 rQ stQ hQ) hf (fun x2 st3 H locs hw hf => ?_)
  refine fb_zeq (tgt := 42) hx hb dX5_drawn_16 (by decide) hf (fun hf => ?_) (fun hf => ?_)
  · refine lv_iconst (v := (-1 : Int32)) hx hb dX5_drawn_42 (by decide) ?_
    exact fd_i hend hw hf dX5_drawn_43
  refine lv_iload_n hx hb dX5_drawn_19 rfl (lv_at hl 2 rfl) ?_
  refine lv_i2l (v := p2.toInt64) hx hb dX5_drawn_20 rfl ?_
  refine lv_lconst (v := (0 : Int64)) hx hb dX5_drawn_21 rfl ?_
  refine lv_lconst (v := (1 : Int64)) hx hb dX5_drawn_22 rfl ?_
  refine fc_Si (rest := []) (As := [.long p2.toInt64, .long (0 : Int64), .long (1 : Int64)]) X hw hm_X5_in (lw_S q1722 q1723 q121 q1724) ⟨rfl, rfl⟩ ⟨by rw [hRf]; exact Nat.le_of_ble_eq_true rfl, by rw [hRl]; exact Nat.le_of_ble_eq_true rfl⟩ rfl rfl hl.1 (Nat.le_of_ble_eq_true rfl) dX5_drawn_23 (fun rQ stQ hQ => wX5_in l E hE (p2.toInt64) (0 : Int64) (1 : Int64) st3 rQ stQ hQ) hf (fun x4 st5 H locs hw hf => ?_)
  refine fb_zeq (tgt := 42) hx hb dX5_drawn_26 (by decide) hf (fun hf => ?_) (fun hf => ?_)
  · refine lv_iconst (v := (-1 : Int32)) hx hb dX5_drawn_42 (by decide) ?_
    exact fd_i hend hw hf dX5_drawn_43
  refine lv_aload_n hx hb dX5_drawn_29 rfl (lv_at hl 0 rfl) ?_
  refine fo_gets X hw fc_X5 (hm0 hE) (k := 60) (d := 35) (n2 := 35) (by decide) rfl rfl q1578 dX5_drawn_30 ?_
  refine lv_iconst (v := (2 : Int32)) hx hb dX5_drawn_33 (by decide) ?_
  refine lv_iload_n hx hb dX5_drawn_34 rfl (lv_at hl 1 rfl) ?_
  refine lv_imul hx hb dX5_drawn_35 ?_
  refine lv_iload_n hx hb dX5_drawn_36 rfl (lv_at hl 2 rfl) ?_
  refine lv_iadd hx hb dX5_drawn_37 ?_
  refine fo_iald X hw (hm35 hE) dX5_drawn_38 hf (fun hf => ?_)
  refine lv_goto (tgt := 43) hx hb dX5_drawn_39 (by decide) ?_
  exact fd_i hend hw hf dX5_drawn_43

/-- ForestRoomsModel.count -/
def fX5_count (G : Nat) (p1 : Int32) (st0 : fo_St) : Option (Int32 × fo_St) := lt_ (si_ st0 0 0 (0 : Int32)) (fun st1 => if p1 = (0 : Int32) then bd_ (fX5_trees G st1) (fun x2 st3 => some (x2, st3)) else if p1 = (1 : Int32) then bd_ (fX5_housed G st1) (fun x4 st5 => some (x4, st5)) else if p1 = (2 : Int32) then bd_ (fX5_lostRooms G st1) (fun x6 st7 => some (x6, st7)) else if p1 = (3 : Int32) then some ((gi_ st1 2 (0 : Int32).toNatClampNeg), st1) else if p1 = (4 : Int32) then some ((gi_ st1 2 (1 : Int32).toNatClampNeg), st1) else if p1 = (5 : Int32) then some ((gi_ st1 0 8), st1) else if p1 = (6 : Int32) then some ((gi_ st1 0 13), st1) else if p1 = (7 : Int32) then some ((gi_ st1 1 (1 : Int32).toNatClampNeg), st1) else if p1 = (8 : Int32) then some ((gi_ st1 1 (2 : Int32).toNatClampNeg), st1) else if p1 = (9 : Int32) then some ((gi_ st1 1 (3 : Int32).toNatClampNeg), st1) else if p1 = (10 : Int32) then some ((gi_ st1 1 (5 : Int32).toNatClampNeg), st1) else if p1 = (11 : Int32) then some ((gi_ st1 1 (6 : Int32).toNatClampNeg), st1) else if p1 = (12 : Int32) then some ((gi_ st1 2 (2 : Int32).toNatClampNeg), st1) else bd_ (fX5_in (p1.toInt64) (13 : Int64) (17 : Int64) st1) (fun x8 st9 => if x8 = 0 then some ((-1 : Int32), st9) else ck_ (fo_in (((3 : Int32) + p1) - (13 : Int32)) 5540) (some ((gi_ st9 2 (((3 : Int32) + p1) - (13 : Int32)).toNatClampNeg), st9))))
theorem hm_X5_count : fo_M yX5_count 1 := ⟨by decide +kernel, by decide +kernel, by decide +kernel, by decide +kernel⟩
set_option maxHeartbeats 4000000 in
theorem wX5_count (l : Launch) (E : fo_E) (hE : ∀ n, et E n = tM_ n) (G : Nat) (p1 : Int32) (st0 : fo_St) (rZ : Int32) (stZ : fo_St) (hf : fX5_count G p1 st0 = some (rZ, stZ)) : CTi l E yX5_count (ws_ yX5_count cX5_count 2 (some .int)) ({ frames := 2, cells := 0, slots := 0, locals := 43 }) [.ref (eb E + 0), .int p1] st0 rZ stZ := by
  refine fe_i hm_X5_count (Nat.le_of_ble_eq_true rfl) (fun p e R s m args below meth c Q hRf hRl X hend ls hl hw => ?_)
  have hx := X.1.1
  have hb := X.1.2.1
  have hl : lv_has ls 2 [(0, .ref (eb E + 0)), (1, .int p1)] := hl
  unfold fX5_count at hf
  generalize s.heap = H at hw ⊢
  generalize ([] : List Loc) = locs at hw ⊢
  refine lv_aload_n hx hb dX5_count_0 rfl (lv_at hl 0 rfl) ?_
  refine lv_iconst (v := (0 : Int32)) hx hb dX5_count_1 (by decide) ?_
  refine fo_puti X hw fc_X5 (hm0 hE) (k := 0) (by decide) rfl rfl q1518 ⟨rfl, rfl⟩ dX5_count_2 hf (fun st1 H locs hw hf => ?_)
  refine lv_iload_n hx hb dX5_count_5 rfl (lv_at hl 1 rfl) ?_
  refine sw_e hf (fun e0 hf => ?_) (fun n0 hf => ?_)
  · refine lv_tableIn (tgt := 72) hx hb dX5_count_6 (by rw [e0]; decide) (by rw [e0]; decide) (off := 66) (by rw [e0]; decide) (by decide) ?_
    refine lv_aload_n hx hb dX5_count_72 rfl (lv_at hl 0 rfl) ?_
    refine fc_Vi (rest := []) (As := []) X hw hm_X5_trees (lw_V q2182 q2184 qs105 q121 q2185) ⟨rfl, rfl⟩ ⟨by rw [hRf]; exact Nat.le_of_ble_eq_true rfl, by rw [hRl]; exact Nat.le_of_ble_eq_true rfl⟩ fc_X5 rfl (hm0 hE) rfl rfl hl.1 (Nat.le_of_ble_eq_true rfl) dX5_count_73 (fun rQ stQ hQ => wX5_trees l E hE G st1 rQ stQ hQ) hf (fun x2 st3 H locs hw hf => ?_)
    exact fd_i hend hw hf dX5_count_76
  refine sw_e hf (fun e0 hf => ?_) (fun n1 hf => ?_)
  · refine lv_tableIn (tgt := 77) hx hb dX5_count_6 (by rw [e0]; decide) (by rw [e0]; decide) (off := 71) (by rw [e0]; decide) (by decide) ?_
    refine lv_aload_n hx hb dX5_count_77 rfl (lv_at hl 0 rfl) ?_
    refine fc_Vi (rest := []) (As := []) X hw hm_X5_housed (lw_V q2055 q2057 qs91 q121 q2058) ⟨rfl, rfl⟩ ⟨by rw [hRf]; exact Nat.le_of_ble_eq_true rfl, by rw [hRl]; exact Nat.le_of_ble_eq_true rfl⟩ fc_X5 rfl (hm0 hE) rfl rfl hl.1 (Nat.le_of_ble_eq_true rfl) dX5_count_78 (fun rQ stQ hQ => wX5_housed l E hE G st1 rQ stQ hQ) hf (fun x4 st5 H locs hw hf => ?_)
    exact fd_i hend hw hf dX5_count_81
  refine sw_e hf (fun e0 hf => ?_) (fun n2 hf => ?_)
  · refine lv_tableIn (tgt := 82) hx hb dX5_count_6 (by rw [e0]; decide) (by rw [e0]; decide) (off := 76) (by rw [e0]; decide) (by decide) ?_
    refine lv_aload_n hx hb dX5_count_82 rfl (lv_at hl 0 rfl) ?_
    refine fc_Vi (rest := []) (As := []) X hw hm_X5_lostRooms (lw_V q2063 q2065 qs92 q121 q2066) ⟨rfl, rfl⟩ ⟨by rw [hRf]; exact Nat.le_of_ble_eq_true rfl, by rw [hRl]; exact Nat.le_of_ble_eq_true rfl⟩ fc_X5 rfl (hm0 hE) rfl rfl hl.1 (Nat.le_of_ble_eq_true rfl) dX5_count_83 (fun rQ stQ hQ => wX5_lostRooms l E hE G st1 rQ stQ hQ) hf (fun x6 st7 H locs hw hf => ?_)
    exact fd_i hend hw hf dX5_count_86
  refine sw_e hf (fun e0 hf => ?_) (fun n3 hf => ?_)
  · refine lv_tableIn (tgt := 87) hx hb dX5_count_6 (by rw [e0]; decide) (by rw [e0]; decide) (off := 81) (by rw [e0]; decide) (by decide) ?_
    refine lv_aload_n hx hb dX5_count_87 rfl (lv_at hl 0 rfl) ?_
    refine fo_gets X hw fc_X5 (hm0 hE) (k := 3) (d := 2) (n2 := 2) (by decide) rfl rfl q1521 dX5_count_88 ?_
    refine lv_iconst (v := (0 : Int32)) hx hb dX5_count_91 (by decide) ?_
    refine fo_ialdK X hw (hm2 hE) dX5_count_92 (by decide) ?_
    exact fd_i hend hw hf dX5_count_93
  refine sw_e hf (fun e0 hf => ?_) (fun n4 hf => ?_)
  · refine lv_tableIn (tgt := 94) hx hb dX5_count_6 (by rw [e0]; decide) (by rw [e0]; decide) (off := 88) (by rw [e0]; decide) (by decide) ?_
    refine lv_aload_n hx hb dX5_count_94 rfl (lv_at hl 0 rfl) ?_
    refine fo_gets X hw fc_X5 (hm0 hE) (k := 3) (d := 2) (n2 := 2) (by decide) rfl rfl q1521 dX5_count_95 ?_
    refine lv_iconst (v := (1 : Int32)) hx hb dX5_count_98 (by decide) ?_
    refine fo_ialdK X hw (hm2 hE) dX5_count_99 (by decide) ?_
    exact fd_i hend hw hf dX5_count_100
  refine sw_e hf (fun e0 hf => ?_) (fun n5 hf => ?_)
  · refine lv_tableIn (tgt := 101) hx hb dX5_count_6 (by rw [e0]; decide) (by rw [e0]; decide) (off := 95) (by rw [e0]; decide) (by decide) ?_
    refine lv_aload_n hx hb dX5_count_101 rfl (lv_at hl 0 rfl) ?_
    refine fo_geti X hw fc_X5 (hm0 hE) (k := 8) (by decide) rfl q1526 dX5_count_102 ?_
    exact fd_i hend hw hf dX5_count_105
  refine sw_e hf (fun e0 hf => ?_) (fun n6 hf => ?_)
  · refine lv_tableIn (tgt := 106) hx hb dX5_count_6 (by rw [e0]; decide) (by rw [e0]; decide) (off := 100) (by rw [e0]; decide) (by decide) ?_
    refine lv_aload_n hx hb dX5_count_106 rfl (lv_at hl 0 rfl) ?_
    refine fo_geti X hw fc_X5 (hm0 hE) (k := 13) (by decide) rfl q1531 dX5_count_107 ?_
    exact fd_i hend hw hf dX5_count_110
  refine sw_e hf (fun e0 hf => ?_) (fun n7 hf => ?_)
  · refine lv_tableIn (tgt := 111) hx hb dX5_count_6 (by rw [e0]; decide) (by rw [e0]; decide) (off := 105) (by rw [e0]; decide) (by decide) ?_
    refine lv_aload_n hx hb dX5_count_111 rfl (lv_at hl 0 rfl) ?_
    refine fo_gets X hw fc_X5 (hm0 hE) (k := 2) (d := 1) (n2 := 1) (by decide) rfl rfl q1520 dX5_count_112 ?_
    refine lv_iconst (v := (1 : Int32)) hx hb dX5_count_115 (by decide) ?_
    refine fo_ialdK X hw (hm1 hE) dX5_count_116 (by decide) ?_
    exact fd_i hend hw hf dX5_count_117
  refine sw_e hf (fun e0 hf => ?_) (fun n8 hf => ?_)
  · refine lv_tableIn (tgt := 118) hx hb dX5_count_6 (by rw [e0]; decide) (by rw [e0]; decide) (off := 112) (by rw [e0]; decide) (by decide) ?_
    refine lv_aload_n hx hb dX5_count_118 rfl (lv_at hl 0 rfl) ?_
    refine fo_gets X hw fc_X5 (hm0 hE) (k := 2) (d := 1) (n2 := 1) (by decide) rfl rfl q1520 dX5_count_119 ?_
    refine lv_iconst (v := (2 : Int32)) hx hb dX5_count_122 (by decide) ?_
    refine fo_ialdK X hw (hm1 hE) dX5_count_123 (by decide) ?_
    exact fd_i hend hw hf dX5_count_124
  refine sw_e hf (fun e0 hf => ?_) (fun n9 hf => ?_)
  · refine lv_tableIn (tgt := 125) hx hb dX5_count_6 (by rw [e0]; decide) (by rw [e0]; decide) (off := 119) (by rw [e0]; decide) (by decide) ?_
    refine lv_aload_n hx hb dX5_count_125 rfl (lv_at hl 0 rfl) ?_
    refine fo_gets X hw fc_X5 (hm0 hE) (k := 2) (d := 1) (n2 := 1) (by decide) rfl rfl q1520 dX5_count_126 ?_
    refine lv_iconst (v := (3 : Int32)) hx hb dX5_count_129 (by decide) ?_
    refine fo_ialdK X hw (hm1 hE) dX5_count_130 (by decide) ?_
    exact fd_i hend hw hf dX5_count_131
  refine sw_e hf (fun e0 hf => ?_) (fun n10 hf => ?_)
  · refine lv_tableIn (tgt := 132) hx hb dX5_count_6 (by rw [e0]; decide) (by rw [e0]; decide) (off := 126) (by rw [e0]; decide) (by decide) ?_
    refine lv_aload_n hx hb dX5_count_132 rfl (lv_at hl 0 rfl) ?_
    refine fo_gets X hw fc_X5 (hm0 hE) (k := 2) (d := 1) (n2 := 1) (by decide) rfl rfl q1520 dX5_count_133 ?_
    refine lv_iconst (v := (5 : Int32)) hx hb dX5_count_136 (by decide) ?_
    refine fo_ialdK X hw (hm1 hE) dX5_count_137 (by decide) ?_
    exact fd_i hend hw hf dX5_count_138
  refine sw_e hf (fun e0 hf => ?_) (fun n11 hf => ?_)
  · refine lv_tableIn (tgt := 139) hx hb dX5_count_6 (by rw [e0]; decide) (by rw [e0]; decide) (off := 133) (by rw [e0]; decide) (by decide) ?_
    refine lv_aload_n hx hb dX5_count_139 rfl (lv_at hl 0 rfl) ?_
    refine fo_gets X hw fc_X5 (hm0 hE) (k := 2) (d := 1) (n2 := 1) (by decide) rfl rfl q1520 dX5_count_140 ?_
    refine lv_bipush (v := (6 : Int32)) hx hb dX5_count_143 (by decide) ?_
    refine fo_ialdK X hw (hm1 hE) dX5_count_145 (by decide) ?_
    exact fd_i hend hw hf dX5_count_146
  refine sw_e hf (fun e0 hf => ?_) (fun n12 hf => ?_)
  · refine lv_tableIn (tgt := 147) hx hb dX5_count_6 (by rw [e0]; decide) (by rw [e0]; decide) (off := 141) (by rw [e0]; decide) (by decide) ?_
    refine lv_aload_n hx hb dX5_count_147 rfl (lv_at hl 0 rfl) ?_
    refine fo_gets X hw fc_X5 (hm0 hE) (k := 3) (d := 2) (n2 := 2) (by decide) rfl rfl q1521 dX5_count_148 ?_
    refine lv_iconst (v := (2 : Int32)) hx hb dX5_count_151 (by decide) ?_
    refine fo_ialdK X hw (hm2 hE) dX5_count_152 (by decide) ?_
    exact fd_i hend hw hf dX5_count_153
  refine lv_tableOut (tgt := 154) hx hb dX5_count_6 (by have g0 := lv_neT n0 (a := 0) (by decide); have g1 := lv_neT n1 (a := 1) (by decide); have g2 := lv_neT n2 (a := 2) (by decide); have g3 := lv_neT n3 (a := 3) (by decide); have g4 := lv_neT n4 (a := 4) (by decide); have g5 := lv_neT n5 (a := 5) (by decide); have g6 := lv_neT n6 (a := 6) (by decide); have g7 := lv_neT n7 (a := 7) (by decide); have g8 := lv_neT n8 (a := 8) (by decide); have g9 := lv_neT n9 (a := 9) (by decide); have g10 := lv_neT n10 (a := 10) (by decide); have g11 := lv_neT n11 (a := 11) (by decide); have g12 := lv_neT n12 (a := 12) (by decide); omega) (by decide) ?_
  refine lv_iload_n hx hb dX5_count_154 rfl (lv_at hl 1 rfl) ?_
  refine lv_i2l (v := p1.toInt64) hx hb dX5_count_155 rfl ?_
  refine lv_ldc2 (v := (13 : Int64)) hx hb X.1.2.2.2.1 (X.1.2.2.2.2 _ q2221) dX5_count_156 ?_
  refine lv_ldc2 (v := (17 : Int64)) hx hb X.1.2.2.2.1 (X.1.2.2.2.2 _ q2222) dX5_count_159 ?_
  refine fc_Si (rest := []) (As := [.long p1.toInt64, .long (13 : Int64), .long (17 : Int64)]) X hw hm_X5_in (lw_S q1722 q1723 q121 q1724) ⟨rfl, rfl⟩ ⟨by rw [hRf]; exact Nat.le_of_ble_eq_true rfl, by rw [hRl]; exact Nat.le_of_ble_eq_true rfl⟩ rfl rfl hl.1 (Nat.le_of_ble_eq_true rfl) dX5_count_162 (fun rQ stQ hQ => wX5_in l E hE (p1.toInt64) (13 : Int64) (17 : Int64) st1 rQ stQ hQ) hf (fun x8 st9 H locs hw hf => ?_)
  refine fb_zeq (tgt := 182) hx hb dX5_count_165 (by decide) hf (fun hf => ?_) (fun hf => ?_)
  · refine lv_iconst (v := (-1 : Int32)) hx hb dX5_count_182 (by decide) ?_
    exact fd_i hend hw hf dX5_count_183
  refine lv_aload_n hx hb dX5_count_168 rfl (lv_at hl 0 rfl) ?_
  refine fo_gets X hw fc_X5 (hm0 hE) (k := 3) (d := 2) (n2 := 2) (by decide) rfl rfl q1521 dX5_count_169 ?_
  refine lv_iconst (v := (3 : Int32)) hx hb dX5_count_172 (by decide) ?_
  refine lv_iload_n hx hb dX5_count_173 rfl (lv_at hl 1 rfl) ?_
  refine lv_iadd hx hb dX5_count_174 ?_
  refine lv_bipush (v := (13 : Int32)) hx hb dX5_count_175 (by decide) ?_
  refine lv_isub hx hb dX5_count_177 ?_
  refine fo_iald X hw (hm2 hE) dX5_count_178 hf (fun hf => ?_)
  refine lv_goto (tgt := 183) hx hb dX5_count_179 (by decide) ?_
  exact fd_i hend hw hf dX5_count_183

/-- ForestRoomsModel.status -/
def fX5_status (st0 : fo_St) : Option (Int32 × fo_St) := lt_ (si_ st0 0 0 (0 : Int32)) (fun st1 => some ((gi_ st1 0 1), st1))
theorem hm_X5_status : fo_M yX5_status 0 := ⟨by decide +kernel, by decide +kernel, by decide +kernel, by decide +kernel⟩
set_option maxHeartbeats 4000000 in
theorem wX5_status (l : Launch) (E : fo_E) (hE : ∀ n, et E n = tM_ n) (st0 : fo_St) (rZ : Int32) (stZ : fo_St) (hf : fX5_status st0 = some (rZ, stZ)) : CTi l E yX5_status (ws_ yX5_status cX5_status 1 (some .int)) ({ frames := 0, cells := 0, slots := 0, locals := 0 }) [.ref (eb E + 0)] st0 rZ stZ := by
  refine fe_i hm_X5_status (Nat.le_of_ble_eq_true rfl) (fun p e R s m args below meth c Q hRf hRl X hend ls hl hw => ?_)
  have hx := X.1.1
  have hb := X.1.2.1
  have hl : lv_has ls 1 [(0, .ref (eb E + 0))] := hl
  unfold fX5_status at hf
  generalize s.heap = H at hw ⊢
  generalize ([] : List Loc) = locs at hw ⊢
  refine lv_aload_n hx hb dX5_status_0 rfl (lv_at hl 0 rfl) ?_
  refine lv_iconst (v := (0 : Int32)) hx hb dX5_status_1 (by decide) ?_
  refine fo_puti X hw fc_X5 (hm0 hE) (k := 0) (by decide) rfl rfl q1518 ⟨rfl, rfl⟩ dX5_status_2 hf (fun st1 H locs hw hf => ?_)
  refine lv_aload_n hx hb dX5_status_5 rfl (lv_at hl 0 rfl) ?_
  refine fo_geti X hw fc_X5 (hm0 hE) (k := 1) (by decide) rfl q1519 dX5_status_6 ?_
  exact fd_i hend hw hf dX5_status_9

