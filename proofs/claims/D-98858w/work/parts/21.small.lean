/-! PLAIN 2: small methods of both sides -/
set_option maxRecDepth 100000
theorem m_in (p lo hi : Int64) (st : fo_St) : fX5_in p lo hi st = some (bI (lo.toInt ≤ p.toInt ∧ p.toInt ≤ hi.toInt), st) := by
  unfold fX5_in
  by_cases h1 : p < lo
  · rw [if_pos h1, bI_f (by have := Int64.lt_iff_toInt_lt.mp h1; omega)]
  rw [if_neg h1]
  have g1 := mt Int64.lt_iff_toInt_lt.mpr h1
  by_cases h2 : hi < p
  · rw [if_pos h2, bI_f (by have := Int64.lt_iff_toInt_lt.mp h2; omega)]
  have g2 := mt Int64.lt_iff_toInt_lt.mpr h2
  rw [if_neg h2, bI_t ⟨by omega, by omega⟩]
theorem x_in (p lo hi : Int32) (st : fo_St) : fX0_in p lo hi st = some (bI (lo.toInt ≤ p.toInt ∧ p.toInt ≤ hi.toInt), st) := by
  unfold fX0_in
  by_cases h1 : p < lo
  · rw [if_pos h1, bI_f (by have := Int32.lt_iff_toInt_lt.mp h1; omega)]
  rw [if_neg h1]
  have g1 := mt Int32.lt_iff_toInt_lt.mpr h1
  by_cases h2 : hi < p
  · rw [if_pos h2, bI_f (by have := Int32.lt_iff_toInt_lt.mp h2; omega)]
  have g2 := mt Int32.lt_iff_toInt_lt.mpr h2
  rw [if_neg h2, bI_t ⟨by omega, by omega⟩]
theorem m_isRoom (p : Int32) (st : fo_St) : fX5_isRoom p st = some (bI (0 ≤ p.toInt ∧ p.toInt ≤ 15), st) := by
  unfold fX5_isRoom
  rw [m_in, bd_some, ck_bI, Int32.toInt_toInt64]
  rfl
theorem x_isRoom (p : Int32) (st : fo_St) : fX0_isRoom p st = some (bI (0 ≤ p.toInt ∧ p.toInt ≤ 15), st) := by
  unfold fX0_isRoom
  rw [x_in, bd_some, ck_bI]
  rfl
theorem x_isKind (p : Int32) (st : fo_St) : fX0_isKind p st = some (bI (0 ≤ p.toInt ∧ p.toInt ≤ 5), st) := by
  unfold fX0_isKind
  rw [x_in, bd_some, ck_bI]
  rfl
theorem x_isFamily (p : Int32) (st : fo_St) : fX0_isFamily p st = some (bI (0 ≤ p.toInt ∧ p.toInt ≤ 5), st) := by
  unfold fX0_isFamily
  rw [x_in, bd_some, ck_bI]
  rfl
theorem m_tell_ok {p : Int32} (h : 0 ≤ p.toInt) (st : fo_St) : fX5_tell p st = some (p, si_ st 0 1 0) := by
  have h1 : 0 ≤ p := Int32.le_iff_toInt_le.mpr h
  unfold fX5_tell
  simp only [jn_def, if_pos h1, lt_def]
/-- a refusal on either side -/
def nox_ (st : fo_St) (v : Int32) (k : Nat) : fo_St := si_ (si_ st 0 0 v) 1 k (gi_ st 1 k + 1)
def nom_ (st : fo_St) (v : Int32) (k : Nat) : fo_St := si_ (si_ st 0 1 v) 1 k (gi_ st 1 k + 1)
theorem m_tell_1 (st : fo_St) : fX5_tell (-1) st = some (-1, nom_ st (-1) 1) := rfl
theorem m_tell_2 (st : fo_St) : fX5_tell (-2) st = some (-2, nom_ st (-2) 2) := rfl
theorem m_tell_3 (st : fo_St) : fX5_tell (-3) st = some (-3, nom_ st (-3) 3) := rfl
theorem m_tell_5 (st : fo_St) : fX5_tell (-5) st = some (-5, nom_ st (-5) 5) := rfl
theorem m_tell_6 (st : fo_St) : fX5_tell (-6) st = some (-6, nom_ st (-6) 6) := rfl
theorem x_ref_1 (st : fo_St) : fX0_refuse (-1) st = some (-1, nox_ st (-1) 1) := rfl
theorem x_ref_2 (st : fo_St) : fX0_refuse (-2) st = some (-2, nox_ st (-2) 2) := rfl
theorem x_ref_3 (st : fo_St) : fX0_refuse (-3) st = some (-3, nox_ st (-3) 3) := rfl
theorem x_ref_5 (st : fo_St) : fX0_refuse (-5) st = some (-5, nox_ st (-5) 5) := rfl
theorem x_ref_6 (st : fo_St) : fX0_refuse (-6) st = some (-6, nox_ st (-6) 6) := rfl
theorem x_done (p : Int32) (st : fo_St) : fX0_done p st = some (p, si_ st 0 0 0) := rfl
theorem x_settled (p : Int32) (st : fo_St) : fX0_settled p st = some (p, si_ (si_ st 0 15 0) 0 0 0) := rfl
theorem x_table (st : fo_St) : fX0_table st = some (3, st) := rfl
theorem m_settled_ok {p : Int32} (h : 0 ≤ p.toInt) (st : fo_St) : fX5_settled p st = some (p, si_ (si_ st 0 8 0) 0 1 0) := by
  have h1 : 0 ≤ p := Int32.le_iff_toInt_le.mpr h
  unfold fX5_settled
  simp only [jn_def, if_pos h1, lt_def, m_tell_ok h, bd_some]
theorem x_doneOr_ok {p : Int32} (h : 0 ≤ p.toInt) (st : fo_St) : fX0_doneOr p st = some (p, si_ st 0 0 0) := by
  have h1 : 0 ≤ p := Int32.le_iff_toInt_le.mpr h
  unfold fX0_doneOr
  rw [if_pos h1, x_done, bd_some]
theorem m_change {k : Nat} (hk : k < 5540) (v : Int32) (st : fo_St) : fX5_change (nI k) v st = some (gi_ st 2 k, si_ (si_ st 2 k v) 0 1 0) := by
  unfold fX5_change
  simp (disch := omega) only [lt_def, lI_def, lL_def, jn_def, bd_some, bv_some, ck_true, rn_some, ck_in, ck_lit, ck_bI, ck_dec, lit_add, add_lit, lit_mul, nI_mulN, nI_add, nI_1, sub_lit, nI_sub, nI_c, lit_c, le_nI, nI_leL, nI_le', nI_lt', nI_eq', lt_lit, lt_litL, eq_lit, ite_t, ite_f]
theorem m_term {w : Nat} (hw : w < 5) (st : fo_St) : fX5_term (nI w) st = some (gi_ st 2 (3 + w), st) := by
  unfold fX5_term
  simp (disch := omega) only [lt_def, lI_def, lL_def, jn_def, bd_some, bv_some, ck_true, rn_some, ck_in, ck_lit, ck_bI, ck_dec, lit_add, add_lit, lit_mul, nI_mulN, nI_add, nI_1, sub_lit, nI_sub, nI_c, lit_c, le_nI, nI_leL, nI_le', nI_lt', nI_eq', lt_lit, lt_litL, eq_lit, ite_t, ite_f]
theorem x_term {w : Nat} (hw : w < 5) (st : fo_St) : fX0_term (nI w) st = some (gi_ st 13 w, st) := by
  unfold fX0_term
  simp (disch := omega) only [lt_def, lI_def, lL_def, jn_def, bd_some, bv_some, ck_true, rn_some, ck_in, ck_lit, ck_bI, ck_dec, lit_add, add_lit, lit_mul, nI_mulN, nI_add, nI_1, sub_lit, nI_sub, nI_c, lit_c, le_nI, nI_leL, nI_le', nI_lt', nI_eq', lt_lit, lt_litL, eq_lit, ite_t, ite_f]
theorem b_not {c : Prop} [Decidable c] {s : fo_St} : (if c then some ((0 : Int32), s) else some ((1 : Int32), s)) = some (bI (¬ c), s) := by
  by_cases h : c
  · rw [if_pos h, bI_f (fun q => q h)]
  · rw [if_neg h, bI_t h]
theorem b_yes {c : Prop} [Decidable c] {s : fo_St} : (if c then some ((1 : Int32), s) else some ((0 : Int32), s)) = some (bI c, s) := by
  by_cases h : c
  · rw [if_pos h, bI_t h]
  · rw [if_neg h, bI_f h]
theorem m_isTree {r : Nat} (hr : r < 16) (st : fo_St) : fX5_isTree (nI r) st = some (bI (¬ gi_ st 2 (8 + r) = -1), st) := by
  unfold fX5_isTree
  simp (disch := omega) only [lt_def, lI_def, lL_def, jn_def, bd_some, bv_some, ck_true, rn_some, ck_in, ck_lit, ck_bI, ck_dec, lit_add, add_lit, lit_mul, nI_mulN, nI_add, nI_1, sub_lit, nI_sub, nI_c, lit_c, le_nI, nI_leL, nI_le', nI_lt', nI_eq', lt_lit, lt_litL, eq_lit, ite_t, ite_f, b_not]
theorem x_isTree {t r : Nat} (hr : r < 16) (st : fo_St) : fX2_isTree t (nI r) st = some (bI (¬ gi_ st (t + 1) r = -1), st) := by
  unfold fX2_isTree
  simp (disch := omega) only [lt_def, lI_def, lL_def, jn_def, bd_some, bv_some, ck_true, rn_some, ck_in, ck_lit, ck_bI, ck_dec, lit_add, add_lit, lit_mul, nI_mulN, nI_add, nI_1, sub_lit, nI_sub, nI_c, lit_c, le_nI, nI_leL, nI_le', nI_lt', nI_eq', lt_lit, lt_litL, eq_lit, ite_t, ite_f, b_not]
theorem m_isLost {r : Nat} (hr : r < 16) (st : fo_St) : fX5_isLost (nI r) st = some (bI (¬ gi_ st 2 (24 + r) ≤ 10 * gi_ st 2 (88 + r)), st) := by
  unfold fX5_isLost
  simp (disch := omega) only [lt_def, lI_def, lL_def, jn_def, bd_some, bv_some, ck_true, rn_some, ck_in, ck_lit, ck_bI, ck_dec, lit_add, add_lit, lit_mul, nI_mulN, nI_add, nI_1, sub_lit, nI_sub, nI_c, lit_c, le_nI, nI_leL, nI_le', nI_lt', nI_eq', lt_lit, lt_litL, eq_lit, ite_t, ite_f, b_not]
theorem x_isLost {t r : Nat} (hr : r < 16) (st : fo_St) : fX1_isLost t (nI r) st = some (bI (¬ gi_ st (t + 2) r ≤ 10 * gi_ st 9 r), st) := by
  unfold fX1_isLost
  simp (disch := omega) only [lt_def, lI_def, lL_def, jn_def, bd_some, bv_some, ck_true, rn_some, ck_in, ck_lit, ck_bI, ck_dec, lit_add, add_lit, lit_mul, nI_mulN, nI_add, nI_1, sub_lit, nI_sub, nI_c, lit_c, le_nI, nI_leL, nI_le', nI_lt', nI_eq', lt_lit, lt_litL, eq_lit, ite_t, ite_f, b_not]
theorem m_fell {r : Nat} (hr : r < 16) (st : fo_St) : fX5_fell (nI r) st = some (si_ (si_ st 2 (8 + r) (-1)) 2 (24 + r) 0) := by
  unfold fX5_fell
  simp (disch := omega) only [lt_def, lI_def, lL_def, jn_def, bd_some, bv_some, ck_true, rn_some, ck_in, ck_lit, ck_bI, ck_dec, lit_add, add_lit, lit_mul, nI_mulN, nI_add, nI_1, sub_lit, nI_sub, nI_c, lit_c, le_nI, nI_leL, nI_le', nI_lt', nI_eq', lt_lit, lt_litL, eq_lit, ite_t, ite_f]
theorem x_falls {t r : Nat} (hr : r < 16) (st : fo_St) : fX2_falls t (nI r) st = some (si_ (si_ st (t + 1) r (-1)) (t + 2) r 0) := by
  unfold fX2_falls
  simp (disch := omega) only [lt_def, lI_def, lL_def, jn_def, bd_some, bv_some, ck_true, rn_some, ck_in, ck_lit, ck_bI, ck_dec, lit_add, add_lit, lit_mul, nI_mulN, nI_add, nI_1, sub_lit, nI_sub, nI_c, lit_c, le_nI, nI_leL, nI_le', nI_lt', nI_eq', lt_lit, lt_litL, eq_lit, ite_t, ite_f]
theorem x_plants {t r : Nat} (hr : r < 16) (v : Int32) (st : fo_St) : fX2_plants t (nI r) v st = some (si_ (si_ st (t + 1) r v) (t + 2) r 1) := by
  unfold fX2_plants
  simp (disch := omega) only [lt_def, lI_def, lL_def, jn_def, bd_some, bv_some, ck_true, rn_some, ck_in, ck_lit, ck_bI, ck_dec, lit_add, add_lit, lit_mul, nI_mulN, nI_add, nI_1, sub_lit, nI_sub, nI_c, lit_c, le_nI, nI_leL, nI_le', nI_lt', nI_eq', lt_lit, lt_litL, eq_lit, ite_t, ite_f]
theorem x_rows (p1 p2 L : Nat) (st : fo_St) : fX2_rows p1 p2 L st = some (sc_ st p2 p1 0 0 L) := rfl
/-- a table taken over -/
def tk_ (st : fo_St) (t q : Nat) : fo_St := si_ (sc_ (sc_ (sc_ st (q + 1) (t + 1) 0 0 16) (q + 2) (t + 2) 0 0 16) (q + 3) (t + 3) 0 0 16) t 3 (gi_ st q 3)
theorem x_takes (t q : Nat) (st : fo_St) (h : q ≠ t + 1 ∧ q ≠ t + 2 ∧ q ≠ t + 3) : fX2_takes t q st = some (tk_ st t q) := by
  unfold fX2_takes
  rw [x_rows, bv_some, x_rows, bv_some, x_rows, bv_some, lt_def]
  unfold tk_
  rw [gi_sc, if_neg (fun e => h.2.2 e.1), gi_sc, if_neg (fun e => h.2.1 e.1), gi_sc, if_neg (fun e => h.1 e.1)]
theorem m_keepAll {k G : Nat} (hk : k < 18) (hG : 100 < G) (st : fo_St) : fX5_keepAll G (nI k) st = some (sc_ st 2 5 3 (53 * k) 53) := by
  unfold fX5_keepAll
  refine lp_copy0 (k := fun s => some s) (n := 53) (src := 2) (dst := 5) (sp := 3) (dp := 53 * k) (Or.inl (by decide)) (fun rec i s hi => ?_) (fun rec s => ?_) st (by omega)
  · simp (disch := omega) only [lt_def, lI_def, lL_def, jn_def, bd_some, bv_some, ck_true, rn_some, ck_in, ck_lit, ck_bI, ck_dec, lit_add, add_lit, lit_mul, nI_mulN, nI_add, nI_1, sub_lit, nI_sub, nI_c, lit_c, le_nI, nI_leL, nI_le', nI_lt', nI_eq', lt_lit, lt_litL, eq_lit, ite_t, ite_f]
  · simp (disch := omega) only [lt_def, lI_def, lL_def, jn_def, bd_some, bv_some, ck_true, rn_some, ck_in, ck_lit, ck_bI, ck_dec, lit_add, add_lit, lit_mul, nI_mulN, nI_add, nI_1, sub_lit, nI_sub, nI_c, lit_c, le_nI, nI_leL, nI_le', nI_lt', nI_eq', lt_lit, lt_litL, eq_lit, ite_t, ite_f]
theorem m_putBack {k G : Nat} (hk : k < 18) (hG : 100 < G) (st : fo_St) : fX5_putBack G (nI k) st = some (sc_ st 5 2 (53 * k) 3 53) := by
  unfold fX5_putBack
  refine lp_copy0 (k := fun s => some s) (n := 53) (src := 5) (dst := 2) (sp := 53 * k) (dp := 3) (Or.inl (by decide)) (fun rec i s hi => ?_) (fun rec s => ?_) st (by omega)
  · simp (disch := omega) only [lt_def, lI_def, lL_def, jn_def, bd_some, bv_some, ck_true, rn_some, ck_in, ck_lit, ck_bI, ck_dec, lit_add, add_lit, lit_mul, nI_mulN, nI_add, nI_1, sub_lit, nI_sub, nI_c, lit_c, le_nI, nI_leL, nI_le', nI_lt', nI_eq', lt_lit, lt_litL, eq_lit, ite_t, ite_f]
  · simp (disch := omega) only [lt_def, lI_def, lL_def, jn_def, bd_some, bv_some, ck_true, rn_some, ck_in, ck_lit, ck_bI, ck_dec, lit_add, add_lit, lit_mul, nI_mulN, nI_add, nI_1, sub_lit, nI_sub, nI_c, lit_c, le_nI, nI_leL, nI_le', nI_lt', nI_eq', lt_lit, lt_litL, eq_lit, ite_t, ite_f]
