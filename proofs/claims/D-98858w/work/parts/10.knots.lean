/-! KNOTS: the readers by depth -/
set_option maxRecDepth 100000
def rdS (cN cS G : Nat) (recV : Nat → (Nat → Nat × Nat) → Nat → Nat → fo_St → Option ((Int32 ⊕ Nat) × fo_A)) : Nat → Nat → (Nat → Nat × Nat) → Nat → Nat → fo_St → Option ((Nat ⊕ Nat) × fo_A)
  | 0, _, _, _, _, _ => none
  | d + 1, q, tg, nx, ns, st => fX6_sum cN cS G (rdS cN cS G recV d) recV q tg nx ns st
def rdT (cN cS G : Nat) (recV : Nat → (Nat → Nat × Nat) → Nat → Nat → fo_St → Option ((Int32 ⊕ Nat) × fo_A)) : Nat → Nat → (Nat → Nat × Nat) → Nat → Nat → fo_St → Option ((Nat ⊕ Nat) × fo_A)
  | 0, _, _, _, _, _ => none
  | d + 1, q, tg, nx, ns, st => fX6_test cN cS G (rdS cN cS G recV d) (rdT cN cS G recV d) q tg nx ns st
def rdC6 (cN cS G : Nat) (q : Nat) (tg : Nat → Nat × Nat) (nx ns : Nat) (st : fo_St) : Option ((Unit ⊕ Nat) × fo_A) := fX7_clause cN cS G (rdS cN cS G (fX7_value cN cS G) 12) (rdT cN cS G (fX7_value cN cS G) 12) q tg nx ns st
def rdC17 (cN cS G : Nat) (q : Nat) (tg : Nat → Nat × Nat) (nx ns : Nat) (st : fo_St) : Option ((Unit ⊕ Nat) × fo_A) := fX20_clause cN cS G (rdS cN cS G (fX20_value cN cS G) 12) (rdT cN cS G (fX20_value cN cS G) 12) q tg nx ns st
theorem wrdS_6 (l : Launch) (E : fo_E) (K V : Nat → Nat) (mi : Nat) (hSX : fo_SX E K V mi) (G : Nat) (recV : Nat → (Nat → Nat × Nat) → Nat → Nat → fo_St → Option ((Int32 ⊕ Nat) × fo_A)) (cN cS : Nat) (hrecV : ∀ (q : Nat) (tg : Nat → Nat × Nat) (nx ns : Nat) (hq : tg q = (1, 6)) (st : fo_St) (hI : fo_I E tg nx) (hcN : nx ≤ cN) (hcS : ns ≤ cS) (ρ : Int32 ⊕ Nat) (a1 : fo_A), recV q tg nx ns st = some (ρ, a1) → CA vlI l E yX7_value (ws_ yX7_value cX7_value 1 (some .int)) (14) (400) cN cS [.ref (eb E + q)] (tg, nx, ns, st) ρ a1) : ∀ (d : Nat) (q : Nat) (tg : Nat → Nat × Nat) (nx ns : Nat) (hq : tg q = (1, 6)) (st : fo_St) (hI : fo_I E tg nx) (hcN : nx ≤ cN) (hcS : ns ≤ cS) (ρ : Nat ⊕ Nat) (a1 : fo_A), rdS cN cS G recV d q tg nx ns st = some (ρ, a1) → CA (vlR (eb E)) l E yX6_sum (ws_ yX6_sum cX6_sum 3 (some (.object "ForestRooms$Sum"))) (4 * d + 20) (200 * d + 1000) cN cS [.ref (eb E + q)] (tg, nx, ns, st) ρ a1 := by
  intro d
  induction d with
  | zero => intro q tg nx ns hq st hI hcN hcS ρ a1 h; cases h
  | succ d ih =>
    intro q tg nx ns hq st hI hcN hcS ρ a1 h
    exact wX6_sum_6 l E K V mi hSX G q (4 * (d + 1) + 20) (200 * (d + 1) + 1000) d (by omega) (by omega) cN cS (rdS cN cS G recV d) recV ih hrecV tg nx ns hq st hI hcN hcS ρ a1 h
theorem wrdT_6 (l : Launch) (E : fo_E) (K V : Nat → Nat) (mi : Nat) (hSX : fo_SX E K V mi) (G : Nat) (recV : Nat → (Nat → Nat × Nat) → Nat → Nat → fo_St → Option ((Int32 ⊕ Nat) × fo_A)) (cN cS : Nat) (hrecV : ∀ (q : Nat) (tg : Nat → Nat × Nat) (nx ns : Nat) (hq : tg q = (1, 6)) (st : fo_St) (hI : fo_I E tg nx) (hcN : nx ≤ cN) (hcS : ns ≤ cS) (ρ : Int32 ⊕ Nat) (a1 : fo_A), recV q tg nx ns st = some (ρ, a1) → CA vlI l E yX7_value (ws_ yX7_value cX7_value 1 (some .int)) (14) (400) cN cS [.ref (eb E + q)] (tg, nx, ns, st) ρ a1) : ∀ (d : Nat) (q : Nat) (tg : Nat → Nat × Nat) (nx ns : Nat) (hq : tg q = (1, 6)) (st : fo_St) (hI : fo_I E tg nx) (hcN : nx ≤ cN) (hcS : ns ≤ cS) (ρ : Nat ⊕ Nat) (a1 : fo_A), rdT cN cS G recV d q tg nx ns st = some (ρ, a1) → CA (vlR (eb E)) l E yX6_test (ws_ yX6_test cX6_test 3 (some (.object "ForestRooms$Test"))) (4 * d + 24) (200 * d + 1000) cN cS [.ref (eb E + q)] (tg, nx, ns, st) ρ a1 := by
  intro d
  induction d with
  | zero => intro q tg nx ns hq st hI hcN hcS ρ a1 h; cases h
  | succ d ih =>
    intro q tg nx ns hq st hI hcN hcS ρ a1 h
    exact wX6_test_6 l E K V mi hSX G q (4 * (d + 1) + 24) (200 * (d + 1) + 1000) d (by omega) (by omega) cN cS (rdS cN cS G recV d) (rdT cN cS G recV d) (wrdS_6 l E K V mi hSX G recV cN cS hrecV d) ih tg nx ns hq st hI hcN hcS ρ a1 h
theorem wrdC_6 (l : Launch) (E : fo_E) (K V : Nat → Nat) (mi : Nat) (hSX : fo_SX E K V mi) (G : Nat) (cN cS : Nat) : ∀ (q : Nat) (tg : Nat → Nat × Nat) (nx ns : Nat) (hq : tg q = (1, 6)) (st : fo_St) (hI : fo_I E tg nx) (hcN : nx ≤ cN) (hcS : ns ≤ cS) (ρ : Unit ⊕ Nat) (a1 : fo_A), rdC6 cN cS G q tg nx ns st = some (ρ, a1) → CA vlV l E yX7_clause (ws_ yX7_clause cX7_clause 3 none) (100) (6000) cN cS [.ref (eb E + q)] (tg, nx, ns, st) ρ a1 := by
  intro q tg nx ns hq st hI hcN hcS ρ a1 h
  have hV := fun (q : Nat) (tg : Nat → Nat × Nat) (nx ns : Nat) (hq : tg q = (1, 6)) (st : fo_St) (hI : fo_I E tg nx) (hcN : nx ≤ cN) (hcS : ns ≤ cS) (ρ : Int32 ⊕ Nat) (a1 : fo_A) (h : fX7_value cN cS G q tg nx ns st = some (ρ, a1)) => wX7_value_6 l E K V mi hSX G q 14 400 (by omega) (by omega) cN cS tg nx ns hq st hI hcN hcS ρ a1 h
  exact wX7_clause_6 l E K V mi hSX G q 100 6000 12 (by omega) (by omega) cN cS _ _ (wrdS_6 l E K V mi hSX G _ cN cS hV 12) (wrdT_6 l E K V mi hSX G _ cN cS hV 12) tg nx ns hq st hI hcN hcS ρ a1 h
theorem wrdS_17 (l : Launch) (E : fo_E) (K V : Nat → Nat) (mi : Nat) (hSX : fo_SX E K V mi) (G : Nat) (recV : Nat → (Nat → Nat × Nat) → Nat → Nat → fo_St → Option ((Int32 ⊕ Nat) × fo_A)) (cN cS : Nat) (hrecV : ∀ (q : Nat) (tg : Nat → Nat × Nat) (nx ns : Nat) (hq : tg q = (1, 17)) (st : fo_St) (hI : fo_I E tg nx) (hcN : nx ≤ cN) (hcS : ns ≤ cS) (ρ : Int32 ⊕ Nat) (a1 : fo_A), recV q tg nx ns st = some (ρ, a1) → CA vlI l E yX20_value (ws_ yX20_value cX20_value 1 (some .int)) (14) (400) cN cS [.ref (eb E + q)] (tg, nx, ns, st) ρ a1) : ∀ (d : Nat) (q : Nat) (tg : Nat → Nat × Nat) (nx ns : Nat) (hq : tg q = (1, 17)) (st : fo_St) (hI : fo_I E tg nx) (hcN : nx ≤ cN) (hcS : ns ≤ cS) (ρ : Nat ⊕ Nat) (a1 : fo_A), rdS cN cS G recV d q tg nx ns st = some (ρ, a1) → CA (vlR (eb E)) l E yX6_sum (ws_ yX6_sum cX6_sum 3 (some (.object "ForestRooms$Sum"))) (4 * d + 20) (200 * d + 1000) cN cS [.ref (eb E + q)] (tg, nx, ns, st) ρ a1 := by
  intro d
  induction d with
  | zero => intro q tg nx ns hq st hI hcN hcS ρ a1 h; cases h
  | succ d ih =>
    intro q tg nx ns hq st hI hcN hcS ρ a1 h
    exact wX6_sum_17 l E K V mi hSX G q (4 * (d + 1) + 20) (200 * (d + 1) + 1000) d (by omega) (by omega) cN cS (rdS cN cS G recV d) recV ih hrecV tg nx ns hq st hI hcN hcS ρ a1 h
theorem wrdT_17 (l : Launch) (E : fo_E) (K V : Nat → Nat) (mi : Nat) (hSX : fo_SX E K V mi) (G : Nat) (recV : Nat → (Nat → Nat × Nat) → Nat → Nat → fo_St → Option ((Int32 ⊕ Nat) × fo_A)) (cN cS : Nat) (hrecV : ∀ (q : Nat) (tg : Nat → Nat × Nat) (nx ns : Nat) (hq : tg q = (1, 17)) (st : fo_St) (hI : fo_I E tg nx) (hcN : nx ≤ cN) (hcS : ns ≤ cS) (ρ : Int32 ⊕ Nat) (a1 : fo_A), recV q tg nx ns st = some (ρ, a1) → CA vlI l E yX20_value (ws_ yX20_value cX20_value 1 (some .int)) (14) (400) cN cS [.ref (eb E + q)] (tg, nx, ns, st) ρ a1) : ∀ (d : Nat) (q : Nat) (tg : Nat → Nat × Nat) (nx ns : Nat) (hq : tg q = (1, 17)) (st : fo_St) (hI : fo_I E tg nx) (hcN : nx ≤ cN) (hcS : ns ≤ cS) (ρ : Nat ⊕ Nat) (a1 : fo_A), rdT cN cS G recV d q tg nx ns st = some (ρ, a1) → CA (vlR (eb E)) l E yX6_test (ws_ yX6_test cX6_test 3 (some (.object "ForestRooms$Test"))) (4 * d + 24) (200 * d + 1000) cN cS [.ref (eb E + q)] (tg, nx, ns, st) ρ a1 := by
  intro d
  induction d with
  | zero => intro q tg nx ns hq st hI hcN hcS ρ a1 h; cases h
  | succ d ih =>
    intro q tg nx ns hq st hI hcN hcS ρ a1 h
    exact wX6_test_17 l E K V mi hSX G q (4 * (d + 1) + 24) (200 * (d + 1) + 1000) d (by omega) (by omega) cN cS (rdS cN cS G recV d) (rdT cN cS G recV d) (wrdS_17 l E K V mi hSX G recV cN cS hrecV d) ih tg nx ns hq st hI hcN hcS ρ a1 h
theorem wrdC_17 (l : Launch) (E : fo_E) (K V : Nat → Nat) (mi : Nat) (hSX : fo_SX E K V mi) (G : Nat) (cN cS : Nat) : ∀ (q : Nat) (tg : Nat → Nat × Nat) (nx ns : Nat) (hq : tg q = (1, 17)) (st : fo_St) (hI : fo_I E tg nx) (hcN : nx ≤ cN) (hcS : ns ≤ cS) (ρ : Unit ⊕ Nat) (a1 : fo_A), rdC17 cN cS G q tg nx ns st = some (ρ, a1) → CA vlV l E yX20_clause (ws_ yX20_clause cX20_clause 3 none) (100) (6000) cN cS [.ref (eb E + q)] (tg, nx, ns, st) ρ a1 := by
  intro q tg nx ns hq st hI hcN hcS ρ a1 h
  have hV := fun (q : Nat) (tg : Nat → Nat × Nat) (nx ns : Nat) (hq : tg q = (1, 17)) (st : fo_St) (hI : fo_I E tg nx) (hcN : nx ≤ cN) (hcS : ns ≤ cS) (ρ : Int32 ⊕ Nat) (a1 : fo_A) (h : fX20_value cN cS G q tg nx ns st = some (ρ, a1)) => wX20_value_17 l E K V mi hSX G q 14 400 (by omega) (by omega) cN cS tg nx ns hq st hI hcN hcS ρ a1 h
  exact wX20_clause_17 l E K V mi hSX G q 100 6000 12 (by omega) (by omega) cN cS _ _ (wrdS_17 l E K V mi hSX G _ cN cS hV 12) (wrdT_17 l E K V mi hSX G _ cN cS hV 12) tg nx ns hq st hI hcN hcS ρ a1 h
