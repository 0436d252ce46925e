/-! PLAIN 1: what the printed texts compute: rules for the combinators, loops, indices -/
set_option maxRecDepth 100000
def wp_ {α : Type} (o : Option α) (Q : α → Prop) : Prop := ∃ x, o = some x ∧ Q x
theorem wp_some {α : Type} {x : α} {Q : α → Prop} : wp_ (some x) Q ↔ Q x := ⟨fun ⟨y, h, q⟩ => by cases h; exact q, fun h => ⟨x, rfl, h⟩⟩
theorem wp_none {α : Type} {Q : α → Prop} : wp_ (none : Option α) Q ↔ False := ⟨fun ⟨_, h, _⟩ => (by cases h), False.elim⟩
theorem wp_ck {α : Type} {b : Bool} {t : Option α} {Q : α → Prop} : wp_ (ck_ b t) Q ↔ b = true ∧ wp_ t Q := by
  cases b with
  | true => exact ⟨fun h => ⟨rfl, h⟩, fun h => h.2⟩
  | false => exact ⟨fun ⟨_, h, _⟩ => (by cases h), fun h => (by cases h.1)⟩
theorem wp_lt {α : Type} {st : fo_St} {k : fo_St → Option α} {Q : α → Prop} : wp_ (lt_ st k) Q ↔ wp_ (k st) Q := Iff.rfl
theorem wp_lI {α : Type} {v : Int32} {k : Int32 → Option α} {Q : α → Prop} : wp_ (lI_ v k) Q ↔ wp_ (k v) Q := Iff.rfl
theorem wp_lL {α : Type} {v : Int64} {k : Int64 → Option α} {Q : α → Prop} : wp_ (lL_ v k) Q ↔ wp_ (k v) Q := Iff.rfl
theorem wp_jn {κ α : Type} {k : κ} {b : κ → Option α} {Q : α → Prop} : wp_ (jn_ k b) Q ↔ wp_ (b k) Q := Iff.rfl
theorem wp_bd {α β : Type} {o : Option (β × fo_St)} {k : β → fo_St → Option α} {Q : α → Prop} : wp_ (bd_ o k) Q ↔ wp_ o (fun p => wp_ (k p.1 p.2) Q) := by
  cases o with
  | none => exact ⟨fun ⟨_, h, _⟩ => (by cases h), fun ⟨_, h, _⟩ => by cases h⟩
  | some p => exact ⟨fun h => ⟨p, rfl, h⟩, fun ⟨_, h, q⟩ => by cases h; exact q⟩
theorem wp_bv {α : Type} {o : Option fo_St} {k : fo_St → Option α} {Q : α → Prop} : wp_ (bv_ o k) Q ↔ wp_ o (fun p => wp_ (k p) Q) := by
  cases o with
  | none => exact ⟨fun ⟨_, h, _⟩ => (by cases h), fun ⟨_, h, _⟩ => by cases h⟩
  | some p => exact ⟨fun h => ⟨p, rfl, h⟩, fun ⟨_, h, q⟩ => by cases h; exact q⟩
theorem wp_rn {α : Type} {o : Option Nat} {k : Nat → Option α} {Q : α → Prop} : wp_ (rn_ o k) Q ↔ ∃ q, o = some q ∧ wp_ (k q) Q := by
  cases o with
  | none => exact ⟨fun ⟨_, h, _⟩ => (by cases h), fun ⟨_, h, _⟩ => by cases h⟩
  | some p => exact ⟨fun h => ⟨p, rfl, h⟩, fun ⟨_, h, q⟩ => by cases h; exact q⟩
theorem wp_if {α : Type} {c : Prop} [Decidable c] {a b : Option α} {Q : α → Prop} : wp_ (if c then a else b) Q ↔ ((c → wp_ a Q) ∧ (¬ c → wp_ b Q)) := by
  by_cases h : c
  · rw [if_pos h]; exact ⟨fun q => ⟨fun _ => q, fun n => absurd h n⟩, fun q => q.1 h⟩
  · rw [if_neg h]; exact ⟨fun q => ⟨fun n => absurd n h, fun _ => q⟩, fun q => q.2 h⟩
theorem wp_mono {α : Type} {o : Option α} {P Q : α → Prop} (h : wp_ o P) (k : ∀ x, P x → Q x) : wp_ o Q := by
  obtain ⟨x, e, p⟩ := h
  exact ⟨x, e, k x p⟩
theorem wp_of {α : Type} {o : Option α} {x : α} {Q : α → Prop} (h : o = some x) (k : Q x) : wp_ o Q := ⟨x, h, k⟩
theorem bd_some {α β : Type} {x : β} {s : fo_St} {k : β → fo_St → Option α} : bd_ (some (x, s)) k = k x s := rfl
theorem bv_some {α : Type} {s : fo_St} {k : fo_St → Option α} : bv_ (some s) k = k s := rfl
theorem ck_true {α : Type} {t : Option α} : ck_ true t = t := rfl
theorem rn_some {α : Type} {q : Nat} {k : Nat → Option α} : rn_ (some q) k = k q := rfl
theorem lt_def {α : Type} {st : fo_St} {k : fo_St → Option α} : lt_ st k = k st := rfl
theorem lI_def {α : Type} {v : Int32} {k : Int32 → Option α} : lI_ v k = k v := rfl
theorem lL_def {α : Type} {v : Int64} {k : Int64 → Option α} : lL_ v k = k v := rfl
theorem jn_def {κ α : Type} {k : κ} {b : κ → Option α} : jn_ k b = b k := rfl
/-- loops by a measure -/
theorem lp1_w {A1 α : Type} {b : (A1 → Option α) → A1 → Option α} {P : A1 → Prop} {Q : α → Prop} (μ : A1 → Nat) (h : ∀ rec a1, P a1 → (∀ b1, P b1 → μ b1 < μ a1 → wp_ (rec b1) Q) → wp_ (b rec a1) Q) : ∀ G a1, μ a1 < G → P a1 → wp_ (lp1_ b G a1) Q := by
  intro G
  induction G with
  | zero => intro a1 hm; omega
  | succ g ih => intro a1 hm hp; exact h (lp1_ b g) a1 hp (fun b1 hb hl => ih b1 (by omega) hb)
theorem lp2_w {A1 A2 α : Type} {b : (A1 → A2 → Option α) → A1 → A2 → Option α} {P : A1 → A2 → Prop} {Q : α → Prop} (μ : A1 → A2 → Nat) (h : ∀ rec a1 a2, P a1 a2 → (∀ b1 b2, P b1 b2 → μ b1 b2 < μ a1 a2 → wp_ (rec b1 b2) Q) → wp_ (b rec a1 a2) Q) : ∀ G a1 a2, μ a1 a2 < G → P a1 a2 → wp_ (lp2_ b G a1 a2) Q := by
  intro G
  induction G with
  | zero => intro a1 a2 hm; omega
  | succ g ih => intro a1 a2 hm hp; exact h (lp2_ b g) a1 a2 hp (fun b1 b2 hb hl => ih b1 b2 (by omega) hb)
theorem lp3_w {A1 A2 A3 α : Type} {b : (A1 → A2 → A3 → Option α) → A1 → A2 → A3 → Option α} {P : A1 → A2 → A3 → Prop} {Q : α → Prop} (μ : A1 → A2 → A3 → Nat) (h : ∀ rec a1 a2 a3, P a1 a2 a3 → (∀ b1 b2 b3, P b1 b2 b3 → μ b1 b2 b3 < μ a1 a2 a3 → wp_ (rec b1 b2 b3) Q) → wp_ (b rec a1 a2 a3) Q) : ∀ G a1 a2 a3, μ a1 a2 a3 < G → P a1 a2 a3 → wp_ (lp3_ b G a1 a2 a3) Q := by
  intro G
  induction G with
  | zero => intro a1 a2 a3 hm; omega
  | succ g ih => intro a1 a2 a3 hm hp; exact h (lp3_ b g) a1 a2 a3 hp (fun b1 b2 b3 hb hl => ih b1 b2 b3 (by omega) hb)
theorem lp4_w {A1 A2 A3 A4 α : Type} {b : (A1 → A2 → A3 → A4 → Option α) → A1 → A2 → A3 → A4 → Option α} {P : A1 → A2 → A3 → A4 → Prop} {Q : α → Prop} (μ : A1 → A2 → A3 → A4 → Nat) (h : ∀ rec a1 a2 a3 a4, P a1 a2 a3 a4 → (∀ b1 b2 b3 b4, P b1 b2 b3 b4 → μ b1 b2 b3 b4 < μ a1 a2 a3 a4 → wp_ (rec b1 b2 b3 b4) Q) → wp_ (b rec a1 a2 a3 a4) Q) : ∀ G a1 a2 a3 a4, μ a1 a2 a3 a4 < G → P a1 a2 a3 a4 → wp_ (lp4_ b G a1 a2 a3 a4) Q := by
  intro G
  induction G with
  | zero => intro a1 a2 a3 a4 hm; omega
  | succ g ih => intro a1 a2 a3 a4 hm hp; exact h (lp4_ b g) a1 a2 a3 a4 hp (fun b1 b2 b3 b4 hb hl => ih b1 b2 b3 b4 (by omega) hb)
theorem lp5_w {A1 A2 A3 A4 A5 α : Type} {b : (A1 → A2 → A3 → A4 → A5 → Option α) → A1 → A2 → A3 → A4 → A5 → Option α} {P : A1 → A2 → A3 → A4 → A5 → Prop} {Q : α → Prop} (μ : A1 → A2 → A3 → A4 → A5 → Nat) (h : ∀ rec a1 a2 a3 a4 a5, P a1 a2 a3 a4 a5 → (∀ b1 b2 b3 b4 b5, P b1 b2 b3 b4 b5 → μ b1 b2 b3 b4 b5 < μ a1 a2 a3 a4 a5 → wp_ (rec b1 b2 b3 b4 b5) Q) → wp_ (b rec a1 a2 a3 a4 a5) Q) : ∀ G a1 a2 a3 a4 a5, μ a1 a2 a3 a4 a5 < G → P a1 a2 a3 a4 a5 → wp_ (lp5_ b G a1 a2 a3 a4 a5) Q := by
  intro G
  induction G with
  | zero => intro a1 a2 a3 a4 a5 hm; omega
  | succ g ih => intro a1 a2 a3 a4 a5 hm hp; exact h (lp5_ b g) a1 a2 a3 a4 a5 hp (fun b1 b2 b3 b4 b5 hb hl => ih b1 b2 b3 b4 b5 (by omega) hb)
/-- loops that count: from i on to n -/
theorem for2 {α : Type} {b : (Int32 → fo_St → Option α) → Int32 → fo_St → Option α} {Q : α → Prop} {n : Nat} (P : Nat → fo_St → Prop) (hs : ∀ rec i st, i < n → P i st → (∀ st', P (i + 1) st' → wp_ (rec (nI (i + 1)) st') Q) → wp_ (b rec (nI i) st) Q) (he : ∀ rec st, P n st → wp_ (b rec (nI n) st) Q) : ∀ (k G i : Nat) (st : fo_St), i + k = n → k < G → P i st → wp_ (lp2_ b G (nI i) st) Q := by
  intro k
  induction k with
  | zero =>
    intro G i st e hG hp
    obtain ⟨g, rfl⟩ : ∃ g, G = g + 1 := ⟨G - 1, by omega⟩
    have e2 : i = n := by omega
    subst e2
    exact he (lp2_ b g) st hp
  | succ k ih =>
    intro G i st e hG hp
    obtain ⟨g, rfl⟩ : ∃ g, G = g + 1 := ⟨G - 1, by omega⟩
    exact hs (lp2_ b g) i st (by omega) hp (fun st' h => ih g (i + 1) st' (by omega) (by omega) h)
theorem for3 {A α : Type} {b : (Int32 → A → fo_St → Option α) → Int32 → A → fo_St → Option α} {Q : α → Prop} {n : Nat} (P : Nat → A → fo_St → Prop) (hs : ∀ rec i x st, i < n → P i x st → (∀ x' st', P (i + 1) x' st' → wp_ (rec (nI (i + 1)) x' st') Q) → wp_ (b rec (nI i) x st) Q) (he : ∀ rec x st, P n x st → wp_ (b rec (nI n) x st) Q) : ∀ (k G i : Nat) (x : A) (st : fo_St), i + k = n → k < G → P i x st → wp_ (lp3_ b G (nI i) x st) Q := by
  intro k
  induction k with
  | zero =>
    intro G i x st e hG hp
    obtain ⟨g, rfl⟩ : ∃ g, G = g + 1 := ⟨G - 1, by omega⟩
    have e2 : i = n := by omega
    subst e2
    exact he (lp3_ b g) x st hp
  | succ k ih =>
    intro G i x st e hG hp
    obtain ⟨g, rfl⟩ : ∃ g, G = g + 1 := ⟨G - 1, by omega⟩
    exact hs (lp3_ b g) i x st (by omega) hp (fun x' st' h => ih g (i + 1) x' st' (by omega) (by omega) h)
theorem for3' {A α : Type} {b : (A → Int32 → fo_St → Option α) → A → Int32 → fo_St → Option α} {Q : α → Prop} {n : Nat} (P : Nat → A → fo_St → Prop) (hs : ∀ rec i x st, i < n → P i x st → (∀ x' st', P (i + 1) x' st' → wp_ (rec x' (nI (i + 1)) st') Q) → wp_ (b rec x (nI i) st) Q) (he : ∀ rec x st, P n x st → wp_ (b rec x (nI n) st) Q) : ∀ (k G i : Nat) (x : A) (st : fo_St), i + k = n → k < G → P i x st → wp_ (lp3_ b G x (nI i) st) Q := by
  intro k
  induction k with
  | zero =>
    intro G i x st e hG hp
    obtain ⟨g, rfl⟩ : ∃ g, G = g + 1 := ⟨G - 1, by omega⟩
    have e2 : i = n := by omega
    subst e2
    exact he (lp3_ b g) x st hp
  | succ k ih =>
    intro G i x st e hG hp
    obtain ⟨g, rfl⟩ : ∃ g, G = g + 1 := ⟨G - 1, by omega⟩
    exact hs (lp3_ b g) i x st (by omega) hp (fun x' st' h => ih g (i + 1) x' st' (by omega) (by omega) h)
theorem for4 {A B α : Type} {b : (Int32 → A → B → fo_St → Option α) → Int32 → A → B → fo_St → Option α} {Q : α → Prop} {n : Nat} (P : Nat → A → B → fo_St → Prop) (hs : ∀ rec i x y st, i < n → P i x y st → (∀ x' y' st', P (i + 1) x' y' st' → wp_ (rec (nI (i + 1)) x' y' st') Q) → wp_ (b rec (nI i) x y st) Q) (he : ∀ rec x y st, P n x y st → wp_ (b rec (nI n) x y st) Q) : ∀ (k G i : Nat) (x : A) (y : B) (st : fo_St), i + k = n → k < G → P i x y st → wp_ (lp4_ b G (nI i) x y st) Q := by
  intro k
  induction k with
  | zero =>
    intro G i x y st e hG hp
    obtain ⟨g, rfl⟩ : ∃ g, G = g + 1 := ⟨G - 1, by omega⟩
    have e2 : i = n := by omega
    subst e2
    exact he (lp4_ b g) x y st hp
  | succ k ih =>
    intro G i x y st e hG hp
    obtain ⟨g, rfl⟩ : ∃ g, G = g + 1 := ⟨G - 1, by omega⟩
    exact hs (lp4_ b g) i x y st (by omega) hp (fun x' y' st' h => ih g (i + 1) x' y' st' (by omega) (by omega) h)
/-- whole numbers as Ints -/
def bI (c : Prop) [Decidable c] : Int32 := if c then 1 else 0
theorem bI_t {c : Prop} [Decidable c] (h : c) : bI c = 1 := if_pos h
theorem bI_f {c : Prop} [Decidable c] (h : ¬ c) : bI c = 0 := if_neg h
theorem bI_0 {c : Prop} [Decidable c] : (bI c = 0) = ¬ c := by
  unfold bI
  by_cases h : c
  · rw [if_pos h]; simp [h]
  · rw [if_neg h]; simp [h]
theorem bI_1 {c : Prop} [Decidable c] : (bI c = 1) = c := by
  unfold bI
  by_cases h : c
  · rw [if_pos h]; simp [h]
  · rw [if_neg h]; simp [h]
theorem bI_01 {c : Prop} [Decidable c] : (bI c = 0 ∨ bI c = 1) = True := by
  rw [bI_0, bI_1]
  by_cases h : c <;> simp [h]
theorem i_eq {x y : Int32} : x = y ↔ x.toInt = y.toInt := Int32.toInt_inj.symm
theorem i_rng (x : Int32) : -2147483648 ≤ x.toInt ∧ x.toInt < 2147483648 := ⟨Int32.le_toInt x, Int32.toInt_lt x⟩
theorem l_rng (x : Int64) : -9223372036854775808 ≤ x.toInt ∧ x.toInt < 9223372036854775808 := ⟨Int64.le_toInt x, Int64.toInt_lt x⟩
theorem i_nat {x : Int32} (h : 0 ≤ x.toInt) : x = nI x.toInt.toNat ∧ x.toInt.toNat < 2147483648 := by
  have h1 := i_rng x
  refine ⟨Int32.toInt_inj.mp ?_, by omega⟩
  rw [nI_toInt (by omega)]
  omega
theorem nI_nn (n : Nat) (h : n < 2147483648) : ((nI n).toInt) = n := nI_toInt h
theorem lit_add (n r : Nat) : (no_index (@OfNat.ofNat Int32 n _) : Int32) + nI r = nI (@OfNat.ofNat Nat n _ + r) := nI_add n r
theorem add_lit (n r : Nat) : nI r + (no_index (@OfNat.ofNat Int32 n _) : Int32) = nI (r + @OfNat.ofNat Nat n _) := nI_add r n
theorem nI_mulN (a b : Nat) : nI a * nI b = nI (a * b) := (Int32.ofNat_mul a b).symm
theorem lit_mul (n r : Nat) : (no_index (@OfNat.ofNat Int32 n _) : Int32) * nI r = nI (@OfNat.ofNat Nat n _ * r) := nI_mulN n r
theorem lit_nI (n : Nat) : (@OfNat.ofNat Int32 n _ : Int32) = nI (@OfNat.ofNat Nat n _) := rfl
theorem nI_sub {a b : Nat} (h : b ≤ a) : nI a - nI b = nI (a - b) := by
  have : nI a = nI (a - b) + nI b := by rw [nI_add]; congr 1; omega
  rw [this]
  exact Int32.add_sub_cancel _ _
theorem sub_lit {a n : Nat} (h : n ≤ a) : nI a - (no_index (@OfNat.ofNat Int32 n _) : Int32) = nI (a - @OfNat.ofNat Nat n _) := nI_sub h
theorem nI_c {n : Nat} (h : n < 2147483648) : (nI n).toNatClampNeg = n := nI_clamp h
theorem fo_in_nI {n L : Nat} (h : n < 2147483648) : fo_in (nI n) L = decide (n < L) := by
  unfold fo_in
  rw [nI_c h]
  have h0 : ¬ nI n < 0 := nI_pos h
  by_cases h1 : n < L
  · rw [decide_eq_true h1]; exact decide_eq_true (fun q => q.elim h0 (fun q => by omega))
  · rw [decide_eq_false h1]; exact decide_eq_false (fun q => q (Or.inr (by omega)))
theorem le_nI {n r : Nat} (h : @OfNat.ofNat Nat n _ < 2147483648) (h2 : r < 2147483648) : ((no_index (@OfNat.ofNat Int32 n _) : Int32) ≤ nI r) = (@OfNat.ofNat Nat n _ ≤ r) := propext (nI_leI h h2)
theorem nI_leL {n r : Nat} (h : @OfNat.ofNat Nat n _ < 2147483648) (h2 : r < 2147483648) : (nI r ≤ (no_index (@OfNat.ofNat Int32 n _) : Int32)) = (r ≤ @OfNat.ofNat Nat n _) := propext (nI_leI h2 h)
theorem ite_t {α : Type} {c : Prop} [Decidable c] {a b : α} (h : c) : (if c then a else b) = a := if_pos h
theorem ite_f {α : Type} {c : Prop} [Decidable c] {a b : α} (h : ¬ c) : (if c then a else b) = b := if_neg h
theorem ck_dec {α : Type} {c : Prop} [Decidable c] {t : Option α} (h : c) : ck_ (decide c) t = t := by
  rw [decide_eq_true h]
  rfl
theorem ck_in {α : Type} {n L : Nat} {t : Option α} (h1 : n < 2147483648) (h : n < L) : ck_ (fo_in (nI n) L) t = t := by
  rw [fo_in_nI h1, decide_eq_true h]
  rfl
theorem ck_bI {α : Type} {c : Prop} [Decidable c] {t : Option α} : ck_ (decide (bI c = 0 ∨ bI c = 1)) t = t := by
  rw [decide_eq_true (by rw [bI_01]; trivial)]
  rfl
theorem nI_le' {a b : Nat} (ha : a < 2147483648) (hb : b < 2147483648) : (nI a ≤ nI b) = (a ≤ b) := propext (nI_leI ha hb)
theorem nI_lt' {a b : Nat} (ha : a < 2147483648) (hb : b < 2147483648) : (nI a < nI b) = (a < b) := propext (nI_ltI ha hb)
theorem nI_eq' {a b : Nat} (ha : a < 2147483648) (hb : b < 2147483648) : (nI a = nI b) = (a = b) := propext (nI_eq ha hb)
theorem lit_c {n : Nat} (h : @OfNat.ofNat Nat n _ < 2147483648) : (no_index (@OfNat.ofNat Int32 n _) : Int32).toNatClampNeg = @OfNat.ofNat Nat n _ := nI_c h
theorem ck_lit {α : Type} {n L : Nat} {t : Option α} (h1 : @OfNat.ofNat Nat n _ < 2147483648) (h : @OfNat.ofNat Nat n _ < L) : ck_ (fo_in (no_index (@OfNat.ofNat Int32 n _)) L) t = t := ck_in h1 h
theorem lt_lit {n r : Nat} (h : @OfNat.ofNat Nat n _ < 2147483648) (h2 : r < 2147483648) : ((no_index (@OfNat.ofNat Int32 n _) : Int32) < nI r) = (@OfNat.ofNat Nat n _ < r) := nI_lt' h h2
theorem lt_litL {n r : Nat} (h : @OfNat.ofNat Nat n _ < 2147483648) (h2 : r < 2147483648) : (nI r < (no_index (@OfNat.ofNat Int32 n _) : Int32)) = (r < @OfNat.ofNat Nat n _) := nI_lt' h2 h
theorem eq_lit {n r : Nat} (h : @OfNat.ofNat Nat n _ < 2147483648) (h2 : r < 2147483648) : (nI r = (no_index (@OfNat.ofNat Int32 n _) : Int32)) = (r = @OfNat.ofNat Nat n _) := nI_eq' h2 h
/-- copies place by place -/
theorem sc_0 (s : fo_St) (src dst sp dp : Nat) : sc_ s src dst sp dp 0 = s := by
  refine Prod.ext ?_ rfl
  funext a b
  show gi_ (sc_ s src dst sp dp 0) a b = gi_ s a b
  rw [gi_sc, if_neg (by omega)]
theorem sc_step {src dst sp dp : Nat} (h : src ≠ dst ∨ dp ≤ sp) (s : fo_St) (i : Nat) : si_ (sc_ s src dst sp dp i) dst (dp + i) (gi_ (sc_ s src dst sp dp i) src (sp + i)) = sc_ s src dst sp dp (i + 1) := by
  refine Prod.ext ?_ rfl
  funext a b
  show (if a = dst ∧ b = dp + i then gi_ (sc_ s src dst sp dp i) src (sp + i) else gi_ (sc_ s src dst sp dp i) a b) = gi_ (sc_ s src dst sp dp (i + 1)) a b
  have e : gi_ (sc_ s src dst sp dp i) src (sp + i) = gi_ s src (sp + i) := by rw [gi_sc, if_neg (by omega)]
  rw [e, gi_sc, gi_sc]
  by_cases h1 : a = dst ∧ b = dp + i
  · rw [if_pos h1, if_pos ⟨h1.1, by omega, by omega⟩]
    congr 1
    omega
  · rw [if_neg h1]
    by_cases h2 : a = dst ∧ dp ≤ b ∧ b < dp + i
    · rw [if_pos h2, if_pos ⟨h2.1, by omega, by omega⟩]
    · rw [if_neg h2, if_neg (by omega)]
theorem lp_copy {α : Type} {b : (Int32 → fo_St → Option α) → Int32 → fo_St → Option α} {k : fo_St → Option α} {n src dst sp dp : Nat} (h : src ≠ dst ∨ dp ≤ sp) (hs : ∀ rec i s, i < n → b rec (nI i) s = rec (nI (i + 1)) (si_ s dst (dp + i) (gi_ s src (sp + i)))) (he : ∀ rec s, b rec (nI n) s = k s) (s : fo_St) : ∀ (j G i : Nat), i + j = n → j < G → lp2_ b G (nI i) (sc_ s src dst sp dp i) = k (sc_ s src dst sp dp n) := by
  intro j
  induction j with
  | zero =>
    intro G i e hG
    obtain ⟨g, rfl⟩ : ∃ g, G = g + 1 := ⟨G - 1, by omega⟩
    have e2 : i = n := by omega
    subst e2
    exact he (lp2_ b g) _
  | succ j ih =>
    intro G i e hG
    obtain ⟨g, rfl⟩ : ∃ g, G = g + 1 := ⟨G - 1, by omega⟩
    have h1 := hs (lp2_ b g) i (sc_ s src dst sp dp i) (by omega)
    rw [sc_step h] at h1
    exact h1.trans (ih g (i + 1) (by omega) (by omega))
theorem lp_copy0 {α : Type} {b : (Int32 → fo_St → Option α) → Int32 → fo_St → Option α} {k : fo_St → Option α} {n src dst sp dp G : Nat} (h : src ≠ dst ∨ dp ≤ sp) (hs : ∀ rec i s, i < n → b rec (nI i) s = rec (nI (i + 1)) (si_ s dst (dp + i) (gi_ s src (sp + i)))) (he : ∀ rec s, b rec (nI n) s = k s) (s : fo_St) (hG : n < G) : lp2_ b G (0 : Int32) s = k (sc_ s src dst sp dp n) := by
  have h1 := lp_copy h hs he s n G 0 (by omega) hG
  rw [sc_0] at h1
  exact h1
