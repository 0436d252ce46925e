/-! PLAIN 3: tables, what is told, what a law in force says -/
set_option maxRecDepth 100000
abbrev Tb : Type := (Nat → Int32) × (Nat → Int32) × (Nat → Int32) × Int32
def tK (T : Tb) : Nat → Int32 := T.1
def tG (T : Tb) : Nat → Int32 := T.2.1
def tF (T : Tb) : Nat → Int32 := T.2.2.1
def tS (T : Tb) : Int32 := T.2.2.2
/-- a clause: its head, what it tells of values -/
abbrev Cl : Type := Int32 × ((Nat → Int64) → Option Int64)
/-- what is told: light, wet, size; needs, drinks; terms; whether a law is in force, which clauses it has -/
abbrev Ev : Type := (Nat → Int32) × (Nat → Int32) × (Nat → Int32) × (Nat → Int32) × (Nat → Int32) × (Nat → Int32) × Bool × List Cl
def vL (e : Ev) : Nat → Int32 := e.1
def vW (e : Ev) : Nat → Int32 := e.2.1
def vZ (e : Ev) : Nat → Int32 := e.2.2.1
def vN (e : Ev) : Nat → Int32 := e.2.2.2.1
def vD (e : Ev) : Nat → Int32 := e.2.2.2.2.1
def vT (e : Ev) : Nat → Int32 := e.2.2.2.2.2.1
def vF (e : Ev) : Bool := e.2.2.2.2.2.2.1
def vM (e : Ev) : List Cl := e.2.2.2.2.2.2.2
/-- what a law tells: the last of its clauses that tells something -/
def dStep (head : Int32) (vals : Nat → Int64) (acc : Option Int64) (c : Cl) : Option Int64 := if c.1 = head then (match c.2 vals with | some v => some v | none => acc) else acc
def dLaw (cls : List Cl) (head : Int32) (vals : Nat → Int64) : Option Int64 := cls.foldl (dStep head vals) none
def comes_ (cls : List Cl) : Bool := cls.any (fun c => decide (c.1 = 3))
def sayV (e : Ev) (T : Tb) (room : Nat) (kind grown fam : Int32) : Nat → Int64 := fun i => match i with
  | 0 => (nI room).toInt64
  | 1 => (vL e room).toInt64
  | 2 => (vW e room).toInt64
  | 3 => (vZ e room).toInt64
  | 4 => kind.toInt64
  | 5 => grown.toInt64
  | 6 => fam.toInt64
  | 7 => (tS T).toInt64
  | 8 => (vT e 4).toInt64
  | 9 => if kind = -1 then -1 else (vN e kind.toNatClampNeg).toInt64
  | _ => if kind = -1 then -1 else (vD e kind.toNatClampNeg).toInt64
def say_ (e : Ev) (T : Tb) (head : Int32) (room : Nat) (kind grown fam : Int32) : Option Int64 := if vF e then dLaw (vM e) head (sayV e T room kind grown fam) else none
/-- values that may be looked at -/
def Vok (vals : Nat → Int64) : Prop := ∀ i, i < 11 → -1000000000 ≤ (vals i).toInt ∧ (vals i).toInt ≤ 1000000000
/-- frames -/
def Fr (pi pl : Nat → Nat → Prop) (st st' : fo_St) : Prop := (∀ n k, ¬ pi n k → gi_ st' n k = gi_ st n k) ∧ (∀ n k, ¬ pl n k → gl_ st' n k = gl_ st n k) ∧ ∀ n k, gr_ st' n k = gr_ st n k
theorem Fr.rf {pi pl : Nat → Nat → Prop} {st : fo_St} : Fr pi pl st st := ⟨fun _ _ _ => rfl, fun _ _ _ => rfl, fun _ _ => rfl⟩
theorem Fr.tr {pi pl : Nat → Nat → Prop} {s1 s2 s3 : fo_St} (h : Fr pi pl s1 s2) (h2 : Fr pi pl s2 s3) : Fr pi pl s1 s3 := ⟨fun n k q => (h2.1 n k q).trans (h.1 n k q), fun n k q => (h2.2.1 n k q).trans (h.2.1 n k q), fun n k => (h2.2.2 n k).trans (h.2.2 n k)⟩
theorem Fr.wk {pi pl qi ql : Nat → Nat → Prop} {st st' : fo_St} (h : Fr pi pl st st') (h1 : ∀ n k, pi n k → qi n k) (h2 : ∀ n k, pl n k → ql n k) : Fr qi ql st st' := ⟨fun n k q => h.1 n k (fun z => q (h1 n k z)), fun n k q => h.2.1 n k (fun z => q (h2 n k z)), h.2.2⟩
theorem Fr.si {pi pl : Nat → Nat → Prop} {st s1 : fo_St} (h : Fr pi pl st s1) {n k : Nat} {v : Int32} (hp : pi n k) : Fr pi pl st (si_ s1 n k v) := ⟨fun a b q => by rw [gi_si, if_neg (fun z => q (by rw [z.1, z.2]; exact hp))]; exact h.1 a b q, h.2.1, h.2.2⟩
theorem Fr.sl {pi pl : Nat → Nat → Prop} {st s1 : fo_St} (h : Fr pi pl st s1) {n k : Nat} {v : Int64} (hp : pl n k) : Fr pi pl st (sl_ s1 n k v) := ⟨h.1, fun a b q => by rw [gl_sl, if_neg (fun z => q (by rw [z.1, z.2]; exact hp))]; exact h.2.1 a b q, h.2.2⟩
/-! the component's side -/
def xAg (Lc : Nat → Prop) (st st' : fo_St) : Prop := ∀ n, Lc n → ∀ k, gi_ st' n k = gi_ st n k ∧ gr_ st' n k = gr_ st n k
def tAg (Lc : Nat → Prop) (tg tg' : Nat → Nat × Nat) : Prop := ∀ n, Lc n → tg' n = tg n
def xCl (Lc : Nat → Prop) (tg : Nat → Nat × Nat) (st : fo_St) (q : Nat) (c : Cl) : Prop := Lc q ∧ tg q = (1, 8) ∧ gi_ st q 0 = c.1 ∧ ∀ (tg' : Nat → Nat × Nat) (st' : fo_St) (vals : Nat → Int64) (G : Nat), tAg Lc tg tg' → tg' 31 = (1, 4) → xAg Lc st st' → (∀ i, i < 11 → gl_ st' 32 i = vals i) → Vok vals → 1000 < G → fX9_tells tg' G q st' = some ((c.2 vals).getD (-4000000000), st') ∧ c.2 vals ≠ some (-4000000000)
/-- a list: its objects, in order -/
def xList (Lc : Nat → Prop) (tg : Nat → Nat × Nat) (st : fo_St) (al n : Nat) (f : Nat → Nat → Prop) : Prop := n < 1000000 ∧ Lc al ∧ tg al = (1, 18) ∧ gi_ st al 2 = nI n ∧ ∃ ar L, gr_ st al 1 = some ar ∧ Lc ar ∧ tg ar = (6, L) ∧ n ≤ L ∧ L < 1000000 ∧ ∀ i, i < n → ∃ q, gr_ st ar i = some q ∧ f i q
def xLaw (Lc : Nat → Prop) (tg : Nat → Nat × Nat) (st : fo_St) (q : Nat) (cls : List Cl) : Prop := Lc q ∧ tg q = (1, 16) ∧ ∃ al, gr_ st q 0 = some al ∧ xList Lc tg st al cls.length (fun i c => ∃ h : i < cls.length, xCl Lc tg st c cls[i])
theorem x_size (al : Nat) (st : fo_St) : fJ2_size al st = some (gi_ st al 2, st) := rfl
theorem x_get {tg : Nat → Nat × Nat} {al ar L i n : Nat} {st : fo_St} (hn : gi_ st al 2 = nI n) (hi : i < n) (hn2 : n < 1000000) (ha : gr_ st al 1 = some ar) (ht : tg ar = (6, L)) (hL : n ≤ L) {q : Nat} (hq : gr_ st ar i = some q) : fJ2_get tg al (nI i) st = some (q, st) := by
  have h0 : ¬ nI i < 0 := nI_pos (by omega)
  have h1 : nI i < nI n := nI_lt hi (by omega)
  unfold fJ2_get fJ5_checkIndex fJ6_checkIndex fJ2_elementData
  rw [hn]
  simp only [if_neg h0, if_pos h1, bd_some, ha, rn_some, ht, decide_true, ck_true]
  rw [ck_in (by omega) (by omega), nI_c (by omega), hq]
  rfl
theorem x_told {Lc : Nat → Prop} {tg tg' : Nat → Nat × Nat} {st st' : fo_St} {q G : Nat} {cls : List Cl} {vals : Nat → Int64} {head : Int32} (hL : xLaw Lc tg st q cls) (ht : tAg Lc tg tg') (h31 : tg' 31 = (1, 4)) (hs : xAg Lc st st') (hv : ∀ i, i < 11 → gl_ st' 32 i = vals i) (hV : Vok vals) (hG : 1000 < G) (hlen : cls.length ≤ 100) : fX19_told tg' G q head st' = some ((dLaw cls head vals).getD (-4000000000), st') := by
  obtain ⟨hq, hqt, al, hal, hn9, hAl, hAt, hsz, ar, L, har, hAr, hrt, hnL, hL9, hel⟩ := hL
  have e1 : gr_ st' q 0 = some al := by rw [(hs q hq 0).2, hal]
  have e2 : tg' al = (1, 18) := by rw [ht al hAl, hAt]
  have e3 : gi_ st' al 2 = nI cls.length := by rw [(hs al hAl 2).1, hsz]
  have e4 : gr_ st' al 1 = some ar := by rw [(hs al hAl 1).2, har]
  have e5 : tg' ar = (6, L) := by rw [ht ar hAr, hrt]
  have h : wp_ (fX19_told tg' G q head st') (fun p => p = ((dLaw cls head vals).getD (-4000000000), st')) := by
    unfold fX19_told
    refine for3 (n := cls.length) (P := fun i x s => s = st' ∧ x = ((cls.take i).foldl (dStep head vals) none).getD (-4000000000)) (fun rec i x s hi hp hr => ?_) (fun rec x s hp => ?_) cls.length G 0 (-4000000000) st' (by omega) (by omega) ⟨rfl, rfl⟩
    · obtain ⟨rfl, hx⟩ := hp
      obtain ⟨c, hc, hci, hcl⟩ := hel i hi
      have hc2 : gr_ s ar i = some c := by rw [(hs ar hAr i).2, hc]
      obtain ⟨g1, g2, g3, g4⟩ := hcl
      obtain ⟨g4, g5⟩ := g4 tg' s vals G ht h31 hs hv hV hG
      have gt : tg' c = (1, 8) := by rw [ht c g1, g2]
      have gh : gi_ s c 0 = cls[i].1 := by rw [(hs c g1 0).1, g3]
      have hget := x_get (tg := tg') e3 hi (by omega) e4 e5 hnL hc2
      have hle : ¬ nI cls.length ≤ nI i := nI_ge hi (by omega)
      simp only [e1, rn_some, e2, decide_true, ck_true, x_size, bd_some, e3, if_neg hle, hget, gt, gh]
      have htk : cls.take (i + 1) = cls.take i ++ [cls[i]] := by rw [List.take_add_one, List.getElem?_eq_getElem hi]; rfl
      have hfold : (cls.take (i + 1)).foldl (dStep head vals) none = dStep head vals ((cls.take i).foldl (dStep head vals) none) cls[i] := by rw [htk, List.foldl_append]; rfl
      by_cases hh : cls[i].1 = head
      · rw [if_pos hh, g4, bd_some, nI_1]
        cases hd : cls[i].2 vals with
        | none =>
          rw [Option.getD_none, if_pos rfl]
          refine hr _ _ ⟨rfl, ?_⟩
          rw [hfold, hx]
          unfold dStep
          rw [if_pos hh, hd]
        | some v =>
          have hne : ¬ v = -4000000000 := fun z => g5 (by rw [hd, z])
          rw [Option.getD_some, if_neg hne]
          refine hr _ _ ⟨rfl, ?_⟩
          rw [hfold]
          unfold dStep
          rw [if_pos hh, hd]
          rfl
      · rw [if_neg hh, nI_1]
        refine hr _ _ ⟨rfl, ?_⟩
        rw [hfold, hx]
        unfold dStep
        rw [if_neg hh]
    · obtain ⟨rfl, hx⟩ := hp
      have hle : nI cls.length ≤ nI cls.length := Int32.le_refl _
      simp only [e1, rn_some, e2, decide_true, ck_true, x_size, bd_some, e3, if_pos hle]
      refine wp_some.mpr ?_
      rw [hx, List.take_length]
      rfl
  obtain ⟨p, h1, h2⟩ := h
  rw [h1, h2]
