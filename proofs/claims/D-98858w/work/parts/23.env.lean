/-! PLAIN 4: the told, on both sides; says and tells -/
set_option maxRecDepth 100000
/-- ranges of what is told -/
def eOk (e : Ev) : Prop := (∀ r, r < 16 → (0 ≤ (vL e r).toInt ∧ (vL e r).toInt ≤ 9) ∧ (0 ≤ (vW e r).toInt ∧ (vW e r).toInt ≤ 9) ∧ (1 ≤ (vZ e r).toInt ∧ (vZ e r).toInt ≤ 9)) ∧ (∀ k, k < 6 → (0 ≤ (vN e k).toInt ∧ (vN e k).toInt ≤ 9) ∧ (0 ≤ (vD e k).toInt ∧ (vD e k).toInt ≤ 9)) ∧ (1 ≤ (vT e 1).toInt ∧ (vT e 1).toInt ≤ 99) ∧ (0 ≤ (vT e 2).toInt ∧ (vT e 2).toInt ≤ 99) ∧ (0 ≤ (vT e 3).toInt ∧ (vT e 3).toInt ≤ 10) ∧ (0 ≤ (vT e 4).toInt ∧ (vT e 4).toInt ≤ 9) ∧ (vM e).length ≤ 12
def envX (Lc : Nat → Prop) (tg : Nat → Nat × Nat) (st : fo_St) (e : Ev) : Prop := (∀ r, r < 16 → gi_ st 7 r = vL e r ∧ gi_ st 8 r = vW e r ∧ gi_ st 9 r = vZ e r) ∧ (∀ k, k < 6 → gi_ st 10 k = vN e k ∧ gi_ st 11 k = vD e k) ∧ (∀ w, 0 < w → w < 5 → gi_ st 13 w = vT e w) ∧ (vF e = false → gi_ st 2 11 = -1) ∧ (vF e = true → ∃ f n ar L q, f < 6 ∧ gi_ st 2 11 = nI f ∧ f < n ∧ n < 1000000 ∧ gi_ st 14 2 = nI n ∧ gr_ st 14 1 = some ar ∧ tg ar = (6, L) ∧ n ≤ L ∧ gr_ st ar f = some q ∧ xLaw Lc tg st q (vM e) ∧ ((gi_ st 2 10 >>> (nI f &&& 31)) &&& 1 = 1 ↔ comes_ (vM e) = true))
def kOk (k : Int32) : Prop := k = -1 ∨ ∃ j, j < 6 ∧ k = nI j
theorem l_of {x : Int32} : (x.toInt64).toInt = x.toInt := Int32.toInt_toInt64 x
theorem sayV_ok {e : Ev} {T : Tb} {r : Nat} {kind grown fam : Int32} (he : eOk e) (hr : r < 16) (hk : kOk kind) (hg : 0 ≤ grown.toInt ∧ grown.toInt ≤ 1000) (hf : -1 ≤ fam.toInt ∧ fam.toInt ≤ 5) (hS : 0 ≤ (tS T).toInt ∧ (tS T).toInt ≤ 100000) : Vok (sayV e T r kind grown fam) := by
  obtain ⟨e1, e2, -, -, -, e6, -⟩ := he
  have hr1 := e1 r hr
  intro i hi
  unfold sayV
  have hn1 : (-1 : Int64).toInt = -1 := rfl
  match i, hi with
  | 0, _ => simp only [l_of]; rw [nI_nn r (by omega)]; omega
  | 1, _ => simp only [l_of]; omega
  | 2, _ => simp only [l_of]; omega
  | 3, _ => simp only [l_of]; omega
  | 4, _ =>
    simp only [l_of]
    rcases hk with rfl | ⟨j, hj, rfl⟩
    · decide
    · rw [nI_nn j (by omega)]; omega
  | 5, _ => simp only [l_of]; omega
  | 6, _ => simp only [l_of]; omega
  | 7, _ => simp only [l_of]; omega
  | 8, _ => simp only [l_of]; omega
  | 9, _ =>
    by_cases h : kind = -1
    · simp only [if_pos h]; decide
    · simp only [if_neg h, l_of]
      rcases hk with z | ⟨j, hj, rfl⟩
      · exact absurd z h
      · rw [nI_c (by omega)]; have := (e2 j hj).1; omega
  | 10, _ =>
    by_cases h : kind = -1
    · simp only [if_pos h]; decide
    · simp only [if_neg h, l_of]
      rcases hk with z | ⟨j, hj, rfl⟩
      · exact absurd z h
      · rw [nI_c (by omega)]; have := (e2 j hj).2; omega
theorem nI_m1 {j : Nat} (h : j < 2147483648) : ¬ nI j = (-1 : Int32) := by
  intro q
  have := congrArg Int32.toInt q
  rw [nI_nn j h] at this
  have h2 : (-1 : Int32).toInt = -1 := rfl
  omega
theorem x_term4 (st : fo_St) : fX0_term 4 st = some (gi_ st 13 4, st) := rfl
theorem x_term1 (st : fo_St) : fX0_term 1 st = some (gi_ st 13 1, st) := rfl
theorem m_term4 (st : fo_St) : fX5_term 4 st = some (gi_ st 2 7, st) := rfl
theorem m_term1 (st : fo_St) : fX5_term 1 st = some (gi_ st 2 4, st) := rfl
theorem m_term0 (st : fo_St) : fX5_term 0 st = some (gi_ st 2 3, st) := rfl
/-- cells that hold no law, no list of laws: the fixed ones -/
def LcOk (Lc : Nat → Prop) : Prop := ∀ n, Lc n → 174 ≤ n
theorem xAg_sl {Lc : Nat → Prop} (h : LcOk Lc) {st s1 : fo_St} (ha : xAg Lc st s1) {k : Nat} {v : Int64} : xAg Lc st (sl_ s1 32 k v) := fun n hn j => ha n hn j
theorem x_says {Lc : Nat → Prop} {tg : Nat → Nat × Nat} {st : fo_St} {e : Ev} {T : Tb} {t r G : Nat} {head kind grown fam : Int32} (hL : LcOk Lc) (h31 : tg 31 = (1, 4)) (hE : envX Lc tg st e) (he : eOk e) (hr : r < 16) (hT : gi_ st t 3 = tS T) (hk : kOk kind) (hg : 0 ≤ grown.toInt ∧ grown.toInt ≤ 1000) (hf : -1 ≤ fam.toInt ∧ fam.toInt ≤ 5) (hS : 0 ≤ (tS T).toInt ∧ (tS T).toInt ≤ 100000) (hG : 1000 < G) : ∃ st', fX0_says tg G head t (nI r) kind grown fam st = some ((say_ e T head r kind grown fam).getD (-4000000000), st') ∧ Fr (fun _ _ => False) (fun n _ => n = 32) st st' := by
  have hV := sayV_ok (T := T) (grown := grown) (fam := fam) he hr hk hg hf hS
  obtain ⟨e1, e2, e3, e4, e5⟩ := hE
  obtain ⟨g1, g2, g3⟩ := e1 r hr
  unfold fX0_says
  cases hF : vF e with
  | false =>
    rw [if_neg (fun q => q (e4 hF))]
    refine ⟨st, ?_, Fr.rf⟩
    unfold say_
    rw [hF]
    rfl
  | true =>
    obtain ⟨f, n, ar, L, q, hf6, hfo, hfn, hn9, hsz, har, hart, hnL, hq, hlaw, -⟩ := e5 hF
    rw [hfo, if_pos (nI_m1 (by omega))]
    have key : ∀ s : fo_St, (∀ a b, gi_ s a b = gi_ st a b) → (∀ a b, gr_ s a b = gr_ st a b) → (∀ i, i < 11 → gl_ s 32 i = sayV e T r kind grown fam i) → (bd_ (fJ2_get tg 14 (gi_ st 2 11) s) fun x18 st19 => ck_ (decide (tg x18 = (1, 16))) (bd_ (fX19_told tg G x18 head st19) fun x21 st22 => some (x21, st22))) = some ((say_ e T head r kind grown fam).getD (-4000000000), s) := by
      intro s hi hrr hl
      rw [hfo, x_get (tg := tg) (by rw [hi]; exact hsz) hfn hn9 (by rw [hrr]; exact har) hart hnL (by rw [hrr]; exact hq), bd_some, hlaw.2.1, ck_dec rfl]
      rw [x_told hlaw (fun _ _ => rfl) h31 (fun a _ k => ⟨hi a k, hrr a k⟩) hl hV hG (by have := he.2.2.2.2.2.2; omega), bd_some]
      unfold say_
      rw [hF]
      rfl
    have h7 : ∀ w, 0 < w → w < 5 → gi_ st 13 w = vT e w := e3
    rcases hk with rfl | ⟨j, hj, rfl⟩
    · simp (disch := omega) only [lt_def, lI_def, lL_def, jn_def, bd_some, bv_some, ck_true, rn_some, ck_in, ck_lit, ck_bI, ck_dec, lit_add, add_lit, lit_mul, nI_mulN, nI_add, nI_1, sub_lit, nI_sub, nI_c, lit_c, le_nI, nI_leL, nI_le', nI_lt', nI_eq', lt_lit, lt_litL, eq_lit, ite_t, ite_f, x_term4, gi_sl, not_true_eq_false, if_false]
      refine ⟨_, key _ (fun _ _ => rfl) (fun _ _ => rfl) (fun i hi => ?_), ?_⟩
      · simp only [gl_sl]
        unfold sayV
        match i, hi with
        | 0, _ => rfl
        | 1, _ => simp [g1]
        | 2, _ => simp [g2]
        | 3, _ => simp [g3]
        | 4, _ => rfl
        | 5, _ => rfl
        | 6, _ => rfl
        | 7, _ => simp [hT]
        | 8, _ => simp [h7 4 (by decide) (by decide)]
        | 9, _ => rfl
        | 10, _ => rfl
      · repeat first | exact Fr.rf | refine Fr.sl ?_ rfl
    · obtain ⟨k1, k2⟩ := e2 j hj
      have hm := nI_m1 (j := j) (by omega)
      simp (disch := omega) only [lt_def, lI_def, lL_def, jn_def, bd_some, bv_some, ck_true, rn_some, ck_in, ck_lit, ck_bI, ck_dec, lit_add, add_lit, lit_mul, nI_mulN, nI_add, nI_1, sub_lit, nI_sub, nI_c, lit_c, le_nI, nI_leL, nI_le', nI_lt', nI_eq', lt_lit, lt_litL, eq_lit, ite_t, ite_f, x_term4, gi_sl, hm, not_false_eq_true, if_true]
      refine ⟨_, key _ (fun _ _ => rfl) (fun _ _ => rfl) (fun i hi => ?_), ?_⟩
      · simp only [gl_sl]
        unfold sayV
        match i, hi with
        | 0, _ => rfl
        | 1, _ => simp [g1]
        | 2, _ => simp [g2]
        | 3, _ => simp [g3]
        | 4, _ => rfl
        | 5, _ => rfl
        | 6, _ => rfl
        | 7, _ => simp [hT]
        | 8, _ => simp [h7 4 (by decide) (by decide)]
        | 9, _ => simp [hm, nI_c (show j < 2147483648 by omega), k1]
        | 10, _ => simp [hm, nI_c (show j < 2147483648 by omega), k2]
      · repeat first | exact Fr.rf | refine Fr.sl ?_ rfl
