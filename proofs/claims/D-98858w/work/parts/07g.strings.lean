/-! literals of the readers: what they hold, and how long they are -/
set_option maxRecDepth 100000
def lit_l : List (String × Nat × String × List Int32) := [("ForestRooms$LawReader", 20, "grows", [103, 114, 111, 119, 115]), ("ForestRooms$LawReader", 26, "suits", [115, 117, 105, 116, 115]), ("ForestRooms$LawReader", 28, "leaves", [108, 101, 97, 118, 101, 115]), ("ForestRooms$LawReader", 30, "comes", [99, 111, 109, 101, 115]), ("ForestRooms$LawReader", 32, "bars", [98, 97, 114, 115]), ("ForestRooms$Reader", 152, "[", [91]), ("ForestRooms$Reader", 154, "]", [93]), ("ForestRooms$LawReader", 72, "room", [114, 111, 111, 109]), ("ForestRooms$LawReader", 77, "light", [108, 105, 103, 104, 116]), ("ForestRooms$LawReader", 79, "wet", [119, 101, 116]), ("ForestRooms$LawReader", 81, "size", [115, 105, 122, 101]), ("ForestRooms$LawReader", 83, "kind", [107, 105, 110, 100]), ("ForestRooms$LawReader", 85, "grown", [103, 114, 111, 119, 110]), ("ForestRooms$LawReader", 87, "family", [102, 97, 109, 105, 108, 121]), ("ForestRooms$LawReader", 89, "season", [115, 101, 97, 115, 111, 110]), ("ForestRooms$LawReader", 91, "mood", [109, 111, 111, 100]), ("ForestRooms$LawReader", 93, "needs", [110, 101, 101, 100, 115]), ("ForestRooms$LawReader", 95, "drinks", [100, 114, 105, 110, 107, 115]), ("ForestRooms$OrderReader", 92, "season", [115, 101, 97, 115, 111, 110]), ("ForestRooms$OrderReader", 97, "trees", [116, 114, 101, 101, 115]), ("ForestRooms$OrderReader", 99, "done", [100, 111, 110, 101]), ("ForestRooms$OrderReader", 101, "lost", [108, 111, 115, 116]), ("ForestRooms$OrderReader", 103, "grown", [103, 114, 111, 119, 110]), ("ForestRooms$OrderReader", 105, "kind", [107, 105, 110, 100]), ("ForestRooms$OrderReader", 107, "who", [119, 104, 111]), ("ForestRooms$Reader", 143, "*", [42]), ("ForestRooms$Reader", 145, "/", [47]), ("ForestRooms$Reader", 147, "%", [37]), ("ForestRooms$Reader", 133, "+", [43]), ("ForestRooms$Reader", 135, "-", [45]), ("ForestRooms$LawReader", 52, "if", [105, 102]), ("ForestRooms$Reader", 91, "not", [110, 111, 116]), ("ForestRooms$Reader", 101, "(", [40]), ("ForestRooms$Reader", 109, ")", [41]), ("ForestRooms$Reader", 119, "<", [60]), ("ForestRooms$Reader", 121, ">", [62]), ("ForestRooms$Reader", 123, "=", [61]), ("ForestRooms$Reader", 86, "and", [97, 110, 100]), ("ForestRooms$Reader", 66, "or", [111, 114]), ("ForestRooms$OrderReader", 20, "plant", [112, 108, 97, 110, 116]), ("ForestRooms$OrderReader", 26, "prune", [112, 114, 117, 110, 101]), ("ForestRooms$OrderReader", 28, "let", [108, 101, 116]), ("ForestRooms$OrderReader", 30, "empty", [101, 109, 112, 116, 121]), ("ForestRooms$OrderReader", 32, "pass", [112, 97, 115, 115]), ("ForestRooms$OrderReader", 53, "in", [105, 110]), ("ForestRooms$OrderReader", 55, "by", [98, 121]), ("ForestRooms$OrderReader", 57, "to", [116, 111]), ("ForestRooms$OrderReader", 66, "times", [116, 105, 109, 101, 115]), ("ForestRooms$OrderReader", 78, "if", [105, 102]), ("ForestRooms$Reader", 57, ";", [59])]
def lit_ (i : Nat) : List Int32 := (lit_l.map fun q => q.2.2.2).getD i []
theorem lq_0 : lit_l[0]? = some ("ForestRooms$LawReader", 20, "grows", [103, 114, 111, 119, 115]) := rfl
theorem lq_1 : lit_l[1]? = some ("ForestRooms$LawReader", 26, "suits", [115, 117, 105, 116, 115]) := rfl
theorem lq_2 : lit_l[2]? = some ("ForestRooms$LawReader", 28, "leaves", [108, 101, 97, 118, 101, 115]) := rfl
theorem lq_3 : lit_l[3]? = some ("ForestRooms$LawReader", 30, "comes", [99, 111, 109, 101, 115]) := rfl
theorem lq_4 : lit_l[4]? = some ("ForestRooms$LawReader", 32, "bars", [98, 97, 114, 115]) := rfl
theorem lq_5 : lit_l[5]? = some ("ForestRooms$Reader", 152, "[", [91]) := rfl
theorem lq_6 : lit_l[6]? = some ("ForestRooms$Reader", 154, "]", [93]) := rfl
theorem lq_7 : lit_l[7]? = some ("ForestRooms$LawReader", 72, "room", [114, 111, 111, 109]) := rfl
theorem lq_8 : lit_l[8]? = some ("ForestRooms$LawReader", 77, "light", [108, 105, 103, 104, 116]) := rfl
theorem lq_9 : lit_l[9]? = some ("ForestRooms$LawReader", 79, "wet", [119, 101, 116]) := rfl
theorem lq_10 : lit_l[10]? = some ("ForestRooms$LawReader", 81, "size", [115, 105, 122, 101]) := rfl
theorem lq_11 : lit_l[11]? = some ("ForestRooms$LawReader", 83, "kind", [107, 105, 110, 100]) := rfl
theorem lq_12 : lit_l[12]? = some ("ForestRooms$LawReader", 85, "grown", [103, 114, 111, 119, 110]) := rfl
theorem lq_13 : lit_l[13]? = some ("ForestRooms$LawReader", 87, "family", [102, 97, 109, 105, 108, 121]) := rfl
theorem lq_14 : lit_l[14]? = some ("ForestRooms$LawReader", 89, "season", [115, 101, 97, 115, 111, 110]) := rfl
theorem lq_15 : lit_l[15]? = some ("ForestRooms$LawReader", 91, "mood", [109, 111, 111, 100]) := rfl
theorem lq_16 : lit_l[16]? = some ("ForestRooms$LawReader", 93, "needs", [110, 101, 101, 100, 115]) := rfl
theorem lq_17 : lit_l[17]? = some ("ForestRooms$LawReader", 95, "drinks", [100, 114, 105, 110, 107, 115]) := rfl
theorem lq_18 : lit_l[18]? = some ("ForestRooms$OrderReader", 92, "season", [115, 101, 97, 115, 111, 110]) := rfl
theorem lq_19 : lit_l[19]? = some ("ForestRooms$OrderReader", 97, "trees", [116, 114, 101, 101, 115]) := rfl
theorem lq_20 : lit_l[20]? = some ("ForestRooms$OrderReader", 99, "done", [100, 111, 110, 101]) := rfl
theorem lq_21 : lit_l[21]? = some ("ForestRooms$OrderReader", 101, "lost", [108, 111, 115, 116]) := rfl
theorem lq_22 : lit_l[22]? = some ("ForestRooms$OrderReader", 103, "grown", [103, 114, 111, 119, 110]) := rfl
theorem lq_23 : lit_l[23]? = some ("ForestRooms$OrderReader", 105, "kind", [107, 105, 110, 100]) := rfl
theorem lq_24 : lit_l[24]? = some ("ForestRooms$OrderReader", 107, "who", [119, 104, 111]) := rfl
theorem lq_25 : lit_l[25]? = some ("ForestRooms$Reader", 143, "*", [42]) := rfl
theorem lq_26 : lit_l[26]? = some ("ForestRooms$Reader", 145, "/", [47]) := rfl
theorem lq_27 : lit_l[27]? = some ("ForestRooms$Reader", 147, "%", [37]) := rfl
theorem lq_28 : lit_l[28]? = some ("ForestRooms$Reader", 133, "+", [43]) := rfl
theorem lq_29 : lit_l[29]? = some ("ForestRooms$Reader", 135, "-", [45]) := rfl
theorem lq_30 : lit_l[30]? = some ("ForestRooms$LawReader", 52, "if", [105, 102]) := rfl
theorem lq_31 : lit_l[31]? = some ("ForestRooms$Reader", 91, "not", [110, 111, 116]) := rfl
theorem lq_32 : lit_l[32]? = some ("ForestRooms$Reader", 101, "(", [40]) := rfl
theorem lq_33 : lit_l[33]? = some ("ForestRooms$Reader", 109, ")", [41]) := rfl
theorem lq_34 : lit_l[34]? = some ("ForestRooms$Reader", 119, "<", [60]) := rfl
theorem lq_35 : lit_l[35]? = some ("ForestRooms$Reader", 121, ">", [62]) := rfl
theorem lq_36 : lit_l[36]? = some ("ForestRooms$Reader", 123, "=", [61]) := rfl
theorem lq_37 : lit_l[37]? = some ("ForestRooms$Reader", 86, "and", [97, 110, 100]) := rfl
theorem lq_38 : lit_l[38]? = some ("ForestRooms$Reader", 66, "or", [111, 114]) := rfl
theorem lq_39 : lit_l[39]? = some ("ForestRooms$OrderReader", 20, "plant", [112, 108, 97, 110, 116]) := rfl
theorem lq_40 : lit_l[40]? = some ("ForestRooms$OrderReader", 26, "prune", [112, 114, 117, 110, 101]) := rfl
theorem lq_41 : lit_l[41]? = some ("ForestRooms$OrderReader", 28, "let", [108, 101, 116]) := rfl
theorem lq_42 : lit_l[42]? = some ("ForestRooms$OrderReader", 30, "empty", [101, 109, 112, 116, 121]) := rfl
theorem lq_43 : lit_l[43]? = some ("ForestRooms$OrderReader", 32, "pass", [112, 97, 115, 115]) := rfl
theorem lq_44 : lit_l[44]? = some ("ForestRooms$OrderReader", 53, "in", [105, 110]) := rfl
theorem lq_45 : lit_l[45]? = some ("ForestRooms$OrderReader", 55, "by", [98, 121]) := rfl
theorem lq_46 : lit_l[46]? = some ("ForestRooms$OrderReader", 57, "to", [116, 111]) := rfl
theorem lq_47 : lit_l[47]? = some ("ForestRooms$OrderReader", 66, "times", [116, 105, 109, 101, 115]) := rfl
theorem lq_48 : lit_l[48]? = some ("ForestRooms$OrderReader", 78, "if", [105, 102]) := rfl
theorem lq_49 : lit_l[49]? = some ("ForestRooms$Reader", 57, ";", [59]) := rfl
theorem lit_ok : ∀ i, i < 50 → (lit_ i).length < 2 ^ 31 ∧ ∀ j, j < (lit_ i).length → chr_ ((lit_ i).getD j 0 &&& 255) = (lit_ i).getD j 0 := by decide +kernel
def fo_SXf (K V : Nat → Nat) (mi : Nat) (A : Nat → Prop) (U : State) (H : Heap) : Prop :=
  (∀ i, i < 50 → va_O "java/lang/String" (K i) A U H ∧ va_OF "java/lang/String" "coder" "B" (.int 0) (K i) A U H ∧ va_OF "java/lang/String" "value" "[B" (.ref (V i)) (K i) A U H ∧ va_T .byte (V i) (lit_ i).length (fun j => .int ((lit_ i).getD j 0)) A U H) ∧
  (∀ i q, lit_l[i]? = some q → vk_R q.1 q.2.1 q.2.2.1 (K i) U) ∧
  va_Mi "[Ljava/lang/Object;" mi U ∧
  va_Z "java/lang/String" "COMPACT_STRINGS" "Z" (.int 1) A U H ∧
  (∃ t : Option Nat, va_Z "jdk/internal/util/Preconditions" "SIOOBE_FORMATTER" "Ljava/util/function/BiFunction;" (va_rf t) A U H) ∧
  (∃ t : Option Nat, va_Z "java/lang/Throwable" "UNASSIGNED_STACK" "[Ljava/lang/StackTraceElement;" (va_rf t) A U H) ∧
  (∃ t : Option Nat, va_Z "java/lang/Throwable" "SUPPRESSED_SENTINEL" "Ljava/util/List;" (va_rf t) A U H) ∧
  va_Fw "java/util/ArrayList" ⟨"java/util/Collection", "toArray", "()[Ljava/lang/Object;"⟩ ⟨"java/util/ArrayList", "toArray", "()[Ljava/lang/Object;"⟩ U ∧ va_AO "java/lang/Object" U ∧ va_AO "ForestRooms$State" U ∧ va_AO "ForestRooms$Table" U
/-- what a world's further facts hold -/
def fo_SX (E : fo_E) (K V : Nat → Nat) (mi : Nat) : Prop := ∀ (U : State) (H : Heap), eX E U H → fo_SXf K V mi (eF E) U H
theorem fo_SXf.moved {K V : Nat → Nat} {mi : Nat} {A : Nat → Prop} {u U : State} {H : Heap} (hW : u.WarmedH U.vm) (h : fo_SXf K V mi A u H) : fo_SXf K V mi A U H := by
  obtain ⟨h1, h2, h3, h4, ⟨t5, h5⟩, ⟨t6, h6⟩, ⟨t7, h7⟩, h8, h9, h10, h11⟩ := h
  exact ⟨fun i hi => ⟨va_O.moved hW.alike (h1 i hi).1, va_OF.moved hW.alike (h1 i hi).2.1, va_OF.moved hW.alike (h1 i hi).2.2.1, va_T.moved hW.alike (h1 i hi).2.2.2⟩, fun i q hq => vk_R.warm hW (h2 i q hq), va_Mi.moved hW.alike h3, va_Z.moved hW.alike h4, ⟨t5, va_Z.moved hW.alike h5⟩, ⟨t6, va_Z.moved hW.alike h6⟩, ⟨t7, va_Z.moved hW.alike h7⟩, va_Fw.moved ⟨by decide, by decide⟩ hW.alike h8, va_AO.moved hW.alike h9, va_AO.moved hW.alike h10, va_AO.moved hW.alike h11⟩
theorem fo_SXf.kept {K V : Nat → Nat} {mi : Nat} {A : Nat → Prop} {U : State} {H H1 : Heap} (h : fo_SXf K V mi A U H) (hq : ∀ a : Nat, a < H.size → ¬ A a → H1[a]? = H[a]?) : fo_SXf K V mi A U H1 := by
  obtain ⟨h1, h2, h3, h4, ⟨t5, h5⟩, ⟨t6, h6⟩, ⟨t7, h7⟩, h8⟩ := h
  exact ⟨fun i hi => ⟨(h1 i hi).1.kept hq, (h1 i hi).2.1.kept hq, (h1 i hi).2.2.1.kept hq, (h1 i hi).2.2.2.kept hq⟩, h2, h3, h4.kept hq, ⟨t5, h5.kept hq⟩, ⟨t6, h6.kept hq⟩, ⟨t7, h7.kept hq⟩, h8⟩
section FC1
variable {p : Program} {l : Launch} {e : Env} {R : Room} {s : State} {m : MethodId} {args : Array Value} {below : List Frame} {meth : Method} {c : Code} {H : Heap} {locs : List Loc} {cells slots : Nat} {Q : State → Prop}
variable {cc : ByteArray} {nL pc : Nat} {ls : Array Slot} {rest stk : List Value} {own : String} {E : fo_E} {st : fo_St} {α : Type} {y0 : α}
variable {y : MethodName} {bytes : ByteArray} {maxL n index : Nat} {ret : Option FieldType} {rm : Room}
theorem fs_V (X : fo_X E p m c cc nL s args own meth) (hw : fo_S E s st H locs) (hlim : cells + 0 ≤ R.cells ∧ slots + 0 ≤ R.slots) (hM : fo_M y n) (hG : GoodIn lw_all (wsV own index y.cls y (ws_ y bytes maxL ret))) (hrm : rm.cells = 0 ∧ rm.slots = 0) (hR : rm.frames + 1 ≤ R.frames ∧ 8 + (maxL + 11) + rm.locals ≤ R.locals) {a : Nat} (hr9 : ∃ cell : Cell, H[a]? = some cell ∧ cell.vm.isStatics = false ∧ s.vm.findClass y.cls = some cell.cls) {As : List Value} (hn : As.length = n) (hstk : stk = As.reverse ++ .ref a :: rest) (hsz : ls.size = nL) (hroom : (rest.map fun v => v.category).sum ≤ 8) (hdg : decode cc pc = .ok (.invokevirtual index, 3)) {o : Option (Int32 × fo_St)} {kf : Int32 → fo_St → Option α} (hct : ∀ (r : Int32) (st1 : fo_St), o = some (r, st1) → CTi l E y (ws_ y bytes maxL ret) rm (.ref a :: As) st r st1) (hf : bd_ o kf = some y0)
    (kk : ∀ (r : Int32) (st1 : fo_St) (H1 : Heap) (locs1 : List Loc), fo_S E s st1 H1 locs1 → kf r st1 = some y0 → W p l e R s m args below meth c H1 locs1 cells slots Q (F0 m (pc + 3) ls (.int r :: rest))) : W p l e R s m args below meth c H locs cells slots Q (F0 m pc ls stk) := by
  obtain ⟨r1, st1, ho, hf⟩ := bd_e hf
  subst hstk
  refine va_calli (va_runV X.1 (hct r1 st1 ho) (cwV n X.1.2.2.2.2 hG rfl hrm.1 hrm.2 ⟨rfl, hM.2⟩ hR) ⟨fo_blind, hr9, fo_pre X hw _⟩ rfl hn hsz rfl (lv_room hroom) hdg hlim) hw.2 (fun q _ h => h) (fun q h => h) (fun r u t H1 locs1 ht _ hr hB _ _ hS => ?_)
  subst hr
  exact kk r st1 H1 locs1 (fo_back hw.2 ht hB hS) hf
end FC1
def fo_En (ty : FieldType) (p : Program) (l : Launch) (e : Env) (R : Room) (s : State) (m : MethodId) (args : Array Value) (below : List Frame) (meth : Method) (c : Code) (cc : ByteArray) (Q : State → Prop) (E : fo_E) (r : Int32) (st' : fo_St) : Prop := ∀ (H : Heap) (locs : List Loc) (ls : Array Slot) (pc : Nat), fo_S E s st' H locs → narrow ty (.int r) = .int r → decode cc pc = .ok (.ireturn, 1) → W p l e R s m args below meth c H locs 0 0 Q (F0 m pc ls [.int r])
theorem fe_n {l : Launch} {E : fo_E} {y : MethodName} {cc : ByteArray} {maxL n fr lo : Nat} {av : List Value} {st st' : fo_St} {ty : FieldType} (hty : ty = .byte ∨ ty = .char ∨ ty = .boolean) {r : Int32} (hM : fo_M y n) (hn : (lg_sl av).length ≤ maxL) (body : ∀ (p : Program) (e : Env) (R : Room) (s : State) (m : MethodId) (args : Array Value) (below : List Frame) (meth : Method) (c : Code) (Q : State → Prop), R.frames = fr → R.locals = lo → fo_X E p m c cc maxL s args y.cls meth → fo_En ty p l e R s m args below meth c cc Q E r st' → ∀ ls : Array Slot, lv_has ls maxL (lv_args 0 av) → fo_S E s st s.heap [] → W p l e R s m args below meth c s.heap [] 0 0 Q (F0 m 0 ls [])) : CTi l E y (ws_ y cc maxL (some ty)) ({ frames := fr, cells := 0, slots := 0, locals := lo }) av st r st' :=
  fo_ent hM hn (fun p e s m below meth c X hr ls hl hw => body p e _ s m _ below meth c _ rfl rfl X (fun H locs ls pc hw hz hd => by
    exact W.zret X.1.1 X.1.2.1 hr hz (fun t ht hW => ⟨⟨r, (), rfl, rfl, (show wd_ E st' t.heap by rw [ht]; exact hw.1)⟩, hw.2.F ht⟩) hw.2.2.2 hd X.2.2) ls hl hw)
theorem hm_J6F_checkIndex : fo_M yJ6_checkIndex 3 := ⟨by decide +kernel, by decide +kernel, by decide +kernel, by decide +kernel⟩
theorem hm_J8_coder : fo_M yJ8_coder 0 := ⟨by decide +kernel, by decide +kernel, by decide +kernel, by decide +kernel⟩
theorem hm_J8_length : fo_M yJ8_length 0 := ⟨by decide +kernel, by decide +kernel, by decide +kernel, by decide +kernel⟩
theorem hm_J8_isLatin1 : fo_M yJ8_isLatin1 0 := ⟨by decide +kernel, by decide +kernel, by decide +kernel, by decide +kernel⟩
theorem hm_J8_charAt : fo_M yJ8_charAt 1 := ⟨by decide +kernel, by decide +kernel, by decide +kernel, by decide +kernel⟩
theorem hm_J8_checkIndex : fo_M yJ8_checkIndex 2 := ⟨by decide +kernel, by decide +kernel, by decide +kernel, by decide +kernel⟩
theorem hm_J9_charAt : fo_M yJ9_charAt 2 := ⟨by decide +kernel, by decide +kernel, by decide +kernel, by decide +kernel⟩
theorem wJ8_coder (l : Launch) (E : fo_E) (K V : Nat → Nat) (mi : Nat) (hSX : fo_SX E K V mi) (i : Nat) (hi : i < 50) (st : fo_St) : CTi l E yJ8_coder (ws_ yJ8_coder cJ8_coder 1 (some .byte)) ({ frames := 0, cells := 0, slots := 0, locals := 0 }) [.ref (K i)] st 0 st := by
  refine fe_n (Or.inl rfl) hm_J8_coder (Nat.le_of_ble_eq_true rfl) (fun p e R s m args below meth c Q hRf hRl X hend ls hl hw => ?_)
  have hx := X.1.1
  have hb := X.1.2.1
  have hown := X.1.2.2.2.1
  have hts := X.1.2.2.2.2
  obtain ⟨hL, -, -, hC, ⟨tF, hF⟩, -⟩ := hSX s s.heap X.2.1.2.2.1
  have hl : lv_has ls 1 [(0, .ref (K i))] := hl
  refine va_gets hx hb hC hw.2 hown (hts _ q795) (fun _ h => h) dJ8_coder_0 ?_
  refine fb_zeq (tgt := 13) hx hb dJ8_coder_3 (by decide) (t := none) (f := some ()) (y := ()) rfl (fun h => by cases h) (fun _ => ?_)
  refine lv_aload_n hx hb dJ8_coder_6 rfl (lv_at hl 0 rfl) ?_
  refine vk_getf hx hb (hL i hi).2.1 hw.2 hown (hts _ q2273) (fun _ h => h) dJ8_coder_7 ?_
  refine lv_goto (tgt := 14) hx hb dJ8_coder_10 (by decide) ?_
  exact hend _ _ _ _ hw rfl dJ8_coder_14
theorem wJ8_isLatin1 (l : Launch) (E : fo_E) (K V : Nat → Nat) (mi : Nat) (hSX : fo_SX E K V mi) (i : Nat) (hi : i < 50) (st : fo_St) : CTi l E yJ8_isLatin1 (ws_ yJ8_isLatin1 cJ8_isLatin1 1 (some .boolean)) ({ frames := 0, cells := 0, slots := 0, locals := 0 }) [.ref (K i)] st 1 st := by
  refine fe_n (Or.inr (Or.inr rfl)) hm_J8_isLatin1 (Nat.le_of_ble_eq_true rfl) (fun p e R s m args below meth c Q hRf hRl X hend ls hl hw => ?_)
  have hx := X.1.1
  have hb := X.1.2.1
  have hown := X.1.2.2.2.1
  have hts := X.1.2.2.2.2
  obtain ⟨hL, -, -, hC, ⟨tF, hF⟩, -⟩ := hSX s s.heap X.2.1.2.2.1
  have hl : lv_has ls 1 [(0, .ref (K i))] := hl
  refine va_gets hx hb hC hw.2 hown (hts _ q795) (fun _ h => h) dJ8_isLatin1_0 ?_
  refine fb_zeq (tgt := 17) hx hb dJ8_isLatin1_3 (by decide) (t := none) (f := some ()) (y := ()) rfl (fun h => by cases h) (fun _ => ?_)
  refine lv_aload_n hx hb dJ8_isLatin1_6 rfl (lv_at hl 0 rfl) ?_
  refine vk_getf hx hb (hL i hi).2.1 hw.2 hown (hts _ q2273) (fun _ h => h) dJ8_isLatin1_7 ?_
  refine fb_zne (tgt := 17) hx hb dJ8_isLatin1_10 (by decide) (t := none) (f := some ()) (y := ()) rfl (fun h => by cases h) (fun _ => ?_)
  refine lv_iconst (v := (1 : Int32)) hx hb dJ8_isLatin1_13 (by decide) ?_
  refine lv_goto (tgt := 18) hx hb dJ8_isLatin1_14 (by decide) ?_
  exact hend _ _ _ _ hw rfl dJ8_isLatin1_18
theorem lit_shr (n : Nat) (h : n < 2 ^ 31) : nI n >>> ((0 : Int32) &&& 31) = nI n := sc_shr0 h
theorem wJ8_length (l : Launch) (E : fo_E) (K V : Nat → Nat) (mi : Nat) (hSX : fo_SX E K V mi) (i : Nat) (hi : i < 50) (st : fo_St) : CTi l E yJ8_length (ws_ yJ8_length cJ8_length 1 (some .int)) ({ frames := 1, cells := 0, slots := 0, locals := 20 }) [.ref (K i)] st (nI (lit_ i).length) st := by
  refine fe_i hm_J8_length (Nat.le_of_ble_eq_true rfl) (fun p e R s m args below meth c Q hRf hRl X hend ls hl hw => ?_)
  have hx := X.1.1
  have hb := X.1.2.1
  have hown := X.1.2.2.2.1
  have hts := X.1.2.2.2.2
  obtain ⟨hL, -, -, hC, ⟨tF, hF⟩, -⟩ := hSX s s.heap X.2.1.2.2.1
  have hl : lv_has ls 1 [(0, .ref (K i))] := hl
  have hr9 : ∃ cell : Cell, s.heap[K i]? = some cell ∧ cell.vm.isStatics = false ∧ s.vm.findClass "java/lang/String" = some cell.cls := by
    obtain ⟨cell, h1, h2, h3, -⟩ := (hL i hi).1
    exact ⟨cell, h1, h2, h3⟩
  refine lv_aload_n hx hb dJ8_length_0 rfl (lv_at hl 0 rfl) ?_
  refine vk_getf hx hb (hL i hi).2.2.1 hw.2 hown (hts _ q2272) (fun _ h => h) dJ8_length_1 ?_
  refine va_tlen hx hb (hL i hi).2.2.2 hw.2 (v := nI (lit_ i).length) rfl dJ8_length_4 ?_
  refine lv_aload_n hx hb dJ8_length_5 rfl (lv_at hl 0 rfl) ?_
  refine fs_V (rm := { frames := 0, cells := 0, slots := 0, locals := 0 }) (α := Int32 × fo_St) (y0 := (0, st)) (kf := fun r st => some (r, st)) (o := some (0, st)) (As := []) X hw fo_lim hm_J8_coder (lw_V q791 q792 q793 q127 q794) ⟨rfl, rfl⟩ ⟨by rw [hRf]; exact Nat.le_of_ble_eq_true rfl, by rw [hRl]; exact Nat.le_of_ble_eq_true rfl⟩ hr9 rfl rfl hl.1 (Nat.le_of_ble_eq_true rfl) dJ8_length_6 (fun r st1 hQ => by cases hQ; exact wJ8_coder l E K V mi hSX i hi st) rfl (fun r st1 H1 locs1 hw1 hf1 => ?_)
  cases hf1
  refine lv_ishr hx hb dJ8_length_9 ?_
  rw [lit_shr _ (lit_ok i hi).1]
  exact hend _ _ _ _ hw1 dJ8_length_10
theorem wJ6F_checkIndex (l : Launch) (E : fo_E) (x z : Int32) (t : Nat) (h0 : ¬ x < 0) (h1 : x < z) (st : fo_St) : CTi l E yJ6_checkIndex (ws_ yJ6_checkIndex cJ6_checkIndex 3 (some .int)) ({ frames := 0, cells := 0, slots := 0, locals := 0 }) [.int x, .int z, .ref t] st x st := by
  refine fe_i hm_J6F_checkIndex (Nat.le_of_ble_eq_true rfl) (fun p e R s m args below meth c Q hRf hRl X hend ls hl hw => ?_)
  have hx := X.1.1
  have hb := X.1.2.1
  have hl : lv_has ls 3 [(0, .int x), (1, .int z), (2, .ref t)] := hl
  refine lv_iload_n hx hb dJ6_checkIndex_0 rfl (lv_at hl 0 rfl) ?_
  refine fb_zlt (tgt := 9) hx hb dJ6_checkIndex_1 (by decide) (t := none) (f := some ()) (y := ()) (by rw [if_neg h0]) (fun h => by cases h) (fun _ => ?_)
  refine lv_iload_n hx hb dJ6_checkIndex_4 rfl (lv_at hl 0 rfl) ?_
  refine lv_iload_n hx hb dJ6_checkIndex_5 rfl (lv_at hl 1 rfl) ?_
  refine fb_ilt (tgt := 16) hx hb dJ6_checkIndex_6 (by decide) (t := some ()) (f := none) (y := ()) (by rw [if_pos h1]) (fun _ => ?_) (fun h => by cases h)
  refine lv_iload_n hx hb dJ6_checkIndex_16 rfl (lv_at hl 0 rfl) ?_
  exact hend _ _ _ _ hw dJ6_checkIndex_17
theorem wJ6N_checkIndex (l : Launch) (E : fo_E) (x z : Int32) (h0 : ¬ x < 0) (h1 : x < z) (st : fo_St) : CTi l E yJ6_checkIndex (ws_ yJ6_checkIndex cJ6_checkIndex 3 (some .int)) ({ frames := 0, cells := 0, slots := 0, locals := 0 }) [.int x, .int z, .null] st x st := by
  refine fe_i hm_J6F_checkIndex (Nat.le_of_ble_eq_true rfl) (fun p e R s m args below meth c Q hRf hRl X hend ls hl hw => ?_)
  have hx := X.1.1
  have hb := X.1.2.1
  have hl : lv_has ls 3 [(0, .int x), (1, .int z), (2, .null)] := hl
  refine lv_iload_n hx hb dJ6_checkIndex_0 rfl (lv_at hl 0 rfl) ?_
  refine fb_zlt (tgt := 9) hx hb dJ6_checkIndex_1 (by decide) (t := none) (f := some ()) (y := ()) (by rw [if_neg h0]) (fun h => by cases h) (fun _ => ?_)
  refine lv_iload_n hx hb dJ6_checkIndex_4 rfl (lv_at hl 0 rfl) ?_
  refine lv_iload_n hx hb dJ6_checkIndex_5 rfl (lv_at hl 1 rfl) ?_
  refine fb_ilt (tgt := 16) hx hb dJ6_checkIndex_6 (by decide) (t := some ()) (f := none) (y := ()) (by rw [if_pos h1]) (fun _ => ?_) (fun h => by cases h)
  refine lv_iload_n hx hb dJ6_checkIndex_16 rfl (lv_at hl 0 rfl) ?_
  exact hend _ _ _ _ hw dJ6_checkIndex_17
theorem wJ8_checkIndex (l : Launch) (E : fo_E) (K V : Nat → Nat) (mi : Nat) (hSX : fo_SX E K V mi) (x z : Int32) (h0 : ¬ x < 0) (h1 : x < z) (st : fo_St) : CTv l E yJ8_checkIndex (ws_ yJ8_checkIndex cJ8_checkIndex 2 none) ({ frames := 1, cells := 0, slots := 0, locals := 22 }) [.int x, .int z] st st := by
  refine fe_v hm_J8_checkIndex (Nat.le_of_ble_eq_true rfl) (fun p e R s m args below meth c Q hRf hRl X hend ls hl hw => ?_)
  have hx := X.1.1
  have hb := X.1.2.1
  have hown := X.1.2.2.2.1
  have hts := X.1.2.2.2.2
  obtain ⟨hL, -, -, hC, ⟨tF, hF⟩, -⟩ := hSX s s.heap X.2.1.2.2.1
  have hl : lv_has ls 2 [(0, .int x), (1, .int z)] := hl
  refine lv_iload_n hx hb dJ8_checkIndex_0 rfl (lv_at hl 0 rfl) ?_
  refine lv_iload_n hx hb dJ8_checkIndex_1 rfl (lv_at hl 1 rfl) ?_
  rcases tF with _ | tF
  · replace hF : va_Z "jdk/internal/util/Preconditions" "SIOOBE_FORMATTER" "Ljava/util/function/BiFunction;" .null (eF E) s s.heap := hF
    refine va_gets hx hb hF hw.2 hown (hts _ q811) (fun _ h => h) dJ8_checkIndex_2 ?_
    refine fcA_Si (rm := { frames := 0, cells := 0, slots := 0, locals := 0 }) (α := Int32 × fo_St) (y0 := (x, st)) (kf := fun r st => some (r, st)) (o := some (x, st)) (As := [.int x, .int z, .null]) X hw fo_lim hm_J6F_checkIndex (lw_S q813 q594 q123 q595) ⟨rfl, rfl⟩ ⟨by rw [hRf]; exact Nat.le_of_ble_eq_true rfl, by rw [hRl]; exact Nat.le_of_ble_eq_true rfl⟩ rfl rfl hl.1 (Nat.le_of_ble_eq_true rfl) dJ8_checkIndex_5 (fun r st1 hQ => by cases hQ; exact wJ6N_checkIndex l E x z h0 h1 st) rfl (fun r st1 H1 locs1 hw1 hf1 => ?_)
    cases hf1
    refine lv_pop hx hb dJ8_checkIndex_8 rfl ?_
    exact hend _ _ _ _ hw1 dJ8_checkIndex_9
  · replace hF : va_Z "jdk/internal/util/Preconditions" "SIOOBE_FORMATTER" "Ljava/util/function/BiFunction;" (.ref tF) (eF E) s s.heap := hF
    refine va_gets hx hb hF hw.2 hown (hts _ q811) (fun _ h => h) dJ8_checkIndex_2 ?_
    refine fcA_Si (rm := { frames := 0, cells := 0, slots := 0, locals := 0 }) (α := Int32 × fo_St) (y0 := (x, st)) (kf := fun r st => some (r, st)) (o := some (x, st)) (As := [.int x, .int z, .ref tF]) X hw fo_lim hm_J6F_checkIndex (lw_S q813 q594 q123 q595) ⟨rfl, rfl⟩ ⟨by rw [hRf]; exact Nat.le_of_ble_eq_true rfl, by rw [hRl]; exact Nat.le_of_ble_eq_true rfl⟩ rfl rfl hl.1 (Nat.le_of_ble_eq_true rfl) dJ8_checkIndex_5 (fun r st1 hQ => by cases hQ; exact wJ6F_checkIndex l E x z tF h0 h1 st) rfl (fun r st1 H1 locs1 hw1 hf1 => ?_)
    cases hf1
    refine lv_pop hx hb dJ8_checkIndex_8 rfl ?_
    exact hend _ _ _ _ hw1 dJ8_checkIndex_9
theorem wJ9_charAt (l : Launch) (E : fo_E) (K V : Nat → Nat) (mi : Nat) (hSX : fo_SX E K V mi) (i : Nat) (hi : i < 50) (k : Nat) (hk : k < (lit_ i).length) (st : fo_St) : CTi l E yJ9_charAt (ws_ yJ9_charAt cJ9_charAt 2 (some .char)) ({ frames := 2, cells := 0, slots := 0, locals := 43 }) [.ref (V i), .int (nI k)] st ((lit_ i).getD k 0) st := by
  refine fe_n (Or.inr (Or.inl rfl)) hm_J9_charAt (Nat.le_of_ble_eq_true rfl) (fun p e R s m args below meth c Q hRf hRl X hend ls hl hw => ?_)
  have hx := X.1.1
  have hb := X.1.2.1
  have hown := X.1.2.2.2.1
  have hts := X.1.2.2.2.2
  obtain ⟨hL, -, -, hC, ⟨tF, hF⟩, -⟩ := hSX s s.heap X.2.1.2.2.1
  obtain ⟨hl9, hc9⟩ := lit_ok i hi
  have hl : lv_has ls 2 [(0, .ref (V i)), (1, .int (nI k))] := hl
  have hk2 : (nI k).toNatClampNeg = k := nI_clamp (by omega)
  have hT := (hL i hi).2.2.2
  refine lv_iload_n hx hb dJ9_charAt_0 rfl (lv_at hl 1 rfl) ?_
  refine lv_aload_n hx hb dJ9_charAt_1 rfl (lv_at hl 0 rfl) ?_
  refine va_tlen hx hb hT hw.2 (v := nI (lit_ i).length) rfl dJ9_charAt_2 ?_
  refine fcA_Sv (rm := { frames := 1, cells := 0, slots := 0, locals := 22 }) (α := fo_St) (y0 := st) (kf := fun st => some st) (o := some st) (As := [.int (nI k), .int (nI (lit_ i).length)]) X hw fo_lim hm_J8_checkIndex (lw_S q808 q809 q127 q810) ⟨rfl, rfl⟩ ⟨by rw [hRf]; exact Nat.le_of_ble_eq_true rfl, by rw [hRl]; exact Nat.le_of_ble_eq_true rfl⟩ rfl rfl hl.1 (Nat.le_of_ble_eq_true rfl) dJ9_charAt_3 (fun st1 hQ => by cases hQ; exact wJ8_checkIndex l E K V mi hSX _ _ (nI_pos (by omega)) (nI_lt hk (by omega)) st) rfl (fun st1 H1 locs1 hw1 hf1 => ?_)
  cases hf1
  refine lv_aload_n hx hb dJ9_charAt_6 rfl (lv_at hl 0 rfl) ?_
  refine lv_iload_n hx hb dJ9_charAt_7 rfl (lv_at hl 1 rfl) ?_
  refine va_tb hx hb hT hw1.2 (vp_in_nI hk (by omega)) (v := .int ((lit_ i).getD k 0)) (by rw [hk2]) dJ9_charAt_8 ?_
  refine lv_sipush (v := (255 : Int32)) hx hb dJ9_charAt_9 (by decide) ?_
  refine lv_iand hx hb dJ9_charAt_12 ?_
  refine lv_i2c (v := (lit_ i).getD k 0) hx hb dJ9_charAt_13 (hc9 k hk) ?_
  refine hend _ _ _ _ hw1 ?_ dJ9_charAt_14
  have h := hc9 k hk
  have h2 := sc_nar ((lit_ i).getD k 0)
  have h3 : chr_ ((lit_ i).getD k 0 &&& 255) = (lit_ i).getD k 0 &&& 255 := Value.int.inj h2
  rw [h3] at h
  rw [h] at h2
  exact h2
theorem wJ8_charAt (l : Launch) (E : fo_E) (K V : Nat → Nat) (mi : Nat) (hSX : fo_SX E K V mi) (i : Nat) (hi : i < 50) (k : Nat) (hk : k < (lit_ i).length) (st : fo_St) : CTi l E yJ8_charAt (ws_ yJ8_charAt cJ8_charAt 2 (some .char)) ({ frames := 3, cells := 0, slots := 0, locals := 64 }) [.ref (K i), .int (nI k)] st ((lit_ i).getD k 0) st := by
  refine fe_n (Or.inr (Or.inl rfl)) hm_J8_charAt (Nat.le_of_ble_eq_true rfl) (fun p e R s m args below meth c Q hRf hRl X hend ls hl hw => ?_)
  have hx := X.1.1
  have hb := X.1.2.1
  have hown := X.1.2.2.2.1
  have hts := X.1.2.2.2.2
  obtain ⟨hL, -, -, hC, ⟨tF, hF⟩, -⟩ := hSX s s.heap X.2.1.2.2.1
  obtain ⟨hl9, hc9⟩ := lit_ok i hi
  have hl : lv_has ls 2 [(0, .ref (K i)), (1, .int (nI k))] := hl
  have hr9 : ∃ cell : Cell, s.heap[K i]? = some cell ∧ cell.vm.isStatics = false ∧ s.vm.findClass "java/lang/String" = some cell.cls := by
    obtain ⟨cell, h1, h2, h3, -⟩ := (hL i hi).1
    exact ⟨cell, h1, h2, h3⟩
  refine lv_aload_n hx hb dJ8_charAt_0 rfl (lv_at hl 0 rfl) ?_
  refine fs_V (rm := { frames := 0, cells := 0, slots := 0, locals := 0 }) (α := Int32 × fo_St) (y0 := (1, st)) (kf := fun r st => some (r, st)) (o := some (1, st)) (As := []) X hw fo_lim hm_J8_isLatin1 (lw_V q801 q802 q803 q127 q804) ⟨rfl, rfl⟩ ⟨by rw [hRf]; exact Nat.le_of_ble_eq_true rfl, by rw [hRl]; exact Nat.le_of_ble_eq_true rfl⟩ hr9 rfl rfl hl.1 (Nat.le_of_ble_eq_true rfl) dJ8_charAt_1 (fun r st1 hQ => by cases hQ; exact wJ8_isLatin1 l E K V mi hSX i hi st) rfl (fun r st1 H1 locs1 hw1 hf1 => ?_)
  cases hf1
  refine fb_zeq (tgt := 16) hx hb dJ8_charAt_4 (by decide) (t := none) (f := some ()) (y := ()) rfl (fun h => by cases h) (fun _ => ?_)
  refine lv_aload_n hx hb dJ8_charAt_7 rfl (lv_at hl 0 rfl) ?_
  refine vk_getf hx hb (hL i hi).2.2.1 hw1.2 hown (hts _ q2272) (fun _ h => h) dJ8_charAt_8 ?_
  refine lv_iload_n hx hb dJ8_charAt_11 rfl (lv_at hl 1 rfl) ?_
  refine fcA_Si (rm := { frames := 2, cells := 0, slots := 0, locals := 43 }) (α := Int32 × fo_St) (y0 := ((lit_ i).getD k 0, st)) (kf := fun r st => some (r, st)) (o := some ((lit_ i).getD k 0, st)) (As := [.ref (V i), .int (nI k)]) X hw1 fo_lim hm_J9_charAt (lw_S q805 q806 q128 q807) ⟨rfl, rfl⟩ ⟨by rw [hRf]; exact Nat.le_of_ble_eq_true rfl, by rw [hRl]; exact Nat.le_of_ble_eq_true rfl⟩ rfl rfl hl.1 (Nat.le_of_ble_eq_true rfl) dJ8_charAt_12 (fun r st1 hQ => by cases hQ; exact wJ9_charAt l E K V mi hSX i hi k hk st) rfl (fun r st1 H2 locs2 hw2 hf1 => ?_)
  cases hf1
  refine hend _ _ _ _ hw2 ?_ dJ8_charAt_15
  have h := hc9 k hk
  have h2 := sc_nar ((lit_ i).getD k 0)
  have h3 : chr_ ((lit_ i).getD k 0 &&& 255) = (lit_ i).getD k 0 &&& 255 := Value.int.inj h2
  rw [h3] at h
  rw [h] at h2
  exact h2

