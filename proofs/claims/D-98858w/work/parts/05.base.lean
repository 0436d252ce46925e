/-! CONF: the classes of the worlds, the kinds of their fields (0 int, 1 long, 2 reference, 3 + d: the cell d places on), the nest mates' links -/
set_option maxRecDepth 100000
abbrev fo_cl : List vw_C := [(RX0, TX0, 29), (RX1, TX1, 12), (RX2, TX2, 4), (RX3, TX3, 2), (RX4, TX4, 6), (RX5, TX5, 62), (RX7, TX7, 9), (RX8, TX8, 7), (RX9, TX9, 3), (RX11, TX11, 1), (RX12, TX12, 1), (RX13, TX13, 3), (RX15, TX15, 3), (RX16, TX16, 1), (RX17, TX17, 2), (RX18, TX18, 5), (RX19, TX19, 1), (RX20, TX20, 8), (RJ2, TJ2, 3), (RX0, TX0, 29), (RX1, TX1, 12), (RX2, TX2, 4), (RX3, TX3, 2), (RX5, TX5, 62)]
def fo_sh : Nat → List Nat := fun c => match c with
  | 0 => [0, 4, 5, 19, 20, 21, 22, 23, 24, 28, 32, 0, 0, 0, 0, 0, 33, 36, 37, 38, 39, 40, 41, 42, 43, 44, 45, 0, 0]
  | 1 => [4, 8, 9, 10, 11, 12, 13, 14, 15, 0, 0, 0]
  | 2 => [4, 5, 6, 0]
  | 3 => [4, 5]
  | 4 => [2, 2, 2, 2, 2, 0]
  | 5 => [0, 0, 4, 5, 6, 7, 8, 9, 0, 10, 11, 0, 12, 0, 0, 0, 0, 1, 0, 0, 0, 0, 13, 0, 14, 15, 0, 16, 17, 0, 0, 18, 19, 20, 0, 21, 22, 23, 0, 1, 1, 24, 25, 26, 27, 28, 29, 30, 31, 32, 33, 34, 35, 36, 37, 0, 0, 0, 0, 1, 38, 0]
  | 6 => [2, 0, 0, 0, 0, 0, 0, 2, 0]
  | 7 => [2, 2, 2, 2, 2, 0, 0]
  | 8 => [0, 2, 2]
  | 9 => [0]
  | 10 => [0]
  | 11 => [0, 2, 2]
  | 12 => [0, 2, 2]
  | 13 => [2]
  | 14 => [0, 2]
  | 15 => [0, 2, 2, 0, 2]
  | 16 => [2]
  | 17 => [2, 0, 0, 0, 0, 0, 0, 2]
  | 18 => [0, 2, 0]
  | 19 => [0, 2, 2, 2, 2, 2, 2, 2, 2, 2, 2, 0, 0, 0, 0, 0, 2, 2, 2, 2, 2, 2, 2, 2, 2, 2, 2, 0, 0]
  | 20 => [2, 2, 2, 2, 2, 2, 2, 2, 2, 0, 0, 0]
  | 21 => [2, 2, 2, 0]
  | 22 => [2, 2]
  | 23 => [0, 0, 2, 2, 2, 2, 2, 2, 0, 2, 2, 0, 2, 0, 0, 0, 0, 1, 0, 0, 0, 0, 2, 0, 2, 2, 0, 2, 2, 0, 0, 2, 2, 2, 0, 2, 2, 2, 0, 1, 1, 2, 2, 2, 2, 2, 2, 2, 2, 2, 2, 2, 2, 2, 2, 0, 0, 0, 0, 1, 2, 0]
  | _ => []
def fo_nF : List (String × Nat × String × String × String × String) := [("ForestRooms", 118, "ForestRooms$State", "table", "LForestRooms$Table;", "ForestRooms"), ("ForestRooms", 127, "ForestRooms$State", "terms", "[I", "ForestRooms"), ("ForestRooms", 140, "ForestRooms$State", "light", "[I", "ForestRooms"), ("ForestRooms", 143, "ForestRooms$State", "wet", "[I", "ForestRooms"), ("ForestRooms", 146, "ForestRooms$State", "size", "[I", "ForestRooms"), ("ForestRooms", 164, "ForestRooms$Table", "kind", "[I", "ForestRooms"), ("ForestRooms", 167, "ForestRooms$Table", "grown", "[I", "ForestRooms"), ("ForestRooms", 170, "ForestRooms$Table", "family", "[I", "ForestRooms"), ("ForestRooms", 190, "ForestRooms$State", "needs", "[I", "ForestRooms"), ("ForestRooms", 193, "ForestRooms$State", "drinks", "[I", "ForestRooms"), ("ForestRooms", 199, "ForestRooms$Table", "season", "I", "ForestRooms"), ("ForestRooms", 222, "ForestRooms$Fault", "place", "I", "ForestRooms"), ("ForestRooms", 225, "ForestRooms$State", "laws", "Ljava/util/ArrayList;", "ForestRooms"), ("ForestRooms", 243, "ForestRooms$State", "coming", "I", "ForestRooms"), ("ForestRooms", 246, "ForestRooms$LawReader", "comes", "Z", "ForestRooms"), ("ForestRooms", 252, "ForestRooms$LawReader", "clauses", "Ljava/util/ArrayList;", "ForestRooms"), ("ForestRooms", 262, "ForestRooms$State", "force", "I", "ForestRooms"), ("ForestRooms", 267, "ForestRooms$Setting", "values", "[J", "ForestRooms"), ("ForestRooms", 380, "ForestRooms$State", "seen", "I", "ForestRooms"), ("ForestRooms", 383, "ForestRooms$State", "sights", "[I", "ForestRooms"), ("ForestRooms", 411, "ForestRooms$OrderReader", "orders", "Ljava/util/ArrayList;", "ForestRooms"), ("ForestRooms", 416, "ForestRooms$Order", "times", "I", "ForestRooms"), ("ForestRooms", 433, "ForestRooms$Order", "head", "I", "ForestRooms"), ("ForestRooms", 436, "ForestRooms$Order", "one", "LForestRooms$Sum;", "ForestRooms"), ("ForestRooms", 443, "ForestRooms$Order", "other", "LForestRooms$Sum;", "ForestRooms"), ("ForestRooms$Law", 29, "ForestRooms$Clause", "head", "I", "ForestRooms"), ("ForestRooms$LawReader", 49, "ForestRooms$Clause", "sum", "LForestRooms$Sum;", "ForestRooms"), ("ForestRooms$LawReader", 61, "ForestRooms$Clause", "when", "LForestRooms$Test;", "ForestRooms"), ("ForestRooms$OrderReader", 49, "ForestRooms$Order", "one", "LForestRooms$Sum;", "ForestRooms"), ("ForestRooms$OrderReader", 63, "ForestRooms$Order", "other", "LForestRooms$Sum;", "ForestRooms"), ("ForestRooms$OrderReader", 75, "ForestRooms$Order", "times", "I", "ForestRooms"), ("ForestRooms$OrderReader", 84, "ForestRooms$Order", "when", "LForestRooms$Test;", "ForestRooms"), ("ForestRooms$Reader", 73, "ForestRooms$Several", "of", "Ljava/util/ArrayList;", "ForestRooms"), ("ForestRooms$State", 74, "ForestRooms$Table", "grown", "[I", "ForestRooms"), ("ForestRooms$Two", 26, "ForestRooms$Setting", "broken", "LForestRooms$Broken;", "ForestRooms"), ("ForestRooms$Value", 13, "ForestRooms$Setting", "values", "[J", "ForestRooms")]
def fo_nM : List (String × Nat × MethodName × String) := [("ForestRooms", 82, ⟨"ForestRooms$Setting", "<init>", "()V"⟩, "ForestRooms"), ("ForestRooms$Compare", 1, ⟨"ForestRooms$Test", "<init>", "()V"⟩, "ForestRooms"), ("ForestRooms$Not", 1, ⟨"ForestRooms$Test", "<init>", "()V"⟩, "ForestRooms"), ("ForestRooms$Number", 1, ⟨"ForestRooms$Sum", "<init>", "()V"⟩, "ForestRooms"), ("ForestRooms$Several", 1, ⟨"ForestRooms$Test", "<init>", "()V"⟩, "ForestRooms"), ("ForestRooms$Two", 3, ⟨"ForestRooms$Sum", "<init>", "()V"⟩, "ForestRooms"), ("ForestRooms$Value", 1, ⟨"ForestRooms$Sum", "<init>", "()V"⟩, "ForestRooms")]
def fo_nC : List (String × String) := [("ForestRooms$Broken", "ForestRooms$Broken"), ("java/util/ArrayList", "java/util/Collection"), ("ForestRooms$Fault", "ForestRooms$Fault"), ("ForestRooms$Compare", "ForestRooms$Test"), ("ForestRooms$Not", "ForestRooms$Test"), ("ForestRooms$Several", "ForestRooms$Test"), ("ForestRooms$State", "java/lang/Object"), ("ForestRooms$Table", "java/lang/Object"), ("ForestRooms", "java/lang/Object"), ("java/util/ArrayList", "java/lang/Object"), ("ForestRooms$Setting", "java/lang/Object"), ("ForestRooms$Broken", "java/lang/Object"), ("ForestRoomsModel", "java/lang/Object"), ("ForestRooms$LawReader", "java/lang/Object"), ("ForestRooms$Fault", "java/lang/Object"), ("ForestRooms$Clause", "java/lang/Object"), ("ForestRooms$Number", "java/lang/Object"), ("ForestRooms$Value", "java/lang/Object"), ("ForestRooms$Two", "java/lang/Object"), ("ForestRooms$Compare", "java/lang/Object"), ("ForestRooms$Not", "java/lang/Object"), ("ForestRooms$Several", "java/lang/Object"), ("ForestRooms$Law", "java/lang/Object"), ("ForestRooms$OrderReader", "java/lang/Object"), ("ForestRooms$Order", "java/lang/Object"), ("java/lang/Throwable", "java/lang/Object"), ("java/lang/String", "java/lang/Object"), ("[I", "java/lang/Object"), ("[Ljava/lang/Object;", "java/lang/Object"), ("[LForestRooms$State;", "java/lang/Object"), ("[LForestRooms$Table;", "java/lang/Object"), ("[B", "java/lang/Object"), ("[J", "java/lang/Object"), ("[Z", "java/lang/Object")]
def fo_nD : List MethodName := [⟨"java/lang/Exception", "<init>", "()V"⟩, ⟨"java/lang/Exception", "<init>", "(Ljava/lang/String;)V"⟩, ⟨"java/lang/Throwable", "<init>", "()V"⟩, ⟨"java/lang/Throwable", "<init>", "(Ljava/lang/String;)V"⟩, ⟨"java/util/Collection", "toArray", "()[Ljava/lang/Object;"⟩, ⟨"ForestRooms$Test", "is", "(LForestRooms$Setting;)Z"⟩, ⟨"ForestRooms$Sum", "of", "(LForestRooms$Setting;)J"⟩, ⟨"ForestRooms$Reader", "clause", "()V"⟩, ⟨"ForestRooms$Reader", "is", "(Ljava/lang/String;)Z"⟩, ⟨"ForestRooms$Reader", "begins", "(Z)V"⟩, ⟨"ForestRooms$Reader", "next", "()V"⟩, ⟨"ForestRooms$Reader", "sum", "()LForestRooms$Sum;"⟩, ⟨"ForestRooms$Reader", "value", "()I"⟩, ⟨"ForestRooms$Reader", "isValue", "(Ljava/lang/String;)Z"⟩, ⟨"ForestRooms$Reader", "number", "(II)I"⟩, ⟨"ForestRooms$Reader", "takes", "(Ljava/lang/String;)Z"⟩, ⟨"ForestRooms$Reader", "test", "()LForestRooms$Test;"⟩, ⟨"ForestRooms$Reader", "need", "(Ljava/lang/String;)V"⟩, ⟨"java/lang/Object", "getClass", "()Ljava/lang/Class;"⟩]
def fo_nest : List Cond := fo_nF.map (fun q => Cond.fieldLinkNest q.1 q.2.1 q.2.2.1 q.2.2.2.1 q.2.2.2.2.1 q.2.2.2.2.2) ++ (fo_nM.map (fun q => Cond.methodLinkNest q.1 q.2.1 q.2.2.1 q.2.2.2) ++ (fo_nC.map (fun q => Cond.castable q.1 q.2) ++ fo_nD.map (fun q => Cond.declares q)))
theorem fo_nest_on : ∀ w ∈ fo_nest, w.onTables = true := by
  intro w hw
  rcases List.mem_append.mp hw with h | h
  · obtain ⟨q, -, rfl⟩ := List.mem_map.mp h
    rfl
  rcases List.mem_append.mp h with h | h
  · obtain ⟨q, -, rfl⟩ := List.mem_map.mp h
    rfl
  rcases List.mem_append.mp h with h | h
  · obtain ⟨q, -, rfl⟩ := List.mem_map.mp h
    rfl
  · obtain ⟨q, -, rfl⟩ := List.mem_map.mp h
    rfl
theorem fo_nest_warm : ∀ w ∈ fo_nest, ∀ (s U : State), s.WarmedH U.vm → va_Nw w s → va_Nw w U := by
  intro w hw s U hW hZ
  rcases List.mem_append.mp hw with h | h
  · obtain ⟨q, -, rfl⟩ := List.mem_map.mp h
    exact va_Nw.warmF hW hZ
  rcases List.mem_append.mp h with h | h
  · obtain ⟨q, -, rfl⟩ := List.mem_map.mp h
    exact va_Nw.warmM hW hZ
  rcases List.mem_append.mp h with h | h
  · obtain ⟨q, -, rfl⟩ := List.mem_map.mp h
    exact va_Nw.warmC hW hZ
  · obtain ⟨q, -, rfl⟩ := List.mem_map.mp h
    exact va_Nw.warmD hW hZ
theorem fn215 : Cond.fieldLinkNest "ForestRooms" 118 "ForestRooms$State" "table" "LForestRooms$Table;" "ForestRooms" ∈ fo_nest := List.mem_append_left _ (List.mem_of_getElem? (i := 0) rfl)
theorem fn229 : Cond.fieldLinkNest "ForestRooms" 127 "ForestRooms$State" "terms" "[I" "ForestRooms" ∈ fo_nest := List.mem_append_left _ (List.mem_of_getElem? (i := 1) rfl)
theorem fn217 : Cond.fieldLinkNest "ForestRooms" 140 "ForestRooms$State" "light" "[I" "ForestRooms" ∈ fo_nest := List.mem_append_left _ (List.mem_of_getElem? (i := 2) rfl)
theorem fn219 : Cond.fieldLinkNest "ForestRooms" 143 "ForestRooms$State" "wet" "[I" "ForestRooms" ∈ fo_nest := List.mem_append_left _ (List.mem_of_getElem? (i := 3) rfl)
theorem fn221 : Cond.fieldLinkNest "ForestRooms" 146 "ForestRooms$State" "size" "[I" "ForestRooms" ∈ fo_nest := List.mem_append_left _ (List.mem_of_getElem? (i := 4) rfl)
theorem fn168 : Cond.fieldLinkNest "ForestRooms" 164 "ForestRooms$Table" "kind" "[I" "ForestRooms" ∈ fo_nest := List.mem_append_left _ (List.mem_of_getElem? (i := 5) rfl)
theorem fn171 : Cond.fieldLinkNest "ForestRooms" 167 "ForestRooms$Table" "grown" "[I" "ForestRooms" ∈ fo_nest := List.mem_append_left _ (List.mem_of_getElem? (i := 6) rfl)
theorem fn173 : Cond.fieldLinkNest "ForestRooms" 170 "ForestRooms$Table" "family" "[I" "ForestRooms" ∈ fo_nest := List.mem_append_left _ (List.mem_of_getElem? (i := 7) rfl)
theorem fn223 : Cond.fieldLinkNest "ForestRooms" 190 "ForestRooms$State" "needs" "[I" "ForestRooms" ∈ fo_nest := List.mem_append_left _ (List.mem_of_getElem? (i := 8) rfl)
theorem fn225 : Cond.fieldLinkNest "ForestRooms" 193 "ForestRooms$State" "drinks" "[I" "ForestRooms" ∈ fo_nest := List.mem_append_left _ (List.mem_of_getElem? (i := 9) rfl)
theorem fn175 : Cond.fieldLinkNest "ForestRooms" 199 "ForestRooms$Table" "season" "I" "ForestRooms" ∈ fo_nest := List.mem_append_left _ (List.mem_of_getElem? (i := 10) rfl)
theorem fn857 : Cond.fieldLinkNest "ForestRooms" 222 "ForestRooms$Fault" "place" "I" "ForestRooms" ∈ fo_nest := List.mem_append_left _ (List.mem_of_getElem? (i := 11) rfl)
theorem fn231 : Cond.fieldLinkNest "ForestRooms" 225 "ForestRooms$State" "laws" "Ljava/util/ArrayList;" "ForestRooms" ∈ fo_nest := List.mem_append_left _ (List.mem_of_getElem? (i := 12) rfl)
theorem fn235 : Cond.fieldLinkNest "ForestRooms" 243 "ForestRooms$State" "coming" "I" "ForestRooms" ∈ fo_nest := List.mem_append_left _ (List.mem_of_getElem? (i := 13) rfl)
theorem fn724 : Cond.fieldLinkNest "ForestRooms" 246 "ForestRooms$LawReader" "comes" "Z" "ForestRooms" ∈ fo_nest := List.mem_append_left _ (List.mem_of_getElem? (i := 14) rfl)
theorem fn722 : Cond.fieldLinkNest "ForestRooms" 252 "ForestRooms$LawReader" "clauses" "Ljava/util/ArrayList;" "ForestRooms" ∈ fo_nest := List.mem_append_left _ (List.mem_of_getElem? (i := 15) rfl)
theorem fn237 : Cond.fieldLinkNest "ForestRooms" 262 "ForestRooms$State" "force" "I" "ForestRooms" ∈ fo_nest := List.mem_append_left _ (List.mem_of_getElem? (i := 16) rfl)
theorem fn338 : Cond.fieldLinkNest "ForestRooms" 267 "ForestRooms$Setting" "values" "[J" "ForestRooms" ∈ fo_nest := List.mem_append_left _ (List.mem_of_getElem? (i := 17) rfl)
theorem fn233 : Cond.fieldLinkNest "ForestRooms" 380 "ForestRooms$State" "seen" "I" "ForestRooms" ∈ fo_nest := List.mem_append_left _ (List.mem_of_getElem? (i := 18) rfl)
theorem fn227 : Cond.fieldLinkNest "ForestRooms" 383 "ForestRooms$State" "sights" "[I" "ForestRooms" ∈ fo_nest := List.mem_append_left _ (List.mem_of_getElem? (i := 19) rfl)
theorem fn1424 : Cond.fieldLinkNest "ForestRooms" 411 "ForestRooms$OrderReader" "orders" "Ljava/util/ArrayList;" "ForestRooms" ∈ fo_nest := List.mem_append_left _ (List.mem_of_getElem? (i := 20) rfl)
theorem fn1148 : Cond.fieldLinkNest "ForestRooms" 416 "ForestRooms$Order" "times" "I" "ForestRooms" ∈ fo_nest := List.mem_append_left _ (List.mem_of_getElem? (i := 21) rfl)
theorem fn1141 : Cond.fieldLinkNest "ForestRooms" 433 "ForestRooms$Order" "head" "I" "ForestRooms" ∈ fo_nest := List.mem_append_left _ (List.mem_of_getElem? (i := 22) rfl)
theorem fn1143 : Cond.fieldLinkNest "ForestRooms" 436 "ForestRooms$Order" "one" "LForestRooms$Sum;" "ForestRooms" ∈ fo_nest := List.mem_append_left _ (List.mem_of_getElem? (i := 23) rfl)
theorem fn1145 : Cond.fieldLinkNest "ForestRooms" 443 "ForestRooms$Order" "other" "LForestRooms$Sum;" "ForestRooms" ∈ fo_nest := List.mem_append_left _ (List.mem_of_getElem? (i := 24) rfl)
theorem fn873 : Cond.fieldLinkNest "ForestRooms$Law" 29 "ForestRooms$Clause" "head" "I" "ForestRooms" ∈ fo_nest := List.mem_append_left _ (List.mem_of_getElem? (i := 25) rfl)
theorem fn875 : Cond.fieldLinkNest "ForestRooms$LawReader" 49 "ForestRooms$Clause" "sum" "LForestRooms$Sum;" "ForestRooms" ∈ fo_nest := List.mem_append_left _ (List.mem_of_getElem? (i := 26) rfl)
theorem fn877 : Cond.fieldLinkNest "ForestRooms$LawReader" 61 "ForestRooms$Clause" "when" "LForestRooms$Test;" "ForestRooms" ∈ fo_nest := List.mem_append_left _ (List.mem_of_getElem? (i := 27) rfl)
theorem fn1142 : Cond.fieldLinkNest "ForestRooms$OrderReader" 49 "ForestRooms$Order" "one" "LForestRooms$Sum;" "ForestRooms" ∈ fo_nest := List.mem_append_left _ (List.mem_of_getElem? (i := 28) rfl)
theorem fn1144 : Cond.fieldLinkNest "ForestRooms$OrderReader" 63 "ForestRooms$Order" "other" "LForestRooms$Sum;" "ForestRooms" ∈ fo_nest := List.mem_append_left _ (List.mem_of_getElem? (i := 29) rfl)
theorem fn1147 : Cond.fieldLinkNest "ForestRooms$OrderReader" 75 "ForestRooms$Order" "times" "I" "ForestRooms" ∈ fo_nest := List.mem_append_left _ (List.mem_of_getElem? (i := 30) rfl)
theorem fn1150 : Cond.fieldLinkNest "ForestRooms$OrderReader" 84 "ForestRooms$Order" "when" "LForestRooms$Test;" "ForestRooms" ∈ fo_nest := List.mem_append_left _ (List.mem_of_getElem? (i := 31) rfl)
theorem fn1097 : Cond.fieldLinkNest "ForestRooms$Reader" 73 "ForestRooms$Several" "of" "Ljava/util/ArrayList;" "ForestRooms" ∈ fo_nest := List.mem_append_left _ (List.mem_of_getElem? (i := 32) rfl)
theorem fn170 : Cond.fieldLinkNest "ForestRooms$State" 74 "ForestRooms$Table" "grown" "[I" "ForestRooms" ∈ fo_nest := List.mem_append_left _ (List.mem_of_getElem? (i := 33) rfl)
theorem fn335 : Cond.fieldLinkNest "ForestRooms$Two" 26 "ForestRooms$Setting" "broken" "LForestRooms$Broken;" "ForestRooms" ∈ fo_nest := List.mem_append_left _ (List.mem_of_getElem? (i := 34) rfl)
theorem fn337 : Cond.fieldLinkNest "ForestRooms$Value" 13 "ForestRooms$Setting" "values" "[J" "ForestRooms" ∈ fo_nest := List.mem_append_left _ (List.mem_of_getElem? (i := 35) rfl)
theorem fn269 : Cond.methodLinkNest "ForestRooms" 82 ⟨"ForestRooms$Setting", "<init>", "()V"⟩ "ForestRooms" ∈ fo_nest := List.mem_append_right _ (List.mem_append_left _ (List.mem_of_getElem? (i := 0) rfl))
theorem fn1062 : Cond.methodLinkNest "ForestRooms$Compare" 1 ⟨"ForestRooms$Test", "<init>", "()V"⟩ "ForestRooms" ∈ fo_nest := List.mem_append_right _ (List.mem_append_left _ (List.mem_of_getElem? (i := 1) rfl))
theorem fn1081 : Cond.methodLinkNest "ForestRooms$Not" 1 ⟨"ForestRooms$Test", "<init>", "()V"⟩ "ForestRooms" ∈ fo_nest := List.mem_append_right _ (List.mem_append_left _ (List.mem_of_getElem? (i := 2) rfl))
theorem fn942 : Cond.methodLinkNest "ForestRooms$Number" 1 ⟨"ForestRooms$Sum", "<init>", "()V"⟩ "ForestRooms" ∈ fo_nest := List.mem_append_right _ (List.mem_append_left _ (List.mem_of_getElem? (i := 3) rfl))
theorem fn1092 : Cond.methodLinkNest "ForestRooms$Several" 1 ⟨"ForestRooms$Test", "<init>", "()V"⟩ "ForestRooms" ∈ fo_nest := List.mem_append_right _ (List.mem_append_left _ (List.mem_of_getElem? (i := 4) rfl))
theorem fn1008 : Cond.methodLinkNest "ForestRooms$Two" 3 ⟨"ForestRooms$Sum", "<init>", "()V"⟩ "ForestRooms" ∈ fo_nest := List.mem_append_right _ (List.mem_append_left _ (List.mem_of_getElem? (i := 5) rfl))
theorem fn995 : Cond.methodLinkNest "ForestRooms$Value" 1 ⟨"ForestRooms$Sum", "<init>", "()V"⟩ "ForestRooms" ∈ fo_nest := List.mem_append_right _ (List.mem_append_left _ (List.mem_of_getElem? (i := 6) rfl))
theorem fn275 : Cond.castable "ForestRooms$Broken" "ForestRooms$Broken" ∈ fo_nest := List.mem_append_right _ (List.mem_append_right _ (List.mem_append_left _ (List.mem_of_getElem? (i := 0) rfl)))
theorem fn471 : Cond.castable "java/util/ArrayList" "java/util/Collection" ∈ fo_nest := List.mem_append_right _ (List.mem_append_right _ (List.mem_append_left _ (List.mem_of_getElem? (i := 1) rfl)))
theorem fn845 : Cond.castable "ForestRooms$Fault" "ForestRooms$Fault" ∈ fo_nest := List.mem_append_right _ (List.mem_append_right _ (List.mem_append_left _ (List.mem_of_getElem? (i := 2) rfl)))
theorem fn2238 : Cond.castable "ForestRooms$Compare" "ForestRooms$Test" ∈ fo_nest := List.mem_append_right _ (List.mem_append_right _ (List.mem_append_left _ (List.mem_of_getElem? (i := 3) rfl)))
theorem fn2239 : Cond.castable "ForestRooms$Not" "ForestRooms$Test" ∈ fo_nest := List.mem_append_right _ (List.mem_append_right _ (List.mem_append_left _ (List.mem_of_getElem? (i := 4) rfl)))
theorem fn2240 : Cond.castable "ForestRooms$Several" "ForestRooms$Test" ∈ fo_nest := List.mem_append_right _ (List.mem_append_right _ (List.mem_append_left _ (List.mem_of_getElem? (i := 5) rfl)))
theorem fn2241 : Cond.castable "ForestRooms$State" "java/lang/Object" ∈ fo_nest := List.mem_append_right _ (List.mem_append_right _ (List.mem_append_left _ (List.mem_of_getElem? (i := 6) rfl)))
theorem fn2242 : Cond.castable "ForestRooms$Table" "java/lang/Object" ∈ fo_nest := List.mem_append_right _ (List.mem_append_right _ (List.mem_append_left _ (List.mem_of_getElem? (i := 7) rfl)))
theorem fn2243 : Cond.castable "ForestRooms" "java/lang/Object" ∈ fo_nest := List.mem_append_right _ (List.mem_append_right _ (List.mem_append_left _ (List.mem_of_getElem? (i := 8) rfl)))
theorem fn2244 : Cond.castable "java/util/ArrayList" "java/lang/Object" ∈ fo_nest := List.mem_append_right _ (List.mem_append_right _ (List.mem_append_left _ (List.mem_of_getElem? (i := 9) rfl)))
theorem fn2245 : Cond.castable "ForestRooms$Setting" "java/lang/Object" ∈ fo_nest := List.mem_append_right _ (List.mem_append_right _ (List.mem_append_left _ (List.mem_of_getElem? (i := 10) rfl)))
theorem fn2246 : Cond.castable "ForestRooms$Broken" "java/lang/Object" ∈ fo_nest := List.mem_append_right _ (List.mem_append_right _ (List.mem_append_left _ (List.mem_of_getElem? (i := 11) rfl)))
theorem fn2247 : Cond.castable "ForestRoomsModel" "java/lang/Object" ∈ fo_nest := List.mem_append_right _ (List.mem_append_right _ (List.mem_append_left _ (List.mem_of_getElem? (i := 12) rfl)))
theorem fn2248 : Cond.castable "ForestRooms$LawReader" "java/lang/Object" ∈ fo_nest := List.mem_append_right _ (List.mem_append_right _ (List.mem_append_left _ (List.mem_of_getElem? (i := 13) rfl)))
theorem fn2249 : Cond.castable "ForestRooms$Fault" "java/lang/Object" ∈ fo_nest := List.mem_append_right _ (List.mem_append_right _ (List.mem_append_left _ (List.mem_of_getElem? (i := 14) rfl)))
theorem fn2250 : Cond.castable "ForestRooms$Clause" "java/lang/Object" ∈ fo_nest := List.mem_append_right _ (List.mem_append_right _ (List.mem_append_left _ (List.mem_of_getElem? (i := 15) rfl)))
theorem fn2251 : Cond.castable "ForestRooms$Number" "java/lang/Object" ∈ fo_nest := List.mem_append_right _ (List.mem_append_right _ (List.mem_append_left _ (List.mem_of_getElem? (i := 16) rfl)))
theorem fn2252 : Cond.castable "ForestRooms$Value" "java/lang/Object" ∈ fo_nest := List.mem_append_right _ (List.mem_append_right _ (List.mem_append_left _ (List.mem_of_getElem? (i := 17) rfl)))
theorem fn2253 : Cond.castable "ForestRooms$Two" "java/lang/Object" ∈ fo_nest := List.mem_append_right _ (List.mem_append_right _ (List.mem_append_left _ (List.mem_of_getElem? (i := 18) rfl)))
theorem fn2254 : Cond.castable "ForestRooms$Compare" "java/lang/Object" ∈ fo_nest := List.mem_append_right _ (List.mem_append_right _ (List.mem_append_left _ (List.mem_of_getElem? (i := 19) rfl)))
theorem fn2255 : Cond.castable "ForestRooms$Not" "java/lang/Object" ∈ fo_nest := List.mem_append_right _ (List.mem_append_right _ (List.mem_append_left _ (List.mem_of_getElem? (i := 20) rfl)))
theorem fn2256 : Cond.castable "ForestRooms$Several" "java/lang/Object" ∈ fo_nest := List.mem_append_right _ (List.mem_append_right _ (List.mem_append_left _ (List.mem_of_getElem? (i := 21) rfl)))
theorem fn2257 : Cond.castable "ForestRooms$Law" "java/lang/Object" ∈ fo_nest := List.mem_append_right _ (List.mem_append_right _ (List.mem_append_left _ (List.mem_of_getElem? (i := 22) rfl)))
theorem fn2258 : Cond.castable "ForestRooms$OrderReader" "java/lang/Object" ∈ fo_nest := List.mem_append_right _ (List.mem_append_right _ (List.mem_append_left _ (List.mem_of_getElem? (i := 23) rfl)))
theorem fn2259 : Cond.castable "ForestRooms$Order" "java/lang/Object" ∈ fo_nest := List.mem_append_right _ (List.mem_append_right _ (List.mem_append_left _ (List.mem_of_getElem? (i := 24) rfl)))
theorem fn2260 : Cond.castable "java/lang/Throwable" "java/lang/Object" ∈ fo_nest := List.mem_append_right _ (List.mem_append_right _ (List.mem_append_left _ (List.mem_of_getElem? (i := 25) rfl)))
theorem fn2261 : Cond.castable "java/lang/String" "java/lang/Object" ∈ fo_nest := List.mem_append_right _ (List.mem_append_right _ (List.mem_append_left _ (List.mem_of_getElem? (i := 26) rfl)))
theorem fn2265 : Cond.castable "[I" "java/lang/Object" ∈ fo_nest := List.mem_append_right _ (List.mem_append_right _ (List.mem_append_left _ (List.mem_of_getElem? (i := 27) rfl)))
theorem fn2266 : Cond.castable "[Ljava/lang/Object;" "java/lang/Object" ∈ fo_nest := List.mem_append_right _ (List.mem_append_right _ (List.mem_append_left _ (List.mem_of_getElem? (i := 28) rfl)))
theorem fn2267 : Cond.castable "[LForestRooms$State;" "java/lang/Object" ∈ fo_nest := List.mem_append_right _ (List.mem_append_right _ (List.mem_append_left _ (List.mem_of_getElem? (i := 29) rfl)))
theorem fn2268 : Cond.castable "[LForestRooms$Table;" "java/lang/Object" ∈ fo_nest := List.mem_append_right _ (List.mem_append_right _ (List.mem_append_left _ (List.mem_of_getElem? (i := 30) rfl)))
theorem fn2269 : Cond.castable "[B" "java/lang/Object" ∈ fo_nest := List.mem_append_right _ (List.mem_append_right _ (List.mem_append_left _ (List.mem_of_getElem? (i := 31) rfl)))
theorem fn2270 : Cond.castable "[J" "java/lang/Object" ∈ fo_nest := List.mem_append_right _ (List.mem_append_right _ (List.mem_append_left _ (List.mem_of_getElem? (i := 32) rfl)))
theorem fn2271 : Cond.castable "[Z" "java/lang/Object" ∈ fo_nest := List.mem_append_right _ (List.mem_append_right _ (List.mem_append_left _ (List.mem_of_getElem? (i := 33) rfl)))
theorem fn276 : Cond.declares ⟨"java/lang/Exception", "<init>", "()V"⟩ ∈ fo_nest := List.mem_append_right _ (List.mem_append_right _ (List.mem_append_right _ (List.mem_of_getElem? (i := 0) rfl)))
theorem fn277 : Cond.declares ⟨"java/lang/Exception", "<init>", "(Ljava/lang/String;)V"⟩ ∈ fo_nest := List.mem_append_right _ (List.mem_append_right _ (List.mem_append_right _ (List.mem_of_getElem? (i := 1) rfl)))
theorem fn278 : Cond.declares ⟨"java/lang/Throwable", "<init>", "()V"⟩ ∈ fo_nest := List.mem_append_right _ (List.mem_append_right _ (List.mem_append_right _ (List.mem_of_getElem? (i := 2) rfl)))
theorem fn279 : Cond.declares ⟨"java/lang/Throwable", "<init>", "(Ljava/lang/String;)V"⟩ ∈ fo_nest := List.mem_append_right _ (List.mem_append_right _ (List.mem_append_right _ (List.mem_of_getElem? (i := 3) rfl)))
theorem fn470 : Cond.declares ⟨"java/util/Collection", "toArray", "()[Ljava/lang/Object;"⟩ ∈ fo_nest := List.mem_append_right _ (List.mem_append_right _ (List.mem_append_right _ (List.mem_of_getElem? (i := 4) rfl)))
theorem fn618 : Cond.declares ⟨"ForestRooms$Test", "is", "(LForestRooms$Setting;)Z"⟩ ∈ fo_nest := List.mem_append_right _ (List.mem_append_right _ (List.mem_append_right _ (List.mem_of_getElem? (i := 5) rfl)))
theorem fn624 : Cond.declares ⟨"ForestRooms$Sum", "of", "(LForestRooms$Setting;)J"⟩ ∈ fo_nest := List.mem_append_right _ (List.mem_append_right _ (List.mem_append_right _ (List.mem_of_getElem? (i := 6) rfl)))
theorem fn775 : Cond.declares ⟨"ForestRooms$Reader", "clause", "()V"⟩ ∈ fo_nest := List.mem_append_right _ (List.mem_append_right _ (List.mem_append_right _ (List.mem_of_getElem? (i := 7) rfl)))
theorem fn783 : Cond.declares ⟨"ForestRooms$Reader", "is", "(Ljava/lang/String;)Z"⟩ ∈ fo_nest := List.mem_append_right _ (List.mem_append_right _ (List.mem_append_right _ (List.mem_of_getElem? (i := 8) rfl)))
theorem fn839 : Cond.declares ⟨"ForestRooms$Reader", "begins", "(Z)V"⟩ ∈ fo_nest := List.mem_append_right _ (List.mem_append_right _ (List.mem_append_right _ (List.mem_of_getElem? (i := 9) rfl)))
theorem fn864 : Cond.declares ⟨"ForestRooms$Reader", "next", "()V"⟩ ∈ fo_nest := List.mem_append_right _ (List.mem_append_right _ (List.mem_append_right _ (List.mem_of_getElem? (i := 10) rfl)))
theorem fn887 : Cond.declares ⟨"ForestRooms$Reader", "sum", "()LForestRooms$Sum;"⟩ ∈ fo_nest := List.mem_append_right _ (List.mem_append_right _ (List.mem_append_right _ (List.mem_of_getElem? (i := 11) rfl)))
theorem fn951 : Cond.declares ⟨"ForestRooms$Reader", "value", "()I"⟩ ∈ fo_nest := List.mem_append_right _ (List.mem_append_right _ (List.mem_append_right _ (List.mem_of_getElem? (i := 12) rfl)))
theorem fn959 : Cond.declares ⟨"ForestRooms$Reader", "isValue", "(Ljava/lang/String;)Z"⟩ ∈ fo_nest := List.mem_append_right _ (List.mem_append_right _ (List.mem_append_right _ (List.mem_of_getElem? (i := 13) rfl)))
theorem fn986 : Cond.declares ⟨"ForestRooms$Reader", "number", "(II)I"⟩ ∈ fo_nest := List.mem_append_right _ (List.mem_append_right _ (List.mem_append_right _ (List.mem_of_getElem? (i := 14) rfl)))
theorem fn1024 : Cond.declares ⟨"ForestRooms$Reader", "takes", "(Ljava/lang/String;)Z"⟩ ∈ fo_nest := List.mem_append_right _ (List.mem_append_right _ (List.mem_append_right _ (List.mem_of_getElem? (i := 15) rfl)))
theorem fn1028 : Cond.declares ⟨"ForestRooms$Reader", "test", "()LForestRooms$Test;"⟩ ∈ fo_nest := List.mem_append_right _ (List.mem_append_right _ (List.mem_append_right _ (List.mem_of_getElem? (i := 16) rfl)))
theorem fn1170 : Cond.declares ⟨"ForestRooms$Reader", "need", "(Ljava/lang/String;)V"⟩ ∈ fo_nest := List.mem_append_right _ (List.mem_append_right _ (List.mem_append_right _ (List.mem_of_getElem? (i := 17) rfl)))
theorem fn2264 : Cond.declares ⟨"java/lang/Object", "getClass", "()Ljava/lang/Class;"⟩ ∈ fo_nest := List.mem_append_right _ (List.mem_append_right _ (List.mem_append_right _ (List.mem_of_getElem? (i := 18) rfl)))
/-! BASE: the store, the pure combinators, the world of a store, contracts over it, rows in lockstep with a pure text -/
set_option maxRecDepth 100000
/-- a store: ints, longs, references of a cell (its number) at a place -/
abbrev fo_St : Type := (Nat → Nat → Int32) × (Nat → Nat → Int64) × (Nat → Nat → Option Nat)
def gi_ (st : fo_St) (n k : Nat) : Int32 := st.1 n k
def gl_ (st : fo_St) (n k : Nat) : Int64 := st.2.1 n k
def gr_ (st : fo_St) (n k : Nat) : Option Nat := st.2.2 n k
def si_ (st : fo_St) (n k : Nat) (v : Int32) : fo_St := (fun a b => if a = n ∧ b = k then v else st.1 a b, st.2.1, st.2.2)
def sl_ (st : fo_St) (n k : Nat) (v : Int64) : fo_St := (st.1, fun a b => if a = n ∧ b = k then v else st.2.1 a b, st.2.2)
def sr_ (st : fo_St) (n k : Nat) (v : Option Nat) : fo_St := (st.1, st.2.1, fun a b => if a = n ∧ b = k then v else st.2.2 a b)
theorem gi_si (st : fo_St) (n k : Nat) (v : Int32) (a b : Nat) : gi_ (si_ st n k v) a b = if a = n ∧ b = k then v else gi_ st a b := rfl
theorem gl_si (st : fo_St) (n k : Nat) (v : Int32) (a b : Nat) : gl_ (si_ st n k v) a b = gl_ st a b := rfl
theorem gr_si (st : fo_St) (n k : Nat) (v : Int32) (a b : Nat) : gr_ (si_ st n k v) a b = gr_ st a b := rfl
theorem gi_sl (st : fo_St) (n k : Nat) (v : Int64) (a b : Nat) : gi_ (sl_ st n k v) a b = gi_ st a b := rfl
theorem gl_sl (st : fo_St) (n k : Nat) (v : Int64) (a b : Nat) : gl_ (sl_ st n k v) a b = if a = n ∧ b = k then v else gl_ st a b := rfl
theorem gr_sl (st : fo_St) (n k : Nat) (v : Int64) (a b : Nat) : gr_ (sl_ st n k v) a b = gr_ st a b := rfl
theorem gi_sr (st : fo_St) (n k : Nat) (v : Option Nat) (a b : Nat) : gi_ (sr_ st n k v) a b = gi_ st a b := rfl
theorem gl_sr (st : fo_St) (n k : Nat) (v : Option Nat) (a b : Nat) : gl_ (sr_ st n k v) a b = gl_ st a b := rfl
theorem gr_sr (st : fo_St) (n k : Nat) (v : Option Nat) (a b : Nat) : gr_ (sr_ st n k v) a b = if a = n ∧ b = k then v else gr_ st a b := rfl
/-- combinators: a check, a binding of a store, a call, a join, a loop -/
def ck_ {α : Type} (b : Bool) (t : Option α) : Option α := match b with | true => t | false => none
def lt_ {α : Type} (st : fo_St) (k : fo_St → Option α) : Option α := k st
def bd_ {α β : Type} (o : Option (β × fo_St)) (k : β → fo_St → Option α) : Option α := match o with | none => none | some p => k p.1 p.2
def bv_ {α : Type} (o : Option fo_St) (k : fo_St → Option α) : Option α := match o with | none => none | some p => k p
def jn_ {κ α : Type} (k : κ) (b : κ → Option α) : Option α := b k
def lp_ {σ α : Type} (b : (σ → Option α) → σ → Option α) : Nat → σ → Option α
  | 0, _ => none
  | n + 1, s => b (lp_ b n) s
theorem ck_e {α : Type} {b : Bool} {t : Option α} {y : α} (h : ck_ b t = some y) : b = true ∧ t = some y := by
  cases b with
  | true => exact ⟨rfl, h⟩
  | false => cases h
theorem bd_e {α β : Type} {o : Option (β × fo_St)} {k : β → fo_St → Option α} {y : α} (h : bd_ o k = some y) : ∃ r st, o = some (r, st) ∧ k r st = some y := by
  cases o with
  | none => cases h
  | some p => exact ⟨p.1, p.2, rfl, h⟩
theorem bv_e {α : Type} {o : Option fo_St} {k : fo_St → Option α} {y : α} (h : bv_ o k = some y) : ∃ st, o = some st ∧ k st = some y := by
  cases o with
  | none => cases h
  | some p => exact ⟨p, rfl, h⟩
theorem lp_e {σ α : Type} {b : (σ → Option α) → σ → Option α} {y : α} {P : σ → Prop} (h : ∀ (rec : σ → Option α), (∀ s, rec s = some y → P s) → ∀ s, b rec s = some y → P s) : ∀ (n : Nat) (s : σ), lp_ b n s = some y → P s := by
  intro n
  induction n with
  | zero => intro s q; cases q
  | succ n ih => intro s q; exact h (lp_ b n) ih s q
def fo_in (i : Int32) (n : Nat) : Bool := decide (¬ (i < 0 ∨ n ≤ i.toNatClampNeg))
theorem fo_in_e {i : Int32} {n : Nat} (h : fo_in i n = true) : vp_in i n := of_decide_eq_true (p := ¬ (i < 0 ∨ n ≤ i.toNatClampNeg)) h
/-- the world's data: base, heap's size, class numbers and slots, array classes, the cells' kinds, whose cells they are, what else is known of the heap -/
abbrev fo_E : Type := Nat × Nat × va_G × (Nat → ClassId) × (Nat → Nat × Nat) × (Nat → Prop) × (State → Heap → Prop)
def eb (E : fo_E) : Nat := E.1
def ez (E : fo_E) : Nat := E.2.1
def eD (E : fo_E) : va_G := E.2.2.1
def eA (E : fo_E) : Nat → ClassId := E.2.2.2.1
def et (E : fo_E) : Nat → Nat × Nat := E.2.2.2.2.1
def eF (E : fo_E) : Nat → Prop := E.2.2.2.2.2.1
def eX (E : fo_E) : State → Heap → Prop := E.2.2.2.2.2.2
def fo_fv (b : Nat) (st : fo_St) (n k kd : Nat) : Value := match kd with
  | 0 => .int (gi_ st n k)
  | 1 => .long (gl_ st n k)
  | 2 => va_rf ((gr_ st n k).map (fun q => b + q))
  | d + 3 => .ref (b + (n + d))
def fo_fl (b : Nat) (st : fo_St) (n : Nat) (ks : List Nat) : List Value := (List.range ks.length).map (fun k => fo_fv b st n k (ks.getD k 0))
def fo_tys (E : fo_E) : List (ClassId × FieldType) := [(eA E 2, .int), (eA E 3, .byte), (eA E 4, .boolean), (eA E 5, .long), (eA E 6, .object "java/lang/Object"), (eA E 7, .object "ForestRooms$State"), (eA E 8, .object "ForestRooms$Table")]
def fo_ce (E : fo_E) (t : Nat × Nat) (st : fo_St) (n : Nat) : Option va_E := match t.1 with
  | 0 => none
  | 1 => some (.inr (t.2, fo_fl (eb E) st n (fo_sh t.2)))
  | 2 => some (.inl (eA E 2, t.2, .inl (gi_ st n)))
  | 3 => some (.inl (eA E 3, t.2, .inl (gi_ st n)))
  | 4 => some (.inl (eA E 4, t.2, .inl (gi_ st n)))
  | 5 => some (.inl (eA E 5, t.2, .inr (.inl (gl_ st n))))
  | k + 6 => some (.inl (eA E (k + 6), t.2, .inr (.inr (.inr (.inr (fun j => (gr_ st n j).map (fun q => eb E + q)))))))
def wd_ (E : fo_E) (st : fo_St) (H : Heap) : Prop := H.size = ez E ∧ ∀ (n : Nat) (x : va_E), fo_ce E (et E n) st n = some x → va_at (eD E) fo_cl (eb E + n, x) H ∧ eF E (eb E + n)
def fo_S (E : fo_E) (s : State) (st : fo_St) (H : Heap) (locs : List Loc) : Prop := wd_ E st H ∧ va_S (eF E) s.heap H locs
def fo_stab (E : fo_E) : Prop := (∀ (u U : State) (H : Heap), u.WarmedH U.vm → eX E u H → eX E U H) ∧ ∀ (U : State) (H H1 : Heap), (∀ a : Nat, a < H.size → ¬ eF E a → H1[a]? = H[a]?) → eX E U H → eX E U H1
def fo_K (E : fo_E) (U : State) : Prop := va_K (eD E) fo_cl (fo_tys E) U ∧ (∀ w ∈ fo_nest, va_Nw w U) ∧ eX E U U.heap ∧ fo_stab E
/-- a class of the list: its names, its words, its kinds of fields -/
def fo_C (ci : Nat) (q : vw_C) (ty : Nat → FieldType) : Prop := fo_cl[ci]? = some q ∧ (∀ w ∈ u_ws q.1 q.2.1 q.2.2, w ∈ lw_all) ∧ (fo_sh ci).length = q.2.2 ∧ (∀ k, k < q.2.2 → parseFieldDescriptor (q.2.1 k).2.2.1 = some (ty k)) ∧ (∀ a, a < q.2.2 → ∀ b, b < q.2.2 → a ≠ b → (q.2.1 a).2.1 ≠ (q.2.1 b).2.1)
def fo_X (E : fo_E) (p : Program) (m : MethodId) (c : Code) (cc : ByteArray) (nL : Nat) (s : State) (args : Array Value) (own : String) (meth : Method) : Prop := CallFix p m c cc nL s args lw_all own ∧ fo_K E s ∧ meth.locks = false
theorem fo_fl_get {b : Nat} {st : fo_St} {n : Nat} {ks : List Nat} {k : Nat} (h : k < ks.length) : (fo_fl b st n ks)[k]? = some (fo_fv b st n k (ks.getD k 0)) := by
  unfold fo_fl
  rw [List.getElem?_map, List.getElem?_range h]
  rfl
theorem fo_fl_len (b : Nat) (st : fo_St) (n : Nat) (ks : List Nat) : (fo_fl b st n ks).length = ks.length := by
  unfold fo_fl
  rw [List.length_map, List.length_range]
theorem fo_fl_of {b : Nat} {st st1 : fo_St} {n k : Nat} {ks : List Nat} {v : Value} (hk : k < ks.length) (h1 : fo_fv b st1 n k (ks.getD k 0) = v) (h2 : ∀ j, j ≠ k → ∀ kd, fo_fv b st1 n j kd = fo_fv b st n j kd) : (fo_fl b st n ks).set k v = fo_fl b st1 n ks := by
  apply List.ext_getElem?
  intro j
  rw [List.getElem?_set]
  by_cases hj : k = j
  · subst hj
    rw [if_pos rfl, if_pos (by rw [fo_fl_len]; exact hk), fo_fl_get hk, h1]
  · rw [if_neg hj]
    by_cases hl : j < ks.length
    · rw [fo_fl_get hl, fo_fl_get hl, h2 j (fun e => hj e.symm)]
    · rw [List.getElem?_eq_none (by rw [fo_fl_len]; omega), List.getElem?_eq_none (by rw [fo_fl_len]; omega)]
theorem fo_ce_of {E : fo_E} {st st1 : fo_St} {n : Nat} (h1 : ∀ k, gi_ st1 n k = gi_ st n k) (h2 : ∀ k, gl_ st1 n k = gl_ st n k) (h3 : ∀ k, gr_ st1 n k = gr_ st n k) (t : Nat × Nat) : fo_ce E t st1 n = fo_ce E t st n := by
  have e1 : gi_ st1 n = gi_ st n := funext h1
  have e2 : gl_ st1 n = gl_ st n := funext h2
  have e3 : gr_ st1 n = gr_ st n := funext h3
  have e4 : ∀ ks, fo_fl (eb E) st1 n ks = fo_fl (eb E) st n ks := by
    intro ks
    unfold fo_fl
    apply List.map_congr_left
    intro k _
    unfold fo_fv
    split
    · rw [h1]
    · rw [h2]
    · rw [h3]
    · rfl
  unfold fo_ce
  rw [e1, e2, e3, e4]
theorem fo_K.moved {E : fo_E} {s U : State} {H : Heap} {locs : List Loc} (hK : fo_K E s) (hS : va_S (eF E) s.heap H locs) (hU : U.heap = H) (hW : s.WarmedH U.vm) (hn : ∀ w ∈ fo_nest, ∀ (s U : State), s.WarmedH U.vm → va_Nw w s → va_Nw w U) : fo_K E U := by
  obtain ⟨h1, h2, h3, h4⟩ := hK
  refine ⟨va_K.moved hW.alike h1, fun w h => hn w h s U hW (h2 w h), ?_, h4⟩
  rw [hU]
  exact h4.2 U s.heap H (fun a h5 h6 => hS.2.1 a h5 h6) (h4.1 s U s.heap hW h3)
theorem fo_K.calling {E : fo_E} {U : State} (hK : fo_K E U) (hn : ∀ w ∈ fo_nest, w.onTables = true) (g : JFrame) (mk : MethodId) (a : Array Value) : fo_K E (U.calling g mk a) := by
  obtain ⟨h1, h2, h3, h4⟩ := hK
  exact ⟨va_K.moved (u := U) (U := U.calling g mk a) (Vm.Alike.refl U.vm) h1, fun w h => va_Nw.same (hn w h) (u := U) (U := U.calling g mk a) rfl (h2 w h), h4.1 U (U.calling g mk a) U.heap (State.WarmedH.refl U) h3, h4⟩
section FO1
variable {p : Program} {l : Launch} {e : Env} {R : Room} {s : State} {m : MethodId} {args : Array Value} {below : List Frame} {meth : Method} {c : Code} {H : Heap} {locs : List Loc} {cells slots : Nat} {Q : State → Prop}
variable {cc : ByteArray} {nL pc : Nat} {ls : Array Slot} {rest : List Value} {own : String} {E : fo_E} {st : fo_St} {α : Type} {y : α}
/-- a cell of the world, as the kit's rows read it -/
theorem fo_at (hw : fo_S E s st H locs) {n : Nat} {x : va_E} (h : fo_ce E (et E n) st n = some x) : va_P (eD E) fo_cl [(eb E + n, x)] H := by
  intro k q hq
  match k, hq with
  | 0, hq => cases hq; exact (hw.1.2 n x h).1
  | k + 1, hq => cases hq
theorem fo_ob (hw : fo_S E s st H locs) {n ci : Nat} (ht : et E n = (1, ci)) : va_P (eD E) fo_cl [(eb E + n, .inr (ci, fo_fl (eb E) st n (fo_sh ci)))] H := by
  refine fo_at hw ?_
  rw [ht]
  rfl
/-- a field is read: its value by its kind -/
theorem fo_getv (X : fo_X E p m c cc nL s args own meth) (hw : fo_S E s st H locs) {n k ci index : Nat} {q : vw_C} {ty : Nat → FieldType} (hc : fo_C ci q ty) (ht : et E n = (1, ci)) (hk : k < q.2.2) (hlink : Cond.fieldLink own index (q.2.1 k).1 (q.2.1 k).2.1 (q.2.1 k).2.2.1 ∈ lw_all) {v : Value} (hv : fo_fv (eb E) st n k ((fo_sh ci).getD k 0) = v) (hdg : decode cc pc = .ok (.getfield index, 3))
    (kk : W p l e R s m args below meth c H locs cells slots Q (F0 m (pc + 3) ls (v :: rest))) : W p l e R s m args below meth c H locs cells slots Q (F0 m pc ls (.ref (eb E + n) :: rest)) := by
  obtain ⟨⟨hx, hb, hml, hown, hts⟩, hK, hlo⟩ := X
  obtain ⟨h1, h2, h3, h4, h5⟩ := hc
  obtain ⟨C, T, N⟩ := q
  exact va_get hx hb hts h2 hown hK.1 (fo_ob hw ht) 0 rfl h1 k hk (hts _ hlink) (fun _ h9 => h9) (by rw [← hv]; exact fo_fl_get (by rw [h3]; exact hk)) hdg kk
theorem fo_getvN (X : fo_X E p m c cc nL s args own meth) (hw : fo_S E s st H locs) {n k ci index : Nat} {host : String} {q : vw_C} {ty : Nat → FieldType} (hc : fo_C ci q ty) (ht : et E n = (1, ci)) (hk : k < q.2.2) (hlink : Cond.fieldLinkNest own index (q.2.1 k).1 (q.2.1 k).2.1 (q.2.1 k).2.2.1 host ∈ fo_nest) {v : Value} (hv : fo_fv (eb E) st n k ((fo_sh ci).getD k 0) = v) (hdg : decode cc pc = .ok (.getfield index, 3))
    (kk : W p l e R s m args below meth c H locs cells slots Q (F0 m (pc + 3) ls (v :: rest))) : W p l e R s m args below meth c H locs cells slots Q (F0 m pc ls (.ref (eb E + n) :: rest)) := by
  obtain ⟨⟨hx, hb, hml, hown, hts⟩, hK, hlo⟩ := X
  obtain ⟨h1, h2, h3, h4, h5⟩ := hc
  obtain ⟨C, T, N⟩ := q
  exact va_getN hx hb hts h2 hown hK.1 (fo_ob hw ht) 0 rfl h1 k hk (va_Nw.use rfl (hK.2.1 _ hlink)) (fun _ h9 => h9) (by rw [← hv]; exact fo_fl_get (by rw [h3]; exact hk)) hdg kk
/-- the world behind a field's change -/
theorem fo_set (hw : fo_S E s st H locs) {n k ci : Nat} {q : vw_C} {ty : Nat → FieldType} (hc : fo_C ci q ty) (ht : et E n = (1, ci)) (hk : k < q.2.2) (hK : va_K (eD E) fo_cl (fo_tys E) s) (hts : ∀ w ∈ lw_all, w.before args s = true) {st1 : fo_St} {v : Value} {cell : Cell} {H' : Heap} (q1 : H[eb E + n]? = some cell) (q2 : cell.cls = (eD E).1 ci) (q3 : cell.vm = .none) (q4 : ∀ j, j < q.2.2 → cell.slots[(eD E).2 ci j]? = some (vp_V (fo_fl (eb E) st n (fo_sh ci)) j)) (h1 : fo_fv (eb E) st1 n k ((fo_sh ci).getD k 0) = v) (h2 : ∀ j, j ≠ k → ∀ kd, fo_fv (eb E) st1 n j kd = fo_fv (eb E) st n j kd) (h3 : ∀ a, a ≠ n → ∀ j, gi_ st1 a j = gi_ st a j ∧ gl_ st1 a j = gl_ st a j ∧ gr_ st1 a j = gr_ st a j)
    (e1 : H'[eb E + n]? = some (cell.setSlot ((eD E).2 ci k) v)) (e2 : H'.size = H.size) (e3 : ∀ a, a ≠ eb E + n → H'[a]? = H[a]?) : fo_S E s st1 H' (locs ++ [⟨eb E + n, (eD E).2 ci k⟩]) := by
  obtain ⟨g1, g2, g3, g4, g5⟩ := hc
  have hap := va_apart (own := q.1) hts g2 ty g4 g5 hK g1
  have hce : fo_ce E (et E n) st n = some (.inr (ci, fo_fl (eb E) st n (fo_sh ci))) := by rw [ht]; rfl
  have hA := (hw.1.2 n _ hce).2
  refine ⟨⟨by rw [e2]; exact hw.1.1, fun a x hx => ?_⟩, hw.2.put e2 e3 hA⟩
  by_cases ha : a = n
  · subst ha
    rw [ht] at hx
    cases hx
    refine ⟨⟨q, g1, ?_⟩, hA⟩
    refine t_OB.to (V := updV (vp_V (fo_fl (eb E) st a (fo_sh ci))) k v) ⟨_, e1, q2, q3, t_set q4 hap hk v⟩ (fun j _ => ?_)
    have hl : k < (fo_fl (eb E) st a (fo_sh ci)).length := by rw [fo_fl_len, g3]; exact hk
    rw [vp_updV_set hl v j, fo_fl_of (by rw [g3]; exact hk) h1 h2]
  · have h9 := h3 a ha
    rw [fo_ce_of (fun j => (h9 j).1) (fun j => (h9 j).2.1) (fun j => (h9 j).2.2)] at hx
    have h8 := hw.1.2 a x hx
    exact ⟨h8.1.kept (e3 _ (show eb E + a ≠ eb E + n by omega)), h8.2⟩
theorem fo_putv (X : fo_X E p m c cc nL s args own meth) (hw : fo_S E s st H locs) {n k ci index : Nat} {q : vw_C} {ty : Nat → FieldType} (hc : fo_C ci q ty) (ht : et E n = (1, ci)) (hk : k < q.2.2) (hfin : (q.2.1 k).2.2.2 = false) (hlink : Cond.fieldLink own index (q.2.1 k).1 (q.2.1 k).2.1 (q.2.1 k).2.2.1 ∈ lw_all) {st1 : fo_St} {v : Value} (hn : narrow (ty k) v = v) (hfit : fits (ty k) v = true) (h1 : fo_fv (eb E) st1 n k ((fo_sh ci).getD k 0) = v) (h2 : ∀ j, j ≠ k → ∀ kd, fo_fv (eb E) st1 n j kd = fo_fv (eb E) st n j kd) (h3 : ∀ a, a ≠ n → ∀ j, gi_ st1 a j = gi_ st a j ∧ gl_ st1 a j = gl_ st a j ∧ gr_ st1 a j = gr_ st a j) (hdg : decode cc pc = .ok (.putfield index, 3))
    (kk : ∀ (H1 : Heap) (locs1 : List Loc), fo_S E s st1 H1 locs1 → W p l e R s m args below meth c H1 locs1 cells slots Q (F0 m (pc + 3) ls rest)) : W p l e R s m args below meth c H locs cells slots Q (F0 m pc ls (v :: .ref (eb E + n) :: rest)) := by
  obtain ⟨⟨hx, hb, hml, hown, hts⟩, hK, hlo⟩ := X
  have hC := hc
  obtain ⟨g1, g2, g3, g4, g5⟩ := hc
  have hP := fo_ob hw ht
  obtain ⟨r, r1, cell, q1, q2, q3, q4⟩ := hP 0 _ rfl
  have hr : r = q := Option.some.inj (r1.symm.trans g1)
  subst hr
  obtain ⟨hS, hfc, kC, hkC, hkind⟩ := hK.1.1 ci _ g1
  obtain ⟨cf, kf, fi, f, hi, hsl⟩ := hS k hk
  have hlay := hts _ (g2 _ (u_in_lay hk))
  unfold u_lay at hlay
  rw [if_neg (by rw [hfin]; decide)] at hlay
  have hst := (u_facts hfc hkC (u_lays hts g2 hk) hi).1
  have h6 := u_store hfc hkC hkind hlay hi (g4 k hk) hn hfit
  refine W.putK hx hb (f := f) ⟨hown, hts _ hlink, ⟨_, _, _, hi⟩, hst⟩ (by rw [q2]; exact h6) q1 q3 (by rw [hsl]; exact k2_hasslot (q4 k hk)) rfl rfl hdg fun H' e1 e2 e3 => ?_
  rw [hsl] at e1 ⊢
  exact kk H' _ (fo_set hw hC ht hk hK.1 hts q1 q2 q3 q4 h1 h2 h3 e1 e2 e3)
theorem fo_putvN (X : fo_X E p m c cc nL s args own meth) (hw : fo_S E s st H locs) {n k ci index : Nat} {host : String} {q : vw_C} {ty : Nat → FieldType} (hc : fo_C ci q ty) (ht : et E n = (1, ci)) (hk : k < q.2.2) (hfin : (q.2.1 k).2.2.2 = false) (hlink : Cond.fieldLinkNest own index (q.2.1 k).1 (q.2.1 k).2.1 (q.2.1 k).2.2.1 host ∈ fo_nest) {st1 : fo_St} {v : Value} (hn : narrow (ty k) v = v) (hfit : fits (ty k) v = true) (h1 : fo_fv (eb E) st1 n k ((fo_sh ci).getD k 0) = v) (h2 : ∀ j, j ≠ k → ∀ kd, fo_fv (eb E) st1 n j kd = fo_fv (eb E) st n j kd) (h3 : ∀ a, a ≠ n → ∀ j, gi_ st1 a j = gi_ st a j ∧ gl_ st1 a j = gl_ st a j ∧ gr_ st1 a j = gr_ st a j) (hdg : decode cc pc = .ok (.putfield index, 3))
    (kk : ∀ (H1 : Heap) (locs1 : List Loc), fo_S E s st1 H1 locs1 → W p l e R s m args below meth c H1 locs1 cells slots Q (F0 m (pc + 3) ls rest)) : W p l e R s m args below meth c H locs cells slots Q (F0 m pc ls (v :: .ref (eb E + n) :: rest)) := by
  obtain ⟨⟨hx, hb, hml, hown, hts⟩, hK, hlo⟩ := X
  have hC := hc
  obtain ⟨g1, g2, g3, g4, g5⟩ := hc
  have hP := fo_ob hw ht
  obtain ⟨r, r1, cell, q1, q2, q3, q4⟩ := hP 0 _ rfl
  have hr : r = q := Option.some.inj (r1.symm.trans g1)
  subst hr
  obtain ⟨hS, hfc, kC, hkC, hkind⟩ := hK.1.1 ci _ g1
  obtain ⟨cf, kf, fi, f, hi, hsl⟩ := hS k hk
  have hlay := hts _ (g2 _ (u_in_lay hk))
  unfold u_lay at hlay
  rw [if_neg (by rw [hfin]; decide)] at hlay
  have hst := (u_facts hfc hkC (u_lays hts g2 hk) hi).1
  have h6 := u_store hfc hkC hkind hlay hi (g4 k hk) hn hfit
  refine va_WputK hx hb (f := f) hown (va_Nw.use rfl (hK.2.1 _ hlink)) hi hst (by rw [q2]; exact h6) q1 q3 (by rw [hsl]; exact k2_hasslot (q4 k hk)) rfl rfl hdg fun H' e1 e2 e3 => ?_
  rw [hsl] at e1 ⊢
  exact kk H' _ (fo_set hw hC ht hk hK.1 hts q1 q2 q3 q4 h1 h2 h3 e1 e2 e3)
end FO1
theorem fo_fvI {b : Nat} {st : fo_St} {n k : Nat} {v : Int32} : fo_fv b (si_ st n k v) n k 0 = .int v := by
  unfold fo_fv
  rw [gi_si, if_pos ⟨rfl, rfl⟩]
theorem fo_fvL {b : Nat} {st : fo_St} {n k : Nat} {v : Int64} : fo_fv b (sl_ st n k v) n k 1 = .long v := by
  unfold fo_fv
  rw [gl_sl, if_pos ⟨rfl, rfl⟩]
theorem fo_fvR {b : Nat} {st : fo_St} {n k : Nat} {v : Option Nat} : fo_fv b (sr_ st n k v) n k 2 = va_rf (v.map (fun q => b + q)) := by
  unfold fo_fv
  rw [gr_sr, if_pos ⟨rfl, rfl⟩]
theorem fo_si2 {b : Nat} {st : fo_St} {n k : Nat} {v : Int32} : ∀ j, j ≠ k → ∀ kd, fo_fv b (si_ st n k v) n j kd = fo_fv b st n j kd := by
  intro j hj kd
  unfold fo_fv
  split
  · rw [gi_si, if_neg (fun h => hj h.2)]
  · rfl
  · rfl
  · rfl
theorem fo_sl2 {b : Nat} {st : fo_St} {n k : Nat} {v : Int64} : ∀ j, j ≠ k → ∀ kd, fo_fv b (sl_ st n k v) n j kd = fo_fv b st n j kd := by
  intro j hj kd
  unfold fo_fv
  split
  · rfl
  · rw [gl_sl, if_neg (fun h => hj h.2)]
  · rfl
  · rfl
theorem fo_sr2 {b : Nat} {st : fo_St} {n k : Nat} {v : Option Nat} : ∀ j, j ≠ k → ∀ kd, fo_fv b (sr_ st n k v) n j kd = fo_fv b st n j kd := by
  intro j hj kd
  unfold fo_fv
  split
  · rfl
  · rfl
  · rw [gr_sr, if_neg (fun h => hj h.2)]
  · rfl
theorem fo_si3 {st : fo_St} {n k : Nat} {v : Int32} : ∀ a, a ≠ n → ∀ j, gi_ (si_ st n k v) a j = gi_ st a j ∧ gl_ (si_ st n k v) a j = gl_ st a j ∧ gr_ (si_ st n k v) a j = gr_ st a j := by
  intro a ha j
  exact ⟨by rw [gi_si, if_neg (fun h => ha h.1)], rfl, rfl⟩
theorem fo_sl3 {st : fo_St} {n k : Nat} {v : Int64} : ∀ a, a ≠ n → ∀ j, gi_ (sl_ st n k v) a j = gi_ st a j ∧ gl_ (sl_ st n k v) a j = gl_ st a j ∧ gr_ (sl_ st n k v) a j = gr_ st a j := by
  intro a ha j
  exact ⟨rfl, by rw [gl_sl, if_neg (fun h => ha h.1)], rfl⟩
theorem fo_sr3 {st : fo_St} {n k : Nat} {v : Option Nat} : ∀ a, a ≠ n → ∀ j, gi_ (sr_ st n k v) a j = gi_ st a j ∧ gl_ (sr_ st n k v) a j = gl_ st a j ∧ gr_ (sr_ st n k v) a j = gr_ st a j := by
  intro a ha j
  exact ⟨rfl, rfl, by rw [gr_sr, if_neg (fun h => ha h.1)]⟩
theorem fo_z {v : Int32} (h : decide (v = 0 ∨ v = 1) = true) : narrow .boolean (.int v) = .int v ∧ fits .boolean (.int v) = true := by
  rcases of_decide_eq_true h with rfl | rfl
  · exact ⟨rfl, rfl⟩
  · exact ⟨rfl, rfl⟩
section FO2
variable {p : Program} {l : Launch} {e : Env} {R : Room} {s : State} {m : MethodId} {args : Array Value} {below : List Frame} {meth : Method} {c : Code} {H : Heap} {locs : List Loc} {cells slots : Nat} {Q : State → Prop}
variable {cc : ByteArray} {nL pc : Nat} {ls : Array Slot} {rest : List Value} {own : String} {E : fo_E} {st : fo_St} {α : Type} {y : α}
/-- fields: read and changed in step with the pure text -/
theorem fo_geti (X : fo_X E p m c cc nL s args own meth) (hw : fo_S E s st H locs) {n k ci index : Nat} {q : vw_C} {ty : Nat → FieldType} (hc : fo_C ci q ty) (ht : et E n = (1, ci)) (hk : k < q.2.2) (hkd : (fo_sh ci).getD k 0 = 0) (hlink : Cond.fieldLink own index (q.2.1 k).1 (q.2.1 k).2.1 (q.2.1 k).2.2.1 ∈ lw_all) (hdg : decode cc pc = .ok (.getfield index, 3))
    (kk : W p l e R s m args below meth c H locs cells slots Q (F0 m (pc + 3) ls (.int (gi_ st n k) :: rest))) : W p l e R s m args below meth c H locs cells slots Q (F0 m pc ls (.ref (eb E + n) :: rest)) :=
  fo_getv X hw hc ht hk hlink (by rw [hkd]; rfl) hdg kk
theorem fo_getl (X : fo_X E p m c cc nL s args own meth) (hw : fo_S E s st H locs) {n k ci index : Nat} {q : vw_C} {ty : Nat → FieldType} (hc : fo_C ci q ty) (ht : et E n = (1, ci)) (hk : k < q.2.2) (hkd : (fo_sh ci).getD k 0 = 1) (hlink : Cond.fieldLink own index (q.2.1 k).1 (q.2.1 k).2.1 (q.2.1 k).2.2.1 ∈ lw_all) (hdg : decode cc pc = .ok (.getfield index, 3))
    (kk : W p l e R s m args below meth c H locs cells slots Q (F0 m (pc + 3) ls (.long (gl_ st n k) :: rest))) : W p l e R s m args below meth c H locs cells slots Q (F0 m pc ls (.ref (eb E + n) :: rest)) :=
  fo_getv X hw hc ht hk hlink (by rw [hkd]; rfl) hdg kk
theorem fo_gets (X : fo_X E p m c cc nL s args own meth) (hw : fo_S E s st H locs) {n k ci index : Nat} {q : vw_C} {ty : Nat → FieldType} (hc : fo_C ci q ty) (ht : et E n = (1, ci)) (hk : k < q.2.2) {d n2 : Nat} (hkd : (fo_sh ci).getD k 0 = d + 3) (hn : n + d = n2) (hlink : Cond.fieldLink own index (q.2.1 k).1 (q.2.1 k).2.1 (q.2.1 k).2.2.1 ∈ lw_all) (hdg : decode cc pc = .ok (.getfield index, 3))
    (kk : W p l e R s m args below meth c H locs cells slots Q (F0 m (pc + 3) ls (.ref (eb E + n2) :: rest))) : W p l e R s m args below meth c H locs cells slots Q (F0 m pc ls (.ref (eb E + n) :: rest)) :=
  fo_getv X hw hc ht hk hlink (by rw [hkd, ← hn]; rfl) hdg kk
theorem fo_getiN (X : fo_X E p m c cc nL s args own meth) (hw : fo_S E s st H locs) {n k ci index : Nat} {host : String} {q : vw_C} {ty : Nat → FieldType} (hc : fo_C ci q ty) (ht : et E n = (1, ci)) (hk : k < q.2.2) (hkd : (fo_sh ci).getD k 0 = 0) (hlink : Cond.fieldLinkNest own index (q.2.1 k).1 (q.2.1 k).2.1 (q.2.1 k).2.2.1 host ∈ fo_nest) (hdg : decode cc pc = .ok (.getfield index, 3))
    (kk : W p l e R s m args below meth c H locs cells slots Q (F0 m (pc + 3) ls (.int (gi_ st n k) :: rest))) : W p l e R s m args below meth c H locs cells slots Q (F0 m pc ls (.ref (eb E + n) :: rest)) :=
  fo_getvN X hw hc ht hk hlink (by rw [hkd]; rfl) hdg kk
theorem fo_getsN (X : fo_X E p m c cc nL s args own meth) (hw : fo_S E s st H locs) {n k ci index : Nat} {host : String} {q : vw_C} {ty : Nat → FieldType} (hc : fo_C ci q ty) (ht : et E n = (1, ci)) (hk : k < q.2.2) {d n2 : Nat} (hkd : (fo_sh ci).getD k 0 = d + 3) (hn : n + d = n2) (hlink : Cond.fieldLinkNest own index (q.2.1 k).1 (q.2.1 k).2.1 (q.2.1 k).2.2.1 host ∈ fo_nest) (hdg : decode cc pc = .ok (.getfield index, 3))
    (kk : W p l e R s m args below meth c H locs cells slots Q (F0 m (pc + 3) ls (.ref (eb E + n2) :: rest))) : W p l e R s m args below meth c H locs cells slots Q (F0 m pc ls (.ref (eb E + n) :: rest)) :=
  fo_getvN X hw hc ht hk hlink (by rw [hkd, ← hn]; rfl) hdg kk
theorem fo_puti (X : fo_X E p m c cc nL s args own meth) (hw : fo_S E s st H locs) {n k ci index : Nat} {q : vw_C} {ty : Nat → FieldType} (hc : fo_C ci q ty) (ht : et E n = (1, ci)) (hk : k < q.2.2) (hkd : (fo_sh ci).getD k 0 = 0) (hfin : (q.2.1 k).2.2.2 = false) (hlink : Cond.fieldLink own index (q.2.1 k).1 (q.2.1 k).2.1 (q.2.1 k).2.2.1 ∈ lw_all) {v : Int32} (hn : narrow (ty k) (.int v) = .int v ∧ fits (ty k) (.int v) = true) (hdg : decode cc pc = .ok (.putfield index, 3)) {kf : fo_St → Option α} (hf : lt_ (si_ st n k v) kf = some y)
    (kk : ∀ (st1 : fo_St) (H1 : Heap) (locs1 : List Loc), fo_S E s st1 H1 locs1 → kf st1 = some y → W p l e R s m args below meth c H1 locs1 cells slots Q (F0 m (pc + 3) ls rest)) : W p l e R s m args below meth c H locs cells slots Q (F0 m pc ls (.int v :: .ref (eb E + n) :: rest)) :=
  fo_putv (v := .int v) X hw hc ht hk hfin hlink hn.1 hn.2 (by rw [hkd]; exact fo_fvI) fo_si2 fo_si3 hdg (fun H1 locs1 h => kk _ H1 locs1 h hf)
theorem fo_putl (X : fo_X E p m c cc nL s args own meth) (hw : fo_S E s st H locs) {n k ci index : Nat} {q : vw_C} {ty : Nat → FieldType} (hc : fo_C ci q ty) (ht : et E n = (1, ci)) (hk : k < q.2.2) (hkd : (fo_sh ci).getD k 0 = 1) (hfin : (q.2.1 k).2.2.2 = false) (hlink : Cond.fieldLink own index (q.2.1 k).1 (q.2.1 k).2.1 (q.2.1 k).2.2.1 ∈ lw_all) {v : Int64} (hn : narrow (ty k) (.long v) = .long v ∧ fits (ty k) (.long v) = true) (hdg : decode cc pc = .ok (.putfield index, 3)) {kf : fo_St → Option α} (hf : lt_ (sl_ st n k v) kf = some y)
    (kk : ∀ (st1 : fo_St) (H1 : Heap) (locs1 : List Loc), fo_S E s st1 H1 locs1 → kf st1 = some y → W p l e R s m args below meth c H1 locs1 cells slots Q (F0 m (pc + 3) ls rest)) : W p l e R s m args below meth c H locs cells slots Q (F0 m pc ls (.long v :: .ref (eb E + n) :: rest)) :=
  fo_putv (v := .long v) X hw hc ht hk hfin hlink hn.1 hn.2 (by rw [hkd]; exact fo_fvL) fo_sl2 fo_sl3 hdg (fun H1 locs1 h => kk _ H1 locs1 h hf)
theorem fo_putiN (X : fo_X E p m c cc nL s args own meth) (hw : fo_S E s st H locs) {n k ci index : Nat} {host : String} {q : vw_C} {ty : Nat → FieldType} (hc : fo_C ci q ty) (ht : et E n = (1, ci)) (hk : k < q.2.2) (hkd : (fo_sh ci).getD k 0 = 0) (hfin : (q.2.1 k).2.2.2 = false) (hlink : Cond.fieldLinkNest own index (q.2.1 k).1 (q.2.1 k).2.1 (q.2.1 k).2.2.1 host ∈ fo_nest) {v : Int32} (hn : narrow (ty k) (.int v) = .int v ∧ fits (ty k) (.int v) = true) (hdg : decode cc pc = .ok (.putfield index, 3)) {kf : fo_St → Option α} (hf : lt_ (si_ st n k v) kf = some y)
    (kk : ∀ (st1 : fo_St) (H1 : Heap) (locs1 : List Loc), fo_S E s st1 H1 locs1 → kf st1 = some y → W p l e R s m args below meth c H1 locs1 cells slots Q (F0 m (pc + 3) ls rest)) : W p l e R s m args below meth c H locs cells slots Q (F0 m pc ls (.int v :: .ref (eb E + n) :: rest)) :=
  fo_putvN (v := .int v) X hw hc ht hk hfin hlink hn.1 hn.2 (by rw [hkd]; exact fo_fvI) fo_si2 fo_si3 hdg (fun H1 locs1 h => kk _ H1 locs1 h hf)
/-- arrays -/
theorem fo_iald (X : fo_X E p m c cc nL s args own meth) (hw : fo_S E s st H locs) {n L : Nat} (ht : et E n = (2, L)) {i : Int32} (hdg : decode cc pc = .ok (.iaload, 1)) {t : Option α} (hf : ck_ (fo_in i L) t = some y)
    (kk : t = some y → W p l e R s m args below meth c H locs cells slots Q (F0 m (pc + 1) ls (.int (gi_ st n i.toNatClampNeg) :: rest))) : W p l e R s m args below meth c H locs cells slots Q (F0 m pc ls (.int i :: .ref (eb E + n) :: rest)) :=
  va_iald X.1.1 X.1.2.1 X.2.1.1 (fo_at hw (n := n) (x := .inl (eA E 2, L, .inl (gi_ st n))) (by rw [ht]; rfl)) 0 0 rfl rfl (fo_in_e (ck_e hf).1) hdg (kk (ck_e hf).2)
theorem fo_bald (X : fo_X E p m c cc nL s args own meth) (hw : fo_S E s st H locs) {n L : Nat} (ht : et E n = (3, L)) {i : Int32} (hdg : decode cc pc = .ok (.baload, 1)) {t : Option α} (hf : ck_ (fo_in i L) t = some y)
    (kk : t = some y → W p l e R s m args below meth c H locs cells slots Q (F0 m (pc + 1) ls (.int (gi_ st n i.toNatClampNeg) :: rest))) : W p l e R s m args below meth c H locs cells slots Q (F0 m pc ls (.int i :: .ref (eb E + n) :: rest)) :=
  va_bald X.1.1 X.1.2.1 X.2.1.1 (fo_at hw (n := n) (x := .inl (eA E 3, L, .inl (gi_ st n))) (by rw [ht]; rfl)) 0 1 rfl rfl (fo_in_e (ck_e hf).1) hdg (kk (ck_e hf).2)
theorem fo_zald (X : fo_X E p m c cc nL s args own meth) (hw : fo_S E s st H locs) {n L : Nat} (ht : et E n = (4, L)) {i : Int32} (hdg : decode cc pc = .ok (.baload, 1)) {t : Option α} (hf : ck_ (fo_in i L) t = some y)
    (kk : t = some y → W p l e R s m args below meth c H locs cells slots Q (F0 m (pc + 1) ls (.int (gi_ st n i.toNatClampNeg) :: rest))) : W p l e R s m args below meth c H locs cells slots Q (F0 m pc ls (.int i :: .ref (eb E + n) :: rest)) :=
  va_zald X.1.1 X.1.2.1 X.2.1.1 (fo_at hw (n := n) (x := .inl (eA E 4, L, .inl (gi_ st n))) (by rw [ht]; rfl)) 0 2 rfl rfl (fo_in_e (ck_e hf).1) hdg (kk (ck_e hf).2)
theorem fo_lald (X : fo_X E p m c cc nL s args own meth) (hw : fo_S E s st H locs) {n L : Nat} (ht : et E n = (5, L)) {i : Int32} (hdg : decode cc pc = .ok (.laload, 1)) {t : Option α} (hf : ck_ (fo_in i L) t = some y)
    (kk : t = some y → W p l e R s m args below meth c H locs cells slots Q (F0 m (pc + 1) ls (.long (gl_ st n i.toNatClampNeg) :: rest))) : W p l e R s m args below meth c H locs cells slots Q (F0 m pc ls (.int i :: .ref (eb E + n) :: rest)) :=
  va_lald X.1.1 X.1.2.1 X.2.1.1 (fo_at hw (n := n) (x := .inl (eA E 5, L, .inr (.inl (gl_ st n)))) (by rw [ht]; rfl)) 0 3 rfl rfl (fo_in_e (ck_e hf).1) hdg (kk (ck_e hf).2)
theorem fo_arr (hw : fo_S E s st H locs) {n : Nat} {st1 : fo_St} {x0 x1 : ClassId × vp_A} (hx0 : fo_ce E (et E n) st n = some (.inl x0)) (hx1 : fo_ce E (et E n) st1 n = some (.inl x1)) (h3 : ∀ a, a ≠ n → ∀ j, gi_ st1 a j = gi_ st a j ∧ gl_ st1 a j = gl_ st a j ∧ gr_ st1 a j = gr_ st a j) {H' : Heap} {k : Nat} (e1 : H'[eb E + n]? = some (vp_cell x1.1 x1.2)) (e2 : H'.size = H.size) (e3 : ∀ a, a ≠ eb E + n → H'[a]? = H[a]?) : fo_S E s st1 H' (locs ++ [⟨eb E + n, k⟩]) := by
  have hA := (hw.1.2 n _ hx0).2
  refine ⟨⟨by rw [e2]; exact hw.1.1, fun a x hx => ?_⟩, hw.2.put e2 e3 hA⟩
  by_cases ha : a = n
  · subst ha
    cases hx1.symm.trans hx
    exact ⟨e1, hA⟩
  · have h9 := h3 a ha
    rw [fo_ce_of (fun j => (h9 j).1) (fun j => (h9 j).2.1) (fun j => (h9 j).2.2)] at hx
    have h8 := hw.1.2 a x hx
    exact ⟨h8.1.kept (e3 _ (show eb E + a ≠ eb E + n by omega)), h8.2⟩
theorem fo_updI (cA : ClassId) (L : Nat) (st : fo_St) (n k : Nat) (v : Int32) : (vp_cell cA (L, .inl (gi_ st n))).setSlot k (.int v) = vp_cell cA (L, .inl (gi_ (si_ st n k v) n)) := by
  rw [vp_cell_i, vp_cell_i, arrV_store]
  congr 1
  funext j
  rw [gi_si]
  unfold updV
  by_cases hj : j = k
  · rw [if_pos hj, if_pos ⟨rfl, hj⟩]
  · rw [if_neg hj, if_neg (fun h => hj h.2)]
theorem fo_updL (cA : ClassId) (L : Nat) (st : fo_St) (n k : Nat) (v : Int64) : (vp_cell cA (L, .inr (.inl (gl_ st n)))).setSlot k (.long v) = vp_cell cA (L, .inr (.inl (gl_ (sl_ st n k v) n))) := by
  rw [vp_cell_l, vp_cell_l, arrV_store]
  congr 1
  funext j
  rw [gl_sl]
  unfold updV
  by_cases hj : j = k
  · rw [if_pos hj, if_pos ⟨rfl, hj⟩]
  · rw [if_neg hj, if_neg (fun h => hj h.2)]
theorem fo_iast (X : fo_X E p m c cc nL s args own meth) (hw : fo_S E s st H locs) {n L : Nat} (ht : et E n = (2, L)) {i v : Int32} (hdg : decode cc pc = .ok (.iastore, 1)) {kf : fo_St → Option α} (hf : ck_ (fo_in i L) (lt_ (si_ st n i.toNatClampNeg v) kf) = some y)
    (kk : ∀ (st1 : fo_St) (H1 : Heap) (locs1 : List Loc), fo_S E s st1 H1 locs1 → kf st1 = some y → W p l e R s m args below meth c H1 locs1 cells slots Q (F0 m (pc + 1) ls rest)) : W p l e R s m args below meth c H locs cells slots Q (F0 m pc ls (.int v :: .int i :: .ref (eb E + n) :: rest)) := by
  have hin := fo_in_e (ck_e hf).1
  have h0 : fo_ce E (et E n) st n = some (.inl (eA E 2, L, .inl (gi_ st n))) := by rw [ht]; rfl
  have h1 : fo_ce E (et E n) (si_ st n i.toNatClampNeg v) n = some (.inl (eA E 2, L, .inl (gi_ (si_ st n i.toNatClampNeg v) n))) := by rw [ht]; rfl
  refine W.iast X.1.1 X.1.2.1 (fo_at hw h0 0 _ rfl) ((X.2.1.1.2 0 _ rfl).1 L (fun j => .int (gi_ st n j))) (fun q => by cases q) (by show ¬ (i < 0 ∨ (arrV _ _ _).slots.size ≤ _); rw [arrV_size]; exact hin) rfl rfl hdg fun H1 e1 e2 e3 => ?_
  refine kk _ H1 _ (fo_arr hw h0 h1 fo_si3 ?_ e2 e3) (ck_e hf).2
  rw [e1]
  exact congrArg some (fo_updI _ _ _ _ _ _)
theorem fo_zast (X : fo_X E p m c cc nL s args own meth) (hw : fo_S E s st H locs) {n L : Nat} (ht : et E n = (4, L)) {i v : Int32} (hz : narrow .boolean (.int v) = .int v) (hdg : decode cc pc = .ok (.bastore, 1)) {kf : fo_St → Option α} (hf : ck_ (fo_in i L) (lt_ (si_ st n i.toNatClampNeg v) kf) = some y)
    (kk : ∀ (st1 : fo_St) (H1 : Heap) (locs1 : List Loc), fo_S E s st1 H1 locs1 → kf st1 = some y → W p l e R s m args below meth c H1 locs1 cells slots Q (F0 m (pc + 1) ls rest)) : W p l e R s m args below meth c H locs cells slots Q (F0 m pc ls (.int v :: .int i :: .ref (eb E + n) :: rest)) := by
  have hin := fo_in_e (ck_e hf).1
  have h0 : fo_ce E (et E n) st n = some (.inl (eA E 4, L, .inl (gi_ st n))) := by rw [ht]; rfl
  have h1 : fo_ce E (et E n) (si_ st n i.toNatClampNeg v) n = some (.inl (eA E 4, L, .inl (gi_ (si_ st n i.toNatClampNeg v) n))) := by rw [ht]; rfl
  refine W.zast X.1.1 X.1.2.1 (fo_at hw h0 0 _ rfl) ((X.2.1.1.2 2 _ rfl).1 L (fun j => .int (gi_ st n j))) (fun q => by cases q) (by show ¬ (i < 0 ∨ (arrV _ _ _).slots.size ≤ _); rw [arrV_size]; exact hin) rfl rfl hdg fun H1 e1 e2 e3 => ?_
  refine kk _ H1 _ (fo_arr hw h0 h1 fo_si3 ?_ e2 e3) (ck_e hf).2
  rw [e1, hz]
  exact congrArg some (fo_updI _ _ _ _ _ _)
theorem fo_bast (X : fo_X E p m c cc nL s args own meth) (hw : fo_S E s st H locs) {n L : Nat} (ht : et E n = (3, L)) {i v : Int32} (hz : narrow .byte (.int v) = .int v) (hdg : decode cc pc = .ok (.bastore, 1)) {kf : fo_St → Option α} (hf : ck_ (fo_in i L) (lt_ (si_ st n i.toNatClampNeg v) kf) = some y)
    (kk : ∀ (st1 : fo_St) (H1 : Heap) (locs1 : List Loc), fo_S E s st1 H1 locs1 → kf st1 = some y → W p l e R s m args below meth c H1 locs1 cells slots Q (F0 m (pc + 1) ls rest)) : W p l e R s m args below meth c H locs cells slots Q (F0 m pc ls (.int v :: .int i :: .ref (eb E + n) :: rest)) := by
  have hin := fo_in_e (ck_e hf).1
  have h0 : fo_ce E (et E n) st n = some (.inl (eA E 3, L, .inl (gi_ st n))) := by rw [ht]; rfl
  have h1 : fo_ce E (et E n) (si_ st n i.toNatClampNeg v) n = some (.inl (eA E 3, L, .inl (gi_ (si_ st n i.toNatClampNeg v) n))) := by rw [ht]; rfl
  refine W.bast X.1.1 X.1.2.1 (fo_at hw h0 0 _ rfl) ((X.2.1.1.2 1 _ rfl).1 L (fun j => .int (gi_ st n j))) (fun q => by cases q) (by show ¬ (i < 0 ∨ (arrV _ _ _).slots.size ≤ _); rw [arrV_size]; exact hin) rfl rfl hdg fun H1 e1 e2 e3 => ?_
  refine kk _ H1 _ (fo_arr hw h0 h1 fo_si3 ?_ e2 e3) (ck_e hf).2
  rw [e1, hz]
  exact congrArg some (fo_updI _ _ _ _ _ _)
theorem fo_last (X : fo_X E p m c cc nL s args own meth) (hw : fo_S E s st H locs) {n L : Nat} (ht : et E n = (5, L)) {i : Int32} {v : Int64} (hdg : decode cc pc = .ok (.lastore, 1)) {kf : fo_St → Option α} (hf : ck_ (fo_in i L) (lt_ (sl_ st n i.toNatClampNeg v) kf) = some y)
    (kk : ∀ (st1 : fo_St) (H1 : Heap) (locs1 : List Loc), fo_S E s st1 H1 locs1 → kf st1 = some y → W p l e R s m args below meth c H1 locs1 cells slots Q (F0 m (pc + 1) ls rest)) : W p l e R s m args below meth c H locs cells slots Q (F0 m pc ls (.long v :: .int i :: .ref (eb E + n) :: rest)) := by
  have hin := fo_in_e (ck_e hf).1
  have h0 : fo_ce E (et E n) st n = some (.inl (eA E 5, L, .inr (.inl (gl_ st n)))) := by rw [ht]; rfl
  have h1 : fo_ce E (et E n) (sl_ st n i.toNatClampNeg v) n = some (.inl (eA E 5, L, .inr (.inl (gl_ (sl_ st n i.toNatClampNeg v) n)))) := by rw [ht]; rfl
  refine W.last X.1.1 X.1.2.1 (fo_at hw h0 0 _ rfl) ((X.2.1.1.2 3 _ rfl).1 L (fun j => .long (gl_ st n j))) (fun q => by cases q) (by show ¬ (i < 0 ∨ (arrV _ _ _).slots.size ≤ _); rw [arrV_size]; exact hin) rfl rfl hdg fun H1 e1 e2 e3 => ?_
  refine kk _ H1 _ (fo_arr hw h0 h1 fo_sl3 ?_ e2 e3) (ck_e hf).2
  rw [e1]
  exact congrArg some (fo_updL _ _ _ _ _ _)
theorem fo_alen (X : fo_X E p m c cc nL s args own meth) (hw : fo_S E s st H locs) {n L : Nat} (ht : et E n = (2, L)) {v : Int32} (hv : Int32.ofNat L = v) (hdg : decode cc pc = .ok (.arraylength, 1))
    (kk : W p l e R s m args below meth c H locs cells slots Q (F0 m (pc + 1) ls (.int v :: rest))) : W p l e R s m args below meth c H locs cells slots Q (F0 m pc ls (.ref (eb E + n) :: rest)) :=
  va_alen (v := v) X.1.1 X.1.2.1 X.2.1.1 (fo_at hw (n := n) (x := .inl (eA E 2, L, .inl (gi_ st n))) (by rw [ht]; rfl)) 0 0 rfl rfl hv hdg kk
end FO2
section FO3
variable {p : Program} {l : Launch} {e : Env} {R : Room} {s : State} {m : MethodId} {args : Array Value} {below : List Frame} {meth : Method} {c : Code} {H : Heap} {locs : List Loc} {cells slots : Nat} {Q : State → Prop}
variable {cc : ByteArray} {nL pc : Nat} {ls : Array Slot} {rest : List Value} {own : String} {E : fo_E} {st : fo_St} {α : Type} {y : α}
/-- branches in step with the pure text's -/
theorem fb_ieq (hx : p.tables.exec = Jvm.exec) (hb : c.code = cc) {x z : Int32} {off : Int} {tgt : Nat} (hdg : decode cc pc = .ok (.if_icmp .eq off, 3)) (ht : (pc : Int) + off = (tgt : Int)) {t f : Option α} (hf : (if x = z then t else f) = some y)
    (kt : t = some y → W p l e R s m args below meth c H locs cells slots Q (F0 m tgt ls rest)) (kf : f = some y → W p l e R s m args below meth c H locs cells slots Q (F0 m (pc + 3) ls rest)) : W p l e R s m args below meth c H locs cells slots Q (F0 m pc ls (.int z :: .int x :: rest)) :=
  lv_icmp_eq hx hb hdg ht (fun h => kt (by first | (rw [if_pos h] at hf; exact hf) | (rw [if_pos (by simpa using h)] at hf; exact hf))) (fun h => kf (by first | (rw [if_neg h] at hf; exact hf) | (rw [if_neg (by simpa using h)] at hf; exact hf)))
theorem fb_ine (hx : p.tables.exec = Jvm.exec) (hb : c.code = cc) {x z : Int32} {off : Int} {tgt : Nat} (hdg : decode cc pc = .ok (.if_icmp .ne off, 3)) (ht : (pc : Int) + off = (tgt : Int)) {t f : Option α} (hf : (if ¬ x = z then t else f) = some y)
    (kt : t = some y → W p l e R s m args below meth c H locs cells slots Q (F0 m tgt ls rest)) (kf : f = some y → W p l e R s m args below meth c H locs cells slots Q (F0 m (pc + 3) ls rest)) : W p l e R s m args below meth c H locs cells slots Q (F0 m pc ls (.int z :: .int x :: rest)) :=
  lv_icmp_ne hx hb hdg ht (fun h => kt (by first | (rw [if_pos h] at hf; exact hf) | (rw [if_pos (by simpa using h)] at hf; exact hf))) (fun h => kf (by first | (rw [if_neg h] at hf; exact hf) | (rw [if_neg (by simpa using h)] at hf; exact hf)))
theorem fb_ilt (hx : p.tables.exec = Jvm.exec) (hb : c.code = cc) {x z : Int32} {off : Int} {tgt : Nat} (hdg : decode cc pc = .ok (.if_icmp .lt off, 3)) (ht : (pc : Int) + off = (tgt : Int)) {t f : Option α} (hf : (if x < z then t else f) = some y)
    (kt : t = some y → W p l e R s m args below meth c H locs cells slots Q (F0 m tgt ls rest)) (kf : f = some y → W p l e R s m args below meth c H locs cells slots Q (F0 m (pc + 3) ls rest)) : W p l e R s m args below meth c H locs cells slots Q (F0 m pc ls (.int z :: .int x :: rest)) :=
  lv_icmp_lt hx hb hdg ht (fun h => kt (by first | (rw [if_pos h] at hf; exact hf) | (rw [if_pos (by simpa using h)] at hf; exact hf))) (fun h => kf (by first | (rw [if_neg h] at hf; exact hf) | (rw [if_neg (by simpa using h)] at hf; exact hf)))
theorem fb_ige (hx : p.tables.exec = Jvm.exec) (hb : c.code = cc) {x z : Int32} {off : Int} {tgt : Nat} (hdg : decode cc pc = .ok (.if_icmp .ge off, 3)) (ht : (pc : Int) + off = (tgt : Int)) {t f : Option α} (hf : (if z ≤ x then t else f) = some y)
    (kt : t = some y → W p l e R s m args below meth c H locs cells slots Q (F0 m tgt ls rest)) (kf : f = some y → W p l e R s m args below meth c H locs cells slots Q (F0 m (pc + 3) ls rest)) : W p l e R s m args below meth c H locs cells slots Q (F0 m pc ls (.int z :: .int x :: rest)) :=
  lv_icmp_ge hx hb hdg ht (fun h => kt (by first | (rw [if_pos h] at hf; exact hf) | (rw [if_pos (by simpa using h)] at hf; exact hf))) (fun h => kf (by first | (rw [if_neg h] at hf; exact hf) | (rw [if_neg (by simpa using h)] at hf; exact hf)))
theorem fb_igt (hx : p.tables.exec = Jvm.exec) (hb : c.code = cc) {x z : Int32} {off : Int} {tgt : Nat} (hdg : decode cc pc = .ok (.if_icmp .gt off, 3)) (ht : (pc : Int) + off = (tgt : Int)) {t f : Option α} (hf : (if z < x then t else f) = some y)
    (kt : t = some y → W p l e R s m args below meth c H locs cells slots Q (F0 m tgt ls rest)) (kf : f = some y → W p l e R s m args below meth c H locs cells slots Q (F0 m (pc + 3) ls rest)) : W p l e R s m args below meth c H locs cells slots Q (F0 m pc ls (.int z :: .int x :: rest)) :=
  lv_icmp_gt hx hb hdg ht (fun h => kt (by first | (rw [if_pos h] at hf; exact hf) | (rw [if_pos (by simpa using h)] at hf; exact hf))) (fun h => kf (by first | (rw [if_neg h] at hf; exact hf) | (rw [if_neg (by simpa using h)] at hf; exact hf)))
theorem fb_ile (hx : p.tables.exec = Jvm.exec) (hb : c.code = cc) {x z : Int32} {off : Int} {tgt : Nat} (hdg : decode cc pc = .ok (.if_icmp .le off, 3)) (ht : (pc : Int) + off = (tgt : Int)) {t f : Option α} (hf : (if x ≤ z then t else f) = some y)
    (kt : t = some y → W p l e R s m args below meth c H locs cells slots Q (F0 m tgt ls rest)) (kf : f = some y → W p l e R s m args below meth c H locs cells slots Q (F0 m (pc + 3) ls rest)) : W p l e R s m args below meth c H locs cells slots Q (F0 m pc ls (.int z :: .int x :: rest)) :=
  lv_icmp_le hx hb hdg ht (fun h => kt (by first | (rw [if_pos h] at hf; exact hf) | (rw [if_pos (by simpa using h)] at hf; exact hf))) (fun h => kf (by first | (rw [if_neg h] at hf; exact hf) | (rw [if_neg (by simpa using h)] at hf; exact hf)))
theorem fb_zeq (hx : p.tables.exec = Jvm.exec) (hb : c.code = cc) {x : Int32} {off : Int} {tgt : Nat} (hdg : decode cc pc = .ok (.ifCond .eq off, 3)) (ht : (pc : Int) + off = (tgt : Int)) {t f : Option α} (hf : (if x = 0 then t else f) = some y)
    (kt : t = some y → W p l e R s m args below meth c H locs cells slots Q (F0 m tgt ls rest)) (kf : f = some y → W p l e R s m args below meth c H locs cells slots Q (F0 m (pc + 3) ls rest)) : W p l e R s m args below meth c H locs cells slots Q (F0 m pc ls (.int x :: rest)) :=
  lv_if_eq hx hb hdg ht (fun h => kt (by first | (rw [if_pos h] at hf; exact hf) | (rw [if_pos (by simpa using h)] at hf; exact hf))) (fun h => kf (by first | (rw [if_neg h] at hf; exact hf) | (rw [if_neg (by simpa using h)] at hf; exact hf)))
theorem fb_zne (hx : p.tables.exec = Jvm.exec) (hb : c.code = cc) {x : Int32} {off : Int} {tgt : Nat} (hdg : decode cc pc = .ok (.ifCond .ne off, 3)) (ht : (pc : Int) + off = (tgt : Int)) {t f : Option α} (hf : (if ¬ x = 0 then t else f) = some y)
    (kt : t = some y → W p l e R s m args below meth c H locs cells slots Q (F0 m tgt ls rest)) (kf : f = some y → W p l e R s m args below meth c H locs cells slots Q (F0 m (pc + 3) ls rest)) : W p l e R s m args below meth c H locs cells slots Q (F0 m pc ls (.int x :: rest)) :=
  lv_if_ne hx hb hdg ht (fun h => kt (by first | (rw [if_pos h] at hf; exact hf) | (rw [if_pos (by simpa using h)] at hf; exact hf))) (fun h => kf (by first | (rw [if_neg h] at hf; exact hf) | (rw [if_neg (by simpa using h)] at hf; exact hf)))
theorem fb_zlt (hx : p.tables.exec = Jvm.exec) (hb : c.code = cc) {x : Int32} {off : Int} {tgt : Nat} (hdg : decode cc pc = .ok (.ifCond .lt off, 3)) (ht : (pc : Int) + off = (tgt : Int)) {t f : Option α} (hf : (if x < 0 then t else f) = some y)
    (kt : t = some y → W p l e R s m args below meth c H locs cells slots Q (F0 m tgt ls rest)) (kf : f = some y → W p l e R s m args below meth c H locs cells slots Q (F0 m (pc + 3) ls rest)) : W p l e R s m args below meth c H locs cells slots Q (F0 m pc ls (.int x :: rest)) :=
  lv_if_lt hx hb hdg ht (fun h => kt (by first | (rw [if_pos h] at hf; exact hf) | (rw [if_pos (by simpa using h)] at hf; exact hf))) (fun h => kf (by first | (rw [if_neg h] at hf; exact hf) | (rw [if_neg (by simpa using h)] at hf; exact hf)))
theorem fb_zge (hx : p.tables.exec = Jvm.exec) (hb : c.code = cc) {x : Int32} {off : Int} {tgt : Nat} (hdg : decode cc pc = .ok (.ifCond .ge off, 3)) (ht : (pc : Int) + off = (tgt : Int)) {t f : Option α} (hf : (if 0 ≤ x then t else f) = some y)
    (kt : t = some y → W p l e R s m args below meth c H locs cells slots Q (F0 m tgt ls rest)) (kf : f = some y → W p l e R s m args below meth c H locs cells slots Q (F0 m (pc + 3) ls rest)) : W p l e R s m args below meth c H locs cells slots Q (F0 m pc ls (.int x :: rest)) :=
  lv_if_ge hx hb hdg ht (fun h => kt (by first | (rw [if_pos h] at hf; exact hf) | (rw [if_pos (by simpa using h)] at hf; exact hf))) (fun h => kf (by first | (rw [if_neg h] at hf; exact hf) | (rw [if_neg (by simpa using h)] at hf; exact hf)))
theorem fb_zgt (hx : p.tables.exec = Jvm.exec) (hb : c.code = cc) {x : Int32} {off : Int} {tgt : Nat} (hdg : decode cc pc = .ok (.ifCond .gt off, 3)) (ht : (pc : Int) + off = (tgt : Int)) {t f : Option α} (hf : (if 0 < x then t else f) = some y)
    (kt : t = some y → W p l e R s m args below meth c H locs cells slots Q (F0 m tgt ls rest)) (kf : f = some y → W p l e R s m args below meth c H locs cells slots Q (F0 m (pc + 3) ls rest)) : W p l e R s m args below meth c H locs cells slots Q (F0 m pc ls (.int x :: rest)) :=
  lv_if_gt hx hb hdg ht (fun h => kt (by first | (rw [if_pos h] at hf; exact hf) | (rw [if_pos (by simpa using h)] at hf; exact hf))) (fun h => kf (by first | (rw [if_neg h] at hf; exact hf) | (rw [if_neg (by simpa using h)] at hf; exact hf)))
theorem fb_zle (hx : p.tables.exec = Jvm.exec) (hb : c.code = cc) {x : Int32} {off : Int} {tgt : Nat} (hdg : decode cc pc = .ok (.ifCond .le off, 3)) (ht : (pc : Int) + off = (tgt : Int)) {t f : Option α} (hf : (if x ≤ 0 then t else f) = some y)
    (kt : t = some y → W p l e R s m args below meth c H locs cells slots Q (F0 m tgt ls rest)) (kf : f = some y → W p l e R s m args below meth c H locs cells slots Q (F0 m (pc + 3) ls rest)) : W p l e R s m args below meth c H locs cells slots Q (F0 m pc ls (.int x :: rest)) :=
  lv_if_le hx hb hdg ht (fun h => kt (by first | (rw [if_pos h] at hf; exact hf) | (rw [if_pos (by simpa using h)] at hf; exact hf))) (fun h => kf (by first | (rw [if_neg h] at hf; exact hf) | (rw [if_neg (by simpa using h)] at hf; exact hf)))
/-- lcmp, and the branch behind it -/
theorem fb_leq (hx : p.tables.exec = Jvm.exec) (hb : c.code = cc) {x z : Int64} {off : Int} {tgt : Nat} (hd0 : decode cc pc = .ok (.lcmp, 1)) (hdg : decode cc (pc + 1) = .ok (.ifCond .eq off, 3)) (ht : ((pc + 1 : Nat) : Int) + off = (tgt : Int)) {t f : Option α} (hf : (if x = z then t else f) = some y)
    (kt : t = some y → W p l e R s m args below meth c H locs cells slots Q (F0 m tgt ls rest)) (kf : f = some y → W p l e R s m args below meth c H locs cells slots Q (F0 m (pc + 1 + 3) ls rest)) : W p l e R s m args below meth c H locs cells slots Q (F0 m pc ls (.long z :: .long x :: rest)) :=
  W.lcmp hx hb hd0 (lv_if_eq hx hb hdg ht (fun h => kt (by rw [if_pos ((lg_cmp_eq _ _).mp h)] at hf; exact hf)) (fun h => kf (by rw [if_neg (fun q => h ((lg_cmp_eq _ _).mpr q))] at hf; exact hf)))
/-- lcmp, and the branch behind it -/
theorem fb_lne (hx : p.tables.exec = Jvm.exec) (hb : c.code = cc) {x z : Int64} {off : Int} {tgt : Nat} (hd0 : decode cc pc = .ok (.lcmp, 1)) (hdg : decode cc (pc + 1) = .ok (.ifCond .ne off, 3)) (ht : ((pc + 1 : Nat) : Int) + off = (tgt : Int)) {t f : Option α} (hf : (if ¬ x = z then t else f) = some y)
    (kt : t = some y → W p l e R s m args below meth c H locs cells slots Q (F0 m tgt ls rest)) (kf : f = some y → W p l e R s m args below meth c H locs cells slots Q (F0 m (pc + 1 + 3) ls rest)) : W p l e R s m args below meth c H locs cells slots Q (F0 m pc ls (.long z :: .long x :: rest)) :=
  W.lcmp hx hb hd0 (lv_if_ne hx hb hdg ht (fun h => kt (by rw [if_pos (fun q => h ((lg_cmp_eq _ _).mpr q))] at hf; exact hf)) (fun h => kf (by rw [if_neg (fun q => q ((lg_cmp_eq _ _).mp h))] at hf; exact hf)))
/-- lcmp, and the branch behind it -/
theorem fb_llt (hx : p.tables.exec = Jvm.exec) (hb : c.code = cc) {x z : Int64} {off : Int} {tgt : Nat} (hd0 : decode cc pc = .ok (.lcmp, 1)) (hdg : decode cc (pc + 1) = .ok (.ifCond .lt off, 3)) (ht : ((pc + 1 : Nat) : Int) + off = (tgt : Int)) {t f : Option α} (hf : (if x < z then t else f) = some y)
    (kt : t = some y → W p l e R s m args below meth c H locs cells slots Q (F0 m tgt ls rest)) (kf : f = some y → W p l e R s m args below meth c H locs cells slots Q (F0 m (pc + 1 + 3) ls rest)) : W p l e R s m args below meth c H locs cells slots Q (F0 m pc ls (.long z :: .long x :: rest)) :=
  W.lcmp hx hb hd0 (lv_if_lt hx hb hdg ht (fun h => kt (by rw [if_pos ((lg_cmp_lt _ _).mp h)] at hf; exact hf)) (fun h => kf (by rw [if_neg (fun q => h ((lg_cmp_lt _ _).mpr q))] at hf; exact hf)))
/-- lcmp, and the branch behind it -/
theorem fb_lge (hx : p.tables.exec = Jvm.exec) (hb : c.code = cc) {x z : Int64} {off : Int} {tgt : Nat} (hd0 : decode cc pc = .ok (.lcmp, 1)) (hdg : decode cc (pc + 1) = .ok (.ifCond .ge off, 3)) (ht : ((pc + 1 : Nat) : Int) + off = (tgt : Int)) {t f : Option α} (hf : (if z ≤ x then t else f) = some y)
    (kt : t = some y → W p l e R s m args below meth c H locs cells slots Q (F0 m tgt ls rest)) (kf : f = some y → W p l e R s m args below meth c H locs cells slots Q (F0 m (pc + 1 + 3) ls rest)) : W p l e R s m args below meth c H locs cells slots Q (F0 m pc ls (.long z :: .long x :: rest)) :=
  W.lcmp hx hb hd0 (lv_if_ge hx hb hdg ht (fun h => kt (by rw [if_pos ((lg_cmp_ge _ _).mp h)] at hf; exact hf)) (fun h => kf (by rw [if_neg (fun q => h ((lg_cmp_ge _ _).mpr q))] at hf; exact hf)))
/-- lcmp, and the branch behind it -/
theorem fb_lgt (hx : p.tables.exec = Jvm.exec) (hb : c.code = cc) {x z : Int64} {off : Int} {tgt : Nat} (hd0 : decode cc pc = .ok (.lcmp, 1)) (hdg : decode cc (pc + 1) = .ok (.ifCond .gt off, 3)) (ht : ((pc + 1 : Nat) : Int) + off = (tgt : Int)) {t f : Option α} (hf : (if z < x then t else f) = some y)
    (kt : t = some y → W p l e R s m args below meth c H locs cells slots Q (F0 m tgt ls rest)) (kf : f = some y → W p l e R s m args below meth c H locs cells slots Q (F0 m (pc + 1 + 3) ls rest)) : W p l e R s m args below meth c H locs cells slots Q (F0 m pc ls (.long z :: .long x :: rest)) :=
  W.lcmp hx hb hd0 (lv_if_gt hx hb hdg ht (fun h => kt (by rw [if_pos ((lg_cmp_gt _ _).mp h)] at hf; exact hf)) (fun h => kf (by rw [if_neg (fun q => h ((lg_cmp_gt _ _).mpr q))] at hf; exact hf)))
/-- lcmp, and the branch behind it -/
theorem fb_lle (hx : p.tables.exec = Jvm.exec) (hb : c.code = cc) {x z : Int64} {off : Int} {tgt : Nat} (hd0 : decode cc pc = .ok (.lcmp, 1)) (hdg : decode cc (pc + 1) = .ok (.ifCond .le off, 3)) (ht : ((pc + 1 : Nat) : Int) + off = (tgt : Int)) {t f : Option α} (hf : (if x ≤ z then t else f) = some y)
    (kt : t = some y → W p l e R s m args below meth c H locs cells slots Q (F0 m tgt ls rest)) (kf : f = some y → W p l e R s m args below meth c H locs cells slots Q (F0 m (pc + 1 + 3) ls rest)) : W p l e R s m args below meth c H locs cells slots Q (F0 m pc ls (.long z :: .long x :: rest)) :=
  W.lcmp hx hb hd0 (lv_if_le hx hb hdg ht (fun h => kt (by rw [if_pos ((lg_cmp_le _ _).mp h)] at hf; exact hf)) (fun h => kf (by rw [if_neg (fun q => h ((lg_cmp_le _ _).mpr q))] at hf; exact hf)))
theorem fb_idiv (hx : p.tables.exec = Jvm.exec) (hb : c.code = cc) {x z : Int32} (hdg : decode cc pc = .ok (.idiv, 1)) {t : Option α} (hf : ck_ (decide (¬ z = 0)) t = some y) (k : t = some y → W p l e R s m args below meth c H locs cells slots Q (F0 m (pc + 1) ls (.int (x / z) :: rest))) : W p l e R s m args below meth c H locs cells slots Q (F0 m pc ls (.int z :: .int x :: rest)) :=
  lv_idiv hx hb hdg (of_decide_eq_true (ck_e hf).1) (k (ck_e hf).2)
theorem fb_irem (hx : p.tables.exec = Jvm.exec) (hb : c.code = cc) {x z : Int32} (hdg : decode cc pc = .ok (.irem, 1)) {t : Option α} (hf : ck_ (decide (¬ z = 0)) t = some y) (k : t = some y → W p l e R s m args below meth c H locs cells slots Q (F0 m (pc + 1) ls (.int (x - x / z * z) :: rest))) : W p l e R s m args below meth c H locs cells slots Q (F0 m pc ls (.int z :: .int x :: rest)) :=
  lv_irem hx hb hdg (of_decide_eq_true (ck_e hf).1) (k (ck_e hf).2)
theorem fb_ldiv (hx : p.tables.exec = Jvm.exec) (hb : c.code = cc) {x z : Int64} (hdg : decode cc pc = .ok (.ldiv, 1)) {t : Option α} (hf : ck_ (decide (¬ z = 0)) t = some y) (k : t = some y → W p l e R s m args below meth c H locs cells slots Q (F0 m (pc + 1) ls (.long (x / z) :: rest))) : W p l e R s m args below meth c H locs cells slots Q (F0 m pc ls (.long z :: .long x :: rest)) :=
  lv_ldiv hx hb hdg (of_decide_eq_true (ck_e hf).1) (k (ck_e hf).2)
theorem fb_lrem (hx : p.tables.exec = Jvm.exec) (hb : c.code = cc) {x z : Int64} (hdg : decode cc pc = .ok (.lrem, 1)) {t : Option α} (hf : ck_ (decide (¬ z = 0)) t = some y) (k : t = some y → W p l e R s m args below meth c H locs cells slots Q (F0 m (pc + 1) ls (.long (x - x / z * z) :: rest))) : W p l e R s m args below meth c H locs cells slots Q (F0 m pc ls (.long z :: .long x :: rest)) :=
  lv_lrem hx hb hdg (of_decide_eq_true (ck_e hf).1) (k (ck_e hf).2)
theorem fb_iinc (hx : p.tables.exec = Jvm.exec) (hb : c.code = cc) {i nL k : Nat} {n : Int} {x v : Int32} {lv lv' : List (Nat × Value)} (hdg : decode cc pc = .ok (.iinc i n, 3)) (h : lv_has ls nL lv) (hk : lv[k]? = some (i, .int x)) (hn0 : Int32.ofInt n = v) (hn : i < nL) (hl : (i, Value.int (x + v)) :: lv.filter (fun q => !(q.1 == i) && !(q.1 + 1 == i && q.2.category == 2)) = lv')
    (kk : ∀ ls' : Array Slot, lv_has ls' nL lv' → W p l e R s m args below meth c H locs cells slots Q (F0 m (pc + 3) ls' rest)) : W p l e R s m args below meth c H locs cells slots Q (F0 m pc ls rest) :=
  lv_iinc (v := x + v) hx hb hdg h hk (by rw [hn0]) hn hl kk
end FO3
/-! contracts over a world, calls, ends -/
def CTi (l : Launch) (E : fo_E) (y : MethodName) (ws : List Cond) (rm : Room) (av : List Value) (st : fo_St) (r : Int32) (st' : fo_St) : Prop := Met l y ws rm (va_Pc av (fun U => wd_ E st U.heap ∧ fo_K E U)) (va_Qi (fun (r0 : Int32) (_ : Unit) => r0 = r) (fun _ t => wd_ E st' t.heap) (eF E)) 0 0 (eF E)
def CTl (l : Launch) (E : fo_E) (y : MethodName) (ws : List Cond) (rm : Room) (av : List Value) (st : fo_St) (r : Int64) (st' : fo_St) : Prop := Met l y ws rm (va_Pc av (fun U => wd_ E st U.heap ∧ fo_K E U)) (va_Ql (fun (r0 : Int64) (_ : Unit) => r0 = r) (fun _ t => wd_ E st' t.heap) (eF E)) 0 0 (eF E)
def CTv (l : Launch) (E : fo_E) (y : MethodName) (ws : List Cond) (rm : Room) (av : List Value) (st : fo_St) (st' : fo_St) : Prop := Met l y ws rm (va_Pc av (fun U => wd_ E st U.heap ∧ fo_K E U)) (va_Qv (fun (_ : Unit) => True) (fun _ t => wd_ E st' t.heap) (eF E)) 0 0 (eF E)
def CTr (l : Launch) (E : fo_E) (y : MethodName) (ws : List Cond) (rm : Room) (av : List Value) (st : fo_St) (r : Nat) (st' : fo_St) : Prop := Met l y ws rm (va_Pc av (fun U => wd_ E st U.heap ∧ fo_K E U)) (va_Qr (fun (_ : Unit) => True) (fun _ a t => a = eb E + r ∧ wd_ E st' t.heap) (eF E)) 0 0 (eF E)
/-- what is known of a method by its name alone: n parameters -/
def fo_M (y : MethodName) (n : Nat) : Prop := plainName y.cls = true ∧ y.cls ≠ "java/lang/invoke/MethodHandle" ∧ y.cls ≠ "java/lang/invoke/VarHandle" ∧ (parseMethodDescriptor y.desc).map (fun d => d.parameters.length) = some n
theorem fo_lim {R : Room} : 0 + 0 ≤ R.cells ∧ 0 + 0 ≤ R.slots := ⟨Nat.zero_le _, Nat.zero_le _⟩
theorem fo_blind {E : fo_E} {av : List Value} {st : fo_St} : FrameBlind (va_Pc av (fun U => wd_ E st U.heap ∧ fo_K E U)) := fun a U g mk q => by
  obtain ⟨q0, q1, q2⟩ := q
  exact ⟨q0, q1, q2.calling fo_nest_on g mk a⟩
section FO4
variable {p : Program} {l : Launch} {e : Env} {R : Room} {s : State} {m : MethodId} {args : Array Value} {below : List Frame} {meth : Method} {c : Code} {H : Heap} {locs : List Loc} {Q : State → Prop}
variable {cc : ByteArray} {nL pc : Nat} {ls : Array Slot} {rest stk : List Value} {own : String} {E : fo_E} {st : fo_St} {α : Type} {y0 : α}
theorem fo_pre (X : fo_X E p m c cc nL s args own meth) (hw : fo_S E s st H locs) (av : List Value) : ∀ U : State, U.heap = H → s.WarmedH U.vm → va_Pc av (fun U => wd_ E st U.heap ∧ fo_K E U) av.toArray U := fun U hU hW => ⟨rfl, by rw [hU]; exact hw.1, X.2.1.moved hw.2 hU hW fo_nest_warm⟩
theorem fo_rcv (X : fo_X E p m c cc nL s args own meth) (hw : fo_S E s st H locs) {n ci : Nat} {q : vw_C} {ty : Nat → FieldType} (hc : fo_C ci q ty) (ht : et E n = (1, ci)) : ∃ cell : Cell, H[eb E + n]? = some cell ∧ cell.vm.isStatics = false ∧ s.vm.findClass q.1 = some cell.cls := va_recv (q0 := 0) X.2.1.1 (fo_ob hw ht) hc.1 rfl
/-- behind a call in the same world -/
theorem fo_back (hS : va_S (eF E) s.heap H locs) {st1 : fo_St} {t : State} {H1 : Heap} {locs1 : List Loc} (ht : t.heap = H1) (hB : wd_ E st1 t.heap) (h : va_S (eF E) s.heap H1 locs1) : fo_S E s st1 H1 locs1 := ⟨by rw [← ht]; exact hB, h⟩
variable {y : MethodName} {bytes : ByteArray} {maxL n index : Nat} {ret : Option FieldType} {rm : Room}
theorem fc_Vi (X : fo_X E p m c cc nL s args own meth) (hw : fo_S E s st H locs) (hM : fo_M y n) (hG : GoodIn lw_all (wsV own index y.cls y (ws_ y bytes maxL ret))) (hrm : rm.cells = 0 ∧ rm.slots = 0) (hR : rm.frames + 1 ≤ R.frames ∧ 8 + (maxL + 11) + rm.locals ≤ R.locals) {n0 ci : Nat} {q : vw_C} {ty : Nat → FieldType} (hc : fo_C ci q ty) (hq : q.1 = y.cls) (ht : et E n0 = (1, ci)) {As : List Value} (hn : As.length = n) (hstk : stk = As.reverse ++ .ref (eb E + n0) :: rest) (hsz : ls.size = nL) (hroom : (rest.map fun v => v.category).sum ≤ 8) (hdg : decode cc pc = .ok (.invokevirtual index, 3)) {o : Option (Int32 × fo_St)} {kf : Int32 → fo_St → Option α} (hct : ∀ (r : Int32) (st1 : fo_St), o = some (r, st1) → CTi l E y (ws_ y bytes maxL ret) rm (.ref (eb E + n0) :: As) st r st1) (hf : bd_ o kf = some y0)
    (kk : ∀ (r : Int32) (st1 : fo_St) (H1 : Heap) (locs1 : List Loc), fo_S E s st1 H1 locs1 → kf r st1 = some y0 → W p l e R s m args below meth c H1 locs1 0 0 Q (F0 m (pc + 3) ls (.int r :: rest))) : W p l e R s m args below meth c H locs 0 0 Q (F0 m pc ls stk) := by
  obtain ⟨r1, st1, ho, hf⟩ := bd_e hf
  subst hstk
  refine va_calli (va_runV X.1 (hct r1 st1 ho) (cwV n X.1.2.2.2.2 hG rfl hrm.1 hrm.2 ⟨rfl, hM.2⟩ hR) ⟨fo_blind, by rw [← hq]; exact fo_rcv X hw hc ht, fo_pre X hw _⟩ rfl hn hsz rfl (lv_room hroom) hdg fo_lim) hw.2 (fun q _ h => h) (fun q h => h) (fun r u t H1 locs1 ht _ hr hB _ _ hS => ?_)
  subst hr
  exact kk r st1 H1 locs1 (fo_back hw.2 ht hB hS) hf
theorem fc_Vl (X : fo_X E p m c cc nL s args own meth) (hw : fo_S E s st H locs) (hM : fo_M y n) (hG : GoodIn lw_all (wsV own index y.cls y (ws_ y bytes maxL ret))) (hrm : rm.cells = 0 ∧ rm.slots = 0) (hR : rm.frames + 1 ≤ R.frames ∧ 8 + (maxL + 11) + rm.locals ≤ R.locals) {n0 ci : Nat} {q : vw_C} {ty : Nat → FieldType} (hc : fo_C ci q ty) (hq : q.1 = y.cls) (ht : et E n0 = (1, ci)) {As : List Value} (hn : As.length = n) (hstk : stk = As.reverse ++ .ref (eb E + n0) :: rest) (hsz : ls.size = nL) (hroom : (rest.map fun v => v.category).sum ≤ 8) (hdg : decode cc pc = .ok (.invokevirtual index, 3)) {o : Option (Int64 × fo_St)} {kf : Int64 → fo_St → Option α} (hct : ∀ (r : Int64) (st1 : fo_St), o = some (r, st1) → CTl l E y (ws_ y bytes maxL ret) rm (.ref (eb E + n0) :: As) st r st1) (hf : bd_ o kf = some y0)
    (kk : ∀ (r : Int64) (st1 : fo_St) (H1 : Heap) (locs1 : List Loc), fo_S E s st1 H1 locs1 → kf r st1 = some y0 → W p l e R s m args below meth c H1 locs1 0 0 Q (F0 m (pc + 3) ls (.long r :: rest))) : W p l e R s m args below meth c H locs 0 0 Q (F0 m pc ls stk) := by
  obtain ⟨r1, st1, ho, hf⟩ := bd_e hf
  subst hstk
  refine va_calll (va_runV X.1 (hct r1 st1 ho) (cwV n X.1.2.2.2.2 hG rfl hrm.1 hrm.2 ⟨rfl, hM.2⟩ hR) ⟨fo_blind, by rw [← hq]; exact fo_rcv X hw hc ht, fo_pre X hw _⟩ rfl hn hsz rfl (lv_room hroom) hdg fo_lim) hw.2 (fun q _ h => h) (fun q h => h) (fun r u t H1 locs1 ht _ hr hB _ _ hS => ?_)
  subst hr
  exact kk r st1 H1 locs1 (fo_back hw.2 ht hB hS) hf
theorem fc_Vr (X : fo_X E p m c cc nL s args own meth) (hw : fo_S E s st H locs) (hM : fo_M y n) (hG : GoodIn lw_all (wsV own index y.cls y (ws_ y bytes maxL ret))) (hrm : rm.cells = 0 ∧ rm.slots = 0) (hR : rm.frames + 1 ≤ R.frames ∧ 8 + (maxL + 11) + rm.locals ≤ R.locals) {n0 ci : Nat} {q : vw_C} {ty : Nat → FieldType} (hc : fo_C ci q ty) (hq : q.1 = y.cls) (ht : et E n0 = (1, ci)) {As : List Value} (hn : As.length = n) (hstk : stk = As.reverse ++ .ref (eb E + n0) :: rest) (hsz : ls.size = nL) (hroom : (rest.map fun v => v.category).sum ≤ 8) (hdg : decode cc pc = .ok (.invokevirtual index, 3)) {o : Option (Nat × fo_St)} {kf : Nat → fo_St → Option α} (hct : ∀ (r : Nat) (st1 : fo_St), o = some (r, st1) → CTr l E y (ws_ y bytes maxL ret) rm (.ref (eb E + n0) :: As) st r st1) (hf : bd_ o kf = some y0)
    (kk : ∀ (r : Nat) (st1 : fo_St) (H1 : Heap) (locs1 : List Loc), fo_S E s st1 H1 locs1 → kf r st1 = some y0 → W p l e R s m args below meth c H1 locs1 0 0 Q (F0 m (pc + 3) ls (.ref (eb E + r) :: rest))) : W p l e R s m args below meth c H locs 0 0 Q (F0 m pc ls stk) := by
  obtain ⟨r1, st1, ho, hf⟩ := bd_e hf
  subst hstk
  refine va_callr (va_runV X.1 (hct r1 st1 ho) (cwV n X.1.2.2.2.2 hG rfl hrm.1 hrm.2 ⟨rfl, hM.2⟩ hR) ⟨fo_blind, by rw [← hq]; exact fo_rcv X hw hc ht, fo_pre X hw _⟩ rfl hn hsz rfl (lv_room hroom) hdg fo_lim) hw.2 (fun q _ h => h) (fun q h => h) (fun u a t H1 locs1 ht _ _ hB _ _ hS => ?_)
  obtain ⟨rfl, hB⟩ := hB
  exact kk r1 st1 H1 locs1 (fo_back hw.2 ht hB hS) hf
theorem fc_Vv (X : fo_X E p m c cc nL s args own meth) (hw : fo_S E s st H locs) (hM : fo_M y n) (hG : GoodIn lw_all (wsV own index y.cls y (ws_ y bytes maxL ret))) (hrm : rm.cells = 0 ∧ rm.slots = 0) (hR : rm.frames + 1 ≤ R.frames ∧ 8 + (maxL + 11) + rm.locals ≤ R.locals) {n0 ci : Nat} {q : vw_C} {ty : Nat → FieldType} (hc : fo_C ci q ty) (hq : q.1 = y.cls) (ht : et E n0 = (1, ci)) {As : List Value} (hn : As.length = n) (hstk : stk = As.reverse ++ .ref (eb E + n0) :: rest) (hsz : ls.size = nL) (hroom : (rest.map fun v => v.category).sum ≤ 8) (hdg : decode cc pc = .ok (.invokevirtual index, 3)) {o : Option fo_St} {kf : fo_St → Option α} (hct : ∀ (st1 : fo_St), o = some st1 → CTv l E y (ws_ y bytes maxL ret) rm (.ref (eb E + n0) :: As) st st1) (hf : bv_ o kf = some y0)
    (kk : ∀ (st1 : fo_St) (H1 : Heap) (locs1 : List Loc), fo_S E s st1 H1 locs1 → kf st1 = some y0 → W p l e R s m args below meth c H1 locs1 0 0 Q (F0 m (pc + 3) ls rest)) : W p l e R s m args below meth c H locs 0 0 Q (F0 m pc ls stk) := by
  obtain ⟨st1, ho, hf⟩ := bv_e hf
  subst hstk
  refine va_callv (va_runV X.1 (hct st1 ho) (cwV n X.1.2.2.2.2 hG rfl hrm.1 hrm.2 ⟨rfl, hM.2⟩ hR) ⟨fo_blind, by rw [← hq]; exact fo_rcv X hw hc ht, fo_pre X hw _⟩ rfl hn hsz rfl (lv_room hroom) hdg fo_lim) hw.2 (fun q _ h => h) (fun q h => h) (fun u t H1 locs1 ht _ _ hB _ _ hS => ?_)
  exact kk st1 H1 locs1 (fo_back hw.2 ht hB hS) hf
theorem fc_Si (X : fo_X E p m c cc nL s args own meth) (hw : fo_S E s st H locs) (hM : fo_M y n) (hG : GoodIn lw_all (va_wsS own index y (ws_ y bytes maxL ret))) (hrm : rm.cells = 0 ∧ rm.slots = 0) (hR : rm.frames + 1 ≤ R.frames ∧ 8 + (maxL + 11) + rm.locals ≤ R.locals) {As : List Value} (hn : As.length = n) (hstk : stk = As.reverse ++ rest) (hsz : ls.size = nL) (hroom : (rest.map fun v => v.category).sum ≤ 8) (hdg : decode cc pc = .ok (.invokestatic index, 3)) {o : Option (Int32 × fo_St)} {kf : Int32 → fo_St → Option α} (hct : ∀ (r : Int32) (st1 : fo_St), o = some (r, st1) → CTi l E y (ws_ y bytes maxL ret) rm As st r st1) (hf : bd_ o kf = some y0)
    (kk : ∀ (r : Int32) (st1 : fo_St) (H1 : Heap) (locs1 : List Loc), fo_S E s st1 H1 locs1 → kf r st1 = some y0 → W p l e R s m args below meth c H1 locs1 0 0 Q (F0 m (pc + 3) ls (.int r :: rest))) : W p l e R s m args below meth c H locs 0 0 Q (F0 m pc ls stk) := by
  obtain ⟨r1, st1, ho, hf⟩ := bd_e hf
  subst hstk
  refine va_calli (va_runS X.1 (hct r1 st1 ho) (va_cwS n X.1.2.2.2.2 hG rfl hrm.1 hrm.2 hM.2 hR) ⟨fo_blind, fo_pre X hw _⟩ rfl hn hsz rfl (lv_room hroom) hdg fo_lim) hw.2 (fun q _ h => h) (fun q h => h) (fun r u t H1 locs1 ht _ hr hB _ _ hS => ?_)
  subst hr
  exact kk r st1 H1 locs1 (fo_back hw.2 ht hB hS) hf
theorem fc_Sl (X : fo_X E p m c cc nL s args own meth) (hw : fo_S E s st H locs) (hM : fo_M y n) (hG : GoodIn lw_all (va_wsS own index y (ws_ y bytes maxL ret))) (hrm : rm.cells = 0 ∧ rm.slots = 0) (hR : rm.frames + 1 ≤ R.frames ∧ 8 + (maxL + 11) + rm.locals ≤ R.locals) {As : List Value} (hn : As.length = n) (hstk : stk = As.reverse ++ rest) (hsz : ls.size = nL) (hroom : (rest.map fun v => v.category).sum ≤ 8) (hdg : decode cc pc = .ok (.invokestatic index, 3)) {o : Option (Int64 × fo_St)} {kf : Int64 → fo_St → Option α} (hct : ∀ (r : Int64) (st1 : fo_St), o = some (r, st1) → CTl l E y (ws_ y bytes maxL ret) rm As st r st1) (hf : bd_ o kf = some y0)
    (kk : ∀ (r : Int64) (st1 : fo_St) (H1 : Heap) (locs1 : List Loc), fo_S E s st1 H1 locs1 → kf r st1 = some y0 → W p l e R s m args below meth c H1 locs1 0 0 Q (F0 m (pc + 3) ls (.long r :: rest))) : W p l e R s m args below meth c H locs 0 0 Q (F0 m pc ls stk) := by
  obtain ⟨r1, st1, ho, hf⟩ := bd_e hf
  subst hstk
  refine va_calll (va_runS X.1 (hct r1 st1 ho) (va_cwS n X.1.2.2.2.2 hG rfl hrm.1 hrm.2 hM.2 hR) ⟨fo_blind, fo_pre X hw _⟩ rfl hn hsz rfl (lv_room hroom) hdg fo_lim) hw.2 (fun q _ h => h) (fun q h => h) (fun r u t H1 locs1 ht _ hr hB _ _ hS => ?_)
  subst hr
  exact kk r st1 H1 locs1 (fo_back hw.2 ht hB hS) hf
theorem fc_Sv (X : fo_X E p m c cc nL s args own meth) (hw : fo_S E s st H locs) (hM : fo_M y n) (hG : GoodIn lw_all (va_wsS own index y (ws_ y bytes maxL ret))) (hrm : rm.cells = 0 ∧ rm.slots = 0) (hR : rm.frames + 1 ≤ R.frames ∧ 8 + (maxL + 11) + rm.locals ≤ R.locals) {As : List Value} (hn : As.length = n) (hstk : stk = As.reverse ++ rest) (hsz : ls.size = nL) (hroom : (rest.map fun v => v.category).sum ≤ 8) (hdg : decode cc pc = .ok (.invokestatic index, 3)) {o : Option fo_St} {kf : fo_St → Option α} (hct : ∀ (st1 : fo_St), o = some st1 → CTv l E y (ws_ y bytes maxL ret) rm As st st1) (hf : bv_ o kf = some y0)
    (kk : ∀ (st1 : fo_St) (H1 : Heap) (locs1 : List Loc), fo_S E s st1 H1 locs1 → kf st1 = some y0 → W p l e R s m args below meth c H1 locs1 0 0 Q (F0 m (pc + 3) ls rest)) : W p l e R s m args below meth c H locs 0 0 Q (F0 m pc ls stk) := by
  obtain ⟨st1, ho, hf⟩ := bv_e hf
  subst hstk
  refine va_callv (va_runS X.1 (hct st1 ho) (va_cwS n X.1.2.2.2.2 hG rfl hrm.1 hrm.2 hM.2 hR) ⟨fo_blind, fo_pre X hw _⟩ rfl hn hsz rfl (lv_room hroom) hdg fo_lim) hw.2 (fun q _ h => h) (fun q h => h) (fun u t H1 locs1 ht _ _ hB _ _ hS => ?_)
  exact kk st1 H1 locs1 (fo_back hw.2 ht hB hS) hf
/-- a method's ends -/
theorem fr_i (X : fo_X E p m c cc nL s args own meth) (hr : meth.sig.returnType = some .int) (hw : fo_S E s st H locs) {v r : Int32} {st' : fo_St} (hf : some (v, st) = some (r, st')) (hdg : decode cc pc = .ok (.ireturn, 1)) : W p l e R s m args below meth c H locs 0 0 (MQ below (va_Qi (fun (r0 : Int32) (_ : Unit) => r0 = r) (fun _ t => wd_ E st' t.heap) (eF E)) args s 0 0 (eF E)) (F0 m pc ls [.int v]) := by
  cases hf
  exact W.iret X.1.1 X.1.2.1 hr (fun t ht hW => ⟨⟨v, (), rfl, rfl, (show wd_ E st t.heap by rw [ht]; exact hw.1)⟩, hw.2.F ht⟩) hw.2.2.2 hdg X.2.2
theorem fr_z (X : fo_X E p m c cc nL s args own meth) (hr : meth.sig.returnType = some .boolean) (hw : fo_S E s st H locs) {v r : Int32} {st' : fo_St} (hz : narrow .boolean (.int v) = .int v) (hf : some (v, st) = some (r, st')) (hdg : decode cc pc = .ok (.ireturn, 1)) : W p l e R s m args below meth c H locs 0 0 (MQ below (va_Qi (fun (r0 : Int32) (_ : Unit) => r0 = r) (fun _ t => wd_ E st' t.heap) (eF E)) args s 0 0 (eF E)) (F0 m pc ls [.int v]) := by
  cases hf
  exact W.zret X.1.1 X.1.2.1 hr hz (fun t ht hW => ⟨⟨v, (), rfl, rfl, (show wd_ E st t.heap by rw [ht]; exact hw.1)⟩, hw.2.F ht⟩) hw.2.2.2 hdg X.2.2
theorem fr_l (X : fo_X E p m c cc nL s args own meth) (hr : meth.sig.returnType = some .long) (hw : fo_S E s st H locs) {v r : Int64} {st' : fo_St} (hf : some (v, st) = some (r, st')) (hdg : decode cc pc = .ok (.lreturn, 1)) : W p l e R s m args below meth c H locs 0 0 (MQ below (va_Ql (fun (r0 : Int64) (_ : Unit) => r0 = r) (fun _ t => wd_ E st' t.heap) (eF E)) args s 0 0 (eF E)) (F0 m pc ls [.long v]) := by
  cases hf
  exact W.lret X.1.1 X.1.2.1 hr (fun t ht hW => ⟨⟨v, (), rfl, rfl, (show wd_ E st t.heap by rw [ht]; exact hw.1)⟩, hw.2.F ht⟩) hw.2.2.2 hdg X.2.2
theorem fr_v (X : fo_X E p m c cc nL s args own meth) (hr : meth.sig.returnType = none) (hw : fo_S E s st H locs) {st' : fo_St} (hf : some st = some st') (hdg : decode cc pc = .ok (.return_, 1)) : W p l e R s m args below meth c H locs 0 0 (MQ below (va_Qv (fun (_ : Unit) => True) (fun _ t => wd_ E st' t.heap) (eF E)) args s 0 0 (eF E)) (F0 m pc ls []) := by
  cases hf
  exact W.vret X.1.1 X.1.2.1 hr (fun t ht hW => ⟨⟨(), rfl, trivial, (show wd_ E st t.heap by rw [ht]; exact hw.1)⟩, hw.2.F ht⟩) hw.2.2.2 hdg X.2.2
theorem fr_r (X : fo_X E p m c cc nL s args own meth) {rt : FieldType} (hr : meth.sig.returnType = some rt) (hrt : (∃ n, rt = .object n) ∨ ∃ t, rt = .array t) (hw : fo_S E s st H locs) {v r : Nat} {st' : fo_St} (hf : some (v, st) = some (r, st')) (hdg : decode cc pc = .ok (.areturn, 1)) : W p l e R s m args below meth c H locs 0 0 (MQ below (va_Qr (fun (_ : Unit) => True) (fun _ a t => a = eb E + r ∧ wd_ E st' t.heap) (eF E)) args s 0 0 (eF E)) (F0 m pc ls [.ref (eb E + v)]) := by
  cases hf
  exact W.aret X.1.1 X.1.2.1 hr hrt (Or.inr ⟨_, rfl⟩) (fun t ht hW => ⟨⟨(), _, rfl, trivial, rfl, (show wd_ E st t.heap by rw [ht]; exact hw.1)⟩, hw.2.F ht⟩) hw.2.2.2 hdg X.2.2
end FO4
/-- a method's entry -/
theorem fo_ent {l : Launch} {E : fo_E} {y : MethodName} {cc : ByteArray} {maxL n : Nat} {ret : Option FieldType} {rm : Room} {av : List Value} {st : fo_St} {Qc : Array Value → State → Outcome → State → Prop} (hM : fo_M y n) (hn : (lg_sl av).length ≤ maxL)
    (body : ∀ (p : Program) (e : Env) (s : State) (m : MethodId) (below : List Frame) (meth : Method) (c : Code), fo_X E p m c cc maxL s av.toArray y.cls meth → meth.sig.returnType = ret → ∀ ls : Array Slot, lv_has ls maxL (lv_args 0 av) → fo_S E s st s.heap [] → W p l e (headSpec (ws_ y cc maxL ret) rm).room s m av.toArray below meth c s.heap [] 0 0 (MQ below Qc av.toArray s 0 0 (eF E)) (F0 m 0 ls [])) : Met l y (ws_ y cc maxL ret) rm (va_Pc av (fun U => wd_ E st U.heap ∧ fo_K E U)) Qc 0 0 (eF E) := by
  refine Met.ofW (cc := cc) (maxL := maxL) (ret := ret) hM.1 rfl ?_
  intro p e s m args below meth c s₁ B hml hv
  obtain ⟨rfl, hw, hK⟩ := hv
  have hts := atoms_spec (ws := ws_ y cc maxL ret) B.pre
  have hts : ∀ w ∈ lw_all, w.before _ s = true := fun w h => hts w (List.mem_cons_of_mem _ h)
  have hown : s.vm.findClass y.cls = some m.cls := findClass_of_methodNamed B.named
  rw [lg_entry_eq]
  exact body p e s m below meth c ⟨⟨B.exec, B.bytes, hml, hown, hts⟩, hK, B.notSynchronized⟩ B.returns _ (lv_entry av hn) ⟨hw, va_S.rf⟩
/-! more for the printed walks: names for values, curried loops, joins, literal places, generic ends -/
def lI_ {α : Type} (v : Int32) (k : Int32 → Option α) : Option α := k v
def lL_ {α : Type} (v : Int64) (k : Int64 → Option α) : Option α := k v
def irem_ (x z : Int32) : Int32 := x - x / z * z
def lrem_ (x z : Int64) : Int64 := x - x / z * z
theorem jn_e {κ α : Type} {k : κ} {b : κ → Option α} {y : α} {P : Prop} (h : jn_ k b = some y) (kk : ∀ k' : κ, k' = k → b k' = some y → P) : P := kk k rfl h
theorem sw_e {α : Type} {x k : Int32} {a f : Option α} {y : α} {P : Prop} (hf : (if x = k then a else f) = some y) (k1 : x = k → a = some y → P) (k2 : ¬ x = k → f = some y → P) : P := by
  by_cases h : x = k
  · rw [if_pos h] at hf; exact k1 h hf
  · rw [if_neg h] at hf; exact k2 h hf
def lp1_ {A α : Type} (b : (A → Option α) → A → Option α) : Nat → A → Option α
  | 0, _ => none
  | n + 1, a1 => b (lp1_ b n) a1
def lp2_ {A1 A2 α : Type} (b : (A1 → A2 → Option α) → A1 → A2 → Option α) : Nat → A1 → A2 → Option α
  | 0, _, _ => none
  | n + 1, a1, a2 => b (lp2_ b n) a1 a2
def lp3_ {A1 A2 A3 α : Type} (b : (A1 → A2 → A3 → Option α) → A1 → A2 → A3 → Option α) : Nat → A1 → A2 → A3 → Option α
  | 0, _, _, _ => none
  | n + 1, a1, a2, a3 => b (lp3_ b n) a1 a2 a3
def lp4_ {A1 A2 A3 A4 α : Type} (b : (A1 → A2 → A3 → A4 → Option α) → A1 → A2 → A3 → A4 → Option α) : Nat → A1 → A2 → A3 → A4 → Option α
  | 0, _, _, _, _ => none
  | n + 1, a1, a2, a3, a4 => b (lp4_ b n) a1 a2 a3 a4
def lp5_ {A1 A2 A3 A4 A5 α : Type} (b : (A1 → A2 → A3 → A4 → A5 → Option α) → A1 → A2 → A3 → A4 → A5 → Option α) : Nat → A1 → A2 → A3 → A4 → A5 → Option α
  | 0, _, _, _, _, _ => none
  | n + 1, a1, a2, a3, a4, a5 => b (lp5_ b n) a1 a2 a3 a4 a5
def lp6_ {A1 A2 A3 A4 A5 A6 α : Type} (b : (A1 → A2 → A3 → A4 → A5 → A6 → Option α) → A1 → A2 → A3 → A4 → A5 → A6 → Option α) : Nat → A1 → A2 → A3 → A4 → A5 → A6 → Option α
  | 0, _, _, _, _, _, _ => none
  | n + 1, a1, a2, a3, a4, a5, a6 => b (lp6_ b n) a1 a2 a3 a4 a5 a6
theorem lp1_e {A1 α : Type} {b : (A1 → Option α) → A1 → Option α} {y : α} {P : A1 → Prop} (h : ∀ (rec : A1 → Option α), (∀ a1, rec a1 = some y → P a1) → ∀ a1, b rec a1 = some y → P a1) : ∀ (n : Nat) (a1 : A1), lp1_ b n a1 = some y → P a1 := by
  intro n
  induction n with
  | zero => intro a1 q; cases q
  | succ n ih => intro a1 q; exact h (lp1_ b n) ih a1 q
theorem lp2_e {A1 A2 α : Type} {b : (A1 → A2 → Option α) → A1 → A2 → Option α} {y : α} {P : A1 → A2 → Prop} (h : ∀ (rec : A1 → A2 → Option α), (∀ a1 a2, rec a1 a2 = some y → P a1 a2) → ∀ a1 a2, b rec a1 a2 = some y → P a1 a2) : ∀ (n : Nat) (a1 : A1) (a2 : A2), lp2_ b n a1 a2 = some y → P a1 a2 := by
  intro n
  induction n with
  | zero => intro a1 a2 q; cases q
  | succ n ih => intro a1 a2 q; exact h (lp2_ b n) ih a1 a2 q
theorem lp3_e {A1 A2 A3 α : Type} {b : (A1 → A2 → A3 → Option α) → A1 → A2 → A3 → Option α} {y : α} {P : A1 → A2 → A3 → Prop} (h : ∀ (rec : A1 → A2 → A3 → Option α), (∀ a1 a2 a3, rec a1 a2 a3 = some y → P a1 a2 a3) → ∀ a1 a2 a3, b rec a1 a2 a3 = some y → P a1 a2 a3) : ∀ (n : Nat) (a1 : A1) (a2 : A2) (a3 : A3), lp3_ b n a1 a2 a3 = some y → P a1 a2 a3 := by
  intro n
  induction n with
  | zero => intro a1 a2 a3 q; cases q
  | succ n ih => intro a1 a2 a3 q; exact h (lp3_ b n) ih a1 a2 a3 q
theorem lp4_e {A1 A2 A3 A4 α : Type} {b : (A1 → A2 → A3 → A4 → Option α) → A1 → A2 → A3 → A4 → Option α} {y : α} {P : A1 → A2 → A3 → A4 → Prop} (h : ∀ (rec : A1 → A2 → A3 → A4 → Option α), (∀ a1 a2 a3 a4, rec a1 a2 a3 a4 = some y → P a1 a2 a3 a4) → ∀ a1 a2 a3 a4, b rec a1 a2 a3 a4 = some y → P a1 a2 a3 a4) : ∀ (n : Nat) (a1 : A1) (a2 : A2) (a3 : A3) (a4 : A4), lp4_ b n a1 a2 a3 a4 = some y → P a1 a2 a3 a4 := by
  intro n
  induction n with
  | zero => intro a1 a2 a3 a4 q; cases q
  | succ n ih => intro a1 a2 a3 a4 q; exact h (lp4_ b n) ih a1 a2 a3 a4 q
theorem lp5_e {A1 A2 A3 A4 A5 α : Type} {b : (A1 → A2 → A3 → A4 → A5 → Option α) → A1 → A2 → A3 → A4 → A5 → Option α} {y : α} {P : A1 → A2 → A3 → A4 → A5 → Prop} (h : ∀ (rec : A1 → A2 → A3 → A4 → A5 → Option α), (∀ a1 a2 a3 a4 a5, rec a1 a2 a3 a4 a5 = some y → P a1 a2 a3 a4 a5) → ∀ a1 a2 a3 a4 a5, b rec a1 a2 a3 a4 a5 = some y → P a1 a2 a3 a4 a5) : ∀ (n : Nat) (a1 : A1) (a2 : A2) (a3 : A3) (a4 : A4) (a5 : A5), lp5_ b n a1 a2 a3 a4 a5 = some y → P a1 a2 a3 a4 a5 := by
  intro n
  induction n with
  | zero => intro a1 a2 a3 a4 a5 q; cases q
  | succ n ih => intro a1 a2 a3 a4 a5 q; exact h (lp5_ b n) ih a1 a2 a3 a4 a5 q
theorem lp6_e {A1 A2 A3 A4 A5 A6 α : Type} {b : (A1 → A2 → A3 → A4 → A5 → A6 → Option α) → A1 → A2 → A3 → A4 → A5 → A6 → Option α} {y : α} {P : A1 → A2 → A3 → A4 → A5 → A6 → Prop} (h : ∀ (rec : A1 → A2 → A3 → A4 → A5 → A6 → Option α), (∀ a1 a2 a3 a4 a5 a6, rec a1 a2 a3 a4 a5 a6 = some y → P a1 a2 a3 a4 a5 a6) → ∀ a1 a2 a3 a4 a5 a6, b rec a1 a2 a3 a4 a5 a6 = some y → P a1 a2 a3 a4 a5 a6) : ∀ (n : Nat) (a1 : A1) (a2 : A2) (a3 : A3) (a4 : A4) (a5 : A5) (a6 : A6), lp6_ b n a1 a2 a3 a4 a5 a6 = some y → P a1 a2 a3 a4 a5 a6 := by
  intro n
  induction n with
  | zero => intro a1 a2 a3 a4 a5 a6 q; cases q
  | succ n ih => intro a1 a2 a3 a4 a5 a6 q; exact h (lp6_ b n) ih a1 a2 a3 a4 a5 a6 q
section FO5
variable {p : Program} {l : Launch} {e : Env} {R : Room} {s : State} {m : MethodId} {args : Array Value} {below : List Frame} {meth : Method} {c : Code} {H : Heap} {locs : List Loc} {cells slots : Nat} {Q : State → Prop}
variable {cc : ByteArray} {nL pc : Nat} {ls : Array Slot} {rest : List Value} {own : String} {E : fo_E} {st : fo_St} {α : Type} {y : α}
theorem fo_tI {v : Int32} {kf : Int32 → Option α} (hf : lI_ v kf = some y) (kk : ∀ x : Int32, kf x = some y → W p l e R s m args below meth c H locs cells slots Q (F0 m pc ls (.int x :: rest))) : W p l e R s m args below meth c H locs cells slots Q (F0 m pc ls (.int v :: rest)) := kk v hf
theorem fo_tL {v : Int64} {kf : Int64 → Option α} (hf : lL_ v kf = some y) (kk : ∀ x : Int64, kf x = some y → W p l e R s m args below meth c H locs cells slots Q (F0 m pc ls (.long x :: rest))) : W p l e R s m args below meth c H locs cells slots Q (F0 m pc ls (.long v :: rest)) := kk v hf
theorem fb_idivK (hx : p.tables.exec = Jvm.exec) (hb : c.code = cc) {x z : Int32} (hdg : decode cc pc = .ok (.idiv, 1)) (hz : ¬ z = 0) (k : W p l e R s m args below meth c H locs cells slots Q (F0 m (pc + 1) ls (.int (x / z) :: rest))) : W p l e R s m args below meth c H locs cells slots Q (F0 m pc ls (.int z :: .int x :: rest)) := lv_idiv hx hb hdg hz k
theorem fb_iremK (hx : p.tables.exec = Jvm.exec) (hb : c.code = cc) {x z : Int32} (hdg : decode cc pc = .ok (.irem, 1)) (hz : ¬ z = 0) (k : W p l e R s m args below meth c H locs cells slots Q (F0 m (pc + 1) ls (.int (irem_ x z) :: rest))) : W p l e R s m args below meth c H locs cells slots Q (F0 m pc ls (.int z :: .int x :: rest)) := lv_irem hx hb hdg hz k
theorem fb_ldivK (hx : p.tables.exec = Jvm.exec) (hb : c.code = cc) {x z : Int64} (hdg : decode cc pc = .ok (.ldiv, 1)) (hz : ¬ z = 0) (k : W p l e R s m args below meth c H locs cells slots Q (F0 m (pc + 1) ls (.long (x / z) :: rest))) : W p l e R s m args below meth c H locs cells slots Q (F0 m pc ls (.long z :: .long x :: rest)) := lv_ldiv hx hb hdg hz k
theorem fb_lremK (hx : p.tables.exec = Jvm.exec) (hb : c.code = cc) {x z : Int64} (hdg : decode cc pc = .ok (.lrem, 1)) (hz : ¬ z = 0) (k : W p l e R s m args below meth c H locs cells slots Q (F0 m (pc + 1) ls (.long (lrem_ x z) :: rest))) : W p l e R s m args below meth c H locs cells slots Q (F0 m pc ls (.long z :: .long x :: rest)) := lv_lrem hx hb hdg hz k
theorem fb_idivC (hx : p.tables.exec = Jvm.exec) (hb : c.code = cc) {x z : Int32} (hdg : decode cc pc = .ok (.idiv, 1)) {t : Option α} (hf : ck_ (decide (¬ z = 0)) t = some y) (k : t = some y → W p l e R s m args below meth c H locs cells slots Q (F0 m (pc + 1) ls (.int (x / z) :: rest))) : W p l e R s m args below meth c H locs cells slots Q (F0 m pc ls (.int z :: .int x :: rest)) := lv_idiv hx hb hdg (of_decide_eq_true (ck_e hf).1) (k (ck_e hf).2)
theorem fb_iremC (hx : p.tables.exec = Jvm.exec) (hb : c.code = cc) {x z : Int32} (hdg : decode cc pc = .ok (.irem, 1)) {t : Option α} (hf : ck_ (decide (¬ z = 0)) t = some y) (k : t = some y → W p l e R s m args below meth c H locs cells slots Q (F0 m (pc + 1) ls (.int (irem_ x z) :: rest))) : W p l e R s m args below meth c H locs cells slots Q (F0 m pc ls (.int z :: .int x :: rest)) := lv_irem hx hb hdg (of_decide_eq_true (ck_e hf).1) (k (ck_e hf).2)
theorem fb_ldivC (hx : p.tables.exec = Jvm.exec) (hb : c.code = cc) {x z : Int64} (hdg : decode cc pc = .ok (.ldiv, 1)) {t : Option α} (hf : ck_ (decide (¬ z = 0)) t = some y) (k : t = some y → W p l e R s m args below meth c H locs cells slots Q (F0 m (pc + 1) ls (.long (x / z) :: rest))) : W p l e R s m args below meth c H locs cells slots Q (F0 m pc ls (.long z :: .long x :: rest)) := lv_ldiv hx hb hdg (of_decide_eq_true (ck_e hf).1) (k (ck_e hf).2)
theorem fb_lremC (hx : p.tables.exec = Jvm.exec) (hb : c.code = cc) {x z : Int64} (hdg : decode cc pc = .ok (.lrem, 1)) {t : Option α} (hf : ck_ (decide (¬ z = 0)) t = some y) (k : t = some y → W p l e R s m args below meth c H locs cells slots Q (F0 m (pc + 1) ls (.long (lrem_ x z) :: rest))) : W p l e R s m args below meth c H locs cells slots Q (F0 m pc ls (.long z :: .long x :: rest)) := lv_lrem hx hb hdg (of_decide_eq_true (ck_e hf).1) (k (ck_e hf).2)
/-- arrays at places that are in them for sure -/
theorem ck_t {b : Bool} {t : Option α} (h : b = true) (hf : t = some y) : ck_ b t = some y := by subst h; exact hf
theorem fo_ialdK (X : fo_X E p m c cc nL s args own meth) (hw : fo_S E s st H locs) {n L : Nat} (ht : et E n = (2, L)) {i : Int32} (hdg : decode cc pc = .ok (.iaload, 1)) (hi : fo_in i L = true) (kk : W p l e R s m args below meth c H locs cells slots Q (F0 m (pc + 1) ls (.int (gi_ st n i.toNatClampNeg) :: rest))) : W p l e R s m args below meth c H locs cells slots Q (F0 m pc ls (.int i :: .ref (eb E + n) :: rest)) := fo_iald X hw ht hdg (ck_t (t := some ()) hi rfl) (fun _ => kk)
theorem fo_laldK (X : fo_X E p m c cc nL s args own meth) (hw : fo_S E s st H locs) {n L : Nat} (ht : et E n = (5, L)) {i : Int32} (hdg : decode cc pc = .ok (.laload, 1)) (hi : fo_in i L = true) (kk : W p l e R s m args below meth c H locs cells slots Q (F0 m (pc + 1) ls (.long (gl_ st n i.toNatClampNeg) :: rest))) : W p l e R s m args below meth c H locs cells slots Q (F0 m pc ls (.int i :: .ref (eb E + n) :: rest)) := fo_lald X hw ht hdg (ck_t (t := some ()) hi rfl) (fun _ => kk)
theorem fo_iastK (X : fo_X E p m c cc nL s args own meth) (hw : fo_S E s st H locs) {n L : Nat} (ht : et E n = (2, L)) {i v : Int32} (hdg : decode cc pc = .ok (.iastore, 1)) {kf : fo_St → Option α} (hi : fo_in i L = true) (hf : lt_ (si_ st n i.toNatClampNeg v) kf = some y)
    (kk : ∀ (st1 : fo_St) (H1 : Heap) (locs1 : List Loc), fo_S E s st1 H1 locs1 → kf st1 = some y → W p l e R s m args below meth c H1 locs1 cells slots Q (F0 m (pc + 1) ls rest)) : W p l e R s m args below meth c H locs cells slots Q (F0 m pc ls (.int v :: .int i :: .ref (eb E + n) :: rest)) := fo_iast X hw ht hdg (ck_t hi hf) kk
theorem fo_lastK (X : fo_X E p m c cc nL s args own meth) (hw : fo_S E s st H locs) {n L : Nat} (ht : et E n = (5, L)) {i : Int32} {v : Int64} (hdg : decode cc pc = .ok (.lastore, 1)) {kf : fo_St → Option α} (hi : fo_in i L = true) (hf : lt_ (sl_ st n i.toNatClampNeg v) kf = some y)
    (kk : ∀ (st1 : fo_St) (H1 : Heap) (locs1 : List Loc), fo_S E s st1 H1 locs1 → kf st1 = some y → W p l e R s m args below meth c H1 locs1 cells slots Q (F0 m (pc + 1) ls rest)) : W p l e R s m args below meth c H locs cells slots Q (F0 m pc ls (.long v :: .int i :: .ref (eb E + n) :: rest)) := fo_last X hw ht hdg (ck_t hi hf) kk
end FO5
/-- a method's end, for any goal behind it -/
def fo_Ei (p : Program) (l : Launch) (e : Env) (R : Room) (s : State) (m : MethodId) (args : Array Value) (below : List Frame) (meth : Method) (c : Code) (cc : ByteArray) (Q : State → Prop) (E : fo_E) (r : Int32) (st' : fo_St) : Prop := ∀ (H : Heap) (locs : List Loc) (ls : Array Slot) (pc : Nat), fo_S E s st' H locs → decode cc pc = .ok (.ireturn, 1) → W p l e R s m args below meth c H locs 0 0 Q (F0 m pc ls [.int r])
def fo_Ez (p : Program) (l : Launch) (e : Env) (R : Room) (s : State) (m : MethodId) (args : Array Value) (below : List Frame) (meth : Method) (c : Code) (cc : ByteArray) (Q : State → Prop) (E : fo_E) (r : Int32) (st' : fo_St) : Prop := ∀ (H : Heap) (locs : List Loc) (ls : Array Slot) (pc : Nat), fo_S E s st' H locs → narrow .boolean (.int r) = .int r → decode cc pc = .ok (.ireturn, 1) → W p l e R s m args below meth c H locs 0 0 Q (F0 m pc ls [.int r])
def fo_El (p : Program) (l : Launch) (e : Env) (R : Room) (s : State) (m : MethodId) (args : Array Value) (below : List Frame) (meth : Method) (c : Code) (cc : ByteArray) (Q : State → Prop) (E : fo_E) (r : Int64) (st' : fo_St) : Prop := ∀ (H : Heap) (locs : List Loc) (ls : Array Slot) (pc : Nat), fo_S E s st' H locs → decode cc pc = .ok (.lreturn, 1) → W p l e R s m args below meth c H locs 0 0 Q (F0 m pc ls [.long r])
def fo_Ev (p : Program) (l : Launch) (e : Env) (R : Room) (s : State) (m : MethodId) (args : Array Value) (below : List Frame) (meth : Method) (c : Code) (cc : ByteArray) (Q : State → Prop) (E : fo_E) (st' : fo_St) : Prop := ∀ (H : Heap) (locs : List Loc) (ls : Array Slot) (pc : Nat), fo_S E s st' H locs → decode cc pc = .ok (.return_, 1) → W p l e R s m args below meth c H locs 0 0 Q (F0 m pc ls [])
def fo_Er (p : Program) (l : Launch) (e : Env) (R : Room) (s : State) (m : MethodId) (args : Array Value) (below : List Frame) (meth : Method) (c : Code) (cc : ByteArray) (Q : State → Prop) (E : fo_E) (r : Nat) (st' : fo_St) : Prop := ∀ (H : Heap) (locs : List Loc) (ls : Array Slot) (pc : Nat), fo_S E s st' H locs → decode cc pc = .ok (.areturn, 1) → W p l e R s m args below meth c H locs 0 0 Q (F0 m pc ls [.ref (eb E + r)])
section FO6
variable {l : Launch} {E : fo_E} {y : MethodName} {cc : ByteArray} {maxL n fr lo : Nat} {av : List Value} {st st' : fo_St}
theorem fe_i {r : Int32} (hM : fo_M y n) (hn : (lg_sl av).length ≤ maxL) (body : ∀ (p : Program) (e : Env) (R : Room) (s : State) (m : MethodId) (args : Array Value) (below : List Frame) (meth : Method) (c : Code) (Q : State → Prop), R.frames = fr → R.locals = lo → fo_X E p m c cc maxL s args y.cls meth → fo_Ei p l e R s m args below meth c cc Q E r st' → ∀ ls : Array Slot, lv_has ls maxL (lv_args 0 av) → fo_S E s st s.heap [] → W p l e R s m args below meth c s.heap [] 0 0 Q (F0 m 0 ls [])) : CTi l E y (ws_ y cc maxL (some .int)) ({ frames := fr, cells := 0, slots := 0, locals := lo }) av st r st' :=
  fo_ent hM hn (fun p e s m below meth c X hr ls hl hw => body p e _ s m _ below meth c _ rfl rfl X (fun H locs ls pc hw hd => fr_i X hr hw rfl hd) ls hl hw)
theorem fe_z {r : Int32} (hM : fo_M y n) (hn : (lg_sl av).length ≤ maxL) (body : ∀ (p : Program) (e : Env) (R : Room) (s : State) (m : MethodId) (args : Array Value) (below : List Frame) (meth : Method) (c : Code) (Q : State → Prop), R.frames = fr → R.locals = lo → fo_X E p m c cc maxL s args y.cls meth → fo_Ez p l e R s m args below meth c cc Q E r st' → ∀ ls : Array Slot, lv_has ls maxL (lv_args 0 av) → fo_S E s st s.heap [] → W p l e R s m args below meth c s.heap [] 0 0 Q (F0 m 0 ls [])) : CTi l E y (ws_ y cc maxL (some .boolean)) ({ frames := fr, cells := 0, slots := 0, locals := lo }) av st r st' :=
  fo_ent hM hn (fun p e s m below meth c X hr ls hl hw => body p e _ s m _ below meth c _ rfl rfl X (fun H locs ls pc hw hz hd => fr_z X hr hw hz rfl hd) ls hl hw)
theorem fe_l {r : Int64} (hM : fo_M y n) (hn : (lg_sl av).length ≤ maxL) (body : ∀ (p : Program) (e : Env) (R : Room) (s : State) (m : MethodId) (args : Array Value) (below : List Frame) (meth : Method) (c : Code) (Q : State → Prop), R.frames = fr → R.locals = lo → fo_X E p m c cc maxL s args y.cls meth → fo_El p l e R s m args below meth c cc Q E r st' → ∀ ls : Array Slot, lv_has ls maxL (lv_args 0 av) → fo_S E s st s.heap [] → W p l e R s m args below meth c s.heap [] 0 0 Q (F0 m 0 ls [])) : CTl l E y (ws_ y cc maxL (some .long)) ({ frames := fr, cells := 0, slots := 0, locals := lo }) av st r st' :=
  fo_ent hM hn (fun p e s m below meth c X hr ls hl hw => body p e _ s m _ below meth c _ rfl rfl X (fun H locs ls pc hw hd => fr_l X hr hw rfl hd) ls hl hw)
theorem fe_v (hM : fo_M y n) (hn : (lg_sl av).length ≤ maxL) (body : ∀ (p : Program) (e : Env) (R : Room) (s : State) (m : MethodId) (args : Array Value) (below : List Frame) (meth : Method) (c : Code) (Q : State → Prop), R.frames = fr → R.locals = lo → fo_X E p m c cc maxL s args y.cls meth → fo_Ev p l e R s m args below meth c cc Q E st' → ∀ ls : Array Slot, lv_has ls maxL (lv_args 0 av) → fo_S E s st s.heap [] → W p l e R s m args below meth c s.heap [] 0 0 Q (F0 m 0 ls [])) : CTv l E y (ws_ y cc maxL none) ({ frames := fr, cells := 0, slots := 0, locals := lo }) av st st' :=
  fo_ent hM hn (fun p e s m below meth c X hr ls hl hw => body p e _ s m _ below meth c _ rfl rfl X (fun H locs ls pc hw hd => fr_v X hr hw rfl hd) ls hl hw)
theorem fe_r {r : Nat} {rt : FieldType} (hrt : (∃ n, rt = .object n) ∨ ∃ t, rt = .array t) (hM : fo_M y n) (hn : (lg_sl av).length ≤ maxL) (body : ∀ (p : Program) (e : Env) (R : Room) (s : State) (m : MethodId) (args : Array Value) (below : List Frame) (meth : Method) (c : Code) (Q : State → Prop), R.frames = fr → R.locals = lo → fo_X E p m c cc maxL s args y.cls meth → fo_Er p l e R s m args below meth c cc Q E r st' → ∀ ls : Array Slot, lv_has ls maxL (lv_args 0 av) → fo_S E s st s.heap [] → W p l e R s m args below meth c s.heap [] 0 0 Q (F0 m 0 ls [])) : CTr l E y (ws_ y cc maxL (some rt)) ({ frames := fr, cells := 0, slots := 0, locals := lo }) av st r st' :=
  fo_ent hM hn (fun p e s m below meth c X hr ls hl hw => body p e _ s m _ below meth c _ rfl rfl X (fun H locs ls pc hw hd => fr_r X hr hrt hw rfl hd) ls hl hw)
end FO6
section FO7
variable {p : Program} {l : Launch} {e : Env} {R : Room} {s : State} {m : MethodId} {args : Array Value} {below : List Frame} {meth : Method} {c : Code} {H : Heap} {locs : List Loc} {Q : State → Prop} {cc : ByteArray} {pc : Nat} {ls : Array Slot} {E : fo_E} {st st' : fo_St}
theorem fd_i {v r : Int32} (h : fo_Ei p l e R s m args below meth c cc Q E r st') (hw : fo_S E s st H locs) (hf : some (v, st) = some (r, st')) (hd : decode cc pc = .ok (.ireturn, 1)) : W p l e R s m args below meth c H locs 0 0 Q (F0 m pc ls [.int v]) := by
  cases hf; exact h H locs ls pc hw hd
theorem fd_z {v r : Int32} (h : fo_Ez p l e R s m args below meth c cc Q E r st') (hw : fo_S E s st H locs) (hz : narrow .boolean (.int v) = .int v) (hf : some (v, st) = some (r, st')) (hd : decode cc pc = .ok (.ireturn, 1)) : W p l e R s m args below meth c H locs 0 0 Q (F0 m pc ls [.int v]) := by
  cases hf; exact h H locs ls pc hw hz hd
theorem fd_l {v r : Int64} (h : fo_El p l e R s m args below meth c cc Q E r st') (hw : fo_S E s st H locs) (hf : some (v, st) = some (r, st')) (hd : decode cc pc = .ok (.lreturn, 1)) : W p l e R s m args below meth c H locs 0 0 Q (F0 m pc ls [.long v]) := by
  cases hf; exact h H locs ls pc hw hd
theorem fd_v (h : fo_Ev p l e R s m args below meth c cc Q E st') (hw : fo_S E s st H locs) (hf : some st = some st') (hd : decode cc pc = .ok (.return_, 1)) : W p l e R s m args below meth c H locs 0 0 Q (F0 m pc ls []) := by
  cases hf; exact h H locs ls pc hw hd
theorem fd_r {v r : Nat} (h : fo_Er p l e R s m args below meth c cc Q E r st') (hw : fo_S E s st H locs) (hf : some (v, st) = some (r, st')) (hd : decode cc pc = .ok (.areturn, 1)) : W p l e R s m args below meth c H locs 0 0 Q (F0 m pc ls [.ref (eb E + v)]) := by
  cases hf; exact h H locs ls pc hw hd
end FO7
/-! the classes, as the rows take them -/
theorem fc_X0 : fo_C 0 (RX0, TX0, 29) tyX0 := ⟨rfl, in_X0, rfl, tyX0_ok, nmX0⟩
theorem fc_X1 : fo_C 1 (RX1, TX1, 12) tyX1 := ⟨rfl, in_X1, rfl, tyX1_ok, nmX1⟩
theorem fc_X2 : fo_C 2 (RX2, TX2, 4) tyX2 := ⟨rfl, in_X2, rfl, tyX2_ok, nmX2⟩
theorem fc_X3 : fo_C 3 (RX3, TX3, 2) tyX3 := ⟨rfl, in_X3, rfl, tyX3_ok, nmX3⟩
theorem fc_X4 : fo_C 4 (RX4, TX4, 6) tyX4 := ⟨rfl, in_X4, rfl, tyX4_ok, nmX4⟩
theorem fc_X5 : fo_C 5 (RX5, TX5, 62) tyX5 := ⟨rfl, in_X5, rfl, tyX5_ok, nmX5⟩
theorem fc_X7 : fo_C 6 (RX7, TX7, 9) tyX7 := ⟨rfl, in_X7, rfl, tyX7_ok, nmX7⟩
theorem fc_X8 : fo_C 7 (RX8, TX8, 7) tyX8 := ⟨rfl, in_X8, rfl, tyX8_ok, nmX8⟩
theorem fc_X9 : fo_C 8 (RX9, TX9, 3) tyX9 := ⟨rfl, in_X9, rfl, tyX9_ok, nmX9⟩
theorem fc_X11 : fo_C 9 (RX11, TX11, 1) tyX11 := ⟨rfl, in_X11, rfl, tyX11_ok, nmX11⟩
theorem fc_X12 : fo_C 10 (RX12, TX12, 1) tyX12 := ⟨rfl, in_X12, rfl, tyX12_ok, nmX12⟩
theorem fc_X13 : fo_C 11 (RX13, TX13, 3) tyX13 := ⟨rfl, in_X13, rfl, tyX13_ok, nmX13⟩
theorem fc_X15 : fo_C 12 (RX15, TX15, 3) tyX15 := ⟨rfl, in_X15, rfl, tyX15_ok, nmX15⟩
theorem fc_X16 : fo_C 13 (RX16, TX16, 1) tyX16 := ⟨rfl, in_X16, rfl, tyX16_ok, nmX16⟩
theorem fc_X17 : fo_C 14 (RX17, TX17, 2) tyX17 := ⟨rfl, in_X17, rfl, tyX17_ok, nmX17⟩
theorem fc_X18 : fo_C 15 (RX18, TX18, 5) tyX18 := ⟨rfl, in_X18, rfl, tyX18_ok, nmX18⟩
theorem fc_X19 : fo_C 16 (RX19, TX19, 1) tyX19 := ⟨rfl, in_X19, rfl, tyX19_ok, nmX19⟩
theorem fc_X20 : fo_C 17 (RX20, TX20, 8) tyX20 := ⟨rfl, in_X20, rfl, tyX20_ok, nmX20⟩
theorem fc_J2 : fo_C 18 (RJ2, TJ2, 3) tyJ2 := ⟨rfl, in_J2, rfl, tyJ2_ok, nmJ2⟩
theorem fr_X0 : fo_C 19 (RX0, TX0, 29) tyX0 := ⟨rfl, in_X0, rfl, tyX0_ok, nmX0⟩
theorem fr_X1 : fo_C 20 (RX1, TX1, 12) tyX1 := ⟨rfl, in_X1, rfl, tyX1_ok, nmX1⟩
theorem fr_X2 : fo_C 21 (RX2, TX2, 4) tyX2 := ⟨rfl, in_X2, rfl, tyX2_ok, nmX2⟩
theorem fr_X3 : fo_C 22 (RX3, TX3, 2) tyX3 := ⟨rfl, in_X3, rfl, tyX3_ok, nmX3⟩
theorem fr_X5 : fo_C 23 (RX5, TX5, 62) tyX5 := ⟨rfl, in_X5, rfl, tyX5_ok, nmX5⟩
def tM_l : List (Nat × Nat) := [(1, 5), (2, 7), (2, 5540), (2, 11080), (4, 2), (2, 954), (2, 16), (2, 848), (2, 16), (2, 400), (2, 96), (2, 400), (2, 400), (2, 400), (2, 400), (5, 11), (5, 7), (5, 5), (5, 13), (5, 13), (5, 400), (2, 16), (2, 16), (2, 6), (2, 96), (2, 6), (2, 7), (2, 6), (2, 7), (2, 7), (2, 112), (2, 16), (5, 16), (5, 5), (2, 96), (2, 32)]
def tM_ (n : Nat) : Nat × Nat := tM_l.getD n (0, 0)
def tX_l : List (Nat × Nat) := [(1, 0), (2, 7), (1, 1), (1, 2), (2, 16), (2, 16), (2, 16), (2, 16), (2, 16), (2, 16), (2, 6), (2, 6), (2, 24), (2, 5), (1, 18), (0, 0), (7, 2), (8, 16), (8, 16), (2, 16), (2, 16), (1, 2), (2, 16), (2, 16), (2, 16), (1, 2), (2, 16), (2, 16), (2, 16), (3, 400), (1, 3), (1, 4), (5, 52), (2, 16), (2, 16), (2, 96), (2, 64), (2, 64), (2, 96), (2, 112), (2, 16), (5, 16), (1, 2), (2, 16), (2, 16), (2, 16), (1, 2), (2, 16), (2, 16), (2, 16), (1, 2), (2, 16), (2, 16), (2, 16), (1, 2), (2, 16), (2, 16), (2, 16), (1, 2), (2, 16), (2, 16), (2, 16), (1, 2), (2, 16), (2, 16), (2, 16), (1, 2), (2, 16), (2, 16), (2, 16), (1, 2), (2, 16), (2, 16), (2, 16), (1, 2), (2, 16), (2, 16), (2, 16), (1, 2), (2, 16), (2, 16), (2, 16), (1, 2), (2, 16), (2, 16), (2, 16), (1, 2), (2, 16), (2, 16), (2, 16), (1, 2), (2, 16), (2, 16), (2, 16), (1, 2), (2, 16), (2, 16), (2, 16), (1, 2), (2, 16), (2, 16), (2, 16), (1, 2), (2, 16), (2, 16), (2, 16), (1, 2), (2, 16), (2, 16), (2, 16), (1, 2), (2, 16), (2, 16), (2, 16), (1, 2), (2, 16), (2, 16), (2, 16), (1, 2), (2, 16), (2, 16), (2, 16), (1, 2), (2, 16), (2, 16), (2, 16), (1, 2), (2, 16), (2, 16), (2, 16), (1, 2), (2, 16), (2, 16), (2, 16), (1, 2), (2, 16), (2, 16), (2, 16), (1, 2), (2, 16), (2, 16), (2, 16), (1, 2), (2, 16), (2, 16), (2, 16), (1, 2), (2, 16), (2, 16), (2, 16), (1, 2), (2, 16), (2, 16), (2, 16), (1, 2), (2, 16), (2, 16), (2, 16), (1, 2), (2, 16), (2, 16), (2, 16), (1, 2), (2, 16), (2, 16), (2, 16), (1, 2), (2, 16), (2, 16), (2, 16), (1, 2), (2, 16), (2, 16), (2, 16)]
