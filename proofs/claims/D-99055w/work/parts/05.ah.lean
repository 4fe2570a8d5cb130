/-! THE TABLES of this claim, as lists (printed by wip gen/tabs.py) -/
def TX9 : u_T := fun _ => ("", "", "", false)
def tyX9 : Nat → FieldType := fun _ => .int
def TX10 : u_T := fun _ => ("", "", "", false)
def tyX10 : Nat → FieldType := fun _ => .int
def TX11 : u_T := fun _ => ("", "", "", false)
def tyX11 : Nat → FieldType := fun _ => .int
def TX12 : u_T := fun _ => ("", "", "", false)
def tyX12 : Nat → FieldType := fun _ => .int
def vwCl : List vw_C := [(RX1, TX1, 24), (RX2, TX2, 10), (RX3, TX3, 8), (RX4, TX4, 10), (RX5, TX5, 6), (RX6, TX6, 6), (RX7, TX7, 39), (RX8, TX8, 12), (RJ3, TJ3, 4), (RX9, TX9, 0), (RX10, TX10, 0), (RX11, TX11, 0), (RX12, TX12, 0), (RX15, TX15, 6), (RX16, TX16, 6), (RX17, TX17, 6), (RX18, TX18, 6), (RX19, TX19, 2), (RX20, TX20, 18)]
def cN : Nat → Nat := fun k => match k with
  | 0 => 24
  | 1 => 10
  | 2 => 8
  | 3 => 10
  | 4 => 6
  | 5 => 6
  | 6 => 39
  | 7 => 12
  | 8 => 4
  | 9 => 0
  | 10 => 0
  | 11 => 0
  | 12 => 0
  | 13 => 6
  | 14 => 6
  | 15 => 6
  | 16 => 6
  | 17 => 2
  | 18 => 18
  | _ => 0
def kdX1 : Nat → Nat := fun k => match k with
  | 0 => 2
  | 1 => 0
  | 2 => 2
  | 3 => 2
  | 4 => 0
  | 5 => 0
  | 6 => 0
  | 7 => 0
  | 8 => 0
  | 9 => 2
  | 10 => 2
  | 11 => 2
  | 12 => 2
  | 13 => 2
  | 14 => 2
  | 15 => 2
  | 16 => 0
  | 17 => 0
  | 18 => 0
  | 19 => 0
  | 20 => 0
  | 21 => 0
  | 22 => 0
  | 23 => 2
  | _ => 0
def kdX2 : Nat → Nat := fun k => match k with
  | 0 => 2
  | 1 => 2
  | 2 => 2
  | 3 => 0
  | 4 => 0
  | 5 => 0
  | 6 => 0
  | 7 => 0
  | 8 => 2
  | 9 => 2
  | _ => 0
def kdX3 : Nat → Nat := fun k => match k with
  | 0 => 2
  | 1 => 2
  | 2 => 2
  | 3 => 2
  | 4 => 2
  | 5 => 0
  | 6 => 0
  | 7 => 0
  | _ => 0
def kdX4 : Nat → Nat := fun k => match k with
  | 0 => 2
  | 1 => 2
  | 2 => 2
  | 3 => 2
  | 4 => 0
  | 5 => 0
  | 6 => 0
  | 7 => 0
  | 8 => 0
  | 9 => 0
  | _ => 0
def kdX5 : Nat → Nat := fun k => match k with
  | 0 => 2
  | 1 => 2
  | 2 => 2
  | 3 => 2
  | 4 => 0
  | 5 => 1
  | _ => 0
def kdX6 : Nat → Nat := fun k => match k with
  | 0 => 2
  | 1 => 2
  | 2 => 2
  | 3 => 0
  | 4 => 0
  | 5 => 0
  | _ => 0
def kdX7 : Nat → Nat := fun k => match k with
  | 0 => 0
  | 1 => 0
  | 2 => 0
  | 3 => 2
  | 4 => 2
  | 5 => 2
  | 6 => 0
  | 7 => 0
  | 8 => 0
  | 9 => 0
  | 10 => 0
  | 11 => 0
  | 12 => 0
  | 13 => 0
  | 14 => 0
  | 15 => 1
  | 16 => 2
  | 17 => 2
  | 18 => 2
  | 19 => 2
  | 20 => 0
  | 21 => 0
  | 22 => 2
  | 23 => 2
  | 24 => 1
  | 25 => 2
  | 26 => 2
  | 27 => 2
  | 28 => 0
  | 29 => 0
  | 30 => 2
  | 31 => 0
  | 32 => 0
  | 33 => 0
  | 34 => 0
  | 35 => 0
  | 36 => 0
  | 37 => 0
  | 38 => 0
  | _ => 0
def kdX8 : Nat → Nat := fun k => match k with
  | 0 => 2
  | 1 => 2
  | 2 => 2
  | 3 => 2
  | 4 => 2
  | 5 => 0
  | 6 => 0
  | 7 => 0
  | 8 => 0
  | 9 => 0
  | 10 => 0
  | 11 => 0
  | _ => 0
def kdJ3 : Nat → Nat := fun k => match k with
  | 0 => 2
  | 1 => 0
  | 2 => 0
  | 3 => 0
  | _ => 0
def kdX9 : Nat → Nat := fun k => match k with
  | _ => 0
def kdX10 : Nat → Nat := fun k => match k with
  | _ => 0
def kdX11 : Nat → Nat := fun k => match k with
  | _ => 0
def kdX12 : Nat → Nat := fun k => match k with
  | _ => 0
def kdX15 : Nat → Nat := fun k => match k with
  | 0 => 0
  | 1 => 0
  | 2 => 0
  | 3 => 0
  | 4 => 2
  | 5 => 0
  | _ => 0
def kdX16 : Nat → Nat := fun k => match k with
  | 0 => 0
  | 1 => 0
  | 2 => 0
  | 3 => 0
  | 4 => 2
  | 5 => 0
  | _ => 0
def kdX17 : Nat → Nat := fun k => match k with
  | 0 => 0
  | 1 => 0
  | 2 => 0
  | 3 => 0
  | 4 => 2
  | 5 => 0
  | _ => 0
def kdX18 : Nat → Nat := fun k => match k with
  | 0 => 0
  | 1 => 0
  | 2 => 0
  | 3 => 0
  | 4 => 2
  | 5 => 0
  | _ => 0
def kdX19 : Nat → Nat := fun k => match k with
  | 0 => 2
  | 1 => 0
  | _ => 0
def kdX20 : Nat → Nat := fun k => match k with
  | 0 => 0
  | 1 => 0
  | 2 => 0
  | 3 => 0
  | 4 => 0
  | 5 => 0
  | 6 => 0
  | 7 => 0
  | 8 => 2
  | 9 => 2
  | 10 => 2
  | 11 => 2
  | 12 => 2
  | 13 => 2
  | 14 => 2
  | 15 => 2
  | 16 => 2
  | 17 => 2
  | _ => 0
def kd : Nat → Nat → Nat := fun c => match c with
  | 0 => kdX1
  | 1 => kdX2
  | 2 => kdX3
  | 3 => kdX4
  | 4 => kdX5
  | 5 => kdX6
  | 6 => kdX7
  | 7 => kdX8
  | 8 => kdJ3
  | 9 => kdX9
  | 10 => kdX10
  | 11 => kdX11
  | 12 => kdX12
  | 13 => kdX15
  | 14 => kdX16
  | 15 => kdX17
  | 16 => kdX18
  | 17 => kdX19
  | 18 => kdX20
  | _ => fun _ => 0
def nKs : Nat := 21
def kLen : Nat → Nat := fun k => match k with
  | 0 => 0
  | 1 => 5
  | 2 => 4
  | 3 => 5
  | 4 => 4
  | 5 => 4
  | 6 => 6
  | 7 => 5
  | 8 => 4
  | 9 => 4
  | 10 => 4
  | 11 => 4
  | 12 => 5
  | 13 => 5
  | 14 => 4
  | 15 => 5
  | 16 => 6
  | 17 => 2
  | 18 => 4
  | 19 => 5
  | 20 => 5
  | _ => 0
def kByt : Nat → Nat → Int32 := fun c => match c with
  | 0 => fun j => ([] : List Int32).getD j 0
  | 1 => fun j => ([102, 105, 101, 108, 100] : List Int32).getD j 0
  | 2 => fun j => ([108, 97, 110, 101] : List Int32).getD j 0
  | 3 => fun j => ([98, 101, 97, 115, 116] : List Int32).getD j 0
  | 4 => fun j => ([99, 105, 116, 121] : List Int32).getD j 0
  | 5 => fun j => ([112, 97, 115, 115] : List Int32).getD j 0
  | 6 => fun j => ([116, 117, 114, 110, 101, 100] : List Int32).getD j 0
  | 7 => fun j => ([108, 97, 110, 101, 115] : List Int32).getD j 0
  | 8 => fun j => ([100, 101, 101, 112] : List Int32).getD j 0
  | 9 => fun j => ([111, 112, 101, 110] : List Int32).getD j 0
  | 10 => fun j => ([112, 105, 103, 115] : List Int32).getD j 0
  | 11 => fun j => ([102, 111, 111, 116] : List Int32).getD j 0
  | 12 => fun j => ([104, 111, 114, 115, 101] : List Int32).getD j 0
  | 13 => fun j => ([112, 108, 97, 105, 110] : List Int32).getD j 0
  | 14 => fun j => ([99, 97, 108, 102] : List Int32).getD j 0
  | 15 => fun j => ([100, 114, 117, 110, 107] : List Int32).getD j 0
  | 16 => fun j => ([109, 97, 105, 108, 101, 100] : List Int32).getD j 0
  | 17 => fun j => ([105, 110] : List Int32).getD j 0
  | 18 => fun j => ([109, 111, 111, 100] : List Int32).getD j 0
  | 19 => fun j => ([112, 114, 105, 99, 101] : List Int32).getD j 0
  | 20 => fun j => ([108, 111, 115, 101, 115] : List Int32).getD j 0
  | _ => fun _ => 0
def nwl : List Cond := [
  Cond.castable "ElephantLine$Refused" "ElephantLine$Refused",
  Cond.declares ⟨"java/lang/RuntimeException", "<init>", "()V"⟩,
  Cond.declares ⟨"java/lang/RuntimeException", "<init>", "(Ljava/lang/String;)V"⟩,
  Cond.declares ⟨"java/lang/Exception", "<init>", "()V"⟩,
  Cond.declares ⟨"java/lang/Exception", "<init>", "(Ljava/lang/String;)V"⟩,
  Cond.declares ⟨"java/lang/Throwable", "<init>", "()V"⟩,
  Cond.declares ⟨"java/lang/Throwable", "<init>", "(Ljava/lang/String;)V"⟩,
  Cond.methodLinkNest "ElephantLine" 38 ⟨"ElephantLine$Front", "<init>", "()V"⟩ "ElephantLine",
  Cond.fieldLinkNest "ElephantLine" 343 "ElephantLine$Front" "foes" "I" "ElephantLine",
  Cond.fieldLinkNest "ElephantLine" 345 "ElephantLine$Front" "own" "I" "ElephantLine",
  Cond.fieldLinkNest "ElephantLine" 347 "ElephantLine$Front" "across" "I" "ElephantLine",
  Cond.methodLinkNest "ElephantLine" 51 ⟨"ElephantLine$Placing", "<init>", "()V"⟩ "ElephantLine",
  Cond.methodLinkNest "ElephantLine" 58 ⟨"ElephantLine$Marching", "<init>", "()V"⟩ "ElephantLine",
  Cond.methodLinkNest "ElephantLine$Reader" 135 ⟨"ElephantLine$War", "<init>", "()V"⟩ "ElephantLine",
  Cond.methodLinkNest "ElephantLine$Reader" 36 ⟨"ElephantLine", "in", "(III)Z"⟩ "ElephantLine",
  Cond.methodLinkNest "ElephantLine$Reader" 148 ⟨"ElephantLine$Stand", "<init>", "()V"⟩ "ElephantLine",
  Cond.methodLinkNest "ElephantLine$Reader" 182 ⟨"ElephantLine$Pigs", "<init>", "()V"⟩ "ElephantLine",
  Cond.methodLinkNest "ElephantLine$Pigs" 1 ⟨"ElephantLine$Stand", "<init>", "()V"⟩ "ElephantLine",
  Cond.methodLinkNest "ElephantLine$Reader" 191 ⟨"ElephantLine$Foot", "<init>", "()V"⟩ "ElephantLine",
  Cond.methodLinkNest "ElephantLine$Foot" 1 ⟨"ElephantLine$Stand", "<init>", "()V"⟩ "ElephantLine",
  Cond.methodLinkNest "ElephantLine$Reader" 196 ⟨"ElephantLine$Horse", "<init>", "()V"⟩ "ElephantLine",
  Cond.methodLinkNest "ElephantLine$Horse" 1 ⟨"ElephantLine$Stand", "<init>", "()V"⟩ "ElephantLine",
  Cond.methodLinkNest "ElephantLine$Front" 56 ⟨"ElephantLine", "has", "(II)Z"⟩ "ElephantLine",
  Cond.declares ⟨"ElephantLine$Beast", "kind", "()I"⟩,
  Cond.methodLinkNest "ElephantLine$Placing" 59 ⟨"ElephantLine", "has", "(II)Z"⟩ "ElephantLine",
  Cond.methodLinkNest "ElephantLine$Marching" 47 ⟨"ElephantLine", "has", "(II)Z"⟩ "ElephantLine",
  Cond.castable "java/util/NoSuchElementException" "java/util/NoSuchElementException",
  Cond.methodLinkNest "ElephantLineModel" 297 ⟨"ElephantLineModel$War", "<init>", "()V"⟩ "ElephantLineModel",
  Cond.fieldLinkNest "ElephantLineModel" 160 "ElephantLineModel$War" "lanes" "I" "ElephantLineModel",
  Cond.fieldLinkNest "ElephantLineModel" 223 "ElephantLineModel$War" "deep" "I" "ElephantLineModel",
  Cond.fieldLinkNest "ElephantLineModel" 247 "ElephantLineModel$War" "told" "I" "ElephantLineModel",
  Cond.fieldLinkNest "ElephantLineModel" 195 "ElephantLineModel$War" "beasts" "I" "ElephantLineModel",
  Cond.fieldLinkNest "ElephantLineModel" 279 "ElephantLineModel$War" "cities" "I" "ElephantLineModel",
  Cond.fieldLinkNest "ElephantLineModel" 285 "ElephantLineModel$War" "passes" "I" "ElephantLineModel",
  Cond.fieldLinkNest "ElephantLineModel" 292 "ElephantLineModel$War" "turned" "I" "ElephantLineModel",
  Cond.fieldLinkNest "ElephantLineModel" 177 "ElephantLineModel$War" "names" "I" "ElephantLineModel",
  Cond.fieldLinkNest "ElephantLineModel" 241 "ElephantLineModel$War" "who" "[I" "ElephantLineModel",
  Cond.fieldLinkNest "ElephantLineModel" 244 "ElephantLineModel$War" "strong" "[I" "ElephantLineModel",
  Cond.fieldLinkNest "ElephantLineModel" 270 "ElephantLineModel$War" "kind" "[I" "ElephantLineModel",
  Cond.fieldLinkNest "ElephantLineModel" 273 "ElephantLineModel$War" "lane" "[I" "ElephantLineModel",
  Cond.fieldLinkNest "ElephantLineModel" 275 "ElephantLineModel$War" "mood" "[I" "ElephantLineModel",
  Cond.fieldLinkNest "ElephantLineModel" 277 "ElephantLineModel$War" "price" "[I" "ElephantLineModel",
  Cond.fieldLinkNest "ElephantLineModel" 282 "ElephantLineModel$War" "loses" "[I" "ElephantLineModel",
  Cond.fieldLinkNest "ElephantLineModel" 173 "ElephantLineModel$War" "name" "[J" "ElephantLineModel",
  Cond.fieldLinkNest "ElephantLineModel" 180 "ElephantLineModel$War" "nameSort" "[I" "ElephantLineModel",
  Cond.fieldLinkNest "ElephantLineModel" 183 "ElephantLineModel$War" "numberOf" "[I" "ElephantLineModel",
  Cond.castable "ElephantLine$Calf" "ElephantLine$Beast",
  Cond.castable "ElephantLine$Drunk" "ElephantLine$Beast",
  Cond.castable "ElephantLine$Mailed" "ElephantLine$Beast",
  Cond.castable "ElephantLine$Plain" "ElephantLine$Beast",
  Cond.castable "ElephantLine$Pigs" "ElephantLine$Stand",
  Cond.castable "ElephantLine$Foot" "ElephantLine$Stand",
  Cond.castable "ElephantLine$Horse" "ElephantLine$Stand"]
theorem nwl_warm : ∀ w ∈ nwl, ∀ s U : State, s.WarmedH U.vm → va_Nw w s → va_Nw w U := List.forall_mem_cons.mpr ⟨fun _ _ h z => va_Nw.warmC h z, List.forall_mem_cons.mpr ⟨fun _ _ h z => va_Nw.warmD h z, List.forall_mem_cons.mpr ⟨fun _ _ h z => va_Nw.warmD h z, List.forall_mem_cons.mpr ⟨fun _ _ h z => va_Nw.warmD h z, List.forall_mem_cons.mpr ⟨fun _ _ h z => va_Nw.warmD h z, List.forall_mem_cons.mpr ⟨fun _ _ h z => va_Nw.warmD h z, List.forall_mem_cons.mpr ⟨fun _ _ h z => va_Nw.warmD h z, List.forall_mem_cons.mpr ⟨fun _ _ h z => va_Nw.warmM h z, List.forall_mem_cons.mpr ⟨fun _ _ h z => va_Nw.warmF h z, List.forall_mem_cons.mpr ⟨fun _ _ h z => va_Nw.warmF h z, List.forall_mem_cons.mpr ⟨fun _ _ h z => va_Nw.warmF h z, List.forall_mem_cons.mpr ⟨fun _ _ h z => va_Nw.warmM h z, List.forall_mem_cons.mpr ⟨fun _ _ h z => va_Nw.warmM h z, List.forall_mem_cons.mpr ⟨fun _ _ h z => va_Nw.warmM h z, List.forall_mem_cons.mpr ⟨fun _ _ h z => va_Nw.warmM h z, List.forall_mem_cons.mpr ⟨fun _ _ h z => va_Nw.warmM h z, List.forall_mem_cons.mpr ⟨fun _ _ h z => va_Nw.warmM h z, List.forall_mem_cons.mpr ⟨fun _ _ h z => va_Nw.warmM h z, List.forall_mem_cons.mpr ⟨fun _ _ h z => va_Nw.warmM h z, List.forall_mem_cons.mpr ⟨fun _ _ h z => va_Nw.warmM h z, List.forall_mem_cons.mpr ⟨fun _ _ h z => va_Nw.warmM h z, List.forall_mem_cons.mpr ⟨fun _ _ h z => va_Nw.warmM h z, List.forall_mem_cons.mpr ⟨fun _ _ h z => va_Nw.warmM h z, List.forall_mem_cons.mpr ⟨fun _ _ h z => va_Nw.warmD h z, List.forall_mem_cons.mpr ⟨fun _ _ h z => va_Nw.warmM h z, List.forall_mem_cons.mpr ⟨fun _ _ h z => va_Nw.warmM h z, List.forall_mem_cons.mpr ⟨fun _ _ h z => va_Nw.warmC h z, List.forall_mem_cons.mpr ⟨fun _ _ h z => va_Nw.warmM h z, List.forall_mem_cons.mpr ⟨fun _ _ h z => va_Nw.warmF h z, List.forall_mem_cons.mpr ⟨fun _ _ h z => va_Nw.warmF h z, List.forall_mem_cons.mpr ⟨fun _ _ h z => va_Nw.warmF h z, List.forall_mem_cons.mpr ⟨fun _ _ h z => va_Nw.warmF h z, List.forall_mem_cons.mpr ⟨fun _ _ h z => va_Nw.warmF h z, List.forall_mem_cons.mpr ⟨fun _ _ h z => va_Nw.warmF h z, List.forall_mem_cons.mpr ⟨fun _ _ h z => va_Nw.warmF h z, List.forall_mem_cons.mpr ⟨fun _ _ h z => va_Nw.warmF h z, List.forall_mem_cons.mpr ⟨fun _ _ h z => va_Nw.warmF h z, List.forall_mem_cons.mpr ⟨fun _ _ h z => va_Nw.warmF h z, List.forall_mem_cons.mpr ⟨fun _ _ h z => va_Nw.warmF h z, List.forall_mem_cons.mpr ⟨fun _ _ h z => va_Nw.warmF h z, List.forall_mem_cons.mpr ⟨fun _ _ h z => va_Nw.warmF h z, List.forall_mem_cons.mpr ⟨fun _ _ h z => va_Nw.warmF h z, List.forall_mem_cons.mpr ⟨fun _ _ h z => va_Nw.warmF h z, List.forall_mem_cons.mpr ⟨fun _ _ h z => va_Nw.warmF h z, List.forall_mem_cons.mpr ⟨fun _ _ h z => va_Nw.warmF h z, List.forall_mem_cons.mpr ⟨fun _ _ h z => va_Nw.warmF h z, List.forall_mem_cons.mpr ⟨fun _ _ h z => va_Nw.warmC h z, List.forall_mem_cons.mpr ⟨fun _ _ h z => va_Nw.warmC h z, List.forall_mem_cons.mpr ⟨fun _ _ h z => va_Nw.warmC h z, List.forall_mem_cons.mpr ⟨fun _ _ h z => va_Nw.warmC h z, List.forall_mem_cons.mpr ⟨fun _ _ h z => va_Nw.warmC h z, List.forall_mem_cons.mpr ⟨fun _ _ h z => va_Nw.warmC h z, List.forall_mem_cons.mpr ⟨fun _ _ h z => va_Nw.warmC h z, fun _ h => absurd h List.not_mem_nil⟩⟩⟩⟩⟩⟩⟩⟩⟩⟩⟩⟩⟩⟩⟩⟩⟩⟩⟩⟩⟩⟩⟩⟩⟩⟩⟩⟩⟩⟩⟩⟩⟩⟩⟩⟩⟩⟩⟩⟩⟩⟩⟩⟩⟩⟩⟩⟩⟩⟩⟩⟩⟩
theorem nwl_tbl : ∀ w ∈ nwl, w ∈ lw_tbl := List.forall_mem_cons.mpr ⟨q163, List.forall_mem_cons.mpr ⟨q164, List.forall_mem_cons.mpr ⟨q165, List.forall_mem_cons.mpr ⟨q166, List.forall_mem_cons.mpr ⟨q167, List.forall_mem_cons.mpr ⟨q168, List.forall_mem_cons.mpr ⟨q169, List.forall_mem_cons.mpr ⟨q269, List.forall_mem_cons.mpr ⟨q287, List.forall_mem_cons.mpr ⟨q289, List.forall_mem_cons.mpr ⟨q291, List.forall_mem_cons.mpr ⟨q316, List.forall_mem_cons.mpr ⟨q342, List.forall_mem_cons.mpr ⟨q469, List.forall_mem_cons.mpr ⟨q551, List.forall_mem_cons.mpr ⟨q754, List.forall_mem_cons.mpr ⟨q762, List.forall_mem_cons.mpr ⟨q765, List.forall_mem_cons.mpr ⟨q770, List.forall_mem_cons.mpr ⟨q773, List.forall_mem_cons.mpr ⟨q778, List.forall_mem_cons.mpr ⟨q781, List.forall_mem_cons.mpr ⟨q967, List.forall_mem_cons.mpr ⟨q979, List.forall_mem_cons.mpr ⟨q1205, List.forall_mem_cons.mpr ⟨q1297, List.forall_mem_cons.mpr ⟨q1477, List.forall_mem_cons.mpr ⟨q1638, List.forall_mem_cons.mpr ⟨q1642, List.forall_mem_cons.mpr ⟨q1643, List.forall_mem_cons.mpr ⟨q1644, List.forall_mem_cons.mpr ⟨q1645, List.forall_mem_cons.mpr ⟨q1646, List.forall_mem_cons.mpr ⟨q1647, List.forall_mem_cons.mpr ⟨q1648, List.forall_mem_cons.mpr ⟨q1650, List.forall_mem_cons.mpr ⟨q1652, List.forall_mem_cons.mpr ⟨q1654, List.forall_mem_cons.mpr ⟨q1656, List.forall_mem_cons.mpr ⟨q1658, List.forall_mem_cons.mpr ⟨q1660, List.forall_mem_cons.mpr ⟨q1662, List.forall_mem_cons.mpr ⟨q1664, List.forall_mem_cons.mpr ⟨q1666, List.forall_mem_cons.mpr ⟨q1668, List.forall_mem_cons.mpr ⟨q1670, List.forall_mem_cons.mpr ⟨q2248, List.forall_mem_cons.mpr ⟨q2249, List.forall_mem_cons.mpr ⟨q2250, List.forall_mem_cons.mpr ⟨q2251, List.forall_mem_cons.mpr ⟨q2274, List.forall_mem_cons.mpr ⟨q2275, List.forall_mem_cons.mpr ⟨q2276, fun _ h => absurd h List.not_mem_nil⟩⟩⟩⟩⟩⟩⟩⟩⟩⟩⟩⟩⟩⟩⟩⟩⟩⟩⟩⟩⟩⟩⟩⟩⟩⟩⟩⟩⟩⟩⟩⟩⟩⟩⟩⟩⟩⟩⟩⟩⟩⟩⟩⟩⟩⟩⟩⟩⟩⟩⟩⟩⟩
theorem nwl_on : ∀ w ∈ nwl, w.onTables = true := List.forall_mem_cons.mpr ⟨rfl, List.forall_mem_cons.mpr ⟨rfl, List.forall_mem_cons.mpr ⟨rfl, List.forall_mem_cons.mpr ⟨rfl, List.forall_mem_cons.mpr ⟨rfl, List.forall_mem_cons.mpr ⟨rfl, List.forall_mem_cons.mpr ⟨rfl, List.forall_mem_cons.mpr ⟨rfl, List.forall_mem_cons.mpr ⟨rfl, List.forall_mem_cons.mpr ⟨rfl, List.forall_mem_cons.mpr ⟨rfl, List.forall_mem_cons.mpr ⟨rfl, List.forall_mem_cons.mpr ⟨rfl, List.forall_mem_cons.mpr ⟨rfl, List.forall_mem_cons.mpr ⟨rfl, List.forall_mem_cons.mpr ⟨rfl, List.forall_mem_cons.mpr ⟨rfl, List.forall_mem_cons.mpr ⟨rfl, List.forall_mem_cons.mpr ⟨rfl, List.forall_mem_cons.mpr ⟨rfl, List.forall_mem_cons.mpr ⟨rfl, List.forall_mem_cons.mpr ⟨rfl, List.forall_mem_cons.mpr ⟨rfl, List.forall_mem_cons.mpr ⟨rfl, List.forall_mem_cons.mpr ⟨rfl, List.forall_mem_cons.mpr ⟨rfl, List.forall_mem_cons.mpr ⟨rfl, List.forall_mem_cons.mpr ⟨rfl, List.forall_mem_cons.mpr ⟨rfl, List.forall_mem_cons.mpr ⟨rfl, List.forall_mem_cons.mpr ⟨rfl, List.forall_mem_cons.mpr ⟨rfl, List.forall_mem_cons.mpr ⟨rfl, List.forall_mem_cons.mpr ⟨rfl, List.forall_mem_cons.mpr ⟨rfl, List.forall_mem_cons.mpr ⟨rfl, List.forall_mem_cons.mpr ⟨rfl, List.forall_mem_cons.mpr ⟨rfl, List.forall_mem_cons.mpr ⟨rfl, List.forall_mem_cons.mpr ⟨rfl, List.forall_mem_cons.mpr ⟨rfl, List.forall_mem_cons.mpr ⟨rfl, List.forall_mem_cons.mpr ⟨rfl, List.forall_mem_cons.mpr ⟨rfl, List.forall_mem_cons.mpr ⟨rfl, List.forall_mem_cons.mpr ⟨rfl, List.forall_mem_cons.mpr ⟨rfl, List.forall_mem_cons.mpr ⟨rfl, List.forall_mem_cons.mpr ⟨rfl, List.forall_mem_cons.mpr ⟨rfl, List.forall_mem_cons.mpr ⟨rfl, List.forall_mem_cons.mpr ⟨rfl, List.forall_mem_cons.mpr ⟨rfl, fun _ h => absurd h List.not_mem_nil⟩⟩⟩⟩⟩⟩⟩⟩⟩⟩⟩⟩⟩⟩⟩⟩⟩⟩⟩⟩⟩⟩⟩⟩⟩⟩⟩⟩⟩⟩⟩⟩⟩⟩⟩⟩⟩⟩⟩⟩⟩⟩⟩⟩⟩⟩⟩⟩⟩⟩⟩⟩⟩
theorem nq163 : Cond.castable "ElephantLine$Refused" "ElephantLine$Refused" ∈ nwl := List.mem_of_getElem? (i := 0) rfl
theorem nq164 : Cond.declares ⟨"java/lang/RuntimeException", "<init>", "()V"⟩ ∈ nwl := List.mem_of_getElem? (i := 1) rfl
theorem nq165 : Cond.declares ⟨"java/lang/RuntimeException", "<init>", "(Ljava/lang/String;)V"⟩ ∈ nwl := List.mem_of_getElem? (i := 2) rfl
theorem nq166 : Cond.declares ⟨"java/lang/Exception", "<init>", "()V"⟩ ∈ nwl := List.mem_of_getElem? (i := 3) rfl
theorem nq167 : Cond.declares ⟨"java/lang/Exception", "<init>", "(Ljava/lang/String;)V"⟩ ∈ nwl := List.mem_of_getElem? (i := 4) rfl
theorem nq168 : Cond.declares ⟨"java/lang/Throwable", "<init>", "()V"⟩ ∈ nwl := List.mem_of_getElem? (i := 5) rfl
theorem nq169 : Cond.declares ⟨"java/lang/Throwable", "<init>", "(Ljava/lang/String;)V"⟩ ∈ nwl := List.mem_of_getElem? (i := 6) rfl
theorem nq269 : Cond.methodLinkNest "ElephantLine" 38 ⟨"ElephantLine$Front", "<init>", "()V"⟩ "ElephantLine" ∈ nwl := List.mem_of_getElem? (i := 7) rfl
theorem nq287 : Cond.fieldLinkNest "ElephantLine" 343 "ElephantLine$Front" "foes" "I" "ElephantLine" ∈ nwl := List.mem_of_getElem? (i := 8) rfl
theorem nq289 : Cond.fieldLinkNest "ElephantLine" 345 "ElephantLine$Front" "own" "I" "ElephantLine" ∈ nwl := List.mem_of_getElem? (i := 9) rfl
theorem nq291 : Cond.fieldLinkNest "ElephantLine" 347 "ElephantLine$Front" "across" "I" "ElephantLine" ∈ nwl := List.mem_of_getElem? (i := 10) rfl
theorem nq316 : Cond.methodLinkNest "ElephantLine" 51 ⟨"ElephantLine$Placing", "<init>", "()V"⟩ "ElephantLine" ∈ nwl := List.mem_of_getElem? (i := 11) rfl
theorem nq342 : Cond.methodLinkNest "ElephantLine" 58 ⟨"ElephantLine$Marching", "<init>", "()V"⟩ "ElephantLine" ∈ nwl := List.mem_of_getElem? (i := 12) rfl
theorem nq469 : Cond.methodLinkNest "ElephantLine$Reader" 135 ⟨"ElephantLine$War", "<init>", "()V"⟩ "ElephantLine" ∈ nwl := List.mem_of_getElem? (i := 13) rfl
theorem nq551 : Cond.methodLinkNest "ElephantLine$Reader" 36 ⟨"ElephantLine", "in", "(III)Z"⟩ "ElephantLine" ∈ nwl := List.mem_of_getElem? (i := 14) rfl
theorem nq754 : Cond.methodLinkNest "ElephantLine$Reader" 148 ⟨"ElephantLine$Stand", "<init>", "()V"⟩ "ElephantLine" ∈ nwl := List.mem_of_getElem? (i := 15) rfl
theorem nq762 : Cond.methodLinkNest "ElephantLine$Reader" 182 ⟨"ElephantLine$Pigs", "<init>", "()V"⟩ "ElephantLine" ∈ nwl := List.mem_of_getElem? (i := 16) rfl
theorem nq765 : Cond.methodLinkNest "ElephantLine$Pigs" 1 ⟨"ElephantLine$Stand", "<init>", "()V"⟩ "ElephantLine" ∈ nwl := List.mem_of_getElem? (i := 17) rfl
theorem nq770 : Cond.methodLinkNest "ElephantLine$Reader" 191 ⟨"ElephantLine$Foot", "<init>", "()V"⟩ "ElephantLine" ∈ nwl := List.mem_of_getElem? (i := 18) rfl
theorem nq773 : Cond.methodLinkNest "ElephantLine$Foot" 1 ⟨"ElephantLine$Stand", "<init>", "()V"⟩ "ElephantLine" ∈ nwl := List.mem_of_getElem? (i := 19) rfl
theorem nq778 : Cond.methodLinkNest "ElephantLine$Reader" 196 ⟨"ElephantLine$Horse", "<init>", "()V"⟩ "ElephantLine" ∈ nwl := List.mem_of_getElem? (i := 20) rfl
theorem nq781 : Cond.methodLinkNest "ElephantLine$Horse" 1 ⟨"ElephantLine$Stand", "<init>", "()V"⟩ "ElephantLine" ∈ nwl := List.mem_of_getElem? (i := 21) rfl
theorem nq967 : Cond.methodLinkNest "ElephantLine$Front" 56 ⟨"ElephantLine", "has", "(II)Z"⟩ "ElephantLine" ∈ nwl := List.mem_of_getElem? (i := 22) rfl
theorem nq979 : Cond.declares ⟨"ElephantLine$Beast", "kind", "()I"⟩ ∈ nwl := List.mem_of_getElem? (i := 23) rfl
theorem nq1205 : Cond.methodLinkNest "ElephantLine$Placing" 59 ⟨"ElephantLine", "has", "(II)Z"⟩ "ElephantLine" ∈ nwl := List.mem_of_getElem? (i := 24) rfl
theorem nq1297 : Cond.methodLinkNest "ElephantLine$Marching" 47 ⟨"ElephantLine", "has", "(II)Z"⟩ "ElephantLine" ∈ nwl := List.mem_of_getElem? (i := 25) rfl
theorem nq1477 : Cond.castable "java/util/NoSuchElementException" "java/util/NoSuchElementException" ∈ nwl := List.mem_of_getElem? (i := 26) rfl
theorem nq1638 : Cond.methodLinkNest "ElephantLineModel" 297 ⟨"ElephantLineModel$War", "<init>", "()V"⟩ "ElephantLineModel" ∈ nwl := List.mem_of_getElem? (i := 27) rfl
theorem nq1642 : Cond.fieldLinkNest "ElephantLineModel" 160 "ElephantLineModel$War" "lanes" "I" "ElephantLineModel" ∈ nwl := List.mem_of_getElem? (i := 28) rfl
theorem nq1643 : Cond.fieldLinkNest "ElephantLineModel" 223 "ElephantLineModel$War" "deep" "I" "ElephantLineModel" ∈ nwl := List.mem_of_getElem? (i := 29) rfl
theorem nq1644 : Cond.fieldLinkNest "ElephantLineModel" 247 "ElephantLineModel$War" "told" "I" "ElephantLineModel" ∈ nwl := List.mem_of_getElem? (i := 30) rfl
theorem nq1645 : Cond.fieldLinkNest "ElephantLineModel" 195 "ElephantLineModel$War" "beasts" "I" "ElephantLineModel" ∈ nwl := List.mem_of_getElem? (i := 31) rfl
theorem nq1646 : Cond.fieldLinkNest "ElephantLineModel" 279 "ElephantLineModel$War" "cities" "I" "ElephantLineModel" ∈ nwl := List.mem_of_getElem? (i := 32) rfl
theorem nq1647 : Cond.fieldLinkNest "ElephantLineModel" 285 "ElephantLineModel$War" "passes" "I" "ElephantLineModel" ∈ nwl := List.mem_of_getElem? (i := 33) rfl
theorem nq1648 : Cond.fieldLinkNest "ElephantLineModel" 292 "ElephantLineModel$War" "turned" "I" "ElephantLineModel" ∈ nwl := List.mem_of_getElem? (i := 34) rfl
theorem nq1650 : Cond.fieldLinkNest "ElephantLineModel" 177 "ElephantLineModel$War" "names" "I" "ElephantLineModel" ∈ nwl := List.mem_of_getElem? (i := 35) rfl
theorem nq1652 : Cond.fieldLinkNest "ElephantLineModel" 241 "ElephantLineModel$War" "who" "[I" "ElephantLineModel" ∈ nwl := List.mem_of_getElem? (i := 36) rfl
theorem nq1654 : Cond.fieldLinkNest "ElephantLineModel" 244 "ElephantLineModel$War" "strong" "[I" "ElephantLineModel" ∈ nwl := List.mem_of_getElem? (i := 37) rfl
theorem nq1656 : Cond.fieldLinkNest "ElephantLineModel" 270 "ElephantLineModel$War" "kind" "[I" "ElephantLineModel" ∈ nwl := List.mem_of_getElem? (i := 38) rfl
theorem nq1658 : Cond.fieldLinkNest "ElephantLineModel" 273 "ElephantLineModel$War" "lane" "[I" "ElephantLineModel" ∈ nwl := List.mem_of_getElem? (i := 39) rfl
theorem nq1660 : Cond.fieldLinkNest "ElephantLineModel" 275 "ElephantLineModel$War" "mood" "[I" "ElephantLineModel" ∈ nwl := List.mem_of_getElem? (i := 40) rfl
theorem nq1662 : Cond.fieldLinkNest "ElephantLineModel" 277 "ElephantLineModel$War" "price" "[I" "ElephantLineModel" ∈ nwl := List.mem_of_getElem? (i := 41) rfl
theorem nq1664 : Cond.fieldLinkNest "ElephantLineModel" 282 "ElephantLineModel$War" "loses" "[I" "ElephantLineModel" ∈ nwl := List.mem_of_getElem? (i := 42) rfl
theorem nq1666 : Cond.fieldLinkNest "ElephantLineModel" 173 "ElephantLineModel$War" "name" "[J" "ElephantLineModel" ∈ nwl := List.mem_of_getElem? (i := 43) rfl
theorem nq1668 : Cond.fieldLinkNest "ElephantLineModel" 180 "ElephantLineModel$War" "nameSort" "[I" "ElephantLineModel" ∈ nwl := List.mem_of_getElem? (i := 44) rfl
theorem nq1670 : Cond.fieldLinkNest "ElephantLineModel" 183 "ElephantLineModel$War" "numberOf" "[I" "ElephantLineModel" ∈ nwl := List.mem_of_getElem? (i := 45) rfl
theorem nq2248 : Cond.castable "ElephantLine$Calf" "ElephantLine$Beast" ∈ nwl := List.mem_of_getElem? (i := 46) rfl
theorem nq2249 : Cond.castable "ElephantLine$Drunk" "ElephantLine$Beast" ∈ nwl := List.mem_of_getElem? (i := 47) rfl
theorem nq2250 : Cond.castable "ElephantLine$Mailed" "ElephantLine$Beast" ∈ nwl := List.mem_of_getElem? (i := 48) rfl
theorem nq2251 : Cond.castable "ElephantLine$Plain" "ElephantLine$Beast" ∈ nwl := List.mem_of_getElem? (i := 49) rfl
theorem nq2274 : Cond.castable "ElephantLine$Pigs" "ElephantLine$Stand" ∈ nwl := List.mem_of_getElem? (i := 50) rfl
theorem nq2275 : Cond.castable "ElephantLine$Foot" "ElephantLine$Stand" ∈ nwl := List.mem_of_getElem? (i := 51) rfl
theorem nq2276 : Cond.castable "ElephantLine$Horse" "ElephantLine$Stand" ∈ nwl := List.mem_of_getElem? (i := 52) rfl
def aol : List String := ["ElephantLine$Front", "ElephantLine$Beast", "ElephantLine$Stand", "ElephantLine$City"]
def ncl : List (String × String) := [("ElephantLine$Stand", "ElephantLine$Horse"), ("ElephantLine$Pigs", "ElephantLine$Horse"), ("ElephantLine$Foot", "ElephantLine$Horse"), ("ElephantLine$Plain", "ElephantLine$City"), ("ElephantLine$Calf", "ElephantLine$City"), ("ElephantLine$Drunk", "ElephantLine$City"), ("ElephantLine$Mailed", "ElephantLine$City"), ("ElephantLine$City", "ElephantLine$Beast")]
theorem nc_X9_Horse : ("ElephantLine$Stand", "ElephantLine$Horse") ∈ ncl := List.mem_of_getElem? (i := 0) rfl
theorem nc_X10_Horse : ("ElephantLine$Pigs", "ElephantLine$Horse") ∈ ncl := List.mem_of_getElem? (i := 1) rfl
theorem nc_X11_Horse : ("ElephantLine$Foot", "ElephantLine$Horse") ∈ ncl := List.mem_of_getElem? (i := 2) rfl
theorem nc_X15_City : ("ElephantLine$Plain", "ElephantLine$City") ∈ ncl := List.mem_of_getElem? (i := 3) rfl
theorem nc_X16_City : ("ElephantLine$Calf", "ElephantLine$City") ∈ ncl := List.mem_of_getElem? (i := 4) rfl
theorem nc_X17_City : ("ElephantLine$Drunk", "ElephantLine$City") ∈ ncl := List.mem_of_getElem? (i := 5) rfl
theorem nc_X18_City : ("ElephantLine$Mailed", "ElephantLine$City") ∈ ncl := List.mem_of_getElem? (i := 6) rfl
theorem nc_X19_Beast : ("ElephantLine$City", "ElephantLine$Beast") ∈ ncl := List.mem_of_getElem? (i := 7) rfl
def skl : List (String × Nat × String × Nat) := [
  ("ElephantLine$Reader", 59, "", 0),
  ("ElephantLine$Reader", 90, "field", 1),
  ("ElephantLine$Reader", 92, "lane", 2),
  ("ElephantLine$Reader", 94, "beast", 3),
  ("ElephantLine$Reader", 96, "city", 4),
  ("ElephantLine$Reader", 98, "pass", 5),
  ("ElephantLine$Reader", 100, "turned", 6),
  ("ElephantLine$Reader", 167, "lanes", 7),
  ("ElephantLine$Reader", 172, "deep", 8),
  ("ElephantLine$Reader", 176, "open", 9),
  ("ElephantLine$Reader", 178, "pigs", 10),
  ("ElephantLine$Reader", 183, "foot", 11),
  ("ElephantLine$Reader", 192, "horse", 12),
  ("ElephantLine$Reader", 208, "plain", 13),
  ("ElephantLine$Reader", 215, "calf", 14),
  ("ElephantLine$Reader", 220, "drunk", 15),
  ("ElephantLine$Reader", 225, "mailed", 16),
  ("ElephantLine$Reader", 238, "in", 17),
  ("ElephantLine$Reader", 243, "mood", 18),
  ("ElephantLine$Reader", 247, "price", 19),
  ("ElephantLine$Reader", 271, "loses", 20),
  ("ElephantLineModel", 144, "field", 1),
  ("ElephantLineModel", 146, "lane", 2),
  ("ElephantLineModel", 148, "beast", 3),
  ("ElephantLineModel", 150, "city", 4),
  ("ElephantLineModel", 152, "pass", 5),
  ("ElephantLineModel", 154, "turned", 6),
  ("ElephantLineModel", 216, "lanes", 7),
  ("ElephantLineModel", 221, "deep", 8),
  ("ElephantLineModel", 233, "open", 9),
  ("ElephantLineModel", 235, "pigs", 10),
  ("ElephantLineModel", 237, "foot", 11),
  ("ElephantLineModel", 239, "horse", 12),
  ("ElephantLineModel", 254, "plain", 13),
  ("ElephantLineModel", 256, "calf", 14),
  ("ElephantLineModel", 258, "drunk", 15),
  ("ElephantLineModel", 260, "mailed", 16),
  ("ElephantLineModel", 262, "in", 17),
  ("ElephantLineModel", 263, "mood", 18),
  ("ElephantLineModel", 265, "price", 19),
  ("ElephantLineModel", 291, "loses", 20),
  ("java/lang/String", 7, "", 0)]
theorem sk_X2_59 : ("ElephantLine$Reader", 59, "", 0) ∈ skl := List.mem_of_getElem? (i := 0) rfl
theorem sk_X2_90 : ("ElephantLine$Reader", 90, "field", 1) ∈ skl := List.mem_of_getElem? (i := 1) rfl
theorem sk_X2_92 : ("ElephantLine$Reader", 92, "lane", 2) ∈ skl := List.mem_of_getElem? (i := 2) rfl
theorem sk_X2_94 : ("ElephantLine$Reader", 94, "beast", 3) ∈ skl := List.mem_of_getElem? (i := 3) rfl
theorem sk_X2_96 : ("ElephantLine$Reader", 96, "city", 4) ∈ skl := List.mem_of_getElem? (i := 4) rfl
theorem sk_X2_98 : ("ElephantLine$Reader", 98, "pass", 5) ∈ skl := List.mem_of_getElem? (i := 5) rfl
theorem sk_X2_100 : ("ElephantLine$Reader", 100, "turned", 6) ∈ skl := List.mem_of_getElem? (i := 6) rfl
theorem sk_X2_167 : ("ElephantLine$Reader", 167, "lanes", 7) ∈ skl := List.mem_of_getElem? (i := 7) rfl
theorem sk_X2_172 : ("ElephantLine$Reader", 172, "deep", 8) ∈ skl := List.mem_of_getElem? (i := 8) rfl
theorem sk_X2_176 : ("ElephantLine$Reader", 176, "open", 9) ∈ skl := List.mem_of_getElem? (i := 9) rfl
theorem sk_X2_178 : ("ElephantLine$Reader", 178, "pigs", 10) ∈ skl := List.mem_of_getElem? (i := 10) rfl
theorem sk_X2_183 : ("ElephantLine$Reader", 183, "foot", 11) ∈ skl := List.mem_of_getElem? (i := 11) rfl
theorem sk_X2_192 : ("ElephantLine$Reader", 192, "horse", 12) ∈ skl := List.mem_of_getElem? (i := 12) rfl
theorem sk_X2_208 : ("ElephantLine$Reader", 208, "plain", 13) ∈ skl := List.mem_of_getElem? (i := 13) rfl
theorem sk_X2_215 : ("ElephantLine$Reader", 215, "calf", 14) ∈ skl := List.mem_of_getElem? (i := 14) rfl
theorem sk_X2_220 : ("ElephantLine$Reader", 220, "drunk", 15) ∈ skl := List.mem_of_getElem? (i := 15) rfl
theorem sk_X2_225 : ("ElephantLine$Reader", 225, "mailed", 16) ∈ skl := List.mem_of_getElem? (i := 16) rfl
theorem sk_X2_238 : ("ElephantLine$Reader", 238, "in", 17) ∈ skl := List.mem_of_getElem? (i := 17) rfl
theorem sk_X2_243 : ("ElephantLine$Reader", 243, "mood", 18) ∈ skl := List.mem_of_getElem? (i := 18) rfl
theorem sk_X2_247 : ("ElephantLine$Reader", 247, "price", 19) ∈ skl := List.mem_of_getElem? (i := 19) rfl
theorem sk_X2_271 : ("ElephantLine$Reader", 271, "loses", 20) ∈ skl := List.mem_of_getElem? (i := 20) rfl
theorem sk_X7_144 : ("ElephantLineModel", 144, "field", 1) ∈ skl := List.mem_of_getElem? (i := 21) rfl
theorem sk_X7_146 : ("ElephantLineModel", 146, "lane", 2) ∈ skl := List.mem_of_getElem? (i := 22) rfl
theorem sk_X7_148 : ("ElephantLineModel", 148, "beast", 3) ∈ skl := List.mem_of_getElem? (i := 23) rfl
theorem sk_X7_150 : ("ElephantLineModel", 150, "city", 4) ∈ skl := List.mem_of_getElem? (i := 24) rfl
theorem sk_X7_152 : ("ElephantLineModel", 152, "pass", 5) ∈ skl := List.mem_of_getElem? (i := 25) rfl
theorem sk_X7_154 : ("ElephantLineModel", 154, "turned", 6) ∈ skl := List.mem_of_getElem? (i := 26) rfl
theorem sk_X7_216 : ("ElephantLineModel", 216, "lanes", 7) ∈ skl := List.mem_of_getElem? (i := 27) rfl
theorem sk_X7_221 : ("ElephantLineModel", 221, "deep", 8) ∈ skl := List.mem_of_getElem? (i := 28) rfl
theorem sk_X7_233 : ("ElephantLineModel", 233, "open", 9) ∈ skl := List.mem_of_getElem? (i := 29) rfl
theorem sk_X7_235 : ("ElephantLineModel", 235, "pigs", 10) ∈ skl := List.mem_of_getElem? (i := 30) rfl
theorem sk_X7_237 : ("ElephantLineModel", 237, "foot", 11) ∈ skl := List.mem_of_getElem? (i := 31) rfl
theorem sk_X7_239 : ("ElephantLineModel", 239, "horse", 12) ∈ skl := List.mem_of_getElem? (i := 32) rfl
theorem sk_X7_254 : ("ElephantLineModel", 254, "plain", 13) ∈ skl := List.mem_of_getElem? (i := 33) rfl
theorem sk_X7_256 : ("ElephantLineModel", 256, "calf", 14) ∈ skl := List.mem_of_getElem? (i := 34) rfl
theorem sk_X7_258 : ("ElephantLineModel", 258, "drunk", 15) ∈ skl := List.mem_of_getElem? (i := 35) rfl
theorem sk_X7_260 : ("ElephantLineModel", 260, "mailed", 16) ∈ skl := List.mem_of_getElem? (i := 36) rfl
theorem sk_X7_262 : ("ElephantLineModel", 262, "in", 17) ∈ skl := List.mem_of_getElem? (i := 37) rfl
theorem sk_X7_263 : ("ElephantLineModel", 263, "mood", 18) ∈ skl := List.mem_of_getElem? (i := 38) rfl
theorem sk_X7_265 : ("ElephantLineModel", 265, "price", 19) ∈ skl := List.mem_of_getElem? (i := 39) rfl
theorem sk_X7_291 : ("ElephantLineModel", 291, "loses", 20) ∈ skl := List.mem_of_getElem? (i := 40) rfl
theorem sk_J3_7 : ("java/lang/String", 7, "", 0) ∈ skl := List.mem_of_getElem? (i := 41) rfl
def szl : List (String × String × String × Int32) := [("java/lang/String", "COMPACT_STRINGS", "Z", 1), ("java/lang/StringUTF16", "$assertionsDisabled", "Z", 1), ("java/lang/StringUTF16", "HI_BYTE_SHIFT", "I", 0), ("java/lang/StringUTF16", "LO_BYTE_SHIFT", "I", 8)]
theorem sz_0 : ("java/lang/String", "COMPACT_STRINGS", "Z", (1 : Int32)) ∈ szl := List.mem_of_getElem? (i := 0) rfl
theorem sz_1 : ("java/lang/StringUTF16", "$assertionsDisabled", "Z", (1 : Int32)) ∈ szl := List.mem_of_getElem? (i := 1) rfl
theorem sz_2 : ("java/lang/StringUTF16", "HI_BYTE_SHIFT", "I", (0 : Int32)) ∈ szl := List.mem_of_getElem? (i := 2) rfl
theorem sz_3 : ("java/lang/StringUTF16", "LO_BYTE_SHIFT", "I", (8 : Int32)) ∈ szl := List.mem_of_getElem? (i := 3) rfl
def srl : List (String × String × String × Nat) := [("java/lang/Throwable", "UNASSIGNED_STACK", "[Ljava/lang/StackTraceElement;", 100), ("java/lang/Throwable", "SUPPRESSED_SENTINEL", "Ljava/util/List;", 101), ("jdk/internal/util/Preconditions", "SIOOBE_FORMATTER", "Ljava/util/function/BiFunction;", 102)]
theorem sr_0 : ("java/lang/Throwable", "UNASSIGNED_STACK", "[Ljava/lang/StackTraceElement;", 100) ∈ srl := List.mem_of_getElem? (i := 0) rfl
theorem sr_1 : ("java/lang/Throwable", "SUPPRESSED_SENTINEL", "Ljava/util/List;", 101) ∈ srl := List.mem_of_getElem? (i := 1) rfl
theorem sr_2 : ("jdk/internal/util/Preconditions", "SIOOBE_FORMATTER", "Ljava/util/function/BiFunction;", 102) ∈ srl := List.mem_of_getElem? (i := 2) rfl
/-! THE ABSTRACT HEAP: contents of cells as functions of address and place; shapes; sizes. A method is a function on it ('none': a road that is not walked). -/
def AH : Type := (Nat → Nat → Int32) × (Nat → Nat → Int64) × (Nat → Nat → Option Nat) × (Nat → Nat) × (Nat → Nat) × Nat × Nat × (Nat → Option Nat)
/-- ints at an address: fields by number, elements by place -/
def gI (h : AH) : Nat → Nat → Int32 := h.1
def gL (h : AH) : Nat → Nat → Int64 := h.2.1
def gR (h : AH) : Nat → Nat → Option Nat := h.2.2.1
/-- shape: 0 nothing known, 1 + class, 101 + kind of array, 200 a String constant, 201 its bytes -/
def gS (h : AH) : Nat → Nat := h.2.2.2.1
/-- how many elements -/
def gN (h : AH) : Nat → Nat := h.2.2.2.2.1
/-- the next address -/
def gZ (h : AH) : Nat := h.2.2.2.2.2.1
/-- slots used -/
def gQ (h : AH) : Nat := h.2.2.2.2.2.2.1
/-- constants: String constants by number, statics behind them -/
def gK (h : AH) : Nat → Option Nat := h.2.2.2.2.2.2.2
def u2 {α : Type} (f : Nat → Nat → α) (a k : Nat) (v : α) : Nat → Nat → α := fun b j => if b = a ∧ j = k then v else f b j
def r2 {α : Type} (f : Nat → Nat → α) (a : Nat) (v : α) : Nat → Nat → α := fun b j => if b = a then v else f b j
def u1 {α : Type} (f : Nat → α) (a : Nat) (v : α) : Nat → α := fun b => if b = a then v else f b
def uI (h : AH) (a k : Nat) (v : Int32) : AH := (u2 h.1 a k v, h.2)
def uL (h : AH) (a k : Nat) (v : Int64) : AH := (h.1, u2 h.2.1 a k v, h.2.2)
def uR (h : AH) (a k : Nat) (v : Option Nat) : AH := (h.1, h.2.1, u2 h.2.2.1 a k v, h.2.2.2)
/-- a new cell of shape c with n slots, at gZ h -/
def nC (h : AH) (c n : Nat) : AH := (r2 (gI h) (gZ h) 0, r2 (gL h) (gZ h) 0, r2 (gR h) (gZ h) none, u1 (gS h) (gZ h) c, u1 (gN h) (gZ h) n, gZ h + 1, gQ h + n, gK h)
/-- n ints from place sp of a on go to b, from place dp on -/
def cI (h : AH) (a b sp dp n : Nat) : AH := (fun x j => if x = b ∧ dp ≤ j ∧ j < dp + n then gI h a (sp + (j - dp)) else gI h x j, h.2)
/-- the value at a place, by its kind: 0 int, 1 long, 2 reference -/
def fv (h : AH) (t a k : Nat) : Value := match t with
  | 0 => .int (gI h a k)
  | 1 => .long (gL h a k)
  | _ => va_rf (gR h a k)
/-- an index as a place -/
abbrev ix (i : Int32) : Nat := i.toNatClampNeg
/-- index in range -/
abbrev inb (i : Int32) (n : Nat) : Prop := ¬ (i < 0 ∨ n ≤ i.toNatClampNeg)
/-- all of a method's judgement that stays: launch, name, code, locals, answer's type, class, frames, tables, heap at the start and at the end, how it ends -/
abbrev DD : Type := va_G × (Nat → ClassId) × (Nat → Option Nat) × (Nat → Nat) × Nat
def dz (D : DD) : Nat := D.2.2.2.2
def dA (D : DD) : Nat → Prop := fun q => D.2.2.2.2 ≤ q
/-- kinds of arrays -/
def aty : Nat → FieldType := fun t => match t with
  | 0 => .int
  | 1 => .byte
  | 2 => .char
  | 3 => .long
  | 4 => .object "ElephantLine$Front"
  | 5 => .object "ElephantLine$Beast"
  | 6 => .object "ElephantLine$Stand"
  | _ => .object "ElephantLine$City"
def ak : Nat → Nat := fun t => match t with
  | 0 => 0
  | 1 => 0
  | 2 => 0
  | 3 => 1
  | _ => 2
def tysD (f : Nat → ClassId) : List (ClassId × FieldType) := [(f 0, aty 0), (f 1, aty 1), (f 2, aty 2), (f 3, aty 3), (f 4, aty 4), (f 5, aty 5), (f 6, aty 6), (f 7, aty 7)]
theorem tysD_at (f : Nat → ClassId) : ∀ t, t < 8 → (tysD f)[t]? = some (f t, aty t) := by
  intro t ht
  match t, ht with
  | 0, _ => rfl
  | 1, _ => rfl
  | 2, _ => rfl
  | 3, _ => rfl
  | 4, _ => rfl
  | 5, _ => rfl
  | 6, _ => rfl
  | 7, _ => rfl
/-- a cell is as the abstract heap has it -/
def cOK (D : DD) (h : AH) (H : Heap) (a : Nat) : Prop :=
  (∀ c, gS h a = c + 1 → c < 100 → dz D ≤ a ∧ t_OB a (D.1.1 c) (cN c) (D.1.2 c) H (fun k => fv h (kd c k) a k)) ∧
  (∀ t, gS h a = 101 + t → t < 8 → dz D ≤ a ∧ H[a]? = some (arrV (D.2.1 t) (gN h a) (fun j => fv h (ak t) a j))) ∧
  (gS h a = 200 → a < dz D ∧ ∃ i, i < nKs ∧ D.2.2.1 i = some a ∧ gI h a 1 = 0 ∧ gR h a 0 = some (D.2.2.2.1 i)) ∧
  (gS h a = 201 → a < dz D ∧ ∃ i, i < nKs ∧ D.2.2.2.1 i = a ∧ gN h a = kLen i ∧ ∀ j, j < kLen i → gI h a j = kByt i j)
def HP (D : DD) (h : AH) (H : Heap) : Prop := H.size = gZ h ∧ dz D ≤ gZ h ∧ gK h = D.2.2.1 ∧ ∀ a, cOK D h H a
/-- the same but at a -/
def sOff (h h' : AH) (a : Nat) : Prop := gS h' = gS h ∧ gN h' = gN h ∧ gZ h' = gZ h ∧ gQ h' = gQ h ∧ gK h' = gK h ∧ (∀ b, b ≠ a → ∀ j, gI h' b j = gI h b j ∧ gL h' b j = gL h b j ∧ gR h' b j = gR h b j)
theorem sOff.fv {h h' : AH} {a : Nat} (s : sOff h h' a) {b : Nat} (hb : b ≠ a) (t j : Nat) : fv h' t b j = fv h t b j := by
  obtain ⟨h1, h2, h3⟩ := s.2.2.2.2.2 b hb j
  match t with
  | 0 => show Value.int _ = Value.int _; rw [h1]
  | 1 => show Value.long _ = Value.long _; rw [h2]
  | n + 2 => show va_rf _ = va_rf _; rw [h3]
theorem sOff_I (h : AH) (a k : Nat) (v : Int32) : sOff h (uI h a k v) a := ⟨rfl, rfl, rfl, rfl, rfl, fun b hb j => ⟨if_neg (fun q => hb q.1), rfl, rfl⟩⟩
theorem sOff_L (h : AH) (a k : Nat) (v : Int64) : sOff h (uL h a k v) a := ⟨rfl, rfl, rfl, rfl, rfl, fun b hb j => ⟨rfl, if_neg (fun q => hb q.1), rfl⟩⟩
theorem sOff_R (h : AH) (a k : Nat) (v : Option Nat) : sOff h (uR h a k v) a := ⟨rfl, rfl, rfl, rfl, rfl, fun b hb j => ⟨rfl, rfl, if_neg (fun q => hb q.1)⟩⟩
theorem sOff_c (h : AH) (a b sp dp n : Nat) : sOff h (cI h a b sp dp n) b := ⟨rfl, rfl, rfl, rfl, rfl, fun x hx j => ⟨if_neg (fun q => hx q.1), rfl, rfl⟩⟩
theorem HP.size {D : DD} {h : AH} {H : Heap} (p : HP D h H) : H.size = gZ h := p.1
theorem HP.obj {D : DD} {h : AH} {H : Heap} (p : HP D h H) {a c : Nat} (hs : gS h a = c + 1) (hc : c < 100) : dz D ≤ a ∧ t_OB a (D.1.1 c) (cN c) (D.1.2 c) H (fun k => fv h (kd c k) a k) := (p.2.2.2 a).1 c hs hc
theorem HP.arr {D : DD} {h : AH} {H : Heap} (p : HP D h H) {a t : Nat} (hs : gS h a = 101 + t) (ht : t < 8) : dz D ≤ a ∧ H[a]? = some (arrV (D.2.1 t) (gN h a) (fun j => fv h (ak t) a j)) := (p.2.2.2 a).2.1 t hs ht
theorem HP.set {D : DD} {h h' : AH} {H H' : Heap} {a : Nat} (p : HP D h H) (s : sOff h h' a) (z : H'.size = H.size) (oq : ∀ q : Nat, q ≠ a → H'[q]? = H[q]?) (ok : cOK D h' H' a) : HP D h' H' := by
  obtain ⟨p1, p2, p3, p4⟩ := p
  have s' := s
  obtain ⟨e1, e2, e3, e4, e5, e6⟩ := s
  refine ⟨by rw [z, p1, e3], by rw [e3]; exact p2, by rw [e5]; exact p3, fun b => ?_⟩
  by_cases hb : b = a
  · rw [hb]; exact ok
  · obtain ⟨q1, q2, q3, q4⟩ := p4 b
    refine ⟨fun c hs hc => ?_, fun t hs ht => ?_, fun hs => ?_, fun hs => ?_⟩
    · rw [e1] at hs
      obtain ⟨r1, r2⟩ := q1 c hs hc
      exact ⟨r1, (r2.kept (oq b hb)).to (fun k _ => (s'.fv hb (kd c k) k).symm)⟩
    · rw [e1] at hs
      obtain ⟨r1, r2⟩ := q2 t hs ht
      refine ⟨r1, ?_⟩
      rw [oq b hb, r2, e2]
      have : (fun j => fv h' (ak t) b j) = (fun j => fv h (ak t) b j) := funext fun j => s'.fv hb (ak t) j
      rw [this]
    · rw [e1] at hs
      obtain ⟨r0, i, r1, r2, r3, r4⟩ := q3 hs
      exact ⟨r0, i, r1, r2, by rw [(e6 b hb 1).1]; exact r3, by rw [(e6 b hb 0).2.2]; exact r4⟩
    · rw [e1] at hs
      obtain ⟨r0, i, r1, r2, r3, r4⟩ := q4 hs
      exact ⟨r0, i, r1, r2, by rw [e2]; exact r3, fun j hj => by rw [(e6 b hb j).1]; exact r4 j hj⟩
/-- a new cell -/
theorem HP.new {D : DD} {h : AH} {H H' : Heap} {c n : Nat} (p : HP D h H) (z : H'.size = H.size + 1) (oq : ∀ q : Nat, q < H.size → H'[q]? = H[q]?) (ok : cOK D (nC h c n) H' (gZ h)) : HP D (nC h c n) H' := by
  have p' := p
  obtain ⟨p1, p2, p3, p4⟩ := p
  refine ⟨by rw [z, p1]; rfl, Nat.le_succ_of_le p2, p3, fun b => ?_⟩
  by_cases hb : b = gZ h
  · rw [hb]; exact ok
  · obtain ⟨q1, q2, q3, q4⟩ := p4 b
    have f1 : gS (nC h c n) b = gS h b := if_neg hb
    have f2 : gN (nC h c n) b = gN h b := if_neg hb
    have f3 : ∀ j, gI (nC h c n) b j = gI h b j := fun j => if_neg hb
    have f4 : ∀ j, gL (nC h c n) b j = gL h b j := fun j => if_neg hb
    have f5 : ∀ j, gR (nC h c n) b j = gR h b j := fun j => if_neg hb
    have f6 : ∀ t j, fv (nC h c n) t b j = fv h t b j := by
      intro t j
      match t with
      | 0 => show Value.int _ = Value.int _; rw [f3]
      | 1 => show Value.long _ = Value.long _; rw [f4]
      | t + 2 => show va_rf _ = va_rf _; rw [f5]
    have lt : ∀ {x : Cell}, H[b]? = some x → b < H.size := fun e => (Array.getElem?_eq_some_iff.mp e).1
    refine ⟨fun c2 hs hc => ?_, fun t hs ht => ?_, fun hs => ?_, fun hs => ?_⟩
    · rw [f1] at hs
      obtain ⟨r1, r2⟩ := q1 c2 hs hc
      have hlt : b < H.size := by obtain ⟨x, hx, -⟩ := r2; exact lt hx
      exact ⟨r1, (r2.kept (oq b hlt)).to (fun k _ => (f6 (kd c2 k) k).symm)⟩
    · rw [f1] at hs
      obtain ⟨r1, r2⟩ := q2 t hs ht
      refine ⟨r1, ?_⟩
      rw [oq b (lt r2), r2, f2]
      have : (fun j => fv (nC h c n) (ak t) b j) = (fun j => fv h (ak t) b j) := funext fun j => f6 (ak t) j
      rw [this]
    · rw [f1] at hs
      obtain ⟨r0, i, r1, r2, r3, r4⟩ := q3 hs
      exact ⟨r0, i, r1, r2, by rw [f3]; exact r3, by rw [f5]; exact r4⟩
    · rw [f1] at hs
      obtain ⟨r0, i, r1, r2, r3, r4⟩ := q4 hs
      exact ⟨r0, i, r1, r2, by rw [f2]; exact r3, fun j hj => by rw [f3]; exact r4 j hj⟩
/-- the cell at an object's address after a store -/
theorem cOK.obj {D : DD} {h h' : AH} {H : Heap} {a c : Nat} (hs : gS h a = c + 1) (hc : c < 100) (e : gS h' = gS h) (ha : dz D ≤ a) (ob : t_OB a (D.1.1 c) (cN c) (D.1.2 c) H (fun k => fv h' (kd c k) a k)) : cOK D h' H a := by
  refine ⟨fun c2 h2 _ => ?_, fun t h2 ht => ?_, fun h2 => ?_, fun h2 => ?_⟩
  · rw [e, hs] at h2
    have : c2 = c := by omega
    subst this
    exact ⟨ha, ob⟩
  · rw [e, hs] at h2; omega
  · rw [e, hs] at h2; omega
  · rw [e, hs] at h2; omega
theorem cOK.arr {D : DD} {h h' : AH} {H : Heap} {a t : Nat} (hs : gS h a = 101 + t) (ht : t < 8) (e : gS h' = gS h) (ha : dz D ≤ a) (ob : H[a]? = some (arrV (D.2.1 t) (gN h' a) (fun j => fv h' (ak t) a j))) : cOK D h' H a := by
  refine ⟨fun c2 h2 hc => ?_, fun t2 h2 _ => ?_, fun h2 => ?_, fun h2 => ?_⟩
  · rw [e, hs] at h2; omega
  · rw [e, hs] at h2
    have : t2 = t := by omega
    subst this
    exact ⟨ha, ob⟩
  · rw [e, hs] at h2; omega
  · rw [e, hs] at h2; omega
/-! WHAT HOLDS ALL THROUGH: classes, words, constants -/
/-- the script: its cell, its length, its ints -/
abbrev sb (D : DD) : Nat := D.2.2.2.1 1000
abbrev sn (D : DD) : Nat := D.2.2.2.1 1001
abbrev sx (D : DD) : Nat → Int32 := fun j => Int32.ofNat (D.2.2.2.1 (2000 + j))
def Amb (D : DD) (s : State) : Prop :=
  va_K D.1 vwCl (tysD D.2.1) s ∧ (∀ w ∈ nwl, va_Nw w s) ∧ (∀ C ∈ aol, va_AO C s) ∧ (∀ q ∈ ncl, va_Nc q.1 q.2 s) ∧
  (∀ q ∈ skl, ∃ a, D.2.2.1 q.2.2.2 = some a ∧ vk_R q.1 q.2.1 q.2.2.1 a s) ∧
  (∀ i, i < nKs → ∃ a, D.2.2.1 i = some a ∧ va_O "java/lang/String" a (dA D) s s.heap ∧ va_OF "java/lang/String" "coder" "B" (.int 0) a (dA D) s s.heap ∧ va_OF "java/lang/String" "value" "[B" (.ref (D.2.2.2.1 i)) a (dA D) s s.heap ∧ va_T .byte (D.2.2.2.1 i) (kLen i) (fun j => .int (kByt i j)) (dA D) s s.heap) ∧
  (∀ q ∈ szl, va_Z q.1 q.2.1 q.2.2.1 (.int q.2.2.2) (dA D) s s.heap) ∧
  (∀ q ∈ srl, va_Z q.1 q.2.1 q.2.2.1 (va_rf (D.2.2.1 q.2.2.2)) (dA D) s s.heap) ∧
  (vx_Zq Bundle.tN "UNASSIGNED_STACK" Bundle.steD (dA D) s s.heap ∧ vx_Zq Bundle.tN "SUPPRESSED_SENTINEL" Bundle.listD (dA D) s s.heap ∧ va_T .int (sb D) (sn D) (fun j => .int (sx D j)) (dA D) s s.heap) ∧
  dz D ≤ s.heap.size
theorem Amb.next {D : DD} {s U : State} (A : Amb D s) (hW : s.WarmedH U.vm) (hz : s.heap.size ≤ U.heap.size) (hq : ∀ q : Nat, q < s.heap.size → ¬ dA D q → U.heap[q]? = s.heap[q]?) : Amb D U := by
  obtain ⟨a1, a2, a3, a4, a5, a6, a7, a8, a10, a9⟩ := A
  refine ⟨va_K.moved hW.alike a1, fun w hw => nwl_warm w hw s U hW (a2 w hw), fun C hC => va_AO.moved hW.alike (a3 C hC), fun q hq => va_Nc.moved hW.alike (a4 q hq), fun q hq => ?_, fun i hi => ?_, fun q h => ?_, fun q h => ?_, ⟨(vx_Zq.moved hW.alike a10.1).kept hq, (vx_Zq.moved hW.alike a10.2.1).kept hq, (va_T.moved hW.alike a10.2.2).kept hq⟩, Nat.le_trans a9 hz⟩
  · obtain ⟨a, e1, e2⟩ := a5 q hq
    exact ⟨a, e1, vk_R.warm hW e2⟩
  · obtain ⟨a, e1, e2, e3, e4, e5⟩ := a6 i hi
    exact ⟨a, e1, (va_O.moved hW.alike e2).kept hq, (va_OF.moved hW.alike e3).kept hq, (va_OF.moved hW.alike e4).kept hq, (va_T.moved hW.alike e5).kept hq⟩
  · exact (va_Z.moved hW.alike (a7 q h)).kept hq
  · exact (va_Z.moved hW.alike (a8 q h)).kept hq
/-! THE JUDGEMENT over the abstract heap -/
abbrev KT : Type := Launch × MethodName × ByteArray × Nat × Option FieldType × String × Nat × DD × AH × AH × (Option Value ⊕ (String × Nat)) × Bool × List (Nat × Nat × Nat × Nat)
abbrev kl (K : KT) : Launch := K.1
abbrev ky (K : KT) : MethodName := K.2.1
abbrev kc (K : KT) : ByteArray := K.2.2.1
abbrev kn (K : KT) : Nat := K.2.2.2.1
abbrev kr (K : KT) : Option FieldType := K.2.2.2.2.1
abbrev ko (K : KT) : String := K.2.2.2.2.2.1
abbrev kF (K : KT) : Nat := K.2.2.2.2.2.2.1
abbrev kD (K : KT) : DD := K.2.2.2.2.2.2.2.1
abbrev k0 (K : KT) : AH := K.2.2.2.2.2.2.2.2.1
abbrev kE (K : KT) : AH := K.2.2.2.2.2.2.2.2.2.1
abbrev kv (K : KT) : Option Value ⊕ (String × Nat) := K.2.2.2.2.2.2.2.2.2.2.1
abbrev kx (K : KT) : Bool := K.2.2.2.2.2.2.2.2.2.2.2.1
abbrev kh (K : KT) : List (Nat × Nat × Nat × Nat) := K.2.2.2.2.2.2.2.2.2.2.2.2
/-- what a contract says at a return, at a throw -/
def aQc (D : DD) (hE : AH) (v : Option Value ⊕ (String × Nat)) : Array Value → State → Outcome → State → Prop := fun _ st o t => (∃ r, v = .inl r ∧ o = .returned r) ∧ HP D hE t.heap ∧ va_F (dA D) st t
def aXC (D : DD) (hE : AH) (v : Option Value ⊕ (String × Nat)) : String → Addr → State → State → Prop := fun E q st t => v = .inr (E, q) ∧ HP D hE t.heap ∧ va_F (dA D) st t
def aPc (D : DD) (h : AH) (As : List Value) : Array Value → State → Prop := va_Pc As (fun U => Amb D U ∧ HP D h U.heap)
/-- the end that a body owes -/
def aQ (K : KT) (below : List Frame) (args : Array Value) (s : State) : State → Prop :=
  if kx K = true then vx_MQ below (aQc (kD K) (kE K) (kv K)) (aXC (kD K) (kE K) (kv K)) args s (gZ (kE K) - gZ (k0 K)) (gQ (kE K) - gQ (k0 K)) (dA (kD K))
  else MQ below (aQc (kD K) (kE K) (kv K)) args s (gZ (kE K) - gZ (k0 K)) (gQ (kE K) - gQ (k0 K)) (dA (kD K))
/-- what is known of a frame of K's method -/
def Cx (K : KT) (p : Program) (R : Room) (s : State) (m : MethodId) (args : Array Value) (meth : Method) (c : Code) : Prop :=
  p.tables.exec = Jvm.exec ∧ c.code = kc K ∧ c.maxLocals = kn K ∧ s.vm.findClass (ko K) = some m.cls ∧ (∀ w ∈ lw_all, w.before args s = true) ∧ Amb (kD K) s ∧ kF K ≤ R.frames ∧ 64 * kF K ≤ R.locals ∧
  gZ (kE K) - gZ (k0 K) ≤ R.cells ∧ gQ (kE K) - gQ (k0 K) ≤ R.slots ∧ gZ (k0 K) = s.heap.size ∧ meth.locks = false ∧ meth.sig.returnType = kr K ∧ meth.name = (ky K).name ∧ c.exceptionTable.toList = tableOf (kh K)
section
variable {K : KT} {p : Program} {R : Room} {s : State} {m : MethodId} {args : Array Value} {meth : Method} {c : Code}
theorem Cx.x (C : Cx K p R s m args meth c) : p.tables.exec = Jvm.exec := C.1
theorem Cx.b (C : Cx K p R s m args meth c) : c.code = kc K := C.2.1
theorem Cx.ml (C : Cx K p R s m args meth c) : c.maxLocals = kn K := C.2.2.1
theorem Cx.o (C : Cx K p R s m args meth c) : s.vm.findClass (ko K) = some m.cls := C.2.2.2.1
theorem Cx.ts (C : Cx K p R s m args meth c) : ∀ w ∈ lw_all, w.before args s = true := C.2.2.2.2.1
theorem Cx.am (C : Cx K p R s m args meth c) : Amb (kD K) s := C.2.2.2.2.2.1
theorem Cx.f (C : Cx K p R s m args meth c) : kF K ≤ R.frames := C.2.2.2.2.2.2.1
theorem Cx.lo (C : Cx K p R s m args meth c) : 64 * kF K ≤ R.locals := C.2.2.2.2.2.2.2.1
theorem Cx.ce (C : Cx K p R s m args meth c) : gZ (kE K) - gZ (k0 K) ≤ R.cells := C.2.2.2.2.2.2.2.2.1
theorem Cx.sl (C : Cx K p R s m args meth c) : gQ (kE K) - gQ (k0 K) ≤ R.slots := C.2.2.2.2.2.2.2.2.2.1
theorem Cx.z (C : Cx K p R s m args meth c) : gZ (k0 K) = s.heap.size := C.2.2.2.2.2.2.2.2.2.2.1
theorem Cx.lk (C : Cx K p R s m args meth c) : meth.locks = false := C.2.2.2.2.2.2.2.2.2.2.2.1
theorem Cx.r (C : Cx K p R s m args meth c) : meth.sig.returnType = kr K := C.2.2.2.2.2.2.2.2.2.2.2.2.1
theorem Cx.nm (C : Cx K p R s m args meth c) : meth.name = (ky K).name := C.2.2.2.2.2.2.2.2.2.2.2.2.2.1
theorem Cx.tb (C : Cx K p R s m args meth c) : c.exceptionTable.toList = tableOf (kh K) := C.2.2.2.2.2.2.2.2.2.2.2.2.2.2
theorem Cx.k (C : Cx K p R s m args meth c) : va_K (kD K).1 vwCl (tysD (kD K).2.1) s := C.am.1
end
/-- at a frame with the abstract heap h: the method comes to its end -/
def AW (K : KT) (h : AH) (pc : Nat) (ls : Array Slot) (st : List Value) : Prop :=
  (gZ h ≤ gZ (kE K) ∧ gQ h ≤ gQ (kE K)) ∧ (gZ (k0 K) ≤ gZ h → gQ (k0 K) ≤ gQ h → ∀ (p : Program) (e : Env) (R : Room) (s : State) (m : MethodId) (args : Array Value) (below : List Frame) (meth : Method) (c : Code), Cx K p R s m args meth c →
    ∀ (H : Heap) (locs : List Loc), HP (kD K) h H → va_S (dA (kD K)) s.heap H locs → W p (kl K) e R s m args below meth c H locs (gZ h - gZ (k0 K)) (gQ h - gQ (k0 K)) (aQ K below args s) (F0 m pc ls st))
/-- the same, q being thrown over the frame -/
def AX (K : KT) (h : AH) (pc : Nat) (ls : Array Slot) (st : List Value) (E : String) (q : Nat) : Prop :=
  (gZ h ≤ gZ (kE K) ∧ gQ h ≤ gQ (kE K)) ∧ (gZ (k0 K) ≤ gZ h → gQ (k0 K) ≤ gQ h → ∀ (p : Program) (e : Env) (R : Room) (s : State) (m : MethodId) (args : Array Value) (below : List Frame) (meth : Method) (c : Code), Cx K p R s m args meth c →
    ∀ (H : Heap) (locs : List Loc), HP (kD K) h H → va_S (dA (kD K)) s.heap H locs → ∀ ce : Cell, H[q]? = some ce → ce.vm = .none → s.vm.findClass E = some ce.cls → vx_W p (kl K) e R s m args below meth c H locs (gZ h - gZ (k0 K)) (gQ h - gQ (k0 K)) (aQ K below args s) (F0 m pc ls st) q)
/-- a contract -/
def AMet (K : KT) (As : List Value) : Prop :=
  (gZ (k0 K) ≤ gZ (kE K) ∧ gQ (k0 K) ≤ gQ (kE K)) ∧
  Met (kl K) (ky K) (ws_ (ky K) (kc K) (kn K) (kr K)) { frames := kF K, cells := gZ (kE K) - gZ (k0 K), slots := gQ (kE K) - gQ (k0 K), locals := 64 * kF K } (aPc (kD K) (k0 K) As) (aQc (kD K) (kE K) (kv K)) (gZ (kE K) - gZ (k0 K)) (gQ (kE K) - gQ (k0 K)) (dA (kD K))
def AMetX (K : KT) (As : List Value) : Prop :=
  (gZ (k0 K) ≤ gZ (kE K) ∧ gQ (k0 K) ≤ gQ (kE K)) ∧
  vx_Met (kl K) (ky K) (ws_ (ky K) (kc K) (kn K) (kr K)) { frames := kF K, cells := gZ (kE K) - gZ (k0 K), slots := gQ (kE K) - gQ (k0 K), locals := 64 * kF K } (aPc (kD K) (k0 K) As) (aQc (kD K) (kE K) (kv K)) (aXC (kD K) (kE K) (kv K)) (gZ (kE K) - gZ (k0 K)) (gQ (kE K) - gQ (k0 K)) (dA (kD K))
theorem aPc.bl {D : DD} {h : AH} {As : List Value} : FrameBlind (aPc D h As) := by
  intro a U g mk q
  obtain ⟨q1, q2, q3⟩ := q
  exact ⟨q1, q2.next (State.WarmedH.refl U) (Nat.le_refl _) (fun _ _ _ => rfl), q3⟩
/-- from the body to the contract -/
theorem AMet.of {K : KT} {As : List Value} (hy : plainName (ky K).cls = true) (hv : ∃ r, kv K = .inl r) (hx : kx K = false) (hh : kh K = []) (ho : (ky K).cls = ko K) (hn : (lg_sl As).length ≤ kn K) (body : ∀ ls, lv_has ls (kn K) (lv_args 0 As) → AW K (k0 K) 0 ls []) : AMet K As := by
  have hl := lv_entry As (n := kn K) hn
  have b0 := body _ hl
  refine ⟨b0.1, ?_⟩
  refine Met.ofW (cc := kc K) (maxL := kn K) (ret := kr K) hy rfl ?_
  intro p e s m args below meth c s₁ B hml hv0
  obtain ⟨rfl, hA, hP⟩ := hv0
  have hts := atoms_spec (ws := ws_ (ky K) (kc K) (kn K) (kr K)) B.pre
  have hts' : ∀ w ∈ lw_all, w.before _ s = true := fun w h => hts w (List.mem_cons_of_mem _ h)
  have ht : c.exceptionTable.toList = tableOf (kh K) := by
    rw [hh]
    obtain ⟨meth9, c9, h1, h2, -, -, -, -, h7, -⟩ := Cond.code_spec B.named (hts _ List.mem_cons_self)
    cases Option.some.inj (h1.symm.trans B.method)
    cases Option.some.inj (h2.symm.trans (Stand.of_body B).code)
    rw [Array.isEmpty_iff.mp h7]
    rfl
  have C : Cx K p (headSpec (ws_ (ky K) (kc K) (kn K) (kr K)) { frames := kF K, cells := gZ (kE K) - gZ (k0 K), slots := gQ (kE K) - gQ (k0 K), locals := 64 * kF K }).room s m As.toArray meth c :=
    ⟨B.exec, B.bytes, hml, ?_, hts', hA, Nat.le_refl _, Nat.le_refl _, Nat.le_refl _, Nat.le_refl _, hP.size.symm, B.notSynchronized, B.returns, (name_of_methodNamed B.named B.method).1, ht⟩
  · have h := b0.2 (Nat.le_refl _) (Nat.le_refl _) p e _ s m As.toArray below meth c C s.heap [] hP va_S.rf
    rw [Nat.sub_self, Nat.sub_self] at h
    rw [lg_entry_eq]
    unfold aQ at h
    rw [if_neg (by rw [hx]; decide)] at h
    exact h
  · rw [← ho]; exact findClass_of_methodNamed B.named
/-- if x comes to o and o is as K says, then G -/
def SP {α : Type} (x : Option α) (Z : α → Prop) (G : Prop) : Prop := ∀ o, x = some o → Z o → G
def bnd {α β : Type} (x : Option α) (f : α → Option β) : Option β := match x with
  | none => none
  | some a => f a
/-- steps until a result -/
def iter {σ ρ : Type} (step : σ → Option (σ ⊕ ρ)) : Nat → σ → Option ρ
  | 0, _ => none
  | n + 1, s => match step s with
    | none => none
    | some (.inl s') => iter step n s'
    | some (.inr r) => some r
def ZL {σ ρ : Type} (P : σ → Prop) (Z : ρ → Prop) : σ ⊕ ρ → Prop := fun o => match o with
  | .inl s => P s
  | .inr r => Z r
section
variable {α β : Type} {Z : α → Prop} {G G' : Prop}
theorem sp_g {c : Prop} {_ : Decidable c} {x : Option α} (k : c → SP x Z G) : SP (if c then x else none) Z G := by
  intro o h z
  by_cases hc : c
  · rw [if_pos hc] at h
    exact k hc o h z
  · rw [if_neg hc] at h
    cases h
theorem sp_if {c : Prop} {_ : Decidable c} {x y : Option α} (k1 : c → SP x Z G) (k2 : ¬ c → SP y Z G) : SP (if c then x else y) Z G := by
  intro o h z
  by_cases hc : c
  · rw [if_pos hc] at h
    exact k1 hc o h z
  · rw [if_neg hc] at h
    exact k2 hc o h z
theorem sp_b {x : Option β} {f : β → Option α} (k : ∀ r, x = some r → SP (f r) Z G) : SP (bnd x f) Z G := by
  intro o h z
  cases x with
  | none => cases h
  | some r => exact k r rfl o h z
theorem sp_m {x : Option α} (f : G' → G) (k : SP x Z G') : SP x Z G := fun o h z => f (k o h z)
theorem sp_n : SP (none : Option α) Z G := fun o h _ => by cases h
theorem sp_r {a : α} (k : Z a → G) : SP (some a) Z G := fun o h z => by cases h; exact k z
theorem sp_c {c : Bool} {x y : Option α} (k1 : c = true → SP x Z G) (k2 : c = false → SP y Z G) : SP (if c = true then x else y) Z G := by
  cases c with
  | true => exact k1 rfl
  | false => exact k2 rfl
theorem sp_loop {σ : Type} {step : σ → Option (σ ⊕ α)} {P : σ → Prop} {n : Nat} {s : σ} (hs : ∀ s, SP (step s) (ZL P Z) (P s)) (k : P s → G) : SP (iter step n s) Z G := by
  intro o h z
  have key : ∀ (n : Nat) (s : σ), iter step n s = some o → P s := by
    intro n
    induction n with
    | zero => intro s h; cases h
    | succ n ih =>
      intro s h
      cases hst : step s with
      | none =>
        simp only [iter, hst] at h
        cases h
      | some o' =>
        cases o' with
        | inl s' =>
          simp only [iter, hst] at h
          exact hs s _ hst (ih s' h)
        | inr r =>
          simp only [iter, hst] at h
          cases h
          exact hs s _ hst z
  exact k (key n s h)
theorem sp_i {σ : Type} {P : σ → Prop} {s : σ} (k : P s → G) : SP (some (Sum.inl s : σ ⊕ α)) (ZL P Z) G := fun o h z => by cases h; exact k z
end
theorem aw_l {K : KT} {h : AH} {pc pc' : Nat} {ls ls' : Array Slot} {st st' : List Value}
    (f : ∀ {p : Program} {e : Env} {R : Room} {s : State} {m : MethodId} {args : Array Value} {below : List Frame} {meth : Method} {c : Code} {H : Heap} {locs : List Loc} {cells slots : Nat} {Q : State → Prop}, Cx K p R s m args meth c →
      W p (kl K) e R s m args below meth c H locs cells slots Q (F0 m pc' ls' st') → W p (kl K) e R s m args below meth c H locs cells slots Q (F0 m pc ls st)) (kk : AW K h pc' ls' st') : AW K h pc ls st :=
  ⟨kk.1, fun z q p e R s m args below meth c C H locs hp hs => f C (kk.2 z q p e R s m args below meth c C H locs hp hs)⟩
theorem aw_s {K : KT} {h : AH} {pc pc' nL : Nat} {ls : Array Slot} {st st' : List Value} {lv' : List (Nat × Value)} (hex : ∃ ls2 : Array Slot, lv_has ls2 nL lv')
    (f : ∀ {p : Program} {e : Env} {R : Room} {s : State} {m : MethodId} {args : Array Value} {below : List Frame} {meth : Method} {c : Code} {H : Heap} {locs : List Loc} {cells slots : Nat} {Q : State → Prop}, Cx K p R s m args meth c →
      (∀ ls2 : Array Slot, lv_has ls2 nL lv' → W p (kl K) e R s m args below meth c H locs cells slots Q (F0 m pc' ls2 st')) → W p (kl K) e R s m args below meth c H locs cells slots Q (F0 m pc ls st)) (kk : ∀ ls2 : Array Slot, lv_has ls2 nL lv' → AW K h pc' ls2 st') : AW K h pc ls st :=
  ⟨(kk _ hex.choose_spec).1, fun z q p e R s m args below meth c C H locs hp hs => f C (fun ls2 hl => (kk ls2 hl).2 z q p e R s m args below meth c C H locs hp hs)⟩
theorem aw_iconst {K : KT} {h : AH} {pc : Nat} {ls : Array Slot} {st : List Value} {n : Int} {v : Int32} (d : decode (kc K) pc = .ok (.iconst n, 1)) (hv : Int32.ofInt n = v) (kk : AW K h (pc + 1) ls (.int v :: st)) : AW K h pc ls (st) := aw_l (fun C k => lv_iconst C.x C.b d hv k) kk
theorem aw_bipush {K : KT} {h : AH} {pc : Nat} {ls : Array Slot} {st : List Value} {n : Int} {v : Int32} (d : decode (kc K) pc = .ok (.bipush n, 2)) (hv : (Int8.ofInt n).toInt32 = v) (kk : AW K h (pc + 2) ls (.int v :: st)) : AW K h pc ls (st) := aw_l (fun C k => lv_bipush C.x C.b d hv k) kk
theorem aw_sipush {K : KT} {h : AH} {pc : Nat} {ls : Array Slot} {st : List Value} {n : Int} {v : Int32} (d : decode (kc K) pc = .ok (.sipush n, 3)) (hv : (Int16.ofInt n).toInt32 = v) (kk : AW K h (pc + 3) ls (.int v :: st)) : AW K h pc ls (st) := aw_l (fun C k => lv_sipush C.x C.b d hv k) kk
theorem aw_lconst {K : KT} {h : AH} {pc : Nat} {ls : Array Slot} {st : List Value} {n : Fin 2} {v : Int64} (d : decode (kc K) pc = .ok (.lconst n, 1)) (hv : Int64.ofNat (n : Nat) = v) (kk : AW K h (pc + 1) ls (.long v :: st)) : AW K h pc ls (st) := aw_l (fun C k => lv_lconst C.x C.b d hv k) kk
theorem aw_iload_n {K : KT} {h : AH} {pc : Nat} {ls : Array Slot} {st : List Value} {k : Fin 4} {i : Nat} {x : Int32} (d : decode (kc K) pc = .ok (.iload_n k, 1)) (hi : (k : Nat) = i) (hl : ls[i]? = some (.val (.int x))) (kk : AW K h (pc + 1) ls (.int x :: st)) : AW K h pc ls (st) := aw_l (fun C k => lv_iload_n C.x C.b d hi hl k) kk
theorem aw_iload {K : KT} {h : AH} {pc : Nat} {ls : Array Slot} {st : List Value} {i : Nat} {x : Int32} (d : decode (kc K) pc = .ok (.iload i, 2)) (hl : ls[i]? = some (.val (.int x))) (kk : AW K h (pc + 2) ls (.int x :: st)) : AW K h pc ls (st) := aw_l (fun C k => lv_iload C.x C.b d hl k) kk
theorem aw_lload_n {K : KT} {h : AH} {pc : Nat} {ls : Array Slot} {st : List Value} {k : Fin 4} {i : Nat} {x : Int64} (d : decode (kc K) pc = .ok (.lload_n k, 1)) (hi : (k : Nat) = i) (hl : ls[i]? = some (.val (.long x))) (kk : AW K h (pc + 1) ls (.long x :: st)) : AW K h pc ls (st) := aw_l (fun C k => lv_lload_n C.x C.b d hi hl k) kk
theorem aw_lload {K : KT} {h : AH} {pc : Nat} {ls : Array Slot} {st : List Value} {i : Nat} {x : Int64} (d : decode (kc K) pc = .ok (.lload i, 2)) (hl : ls[i]? = some (.val (.long x))) (kk : AW K h (pc + 2) ls (.long x :: st)) : AW K h pc ls (st) := aw_l (fun C k => lv_lload C.x C.b d hl k) kk
theorem aw_aload_n {K : KT} {h : AH} {pc : Nat} {ls : Array Slot} {st : List Value} {k : Fin 4} {i : Nat} {x : Nat} (d : decode (kc K) pc = .ok (.aload_n k, 1)) (hi : (k : Nat) = i) (hl : ls[i]? = some (.val (.ref x))) (kk : AW K h (pc + 1) ls (.ref x :: st)) : AW K h pc ls (st) := aw_l (fun C k => lv_aload_n C.x C.b d hi hl k) kk
theorem aw_aload {K : KT} {h : AH} {pc : Nat} {ls : Array Slot} {st : List Value} {i : Nat} {x : Nat} (d : decode (kc K) pc = .ok (.aload i, 2)) (hl : ls[i]? = some (.val (.ref x))) (kk : AW K h (pc + 2) ls (.ref x :: st)) : AW K h pc ls (st) := aw_l (fun C k => lv_aload C.x C.b d hl k) kk
theorem aw_aload_nN {K : KT} {h : AH} {pc : Nat} {ls : Array Slot} {st : List Value} {k : Fin 4} {i : Nat} (d : decode (kc K) pc = .ok (.aload_n k, 1)) (hi : (k : Nat) = i) (hl : ls[i]? = some (.val (.null))) (kk : AW K h (pc + 1) ls (.null :: st)) : AW K h pc ls (st) := aw_l (fun C k => lv_aload_nN C.x C.b d hi hl k) kk
theorem aw_aloadN {K : KT} {h : AH} {pc : Nat} {ls : Array Slot} {st : List Value} {i : Nat} (d : decode (kc K) pc = .ok (.aload i, 2)) (hl : ls[i]? = some (.val (.null))) (kk : AW K h (pc + 2) ls (.null :: st)) : AW K h pc ls (st) := aw_l (fun C k => lv_aloadN C.x C.b d hl k) kk
theorem aw_istore_n {K : KT} {h : AH} {pc : Nat} {ls : Array Slot} {st : List Value} {k : Fin 4} {i nL : Nat} {x : Int32} {lv lv' : List (Nat × Value)} (d : decode (kc K) pc = .ok (.istore_n k, 1)) (hi : (k : Nat) = i) (H : lv_has ls nL lv) (hn : i < nL) (hl : (i, Value.int x) :: lv.filter (fun q => !(q.1 == i) && !(q.1 + 1 == i && q.2.category == 2)) = lv') (kk : ∀ ls2 : Array Slot, lv_has ls2 nL lv' → AW K h (pc + 1) ls2 st) : AW K h pc ls (.int x :: st) := aw_s ((lv_store1 (v := Value.int x) H hn rfl).imp fun _ q => hl ▸ q.2) (fun C k => lv_istore_n C.x C.b d hi H hn hl k) kk
theorem aw_istore {K : KT} {h : AH} {pc : Nat} {ls : Array Slot} {st : List Value} {i nL : Nat} {x : Int32} {lv lv' : List (Nat × Value)} (d : decode (kc K) pc = .ok (.istore i, 2)) (H : lv_has ls nL lv) (hn : i < nL) (hl : (i, Value.int x) :: lv.filter (fun q => !(q.1 == i) && !(q.1 + 1 == i && q.2.category == 2)) = lv') (kk : ∀ ls2 : Array Slot, lv_has ls2 nL lv' → AW K h (pc + 2) ls2 st) : AW K h pc ls (.int x :: st) := aw_s ((lv_store1 (v := Value.int x) H hn rfl).imp fun _ q => hl ▸ q.2) (fun C k => lv_istore C.x C.b d H hn hl k) kk
theorem aw_lstore_n {K : KT} {h : AH} {pc : Nat} {ls : Array Slot} {st : List Value} {k : Fin 4} {i nL : Nat} {x : Int64} {lv lv' : List (Nat × Value)} (d : decode (kc K) pc = .ok (.lstore_n k, 1)) (hi : (k : Nat) = i) (H : lv_has ls nL lv) (hn : i + 1 < nL) (hl : (i, Value.long x) :: lv.filter (fun q => !(q.1 == i) && (!(q.1 == i + 1) && !(q.1 + 1 == i && q.2.category == 2))) = lv') (kk : ∀ ls2 : Array Slot, lv_has ls2 nL lv' → AW K h (pc + 1) ls2 st) : AW K h pc ls (.long x :: st) := aw_s ((lv_store2 (v := Value.long x) H hn rfl).imp fun _ q => hl ▸ q.2) (fun C k => lv_lstore_n C.x C.b d hi H hn hl k) kk
theorem aw_lstore {K : KT} {h : AH} {pc : Nat} {ls : Array Slot} {st : List Value} {i nL : Nat} {x : Int64} {lv lv' : List (Nat × Value)} (d : decode (kc K) pc = .ok (.lstore i, 2)) (H : lv_has ls nL lv) (hn : i + 1 < nL) (hl : (i, Value.long x) :: lv.filter (fun q => !(q.1 == i) && (!(q.1 == i + 1) && !(q.1 + 1 == i && q.2.category == 2))) = lv') (kk : ∀ ls2 : Array Slot, lv_has ls2 nL lv' → AW K h (pc + 2) ls2 st) : AW K h pc ls (.long x :: st) := aw_s ((lv_store2 (v := Value.long x) H hn rfl).imp fun _ q => hl ▸ q.2) (fun C k => lv_lstore C.x C.b d H hn hl k) kk
theorem aw_astore_n {K : KT} {h : AH} {pc : Nat} {ls : Array Slot} {st : List Value} {k : Fin 4} {i nL : Nat} {x : Nat} {lv lv' : List (Nat × Value)} (d : decode (kc K) pc = .ok (.astore_n k, 1)) (hi : (k : Nat) = i) (H : lv_has ls nL lv) (hn : i < nL) (hl : (i, Value.ref x) :: lv.filter (fun q => !(q.1 == i) && !(q.1 + 1 == i && q.2.category == 2)) = lv') (kk : ∀ ls2 : Array Slot, lv_has ls2 nL lv' → AW K h (pc + 1) ls2 st) : AW K h pc ls (.ref x :: st) := aw_s ((lv_store1 (v := Value.ref x) H hn rfl).imp fun _ q => hl ▸ q.2) (fun C k => lv_astore_n C.x C.b d hi H hn hl k) kk
theorem aw_astore {K : KT} {h : AH} {pc : Nat} {ls : Array Slot} {st : List Value} {i nL : Nat} {x : Nat} {lv lv' : List (Nat × Value)} (d : decode (kc K) pc = .ok (.astore i, 2)) (H : lv_has ls nL lv) (hn : i < nL) (hl : (i, Value.ref x) :: lv.filter (fun q => !(q.1 == i) && !(q.1 + 1 == i && q.2.category == 2)) = lv') (kk : ∀ ls2 : Array Slot, lv_has ls2 nL lv' → AW K h (pc + 2) ls2 st) : AW K h pc ls (.ref x :: st) := aw_s ((lv_store1 (v := Value.ref x) H hn rfl).imp fun _ q => hl ▸ q.2) (fun C k => lv_astore C.x C.b d H hn hl k) kk
theorem aw_astore_nN {K : KT} {h : AH} {pc : Nat} {ls : Array Slot} {st : List Value} {k : Fin 4} {i nL : Nat} {lv lv' : List (Nat × Value)} (d : decode (kc K) pc = .ok (.astore_n k, 1)) (hi : (k : Nat) = i) (H : lv_has ls nL lv) (hn : i < nL) (hl : (i, Value.null) :: lv.filter (fun q => !(q.1 == i) && !(q.1 + 1 == i && q.2.category == 2)) = lv') (kk : ∀ ls2 : Array Slot, lv_has ls2 nL lv' → AW K h (pc + 1) ls2 st) : AW K h pc ls (.null :: st) := aw_s ((lv_store1 (v := Value.null) H hn rfl).imp fun _ q => hl ▸ q.2) (fun C k => lv_astore_nN C.x C.b d hi H hn hl k) kk
theorem aw_astoreN {K : KT} {h : AH} {pc : Nat} {ls : Array Slot} {st : List Value} {i nL : Nat} {lv lv' : List (Nat × Value)} (d : decode (kc K) pc = .ok (.astore i, 2)) (H : lv_has ls nL lv) (hn : i < nL) (hl : (i, Value.null) :: lv.filter (fun q => !(q.1 == i) && !(q.1 + 1 == i && q.2.category == 2)) = lv') (kk : ∀ ls2 : Array Slot, lv_has ls2 nL lv' → AW K h (pc + 2) ls2 st) : AW K h pc ls (.null :: st) := aw_s ((lv_store1 (v := Value.null) H hn rfl).imp fun _ q => hl ▸ q.2) (fun C k => lv_astoreN C.x C.b d H hn hl k) kk
theorem aw_iinc {K : KT} {h : AH} {pc : Nat} {ls : Array Slot} {st : List Value} {i nL k : Nat} {n : Int} {x v : Int32} {lv lv' : List (Nat × Value)} (d : decode (kc K) pc = .ok (.iinc i n, 3)) (H : lv_has ls nL lv) (hk : lv[k]? = some (i, .int x)) (hv : x + Int32.ofInt n = v) (hn : i < nL) (hl : (i, Value.int v) :: lv.filter (fun q => !(q.1 == i) && !(q.1 + 1 == i && q.2.category == 2)) = lv') (kk : ∀ ls2 : Array Slot, lv_has ls2 nL lv' → AW K h (pc + 3) ls2 st) : AW K h pc ls st := aw_s ((lv_store1 (v := .int v) H hn rfl).imp fun _ q => hl ▸ q.2) (fun C k => lv_iinc C.x C.b d H hk hv hn hl k) kk
theorem aw_iincW {K : KT} {h : AH} {pc : Nat} {ls : Array Slot} {st : List Value} {i nL k : Nat} {n : Int} {x v : Int32} {lv lv' : List (Nat × Value)} (d : decode (kc K) pc = .ok (.iinc i n, 6)) (H : lv_has ls nL lv) (hk : lv[k]? = some (i, .int x)) (hv : x + Int32.ofInt n = v) (hn : i < nL) (hl : (i, Value.int v) :: lv.filter (fun q => !(q.1 == i) && !(q.1 + 1 == i && q.2.category == 2)) = lv') (kk : ∀ ls2 : Array Slot, lv_has ls2 nL lv' → AW K h (pc + 6) ls2 st) : AW K h pc ls st := aw_s ((lv_store1 (v := .int v) H hn rfl).imp fun _ q => hl ▸ q.2) (fun C k => lv_iincW C.x C.b d H hk hv hn hl k) kk
theorem aw_iadd {K : KT} {h : AH} {pc : Nat} {ls : Array Slot} {st : List Value} {x y : Int32} (d : decode (kc K) pc = .ok (.iadd, 1)) (kk : AW K h (pc + 1) ls (.int (x + y) :: st)) : AW K h pc ls (.int y :: .int x :: st) := aw_l (fun C k => lv_iadd C.x C.b d k) kk
theorem aw_isub {K : KT} {h : AH} {pc : Nat} {ls : Array Slot} {st : List Value} {x y : Int32} (d : decode (kc K) pc = .ok (.isub, 1)) (kk : AW K h (pc + 1) ls (.int (x - y) :: st)) : AW K h pc ls (.int y :: .int x :: st) := aw_l (fun C k => lv_isub C.x C.b d k) kk
theorem aw_imul {K : KT} {h : AH} {pc : Nat} {ls : Array Slot} {st : List Value} {x y : Int32} (d : decode (kc K) pc = .ok (.imul, 1)) (kk : AW K h (pc + 1) ls (.int (x * y) :: st)) : AW K h pc ls (.int y :: .int x :: st) := aw_l (fun C k => lv_imul C.x C.b d k) kk
theorem aw_iand {K : KT} {h : AH} {pc : Nat} {ls : Array Slot} {st : List Value} {x y : Int32} (d : decode (kc K) pc = .ok (.iand, 1)) (kk : AW K h (pc + 1) ls (.int (x &&& y) :: st)) : AW K h pc ls (.int y :: .int x :: st) := aw_l (fun C k => lv_iand C.x C.b d k) kk
theorem aw_ior {K : KT} {h : AH} {pc : Nat} {ls : Array Slot} {st : List Value} {x y : Int32} (d : decode (kc K) pc = .ok (.ior, 1)) (kk : AW K h (pc + 1) ls (.int (x ||| y) :: st)) : AW K h pc ls (.int y :: .int x :: st) := aw_l (fun C k => lv_ior C.x C.b d k) kk
theorem aw_ixor {K : KT} {h : AH} {pc : Nat} {ls : Array Slot} {st : List Value} {x y : Int32} (d : decode (kc K) pc = .ok (.ixor, 1)) (kk : AW K h (pc + 1) ls (.int (x ^^^ y) :: st)) : AW K h pc ls (.int y :: .int x :: st) := aw_l (fun C k => lv_ixor C.x C.b d k) kk
theorem aw_ladd {K : KT} {h : AH} {pc : Nat} {ls : Array Slot} {st : List Value} {x y : Int64} (d : decode (kc K) pc = .ok (.ladd, 1)) (kk : AW K h (pc + 1) ls (.long (x + y) :: st)) : AW K h pc ls (.long y :: .long x :: st) := aw_l (fun C k => lv_ladd C.x C.b d k) kk
theorem aw_lsub {K : KT} {h : AH} {pc : Nat} {ls : Array Slot} {st : List Value} {x y : Int64} (d : decode (kc K) pc = .ok (.lsub, 1)) (kk : AW K h (pc + 1) ls (.long (x - y) :: st)) : AW K h pc ls (.long y :: .long x :: st) := aw_l (fun C k => lv_lsub C.x C.b d k) kk
theorem aw_lmul {K : KT} {h : AH} {pc : Nat} {ls : Array Slot} {st : List Value} {x y : Int64} (d : decode (kc K) pc = .ok (.lmul, 1)) (kk : AW K h (pc + 1) ls (.long (x * y) :: st)) : AW K h pc ls (.long y :: .long x :: st) := aw_l (fun C k => lv_lmul C.x C.b d k) kk
theorem aw_idiv {K : KT} {h : AH} {pc : Nat} {ls : Array Slot} {st : List Value} {x y : Int32} (d : decode (kc K) pc = .ok (.idiv, 1)) (hne : ¬ y = 0) (kk : AW K h (pc + 1) ls (.int (x / y) :: st)) : AW K h pc ls (.int y :: .int x :: st) := aw_l (fun C k => lv_idiv C.x C.b d hne k) kk
theorem aw_irem {K : KT} {h : AH} {pc : Nat} {ls : Array Slot} {st : List Value} {x y : Int32} (d : decode (kc K) pc = .ok (.irem, 1)) (hne : ¬ y = 0) (kk : AW K h (pc + 1) ls (.int (x - x / y * y) :: st)) : AW K h pc ls (.int y :: .int x :: st) := aw_l (fun C k => lv_irem C.x C.b d hne k) kk
theorem aw_ldiv {K : KT} {h : AH} {pc : Nat} {ls : Array Slot} {st : List Value} {x y : Int64} (d : decode (kc K) pc = .ok (.ldiv, 1)) (hne : ¬ y = 0) (kk : AW K h (pc + 1) ls (.long (x / y) :: st)) : AW K h pc ls (.long y :: .long x :: st) := aw_l (fun C k => lv_ldiv C.x C.b d hne k) kk
theorem aw_lrem {K : KT} {h : AH} {pc : Nat} {ls : Array Slot} {st : List Value} {x y : Int64} (d : decode (kc K) pc = .ok (.lrem, 1)) (hne : ¬ y = 0) (kk : AW K h (pc + 1) ls (.long (x - x / y * y) :: st)) : AW K h pc ls (.long y :: .long x :: st) := aw_l (fun C k => lv_lrem C.x C.b d hne k) kk
theorem aw_ineg {K : KT} {h : AH} {pc : Nat} {ls : Array Slot} {st : List Value} {x : Int32} (d : decode (kc K) pc = .ok (.ineg, 1)) (kk : AW K h (pc + 1) ls (.int (-x) :: st)) : AW K h pc ls (.int x :: st) := aw_l (fun C k => lv_ineg C.x C.b d k) kk
theorem aw_lneg {K : KT} {h : AH} {pc : Nat} {ls : Array Slot} {st : List Value} {x : Int64} (d : decode (kc K) pc = .ok (.lneg, 1)) (kk : AW K h (pc + 1) ls (.long (-x) :: st)) : AW K h pc ls (.long x :: st) := aw_l (fun C k => lv_lneg C.x C.b d k) kk
theorem aw_ishl {K : KT} {h : AH} {pc : Nat} {ls : Array Slot} {st : List Value} {x y : Int32} (d : decode (kc K) pc = .ok (.ishl, 1)) (kk : AW K h (pc + 1) ls (.int (x <<< (y &&& 31)) :: st)) : AW K h pc ls (.int y :: .int x :: st) := aw_l (fun C k => lv_ishl C.x C.b d k) kk
theorem aw_ishr {K : KT} {h : AH} {pc : Nat} {ls : Array Slot} {st : List Value} {x y : Int32} (d : decode (kc K) pc = .ok (.ishr, 1)) (kk : AW K h (pc + 1) ls (.int (x >>> (y &&& 31)) :: st)) : AW K h pc ls (.int y :: .int x :: st) := aw_l (fun C k => lv_ishr C.x C.b d k) kk
theorem aw_iushr {K : KT} {h : AH} {pc : Nat} {ls : Array Slot} {st : List Value} {x y : Int32} (d : decode (kc K) pc = .ok (.iushr, 1)) (kk : AW K h (pc + 1) ls (.int ((x.toUInt32 >>> (y.toUInt32 &&& Int32.toUInt32 31)).toInt32) :: st)) : AW K h pc ls (.int y :: .int x :: st) := aw_l (fun C k => lv_iushr C.x C.b d rfl k) kk
theorem aw_i2b {K : KT} {h : AH} {pc : Nat} {ls : Array Slot} {st : List Value} {x : Int32} (d : decode (kc K) pc = .ok (.i2b, 1)) (kk : AW K h (pc + 1) ls (.int x.toInt8.toInt32 :: st)) : AW K h pc ls (.int x :: st) := aw_l (fun C k => lv_i2b C.x C.b d rfl k) kk
theorem aw_i2c {K : KT} {h : AH} {pc : Nat} {ls : Array Slot} {st : List Value} {x : Int32} (d : decode (kc K) pc = .ok (.i2c, 1)) (kk : AW K h (pc + 1) ls (.int (x.toUInt32 % 65536).toInt32 :: st)) : AW K h pc ls (.int x :: st) := aw_l (fun C k => lv_i2c C.x C.b d rfl k) kk
theorem aw_i2l {K : KT} {h : AH} {pc : Nat} {ls : Array Slot} {st : List Value} {x : Int32} (d : decode (kc K) pc = .ok (.i2l, 1)) (kk : AW K h (pc + 1) ls (.long x.toInt64 :: st)) : AW K h pc ls (.int x :: st) := aw_l (fun C k => lv_i2l C.x C.b d rfl k) kk
theorem aw_l2i {K : KT} {h : AH} {pc : Nat} {ls : Array Slot} {st : List Value} {x : Int64} (d : decode (kc K) pc = .ok (.l2i, 1)) (kk : AW K h (pc + 1) ls (.int x.toInt32 :: st)) : AW K h pc ls (.long x :: st) := aw_l (fun C k => lv_l2i C.x C.b d rfl k) kk
theorem aw_lcmp {K : KT} {h : AH} {pc : Nat} {ls : Array Slot} {st : List Value} {x y : Int64} (d : decode (kc K) pc = .ok (.lcmp, 1)) (kk : AW K h (pc + 1) ls (.int (lg_cmp x y) :: st)) : AW K h pc ls (.long y :: .long x :: st) := aw_l (fun C k => W.lcmp C.x C.b d k) kk
theorem aw_dup {K : KT} {h : AH} {pc : Nat} {ls : Array Slot} {st : List Value} {v : Value} (d : decode (kc K) pc = .ok (.dup, 1)) (hv : v.category = 1) (kk : AW K h (pc + 1) ls (v :: v :: st)) : AW K h pc ls (v :: st) := aw_l (fun C k => lv_dup C.x C.b d hv k) kk
theorem aw_dup2 {K : KT} {h : AH} {pc : Nat} {ls : Array Slot} {st : List Value} {v w : Value} (d : decode (kc K) pc = .ok (.dup2, 1)) (hv : v.category = 1) (hw : w.category = 1) (kk : AW K h (pc + 1) ls (v :: w :: v :: w :: st)) : AW K h pc ls (v :: w :: st) := aw_l (fun C k => lv_dup2_11 C.x C.b d hv hw k) kk
theorem aw_pop {K : KT} {h : AH} {pc : Nat} {ls : Array Slot} {st : List Value} {v : Value} (d : decode (kc K) pc = .ok (.pop, 1)) (hv : v.category = 1) (kk : AW K h (pc + 1) ls (st)) : AW K h pc ls (v :: st) := aw_l (fun C k => lv_pop C.x C.b d hv k) kk
theorem aw_null {K : KT} {h : AH} {pc : Nat} {ls : Array Slot} {st : List Value}  (d : decode (kc K) pc = .ok (.aconst_null, 1)) (kk : AW K h (pc + 1) ls (.null :: st)) : AW K h pc ls (st) := aw_l (fun C k => lv_null C.x C.b d k) kk
theorem aw_if_eq_t {K : KT} {h : AH} {pc : Nat} {ls : Array Slot} {st : List Value} {x : Int32} {off : Int} {tgt : Nat} (d : decode (kc K) pc = .ok (.ifCond .eq off, 3)) (ht : (pc : Int) + off = (tgt : Int)) (hc : x = 0) (kk : AW K h (tgt) ls (st)) : AW K h pc ls (.int x :: st) := aw_l (fun C k => lv_if_eq C.x C.b d ht (fun _ => k) (fun q => absurd hc q)) kk
theorem aw_if_eq_f {K : KT} {h : AH} {pc : Nat} {ls : Array Slot} {st : List Value} {x : Int32} {off : Int} {tgt : Nat} (d : decode (kc K) pc = .ok (.ifCond .eq off, 3)) (ht : (pc : Int) + off = (tgt : Int)) (hc : ¬ x = 0) (kk : AW K h (pc + 3) ls (st)) : AW K h pc ls (.int x :: st) := aw_l (fun C k => lv_if_eq C.x C.b d ht (fun q => absurd q hc) (fun _ => k)) kk
theorem aw_icmp_eq_t {K : KT} {h : AH} {pc : Nat} {ls : Array Slot} {st : List Value} {x y : Int32} {off : Int} {tgt : Nat} (d : decode (kc K) pc = .ok (.if_icmp .eq off, 3)) (ht : (pc : Int) + off = (tgt : Int)) (hc : x = y) (kk : AW K h (tgt) ls (st)) : AW K h pc ls (.int y :: .int x :: st) := aw_l (fun C k => lv_icmp_eq C.x C.b d ht (fun _ => k) (fun q => absurd hc q)) kk
theorem aw_icmp_eq_f {K : KT} {h : AH} {pc : Nat} {ls : Array Slot} {st : List Value} {x y : Int32} {off : Int} {tgt : Nat} (d : decode (kc K) pc = .ok (.if_icmp .eq off, 3)) (ht : (pc : Int) + off = (tgt : Int)) (hc : ¬ x = y) (kk : AW K h (pc + 3) ls (st)) : AW K h pc ls (.int y :: .int x :: st) := aw_l (fun C k => lv_icmp_eq C.x C.b d ht (fun q => absurd q hc) (fun _ => k)) kk
theorem aw_if_ne_t {K : KT} {h : AH} {pc : Nat} {ls : Array Slot} {st : List Value} {x : Int32} {off : Int} {tgt : Nat} (d : decode (kc K) pc = .ok (.ifCond .ne off, 3)) (ht : (pc : Int) + off = (tgt : Int)) (hc : ¬ x = 0) (kk : AW K h (tgt) ls (st)) : AW K h pc ls (.int x :: st) := aw_l (fun C k => lv_if_ne C.x C.b d ht (fun _ => k) (fun q => absurd q hc)) kk
theorem aw_if_ne_f {K : KT} {h : AH} {pc : Nat} {ls : Array Slot} {st : List Value} {x : Int32} {off : Int} {tgt : Nat} (d : decode (kc K) pc = .ok (.ifCond .ne off, 3)) (ht : (pc : Int) + off = (tgt : Int)) (hc : x = 0) (kk : AW K h (pc + 3) ls (st)) : AW K h pc ls (.int x :: st) := aw_l (fun C k => lv_if_ne C.x C.b d ht (fun q => absurd hc q) (fun _ => k)) kk
theorem aw_icmp_ne_t {K : KT} {h : AH} {pc : Nat} {ls : Array Slot} {st : List Value} {x y : Int32} {off : Int} {tgt : Nat} (d : decode (kc K) pc = .ok (.if_icmp .ne off, 3)) (ht : (pc : Int) + off = (tgt : Int)) (hc : ¬ x = y) (kk : AW K h (tgt) ls (st)) : AW K h pc ls (.int y :: .int x :: st) := aw_l (fun C k => lv_icmp_ne C.x C.b d ht (fun _ => k) (fun q => absurd q hc)) kk
theorem aw_icmp_ne_f {K : KT} {h : AH} {pc : Nat} {ls : Array Slot} {st : List Value} {x y : Int32} {off : Int} {tgt : Nat} (d : decode (kc K) pc = .ok (.if_icmp .ne off, 3)) (ht : (pc : Int) + off = (tgt : Int)) (hc : x = y) (kk : AW K h (pc + 3) ls (st)) : AW K h pc ls (.int y :: .int x :: st) := aw_l (fun C k => lv_icmp_ne C.x C.b d ht (fun q => absurd hc q) (fun _ => k)) kk
theorem aw_if_lt_t {K : KT} {h : AH} {pc : Nat} {ls : Array Slot} {st : List Value} {x : Int32} {off : Int} {tgt : Nat} (d : decode (kc K) pc = .ok (.ifCond .lt off, 3)) (ht : (pc : Int) + off = (tgt : Int)) (hc : x < 0) (kk : AW K h (tgt) ls (st)) : AW K h pc ls (.int x :: st) := aw_l (fun C k => lv_if_lt C.x C.b d ht (fun _ => k) (fun q => absurd hc q)) kk
theorem aw_if_lt_f {K : KT} {h : AH} {pc : Nat} {ls : Array Slot} {st : List Value} {x : Int32} {off : Int} {tgt : Nat} (d : decode (kc K) pc = .ok (.ifCond .lt off, 3)) (ht : (pc : Int) + off = (tgt : Int)) (hc : ¬ x < 0) (kk : AW K h (pc + 3) ls (st)) : AW K h pc ls (.int x :: st) := aw_l (fun C k => lv_if_lt C.x C.b d ht (fun q => absurd q hc) (fun _ => k)) kk
theorem aw_icmp_lt_t {K : KT} {h : AH} {pc : Nat} {ls : Array Slot} {st : List Value} {x y : Int32} {off : Int} {tgt : Nat} (d : decode (kc K) pc = .ok (.if_icmp .lt off, 3)) (ht : (pc : Int) + off = (tgt : Int)) (hc : x < y) (kk : AW K h (tgt) ls (st)) : AW K h pc ls (.int y :: .int x :: st) := aw_l (fun C k => lv_icmp_lt C.x C.b d ht (fun _ => k) (fun q => absurd hc q)) kk
theorem aw_icmp_lt_f {K : KT} {h : AH} {pc : Nat} {ls : Array Slot} {st : List Value} {x y : Int32} {off : Int} {tgt : Nat} (d : decode (kc K) pc = .ok (.if_icmp .lt off, 3)) (ht : (pc : Int) + off = (tgt : Int)) (hc : ¬ x < y) (kk : AW K h (pc + 3) ls (st)) : AW K h pc ls (.int y :: .int x :: st) := aw_l (fun C k => lv_icmp_lt C.x C.b d ht (fun q => absurd q hc) (fun _ => k)) kk
theorem aw_if_ge_t {K : KT} {h : AH} {pc : Nat} {ls : Array Slot} {st : List Value} {x : Int32} {off : Int} {tgt : Nat} (d : decode (kc K) pc = .ok (.ifCond .ge off, 3)) (ht : (pc : Int) + off = (tgt : Int)) (hc : 0 ≤ x) (kk : AW K h (tgt) ls (st)) : AW K h pc ls (.int x :: st) := aw_l (fun C k => lv_if_ge C.x C.b d ht (fun _ => k) (fun q => absurd hc q)) kk
theorem aw_if_ge_f {K : KT} {h : AH} {pc : Nat} {ls : Array Slot} {st : List Value} {x : Int32} {off : Int} {tgt : Nat} (d : decode (kc K) pc = .ok (.ifCond .ge off, 3)) (ht : (pc : Int) + off = (tgt : Int)) (hc : ¬ 0 ≤ x) (kk : AW K h (pc + 3) ls (st)) : AW K h pc ls (.int x :: st) := aw_l (fun C k => lv_if_ge C.x C.b d ht (fun q => absurd q hc) (fun _ => k)) kk
theorem aw_icmp_ge_t {K : KT} {h : AH} {pc : Nat} {ls : Array Slot} {st : List Value} {x y : Int32} {off : Int} {tgt : Nat} (d : decode (kc K) pc = .ok (.if_icmp .ge off, 3)) (ht : (pc : Int) + off = (tgt : Int)) (hc : y ≤ x) (kk : AW K h (tgt) ls (st)) : AW K h pc ls (.int y :: .int x :: st) := aw_l (fun C k => lv_icmp_ge C.x C.b d ht (fun _ => k) (fun q => absurd hc q)) kk
theorem aw_icmp_ge_f {K : KT} {h : AH} {pc : Nat} {ls : Array Slot} {st : List Value} {x y : Int32} {off : Int} {tgt : Nat} (d : decode (kc K) pc = .ok (.if_icmp .ge off, 3)) (ht : (pc : Int) + off = (tgt : Int)) (hc : ¬ y ≤ x) (kk : AW K h (pc + 3) ls (st)) : AW K h pc ls (.int y :: .int x :: st) := aw_l (fun C k => lv_icmp_ge C.x C.b d ht (fun q => absurd q hc) (fun _ => k)) kk
theorem aw_if_gt_t {K : KT} {h : AH} {pc : Nat} {ls : Array Slot} {st : List Value} {x : Int32} {off : Int} {tgt : Nat} (d : decode (kc K) pc = .ok (.ifCond .gt off, 3)) (ht : (pc : Int) + off = (tgt : Int)) (hc : 0 < x) (kk : AW K h (tgt) ls (st)) : AW K h pc ls (.int x :: st) := aw_l (fun C k => lv_if_gt C.x C.b d ht (fun _ => k) (fun q => absurd hc q)) kk
theorem aw_if_gt_f {K : KT} {h : AH} {pc : Nat} {ls : Array Slot} {st : List Value} {x : Int32} {off : Int} {tgt : Nat} (d : decode (kc K) pc = .ok (.ifCond .gt off, 3)) (ht : (pc : Int) + off = (tgt : Int)) (hc : ¬ 0 < x) (kk : AW K h (pc + 3) ls (st)) : AW K h pc ls (.int x :: st) := aw_l (fun C k => lv_if_gt C.x C.b d ht (fun q => absurd q hc) (fun _ => k)) kk
theorem aw_icmp_gt_t {K : KT} {h : AH} {pc : Nat} {ls : Array Slot} {st : List Value} {x y : Int32} {off : Int} {tgt : Nat} (d : decode (kc K) pc = .ok (.if_icmp .gt off, 3)) (ht : (pc : Int) + off = (tgt : Int)) (hc : y < x) (kk : AW K h (tgt) ls (st)) : AW K h pc ls (.int y :: .int x :: st) := aw_l (fun C k => lv_icmp_gt C.x C.b d ht (fun _ => k) (fun q => absurd hc q)) kk
theorem aw_icmp_gt_f {K : KT} {h : AH} {pc : Nat} {ls : Array Slot} {st : List Value} {x y : Int32} {off : Int} {tgt : Nat} (d : decode (kc K) pc = .ok (.if_icmp .gt off, 3)) (ht : (pc : Int) + off = (tgt : Int)) (hc : ¬ y < x) (kk : AW K h (pc + 3) ls (st)) : AW K h pc ls (.int y :: .int x :: st) := aw_l (fun C k => lv_icmp_gt C.x C.b d ht (fun q => absurd q hc) (fun _ => k)) kk
theorem aw_if_le_t {K : KT} {h : AH} {pc : Nat} {ls : Array Slot} {st : List Value} {x : Int32} {off : Int} {tgt : Nat} (d : decode (kc K) pc = .ok (.ifCond .le off, 3)) (ht : (pc : Int) + off = (tgt : Int)) (hc : x ≤ 0) (kk : AW K h (tgt) ls (st)) : AW K h pc ls (.int x :: st) := aw_l (fun C k => lv_if_le C.x C.b d ht (fun _ => k) (fun q => absurd hc q)) kk
theorem aw_if_le_f {K : KT} {h : AH} {pc : Nat} {ls : Array Slot} {st : List Value} {x : Int32} {off : Int} {tgt : Nat} (d : decode (kc K) pc = .ok (.ifCond .le off, 3)) (ht : (pc : Int) + off = (tgt : Int)) (hc : ¬ x ≤ 0) (kk : AW K h (pc + 3) ls (st)) : AW K h pc ls (.int x :: st) := aw_l (fun C k => lv_if_le C.x C.b d ht (fun q => absurd q hc) (fun _ => k)) kk
theorem aw_icmp_le_t {K : KT} {h : AH} {pc : Nat} {ls : Array Slot} {st : List Value} {x y : Int32} {off : Int} {tgt : Nat} (d : decode (kc K) pc = .ok (.if_icmp .le off, 3)) (ht : (pc : Int) + off = (tgt : Int)) (hc : x ≤ y) (kk : AW K h (tgt) ls (st)) : AW K h pc ls (.int y :: .int x :: st) := aw_l (fun C k => lv_icmp_le C.x C.b d ht (fun _ => k) (fun q => absurd hc q)) kk
theorem aw_icmp_le_f {K : KT} {h : AH} {pc : Nat} {ls : Array Slot} {st : List Value} {x y : Int32} {off : Int} {tgt : Nat} (d : decode (kc K) pc = .ok (.if_icmp .le off, 3)) (ht : (pc : Int) + off = (tgt : Int)) (hc : ¬ x ≤ y) (kk : AW K h (pc + 3) ls (st)) : AW K h pc ls (.int y :: .int x :: st) := aw_l (fun C k => lv_icmp_le C.x C.b d ht (fun q => absurd q hc) (fun _ => k)) kk
theorem aw_acmp_eq_t {K : KT} {h : AH} {pc : Nat} {ls : Array Slot} {st : List Value} {a b : Nat} {off : Int} {tgt : Nat} (d : decode (kc K) pc = .ok (.if_acmp .eq off, 3)) (ht : (pc : Int) + off = (tgt : Int)) (hc : a = b) (kk : AW K h (tgt) ls (st)) : AW K h pc ls (.ref b :: .ref a :: st) := aw_l (fun C k => lv_acmp_eq (rx := some a) (ry := some b) C.x C.b d ht (fun _ => k) (fun q => absurd (congrArg some hc) q)) kk
theorem aw_acmp_eq_f {K : KT} {h : AH} {pc : Nat} {ls : Array Slot} {st : List Value} {a b : Nat} {off : Int} {tgt : Nat} (d : decode (kc K) pc = .ok (.if_acmp .eq off, 3)) (ht : (pc : Int) + off = (tgt : Int)) (hc : ¬ a = b) (kk : AW K h (pc + 3) ls (st)) : AW K h pc ls (.ref b :: .ref a :: st) := aw_l (fun C k => lv_acmp_eq (rx := some a) (ry := some b) C.x C.b d ht (fun q => absurd (Option.some.inj q) hc) (fun _ => k)) kk
theorem aw_acmp_ne_t {K : KT} {h : AH} {pc : Nat} {ls : Array Slot} {st : List Value} {a b : Nat} {off : Int} {tgt : Nat} (d : decode (kc K) pc = .ok (.if_acmp .ne off, 3)) (ht : (pc : Int) + off = (tgt : Int)) (hc : ¬ a = b) (kk : AW K h (tgt) ls (st)) : AW K h pc ls (.ref b :: .ref a :: st) := aw_l (fun C k => lv_acmp_ne (rx := some a) (ry := some b) C.x C.b d ht (fun _ => k) (fun q => absurd (Option.some.inj q) hc)) kk
theorem aw_acmp_ne_f {K : KT} {h : AH} {pc : Nat} {ls : Array Slot} {st : List Value} {a b : Nat} {off : Int} {tgt : Nat} (d : decode (kc K) pc = .ok (.if_acmp .ne off, 3)) (ht : (pc : Int) + off = (tgt : Int)) (hc : a = b) (kk : AW K h (pc + 3) ls (st)) : AW K h pc ls (.ref b :: .ref a :: st) := aw_l (fun C k => lv_acmp_ne (rx := some a) (ry := some b) C.x C.b d ht (fun q => absurd (congrArg some hc) q) (fun _ => k)) kk
theorem aw_lookup {K : KT} {h : AH} {pc : Nat} {ls : Array Slot} {st : List Value} {dflt : Int} {ps : Array (Int × Int)} {len : Nat} {x : Int32} {off : Int} {tgt : Nat} (d : decode (kc K) pc = .ok (.lookupswitch dflt ps, len)) (hp : (ps.toList.zip (ps.toList.drop 1)).all (fun (a, next) => a.1 < next.1) = true) (ho : Op.lookupswitch.offset ps.toList dflt x.toInt = off) (ht : (pc : Int) + off = (tgt : Int)) (kk : AW K h (tgt) ls (st)) : AW K h pc ls (.int x :: st) := aw_l (fun C k => lv_lookup C.x C.b d hp ho ht k) kk
theorem aw_tableOut {K : KT} {h : AH} {pc : Nat} {ls : Array Slot} {st : List Value} {dflt lo hi : Int} {offs : Array Int} {len : Nat} {x : Int32} {tgt : Nat} (d : decode (kc K) pc = .ok (.tableswitch dflt lo hi offs, len)) (hx : x.toInt < lo ∨ hi < x.toInt) (ht : (pc : Int) + dflt = (tgt : Int)) (kk : AW K h (tgt) ls (st)) : AW K h pc ls (.int x :: st) := aw_l (fun C k => lv_tableOut C.x C.b d hx ht k) kk
theorem aw_tableIn {K : KT} {h : AH} {pc : Nat} {ls : Array Slot} {st : List Value} {dflt lo hi : Int} {offs : Array Int} {len : Nat} {x : Int32} {off : Int} {tgt : Nat} (d : decode (kc K) pc = .ok (.tableswitch dflt lo hi offs, len)) (h1 : ¬ x.toInt < lo) (h2 : ¬ hi < x.toInt) (ho : offs[(x.toInt - lo).toNat]? = some off) (ht : (pc : Int) + off = (tgt : Int)) (kk : AW K h (tgt) ls (st)) : AW K h pc ls (.int x :: st) := aw_l (fun C k => lv_tableIn C.x C.b d h1 h2 ho ht k) kk
theorem aw_goto {K : KT} {h : AH} {pc : Nat} {ls : Array Slot} {st : List Value} {off : Int} {tgt : Nat} (d : decode (kc K) pc = .ok (.goto off, 3)) (ht : (pc : Int) + off = (tgt : Int)) (kk : AW K h (tgt) ls (st)) : AW K h pc ls (st) := aw_l (fun C k => lv_goto C.x C.b d ht k) kk
theorem aw_ldc {K : KT} {h : AH} {pc : Nat} {ls : Array Slot} {st : List Value} {index : Nat} {v : Int32} (hq : Jvm.Cond.constant (ko K) index v ∈ lw_all) (d : decode (kc K) pc = .ok (.ldc index, 2)) (kk : AW K h (pc + 2) ls (.int v :: st)) : AW K h pc ls (st) := aw_l (fun C k => lv_ldc C.x C.b C.o (C.ts _ hq) d k) kk
theorem aw_ldcw {K : KT} {h : AH} {pc : Nat} {ls : Array Slot} {st : List Value} {index : Nat} {v : Int32} (hq : Jvm.Cond.constant (ko K) index v ∈ lw_all) (d : decode (kc K) pc = .ok (.ldc_w index, 3)) (kk : AW K h (pc + 3) ls (.int v :: st)) : AW K h pc ls (st) := aw_l (fun C k => lv_ldcw C.x C.b C.o (C.ts _ hq) d k) kk
theorem aw_ldc2 {K : KT} {h : AH} {pc : Nat} {ls : Array Slot} {st : List Value} {index : Nat} {v : Int64} (hq : Jvm.Cond.constantLong (ko K) index v ∈ lw_all) (d : decode (kc K) pc = .ok (.ldc2_w index, 3)) (kk : AW K h (pc + 3) ls (.long v :: st)) : AW K h pc ls (st) := aw_l (fun C k => lv_ldc2 C.x C.b C.o (C.ts _ hq) d k) kk
theorem aw_ifnonnull {K : KT} {h : AH} {pc : Nat} {ls : Array Slot} {st : List Value} {x : Nat} {off : Int} {tgt : Nat} (d : decode (kc K) pc = .ok (.ifnonnull off, 3)) (ht : (pc : Int) + off = (tgt : Int)) (kk : AW K h (tgt) ls (st)) : AW K h pc ls (.ref x :: st) := aw_l (fun C k => lv_ifnonnull C.x C.b d ht k) kk
theorem aw_ifnull {K : KT} {h : AH} {pc : Nat} {ls : Array Slot} {st : List Value} {x : Nat} {off : Int} (d : decode (kc K) pc = .ok (.ifnull off, 3)) (kk : AW K h (pc + 3) ls (st)) : AW K h pc ls (.ref x :: st) := aw_l (fun C k => lv_ifnull C.x C.b d k) kk
theorem aw_ifnullN {K : KT} {h : AH} {pc : Nat} {ls : Array Slot} {st : List Value} {off : Int} {tgt : Nat} (d : decode (kc K) pc = .ok (.ifnull off, 3)) (ht : (pc : Int) + off = (tgt : Int)) (kk : AW K h (tgt) ls (st)) : AW K h pc ls (.null :: st) := aw_l (fun C k => lv_ifnullN C.x C.b d ht k) kk
theorem aw_ifnonnullN {K : KT} {h : AH} {pc : Nat} {ls : Array Slot} {st : List Value} {off : Int} (d : decode (kc K) pc = .ok (.ifnonnull off, 3)) (kk : AW K h (pc + 3) ls (st)) : AW K h pc ls (.null :: st) := aw_l (fun C k => lv_ifnonnullN C.x C.b d k) kk
theorem aw_castN {K : KT} {h : AH} {pc : Nat} {ls : Array Slot} {st : List Value} {index : Nat} (d : decode (kc K) pc = .ok (.checkcast index, 3)) (kk : AW K h (pc + 3) ls (.null :: st)) : AW K h pc ls (.null :: st) := aw_l (fun C k => lv_castN C.x C.b d k) kk
theorem aw_instN {K : KT} {h : AH} {pc : Nat} {ls : Array Slot} {st : List Value} {index : Nat} (d : decode (kc K) pc = .ok (.instanceof index, 3)) (kk : AW K h (pc + 3) ls (.int 0 :: st)) : AW K h pc ls (.null :: st) := aw_l (fun C k => lv_instN C.x C.b d k) kk

/-! objects -/
/-- a class by its number -/
def clsOK (ci : Nat) (Cn : String) (T : u_T) (N : Nat) : Prop := vwCl[ci]? = some (Cn, T, N) ∧ cN ci = N ∧ ci < 100 ∧ (∀ w ∈ u_ws Cn T N, w ∈ lw_all)
theorem clsOK.recv {K : KT} {p : Program} {R : Room} {s : State} {m : MethodId} {args : Array Value} {meth : Method} {c : Code} {ci : Nat} {Cn : String} {T : u_T} {N : Nat} (q : clsOK ci Cn T N) (C : Cx K p R s m args meth c) {h : AH} {H : Heap} (hp : HP (kD K) h H) {a : Nat} (hs : gS h a = ci + 1) : ∃ cell : Cell, H[a]? = some cell ∧ cell.vm.isStatics = false ∧ s.vm.findClass Cn = some cell.cls := by
  obtain ⟨-, cell, g1, g2, g3, -⟩ := hp.obj hs q.2.2.1
  exact ⟨cell, g1, by rw [g3]; rfl, by rw [g2]; exact (C.k.1 ci _ q.1).2.1⟩
/-- a field by the name that javac writes -/
def sameF (ref : String) (T : u_T) (k : Nat) : Prop := (T k).1 = ref ∨ Cond.sameField ref (T k).1 (T k).2.1 (T k).2.2.1 ∈ lw_all
theorem sameF.to {ref : String} {T : u_T} {k : Nat} (q : sameF ref T k) {s : State} {args : Array Value} (ts : ∀ w ∈ lw_all, w.before args s = true) : ∀ x, s.fieldFound? (T k).1 (T k).2.1 (T k).2.2.1 = some x → s.fieldFound? ref (T k).2.1 (T k).2.2.1 = some x := by
  intro x hx
  rcases q with e | e
  · rw [← e]; exact hx
  · exact u_same (ts _ e) x hx
theorem aw_get {K : KT} {h : AH} {pc : Nat} {ls : Array Slot} {st : List Value} {a ci N index k : Nat} {Cn ref : String} {T : u_T} {v : Value} (q : clsOK ci Cn T N) (hs : gS h a = ci + 1) (hk : k < N) (hlink : Cond.fieldLink (ko K) index ref (T k).2.1 (T k).2.2.1 ∈ lw_all) (hsame : sameF ref T k) (hv : fv h (kd ci k) a k = v) (d : decode (kc K) pc = .ok (.getfield index, 3)) (kk : AW K h (pc + 3) ls (v :: st)) : AW K h pc ls (.ref a :: st) := by
  refine ⟨kk.1, fun z1 z2 p e R s m args below meth c C H locs hp hS => ?_⟩
  obtain ⟨ha, cell, q1, q2, q3, q4⟩ := hp.obj hs q.2.2.1
  obtain ⟨hSl, hfc, kC, hkC, hkind⟩ := C.k.1 ci _ q.1
  obtain ⟨cf, kf, fi, f, hi, hsl⟩ := hSl k hk
  refine W.getf C.x C.b C.o (C.ts _ hlink) (hsame.to C.ts _ hi) (u_facts hfc hkC (u_lays C.ts q.2.2.2 hk) hi).1 q1 (by rw [q3]; exact fun h => by cases h) (v := v) ?_ rfl rfl d (kk.2 z1 z2 p e R s m args below meth c C H locs hp hS)
  rw [← hv, hsl]
  exact q4 k (by rw [q.2.1]; exact hk)
/-- across a nest -/
theorem aw_getN {K : KT} {h : AH} {pc : Nat} {ls : Array Slot} {st : List Value} {a ci N index k : Nat} {Cn ref host : String} {T : u_T} {v : Value} (q : clsOK ci Cn T N) (hs : gS h a = ci + 1) (hk : k < N) (hlink : Cond.fieldLinkNest (ko K) index ref (T k).2.1 (T k).2.2.1 host ∈ nwl) (hr : ref = (T k).1) (hv : fv h (kd ci k) a k = v) (d : decode (kc K) pc = .ok (.getfield index, 3)) (kk : AW K h (pc + 3) ls (v :: st)) : AW K h pc ls (.ref a :: st) := by
  refine ⟨kk.1, fun z1 z2 p e R s m args below meth c C H locs hp hS => ?_⟩
  obtain ⟨ha, cell, q1, q2, q3, q4⟩ := hp.obj hs q.2.2.1
  obtain ⟨hSl, hfc, kC, hkC, hkind⟩ := C.k.1 ci _ q.1
  obtain ⟨cf, kf, fi, f, hi, hsl⟩ := hSl k hk
  refine va_Wgetf C.x C.b C.o (va_Nw.use rfl (C.am.2.1 _ hlink)) (by rw [hr]; exact hi) (u_facts hfc hkC (u_lays C.ts q.2.2.2 hk) hi).1 q1 (by rw [q3]; exact fun h => by cases h) (v := v) ?_ rfl rfl d (kk.2 z1 z2 p e R s m args below meth c C H locs hp hS)
  rw [← hv, hsl]
  exact q4 k (by rw [q.2.1]; exact hk)
theorem aS_put {A : Nat → Prop} {H0 H H1 : Heap} {locs : List Loc} {a k : Nat} (h : va_S A H0 H locs) (z : H1.size = H.size) (oq : ∀ q : Nat, q ≠ a → H1[q]? = H[q]?) (ha : A a) : va_S A H0 H1 (locs ++ [⟨a, k⟩]) := h.put z oq ha
/-- the abstract heap with v at (a, k) -/
def hasV (h h' : AH) (a k : Nat) (t : Nat) (v : Value) : Prop := sOff h h' a ∧ fv h' t a k = v ∧ ∀ t2 j, j ≠ k → fv h' t2 a j = fv h t2 a j
theorem hasV_I (h : AH) (a k : Nat) (v : Int32) : hasV h (uI h a k v) a k 0 (.int v) := by
  refine ⟨sOff_I h a k v, ?_, fun t j hj => ?_⟩
  · show Value.int (if a = a ∧ k = k then v else _) = _
    rw [if_pos ⟨rfl, rfl⟩]
  · match t with
    | 0 => show Value.int (if a = a ∧ j = k then v else _) = _; rw [if_neg (fun q => hj q.2)]; rfl
    | 1 => rfl
    | t + 2 => rfl
theorem hasV_L (h : AH) (a k : Nat) (v : Int64) : hasV h (uL h a k v) a k 1 (.long v) := by
  refine ⟨sOff_L h a k v, ?_, fun t j hj => ?_⟩
  · show Value.long (if a = a ∧ k = k then v else _) = _
    rw [if_pos ⟨rfl, rfl⟩]
  · match t with
    | 0 => rfl
    | 1 => show Value.long (if a = a ∧ j = k then v else _) = _; rw [if_neg (fun q => hj q.2)]; rfl
    | t + 2 => rfl
theorem hasV_R (h : AH) (a k : Nat) (v : Option Nat) : hasV h (uR h a k v) a k 2 (va_rf v) := by
  refine ⟨sOff_R h a k v, ?_, fun t j hj => ?_⟩
  · show va_rf (if a = a ∧ k = k then v else _) = _
    rw [if_pos ⟨rfl, rfl⟩]
  · match t with
    | 0 => rfl
    | 1 => rfl
    | t + 2 => show va_rf (if a = a ∧ j = k then v else _) = _; rw [if_neg (fun q => hj q.2)]; rfl
theorem hasV.obj {h h' : AH} {a k c N : Nat} {v : Value} (w : hasV h h' a k (kd c k) v) : ∀ j, j < N → updV (fun j => fv h (kd c j) a j) k v j = fv h' (kd c j) a j := by
  intro j _
  unfold updV
  by_cases hj : j = k
  · subst hj
    rw [if_pos rfl, w.2.1]
  · rw [if_neg hj, w.2.2 _ j hj]
/-- the class's tables, for stores -/
def clsP (T : u_T) (N : Nat) (ty : Nat → FieldType) : Prop := (∀ k, k < N → parseFieldDescriptor (T k).2.2.1 = some (ty k)) ∧ ∀ a, a < N → ∀ b, b < N → a ≠ b → (T a).2.1 ≠ (T b).2.1
theorem aw_put {K : KT} {h h' : AH} {pc : Nat} {ls : Array Slot} {st : List Value} {a ci N index k : Nat} {Cn ref : String} {T : u_T} {ty : Nat → FieldType} {v : Value} (q : clsOK ci Cn T N) (qp : clsP T N ty) (hs : gS h a = ci + 1) (hk : k < N) (hlink : Cond.fieldLink (ko K) index ref (T k).2.1 (T k).2.2.1 ∈ lw_all) (hsame : sameF ref T k) (hfin : (T k).2.2.2 = false ∨ ((T k).2.2.2 = true ∧ (ky K).name = "<init>" ∧ (T k).1 = ko K)) (hw : hasV h h' a k (kd ci k) v) (hn : narrow (ty k) v = v) (hf : fits (ty k) v = true) (d : decode (kc K) pc = .ok (.putfield index, 3)) (kk : AW K h' (pc + 3) ls st) : AW K h pc ls (v :: .ref a :: st) := by
  have e := hw.1
  refine ⟨by rw [← e.2.2.1, ← e.2.2.2.1]; exact kk.1, fun z1 z2 p e' R s m args below meth c C H locs hp hS => ?_⟩
  have k2 := kk.2 (by rw [e.2.2.1]; exact z1) (by rw [e.2.2.2.1]; exact z2) p e' R s m args below meth c C
  rw [e.2.2.1, e.2.2.2.1] at k2
  have hap := va_apart (own := ko K) C.ts q.2.2.2 ty qp.1 qp.2 C.k q.1
  obtain ⟨ha, cell, q1, q2, q3, q4⟩ := hp.obj hs q.2.2.1
  have qi := C.k.1 ci _ q.1
  obtain ⟨hSl, hfc, kC, hkC, hkind⟩ := qi
  obtain ⟨cf, kf, fi, f, hi, hsl⟩ := hSl k hk
  have hlay := C.ts _ (q.2.2.2 _ (u_in_lay hk))
  have hst := (u_facts hfc hkC (u_lays C.ts q.2.2.2 hk) hi).1
  have hN : cN ci = N := q.2.1
  have hslot : f.slot < cell.slots.size := by rw [hsl]; exact k2_hasslot (q4 k (by rw [hN]; exact hk))
  have fin : ∀ H' : Heap, H'[a]? = some (cell.setSlot f.slot v) → H'.size = H.size → (∀ q, q ≠ a → H'[q]? = H[q]?) → W p (kl K) e' R s m args below meth c H' (locs ++ [⟨a, f.slot⟩]) (gZ h - gZ (k0 K)) (gQ h - gQ (k0 K)) (aQ K below args s) (F0 m (pc + 3) ls st) := by
    intro H' e1 e2 e3
    refine k2 H' _ (hp.set hw.1 e2 e3 (cOK.obj hs q.2.2.1 hw.1.1 ha ?_)) (hS.put e2 e3 ha)
    refine t_OB.to (V := updV (fun j => fv h (kd ci j) a j) k v) ⟨_, e1, q2, q3, ?_⟩ (hw.obj)
    rw [hsl, hN]
    exact t_set (by rw [← hN]; exact q4) hap hk v
  rcases hfin with hfin | ⟨hfin, hin2, hdecl⟩
  · unfold u_lay at hlay
    rw [if_neg (by rw [hfin]; decide)] at hlay
    have h6 := u_store hfc hkC hkind hlay hi (qp.1 k hk) hn hf
    exact W.putK C.x C.b (f := f) ⟨C.o, C.ts _ hlink, ⟨_, _, _, hsame.to C.ts _ hi⟩, hst⟩ (by rw [q2]; exact h6) q1 q3 hslot rfl rfl d fin
  · unfold u_lay at hlay
    rw [if_pos hfin] at hlay
    have hcf : m.cls = cf := by
      obtain ⟨_, _, c', _, _, _, -, -, hf', -, -, -, hown2, -⟩ := Cond.laysFinal_spec hlay
      have e1 : c' = cf := by have := hi.symm.trans hf'; simp at this; exact this.1.symm
      rw [hdecl] at hown2
      rw [← e1]; exact Option.some.inj (C.o.symm.trans hown2)
    have h6 := u_fits hfc hkC hkind (Or.inr hlay) hi (qp.1 k hk) hn hf
    exact W.putFinK C.x C.b C.o (C.ts _ hlink) (hsame.to C.ts _ hi) hst hcf (by rw [C.nm]; exact hin2) (by rw [q2]; exact h6) q1 q3 hslot rfl rfl d fin
/-! arrays -/
theorem fv_i (h : AH) (a : Nat) : (fun j => fv h 0 a j) = (fun j => Value.int (gI h a j)) := rfl
theorem aw_alen {K : KT} {h : AH} {pc : Nat} {ls : Array Slot} {st : List Value} {a t : Nat} {v : Int32} (hs : gS h a = 101 + t) (ht : t < 8) (hv : Int32.ofNat (gN h a) = v) (d : decode (kc K) pc = .ok (.arraylength, 1)) (kk : AW K h (pc + 1) ls (.int v :: st)) : AW K h pc ls (.ref a :: st) := by
  refine ⟨kk.1, fun z1 z2 p e R s m args below meth c C H locs hp hS => ?_⟩
  exact W.alen C.x C.b (hp.arr hs ht).2 ((C.k.2 t _ (tysD_at _ t ht)).1 _ _) (by rw [arrV_size]; exact hv) rfl rfl d (kk.2 z1 z2 p e R s m args below meth c C H locs hp hS)
theorem aw_iald {K : KT} {h : AH} {pc : Nat} {ls : Array Slot} {st : List Value} {a : Nat} {i : Int32} (hs : gS h a = 101) (hin : inb i (gN h a)) (d : decode (kc K) pc = .ok (.iaload, 1)) (kk : AW K h (pc + 1) ls (.int (gI h a (ix i)) :: st)) : AW K h pc ls (.int i :: .ref a :: st) := by
  refine ⟨kk.1, fun z1 z2 p e R s m args below meth c C H locs hp hS => ?_⟩
  have hlt : ix i < gN h a := Nat.not_le.mp fun q => hin (Or.inr q)
  exact W.iald (v := .int (gI h a (ix i))) C.x C.b (hp.arr (t := 0) hs (by decide)).2 ((C.k.2 0 _ (tysD_at _ 0 (by decide))).1 _ _) (fun q => by cases q) (by rw [arrV_size]; exact hin) (by rw [arrV_read _ _ hlt]; rfl) rfl rfl d (kk.2 z1 z2 p e R s m args below meth c C H locs hp hS)
theorem aw_bald {K : KT} {h : AH} {pc : Nat} {ls : Array Slot} {st : List Value} {a : Nat} {i : Int32} (hs : gS h a = 102) (hin : inb i (gN h a)) (d : decode (kc K) pc = .ok (.baload, 1)) (kk : AW K h (pc + 1) ls (.int (gI h a (ix i)) :: st)) : AW K h pc ls (.int i :: .ref a :: st) := by
  refine ⟨kk.1, fun z1 z2 p e R s m args below meth c C H locs hp hS => ?_⟩
  have hlt : ix i < gN h a := Nat.not_le.mp fun q => hin (Or.inr q)
  exact W.bald (v := .int (gI h a (ix i))) C.x C.b (hp.arr (t := 1) hs (by decide)).2 ((C.k.2 1 _ (tysD_at _ 1 (by decide))).1 _ _) (fun q => by cases q) (by rw [arrV_size]; exact hin) (by rw [arrV_read _ _ hlt]; rfl) rfl rfl d (kk.2 z1 z2 p e R s m args below meth c C H locs hp hS)
theorem aw_cald {K : KT} {h : AH} {pc : Nat} {ls : Array Slot} {st : List Value} {a : Nat} {i : Int32} (hs : gS h a = 103) (hin : inb i (gN h a)) (d : decode (kc K) pc = .ok (.caload, 1)) (kk : AW K h (pc + 1) ls (.int (gI h a (ix i)) :: st)) : AW K h pc ls (.int i :: .ref a :: st) := by
  refine ⟨kk.1, fun z1 z2 p e R s m args below meth c C H locs hp hS => ?_⟩
  have hlt : ix i < gN h a := Nat.not_le.mp fun q => hin (Or.inr q)
  exact W.cald (v := .int (gI h a (ix i))) C.x C.b (hp.arr (t := 2) hs (by decide)).2 ((C.k.2 2 _ (tysD_at _ 2 (by decide))).1 _ _) (fun q => by cases q) (by rw [arrV_size]; exact hin) (by rw [arrV_read _ _ hlt]; rfl) rfl rfl d (kk.2 z1 z2 p e R s m args below meth c C H locs hp hS)
theorem aw_lald {K : KT} {h : AH} {pc : Nat} {ls : Array Slot} {st : List Value} {a : Nat} {i : Int32} (hs : gS h a = 104) (hin : inb i (gN h a)) (d : decode (kc K) pc = .ok (.laload, 1)) (kk : AW K h (pc + 1) ls (.long (gL h a (ix i)) :: st)) : AW K h pc ls (.int i :: .ref a :: st) := by
  refine ⟨kk.1, fun z1 z2 p e R s m args below meth c C H locs hp hS => ?_⟩
  have hlt : ix i < gN h a := Nat.not_le.mp fun q => hin (Or.inr q)
  exact W.lald (v := .long (gL h a (ix i))) C.x C.b (hp.arr (t := 3) hs (by decide)).2 ((C.k.2 3 _ (tysD_at _ 3 (by decide))).1 _ _) (fun q => by cases q) (by rw [arrV_size]; exact hin) (by rw [arrV_read _ _ hlt]; rfl) rfl rfl d (kk.2 z1 z2 p e R s m args below meth c C H locs hp hS)
theorem aw_aald {K : KT} {h : AH} {pc : Nat} {ls : Array Slot} {st : List Value} {a t : Nat} {i : Int32} {v : Value} (hs : gS h a = 101 + t) (ht : t < 8) (hr : (aty t).isReference = true) (hk : ak t = 2) (hin : inb i (gN h a)) (hv : va_rf (gR h a (ix i)) = v) (d : decode (kc K) pc = .ok (.aaload, 1)) (kk : AW K h (pc + 1) ls (v :: st)) : AW K h pc ls (.int i :: .ref a :: st) := by
  refine ⟨kk.1, fun z1 z2 p e R s m args below meth c C H locs hp hS => ?_⟩
  have hlt : ix i < gN h a := Nat.not_le.mp fun q => hin (Or.inr q)
  exact W.aald (v := v) C.x C.b (hp.arr hs ht).2 ((C.k.2 t _ (tysD_at _ t ht)).1 _ _) hr (fun q => by cases q) (by rw [arrV_size]; exact hin) (by rw [arrV_read _ _ hlt, hk, ← hv]; rfl) rfl rfl d (kk.2 z1 z2 p e R s m args below meth c C H locs hp hS)
/-- stores -/
theorem aw_xast {K : KT} {h h' : AH} {pc : Nat} {ls : Array Slot} {st : List Value} {a t : Nat} {i : Int32} {st0 : List Value} {v : Value} (hs : gS h a = 101 + t) (ht : t < 8) (hw : hasV h h' a (ix i) (ak t) v)
    (f : ∀ {p : Program} {e : Env} {R : Room} {s : State} {m : MethodId} {args : Array Value} {below : List Frame} {meth : Method} {c : Code} {H : Heap} {locs : List Loc} {cells slots : Nat} {Q : State → Prop}, Cx K p R s m args meth c → H[a]? = some (arrV ((kD K).2.1 t) (gN h a) (fun j => fv h (ak t) a j)) → s.isArrayOf (arrV ((kD K).2.1 t) (gN h a) (fun j => fv h (ak t) a j)) (aty t) →
      (∀ H' : Heap, H'[a]? = some ((arrV ((kD K).2.1 t) (gN h a) (fun j => fv h (ak t) a j)).setSlot (ix i) v) → H'.size = H.size → (∀ q, q ≠ a → H'[q]? = H[q]?) → W p (kl K) e R s m args below meth c H' (locs ++ [⟨a, ix i⟩]) cells slots Q (F0 m (pc + 1) ls st)) → HP (kD K) h H → W p (kl K) e R s m args below meth c H locs cells slots Q (F0 m pc ls st0)) (kk : AW K h' (pc + 1) ls st) : AW K h pc ls st0 := by
  have e := hw.1
  refine ⟨by rw [← e.2.2.1, ← e.2.2.2.1]; exact kk.1, fun z1 z2 p e' R s m args below meth c C H locs hp hS => ?_⟩
  have k2 := kk.2 (by rw [e.2.2.1]; exact z1) (by rw [e.2.2.2.1]; exact z2) p e' R s m args below meth c C
  rw [e.2.2.1, e.2.2.2.1] at k2
  refine f C (hp.arr hs ht).2 ((C.k.2 t _ (tysD_at _ t ht)).1 _ _) (fun H' e1 e2 e3 => k2 H' _ (hp.set e e2 e3 (cOK.arr hs ht e.1 (hp.arr hs ht).1 ?_)) (hS.put e2 e3 (hp.arr hs ht).1)) hp
  rw [e1, arrV_store, e.2.1]
  congr 2
  funext j
  unfold updV
  by_cases hj : j = ix i
  · subst hj
    rw [if_pos rfl, hw.2.1]
  · rw [if_neg hj, hw.2.2 _ j hj]
theorem aw_iast {K : KT} {h : AH} {pc : Nat} {ls : Array Slot} {st : List Value} {a : Nat} {i x : Int32} (hs : gS h a = 101) (hin : inb i (gN h a)) (d : decode (kc K) pc = .ok (.iastore, 1)) (kk : AW K (uI h a (ix i) x) (pc + 1) ls st) : AW K h pc ls (.int x :: .int i :: .ref a :: st) :=
  aw_xast (t := 0) hs (by decide) (hasV_I h a (ix i) x) (fun C h1 h2 h3 _ => W.iast C.x C.b h1 h2 (fun q => by cases q) (by rw [arrV_size]; exact hin) rfl rfl d h3) kk
theorem aw_bast {K : KT} {h : AH} {pc : Nat} {ls : Array Slot} {st : List Value} {a : Nat} {i x : Int32} (hs : gS h a = 102) (hin : inb i (gN h a)) (d : decode (kc K) pc = .ok (.bastore, 1)) (kk : AW K (uI h a (ix i) x.toInt8.toInt32) (pc + 1) ls st) : AW K h pc ls (.int x :: .int i :: .ref a :: st) :=
  aw_xast (t := 1) hs (by decide) (hasV_I h a (ix i) x.toInt8.toInt32) (fun C h1 h2 h3 _ => W.bast C.x C.b h1 h2 (fun q => by cases q) (by rw [arrV_size]; exact hin) rfl rfl d h3) kk
theorem aw_cast {K : KT} {h : AH} {pc : Nat} {ls : Array Slot} {st : List Value} {a : Nat} {i x : Int32} (hs : gS h a = 103) (hin : inb i (gN h a)) (d : decode (kc K) pc = .ok (.castore, 1)) (kk : AW K (uI h a (ix i) x.toUInt32.toUInt16.toUInt32.toInt32) (pc + 1) ls st) : AW K h pc ls (.int x :: .int i :: .ref a :: st) :=
  aw_xast (t := 2) hs (by decide) (hasV_I h a (ix i) x.toUInt32.toUInt16.toUInt32.toInt32) (fun C h1 h2 h3 _ => W.cast C.x C.b h1 h2 (fun q => by cases q) (by rw [arrV_size]; exact hin) rfl rfl d h3) kk
theorem aw_last {K : KT} {h : AH} {pc : Nat} {ls : Array Slot} {st : List Value} {a : Nat} {i : Int32} {x : Int64} (hs : gS h a = 104) (hin : inb i (gN h a)) (d : decode (kc K) pc = .ok (.lastore, 1)) (kk : AW K (uL h a (ix i) x) (pc + 1) ls st) : AW K h pc ls (.long x :: .int i :: .ref a :: st) :=
  aw_xast (t := 3) hs (by decide) (hasV_L h a (ix i) x) (fun C h1 h2 h3 _ => W.last C.x C.b h1 h2 (fun q => by cases q) (by rw [arrV_size]; exact hin) rfl rfl d h3) kk
theorem isArr_k {s : State} {cell : Cell} {ty : FieldType} (h : s.isArrayOf cell ty) : (∀ q, cell.vm ≠ .statics q) ∧ ∃ k, s.vm.classes[cell.cls]? = some k ∧ ∃ comp, k.kind = .array comp ty := h
/-- an object into an array of its class, or of a class above -/
theorem aw_aast {K : KT} {h : AH} {pc : Nat} {ls : Array Slot} {st : List Value} {a t b ci N : Nat} {Cn Cc : String} {T : u_T} {i : Int32} (hs : gS h a = 101 + t) (ht : t < 8) (hty : aty t = .object Cc) (hk : ak t = 2) (q : clsOK ci Cn T N) (hb : gS h b = ci + 1) (hcast : Cn = Cc ∨ Cond.castable Cn Cc ∈ nwl) (hin : inb i (gN h a)) (d : decode (kc K) pc = .ok (.aastore, 1)) (kk : AW K (uR h a (ix i) (some b)) (pc + 1) ls st) : AW K h pc ls (.ref b :: .int i :: .ref a :: st) := by
  refine aw_xast (t := t) hs ht (by rw [hk]; exact hasV_R h a (ix i) (some b)) (fun {p e R s m args below meth c H locs cells slots Q} C h1 h2 h3 hp => ?_) kk
  obtain ⟨kA, comp, g1, g2, g3, g4⟩ : va_RA s ((kD K).2.1 t) (.object Cc) := by rw [← hty]; exact (C.k.2 t _ (tysD_at _ t ht)).2
  obtain ⟨cB, w1, w2, w3⟩ := q.recv C hp hb
  obtain ⟨hSl, hfc, kC, hkC, hkind⟩ := C.k.1 ci _ q.1
  have hcls : cB.cls = (kD K).1.1 ci := Option.some.inj (w3.symm.trans hfc)
  have hasg : s.vm.assignable cB.cls comp = true := by
    rcases hcast with e | e
    · subst e
      have : comp = cB.cls := Option.some.inj (g3.symm.trans w3)
      rw [this, hcls]
      exact va_assign ⟨hfc, kC, hkC, hkind⟩
    · obtain ⟨c3, c4, hc3, hc4, hasg⟩ := Cond.castable_spec (va_Nw.use (A := args) rfl (C.am.2.1 _ e))
      cases Option.some.inj (hc3.symm.trans w3)
      cases Option.some.inj (hc4.symm.trans g3)
      exact hasg
  obtain ⟨kcomp, hkcomp, -⟩ := Vm.findClass_spec g3
  exact W.aast C.x C.b h1 (fun q e => by cases e) (fun e => by cases e) g1 g2 rfl hkcomp (by rw [arrV_size]; exact ⟨fun z => hin (Or.inl z), Nat.not_le.mp fun z => hin (Or.inr z)⟩) w1 (fun q e => by rw [e] at w2; cases w2) (by rw [hcls]; exact hkC) hasg rfl rfl d h3
/-! new cells -/
theorem kdef (t : Nat) (ty : FieldType) (h : AH) (a k : Nat) (e : (t = 0 ∧ defaultValue ty = .int 0) ∨ (t = 1 ∧ defaultValue ty = .long 0) ∨ (t = 2 ∧ defaultValue ty = .null)) (hI : gI h a k = 0) (hL : gL h a k = 0) (hR : gR h a k = none) : defaultValue ty = fv h t a k := by
  rcases e with ⟨rfl, e⟩ | ⟨rfl, e⟩ | ⟨rfl, e⟩
  · rw [e]; show _ = Value.int _; rw [hI]
  · rw [e]; show _ = Value.long _; rw [hL]
  · rw [e]; show _ = va_rf _; rw [hR]; rfl
/-- the fields' kinds are the tables' -/
def clsD (ci N : Nat) (ty : Nat → FieldType) : Prop := ∀ k, k < N → (kd ci k = 0 ∧ defaultValue (ty k) = .int 0) ∨ (kd ci k = 1 ∧ defaultValue (ty k) = .long 0) ∨ (kd ci k = 2 ∧ defaultValue (ty k) = .null)
theorem nC_new (h : AH) (c n : Nat) : gS (nC h c n) (gZ h) = c ∧ gN (nC h c n) (gZ h) = n ∧ (∀ j, gI (nC h c n) (gZ h) j = 0) ∧ (∀ j, gL (nC h c n) (gZ h) j = 0) ∧ ∀ j, gR (nC h c n) (gZ h) j = none := ⟨if_pos rfl, if_pos rfl, fun _ => if_pos rfl, fun _ => if_pos rfl, fun _ => if_pos rfl⟩
theorem aw_new {K : KT} {h : AH} {pc : Nat} {ls : Array Slot} {st : List Value} {ci N index : Nat} {Cn : String} {T : u_T} {ty : Nat → FieldType} (q : clsOK ci Cn T N) (qp : clsP T N ty) (qd : clsD ci N ty) (hcl : Cond.classLink (ko K) index Cn ∈ lw_all) (hinst : Cond.instantiable Cn N ∈ lw_all) (hini : Cond.initialized Cn ∈ lw_all) (d : decode (kc K) pc = .ok (.new index, 3)) (kk : AW K (nC h (ci + 1) N) (pc + 3) ls (.ref (gZ h) :: st)) : AW K h pc ls st := by
  have hz : gZ h + 1 ≤ gZ (kE K) := kk.1.1
  have hq : gQ h + N ≤ gQ (kE K) := kk.1.2
  refine ⟨⟨by omega, by omega⟩, fun z1 z2 p e R s m args below meth c C H locs hp hS => ?_⟩
  have k2 := kk.2 (Nat.le_succ_of_le z1) (Nat.le_trans z2 (Nat.le_add_right _ _)) p e R s m args below meth c C
  have hKn := C.k.1 ci _ q.1
  have ce := C.ce
  have sl := C.sl
  refine W.newcK C.x C.b C.o (C.ts _ hcl) (C.ts _ hinst) (C.ts _ hini) rfl d (by omega) (by omega) hKn.2.1 hp.size fun H1 kC hkC e1 z9 o1 => ?_
  refine W.cs (cells' := gZ (nC h (ci + 1) N) - gZ (k0 K)) (slots' := gQ (nC h (ci + 1) N) - gQ (k0 K)) (by show _ = (gZ h + 1) - _; omega) (by show _ = (gQ h + N) - _; omega) ?_
  have hsz := hp.size
  have hz0 : dz (kD K) ≤ gZ h := hp.2.1
  obtain ⟨n1, n2, n3, n4, n5⟩ := nC_new h (ci + 1) N
  refine k2 H1 locs (hp.new (by rw [hsz]; exact z9) (fun x hx => o1 x (by omega)) (cOK.obj n1 q.2.2.1 rfl hz0 ?_)) ⟨by have := hS.1; omega, fun x h1 h2 => (o1 x (by have := hS.1; omega)).trans (hS.2.1 x h1 h2), hS.2.2⟩
  rw [q.2.1]
  exact (u_born ty C.ts q.2.2.2 hKn hkC e1 qp.1).to (fun k hk => kdef _ _ _ _ _ (qd k hk) (n3 k) (n4 k) (n5 k))
theorem aw_newa {K : KT} {h : AH} {pc : Nat} {ls : Array Slot} {st : List Value} {t : Nat} {n : Int32} {atype : ArrayType} (ht : t < 8) (hty : newarray.typeOf atype = aty t) (hdv : ∀ (h : AH) (a j : Nat), gI h a j = 0 → gL h a j = 0 → defaultValue (aty t) = fv h (ak t) a j) (harr : Cond.arrayClass (aty t) ∈ lw_all) (hn : ¬ n < 0) (hb : ix n * componentBytes (aty t) ≤ 536870912) (hAr : ∀ (s : State) (cA : ClassId), va_RA s cA (aty t) → s.vm.findClass ("[" ++ (aty t).toString) = some cA) (d : decode (kc K) pc = .ok (.newarray atype, 2)) (kk : AW K (nC h (101 + t) (ix n)) (pc + 2) ls (.ref (gZ h) :: st)) : AW K h pc ls (.int n :: st) := by
  have hz : gZ h + 1 ≤ gZ (kE K) := kk.1.1
  have hq : gQ h + ix n ≤ gQ (kE K) := kk.1.2
  refine ⟨⟨by omega, by omega⟩, fun z1 z2 p e R s m args below meth c C H locs hp hS => ?_⟩
  have k2 := kk.2 (Nat.le_succ_of_le z1) (Nat.le_trans z2 (Nat.le_add_right _ _)) p e R s m args below meth c C
  have ce := C.ce
  have sl := C.sl
  refine va_newaK (N := ix n) C.x C.b (by rw [hty]; exact C.ts _ harr) (g := F0 m pc ls (.int n :: st)) rfl d rfl hn rfl (by rw [hty]; exact hb) (by omega) (by omega) hp.size fun H1 cA e1 z9 o1 hAr1 hNm => ?_
  refine W.cs (cells' := gZ (nC h (101 + t) (ix n)) - gZ (k0 K)) (slots' := gQ (nC h (101 + t) (ix n)) - gQ (k0 K)) (by show _ = (gZ h + 1) - _; omega) (by show _ = (gQ h + ix n) - _; omega) ?_
  have hsz := hp.size
  have hz0 : dz (kD K) ≤ gZ h := hp.2.1
  obtain ⟨n1, n2, n3, n4, n5⟩ := nC_new h (101 + t) (ix n)
  have hcA : cA = (kD K).2.1 t := by
    rw [hty] at hNm
    exact Option.some.inj (hNm.symm.trans (hAr s _ (C.k.2 t _ (tysD_at _ t ht)).2))
  refine k2 H1 locs (hp.new (by rw [hsz]; exact z9) (fun x hx => o1 x (by omega)) (cOK.arr n1 ht rfl hz0 ?_)) ⟨by have := hS.1; omega, fun x h1 h2 => (o1 x (by have := hS.1; omega)).trans (hS.2.1 x h1 h2), hS.2.2⟩
  rw [e1, n2, hcA, hty]
  congr 2
  funext j
  exact hdv _ _ _ (n3 j) (n4 j)
theorem aw_newq {K : KT} {h : AH} {pc : Nat} {ls : Array Slot} {st : List Value} {t index : Nat} {n : Int32} {Cc : String} (ht : t < 8) (hty : aty t = .object Cc) (hk : ak t = 2) (hcl : Cond.classLink (ko K) index Cc ∈ lw_all) (hov : Cc ∈ aol) (hn : ¬ n < 0) (hb : ix n * 4 ≤ 536870912) (d : decode (kc K) pc = .ok (.anewarray index, 3)) (kk : AW K (nC h (101 + t) (ix n)) (pc + 3) ls (.ref (gZ h) :: st)) : AW K h pc ls (.int n :: st) := by
  have hz : gZ h + 1 ≤ gZ (kE K) := kk.1.1
  have hq : gQ h + ix n ≤ gQ (kE K) := kk.1.2
  refine ⟨⟨by omega, by omega⟩, fun z1 z2 p e R s m args below meth c C H locs hp hS => ?_⟩
  have k2 := kk.2 (Nat.le_succ_of_le z1) (Nat.le_trans z2 (Nat.le_add_right _ _)) p e R s m args below meth c C
  have ce := C.ce
  have sl := C.sl
  refine W.anew C.x C.b C.o (C.ts _ hcl) ((C.am.2.2.1 _ hov).use) (g := F0 m pc ls (.int n :: st)) rfl d rfl hn hb (by show _ ≤ _; omega) (by show _ + ix n ≤ _; omega) fun cA kA comp f1 f2 f3 f4 => ?_
  rw [hp.size]
  refine W.cs (cells' := gZ (nC h (101 + t) (ix n)) - gZ (k0 K)) (slots' := gQ (nC h (101 + t) (ix n)) - gQ (k0 K)) (by show _ = (gZ h + 1) - _; omega) (by show _ + ix n = (gQ h + ix n) - _; omega) ?_
  have hsz := hp.size
  have hz0 : dz (kD K) ≤ gZ h := hp.2.1
  obtain ⟨n1, n2, n3, n4, n5⟩ := nC_new h (101 + t) (ix n)
  obtain ⟨kA', comp', g1, g2, g3, g4⟩ : va_RA s ((kD K).2.1 t) (.object Cc) := by rw [← hty]; exact (C.k.2 t _ (tysD_at _ t ht)).2
  have hcA : cA = (kD K).2.1 t := Option.some.inj (f1.symm.trans g4)
  refine k2 _ locs (hp.new (by simp) (fun x hx => by rw [Array.getElem?_push, if_neg (Nat.ne_of_lt hx)]) (cOK.arr n1 ht rfl hz0 ?_)) ⟨by have := hS.1; simp; omega, fun x h1 h2 => by rw [Array.getElem?_push, if_neg (by have := hS.1; omega)]; exact hS.2.1 x h1 h2, hS.2.2⟩
  rw [← hsz, Array.getElem?_push, if_pos rfl, hsz, n2, hcA, arrV_new, hk]
  congr 2
  funext j
  show Value.null = va_rf _
  rw [n5]
  rfl
/-- System.arraycopy of ints -/
theorem cI_copied {h : AH} {a b sp dp n : Nat} {c0 c1 : ClassId} (hs : sp + n ≤ gN h a) : (arrV c1 (gN h b) (fun j => Value.int (gI h b j))).storeRun dp ((arrV c0 (gN h a) (fun j => Value.int (gI h a j))).stretch sp n) = arrV c1 (gN (cI h a b sp dp n) b) (fun j => fv (cI h a b sp dp n) 0 b j) := by
  rw [va_copied (fun z => Value.int z) c0 c1 (fun j => gI h a j) (fun j => gI h b j) hs]
  congr 1
  funext j
  show Value.int _ = Value.int (if b = b ∧ dp ≤ j ∧ j < dp + n then gI h a (sp + (j - dp)) else gI h b j)
  unfold va_cpy
  by_cases hj : dp ≤ j ∧ j < dp + n
  · rw [if_pos hj, if_pos ⟨rfl, hj⟩]
  · rw [if_neg hj, if_neg (fun q => hj q.2)]
theorem i_nn {z : Int32} (hz : ¬ z < 0) : z.toInt = (z.toNatClampNeg : Int) := by
  have hz0 : (0 : Int) ≤ z.toInt := by
    have := Int32.not_lt.mp hz
    simpa using Int32.le_iff_toInt_le.mp this
  show z.toInt = ((z.toInt.toNat : Nat) : Int)
  omega
theorem aw_copy {K : KT} {h : AH} {pc : Nat} {ls : Array Slot} {st : List Value} {a b index : Nat} {sp dp n : Int32} (hls : ls.size = kn K) (ha : gS h a = 101) (hb : gS h b = 101) (h1 : ¬ sp < 0) (h2 : ¬ dp < 0) (h3 : ¬ n < 0) (h4 : ix sp + ix n ≤ gN h a) (h5 : ix dp + ix n ≤ gN h b) (hlink : Cond.methodLink (ko K) index arraycopyName ∈ lw_all) (hnat : Cond.native arraycopyName ∈ lw_all) (hstat : Cond.static arraycopyName ∈ lw_all) (hini : Cond.initialized "java/lang/System" ∈ lw_all) (hF : 1 ≤ kF K) (hst : st = []) (d : decode (kc K) pc = .ok (.invokestatic index, 3)) (kk : AW K (cI h a b (ix sp) (ix dp) (ix n)) (pc + 3) ls st) : AW K h pc ls (.int n :: .int dp :: .ref b :: .int sp :: .ref a :: st) := by
  subst hst
  refine ⟨kk.1, fun z1 z2 p e R s m args below meth c C H locs hp hS => ?_⟩
  have k2 := kk.2 z1 z2 p e R s m args below meth c C
  have hc0 := (hp.arr (t := 0) ha (by decide)).2
  have hc1 := (hp.arr (t := 0) hb (by decide)).2
  obtain ⟨-, kA0, hkA0, cm0, hkk0⟩ := (C.k.2 0 _ (tysD_at _ 0 (by decide))).1 (gN h a) (fun j => fv h (ak 0) a j)
  obtain ⟨-, kA1, hkA1, cm1, hkk1⟩ := (C.k.2 0 _ (tysD_at _ 0 (by decide))).1 (gN h b) (fun j => fv h (ak 0) b j)
  have hRf := C.f
  have hRl := C.lo
  have hnw : nativeFrameWords "java/lang/System" "arraycopy" 5 + 11 ≤ 64 := by decide +kernel
  have hq4 : 64 ≤ 64 * kF K := Nat.le_mul_of_pos_right 64 hF
  have hprim : refKind (aty 0) = false := rfl
  have h4' : sp.toNatClampNeg + n.toNatClampNeg ≤ gN h a := h4
  have h5' : dp.toNatClampNeg + n.toNatClampNeg ≤ gN h b := h5
  intro T hT X
  obtain ⟨vm', X', step⟩ := X.arraycopy C.x C.o (C.ts _ hlink) (C.ts _ hnat) (C.ts _ hstat) (C.ts _ hini) (src := a) (dst := b) (cs := arrV ((kD K).2.1 0) (gN h a) (fun j => fv h (ak 0) a j)) (cd := arrV ((kD K).2.1 0) (gN h b) (fun j => fv h (ak 0) b j)) (srcPos := sp) (destPos := dp) (n := n) (by rw [hT]; exact hc0) (by rw [hT]; exact hc1)
    (fun _ h => by cases h) (fun _ h => by cases h) (fun h => by cases h) (fun h => by cases h) hkA0 hkA1 hkk0 hkk1 (by simp [hprim]) h1 h2 h3
    (by rw [i_nn h1, i_nn h3]; show ¬ _ > ((arrV _ _ _).slots.size : Int); rw [arrV_size]; omega)
    (by rw [i_nn h2, i_nn h3]; show ¬ _ > ((arrV _ _ _).slots.size : Int); rw [arrV_size]; omega)
    (fun vm₁ _ i hi => by
      have e : (arrV ((kD K).2.1 0) (gN h a) (fun j => fv h (ak 0) a j)).slots.getD (sp.toNatClampNeg + i) .null = .int (gI h a (sp.toNatClampNeg + i)) := by
        rw [Array.getD_eq_getD_getElem?, arrV_read _ _ (by omega)]
        rfl
      refine ⟨?_, ?_⟩
      · rw [e]
        rfl
      · rw [e]
        exact trivial)
    (g := F0 m pc ls (.int n :: .int dp :: .ref b :: .int sp :: .ref a :: [])) rfl (by rw [C.ml]; exact hls) (rest := []) rfl (by rw [C.b]; exact d) (Nat.le_trans hF hRf) (by rw [show (F0 m pc ls (.int n :: .int dp :: .ref b :: .int sp :: .ref a :: [])).monitorRoom = 0 from rfl]; simp only [List.map_nil, List.sum_nil]; omega)
  have e1 : copied (arrV ((kD K).2.1 0) (gN h a) (fun j => fv h (ak 0) a j)) (arrV ((kD K).2.1 0) (gN h b) (fun j => fv h (ak 0) b j)) sp dp n = arrV ((kD K).2.1 0) (gN (cI h a b (ix sp) (ix dp) (ix n)) b) (fun j => fv (cI h a b (ix sp) (ix dp) (ix n)) 0 b j) := cI_copied h4
  rw [e1] at X' step
  have hl : b < H.size := (Array.getElem?_eq_some_iff.mp hc1).1
  generalize hcell : arrV ((kD K).2.1 0) (gN (cI h a b (ix sp) (ix dp) (ix n)) b) (fun j => fv (cI h a b (ix sp) (ix dp) (ix n)) 0 b j) = cell at X' step
  have hheap : ((T.setVm vm').setCell b cell).heap = H.setIfInBounds b cell := by rw [← hT]; rfl
  have oq : ∀ q : Nat, q ≠ b → (H.setIfInBounds b cell)[q]? = H[q]? := fun q hq => by simp [Array.getElem?_setIfInBounds, Ne.symm hq]
  have hB := (hp.arr (t := 0) hb (by decide)).1
  obtain ⟨t, a1, b1⟩ := k2 (H.setIfInBounds b cell) _ (hp.set (sOff_c h a b (ix sp) (ix dp) (ix n)) (by simp) oq (cOK.arr (t := 0) hb (by decide) rfl hB (by rw [← hcell]; simp [Array.getElem?_setIfInBounds, hl]; rfl))) ⟨by simp; exact hS.1, fun q g1 g2 => by
      rw [oq q (fun e => g2 (by rw [e]; exact hB))]
      exact hS.2.1 q g1 g2, fun q hq => by
      rcases List.mem_append.mp hq with h | h
      · exact hS.2.2 q h
      · obtain ⟨z, -, hz⟩ := List.mem_map.mp h
        rw [← hz]
        exact hB⟩ _ hheap X'
  exact ⟨t, step t a1, b1⟩
/-! constants, statics -/
theorem HP.cst {D : DD} {h : AH} {H : Heap} (p : HP D h H) {a : Nat} (hs : gS h a = 200) {s : State} (A : Amb D s) : gI h a 1 = 0 ∧ ∃ v, gR h a 0 = some v ∧ va_O "java/lang/String" a (dA D) s s.heap ∧ va_OF "java/lang/String" "coder" "B" (.int 0) a (dA D) s s.heap ∧ va_OF "java/lang/String" "value" "[B" (.ref v) a (dA D) s s.heap := by
  obtain ⟨h0, i, h1, h2, h3, h4⟩ := (p.2.2.2 a).2.2.1 hs
  obtain ⟨a', e1, e2, e3, e4, e5⟩ := A.2.2.2.2.2.1 i h1
  have : a' = a := Option.some.inj (e1.symm.trans h2)
  subst this
  exact ⟨h3, _, h4, e2, e3, e4⟩
theorem HP.cby {D : DD} {h : AH} {H : Heap} (p : HP D h H) {a : Nat} (hs : gS h a = 201) {s : State} (A : Amb D s) : ∃ f : Nat → Int32, va_T .byte a (gN h a) (fun j => .int (f j)) (dA D) s s.heap ∧ ∀ j, j < gN h a → gI h a j = f j := by
  obtain ⟨h0, i, h1, h2, h3, h4⟩ := (p.2.2.2 a).2.2.2 hs
  obtain ⟨a', e1, e2, e3, e4, e5⟩ := A.2.2.2.2.2.1 i h1
  subst h2
  exact ⟨kByt i, by rw [h3]; exact e5, fun j hj => h4 j (by rw [← h3]; exact hj)⟩
theorem aw_ldcS {K : KT} {h : AH} {pc : Nat} {ls : Array Slot} {st : List Value} {index i a : Nat} {tx : String} (hk : (ko K, index, tx, i) ∈ skl) (ha : gK h i = some a) (d : decode (kc K) pc = .ok (.ldc index, 2)) (kk : AW K h (pc + 2) ls (.ref a :: st)) : AW K h pc ls st := by
  refine ⟨kk.1, fun z1 z2 p e R s m args below meth c C H locs hp hS => ?_⟩
  obtain ⟨a', e1, e2⟩ := C.am.2.2.2.2.1 _ hk
  have : a' = a := Option.some.inj (e1.symm.trans (by rw [← hp.2.2.1]; exact ha))
  subst this
  exact va_ldcS C.x C.b C.o e2 d (kk.2 z1 z2 p e R s m args below meth c C H locs hp hS)
theorem aw_sgetI {K : KT} {h : AH} {pc : Nat} {ls : Array Slot} {st : List Value} {index : Nat} {C' n dd : String} {v : Int32} (hk : (C', n, dd, v) ∈ szl) (hlink : Cond.fieldLink (ko K) index C' n dd ∈ lw_all) (d : decode (kc K) pc = .ok (.getstatic index, 3)) (kk : AW K h (pc + 3) ls (.int v :: st)) : AW K h pc ls st := by
  refine ⟨kk.1, fun z1 z2 p e R s m args below meth c C H locs hp hS => ?_⟩
  exact va_gets C.x C.b (C.am.2.2.2.2.2.2.1 _ hk) hS C.o (C.ts _ hlink) (fun _ h => h) d (kk.2 z1 z2 p e R s m args below meth c C H locs hp hS)
theorem aw_sgetR {K : KT} {h : AH} {pc : Nat} {ls : Array Slot} {st : List Value} {index i : Nat} {C' n dd : String} {v : Value} (hk : (C', n, dd, i) ∈ srl) (hv : va_rf (gK h i) = v) (hlink : Cond.fieldLink (ko K) index C' n dd ∈ lw_all) (d : decode (kc K) pc = .ok (.getstatic index, 3)) (kk : AW K h (pc + 3) ls (v :: st)) : AW K h pc ls st := by
  refine ⟨kk.1, fun z1 z2 p e R s m args below meth c C H locs hp hS => ?_⟩
  have hz := C.am.2.2.2.2.2.2.2.1 _ hk
  have hv2 : va_rf ((kD K).2.2.1 i) = v := by rw [← hp.2.2.1]; exact hv
  exact va_gets C.x C.b hz hS C.o (C.ts _ hlink) (fun _ h => h) d (by show W p (kl K) e R s m args below meth c H locs _ _ _ (F0 m _ ls (va_rf ((kD K).2.2.1 i) :: st)); rw [hv2]; exact kk.2 z1 z2 p e R s m args below meth c C H locs hp hS)
/-- a String constant's value and coder -/
theorem aw_getKv {K : KT} {h : AH} {pc : Nat} {ls : Array Slot} {st : List Value} {index a y : Nat} (hs : gS h a = 200) (hy : gR h a 0 = some y) (hlink : Cond.fieldLink (ko K) index "java/lang/String" "value" "[B" ∈ lw_all) (d : decode (kc K) pc = .ok (.getfield index, 3)) (kk : AW K h (pc + 3) ls (.ref y :: st)) : AW K h pc ls (.ref a :: st) := by
  refine ⟨kk.1, fun z1 z2 p e R s m args below meth c C H locs hp hS => ?_⟩
  obtain ⟨q1, v, q2, q3, q4, q5⟩ := hp.cst hs C.am
  have : v = y := Option.some.inj (q2.symm.trans hy)
  subst this
  exact vk_getf C.x C.b q5 hS C.o (C.ts _ hlink) (fun _ h => h) d (kk.2 z1 z2 p e R s m args below meth c C H locs hp hS)
theorem aw_getKc {K : KT} {h : AH} {pc : Nat} {ls : Array Slot} {st : List Value} {index a : Nat} (hs : gS h a = 200) (hlink : Cond.fieldLink (ko K) index "java/lang/String" "coder" "B" ∈ lw_all) (d : decode (kc K) pc = .ok (.getfield index, 3)) (kk : AW K h (pc + 3) ls (.int (gI h a 1) :: st)) : AW K h pc ls (.ref a :: st) := by
  refine ⟨kk.1, fun z1 z2 p e R s m args below meth c C H locs hp hS => ?_⟩
  obtain ⟨q1, v, q2, q3, q4, q5⟩ := hp.cst hs C.am
  have k2 := kk.2 z1 z2 p e R s m args below meth c C H locs hp hS
  rw [q1] at k2
  exact vk_getf C.x C.b q4 hS C.o (C.ts _ hlink) (fun _ h => h) d k2
theorem aw_baldK {K : KT} {h : AH} {pc : Nat} {ls : Array Slot} {st : List Value} {a : Nat} {i : Int32} (hs : gS h a = 201) (hin : inb i (gN h a)) (d : decode (kc K) pc = .ok (.baload, 1)) (kk : AW K h (pc + 1) ls (.int (gI h a (ix i)) :: st)) : AW K h pc ls (.int i :: .ref a :: st) := by
  refine ⟨kk.1, fun z1 z2 p e R s m args below meth c C H locs hp hS => ?_⟩
  obtain ⟨f, q1, q2⟩ := hp.cby hs C.am
  have hlt : ix i < gN h a := Nat.not_le.mp fun q => hin (Or.inr q)
  exact va_tb C.x C.b q1 hS hin (show Value.int (f (ix i)) = Value.int (gI h a (ix i)) by rw [q2 _ hlt]) d (kk.2 z1 z2 p e R s m args below meth c C H locs hp hS)
theorem aw_alenK {K : KT} {h : AH} {pc : Nat} {ls : Array Slot} {st : List Value} {a : Nat} {v : Int32} (hs : gS h a = 201) (hv : Int32.ofNat (gN h a) = v) (d : decode (kc K) pc = .ok (.arraylength, 1)) (kk : AW K h (pc + 1) ls (.int v :: st)) : AW K h pc ls (.ref a :: st) := by
  refine ⟨kk.1, fun z1 z2 p e R s m args below meth c C H locs hp hS => ?_⟩
  obtain ⟨f, q1, q2⟩ := hp.cby hs C.am
  exact va_tlen C.x C.b q1 hS hv d (kk.2 z1 z2 p e R s m args below meth c C H locs hp hS)
/-- the script -/
theorem aw_sld {K : KT} {h : AH} {pc n : Nat} {ls : Array Slot} {st : List Value} {f : Nat → Int32} {i : Int32} (hf : f = sx (kD K)) (hn : n = sn (kD K)) (hin : inb i n) (d : decode (kc K) pc = .ok (.iaload, 1)) (kk : AW K h (pc + 1) ls (.int (f (ix i)) :: st)) : AW K h pc ls (.int i :: .ref (sb (kD K)) :: st) := by
  subst hf hn
  refine ⟨kk.1, fun z1 z2 p e R s m args below meth c C H locs hp hS => ?_⟩
  exact va_ti C.x C.b C.am.2.2.2.2.2.2.2.2.1.2.2 hS hin rfl d (kk.2 z1 z2 p e R s m args below meth c C H locs hp hS)
theorem aw_slen {K : KT} {h : AH} {pc n : Nat} {ls : Array Slot} {st : List Value} (hn : n = sn (kD K)) (d : decode (kc K) pc = .ok (.arraylength, 1)) (kk : AW K h (pc + 1) ls (.int (Int32.ofNat n) :: st)) : AW K h pc ls (.ref (sb (kD K)) :: st) := by
  subst hn
  refine ⟨kk.1, fun z1 z2 p e R s m args below meth c C H locs hp hS => ?_⟩
  exact va_tlen C.x C.b C.am.2.2.2.2.2.2.2.2.1.2.2 hS rfl d (kk.2 z1 z2 p e R s m args below meth c C H locs hp hS)
/-- of which class an object is -/
def rcv (K : KT) (h : AH) (a : Nat) (Cn : String) : Prop := ∀ {p : Program} {R : Room} {s : State} {m : MethodId} {args : Array Value} {meth : Method} {c : Code} {H : Heap} {locs : List Loc}, Cx K p R s m args meth c → HP (kD K) h H → va_S (dA (kD K)) s.heap H locs → ∃ cell : Cell, H[a]? = some cell ∧ cell.vm.isStatics = false ∧ s.vm.findClass Cn = some cell.cls
theorem rcv_o {K : KT} {h : AH} {a ci N : Nat} {Cn : String} {T : u_T} (q : clsOK ci Cn T N) (hs : gS h a = ci + 1) : rcv K h a Cn := fun C hp _ => q.recv C hp hs
theorem rcv_k {K : KT} {h : AH} {a : Nat} (hs : gS h a = 200) : rcv K h a "java/lang/String" := fun C hp hS => va_Orecv (hp.cst hs C.am).2.choose_spec.2.1 hS
theorem aw_instE {K : KT} {h : AH} {pc : Nat} {ls : Array Slot} {st : List Value} {index a : Nat} {nm : String} (r : rcv K h a nm) (hlink : Cond.classLink (ko K) index nm ∈ lw_all) (d : decode (kc K) pc = .ok (.instanceof index, 3)) (kk : AW K h (pc + 3) ls (.int 1 :: st)) : AW K h pc ls (.ref a :: st) :=
  ⟨kk.1, fun z1 z2 p e R s m args below meth c C H locs hp hS => va_instE C.x C.b C.o (C.ts _ hlink) (r C hp hS) d (kk.2 z1 z2 p e R s m args below meth c C H locs hp hS)⟩
theorem aw_castE {K : KT} {h : AH} {pc : Nat} {ls : Array Slot} {st : List Value} {index a : Nat} {nm : String} (r : rcv K h a nm) (hlink : Cond.classLink (ko K) index nm ∈ lw_all) (d : decode (kc K) pc = .ok (.checkcast index, 3)) (kk : AW K h (pc + 3) ls (.ref a :: st)) : AW K h pc ls (.ref a :: st) :=
  ⟨kk.1, fun z1 z2 p e R s m args below meth c C H locs hp hS => va_castE C.x C.b C.o (C.ts _ hlink) (r C hp hS) d (kk.2 z1 z2 p e R s m args below meth c C H locs hp hS)⟩
theorem aw_instY {K : KT} {h : AH} {pc : Nat} {ls : Array Slot} {st : List Value} {index a : Nat} {Cn nm : String} (r : rcv K h a Cn) (hc : Cond.castable Cn nm ∈ nwl) (hlink : Cond.classLink (ko K) index nm ∈ lw_all) (d : decode (kc K) pc = .ok (.instanceof index, 3)) (kk : AW K h (pc + 3) ls (.int 1 :: st)) : AW K h pc ls (.ref a :: st) :=
  ⟨kk.1, fun z1 z2 p e R s m args below meth c C H locs hp hS => va_instY C.x C.b C.o (C.ts _ hlink) (C.am.2.1 _ hc) (r C hp hS) d (kk.2 z1 z2 p e R s m args below meth c C H locs hp hS)⟩
theorem aw_castY {K : KT} {h : AH} {pc : Nat} {ls : Array Slot} {st : List Value} {index a : Nat} {Cn nm : String} (r : rcv K h a Cn) (hc : Cond.castable Cn nm ∈ nwl) (hlink : Cond.classLink (ko K) index nm ∈ lw_all) (d : decode (kc K) pc = .ok (.checkcast index, 3)) (kk : AW K h (pc + 3) ls (.ref a :: st)) : AW K h pc ls (.ref a :: st) :=
  ⟨kk.1, fun z1 z2 p e R s m args below meth c C H locs hp hS => va_castY C.x C.b C.o (C.ts _ hlink) (C.am.2.1 _ hc) (r C hp hS) d (kk.2 z1 z2 p e R s m args below meth c C H locs hp hS)⟩
theorem aw_instNo {K : KT} {h : AH} {pc : Nat} {ls : Array Slot} {st : List Value} {index a : Nat} {Cn nm : String} (r : rcv K h a Cn) (hc : (Cn, nm) ∈ ncl) (hlink : Cond.classLink (ko K) index nm ∈ lw_all) (d : decode (kc K) pc = .ok (.instanceof index, 3)) (kk : AW K h (pc + 3) ls (.int 0 :: st)) : AW K h pc ls (.ref a :: st) :=
  ⟨kk.1, fun z1 z2 p e R s m args below meth c C H locs hp hS => va_instNo C.x C.b C.o (C.ts _ hlink) (C.am.2.2.2.1 _ hc) (r C hp hS) d (kk.2 z1 z2 p e R s m args below meth c C H locs hp hS)⟩
/-- a cast of a byte array to its own class -/
theorem aw_castB {K : KT} {h : AH} {pc : Nat} {ls : Array Slot} {st : List Value} {index a : Nat} (hs : gS h a = 102) (hlink : Cond.classLink (ko K) index "[B" ∈ lw_all) (d : decode (kc K) pc = .ok (.checkcast index, 3)) (kk : AW K h (pc + 3) ls (.ref a :: st)) : AW K h pc ls (.ref a :: st) := by
  refine ⟨kk.1, fun z1 z2 p e R s m args below meth c C H locs hp hS => ?_⟩
  have h1 := (hp.arr (t := 1) hs (by decide)).2
  have hnm : s.vm.findClass "[B" = some ((kD K).2.1 1) := (C.k.2 1 _ (tysD_at _ 1 (by decide))).2
  exact va_castA (D := (kD K).1) (cl := vwCl) (ws := [(a, .inl ((kD K).2.1 1, gN h a, .inl (gI h a)))]) C.x C.b C.o (C.ts _ hlink) (fun k q hk => by
    have hz : k < 1 := (List.getElem?_eq_some_iff.mp hk).1
    rw [show k = 0 by omega] at hk
    cases hk
    exact h1) 0 rfl hnm d (kk.2 z1 z2 p e R s m args below meth c C H locs hp hS)
/-! ends -/
theorem aQ_of {K : KT} {p : Program} {e : Env} {R : Room} {s : State} {m : MethodId} {args : Array Value} {below : List Frame} {meth : Method} {c : Code} {H : Heap} {locs : List Loc} {cells slots : Nat} {g : JFrame} (k : W p (kl K) e R s m args below meth c H locs cells slots (MQ below (aQc (kD K) (kE K) (kv K)) args s (gZ (kE K) - gZ (k0 K)) (gQ (kE K) - gQ (k0 K)) (dA (kD K))) g) : W p (kl K) e R s m args below meth c H locs cells slots (aQ K below args s) g := by
  unfold aQ
  by_cases hx : kx K = true
  · rw [if_pos hx]
    exact vx_ret k
  · rw [if_neg hx]
    exact k
theorem aw_end {K : KT} {h : AH} {pc : Nat} {ls : Array Slot} {st : List Value} {v : Option Value} (hE : kE K = h) (hv : kv K = .inl v)
    (f : ∀ {p : Program} {e : Env} {R : Room} {s : State} {m : MethodId} {args : Array Value} {below : List Frame} {meth : Method} {c : Code} {H : Heap} {locs : List Loc} {mc ms : Nat} {Qc : Array Value → State → Outcome → State → Prop}, Cx K p R s m args meth c → (∀ t : State, t.heap = H → s.WarmedH t.vm → Qc args s (.returned v) t) → (∀ q ∈ locs, dA (kD K) q.base) → W p (kl K) e R s m args below meth c H locs mc ms (MQ below Qc args s mc ms (dA (kD K))) (F0 m pc ls st)) : AW K h pc ls st := by
  refine ⟨by rw [hE]; exact ⟨Nat.le_refl _, Nat.le_refl _⟩, fun z1 z2 p e R s m args below meth c C H locs hp hS => aQ_of ?_⟩
  rw [hE, hv]
  exact f C (fun t ht hW => ⟨⟨v, rfl, rfl⟩, by rw [ht]; exact hp, hS.F ht⟩) hS.2.2
theorem aw_iret {K : KT} {h hE : AH} {pc : Nat} {ls : Array Slot} {x v : Int32} (hz : ((x, h) : Int32 × AH) = (v, hE)) (e : kE K = hE) (hv : kv K = .inl (some (.int v))) (hr : kr K = some .int) (d : decode (kc K) pc = .ok (.ireturn, 1)) : AW K h pc ls [.int x] := by
  cases hz
  exact aw_end e hv (fun C q1 q2 => W.iret C.x C.b (C.r.trans hr) q1 q2 d C.lk)
theorem aw_zret {K : KT} {h hE : AH} {pc : Nat} {ls : Array Slot} {x v : Int32} {ty : FieldType} (hn : narrow ty (.int x) = .int x) (hz : ((x, h) : Int32 × AH) = (v, hE)) (e : kE K = hE) (hv : kv K = .inl (some (.int v))) (hr : kr K = some ty) (d : decode (kc K) pc = .ok (.ireturn, 1)) : AW K h pc ls [.int x] := by
  cases hz
  exact aw_end e hv (fun C q1 q2 => W.zret C.x C.b (C.r.trans hr) hn q1 q2 d C.lk)
theorem aw_lret {K : KT} {h hE : AH} {pc : Nat} {ls : Array Slot} {x v : Int64} (hz : ((x, h) : Int64 × AH) = (v, hE)) (e : kE K = hE) (hv : kv K = .inl (some (.long v))) (hr : kr K = some .long) (d : decode (kc K) pc = .ok (.lreturn, 1)) : AW K h pc ls [.long x] := by
  cases hz
  exact aw_end e hv (fun C q1 q2 => W.lret C.x C.b (C.r.trans hr) q1 q2 d C.lk)
theorem aw_vret {K : KT} {h hE : AH} {pc : Nat} {ls : Array Slot} (hz : h = hE) (e : kE K = hE) (hv : kv K = .inl none) (hr : kr K = none) (d : decode (kc K) pc = .ok (.return_, 1)) : AW K h pc ls [] := by
  cases hz
  exact aw_end e hv (fun C q1 q2 => W.vret C.x C.b (C.r.trans hr) q1 q2 d C.lk)
theorem aw_aret {K : KT} {h hE : AH} {pc : Nat} {ls : Array Slot} {x v : Option Nat} {w : Value} {rt : FieldType} (hw : va_rf x = w) (hz : ((x, h) : Option Nat × AH) = (v, hE)) (e : kE K = hE) (hv : kv K = .inl (some (va_rf v))) (hr : kr K = some rt) (hrt : (∃ n, rt = .object n) ∨ ∃ t, rt = .array t) (d : decode (kc K) pc = .ok (.areturn, 1)) : AW K h pc ls [w] := by
  cases hz
  subst hw
  exact aw_end e hv (fun C q1 q2 => W.aret C.x C.b (C.r.trans hr) hrt (by cases x; exact Or.inl rfl; exact Or.inr ⟨_, rfl⟩) q1 q2 d C.lk)
theorem nar_b {x : Int32} (h : x = 0 ∨ x = 1) : narrow .boolean (.int x) = .int x := by rcases h with rfl | rfl <;> rfl
theorem fit_b {x : Int32} (h : x = 0 ∨ x = 1) : fits .boolean (.int x) = true := by rcases h with rfl | rfl <;> rfl
theorem nar_y {x : Int32} (h : x.toInt8.toInt32 = x) : narrow .byte (.int x) = .int x := by rw [← h]; exact pk_nb _
theorem fit_y {x : Int32} (h : x.toInt8.toInt32 = x) : fits .byte (.int x) = true := by rw [← h]; exact pk_fb _
theorem nar_c {x : Int32} (h : (x.toUInt32 % 65536).toInt32 = x) : narrow .char (.int x) = .int x := by rw [← h]; exact pk_nc _
/-! calls -/
/-- a method's name is an ordinary one; so many parameters -/
def mOK (y : MethodName) (n : Nat) : Prop := (y.cls ≠ "java/lang/invoke/MethodHandle" ∧ y.cls ≠ "java/lang/invoke/VarHandle") ∧ (parseMethodDescriptor y.desc).map (fun d => d.parameters.length) = some n
theorem aw_back {K : KT} {h h1 : AH} {pc : Nat} {ls : Array Slot} {st st0 : List Value} {v : Option Value} {a : Array Value} (mono : gZ h ≤ gZ h1 ∧ gQ h ≤ gQ h1) (kk : AW K h1 (pc + 3) ls (v.toList ++ st))
    (run : ∀ {p : Program} {e : Env} {R : Room} {s : State} {m : MethodId} {args : Array Value} {below : List Frame} {meth : Method} {c : Code} {H : Heap} {locs : List Loc} {cells slots : Nat}, Cx K p R s m args meth c → HP (kD K) h H → va_S (dA (kD K)) s.heap H locs → (cells + (gZ h1 - gZ h) ≤ R.cells ∧ slots + (gQ h1 - gQ h) ≤ R.slots) → (∀ U : State, U.heap = H → s.WarmedH U.vm → Amb (kD K) U) →
      va_Run p (kl K) e R s m args below meth c H locs cells slots (gZ h1 - gZ h) (gQ h1 - gQ h) (F0 m pc ls st0) st (aQc (kD K) h1 (.inl v) a) (dA (kD K))) : AW K h pc ls st0 := by
  refine ⟨⟨Nat.le_trans mono.1 kk.1.1, Nat.le_trans mono.2 kk.1.2⟩, fun z1 z2 p e R s m args below meth c C H locs hp hS => ?_⟩
  have k2 := kk.2 (Nat.le_trans z1 mono.1) (Nat.le_trans z2 mono.2) p e R s m args below meth c C
  have m1 := mono.1
  have m2 := mono.2
  have q1 := kk.1.1
  have q2 := kk.1.2
  have e1 : (gZ h - gZ (k0 K)) + (gZ h1 - gZ h) = gZ h1 - gZ (k0 K) := by omega
  have e2 : (gQ h - gQ (k0 K)) + (gQ h1 - gQ h) = gQ h1 - gQ (k0 K) := by omega
  have hr := run (e := e) (below := below) (cells := gZ h - gZ (k0 K)) (slots := gQ h - gQ (k0 K)) C hp hS (by rw [e1, e2]; exact ⟨Nat.le_trans (by omega) C.ce, Nat.le_trans (by omega) C.sl⟩) (fun U hU hW => C.am.next hW (by rw [hU]; exact hS.1) (fun q g1 g2 => by rw [hU]; exact hS.2.1 q g1 g2))
  intro T hT X
  obtain ⟨v', st₀, t, T', L, h0, X', hL, f1, f2, ⟨⟨r, hv1, hv2⟩, hP1, hF⟩, step⟩ := hr T hT X
  cases hv1
  cases hv2
  rw [e1, e2] at X'
  obtain ⟨x1, x2, x3⟩ := vx_keep h0 f1 hS (fun q _ hq => hq) (fun q hq => hq) hL hF
  obtain ⟨t2, a1, b1⟩ := k2 T'.heap _ (by rw [f1]; exact hP1) x3 T' rfl X'
  exact ⟨t2, step t2 a1, b1⟩
/-- the room of a call -/
theorem cxR {K : KT} {p : Program} {R : Room} {s : State} {m : MethodId} {args : Array Value} {meth : Method} {c : Code} (C : Cx K p R s m args meth c) {F maxL n1 n2 : Nat} (hF : F + 1 ≤ kF K) (hL : maxL ≤ 45) : ({ frames := F, cells := n1, slots := n2, locals := 64 * F } : Room).frames + 1 ≤ R.frames ∧ 8 + (maxL + 11) + ({ frames := F, cells := n1, slots := n2, locals := 64 * F } : Room).locals ≤ R.locals := by
  have h1 := C.f
  have h2 := C.lo
  constructor
  · show F + 1 ≤ _; omega
  · show 8 + (maxL + 11) + 64 * F ≤ _; omega
section
variable {K : KT} {h h1 : AH} {pc : Nat} {ls : Array Slot} {st st0 : List Value} {y : MethodName} {bytes : ByteArray} {maxL F n index : Nat} {ret : Option FieldType} {ow Cn : String} {As : List Value} {b : Nat} {v : Option Value}
/-- through an object, the method of its own class -/
theorem aw_callV (M : AMet (kl K, y, bytes, maxL, ret, ow, F, kD K, h, h1, .inl v, false, []) (.ref b :: As)) (r : rcv K h b Cn) (hC : y.cls = Cn) (hm : mOK y n) (g1 : Cond.methodLink (ko K) index y ∈ lw_all) (g2 : Cond.instanceMethod y ∈ lw_all) (g3 : Cond.selects Cn y y ∈ lw_all) (g4 : Cond.initialized Cn ∈ lw_all) (g5 : Cond.code y bytes maxL ret ∈ lw_all) (hF : F + 1 ≤ kF K) (hL : maxL ≤ 45) (hn : As.length = n) (hls : ls.size = kn K) (hst : st0 = As.reverse ++ .ref b :: st) (hc : (st.map fun v => v.category).sum ≤ 8) (d : decode (kc K) pc = .ok (.invokevirtual index, 3)) (kk : AW K h1 (pc + 3) ls (v.toList ++ st)) : AW K h pc ls st0 :=
  aw_back (a := (Value.ref b :: As).toArray) M.1 kk fun C hp hS hf hA => va_runV (As := As) (rest := st) ⟨C.x, C.b, C.ml, C.o, C.ts⟩ M.2 (cwV n C.ts (lw_V g1 g2 g3 g4 g5) rfl rfl rfl ⟨hC, hm.1.1, hm.1.2, hm.2⟩ (cxR C hF hL)) ⟨aPc.bl, r C hp hS, fun U hU hW => ⟨rfl, hA U hU hW, by rw [hU]; exact hp⟩⟩ rfl hn hls hst (lv_room hc) d hf
theorem aw_callS (M : AMet (kl K, y, bytes, maxL, ret, ow, F, kD K, h, h1, .inl v, false, []) As) (hm : mOK y n) (g1 : Cond.methodLink (ko K) index y ∈ lw_all) (g2 : Cond.static y ∈ lw_all) (g3 : Cond.initialized y.cls ∈ lw_all) (g4 : Cond.code y bytes maxL ret ∈ lw_all) (hF : F + 1 ≤ kF K) (hL : maxL ≤ 45) (hn : As.length = n) (hls : ls.size = kn K) (hst : st0 = As.reverse ++ st) (hc : (st.map fun v => v.category).sum ≤ 8) (d : decode (kc K) pc = .ok (.invokestatic index, 3)) (kk : AW K h1 (pc + 3) ls (v.toList ++ st)) : AW K h pc ls st0 :=
  aw_back (a := As.toArray) M.1 kk fun C hp hS hf hA => va_runS (As := As) (rest := st) ⟨C.x, C.b, C.ml, C.o, C.ts⟩ M.2 (va_cwS n C.ts (lw_S g1 g2 g3 g4) rfl rfl rfl ⟨hm.1.1, hm.1.2, hm.2⟩ (cxR C hF hL)) ⟨aPc.bl, fun U hU hW => ⟨rfl, hA U hU hW, by rw [hU]; exact hp⟩⟩ rfl hn hls hst (lv_room hc) d hf
theorem aw_callI (M : AMet (kl K, y, bytes, maxL, none, ow, F, kD K, h, h1, .inl none, false, []) (.ref b :: As)) (hm : mOK y n) (hy : y.name = "<init>") (g1 : Cond.methodLink (ko K) index y ∈ lw_all) (g2 : Cond.instanceMethod y ∈ lw_all) (g3 : Cond.initialized y.cls ∈ lw_all) (g4 : Cond.code y bytes maxL none ∈ lw_all) (hF : F + 1 ≤ kF K) (hL : maxL ≤ 45) (hn : As.length = n) (hls : ls.size = kn K) (hst : st0 = As.reverse ++ .ref b :: st) (hc : (st.map fun v => v.category).sum ≤ 8) (d : decode (kc K) pc = .ok (.invokespecial index, 3)) (kk : AW K h1 (pc + 3) ls st) : AW K h pc ls st0 :=
  aw_back (v := none) (a := (Value.ref b :: As).toArray) M.1 kk fun C hp hS hf hA => va_runI (As := As) (rest := st) ⟨C.x, C.b, C.ml, C.o, C.ts⟩ M.2 (cwI n C.ts (lw_meth g4) rfl rfl rfl (C.ts _ g3) (C.ts _ g1) (C.ts _ g2) hy ⟨hm.1.1, hm.1.2, hm.2⟩ (cxR C hF hL)) ⟨aPc.bl, fun U hU hW => ⟨rfl, hA U hU hW, by rw [hU]; exact hp⟩⟩ rfl hn hls hst (lv_room hc) d hf
/-- of a nest mate -/
theorem aw_callVN {host : String} (M : AMet (kl K, y, bytes, maxL, ret, ow, F, kD K, h, h1, .inl v, false, []) (.ref b :: As)) (r : rcv K h b Cn) (hm : mOK y n) (g1 : Cond.methodLinkNest (ko K) index y host ∈ nwl) (g2 : Cond.instanceMethod y ∈ lw_all) (g3 : Cond.selects Cn y y ∈ lw_all) (g4 : Cond.initialized y.cls ∈ lw_all) (g5 : Cond.code y bytes maxL ret ∈ lw_all) (hF : F + 1 ≤ kF K) (hL : maxL ≤ 45) (hn : As.length = n) (hls : ls.size = kn K) (hst : st0 = As.reverse ++ .ref b :: st) (hc : (st.map fun v => v.category).sum ≤ 8) (d : decode (kc K) pc = .ok (.invokevirtual index, 3)) (kk : AW K h1 (pc + 3) ls (v.toList ++ st)) : AW K h pc ls st0 :=
  aw_back (a := (Value.ref b :: As).toArray) M.1 kk fun C hp hS hf hA => va_runVN (As := As) (rest := st) ⟨C.x, C.b, C.ml, C.o, C.ts⟩ M.2 ⟨va_cnB n C.ts (lw_meth g5) rfl rfl rfl (C.am.2.1 _ g1) (C.ts _ g4) ⟨hm.1.1, hm.1.2, hm.2⟩ (cxR C hF hL), C.ts _ g2, C.ts _ g3⟩ ⟨aPc.bl, r C hp hS, fun U hU hW => ⟨rfl, hA U hU hW, by rw [hU]; exact hp⟩⟩ rfl hn hls hst (lv_room hc) d hf
theorem aw_callSN {host : String} (M : AMet (kl K, y, bytes, maxL, ret, ow, F, kD K, h, h1, .inl v, false, []) As) (hm : mOK y n) (g1 : Cond.methodLinkNest (ko K) index y host ∈ nwl) (g2 : Cond.static y ∈ lw_all) (g3 : Cond.initialized y.cls ∈ lw_all) (g4 : Cond.code y bytes maxL ret ∈ lw_all) (hF : F + 1 ≤ kF K) (hL : maxL ≤ 45) (hn : As.length = n) (hls : ls.size = kn K) (hst : st0 = As.reverse ++ st) (hc : (st.map fun v => v.category).sum ≤ 8) (d : decode (kc K) pc = .ok (.invokestatic index, 3)) (kk : AW K h1 (pc + 3) ls (v.toList ++ st)) : AW K h pc ls st0 :=
  aw_back (a := As.toArray) M.1 kk fun C hp hS hf hA => va_runSN (As := As) (rest := st) ⟨C.x, C.b, C.ml, C.o, C.ts⟩ M.2 ⟨va_cnB n C.ts (lw_meth g4) rfl rfl rfl (C.am.2.1 _ g1) (C.ts _ g3) ⟨hm.1.1, hm.1.2, hm.2⟩ (cxR C hF hL), C.ts _ g2, trivial⟩ ⟨aPc.bl, fun U hU hW => ⟨rfl, hA U hU hW, by rw [hU]; exact hp⟩⟩ rfl hn hls hst (lv_room hc) d hf
theorem aw_callIN {host : String} (M : AMet (kl K, y, bytes, maxL, none, ow, F, kD K, h, h1, .inl none, false, []) (.ref b :: As)) (hm : mOK y n) (hy : y.name = "<init>") (g1 : Cond.methodLinkNest (ko K) index y host ∈ nwl) (g2 : Cond.instanceMethod y ∈ lw_all) (g3 : Cond.initialized y.cls ∈ lw_all) (g4 : Cond.code y bytes maxL none ∈ lw_all) (hF : F + 1 ≤ kF K) (hL : maxL ≤ 45) (hn : As.length = n) (hls : ls.size = kn K) (hst : st0 = As.reverse ++ .ref b :: st) (hc : (st.map fun v => v.category).sum ≤ 8) (d : decode (kc K) pc = .ok (.invokespecial index, 3)) (kk : AW K h1 (pc + 3) ls st) : AW K h pc ls st0 :=
  aw_back (v := none) (a := (Value.ref b :: As).toArray) M.1 kk fun C hp hS hf hA => va_runIN (As := As) (rest := st) ⟨C.x, C.b, C.ml, C.o, C.ts⟩ M.2 ⟨va_cnB n C.ts (lw_meth g4) rfl rfl rfl (C.am.2.1 _ g1) (C.ts _ g3) ⟨hm.1.1, hm.1.2, hm.2⟩ (cxR C hF hL), hy, C.ts _ g2⟩ ⟨aPc.bl, fun U hU hW => ⟨rfl, hA U hU hW, by rw [hU]; exact hp⟩⟩ rfl hn hls hst (lv_room hc) d hf
/-- the method x is named; the receiver's class Cn selects y; x's owner -/
theorem aw_callU {x : MethodName} (M : AMet (kl K, y, bytes, maxL, ret, ow, F, kD K, h, h1, .inl v, false, []) (.ref b :: As)) (r : rcv K h b Cn) (hm : mOK x n) (g1 : Cond.methodLink (ko K) index x ∈ lw_all) (g2 : Cond.sameMethod x.cls x.cls x.name x.desc ∈ lw_all) (g3 : Cond.selects Cn x y ∈ lw_all) (g4 : Cond.instanceMethod y ∈ lw_all) (g5 : Cond.initialized y.cls ∈ lw_all) (g6 : Cond.code y bytes maxL ret ∈ lw_all) (hx : (Cond.instanceMethod x ∈ lw_all ∧ ∃ (b0 : ByteArray) (m0 : Nat) (r0 : Option FieldType), Cond.code x b0 m0 r0 ∈ lw_all) ∨ Cond.declares x ∈ nwl) (hF : F + 1 ≤ kF K) (hL : maxL ≤ 45) (hn : As.length = n) (hls : ls.size = kn K) (hst : st0 = As.reverse ++ .ref b :: st) (hc : (st.map fun v => v.category).sum ≤ 8) (d : decode (kc K) pc = .ok (.invokevirtual index, 3)) (kk : AW K h1 (pc + 3) ls (v.toList ++ st)) : AW K h pc ls st0 := by
  refine aw_back (a := (Value.ref b :: As).toArray) M.1 kk fun {p e R s m args below meth c H locs cells slots} C hp hS hf hA => ?_
  refine va_runU (x := x) (bytes := bytes) (maxL := maxL) (ret := ret) (C := Cn) (owner := x.cls) (As := As) (rest := st) ⟨C.x, C.b, C.ml, C.o, C.ts⟩ M.2 ?_ ⟨aPc.bl, r C hp hS, fun U hU hW => ⟨rfl, hA U hU hW, by rw [hU]; exact hp⟩⟩ rfl hn hls hst (lv_room hc) d hf
  rcases hx with ⟨hx, b0, m0, r0, h0⟩ | hx
  · exact va_cwO (b0 := b0) (m0 := m0) (r0 := r0) n C.ts (lw_app (fun w hw => by
      simp only [List.mem_cons, List.not_mem_nil, or_false] at hw
      rcases hw with e | e | e | e | e | e
      · rw [e]; exact g1
      · rw [e]; exact g2
      · rw [e]; exact hx
      · rw [e]; exact g3
      · rw [e]; exact g4
      · rw [e]; exact g5) (lw_meth g6)) rfl rfl rfl h0 ⟨hm.1.1, hm.1.2, hm.2⟩ (cxR C hF hL)
  · exact va_cwA n C.ts (lw_app (fun w hw => by
      simp only [List.mem_cons, List.not_mem_nil, or_false] at hw
      rcases hw with e | e | e | e | e
      · rw [e]; exact g1
      · rw [e]; exact g2
      · rw [e]; exact g3
      · rw [e]; exact g4
      · rw [e]; exact g5) (lw_meth g6)) rfl rfl rfl (C.am.2.1 _ hx) ⟨hm.1.1, hm.1.2, hm.2⟩ (cxR C hF hL)
/-- super.m(..) -/
theorem aw_callSU {ci N : Nat} {T : u_T} (M : AMet (kl K, y, bytes, maxL, ret, ow, F, kD K, h, h1, .inl v, false, []) (.ref b :: As)) (q : clsOK ci Cn T N) (hs : gS h b = ci + 1) (hm : mOK y n) (hy : y.name ≠ "<init>") (g1 : Cond.methodLink (ko K) index y ∈ lw_all) (g2 : Cond.sameMethod y.cls y.cls y.name y.desc ∈ lw_all) (g3 : Cond.superclass (ko K) y.cls ∈ lw_all) (g4 : Cond.instanceMethod y ∈ lw_all) (g5 : Cond.initialized y.cls ∈ lw_all) (g6 : Cond.code y bytes maxL ret ∈ lw_all) (hF : F + 1 ≤ kF K) (hL : maxL ≤ 45) (hn : As.length = n) (hls : ls.size = kn K) (hst : st0 = As.reverse ++ .ref b :: st) (hc : (st.map fun v => v.category).sum ≤ 8) (d : decode (kc K) pc = .ok (.invokespecial index, 3)) (kk : AW K h1 (pc + 3) ls (v.toList ++ st)) : AW K h pc ls st0 :=
  aw_back (a := (Value.ref b :: As).toArray) M.1 kk fun C hp hS hf hA => va_runSU (As := As) (rest := st) (C.k.1 ci _ q.1).2 ⟨C.x, C.b, C.ml, C.o, C.ts⟩ M.2 (va_cwSU n C.ts (lw_app (fun w hw => by
      simp only [List.mem_cons, List.not_mem_nil, or_false] at hw
      rcases hw with e | e | e | e | e
      · rw [e]; exact g1
      · rw [e]; exact g2
      · rw [e]; exact g3
      · rw [e]; exact g4
      · rw [e]; exact g5) (lw_meth g6)) rfl rfl rfl ⟨hy, hm.2⟩ (cxR C hF hL)) ⟨aPc.bl, q.recv C hp hs, fun U hU hW => ⟨rfl, hA U hU hW, by rw [hU]; exact hp⟩⟩ rfl hn hls hst (lv_room hc) d hf
/-- Object's constructor -/
theorem aw_objInit (hm : ls.size = kn K) (g1 : Cond.methodLink (ko K) index objectInit ∈ lw_all) (g2 : Cond.instanceMethod objectInit ∈ lw_all) (g3 : Cond.code objectInit ⟨#[0xb1]⟩ 1 none ∈ lw_all) (hF : 1 ≤ kF K) (hst : st = []) (d : decode (kc K) pc = .ok (.invokespecial index, 3)) (kk : AW K h (pc + 3) ls st) : AW K h pc ls (.ref b :: st) := by
  subst hst
  refine aw_l (fun {p e R s m args below meth c H locs cells slots Q} C k => ?_) kk
  have h1 := C.f
  have h2 := C.lo
  exact W.objInit C.x C.b C.o (C.ts _ g1) (C.ts _ g2) (C.ts _ g3) rfl (by rw [C.ml]; exact hm) rfl d (by omega) (by simp only [List.map_nil, List.sum_nil]; show 2 * 0 + 0 + 12 ≤ _; omega) k
end
/-! for printed walks -/
def FU : Nat := 1000000
def lt {β : Type} (v : AH) (f : AH → Option β) : Option β := f v
def ons {β : Type} (o : Option Nat) (a : Option β) (f : Nat → Option β) : Option β := match o with
  | none => a
  | some x => f x
/-- a call that may throw: what goes on behind a throw, behind a return -/
def bnx {α β : Type} (x : Option (α ⊕ (Nat × AH))) (t : Nat × AH → Option β) (f : α → Option β) : Option β := match x with
  | none => none
  | some (.inl a) => f a
  | some (.inr q) => t q
def aLP {σ : Type} (K : KT) (nL pc : Nat) (f : σ → List (Nat × Value)) (g : σ → AH) : σ → Prop := fun s => ∀ ls : Array Slot, lv_has ls nL (f s) → AW K (g s) pc ls []
section
variable {α β : Type} {Z : α → Prop} {G G' : Prop}
theorem sp_all {L : Array Slot → Prop} {Gf : Array Slot → Prop} {x : Option α} (k : ∀ ls : Array Slot, L ls → SP x Z (Gf ls)) : SP x Z (∀ ls : Array Slot, L ls → Gf ls) := fun o h z ls hl => k ls hl o h z
theorem sp_t {v : AH} {f : AH → Option α} (k : ∀ h2 : AH, h2 = v → SP (f h2) Z G) : SP (lt v f) Z G := k v rfl
theorem sp_o {o : Option Nat} {a : Option α} {f : Nat → Option α} (k1 : o = none → SP a Z G) (k2 : ∀ x, o = some x → SP (f x) Z G) : SP (ons o a f) Z G := by
  cases o with
  | none => exact k1 rfl
  | some x => exact k2 x rfl
theorem sp_bx {x : Option (β ⊕ (Nat × AH))} {t : Nat × AH → Option α} {f : β → Option α} (k2 : ∀ q, x = some (.inr q) → SP (t q) Z G) (k1 : ∀ r, x = some (.inl r) → SP (f r) Z G) : SP (bnx x t f) Z G := by
  intro o h z
  match x, h, k1, k2 with
  | none, h, _, _ => cases h
  | some (.inl r), h, k1, _ => exact k1 r rfl o h z
  | some (.inr q), h, _, k2 => exact k2 q rfl o h z
theorem sp_bl {σ ρ : Type} {step : σ → Option (σ ⊕ ρ)} {P : σ → Prop} {E : ρ → Prop} {n : Nat} {s : σ} {f : ρ → Option α} (hs : ∀ s, SP (step s) (ZL P E) (P s)) (k : P s → G) (hc : ∀ r, SP (f r) Z (E r)) : SP (bnd (iter step n s) f) Z G := by
  intro o h z
  cases hi : iter step n s with
  | none => rw [hi] at h; cases h
  | some r =>
    rw [hi] at h
    exact sp_loop hs k r hi (hc r o h z)
end
theorem uS {h h' : AH} {a c : Nat} (e : gS h' = gS h) (hs : gS h a = c) : gS h' a = c := by rw [e]; exact hs
theorem AWe {K : KT} {h h2 : AH} {pc : Nat} {ls : Array Slot} {st : List Value} (e : h2 = h) (kk : AW K h2 pc ls st) : AW K h pc ls st := e ▸ kk
theorem nC_S {h h2 : AH} {c n : Nat} (e : h2 = nC h c n) : gS h2 (gZ h) = c := by rw [e]; exact (nC_new h c n).1
theorem hasV_I' {h h2 : AH} {a k : Nat} {v : Int32} (e : h2 = uI h a k v) : hasV h h2 a k 0 (.int v) := by rw [e]; exact hasV_I h a k v
theorem hasV_L' {h h2 : AH} {a k : Nat} {v : Int64} (e : h2 = uL h a k v) : hasV h h2 a k 1 (.long v) := by rw [e]; exact hasV_L h a k v
theorem hasV_R' {h h2 : AH} {a k : Nat} {v : Option Nat} (e : h2 = uR h a k v) : hasV h h2 a k 2 (va_rf v) := by rw [e]; exact hasV_R h a k v
theorem nar_o {n : String} (r : Option Nat) : narrow (.object n) (va_rf r) = va_rf r := by cases r <;> rfl
theorem nar_a {t : FieldType} (r : Option Nat) : narrow (.array t) (va_rf r) = va_rf r := by cases r <;> rfl
theorem fit_o {n : String} (r : Option Nat) : fits (.object n) (va_rf r) = true := by cases r <;> rfl
theorem fit_a {t : FieldType} (r : Option Nat) : fits (.array t) (va_rf r) = true := by cases r <;> rfl
theorem sw_out {x a b : Int32} {lo hi : Int} (h1 : a.toInt = lo) (h2 : b.toInt = hi) (h : x < a ∨ b < x) : x.toInt < lo ∨ hi < x.toInt := by
  rw [← h1, ← h2]
  rcases h with h | h
  · exact Or.inl (Int32.lt_iff_toInt_lt.mp h)
  · exact Or.inr (Int32.lt_iff_toInt_lt.mp h)
theorem aw_newI {K : KT} {h : AH} {pc : Nat} {ls : Array Slot} {st : List Value} {n : Int32} (harr : Cond.arrayClass (aty 0) ∈ lw_all) (hn : ¬ n < 0) (hb : ix n ≤ 1000000) (d : decode (kc K) pc = .ok (.newarray .int, 2)) (kk : AW K (nC h 101 (ix n)) (pc + 2) ls (.ref (gZ h) :: st)) : AW K h pc ls (.int n :: st) :=
  aw_newa (t := 0) (by decide) rfl (fun h a j e _ => by show Value.int 0 = Value.int _; rw [e]) harr hn (by show ix n * 4 ≤ _; omega) (fun _ _ h => h) d kk
theorem aw_newB {K : KT} {h : AH} {pc : Nat} {ls : Array Slot} {st : List Value} {n : Int32} (harr : Cond.arrayClass (aty 1) ∈ lw_all) (hn : ¬ n < 0) (hb : ix n ≤ 1000000) (d : decode (kc K) pc = .ok (.newarray .byte, 2)) (kk : AW K (nC h 102 (ix n)) (pc + 2) ls (.ref (gZ h) :: st)) : AW K h pc ls (.int n :: st) :=
  aw_newa (t := 1) (by decide) rfl (fun h a j e _ => by show Value.int 0 = Value.int _; rw [e]) harr hn (by show ix n * 1 ≤ _; omega) (fun _ _ h => h) d kk
theorem aw_newC {K : KT} {h : AH} {pc : Nat} {ls : Array Slot} {st : List Value} {n : Int32} (harr : Cond.arrayClass (aty 2) ∈ lw_all) (hn : ¬ n < 0) (hb : ix n ≤ 1000000) (d : decode (kc K) pc = .ok (.newarray .char, 2)) (kk : AW K (nC h 103 (ix n)) (pc + 2) ls (.ref (gZ h) :: st)) : AW K h pc ls (.int n :: st) :=
  aw_newa (t := 2) (by decide) rfl (fun h a j e _ => by show Value.int 0 = Value.int _; rw [e]) harr hn (by show ix n * 2 ≤ _; omega) (fun _ _ h => h) d kk
theorem aw_newJ {K : KT} {h : AH} {pc : Nat} {ls : Array Slot} {st : List Value} {n : Int32} (harr : Cond.arrayClass (aty 3) ∈ lw_all) (hn : ¬ n < 0) (hb : ix n ≤ 1000000) (d : decode (kc K) pc = .ok (.newarray .long, 2)) (kk : AW K (nC h 104 (ix n)) (pc + 2) ls (.ref (gZ h) :: st)) : AW K h pc ls (.int n :: st) :=
  aw_newa (t := 3) (by decide) rfl (fun h a j _ e => by show Value.long 0 = Value.long _; rw [e]) harr hn (by show ix n * 8 ≤ _; omega) (fun _ _ h => h) d kk
/-- a store across a nest -/
theorem aw_putN {K : KT} {h h' : AH} {pc : Nat} {ls : Array Slot} {st : List Value} {a ci N index k : Nat} {Cn ref host : String} {T : u_T} {ty : Nat → FieldType} {v : Value} (q : clsOK ci Cn T N) (qp : clsP T N ty) (hs : gS h a = ci + 1) (hk : k < N) (hlink : Cond.fieldLinkNest (ko K) index ref (T k).2.1 (T k).2.2.1 host ∈ nwl) (hr : ref = (T k).1) (hfin : (T k).2.2.2 = false) (hw : hasV h h' a k (kd ci k) v) (hn : narrow (ty k) v = v) (hf : fits (ty k) v = true) (d : decode (kc K) pc = .ok (.putfield index, 3)) (kk : AW K h' (pc + 3) ls st) : AW K h pc ls (v :: .ref a :: st) := by
  have e := hw.1
  refine ⟨by rw [← e.2.2.1, ← e.2.2.2.1]; exact kk.1, fun z1 z2 p e' R s m args below meth c C H locs hp hS => ?_⟩
  have k2 := kk.2 (by rw [e.2.2.1]; exact z1) (by rw [e.2.2.2.1]; exact z2) p e' R s m args below meth c C
  rw [e.2.2.1, e.2.2.2.1] at k2
  have hap := va_apart (own := ko K) C.ts q.2.2.2 ty qp.1 qp.2 C.k q.1
  obtain ⟨ha, cell, q1, q2, q3, q4⟩ := hp.obj hs q.2.2.1
  have qi := C.k.1 ci _ q.1
  obtain ⟨hSl, hfc, kC, hkC, hkind⟩ := qi
  obtain ⟨cf, kf, fi, f, hi, hsl⟩ := hSl k hk
  have hlay := C.ts _ (q.2.2.2 _ (u_in_lay hk))
  have hst := (u_facts hfc hkC (u_lays C.ts q.2.2.2 hk) hi).1
  have hN : cN ci = N := q.2.1
  have hslot : f.slot < cell.slots.size := by rw [hsl]; exact k2_hasslot (q4 k (by rw [hN]; exact hk))
  have fin : ∀ H' : Heap, H'[a]? = some (cell.setSlot f.slot v) → H'.size = H.size → (∀ q, q ≠ a → H'[q]? = H[q]?) → W p (kl K) e' R s m args below meth c H' (locs ++ [⟨a, f.slot⟩]) (gZ h - gZ (k0 K)) (gQ h - gQ (k0 K)) (aQ K below args s) (F0 m (pc + 3) ls st) := by
    intro H' e1 e2 e3
    refine k2 H' _ (hp.set hw.1 e2 e3 (cOK.obj hs q.2.2.1 hw.1.1 ha ?_)) (hS.put e2 e3 ha)
    refine t_OB.to (V := updV (fun j => fv h (kd ci j) a j) k v) ⟨_, e1, q2, q3, ?_⟩ (hw.obj)
    rw [hsl, hN]
    exact t_set (by rw [← hN]; exact q4) hap hk v
  unfold u_lay at hlay
  rw [if_neg (by rw [hfin]; decide)] at hlay
  have h6 := u_store hfc hkC hkind hlay hi (qp.1 k hk) hn hf
  exact va_WputK C.x C.b C.o (va_Nw.use rfl (C.am.2.1 _ hlink)) (by rw [hr]; exact hi) hst (by rw [q2]; exact h6) q1 q3 hslot rfl rfl d fin
theorem kk_ref {K : KT} {h : AH} {pc : Nat} {ls : Array Slot} {st : List Value} {r : Option Nat} {x : Nat} (e : r = some x) (kk : AW K h pc ls (.ref x :: st)) : AW K h pc ls ((some (va_rf r)).toList ++ st) := by subst e; exact kk
theorem kk_nul {K : KT} {h : AH} {pc : Nat} {ls : Array Slot} {st : List Value} {r : Option Nat} (e : r = none) (kk : AW K h pc ls (.null :: st)) : AW K h pc ls ((some (va_rf r)).toList ++ st) := by subst e; exact kk
theorem pk_b8 (x : Int32) : x.toInt8.toInt32.toInt8.toInt32 = x.toInt8.toInt32 := by simp
/-! what throws -/
def tE {α : Type} (f : α → AH) (o : α ⊕ (Nat × AH)) : AH := match o with
  | .inl a => f a
  | .inr q => q.2
def tV {α : Type} (f : α → Option Value) (E : String) (o : α ⊕ (Nat × AH)) : Option Value ⊕ (String × Nat) := match o with
  | .inl a => .inl (f a)
  | .inr q => .inr (E, q.1)
theorem AMetX.of {K : KT} {As : List Value} (hy : plainName (ky K).cls = true) (hx : kx K = true) (hh : kh K = []) (ho : (ky K).cls = ko K) (hn : (lg_sl As).length ≤ kn K) (body : ∀ ls, lv_has ls (kn K) (lv_args 0 As) → AW K (k0 K) 0 ls []) : AMetX K As := by
  have hl := lv_entry As (n := kn K) hn
  have b0 := body _ hl
  refine ⟨b0.1, ?_⟩
  refine vx_ofW (cc := kc K) (maxL := kn K) (ret := kr K) hy rfl ?_
  intro p e s m args below meth c s₁ B hml ht0 hv0
  obtain ⟨rfl, hA, hP⟩ := hv0
  have hts := atoms_spec (ws := ws_ (ky K) (kc K) (kn K) (kr K)) B.pre
  have hts' : ∀ w ∈ lw_all, w.before _ s = true := fun w h => hts w (List.mem_cons_of_mem _ h)
  have ht : c.exceptionTable.toList = tableOf (kh K) := by
    rw [hh]
    exact List.eq_nil_iff_forall_not_mem.mpr (fun x hx => ht0 x hx)
  have C : Cx K p (headSpec (ws_ (ky K) (kc K) (kn K) (kr K)) { frames := kF K, cells := gZ (kE K) - gZ (k0 K), slots := gQ (kE K) - gQ (k0 K), locals := 64 * kF K }).room s m As.toArray meth c :=
    ⟨B.exec, B.bytes, hml, by rw [← ho]; exact findClass_of_methodNamed B.named, hts', hA, Nat.le_refl _, Nat.le_refl _, Nat.le_refl _, Nat.le_refl _, hP.size.symm, B.notSynchronized, B.returns, (name_of_methodNamed B.named B.method).1, ht⟩
  have h := b0.2 (Nat.le_refl _) (Nat.le_refl _) p e _ s m As.toArray below meth c C s.heap [] hP va_S.rf
  rw [Nat.sub_self, Nat.sub_self] at h
  rw [lg_entry_eq]
  unfold aQ at h
  rw [if_pos hx] at h
  exact h
/-- a method with handlers that returns -/
def AMetH (K : KT) (As : List Value) : Prop :=
  (gZ (k0 K) ≤ gZ (kE K) ∧ gQ (k0 K) ≤ gQ (kE K)) ∧
  Met (kl K) (ky K) (wsW_ (ky K) (kc K) (kn K) (kr K) (kh K)) { frames := kF K, cells := gZ (kE K) - gZ (k0 K), slots := gQ (kE K) - gQ (k0 K), locals := 64 * kF K } (aPc (kD K) (k0 K) As) (aQc (kD K) (kE K) (kv K)) (gZ (kE K) - gZ (k0 K)) (gQ (kE K) - gQ (k0 K)) (dA (kD K))
theorem AMetH.of {K : KT} {As : List Value} (hy : plainName (ky K).cls = true) (hv : ∃ r, kv K = .inl r) (hx : kx K = false) (ho : (ky K).cls = ko K) (hn : (lg_sl As).length ≤ kn K) (body : ∀ ls, lv_has ls (kn K) (lv_args 0 As) → AW K (k0 K) 0 ls []) : AMetH K As := by
  have hl := lv_entry As (n := kn K) hn
  have b0 := body _ hl
  refine ⟨b0.1, ?_⟩
  refine va_MetW (cc := kc K) (maxL := kn K) (ret := kr K) (hh := kh K) hy rfl ?_
  intro p e s m args below meth c s₁ B hml hv0
  obtain ⟨rfl, hA, hP⟩ := hv0
  have hts := atoms_spec (ws := wsW_ (ky K) (kc K) (kn K) (kr K) (kh K)) B.pre
  have hts' : ∀ w ∈ lw_all, w.before _ s = true := fun w h => hts w (List.mem_cons_of_mem _ h)
  have ht : c.exceptionTable.toList = tableOf (kh K) := vx_table (x := ky K) B (hts _ List.mem_cons_self)
  have C : Cx K p (headSpec (wsW_ (ky K) (kc K) (kn K) (kr K) (kh K)) { frames := kF K, cells := gZ (kE K) - gZ (k0 K), slots := gQ (kE K) - gQ (k0 K), locals := 64 * kF K }).room s m As.toArray meth c :=
    ⟨B.exec, B.bytes, hml, by rw [← ho]; exact findClass_of_methodNamed B.named, hts', hA, Nat.le_refl _, Nat.le_refl _, Nat.le_refl _, Nat.le_refl _, hP.size.symm, B.notSynchronized, B.returns, (name_of_methodNamed B.named B.method).1, ht⟩
  have h := b0.2 (Nat.le_refl _) (Nat.le_refl _) p e _ s m As.toArray below meth c C s.heap [] hP va_S.rf
  rw [Nat.sub_self, Nat.sub_self] at h
  rw [lg_entry_eq]
  unfold aQ at h
  rw [if_neg (by rw [hx]; decide)] at h
  exact h
theorem aw_iretT {K : KT} {h : AH} {pc : Nat} {ls : Array Slot} {x : Int32} {E : String} {o : (Int32 × AH) ⊕ (Nat × AH)} (hz : Sum.inl (x, h) = o) (e : kE K = tE (fun p : Int32 × AH => p.2) o) (hv : kv K = tV (fun p : Int32 × AH => some (.int p.1)) E o) (hr : kr K = some .int) (d : decode (kc K) pc = .ok (.ireturn, 1)) : AW K h pc ls [.int x] := by
  subst hz
  exact aw_iret rfl e hv hr d
theorem aw_zretT {K : KT} {h : AH} {pc : Nat} {ls : Array Slot} {x : Int32} {E : String} {ty : FieldType} {o : (Int32 × AH) ⊕ (Nat × AH)} (hn : narrow ty (.int x) = .int x) (hz : Sum.inl (x, h) = o) (e : kE K = tE (fun p : Int32 × AH => p.2) o) (hv : kv K = tV (fun p : Int32 × AH => some (.int p.1)) E o) (hr : kr K = some ty) (d : decode (kc K) pc = .ok (.ireturn, 1)) : AW K h pc ls [.int x] := by
  subst hz
  exact aw_zret hn rfl e hv hr d
theorem aw_vretT {K : KT} {h : AH} {pc : Nat} {ls : Array Slot} {E : String} {o : AH ⊕ (Nat × AH)} (hz : Sum.inl h = o) (e : kE K = tE (fun p : AH => p) o) (hv : kv K = tV (fun _ : AH => none) E o) (hr : kr K = none) (d : decode (kc K) pc = .ok (.return_, 1)) : AW K h pc ls [] := by
  subst hz
  exact aw_vret rfl e hv hr d
theorem aw_aretT {K : KT} {h : AH} {pc : Nat} {ls : Array Slot} {x : Option Nat} {w : Value} {E : String} {rt : FieldType} {o : (Option Nat × AH) ⊕ (Nat × AH)} (hw : va_rf x = w) (hz : Sum.inl (x, h) = o) (e : kE K = tE (fun p : Option Nat × AH => p.2) o) (hv : kv K = tV (fun p : Option Nat × AH => some (va_rf p.1)) E o) (hr : kr K = some rt) (hrt : (∃ n, rt = .object n) ∨ ∃ t, rt = .array t) (d : decode (kc K) pc = .ok (.areturn, 1)) : AW K h pc ls [w] := by
  subst hz
  exact aw_aret hw rfl e hv hr hrt d
theorem tabNil {K : KT} {p : Program} {R : Room} {s : State} {m : MethodId} {args : Array Value} {meth : Method} {c : Code} (C : Cx K p R s m args meth c) (hh : kh K = []) (pc : Nat) : ∀ x ∈ c.exceptionTable.toList, covers x pc = false := by
  rw [C.tb, hh]
  intro x hx
  cases hx
/-- it leaves the method -/
theorem ax_out {K : KT} {h : AH} {pc : Nat} {ls : Array Slot} {st : List Value} {E : String} {q : Nat} (e : kE K = h) (hv : kv K = .inr (E, q)) (hx : kx K = true) (hh : kh K = []) : AX K h pc ls st E q := by
  refine ⟨by rw [e]; exact ⟨Nat.le_refl _, Nat.le_refl _⟩, fun z1 z2 p e' R s m args below meth c C H locs hp hS ce h1 h2 h3 => ?_⟩
  unfold aQ
  rw [if_pos hx, e]
  exact vx_out (tabNil C hh _) C.lk h1 h2 h3 (fun t ht hA => ⟨hv, by rw [ht]; exact hp, hS.F ht⟩) hS.2.2 (Nat.le_refl _) (Nat.le_refl _)
theorem ax_outT {α : Type} {K : KT} {h : AH} {pc : Nat} {ls : Array Slot} {st : List Value} {E : String} {q : Nat} {f : α → AH} {g : α → Option Value} {o : α ⊕ (Nat × AH)} (hz : Sum.inr (q, h) = o) (e : kE K = tE f o) (hv : kv K = tV g E o) (hx : kx K = true) (hh : kh K = []) : AX K h pc ls st E q := by
  subst hz
  exact ax_out e hv hx hh
/-- 'throw x' -/
theorem aw_throwT {α : Type} {K : KT} {h : AH} {pc : Nat} {ls : Array Slot} {st : List Value} {q ci N : Nat} {Cn : String} {T : u_T} {f : α → AH} {g : α → Option Value} {o : α ⊕ (Nat × AH)} (ok : clsOK ci Cn T N) (hs : gS h q = ci + 1) (hz : Sum.inr (q, h) = o) (e : kE K = tE f o) (hv : kv K = tV g Cn o) (hx : kx K = true) (hh : kh K = []) (d : decode (kc K) pc = .ok (.athrow, 1)) : AW K h pc ls (.ref q :: st) := by
  have a : AX K h pc ls st Cn q := ax_outT hz e hv hx hh
  refine ⟨a.1, fun z1 z2 p e' R s m args below meth c C H locs hp hS => ?_⟩
  obtain ⟨-, cell, g1, g2, g3, -⟩ := hp.obj hs ok.2.2.1
  exact vx_athrow C.x C.b d (a.2 z1 z2 p e' R s m args below meth c C H locs hp hS cell g1 g3 (by rw [g2]; exact (C.k.1 ci _ ok.1).2.1))
/-- it is caught -/
theorem ax_catch {K : KT} {h : AH} {pc : Nat} {ls : Array Slot} {st : List Value} {E name : String} {q : Nat} (x : Nat × Nat × Nat × Nat) (hh : tableOf (kh K) = tableOf [x]) (hx : ∀ y ∈ tableOf [x], covers y pc = true ∧ y.catchType = x.2.2.2 ∧ y.handlerPc = x.2.2.1) (h0 : x.2.2.2 ≠ 0) (hl : (tableOf [x]).length = 1) (hlink : Cond.classLink (ko K) x.2.2.2 name ∈ lw_all) (hcast : Cond.castable E name ∈ nwl) (kk : AW K h x.2.2.1 ls [.ref q]) : AX K h pc ls st E q := by
  refine ⟨kk.1, fun z1 z2 p e' R s m args below meth c C H locs hp hS ce h1 h2 h3 => ?_⟩
  have k2 := kk.2 z1 z2 p e' R s m args below meth c C H locs hp hS
  have ht := C.tb
  rw [hh] at ht
  match hy : tableOf [x], hl with
  | [y], _ =>
    rw [hy] at ht
    obtain ⟨a1, a2, a3⟩ := hx y (by rw [hy]; exact List.mem_cons_self)
    refine vx_catch (own := ko K) (name := name) C.o [] y [] ht (fun z hz => nomatch hz) a1 (by rw [a2]; exact h0) (by rw [a2]; exact C.ts _ hlink) (va_Nw.use rfl (C.am.2.1 _ hcast)) h1 h2 h3 ?_
    rw [a3]
    exact k2
/-- calls of methods that throw -/
theorem aw_backXn {K : KT} {h h1 : AH} {pc : Nat} {ls : Array Slot} {st st0 : List Value} {v : Option Value} {a : Array Value} (mono : gZ h ≤ gZ h1 ∧ gQ h ≤ gQ h1) (kk : AW K h1 (pc + 3) ls (v.toList ++ st))
    (run : ∀ {p : Program} {e : Env} {R : Room} {s : State} {m : MethodId} {args : Array Value} {below : List Frame} {meth : Method} {c : Code} {H : Heap} {locs : List Loc} {cells slots : Nat}, Cx K p R s m args meth c → HP (kD K) h H → va_S (dA (kD K)) s.heap H locs → (cells + (gZ h1 - gZ h) ≤ R.cells ∧ slots + (gQ h1 - gQ h) ≤ R.slots) → (∀ U : State, U.heap = H → s.WarmedH U.vm → Amb (kD K) U) →
      vx_Run p (kl K) e R s m args below meth c H locs cells slots (gZ h1 - gZ h) (gQ h1 - gQ h) (F0 m pc ls st0) st (aQc (kD K) h1 (.inl v) a) (aXC (kD K) h1 (.inl v)) (dA (kD K))) : AW K h pc ls st0 := by
  refine ⟨⟨Nat.le_trans mono.1 kk.1.1, Nat.le_trans mono.2 kk.1.2⟩, fun z1 z2 p e R s m args below meth c C H locs hp hS => ?_⟩
  have k2 := kk.2 (Nat.le_trans z1 mono.1) (Nat.le_trans z2 mono.2) p e R s m args below meth c C
  have m1 := mono.1
  have m2 := mono.2
  have q1 := kk.1.1
  have q2 := kk.1.2
  have e1 : (gZ h - gZ (k0 K)) + (gZ h1 - gZ h) = gZ h1 - gZ (k0 K) := by omega
  have e2 : (gQ h - gQ (k0 K)) + (gQ h1 - gQ h) = gQ h1 - gQ (k0 K) := by omega
  have hr := run (e := e) (below := below) (cells := gZ h - gZ (k0 K)) (slots := gQ h - gQ (k0 K)) C hp hS (by rw [e1, e2]; exact ⟨Nat.le_trans (by omega) C.ce, Nat.le_trans (by omega) C.sl⟩) (fun U hU hW => C.am.next hW (by rw [hU]; exact hS.1) (fun q g1 g2 => by rw [hU]; exact hS.2.1 q g1 g2))
  intro T hT X
  rcases hr T hT X with ⟨v', st₀, t, T', L, h0, X', hL, f1, f2, ⟨⟨r, hv1, hv2⟩, hP1, hF⟩, step⟩ | ⟨q, st₀, t, T', L, E, ce, h0, X', hL, f1, f2, ⟨hv, -⟩, -⟩
  · cases hv1
    cases hv2
    rw [e1, e2] at X'
    obtain ⟨x1, x2, x3⟩ := vx_keep h0 f1 hS (fun q _ hq => hq) (fun q hq => hq) hL hF
    obtain ⟨t2, a1, b1⟩ := k2 T'.heap _ (by rw [f1]; exact hP1) x3 T' rfl X'
    exact ⟨t2, step t2 a1, b1⟩
  · cases hv
theorem aw_backXt {K : KT} {h h1 : AH} {pc : Nat} {ls : Array Slot} {st st0 : List Value} {E : String} {q : Nat} {a : Array Value} (mono : gZ h ≤ gZ h1 ∧ gQ h ≤ gQ h1) (kk : AX K h1 pc ls st E q)
    (run : ∀ {p : Program} {e : Env} {R : Room} {s : State} {m : MethodId} {args : Array Value} {below : List Frame} {meth : Method} {c : Code} {H : Heap} {locs : List Loc} {cells slots : Nat}, Cx K p R s m args meth c → HP (kD K) h H → va_S (dA (kD K)) s.heap H locs → (cells + (gZ h1 - gZ h) ≤ R.cells ∧ slots + (gQ h1 - gQ h) ≤ R.slots) → (∀ U : State, U.heap = H → s.WarmedH U.vm → Amb (kD K) U) →
      vx_Run p (kl K) e R s m args below meth c H locs cells slots (gZ h1 - gZ h) (gQ h1 - gQ h) (F0 m pc ls st0) st (aQc (kD K) h1 (.inr (E, q)) a) (aXC (kD K) h1 (.inr (E, q))) (dA (kD K))) : AW K h pc ls st0 := by
  refine ⟨⟨Nat.le_trans mono.1 kk.1.1, Nat.le_trans mono.2 kk.1.2⟩, fun z1 z2 p e R s m args below meth c C H locs hp hS => ?_⟩
  have k2 := kk.2 (Nat.le_trans z1 mono.1) (Nat.le_trans z2 mono.2) p e R s m args below meth c C
  have m1 := mono.1
  have m2 := mono.2
  have q1 := kk.1.1
  have q2 := kk.1.2
  have e1 : (gZ h - gZ (k0 K)) + (gZ h1 - gZ h) = gZ h1 - gZ (k0 K) := by omega
  have e2 : (gQ h - gQ (k0 K)) + (gQ h1 - gQ h) = gQ h1 - gQ (k0 K) := by omega
  have hr := run (e := e) (below := below) (cells := gZ h - gZ (k0 K)) (slots := gQ h - gQ (k0 K)) C hp hS (by rw [e1, e2]; exact ⟨Nat.le_trans (by omega) C.ce, Nat.le_trans (by omega) C.sl⟩) (fun U hU hW => C.am.next hW (by rw [hU]; exact hS.1) (fun q g1 g2 => by rw [hU]; exact hS.2.1 q g1 g2))
  intro T hT X
  rcases hr T hT X with ⟨v', st₀, t, T', L, h0, X', hL, f1, f2, ⟨⟨r, hv1, hv2⟩, hP1, hF⟩, step⟩ | ⟨q, st₀, t, T', L, E, ce, h0, X', hL, f1, f2, ⟨hv, hP1, hF⟩, g1, g2, g3, step⟩
  · cases hv1
  · cases hv
    rw [e1, e2] at X'
    obtain ⟨x1, x2, x3⟩ := vx_keep h0 f1 hS (fun q _ hq => hq) (fun q hq => hq) hL hF
    obtain ⟨t2, a1, b1⟩ := k2 T'.heap _ (by rw [f1]; exact hP1) x3 ce (by rw [f1]; exact g1) g2 g3 T' rfl X'
    exact ⟨t2, step.trans a1, b1⟩
section
variable {K : KT} {h h1 : AH} {pc : Nat} {ls : Array Slot} {st st0 : List Value} {y : MethodName} {bytes : ByteArray} {maxL F n index : Nat} {ret : Option FieldType} {ow Cn : String} {As : List Value} {b : Nat}
theorem aw_callV_n {v : Option Value} (M : AMetX (kl K, y, bytes, maxL, ret, ow, F, kD K, h, h1, .inl v, true, []) (.ref b :: As)) (r : rcv K h b Cn) (hC : y.cls = Cn) (hm : mOK y n) (g1 : Cond.methodLink (ko K) index y ∈ lw_all) (g2 : Cond.instanceMethod y ∈ lw_all) (g3 : Cond.selects Cn y y ∈ lw_all) (g4 : Cond.initialized Cn ∈ lw_all) (g5 : Cond.code y bytes maxL ret ∈ lw_all) (hF : F + 1 ≤ kF K) (hL : maxL ≤ 45) (hn : As.length = n) (hls : ls.size = kn K) (hst : st0 = As.reverse ++ .ref b :: st) (hc : (st.map fun v => v.category).sum ≤ 8) (d : decode (kc K) pc = .ok (.invokevirtual index, 3)) (kk : AW K h1 (pc + 3) ls (v.toList ++ st)) : AW K h pc ls st0 :=
  aw_backXn (a := (Value.ref b :: As).toArray) M.1 kk fun C hp hS hf hA => vx_runV (As := As) (rest := st) ⟨C.x, C.b, C.ml, C.o, C.ts⟩ M.2 (cwV n C.ts (lw_V g1 g2 g3 g4 g5) rfl rfl rfl ⟨hC, hm.1.1, hm.1.2, hm.2⟩ (cxR C hF hL)) ⟨aPc.bl, r C hp hS, fun U hU hW => ⟨rfl, hA U hU hW, by rw [hU]; exact hp⟩⟩ rfl hn hls hst (lv_room hc) d hf
theorem aw_callV_t {E : String} {q : Nat} (M : AMetX (kl K, y, bytes, maxL, ret, ow, F, kD K, h, h1, .inr (E, q), true, []) (.ref b :: As)) (r : rcv K h b Cn) (hC : y.cls = Cn) (hm : mOK y n) (g1 : Cond.methodLink (ko K) index y ∈ lw_all) (g2 : Cond.instanceMethod y ∈ lw_all) (g3 : Cond.selects Cn y y ∈ lw_all) (g4 : Cond.initialized Cn ∈ lw_all) (g5 : Cond.code y bytes maxL ret ∈ lw_all) (hF : F + 1 ≤ kF K) (hL : maxL ≤ 45) (hn : As.length = n) (hls : ls.size = kn K) (hst : st0 = As.reverse ++ .ref b :: st) (hc : (st.map fun v => v.category).sum ≤ 8) (d : decode (kc K) pc = .ok (.invokevirtual index, 3)) (kk : AX K h1 pc ls st E q) : AW K h pc ls st0 :=
  aw_backXt (a := (Value.ref b :: As).toArray) M.1 kk fun C hp hS hf hA => vx_runV (As := As) (rest := st) ⟨C.x, C.b, C.ml, C.o, C.ts⟩ M.2 (cwV n C.ts (lw_V g1 g2 g3 g4 g5) rfl rfl rfl ⟨hC, hm.1.1, hm.1.2, hm.2⟩ (cxR C hF hL)) ⟨aPc.bl, r C hp hS, fun U hU hW => ⟨rfl, hA U hU hW, by rw [hU]; exact hp⟩⟩ rfl hn hls hst (lv_room hc) d hf
/-- of a method with handlers -/
theorem aw_callVH {hh : List (Nat × Nat × Nat × Nat)} {v : Option Value} (M : AMetH (kl K, y, bytes, maxL, ret, ow, F, kD K, h, h1, .inl v, false, hh) (.ref b :: As)) (r : rcv K h b Cn) (hC : y.cls = Cn) (hm : mOK y n) (g1 : Cond.methodLink (ko K) index y ∈ lw_all) (g2 : Cond.instanceMethod y ∈ lw_all) (g3 : Cond.selects Cn y y ∈ lw_all) (g4 : Cond.initialized Cn ∈ lw_all) (g5 : Cond.codeWith y bytes maxL ret hh ∈ lw_all) (hF : F + 1 ≤ kF K) (hL : maxL ≤ 45) (hn : As.length = n) (hls : ls.size = kn K) (hst : st0 = As.reverse ++ .ref b :: st) (hc : (st.map fun v => v.category).sum ≤ 8) (d : decode (kc K) pc = .ok (.invokevirtual index, 3)) (kk : AW K h1 (pc + 3) ls (v.toList ++ st)) : AW K h pc ls st0 :=
  aw_back (a := (Value.ref b :: As).toArray) M.1 kk fun C hp hS hf hA => vx_runVW (As := As) (rest := st) ⟨C.x, C.b, C.ml, C.o, C.ts⟩ M.2 (vx_cwVW n C.ts (lw_VW g1 g2 g3 g4 g5) rfl rfl rfl ⟨hC, hm.1.1, hm.1.2, hm.2⟩ (cxR C hF hL)) ⟨aPc.bl, r C hp hS, fun U hU hW => ⟨rfl, hA U hU hW, by rw [hU]; exact hp⟩⟩ rfl hn hls hst (lv_room hc) d hf
theorem aw_callSH {hh : List (Nat × Nat × Nat × Nat)} {v : Option Value} (M : AMetH (kl K, y, bytes, maxL, ret, ow, F, kD K, h, h1, .inl v, false, hh) As) (hm : mOK y n) (g1 : Cond.methodLink (ko K) index y ∈ lw_all) (g2 : Cond.static y ∈ lw_all) (g3 : Cond.initialized y.cls ∈ lw_all) (g4 : Cond.codeWith y bytes maxL ret hh ∈ lw_all) (hF : F + 1 ≤ kF K) (hL : maxL ≤ 45) (hn : As.length = n) (hls : ls.size = kn K) (hst : st0 = As.reverse ++ st) (hc : (st.map fun v => v.category).sum ≤ 8) (d : decode (kc K) pc = .ok (.invokestatic index, 3)) (kk : AW K h1 (pc + 3) ls (v.toList ++ st)) : AW K h pc ls st0 :=
  aw_back (a := As.toArray) M.1 kk fun C hp hS hf hA => vx_runSW (As := As) (rest := st) ⟨C.x, C.b, C.ml, C.o, C.ts⟩ M.2 (vx_cwSW n C.ts (lw_SW g1 g2 g3 g4) rfl rfl rfl ⟨hm.1.1, hm.1.2, hm.2⟩ (cxR C hF hL)) ⟨aPc.bl, fun U hU hW => ⟨rfl, hA U hU hW, by rw [hU]; exact hp⟩⟩ rfl hn hls hst (lv_room hc) d hf
end
/-! Math -/
def imax (x y : Int32) : Int32 := if x < y then y else x
def imin (x y : Int32) : Int32 := if y < x then y else x
def iabs (x : Int32) : Int32 := if 0 ≤ x then x else 0 - x
def labs (x : Int64) : Int64 := if 0 < x then x else -x
section
variable {K : KT} {h : AH} {pc index : Nat} {ls : Array Slot} {st : List Value}
theorem aw_room {p : Program} {R : Room} {s : State} {m : MethodId} {args : Array Value} {meth : Method} {c : Code} (C : Cx K p R s m args meth c) (hF : 1 ≤ kF K) (hc : (st.map fun v => v.category).sum ≤ 8) (m1 : gZ h ≤ gZ (kE K) ∧ gQ h ≤ gQ (kE K)) : 1 ≤ R.frames ∧ (st.map fun v => v.category).sum + 13 ≤ R.locals ∧ gZ h - gZ (k0 K) ≤ R.cells ∧ gQ h - gQ (k0 K) ≤ R.slots := by
  have h1 := C.f
  have h2 := C.lo
  have h3 := C.ce
  have h4 := C.sl
  have h5 := m1.1
  have h6 := m1.2
  exact ⟨by omega, by omega, by omega, by omega⟩
theorem aw_mmax {x y : Int32} (hls : ls.size = kn K) (g1 : Cond.methodLink (ko K) index Lib.Math.max.name ∈ lw_all) (g2 : Cond.static Lib.Math.max.name ∈ lw_all) (g3 : Cond.initialized "java/lang/Math" ∈ lw_all) (g4 : Cond.code Lib.Math.max.name Lib.Math.max.code 2 (some .int) ∈ lw_all) (hF : 1 ≤ kF K) (hc : (st.map fun v => v.category).sum ≤ 8) (d : decode (kc K) pc = .ok (.invokestatic index, 3)) (kk : AW K h (pc + 3) ls (.int (imax x y) :: st)) : AW K h pc ls (.int y :: .int x :: st) :=
  ⟨kk.1, fun z1 z2 p e R s m args below meth c C H locs hp hS => va_mmax C.x C.b (by rw [C.ml, hls]) C.o (C.ts _ g1) (C.ts _ g2) (C.ts _ g3) (C.ts _ g4) (aw_room C hF hc kk.1).1 (aw_room C hF hc kk.1).2.1 (aw_room C hF hc kk.1).2.2.1 (aw_room C hF hc kk.1).2.2.2 d (kk.2 z1 z2 p e R s m args below meth c C H locs hp hS)⟩
theorem aw_mmin {x y : Int32} (hls : ls.size = kn K) (g1 : Cond.methodLink (ko K) index Lib.Math.min.name ∈ lw_all) (g2 : Cond.static Lib.Math.min.name ∈ lw_all) (g3 : Cond.initialized "java/lang/Math" ∈ lw_all) (g4 : Cond.code Lib.Math.min.name Lib.Math.min.code 2 (some .int) ∈ lw_all) (hF : 1 ≤ kF K) (hc : (st.map fun v => v.category).sum ≤ 8) (d : decode (kc K) pc = .ok (.invokestatic index, 3)) (kk : AW K h (pc + 3) ls (.int (imin x y) :: st)) : AW K h pc ls (.int y :: .int x :: st) :=
  ⟨kk.1, fun z1 z2 p e R s m args below meth c C H locs hp hS => va_mmin C.x C.b (by rw [C.ml, hls]) C.o (C.ts _ g1) (C.ts _ g2) (C.ts _ g3) (C.ts _ g4) (aw_room C hF hc kk.1).1 (aw_room C hF hc kk.1).2.1 (aw_room C hF hc kk.1).2.2.1 (aw_room C hF hc kk.1).2.2.2 d (kk.2 z1 z2 p e R s m args below meth c C H locs hp hS)⟩
theorem aw_mabs {x : Int32} (hls : ls.size = kn K) (g1 : Cond.methodLink (ko K) index Lib.Math.abs.name ∈ lw_all) (g2 : Cond.static Lib.Math.abs.name ∈ lw_all) (g3 : Cond.initialized "java/lang/Math" ∈ lw_all) (g4 : Cond.code Lib.Math.abs.name Lib.Math.abs.code 1 (some .int) ∈ lw_all) (hF : 1 ≤ kF K) (hc : (st.map fun v => v.category).sum ≤ 8) (d : decode (kc K) pc = .ok (.invokestatic index, 3)) (kk : AW K h (pc + 3) ls (.int (iabs x) :: st)) : AW K h pc ls (.int x :: st) :=
  ⟨kk.1, fun z1 z2 p e R s m args below meth c C H locs hp hS => va_mabs C.x C.b (by rw [C.ml, hls]) C.o (C.ts _ g1) (C.ts _ g2) (C.ts _ g3) (C.ts _ g4) (aw_room C hF hc kk.1).1 (aw_room C hF hc kk.1).2.1 (aw_room C hF hc kk.1).2.2.1 (aw_room C hF hc kk.1).2.2.2 d (kk.2 z1 z2 p e R s m args below meth c C H locs hp hS)⟩
theorem aw_mabsL {x : Int64} (hls : ls.size = kn K) (g1 : Cond.methodLink (ko K) index Lib.MathLoose.abs_long.x ∈ lw_all) (g2 : Cond.static Lib.MathLoose.abs_long.x ∈ lw_all) (g3 : Cond.initialized "java/lang/Math" ∈ lw_all) (g4 : Cond.code Lib.MathLoose.abs_long.x Lib.MathLoose.abs_long.code 2 (some .long) ∈ lw_all) (hF : 1 ≤ kF K) (hc : (st.map fun v => v.category).sum ≤ 8) (d : decode (kc K) pc = .ok (.invokestatic index, 3)) (kk : AW K h (pc + 3) ls (.long (labs x) :: st)) : AW K h pc ls (.long x :: st) :=
  ⟨kk.1, fun z1 z2 p e R s m args below meth c C H locs hp hS => va_mabs_long C.x C.b (by rw [C.ml, hls]) C.o (C.ts _ g1) (C.ts _ g2) (C.ts _ g3) (C.ts _ g4) (aw_room C hF hc kk.1).1 (aw_room C hF hc kk.1).2.1 (aw_room C hF hc kk.1).2.2.1 (aw_room C hF hc kk.1).2.2.2 d (kk.2 z1 z2 p e R s m args below meth c C H locs hp hS)⟩
end
/-! 'throw new NoSuchElementException()' -/
def ledN : List String := ["java/lang/RuntimeException", "java/lang/Exception"]
def ledW : List Cond := vx_at0 "ElephantLine" 368 "java/util/NoSuchElementException" ledN
theorem led_h1 : ∀ w ∈ ledW.filter goodWord, w ∈ lw_all := lw_in (ledW.filter goodWord) [118, 183, 192, 195, 198, 200, 184, 185, 153, 154, 186, 191, 196, 219, 173, 220, 175, 221, 177, 187, 189, 179, 1485, 1486, 1487, 1488, 1488, 1489, 1490, 1491, 1491, 1492, 1493, 184, 1484, 1476, 1478, 194, 1479, 1480, 1481, 1482, 182, 181, 1483] (by decide +kernel) (by decide +kernel)
theorem led_h2 : ∀ w ∈ ledW.filter (fun w => !goodWord w), w ∈ nwl := by decide +kernel
theorem led_hg : ∀ w ∈ Cond.classLink "ElephantLine" 366 "java/util/NoSuchElementException" :: Cond.initialized "java/util/NoSuchElementException" :: ledW, vx_ot w = true := by decide +kernel
theorem aw_throw0 {α : Type} {K : KT} {h : AH} {pc : Nat} {ls : Array Slot} {st : List Value} {f : α → AH} {g : α → Option Value} {o : α ⊕ (Nat × AH)} (hst : (kl K).stackTraces = false) (hz : Sum.inr (gZ h, nC h 0 6) = o) (hls : ls.size = kn K) (ho : ko K = "ElephantLine") (e : kE K = tE f o) (hv : kv K = tV g "java/util/NoSuchElementException" o) (hx : kx K = true) (hh : kh K = []) (hF : 7 ≤ kF K) (hc : (st.map fun v => v.category).sum ≤ 8) (d0 : decode (kc K) pc = .ok (.new 366, 3)) (d3 : decode (kc K) (pc + 3) = .ok (.dup, 1)) (d4 : decode (kc K) (pc + 4) = .ok (.invokespecial 368, 3)) (d7 : decode (kc K) (pc + 7) = .ok (.athrow, 1)) : AW K h pc ls st := by
  subst hz
  have e : kE K = nC h 0 6 := e
  have hv : kv K = .inr ("java/util/NoSuchElementException", gZ h) := hv
  have z9 : gZ (kE K) = gZ h + 1 := by rw [e]; rfl
  have y9 : gQ (kE K) = gQ h + 6 := by rw [e]; rfl
  refine ⟨⟨by omega, by omega⟩, fun z1 z2 p e' R s m args below meth c C H locs hp hS => ?_⟩
  have h1 := C.f
  have h2 := C.lo
  have h3 := C.ce
  have h4 := C.sl
  have hown := C.o
  rw [ho] at hown
  unfold aQ
  rw [if_pos hx]
  refine vx_throw0 (names := ledN) (ik := 366) (ic := 368) (A := dA (kD K)) C.x C.b hst hown (by decide +kernel) (by decide +kernel) (C.ts _ q1475) (C.ts _ q146) (vx_hat (fun w hw => C.ts _ (led_h1 w hw)) led_h2 (fun w hw => va_Nw.use (nwl_on w hw) (C.am.2.1 w hw))) led_hg C.am.2.2.2.2.2.2.2.2.1.1 C.am.2.2.2.2.2.2.2.2.1.2.1 hS (by rw [C.ml, hls]) d0 d3 d4 d7 (tabNil C hh _) (by show 2 + 3 < _; omega) (by show _ + (13 * (2 + 1) + 42) ≤ _; omega) (by omega) (by omega) C.lk (fun t hA g1 g2 g3 => ⟨by rw [hp.size]; exact hv, ?_, Nat.le_trans hS.1 g1, ?_⟩) hS.2.2 (by omega) (by omega)
  · rw [e]
    refine hp.new g3 g2 ⟨fun c2 hs _ => ?_, fun t2 hs _ => ?_, fun hs => ?_, fun hs => ?_⟩
    · rw [(nC_new h 0 6).1] at hs; omega
    · rw [(nC_new h 0 6).1] at hs; omega
    · rw [(nC_new h 0 6).1] at hs; omega
    · rw [(nC_new h 0 6).1] at hs; omega
  · intro q q1 q2
    rw [g2 q (Nat.lt_of_lt_of_le q1 hS.1)]
    exact hS.2.1 q q1 q2
theorem ldcSW {p : Program} {l : Launch} {e : Env} {R : Room} {s : State} {m : MethodId} {args : Array Value} {below : List Frame} {meth : Method} {c : Code} {T : State} {locs : List Loc} {cells slots : Nat}
    (X : Stand p l e R s m args below meth c T locs cells slots) (hexec : p.tables.exec = Jvm.exec) {own text : String} {index : Nat} {a : Addr} (hown : s.vm.findClass own = some m.cls)
    (hconst : (Cond.stringRef own index text).before args s = true) (hev : (Term.string own index).eval args s none [] s = some (.ref a)) {g : JFrame} (hg : g.method = m) (hdg : decode c.code g.pc = .ok (.ldc_w index, 3)) :
    ∀ target, Steps p.tables e below (T.setTop { g with pc := g.pc + 3, stack := .ref a :: g.stack }) target → Steps p.tables e below (T.setTop g) target := by
  obtain ⟨k, cf, i, a', hk, hcf, hcp, -, hr, hev'⟩ := Cond.stringRef_spec hown hconst
  cases hev.symm.trans hev'
  obtain ⟨k', hk', he⟩ := X.warmed.alike.2.2 _ _ hk
  have hr' : k'.resolved[index]? = some (some (.string a)) := by
    rcases X.warmed.entry hk hk' index with h | ⟨h, -⟩
    · rw [h]; exact hr
    · rw [hr] at h; cases h
  intro target hrest
  subst hg
  jvm_step X.here [hexec, hdg, ldc_w.wp_string (e := e) (s := T) (f := g) X.here.top hk' (by rw [he]; exact hcf) hcp hr']
  exact hrest
theorem aw_ldcSw {K : KT} {h : AH} {pc : Nat} {ls : Array Slot} {st : List Value} {index i a : Nat} {tx : String} (hk : (ko K, index, tx, i) ∈ skl) (ha : gK h i = some a) (d : decode (kc K) pc = .ok (.ldc_w index, 3)) (kk : AW K h (pc + 3) ls (.ref a :: st)) : AW K h pc ls st := by
  refine ⟨kk.1, fun z1 z2 p e R s m args below meth c C H locs hp hS => ?_⟩
  obtain ⟨a', e1, e2⟩ := C.am.2.2.2.2.1 _ hk
  have : a' = a := Option.some.inj (e1.symm.trans (by rw [← hp.2.2.1]; exact ha))
  subst this
  intro T hT X
  obtain ⟨t, a1, b1⟩ := (kk.2 z1 z2 p e R s m args below meth c C H locs hp hS) T hT X
  exact ⟨t, ldcSW X C.x C.o (text := tx) (a := a') e2.1 e2.2 (g := F0 m pc ls st) rfl (by rw [C.b]; exact d) t a1, b1⟩
/-! classes by number -/
theorem okX1 : clsOK 0 RX1 TX1 24 := ⟨rfl, rfl, by decide, in_X1⟩
theorem opX1 : clsP TX1 24 tyX1 := ⟨tyX1_ok, nmX1⟩
theorem odX1 : clsD 0 24 tyX1 := by
  intro k hk
  match k, hk with
  | 0, _ => exact Or.inr (Or.inr ⟨rfl, rfl⟩)
  | 1, _ => exact Or.inl ⟨rfl, rfl⟩
  | 2, _ => exact Or.inr (Or.inr ⟨rfl, rfl⟩)
  | 3, _ => exact Or.inr (Or.inr ⟨rfl, rfl⟩)
  | 4, _ => exact Or.inl ⟨rfl, rfl⟩
  | 5, _ => exact Or.inl ⟨rfl, rfl⟩
  | 6, _ => exact Or.inl ⟨rfl, rfl⟩
  | 7, _ => exact Or.inl ⟨rfl, rfl⟩
  | 8, _ => exact Or.inl ⟨rfl, rfl⟩
  | 9, _ => exact Or.inr (Or.inr ⟨rfl, rfl⟩)
  | 10, _ => exact Or.inr (Or.inr ⟨rfl, rfl⟩)
  | 11, _ => exact Or.inr (Or.inr ⟨rfl, rfl⟩)
  | 12, _ => exact Or.inr (Or.inr ⟨rfl, rfl⟩)
  | 13, _ => exact Or.inr (Or.inr ⟨rfl, rfl⟩)
  | 14, _ => exact Or.inr (Or.inr ⟨rfl, rfl⟩)
  | 15, _ => exact Or.inr (Or.inr ⟨rfl, rfl⟩)
  | 16, _ => exact Or.inl ⟨rfl, rfl⟩
  | 17, _ => exact Or.inl ⟨rfl, rfl⟩
  | 18, _ => exact Or.inl ⟨rfl, rfl⟩
  | 19, _ => exact Or.inl ⟨rfl, rfl⟩
  | 20, _ => exact Or.inl ⟨rfl, rfl⟩
  | 21, _ => exact Or.inl ⟨rfl, rfl⟩
  | 22, _ => exact Or.inl ⟨rfl, rfl⟩
  | 23, _ => exact Or.inr (Or.inr ⟨rfl, rfl⟩)
  | k + 24, h => exact absurd h (by omega)
theorem okX2 : clsOK 1 RX2 TX2 10 := ⟨rfl, rfl, by decide, in_X2⟩
theorem opX2 : clsP TX2 10 tyX2 := ⟨tyX2_ok, nmX2⟩
theorem odX2 : clsD 1 10 tyX2 := by
  intro k hk
  match k, hk with
  | 0, _ => exact Or.inr (Or.inr ⟨rfl, rfl⟩)
  | 1, _ => exact Or.inr (Or.inr ⟨rfl, rfl⟩)
  | 2, _ => exact Or.inr (Or.inr ⟨rfl, rfl⟩)
  | 3, _ => exact Or.inl ⟨rfl, rfl⟩
  | 4, _ => exact Or.inl ⟨rfl, rfl⟩
  | 5, _ => exact Or.inl ⟨rfl, rfl⟩
  | 6, _ => exact Or.inl ⟨rfl, rfl⟩
  | 7, _ => exact Or.inl ⟨rfl, rfl⟩
  | 8, _ => exact Or.inr (Or.inr ⟨rfl, rfl⟩)
  | 9, _ => exact Or.inr (Or.inr ⟨rfl, rfl⟩)
  | k + 10, h => exact absurd h (by omega)
theorem okX3 : clsOK 2 RX3 TX3 8 := ⟨rfl, rfl, by decide, in_X3⟩
theorem opX3 : clsP TX3 8 tyX3 := ⟨tyX3_ok, nmX3⟩
theorem odX3 : clsD 2 8 tyX3 := by
  intro k hk
  match k, hk with
  | 0, _ => exact Or.inr (Or.inr ⟨rfl, rfl⟩)
  | 1, _ => exact Or.inr (Or.inr ⟨rfl, rfl⟩)
  | 2, _ => exact Or.inr (Or.inr ⟨rfl, rfl⟩)
  | 3, _ => exact Or.inr (Or.inr ⟨rfl, rfl⟩)
  | 4, _ => exact Or.inr (Or.inr ⟨rfl, rfl⟩)
  | 5, _ => exact Or.inl ⟨rfl, rfl⟩
  | 6, _ => exact Or.inl ⟨rfl, rfl⟩
  | 7, _ => exact Or.inl ⟨rfl, rfl⟩
  | k + 8, h => exact absurd h (by omega)
theorem okX4 : clsOK 3 RX4 TX4 10 := ⟨rfl, rfl, by decide, in_X4⟩
theorem opX4 : clsP TX4 10 tyX4 := ⟨tyX4_ok, nmX4⟩
theorem odX4 : clsD 3 10 tyX4 := by
  intro k hk
  match k, hk with
  | 0, _ => exact Or.inr (Or.inr ⟨rfl, rfl⟩)
  | 1, _ => exact Or.inr (Or.inr ⟨rfl, rfl⟩)
  | 2, _ => exact Or.inr (Or.inr ⟨rfl, rfl⟩)
  | 3, _ => exact Or.inr (Or.inr ⟨rfl, rfl⟩)
  | 4, _ => exact Or.inl ⟨rfl, rfl⟩
  | 5, _ => exact Or.inl ⟨rfl, rfl⟩
  | 6, _ => exact Or.inl ⟨rfl, rfl⟩
  | 7, _ => exact Or.inl ⟨rfl, rfl⟩
  | 8, _ => exact Or.inl ⟨rfl, rfl⟩
  | 9, _ => exact Or.inl ⟨rfl, rfl⟩
  | k + 10, h => exact absurd h (by omega)
theorem okX5 : clsOK 4 RX5 TX5 6 := ⟨rfl, rfl, by decide, in_X5⟩
theorem opX5 : clsP TX5 6 tyX5 := ⟨tyX5_ok, nmX5⟩
theorem odX5 : clsD 4 6 tyX5 := by
  intro k hk
  match k, hk with
  | 0, _ => exact Or.inr (Or.inr ⟨rfl, rfl⟩)
  | 1, _ => exact Or.inr (Or.inr ⟨rfl, rfl⟩)
  | 2, _ => exact Or.inr (Or.inr ⟨rfl, rfl⟩)
  | 3, _ => exact Or.inr (Or.inr ⟨rfl, rfl⟩)
  | 4, _ => exact Or.inl ⟨rfl, rfl⟩
  | 5, _ => exact Or.inr (Or.inl ⟨rfl, rfl⟩)
  | k + 6, h => exact absurd h (by omega)
theorem okX6 : clsOK 5 RX6 TX6 6 := ⟨rfl, rfl, by decide, in_X6⟩
theorem opX6 : clsP TX6 6 tyX6 := ⟨tyX6_ok, nmX6⟩
theorem odX6 : clsD 5 6 tyX6 := by
  intro k hk
  match k, hk with
  | 0, _ => exact Or.inr (Or.inr ⟨rfl, rfl⟩)
  | 1, _ => exact Or.inr (Or.inr ⟨rfl, rfl⟩)
  | 2, _ => exact Or.inr (Or.inr ⟨rfl, rfl⟩)
  | 3, _ => exact Or.inl ⟨rfl, rfl⟩
  | 4, _ => exact Or.inl ⟨rfl, rfl⟩
  | 5, _ => exact Or.inl ⟨rfl, rfl⟩
  | k + 6, h => exact absurd h (by omega)
theorem okX7 : clsOK 6 RX7 TX7 39 := ⟨rfl, rfl, by decide, in_X7⟩
theorem opX7 : clsP TX7 39 tyX7 := ⟨tyX7_ok, nmX7⟩
theorem odX7 : clsD 6 39 tyX7 := by
  intro k hk
  match k, hk with
  | 0, _ => exact Or.inl ⟨rfl, rfl⟩
  | 1, _ => exact Or.inl ⟨rfl, rfl⟩
  | 2, _ => exact Or.inl ⟨rfl, rfl⟩
  | 3, _ => exact Or.inr (Or.inr ⟨rfl, rfl⟩)
  | 4, _ => exact Or.inr (Or.inr ⟨rfl, rfl⟩)
  | 5, _ => exact Or.inr (Or.inr ⟨rfl, rfl⟩)
  | 6, _ => exact Or.inl ⟨rfl, rfl⟩
  | 7, _ => exact Or.inl ⟨rfl, rfl⟩
  | 8, _ => exact Or.inl ⟨rfl, rfl⟩
  | 9, _ => exact Or.inl ⟨rfl, rfl⟩
  | 10, _ => exact Or.inl ⟨rfl, rfl⟩
  | 11, _ => exact Or.inl ⟨rfl, rfl⟩
  | 12, _ => exact Or.inl ⟨rfl, rfl⟩
  | 13, _ => exact Or.inl ⟨rfl, rfl⟩
  | 14, _ => exact Or.inl ⟨rfl, rfl⟩
  | 15, _ => exact Or.inr (Or.inl ⟨rfl, rfl⟩)
  | 16, _ => exact Or.inr (Or.inr ⟨rfl, rfl⟩)
  | 17, _ => exact Or.inr (Or.inr ⟨rfl, rfl⟩)
  | 18, _ => exact Or.inr (Or.inr ⟨rfl, rfl⟩)
  | 19, _ => exact Or.inr (Or.inr ⟨rfl, rfl⟩)
  | 20, _ => exact Or.inl ⟨rfl, rfl⟩
  | 21, _ => exact Or.inl ⟨rfl, rfl⟩
  | 22, _ => exact Or.inr (Or.inr ⟨rfl, rfl⟩)
  | 23, _ => exact Or.inr (Or.inr ⟨rfl, rfl⟩)
  | 24, _ => exact Or.inr (Or.inl ⟨rfl, rfl⟩)
  | 25, _ => exact Or.inr (Or.inr ⟨rfl, rfl⟩)
  | 26, _ => exact Or.inr (Or.inr ⟨rfl, rfl⟩)
  | 27, _ => exact Or.inr (Or.inr ⟨rfl, rfl⟩)
  | 28, _ => exact Or.inl ⟨rfl, rfl⟩
  | 29, _ => exact Or.inl ⟨rfl, rfl⟩
  | 30, _ => exact Or.inr (Or.inr ⟨rfl, rfl⟩)
  | 31, _ => exact Or.inl ⟨rfl, rfl⟩
  | 32, _ => exact Or.inl ⟨rfl, rfl⟩
  | 33, _ => exact Or.inl ⟨rfl, rfl⟩
  | 34, _ => exact Or.inl ⟨rfl, rfl⟩
  | 35, _ => exact Or.inl ⟨rfl, rfl⟩
  | 36, _ => exact Or.inl ⟨rfl, rfl⟩
  | 37, _ => exact Or.inl ⟨rfl, rfl⟩
  | 38, _ => exact Or.inl ⟨rfl, rfl⟩
  | k + 39, h => exact absurd h (by omega)
theorem okX8 : clsOK 7 RX8 TX8 12 := ⟨rfl, rfl, by decide, in_X8⟩
theorem opX8 : clsP TX8 12 tyX8 := ⟨tyX8_ok, nmX8⟩
theorem odX8 : clsD 7 12 tyX8 := by
  intro k hk
  match k, hk with
  | 0, _ => exact Or.inr (Or.inr ⟨rfl, rfl⟩)
  | 1, _ => exact Or.inr (Or.inr ⟨rfl, rfl⟩)
  | 2, _ => exact Or.inr (Or.inr ⟨rfl, rfl⟩)
  | 3, _ => exact Or.inr (Or.inr ⟨rfl, rfl⟩)
  | 4, _ => exact Or.inr (Or.inr ⟨rfl, rfl⟩)
  | 5, _ => exact Or.inl ⟨rfl, rfl⟩
  | 6, _ => exact Or.inl ⟨rfl, rfl⟩
  | 7, _ => exact Or.inl ⟨rfl, rfl⟩
  | 8, _ => exact Or.inl ⟨rfl, rfl⟩
  | 9, _ => exact Or.inl ⟨rfl, rfl⟩
  | 10, _ => exact Or.inl ⟨rfl, rfl⟩
  | 11, _ => exact Or.inl ⟨rfl, rfl⟩
  | k + 12, h => exact absurd h (by omega)
theorem okJ3 : clsOK 8 RJ3 TJ3 4 := ⟨rfl, rfl, by decide, in_J3⟩
theorem opJ3 : clsP TJ3 4 tyJ3 := ⟨tyJ3_ok, nmJ3⟩
theorem odJ3 : clsD 8 4 tyJ3 := by
  intro k hk
  match k, hk with
  | 0, _ => exact Or.inr (Or.inr ⟨rfl, rfl⟩)
  | 1, _ => exact Or.inl ⟨rfl, rfl⟩
  | 2, _ => exact Or.inl ⟨rfl, rfl⟩
  | 3, _ => exact Or.inl ⟨rfl, rfl⟩
  | k + 4, h => exact absurd h (by omega)
theorem okX9 : clsOK 9 RX9 TX9 0 := ⟨rfl, rfl, by decide, (fun w h => absurd h List.not_mem_nil)⟩
theorem opX9 : clsP TX9 0 tyX9 := ⟨fun _ h => absurd h (Nat.not_lt_zero _), fun _ h => absurd h (Nat.not_lt_zero _)⟩
theorem odX9 : clsD 9 0 tyX9 := by
  intro k hk
  match k, hk with
  | k + 0, h => exact absurd h (by omega)
theorem okX10 : clsOK 10 RX10 TX10 0 := ⟨rfl, rfl, by decide, (fun w h => absurd h List.not_mem_nil)⟩
theorem opX10 : clsP TX10 0 tyX10 := ⟨fun _ h => absurd h (Nat.not_lt_zero _), fun _ h => absurd h (Nat.not_lt_zero _)⟩
theorem odX10 : clsD 10 0 tyX10 := by
  intro k hk
  match k, hk with
  | k + 0, h => exact absurd h (by omega)
theorem okX11 : clsOK 11 RX11 TX11 0 := ⟨rfl, rfl, by decide, (fun w h => absurd h List.not_mem_nil)⟩
theorem opX11 : clsP TX11 0 tyX11 := ⟨fun _ h => absurd h (Nat.not_lt_zero _), fun _ h => absurd h (Nat.not_lt_zero _)⟩
theorem odX11 : clsD 11 0 tyX11 := by
  intro k hk
  match k, hk with
  | k + 0, h => exact absurd h (by omega)
theorem okX12 : clsOK 12 RX12 TX12 0 := ⟨rfl, rfl, by decide, (fun w h => absurd h List.not_mem_nil)⟩
theorem opX12 : clsP TX12 0 tyX12 := ⟨fun _ h => absurd h (Nat.not_lt_zero _), fun _ h => absurd h (Nat.not_lt_zero _)⟩
theorem odX12 : clsD 12 0 tyX12 := by
  intro k hk
  match k, hk with
  | k + 0, h => exact absurd h (by omega)
theorem okX15 : clsOK 13 RX15 TX15 6 := ⟨rfl, rfl, by decide, in_X15⟩
theorem opX15 : clsP TX15 6 tyX15 := ⟨tyX15_ok, nmX15⟩
theorem odX15 : clsD 13 6 tyX15 := by
  intro k hk
  match k, hk with
  | 0, _ => exact Or.inl ⟨rfl, rfl⟩
  | 1, _ => exact Or.inl ⟨rfl, rfl⟩
  | 2, _ => exact Or.inl ⟨rfl, rfl⟩
  | 3, _ => exact Or.inl ⟨rfl, rfl⟩
  | 4, _ => exact Or.inr (Or.inr ⟨rfl, rfl⟩)
  | 5, _ => exact Or.inl ⟨rfl, rfl⟩
  | k + 6, h => exact absurd h (by omega)
theorem okX16 : clsOK 14 RX16 TX16 6 := ⟨rfl, rfl, by decide, in_X16⟩
theorem opX16 : clsP TX16 6 tyX16 := ⟨tyX16_ok, nmX16⟩
theorem odX16 : clsD 14 6 tyX16 := by
  intro k hk
  match k, hk with
  | 0, _ => exact Or.inl ⟨rfl, rfl⟩
  | 1, _ => exact Or.inl ⟨rfl, rfl⟩
  | 2, _ => exact Or.inl ⟨rfl, rfl⟩
  | 3, _ => exact Or.inl ⟨rfl, rfl⟩
  | 4, _ => exact Or.inr (Or.inr ⟨rfl, rfl⟩)
  | 5, _ => exact Or.inl ⟨rfl, rfl⟩
  | k + 6, h => exact absurd h (by omega)
theorem okX17 : clsOK 15 RX17 TX17 6 := ⟨rfl, rfl, by decide, in_X17⟩
theorem opX17 : clsP TX17 6 tyX17 := ⟨tyX17_ok, nmX17⟩
theorem odX17 : clsD 15 6 tyX17 := by
  intro k hk
  match k, hk with
  | 0, _ => exact Or.inl ⟨rfl, rfl⟩
  | 1, _ => exact Or.inl ⟨rfl, rfl⟩
  | 2, _ => exact Or.inl ⟨rfl, rfl⟩
  | 3, _ => exact Or.inl ⟨rfl, rfl⟩
  | 4, _ => exact Or.inr (Or.inr ⟨rfl, rfl⟩)
  | 5, _ => exact Or.inl ⟨rfl, rfl⟩
  | k + 6, h => exact absurd h (by omega)
theorem okX18 : clsOK 16 RX18 TX18 6 := ⟨rfl, rfl, by decide, in_X18⟩
theorem opX18 : clsP TX18 6 tyX18 := ⟨tyX18_ok, nmX18⟩
theorem odX18 : clsD 16 6 tyX18 := by
  intro k hk
  match k, hk with
  | 0, _ => exact Or.inl ⟨rfl, rfl⟩
  | 1, _ => exact Or.inl ⟨rfl, rfl⟩
  | 2, _ => exact Or.inl ⟨rfl, rfl⟩
  | 3, _ => exact Or.inl ⟨rfl, rfl⟩
  | 4, _ => exact Or.inr (Or.inr ⟨rfl, rfl⟩)
  | 5, _ => exact Or.inl ⟨rfl, rfl⟩
  | k + 6, h => exact absurd h (by omega)
theorem okX19 : clsOK 17 RX19 TX19 2 := ⟨rfl, rfl, by decide, in_X19⟩
theorem opX19 : clsP TX19 2 tyX19 := ⟨tyX19_ok, nmX19⟩
theorem odX19 : clsD 17 2 tyX19 := by
  intro k hk
  match k, hk with
  | 0, _ => exact Or.inr (Or.inr ⟨rfl, rfl⟩)
  | 1, _ => exact Or.inl ⟨rfl, rfl⟩
  | k + 2, h => exact absurd h (by omega)
theorem okX20 : clsOK 18 RX20 TX20 18 := ⟨rfl, rfl, by decide, in_X20⟩
theorem opX20 : clsP TX20 18 tyX20 := ⟨tyX20_ok, nmX20⟩
theorem odX20 : clsD 18 18 tyX20 := by
  intro k hk
  match k, hk with
  | 0, _ => exact Or.inl ⟨rfl, rfl⟩
  | 1, _ => exact Or.inl ⟨rfl, rfl⟩
  | 2, _ => exact Or.inl ⟨rfl, rfl⟩
  | 3, _ => exact Or.inl ⟨rfl, rfl⟩
  | 4, _ => exact Or.inl ⟨rfl, rfl⟩
  | 5, _ => exact Or.inl ⟨rfl, rfl⟩
  | 6, _ => exact Or.inl ⟨rfl, rfl⟩
  | 7, _ => exact Or.inl ⟨rfl, rfl⟩
  | 8, _ => exact Or.inr (Or.inr ⟨rfl, rfl⟩)
  | 9, _ => exact Or.inr (Or.inr ⟨rfl, rfl⟩)
  | 10, _ => exact Or.inr (Or.inr ⟨rfl, rfl⟩)
  | 11, _ => exact Or.inr (Or.inr ⟨rfl, rfl⟩)
  | 12, _ => exact Or.inr (Or.inr ⟨rfl, rfl⟩)
  | 13, _ => exact Or.inr (Or.inr ⟨rfl, rfl⟩)
  | 14, _ => exact Or.inr (Or.inr ⟨rfl, rfl⟩)
  | 15, _ => exact Or.inr (Or.inr ⟨rfl, rfl⟩)
  | 16, _ => exact Or.inr (Or.inr ⟨rfl, rfl⟩)
  | 17, _ => exact Or.inr (Or.inr ⟨rfl, rfl⟩)
  | k + 18, h => exact absurd h (by omega)
