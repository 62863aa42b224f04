/-! names, fields, words of the tables -/
set_option maxRecDepth 100000
def RX0 : String := "LetterNights"
def TX0 : u_T := fun k => match k with
  | 0 => ("LetterNights", "its", "LLetterNights$Street;", false)
  | 1 => ("LetterNights", "now", "LLetterNights$State;", true)
  | 2 => ("LetterNights", "thought", "LLetterNights$State;", true)
  | 3 => ("LetterNights", "tape", "[B", true)
  | 4 => ("LetterNights", "taped", "I", false)
  | 5 => ("LetterNights", "faultKind", "I", false)
  | 6 => ("LetterNights", "faultPlace", "I", false)
  | 7 => ("LetterNights", "undos", "[LLetterNights$State;", true)
  | 8 => ("LetterNights", "undoMany", "I", false)
  | 9 => ("LetterNights", "undoAt", "I", false)
  | 10 => ("LetterNights", "x", "I", false)
  | 11 => ("LetterNights", "sought", "[I", true)
  | 12 => ("LetterNights", "joined", "[I", true)
  | 13 => ("LetterNights", "soughtMany", "I", false)
  | 14 => ("LetterNights", "parts", "[LLetterNights$Part;", true)
  | 15 => ("LetterNights", "partsThen", "[LLetterNights$Part;", true)
  | 16 => ("LetterNights", "whole", "LLetterNights$Part;", true)
  | 17 => ("LetterNights", "waysFrom", "[I", true)
  | 18 => ("LetterNights", "comesTo", "[I", true)
  | 19 => ("LetterNights", "many", "[J", true)
  | 20 => ("LetterNights", "picked", "[I", true)
  | 21 => ("LetterNights", "metAt", "[I", true)
  | 22 => ("LetterNights", "queue", "[I", true)
  | 23 => ("LetterNights", "tablesAt", "[I", true)
  | 24 => ("LetterNights", "tried", "[J", true)
  | 25 => ("LetterNights", "found", "I", false)
  | 26 => ("LetterNights", "trying", "I", false)
  | 27 => ("LetterNights", "turnedBest", "I", false)
  | 28 => ("LetterNights", "often", "[I", true)
  | 29 => ("LetterNights", "oftenThen", "[I", true)
  | 30 => ("LetterNights", "trays", "[LLetterNights$Numbers;", true)
  | 31 => ("LetterNights", "streets", "[LLetterNights$Street;", true)
  | _ => ("LetterNights", "states", "[LLetterNights$State;", true)
def tyX0 : Nat → FieldType := fun k => match k with
  | 0 => .object "LetterNights$Street"
  | 1 => .object "LetterNights$State"
  | 2 => .object "LetterNights$State"
  | 3 => .array .byte
  | 4 => .int
  | 5 => .int
  | 6 => .int
  | 7 => .array (.object "LetterNights$State")
  | 8 => .int
  | 9 => .int
  | 10 => .int
  | 11 => .array .int
  | 12 => .array .int
  | 13 => .int
  | 14 => .array (.object "LetterNights$Part")
  | 15 => .array (.object "LetterNights$Part")
  | 16 => .object "LetterNights$Part"
  | 17 => .array .int
  | 18 => .array .int
  | 19 => .array .long
  | 20 => .array .int
  | 21 => .array .int
  | 22 => .array .int
  | 23 => .array .int
  | 24 => .array .long
  | 25 => .int
  | 26 => .int
  | 27 => .int
  | 28 => .array .int
  | 29 => .array .int
  | 30 => .array (.object "LetterNights$Numbers")
  | 31 => .array (.object "LetterNights$Street")
  | _ => .array (.object "LetterNights$State")
abbrev wsX00 : List Cond := u_ws RX0 TX0 33
theorem nmX0 : ∀ a, a < 33 → ∀ b, b < 33 → a ≠ b → (TX0 a).2.1 ≠ (TX0 b).2.1 := by decide +kernel
theorem tyX0_ok : ∀ k, k < 33 → parseFieldDescriptor (TX0 k).2.2.1 = some (tyX0 k) := by decide +kernel
abbrev cX0_init : ByteArray := prog_1_method_4_code
def yX0_init : MethodName := ⟨RX0, "<init>", "()V"⟩
abbrev cX0_feed : ByteArray := prog_1_method_5_code
def yX0_feed : MethodName := ⟨RX0, "feed", "(IIIII)I"⟩
abbrev cX0_bytes : ByteArray := prog_1_method_6_code
def yX0_bytes : MethodName := ⟨RX0, "bytes", "(I)V"⟩
abbrev cX0_street : ByteArray := prog_1_method_7_code
def yX0_street : MethodName := ⟨RX0, "street", "(I)I"⟩
abbrev cX0_in : ByteArray := prog_1_method_1_code
def yX0_in : MethodName := ⟨RX0, "in", "(JJJ)Z"⟩
abbrev cX0_fault : ByteArray := prog_1_method_8_code
def yX0_fault : MethodName := ⟨RX0, "fault", "(I)I"⟩
abbrev cX0_becomes : ByteArray := prog_1_method_11_code
def yX0_becomes : MethodName := ⟨RX0, "becomes", "(III)I"⟩
abbrev cX0_isTable : ByteArray := prog_1_method_9_code
def yX0_isTable : MethodName := ⟨RX0, "isTable", "(I)Z"⟩
abbrev cX0_isLetter : ByteArray := prog_1_method_10_code
def yX0_isLetter : MethodName := ⟨RX0, "isLetter", "(J)Z"⟩
abbrev cX0_picks : ByteArray := prog_1_method_12_code
def yX0_picks : MethodName := ⟨RX0, "picks", "()I"⟩
abbrev cX0_length : ByteArray := prog_1_method_13_code
def yX0_length : MethodName := ⟨RX0, "length", "()J"⟩
abbrev cX0_letter : ByteArray := prog_1_method_14_code
def yX0_letter : MethodName := ⟨RX0, "letter", "(J)I"⟩
abbrev cX0_count : ByteArray := prog_1_method_15_code
def yX0_count : MethodName := ⟨RX0, "count", "(IJ)J"⟩
abbrev cX0_place : ByteArray := prog_1_method_16_code
def yX0_place : MethodName := ⟨RX0, "place", "(IJ)J"⟩
abbrev cX0_night : ByteArray := prog_1_method_18_code
def yX0_night : MethodName := ⟨RX0, "night", "(I)J"⟩
abbrev cX0_remembers : ByteArray := prog_1_method_17_code
def yX0_remembers : MethodName := ⟨RX0, "remembers", "()V"⟩
abbrev cX0_nights : ByteArray := prog_1_method_19_code
def yX0_nights : MethodName := ⟨RX0, "nights", "(I)I"⟩
abbrev cX0_moon : ByteArray := prog_1_method_20_code
def yX0_moon : MethodName := ⟨RX0, "moon", "(I)I"⟩
abbrev cX0_undo : ByteArray := prog_1_method_21_code
def yX0_undo : MethodName := ⟨RX0, "undo", "(I)I"⟩
abbrev cX0_judge : ByteArray := prog_1_method_23_code
def yX0_judge : MethodName := ⟨RX0, "judge", "(II)I"⟩
abbrev cX0_trayFault : ByteArray := prog_1_method_73_code
def yX0_trayFault : MethodName := ⟨RX0, "trayFault", "(I)I"⟩
abbrev cX0_isTray : ByteArray := prog_1_method_72_code
def yX0_isTray : MethodName := ⟨RX0, "isTray", "(I)Z"⟩
abbrev cX0_goesAlong : ByteArray := prog_1_method_22_code
def yX0_goesAlong : MethodName := ⟨RX0, "goesAlong", "(LLetterNights$Numbers;)I"⟩
abbrev cX0_perform : ByteArray := prog_1_method_24_code
def yX0_perform : MethodName := ⟨RX0, "perform", "(I)I"⟩
abbrev cX0_year : ByteArray := prog_1_method_27_code
def yX0_year : MethodName := ⟨RX0, "year", "(II)I"⟩
abbrev cX0_drawn : ByteArray := prog_1_method_26_code
def yX0_drawn : MethodName := ⟨RX0, "drawn", "()I"⟩
abbrev cX0_draw : ByteArray := prog_1_method_25_code
def yX0_draw : MethodName := ⟨RX0, "draw", "(I)I"⟩
abbrev cX0_occurs : ByteArray := prog_1_method_31_code
def yX0_occurs : MethodName := ⟨RX0, "occurs", "(I)J"⟩
abbrev cX0_wordFault : ByteArray := prog_1_method_30_code
def yX0_wordFault : MethodName := ⟨RX0, "wordFault", "(I)I"⟩
abbrev cX0_seeks : ByteArray := prog_1_method_29_code
def yX0_seeks : MethodName := ⟨RX0, "seeks", "(LLetterNights$Numbers;)LLetterNights$Part;"⟩
abbrev cX0_isSoughtAt : ByteArray := prog_1_method_28_code
def yX0_isSoughtAt : MethodName := ⟨RX0, "isSoughtAt", "(I)Z"⟩
abbrev cX0_first : ByteArray := prog_1_method_32_code
def yX0_first : MethodName := ⟨RX0, "first", "(I)J"⟩
abbrev cX0_backs : ByteArray := prog_1_method_35_code
def yX0_backs : MethodName := ⟨RX0, "backs", "(II)I"⟩
abbrev cX0_laysWays : ByteArray := prog_1_method_34_code
def yX0_laysWays : MethodName := ⟨RX0, "laysWays", "(LLetterNights$Numbers;I)I"⟩
abbrev cX0_reads : ByteArray := prog_1_method_33_code
def yX0_reads : MethodName := ⟨RX0, "reads", "(LLetterNights$Numbers;III)Z"⟩
abbrev cX0_backBy : ByteArray := prog_1_method_36_code
def yX0_backBy : MethodName := ⟨RX0, "backBy", "(III)I"⟩
abbrev cX0_fate : ByteArray := prog_1_method_41_code
def yX0_fate : MethodName := ⟨RX0, "fate", "(II)I"⟩
abbrev cX0_laysComing : ByteArray := prog_1_method_38_code
def yX0_laysComing : MethodName := ⟨RX0, "laysComing", "(I)V"⟩
abbrev cX0_childrenOf : ByteArray := prog_1_method_37_code
def yX0_childrenOf : MethodName := ⟨RX0, "childrenOf", "(II)I"⟩
abbrev cX0_has : ByteArray := prog_1_method_2_code
def yX0_has : MethodName := ⟨RX0, "has", "(II)Z"⟩
abbrev cX0_isDoubled : ByteArray := prog_1_method_39_code
def yX0_isDoubled : MethodName := ⟨RX0, "isDoubled", "(II)Z"⟩
abbrev cX0_one : ByteArray := prog_1_method_3_code
def yX0_one : MethodName := ⟨RX0, "one", "(Z)I"⟩
abbrev cX0_chainFrom : ByteArray := prog_1_method_40_code
def yX0_chainFrom : MethodName := ⟨RX0, "chainFrom", "(I)I"⟩
abbrev cX0_degree : ByteArray := prog_1_method_42_code
def yX0_degree : MethodName := ⟨RX0, "degree", "(II)I"⟩
abbrev cX0_begins : ByteArray := prog_1_method_43_code
def yX0_begins : MethodName := ⟨RX0, "begins", "(I)I"⟩
abbrev cX0_comes : ByteArray := prog_1_method_47_code
def yX0_comes : MethodName := ⟨RX0, "comes", "(I)I"⟩
abbrev cX0_setThen : ByteArray := prog_1_method_46_code
def yX0_setThen : MethodName := ⟨RX0, "setThen", "(II)I"⟩
abbrev cX0_soonest : ByteArray := prog_1_method_50_code
def yX0_soonest : MethodName := ⟨RX0, "soonest", "(J)I"⟩
abbrev cX0_laysSoonest : ByteArray := prog_1_method_49_code
def yX0_laysSoonest : MethodName := ⟨RX0, "laysSoonest", "(J)I"⟩
abbrev cX0_rowsTo : ByteArray := prog_1_method_48_code
def yX0_rowsTo : MethodName := ⟨RX0, "rowsTo", "(JIII)I"⟩
abbrev cX0_lengthAt : ByteArray := prog_1_method_45_code
def yX0_lengthAt : MethodName := ⟨RX0, "lengthAt", "(I)J"⟩
abbrev cX0_laysThen : ByteArray := prog_1_method_44_code
def yX0_laysThen : MethodName := ⟨RX0, "laysThen", "(II)V"⟩
abbrev cX0_way : ByteArray := prog_1_method_51_code
def yX0_way : MethodName := ⟨RX0, "way", "(JI)I"⟩
abbrev cX0_rows : ByteArray := prog_1_method_52_code
def yX0_rows : MethodName := ⟨RX0, "rows", "(JI)I"⟩
abbrev cX0_longBy : ByteArray := prog_1_method_57_code
def yX0_longBy : MethodName := ⟨RX0, "longBy", "(I)I"⟩
abbrev cX0_longFault : ByteArray := prog_1_method_53_code
def yX0_longFault : MethodName := ⟨RX0, "longFault", "(II)I"⟩
abbrev cX0_laysLong : ByteArray := prog_1_method_56_code
def yX0_laysLong : MethodName := ⟨RX0, "laysLong", "(LLetterNights$Numbers;I)I"⟩
abbrev cX0_goesLong : ByteArray := prog_1_method_54_code
def yX0_goesLong : MethodName := ⟨RX0, "goesLong", "(LLetterNights$Numbers;I)V"⟩
abbrev cX0_tells : ByteArray := prog_1_method_55_code
def yX0_tells : MethodName := ⟨RX0, "tells", "(I)V"⟩
abbrev cX0_tables : ByteArray := prog_1_method_58_code
def yX0_tables : MethodName := ⟨RX0, "tables", "(II)I"⟩
abbrev cX0_moons : ByteArray := prog_1_method_59_code
def yX0_moons : MethodName := ⟨RX0, "moons", "(I)I"⟩
abbrev cX0_attempt : ByteArray := prog_1_method_62_code
def yX0_attempt : MethodName := ⟨RX0, "attempt", "(I)I"⟩
abbrev cX0_mostAlike : ByteArray := prog_1_method_61_code
def yX0_mostAlike : MethodName := ⟨RX0, "mostAlike", "()I"⟩
abbrev cX0_arranges : ByteArray := prog_1_method_60_code
def yX0_arranges : MethodName := ⟨RX0, "arranges", "()V"⟩
abbrev cX0_turned : ByteArray := prog_1_method_65_code
def yX0_turned : MethodName := ⟨RX0, "turned", "(I)J"⟩
abbrev cX0_laysTurned : ByteArray := prog_1_method_64_code
def yX0_laysTurned : MethodName := ⟨RX0, "laysTurned", "(I)J"⟩
abbrev cX0_turnedFrom : ByteArray := prog_1_method_63_code
def yX0_turnedFrom : MethodName := ⟨RX0, "turnedFrom", "(II)J"⟩
abbrev cX0_best : ByteArray := prog_1_method_66_code
def yX0_best : MethodName := ⟨RX0, "best", "(I)I"⟩
abbrev cX0_chance : ByteArray := prog_1_method_70_code
def yX0_chance : MethodName := ⟨RX0, "chance", "(II)I"⟩
abbrev cX0_part : ByteArray := prog_1_method_69_code
def yX0_part : MethodName := ⟨RX0, "part", "(JII)J"⟩
abbrev cX0_whole : ByteArray := prog_1_method_67_code
def yX0_whole : MethodName := ⟨RX0, "whole", "(I)J"⟩
abbrev cX0_common : ByteArray := prog_1_method_68_code
def yX0_common : MethodName := ⟨RX0, "common", "(JJ)J"⟩
abbrev cX0_mean : ByteArray := prog_1_method_71_code
def yX0_mean : MethodName := ⟨RX0, "mean", "(II)J"⟩
abbrev cX0_numbers : ByteArray := prog_1_method_74_code
def yX0_numbers : MethodName := ⟨RX0, "numbers", "(III)I"⟩
abbrev cX0_write : ByteArray := prog_1_method_75_code
def yX0_write : MethodName := ⟨RX0, "write", "(IIJ)J"⟩
abbrev cX0_lists : ByteArray := prog_1_method_76_code
def yX0_lists : MethodName := ⟨RX0, "lists", "(IJ)I"⟩
abbrev cX0_image : ByteArray := prog_1_method_77_code
def yX0_image : MethodName := ⟨RX0, "image", "(I)I"⟩
abbrev cX0_restore : ByteArray := prog_1_method_78_code
def yX0_restore : MethodName := ⟨RX0, "restore", "(I)I"⟩
abbrev cX0_told : ByteArray := prog_1_method_79_code
def yX0_told : MethodName := ⟨RX0, "told", "(I)I"⟩
theorem q146 : (Jvm.Cond.initialized "LetterNights") ∈ lw_all := lw_g (lw_at lw_m1 1 rfl) rfl
theorem q178 : (Jvm.Cond.instantiable "LetterNights" (33 : Nat)) ∈ lw_all := lw_g (lw_at lw_m1 33 rfl) rfl
theorem q180 : (Jvm.Cond.instanceMethod ({ cls := "LetterNights", name := "<init>", desc := "()V" } : Jvm.MethodName)) ∈ lw_all := lw_g (lw_at lw_m1 35 rfl) rfl
theorem q181 : (Jvm.Cond.code ({ cls := "LetterNights", name := "<init>", desc := "()V" } : Jvm.MethodName) prog_1_method_4_code (1 : Nat) (Option.none : Option Jvm.ClassFile.FieldType)) ∈ lw_all := lw_g (lw_at lw_m1 36 rfl) rfl
theorem q182 : (Jvm.Cond.methodLink "LetterNights" (3 : Nat) ({ cls := "java/lang/Object", name := "<init>", desc := "()V" } : Jvm.MethodName)) ∈ lw_all := lw_g (lw_at lw_m1 37 rfl) rfl
theorem q185 : (Jvm.Cond.classLink "LetterNights" (9 : Nat) "LetterNights$Street") ∈ lw_all := lw_g (lw_at lw_m1 40 rfl) rfl
theorem q187 : (Jvm.Cond.methodLink "LetterNights" (11 : Nat) ({ cls := "LetterNights$Street", name := "<init>", desc := "()V" } : Jvm.MethodName)) ∈ lw_all := lw_g (lw_at lw_m1 42 rfl) rfl
theorem q194 : (Jvm.Cond.fieldLinkNest "LetterNights" (281 : Nat) "LetterNights$Street" "stands" "[I" "LetterNights") ∈ lw_tbl := lw_at lw_m1 49 rfl
theorem q201 : (Jvm.Cond.fieldLinkNest "LetterNights" (146 : Nat) "LetterNights$Street" "tables" "I" "LetterNights") ∈ lw_tbl := lw_at lw_m1 56 rfl
theorem q209 : (Jvm.Cond.fieldLinkNest "LetterNights" (278 : Nat) "LetterNights$Street" "standing" "I" "LetterNights") ∈ lw_tbl := lw_at lw_m1 64 rfl
theorem q210 : (Jvm.Cond.fieldLinkNest "LetterNights" (143 : Nat) "LetterNights$Street" "lines" "I" "LetterNights") ∈ lw_tbl := lw_at lw_m1 65 rfl
theorem q238 : (Jvm.Cond.classLink "LetterNights" (16 : Nat) "LetterNights$State") ∈ lw_all := lw_g (lw_at lw_m1 93 rfl) rfl
theorem q240 : (Jvm.Cond.methodLinkNest "LetterNights" (18 : Nat) ({ cls := "LetterNights$State", name := "<init>", desc := "(LLetterNights;)V" } : Jvm.MethodName) "LetterNights") ∈ lw_tbl := lw_at lw_m1 95 rfl
theorem q245 : (Jvm.Cond.fieldLinkNest "LetterNights" (271 : Nat) "LetterNights$State" "table" "[I" "LetterNights") ∈ lw_tbl := lw_at lw_m1 100 rfl
theorem q249 : (Jvm.Cond.fieldLinkNest "LetterNights" (264 : Nat) "LetterNights$State" "levels" "I" "LetterNights") ∈ lw_tbl := lw_at lw_m1 104 rfl
theorem q251 : (Jvm.Cond.fieldLinkNest "LetterNights" (438 : Nat) "LetterNights$State" "nights" "I" "LetterNights") ∈ lw_tbl := lw_at lw_m1 106 rfl
theorem q253 : (Jvm.Cond.fieldLinkNest "LetterNights" (219 : Nat) "LetterNights$State" "moon" "I" "LetterNights") ∈ lw_tbl := lw_at lw_m1 108 rfl
theorem q272 : (Jvm.Cond.classLink "LetterNights" (47 : Nat) "LetterNights$Part") ∈ lw_all := lw_g (lw_at lw_m1 127 rfl) rfl
theorem q275 : (Jvm.Cond.methodLinkNest "LetterNights" (49 : Nat) ({ cls := "LetterNights$Part", name := "<init>", desc := "(LLetterNights;)V" } : Jvm.MethodName) "LetterNights") ∈ lw_tbl := lw_at lw_m1 130 rfl
theorem q283 : (Jvm.Cond.fieldLinkNest "LetterNights" (293 : Nat) "LetterNights$Part" "often" "J" "LetterNights") ∈ lw_tbl := lw_at lw_m1 138 rfl
theorem q285 : (Jvm.Cond.fieldLinkNest "LetterNights" (296 : Nat) "LetterNights$Part" "first" "J" "LetterNights") ∈ lw_tbl := lw_at lw_m1 140 rfl
theorem q301 : (Jvm.Cond.classLink "LetterNights" (92 : Nat) "LetterNights$Numbers") ∈ lw_all := lw_g (lw_at lw_m1 156 rfl) rfl
theorem q304 : (Jvm.Cond.methodLinkNest "LetterNights" (94 : Nat) ({ cls := "LetterNights$Numbers", name := "<init>", desc := "()V" } : Jvm.MethodName) "LetterNights") ∈ lw_tbl := lw_at lw_m1 159 rfl
theorem q309 : (Jvm.Cond.fieldLinkNest "LetterNights" (418 : Nat) "LetterNights$Numbers" "held" "Ljava/lang/Object;" "LetterNights") ∈ lw_tbl := lw_at lw_m1 164 rfl
theorem q314 : (Jvm.Cond.methodLink "LetterNights" (106 : Nat) ({ cls := "LetterNights$State", name := "begins", desc := "()V" } : Jvm.MethodName)) ∈ lw_all := lw_g (lw_at lw_m1 169 rfl) rfl
theorem q319 : (Jvm.Cond.fieldLink "LetterNights" (12 : Nat) "LetterNights" "its" "LLetterNights$Street;") ∈ lw_all := lw_g (lw_at lw_m1 174 rfl) rfl
theorem q320 : (Jvm.Cond.fieldLink "LetterNights" (21 : Nat) "LetterNights" "now" "LLetterNights$State;") ∈ lw_all := lw_g (lw_at lw_m1 175 rfl) rfl
theorem q321 : (Jvm.Cond.fieldLink "LetterNights" (25 : Nat) "LetterNights" "thought" "LLetterNights$State;") ∈ lw_all := lw_g (lw_at lw_m1 176 rfl) rfl
theorem q323 : (Jvm.Cond.fieldLink "LetterNights" (28 : Nat) "LetterNights" "tape" "[B") ∈ lw_all := lw_g (lw_at lw_m1 178 rfl) rfl
theorem q324 : (Jvm.Cond.fieldLink "LetterNights" (109 : Nat) "LetterNights" "taped" "I") ∈ lw_all := lw_g (lw_at lw_m1 179 rfl) rfl
theorem q325 : (Jvm.Cond.fieldLink "LetterNights" (131 : Nat) "LetterNights" "faultKind" "I") ∈ lw_all := lw_g (lw_at lw_m1 180 rfl) rfl
theorem q326 : (Jvm.Cond.fieldLink "LetterNights" (32 : Nat) "LetterNights" "faultPlace" "I") ∈ lw_all := lw_g (lw_at lw_m1 181 rfl) rfl
theorem q327 : (Jvm.Cond.fieldLink "LetterNights" (36 : Nat) "LetterNights" "undos" "[LLetterNights$State;") ∈ lw_all := lw_g (lw_at lw_m1 182 rfl) rfl
theorem q328 : (Jvm.Cond.fieldLink "LetterNights" (140 : Nat) "LetterNights" "undoMany" "I") ∈ lw_all := lw_g (lw_at lw_m1 183 rfl) rfl
theorem q329 : (Jvm.Cond.fieldLink "LetterNights" (194 : Nat) "LetterNights" "undoAt" "I") ∈ lw_all := lw_g (lw_at lw_m1 184 rfl) rfl
theorem q330 : (Jvm.Cond.fieldLink "LetterNights" (246 : Nat) "LetterNights" "x" "I") ∈ lw_all := lw_g (lw_at lw_m1 185 rfl) rfl
theorem q332 : (Jvm.Cond.fieldLink "LetterNights" (40 : Nat) "LetterNights" "sought" "[I") ∈ lw_all := lw_g (lw_at lw_m1 187 rfl) rfl
theorem q333 : (Jvm.Cond.fieldLink "LetterNights" (44 : Nat) "LetterNights" "joined" "[I") ∈ lw_all := lw_g (lw_at lw_m1 188 rfl) rfl
theorem q336 : (Jvm.Cond.fieldLink "LetterNights" (257 : Nat) "LetterNights" "soughtMany" "I") ∈ lw_all := lw_g (lw_at lw_m1 191 rfl) rfl
theorem q337 : (Jvm.Cond.fieldLink "LetterNights" (50 : Nat) "LetterNights" "parts" "[LLetterNights$Part;") ∈ lw_all := lw_g (lw_at lw_m1 192 rfl) rfl
theorem q338 : (Jvm.Cond.fieldLink "LetterNights" (54 : Nat) "LetterNights" "partsThen" "[LLetterNights$Part;") ∈ lw_all := lw_g (lw_at lw_m1 193 rfl) rfl
theorem q339 : (Jvm.Cond.fieldLink "LetterNights" (57 : Nat) "LetterNights" "whole" "LLetterNights$Part;") ∈ lw_all := lw_g (lw_at lw_m1 194 rfl) rfl
theorem q340 : (Jvm.Cond.fieldLink "LetterNights" (61 : Nat) "LetterNights" "waysFrom" "[I") ∈ lw_all := lw_g (lw_at lw_m1 195 rfl) rfl
theorem q341 : (Jvm.Cond.fieldLink "LetterNights" (64 : Nat) "LetterNights" "comesTo" "[I") ∈ lw_all := lw_g (lw_at lw_m1 196 rfl) rfl
theorem q342 : (Jvm.Cond.fieldLink "LetterNights" (67 : Nat) "LetterNights" "many" "[J") ∈ lw_all := lw_g (lw_at lw_m1 197 rfl) rfl
theorem q343 : (Jvm.Cond.fieldLink "LetterNights" (71 : Nat) "LetterNights" "picked" "[I") ∈ lw_all := lw_g (lw_at lw_m1 198 rfl) rfl
theorem q344 : (Jvm.Cond.fieldLink "LetterNights" (74 : Nat) "LetterNights" "metAt" "[I") ∈ lw_all := lw_g (lw_at lw_m1 199 rfl) rfl
theorem q345 : (Jvm.Cond.fieldLink "LetterNights" (77 : Nat) "LetterNights" "queue" "[I") ∈ lw_all := lw_g (lw_at lw_m1 200 rfl) rfl
theorem q346 : (Jvm.Cond.fieldLink "LetterNights" (80 : Nat) "LetterNights" "tablesAt" "[I") ∈ lw_all := lw_g (lw_at lw_m1 201 rfl) rfl
theorem q347 : (Jvm.Cond.fieldLink "LetterNights" (83 : Nat) "LetterNights" "tried" "[J") ∈ lw_all := lw_g (lw_at lw_m1 202 rfl) rfl
theorem q348 : (Jvm.Cond.fieldLink "LetterNights" (372 : Nat) "LetterNights" "found" "I") ∈ lw_all := lw_g (lw_at lw_m1 203 rfl) rfl
theorem q349 : (Jvm.Cond.fieldLink "LetterNights" (369 : Nat) "LetterNights" "trying" "I") ∈ lw_all := lw_g (lw_at lw_m1 204 rfl) rfl
theorem q350 : (Jvm.Cond.fieldLink "LetterNights" (391 : Nat) "LetterNights" "turnedBest" "I") ∈ lw_all := lw_g (lw_at lw_m1 205 rfl) rfl
theorem q351 : (Jvm.Cond.fieldLink "LetterNights" (86 : Nat) "LetterNights" "often" "[I") ∈ lw_all := lw_g (lw_at lw_m1 206 rfl) rfl
theorem q352 : (Jvm.Cond.fieldLink "LetterNights" (89 : Nat) "LetterNights" "oftenThen" "[I") ∈ lw_all := lw_g (lw_at lw_m1 207 rfl) rfl
theorem q353 : (Jvm.Cond.fieldLink "LetterNights" (95 : Nat) "LetterNights" "trays" "[LLetterNights$Numbers;") ∈ lw_all := lw_g (lw_at lw_m1 208 rfl) rfl
theorem q354 : (Jvm.Cond.fieldLink "LetterNights" (99 : Nat) "LetterNights" "streets" "[LLetterNights$Street;") ∈ lw_all := lw_g (lw_at lw_m1 209 rfl) rfl
theorem q355 : (Jvm.Cond.fieldLink "LetterNights" (103 : Nat) "LetterNights" "states" "[LLetterNights$State;") ∈ lw_all := lw_g (lw_at lw_m1 210 rfl) rfl
theorem q356 : (Jvm.Cond.lays "LetterNights" "LetterNights" "its" "LLetterNights$Street;") ∈ lw_all := lw_g (lw_at lw_m1 211 rfl) rfl
theorem q357 : (Jvm.Cond.soleField "LetterNights" "its") ∈ lw_all := lw_g (lw_at lw_m1 212 rfl) rfl
theorem q358 : (Jvm.Cond.laysFinal "LetterNights" "LetterNights" "now" "LLetterNights$State;") ∈ lw_all := lw_g (lw_at lw_m1 213 rfl) rfl
theorem q359 : (Jvm.Cond.soleField "LetterNights" "now") ∈ lw_all := lw_g (lw_at lw_m1 214 rfl) rfl
theorem q360 : (Jvm.Cond.laysFinal "LetterNights" "LetterNights" "thought" "LLetterNights$State;") ∈ lw_all := lw_g (lw_at lw_m1 215 rfl) rfl
theorem q361 : (Jvm.Cond.soleField "LetterNights" "thought") ∈ lw_all := lw_g (lw_at lw_m1 216 rfl) rfl
theorem q362 : (Jvm.Cond.laysFinal "LetterNights" "LetterNights" "tape" "[B") ∈ lw_all := lw_g (lw_at lw_m1 217 rfl) rfl
theorem q363 : (Jvm.Cond.soleField "LetterNights" "tape") ∈ lw_all := lw_g (lw_at lw_m1 218 rfl) rfl
theorem q364 : (Jvm.Cond.lays "LetterNights" "LetterNights" "taped" "I") ∈ lw_all := lw_g (lw_at lw_m1 219 rfl) rfl
theorem q365 : (Jvm.Cond.soleField "LetterNights" "taped") ∈ lw_all := lw_g (lw_at lw_m1 220 rfl) rfl
theorem q366 : (Jvm.Cond.lays "LetterNights" "LetterNights" "faultKind" "I") ∈ lw_all := lw_g (lw_at lw_m1 221 rfl) rfl
theorem q367 : (Jvm.Cond.soleField "LetterNights" "faultKind") ∈ lw_all := lw_g (lw_at lw_m1 222 rfl) rfl
theorem q368 : (Jvm.Cond.lays "LetterNights" "LetterNights" "faultPlace" "I") ∈ lw_all := lw_g (lw_at lw_m1 223 rfl) rfl
theorem q369 : (Jvm.Cond.soleField "LetterNights" "faultPlace") ∈ lw_all := lw_g (lw_at lw_m1 224 rfl) rfl
theorem q370 : (Jvm.Cond.laysFinal "LetterNights" "LetterNights" "undos" "[LLetterNights$State;") ∈ lw_all := lw_g (lw_at lw_m1 225 rfl) rfl
theorem q371 : (Jvm.Cond.soleField "LetterNights" "undos") ∈ lw_all := lw_g (lw_at lw_m1 226 rfl) rfl
theorem q372 : (Jvm.Cond.lays "LetterNights" "LetterNights" "undoMany" "I") ∈ lw_all := lw_g (lw_at lw_m1 227 rfl) rfl
theorem q373 : (Jvm.Cond.soleField "LetterNights" "undoMany") ∈ lw_all := lw_g (lw_at lw_m1 228 rfl) rfl
theorem q374 : (Jvm.Cond.lays "LetterNights" "LetterNights" "undoAt" "I") ∈ lw_all := lw_g (lw_at lw_m1 229 rfl) rfl
theorem q375 : (Jvm.Cond.soleField "LetterNights" "undoAt") ∈ lw_all := lw_g (lw_at lw_m1 230 rfl) rfl
theorem q376 : (Jvm.Cond.lays "LetterNights" "LetterNights" "x" "I") ∈ lw_all := lw_g (lw_at lw_m1 231 rfl) rfl
theorem q377 : (Jvm.Cond.soleField "LetterNights" "x") ∈ lw_all := lw_g (lw_at lw_m1 232 rfl) rfl
theorem q378 : (Jvm.Cond.laysFinal "LetterNights" "LetterNights" "sought" "[I") ∈ lw_all := lw_g (lw_at lw_m1 233 rfl) rfl
theorem q379 : (Jvm.Cond.soleField "LetterNights" "sought") ∈ lw_all := lw_g (lw_at lw_m1 234 rfl) rfl
theorem q380 : (Jvm.Cond.laysFinal "LetterNights" "LetterNights" "joined" "[I") ∈ lw_all := lw_g (lw_at lw_m1 235 rfl) rfl
theorem q381 : (Jvm.Cond.soleField "LetterNights" "joined") ∈ lw_all := lw_g (lw_at lw_m1 236 rfl) rfl
theorem q382 : (Jvm.Cond.lays "LetterNights" "LetterNights" "soughtMany" "I") ∈ lw_all := lw_g (lw_at lw_m1 237 rfl) rfl
theorem q383 : (Jvm.Cond.soleField "LetterNights" "soughtMany") ∈ lw_all := lw_g (lw_at lw_m1 238 rfl) rfl
theorem q384 : (Jvm.Cond.laysFinal "LetterNights" "LetterNights" "parts" "[LLetterNights$Part;") ∈ lw_all := lw_g (lw_at lw_m1 239 rfl) rfl
theorem q385 : (Jvm.Cond.soleField "LetterNights" "parts") ∈ lw_all := lw_g (lw_at lw_m2 0 rfl) rfl
theorem q386 : (Jvm.Cond.laysFinal "LetterNights" "LetterNights" "partsThen" "[LLetterNights$Part;") ∈ lw_all := lw_g (lw_at lw_m2 1 rfl) rfl
theorem q387 : (Jvm.Cond.soleField "LetterNights" "partsThen") ∈ lw_all := lw_g (lw_at lw_m2 2 rfl) rfl
theorem q388 : (Jvm.Cond.laysFinal "LetterNights" "LetterNights" "whole" "LLetterNights$Part;") ∈ lw_all := lw_g (lw_at lw_m2 3 rfl) rfl
theorem q389 : (Jvm.Cond.soleField "LetterNights" "whole") ∈ lw_all := lw_g (lw_at lw_m2 4 rfl) rfl
theorem q390 : (Jvm.Cond.laysFinal "LetterNights" "LetterNights" "waysFrom" "[I") ∈ lw_all := lw_g (lw_at lw_m2 5 rfl) rfl
theorem q391 : (Jvm.Cond.soleField "LetterNights" "waysFrom") ∈ lw_all := lw_g (lw_at lw_m2 6 rfl) rfl
theorem q392 : (Jvm.Cond.laysFinal "LetterNights" "LetterNights" "comesTo" "[I") ∈ lw_all := lw_g (lw_at lw_m2 7 rfl) rfl
theorem q393 : (Jvm.Cond.soleField "LetterNights" "comesTo") ∈ lw_all := lw_g (lw_at lw_m2 8 rfl) rfl
theorem q394 : (Jvm.Cond.laysFinal "LetterNights" "LetterNights" "many" "[J") ∈ lw_all := lw_g (lw_at lw_m2 9 rfl) rfl
theorem q395 : (Jvm.Cond.soleField "LetterNights" "many") ∈ lw_all := lw_g (lw_at lw_m2 10 rfl) rfl
theorem q396 : (Jvm.Cond.laysFinal "LetterNights" "LetterNights" "picked" "[I") ∈ lw_all := lw_g (lw_at lw_m2 11 rfl) rfl
theorem q397 : (Jvm.Cond.soleField "LetterNights" "picked") ∈ lw_all := lw_g (lw_at lw_m2 12 rfl) rfl
theorem q398 : (Jvm.Cond.laysFinal "LetterNights" "LetterNights" "metAt" "[I") ∈ lw_all := lw_g (lw_at lw_m2 13 rfl) rfl
theorem q399 : (Jvm.Cond.soleField "LetterNights" "metAt") ∈ lw_all := lw_g (lw_at lw_m2 14 rfl) rfl
theorem q400 : (Jvm.Cond.laysFinal "LetterNights" "LetterNights" "queue" "[I") ∈ lw_all := lw_g (lw_at lw_m2 15 rfl) rfl
theorem q401 : (Jvm.Cond.soleField "LetterNights" "queue") ∈ lw_all := lw_g (lw_at lw_m2 16 rfl) rfl
theorem q402 : (Jvm.Cond.laysFinal "LetterNights" "LetterNights" "tablesAt" "[I") ∈ lw_all := lw_g (lw_at lw_m2 17 rfl) rfl
theorem q403 : (Jvm.Cond.soleField "LetterNights" "tablesAt") ∈ lw_all := lw_g (lw_at lw_m2 18 rfl) rfl
theorem q404 : (Jvm.Cond.laysFinal "LetterNights" "LetterNights" "tried" "[J") ∈ lw_all := lw_g (lw_at lw_m2 19 rfl) rfl
theorem q405 : (Jvm.Cond.soleField "LetterNights" "tried") ∈ lw_all := lw_g (lw_at lw_m2 20 rfl) rfl
theorem q406 : (Jvm.Cond.lays "LetterNights" "LetterNights" "found" "I") ∈ lw_all := lw_g (lw_at lw_m2 21 rfl) rfl
theorem q407 : (Jvm.Cond.soleField "LetterNights" "found") ∈ lw_all := lw_g (lw_at lw_m2 22 rfl) rfl
theorem q408 : (Jvm.Cond.lays "LetterNights" "LetterNights" "trying" "I") ∈ lw_all := lw_g (lw_at lw_m2 23 rfl) rfl
theorem q409 : (Jvm.Cond.soleField "LetterNights" "trying") ∈ lw_all := lw_g (lw_at lw_m2 24 rfl) rfl
theorem q410 : (Jvm.Cond.lays "LetterNights" "LetterNights" "turnedBest" "I") ∈ lw_all := lw_g (lw_at lw_m2 25 rfl) rfl
theorem q411 : (Jvm.Cond.soleField "LetterNights" "turnedBest") ∈ lw_all := lw_g (lw_at lw_m2 26 rfl) rfl
theorem q412 : (Jvm.Cond.laysFinal "LetterNights" "LetterNights" "often" "[I") ∈ lw_all := lw_g (lw_at lw_m2 27 rfl) rfl
theorem q413 : (Jvm.Cond.soleField "LetterNights" "often") ∈ lw_all := lw_g (lw_at lw_m2 28 rfl) rfl
theorem q414 : (Jvm.Cond.laysFinal "LetterNights" "LetterNights" "oftenThen" "[I") ∈ lw_all := lw_g (lw_at lw_m2 29 rfl) rfl
theorem q415 : (Jvm.Cond.soleField "LetterNights" "oftenThen") ∈ lw_all := lw_g (lw_at lw_m2 30 rfl) rfl
theorem q416 : (Jvm.Cond.laysFinal "LetterNights" "LetterNights" "trays" "[LLetterNights$Numbers;") ∈ lw_all := lw_g (lw_at lw_m2 31 rfl) rfl
theorem q417 : (Jvm.Cond.soleField "LetterNights" "trays") ∈ lw_all := lw_g (lw_at lw_m2 32 rfl) rfl
theorem q418 : (Jvm.Cond.laysFinal "LetterNights" "LetterNights" "streets" "[LLetterNights$Street;") ∈ lw_all := lw_g (lw_at lw_m2 33 rfl) rfl
theorem q419 : (Jvm.Cond.soleField "LetterNights" "streets") ∈ lw_all := lw_g (lw_at lw_m2 34 rfl) rfl
theorem q420 : (Jvm.Cond.laysFinal "LetterNights" "LetterNights" "states" "[LLetterNights$State;") ∈ lw_all := lw_g (lw_at lw_m2 35 rfl) rfl
theorem q421 : (Jvm.Cond.soleField "LetterNights" "states") ∈ lw_all := lw_g (lw_at lw_m2 36 rfl) rfl
theorem q422 : (Jvm.Cond.superclass "LetterNights" "java/lang/Object") ∈ lw_all := lw_g (lw_at lw_m2 37 rfl) rfl
theorem q424 : (Jvm.Cond.instanceMethod ({ cls := "LetterNights", name := "feed", desc := "(IIIII)I" } : Jvm.MethodName)) ∈ lw_all := lw_g (lw_at lw_m2 39 rfl) rfl
theorem q425 : (Jvm.Cond.selects "LetterNights" ({ cls := "LetterNights", name := "feed", desc := "(IIIII)I" } : Jvm.MethodName) ({ cls := "LetterNights", name := "feed", desc := "(IIIII)I" } : Jvm.MethodName)) ∈ lw_all := lw_g (lw_at lw_m2 40 rfl) rfl
theorem q426 : (Jvm.Cond.code ({ cls := "LetterNights", name := "feed", desc := "(IIIII)I" } : Jvm.MethodName) prog_1_method_5_code (6 : Nat) (Option.some Jvm.ClassFile.FieldType.int)) ∈ lw_all := lw_g (lw_at lw_m2 41 rfl) rfl
theorem q427 : (Jvm.Cond.methodLink "LetterNights" (112 : Nat) ({ cls := "LetterNights", name := "bytes", desc := "(I)V" } : Jvm.MethodName)) ∈ lw_all := lw_g (lw_at lw_m2 42 rfl) rfl
theorem q428 : (Jvm.Cond.privateMethod ({ cls := "LetterNights", name := "bytes", desc := "(I)V" } : Jvm.MethodName)) ∈ lw_tbl := lw_at lw_m2 43 rfl
theorem q429 : (Jvm.Cond.instanceMethod ({ cls := "LetterNights", name := "bytes", desc := "(I)V" } : Jvm.MethodName)) ∈ lw_all := lw_g (lw_at lw_m2 44 rfl) rfl
theorem q430 : (Jvm.Cond.code ({ cls := "LetterNights", name := "bytes", desc := "(I)V" } : Jvm.MethodName) prog_1_method_6_code (3 : Nat) (Option.none : Option Jvm.ClassFile.FieldType)) ∈ lw_all := lw_g (lw_at lw_m2 45 rfl) rfl
theorem q432 : (Jvm.Cond.instanceMethod ({ cls := "LetterNights", name := "street", desc := "(I)I" } : Jvm.MethodName)) ∈ lw_all := lw_g (lw_at lw_m2 47 rfl) rfl
theorem q433 : (Jvm.Cond.selects "LetterNights" ({ cls := "LetterNights", name := "street", desc := "(I)I" } : Jvm.MethodName) ({ cls := "LetterNights", name := "street", desc := "(I)I" } : Jvm.MethodName)) ∈ lw_all := lw_g (lw_at lw_m2 48 rfl) rfl
theorem q434 : (Jvm.Cond.code ({ cls := "LetterNights", name := "street", desc := "(I)I" } : Jvm.MethodName) prog_1_method_7_code (3 : Nat) (Option.some Jvm.ClassFile.FieldType.int)) ∈ lw_all := lw_g (lw_at lw_m2 49 rfl) rfl
theorem q435 : (Jvm.Cond.methodLink "LetterNights" (116 : Nat) ({ cls := "LetterNights", name := "in", desc := "(JJJ)Z" } : Jvm.MethodName)) ∈ lw_all := lw_g (lw_at lw_m2 50 rfl) rfl
theorem q436 : (Jvm.Cond.static ({ cls := "LetterNights", name := "in", desc := "(JJJ)Z" } : Jvm.MethodName)) ∈ lw_all := lw_g (lw_at lw_m2 51 rfl) rfl
theorem q437 : (Jvm.Cond.code ({ cls := "LetterNights", name := "in", desc := "(JJJ)Z" } : Jvm.MethodName) prog_1_method_1_code (6 : Nat) (Option.some Jvm.ClassFile.FieldType.boolean)) ∈ lw_all := lw_g (lw_at lw_m2 52 rfl) rfl
theorem q438 : (Jvm.Cond.classLink "LetterNights" (120 : Nat) "LetterNights$Reader") ∈ lw_all := lw_g (lw_at lw_m2 53 rfl) rfl
theorem q440 : (Jvm.Cond.methodLink "LetterNights" (122 : Nat) ({ cls := "LetterNights$Reader", name := "<init>", desc := "(LLetterNights;I)V" } : Jvm.MethodName)) ∈ lw_all := lw_g (lw_at lw_m2 55 rfl) rfl
theorem q448 : (Jvm.Cond.fieldLinkNest "LetterNights" (137 : Nat) "LetterNights$Reader" "made" "LLetterNights$Street;" "LetterNights") ∈ lw_tbl := lw_at lw_m2 63 rfl
theorem q454 : (Jvm.Cond.fieldLinkNest "LetterNights" (128 : Nat) "LetterNights$Reader" "fault" "I" "LetterNights") ∈ lw_tbl := lw_at lw_m2 69 rfl
theorem q457 : (Jvm.Cond.fieldLinkNest "LetterNights" (134 : Nat) "LetterNights$Reader" "place" "I" "LetterNights") ∈ lw_tbl := lw_at lw_m2 72 rfl
theorem q483 : (Jvm.Cond.methodLink "LetterNights" (125 : Nat) ({ cls := "LetterNights$Reader", name := "read", desc := "()V" } : Jvm.MethodName)) ∈ lw_all := lw_g (lw_at lw_m2 98 rfl) rfl
theorem q829 : (Jvm.Cond.instanceMethod ({ cls := "LetterNights", name := "fault", desc := "(I)I" } : Jvm.MethodName)) ∈ lw_all := lw_g (lw_at lw_m3 204 rfl) rfl
theorem q830 : (Jvm.Cond.selects "LetterNights" ({ cls := "LetterNights", name := "fault", desc := "(I)I" } : Jvm.MethodName) ({ cls := "LetterNights", name := "fault", desc := "(I)I" } : Jvm.MethodName)) ∈ lw_all := lw_g (lw_at lw_m3 205 rfl) rfl
theorem q831 : (Jvm.Cond.code ({ cls := "LetterNights", name := "fault", desc := "(I)I" } : Jvm.MethodName) prog_1_method_8_code (2 : Nat) (Option.some Jvm.ClassFile.FieldType.int)) ∈ lw_all := lw_g (lw_at lw_m3 206 rfl) rfl
theorem q833 : (Jvm.Cond.instanceMethod ({ cls := "LetterNights", name := "becomes", desc := "(III)I" } : Jvm.MethodName)) ∈ lw_all := lw_g (lw_at lw_m3 208 rfl) rfl
theorem q834 : (Jvm.Cond.selects "LetterNights" ({ cls := "LetterNights", name := "becomes", desc := "(III)I" } : Jvm.MethodName) ({ cls := "LetterNights", name := "becomes", desc := "(III)I" } : Jvm.MethodName)) ∈ lw_all := lw_g (lw_at lw_m3 209 rfl) rfl
theorem q835 : (Jvm.Cond.code ({ cls := "LetterNights", name := "becomes", desc := "(III)I" } : Jvm.MethodName) prog_1_method_11_code (5 : Nat) (Option.some Jvm.ClassFile.FieldType.int)) ∈ lw_all := lw_g (lw_at lw_m3 210 rfl) rfl
theorem q836 : (Jvm.Cond.methodLink "LetterNights" (151 : Nat) ({ cls := "LetterNights", name := "isTable", desc := "(I)Z" } : Jvm.MethodName)) ∈ lw_all := lw_g (lw_at lw_m3 211 rfl) rfl
theorem q837 : (Jvm.Cond.privateMethod ({ cls := "LetterNights", name := "isTable", desc := "(I)Z" } : Jvm.MethodName)) ∈ lw_tbl := lw_at lw_m3 212 rfl
theorem q838 : (Jvm.Cond.instanceMethod ({ cls := "LetterNights", name := "isTable", desc := "(I)Z" } : Jvm.MethodName)) ∈ lw_all := lw_g (lw_at lw_m3 213 rfl) rfl
theorem q839 : (Jvm.Cond.code ({ cls := "LetterNights", name := "isTable", desc := "(I)Z" } : Jvm.MethodName) prog_1_method_9_code (2 : Nat) (Option.some Jvm.ClassFile.FieldType.boolean)) ∈ lw_all := lw_g (lw_at lw_m3 214 rfl) rfl
theorem q840 : (Jvm.Cond.methodLink "LetterNights" (155 : Nat) ({ cls := "LetterNights", name := "isLetter", desc := "(J)Z" } : Jvm.MethodName)) ∈ lw_all := lw_g (lw_at lw_m3 215 rfl) rfl
theorem q841 : (Jvm.Cond.static ({ cls := "LetterNights", name := "isLetter", desc := "(J)Z" } : Jvm.MethodName)) ∈ lw_all := lw_g (lw_at lw_m3 216 rfl) rfl
theorem q842 : (Jvm.Cond.code ({ cls := "LetterNights", name := "isLetter", desc := "(J)Z" } : Jvm.MethodName) prog_1_method_10_code (2 : Nat) (Option.some Jvm.ClassFile.FieldType.boolean)) ∈ lw_all := lw_g (lw_at lw_m3 217 rfl) rfl
theorem q843 : (Jvm.Cond.constantLong "LetterNights" (149 : Nat) (5 : Int64)) ∈ lw_all := lw_g (lw_at lw_m3 218 rfl) rfl
theorem q844 : (Jvm.Cond.methodLink "LetterNights" (159 : Nat) ({ cls := "LetterNights$Street", name := "manyOf", desc := "(II)I" } : Jvm.MethodName)) ∈ lw_all := lw_g (lw_at lw_m3 219 rfl) rfl
theorem q848 : (Jvm.Cond.methodLink "LetterNights" (163 : Nat) ({ cls := "LetterNights$Street", name := "child", desc := "(III)I" } : Jvm.MethodName)) ∈ lw_all := lw_g (lw_at lw_m3 223 rfl) rfl
theorem q853 : (Jvm.Cond.instanceMethod ({ cls := "LetterNights", name := "picks", desc := "()I" } : Jvm.MethodName)) ∈ lw_all := lw_g (lw_at lw_m3 228 rfl) rfl
theorem q854 : (Jvm.Cond.selects "LetterNights" ({ cls := "LetterNights", name := "picks", desc := "()I" } : Jvm.MethodName) ({ cls := "LetterNights", name := "picks", desc := "()I" } : Jvm.MethodName)) ∈ lw_all := lw_g (lw_at lw_m3 229 rfl) rfl
theorem q855 : (Jvm.Cond.code ({ cls := "LetterNights", name := "picks", desc := "()I" } : Jvm.MethodName) prog_1_method_12_code (1 : Nat) (Option.some Jvm.ClassFile.FieldType.int)) ∈ lw_all := lw_g (lw_at lw_m3 230 rfl) rfl
theorem q856 : (Jvm.Cond.methodLink "LetterNights" (167 : Nat) ({ cls := "LetterNights$State", name := "picked", desc := "()I" } : Jvm.MethodName)) ∈ lw_all := lw_g (lw_at lw_m3 231 rfl) rfl
theorem q942 : (Jvm.Cond.instanceMethod ({ cls := "LetterNights", name := "length", desc := "()J" } : Jvm.MethodName)) ∈ lw_all := lw_g (lw_at lw_m4 77 rfl) rfl
theorem q943 : (Jvm.Cond.selects "LetterNights" ({ cls := "LetterNights", name := "length", desc := "()J" } : Jvm.MethodName) ({ cls := "LetterNights", name := "length", desc := "()J" } : Jvm.MethodName)) ∈ lw_all := lw_g (lw_at lw_m4 78 rfl) rfl
theorem q944 : (Jvm.Cond.code ({ cls := "LetterNights", name := "length", desc := "()J" } : Jvm.MethodName) prog_1_method_13_code (1 : Nat) (Option.some Jvm.ClassFile.FieldType.long)) ∈ lw_all := lw_g (lw_at lw_m4 79 rfl) rfl
theorem q945 : (Jvm.Cond.methodLink "LetterNights" (170 : Nat) ({ cls := "LetterNights$State", name := "length", desc := "()J" } : Jvm.MethodName)) ∈ lw_all := lw_g (lw_at lw_m4 80 rfl) rfl
theorem q947 : (Jvm.Cond.instanceMethod ({ cls := "LetterNights", name := "letter", desc := "(J)I" } : Jvm.MethodName)) ∈ lw_all := lw_g (lw_at lw_m4 82 rfl) rfl
theorem q948 : (Jvm.Cond.selects "LetterNights" ({ cls := "LetterNights", name := "letter", desc := "(J)I" } : Jvm.MethodName) ({ cls := "LetterNights", name := "letter", desc := "(J)I" } : Jvm.MethodName)) ∈ lw_all := lw_g (lw_at lw_m4 83 rfl) rfl
theorem q949 : (Jvm.Cond.code ({ cls := "LetterNights", name := "letter", desc := "(J)I" } : Jvm.MethodName) prog_1_method_14_code (3 : Nat) (Option.some Jvm.ClassFile.FieldType.int)) ∈ lw_all := lw_g (lw_at lw_m4 84 rfl) rfl
theorem q950 : (Jvm.Cond.methodLink "LetterNights" (174 : Nat) ({ cls := "LetterNights$State", name := "letterAt", desc := "(J)I" } : Jvm.MethodName)) ∈ lw_all := lw_g (lw_at lw_m4 85 rfl) rfl
theorem q952 : (Jvm.Cond.instanceMethod ({ cls := "LetterNights", name := "count", desc := "(IJ)J" } : Jvm.MethodName)) ∈ lw_all := lw_g (lw_at lw_m4 87 rfl) rfl
theorem q953 : (Jvm.Cond.selects "LetterNights" ({ cls := "LetterNights", name := "count", desc := "(IJ)J" } : Jvm.MethodName) ({ cls := "LetterNights", name := "count", desc := "(IJ)J" } : Jvm.MethodName)) ∈ lw_all := lw_g (lw_at lw_m4 88 rfl) rfl
theorem q954 : (Jvm.Cond.code ({ cls := "LetterNights", name := "count", desc := "(IJ)J" } : Jvm.MethodName) prog_1_method_15_code (6 : Nat) (Option.some Jvm.ClassFile.FieldType.long)) ∈ lw_all := lw_g (lw_at lw_m4 89 rfl) rfl
theorem q955 : (Jvm.Cond.constantLong "LetterNights" (178 : Nat) (-2 : Int64)) ∈ lw_all := lw_g (lw_at lw_m4 90 rfl) rfl
theorem q956 : (Jvm.Cond.constantLong "LetterNights" (180 : Nat) (-3 : Int64)) ∈ lw_all := lw_g (lw_at lw_m4 91 rfl) rfl
theorem q957 : (Jvm.Cond.methodLink "LetterNights" (182 : Nat) ({ cls := "LetterNights$State", name := "manyOf", desc := "(I)J" } : Jvm.MethodName)) ∈ lw_all := lw_g (lw_at lw_m4 92 rfl) rfl
theorem q961 : (Jvm.Cond.methodLink "LetterNights" (185 : Nat) ({ cls := "LetterNights$State", name := "aheadOf", desc := "(IJ)J" } : Jvm.MethodName)) ∈ lw_all := lw_g (lw_at lw_m4 96 rfl) rfl
theorem q966 : (Jvm.Cond.instanceMethod ({ cls := "LetterNights", name := "place", desc := "(IJ)J" } : Jvm.MethodName)) ∈ lw_all := lw_g (lw_at lw_m4 101 rfl) rfl
theorem q967 : (Jvm.Cond.selects "LetterNights" ({ cls := "LetterNights", name := "place", desc := "(IJ)J" } : Jvm.MethodName) ({ cls := "LetterNights", name := "place", desc := "(IJ)J" } : Jvm.MethodName)) ∈ lw_all := lw_g (lw_at lw_m4 102 rfl) rfl
theorem q968 : (Jvm.Cond.code ({ cls := "LetterNights", name := "place", desc := "(IJ)J" } : Jvm.MethodName) prog_1_method_16_code (4 : Nat) (Option.some Jvm.ClassFile.FieldType.long)) ∈ lw_all := lw_g (lw_at lw_m4 103 rfl) rfl
theorem q969 : (Jvm.Cond.constantLong "LetterNights" (189 : Nat) (-1 : Int64)) ∈ lw_all := lw_g (lw_at lw_m4 104 rfl) rfl
theorem q970 : (Jvm.Cond.methodLink "LetterNights" (191 : Nat) ({ cls := "LetterNights$State", name := "placeOf", desc := "(IJ)J" } : Jvm.MethodName)) ∈ lw_all := lw_g (lw_at lw_m4 105 rfl) rfl
theorem q975 : (Jvm.Cond.instanceMethod ({ cls := "LetterNights", name := "night", desc := "(I)J" } : Jvm.MethodName)) ∈ lw_all := lw_g (lw_at lw_m4 110 rfl) rfl
theorem q976 : (Jvm.Cond.selects "LetterNights" ({ cls := "LetterNights", name := "night", desc := "(I)J" } : Jvm.MethodName) ({ cls := "LetterNights", name := "night", desc := "(I)J" } : Jvm.MethodName)) ∈ lw_all := lw_g (lw_at lw_m4 111 rfl) rfl
theorem q977 : (Jvm.Cond.code ({ cls := "LetterNights", name := "night", desc := "(I)J" } : Jvm.MethodName) prog_1_method_18_code (3 : Nat) (Option.some Jvm.ClassFile.FieldType.long)) ∈ lw_all := lw_g (lw_at lw_m4 112 rfl) rfl
theorem q978 : (Jvm.Cond.methodLink "LetterNights" (206 : Nat) ({ cls := "LetterNights$State", name := "whyNight", desc := "(J)I" } : Jvm.MethodName)) ∈ lw_all := lw_g (lw_at lw_m4 113 rfl) rfl
theorem q994 : (Jvm.Cond.methodLink "LetterNights" (209 : Nat) ({ cls := "LetterNights", name := "remembers", desc := "()V" } : Jvm.MethodName)) ∈ lw_all := lw_g (lw_at lw_m4 129 rfl) rfl
theorem q995 : (Jvm.Cond.privateMethod ({ cls := "LetterNights", name := "remembers", desc := "()V" } : Jvm.MethodName)) ∈ lw_tbl := lw_at lw_m4 130 rfl
theorem q996 : (Jvm.Cond.instanceMethod ({ cls := "LetterNights", name := "remembers", desc := "()V" } : Jvm.MethodName)) ∈ lw_all := lw_g (lw_at lw_m4 131 rfl) rfl
theorem q997 : (Jvm.Cond.code ({ cls := "LetterNights", name := "remembers", desc := "()V" } : Jvm.MethodName) prog_1_method_17_code (1 : Nat) (Option.none : Option Jvm.ClassFile.FieldType)) ∈ lw_all := lw_g (lw_at lw_m4 132 rfl) rfl
theorem q998 : (Jvm.Cond.methodLink "LetterNights" (197 : Nat) ({ cls := "LetterNights$State", name := "be", desc := "(LLetterNights$State;)LLetterNights$State;" } : Jvm.MethodName)) ∈ lw_all := lw_g (lw_at lw_m4 133 rfl) rfl
theorem q1005 : (Jvm.Cond.methodLink "LetterNights" (201 : Nat) ({ cls := "java/lang/Math", name := "min", desc := "(II)I" } : Jvm.MethodName)) ∈ lw_all := lw_g (lw_at lw_m4 140 rfl) rfl
theorem q1006 : (Jvm.Cond.methodLink "LetterNights" (212 : Nat) ({ cls := "LetterNights$State", name := "does", desc := "(I)V" } : Jvm.MethodName)) ∈ lw_all := lw_g (lw_at lw_m4 141 rfl) rfl
theorem q1015 : (Jvm.Cond.instanceMethod ({ cls := "LetterNights", name := "nights", desc := "(I)I" } : Jvm.MethodName)) ∈ lw_all := lw_g (lw_at lw_m4 150 rfl) rfl
theorem q1016 : (Jvm.Cond.selects "LetterNights" ({ cls := "LetterNights", name := "nights", desc := "(I)I" } : Jvm.MethodName) ({ cls := "LetterNights", name := "nights", desc := "(I)I" } : Jvm.MethodName)) ∈ lw_all := lw_g (lw_at lw_m4 151 rfl) rfl
theorem q1017 : (Jvm.Cond.code ({ cls := "LetterNights", name := "nights", desc := "(I)I" } : Jvm.MethodName) prog_1_method_19_code (3 : Nat) (Option.some Jvm.ClassFile.FieldType.int)) ∈ lw_all := lw_g (lw_at lw_m4 152 rfl) rfl
theorem q1018 : (Jvm.Cond.constantLong "LetterNights" (215 : Nat) (60 : Int64)) ∈ lw_all := lw_g (lw_at lw_m4 153 rfl) rfl
theorem q1020 : (Jvm.Cond.instanceMethod ({ cls := "LetterNights", name := "moon", desc := "(I)I" } : Jvm.MethodName)) ∈ lw_all := lw_g (lw_at lw_m4 155 rfl) rfl
theorem q1021 : (Jvm.Cond.selects "LetterNights" ({ cls := "LetterNights", name := "moon", desc := "(I)I" } : Jvm.MethodName) ({ cls := "LetterNights", name := "moon", desc := "(I)I" } : Jvm.MethodName)) ∈ lw_all := lw_g (lw_at lw_m4 156 rfl) rfl
theorem q1022 : (Jvm.Cond.code ({ cls := "LetterNights", name := "moon", desc := "(I)I" } : Jvm.MethodName) prog_1_method_20_code (3 : Nat) (Option.some Jvm.ClassFile.FieldType.int)) ∈ lw_all := lw_g (lw_at lw_m4 157 rfl) rfl
theorem q1023 : (Jvm.Cond.constantLong "LetterNights" (217 : Nat) (9 : Int64)) ∈ lw_all := lw_g (lw_at lw_m4 158 rfl) rfl
theorem q1025 : (Jvm.Cond.instanceMethod ({ cls := "LetterNights", name := "undo", desc := "(I)I" } : Jvm.MethodName)) ∈ lw_all := lw_g (lw_at lw_m4 160 rfl) rfl
theorem q1026 : (Jvm.Cond.selects "LetterNights" ({ cls := "LetterNights", name := "undo", desc := "(I)I" } : Jvm.MethodName) ({ cls := "LetterNights", name := "undo", desc := "(I)I" } : Jvm.MethodName)) ∈ lw_all := lw_g (lw_at lw_m4 161 rfl) rfl
theorem q1027 : (Jvm.Cond.code ({ cls := "LetterNights", name := "undo", desc := "(I)I" } : Jvm.MethodName) prog_1_method_21_code (2 : Nat) (Option.some Jvm.ClassFile.FieldType.int)) ∈ lw_all := lw_g (lw_at lw_m4 162 rfl) rfl
theorem q1029 : (Jvm.Cond.instanceMethod ({ cls := "LetterNights", name := "judge", desc := "(II)I" } : Jvm.MethodName)) ∈ lw_all := lw_g (lw_at lw_m4 164 rfl) rfl
theorem q1030 : (Jvm.Cond.selects "LetterNights" ({ cls := "LetterNights", name := "judge", desc := "(II)I" } : Jvm.MethodName) ({ cls := "LetterNights", name := "judge", desc := "(II)I" } : Jvm.MethodName)) ∈ lw_all := lw_g (lw_at lw_m4 165 rfl) rfl
theorem q1031 : (Jvm.Cond.code ({ cls := "LetterNights", name := "judge", desc := "(II)I" } : Jvm.MethodName) prog_1_method_23_code (6 : Nat) (Option.some Jvm.ClassFile.FieldType.int)) ∈ lw_all := lw_g (lw_at lw_m4 166 rfl) rfl
theorem q1032 : (Jvm.Cond.constantLong "LetterNights" (230 : Nat) (3 : Int64)) ∈ lw_all := lw_g (lw_at lw_m4 167 rfl) rfl
theorem q1033 : (Jvm.Cond.methodLink "LetterNights" (232 : Nat) ({ cls := "LetterNights", name := "trayFault", desc := "(I)I" } : Jvm.MethodName)) ∈ lw_all := lw_g (lw_at lw_m4 168 rfl) rfl
theorem q1034 : (Jvm.Cond.privateMethod ({ cls := "LetterNights", name := "trayFault", desc := "(I)I" } : Jvm.MethodName)) ∈ lw_tbl := lw_at lw_m4 169 rfl
theorem q1035 : (Jvm.Cond.instanceMethod ({ cls := "LetterNights", name := "trayFault", desc := "(I)I" } : Jvm.MethodName)) ∈ lw_all := lw_g (lw_at lw_m4 170 rfl) rfl
theorem q1036 : (Jvm.Cond.code ({ cls := "LetterNights", name := "trayFault", desc := "(I)I" } : Jvm.MethodName) prog_1_method_73_code (2 : Nat) (Option.some Jvm.ClassFile.FieldType.int)) ∈ lw_all := lw_g (lw_at lw_m4 171 rfl) rfl
theorem q1037 : (Jvm.Cond.methodLink "LetterNights" (415 : Nat) ({ cls := "LetterNights", name := "isTray", desc := "(I)Z" } : Jvm.MethodName)) ∈ lw_all := lw_g (lw_at lw_m4 172 rfl) rfl
theorem q1038 : (Jvm.Cond.static ({ cls := "LetterNights", name := "isTray", desc := "(I)Z" } : Jvm.MethodName)) ∈ lw_all := lw_g (lw_at lw_m4 173 rfl) rfl
theorem q1039 : (Jvm.Cond.code ({ cls := "LetterNights", name := "isTray", desc := "(I)Z" } : Jvm.MethodName) prog_1_method_72_code (1 : Nat) (Option.some Jvm.ClassFile.FieldType.boolean)) ∈ lw_all := lw_g (lw_at lw_m4 174 rfl) rfl
theorem q1040 : (Jvm.Cond.methodLink "LetterNights" (236 : Nat) ({ cls := "LetterNights", name := "goesAlong", desc := "(LLetterNights$Numbers;)I" } : Jvm.MethodName)) ∈ lw_all := lw_g (lw_at lw_m4 175 rfl) rfl
theorem q1041 : (Jvm.Cond.privateMethod ({ cls := "LetterNights", name := "goesAlong", desc := "(LLetterNights$Numbers;)I" } : Jvm.MethodName)) ∈ lw_tbl := lw_at lw_m4 176 rfl
theorem q1042 : (Jvm.Cond.instanceMethod ({ cls := "LetterNights", name := "goesAlong", desc := "(LLetterNights$Numbers;)I" } : Jvm.MethodName)) ∈ lw_all := lw_g (lw_at lw_m4 177 rfl) rfl
theorem q1043 : (Jvm.Cond.code ({ cls := "LetterNights", name := "goesAlong", desc := "(LLetterNights$Numbers;)I" } : Jvm.MethodName) prog_1_method_22_code (3 : Nat) (Option.some Jvm.ClassFile.FieldType.int)) ∈ lw_all := lw_g (lw_at lw_m4 178 rfl) rfl
theorem q1044 : (Jvm.Cond.methodLink "LetterNights" (222 : Nat) ({ cls := "LetterNights$Numbers", name := "many", desc := "()I" } : Jvm.MethodName)) ∈ lw_all := lw_g (lw_at lw_m4 179 rfl) rfl
theorem q1052 : (Jvm.Cond.methodLink "LetterNights" (224 : Nat) ({ cls := "LetterNights$Numbers", name := "number", desc := "(I)J" } : Jvm.MethodName)) ∈ lw_all := lw_g (lw_at lw_m4 187 rfl) rfl
theorem q1056 : (Jvm.Cond.methodLink "LetterNights" (227 : Nat) ({ cls := "LetterNights$State", name := "whyTold", desc := "(J)I" } : Jvm.MethodName)) ∈ lw_all := lw_g (lw_at lw_m4 191 rfl) rfl
theorem q1063 : (Jvm.Cond.constantLong "LetterNights" (240 : Nat) (1000000 : Int64)) ∈ lw_all := lw_g (lw_at lw_m4 198 rfl) rfl
theorem q1064 : (Jvm.Cond.methodLink "LetterNights" (242 : Nat) ({ cls := "LetterNights$State", name := "front", desc := "()I" } : Jvm.MethodName)) ∈ lw_all := lw_g (lw_at lw_m4 199 rfl) rfl
theorem q1066 : (Jvm.Cond.instanceMethod ({ cls := "LetterNights", name := "perform", desc := "(I)I" } : Jvm.MethodName)) ∈ lw_all := lw_g (lw_at lw_m4 201 rfl) rfl
theorem q1067 : (Jvm.Cond.selects "LetterNights" ({ cls := "LetterNights", name := "perform", desc := "(I)I" } : Jvm.MethodName) ({ cls := "LetterNights", name := "perform", desc := "(I)I" } : Jvm.MethodName)) ∈ lw_all := lw_g (lw_at lw_m4 202 rfl) rfl
theorem q1068 : (Jvm.Cond.code ({ cls := "LetterNights", name := "perform", desc := "(I)I" } : Jvm.MethodName) prog_1_method_24_code (4 : Nat) (Option.some Jvm.ClassFile.FieldType.int)) ∈ lw_all := lw_g (lw_at lw_m4 203 rfl) rfl
theorem q1070 : (Jvm.Cond.instanceMethod ({ cls := "LetterNights", name := "year", desc := "(II)I" } : Jvm.MethodName)) ∈ lw_all := lw_g (lw_at lw_m4 205 rfl) rfl
theorem q1071 : (Jvm.Cond.selects "LetterNights" ({ cls := "LetterNights", name := "year", desc := "(II)I" } : Jvm.MethodName) ({ cls := "LetterNights", name := "year", desc := "(II)I" } : Jvm.MethodName)) ∈ lw_all := lw_g (lw_at lw_m4 206 rfl) rfl
theorem q1072 : (Jvm.Cond.code ({ cls := "LetterNights", name := "year", desc := "(II)I" } : Jvm.MethodName) prog_1_method_27_code (6 : Nat) (Option.some Jvm.ClassFile.FieldType.int)) ∈ lw_all := lw_g (lw_at lw_m4 207 rfl) rfl
theorem q1073 : (Jvm.Cond.constantLong "LetterNights" (252 : Nat) (20 : Int64)) ∈ lw_all := lw_g (lw_at lw_m4 208 rfl) rfl
theorem q1074 : (Jvm.Cond.methodLink "LetterNights" (254 : Nat) ({ cls := "LetterNights", name := "drawn", desc := "()I" } : Jvm.MethodName)) ∈ lw_all := lw_g (lw_at lw_m4 209 rfl) rfl
theorem q1075 : (Jvm.Cond.privateMethod ({ cls := "LetterNights", name := "drawn", desc := "()I" } : Jvm.MethodName)) ∈ lw_tbl := lw_at lw_m4 210 rfl
theorem q1076 : (Jvm.Cond.instanceMethod ({ cls := "LetterNights", name := "drawn", desc := "()I" } : Jvm.MethodName)) ∈ lw_all := lw_g (lw_at lw_m4 211 rfl) rfl
theorem q1077 : (Jvm.Cond.code ({ cls := "LetterNights", name := "drawn", desc := "()I" } : Jvm.MethodName) prog_1_method_26_code (2 : Nat) (Option.some Jvm.ClassFile.FieldType.int)) ∈ lw_all := lw_g (lw_at lw_m4 212 rfl) rfl
theorem q1078 : (Jvm.Cond.methodLink "LetterNights" (249 : Nat) ({ cls := "LetterNights", name := "draw", desc := "(I)I" } : Jvm.MethodName)) ∈ lw_all := lw_g (lw_at lw_m4 213 rfl) rfl
theorem q1079 : (Jvm.Cond.privateMethod ({ cls := "LetterNights", name := "draw", desc := "(I)I" } : Jvm.MethodName)) ∈ lw_tbl := lw_at lw_m4 214 rfl
theorem q1080 : (Jvm.Cond.instanceMethod ({ cls := "LetterNights", name := "draw", desc := "(I)I" } : Jvm.MethodName)) ∈ lw_all := lw_g (lw_at lw_m4 215 rfl) rfl
theorem q1081 : (Jvm.Cond.code ({ cls := "LetterNights", name := "draw", desc := "(I)I" } : Jvm.MethodName) prog_1_method_25_code (2 : Nat) (Option.some Jvm.ClassFile.FieldType.int)) ∈ lw_all := lw_g (lw_at lw_m4 216 rfl) rfl
theorem q1082 : (Jvm.Cond.constant "LetterNights" (245 : Nat) (1103515245 : Int32)) ∈ lw_all := lw_g (lw_at lw_m4 217 rfl) rfl
theorem q1084 : (Jvm.Cond.instanceMethod ({ cls := "LetterNights", name := "occurs", desc := "(I)J" } : Jvm.MethodName)) ∈ lw_all := lw_g (lw_at lw_m4 219 rfl) rfl
theorem q1085 : (Jvm.Cond.selects "LetterNights" ({ cls := "LetterNights", name := "occurs", desc := "(I)J" } : Jvm.MethodName) ({ cls := "LetterNights", name := "occurs", desc := "(I)J" } : Jvm.MethodName)) ∈ lw_all := lw_g (lw_at lw_m4 220 rfl) rfl
theorem q1086 : (Jvm.Cond.code ({ cls := "LetterNights", name := "occurs", desc := "(I)J" } : Jvm.MethodName) prog_1_method_31_code (3 : Nat) (Option.some Jvm.ClassFile.FieldType.long)) ∈ lw_all := lw_g (lw_at lw_m4 221 rfl) rfl
theorem q1087 : (Jvm.Cond.methodLink "LetterNights" (286 : Nat) ({ cls := "LetterNights", name := "wordFault", desc := "(I)I" } : Jvm.MethodName)) ∈ lw_all := lw_g (lw_at lw_m4 222 rfl) rfl
theorem q1088 : (Jvm.Cond.privateMethod ({ cls := "LetterNights", name := "wordFault", desc := "(I)I" } : Jvm.MethodName)) ∈ lw_tbl := lw_at lw_m4 223 rfl
theorem q1089 : (Jvm.Cond.instanceMethod ({ cls := "LetterNights", name := "wordFault", desc := "(I)I" } : Jvm.MethodName)) ∈ lw_all := lw_g (lw_at lw_m4 224 rfl) rfl
theorem q1090 : (Jvm.Cond.code ({ cls := "LetterNights", name := "wordFault", desc := "(I)I" } : Jvm.MethodName) prog_1_method_30_code (5 : Nat) (Option.some Jvm.ClassFile.FieldType.int)) ∈ lw_all := lw_g (lw_at lw_m4 225 rfl) rfl
theorem q1091 : (Jvm.Cond.constantLong "LetterNights" (284 : Nat) (6 : Int64)) ∈ lw_all := lw_g (lw_at lw_m4 226 rfl) rfl
theorem q1092 : (Jvm.Cond.methodLink "LetterNights" (289 : Nat) ({ cls := "LetterNights", name := "seeks", desc := "(LLetterNights$Numbers;)LLetterNights$Part;" } : Jvm.MethodName)) ∈ lw_all := lw_g (lw_at lw_m4 227 rfl) rfl
theorem q1093 : (Jvm.Cond.privateMethod ({ cls := "LetterNights", name := "seeks", desc := "(LLetterNights$Numbers;)LLetterNights$Part;" } : Jvm.MethodName)) ∈ lw_tbl := lw_at lw_m4 228 rfl
theorem q1094 : (Jvm.Cond.instanceMethod ({ cls := "LetterNights", name := "seeks", desc := "(LLetterNights$Numbers;)LLetterNights$Part;" } : Jvm.MethodName)) ∈ lw_all := lw_g (lw_at lw_m4 229 rfl) rfl
theorem q1095 : (Jvm.Cond.code ({ cls := "LetterNights", name := "seeks", desc := "(LLetterNights$Numbers;)LLetterNights$Part;" } : Jvm.MethodName) prog_1_method_29_code (7 : Nat) (Option.some (Jvm.ClassFile.FieldType.object "LetterNights$Part"))) ∈ lw_all := lw_g (lw_at lw_m4 230 rfl) rfl
theorem q1096 : (Jvm.Cond.methodLink "LetterNights" (260 : Nat) ({ cls := "LetterNights$Part", name := "letter", desc := "(I)LLetterNights$Part;" } : Jvm.MethodName)) ∈ lw_all := lw_g (lw_at lw_m4 231 rfl) rfl
theorem q1105 : (Jvm.Cond.methodLink "LetterNights" (267 : Nat) ({ cls := "LetterNights$Part", name := "empty", desc := "()LLetterNights$Part;" } : Jvm.MethodName)) ∈ lw_all := lw_g (lw_at lw_m5 0 rfl) rfl
theorem q1106 : (Jvm.Cond.methodLink "LetterNights" (274 : Nat) ({ cls := "LetterNights$Part", name := "adds", desc := "(LLetterNights$Part;)V" } : Jvm.MethodName)) ∈ lw_all := lw_g (lw_at lw_m5 1 rfl) rfl
theorem q1120 : (Jvm.Cond.privateMethod ({ cls := "LetterNights", name := "isSoughtAt", desc := "(I)Z" } : Jvm.MethodName)) ∈ lw_tbl := lw_at lw_m5 15 rfl
theorem q1121 : (Jvm.Cond.instanceMethod ({ cls := "LetterNights", name := "isSoughtAt", desc := "(I)Z" } : Jvm.MethodName)) ∈ lw_all := lw_g (lw_at lw_m5 16 rfl) rfl
theorem q1122 : (Jvm.Cond.code ({ cls := "LetterNights", name := "isSoughtAt", desc := "(I)Z" } : Jvm.MethodName) prog_1_method_28_code (3 : Nat) (Option.some Jvm.ClassFile.FieldType.boolean)) ∈ lw_all := lw_g (lw_at lw_m5 17 rfl) rfl
theorem q1126 : (Jvm.Cond.instanceMethod ({ cls := "LetterNights", name := "first", desc := "(I)J" } : Jvm.MethodName)) ∈ lw_all := lw_g (lw_at lw_m5 21 rfl) rfl
theorem q1127 : (Jvm.Cond.selects "LetterNights" ({ cls := "LetterNights", name := "first", desc := "(I)J" } : Jvm.MethodName) ({ cls := "LetterNights", name := "first", desc := "(I)J" } : Jvm.MethodName)) ∈ lw_all := lw_g (lw_at lw_m5 22 rfl) rfl
theorem q1128 : (Jvm.Cond.code ({ cls := "LetterNights", name := "first", desc := "(I)J" } : Jvm.MethodName) prog_1_method_32_code (3 : Nat) (Option.some Jvm.ClassFile.FieldType.long)) ∈ lw_all := lw_g (lw_at lw_m5 23 rfl) rfl
theorem q1130 : (Jvm.Cond.instanceMethod ({ cls := "LetterNights", name := "backs", desc := "(II)I" } : Jvm.MethodName)) ∈ lw_all := lw_g (lw_at lw_m5 25 rfl) rfl
theorem q1131 : (Jvm.Cond.selects "LetterNights" ({ cls := "LetterNights", name := "backs", desc := "(II)I" } : Jvm.MethodName) ({ cls := "LetterNights", name := "backs", desc := "(II)I" } : Jvm.MethodName)) ∈ lw_all := lw_g (lw_at lw_m5 26 rfl) rfl
theorem q1132 : (Jvm.Cond.code ({ cls := "LetterNights", name := "backs", desc := "(II)I" } : Jvm.MethodName) prog_1_method_35_code (4 : Nat) (Option.some Jvm.ClassFile.FieldType.int)) ∈ lw_all := lw_g (lw_at lw_m5 27 rfl) rfl
theorem q1133 : (Jvm.Cond.methodLink "LetterNights" (303 : Nat) ({ cls := "LetterNights", name := "laysWays", desc := "(LLetterNights$Numbers;I)I" } : Jvm.MethodName)) ∈ lw_all := lw_g (lw_at lw_m5 28 rfl) rfl
theorem q1134 : (Jvm.Cond.privateMethod ({ cls := "LetterNights", name := "laysWays", desc := "(LLetterNights$Numbers;I)I" } : Jvm.MethodName)) ∈ lw_tbl := lw_at lw_m5 29 rfl
theorem q1135 : (Jvm.Cond.instanceMethod ({ cls := "LetterNights", name := "laysWays", desc := "(LLetterNights$Numbers;I)I" } : Jvm.MethodName)) ∈ lw_all := lw_g (lw_at lw_m5 30 rfl) rfl
theorem q1136 : (Jvm.Cond.code ({ cls := "LetterNights", name := "laysWays", desc := "(LLetterNights$Numbers;I)I" } : Jvm.MethodName) prog_1_method_34_code (5 : Nat) (Option.some Jvm.ClassFile.FieldType.int)) ∈ lw_all := lw_g (lw_at lw_m5 31 rfl) rfl
theorem q1137 : (Jvm.Cond.methodLink "LetterNights" (299 : Nat) ({ cls := "LetterNights", name := "reads", desc := "(LLetterNights$Numbers;III)Z" } : Jvm.MethodName)) ∈ lw_all := lw_g (lw_at lw_m5 32 rfl) rfl
theorem q1138 : (Jvm.Cond.privateMethod ({ cls := "LetterNights", name := "reads", desc := "(LLetterNights$Numbers;III)Z" } : Jvm.MethodName)) ∈ lw_tbl := lw_at lw_m5 33 rfl
theorem q1139 : (Jvm.Cond.instanceMethod ({ cls := "LetterNights", name := "reads", desc := "(LLetterNights$Numbers;III)Z" } : Jvm.MethodName)) ∈ lw_all := lw_g (lw_at lw_m5 34 rfl) rfl
theorem q1140 : (Jvm.Cond.code ({ cls := "LetterNights", name := "reads", desc := "(LLetterNights$Numbers;III)Z" } : Jvm.MethodName) prog_1_method_33_code (7 : Nat) (Option.some Jvm.ClassFile.FieldType.boolean)) ∈ lw_all := lw_g (lw_at lw_m5 35 rfl) rfl
theorem q1142 : (Jvm.Cond.instanceMethod ({ cls := "LetterNights", name := "backBy", desc := "(III)I" } : Jvm.MethodName)) ∈ lw_all := lw_g (lw_at lw_m5 37 rfl) rfl
theorem q1143 : (Jvm.Cond.selects "LetterNights" ({ cls := "LetterNights", name := "backBy", desc := "(III)I" } : Jvm.MethodName) ({ cls := "LetterNights", name := "backBy", desc := "(III)I" } : Jvm.MethodName)) ∈ lw_all := lw_g (lw_at lw_m5 38 rfl) rfl
theorem q1144 : (Jvm.Cond.code ({ cls := "LetterNights", name := "backBy", desc := "(III)I" } : Jvm.MethodName) prog_1_method_36_code (9 : Nat) (Option.some Jvm.ClassFile.FieldType.int)) ∈ lw_all := lw_g (lw_at lw_m5 39 rfl) rfl
theorem q1146 : (Jvm.Cond.instanceMethod ({ cls := "LetterNights", name := "fate", desc := "(II)I" } : Jvm.MethodName)) ∈ lw_all := lw_g (lw_at lw_m5 41 rfl) rfl
theorem q1147 : (Jvm.Cond.selects "LetterNights" ({ cls := "LetterNights", name := "fate", desc := "(II)I" } : Jvm.MethodName) ({ cls := "LetterNights", name := "fate", desc := "(II)I" } : Jvm.MethodName)) ∈ lw_all := lw_g (lw_at lw_m5 42 rfl) rfl
theorem q1148 : (Jvm.Cond.code ({ cls := "LetterNights", name := "fate", desc := "(II)I" } : Jvm.MethodName) prog_1_method_41_code (5 : Nat) (Option.some Jvm.ClassFile.FieldType.int)) ∈ lw_all := lw_g (lw_at lw_m5 43 rfl) rfl
theorem q1149 : (Jvm.Cond.methodLink "LetterNights" (324 : Nat) ({ cls := "LetterNights", name := "laysComing", desc := "(I)V" } : Jvm.MethodName)) ∈ lw_all := lw_g (lw_at lw_m5 44 rfl) rfl
theorem q1150 : (Jvm.Cond.privateMethod ({ cls := "LetterNights", name := "laysComing", desc := "(I)V" } : Jvm.MethodName)) ∈ lw_tbl := lw_at lw_m5 45 rfl
theorem q1151 : (Jvm.Cond.instanceMethod ({ cls := "LetterNights", name := "laysComing", desc := "(I)V" } : Jvm.MethodName)) ∈ lw_all := lw_g (lw_at lw_m5 46 rfl) rfl
theorem q1152 : (Jvm.Cond.code ({ cls := "LetterNights", name := "laysComing", desc := "(I)V" } : Jvm.MethodName) prog_1_method_38_code (4 : Nat) (Option.none : Option Jvm.ClassFile.FieldType)) ∈ lw_all := lw_g (lw_at lw_m5 47 rfl) rfl
theorem q1153 : (Jvm.Cond.methodLink "LetterNights" (307 : Nat) ({ cls := "LetterNights", name := "childrenOf", desc := "(II)I" } : Jvm.MethodName)) ∈ lw_all := lw_g (lw_at lw_m5 48 rfl) rfl
theorem q1154 : (Jvm.Cond.privateMethod ({ cls := "LetterNights", name := "childrenOf", desc := "(II)I" } : Jvm.MethodName)) ∈ lw_tbl := lw_at lw_m5 49 rfl
theorem q1155 : (Jvm.Cond.instanceMethod ({ cls := "LetterNights", name := "childrenOf", desc := "(II)I" } : Jvm.MethodName)) ∈ lw_all := lw_g (lw_at lw_m5 50 rfl) rfl
theorem q1156 : (Jvm.Cond.code ({ cls := "LetterNights", name := "childrenOf", desc := "(II)I" } : Jvm.MethodName) prog_1_method_37_code (5 : Nat) (Option.some Jvm.ClassFile.FieldType.int)) ∈ lw_all := lw_g (lw_at lw_m5 51 rfl) rfl
theorem q1157 : (Jvm.Cond.methodLink "LetterNights" (310 : Nat) ({ cls := "LetterNights", name := "has", desc := "(II)Z" } : Jvm.MethodName)) ∈ lw_all := lw_g (lw_at lw_m5 52 rfl) rfl
theorem q1158 : (Jvm.Cond.static ({ cls := "LetterNights", name := "has", desc := "(II)Z" } : Jvm.MethodName)) ∈ lw_all := lw_g (lw_at lw_m5 53 rfl) rfl
theorem q1159 : (Jvm.Cond.code ({ cls := "LetterNights", name := "has", desc := "(II)Z" } : Jvm.MethodName) prog_1_method_2_code (2 : Nat) (Option.some Jvm.ClassFile.FieldType.boolean)) ∈ lw_all := lw_g (lw_at lw_m5 54 rfl) rfl
theorem q1160 : (Jvm.Cond.methodLink "LetterNights" (327 : Nat) ({ cls := "LetterNights", name := "isDoubled", desc := "(II)Z" } : Jvm.MethodName)) ∈ lw_all := lw_g (lw_at lw_m5 55 rfl) rfl
theorem q1161 : (Jvm.Cond.privateMethod ({ cls := "LetterNights", name := "isDoubled", desc := "(II)Z" } : Jvm.MethodName)) ∈ lw_tbl := lw_at lw_m5 56 rfl
theorem q1162 : (Jvm.Cond.instanceMethod ({ cls := "LetterNights", name := "isDoubled", desc := "(II)Z" } : Jvm.MethodName)) ∈ lw_all := lw_g (lw_at lw_m5 57 rfl) rfl
theorem q1163 : (Jvm.Cond.code ({ cls := "LetterNights", name := "isDoubled", desc := "(II)Z" } : Jvm.MethodName) prog_1_method_39_code (6 : Nat) (Option.some Jvm.ClassFile.FieldType.boolean)) ∈ lw_all := lw_g (lw_at lw_m5 58 rfl) rfl
theorem q1164 : (Jvm.Cond.methodLink "LetterNights" (314 : Nat) ({ cls := "LetterNights", name := "one", desc := "(Z)I" } : Jvm.MethodName)) ∈ lw_all := lw_g (lw_at lw_m5 59 rfl) rfl
theorem q1165 : (Jvm.Cond.static ({ cls := "LetterNights", name := "one", desc := "(Z)I" } : Jvm.MethodName)) ∈ lw_all := lw_g (lw_at lw_m5 60 rfl) rfl
theorem q1166 : (Jvm.Cond.code ({ cls := "LetterNights", name := "one", desc := "(Z)I" } : Jvm.MethodName) prog_1_method_3_code (1 : Nat) (Option.some Jvm.ClassFile.FieldType.int)) ∈ lw_all := lw_g (lw_at lw_m5 61 rfl) rfl
theorem q1167 : (Jvm.Cond.methodLink "LetterNights" (318 : Nat) ({ cls := "LetterNights", name := "chainFrom", desc := "(I)I" } : Jvm.MethodName)) ∈ lw_all := lw_g (lw_at lw_m5 62 rfl) rfl
theorem q1168 : (Jvm.Cond.privateMethod ({ cls := "LetterNights", name := "chainFrom", desc := "(I)I" } : Jvm.MethodName)) ∈ lw_tbl := lw_at lw_m5 63 rfl
theorem q1169 : (Jvm.Cond.instanceMethod ({ cls := "LetterNights", name := "chainFrom", desc := "(I)I" } : Jvm.MethodName)) ∈ lw_all := lw_g (lw_at lw_m5 64 rfl) rfl
theorem q1170 : (Jvm.Cond.code ({ cls := "LetterNights", name := "chainFrom", desc := "(I)I" } : Jvm.MethodName) prog_1_method_40_code (4 : Nat) (Option.some Jvm.ClassFile.FieldType.int)) ∈ lw_all := lw_g (lw_at lw_m5 65 rfl) rfl
theorem q1171 : (Jvm.Cond.methodLink "LetterNights" (321 : Nat) ({ cls := "java/lang/Math", name := "max", desc := "(II)I" } : Jvm.MethodName)) ∈ lw_all := lw_g (lw_at lw_m5 66 rfl) rfl
theorem q1173 : (Jvm.Cond.instanceMethod ({ cls := "LetterNights", name := "degree", desc := "(II)I" } : Jvm.MethodName)) ∈ lw_all := lw_g (lw_at lw_m5 68 rfl) rfl
theorem q1174 : (Jvm.Cond.selects "LetterNights" ({ cls := "LetterNights", name := "degree", desc := "(II)I" } : Jvm.MethodName) ({ cls := "LetterNights", name := "degree", desc := "(II)I" } : Jvm.MethodName)) ∈ lw_all := lw_g (lw_at lw_m5 69 rfl) rfl
theorem q1175 : (Jvm.Cond.code ({ cls := "LetterNights", name := "degree", desc := "(II)I" } : Jvm.MethodName) prog_1_method_42_code (3 : Nat) (Option.some Jvm.ClassFile.FieldType.int)) ∈ lw_all := lw_g (lw_at lw_m5 70 rfl) rfl
theorem q1176 : (Jvm.Cond.methodLink "LetterNights" (330 : Nat) ({ cls := "LetterNights", name := "fate", desc := "(II)I" } : Jvm.MethodName)) ∈ lw_all := lw_g (lw_at lw_m5 71 rfl) rfl
theorem q1178 : (Jvm.Cond.instanceMethod ({ cls := "LetterNights", name := "begins", desc := "(I)I" } : Jvm.MethodName)) ∈ lw_all := lw_g (lw_at lw_m5 73 rfl) rfl
theorem q1179 : (Jvm.Cond.selects "LetterNights" ({ cls := "LetterNights", name := "begins", desc := "(I)I" } : Jvm.MethodName) ({ cls := "LetterNights", name := "begins", desc := "(I)I" } : Jvm.MethodName)) ∈ lw_all := lw_g (lw_at lw_m5 74 rfl) rfl
theorem q1180 : (Jvm.Cond.code ({ cls := "LetterNights", name := "begins", desc := "(I)I" } : Jvm.MethodName) prog_1_method_43_code (4 : Nat) (Option.some Jvm.ClassFile.FieldType.int)) ∈ lw_all := lw_g (lw_at lw_m5 75 rfl) rfl
theorem q1182 : (Jvm.Cond.instanceMethod ({ cls := "LetterNights", name := "comes", desc := "(I)I" } : Jvm.MethodName)) ∈ lw_all := lw_g (lw_at lw_m5 77 rfl) rfl
theorem q1183 : (Jvm.Cond.selects "LetterNights" ({ cls := "LetterNights", name := "comes", desc := "(I)I" } : Jvm.MethodName) ({ cls := "LetterNights", name := "comes", desc := "(I)I" } : Jvm.MethodName)) ∈ lw_all := lw_g (lw_at lw_m5 78 rfl) rfl
theorem q1184 : (Jvm.Cond.code ({ cls := "LetterNights", name := "comes", desc := "(I)I" } : Jvm.MethodName) prog_1_method_47_code (6 : Nat) (Option.some Jvm.ClassFile.FieldType.int)) ∈ lw_all := lw_g (lw_at lw_m5 79 rfl) rfl
theorem q1185 : (Jvm.Cond.methodLink "LetterNights" (333 : Nat) ({ cls := "LetterNights$State", name := "kinds", desc := "()I" } : Jvm.MethodName)) ∈ lw_all := lw_g (lw_at lw_m5 80 rfl) rfl
theorem q1189 : (Jvm.Cond.methodLink "LetterNights" (336 : Nat) ({ cls := "LetterNights", name := "setThen", desc := "(II)I" } : Jvm.MethodName)) ∈ lw_all := lw_g (lw_at lw_m5 84 rfl) rfl
theorem q1190 : (Jvm.Cond.privateMethod ({ cls := "LetterNights", name := "setThen", desc := "(II)I" } : Jvm.MethodName)) ∈ lw_tbl := lw_at lw_m5 85 rfl
theorem q1191 : (Jvm.Cond.instanceMethod ({ cls := "LetterNights", name := "setThen", desc := "(II)I" } : Jvm.MethodName)) ∈ lw_all := lw_g (lw_at lw_m5 86 rfl) rfl
theorem q1192 : (Jvm.Cond.code ({ cls := "LetterNights", name := "setThen", desc := "(II)I" } : Jvm.MethodName) prog_1_method_46_code (5 : Nat) (Option.some Jvm.ClassFile.FieldType.int)) ∈ lw_all := lw_g (lw_at lw_m5 87 rfl) rfl
theorem q1194 : (Jvm.Cond.instanceMethod ({ cls := "LetterNights", name := "soonest", desc := "(J)I" } : Jvm.MethodName)) ∈ lw_all := lw_g (lw_at lw_m5 89 rfl) rfl
theorem q1195 : (Jvm.Cond.selects "LetterNights" ({ cls := "LetterNights", name := "soonest", desc := "(J)I" } : Jvm.MethodName) ({ cls := "LetterNights", name := "soonest", desc := "(J)I" } : Jvm.MethodName)) ∈ lw_all := lw_g (lw_at lw_m5 90 rfl) rfl
theorem q1196 : (Jvm.Cond.code ({ cls := "LetterNights", name := "soonest", desc := "(J)I" } : Jvm.MethodName) prog_1_method_50_code (3 : Nat) (Option.some Jvm.ClassFile.FieldType.int)) ∈ lw_all := lw_g (lw_at lw_m5 91 rfl) rfl
theorem q1197 : (Jvm.Cond.methodLink "LetterNights" (354 : Nat) ({ cls := "LetterNights", name := "laysSoonest", desc := "(J)I" } : Jvm.MethodName)) ∈ lw_all := lw_g (lw_at lw_m5 92 rfl) rfl
theorem q1198 : (Jvm.Cond.privateMethod ({ cls := "LetterNights", name := "laysSoonest", desc := "(J)I" } : Jvm.MethodName)) ∈ lw_tbl := lw_at lw_m5 93 rfl
theorem q1199 : (Jvm.Cond.instanceMethod ({ cls := "LetterNights", name := "laysSoonest", desc := "(J)I" } : Jvm.MethodName)) ∈ lw_all := lw_g (lw_at lw_m5 94 rfl) rfl
theorem q1200 : (Jvm.Cond.code ({ cls := "LetterNights", name := "laysSoonest", desc := "(J)I" } : Jvm.MethodName) prog_1_method_49_code (4 : Nat) (Option.some Jvm.ClassFile.FieldType.int)) ∈ lw_all := lw_g (lw_at lw_m5 95 rfl) rfl
theorem q1201 : (Jvm.Cond.methodLink "LetterNights" (350 : Nat) ({ cls := "LetterNights$State", name := "laysMany", desc := "([JI)V" } : Jvm.MethodName)) ∈ lw_all := lw_g (lw_at lw_m5 96 rfl) rfl
theorem q1205 : (Jvm.Cond.methodLink "LetterNights" (346 : Nat) ({ cls := "LetterNights", name := "rowsTo", desc := "(JIII)I" } : Jvm.MethodName)) ∈ lw_all := lw_g (lw_at lw_m5 100 rfl) rfl
theorem q1206 : (Jvm.Cond.privateMethod ({ cls := "LetterNights", name := "rowsTo", desc := "(JIII)I" } : Jvm.MethodName)) ∈ lw_tbl := lw_at lw_m5 101 rfl
theorem q1207 : (Jvm.Cond.instanceMethod ({ cls := "LetterNights", name := "rowsTo", desc := "(JIII)I" } : Jvm.MethodName)) ∈ lw_all := lw_g (lw_at lw_m5 102 rfl) rfl
theorem q1208 : (Jvm.Cond.code ({ cls := "LetterNights", name := "rowsTo", desc := "(JIII)I" } : Jvm.MethodName) prog_1_method_48_code (8 : Nat) (Option.some Jvm.ClassFile.FieldType.int)) ∈ lw_all := lw_g (lw_at lw_m5 103 rfl) rfl
theorem q1209 : (Jvm.Cond.methodLink "LetterNights" (339 : Nat) ({ cls := "LetterNights", name := "lengthAt", desc := "(I)J" } : Jvm.MethodName)) ∈ lw_all := lw_g (lw_at lw_m5 104 rfl) rfl
theorem q1210 : (Jvm.Cond.privateMethod ({ cls := "LetterNights", name := "lengthAt", desc := "(I)J" } : Jvm.MethodName)) ∈ lw_tbl := lw_at lw_m5 105 rfl
theorem q1211 : (Jvm.Cond.instanceMethod ({ cls := "LetterNights", name := "lengthAt", desc := "(I)J" } : Jvm.MethodName)) ∈ lw_all := lw_g (lw_at lw_m5 106 rfl) rfl
theorem q1212 : (Jvm.Cond.code ({ cls := "LetterNights", name := "lengthAt", desc := "(I)J" } : Jvm.MethodName) prog_1_method_45_code (5 : Nat) (Option.some Jvm.ClassFile.FieldType.long)) ∈ lw_all := lw_g (lw_at lw_m5 107 rfl) rfl
theorem q1213 : (Jvm.Cond.methodLink "LetterNights" (342 : Nat) ({ cls := "LetterNights", name := "laysThen", desc := "(II)V" } : Jvm.MethodName)) ∈ lw_all := lw_g (lw_at lw_m5 108 rfl) rfl
theorem q1214 : (Jvm.Cond.privateMethod ({ cls := "LetterNights", name := "laysThen", desc := "(II)V" } : Jvm.MethodName)) ∈ lw_tbl := lw_at lw_m5 109 rfl
theorem q1215 : (Jvm.Cond.instanceMethod ({ cls := "LetterNights", name := "laysThen", desc := "(II)V" } : Jvm.MethodName)) ∈ lw_all := lw_g (lw_at lw_m5 110 rfl) rfl
theorem q1216 : (Jvm.Cond.code ({ cls := "LetterNights", name := "laysThen", desc := "(II)V" } : Jvm.MethodName) prog_1_method_44_code (5 : Nat) (Option.none : Option Jvm.ClassFile.FieldType)) ∈ lw_all := lw_g (lw_at lw_m5 111 rfl) rfl
theorem q1218 : (Jvm.Cond.instanceMethod ({ cls := "LetterNights", name := "way", desc := "(JI)I" } : Jvm.MethodName)) ∈ lw_all := lw_g (lw_at lw_m5 113 rfl) rfl
theorem q1219 : (Jvm.Cond.selects "LetterNights" ({ cls := "LetterNights", name := "way", desc := "(JI)I" } : Jvm.MethodName) ({ cls := "LetterNights", name := "way", desc := "(JI)I" } : Jvm.MethodName)) ∈ lw_all := lw_g (lw_at lw_m5 114 rfl) rfl
theorem q1220 : (Jvm.Cond.code ({ cls := "LetterNights", name := "way", desc := "(JI)I" } : Jvm.MethodName) prog_1_method_51_code (5 : Nat) (Option.some Jvm.ClassFile.FieldType.int)) ∈ lw_all := lw_g (lw_at lw_m5 115 rfl) rfl
theorem q1222 : (Jvm.Cond.instanceMethod ({ cls := "LetterNights", name := "rows", desc := "(JI)I" } : Jvm.MethodName)) ∈ lw_all := lw_g (lw_at lw_m5 117 rfl) rfl
theorem q1223 : (Jvm.Cond.selects "LetterNights" ({ cls := "LetterNights", name := "rows", desc := "(JI)I" } : Jvm.MethodName) ({ cls := "LetterNights", name := "rows", desc := "(JI)I" } : Jvm.MethodName)) ∈ lw_all := lw_g (lw_at lw_m5 118 rfl) rfl
theorem q1224 : (Jvm.Cond.code ({ cls := "LetterNights", name := "rows", desc := "(JI)I" } : Jvm.MethodName) prog_1_method_52_code (4 : Nat) (Option.some Jvm.ClassFile.FieldType.int)) ∈ lw_all := lw_g (lw_at lw_m5 119 rfl) rfl
theorem q1225 : (Jvm.Cond.constantLong "LetterNights" (357 : Nat) (7 : Int64)) ∈ lw_all := lw_g (lw_at lw_m5 120 rfl) rfl
theorem q1226 : (Jvm.Cond.constant "LetterNights" (359 : Nat) (536870912 : Int32)) ∈ lw_all := lw_g (lw_at lw_m5 121 rfl) rfl
theorem q1228 : (Jvm.Cond.instanceMethod ({ cls := "LetterNights", name := "longBy", desc := "(I)I" } : Jvm.MethodName)) ∈ lw_all := lw_g (lw_at lw_m5 123 rfl) rfl
theorem q1229 : (Jvm.Cond.selects "LetterNights" ({ cls := "LetterNights", name := "longBy", desc := "(I)I" } : Jvm.MethodName) ({ cls := "LetterNights", name := "longBy", desc := "(I)I" } : Jvm.MethodName)) ∈ lw_all := lw_g (lw_at lw_m5 124 rfl) rfl
theorem q1230 : (Jvm.Cond.code ({ cls := "LetterNights", name := "longBy", desc := "(I)I" } : Jvm.MethodName) prog_1_method_57_code (3 : Nat) (Option.some Jvm.ClassFile.FieldType.int)) ∈ lw_all := lw_g (lw_at lw_m5 125 rfl) rfl
theorem q1231 : (Jvm.Cond.methodLink "LetterNights" (375 : Nat) ({ cls := "LetterNights", name := "longFault", desc := "(II)I" } : Jvm.MethodName)) ∈ lw_all := lw_g (lw_at lw_m5 126 rfl) rfl
theorem q1232 : (Jvm.Cond.privateMethod ({ cls := "LetterNights", name := "longFault", desc := "(II)I" } : Jvm.MethodName)) ∈ lw_tbl := lw_at lw_m5 127 rfl
theorem q1233 : (Jvm.Cond.instanceMethod ({ cls := "LetterNights", name := "longFault", desc := "(II)I" } : Jvm.MethodName)) ∈ lw_all := lw_g (lw_at lw_m5 128 rfl) rfl
theorem q1234 : (Jvm.Cond.code ({ cls := "LetterNights", name := "longFault", desc := "(II)I" } : Jvm.MethodName) prog_1_method_53_code (6 : Nat) (Option.some Jvm.ClassFile.FieldType.int)) ∈ lw_all := lw_g (lw_at lw_m5 129 rfl) rfl
theorem q1235 : (Jvm.Cond.constantLong "LetterNights" (360 : Nat) (8 : Int64)) ∈ lw_all := lw_g (lw_at lw_m5 130 rfl) rfl
theorem q1236 : (Jvm.Cond.methodLink "LetterNights" (378 : Nat) ({ cls := "LetterNights", name := "laysLong", desc := "(LLetterNights$Numbers;I)I" } : Jvm.MethodName)) ∈ lw_all := lw_g (lw_at lw_m5 131 rfl) rfl
theorem q1237 : (Jvm.Cond.privateMethod ({ cls := "LetterNights", name := "laysLong", desc := "(LLetterNights$Numbers;I)I" } : Jvm.MethodName)) ∈ lw_tbl := lw_at lw_m5 132 rfl
theorem q1238 : (Jvm.Cond.instanceMethod ({ cls := "LetterNights", name := "laysLong", desc := "(LLetterNights$Numbers;I)I" } : Jvm.MethodName)) ∈ lw_all := lw_g (lw_at lw_m5 133 rfl) rfl
theorem q1239 : (Jvm.Cond.code ({ cls := "LetterNights", name := "laysLong", desc := "(LLetterNights$Numbers;I)I" } : Jvm.MethodName) prog_1_method_56_code (4 : Nat) (Option.some Jvm.ClassFile.FieldType.int)) ∈ lw_all := lw_g (lw_at lw_m5 134 rfl) rfl
theorem q1240 : (Jvm.Cond.methodLink "LetterNights" (365 : Nat) ({ cls := "LetterNights", name := "goesLong", desc := "(LLetterNights$Numbers;I)V" } : Jvm.MethodName)) ∈ lw_all := lw_g (lw_at lw_m5 135 rfl) rfl
theorem q1241 : (Jvm.Cond.privateMethod ({ cls := "LetterNights", name := "goesLong", desc := "(LLetterNights$Numbers;I)V" } : Jvm.MethodName)) ∈ lw_tbl := lw_at lw_m5 136 rfl
theorem q1242 : (Jvm.Cond.instanceMethod ({ cls := "LetterNights", name := "goesLong", desc := "(LLetterNights$Numbers;I)V" } : Jvm.MethodName)) ∈ lw_all := lw_g (lw_at lw_m5 137 rfl) rfl
theorem q1243 : (Jvm.Cond.code ({ cls := "LetterNights", name := "goesLong", desc := "(LLetterNights$Numbers;I)V" } : Jvm.MethodName) prog_1_method_54_code (4 : Nat) (Option.none : Option Jvm.ClassFile.FieldType)) ∈ lw_all := lw_g (lw_at lw_m5 138 rfl) rfl
theorem q1244 : (Jvm.Cond.methodLink "LetterNights" (362 : Nat) ({ cls := "LetterNights", name := "tells", desc := "(I)V" } : Jvm.MethodName)) ∈ lw_all := lw_g (lw_at lw_m5 139 rfl) rfl
theorem q1245 : (Jvm.Cond.privateMethod ({ cls := "LetterNights", name := "tells", desc := "(I)V" } : Jvm.MethodName)) ∈ lw_tbl := lw_at lw_m5 140 rfl
theorem q1246 : (Jvm.Cond.instanceMethod ({ cls := "LetterNights", name := "tells", desc := "(I)V" } : Jvm.MethodName)) ∈ lw_all := lw_g (lw_at lw_m5 141 rfl) rfl
theorem q1247 : (Jvm.Cond.code ({ cls := "LetterNights", name := "tells", desc := "(I)V" } : Jvm.MethodName) prog_1_method_55_code (3 : Nat) (Option.none : Option Jvm.ClassFile.FieldType)) ∈ lw_all := lw_g (lw_at lw_m5 142 rfl) rfl
theorem q1249 : (Jvm.Cond.instanceMethod ({ cls := "LetterNights", name := "tables", desc := "(II)I" } : Jvm.MethodName)) ∈ lw_all := lw_g (lw_at lw_m5 144 rfl) rfl
theorem q1250 : (Jvm.Cond.selects "LetterNights" ({ cls := "LetterNights", name := "tables", desc := "(II)I" } : Jvm.MethodName) ({ cls := "LetterNights", name := "tables", desc := "(II)I" } : Jvm.MethodName)) ∈ lw_all := lw_g (lw_at lw_m5 145 rfl) rfl
theorem q1251 : (Jvm.Cond.code ({ cls := "LetterNights", name := "tables", desc := "(II)I" } : Jvm.MethodName) prog_1_method_58_code (4 : Nat) (Option.some Jvm.ClassFile.FieldType.int)) ∈ lw_all := lw_g (lw_at lw_m5 146 rfl) rfl
theorem q1253 : (Jvm.Cond.instanceMethod ({ cls := "LetterNights", name := "moons", desc := "(I)I" } : Jvm.MethodName)) ∈ lw_all := lw_g (lw_at lw_m5 148 rfl) rfl
theorem q1254 : (Jvm.Cond.selects "LetterNights" ({ cls := "LetterNights", name := "moons", desc := "(I)I" } : Jvm.MethodName) ({ cls := "LetterNights", name := "moons", desc := "(I)I" } : Jvm.MethodName)) ∈ lw_all := lw_g (lw_at lw_m5 149 rfl) rfl
theorem q1255 : (Jvm.Cond.code ({ cls := "LetterNights", name := "moons", desc := "(I)I" } : Jvm.MethodName) prog_1_method_59_code (8 : Nat) (Option.some Jvm.ClassFile.FieldType.int)) ∈ lw_all := lw_g (lw_at lw_m5 150 rfl) rfl
theorem q1257 : (Jvm.Cond.instanceMethod ({ cls := "LetterNights", name := "attempt", desc := "(I)I" } : Jvm.MethodName)) ∈ lw_all := lw_g (lw_at lw_m5 152 rfl) rfl
theorem q1258 : (Jvm.Cond.selects "LetterNights" ({ cls := "LetterNights", name := "attempt", desc := "(I)I" } : Jvm.MethodName) ({ cls := "LetterNights", name := "attempt", desc := "(I)I" } : Jvm.MethodName)) ∈ lw_all := lw_g (lw_at lw_m5 153 rfl) rfl
theorem q1259 : (Jvm.Cond.code ({ cls := "LetterNights", name := "attempt", desc := "(I)I" } : Jvm.MethodName) prog_1_method_62_code (7 : Nat) (Option.some Jvm.ClassFile.FieldType.int)) ∈ lw_all := lw_g (lw_at lw_m5 154 rfl) rfl
theorem q1260 : (Jvm.Cond.methodLink "LetterNights" (384 : Nat) ({ cls := "LetterNights", name := "mostAlike", desc := "()I" } : Jvm.MethodName)) ∈ lw_all := lw_g (lw_at lw_m5 155 rfl) rfl
theorem q1261 : (Jvm.Cond.privateMethod ({ cls := "LetterNights", name := "mostAlike", desc := "()I" } : Jvm.MethodName)) ∈ lw_tbl := lw_at lw_m5 156 rfl
theorem q1262 : (Jvm.Cond.instanceMethod ({ cls := "LetterNights", name := "mostAlike", desc := "()I" } : Jvm.MethodName)) ∈ lw_all := lw_g (lw_at lw_m5 157 rfl) rfl
theorem q1263 : (Jvm.Cond.code ({ cls := "LetterNights", name := "mostAlike", desc := "()I" } : Jvm.MethodName) prog_1_method_61_code (4 : Nat) (Option.some Jvm.ClassFile.FieldType.int)) ∈ lw_all := lw_g (lw_at lw_m5 158 rfl) rfl
theorem q1264 : (Jvm.Cond.methodLink "LetterNights" (381 : Nat) ({ cls := "LetterNights", name := "arranges", desc := "()V" } : Jvm.MethodName)) ∈ lw_all := lw_g (lw_at lw_m5 159 rfl) rfl
theorem q1265 : (Jvm.Cond.privateMethod ({ cls := "LetterNights", name := "arranges", desc := "()V" } : Jvm.MethodName)) ∈ lw_tbl := lw_at lw_m5 160 rfl
theorem q1266 : (Jvm.Cond.instanceMethod ({ cls := "LetterNights", name := "arranges", desc := "()V" } : Jvm.MethodName)) ∈ lw_all := lw_g (lw_at lw_m5 161 rfl) rfl
theorem q1267 : (Jvm.Cond.code ({ cls := "LetterNights", name := "arranges", desc := "()V" } : Jvm.MethodName) prog_1_method_60_code (6 : Nat) (Option.none : Option Jvm.ClassFile.FieldType)) ∈ lw_all := lw_g (lw_at lw_m5 162 rfl) rfl
theorem q1269 : (Jvm.Cond.instanceMethod ({ cls := "LetterNights", name := "turned", desc := "(I)J" } : Jvm.MethodName)) ∈ lw_all := lw_g (lw_at lw_m5 164 rfl) rfl
theorem q1270 : (Jvm.Cond.selects "LetterNights" ({ cls := "LetterNights", name := "turned", desc := "(I)J" } : Jvm.MethodName) ({ cls := "LetterNights", name := "turned", desc := "(I)J" } : Jvm.MethodName)) ∈ lw_all := lw_g (lw_at lw_m5 165 rfl) rfl
theorem q1271 : (Jvm.Cond.code ({ cls := "LetterNights", name := "turned", desc := "(I)J" } : Jvm.MethodName) prog_1_method_65_code (2 : Nat) (Option.some Jvm.ClassFile.FieldType.long)) ∈ lw_all := lw_g (lw_at lw_m5 166 rfl) rfl
theorem q1272 : (Jvm.Cond.methodLink "LetterNights" (394 : Nat) ({ cls := "LetterNights", name := "laysTurned", desc := "(I)J" } : Jvm.MethodName)) ∈ lw_all := lw_g (lw_at lw_m5 167 rfl) rfl
theorem q1273 : (Jvm.Cond.privateMethod ({ cls := "LetterNights", name := "laysTurned", desc := "(I)J" } : Jvm.MethodName)) ∈ lw_tbl := lw_at lw_m5 168 rfl
theorem q1274 : (Jvm.Cond.instanceMethod ({ cls := "LetterNights", name := "laysTurned", desc := "(I)J" } : Jvm.MethodName)) ∈ lw_all := lw_g (lw_at lw_m5 169 rfl) rfl
theorem q1275 : (Jvm.Cond.code ({ cls := "LetterNights", name := "laysTurned", desc := "(I)J" } : Jvm.MethodName) prog_1_method_64_code (2 : Nat) (Option.some Jvm.ClassFile.FieldType.long)) ∈ lw_all := lw_g (lw_at lw_m5 170 rfl) rfl
theorem q1276 : (Jvm.Cond.methodLink "LetterNights" (387 : Nat) ({ cls := "LetterNights", name := "turnedFrom", desc := "(II)J" } : Jvm.MethodName)) ∈ lw_all := lw_g (lw_at lw_m5 171 rfl) rfl
theorem q1277 : (Jvm.Cond.privateMethod ({ cls := "LetterNights", name := "turnedFrom", desc := "(II)J" } : Jvm.MethodName)) ∈ lw_tbl := lw_at lw_m5 172 rfl
theorem q1278 : (Jvm.Cond.instanceMethod ({ cls := "LetterNights", name := "turnedFrom", desc := "(II)J" } : Jvm.MethodName)) ∈ lw_all := lw_g (lw_at lw_m5 173 rfl) rfl
theorem q1279 : (Jvm.Cond.code ({ cls := "LetterNights", name := "turnedFrom", desc := "(II)J" } : Jvm.MethodName) prog_1_method_63_code (8 : Nat) (Option.some Jvm.ClassFile.FieldType.long)) ∈ lw_all := lw_g (lw_at lw_m5 174 rfl) rfl
theorem q1281 : (Jvm.Cond.instanceMethod ({ cls := "LetterNights", name := "best", desc := "(I)I" } : Jvm.MethodName)) ∈ lw_all := lw_g (lw_at lw_m5 176 rfl) rfl
theorem q1282 : (Jvm.Cond.selects "LetterNights" ({ cls := "LetterNights", name := "best", desc := "(I)I" } : Jvm.MethodName) ({ cls := "LetterNights", name := "best", desc := "(I)I" } : Jvm.MethodName)) ∈ lw_all := lw_g (lw_at lw_m5 177 rfl) rfl
theorem q1283 : (Jvm.Cond.code ({ cls := "LetterNights", name := "best", desc := "(I)I" } : Jvm.MethodName) prog_1_method_66_code (2 : Nat) (Option.some Jvm.ClassFile.FieldType.int)) ∈ lw_all := lw_g (lw_at lw_m5 178 rfl) rfl
theorem q1285 : (Jvm.Cond.instanceMethod ({ cls := "LetterNights", name := "chance", desc := "(II)I" } : Jvm.MethodName)) ∈ lw_all := lw_g (lw_at lw_m5 180 rfl) rfl
theorem q1286 : (Jvm.Cond.selects "LetterNights" ({ cls := "LetterNights", name := "chance", desc := "(II)I" } : Jvm.MethodName) ({ cls := "LetterNights", name := "chance", desc := "(II)I" } : Jvm.MethodName)) ∈ lw_all := lw_g (lw_at lw_m5 181 rfl) rfl
theorem q1287 : (Jvm.Cond.code ({ cls := "LetterNights", name := "chance", desc := "(II)I" } : Jvm.MethodName) prog_1_method_70_code (7 : Nat) (Option.some Jvm.ClassFile.FieldType.int)) ∈ lw_all := lw_g (lw_at lw_m5 182 rfl) rfl
theorem q1288 : (Jvm.Cond.constantLong "LetterNights" (403 : Nat) (12 : Int64)) ∈ lw_all := lw_g (lw_at lw_m5 183 rfl) rfl
theorem q1289 : (Jvm.Cond.methodLink "LetterNights" (405 : Nat) ({ cls := "java/lang/System", name := "arraycopy", desc := "(Ljava/lang/Object;ILjava/lang/Object;II)V" } : Jvm.MethodName)) ∈ lw_all := lw_g (lw_at lw_m5 184 rfl) rfl
theorem q1290 : (Jvm.Cond.methodLink "LetterNights" (411 : Nat) ({ cls := "LetterNights", name := "part", desc := "(JII)J" } : Jvm.MethodName)) ∈ lw_all := lw_g (lw_at lw_m5 185 rfl) rfl
theorem q1291 : (Jvm.Cond.privateMethod ({ cls := "LetterNights", name := "part", desc := "(JII)J" } : Jvm.MethodName)) ∈ lw_tbl := lw_at lw_m5 186 rfl
theorem q1292 : (Jvm.Cond.instanceMethod ({ cls := "LetterNights", name := "part", desc := "(JII)J" } : Jvm.MethodName)) ∈ lw_all := lw_g (lw_at lw_m5 187 rfl) rfl
theorem q1293 : (Jvm.Cond.code ({ cls := "LetterNights", name := "part", desc := "(JII)J" } : Jvm.MethodName) prog_1_method_69_code (7 : Nat) (Option.some Jvm.ClassFile.FieldType.long)) ∈ lw_all := lw_g (lw_at lw_m5 188 rfl) rfl
theorem q1294 : (Jvm.Cond.methodLink "LetterNights" (401 : Nat) ({ cls := "LetterNights", name := "whole", desc := "(I)J" } : Jvm.MethodName)) ∈ lw_all := lw_g (lw_at lw_m5 189 rfl) rfl
theorem q1295 : (Jvm.Cond.privateMethod ({ cls := "LetterNights", name := "whole", desc := "(I)J" } : Jvm.MethodName)) ∈ lw_tbl := lw_at lw_m5 190 rfl
theorem q1296 : (Jvm.Cond.instanceMethod ({ cls := "LetterNights", name := "whole", desc := "(I)J" } : Jvm.MethodName)) ∈ lw_all := lw_g (lw_at lw_m5 191 rfl) rfl
theorem q1297 : (Jvm.Cond.code ({ cls := "LetterNights", name := "whole", desc := "(I)J" } : Jvm.MethodName) prog_1_method_67_code (5 : Nat) (Option.some Jvm.ClassFile.FieldType.long)) ∈ lw_all := lw_g (lw_at lw_m5 192 rfl) rfl
theorem q1298 : (Jvm.Cond.methodLink "LetterNights" (397 : Nat) ({ cls := "LetterNights", name := "common", desc := "(JJ)J" } : Jvm.MethodName)) ∈ lw_all := lw_g (lw_at lw_m5 193 rfl) rfl
theorem q1299 : (Jvm.Cond.static ({ cls := "LetterNights", name := "common", desc := "(JJ)J" } : Jvm.MethodName)) ∈ lw_all := lw_g (lw_at lw_m5 194 rfl) rfl
theorem q1300 : (Jvm.Cond.code ({ cls := "LetterNights", name := "common", desc := "(JJ)J" } : Jvm.MethodName) prog_1_method_68_code (4 : Nat) (Option.some Jvm.ClassFile.FieldType.long)) ∈ lw_all := lw_g (lw_at lw_m5 195 rfl) rfl
theorem q1302 : (Jvm.Cond.instanceMethod ({ cls := "LetterNights", name := "mean", desc := "(II)J" } : Jvm.MethodName)) ∈ lw_all := lw_g (lw_at lw_m5 197 rfl) rfl
theorem q1303 : (Jvm.Cond.selects "LetterNights" ({ cls := "LetterNights", name := "mean", desc := "(II)J" } : Jvm.MethodName) ({ cls := "LetterNights", name := "mean", desc := "(II)J" } : Jvm.MethodName)) ∈ lw_all := lw_g (lw_at lw_m5 198 rfl) rfl
theorem q1304 : (Jvm.Cond.code ({ cls := "LetterNights", name := "mean", desc := "(II)J" } : Jvm.MethodName) prog_1_method_71_code (7 : Nat) (Option.some Jvm.ClassFile.FieldType.long)) ∈ lw_all := lw_g (lw_at lw_m5 199 rfl) rfl
theorem q1306 : (Jvm.Cond.instanceMethod ({ cls := "LetterNights", name := "numbers", desc := "(III)I" } : Jvm.MethodName)) ∈ lw_all := lw_g (lw_at lw_m5 201 rfl) rfl
theorem q1307 : (Jvm.Cond.selects "LetterNights" ({ cls := "LetterNights", name := "numbers", desc := "(III)I" } : Jvm.MethodName) ({ cls := "LetterNights", name := "numbers", desc := "(III)I" } : Jvm.MethodName)) ∈ lw_all := lw_g (lw_at lw_m5 202 rfl) rfl
theorem q1308 : (Jvm.Cond.code ({ cls := "LetterNights", name := "numbers", desc := "(III)I" } : Jvm.MethodName) prog_1_method_74_code (4 : Nat) (Option.some Jvm.ClassFile.FieldType.int)) ∈ lw_all := lw_g (lw_at lw_m5 203 rfl) rfl
theorem q1309 : (Jvm.Cond.methodLink "LetterNights" (422 : Nat) ({ cls := "LetterNights$Numbers", name := "begins", desc := "(II)Z" } : Jvm.MethodName)) ∈ lw_all := lw_g (lw_at lw_m5 204 rfl) rfl
theorem q1398 : (Jvm.Cond.instanceMethod ({ cls := "LetterNights", name := "write", desc := "(IIJ)J" } : Jvm.MethodName)) ∈ lw_all := lw_g (lw_at lw_m6 53 rfl) rfl
theorem q1399 : (Jvm.Cond.selects "LetterNights" ({ cls := "LetterNights", name := "write", desc := "(IIJ)J" } : Jvm.MethodName) ({ cls := "LetterNights", name := "write", desc := "(IIJ)J" } : Jvm.MethodName)) ∈ lw_all := lw_g (lw_at lw_m6 54 rfl) rfl
theorem q1400 : (Jvm.Cond.codeWith ({ cls := "LetterNights", name := "write", desc := "(IIJ)J" } : Jvm.MethodName) prog_1_method_75_code (6 : Nat) (Option.some Jvm.ClassFile.FieldType.long) [((11 : Nat), (32 : Nat), (33 : Nat), (428 : Nat)), ((11 : Nat), (32 : Nat), (39 : Nat), (432 : Nat))]) ∈ lw_all := lw_g (lw_at lw_m6 55 rfl) rfl
theorem q1401 : (Jvm.Cond.classLink "LetterNights" (428 : Nat) "java/lang/NullPointerException") ∈ lw_all := lw_g (lw_at lw_m6 56 rfl) rfl
theorem q1426 : (Jvm.Cond.classLink "LetterNights" (432 : Nat) "java/lang/ArrayIndexOutOfBoundsException") ∈ lw_all := lw_g (lw_at lw_m6 81 rfl) rfl
theorem q1445 : (Jvm.Cond.methodLink "LetterNights" (424 : Nat) ({ cls := "LetterNights$Numbers", name := "puts", desc := "(IJ)V" } : Jvm.MethodName)) ∈ lw_all := lw_g (lw_at lw_m6 100 rfl) rfl
theorem q1449 : (Jvm.Cond.constantLong "LetterNights" (430 : Nat) (-6 : Int64)) ∈ lw_all := lw_g (lw_at lw_m6 104 rfl) rfl
theorem q1450 : (Jvm.Cond.constantLong "LetterNights" (434 : Nat) (-7 : Int64)) ∈ lw_all := lw_g (lw_at lw_m6 105 rfl) rfl
theorem q1452 : (Jvm.Cond.instanceMethod ({ cls := "LetterNights", name := "lists", desc := "(IJ)I" } : Jvm.MethodName)) ∈ lw_all := lw_g (lw_at lw_m6 107 rfl) rfl
theorem q1453 : (Jvm.Cond.selects "LetterNights" ({ cls := "LetterNights", name := "lists", desc := "(IJ)I" } : Jvm.MethodName) ({ cls := "LetterNights", name := "lists", desc := "(IJ)I" } : Jvm.MethodName)) ∈ lw_all := lw_g (lw_at lw_m6 108 rfl) rfl
theorem q1454 : (Jvm.Cond.code ({ cls := "LetterNights", name := "lists", desc := "(IJ)I" } : Jvm.MethodName) prog_1_method_76_code (9 : Nat) (Option.some Jvm.ClassFile.FieldType.int)) ∈ lw_all := lw_g (lw_at lw_m6 109 rfl) rfl
theorem q1455 : (Jvm.Cond.methodLink "LetterNights" (436 : Nat) ({ cls := "java/lang/Math", name := "min", desc := "(JJ)J" } : Jvm.MethodName)) ∈ lw_all := lw_g (lw_at lw_m6 110 rfl) rfl
theorem q1457 : (Jvm.Cond.instanceMethod ({ cls := "LetterNights", name := "image", desc := "(I)I" } : Jvm.MethodName)) ∈ lw_all := lw_g (lw_at lw_m6 112 rfl) rfl
theorem q1458 : (Jvm.Cond.selects "LetterNights" ({ cls := "LetterNights", name := "image", desc := "(I)I" } : Jvm.MethodName) ({ cls := "LetterNights", name := "image", desc := "(I)I" } : Jvm.MethodName)) ∈ lw_all := lw_g (lw_at lw_m6 113 rfl) rfl
theorem q1459 : (Jvm.Cond.code ({ cls := "LetterNights", name := "image", desc := "(I)I" } : Jvm.MethodName) prog_1_method_77_code (2 : Nat) (Option.some Jvm.ClassFile.FieldType.int)) ∈ lw_all := lw_g (lw_at lw_m6 114 rfl) rfl
theorem q1461 : (Jvm.Cond.instanceMethod ({ cls := "LetterNights", name := "restore", desc := "(I)I" } : Jvm.MethodName)) ∈ lw_all := lw_g (lw_at lw_m6 116 rfl) rfl
theorem q1462 : (Jvm.Cond.selects "LetterNights" ({ cls := "LetterNights", name := "restore", desc := "(I)I" } : Jvm.MethodName) ({ cls := "LetterNights", name := "restore", desc := "(I)I" } : Jvm.MethodName)) ∈ lw_all := lw_g (lw_at lw_m6 117 rfl) rfl
theorem q1463 : (Jvm.Cond.code ({ cls := "LetterNights", name := "restore", desc := "(I)I" } : Jvm.MethodName) prog_1_method_78_code (2 : Nat) (Option.some Jvm.ClassFile.FieldType.int)) ∈ lw_all := lw_g (lw_at lw_m6 118 rfl) rfl
theorem q1465 : (Jvm.Cond.instanceMethod ({ cls := "LetterNights", name := "told", desc := "(I)I" } : Jvm.MethodName)) ∈ lw_all := lw_g (lw_at lw_m6 120 rfl) rfl
theorem q1466 : (Jvm.Cond.selects "LetterNights" ({ cls := "LetterNights", name := "told", desc := "(I)I" } : Jvm.MethodName) ({ cls := "LetterNights", name := "told", desc := "(I)I" } : Jvm.MethodName)) ∈ lw_all := lw_g (lw_at lw_m6 121 rfl) rfl
theorem q1467 : (Jvm.Cond.code ({ cls := "LetterNights", name := "told", desc := "(I)I" } : Jvm.MethodName) prog_1_method_79_code (2 : Nat) (Option.some Jvm.ClassFile.FieldType.int)) ∈ lw_all := lw_g (lw_at lw_m6 122 rfl) rfl
theorem q1468 : (Jvm.Cond.methodLink "LetterNights" (441 : Nat) ({ cls := "LetterNights$State", name := "back", desc := "()I" } : Jvm.MethodName)) ∈ lw_all := lw_g (lw_at lw_m6 123 rfl) rfl
theorem q1469 : (Jvm.Cond.methodLink "LetterNights" (444 : Nat) ({ cls := "java/lang/Integer", name := "bitCount", desc := "(I)I" } : Jvm.MethodName)) ∈ lw_all := lw_g (lw_at lw_m6 124 rfl) rfl
theorem in_X0 : ∀ w ∈ wsX00, w ∈ lw_all := lw_in wsX00 [356, 358, 360, 362, 364, 366, 368, 370, 372, 374, 376, 378, 380, 382, 384, 386, 388, 390, 392, 394, 396, 398, 400, 402, 404, 406, 408, 410, 412, 414, 416, 418, 420] (by decide +kernel) (by decide +kernel)
def RX1 : String := "LetterNights$Street"
def TX1 : u_T := fun k => match k with
  | 0 => ("LetterNights$Street", "stands", "[I", true)
  | 1 => ("LetterNights$Street", "rule", "[I", true)
  | 2 => ("LetterNights$Street", "many", "[I", true)
  | 3 => ("LetterNights$Street", "words", "[I", true)
  | 4 => ("LetterNights$Street", "tables", "I", false)
  | 5 => ("LetterNights$Street", "moon", "I", false)
  | 6 => ("LetterNights$Street", "standing", "I", false)
  | 7 => ("LetterNights$Street", "lines", "I", false)
  | 8 => ("LetterNights$Street", "picks", "LLetterNights$Sum;", false)
  | _ => ("LetterNights$Street", "sleeps", "LLetterNights$Truth;", false)
def tyX1 : Nat → FieldType := fun k => match k with
  | 0 => .array .int
  | 1 => .array .int
  | 2 => .array .int
  | 3 => .array .int
  | 4 => .int
  | 5 => .int
  | 6 => .int
  | 7 => .int
  | 8 => .object "LetterNights$Sum"
  | _ => .object "LetterNights$Truth"
abbrev wsX10 : List Cond := u_ws RX1 TX1 10
theorem nmX1 : ∀ a, a < 10 → ∀ b, b < 10 → a ≠ b → (TX1 a).2.1 ≠ (TX1 b).2.1 := by decide +kernel
theorem tyX1_ok : ∀ k, k < 10 → parseFieldDescriptor (TX1 k).2.2.1 = some (tyX1 k) := by decide +kernel
abbrev cX1_init : ByteArray := prog_13_method_1_code
def yX1_init : MethodName := ⟨RX1, "<init>", "()V"⟩
abbrev cX1_manyOf : ByteArray := prog_13_method_2_code
def yX1_manyOf : MethodName := ⟨RX1, "manyOf", "(II)I"⟩
abbrev cX1_child : ByteArray := prog_13_method_3_code
def yX1_child : MethodName := ⟨RX1, "child", "(III)I"⟩
abbrev cX1_picks : ByteArray := prog_13_method_5_code
def yX1_picks : MethodName := ⟨RX1, "picks", "(IIIII)I"⟩
abbrev cX1_lays : ByteArray := prog_13_method_4_code
def yX1_lays : MethodName := ⟨RX1, "lays", "(IIIII)V"⟩
theorem q147 : (Jvm.Cond.initialized "LetterNights$Street") ∈ lw_all := lw_g (lw_at lw_m1 2 rfl) rfl
theorem q186 : (Jvm.Cond.instantiable "LetterNights$Street" (10 : Nat)) ∈ lw_all := lw_g (lw_at lw_m1 41 rfl) rfl
theorem q188 : (Jvm.Cond.instanceMethod ({ cls := "LetterNights$Street", name := "<init>", desc := "()V" } : Jvm.MethodName)) ∈ lw_all := lw_g (lw_at lw_m1 43 rfl) rfl
theorem q189 : (Jvm.Cond.code ({ cls := "LetterNights$Street", name := "<init>", desc := "()V" } : Jvm.MethodName) prog_13_method_1_code (2 : Nat) (Option.none : Option Jvm.ClassFile.FieldType)) ∈ lw_all := lw_g (lw_at lw_m1 44 rfl) rfl
theorem q190 : (Jvm.Cond.methodLink "LetterNights$Street" (3 : Nat) ({ cls := "java/lang/Object", name := "<init>", desc := "()V" } : Jvm.MethodName)) ∈ lw_all := lw_g (lw_at lw_m1 45 rfl) rfl
theorem q191 : (Jvm.Cond.fieldLink "LetterNights$Street" (9 : Nat) "LetterNights$Street" "stands" "[I") ∈ lw_all := lw_g (lw_at lw_m1 46 rfl) rfl
theorem q195 : (Jvm.Cond.fieldLink "LetterNights$Street" (15 : Nat) "LetterNights$Street" "rule" "[I") ∈ lw_all := lw_g (lw_at lw_m1 50 rfl) rfl
theorem q197 : (Jvm.Cond.fieldLink "LetterNights$Street" (18 : Nat) "LetterNights$Street" "many" "[I") ∈ lw_all := lw_g (lw_at lw_m1 52 rfl) rfl
theorem q199 : (Jvm.Cond.fieldLink "LetterNights$Street" (21 : Nat) "LetterNights$Street" "words" "[I") ∈ lw_all := lw_g (lw_at lw_m1 54 rfl) rfl
theorem q200 : (Jvm.Cond.fieldLink "LetterNights$Street" (24 : Nat) "LetterNights$Street" "tables" "I") ∈ lw_all := lw_g (lw_at lw_m1 55 rfl) rfl
theorem q206 : (Jvm.Cond.fieldLink "LetterNights$Street" (28 : Nat) "LetterNights$Street" "standing" "I") ∈ lw_all := lw_g (lw_at lw_m1 61 rfl) rfl
theorem q212 : (Jvm.Cond.fieldLink "LetterNights$Street" (45 : Nat) "LetterNights$Street" "picks" "LLetterNights$Sum;") ∈ lw_all := lw_g (lw_at lw_m1 67 rfl) rfl
theorem q214 : (Jvm.Cond.fieldLink "LetterNights$Street" (35 : Nat) "LetterNights$Street" "sleeps" "LLetterNights$Truth;") ∈ lw_all := lw_g (lw_at lw_m1 69 rfl) rfl
theorem q216 : (Jvm.Cond.laysFinal "LetterNights$Street" "LetterNights$Street" "stands" "[I") ∈ lw_all := lw_g (lw_at lw_m1 71 rfl) rfl
theorem q217 : (Jvm.Cond.soleField "LetterNights$Street" "stands") ∈ lw_all := lw_g (lw_at lw_m1 72 rfl) rfl
theorem q218 : (Jvm.Cond.laysFinal "LetterNights$Street" "LetterNights$Street" "rule" "[I") ∈ lw_all := lw_g (lw_at lw_m1 73 rfl) rfl
theorem q219 : (Jvm.Cond.soleField "LetterNights$Street" "rule") ∈ lw_all := lw_g (lw_at lw_m1 74 rfl) rfl
theorem q220 : (Jvm.Cond.laysFinal "LetterNights$Street" "LetterNights$Street" "many" "[I") ∈ lw_all := lw_g (lw_at lw_m1 75 rfl) rfl
theorem q221 : (Jvm.Cond.soleField "LetterNights$Street" "many") ∈ lw_all := lw_g (lw_at lw_m1 76 rfl) rfl
theorem q222 : (Jvm.Cond.laysFinal "LetterNights$Street" "LetterNights$Street" "words" "[I") ∈ lw_all := lw_g (lw_at lw_m1 77 rfl) rfl
theorem q223 : (Jvm.Cond.soleField "LetterNights$Street" "words") ∈ lw_all := lw_g (lw_at lw_m1 78 rfl) rfl
theorem q224 : (Jvm.Cond.lays "LetterNights$Street" "LetterNights$Street" "tables" "I") ∈ lw_all := lw_g (lw_at lw_m1 79 rfl) rfl
theorem q225 : (Jvm.Cond.soleField "LetterNights$Street" "tables") ∈ lw_all := lw_g (lw_at lw_m1 80 rfl) rfl
theorem q226 : (Jvm.Cond.lays "LetterNights$Street" "LetterNights$Street" "moon" "I") ∈ lw_all := lw_g (lw_at lw_m1 81 rfl) rfl
theorem q227 : (Jvm.Cond.soleField "LetterNights$Street" "moon") ∈ lw_all := lw_g (lw_at lw_m1 82 rfl) rfl
theorem q228 : (Jvm.Cond.lays "LetterNights$Street" "LetterNights$Street" "standing" "I") ∈ lw_all := lw_g (lw_at lw_m1 83 rfl) rfl
theorem q229 : (Jvm.Cond.soleField "LetterNights$Street" "standing") ∈ lw_all := lw_g (lw_at lw_m1 84 rfl) rfl
theorem q230 : (Jvm.Cond.lays "LetterNights$Street" "LetterNights$Street" "lines" "I") ∈ lw_all := lw_g (lw_at lw_m1 85 rfl) rfl
theorem q231 : (Jvm.Cond.soleField "LetterNights$Street" "lines") ∈ lw_all := lw_g (lw_at lw_m1 86 rfl) rfl
theorem q232 : (Jvm.Cond.lays "LetterNights$Street" "LetterNights$Street" "picks" "LLetterNights$Sum;") ∈ lw_all := lw_g (lw_at lw_m1 87 rfl) rfl
theorem q233 : (Jvm.Cond.soleField "LetterNights$Street" "picks") ∈ lw_all := lw_g (lw_at lw_m1 88 rfl) rfl
theorem q234 : (Jvm.Cond.lays "LetterNights$Street" "LetterNights$Street" "sleeps" "LLetterNights$Truth;") ∈ lw_all := lw_g (lw_at lw_m1 89 rfl) rfl
theorem q235 : (Jvm.Cond.soleField "LetterNights$Street" "sleeps") ∈ lw_all := lw_g (lw_at lw_m1 90 rfl) rfl
theorem q236 : (Jvm.Cond.superclass "LetterNights$Street" "java/lang/Object") ∈ lw_all := lw_g (lw_at lw_m1 91 rfl) rfl
theorem q845 : (Jvm.Cond.instanceMethod ({ cls := "LetterNights$Street", name := "manyOf", desc := "(II)I" } : Jvm.MethodName)) ∈ lw_all := lw_g (lw_at lw_m3 220 rfl) rfl
theorem q846 : (Jvm.Cond.selects "LetterNights$Street" ({ cls := "LetterNights$Street", name := "manyOf", desc := "(II)I" } : Jvm.MethodName) ({ cls := "LetterNights$Street", name := "manyOf", desc := "(II)I" } : Jvm.MethodName)) ∈ lw_all := lw_g (lw_at lw_m3 221 rfl) rfl
theorem q847 : (Jvm.Cond.code ({ cls := "LetterNights$Street", name := "manyOf", desc := "(II)I" } : Jvm.MethodName) prog_13_method_2_code (3 : Nat) (Option.some Jvm.ClassFile.FieldType.int)) ∈ lw_all := lw_g (lw_at lw_m3 222 rfl) rfl
theorem q849 : (Jvm.Cond.instanceMethod ({ cls := "LetterNights$Street", name := "child", desc := "(III)I" } : Jvm.MethodName)) ∈ lw_all := lw_g (lw_at lw_m3 224 rfl) rfl
theorem q850 : (Jvm.Cond.selects "LetterNights$Street" ({ cls := "LetterNights$Street", name := "child", desc := "(III)I" } : Jvm.MethodName) ({ cls := "LetterNights$Street", name := "child", desc := "(III)I" } : Jvm.MethodName)) ∈ lw_all := lw_g (lw_at lw_m3 225 rfl) rfl
theorem q851 : (Jvm.Cond.code ({ cls := "LetterNights$Street", name := "child", desc := "(III)I" } : Jvm.MethodName) prog_13_method_3_code (4 : Nat) (Option.some Jvm.ClassFile.FieldType.int)) ∈ lw_all := lw_g (lw_at lw_m3 226 rfl) rfl
theorem q892 : (Jvm.Cond.instanceMethod ({ cls := "LetterNights$Street", name := "picks", desc := "(IIIII)I" } : Jvm.MethodName)) ∈ lw_all := lw_g (lw_at lw_m4 27 rfl) rfl
theorem q893 : (Jvm.Cond.selects "LetterNights$Street" ({ cls := "LetterNights$Street", name := "picks", desc := "(IIIII)I" } : Jvm.MethodName) ({ cls := "LetterNights$Street", name := "picks", desc := "(IIIII)I" } : Jvm.MethodName)) ∈ lw_all := lw_g (lw_at lw_m4 28 rfl) rfl
theorem q894 : (Jvm.Cond.code ({ cls := "LetterNights$Street", name := "picks", desc := "(IIIII)I" } : Jvm.MethodName) prog_13_method_5_code (6 : Nat) (Option.some Jvm.ClassFile.FieldType.int)) ∈ lw_all := lw_g (lw_at lw_m4 29 rfl) rfl
theorem q895 : (Jvm.Cond.methodLink "LetterNights$Street" (31 : Nat) ({ cls := "LetterNights$Street", name := "lays", desc := "(IIIII)V" } : Jvm.MethodName)) ∈ lw_all := lw_g (lw_at lw_m4 30 rfl) rfl
theorem q896 : (Jvm.Cond.privateMethod ({ cls := "LetterNights$Street", name := "lays", desc := "(IIIII)V" } : Jvm.MethodName)) ∈ lw_tbl := lw_at lw_m4 31 rfl
theorem q897 : (Jvm.Cond.instanceMethod ({ cls := "LetterNights$Street", name := "lays", desc := "(IIIII)V" } : Jvm.MethodName)) ∈ lw_all := lw_g (lw_at lw_m4 32 rfl) rfl
theorem q898 : (Jvm.Cond.code ({ cls := "LetterNights$Street", name := "lays", desc := "(IIIII)V" } : Jvm.MethodName) prog_13_method_4_code (6 : Nat) (Option.none : Option Jvm.ClassFile.FieldType)) ∈ lw_all := lw_g (lw_at lw_m4 33 rfl) rfl
theorem q899 : (Jvm.Cond.methodLink "LetterNights$Street" (39 : Nat) ({ cls := "LetterNights$Truth", name := "holds", desc := "([I)Z" } : Jvm.MethodName)) ∈ lw_all := lw_g (lw_at lw_m4 34 rfl) rfl
theorem q937 : (Jvm.Cond.methodLink "LetterNights$Street" (49 : Nat) ({ cls := "LetterNights$Sum", name := "value", desc := "([I)I" } : Jvm.MethodName)) ∈ lw_all := lw_g (lw_at lw_m4 72 rfl) rfl
theorem q938 : (Jvm.Cond.methodLink "LetterNights$Street" (55 : Nat) ({ cls := "java/lang/Math", name := "floorMod", desc := "(II)I" } : Jvm.MethodName)) ∈ lw_all := lw_g (lw_at lw_m4 73 rfl) rfl
theorem in_X1 : ∀ w ∈ wsX10, w ∈ lw_all := lw_in wsX10 [216, 218, 220, 222, 224, 226, 228, 230, 232, 234] (by decide +kernel) (by decide +kernel)
def RX2 : String := "LetterNights$State"
def TX2 : u_T := fun k => match k with
  | 0 => ("LetterNights$State", "table", "[I", true)
  | 1 => ("LetterNights$State", "lengths", "[J", true)
  | 2 => ("LetterNights$State", "manyIn", "[J", true)
  | 3 => ("LetterNights$State", "levels", "I", false)
  | 4 => ("LetterNights$State", "nights", "I", false)
  | 5 => ("LetterNights$State", "moon", "I", false)
  | _ => ("LetterNights$State", "this$0", "LLetterNights;", true)
def tyX2 : Nat → FieldType := fun k => match k with
  | 0 => .array .int
  | 1 => .array .long
  | 2 => .array .long
  | 3 => .int
  | 4 => .int
  | 5 => .int
  | _ => .object "LetterNights"
abbrev wsX20 : List Cond := u_ws RX2 TX2 7
theorem nmX2 : ∀ a, a < 7 → ∀ b, b < 7 → a ≠ b → (TX2 a).2.1 ≠ (TX2 b).2.1 := by decide +kernel
theorem tyX2_ok : ∀ k, k < 7 → parseFieldDescriptor (TX2 k).2.2.1 = some (tyX2 k) := by decide +kernel
abbrev cX2_init : ByteArray := prog_12_method_1_code
def yX2_init : MethodName := ⟨RX2, "<init>", "(LLetterNights;)V"⟩
abbrev cX2_begins : ByteArray := prog_12_method_3_code
def yX2_begins : MethodName := ⟨RX2, "begins", "()V"⟩
abbrev cX2_picked : ByteArray := prog_12_method_13_code
def yX2_picked : MethodName := ⟨RX2, "picked", "()I"⟩
abbrev cX2_front : ByteArray := prog_12_method_11_code
def yX2_front : MethodName := ⟨RX2, "front", "()I"⟩
abbrev cX2_length : ByteArray := prog_12_method_6_code
def yX2_length : MethodName := ⟨RX2, "length", "()J"⟩
abbrev cX2_lays : ByteArray := prog_12_method_4_code
def yX2_lays : MethodName := ⟨RX2, "lays", "([JI)V"⟩
abbrev cX2_allOf : ByteArray := prog_12_method_5_code
def yX2_allOf : MethodName := ⟨RX2, "allOf", "([J)J"⟩
abbrev cX2_letterAt : ByteArray := prog_12_method_8_code
def yX2_letterAt : MethodName := ⟨RX2, "letterAt", "(J)I"⟩
abbrev cX2_back : ByteArray := prog_12_method_12_code
def yX2_back : MethodName := ⟨RX2, "back", "()I"⟩
abbrev cX2_manyOf : ByteArray := prog_12_method_7_code
def yX2_manyOf : MethodName := ⟨RX2, "manyOf", "(I)J"⟩
abbrev cX2_aheadOf : ByteArray := prog_12_method_9_code
def yX2_aheadOf : MethodName := ⟨RX2, "aheadOf", "(IJ)J"⟩
abbrev cX2_placeOf : ByteArray := prog_12_method_10_code
def yX2_placeOf : MethodName := ⟨RX2, "placeOf", "(IJ)J"⟩
abbrev cX2_whyNight : ByteArray := prog_12_method_16_code
def yX2_whyNight : MethodName := ⟨RX2, "whyNight", "(J)I"⟩
abbrev cX2_whyBy : ByteArray := prog_12_method_15_code
def yX2_whyBy : MethodName := ⟨RX2, "whyBy", "(I)I"⟩
abbrev cX2_lengthBy : ByteArray := prog_12_method_14_code
def yX2_lengthBy : MethodName := ⟨RX2, "lengthBy", "(I)J"⟩
abbrev cX2_be : ByteArray := prog_12_method_2_code
def yX2_be : MethodName := ⟨RX2, "be", "(LLetterNights$State;)LLetterNights$State;"⟩
abbrev cX2_does : ByteArray := prog_12_method_18_code
def yX2_does : MethodName := ⟨RX2, "does", "(I)V"⟩
abbrev cX2_goes : ByteArray := prog_12_method_19_code
def yX2_goes : MethodName := ⟨RX2, "goes", "(I)V"⟩
abbrev cX2_whyTold : ByteArray := prog_12_method_17_code
def yX2_whyTold : MethodName := ⟨RX2, "whyTold", "(J)I"⟩
abbrev cX2_kinds : ByteArray := prog_12_method_21_code
def yX2_kinds : MethodName := ⟨RX2, "kinds", "()I"⟩
abbrev cX2_laysMany : ByteArray := prog_12_method_20_code
def yX2_laysMany : MethodName := ⟨RX2, "laysMany", "([JI)V"⟩
theorem q148 : (Jvm.Cond.initialized "LetterNights$State") ∈ lw_all := lw_g (lw_at lw_m1 3 rfl) rfl
theorem q192 : (Jvm.Cond.fieldLinkNest "LetterNights$State" (68 : Nat) "LetterNights$Street" "stands" "[I" "LetterNights") ∈ lw_tbl := lw_at lw_m1 47 rfl
theorem q203 : (Jvm.Cond.fieldLinkNest "LetterNights$State" (108 : Nat) "LetterNights$Street" "tables" "I" "LetterNights") ∈ lw_tbl := lw_at lw_m1 58 rfl
theorem q204 : (Jvm.Cond.fieldLinkNest "LetterNights$State" (46 : Nat) "LetterNights$Street" "moon" "I" "LetterNights") ∈ lw_tbl := lw_at lw_m1 59 rfl
theorem q207 : (Jvm.Cond.fieldLinkNest "LetterNights$State" (65 : Nat) "LetterNights$Street" "standing" "I" "LetterNights") ∈ lw_tbl := lw_at lw_m1 62 rfl
theorem q239 : (Jvm.Cond.instantiable "LetterNights$State" (7 : Nat)) ∈ lw_all := lw_g (lw_at lw_m1 94 rfl) rfl
theorem q241 : (Jvm.Cond.instanceMethod ({ cls := "LetterNights$State", name := "<init>", desc := "(LLetterNights;)V" } : Jvm.MethodName)) ∈ lw_all := lw_g (lw_at lw_m1 96 rfl) rfl
theorem q242 : (Jvm.Cond.code ({ cls := "LetterNights$State", name := "<init>", desc := "(LLetterNights;)V" } : Jvm.MethodName) prog_12_method_1_code (2 : Nat) (Option.none : Option Jvm.ClassFile.FieldType)) ∈ lw_all := lw_g (lw_at lw_m1 97 rfl) rfl
theorem q243 : (Jvm.Cond.methodLink "LetterNights$State" (9 : Nat) ({ cls := "java/lang/Object", name := "<init>", desc := "()V" } : Jvm.MethodName)) ∈ lw_all := lw_g (lw_at lw_m1 98 rfl) rfl
theorem q244 : (Jvm.Cond.fieldLink "LetterNights$State" (15 : Nat) "LetterNights$State" "table" "[I") ∈ lw_all := lw_g (lw_at lw_m1 99 rfl) rfl
theorem q246 : (Jvm.Cond.fieldLink "LetterNights$State" (19 : Nat) "LetterNights$State" "lengths" "[J") ∈ lw_all := lw_g (lw_at lw_m1 101 rfl) rfl
theorem q247 : (Jvm.Cond.fieldLink "LetterNights$State" (23 : Nat) "LetterNights$State" "manyIn" "[J") ∈ lw_all := lw_g (lw_at lw_m1 102 rfl) rfl
theorem q248 : (Jvm.Cond.fieldLink "LetterNights$State" (32 : Nat) "LetterNights$State" "levels" "I") ∈ lw_all := lw_g (lw_at lw_m1 103 rfl) rfl
theorem q250 : (Jvm.Cond.fieldLink "LetterNights$State" (36 : Nat) "LetterNights$State" "nights" "I") ∈ lw_all := lw_g (lw_at lw_m1 105 rfl) rfl
theorem q252 : (Jvm.Cond.fieldLink "LetterNights$State" (39 : Nat) "LetterNights$State" "moon" "I") ∈ lw_all := lw_g (lw_at lw_m1 107 rfl) rfl
theorem q254 : (Jvm.Cond.fieldLink "LetterNights$State" (3 : Nat) "LetterNights$State" "this$0" "LLetterNights;") ∈ lw_all := lw_g (lw_at lw_m1 109 rfl) rfl
theorem q255 : (Jvm.Cond.laysFinal "LetterNights$State" "LetterNights$State" "table" "[I") ∈ lw_all := lw_g (lw_at lw_m1 110 rfl) rfl
theorem q256 : (Jvm.Cond.soleField "LetterNights$State" "table") ∈ lw_all := lw_g (lw_at lw_m1 111 rfl) rfl
theorem q257 : (Jvm.Cond.laysFinal "LetterNights$State" "LetterNights$State" "lengths" "[J") ∈ lw_all := lw_g (lw_at lw_m1 112 rfl) rfl
theorem q258 : (Jvm.Cond.soleField "LetterNights$State" "lengths") ∈ lw_all := lw_g (lw_at lw_m1 113 rfl) rfl
theorem q259 : (Jvm.Cond.laysFinal "LetterNights$State" "LetterNights$State" "manyIn" "[J") ∈ lw_all := lw_g (lw_at lw_m1 114 rfl) rfl
theorem q260 : (Jvm.Cond.soleField "LetterNights$State" "manyIn") ∈ lw_all := lw_g (lw_at lw_m1 115 rfl) rfl
theorem q261 : (Jvm.Cond.lays "LetterNights$State" "LetterNights$State" "levels" "I") ∈ lw_all := lw_g (lw_at lw_m1 116 rfl) rfl
theorem q262 : (Jvm.Cond.soleField "LetterNights$State" "levels") ∈ lw_all := lw_g (lw_at lw_m1 117 rfl) rfl
theorem q263 : (Jvm.Cond.lays "LetterNights$State" "LetterNights$State" "nights" "I") ∈ lw_all := lw_g (lw_at lw_m1 118 rfl) rfl
theorem q264 : (Jvm.Cond.soleField "LetterNights$State" "nights") ∈ lw_all := lw_g (lw_at lw_m1 119 rfl) rfl
theorem q265 : (Jvm.Cond.lays "LetterNights$State" "LetterNights$State" "moon" "I") ∈ lw_all := lw_g (lw_at lw_m1 120 rfl) rfl
theorem q266 : (Jvm.Cond.soleField "LetterNights$State" "moon") ∈ lw_all := lw_g (lw_at lw_m1 121 rfl) rfl
theorem q267 : (Jvm.Cond.laysFinal "LetterNights$State" "LetterNights$State" "this$0" "LLetterNights;") ∈ lw_all := lw_g (lw_at lw_m1 122 rfl) rfl
theorem q268 : (Jvm.Cond.soleField "LetterNights$State" "this$0") ∈ lw_all := lw_g (lw_at lw_m1 123 rfl) rfl
theorem q269 : (Jvm.Cond.superclass "LetterNights$State" "java/lang/Object") ∈ lw_all := lw_g (lw_at lw_m1 124 rfl) rfl
theorem q315 : (Jvm.Cond.instanceMethod ({ cls := "LetterNights$State", name := "begins", desc := "()V" } : Jvm.MethodName)) ∈ lw_all := lw_g (lw_at lw_m1 170 rfl) rfl
theorem q316 : (Jvm.Cond.selects "LetterNights$State" ({ cls := "LetterNights$State", name := "begins", desc := "()V" } : Jvm.MethodName) ({ cls := "LetterNights$State", name := "begins", desc := "()V" } : Jvm.MethodName)) ∈ lw_all := lw_g (lw_at lw_m1 171 rfl) rfl
theorem q317 : (Jvm.Cond.code ({ cls := "LetterNights$State", name := "begins", desc := "()V" } : Jvm.MethodName) prog_12_method_3_code (1 : Nat) (Option.none : Option Jvm.ClassFile.FieldType)) ∈ lw_all := lw_g (lw_at lw_m1 172 rfl) rfl
theorem q318 : (Jvm.Cond.fieldLinkNest "LetterNights$State" (42 : Nat) "LetterNights" "its" "LLetterNights$Street;" "LetterNights") ∈ lw_tbl := lw_at lw_m1 173 rfl
theorem q857 : (Jvm.Cond.instanceMethod ({ cls := "LetterNights$State", name := "picked", desc := "()I" } : Jvm.MethodName)) ∈ lw_all := lw_g (lw_at lw_m3 232 rfl) rfl
theorem q858 : (Jvm.Cond.selects "LetterNights$State" ({ cls := "LetterNights$State", name := "picked", desc := "()I" } : Jvm.MethodName) ({ cls := "LetterNights$State", name := "picked", desc := "()I" } : Jvm.MethodName)) ∈ lw_all := lw_g (lw_at lw_m3 233 rfl) rfl
theorem q859 : (Jvm.Cond.code ({ cls := "LetterNights$State", name := "picked", desc := "()I" } : Jvm.MethodName) prog_12_method_13_code (1 : Nat) (Option.some Jvm.ClassFile.FieldType.int)) ∈ lw_all := lw_g (lw_at lw_m3 234 rfl) rfl
theorem q860 : (Jvm.Cond.methodLink "LetterNights$State" (87 : Nat) ({ cls := "LetterNights$State", name := "front", desc := "()I" } : Jvm.MethodName)) ∈ lw_all := lw_g (lw_at lw_m3 235 rfl) rfl
theorem q861 : (Jvm.Cond.instanceMethod ({ cls := "LetterNights$State", name := "front", desc := "()I" } : Jvm.MethodName)) ∈ lw_all := lw_g (lw_at lw_m3 236 rfl) rfl
theorem q862 : (Jvm.Cond.selects "LetterNights$State" ({ cls := "LetterNights$State", name := "front", desc := "()I" } : Jvm.MethodName) ({ cls := "LetterNights$State", name := "front", desc := "()I" } : Jvm.MethodName)) ∈ lw_all := lw_g (lw_at lw_m3 237 rfl) rfl
theorem q863 : (Jvm.Cond.code ({ cls := "LetterNights$State", name := "front", desc := "()I" } : Jvm.MethodName) prog_12_method_11_code (1 : Nat) (Option.some Jvm.ClassFile.FieldType.int)) ∈ lw_all := lw_g (lw_at lw_m3 238 rfl) rfl
theorem q864 : (Jvm.Cond.methodLink "LetterNights$State" (79 : Nat) ({ cls := "LetterNights$State", name := "length", desc := "()J" } : Jvm.MethodName)) ∈ lw_all := lw_g (lw_at lw_m3 239 rfl) rfl
theorem q865 : (Jvm.Cond.instanceMethod ({ cls := "LetterNights$State", name := "length", desc := "()J" } : Jvm.MethodName)) ∈ lw_all := lw_g (lw_at lw_m4 0 rfl) rfl
theorem q866 : (Jvm.Cond.selects "LetterNights$State" ({ cls := "LetterNights$State", name := "length", desc := "()J" } : Jvm.MethodName) ({ cls := "LetterNights$State", name := "length", desc := "()J" } : Jvm.MethodName)) ∈ lw_all := lw_g (lw_at lw_m4 1 rfl) rfl
theorem q867 : (Jvm.Cond.code ({ cls := "LetterNights$State", name := "length", desc := "()J" } : Jvm.MethodName) prog_12_method_6_code (1 : Nat) (Option.some Jvm.ClassFile.FieldType.long)) ∈ lw_all := lw_g (lw_at lw_m4 2 rfl) rfl
theorem q868 : (Jvm.Cond.methodLink "LetterNights$State" (71 : Nat) ({ cls := "LetterNights$State", name := "lays", desc := "([JI)V" } : Jvm.MethodName)) ∈ lw_all := lw_g (lw_at lw_m4 3 rfl) rfl
theorem q869 : (Jvm.Cond.privateMethod ({ cls := "LetterNights$State", name := "lays", desc := "([JI)V" } : Jvm.MethodName)) ∈ lw_tbl := lw_at lw_m4 4 rfl
theorem q870 : (Jvm.Cond.instanceMethod ({ cls := "LetterNights$State", name := "lays", desc := "([JI)V" } : Jvm.MethodName)) ∈ lw_all := lw_g (lw_at lw_m4 5 rfl) rfl
theorem q871 : (Jvm.Cond.code ({ cls := "LetterNights$State", name := "lays", desc := "([JI)V" } : Jvm.MethodName) prog_12_method_4_code (8 : Nat) (Option.none : Option Jvm.ClassFile.FieldType)) ∈ lw_all := lw_g (lw_at lw_m4 6 rfl) rfl
theorem q872 : (Jvm.Cond.methodLink "LetterNights$State" (49 : Nat) ({ cls := "LetterNights$Street", name := "manyOf", desc := "(II)I" } : Jvm.MethodName)) ∈ lw_all := lw_g (lw_at lw_m4 7 rfl) rfl
theorem q873 : (Jvm.Cond.methodLink "LetterNights$State" (53 : Nat) ({ cls := "LetterNights$Street", name := "child", desc := "(III)I" } : Jvm.MethodName)) ∈ lw_all := lw_g (lw_at lw_m4 8 rfl) rfl
theorem q874 : (Jvm.Cond.constantLong "LetterNights$State" (57 : Nat) (4000000000000 : Int64)) ∈ lw_all := lw_g (lw_at lw_m4 9 rfl) rfl
theorem q875 : (Jvm.Cond.methodLink "LetterNights$State" (59 : Nat) ({ cls := "java/lang/Math", name := "min", desc := "(JJ)J" } : Jvm.MethodName)) ∈ lw_all := lw_g (lw_at lw_m4 10 rfl) rfl
theorem q878 : (Jvm.Cond.methodLink "LetterNights$State" (75 : Nat) ({ cls := "LetterNights$State", name := "allOf", desc := "([J)J" } : Jvm.MethodName)) ∈ lw_all := lw_g (lw_at lw_m4 13 rfl) rfl
theorem q879 : (Jvm.Cond.privateMethod ({ cls := "LetterNights$State", name := "allOf", desc := "([J)J" } : Jvm.MethodName)) ∈ lw_tbl := lw_at lw_m4 14 rfl
theorem q880 : (Jvm.Cond.instanceMethod ({ cls := "LetterNights$State", name := "allOf", desc := "([J)J" } : Jvm.MethodName)) ∈ lw_all := lw_g (lw_at lw_m4 15 rfl) rfl
theorem q881 : (Jvm.Cond.code ({ cls := "LetterNights$State", name := "allOf", desc := "([J)J" } : Jvm.MethodName) prog_12_method_5_code (5 : Nat) (Option.some Jvm.ClassFile.FieldType.long)) ∈ lw_all := lw_g (lw_at lw_m4 16 rfl) rfl
theorem q882 : (Jvm.Cond.methodLink "LetterNights$State" (83 : Nat) ({ cls := "LetterNights$State", name := "letterAt", desc := "(J)I" } : Jvm.MethodName)) ∈ lw_all := lw_g (lw_at lw_m4 17 rfl) rfl
theorem q883 : (Jvm.Cond.instanceMethod ({ cls := "LetterNights$State", name := "letterAt", desc := "(J)I" } : Jvm.MethodName)) ∈ lw_all := lw_g (lw_at lw_m4 18 rfl) rfl
theorem q884 : (Jvm.Cond.selects "LetterNights$State" ({ cls := "LetterNights$State", name := "letterAt", desc := "(J)I" } : Jvm.MethodName) ({ cls := "LetterNights$State", name := "letterAt", desc := "(J)I" } : Jvm.MethodName)) ∈ lw_all := lw_g (lw_at lw_m4 19 rfl) rfl
theorem q885 : (Jvm.Cond.code ({ cls := "LetterNights$State", name := "letterAt", desc := "(J)I" } : Jvm.MethodName) prog_12_method_8_code (9 : Nat) (Option.some Jvm.ClassFile.FieldType.int)) ∈ lw_all := lw_g (lw_at lw_m4 20 rfl) rfl
theorem q886 : (Jvm.Cond.methodLink "LetterNights$State" (91 : Nat) ({ cls := "LetterNights$State", name := "back", desc := "()I" } : Jvm.MethodName)) ∈ lw_all := lw_g (lw_at lw_m4 21 rfl) rfl
theorem q887 : (Jvm.Cond.instanceMethod ({ cls := "LetterNights$State", name := "back", desc := "()I" } : Jvm.MethodName)) ∈ lw_all := lw_g (lw_at lw_m4 22 rfl) rfl
theorem q888 : (Jvm.Cond.selects "LetterNights$State" ({ cls := "LetterNights$State", name := "back", desc := "()I" } : Jvm.MethodName) ({ cls := "LetterNights$State", name := "back", desc := "()I" } : Jvm.MethodName)) ∈ lw_all := lw_g (lw_at lw_m4 23 rfl) rfl
theorem q889 : (Jvm.Cond.code ({ cls := "LetterNights$State", name := "back", desc := "()I" } : Jvm.MethodName) prog_12_method_12_code (3 : Nat) (Option.some Jvm.ClassFile.FieldType.int)) ∈ lw_all := lw_g (lw_at lw_m4 24 rfl) rfl
theorem q890 : (Jvm.Cond.constantLong "LetterNights$State" (94 : Nat) (10 : Int64)) ∈ lw_all := lw_g (lw_at lw_m4 25 rfl) rfl
theorem q891 : (Jvm.Cond.methodLink "LetterNights$State" (96 : Nat) ({ cls := "LetterNights$Street", name := "picks", desc := "(IIIII)I" } : Jvm.MethodName)) ∈ lw_all := lw_g (lw_at lw_m4 26 rfl) rfl
theorem q958 : (Jvm.Cond.instanceMethod ({ cls := "LetterNights$State", name := "manyOf", desc := "(I)J" } : Jvm.MethodName)) ∈ lw_all := lw_g (lw_at lw_m4 93 rfl) rfl
theorem q959 : (Jvm.Cond.selects "LetterNights$State" ({ cls := "LetterNights$State", name := "manyOf", desc := "(I)J" } : Jvm.MethodName) ({ cls := "LetterNights$State", name := "manyOf", desc := "(I)J" } : Jvm.MethodName)) ∈ lw_all := lw_g (lw_at lw_m4 94 rfl) rfl
theorem q960 : (Jvm.Cond.code ({ cls := "LetterNights$State", name := "manyOf", desc := "(I)J" } : Jvm.MethodName) prog_12_method_7_code (2 : Nat) (Option.some Jvm.ClassFile.FieldType.long)) ∈ lw_all := lw_g (lw_at lw_m4 95 rfl) rfl
theorem q962 : (Jvm.Cond.instanceMethod ({ cls := "LetterNights$State", name := "aheadOf", desc := "(IJ)J" } : Jvm.MethodName)) ∈ lw_all := lw_g (lw_at lw_m4 97 rfl) rfl
theorem q963 : (Jvm.Cond.selects "LetterNights$State" ({ cls := "LetterNights$State", name := "aheadOf", desc := "(IJ)J" } : Jvm.MethodName) ({ cls := "LetterNights$State", name := "aheadOf", desc := "(IJ)J" } : Jvm.MethodName)) ∈ lw_all := lw_g (lw_at lw_m4 98 rfl) rfl
theorem q964 : (Jvm.Cond.code ({ cls := "LetterNights$State", name := "aheadOf", desc := "(IJ)J" } : Jvm.MethodName) prog_12_method_9_code (12 : Nat) (Option.some Jvm.ClassFile.FieldType.long)) ∈ lw_all := lw_g (lw_at lw_m4 99 rfl) rfl
theorem q971 : (Jvm.Cond.instanceMethod ({ cls := "LetterNights$State", name := "placeOf", desc := "(IJ)J" } : Jvm.MethodName)) ∈ lw_all := lw_g (lw_at lw_m4 106 rfl) rfl
theorem q972 : (Jvm.Cond.selects "LetterNights$State" ({ cls := "LetterNights$State", name := "placeOf", desc := "(IJ)J" } : Jvm.MethodName) ({ cls := "LetterNights$State", name := "placeOf", desc := "(IJ)J" } : Jvm.MethodName)) ∈ lw_all := lw_g (lw_at lw_m4 107 rfl) rfl
theorem q973 : (Jvm.Cond.code ({ cls := "LetterNights$State", name := "placeOf", desc := "(IJ)J" } : Jvm.MethodName) prog_12_method_10_code (12 : Nat) (Option.some Jvm.ClassFile.FieldType.long)) ∈ lw_all := lw_g (lw_at lw_m4 108 rfl) rfl
theorem q979 : (Jvm.Cond.instanceMethod ({ cls := "LetterNights$State", name := "whyNight", desc := "(J)I" } : Jvm.MethodName)) ∈ lw_all := lw_g (lw_at lw_m4 114 rfl) rfl
theorem q980 : (Jvm.Cond.selects "LetterNights$State" ({ cls := "LetterNights$State", name := "whyNight", desc := "(J)I" } : Jvm.MethodName) ({ cls := "LetterNights$State", name := "whyNight", desc := "(J)I" } : Jvm.MethodName)) ∈ lw_all := lw_g (lw_at lw_m4 115 rfl) rfl
theorem q981 : (Jvm.Cond.code ({ cls := "LetterNights$State", name := "whyNight", desc := "(J)I" } : Jvm.MethodName) prog_12_method_16_code (3 : Nat) (Option.some Jvm.ClassFile.FieldType.int)) ∈ lw_all := lw_g (lw_at lw_m4 116 rfl) rfl
theorem q982 : (Jvm.Cond.methodLinkNest "LetterNights$State" (111 : Nat) ({ cls := "LetterNights", name := "in", desc := "(JJJ)Z" } : Jvm.MethodName) "LetterNights") ∈ lw_tbl := lw_at lw_m4 117 rfl
theorem q983 : (Jvm.Cond.methodLink "LetterNights$State" (115 : Nat) ({ cls := "LetterNights$State", name := "picked", desc := "()I" } : Jvm.MethodName)) ∈ lw_all := lw_g (lw_at lw_m4 118 rfl) rfl
theorem q984 : (Jvm.Cond.methodLink "LetterNights$State" (118 : Nat) ({ cls := "LetterNights$State", name := "whyBy", desc := "(I)I" } : Jvm.MethodName)) ∈ lw_all := lw_g (lw_at lw_m4 119 rfl) rfl
theorem q985 : (Jvm.Cond.privateMethod ({ cls := "LetterNights$State", name := "whyBy", desc := "(I)I" } : Jvm.MethodName)) ∈ lw_tbl := lw_at lw_m4 120 rfl
theorem q986 : (Jvm.Cond.instanceMethod ({ cls := "LetterNights$State", name := "whyBy", desc := "(I)I" } : Jvm.MethodName)) ∈ lw_all := lw_g (lw_at lw_m4 121 rfl) rfl
theorem q987 : (Jvm.Cond.code ({ cls := "LetterNights$State", name := "whyBy", desc := "(I)I" } : Jvm.MethodName) prog_12_method_15_code (2 : Nat) (Option.some Jvm.ClassFile.FieldType.int)) ∈ lw_all := lw_g (lw_at lw_m4 122 rfl) rfl
theorem q988 : (Jvm.Cond.methodLink "LetterNights$State" (103 : Nat) ({ cls := "LetterNights$State", name := "lengthBy", desc := "(I)J" } : Jvm.MethodName)) ∈ lw_all := lw_g (lw_at lw_m4 123 rfl) rfl
theorem q989 : (Jvm.Cond.privateMethod ({ cls := "LetterNights$State", name := "lengthBy", desc := "(I)J" } : Jvm.MethodName)) ∈ lw_tbl := lw_at lw_m4 124 rfl
theorem q990 : (Jvm.Cond.instanceMethod ({ cls := "LetterNights$State", name := "lengthBy", desc := "(I)J" } : Jvm.MethodName)) ∈ lw_all := lw_g (lw_at lw_m4 125 rfl) rfl
theorem q991 : (Jvm.Cond.code ({ cls := "LetterNights$State", name := "lengthBy", desc := "(I)J" } : Jvm.MethodName) prog_12_method_14_code (5 : Nat) (Option.some Jvm.ClassFile.FieldType.long)) ∈ lw_all := lw_g (lw_at lw_m4 126 rfl) rfl
theorem q992 : (Jvm.Cond.methodLink "LetterNights$State" (100 : Nat) ({ cls := "LetterNights$State", name := "manyOf", desc := "(I)J" } : Jvm.MethodName)) ∈ lw_all := lw_g (lw_at lw_m4 127 rfl) rfl
theorem q993 : (Jvm.Cond.constantLong "LetterNights$State" (106 : Nat) (1000000000000 : Int64)) ∈ lw_all := lw_g (lw_at lw_m4 128 rfl) rfl
theorem q999 : (Jvm.Cond.instanceMethod ({ cls := "LetterNights$State", name := "be", desc := "(LLetterNights$State;)LLetterNights$State;" } : Jvm.MethodName)) ∈ lw_all := lw_g (lw_at lw_m4 134 rfl) rfl
theorem q1000 : (Jvm.Cond.selects "LetterNights$State" ({ cls := "LetterNights$State", name := "be", desc := "(LLetterNights$State;)LLetterNights$State;" } : Jvm.MethodName) ({ cls := "LetterNights$State", name := "be", desc := "(LLetterNights$State;)LLetterNights$State;" } : Jvm.MethodName)) ∈ lw_all := lw_g (lw_at lw_m4 135 rfl) rfl
theorem q1001 : (Jvm.Cond.code ({ cls := "LetterNights$State", name := "be", desc := "(LLetterNights$State;)LLetterNights$State;" } : Jvm.MethodName) prog_12_method_2_code (2 : Nat) (Option.some (Jvm.ClassFile.FieldType.object "LetterNights$State"))) ∈ lw_all := lw_g (lw_at lw_m4 136 rfl) rfl
theorem q1002 : (Jvm.Cond.methodLink "LetterNights$State" (26 : Nat) ({ cls := "java/lang/System", name := "arraycopy", desc := "(Ljava/lang/Object;ILjava/lang/Object;II)V" } : Jvm.MethodName)) ∈ lw_all := lw_g (lw_at lw_m4 137 rfl) rfl
theorem q1007 : (Jvm.Cond.instanceMethod ({ cls := "LetterNights$State", name := "does", desc := "(I)V" } : Jvm.MethodName)) ∈ lw_all := lw_g (lw_at lw_m4 142 rfl) rfl
theorem q1008 : (Jvm.Cond.selects "LetterNights$State" ({ cls := "LetterNights$State", name := "does", desc := "(I)V" } : Jvm.MethodName) ({ cls := "LetterNights$State", name := "does", desc := "(I)V" } : Jvm.MethodName)) ∈ lw_all := lw_g (lw_at lw_m4 143 rfl) rfl
theorem q1009 : (Jvm.Cond.code ({ cls := "LetterNights$State", name := "does", desc := "(I)V" } : Jvm.MethodName) prog_12_method_18_code (2 : Nat) (Option.none : Option Jvm.ClassFile.FieldType)) ∈ lw_all := lw_g (lw_at lw_m4 144 rfl) rfl
theorem q1010 : (Jvm.Cond.methodLink "LetterNights$State" (129 : Nat) ({ cls := "LetterNights$State", name := "goes", desc := "(I)V" } : Jvm.MethodName)) ∈ lw_all := lw_g (lw_at lw_m4 145 rfl) rfl
theorem q1011 : (Jvm.Cond.instanceMethod ({ cls := "LetterNights$State", name := "goes", desc := "(I)V" } : Jvm.MethodName)) ∈ lw_all := lw_g (lw_at lw_m4 146 rfl) rfl
theorem q1012 : (Jvm.Cond.selects "LetterNights$State" ({ cls := "LetterNights$State", name := "goes", desc := "(I)V" } : Jvm.MethodName) ({ cls := "LetterNights$State", name := "goes", desc := "(I)V" } : Jvm.MethodName)) ∈ lw_all := lw_g (lw_at lw_m4 147 rfl) rfl
theorem q1013 : (Jvm.Cond.code ({ cls := "LetterNights$State", name := "goes", desc := "(I)V" } : Jvm.MethodName) prog_12_method_19_code (2 : Nat) (Option.none : Option Jvm.ClassFile.FieldType)) ∈ lw_all := lw_g (lw_at lw_m4 148 rfl) rfl
theorem q1057 : (Jvm.Cond.instanceMethod ({ cls := "LetterNights$State", name := "whyTold", desc := "(J)I" } : Jvm.MethodName)) ∈ lw_all := lw_g (lw_at lw_m4 192 rfl) rfl
theorem q1058 : (Jvm.Cond.selects "LetterNights$State" ({ cls := "LetterNights$State", name := "whyTold", desc := "(J)I" } : Jvm.MethodName) ({ cls := "LetterNights$State", name := "whyTold", desc := "(J)I" } : Jvm.MethodName)) ∈ lw_all := lw_g (lw_at lw_m4 193 rfl) rfl
theorem q1059 : (Jvm.Cond.code ({ cls := "LetterNights$State", name := "whyTold", desc := "(J)I" } : Jvm.MethodName) prog_12_method_17_code (3 : Nat) (Option.some Jvm.ClassFile.FieldType.int)) ∈ lw_all := lw_g (lw_at lw_m4 194 rfl) rfl
theorem q1060 : (Jvm.Cond.constantLong "LetterNights$State" (122 : Nat) (9 : Int64)) ∈ lw_all := lw_g (lw_at lw_m4 195 rfl) rfl
theorem q1061 : (Jvm.Cond.methodLink "LetterNights$State" (124 : Nat) ({ cls := "LetterNights$State", name := "whyNight", desc := "(J)I" } : Jvm.MethodName)) ∈ lw_all := lw_g (lw_at lw_m4 196 rfl) rfl
theorem q1062 : (Jvm.Cond.constantLong "LetterNights$State" (127 : Nat) (19 : Int64)) ∈ lw_all := lw_g (lw_at lw_m4 197 rfl) rfl
theorem q1186 : (Jvm.Cond.instanceMethod ({ cls := "LetterNights$State", name := "kinds", desc := "()I" } : Jvm.MethodName)) ∈ lw_all := lw_g (lw_at lw_m5 81 rfl) rfl
theorem q1187 : (Jvm.Cond.selects "LetterNights$State" ({ cls := "LetterNights$State", name := "kinds", desc := "()I" } : Jvm.MethodName) ({ cls := "LetterNights$State", name := "kinds", desc := "()I" } : Jvm.MethodName)) ∈ lw_all := lw_g (lw_at lw_m5 82 rfl) rfl
theorem q1188 : (Jvm.Cond.code ({ cls := "LetterNights$State", name := "kinds", desc := "()I" } : Jvm.MethodName) prog_12_method_21_code (3 : Nat) (Option.some Jvm.ClassFile.FieldType.int)) ∈ lw_all := lw_g (lw_at lw_m5 83 rfl) rfl
theorem q1202 : (Jvm.Cond.instanceMethod ({ cls := "LetterNights$State", name := "laysMany", desc := "([JI)V" } : Jvm.MethodName)) ∈ lw_all := lw_g (lw_at lw_m5 97 rfl) rfl
theorem q1203 : (Jvm.Cond.selects "LetterNights$State" ({ cls := "LetterNights$State", name := "laysMany", desc := "([JI)V" } : Jvm.MethodName) ({ cls := "LetterNights$State", name := "laysMany", desc := "([JI)V" } : Jvm.MethodName)) ∈ lw_all := lw_g (lw_at lw_m5 98 rfl) rfl
theorem q1204 : (Jvm.Cond.code ({ cls := "LetterNights$State", name := "laysMany", desc := "([JI)V" } : Jvm.MethodName) prog_12_method_20_code (4 : Nat) (Option.none : Option Jvm.ClassFile.FieldType)) ∈ lw_all := lw_g (lw_at lw_m5 99 rfl) rfl
theorem in_X2 : ∀ w ∈ wsX20, w ∈ lw_all := lw_in wsX20 [255, 257, 259, 261, 263, 265, 267] (by decide +kernel) (by decide +kernel)
def RX3 : String := "LetterNights$Part"
def TX3 : u_T := fun k => match k with
  | 0 => ("LetterNights$Part", "front", "[I", true)
  | 1 => ("LetterNights$Part", "back", "[I", true)
  | 2 => ("LetterNights$Part", "size", "J", false)
  | 3 => ("LetterNights$Part", "often", "J", false)
  | 4 => ("LetterNights$Part", "first", "J", false)
  | _ => ("LetterNights$Part", "this$0", "LLetterNights;", true)
def tyX3 : Nat → FieldType := fun k => match k with
  | 0 => .array .int
  | 1 => .array .int
  | 2 => .long
  | 3 => .long
  | 4 => .long
  | _ => .object "LetterNights"
abbrev wsX30 : List Cond := u_ws RX3 TX3 6
theorem nmX3 : ∀ a, a < 6 → ∀ b, b < 6 → a ≠ b → (TX3 a).2.1 ≠ (TX3 b).2.1 := by decide +kernel
theorem tyX3_ok : ∀ k, k < 6 → parseFieldDescriptor (TX3 k).2.2.1 = some (tyX3 k) := by decide +kernel
abbrev cX3_init : ByteArray := prog_9_method_1_code
def yX3_init : MethodName := ⟨RX3, "<init>", "(LLetterNights;)V"⟩
abbrev cX3_letter : ByteArray := prog_9_method_4_code
def yX3_letter : MethodName := ⟨RX3, "letter", "(I)LLetterNights$Part;"⟩
abbrev cX3_empty : ByteArray := prog_9_method_3_code
def yX3_empty : MethodName := ⟨RX3, "empty", "()LLetterNights$Part;"⟩
abbrev cX3_adds : ByteArray := prog_9_method_5_code
def yX3_adds : MethodName := ⟨RX3, "adds", "(LLetterNights$Part;)V"⟩
abbrev cX3_crosses : ByteArray := prog_9_method_6_code
def yX3_crosses : MethodName := ⟨RX3, "crosses", "(LLetterNights$Part;)V"⟩
abbrev cX3_edge : ByteArray := prog_9_method_2_code
def yX3_edge : MethodName := ⟨RX3, "edge", "()I"⟩
theorem q149 : (Jvm.Cond.initialized "LetterNights$Part") ∈ lw_all := lw_g (lw_at lw_m1 4 rfl) rfl
theorem q274 : (Jvm.Cond.instantiable "LetterNights$Part" (6 : Nat)) ∈ lw_all := lw_g (lw_at lw_m1 129 rfl) rfl
theorem q276 : (Jvm.Cond.instanceMethod ({ cls := "LetterNights$Part", name := "<init>", desc := "(LLetterNights;)V" } : Jvm.MethodName)) ∈ lw_all := lw_g (lw_at lw_m1 131 rfl) rfl
theorem q277 : (Jvm.Cond.code ({ cls := "LetterNights$Part", name := "<init>", desc := "(LLetterNights;)V" } : Jvm.MethodName) prog_9_method_1_code (2 : Nat) (Option.none : Option Jvm.ClassFile.FieldType)) ∈ lw_all := lw_g (lw_at lw_m1 132 rfl) rfl
theorem q278 : (Jvm.Cond.methodLink "LetterNights$Part" (9 : Nat) ({ cls := "java/lang/Object", name := "<init>", desc := "()V" } : Jvm.MethodName)) ∈ lw_all := lw_g (lw_at lw_m1 133 rfl) rfl
theorem q279 : (Jvm.Cond.fieldLink "LetterNights$Part" (15 : Nat) "LetterNights$Part" "front" "[I") ∈ lw_all := lw_g (lw_at lw_m1 134 rfl) rfl
theorem q280 : (Jvm.Cond.fieldLink "LetterNights$Part" (19 : Nat) "LetterNights$Part" "back" "[I") ∈ lw_all := lw_g (lw_at lw_m1 135 rfl) rfl
theorem q281 : (Jvm.Cond.fieldLink "LetterNights$Part" (22 : Nat) "LetterNights$Part" "size" "J") ∈ lw_all := lw_g (lw_at lw_m1 136 rfl) rfl
theorem q282 : (Jvm.Cond.fieldLink "LetterNights$Part" (36 : Nat) "LetterNights$Part" "often" "J") ∈ lw_all := lw_g (lw_at lw_m1 137 rfl) rfl
theorem q284 : (Jvm.Cond.fieldLink "LetterNights$Part" (41 : Nat) "LetterNights$Part" "first" "J") ∈ lw_all := lw_g (lw_at lw_m1 139 rfl) rfl
theorem q286 : (Jvm.Cond.fieldLink "LetterNights$Part" (3 : Nat) "LetterNights$Part" "this$0" "LLetterNights;") ∈ lw_all := lw_g (lw_at lw_m1 141 rfl) rfl
theorem q287 : (Jvm.Cond.laysFinal "LetterNights$Part" "LetterNights$Part" "front" "[I") ∈ lw_all := lw_g (lw_at lw_m1 142 rfl) rfl
theorem q288 : (Jvm.Cond.soleField "LetterNights$Part" "front") ∈ lw_all := lw_g (lw_at lw_m1 143 rfl) rfl
theorem q289 : (Jvm.Cond.laysFinal "LetterNights$Part" "LetterNights$Part" "back" "[I") ∈ lw_all := lw_g (lw_at lw_m1 144 rfl) rfl
theorem q290 : (Jvm.Cond.soleField "LetterNights$Part" "back") ∈ lw_all := lw_g (lw_at lw_m1 145 rfl) rfl
theorem q291 : (Jvm.Cond.lays "LetterNights$Part" "LetterNights$Part" "size" "J") ∈ lw_all := lw_g (lw_at lw_m1 146 rfl) rfl
theorem q292 : (Jvm.Cond.soleField "LetterNights$Part" "size") ∈ lw_all := lw_g (lw_at lw_m1 147 rfl) rfl
theorem q293 : (Jvm.Cond.lays "LetterNights$Part" "LetterNights$Part" "often" "J") ∈ lw_all := lw_g (lw_at lw_m1 148 rfl) rfl
theorem q294 : (Jvm.Cond.soleField "LetterNights$Part" "often") ∈ lw_all := lw_g (lw_at lw_m1 149 rfl) rfl
theorem q295 : (Jvm.Cond.lays "LetterNights$Part" "LetterNights$Part" "first" "J") ∈ lw_all := lw_g (lw_at lw_m1 150 rfl) rfl
theorem q296 : (Jvm.Cond.soleField "LetterNights$Part" "first") ∈ lw_all := lw_g (lw_at lw_m1 151 rfl) rfl
theorem q297 : (Jvm.Cond.laysFinal "LetterNights$Part" "LetterNights$Part" "this$0" "LLetterNights;") ∈ lw_all := lw_g (lw_at lw_m1 152 rfl) rfl
theorem q298 : (Jvm.Cond.soleField "LetterNights$Part" "this$0") ∈ lw_all := lw_g (lw_at lw_m1 153 rfl) rfl
theorem q299 : (Jvm.Cond.superclass "LetterNights$Part" "java/lang/Object") ∈ lw_all := lw_g (lw_at lw_m1 154 rfl) rfl
theorem q331 : (Jvm.Cond.fieldLinkNest "LetterNights$Part" (48 : Nat) "LetterNights" "sought" "[I" "LetterNights") ∈ lw_tbl := lw_at lw_m1 186 rfl
theorem q334 : (Jvm.Cond.fieldLinkNest "LetterNights$Part" (64 : Nat) "LetterNights" "joined" "[I" "LetterNights") ∈ lw_tbl := lw_at lw_m1 189 rfl
theorem q335 : (Jvm.Cond.fieldLinkNest "LetterNights$Part" (26 : Nat) "LetterNights" "soughtMany" "I" "LetterNights") ∈ lw_tbl := lw_at lw_m1 190 rfl
theorem q1097 : (Jvm.Cond.instanceMethod ({ cls := "LetterNights$Part", name := "letter", desc := "(I)LLetterNights$Part;" } : Jvm.MethodName)) ∈ lw_all := lw_g (lw_at lw_m4 232 rfl) rfl
theorem q1098 : (Jvm.Cond.selects "LetterNights$Part" ({ cls := "LetterNights$Part", name := "letter", desc := "(I)LLetterNights$Part;" } : Jvm.MethodName) ({ cls := "LetterNights$Part", name := "letter", desc := "(I)LLetterNights$Part;" } : Jvm.MethodName)) ∈ lw_all := lw_g (lw_at lw_m4 233 rfl) rfl
theorem q1099 : (Jvm.Cond.code ({ cls := "LetterNights$Part", name := "letter", desc := "(I)LLetterNights$Part;" } : Jvm.MethodName) prog_9_method_4_code (2 : Nat) (Option.some (Jvm.ClassFile.FieldType.object "LetterNights$Part"))) ∈ lw_all := lw_g (lw_at lw_m4 234 rfl) rfl
theorem q1100 : (Jvm.Cond.methodLink "LetterNights$Part" (44 : Nat) ({ cls := "LetterNights$Part", name := "empty", desc := "()LLetterNights$Part;" } : Jvm.MethodName)) ∈ lw_all := lw_g (lw_at lw_m4 235 rfl) rfl
theorem q1101 : (Jvm.Cond.instanceMethod ({ cls := "LetterNights$Part", name := "empty", desc := "()LLetterNights$Part;" } : Jvm.MethodName)) ∈ lw_all := lw_g (lw_at lw_m4 236 rfl) rfl
theorem q1102 : (Jvm.Cond.selects "LetterNights$Part" ({ cls := "LetterNights$Part", name := "empty", desc := "()LLetterNights$Part;" } : Jvm.MethodName) ({ cls := "LetterNights$Part", name := "empty", desc := "()LLetterNights$Part;" } : Jvm.MethodName)) ∈ lw_all := lw_g (lw_at lw_m4 237 rfl) rfl
theorem q1103 : (Jvm.Cond.code ({ cls := "LetterNights$Part", name := "empty", desc := "()LLetterNights$Part;" } : Jvm.MethodName) prog_9_method_3_code (1 : Nat) (Option.some (Jvm.ClassFile.FieldType.object "LetterNights$Part"))) ∈ lw_all := lw_g (lw_at lw_m4 238 rfl) rfl
theorem q1104 : (Jvm.Cond.constantLong "LetterNights$Part" (39 : Nat) (-1 : Int64)) ∈ lw_all := lw_g (lw_at lw_m4 239 rfl) rfl
theorem q1107 : (Jvm.Cond.instanceMethod ({ cls := "LetterNights$Part", name := "adds", desc := "(LLetterNights$Part;)V" } : Jvm.MethodName)) ∈ lw_all := lw_g (lw_at lw_m5 2 rfl) rfl
theorem q1108 : (Jvm.Cond.selects "LetterNights$Part" ({ cls := "LetterNights$Part", name := "adds", desc := "(LLetterNights$Part;)V" } : Jvm.MethodName) ({ cls := "LetterNights$Part", name := "adds", desc := "(LLetterNights$Part;)V" } : Jvm.MethodName)) ∈ lw_all := lw_g (lw_at lw_m5 3 rfl) rfl
theorem q1109 : (Jvm.Cond.code ({ cls := "LetterNights$Part", name := "adds", desc := "(LLetterNights$Part;)V" } : Jvm.MethodName) prog_9_method_5_code (5 : Nat) (Option.none : Option Jvm.ClassFile.FieldType)) ∈ lw_all := lw_g (lw_at lw_m5 4 rfl) rfl
theorem q1110 : (Jvm.Cond.methodLink "LetterNights$Part" (51 : Nat) ({ cls := "LetterNights$Part", name := "crosses", desc := "(LLetterNights$Part;)V" } : Jvm.MethodName)) ∈ lw_all := lw_g (lw_at lw_m5 5 rfl) rfl
theorem q1111 : (Jvm.Cond.privateMethod ({ cls := "LetterNights$Part", name := "crosses", desc := "(LLetterNights$Part;)V" } : Jvm.MethodName)) ∈ lw_tbl := lw_at lw_m5 6 rfl
theorem q1112 : (Jvm.Cond.instanceMethod ({ cls := "LetterNights$Part", name := "crosses", desc := "(LLetterNights$Part;)V" } : Jvm.MethodName)) ∈ lw_all := lw_g (lw_at lw_m5 7 rfl) rfl
theorem q1113 : (Jvm.Cond.code ({ cls := "LetterNights$Part", name := "crosses", desc := "(LLetterNights$Part;)V" } : Jvm.MethodName) prog_9_method_6_code (5 : Nat) (Option.none : Option Jvm.ClassFile.FieldType)) ∈ lw_all := lw_g (lw_at lw_m5 8 rfl) rfl
theorem q1114 : (Jvm.Cond.methodLink "LetterNights$Part" (57 : Nat) ({ cls := "LetterNights$Part", name := "edge", desc := "()I" } : Jvm.MethodName)) ∈ lw_all := lw_g (lw_at lw_m5 9 rfl) rfl
theorem q1115 : (Jvm.Cond.privateMethod ({ cls := "LetterNights$Part", name := "edge", desc := "()I" } : Jvm.MethodName)) ∈ lw_tbl := lw_at lw_m5 10 rfl
theorem q1116 : (Jvm.Cond.instanceMethod ({ cls := "LetterNights$Part", name := "edge", desc := "()I" } : Jvm.MethodName)) ∈ lw_all := lw_g (lw_at lw_m5 11 rfl) rfl
theorem q1117 : (Jvm.Cond.code ({ cls := "LetterNights$Part", name := "edge", desc := "()I" } : Jvm.MethodName) prog_9_method_2_code (1 : Nat) (Option.some Jvm.ClassFile.FieldType.int)) ∈ lw_all := lw_g (lw_at lw_m5 12 rfl) rfl
theorem q1118 : (Jvm.Cond.methodLink "LetterNights$Part" (30 : Nat) ({ cls := "java/lang/Math", name := "min", desc := "(JJ)J" } : Jvm.MethodName)) ∈ lw_all := lw_g (lw_at lw_m5 13 rfl) rfl
theorem q1119 : (Jvm.Cond.methodLinkNest "LetterNights$Part" (67 : Nat) ({ cls := "LetterNights", name := "isSoughtAt", desc := "(I)Z" } : Jvm.MethodName) "LetterNights") ∈ lw_tbl := lw_at lw_m5 14 rfl
theorem q1123 : (Jvm.Cond.constantLong "LetterNights$Part" (55 : Nat) (4000000000000 : Int64)) ∈ lw_all := lw_g (lw_at lw_m5 18 rfl) rfl
theorem q1124 : (Jvm.Cond.methodLink "LetterNights$Part" (61 : Nat) ({ cls := "java/lang/Math", name := "min", desc := "(II)I" } : Jvm.MethodName)) ∈ lw_all := lw_g (lw_at lw_m5 19 rfl) rfl
theorem in_X3 : ∀ w ∈ wsX30, w ∈ lw_all := lw_in wsX30 [287, 289, 291, 293, 295, 297] (by decide +kernel) (by decide +kernel)
def RX4 : String := "LetterNights$Numbers"
def TX4 : u_T := fun k => match k with
  | _ => ("LetterNights$Numbers", "held", "Ljava/lang/Object;", false)
def tyX4 : Nat → FieldType := fun k => match k with
  | _ => .object "java/lang/Object"
abbrev wsX40 : List Cond := u_ws RX4 TX4 1
theorem nmX4 : ∀ a, a < 1 → ∀ b, b < 1 → a ≠ b → (TX4 a).2.1 ≠ (TX4 b).2.1 := by decide +kernel
theorem tyX4_ok : ∀ k, k < 1 → parseFieldDescriptor (TX4 k).2.2.1 = some (tyX4 k) := by decide +kernel
abbrev cX4_init : ByteArray := prog_7_method_1_code
def yX4_init : MethodName := ⟨RX4, "<init>", "()V"⟩
abbrev cX4_many : ByteArray := prog_7_method_3_code
def yX4_many : MethodName := ⟨RX4, "many", "()I"⟩
abbrev cX4_number : ByteArray := prog_7_method_4_code
def yX4_number : MethodName := ⟨RX4, "number", "(I)J"⟩
abbrev cX4_begins : ByteArray := prog_7_method_2_code
def yX4_begins : MethodName := ⟨RX4, "begins", "(II)Z"⟩
abbrev cX4_puts : ByteArray := prog_7_method_5_code
def yX4_puts : MethodName := ⟨RX4, "puts", "(IJ)V"⟩
theorem q150 : (Jvm.Cond.initialized "LetterNights$Numbers") ∈ lw_all := lw_g (lw_at lw_m1 5 rfl) rfl
theorem q303 : (Jvm.Cond.instantiable "LetterNights$Numbers" (1 : Nat)) ∈ lw_all := lw_g (lw_at lw_m1 158 rfl) rfl
theorem q305 : (Jvm.Cond.instanceMethod ({ cls := "LetterNights$Numbers", name := "<init>", desc := "()V" } : Jvm.MethodName)) ∈ lw_all := lw_g (lw_at lw_m1 160 rfl) rfl
theorem q306 : (Jvm.Cond.code ({ cls := "LetterNights$Numbers", name := "<init>", desc := "()V" } : Jvm.MethodName) prog_7_method_1_code (1 : Nat) (Option.none : Option Jvm.ClassFile.FieldType)) ∈ lw_all := lw_g (lw_at lw_m1 161 rfl) rfl
theorem q307 : (Jvm.Cond.methodLink "LetterNights$Numbers" (1 : Nat) ({ cls := "java/lang/Object", name := "<init>", desc := "()V" } : Jvm.MethodName)) ∈ lw_all := lw_g (lw_at lw_m1 162 rfl) rfl
theorem q308 : (Jvm.Cond.fieldLink "LetterNights$Numbers" (7 : Nat) "LetterNights$Numbers" "held" "Ljava/lang/Object;") ∈ lw_all := lw_g (lw_at lw_m1 163 rfl) rfl
theorem q310 : (Jvm.Cond.lays "LetterNights$Numbers" "LetterNights$Numbers" "held" "Ljava/lang/Object;") ∈ lw_all := lw_g (lw_at lw_m1 165 rfl) rfl
theorem q311 : (Jvm.Cond.soleField "LetterNights$Numbers" "held") ∈ lw_all := lw_g (lw_at lw_m1 166 rfl) rfl
theorem q312 : (Jvm.Cond.superclass "LetterNights$Numbers" "java/lang/Object") ∈ lw_all := lw_g (lw_at lw_m1 167 rfl) rfl
theorem q1045 : (Jvm.Cond.instanceMethod ({ cls := "LetterNights$Numbers", name := "many", desc := "()I" } : Jvm.MethodName)) ∈ lw_all := lw_g (lw_at lw_m4 180 rfl) rfl
theorem q1046 : (Jvm.Cond.selects "LetterNights$Numbers" ({ cls := "LetterNights$Numbers", name := "many", desc := "()I" } : Jvm.MethodName) ({ cls := "LetterNights$Numbers", name := "many", desc := "()I" } : Jvm.MethodName)) ∈ lw_all := lw_g (lw_at lw_m4 181 rfl) rfl
theorem q1047 : (Jvm.Cond.code ({ cls := "LetterNights$Numbers", name := "many", desc := "()I" } : Jvm.MethodName) prog_7_method_3_code (1 : Nat) (Option.some Jvm.ClassFile.FieldType.int)) ∈ lw_all := lw_g (lw_at lw_m4 182 rfl) rfl
theorem q1048 : (Jvm.Cond.classLink "LetterNights$Numbers" (15 : Nat) "[B") ∈ lw_all := lw_g (lw_at lw_m4 183 rfl) rfl
theorem q1049 : (Jvm.Cond.classLink "LetterNights$Numbers" (17 : Nat) "[S") ∈ lw_all := lw_g (lw_at lw_m4 184 rfl) rfl
theorem q1050 : (Jvm.Cond.classLink "LetterNights$Numbers" (19 : Nat) "[I") ∈ lw_all := lw_g (lw_at lw_m4 185 rfl) rfl
theorem q1051 : (Jvm.Cond.classLink "LetterNights$Numbers" (21 : Nat) "[J") ∈ lw_all := lw_g (lw_at lw_m4 186 rfl) rfl
theorem q1053 : (Jvm.Cond.instanceMethod ({ cls := "LetterNights$Numbers", name := "number", desc := "(I)J" } : Jvm.MethodName)) ∈ lw_all := lw_g (lw_at lw_m4 188 rfl) rfl
theorem q1054 : (Jvm.Cond.selects "LetterNights$Numbers" ({ cls := "LetterNights$Numbers", name := "number", desc := "(I)J" } : Jvm.MethodName) ({ cls := "LetterNights$Numbers", name := "number", desc := "(I)J" } : Jvm.MethodName)) ∈ lw_all := lw_g (lw_at lw_m4 189 rfl) rfl
theorem q1055 : (Jvm.Cond.code ({ cls := "LetterNights$Numbers", name := "number", desc := "(I)J" } : Jvm.MethodName) prog_7_method_4_code (2 : Nat) (Option.some Jvm.ClassFile.FieldType.long)) ∈ lw_all := lw_g (lw_at lw_m4 190 rfl) rfl
theorem q1310 : (Jvm.Cond.instanceMethod ({ cls := "LetterNights$Numbers", name := "begins", desc := "(II)Z" } : Jvm.MethodName)) ∈ lw_all := lw_g (lw_at lw_m5 205 rfl) rfl
theorem q1311 : (Jvm.Cond.selects "LetterNights$Numbers" ({ cls := "LetterNights$Numbers", name := "begins", desc := "(II)Z" } : Jvm.MethodName) ({ cls := "LetterNights$Numbers", name := "begins", desc := "(II)Z" } : Jvm.MethodName)) ∈ lw_all := lw_g (lw_at lw_m5 206 rfl) rfl
theorem q1312 : (Jvm.Cond.codeWith ({ cls := "LetterNights$Numbers", name := "begins", desc := "(II)Z" } : Jvm.MethodName) prog_7_method_2_code (4 : Nat) (Option.some Jvm.ClassFile.FieldType.boolean) [((0 : Nat), (66 : Nat), (67 : Nat), (13 : Nat))]) ∈ lw_all := lw_g (lw_at lw_m5 207 rfl) rfl
theorem q1313 : (Jvm.Cond.classLink "LetterNights$Numbers" (13 : Nat) "java/lang/NegativeArraySizeException") ∈ lw_all := lw_g (lw_at lw_m5 208 rfl) rfl
theorem q1446 : (Jvm.Cond.instanceMethod ({ cls := "LetterNights$Numbers", name := "puts", desc := "(IJ)V" } : Jvm.MethodName)) ∈ lw_all := lw_g (lw_at lw_m6 101 rfl) rfl
theorem q1447 : (Jvm.Cond.selects "LetterNights$Numbers" ({ cls := "LetterNights$Numbers", name := "puts", desc := "(IJ)V" } : Jvm.MethodName) ({ cls := "LetterNights$Numbers", name := "puts", desc := "(IJ)V" } : Jvm.MethodName)) ∈ lw_all := lw_g (lw_at lw_m6 102 rfl) rfl
theorem q1448 : (Jvm.Cond.code ({ cls := "LetterNights$Numbers", name := "puts", desc := "(IJ)V" } : Jvm.MethodName) prog_7_method_5_code (4 : Nat) (Option.none : Option Jvm.ClassFile.FieldType)) ∈ lw_all := lw_g (lw_at lw_m6 103 rfl) rfl
theorem in_X4 : ∀ w ∈ wsX40, w ∈ lw_all := lw_in wsX40 [310] (by decide +kernel) (by decide +kernel)
def RX5 : String := "LetterNightsModel"
def TX5 : u_T := fun k => match k with
  | 0 => ("LetterNightsModel", "thrown", "I", false)
  | 1 => ("LetterNightsModel", "all", "[I", true)
  | 2 => ("LetterNightsModel", "hasImage", "[Z", true)
  | 3 => ("LetterNightsModel", "tape", "[I", true)
  | 4 => ("LetterNightsModel", "fresh", "[I", true)
  | 5 => ("LetterNightsModel", "taped", "I", false)
  | 6 => ("LetterNightsModel", "at", "I", false)
  | 7 => ("LetterNightsModel", "behind", "I", false)
  | 8 => ("LetterNightsModel", "size", "I", false)
  | 9 => ("LetterNightsModel", "kind", "I", false)
  | 10 => ("LetterNightsModel", "number", "I", false)
  | 11 => ("LetterNightsModel", "wrong", "I", false)
  | 12 => ("LetterNightsModel", "wrongAt", "I", false)
  | 13 => ("LetterNightsModel", "faultKind", "I", false)
  | 14 => ("LetterNightsModel", "faultPlace", "I", false)
  | 15 => ("LetterNightsModel", "spelt", "[I", true)
  | 16 => ("LetterNightsModel", "longAt", "[J", true)
  | 17 => ("LetterNightsModel", "ofAt", "[J", true)
  | 18 => ("LetterNightsModel", "passed", "J", false)
  | 19 => ("LetterNightsModel", "reckoned", "[I", true)
  | 20 => ("LetterNightsModel", "words", "[I", true)
  | 21 => ("LetterNightsModel", "was", "[I", true)
  | 22 => ("LetterNightsModel", "picked", "I", false)
  | 23 => ("LetterNightsModel", "toldWhy", "I", false)
  | 24 => ("LetterNightsModel", "wasBy", "[I", true)
  | 25 => ("LetterNightsModel", "x", "I", false)
  | 26 => ("LetterNightsModel", "readTo", "[I", true)
  | 27 => ("LetterNightsModel", "spelling", "[I", true)
  | 28 => ("LetterNightsModel", "hits", "[J", true)
  | 29 => ("LetterNightsModel", "spellingMany", "I", false)
  | 30 => ("LetterNightsModel", "ways", "[I", true)
  | 31 => ("LetterNightsModel", "reach", "[I", true)
  | 32 => ("LetterNightsModel", "many", "[J", true)
  | 33 => ("LetterNightsModel", "far", "[I", true)
  | 34 => ("LetterNightsModel", "found", "[I", true)
  | 35 => ("LetterNightsModel", "tablesIn", "[I", true)
  | 36 => ("LetterNightsModel", "behindRow", "[J", true)
  | 37 => ("LetterNightsModel", "longRows", "I", false)
  | 38 => ("LetterNightsModel", "likely", "[J", true)
  | 39 => ("LetterNightsModel", "likelyThen", "[J", true)
  | 40 => ("LetterNightsModel", "sums", "[J", true)
  | 41 => ("LetterNightsModel", "sumsThen", "[J", true)
  | 42 => ("LetterNightsModel", "rowSort", "[I", true)
  | 43 => ("LetterNightsModel", "rowMany", "[I", true)
  | _ => ("LetterNightsModel", "numbers", "[J", true)
def tyX5 : Nat → FieldType := fun k => match k with
  | 0 => .int
  | 1 => .array .int
  | 2 => .array .boolean
  | 3 => .array .int
  | 4 => .array .int
  | 5 => .int
  | 6 => .int
  | 7 => .int
  | 8 => .int
  | 9 => .int
  | 10 => .int
  | 11 => .int
  | 12 => .int
  | 13 => .int
  | 14 => .int
  | 15 => .array .int
  | 16 => .array .long
  | 17 => .array .long
  | 18 => .long
  | 19 => .array .int
  | 20 => .array .int
  | 21 => .array .int
  | 22 => .int
  | 23 => .int
  | 24 => .array .int
  | 25 => .int
  | 26 => .array .int
  | 27 => .array .int
  | 28 => .array .long
  | 29 => .int
  | 30 => .array .int
  | 31 => .array .int
  | 32 => .array .long
  | 33 => .array .int
  | 34 => .array .int
  | 35 => .array .int
  | 36 => .array .long
  | 37 => .int
  | 38 => .array .long
  | 39 => .array .long
  | 40 => .array .long
  | 41 => .array .long
  | 42 => .array .int
  | 43 => .array .int
  | _ => .array .long
abbrev wsX50 : List Cond := u_ws RX5 TX5 45
theorem nmX5 : ∀ a, a < 45 → ∀ b, b < 45 → a ≠ b → (TX5 a).2.1 ≠ (TX5 b).2.1 := by decide +kernel
theorem tyX5_ok : ∀ k, k < 45 → parseFieldDescriptor (TX5 k).2.2.1 = some (tyX5 k) := by decide +kernel
abbrev cX5_init : ByteArray := prog_17_method_3_code
def yX5_init : MethodName := ⟨RX5, "<init>", "()V"⟩
abbrev cX5_plain : ByteArray := prog_17_method_4_code
def yX5_plain : MethodName := ⟨RX5, "plain", "([I)V"⟩
abbrev cX5_feed : ByteArray := prog_17_method_5_code
def yX5_feed : MethodName := ⟨RX5, "feed", "(IIIII)I"⟩
abbrev cX5_street : ByteArray := prog_17_method_33_code
def yX5_street : MethodName := ⟨RX5, "street", "(I)I"⟩
abbrev cX5_within : ByteArray := prog_17_method_2_code
def yX5_within : MethodName := ⟨RX5, "within", "(JJJ)Z"⟩
abbrev cX5_next : ByteArray := prog_17_method_10_code
def yX5_next : MethodName := ⟨RX5, "next", "()V"⟩
abbrev cX5_see : ByteArray := prog_17_method_6_code
def yX5_see : MethodName := ⟨RX5, "see", "(I)I"⟩
abbrev cX5_isSmall : ByteArray := prog_17_method_7_code
def yX5_isSmall : MethodName := ⟨RX5, "isSmall", "(I)Z"⟩
abbrev cX5_keyAt : ByteArray := prog_17_method_9_code
def yX5_keyAt : MethodName := ⟨RX5, "keyAt", "()I"⟩
abbrev cX5_isDigit : ByteArray := prog_17_method_8_code
def yX5_isDigit : MethodName := ⟨RX5, "isDigit", "(I)Z"⟩
abbrev cX5_eats : ByteArray := prog_17_method_13_code
def yX5_eats : MethodName := ⟨RX5, "eats", "(I)Z"⟩
abbrev cX5_is : ByteArray := prog_17_method_12_code
def yX5_is : MethodName := ⟨RX5, "is", "(I)Z"⟩
abbrev cX5_fails : ByteArray := prog_17_method_11_code
def yX5_fails : MethodName := ⟨RX5, "fails", "(I)V"⟩
abbrev cX5_named : ByteArray := prog_17_method_26_code
def yX5_named : MethodName := ⟨RX5, "named", "(III)I"⟩
abbrev cX5_takes : ByteArray := prog_17_method_14_code
def yX5_takes : MethodName := ⟨RX5, "takes", "(II)I"⟩
abbrev cX5_closes : ByteArray := prog_17_method_32_code
def yX5_closes : MethodName := ⟨RX5, "closes", "()V"⟩
abbrev cX5_readLine : ByteArray := prog_17_method_31_code
def yX5_readLine : MethodName := ⟨RX5, "readLine", "()V"⟩
abbrev cX5_readStands : ByteArray := prog_17_method_28_code
def yX5_readStands : MethodName := ⟨RX5, "readStands", "()V"⟩
abbrev cX5_spells : ByteArray := prog_17_method_27_code
def yX5_spells : MethodName := ⟨RX5, "spells", "(I)I"⟩
abbrev cX5_readRule : ByteArray := prog_17_method_29_code
def yX5_readRule : MethodName := ⟨RX5, "readRule", "()V"⟩
abbrev cX5_readLaw : ByteArray := prog_17_method_30_code
def yX5_readLaw : MethodName := ⟨RX5, "readLaw", "(I)V"⟩
abbrev cX5_readSum : ByteArray := prog_17_method_22_code
def yX5_readSum : MethodName := ⟨RX5, "readSum", "(I)V"⟩
abbrev cX5_readTerm : ByteArray := prog_17_method_21_code
def yX5_readTerm : MethodName := ⟨RX5, "readTerm", "(I)V"⟩
abbrev cX5_readAtom : ByteArray := prog_17_method_19_code
def yX5_readAtom : MethodName := ⟨RX5, "readAtom", "(I)V"⟩
abbrev cX5_codes : ByteArray := prog_17_method_17_code
def yX5_codes : MethodName := ⟨RX5, "codes", "(I)V"⟩
abbrev cX5_wordOf : ByteArray := prog_17_method_16_code
def yX5_wordOf : MethodName := ⟨RX5, "wordOf", "(I)I"⟩
abbrev cX5_goesIn : ByteArray := prog_17_method_18_code
def yX5_goesIn : MethodName := ⟨RX5, "goesIn", "(I)Z"⟩
abbrev cX5_readIf : ByteArray := prog_17_method_20_code
def yX5_readIf : MethodName := ⟨RX5, "readIf", "(I)V"⟩
abbrev cX5_readTruth : ByteArray := prog_17_method_25_code
def yX5_readTruth : MethodName := ⟨RX5, "readTruth", "(I)V"⟩
abbrev cX5_readBoth : ByteArray := prog_17_method_24_code
def yX5_readBoth : MethodName := ⟨RX5, "readBoth", "(I)V"⟩
abbrev cX5_readUnit : ByteArray := prog_17_method_23_code
def yX5_readUnit : MethodName := ⟨RX5, "readUnit", "(I)V"⟩
abbrev cX5_fault : ByteArray := prog_17_method_34_code
def yX5_fault : MethodName := ⟨RX5, "fault", "(I)I"⟩
abbrev cX5_becomes : ByteArray := prog_17_method_51_code
def yX5_becomes : MethodName := ⟨RX5, "becomes", "(III)I"⟩
abbrev cX5_isTable : ByteArray := prog_17_method_36_code
def yX5_isTable : MethodName := ⟨RX5, "isTable", "(I)Z"⟩
abbrev cX5_isLetter : ByteArray := prog_17_method_35_code
def yX5_isLetter : MethodName := ⟨RX5, "isLetter", "(J)Z"⟩
abbrev cX5_becomeMany : ByteArray := prog_17_method_37_code
def yX5_becomeMany : MethodName := ⟨RX5, "becomeMany", "(II)I"⟩
abbrev cX5_becomeOf : ByteArray := prog_17_method_38_code
def yX5_becomeOf : MethodName := ⟨RX5, "becomeOf", "(III)I"⟩
abbrev cX5_picks : ByteArray := prog_17_method_52_code
def yX5_picks : MethodName := ⟨RX5, "picks", "()I"⟩
abbrev cX5_pickedNow : ByteArray := prog_17_method_50_code
def yX5_pickedNow : MethodName := ⟨RX5, "pickedNow", "()I"⟩
abbrev cX5_lengthNow : ByteArray := prog_17_method_44_code
def yX5_lengthNow : MethodName := ⟨RX5, "lengthNow", "()J"⟩
abbrev cX5_laysLong : ByteArray := prog_17_method_41_code
def yX5_laysLong : MethodName := ⟨RX5, "laysLong", "()V"⟩
abbrev cX5_laysBack : ByteArray := prog_17_method_40_code
def yX5_laysBack : MethodName := ⟨RX5, "laysBack", "([J)V"⟩
abbrev cX5_plus : ByteArray := prog_17_method_39_code
def yX5_plus : MethodName := ⟨RX5, "plus", "(JJ)J"⟩
abbrev cX5_sumOf : ByteArray := prog_17_method_43_code
def yX5_sumOf : MethodName := ⟨RX5, "sumOf", "([J)J"⟩
abbrev cX5_letterAt : ByteArray := prog_17_method_47_code
def yX5_letterAt : MethodName := ⟨RX5, "letterAt", "(J)I"⟩
abbrev cX5_comesTo : ByteArray := prog_17_method_46_code
def yX5_comesTo : MethodName := ⟨RX5, "comesTo", "(J)I"⟩
abbrev cX5_partOf : ByteArray := prog_17_method_45_code
def yX5_partOf : MethodName := ⟨RX5, "partOf", "(III)I"⟩
abbrev cX5_reckons : ByteArray := prog_17_method_49_code
def yX5_reckons : MethodName := ⟨RX5, "reckons", "(I)I"⟩
abbrev cX5_between : ByteArray := prog_17_method_48_code
def yX5_between : MethodName := ⟨RX5, "between", "(III)I"⟩
abbrev cX5_length : ByteArray := prog_17_method_53_code
def yX5_length : MethodName := ⟨RX5, "length", "()J"⟩
abbrev cX5_letter : ByteArray := prog_17_method_54_code
def yX5_letter : MethodName := ⟨RX5, "letter", "(J)I"⟩
abbrev cX5_count : ByteArray := prog_17_method_55_code
def yX5_count : MethodName := ⟨RX5, "count", "(IJ)J"⟩
abbrev cX5_laysOf : ByteArray := prog_17_method_42_code
def yX5_laysOf : MethodName := ⟨RX5, "laysOf", "(I)V"⟩
abbrev cX5_place : ByteArray := prog_17_method_56_code
def yX5_place : MethodName := ⟨RX5, "place", "(IJ)J"⟩
abbrev cX5_night : ByteArray := prog_17_method_63_code
def yX5_night : MethodName := ⟨RX5, "night", "(I)J"⟩
abbrev cX5_whyNight : ByteArray := prog_17_method_61_code
def yX5_whyNight : MethodName := ⟨RX5, "whyNight", "(J)I"⟩
abbrev cX5_longBehind : ByteArray := prog_17_method_60_code
def yX5_longBehind : MethodName := ⟨RX5, "longBehind", "(I)J"⟩
abbrev cX5_stores : ByteArray := prog_17_method_57_code
def yX5_stores : MethodName := ⟨RX5, "stores", "()V"⟩
abbrev cX5_goesNight : ByteArray := prog_17_method_62_code
def yX5_goesNight : MethodName := ⟨RX5, "goesNight", "()V"⟩
abbrev cX5_notes : ByteArray := prog_17_method_59_code
def yX5_notes : MethodName := ⟨RX5, "notes", "()V"⟩
abbrev cX5_nights : ByteArray := prog_17_method_64_code
def yX5_nights : MethodName := ⟨RX5, "nights", "(I)I"⟩
abbrev cX5_moon : ByteArray := prog_17_method_65_code
def yX5_moon : MethodName := ⟨RX5, "moon", "(I)I"⟩
abbrev cX5_undo : ByteArray := prog_17_method_66_code
def yX5_undo : MethodName := ⟨RX5, "undo", "(I)I"⟩
abbrev cX5_judge : ByteArray := prog_17_method_73_code
def yX5_judge : MethodName := ⟨RX5, "judge", "(II)I"⟩
abbrev cX5_noTray : ByteArray := prog_17_method_70_code
def yX5_noTray : MethodName := ⟨RX5, "noTray", "(I)I"⟩
abbrev cX5_storesBy : ByteArray := prog_17_method_71_code
def yX5_storesBy : MethodName := ⟨RX5, "storesBy", "()V"⟩
abbrev cX5_tells : ByteArray := prog_17_method_69_code
def yX5_tells : MethodName := ⟨RX5, "tells", "(I)I"⟩
abbrev cX5_whyNot : ByteArray := prog_17_method_67_code
def yX5_whyNot : MethodName := ⟨RX5, "whyNot", "(J)I"⟩
abbrev cX5_does : ByteArray := prog_17_method_68_code
def yX5_does : MethodName := ⟨RX5, "does", "(I)V"⟩
abbrev cX5_isAgain : ByteArray := prog_17_method_58_code
def yX5_isAgain : MethodName := ⟨RX5, "isAgain", "()V"⟩
abbrev cX5_isAgainBy : ByteArray := prog_17_method_72_code
def yX5_isAgainBy : MethodName := ⟨RX5, "isAgainBy", "()V"⟩
abbrev cX5_perform : ByteArray := prog_17_method_74_code
def yX5_perform : MethodName := ⟨RX5, "perform", "(I)I"⟩
abbrev cX5_year : ByteArray := prog_17_method_77_code
def yX5_year : MethodName := ⟨RX5, "year", "(II)I"⟩
abbrev cX5_drawn : ByteArray := prog_17_method_76_code
def yX5_drawn : MethodName := ⟨RX5, "drawn", "()I"⟩
abbrev cX5_draw : ByteArray := prog_17_method_75_code
def yX5_draw : MethodName := ⟨RX5, "draw", "(I)I"⟩
abbrev cX5_occurs : ByteArray := prog_17_method_82_code
def yX5_occurs : MethodName := ⟨RX5, "occurs", "(I)J"⟩
abbrev cX5_noWord : ByteArray := prog_17_method_78_code
def yX5_noWord : MethodName := ⟨RX5, "noWord", "(I)I"⟩
abbrev cX5_laysSpelling : ByteArray := prog_17_method_79_code
def yX5_laysSpelling : MethodName := ⟨RX5, "laysSpelling", "(I)V"⟩
abbrev cX5_laysHits : ByteArray := prog_17_method_81_code
def yX5_laysHits : MethodName := ⟨RX5, "laysHits", "()V"⟩
abbrev cX5_isRead : ByteArray := prog_17_method_80_code
def yX5_isRead : MethodName := ⟨RX5, "isRead", "(III)Z"⟩
abbrev cX5_first : ByteArray := prog_17_method_83_code
def yX5_first : MethodName := ⟨RX5, "first", "(I)J"⟩
abbrev cX5_backs : ByteArray := prog_17_method_87_code
def yX5_backs : MethodName := ⟨RX5, "backs", "(II)I"⟩
abbrev cX5_noBack : ByteArray := prog_17_method_86_code
def yX5_noBack : MethodName := ⟨RX5, "noBack", "(II)I"⟩
abbrev cX5_laysBacks : ByteArray := prog_17_method_85_code
def yX5_laysBacks : MethodName := ⟨RX5, "laysBacks", "(II)I"⟩
abbrev cX5_isBack : ByteArray := prog_17_method_84_code
def yX5_isBack : MethodName := ⟨RX5, "isBack", "(III)Z"⟩
abbrev cX5_backBy : ByteArray := prog_17_method_88_code
def yX5_backBy : MethodName := ⟨RX5, "backBy", "(III)I"⟩
abbrev cX5_fate : ByteArray := prog_17_method_95_code
def yX5_fate : MethodName := ⟨RX5, "fate", "(II)I"⟩
abbrev cX5_fateOf : ByteArray := prog_17_method_94_code
def yX5_fateOf : MethodName := ⟨RX5, "fateOf", "(II)I"⟩
abbrev cX5_laysReach : ByteArray := prog_17_method_89_code
def yX5_laysReach : MethodName := ⟨RX5, "laysReach", "(I)V"⟩
abbrev cX5_isIn : ByteArray := prog_17_method_15_code
def yX5_isIn : MethodName := ⟨RX5, "isIn", "(JI)Z"⟩
abbrev cX5_itsAll : ByteArray := prog_17_method_90_code
def yX5_itsAll : MethodName := ⟨RX5, "itsAll", "(I)I"⟩
abbrev cX5_isDoubled : ByteArray := prog_17_method_91_code
def yX5_isDoubled : MethodName := ⟨RX5, "isDoubled", "(II)Z"⟩
abbrev cX5_mostRow : ByteArray := prog_17_method_93_code
def yX5_mostRow : MethodName := ⟨RX5, "mostRow", "(I)I"⟩
abbrev cX5_rowFrom : ByteArray := prog_17_method_92_code
def yX5_rowFrom : MethodName := ⟨RX5, "rowFrom", "(I)I"⟩
abbrev cX5_degree : ByteArray := prog_17_method_96_code
def yX5_degree : MethodName := ⟨RX5, "degree", "(II)I"⟩
abbrev cX5_begins : ByteArray := prog_17_method_97_code
def yX5_begins : MethodName := ⟨RX5, "begins", "(I)I"⟩
abbrev cX5_comes : ByteArray := prog_17_method_103_code
def yX5_comes : MethodName := ⟨RX5, "comes", "(I)I"⟩
abbrev cX5_laysMany : ByteArray := prog_17_method_98_code
def yX5_laysMany : MethodName := ⟨RX5, "laysMany", "()V"⟩
abbrev cX5_kindsIn : ByteArray := prog_17_method_101_code
def yX5_kindsIn : MethodName := ⟨RX5, "kindsIn", "()I"⟩
abbrev cX5_kindsTo : ByteArray := prog_17_method_102_code
def yX5_kindsTo : MethodName := ⟨RX5, "kindsTo", "(II)I"⟩
abbrev cX5_soonest : ByteArray := prog_17_method_106_code
def yX5_soonest : MethodName := ⟨RX5, "soonest", "(J)I"⟩
abbrev cX5_laysFound : ByteArray := prog_17_method_105_code
def yX5_laysFound : MethodName := ⟨RX5, "laysFound", "(J)I"⟩
abbrev cX5_finds : ByteArray := prog_17_method_104_code
def yX5_finds : MethodName := ⟨RX5, "finds", "(JII)Z"⟩
abbrev cX5_longIn : ByteArray := prog_17_method_100_code
def yX5_longIn : MethodName := ⟨RX5, "longIn", "(I)J"⟩
abbrev cX5_goesMany : ByteArray := prog_17_method_99_code
def yX5_goesMany : MethodName := ⟨RX5, "goesMany", "(II)V"⟩
abbrev cX5_way : ByteArray := prog_17_method_107_code
def yX5_way : MethodName := ⟨RX5, "way", "(JI)I"⟩
abbrev cX5_rows : ByteArray := prog_17_method_109_code
def yX5_rows : MethodName := ⟨RX5, "rows", "(JI)I"⟩
abbrev cX5_rowsFrom : ByteArray := prog_17_method_108_code
def yX5_rowsFrom : MethodName := ⟨RX5, "rowsFrom", "(JII)I"⟩
abbrev cX5_longBy : ByteArray := prog_17_method_113_code
def yX5_longBy : MethodName := ⟨RX5, "longBy", "(I)I"⟩
abbrev cX5_noLong : ByteArray := prog_17_method_110_code
def yX5_noLong : MethodName := ⟨RX5, "noLong", "(II)I"⟩
abbrev cX5_laysLongRows : ByteArray := prog_17_method_112_code
def yX5_laysLongRows : MethodName := ⟨RX5, "laysLongRows", "(I)I"⟩
abbrev cX5_goesLong : ByteArray := prog_17_method_111_code
def yX5_goesLong : MethodName := ⟨RX5, "goesLong", "(II)V"⟩
abbrev cX5_tables : ByteArray := prog_17_method_114_code
def yX5_tables : MethodName := ⟨RX5, "tables", "(II)I"⟩
abbrev cX5_moons : ByteArray := prog_17_method_115_code
def yX5_moons : MethodName := ⟨RX5, "moons", "(I)I"⟩
abbrev cX5_attempt : ByteArray := prog_17_method_117_code
def yX5_attempt : MethodName := ⟨RX5, "attempt", "(I)I"⟩
abbrev cX5_sorts : ByteArray := prog_17_method_116_code
def yX5_sorts : MethodName := ⟨RX5, "sorts", "(II)V"⟩
abbrev cX5_turned : ByteArray := prog_17_method_119_code
def yX5_turned : MethodName := ⟨RX5, "turned", "(I)J"⟩
abbrev cX5_turnedFrom : ByteArray := prog_17_method_118_code
def yX5_turnedFrom : MethodName := ⟨RX5, "turnedFrom", "(II)J"⟩
abbrev cX5_best : ByteArray := prog_17_method_120_code
def yX5_best : MethodName := ⟨RX5, "best", "(I)I"⟩
abbrev cX5_chance : ByteArray := prog_17_method_124_code
def yX5_chance : MethodName := ⟨RX5, "chance", "(II)I"⟩
abbrev cX5_wholeOf : ByteArray := prog_17_method_121_code
def yX5_wholeOf : MethodName := ⟨RX5, "wholeOf", "(I)J"⟩
abbrev cX5_part : ByteArray := prog_17_method_123_code
def yX5_part : MethodName := ⟨RX5, "part", "(JJI)J"⟩
abbrev cX5_common : ByteArray := prog_17_method_122_code
def yX5_common : MethodName := ⟨RX5, "common", "(JJ)J"⟩
abbrev cX5_mean : ByteArray := prog_17_method_125_code
def yX5_mean : MethodName := ⟨RX5, "mean", "(II)J"⟩
abbrev cX5_numbers : ByteArray := prog_17_method_127_code
def yX5_numbers : MethodName := ⟨RX5, "numbers", "(III)I"⟩
abbrev cX5_write : ByteArray := prog_17_method_128_code
def yX5_write : MethodName := ⟨RX5, "write", "(IIJ)J"⟩
abbrev cX5_cut : ByteArray := prog_17_method_126_code
def yX5_cut : MethodName := ⟨RX5, "cut", "(JI)J"⟩
abbrev cX5_lists : ByteArray := prog_17_method_129_code
def yX5_lists : MethodName := ⟨RX5, "lists", "(IJ)I"⟩
abbrev cX5_image : ByteArray := prog_17_method_130_code
def yX5_image : MethodName := ⟨RX5, "image", "(I)I"⟩
abbrev cX5_restore : ByteArray := prog_17_method_131_code
def yX5_restore : MethodName := ⟨RX5, "restore", "(I)I"⟩
abbrev cX5_told : ByteArray := prog_17_method_132_code
def yX5_told : MethodName := ⟨RX5, "told", "(I)I"⟩
theorem q151 : (Jvm.Cond.initialized "LetterNightsModel") ∈ lw_all := lw_g (lw_at lw_m1 6 rfl) rfl
theorem q1476 : (Jvm.Cond.instantiable "LetterNightsModel" (45 : Nat)) ∈ lw_all := lw_g (lw_at lw_m6 131 rfl) rfl
theorem q1478 : (Jvm.Cond.instanceMethod ({ cls := "LetterNightsModel", name := "<init>", desc := "()V" } : Jvm.MethodName)) ∈ lw_all := lw_g (lw_at lw_m6 133 rfl) rfl
theorem q1479 : (Jvm.Cond.code ({ cls := "LetterNightsModel", name := "<init>", desc := "()V" } : Jvm.MethodName) prog_17_method_3_code (1 : Nat) (Option.none : Option Jvm.ClassFile.FieldType)) ∈ lw_all := lw_g (lw_at lw_m6 134 rfl) rfl
theorem q1480 : (Jvm.Cond.methodLink "LetterNightsModel" (7 : Nat) ({ cls := "java/lang/Object", name := "<init>", desc := "()V" } : Jvm.MethodName)) ∈ lw_all := lw_g (lw_at lw_m6 135 rfl) rfl
theorem q1481 : (Jvm.Cond.methodLink "LetterNightsModel" (103 : Nat) ({ cls := "LetterNightsModel", name := "plain", desc := "([I)V" } : Jvm.MethodName)) ∈ lw_all := lw_g (lw_at lw_m6 136 rfl) rfl
theorem q1482 : (Jvm.Cond.static ({ cls := "LetterNightsModel", name := "plain", desc := "([I)V" } : Jvm.MethodName)) ∈ lw_all := lw_g (lw_at lw_m6 137 rfl) rfl
theorem q1483 : (Jvm.Cond.code ({ cls := "LetterNightsModel", name := "plain", desc := "([I)V" } : Jvm.MethodName) prog_17_method_4_code (2 : Nat) (Option.none : Option Jvm.ClassFile.FieldType)) ∈ lw_all := lw_g (lw_at lw_m6 138 rfl) rfl
theorem q1484 : (Jvm.Cond.fieldLink "LetterNightsModel" (1 : Nat) "LetterNightsModel" "thrown" "I") ∈ lw_all := lw_g (lw_at lw_m6 139 rfl) rfl
theorem q1485 : (Jvm.Cond.fieldLink "LetterNightsModel" (13 : Nat) "LetterNightsModel" "all" "[I") ∈ lw_all := lw_g (lw_at lw_m6 140 rfl) rfl
theorem q1486 : (Jvm.Cond.fieldLink "LetterNightsModel" (17 : Nat) "LetterNightsModel" "hasImage" "[Z") ∈ lw_all := lw_g (lw_at lw_m6 141 rfl) rfl
theorem q1487 : (Jvm.Cond.fieldLink "LetterNightsModel" (21 : Nat) "LetterNightsModel" "tape" "[I") ∈ lw_all := lw_g (lw_at lw_m6 142 rfl) rfl
theorem q1488 : (Jvm.Cond.fieldLink "LetterNightsModel" (24 : Nat) "LetterNightsModel" "fresh" "[I") ∈ lw_all := lw_g (lw_at lw_m6 143 rfl) rfl
theorem q1489 : (Jvm.Cond.fieldLink "LetterNightsModel" (107 : Nat) "LetterNightsModel" "taped" "I") ∈ lw_all := lw_g (lw_at lw_m6 144 rfl) rfl
theorem q1490 : (Jvm.Cond.fieldLink "LetterNightsModel" (125 : Nat) "LetterNightsModel" "at" "I") ∈ lw_all := lw_g (lw_at lw_m6 145 rfl) rfl
theorem q1491 : (Jvm.Cond.fieldLink "LetterNightsModel" (128 : Nat) "LetterNightsModel" "behind" "I") ∈ lw_all := lw_g (lw_at lw_m6 146 rfl) rfl
theorem q1492 : (Jvm.Cond.fieldLink "LetterNightsModel" (110 : Nat) "LetterNightsModel" "size" "I") ∈ lw_all := lw_g (lw_at lw_m6 147 rfl) rfl
theorem q1493 : (Jvm.Cond.fieldLink "LetterNightsModel" (135 : Nat) "LetterNightsModel" "kind" "I") ∈ lw_all := lw_g (lw_at lw_m6 148 rfl) rfl
theorem q1494 : (Jvm.Cond.fieldLink "LetterNightsModel" (148 : Nat) "LetterNightsModel" "number" "I") ∈ lw_all := lw_g (lw_at lw_m6 149 rfl) rfl
theorem q1495 : (Jvm.Cond.fieldLink "LetterNightsModel" (153 : Nat) "LetterNightsModel" "wrong" "I") ∈ lw_all := lw_g (lw_at lw_m6 150 rfl) rfl
theorem q1496 : (Jvm.Cond.fieldLink "LetterNightsModel" (156 : Nat) "LetterNightsModel" "wrongAt" "I") ∈ lw_all := lw_g (lw_at lw_m6 151 rfl) rfl
theorem q1497 : (Jvm.Cond.fieldLink "LetterNightsModel" (232 : Nat) "LetterNightsModel" "faultKind" "I") ∈ lw_all := lw_g (lw_at lw_m6 152 rfl) rfl
theorem q1498 : (Jvm.Cond.fieldLink "LetterNightsModel" (27 : Nat) "LetterNightsModel" "faultPlace" "I") ∈ lw_all := lw_g (lw_at lw_m6 153 rfl) rfl
theorem q1499 : (Jvm.Cond.fieldLink "LetterNightsModel" (30 : Nat) "LetterNightsModel" "spelt" "[I") ∈ lw_all := lw_g (lw_at lw_m6 154 rfl) rfl
theorem q1500 : (Jvm.Cond.fieldLink "LetterNightsModel" (33 : Nat) "LetterNightsModel" "longAt" "[J") ∈ lw_all := lw_g (lw_at lw_m6 155 rfl) rfl
theorem q1501 : (Jvm.Cond.fieldLink "LetterNightsModel" (37 : Nat) "LetterNightsModel" "ofAt" "[J") ∈ lw_all := lw_g (lw_at lw_m6 156 rfl) rfl
theorem q1502 : (Jvm.Cond.fieldLink "LetterNightsModel" (260 : Nat) "LetterNightsModel" "passed" "J") ∈ lw_all := lw_g (lw_at lw_m6 157 rfl) rfl
theorem q1503 : (Jvm.Cond.fieldLink "LetterNightsModel" (40 : Nat) "LetterNightsModel" "reckoned" "[I") ∈ lw_all := lw_g (lw_at lw_m6 158 rfl) rfl
theorem q1504 : (Jvm.Cond.fieldLink "LetterNightsModel" (43 : Nat) "LetterNightsModel" "words" "[I") ∈ lw_all := lw_g (lw_at lw_m6 159 rfl) rfl
theorem q1505 : (Jvm.Cond.fieldLink "LetterNightsModel" (46 : Nat) "LetterNightsModel" "was" "[I") ∈ lw_all := lw_g (lw_at lw_m6 160 rfl) rfl
theorem q1506 : (Jvm.Cond.fieldLink "LetterNightsModel" (309 : Nat) "LetterNightsModel" "picked" "I") ∈ lw_all := lw_g (lw_at lw_m6 161 rfl) rfl
theorem q1507 : (Jvm.Cond.fieldLink "LetterNightsModel" (338 : Nat) "LetterNightsModel" "toldWhy" "I") ∈ lw_all := lw_g (lw_at lw_m6 162 rfl) rfl
theorem q1508 : (Jvm.Cond.fieldLink "LetterNightsModel" (49 : Nat) "LetterNightsModel" "wasBy" "[I") ∈ lw_all := lw_g (lw_at lw_m6 163 rfl) rfl
theorem q1509 : (Jvm.Cond.fieldLink "LetterNightsModel" (363 : Nat) "LetterNightsModel" "x" "I") ∈ lw_all := lw_g (lw_at lw_m6 164 rfl) rfl
theorem q1510 : (Jvm.Cond.fieldLink "LetterNightsModel" (52 : Nat) "LetterNightsModel" "readTo" "[I") ∈ lw_all := lw_g (lw_at lw_m6 165 rfl) rfl
theorem q1511 : (Jvm.Cond.fieldLink "LetterNightsModel" (55 : Nat) "LetterNightsModel" "spelling" "[I") ∈ lw_all := lw_g (lw_at lw_m6 166 rfl) rfl
theorem q1512 : (Jvm.Cond.fieldLink "LetterNightsModel" (58 : Nat) "LetterNightsModel" "hits" "[J") ∈ lw_all := lw_g (lw_at lw_m6 167 rfl) rfl
theorem q1513 : (Jvm.Cond.fieldLink "LetterNightsModel" (376 : Nat) "LetterNightsModel" "spellingMany" "I") ∈ lw_all := lw_g (lw_at lw_m6 168 rfl) rfl
theorem q1514 : (Jvm.Cond.fieldLink "LetterNightsModel" (61 : Nat) "LetterNightsModel" "ways" "[I") ∈ lw_all := lw_g (lw_at lw_m6 169 rfl) rfl
theorem q1515 : (Jvm.Cond.fieldLink "LetterNightsModel" (64 : Nat) "LetterNightsModel" "reach" "[I") ∈ lw_all := lw_g (lw_at lw_m6 170 rfl) rfl
theorem q1516 : (Jvm.Cond.fieldLink "LetterNightsModel" (67 : Nat) "LetterNightsModel" "many" "[J") ∈ lw_all := lw_g (lw_at lw_m6 171 rfl) rfl
theorem q1517 : (Jvm.Cond.fieldLink "LetterNightsModel" (70 : Nat) "LetterNightsModel" "far" "[I") ∈ lw_all := lw_g (lw_at lw_m6 172 rfl) rfl
theorem q1518 : (Jvm.Cond.fieldLink "LetterNightsModel" (73 : Nat) "LetterNightsModel" "found" "[I") ∈ lw_all := lw_g (lw_at lw_m6 173 rfl) rfl
theorem q1519 : (Jvm.Cond.fieldLink "LetterNightsModel" (76 : Nat) "LetterNightsModel" "tablesIn" "[I") ∈ lw_all := lw_g (lw_at lw_m6 174 rfl) rfl
theorem q1520 : (Jvm.Cond.fieldLink "LetterNightsModel" (79 : Nat) "LetterNightsModel" "behindRow" "[J") ∈ lw_all := lw_g (lw_at lw_m6 175 rfl) rfl
theorem q1521 : (Jvm.Cond.fieldLink "LetterNightsModel" (456 : Nat) "LetterNightsModel" "longRows" "I") ∈ lw_all := lw_g (lw_at lw_m6 176 rfl) rfl
theorem q1522 : (Jvm.Cond.fieldLink "LetterNightsModel" (82 : Nat) "LetterNightsModel" "likely" "[J") ∈ lw_all := lw_g (lw_at lw_m6 177 rfl) rfl
theorem q1523 : (Jvm.Cond.fieldLink "LetterNightsModel" (85 : Nat) "LetterNightsModel" "likelyThen" "[J") ∈ lw_all := lw_g (lw_at lw_m6 178 rfl) rfl
theorem q1524 : (Jvm.Cond.fieldLink "LetterNightsModel" (88 : Nat) "LetterNightsModel" "sums" "[J") ∈ lw_all := lw_g (lw_at lw_m6 179 rfl) rfl
theorem q1525 : (Jvm.Cond.fieldLink "LetterNightsModel" (91 : Nat) "LetterNightsModel" "sumsThen" "[J") ∈ lw_all := lw_g (lw_at lw_m6 180 rfl) rfl
theorem q1526 : (Jvm.Cond.fieldLink "LetterNightsModel" (94 : Nat) "LetterNightsModel" "rowSort" "[I") ∈ lw_all := lw_g (lw_at lw_m6 181 rfl) rfl
theorem q1527 : (Jvm.Cond.fieldLink "LetterNightsModel" (97 : Nat) "LetterNightsModel" "rowMany" "[I") ∈ lw_all := lw_g (lw_at lw_m6 182 rfl) rfl
theorem q1528 : (Jvm.Cond.fieldLink "LetterNightsModel" (100 : Nat) "LetterNightsModel" "numbers" "[J") ∈ lw_all := lw_g (lw_at lw_m6 183 rfl) rfl
theorem q1529 : (Jvm.Cond.lays "LetterNightsModel" "LetterNightsModel" "thrown" "I") ∈ lw_all := lw_g (lw_at lw_m6 184 rfl) rfl
theorem q1530 : (Jvm.Cond.soleField "LetterNightsModel" "thrown") ∈ lw_all := lw_g (lw_at lw_m6 185 rfl) rfl
theorem q1531 : (Jvm.Cond.laysFinal "LetterNightsModel" "LetterNightsModel" "all" "[I") ∈ lw_all := lw_g (lw_at lw_m6 186 rfl) rfl
theorem q1532 : (Jvm.Cond.soleField "LetterNightsModel" "all") ∈ lw_all := lw_g (lw_at lw_m6 187 rfl) rfl
theorem q1533 : (Jvm.Cond.laysFinal "LetterNightsModel" "LetterNightsModel" "hasImage" "[Z") ∈ lw_all := lw_g (lw_at lw_m6 188 rfl) rfl
theorem q1534 : (Jvm.Cond.soleField "LetterNightsModel" "hasImage") ∈ lw_all := lw_g (lw_at lw_m6 189 rfl) rfl
theorem q1535 : (Jvm.Cond.laysFinal "LetterNightsModel" "LetterNightsModel" "tape" "[I") ∈ lw_all := lw_g (lw_at lw_m6 190 rfl) rfl
theorem q1536 : (Jvm.Cond.soleField "LetterNightsModel" "tape") ∈ lw_all := lw_g (lw_at lw_m6 191 rfl) rfl
theorem q1537 : (Jvm.Cond.laysFinal "LetterNightsModel" "LetterNightsModel" "fresh" "[I") ∈ lw_all := lw_g (lw_at lw_m6 192 rfl) rfl
theorem q1538 : (Jvm.Cond.soleField "LetterNightsModel" "fresh") ∈ lw_all := lw_g (lw_at lw_m6 193 rfl) rfl
theorem q1539 : (Jvm.Cond.lays "LetterNightsModel" "LetterNightsModel" "taped" "I") ∈ lw_all := lw_g (lw_at lw_m6 194 rfl) rfl
theorem q1540 : (Jvm.Cond.soleField "LetterNightsModel" "taped") ∈ lw_all := lw_g (lw_at lw_m6 195 rfl) rfl
theorem q1541 : (Jvm.Cond.lays "LetterNightsModel" "LetterNightsModel" "at" "I") ∈ lw_all := lw_g (lw_at lw_m6 196 rfl) rfl
theorem q1542 : (Jvm.Cond.soleField "LetterNightsModel" "at") ∈ lw_all := lw_g (lw_at lw_m6 197 rfl) rfl
theorem q1543 : (Jvm.Cond.lays "LetterNightsModel" "LetterNightsModel" "behind" "I") ∈ lw_all := lw_g (lw_at lw_m6 198 rfl) rfl
theorem q1544 : (Jvm.Cond.soleField "LetterNightsModel" "behind") ∈ lw_all := lw_g (lw_at lw_m6 199 rfl) rfl
theorem q1545 : (Jvm.Cond.lays "LetterNightsModel" "LetterNightsModel" "size" "I") ∈ lw_all := lw_g (lw_at lw_m6 200 rfl) rfl
theorem q1546 : (Jvm.Cond.soleField "LetterNightsModel" "size") ∈ lw_all := lw_g (lw_at lw_m6 201 rfl) rfl
theorem q1547 : (Jvm.Cond.lays "LetterNightsModel" "LetterNightsModel" "kind" "I") ∈ lw_all := lw_g (lw_at lw_m6 202 rfl) rfl
theorem q1548 : (Jvm.Cond.soleField "LetterNightsModel" "kind") ∈ lw_all := lw_g (lw_at lw_m6 203 rfl) rfl
theorem q1549 : (Jvm.Cond.lays "LetterNightsModel" "LetterNightsModel" "number" "I") ∈ lw_all := lw_g (lw_at lw_m6 204 rfl) rfl
theorem q1550 : (Jvm.Cond.soleField "LetterNightsModel" "number") ∈ lw_all := lw_g (lw_at lw_m6 205 rfl) rfl
theorem q1551 : (Jvm.Cond.lays "LetterNightsModel" "LetterNightsModel" "wrong" "I") ∈ lw_all := lw_g (lw_at lw_m6 206 rfl) rfl
theorem q1552 : (Jvm.Cond.soleField "LetterNightsModel" "wrong") ∈ lw_all := lw_g (lw_at lw_m6 207 rfl) rfl
theorem q1553 : (Jvm.Cond.lays "LetterNightsModel" "LetterNightsModel" "wrongAt" "I") ∈ lw_all := lw_g (lw_at lw_m6 208 rfl) rfl
theorem q1554 : (Jvm.Cond.soleField "LetterNightsModel" "wrongAt") ∈ lw_all := lw_g (lw_at lw_m6 209 rfl) rfl
theorem q1555 : (Jvm.Cond.lays "LetterNightsModel" "LetterNightsModel" "faultKind" "I") ∈ lw_all := lw_g (lw_at lw_m6 210 rfl) rfl
theorem q1556 : (Jvm.Cond.soleField "LetterNightsModel" "faultKind") ∈ lw_all := lw_g (lw_at lw_m6 211 rfl) rfl
theorem q1557 : (Jvm.Cond.lays "LetterNightsModel" "LetterNightsModel" "faultPlace" "I") ∈ lw_all := lw_g (lw_at lw_m6 212 rfl) rfl
theorem q1558 : (Jvm.Cond.soleField "LetterNightsModel" "faultPlace") ∈ lw_all := lw_g (lw_at lw_m6 213 rfl) rfl
theorem q1559 : (Jvm.Cond.laysFinal "LetterNightsModel" "LetterNightsModel" "spelt" "[I") ∈ lw_all := lw_g (lw_at lw_m6 214 rfl) rfl
theorem q1560 : (Jvm.Cond.soleField "LetterNightsModel" "spelt") ∈ lw_all := lw_g (lw_at lw_m6 215 rfl) rfl
theorem q1561 : (Jvm.Cond.laysFinal "LetterNightsModel" "LetterNightsModel" "longAt" "[J") ∈ lw_all := lw_g (lw_at lw_m6 216 rfl) rfl
theorem q1562 : (Jvm.Cond.soleField "LetterNightsModel" "longAt") ∈ lw_all := lw_g (lw_at lw_m6 217 rfl) rfl
theorem q1563 : (Jvm.Cond.laysFinal "LetterNightsModel" "LetterNightsModel" "ofAt" "[J") ∈ lw_all := lw_g (lw_at lw_m6 218 rfl) rfl
theorem q1564 : (Jvm.Cond.soleField "LetterNightsModel" "ofAt") ∈ lw_all := lw_g (lw_at lw_m6 219 rfl) rfl
theorem q1565 : (Jvm.Cond.lays "LetterNightsModel" "LetterNightsModel" "passed" "J") ∈ lw_all := lw_g (lw_at lw_m6 220 rfl) rfl
theorem q1566 : (Jvm.Cond.soleField "LetterNightsModel" "passed") ∈ lw_all := lw_g (lw_at lw_m6 221 rfl) rfl
theorem q1567 : (Jvm.Cond.laysFinal "LetterNightsModel" "LetterNightsModel" "reckoned" "[I") ∈ lw_all := lw_g (lw_at lw_m6 222 rfl) rfl
theorem q1568 : (Jvm.Cond.soleField "LetterNightsModel" "reckoned") ∈ lw_all := lw_g (lw_at lw_m6 223 rfl) rfl
theorem q1569 : (Jvm.Cond.laysFinal "LetterNightsModel" "LetterNightsModel" "words" "[I") ∈ lw_all := lw_g (lw_at lw_m6 224 rfl) rfl
theorem q1570 : (Jvm.Cond.soleField "LetterNightsModel" "words") ∈ lw_all := lw_g (lw_at lw_m6 225 rfl) rfl
theorem q1571 : (Jvm.Cond.laysFinal "LetterNightsModel" "LetterNightsModel" "was" "[I") ∈ lw_all := lw_g (lw_at lw_m6 226 rfl) rfl
theorem q1572 : (Jvm.Cond.soleField "LetterNightsModel" "was") ∈ lw_all := lw_g (lw_at lw_m6 227 rfl) rfl
theorem q1573 : (Jvm.Cond.lays "LetterNightsModel" "LetterNightsModel" "picked" "I") ∈ lw_all := lw_g (lw_at lw_m6 228 rfl) rfl
theorem q1574 : (Jvm.Cond.soleField "LetterNightsModel" "picked") ∈ lw_all := lw_g (lw_at lw_m6 229 rfl) rfl
theorem q1575 : (Jvm.Cond.lays "LetterNightsModel" "LetterNightsModel" "toldWhy" "I") ∈ lw_all := lw_g (lw_at lw_m6 230 rfl) rfl
theorem q1576 : (Jvm.Cond.soleField "LetterNightsModel" "toldWhy") ∈ lw_all := lw_g (lw_at lw_m6 231 rfl) rfl
theorem q1577 : (Jvm.Cond.laysFinal "LetterNightsModel" "LetterNightsModel" "wasBy" "[I") ∈ lw_all := lw_g (lw_at lw_m6 232 rfl) rfl
theorem q1578 : (Jvm.Cond.soleField "LetterNightsModel" "wasBy") ∈ lw_all := lw_g (lw_at lw_m6 233 rfl) rfl
theorem q1579 : (Jvm.Cond.lays "LetterNightsModel" "LetterNightsModel" "x" "I") ∈ lw_all := lw_g (lw_at lw_m6 234 rfl) rfl
theorem q1580 : (Jvm.Cond.soleField "LetterNightsModel" "x") ∈ lw_all := lw_g (lw_at lw_m6 235 rfl) rfl
theorem q1581 : (Jvm.Cond.laysFinal "LetterNightsModel" "LetterNightsModel" "readTo" "[I") ∈ lw_all := lw_g (lw_at lw_m6 236 rfl) rfl
theorem q1582 : (Jvm.Cond.soleField "LetterNightsModel" "readTo") ∈ lw_all := lw_g (lw_at lw_m6 237 rfl) rfl
theorem q1583 : (Jvm.Cond.laysFinal "LetterNightsModel" "LetterNightsModel" "spelling" "[I") ∈ lw_all := lw_g (lw_at lw_m6 238 rfl) rfl
theorem q1584 : (Jvm.Cond.soleField "LetterNightsModel" "spelling") ∈ lw_all := lw_g (lw_at lw_m6 239 rfl) rfl
theorem q1585 : (Jvm.Cond.laysFinal "LetterNightsModel" "LetterNightsModel" "hits" "[J") ∈ lw_all := lw_g (lw_at lw_m7 0 rfl) rfl
theorem q1586 : (Jvm.Cond.soleField "LetterNightsModel" "hits") ∈ lw_all := lw_g (lw_at lw_m7 1 rfl) rfl
theorem q1587 : (Jvm.Cond.lays "LetterNightsModel" "LetterNightsModel" "spellingMany" "I") ∈ lw_all := lw_g (lw_at lw_m7 2 rfl) rfl
theorem q1588 : (Jvm.Cond.soleField "LetterNightsModel" "spellingMany") ∈ lw_all := lw_g (lw_at lw_m7 3 rfl) rfl
theorem q1589 : (Jvm.Cond.laysFinal "LetterNightsModel" "LetterNightsModel" "ways" "[I") ∈ lw_all := lw_g (lw_at lw_m7 4 rfl) rfl
theorem q1590 : (Jvm.Cond.soleField "LetterNightsModel" "ways") ∈ lw_all := lw_g (lw_at lw_m7 5 rfl) rfl
theorem q1591 : (Jvm.Cond.laysFinal "LetterNightsModel" "LetterNightsModel" "reach" "[I") ∈ lw_all := lw_g (lw_at lw_m7 6 rfl) rfl
theorem q1592 : (Jvm.Cond.soleField "LetterNightsModel" "reach") ∈ lw_all := lw_g (lw_at lw_m7 7 rfl) rfl
theorem q1593 : (Jvm.Cond.laysFinal "LetterNightsModel" "LetterNightsModel" "many" "[J") ∈ lw_all := lw_g (lw_at lw_m7 8 rfl) rfl
theorem q1594 : (Jvm.Cond.soleField "LetterNightsModel" "many") ∈ lw_all := lw_g (lw_at lw_m7 9 rfl) rfl
theorem q1595 : (Jvm.Cond.laysFinal "LetterNightsModel" "LetterNightsModel" "far" "[I") ∈ lw_all := lw_g (lw_at lw_m7 10 rfl) rfl
theorem q1596 : (Jvm.Cond.soleField "LetterNightsModel" "far") ∈ lw_all := lw_g (lw_at lw_m7 11 rfl) rfl
theorem q1597 : (Jvm.Cond.laysFinal "LetterNightsModel" "LetterNightsModel" "found" "[I") ∈ lw_all := lw_g (lw_at lw_m7 12 rfl) rfl
theorem q1598 : (Jvm.Cond.soleField "LetterNightsModel" "found") ∈ lw_all := lw_g (lw_at lw_m7 13 rfl) rfl
theorem q1599 : (Jvm.Cond.laysFinal "LetterNightsModel" "LetterNightsModel" "tablesIn" "[I") ∈ lw_all := lw_g (lw_at lw_m7 14 rfl) rfl
theorem q1600 : (Jvm.Cond.soleField "LetterNightsModel" "tablesIn") ∈ lw_all := lw_g (lw_at lw_m7 15 rfl) rfl
theorem q1601 : (Jvm.Cond.laysFinal "LetterNightsModel" "LetterNightsModel" "behindRow" "[J") ∈ lw_all := lw_g (lw_at lw_m7 16 rfl) rfl
theorem q1602 : (Jvm.Cond.soleField "LetterNightsModel" "behindRow") ∈ lw_all := lw_g (lw_at lw_m7 17 rfl) rfl
theorem q1603 : (Jvm.Cond.lays "LetterNightsModel" "LetterNightsModel" "longRows" "I") ∈ lw_all := lw_g (lw_at lw_m7 18 rfl) rfl
theorem q1604 : (Jvm.Cond.soleField "LetterNightsModel" "longRows") ∈ lw_all := lw_g (lw_at lw_m7 19 rfl) rfl
theorem q1605 : (Jvm.Cond.laysFinal "LetterNightsModel" "LetterNightsModel" "likely" "[J") ∈ lw_all := lw_g (lw_at lw_m7 20 rfl) rfl
theorem q1606 : (Jvm.Cond.soleField "LetterNightsModel" "likely") ∈ lw_all := lw_g (lw_at lw_m7 21 rfl) rfl
theorem q1607 : (Jvm.Cond.laysFinal "LetterNightsModel" "LetterNightsModel" "likelyThen" "[J") ∈ lw_all := lw_g (lw_at lw_m7 22 rfl) rfl
theorem q1608 : (Jvm.Cond.soleField "LetterNightsModel" "likelyThen") ∈ lw_all := lw_g (lw_at lw_m7 23 rfl) rfl
theorem q1609 : (Jvm.Cond.laysFinal "LetterNightsModel" "LetterNightsModel" "sums" "[J") ∈ lw_all := lw_g (lw_at lw_m7 24 rfl) rfl
theorem q1610 : (Jvm.Cond.soleField "LetterNightsModel" "sums") ∈ lw_all := lw_g (lw_at lw_m7 25 rfl) rfl
theorem q1611 : (Jvm.Cond.laysFinal "LetterNightsModel" "LetterNightsModel" "sumsThen" "[J") ∈ lw_all := lw_g (lw_at lw_m7 26 rfl) rfl
theorem q1612 : (Jvm.Cond.soleField "LetterNightsModel" "sumsThen") ∈ lw_all := lw_g (lw_at lw_m7 27 rfl) rfl
theorem q1613 : (Jvm.Cond.laysFinal "LetterNightsModel" "LetterNightsModel" "rowSort" "[I") ∈ lw_all := lw_g (lw_at lw_m7 28 rfl) rfl
theorem q1614 : (Jvm.Cond.soleField "LetterNightsModel" "rowSort") ∈ lw_all := lw_g (lw_at lw_m7 29 rfl) rfl
theorem q1615 : (Jvm.Cond.laysFinal "LetterNightsModel" "LetterNightsModel" "rowMany" "[I") ∈ lw_all := lw_g (lw_at lw_m7 30 rfl) rfl
theorem q1616 : (Jvm.Cond.soleField "LetterNightsModel" "rowMany") ∈ lw_all := lw_g (lw_at lw_m7 31 rfl) rfl
theorem q1617 : (Jvm.Cond.laysFinal "LetterNightsModel" "LetterNightsModel" "numbers" "[J") ∈ lw_all := lw_g (lw_at lw_m7 32 rfl) rfl
theorem q1618 : (Jvm.Cond.soleField "LetterNightsModel" "numbers") ∈ lw_all := lw_g (lw_at lw_m7 33 rfl) rfl
theorem q1619 : (Jvm.Cond.superclass "LetterNightsModel" "java/lang/Object") ∈ lw_all := lw_g (lw_at lw_m7 34 rfl) rfl
theorem q1622 : (Jvm.Cond.instanceMethod ({ cls := "LetterNightsModel", name := "feed", desc := "(IIIII)I" } : Jvm.MethodName)) ∈ lw_all := lw_g (lw_at lw_m7 37 rfl) rfl
theorem q1623 : (Jvm.Cond.selects "LetterNightsModel" ({ cls := "LetterNightsModel", name := "feed", desc := "(IIIII)I" } : Jvm.MethodName) ({ cls := "LetterNightsModel", name := "feed", desc := "(IIIII)I" } : Jvm.MethodName)) ∈ lw_all := lw_g (lw_at lw_m7 38 rfl) rfl
theorem q1624 : (Jvm.Cond.code ({ cls := "LetterNightsModel", name := "feed", desc := "(IIIII)I" } : Jvm.MethodName) prog_17_method_5_code (8 : Nat) (Option.some Jvm.ClassFile.FieldType.int)) ∈ lw_all := lw_g (lw_at lw_m7 39 rfl) rfl
theorem q1626 : (Jvm.Cond.instanceMethod ({ cls := "LetterNightsModel", name := "street", desc := "(I)I" } : Jvm.MethodName)) ∈ lw_all := lw_g (lw_at lw_m7 41 rfl) rfl
theorem q1627 : (Jvm.Cond.selects "LetterNightsModel" ({ cls := "LetterNightsModel", name := "street", desc := "(I)I" } : Jvm.MethodName) ({ cls := "LetterNightsModel", name := "street", desc := "(I)I" } : Jvm.MethodName)) ∈ lw_all := lw_g (lw_at lw_m7 42 rfl) rfl
theorem q1628 : (Jvm.Cond.code ({ cls := "LetterNightsModel", name := "street", desc := "(I)I" } : Jvm.MethodName) prog_17_method_33_code (3 : Nat) (Option.some Jvm.ClassFile.FieldType.int)) ∈ lw_all := lw_g (lw_at lw_m7 43 rfl) rfl
theorem q1629 : (Jvm.Cond.methodLink "LetterNightsModel" (169 : Nat) ({ cls := "LetterNightsModel", name := "within", desc := "(JJJ)Z" } : Jvm.MethodName)) ∈ lw_all := lw_g (lw_at lw_m7 44 rfl) rfl
theorem q1630 : (Jvm.Cond.static ({ cls := "LetterNightsModel", name := "within", desc := "(JJJ)Z" } : Jvm.MethodName)) ∈ lw_all := lw_g (lw_at lw_m7 45 rfl) rfl
theorem q1631 : (Jvm.Cond.code ({ cls := "LetterNightsModel", name := "within", desc := "(JJJ)Z" } : Jvm.MethodName) prog_17_method_2_code (6 : Nat) (Option.some Jvm.ClassFile.FieldType.boolean)) ∈ lw_all := lw_g (lw_at lw_m7 46 rfl) rfl
theorem q1632 : (Jvm.Cond.methodLink "LetterNightsModel" (162 : Nat) ({ cls := "LetterNightsModel", name := "next", desc := "()V" } : Jvm.MethodName)) ∈ lw_all := lw_g (lw_at lw_m7 47 rfl) rfl
theorem q1633 : (Jvm.Cond.privateMethod ({ cls := "LetterNightsModel", name := "next", desc := "()V" } : Jvm.MethodName)) ∈ lw_tbl := lw_at lw_m7 48 rfl
theorem q1634 : (Jvm.Cond.instanceMethod ({ cls := "LetterNightsModel", name := "next", desc := "()V" } : Jvm.MethodName)) ∈ lw_all := lw_g (lw_at lw_m7 49 rfl) rfl
theorem q1635 : (Jvm.Cond.code ({ cls := "LetterNightsModel", name := "next", desc := "()V" } : Jvm.MethodName) prog_17_method_10_code (2 : Nat) (Option.none : Option Jvm.ClassFile.FieldType)) ∈ lw_all := lw_g (lw_at lw_m7 50 rfl) rfl
theorem q1636 : (Jvm.Cond.methodLink "LetterNightsModel" (131 : Nat) ({ cls := "LetterNightsModel", name := "see", desc := "(I)I" } : Jvm.MethodName)) ∈ lw_all := lw_g (lw_at lw_m7 51 rfl) rfl
theorem q1637 : (Jvm.Cond.privateMethod ({ cls := "LetterNightsModel", name := "see", desc := "(I)I" } : Jvm.MethodName)) ∈ lw_tbl := lw_at lw_m7 52 rfl
theorem q1638 : (Jvm.Cond.instanceMethod ({ cls := "LetterNightsModel", name := "see", desc := "(I)I" } : Jvm.MethodName)) ∈ lw_all := lw_g (lw_at lw_m7 53 rfl) rfl
theorem q1639 : (Jvm.Cond.code ({ cls := "LetterNightsModel", name := "see", desc := "(I)I" } : Jvm.MethodName) prog_17_method_6_code (2 : Nat) (Option.some Jvm.ClassFile.FieldType.int)) ∈ lw_all := lw_g (lw_at lw_m7 54 rfl) rfl
theorem q1640 : (Jvm.Cond.methodLink "LetterNightsModel" (138 : Nat) ({ cls := "LetterNightsModel", name := "isSmall", desc := "(I)Z" } : Jvm.MethodName)) ∈ lw_all := lw_g (lw_at lw_m7 55 rfl) rfl
theorem q1641 : (Jvm.Cond.static ({ cls := "LetterNightsModel", name := "isSmall", desc := "(I)Z" } : Jvm.MethodName)) ∈ lw_all := lw_g (lw_at lw_m7 56 rfl) rfl
theorem q1642 : (Jvm.Cond.code ({ cls := "LetterNightsModel", name := "isSmall", desc := "(I)Z" } : Jvm.MethodName) prog_17_method_7_code (1 : Nat) (Option.some Jvm.ClassFile.FieldType.boolean)) ∈ lw_all := lw_g (lw_at lw_m7 57 rfl) rfl
theorem q1643 : (Jvm.Cond.methodLink "LetterNightsModel" (142 : Nat) ({ cls := "LetterNightsModel", name := "keyAt", desc := "()I" } : Jvm.MethodName)) ∈ lw_all := lw_g (lw_at lw_m7 58 rfl) rfl
theorem q1644 : (Jvm.Cond.privateMethod ({ cls := "LetterNightsModel", name := "keyAt", desc := "()I" } : Jvm.MethodName)) ∈ lw_tbl := lw_at lw_m7 59 rfl
theorem q1645 : (Jvm.Cond.instanceMethod ({ cls := "LetterNightsModel", name := "keyAt", desc := "()I" } : Jvm.MethodName)) ∈ lw_all := lw_g (lw_at lw_m7 60 rfl) rfl
theorem q1646 : (Jvm.Cond.code ({ cls := "LetterNightsModel", name := "keyAt", desc := "()I" } : Jvm.MethodName) prog_17_method_9_code (4 : Nat) (Option.some Jvm.ClassFile.FieldType.int)) ∈ lw_all := lw_g (lw_at lw_m7 61 rfl) rfl
theorem q1647 : (Jvm.Cond.stringRef "LetterNightsModel" (113 : Nat) " street tables moon stands rule nothing picks sleeps if then else end night front back rest and or not ") ∈ lw_tbl := lw_at lw_m7 62 rfl
theorem q1648 : (Jvm.Cond.methodLink "LetterNightsModel" (115 : Nat) ({ cls := "java/lang/String", name := "length", desc := "()I" } : Jvm.MethodName)) ∈ lw_all := lw_g (lw_at lw_m7 63 rfl) rfl
theorem q1649 : (Jvm.Cond.methodLink "LetterNightsModel" (121 : Nat) ({ cls := "java/lang/String", name := "charAt", desc := "(I)C" } : Jvm.MethodName)) ∈ lw_all := lw_g (lw_at lw_m7 64 rfl) rfl
theorem q1650 : (Jvm.Cond.methodLink "LetterNightsModel" (145 : Nat) ({ cls := "LetterNightsModel", name := "isDigit", desc := "(I)Z" } : Jvm.MethodName)) ∈ lw_all := lw_g (lw_at lw_m7 65 rfl) rfl
theorem q1651 : (Jvm.Cond.static ({ cls := "LetterNightsModel", name := "isDigit", desc := "(I)Z" } : Jvm.MethodName)) ∈ lw_all := lw_g (lw_at lw_m7 66 rfl) rfl
theorem q1652 : (Jvm.Cond.code ({ cls := "LetterNightsModel", name := "isDigit", desc := "(I)Z" } : Jvm.MethodName) prog_17_method_8_code (1 : Nat) (Option.some Jvm.ClassFile.FieldType.boolean)) ∈ lw_all := lw_g (lw_at lw_m7 67 rfl) rfl
theorem q1653 : (Jvm.Cond.stringRef "LetterNightsModel" (151 : Nat) ";:+-*()[]=<>") ∈ lw_tbl := lw_at lw_m7 68 rfl
theorem q1654 : (Jvm.Cond.methodLink "LetterNightsModel" (185 : Nat) ({ cls := "LetterNightsModel", name := "eats", desc := "(I)Z" } : Jvm.MethodName)) ∈ lw_all := lw_g (lw_at lw_m7 69 rfl) rfl
theorem q1655 : (Jvm.Cond.privateMethod ({ cls := "LetterNightsModel", name := "eats", desc := "(I)Z" } : Jvm.MethodName)) ∈ lw_tbl := lw_at lw_m7 70 rfl
theorem q1656 : (Jvm.Cond.instanceMethod ({ cls := "LetterNightsModel", name := "eats", desc := "(I)Z" } : Jvm.MethodName)) ∈ lw_all := lw_g (lw_at lw_m7 71 rfl) rfl
theorem q1657 : (Jvm.Cond.code ({ cls := "LetterNightsModel", name := "eats", desc := "(I)Z" } : Jvm.MethodName) prog_17_method_13_code (2 : Nat) (Option.some Jvm.ClassFile.FieldType.boolean)) ∈ lw_all := lw_g (lw_at lw_m7 72 rfl) rfl
theorem q1658 : (Jvm.Cond.methodLink "LetterNightsModel" (159 : Nat) ({ cls := "LetterNightsModel", name := "is", desc := "(I)Z" } : Jvm.MethodName)) ∈ lw_all := lw_g (lw_at lw_m7 73 rfl) rfl
theorem q1659 : (Jvm.Cond.privateMethod ({ cls := "LetterNightsModel", name := "is", desc := "(I)Z" } : Jvm.MethodName)) ∈ lw_tbl := lw_at lw_m7 74 rfl
theorem q1660 : (Jvm.Cond.instanceMethod ({ cls := "LetterNightsModel", name := "is", desc := "(I)Z" } : Jvm.MethodName)) ∈ lw_all := lw_g (lw_at lw_m7 75 rfl) rfl
theorem q1661 : (Jvm.Cond.code ({ cls := "LetterNightsModel", name := "is", desc := "(I)Z" } : Jvm.MethodName) prog_17_method_12_code (2 : Nat) (Option.some Jvm.ClassFile.FieldType.boolean)) ∈ lw_all := lw_g (lw_at lw_m7 76 rfl) rfl
theorem q1662 : (Jvm.Cond.methodLink "LetterNightsModel" (165 : Nat) ({ cls := "LetterNightsModel", name := "fails", desc := "(I)V" } : Jvm.MethodName)) ∈ lw_all := lw_g (lw_at lw_m7 77 rfl) rfl
theorem q1663 : (Jvm.Cond.privateMethod ({ cls := "LetterNightsModel", name := "fails", desc := "(I)V" } : Jvm.MethodName)) ∈ lw_tbl := lw_at lw_m7 78 rfl
theorem q1664 : (Jvm.Cond.instanceMethod ({ cls := "LetterNightsModel", name := "fails", desc := "(I)V" } : Jvm.MethodName)) ∈ lw_all := lw_g (lw_at lw_m7 79 rfl) rfl
theorem q1665 : (Jvm.Cond.code ({ cls := "LetterNightsModel", name := "fails", desc := "(I)V" } : Jvm.MethodName) prog_17_method_11_code (2 : Nat) (Option.none : Option Jvm.ClassFile.FieldType)) ∈ lw_all := lw_g (lw_at lw_m7 80 rfl) rfl
theorem q1666 : (Jvm.Cond.methodLink "LetterNightsModel" (222 : Nat) ({ cls := "LetterNightsModel", name := "named", desc := "(III)I" } : Jvm.MethodName)) ∈ lw_all := lw_g (lw_at lw_m7 81 rfl) rfl
theorem q1667 : (Jvm.Cond.privateMethod ({ cls := "LetterNightsModel", name := "named", desc := "(III)I" } : Jvm.MethodName)) ∈ lw_tbl := lw_at lw_m7 82 rfl
theorem q1668 : (Jvm.Cond.instanceMethod ({ cls := "LetterNightsModel", name := "named", desc := "(III)I" } : Jvm.MethodName)) ∈ lw_all := lw_g (lw_at lw_m7 83 rfl) rfl
theorem q1669 : (Jvm.Cond.code ({ cls := "LetterNightsModel", name := "named", desc := "(III)I" } : Jvm.MethodName) prog_17_method_26_code (4 : Nat) (Option.some Jvm.ClassFile.FieldType.int)) ∈ lw_all := lw_g (lw_at lw_m7 84 rfl) rfl
theorem q1670 : (Jvm.Cond.methodLink "LetterNightsModel" (206 : Nat) ({ cls := "LetterNightsModel", name := "takes", desc := "(II)I" } : Jvm.MethodName)) ∈ lw_all := lw_g (lw_at lw_m7 85 rfl) rfl
theorem q1671 : (Jvm.Cond.privateMethod ({ cls := "LetterNightsModel", name := "takes", desc := "(II)I" } : Jvm.MethodName)) ∈ lw_tbl := lw_at lw_m7 86 rfl
theorem q1672 : (Jvm.Cond.instanceMethod ({ cls := "LetterNightsModel", name := "takes", desc := "(II)I" } : Jvm.MethodName)) ∈ lw_all := lw_g (lw_at lw_m7 87 rfl) rfl
theorem q1673 : (Jvm.Cond.code ({ cls := "LetterNightsModel", name := "takes", desc := "(II)I" } : Jvm.MethodName) prog_17_method_14_code (4 : Nat) (Option.some Jvm.ClassFile.FieldType.int)) ∈ lw_all := lw_g (lw_at lw_m7 88 rfl) rfl
theorem q1674 : (Jvm.Cond.methodLink "LetterNightsModel" (226 : Nat) ({ cls := "LetterNightsModel", name := "closes", desc := "()V" } : Jvm.MethodName)) ∈ lw_all := lw_g (lw_at lw_m7 89 rfl) rfl
theorem q1675 : (Jvm.Cond.privateMethod ({ cls := "LetterNightsModel", name := "closes", desc := "()V" } : Jvm.MethodName)) ∈ lw_tbl := lw_at lw_m7 90 rfl
theorem q1676 : (Jvm.Cond.instanceMethod ({ cls := "LetterNightsModel", name := "closes", desc := "()V" } : Jvm.MethodName)) ∈ lw_all := lw_g (lw_at lw_m7 91 rfl) rfl
theorem q1677 : (Jvm.Cond.code ({ cls := "LetterNightsModel", name := "closes", desc := "()V" } : Jvm.MethodName) prog_17_method_32_code (1 : Nat) (Option.none : Option Jvm.ClassFile.FieldType)) ∈ lw_all := lw_g (lw_at lw_m7 92 rfl) rfl
theorem q1678 : (Jvm.Cond.methodLink "LetterNightsModel" (229 : Nat) ({ cls := "LetterNightsModel", name := "readLine", desc := "()V" } : Jvm.MethodName)) ∈ lw_all := lw_g (lw_at lw_m7 93 rfl) rfl
theorem q1679 : (Jvm.Cond.privateMethod ({ cls := "LetterNightsModel", name := "readLine", desc := "()V" } : Jvm.MethodName)) ∈ lw_tbl := lw_at lw_m7 94 rfl
theorem q1680 : (Jvm.Cond.instanceMethod ({ cls := "LetterNightsModel", name := "readLine", desc := "()V" } : Jvm.MethodName)) ∈ lw_all := lw_g (lw_at lw_m7 95 rfl) rfl
theorem q1681 : (Jvm.Cond.code ({ cls := "LetterNightsModel", name := "readLine", desc := "()V" } : Jvm.MethodName) prog_17_method_31_code (1 : Nat) (Option.none : Option Jvm.ClassFile.FieldType)) ∈ lw_all := lw_g (lw_at lw_m7 96 rfl) rfl
theorem q1682 : (Jvm.Cond.methodLink "LetterNightsModel" (213 : Nat) ({ cls := "LetterNightsModel", name := "readStands", desc := "()V" } : Jvm.MethodName)) ∈ lw_all := lw_g (lw_at lw_m7 97 rfl) rfl
theorem q1683 : (Jvm.Cond.privateMethod ({ cls := "LetterNightsModel", name := "readStands", desc := "()V" } : Jvm.MethodName)) ∈ lw_tbl := lw_at lw_m7 98 rfl
theorem q1684 : (Jvm.Cond.instanceMethod ({ cls := "LetterNightsModel", name := "readStands", desc := "()V" } : Jvm.MethodName)) ∈ lw_all := lw_g (lw_at lw_m7 99 rfl) rfl
theorem q1685 : (Jvm.Cond.code ({ cls := "LetterNightsModel", name := "readStands", desc := "()V" } : Jvm.MethodName) prog_17_method_28_code (3 : Nat) (Option.none : Option Jvm.ClassFile.FieldType)) ∈ lw_all := lw_g (lw_at lw_m7 100 rfl) rfl
theorem q1686 : (Jvm.Cond.methodLink "LetterNightsModel" (210 : Nat) ({ cls := "LetterNightsModel", name := "spells", desc := "(I)I" } : Jvm.MethodName)) ∈ lw_all := lw_g (lw_at lw_m7 101 rfl) rfl
theorem q1687 : (Jvm.Cond.privateMethod ({ cls := "LetterNightsModel", name := "spells", desc := "(I)I" } : Jvm.MethodName)) ∈ lw_tbl := lw_at lw_m7 102 rfl
theorem q1688 : (Jvm.Cond.instanceMethod ({ cls := "LetterNightsModel", name := "spells", desc := "(I)I" } : Jvm.MethodName)) ∈ lw_all := lw_g (lw_at lw_m7 103 rfl) rfl
theorem q1689 : (Jvm.Cond.code ({ cls := "LetterNightsModel", name := "spells", desc := "(I)I" } : Jvm.MethodName) prog_17_method_27_code (5 : Nat) (Option.some Jvm.ClassFile.FieldType.int)) ∈ lw_all := lw_g (lw_at lw_m7 104 rfl) rfl
theorem q1690 : (Jvm.Cond.methodLink "LetterNightsModel" (216 : Nat) ({ cls := "LetterNightsModel", name := "readRule", desc := "()V" } : Jvm.MethodName)) ∈ lw_all := lw_g (lw_at lw_m7 105 rfl) rfl
theorem q1691 : (Jvm.Cond.privateMethod ({ cls := "LetterNightsModel", name := "readRule", desc := "()V" } : Jvm.MethodName)) ∈ lw_tbl := lw_at lw_m7 106 rfl
theorem q1692 : (Jvm.Cond.instanceMethod ({ cls := "LetterNightsModel", name := "readRule", desc := "()V" } : Jvm.MethodName)) ∈ lw_all := lw_g (lw_at lw_m7 107 rfl) rfl
theorem q1693 : (Jvm.Cond.code ({ cls := "LetterNightsModel", name := "readRule", desc := "()V" } : Jvm.MethodName) prog_17_method_29_code (5 : Nat) (Option.none : Option Jvm.ClassFile.FieldType)) ∈ lw_all := lw_g (lw_at lw_m7 108 rfl) rfl
theorem q1694 : (Jvm.Cond.methodLink "LetterNightsModel" (219 : Nat) ({ cls := "LetterNightsModel", name := "readLaw", desc := "(I)V" } : Jvm.MethodName)) ∈ lw_all := lw_g (lw_at lw_m7 109 rfl) rfl
theorem q1695 : (Jvm.Cond.privateMethod ({ cls := "LetterNightsModel", name := "readLaw", desc := "(I)V" } : Jvm.MethodName)) ∈ lw_tbl := lw_at lw_m7 110 rfl
theorem q1696 : (Jvm.Cond.instanceMethod ({ cls := "LetterNightsModel", name := "readLaw", desc := "(I)V" } : Jvm.MethodName)) ∈ lw_all := lw_g (lw_at lw_m7 111 rfl) rfl
theorem q1697 : (Jvm.Cond.code ({ cls := "LetterNightsModel", name := "readLaw", desc := "(I)V" } : Jvm.MethodName) prog_17_method_30_code (3 : Nat) (Option.none : Option Jvm.ClassFile.FieldType)) ∈ lw_all := lw_g (lw_at lw_m7 112 rfl) rfl
theorem q1698 : (Jvm.Cond.methodLink "LetterNightsModel" (182 : Nat) ({ cls := "LetterNightsModel", name := "readSum", desc := "(I)V" } : Jvm.MethodName)) ∈ lw_all := lw_g (lw_at lw_m7 113 rfl) rfl
theorem q1699 : (Jvm.Cond.privateMethod ({ cls := "LetterNightsModel", name := "readSum", desc := "(I)V" } : Jvm.MethodName)) ∈ lw_tbl := lw_at lw_m7 114 rfl
theorem q1700 : (Jvm.Cond.instanceMethod ({ cls := "LetterNightsModel", name := "readSum", desc := "(I)V" } : Jvm.MethodName)) ∈ lw_all := lw_g (lw_at lw_m7 115 rfl) rfl
theorem q1701 : (Jvm.Cond.code ({ cls := "LetterNightsModel", name := "readSum", desc := "(I)V" } : Jvm.MethodName) prog_17_method_22_code (3 : Nat) (Option.none : Option Jvm.ClassFile.FieldType)) ∈ lw_all := lw_g (lw_at lw_m7 116 rfl) rfl
theorem q1702 : (Jvm.Cond.methodLink "LetterNightsModel" (197 : Nat) ({ cls := "LetterNightsModel", name := "readTerm", desc := "(I)V" } : Jvm.MethodName)) ∈ lw_all := lw_g (lw_at lw_m7 117 rfl) rfl
theorem q1703 : (Jvm.Cond.privateMethod ({ cls := "LetterNightsModel", name := "readTerm", desc := "(I)V" } : Jvm.MethodName)) ∈ lw_tbl := lw_at lw_m7 118 rfl
theorem q1704 : (Jvm.Cond.instanceMethod ({ cls := "LetterNightsModel", name := "readTerm", desc := "(I)V" } : Jvm.MethodName)) ∈ lw_all := lw_g (lw_at lw_m7 119 rfl) rfl
theorem q1705 : (Jvm.Cond.code ({ cls := "LetterNightsModel", name := "readTerm", desc := "(I)V" } : Jvm.MethodName) prog_17_method_21_code (2 : Nat) (Option.none : Option Jvm.ClassFile.FieldType)) ∈ lw_all := lw_g (lw_at lw_m7 120 rfl) rfl
theorem q1706 : (Jvm.Cond.methodLink "LetterNightsModel" (194 : Nat) ({ cls := "LetterNightsModel", name := "readAtom", desc := "(I)V" } : Jvm.MethodName)) ∈ lw_all := lw_g (lw_at lw_m7 121 rfl) rfl
theorem q1707 : (Jvm.Cond.privateMethod ({ cls := "LetterNightsModel", name := "readAtom", desc := "(I)V" } : Jvm.MethodName)) ∈ lw_tbl := lw_at lw_m7 122 rfl
theorem q1708 : (Jvm.Cond.instanceMethod ({ cls := "LetterNightsModel", name := "readAtom", desc := "(I)V" } : Jvm.MethodName)) ∈ lw_all := lw_g (lw_at lw_m7 123 rfl) rfl
theorem q1709 : (Jvm.Cond.code ({ cls := "LetterNightsModel", name := "readAtom", desc := "(I)V" } : Jvm.MethodName) prog_17_method_19_code (2 : Nat) (Option.none : Option Jvm.ClassFile.FieldType)) ∈ lw_all := lw_g (lw_at lw_m7 124 rfl) rfl
theorem q1710 : (Jvm.Cond.methodLink "LetterNightsModel" (173 : Nat) ({ cls := "LetterNightsModel", name := "codes", desc := "(I)V" } : Jvm.MethodName)) ∈ lw_all := lw_g (lw_at lw_m7 125 rfl) rfl
theorem q1711 : (Jvm.Cond.privateMethod ({ cls := "LetterNightsModel", name := "codes", desc := "(I)V" } : Jvm.MethodName)) ∈ lw_tbl := lw_at lw_m7 126 rfl
theorem q1712 : (Jvm.Cond.instanceMethod ({ cls := "LetterNightsModel", name := "codes", desc := "(I)V" } : Jvm.MethodName)) ∈ lw_all := lw_g (lw_at lw_m7 127 rfl) rfl
theorem q1713 : (Jvm.Cond.code ({ cls := "LetterNightsModel", name := "codes", desc := "(I)V" } : Jvm.MethodName) prog_17_method_17_code (2 : Nat) (Option.none : Option Jvm.ClassFile.FieldType)) ∈ lw_all := lw_g (lw_at lw_m7 128 rfl) rfl
theorem q1714 : (Jvm.Cond.methodLink "LetterNightsModel" (176 : Nat) ({ cls := "LetterNightsModel", name := "wordOf", desc := "(I)I" } : Jvm.MethodName)) ∈ lw_all := lw_g (lw_at lw_m7 129 rfl) rfl
theorem q1715 : (Jvm.Cond.privateMethod ({ cls := "LetterNightsModel", name := "wordOf", desc := "(I)I" } : Jvm.MethodName)) ∈ lw_tbl := lw_at lw_m7 130 rfl
theorem q1716 : (Jvm.Cond.instanceMethod ({ cls := "LetterNightsModel", name := "wordOf", desc := "(I)I" } : Jvm.MethodName)) ∈ lw_all := lw_g (lw_at lw_m7 131 rfl) rfl
theorem q1717 : (Jvm.Cond.code ({ cls := "LetterNightsModel", name := "wordOf", desc := "(I)I" } : Jvm.MethodName) prog_17_method_16_code (2 : Nat) (Option.some Jvm.ClassFile.FieldType.int)) ∈ lw_all := lw_g (lw_at lw_m7 132 rfl) rfl
theorem q1718 : (Jvm.Cond.methodLink "LetterNightsModel" (179 : Nat) ({ cls := "LetterNightsModel", name := "goesIn", desc := "(I)Z" } : Jvm.MethodName)) ∈ lw_all := lw_g (lw_at lw_m7 133 rfl) rfl
theorem q1719 : (Jvm.Cond.privateMethod ({ cls := "LetterNightsModel", name := "goesIn", desc := "(I)Z" } : Jvm.MethodName)) ∈ lw_tbl := lw_at lw_m7 134 rfl
theorem q1720 : (Jvm.Cond.instanceMethod ({ cls := "LetterNightsModel", name := "goesIn", desc := "(I)Z" } : Jvm.MethodName)) ∈ lw_all := lw_g (lw_at lw_m7 135 rfl) rfl
theorem q1721 : (Jvm.Cond.code ({ cls := "LetterNightsModel", name := "goesIn", desc := "(I)Z" } : Jvm.MethodName) prog_17_method_18_code (2 : Nat) (Option.some Jvm.ClassFile.FieldType.boolean)) ∈ lw_all := lw_g (lw_at lw_m7 136 rfl) rfl
theorem q1722 : (Jvm.Cond.methodLink "LetterNightsModel" (188 : Nat) ({ cls := "LetterNightsModel", name := "readIf", desc := "(I)V" } : Jvm.MethodName)) ∈ lw_all := lw_g (lw_at lw_m7 137 rfl) rfl
theorem q1723 : (Jvm.Cond.privateMethod ({ cls := "LetterNightsModel", name := "readIf", desc := "(I)V" } : Jvm.MethodName)) ∈ lw_tbl := lw_at lw_m7 138 rfl
theorem q1724 : (Jvm.Cond.instanceMethod ({ cls := "LetterNightsModel", name := "readIf", desc := "(I)V" } : Jvm.MethodName)) ∈ lw_all := lw_g (lw_at lw_m7 139 rfl) rfl
theorem q1725 : (Jvm.Cond.code ({ cls := "LetterNightsModel", name := "readIf", desc := "(I)V" } : Jvm.MethodName) prog_17_method_20_code (2 : Nat) (Option.none : Option Jvm.ClassFile.FieldType)) ∈ lw_all := lw_g (lw_at lw_m7 140 rfl) rfl
theorem q1726 : (Jvm.Cond.methodLink "LetterNightsModel" (191 : Nat) ({ cls := "LetterNightsModel", name := "readTruth", desc := "(I)V" } : Jvm.MethodName)) ∈ lw_all := lw_g (lw_at lw_m7 141 rfl) rfl
theorem q1727 : (Jvm.Cond.privateMethod ({ cls := "LetterNightsModel", name := "readTruth", desc := "(I)V" } : Jvm.MethodName)) ∈ lw_tbl := lw_at lw_m7 142 rfl
theorem q1728 : (Jvm.Cond.instanceMethod ({ cls := "LetterNightsModel", name := "readTruth", desc := "(I)V" } : Jvm.MethodName)) ∈ lw_all := lw_g (lw_at lw_m7 143 rfl) rfl
theorem q1729 : (Jvm.Cond.code ({ cls := "LetterNightsModel", name := "readTruth", desc := "(I)V" } : Jvm.MethodName) prog_17_method_25_code (2 : Nat) (Option.none : Option Jvm.ClassFile.FieldType)) ∈ lw_all := lw_g (lw_at lw_m7 144 rfl) rfl
theorem q1730 : (Jvm.Cond.methodLink "LetterNightsModel" (203 : Nat) ({ cls := "LetterNightsModel", name := "readBoth", desc := "(I)V" } : Jvm.MethodName)) ∈ lw_all := lw_g (lw_at lw_m7 145 rfl) rfl
theorem q1731 : (Jvm.Cond.privateMethod ({ cls := "LetterNightsModel", name := "readBoth", desc := "(I)V" } : Jvm.MethodName)) ∈ lw_tbl := lw_at lw_m7 146 rfl
theorem q1732 : (Jvm.Cond.instanceMethod ({ cls := "LetterNightsModel", name := "readBoth", desc := "(I)V" } : Jvm.MethodName)) ∈ lw_all := lw_g (lw_at lw_m7 147 rfl) rfl
theorem q1733 : (Jvm.Cond.code ({ cls := "LetterNightsModel", name := "readBoth", desc := "(I)V" } : Jvm.MethodName) prog_17_method_24_code (2 : Nat) (Option.none : Option Jvm.ClassFile.FieldType)) ∈ lw_all := lw_g (lw_at lw_m7 148 rfl) rfl
theorem q1734 : (Jvm.Cond.methodLink "LetterNightsModel" (200 : Nat) ({ cls := "LetterNightsModel", name := "readUnit", desc := "(I)V" } : Jvm.MethodName)) ∈ lw_all := lw_g (lw_at lw_m7 149 rfl) rfl
theorem q1735 : (Jvm.Cond.privateMethod ({ cls := "LetterNightsModel", name := "readUnit", desc := "(I)V" } : Jvm.MethodName)) ∈ lw_tbl := lw_at lw_m7 150 rfl
theorem q1736 : (Jvm.Cond.instanceMethod ({ cls := "LetterNightsModel", name := "readUnit", desc := "(I)V" } : Jvm.MethodName)) ∈ lw_all := lw_g (lw_at lw_m7 151 rfl) rfl
theorem q1737 : (Jvm.Cond.code ({ cls := "LetterNightsModel", name := "readUnit", desc := "(I)V" } : Jvm.MethodName) prog_17_method_23_code (3 : Nat) (Option.none : Option Jvm.ClassFile.FieldType)) ∈ lw_all := lw_g (lw_at lw_m7 152 rfl) rfl
theorem q1739 : (Jvm.Cond.instanceMethod ({ cls := "LetterNightsModel", name := "fault", desc := "(I)I" } : Jvm.MethodName)) ∈ lw_all := lw_g (lw_at lw_m7 154 rfl) rfl
theorem q1740 : (Jvm.Cond.selects "LetterNightsModel" ({ cls := "LetterNightsModel", name := "fault", desc := "(I)I" } : Jvm.MethodName) ({ cls := "LetterNightsModel", name := "fault", desc := "(I)I" } : Jvm.MethodName)) ∈ lw_all := lw_g (lw_at lw_m7 155 rfl) rfl
theorem q1741 : (Jvm.Cond.code ({ cls := "LetterNightsModel", name := "fault", desc := "(I)I" } : Jvm.MethodName) prog_17_method_34_code (2 : Nat) (Option.some Jvm.ClassFile.FieldType.int)) ∈ lw_all := lw_g (lw_at lw_m7 156 rfl) rfl
theorem q1743 : (Jvm.Cond.instanceMethod ({ cls := "LetterNightsModel", name := "becomes", desc := "(III)I" } : Jvm.MethodName)) ∈ lw_all := lw_g (lw_at lw_m7 158 rfl) rfl
theorem q1744 : (Jvm.Cond.selects "LetterNightsModel" ({ cls := "LetterNightsModel", name := "becomes", desc := "(III)I" } : Jvm.MethodName) ({ cls := "LetterNightsModel", name := "becomes", desc := "(III)I" } : Jvm.MethodName)) ∈ lw_all := lw_g (lw_at lw_m7 159 rfl) rfl
theorem q1745 : (Jvm.Cond.code ({ cls := "LetterNightsModel", name := "becomes", desc := "(III)I" } : Jvm.MethodName) prog_17_method_51_code (4 : Nat) (Option.some Jvm.ClassFile.FieldType.int)) ∈ lw_all := lw_g (lw_at lw_m7 160 rfl) rfl
theorem q1746 : (Jvm.Cond.methodLink "LetterNightsModel" (290 : Nat) ({ cls := "LetterNightsModel", name := "isTable", desc := "(I)Z" } : Jvm.MethodName)) ∈ lw_all := lw_g (lw_at lw_m7 161 rfl) rfl
theorem q1747 : (Jvm.Cond.privateMethod ({ cls := "LetterNightsModel", name := "isTable", desc := "(I)Z" } : Jvm.MethodName)) ∈ lw_tbl := lw_at lw_m7 162 rfl
theorem q1748 : (Jvm.Cond.instanceMethod ({ cls := "LetterNightsModel", name := "isTable", desc := "(I)Z" } : Jvm.MethodName)) ∈ lw_all := lw_g (lw_at lw_m7 163 rfl) rfl
theorem q1749 : (Jvm.Cond.code ({ cls := "LetterNightsModel", name := "isTable", desc := "(I)Z" } : Jvm.MethodName) prog_17_method_36_code (2 : Nat) (Option.some Jvm.ClassFile.FieldType.boolean)) ∈ lw_all := lw_g (lw_at lw_m7 164 rfl) rfl
theorem q1750 : (Jvm.Cond.methodLink "LetterNightsModel" (293 : Nat) ({ cls := "LetterNightsModel", name := "isLetter", desc := "(J)Z" } : Jvm.MethodName)) ∈ lw_all := lw_g (lw_at lw_m7 165 rfl) rfl
theorem q1751 : (Jvm.Cond.static ({ cls := "LetterNightsModel", name := "isLetter", desc := "(J)Z" } : Jvm.MethodName)) ∈ lw_all := lw_g (lw_at lw_m7 166 rfl) rfl
theorem q1752 : (Jvm.Cond.code ({ cls := "LetterNightsModel", name := "isLetter", desc := "(J)Z" } : Jvm.MethodName) prog_17_method_35_code (2 : Nat) (Option.some Jvm.ClassFile.FieldType.boolean)) ∈ lw_all := lw_g (lw_at lw_m7 167 rfl) rfl
theorem q1753 : (Jvm.Cond.constantLong "LetterNightsModel" (235 : Nat) (5 : Int64)) ∈ lw_all := lw_g (lw_at lw_m7 168 rfl) rfl
theorem q1754 : (Jvm.Cond.methodLink "LetterNightsModel" (239 : Nat) ({ cls := "LetterNightsModel", name := "becomeMany", desc := "(II)I" } : Jvm.MethodName)) ∈ lw_all := lw_g (lw_at lw_m7 169 rfl) rfl
theorem q1755 : (Jvm.Cond.privateMethod ({ cls := "LetterNightsModel", name := "becomeMany", desc := "(II)I" } : Jvm.MethodName)) ∈ lw_tbl := lw_at lw_m7 170 rfl
theorem q1756 : (Jvm.Cond.instanceMethod ({ cls := "LetterNightsModel", name := "becomeMany", desc := "(II)I" } : Jvm.MethodName)) ∈ lw_all := lw_g (lw_at lw_m7 171 rfl) rfl
theorem q1757 : (Jvm.Cond.code ({ cls := "LetterNightsModel", name := "becomeMany", desc := "(II)I" } : Jvm.MethodName) prog_17_method_37_code (3 : Nat) (Option.some Jvm.ClassFile.FieldType.int)) ∈ lw_all := lw_g (lw_at lw_m7 172 rfl) rfl
theorem q1758 : (Jvm.Cond.methodLink "LetterNightsModel" (242 : Nat) ({ cls := "LetterNightsModel", name := "becomeOf", desc := "(III)I" } : Jvm.MethodName)) ∈ lw_all := lw_g (lw_at lw_m7 173 rfl) rfl
theorem q1759 : (Jvm.Cond.privateMethod ({ cls := "LetterNightsModel", name := "becomeOf", desc := "(III)I" } : Jvm.MethodName)) ∈ lw_tbl := lw_at lw_m7 174 rfl
theorem q1760 : (Jvm.Cond.instanceMethod ({ cls := "LetterNightsModel", name := "becomeOf", desc := "(III)I" } : Jvm.MethodName)) ∈ lw_all := lw_g (lw_at lw_m7 175 rfl) rfl
theorem q1761 : (Jvm.Cond.code ({ cls := "LetterNightsModel", name := "becomeOf", desc := "(III)I" } : Jvm.MethodName) prog_17_method_38_code (4 : Nat) (Option.some Jvm.ClassFile.FieldType.int)) ∈ lw_all := lw_g (lw_at lw_m7 176 rfl) rfl
theorem q1763 : (Jvm.Cond.instanceMethod ({ cls := "LetterNightsModel", name := "picks", desc := "()I" } : Jvm.MethodName)) ∈ lw_all := lw_g (lw_at lw_m7 178 rfl) rfl
theorem q1764 : (Jvm.Cond.selects "LetterNightsModel" ({ cls := "LetterNightsModel", name := "picks", desc := "()I" } : Jvm.MethodName) ({ cls := "LetterNightsModel", name := "picks", desc := "()I" } : Jvm.MethodName)) ∈ lw_all := lw_g (lw_at lw_m7 179 rfl) rfl
theorem q1765 : (Jvm.Cond.code ({ cls := "LetterNightsModel", name := "picks", desc := "()I" } : Jvm.MethodName) prog_17_method_52_code (1 : Nat) (Option.some Jvm.ClassFile.FieldType.int)) ∈ lw_all := lw_g (lw_at lw_m7 180 rfl) rfl
theorem q1766 : (Jvm.Cond.methodLink "LetterNightsModel" (297 : Nat) ({ cls := "LetterNightsModel", name := "pickedNow", desc := "()I" } : Jvm.MethodName)) ∈ lw_all := lw_g (lw_at lw_m7 181 rfl) rfl
theorem q1767 : (Jvm.Cond.privateMethod ({ cls := "LetterNightsModel", name := "pickedNow", desc := "()I" } : Jvm.MethodName)) ∈ lw_tbl := lw_at lw_m7 182 rfl
theorem q1768 : (Jvm.Cond.instanceMethod ({ cls := "LetterNightsModel", name := "pickedNow", desc := "()I" } : Jvm.MethodName)) ∈ lw_all := lw_g (lw_at lw_m7 183 rfl) rfl
theorem q1769 : (Jvm.Cond.code ({ cls := "LetterNightsModel", name := "pickedNow", desc := "()I" } : Jvm.MethodName) prog_17_method_50_code (4 : Nat) (Option.some Jvm.ClassFile.FieldType.int)) ∈ lw_all := lw_g (lw_at lw_m7 184 rfl) rfl
theorem q1770 : (Jvm.Cond.methodLink "LetterNightsModel" (278 : Nat) ({ cls := "LetterNightsModel", name := "lengthNow", desc := "()J" } : Jvm.MethodName)) ∈ lw_all := lw_g (lw_at lw_m7 185 rfl) rfl
theorem q1771 : (Jvm.Cond.privateMethod ({ cls := "LetterNightsModel", name := "lengthNow", desc := "()J" } : Jvm.MethodName)) ∈ lw_tbl := lw_at lw_m7 186 rfl
theorem q1772 : (Jvm.Cond.instanceMethod ({ cls := "LetterNightsModel", name := "lengthNow", desc := "()J" } : Jvm.MethodName)) ∈ lw_all := lw_g (lw_at lw_m7 187 rfl) rfl
theorem q1773 : (Jvm.Cond.code ({ cls := "LetterNightsModel", name := "lengthNow", desc := "()J" } : Jvm.MethodName) prog_17_method_44_code (1 : Nat) (Option.some Jvm.ClassFile.FieldType.long)) ∈ lw_all := lw_g (lw_at lw_m7 188 rfl) rfl
theorem q1774 : (Jvm.Cond.methodLink "LetterNightsModel" (253 : Nat) ({ cls := "LetterNightsModel", name := "laysLong", desc := "()V" } : Jvm.MethodName)) ∈ lw_all := lw_g (lw_at lw_m7 189 rfl) rfl
theorem q1775 : (Jvm.Cond.privateMethod ({ cls := "LetterNightsModel", name := "laysLong", desc := "()V" } : Jvm.MethodName)) ∈ lw_tbl := lw_at lw_m7 190 rfl
theorem q1776 : (Jvm.Cond.instanceMethod ({ cls := "LetterNightsModel", name := "laysLong", desc := "()V" } : Jvm.MethodName)) ∈ lw_all := lw_g (lw_at lw_m7 191 rfl) rfl
theorem q1777 : (Jvm.Cond.code ({ cls := "LetterNightsModel", name := "laysLong", desc := "()V" } : Jvm.MethodName) prog_17_method_41_code (2 : Nat) (Option.none : Option Jvm.ClassFile.FieldType)) ∈ lw_all := lw_g (lw_at lw_m7 192 rfl) rfl
theorem q1778 : (Jvm.Cond.methodLink "LetterNightsModel" (249 : Nat) ({ cls := "LetterNightsModel", name := "laysBack", desc := "([J)V" } : Jvm.MethodName)) ∈ lw_all := lw_g (lw_at lw_m7 193 rfl) rfl
theorem q1779 : (Jvm.Cond.privateMethod ({ cls := "LetterNightsModel", name := "laysBack", desc := "([J)V" } : Jvm.MethodName)) ∈ lw_tbl := lw_at lw_m7 194 rfl
theorem q1780 : (Jvm.Cond.instanceMethod ({ cls := "LetterNightsModel", name := "laysBack", desc := "([J)V" } : Jvm.MethodName)) ∈ lw_all := lw_g (lw_at lw_m7 195 rfl) rfl
theorem q1781 : (Jvm.Cond.code ({ cls := "LetterNightsModel", name := "laysBack", desc := "([J)V" } : Jvm.MethodName) prog_17_method_40_code (8 : Nat) (Option.none : Option Jvm.ClassFile.FieldType)) ∈ lw_all := lw_g (lw_at lw_m7 196 rfl) rfl
theorem q1782 : (Jvm.Cond.methodLink "LetterNightsModel" (245 : Nat) ({ cls := "LetterNightsModel", name := "plus", desc := "(JJ)J" } : Jvm.MethodName)) ∈ lw_all := lw_g (lw_at lw_m7 197 rfl) rfl
theorem q1783 : (Jvm.Cond.static ({ cls := "LetterNightsModel", name := "plus", desc := "(JJ)J" } : Jvm.MethodName)) ∈ lw_all := lw_g (lw_at lw_m7 198 rfl) rfl
theorem q1784 : (Jvm.Cond.code ({ cls := "LetterNightsModel", name := "plus", desc := "(JJ)J" } : Jvm.MethodName) prog_17_method_39_code (4 : Nat) (Option.some Jvm.ClassFile.FieldType.long)) ∈ lw_all := lw_g (lw_at lw_m7 199 rfl) rfl
theorem q1785 : (Jvm.Cond.constantLong "LetterNightsModel" (237 : Nat) (9223372036854775807 : Int64)) ∈ lw_all := lw_g (lw_at lw_m7 200 rfl) rfl
theorem q1786 : (Jvm.Cond.methodLink "LetterNightsModel" (256 : Nat) ({ cls := "LetterNightsModel", name := "sumOf", desc := "([J)J" } : Jvm.MethodName)) ∈ lw_all := lw_g (lw_at lw_m7 201 rfl) rfl
theorem q1787 : (Jvm.Cond.privateMethod ({ cls := "LetterNightsModel", name := "sumOf", desc := "([J)J" } : Jvm.MethodName)) ∈ lw_tbl := lw_at lw_m7 202 rfl
theorem q1788 : (Jvm.Cond.instanceMethod ({ cls := "LetterNightsModel", name := "sumOf", desc := "([J)J" } : Jvm.MethodName)) ∈ lw_all := lw_g (lw_at lw_m7 203 rfl) rfl
theorem q1789 : (Jvm.Cond.code ({ cls := "LetterNightsModel", name := "sumOf", desc := "([J)J" } : Jvm.MethodName) prog_17_method_43_code (5 : Nat) (Option.some Jvm.ClassFile.FieldType.long)) ∈ lw_all := lw_g (lw_at lw_m7 204 rfl) rfl
theorem q1790 : (Jvm.Cond.methodLink "LetterNightsModel" (282 : Nat) ({ cls := "LetterNightsModel", name := "letterAt", desc := "(J)I" } : Jvm.MethodName)) ∈ lw_all := lw_g (lw_at lw_m7 205 rfl) rfl
theorem q1791 : (Jvm.Cond.privateMethod ({ cls := "LetterNightsModel", name := "letterAt", desc := "(J)I" } : Jvm.MethodName)) ∈ lw_tbl := lw_at lw_m7 206 rfl
theorem q1792 : (Jvm.Cond.instanceMethod ({ cls := "LetterNightsModel", name := "letterAt", desc := "(J)I" } : Jvm.MethodName)) ∈ lw_all := lw_g (lw_at lw_m7 207 rfl) rfl
theorem q1793 : (Jvm.Cond.code ({ cls := "LetterNightsModel", name := "letterAt", desc := "(J)I" } : Jvm.MethodName) prog_17_method_47_code (4 : Nat) (Option.some Jvm.ClassFile.FieldType.int)) ∈ lw_all := lw_g (lw_at lw_m7 208 rfl) rfl
theorem q1794 : (Jvm.Cond.methodLink "LetterNightsModel" (267 : Nat) ({ cls := "LetterNightsModel", name := "comesTo", desc := "(J)I" } : Jvm.MethodName)) ∈ lw_all := lw_g (lw_at lw_m7 209 rfl) rfl
theorem q1795 : (Jvm.Cond.privateMethod ({ cls := "LetterNightsModel", name := "comesTo", desc := "(J)I" } : Jvm.MethodName)) ∈ lw_tbl := lw_at lw_m7 210 rfl
theorem q1796 : (Jvm.Cond.instanceMethod ({ cls := "LetterNightsModel", name := "comesTo", desc := "(J)I" } : Jvm.MethodName)) ∈ lw_all := lw_g (lw_at lw_m7 211 rfl) rfl
theorem q1797 : (Jvm.Cond.code ({ cls := "LetterNightsModel", name := "comesTo", desc := "(J)I" } : Jvm.MethodName) prog_17_method_46_code (9 : Nat) (Option.some Jvm.ClassFile.FieldType.int)) ∈ lw_all := lw_g (lw_at lw_m7 212 rfl) rfl
theorem q1798 : (Jvm.Cond.methodLink "LetterNightsModel" (264 : Nat) ({ cls := "LetterNightsModel", name := "partOf", desc := "(III)I" } : Jvm.MethodName)) ∈ lw_all := lw_g (lw_at lw_m7 213 rfl) rfl
theorem q1799 : (Jvm.Cond.privateMethod ({ cls := "LetterNightsModel", name := "partOf", desc := "(III)I" } : Jvm.MethodName)) ∈ lw_tbl := lw_at lw_m7 214 rfl
theorem q1800 : (Jvm.Cond.instanceMethod ({ cls := "LetterNightsModel", name := "partOf", desc := "(III)I" } : Jvm.MethodName)) ∈ lw_all := lw_g (lw_at lw_m7 215 rfl) rfl
theorem q1801 : (Jvm.Cond.code ({ cls := "LetterNightsModel", name := "partOf", desc := "(III)I" } : Jvm.MethodName) prog_17_method_45_code (5 : Nat) (Option.some Jvm.ClassFile.FieldType.int)) ∈ lw_all := lw_g (lw_at lw_m7 216 rfl) rfl
theorem q1802 : (Jvm.Cond.constantLong "LetterNightsModel" (285 : Nat) (10 : Int64)) ∈ lw_all := lw_g (lw_at lw_m7 217 rfl) rfl
theorem q1803 : (Jvm.Cond.methodLink "LetterNightsModel" (287 : Nat) ({ cls := "LetterNightsModel", name := "reckons", desc := "(I)I" } : Jvm.MethodName)) ∈ lw_all := lw_g (lw_at lw_m7 218 rfl) rfl
theorem q1804 : (Jvm.Cond.privateMethod ({ cls := "LetterNightsModel", name := "reckons", desc := "(I)I" } : Jvm.MethodName)) ∈ lw_tbl := lw_at lw_m7 219 rfl
theorem q1805 : (Jvm.Cond.instanceMethod ({ cls := "LetterNightsModel", name := "reckons", desc := "(I)I" } : Jvm.MethodName)) ∈ lw_all := lw_g (lw_at lw_m7 220 rfl) rfl
theorem q1806 : (Jvm.Cond.code ({ cls := "LetterNightsModel", name := "reckons", desc := "(I)I" } : Jvm.MethodName) prog_17_method_49_code (5 : Nat) (Option.some Jvm.ClassFile.FieldType.int)) ∈ lw_all := lw_g (lw_at lw_m7 221 rfl) rfl
theorem q1807 : (Jvm.Cond.methodLink "LetterNightsModel" (275 : Nat) ({ cls := "LetterNightsModel", name := "between", desc := "(III)I" } : Jvm.MethodName)) ∈ lw_all := lw_g (lw_at lw_m7 222 rfl) rfl
theorem q1808 : (Jvm.Cond.static ({ cls := "LetterNightsModel", name := "between", desc := "(III)I" } : Jvm.MethodName)) ∈ lw_all := lw_g (lw_at lw_m7 223 rfl) rfl
theorem q1809 : (Jvm.Cond.code ({ cls := "LetterNightsModel", name := "between", desc := "(III)I" } : Jvm.MethodName) prog_17_method_48_code (5 : Nat) (Option.some Jvm.ClassFile.FieldType.int)) ∈ lw_all := lw_g (lw_at lw_m7 224 rfl) rfl
theorem q1810 : (Jvm.Cond.constantLong "LetterNightsModel" (271 : Nat) (1000000 : Int64)) ∈ lw_all := lw_g (lw_at lw_m7 225 rfl) rfl
theorem q1811 : (Jvm.Cond.constantLong "LetterNightsModel" (273 : Nat) (-1000000 : Int64)) ∈ lw_all := lw_g (lw_at lw_m7 226 rfl) rfl
theorem q1813 : (Jvm.Cond.instanceMethod ({ cls := "LetterNightsModel", name := "length", desc := "()J" } : Jvm.MethodName)) ∈ lw_all := lw_g (lw_at lw_m7 228 rfl) rfl
theorem q1814 : (Jvm.Cond.selects "LetterNightsModel" ({ cls := "LetterNightsModel", name := "length", desc := "()J" } : Jvm.MethodName) ({ cls := "LetterNightsModel", name := "length", desc := "()J" } : Jvm.MethodName)) ∈ lw_all := lw_g (lw_at lw_m7 229 rfl) rfl
theorem q1815 : (Jvm.Cond.code ({ cls := "LetterNightsModel", name := "length", desc := "()J" } : Jvm.MethodName) prog_17_method_53_code (1 : Nat) (Option.some Jvm.ClassFile.FieldType.long)) ∈ lw_all := lw_g (lw_at lw_m7 230 rfl) rfl
theorem q1817 : (Jvm.Cond.instanceMethod ({ cls := "LetterNightsModel", name := "letter", desc := "(J)I" } : Jvm.MethodName)) ∈ lw_all := lw_g (lw_at lw_m7 232 rfl) rfl
theorem q1818 : (Jvm.Cond.selects "LetterNightsModel" ({ cls := "LetterNightsModel", name := "letter", desc := "(J)I" } : Jvm.MethodName) ({ cls := "LetterNightsModel", name := "letter", desc := "(J)I" } : Jvm.MethodName)) ∈ lw_all := lw_g (lw_at lw_m7 233 rfl) rfl
theorem q1819 : (Jvm.Cond.code ({ cls := "LetterNightsModel", name := "letter", desc := "(J)I" } : Jvm.MethodName) prog_17_method_54_code (3 : Nat) (Option.some Jvm.ClassFile.FieldType.int)) ∈ lw_all := lw_g (lw_at lw_m7 234 rfl) rfl
theorem q1821 : (Jvm.Cond.instanceMethod ({ cls := "LetterNightsModel", name := "count", desc := "(IJ)J" } : Jvm.MethodName)) ∈ lw_all := lw_g (lw_at lw_m7 236 rfl) rfl
theorem q1822 : (Jvm.Cond.selects "LetterNightsModel" ({ cls := "LetterNightsModel", name := "count", desc := "(IJ)J" } : Jvm.MethodName) ({ cls := "LetterNightsModel", name := "count", desc := "(IJ)J" } : Jvm.MethodName)) ∈ lw_all := lw_g (lw_at lw_m7 237 rfl) rfl
theorem q1823 : (Jvm.Cond.code ({ cls := "LetterNightsModel", name := "count", desc := "(IJ)J" } : Jvm.MethodName) prog_17_method_55_code (4 : Nat) (Option.some Jvm.ClassFile.FieldType.long)) ∈ lw_all := lw_g (lw_at lw_m7 238 rfl) rfl
theorem q1824 : (Jvm.Cond.constantLong "LetterNightsModel" (300 : Nat) (-2 : Int64)) ∈ lw_all := lw_g (lw_at lw_m7 239 rfl) rfl
theorem q1825 : (Jvm.Cond.constantLong "LetterNightsModel" (302 : Nat) (-3 : Int64)) ∈ lw_all := lw_g (lw_at lw_m8 0 rfl) rfl
theorem q1826 : (Jvm.Cond.methodLink "LetterNightsModel" (304 : Nat) ({ cls := "LetterNightsModel", name := "laysOf", desc := "(I)V" } : Jvm.MethodName)) ∈ lw_all := lw_g (lw_at lw_m8 1 rfl) rfl
theorem q1827 : (Jvm.Cond.privateMethod ({ cls := "LetterNightsModel", name := "laysOf", desc := "(I)V" } : Jvm.MethodName)) ∈ lw_tbl := lw_at lw_m8 2 rfl
theorem q1828 : (Jvm.Cond.instanceMethod ({ cls := "LetterNightsModel", name := "laysOf", desc := "(I)V" } : Jvm.MethodName)) ∈ lw_all := lw_g (lw_at lw_m8 3 rfl) rfl
theorem q1829 : (Jvm.Cond.code ({ cls := "LetterNightsModel", name := "laysOf", desc := "(I)V" } : Jvm.MethodName) prog_17_method_42_code (3 : Nat) (Option.none : Option Jvm.ClassFile.FieldType)) ∈ lw_all := lw_g (lw_at lw_m8 4 rfl) rfl
theorem q1831 : (Jvm.Cond.instanceMethod ({ cls := "LetterNightsModel", name := "place", desc := "(IJ)J" } : Jvm.MethodName)) ∈ lw_all := lw_g (lw_at lw_m8 6 rfl) rfl
theorem q1832 : (Jvm.Cond.selects "LetterNightsModel" ({ cls := "LetterNightsModel", name := "place", desc := "(IJ)J" } : Jvm.MethodName) ({ cls := "LetterNightsModel", name := "place", desc := "(IJ)J" } : Jvm.MethodName)) ∈ lw_all := lw_g (lw_at lw_m8 7 rfl) rfl
theorem q1833 : (Jvm.Cond.code ({ cls := "LetterNightsModel", name := "place", desc := "(IJ)J" } : Jvm.MethodName) prog_17_method_56_code (12 : Nat) (Option.some Jvm.ClassFile.FieldType.long)) ∈ lw_all := lw_g (lw_at lw_m8 8 rfl) rfl
theorem q1834 : (Jvm.Cond.constantLong "LetterNightsModel" (307 : Nat) (-1 : Int64)) ∈ lw_all := lw_g (lw_at lw_m8 9 rfl) rfl
theorem q1836 : (Jvm.Cond.instanceMethod ({ cls := "LetterNightsModel", name := "night", desc := "(I)J" } : Jvm.MethodName)) ∈ lw_all := lw_g (lw_at lw_m8 11 rfl) rfl
theorem q1837 : (Jvm.Cond.selects "LetterNightsModel" ({ cls := "LetterNightsModel", name := "night", desc := "(I)J" } : Jvm.MethodName) ({ cls := "LetterNightsModel", name := "night", desc := "(I)J" } : Jvm.MethodName)) ∈ lw_all := lw_g (lw_at lw_m8 12 rfl) rfl
theorem q1838 : (Jvm.Cond.code ({ cls := "LetterNightsModel", name := "night", desc := "(I)J" } : Jvm.MethodName) prog_17_method_63_code (3 : Nat) (Option.some Jvm.ClassFile.FieldType.long)) ∈ lw_all := lw_g (lw_at lw_m8 13 rfl) rfl
theorem q1839 : (Jvm.Cond.methodLink "LetterNightsModel" (318 : Nat) ({ cls := "LetterNightsModel", name := "whyNight", desc := "(J)I" } : Jvm.MethodName)) ∈ lw_all := lw_g (lw_at lw_m8 14 rfl) rfl
theorem q1840 : (Jvm.Cond.privateMethod ({ cls := "LetterNightsModel", name := "whyNight", desc := "(J)I" } : Jvm.MethodName)) ∈ lw_tbl := lw_at lw_m8 15 rfl
theorem q1841 : (Jvm.Cond.instanceMethod ({ cls := "LetterNightsModel", name := "whyNight", desc := "(J)I" } : Jvm.MethodName)) ∈ lw_all := lw_g (lw_at lw_m8 16 rfl) rfl
theorem q1842 : (Jvm.Cond.code ({ cls := "LetterNightsModel", name := "whyNight", desc := "(J)I" } : Jvm.MethodName) prog_17_method_61_code (3 : Nat) (Option.some Jvm.ClassFile.FieldType.int)) ∈ lw_all := lw_g (lw_at lw_m8 17 rfl) rfl
theorem q1843 : (Jvm.Cond.methodLink "LetterNightsModel" (312 : Nat) ({ cls := "LetterNightsModel", name := "longBehind", desc := "(I)J" } : Jvm.MethodName)) ∈ lw_all := lw_g (lw_at lw_m8 18 rfl) rfl
theorem q1844 : (Jvm.Cond.privateMethod ({ cls := "LetterNightsModel", name := "longBehind", desc := "(I)J" } : Jvm.MethodName)) ∈ lw_tbl := lw_at lw_m8 19 rfl
theorem q1845 : (Jvm.Cond.instanceMethod ({ cls := "LetterNightsModel", name := "longBehind", desc := "(I)J" } : Jvm.MethodName)) ∈ lw_all := lw_g (lw_at lw_m8 20 rfl) rfl
theorem q1846 : (Jvm.Cond.code ({ cls := "LetterNightsModel", name := "longBehind", desc := "(I)J" } : Jvm.MethodName) prog_17_method_60_code (3 : Nat) (Option.some Jvm.ClassFile.FieldType.long)) ∈ lw_all := lw_g (lw_at lw_m8 21 rfl) rfl
theorem q1847 : (Jvm.Cond.constantLong "LetterNightsModel" (316 : Nat) (1000000000000 : Int64)) ∈ lw_all := lw_g (lw_at lw_m8 22 rfl) rfl
theorem q1848 : (Jvm.Cond.methodLink "LetterNightsModel" (321 : Nat) ({ cls := "LetterNightsModel", name := "stores", desc := "()V" } : Jvm.MethodName)) ∈ lw_all := lw_g (lw_at lw_m8 23 rfl) rfl
theorem q1849 : (Jvm.Cond.privateMethod ({ cls := "LetterNightsModel", name := "stores", desc := "()V" } : Jvm.MethodName)) ∈ lw_tbl := lw_at lw_m8 24 rfl
theorem q1850 : (Jvm.Cond.instanceMethod ({ cls := "LetterNightsModel", name := "stores", desc := "()V" } : Jvm.MethodName)) ∈ lw_all := lw_g (lw_at lw_m8 25 rfl) rfl
theorem q1851 : (Jvm.Cond.code ({ cls := "LetterNightsModel", name := "stores", desc := "()V" } : Jvm.MethodName) prog_17_method_57_code (2 : Nat) (Option.none : Option Jvm.ClassFile.FieldType)) ∈ lw_all := lw_g (lw_at lw_m8 26 rfl) rfl
theorem q1852 : (Jvm.Cond.methodLink "LetterNightsModel" (324 : Nat) ({ cls := "LetterNightsModel", name := "goesNight", desc := "()V" } : Jvm.MethodName)) ∈ lw_all := lw_g (lw_at lw_m8 27 rfl) rfl
theorem q1853 : (Jvm.Cond.privateMethod ({ cls := "LetterNightsModel", name := "goesNight", desc := "()V" } : Jvm.MethodName)) ∈ lw_tbl := lw_at lw_m8 28 rfl
theorem q1854 : (Jvm.Cond.instanceMethod ({ cls := "LetterNightsModel", name := "goesNight", desc := "()V" } : Jvm.MethodName)) ∈ lw_all := lw_g (lw_at lw_m8 29 rfl) rfl
theorem q1855 : (Jvm.Cond.code ({ cls := "LetterNightsModel", name := "goesNight", desc := "()V" } : Jvm.MethodName) prog_17_method_62_code (1 : Nat) (Option.none : Option Jvm.ClassFile.FieldType)) ∈ lw_all := lw_g (lw_at lw_m8 30 rfl) rfl
theorem q1856 : (Jvm.Cond.methodLink "LetterNightsModel" (327 : Nat) ({ cls := "LetterNightsModel", name := "notes", desc := "()V" } : Jvm.MethodName)) ∈ lw_all := lw_g (lw_at lw_m8 31 rfl) rfl
theorem q1857 : (Jvm.Cond.privateMethod ({ cls := "LetterNightsModel", name := "notes", desc := "()V" } : Jvm.MethodName)) ∈ lw_tbl := lw_at lw_m8 32 rfl
theorem q1858 : (Jvm.Cond.instanceMethod ({ cls := "LetterNightsModel", name := "notes", desc := "()V" } : Jvm.MethodName)) ∈ lw_all := lw_g (lw_at lw_m8 33 rfl) rfl
theorem q1859 : (Jvm.Cond.code ({ cls := "LetterNightsModel", name := "notes", desc := "()V" } : Jvm.MethodName) prog_17_method_59_code (2 : Nat) (Option.none : Option Jvm.ClassFile.FieldType)) ∈ lw_all := lw_g (lw_at lw_m8 34 rfl) rfl
theorem q1861 : (Jvm.Cond.instanceMethod ({ cls := "LetterNightsModel", name := "nights", desc := "(I)I" } : Jvm.MethodName)) ∈ lw_all := lw_g (lw_at lw_m8 36 rfl) rfl
theorem q1862 : (Jvm.Cond.selects "LetterNightsModel" ({ cls := "LetterNightsModel", name := "nights", desc := "(I)I" } : Jvm.MethodName) ({ cls := "LetterNightsModel", name := "nights", desc := "(I)I" } : Jvm.MethodName)) ∈ lw_all := lw_g (lw_at lw_m8 37 rfl) rfl
theorem q1863 : (Jvm.Cond.code ({ cls := "LetterNightsModel", name := "nights", desc := "(I)I" } : Jvm.MethodName) prog_17_method_64_code (3 : Nat) (Option.some Jvm.ClassFile.FieldType.int)) ∈ lw_all := lw_g (lw_at lw_m8 38 rfl) rfl
theorem q1864 : (Jvm.Cond.constantLong "LetterNightsModel" (330 : Nat) (60 : Int64)) ∈ lw_all := lw_g (lw_at lw_m8 39 rfl) rfl
theorem q1866 : (Jvm.Cond.instanceMethod ({ cls := "LetterNightsModel", name := "moon", desc := "(I)I" } : Jvm.MethodName)) ∈ lw_all := lw_g (lw_at lw_m8 41 rfl) rfl
theorem q1867 : (Jvm.Cond.selects "LetterNightsModel" ({ cls := "LetterNightsModel", name := "moon", desc := "(I)I" } : Jvm.MethodName) ({ cls := "LetterNightsModel", name := "moon", desc := "(I)I" } : Jvm.MethodName)) ∈ lw_all := lw_g (lw_at lw_m8 42 rfl) rfl
theorem q1868 : (Jvm.Cond.code ({ cls := "LetterNightsModel", name := "moon", desc := "(I)I" } : Jvm.MethodName) prog_17_method_65_code (2 : Nat) (Option.some Jvm.ClassFile.FieldType.int)) ∈ lw_all := lw_g (lw_at lw_m8 43 rfl) rfl
theorem q1869 : (Jvm.Cond.constantLong "LetterNightsModel" (332 : Nat) (9 : Int64)) ∈ lw_all := lw_g (lw_at lw_m8 44 rfl) rfl
theorem q1871 : (Jvm.Cond.instanceMethod ({ cls := "LetterNightsModel", name := "undo", desc := "(I)I" } : Jvm.MethodName)) ∈ lw_all := lw_g (lw_at lw_m8 46 rfl) rfl
theorem q1872 : (Jvm.Cond.selects "LetterNightsModel" ({ cls := "LetterNightsModel", name := "undo", desc := "(I)I" } : Jvm.MethodName) ({ cls := "LetterNightsModel", name := "undo", desc := "(I)I" } : Jvm.MethodName)) ∈ lw_all := lw_g (lw_at lw_m8 47 rfl) rfl
theorem q1873 : (Jvm.Cond.code ({ cls := "LetterNightsModel", name := "undo", desc := "(I)I" } : Jvm.MethodName) prog_17_method_66_code (3 : Nat) (Option.some Jvm.ClassFile.FieldType.int)) ∈ lw_all := lw_g (lw_at lw_m8 48 rfl) rfl
theorem q1875 : (Jvm.Cond.instanceMethod ({ cls := "LetterNightsModel", name := "judge", desc := "(II)I" } : Jvm.MethodName)) ∈ lw_all := lw_g (lw_at lw_m8 50 rfl) rfl
theorem q1876 : (Jvm.Cond.selects "LetterNightsModel" ({ cls := "LetterNightsModel", name := "judge", desc := "(II)I" } : Jvm.MethodName) ({ cls := "LetterNightsModel", name := "judge", desc := "(II)I" } : Jvm.MethodName)) ∈ lw_all := lw_g (lw_at lw_m8 51 rfl) rfl
theorem q1877 : (Jvm.Cond.code ({ cls := "LetterNightsModel", name := "judge", desc := "(II)I" } : Jvm.MethodName) prog_17_method_73_code (7 : Nat) (Option.some Jvm.ClassFile.FieldType.int)) ∈ lw_all := lw_g (lw_at lw_m8 52 rfl) rfl
theorem q1878 : (Jvm.Cond.constantLong "LetterNightsModel" (334 : Nat) (3 : Int64)) ∈ lw_all := lw_g (lw_at lw_m8 53 rfl) rfl
theorem q1879 : (Jvm.Cond.methodLink "LetterNightsModel" (347 : Nat) ({ cls := "LetterNightsModel", name := "noTray", desc := "(I)I" } : Jvm.MethodName)) ∈ lw_all := lw_g (lw_at lw_m8 54 rfl) rfl
theorem q1880 : (Jvm.Cond.privateMethod ({ cls := "LetterNightsModel", name := "noTray", desc := "(I)I" } : Jvm.MethodName)) ∈ lw_tbl := lw_at lw_m8 55 rfl
theorem q1881 : (Jvm.Cond.instanceMethod ({ cls := "LetterNightsModel", name := "noTray", desc := "(I)I" } : Jvm.MethodName)) ∈ lw_all := lw_g (lw_at lw_m8 56 rfl) rfl
theorem q1882 : (Jvm.Cond.code ({ cls := "LetterNightsModel", name := "noTray", desc := "(I)I" } : Jvm.MethodName) prog_17_method_70_code (2 : Nat) (Option.some Jvm.ClassFile.FieldType.int)) ∈ lw_all := lw_g (lw_at lw_m8 57 rfl) rfl
theorem q1883 : (Jvm.Cond.methodLink "LetterNightsModel" (350 : Nat) ({ cls := "LetterNightsModel", name := "storesBy", desc := "()V" } : Jvm.MethodName)) ∈ lw_all := lw_g (lw_at lw_m8 58 rfl) rfl
theorem q1884 : (Jvm.Cond.privateMethod ({ cls := "LetterNightsModel", name := "storesBy", desc := "()V" } : Jvm.MethodName)) ∈ lw_tbl := lw_at lw_m8 59 rfl
theorem q1885 : (Jvm.Cond.instanceMethod ({ cls := "LetterNightsModel", name := "storesBy", desc := "()V" } : Jvm.MethodName)) ∈ lw_all := lw_g (lw_at lw_m8 60 rfl) rfl
theorem q1886 : (Jvm.Cond.code ({ cls := "LetterNightsModel", name := "storesBy", desc := "()V" } : Jvm.MethodName) prog_17_method_71_code (2 : Nat) (Option.none : Option Jvm.ClassFile.FieldType)) ∈ lw_all := lw_g (lw_at lw_m8 61 rfl) rfl
theorem q1887 : (Jvm.Cond.methodLink "LetterNightsModel" (353 : Nat) ({ cls := "LetterNightsModel", name := "tells", desc := "(I)I" } : Jvm.MethodName)) ∈ lw_all := lw_g (lw_at lw_m8 62 rfl) rfl
theorem q1888 : (Jvm.Cond.privateMethod ({ cls := "LetterNightsModel", name := "tells", desc := "(I)I" } : Jvm.MethodName)) ∈ lw_tbl := lw_at lw_m8 63 rfl
theorem q1889 : (Jvm.Cond.instanceMethod ({ cls := "LetterNightsModel", name := "tells", desc := "(I)I" } : Jvm.MethodName)) ∈ lw_all := lw_g (lw_at lw_m8 64 rfl) rfl
theorem q1890 : (Jvm.Cond.code ({ cls := "LetterNightsModel", name := "tells", desc := "(I)I" } : Jvm.MethodName) prog_17_method_69_code (3 : Nat) (Option.some Jvm.ClassFile.FieldType.int)) ∈ lw_all := lw_g (lw_at lw_m8 65 rfl) rfl
theorem q1891 : (Jvm.Cond.methodLink "LetterNightsModel" (341 : Nat) ({ cls := "LetterNightsModel", name := "whyNot", desc := "(J)I" } : Jvm.MethodName)) ∈ lw_all := lw_g (lw_at lw_m8 66 rfl) rfl
theorem q1892 : (Jvm.Cond.privateMethod ({ cls := "LetterNightsModel", name := "whyNot", desc := "(J)I" } : Jvm.MethodName)) ∈ lw_tbl := lw_at lw_m8 67 rfl
theorem q1893 : (Jvm.Cond.instanceMethod ({ cls := "LetterNightsModel", name := "whyNot", desc := "(J)I" } : Jvm.MethodName)) ∈ lw_all := lw_g (lw_at lw_m8 68 rfl) rfl
theorem q1894 : (Jvm.Cond.code ({ cls := "LetterNightsModel", name := "whyNot", desc := "(J)I" } : Jvm.MethodName) prog_17_method_67_code (3 : Nat) (Option.some Jvm.ClassFile.FieldType.int)) ∈ lw_all := lw_g (lw_at lw_m8 69 rfl) rfl
theorem q1895 : (Jvm.Cond.constantLong "LetterNightsModel" (336 : Nat) (19 : Int64)) ∈ lw_all := lw_g (lw_at lw_m8 70 rfl) rfl
theorem q1896 : (Jvm.Cond.methodLink "LetterNightsModel" (344 : Nat) ({ cls := "LetterNightsModel", name := "does", desc := "(I)V" } : Jvm.MethodName)) ∈ lw_all := lw_g (lw_at lw_m8 71 rfl) rfl
theorem q1897 : (Jvm.Cond.privateMethod ({ cls := "LetterNightsModel", name := "does", desc := "(I)V" } : Jvm.MethodName)) ∈ lw_tbl := lw_at lw_m8 72 rfl
theorem q1898 : (Jvm.Cond.instanceMethod ({ cls := "LetterNightsModel", name := "does", desc := "(I)V" } : Jvm.MethodName)) ∈ lw_all := lw_g (lw_at lw_m8 73 rfl) rfl
theorem q1899 : (Jvm.Cond.code ({ cls := "LetterNightsModel", name := "does", desc := "(I)V" } : Jvm.MethodName) prog_17_method_68_code (2 : Nat) (Option.none : Option Jvm.ClassFile.FieldType)) ∈ lw_all := lw_g (lw_at lw_m8 74 rfl) rfl
theorem q1900 : (Jvm.Cond.methodLink "LetterNightsModel" (356 : Nat) ({ cls := "LetterNightsModel", name := "isAgain", desc := "()V" } : Jvm.MethodName)) ∈ lw_all := lw_g (lw_at lw_m8 75 rfl) rfl
theorem q1901 : (Jvm.Cond.privateMethod ({ cls := "LetterNightsModel", name := "isAgain", desc := "()V" } : Jvm.MethodName)) ∈ lw_tbl := lw_at lw_m8 76 rfl
theorem q1902 : (Jvm.Cond.instanceMethod ({ cls := "LetterNightsModel", name := "isAgain", desc := "()V" } : Jvm.MethodName)) ∈ lw_all := lw_g (lw_at lw_m8 77 rfl) rfl
theorem q1903 : (Jvm.Cond.code ({ cls := "LetterNightsModel", name := "isAgain", desc := "()V" } : Jvm.MethodName) prog_17_method_58_code (2 : Nat) (Option.none : Option Jvm.ClassFile.FieldType)) ∈ lw_all := lw_g (lw_at lw_m8 78 rfl) rfl
theorem q1904 : (Jvm.Cond.methodLink "LetterNightsModel" (359 : Nat) ({ cls := "LetterNightsModel", name := "isAgainBy", desc := "()V" } : Jvm.MethodName)) ∈ lw_all := lw_g (lw_at lw_m8 79 rfl) rfl
theorem q1905 : (Jvm.Cond.privateMethod ({ cls := "LetterNightsModel", name := "isAgainBy", desc := "()V" } : Jvm.MethodName)) ∈ lw_tbl := lw_at lw_m8 80 rfl
theorem q1906 : (Jvm.Cond.instanceMethod ({ cls := "LetterNightsModel", name := "isAgainBy", desc := "()V" } : Jvm.MethodName)) ∈ lw_all := lw_g (lw_at lw_m8 81 rfl) rfl
theorem q1907 : (Jvm.Cond.code ({ cls := "LetterNightsModel", name := "isAgainBy", desc := "()V" } : Jvm.MethodName) prog_17_method_72_code (2 : Nat) (Option.none : Option Jvm.ClassFile.FieldType)) ∈ lw_all := lw_g (lw_at lw_m8 82 rfl) rfl
theorem q1909 : (Jvm.Cond.instanceMethod ({ cls := "LetterNightsModel", name := "perform", desc := "(I)I" } : Jvm.MethodName)) ∈ lw_all := lw_g (lw_at lw_m8 84 rfl) rfl
theorem q1910 : (Jvm.Cond.selects "LetterNightsModel" ({ cls := "LetterNightsModel", name := "perform", desc := "(I)I" } : Jvm.MethodName) ({ cls := "LetterNightsModel", name := "perform", desc := "(I)I" } : Jvm.MethodName)) ∈ lw_all := lw_g (lw_at lw_m8 85 rfl) rfl
theorem q1911 : (Jvm.Cond.code ({ cls := "LetterNightsModel", name := "perform", desc := "(I)I" } : Jvm.MethodName) prog_17_method_74_code (4 : Nat) (Option.some Jvm.ClassFile.FieldType.int)) ∈ lw_all := lw_g (lw_at lw_m8 86 rfl) rfl
theorem q1913 : (Jvm.Cond.instanceMethod ({ cls := "LetterNightsModel", name := "year", desc := "(II)I" } : Jvm.MethodName)) ∈ lw_all := lw_g (lw_at lw_m8 88 rfl) rfl
theorem q1914 : (Jvm.Cond.selects "LetterNightsModel" ({ cls := "LetterNightsModel", name := "year", desc := "(II)I" } : Jvm.MethodName) ({ cls := "LetterNightsModel", name := "year", desc := "(II)I" } : Jvm.MethodName)) ∈ lw_all := lw_g (lw_at lw_m8 89 rfl) rfl
theorem q1915 : (Jvm.Cond.code ({ cls := "LetterNightsModel", name := "year", desc := "(II)I" } : Jvm.MethodName) prog_17_method_77_code (6 : Nat) (Option.some Jvm.ClassFile.FieldType.int)) ∈ lw_all := lw_g (lw_at lw_m8 90 rfl) rfl
theorem q1916 : (Jvm.Cond.constantLong "LetterNightsModel" (369 : Nat) (20 : Int64)) ∈ lw_all := lw_g (lw_at lw_m8 91 rfl) rfl
theorem q1917 : (Jvm.Cond.methodLink "LetterNightsModel" (371 : Nat) ({ cls := "LetterNightsModel", name := "drawn", desc := "()I" } : Jvm.MethodName)) ∈ lw_all := lw_g (lw_at lw_m8 92 rfl) rfl
theorem q1918 : (Jvm.Cond.privateMethod ({ cls := "LetterNightsModel", name := "drawn", desc := "()I" } : Jvm.MethodName)) ∈ lw_tbl := lw_at lw_m8 93 rfl
theorem q1919 : (Jvm.Cond.instanceMethod ({ cls := "LetterNightsModel", name := "drawn", desc := "()I" } : Jvm.MethodName)) ∈ lw_all := lw_g (lw_at lw_m8 94 rfl) rfl
theorem q1920 : (Jvm.Cond.code ({ cls := "LetterNightsModel", name := "drawn", desc := "()I" } : Jvm.MethodName) prog_17_method_76_code (2 : Nat) (Option.some Jvm.ClassFile.FieldType.int)) ∈ lw_all := lw_g (lw_at lw_m8 95 rfl) rfl
theorem q1921 : (Jvm.Cond.methodLink "LetterNightsModel" (366 : Nat) ({ cls := "LetterNightsModel", name := "draw", desc := "(I)I" } : Jvm.MethodName)) ∈ lw_all := lw_g (lw_at lw_m8 96 rfl) rfl
theorem q1922 : (Jvm.Cond.privateMethod ({ cls := "LetterNightsModel", name := "draw", desc := "(I)I" } : Jvm.MethodName)) ∈ lw_tbl := lw_at lw_m8 97 rfl
theorem q1923 : (Jvm.Cond.instanceMethod ({ cls := "LetterNightsModel", name := "draw", desc := "(I)I" } : Jvm.MethodName)) ∈ lw_all := lw_g (lw_at lw_m8 98 rfl) rfl
theorem q1924 : (Jvm.Cond.code ({ cls := "LetterNightsModel", name := "draw", desc := "(I)I" } : Jvm.MethodName) prog_17_method_75_code (2 : Nat) (Option.some Jvm.ClassFile.FieldType.int)) ∈ lw_all := lw_g (lw_at lw_m8 99 rfl) rfl
theorem q1925 : (Jvm.Cond.constant "LetterNightsModel" (362 : Nat) (1103515245 : Int32)) ∈ lw_all := lw_g (lw_at lw_m8 100 rfl) rfl
theorem q1927 : (Jvm.Cond.instanceMethod ({ cls := "LetterNightsModel", name := "occurs", desc := "(I)J" } : Jvm.MethodName)) ∈ lw_all := lw_g (lw_at lw_m8 102 rfl) rfl
theorem q1928 : (Jvm.Cond.selects "LetterNightsModel" ({ cls := "LetterNightsModel", name := "occurs", desc := "(I)J" } : Jvm.MethodName) ({ cls := "LetterNightsModel", name := "occurs", desc := "(I)J" } : Jvm.MethodName)) ∈ lw_all := lw_g (lw_at lw_m8 103 rfl) rfl
theorem q1929 : (Jvm.Cond.code ({ cls := "LetterNightsModel", name := "occurs", desc := "(I)J" } : Jvm.MethodName) prog_17_method_82_code (8 : Nat) (Option.some Jvm.ClassFile.FieldType.long)) ∈ lw_all := lw_g (lw_at lw_m8 104 rfl) rfl
theorem q1930 : (Jvm.Cond.methodLink "LetterNightsModel" (383 : Nat) ({ cls := "LetterNightsModel", name := "noWord", desc := "(I)I" } : Jvm.MethodName)) ∈ lw_all := lw_g (lw_at lw_m8 105 rfl) rfl
theorem q1931 : (Jvm.Cond.privateMethod ({ cls := "LetterNightsModel", name := "noWord", desc := "(I)I" } : Jvm.MethodName)) ∈ lw_tbl := lw_at lw_m8 106 rfl
theorem q1932 : (Jvm.Cond.instanceMethod ({ cls := "LetterNightsModel", name := "noWord", desc := "(I)I" } : Jvm.MethodName)) ∈ lw_all := lw_g (lw_at lw_m8 107 rfl) rfl
theorem q1933 : (Jvm.Cond.code ({ cls := "LetterNightsModel", name := "noWord", desc := "(I)I" } : Jvm.MethodName) prog_17_method_78_code (4 : Nat) (Option.some Jvm.ClassFile.FieldType.int)) ∈ lw_all := lw_g (lw_at lw_m8 108 rfl) rfl
theorem q1934 : (Jvm.Cond.constantLong "LetterNightsModel" (374 : Nat) (6 : Int64)) ∈ lw_all := lw_g (lw_at lw_m8 109 rfl) rfl
theorem q1935 : (Jvm.Cond.methodLink "LetterNightsModel" (386 : Nat) ({ cls := "LetterNightsModel", name := "laysSpelling", desc := "(I)V" } : Jvm.MethodName)) ∈ lw_all := lw_g (lw_at lw_m8 110 rfl) rfl
theorem q1936 : (Jvm.Cond.privateMethod ({ cls := "LetterNightsModel", name := "laysSpelling", desc := "(I)V" } : Jvm.MethodName)) ∈ lw_tbl := lw_at lw_m8 111 rfl
theorem q1937 : (Jvm.Cond.instanceMethod ({ cls := "LetterNightsModel", name := "laysSpelling", desc := "(I)V" } : Jvm.MethodName)) ∈ lw_all := lw_g (lw_at lw_m8 112 rfl) rfl
theorem q1938 : (Jvm.Cond.code ({ cls := "LetterNightsModel", name := "laysSpelling", desc := "(I)V" } : Jvm.MethodName) prog_17_method_79_code (3 : Nat) (Option.none : Option Jvm.ClassFile.FieldType)) ∈ lw_all := lw_g (lw_at lw_m8 113 rfl) rfl
theorem q1939 : (Jvm.Cond.methodLink "LetterNightsModel" (389 : Nat) ({ cls := "LetterNightsModel", name := "laysHits", desc := "()V" } : Jvm.MethodName)) ∈ lw_all := lw_g (lw_at lw_m8 114 rfl) rfl
theorem q1940 : (Jvm.Cond.privateMethod ({ cls := "LetterNightsModel", name := "laysHits", desc := "()V" } : Jvm.MethodName)) ∈ lw_tbl := lw_at lw_m8 115 rfl
theorem q1941 : (Jvm.Cond.instanceMethod ({ cls := "LetterNightsModel", name := "laysHits", desc := "()V" } : Jvm.MethodName)) ∈ lw_all := lw_g (lw_at lw_m8 116 rfl) rfl
theorem q1942 : (Jvm.Cond.code ({ cls := "LetterNightsModel", name := "laysHits", desc := "()V" } : Jvm.MethodName) prog_17_method_81_code (9 : Nat) (Option.none : Option Jvm.ClassFile.FieldType)) ∈ lw_all := lw_g (lw_at lw_m8 117 rfl) rfl
theorem q1943 : (Jvm.Cond.methodLink "LetterNightsModel" (379 : Nat) ({ cls := "LetterNightsModel", name := "isRead", desc := "(III)Z" } : Jvm.MethodName)) ∈ lw_all := lw_g (lw_at lw_m8 118 rfl) rfl
theorem q1944 : (Jvm.Cond.privateMethod ({ cls := "LetterNightsModel", name := "isRead", desc := "(III)Z" } : Jvm.MethodName)) ∈ lw_tbl := lw_at lw_m8 119 rfl
theorem q1945 : (Jvm.Cond.instanceMethod ({ cls := "LetterNightsModel", name := "isRead", desc := "(III)Z" } : Jvm.MethodName)) ∈ lw_all := lw_g (lw_at lw_m8 120 rfl) rfl
theorem q1946 : (Jvm.Cond.code ({ cls := "LetterNightsModel", name := "isRead", desc := "(III)Z" } : Jvm.MethodName) prog_17_method_80_code (5 : Nat) (Option.some Jvm.ClassFile.FieldType.boolean)) ∈ lw_all := lw_g (lw_at lw_m8 121 rfl) rfl
theorem q1948 : (Jvm.Cond.instanceMethod ({ cls := "LetterNightsModel", name := "first", desc := "(I)J" } : Jvm.MethodName)) ∈ lw_all := lw_g (lw_at lw_m8 123 rfl) rfl
theorem q1949 : (Jvm.Cond.selects "LetterNightsModel" ({ cls := "LetterNightsModel", name := "first", desc := "(I)J" } : Jvm.MethodName) ({ cls := "LetterNightsModel", name := "first", desc := "(I)J" } : Jvm.MethodName)) ∈ lw_all := lw_g (lw_at lw_m8 124 rfl) rfl
theorem q1950 : (Jvm.Cond.code ({ cls := "LetterNightsModel", name := "first", desc := "(I)J" } : Jvm.MethodName) prog_17_method_83_code (10 : Nat) (Option.some Jvm.ClassFile.FieldType.long)) ∈ lw_all := lw_g (lw_at lw_m8 125 rfl) rfl
theorem q1952 : (Jvm.Cond.instanceMethod ({ cls := "LetterNightsModel", name := "backs", desc := "(II)I" } : Jvm.MethodName)) ∈ lw_all := lw_g (lw_at lw_m8 127 rfl) rfl
theorem q1953 : (Jvm.Cond.selects "LetterNightsModel" ({ cls := "LetterNightsModel", name := "backs", desc := "(II)I" } : Jvm.MethodName) ({ cls := "LetterNightsModel", name := "backs", desc := "(II)I" } : Jvm.MethodName)) ∈ lw_all := lw_g (lw_at lw_m8 128 rfl) rfl
theorem q1954 : (Jvm.Cond.code ({ cls := "LetterNightsModel", name := "backs", desc := "(II)I" } : Jvm.MethodName) prog_17_method_87_code (4 : Nat) (Option.some Jvm.ClassFile.FieldType.int)) ∈ lw_all := lw_g (lw_at lw_m8 129 rfl) rfl
theorem q1955 : (Jvm.Cond.methodLink "LetterNightsModel" (395 : Nat) ({ cls := "LetterNightsModel", name := "noBack", desc := "(II)I" } : Jvm.MethodName)) ∈ lw_all := lw_g (lw_at lw_m8 130 rfl) rfl
theorem q1956 : (Jvm.Cond.privateMethod ({ cls := "LetterNightsModel", name := "noBack", desc := "(II)I" } : Jvm.MethodName)) ∈ lw_tbl := lw_at lw_m8 131 rfl
theorem q1957 : (Jvm.Cond.instanceMethod ({ cls := "LetterNightsModel", name := "noBack", desc := "(II)I" } : Jvm.MethodName)) ∈ lw_all := lw_g (lw_at lw_m8 132 rfl) rfl
theorem q1958 : (Jvm.Cond.code ({ cls := "LetterNightsModel", name := "noBack", desc := "(II)I" } : Jvm.MethodName) prog_17_method_86_code (3 : Nat) (Option.some Jvm.ClassFile.FieldType.int)) ∈ lw_all := lw_g (lw_at lw_m8 133 rfl) rfl
theorem q1959 : (Jvm.Cond.methodLink "LetterNightsModel" (398 : Nat) ({ cls := "LetterNightsModel", name := "laysBacks", desc := "(II)I" } : Jvm.MethodName)) ∈ lw_all := lw_g (lw_at lw_m8 134 rfl) rfl
theorem q1960 : (Jvm.Cond.privateMethod ({ cls := "LetterNightsModel", name := "laysBacks", desc := "(II)I" } : Jvm.MethodName)) ∈ lw_tbl := lw_at lw_m8 135 rfl
theorem q1961 : (Jvm.Cond.instanceMethod ({ cls := "LetterNightsModel", name := "laysBacks", desc := "(II)I" } : Jvm.MethodName)) ∈ lw_all := lw_g (lw_at lw_m8 136 rfl) rfl
theorem q1962 : (Jvm.Cond.code ({ cls := "LetterNightsModel", name := "laysBacks", desc := "(II)I" } : Jvm.MethodName) prog_17_method_85_code (5 : Nat) (Option.some Jvm.ClassFile.FieldType.int)) ∈ lw_all := lw_g (lw_at lw_m8 137 rfl) rfl
theorem q1963 : (Jvm.Cond.methodLink "LetterNightsModel" (392 : Nat) ({ cls := "LetterNightsModel", name := "isBack", desc := "(III)Z" } : Jvm.MethodName)) ∈ lw_all := lw_g (lw_at lw_m8 138 rfl) rfl
theorem q1964 : (Jvm.Cond.privateMethod ({ cls := "LetterNightsModel", name := "isBack", desc := "(III)Z" } : Jvm.MethodName)) ∈ lw_tbl := lw_at lw_m8 139 rfl
theorem q1965 : (Jvm.Cond.instanceMethod ({ cls := "LetterNightsModel", name := "isBack", desc := "(III)Z" } : Jvm.MethodName)) ∈ lw_all := lw_g (lw_at lw_m8 140 rfl) rfl
theorem q1966 : (Jvm.Cond.code ({ cls := "LetterNightsModel", name := "isBack", desc := "(III)Z" } : Jvm.MethodName) prog_17_method_84_code (6 : Nat) (Option.some Jvm.ClassFile.FieldType.boolean)) ∈ lw_all := lw_g (lw_at lw_m8 141 rfl) rfl
theorem q1968 : (Jvm.Cond.instanceMethod ({ cls := "LetterNightsModel", name := "backBy", desc := "(III)I" } : Jvm.MethodName)) ∈ lw_all := lw_g (lw_at lw_m8 143 rfl) rfl
theorem q1969 : (Jvm.Cond.selects "LetterNightsModel" ({ cls := "LetterNightsModel", name := "backBy", desc := "(III)I" } : Jvm.MethodName) ({ cls := "LetterNightsModel", name := "backBy", desc := "(III)I" } : Jvm.MethodName)) ∈ lw_all := lw_g (lw_at lw_m8 144 rfl) rfl
theorem q1970 : (Jvm.Cond.code ({ cls := "LetterNightsModel", name := "backBy", desc := "(III)I" } : Jvm.MethodName) prog_17_method_88_code (8 : Nat) (Option.some Jvm.ClassFile.FieldType.int)) ∈ lw_all := lw_g (lw_at lw_m8 145 rfl) rfl
theorem q1972 : (Jvm.Cond.instanceMethod ({ cls := "LetterNightsModel", name := "fate", desc := "(II)I" } : Jvm.MethodName)) ∈ lw_all := lw_g (lw_at lw_m8 147 rfl) rfl
theorem q1973 : (Jvm.Cond.selects "LetterNightsModel" ({ cls := "LetterNightsModel", name := "fate", desc := "(II)I" } : Jvm.MethodName) ({ cls := "LetterNightsModel", name := "fate", desc := "(II)I" } : Jvm.MethodName)) ∈ lw_all := lw_g (lw_at lw_m8 148 rfl) rfl
theorem q1974 : (Jvm.Cond.code ({ cls := "LetterNightsModel", name := "fate", desc := "(II)I" } : Jvm.MethodName) prog_17_method_95_code (3 : Nat) (Option.some Jvm.ClassFile.FieldType.int)) ∈ lw_all := lw_g (lw_at lw_m8 149 rfl) rfl
theorem q1975 : (Jvm.Cond.methodLink "LetterNightsModel" (421 : Nat) ({ cls := "LetterNightsModel", name := "fateOf", desc := "(II)I" } : Jvm.MethodName)) ∈ lw_all := lw_g (lw_at lw_m8 150 rfl) rfl
theorem q1976 : (Jvm.Cond.privateMethod ({ cls := "LetterNightsModel", name := "fateOf", desc := "(II)I" } : Jvm.MethodName)) ∈ lw_tbl := lw_at lw_m8 151 rfl
theorem q1977 : (Jvm.Cond.instanceMethod ({ cls := "LetterNightsModel", name := "fateOf", desc := "(II)I" } : Jvm.MethodName)) ∈ lw_all := lw_g (lw_at lw_m8 152 rfl) rfl
theorem q1978 : (Jvm.Cond.code ({ cls := "LetterNightsModel", name := "fateOf", desc := "(II)I" } : Jvm.MethodName) prog_17_method_94_code (4 : Nat) (Option.some Jvm.ClassFile.FieldType.int)) ∈ lw_all := lw_g (lw_at lw_m8 153 rfl) rfl
theorem q1979 : (Jvm.Cond.methodLink "LetterNightsModel" (411 : Nat) ({ cls := "LetterNightsModel", name := "laysReach", desc := "(I)V" } : Jvm.MethodName)) ∈ lw_all := lw_g (lw_at lw_m8 154 rfl) rfl
theorem q1980 : (Jvm.Cond.privateMethod ({ cls := "LetterNightsModel", name := "laysReach", desc := "(I)V" } : Jvm.MethodName)) ∈ lw_tbl := lw_at lw_m8 155 rfl
theorem q1981 : (Jvm.Cond.instanceMethod ({ cls := "LetterNightsModel", name := "laysReach", desc := "(I)V" } : Jvm.MethodName)) ∈ lw_all := lw_g (lw_at lw_m8 156 rfl) rfl
theorem q1982 : (Jvm.Cond.code ({ cls := "LetterNightsModel", name := "laysReach", desc := "(I)V" } : Jvm.MethodName) prog_17_method_89_code (4 : Nat) (Option.none : Option Jvm.ClassFile.FieldType)) ∈ lw_all := lw_g (lw_at lw_m8 157 rfl) rfl
theorem q1983 : (Jvm.Cond.methodLink "LetterNightsModel" (401 : Nat) ({ cls := "LetterNightsModel", name := "isIn", desc := "(JI)Z" } : Jvm.MethodName)) ∈ lw_all := lw_g (lw_at lw_m8 158 rfl) rfl
theorem q1984 : (Jvm.Cond.static ({ cls := "LetterNightsModel", name := "isIn", desc := "(JI)Z" } : Jvm.MethodName)) ∈ lw_all := lw_g (lw_at lw_m8 159 rfl) rfl
theorem q1985 : (Jvm.Cond.code ({ cls := "LetterNightsModel", name := "isIn", desc := "(JI)Z" } : Jvm.MethodName) prog_17_method_15_code (3 : Nat) (Option.some Jvm.ClassFile.FieldType.boolean)) ∈ lw_all := lw_g (lw_at lw_m8 160 rfl) rfl
theorem q1986 : (Jvm.Cond.methodLink "LetterNightsModel" (405 : Nat) ({ cls := "LetterNightsModel", name := "itsAll", desc := "(I)I" } : Jvm.MethodName)) ∈ lw_all := lw_g (lw_at lw_m8 161 rfl) rfl
theorem q1987 : (Jvm.Cond.privateMethod ({ cls := "LetterNightsModel", name := "itsAll", desc := "(I)I" } : Jvm.MethodName)) ∈ lw_tbl := lw_at lw_m8 162 rfl
theorem q1988 : (Jvm.Cond.instanceMethod ({ cls := "LetterNightsModel", name := "itsAll", desc := "(I)I" } : Jvm.MethodName)) ∈ lw_all := lw_g (lw_at lw_m8 163 rfl) rfl
theorem q1989 : (Jvm.Cond.code ({ cls := "LetterNightsModel", name := "itsAll", desc := "(I)I" } : Jvm.MethodName) prog_17_method_90_code (2 : Nat) (Option.some Jvm.ClassFile.FieldType.int)) ∈ lw_all := lw_g (lw_at lw_m8 164 rfl) rfl
theorem q1990 : (Jvm.Cond.methodLink "LetterNightsModel" (414 : Nat) ({ cls := "LetterNightsModel", name := "isDoubled", desc := "(II)Z" } : Jvm.MethodName)) ∈ lw_all := lw_g (lw_at lw_m8 165 rfl) rfl
theorem q1991 : (Jvm.Cond.privateMethod ({ cls := "LetterNightsModel", name := "isDoubled", desc := "(II)Z" } : Jvm.MethodName)) ∈ lw_tbl := lw_at lw_m8 166 rfl
theorem q1992 : (Jvm.Cond.instanceMethod ({ cls := "LetterNightsModel", name := "isDoubled", desc := "(II)Z" } : Jvm.MethodName)) ∈ lw_all := lw_g (lw_at lw_m8 167 rfl) rfl
theorem q1993 : (Jvm.Cond.code ({ cls := "LetterNightsModel", name := "isDoubled", desc := "(II)Z" } : Jvm.MethodName) prog_17_method_91_code (5 : Nat) (Option.some Jvm.ClassFile.FieldType.boolean)) ∈ lw_all := lw_g (lw_at lw_m8 168 rfl) rfl
theorem q1994 : (Jvm.Cond.methodLink "LetterNightsModel" (418 : Nat) ({ cls := "LetterNightsModel", name := "mostRow", desc := "(I)I" } : Jvm.MethodName)) ∈ lw_all := lw_g (lw_at lw_m8 169 rfl) rfl
theorem q1995 : (Jvm.Cond.privateMethod ({ cls := "LetterNightsModel", name := "mostRow", desc := "(I)I" } : Jvm.MethodName)) ∈ lw_tbl := lw_at lw_m8 170 rfl
theorem q1996 : (Jvm.Cond.instanceMethod ({ cls := "LetterNightsModel", name := "mostRow", desc := "(I)I" } : Jvm.MethodName)) ∈ lw_all := lw_g (lw_at lw_m8 171 rfl) rfl
theorem q1997 : (Jvm.Cond.code ({ cls := "LetterNightsModel", name := "mostRow", desc := "(I)I" } : Jvm.MethodName) prog_17_method_93_code (5 : Nat) (Option.some Jvm.ClassFile.FieldType.int)) ∈ lw_all := lw_g (lw_at lw_m8 172 rfl) rfl
theorem q1998 : (Jvm.Cond.methodLink "LetterNightsModel" (408 : Nat) ({ cls := "LetterNightsModel", name := "rowFrom", desc := "(I)I" } : Jvm.MethodName)) ∈ lw_all := lw_g (lw_at lw_m8 173 rfl) rfl
theorem q1999 : (Jvm.Cond.privateMethod ({ cls := "LetterNightsModel", name := "rowFrom", desc := "(I)I" } : Jvm.MethodName)) ∈ lw_tbl := lw_at lw_m8 174 rfl
theorem q2000 : (Jvm.Cond.instanceMethod ({ cls := "LetterNightsModel", name := "rowFrom", desc := "(I)I" } : Jvm.MethodName)) ∈ lw_all := lw_g (lw_at lw_m8 175 rfl) rfl
theorem q2001 : (Jvm.Cond.code ({ cls := "LetterNightsModel", name := "rowFrom", desc := "(I)I" } : Jvm.MethodName) prog_17_method_92_code (5 : Nat) (Option.some Jvm.ClassFile.FieldType.int)) ∈ lw_all := lw_g (lw_at lw_m8 176 rfl) rfl
theorem q2003 : (Jvm.Cond.instanceMethod ({ cls := "LetterNightsModel", name := "degree", desc := "(II)I" } : Jvm.MethodName)) ∈ lw_all := lw_g (lw_at lw_m8 178 rfl) rfl
theorem q2004 : (Jvm.Cond.selects "LetterNightsModel" ({ cls := "LetterNightsModel", name := "degree", desc := "(II)I" } : Jvm.MethodName) ({ cls := "LetterNightsModel", name := "degree", desc := "(II)I" } : Jvm.MethodName)) ∈ lw_all := lw_g (lw_at lw_m8 179 rfl) rfl
theorem q2005 : (Jvm.Cond.code ({ cls := "LetterNightsModel", name := "degree", desc := "(II)I" } : Jvm.MethodName) prog_17_method_96_code (3 : Nat) (Option.some Jvm.ClassFile.FieldType.int)) ∈ lw_all := lw_g (lw_at lw_m8 180 rfl) rfl
theorem q2007 : (Jvm.Cond.instanceMethod ({ cls := "LetterNightsModel", name := "begins", desc := "(I)I" } : Jvm.MethodName)) ∈ lw_all := lw_g (lw_at lw_m8 182 rfl) rfl
theorem q2008 : (Jvm.Cond.selects "LetterNightsModel" ({ cls := "LetterNightsModel", name := "begins", desc := "(I)I" } : Jvm.MethodName) ({ cls := "LetterNightsModel", name := "begins", desc := "(I)I" } : Jvm.MethodName)) ∈ lw_all := lw_g (lw_at lw_m8 183 rfl) rfl
theorem q2009 : (Jvm.Cond.code ({ cls := "LetterNightsModel", name := "begins", desc := "(I)I" } : Jvm.MethodName) prog_17_method_97_code (4 : Nat) (Option.some Jvm.ClassFile.FieldType.int)) ∈ lw_all := lw_g (lw_at lw_m8 184 rfl) rfl
theorem q2011 : (Jvm.Cond.instanceMethod ({ cls := "LetterNightsModel", name := "comes", desc := "(I)I" } : Jvm.MethodName)) ∈ lw_all := lw_g (lw_at lw_m8 186 rfl) rfl
theorem q2012 : (Jvm.Cond.selects "LetterNightsModel" ({ cls := "LetterNightsModel", name := "comes", desc := "(I)I" } : Jvm.MethodName) ({ cls := "LetterNightsModel", name := "comes", desc := "(I)I" } : Jvm.MethodName)) ∈ lw_all := lw_g (lw_at lw_m8 187 rfl) rfl
theorem q2013 : (Jvm.Cond.code ({ cls := "LetterNightsModel", name := "comes", desc := "(I)I" } : Jvm.MethodName) prog_17_method_103_code (5 : Nat) (Option.some Jvm.ClassFile.FieldType.int)) ∈ lw_all := lw_g (lw_at lw_m8 188 rfl) rfl
theorem q2014 : (Jvm.Cond.methodLink "LetterNightsModel" (424 : Nat) ({ cls := "LetterNightsModel", name := "laysMany", desc := "()V" } : Jvm.MethodName)) ∈ lw_all := lw_g (lw_at lw_m8 189 rfl) rfl
theorem q2015 : (Jvm.Cond.privateMethod ({ cls := "LetterNightsModel", name := "laysMany", desc := "()V" } : Jvm.MethodName)) ∈ lw_tbl := lw_at lw_m8 190 rfl
theorem q2016 : (Jvm.Cond.instanceMethod ({ cls := "LetterNightsModel", name := "laysMany", desc := "()V" } : Jvm.MethodName)) ∈ lw_all := lw_g (lw_at lw_m8 191 rfl) rfl
theorem q2017 : (Jvm.Cond.code ({ cls := "LetterNightsModel", name := "laysMany", desc := "()V" } : Jvm.MethodName) prog_17_method_98_code (2 : Nat) (Option.none : Option Jvm.ClassFile.FieldType)) ∈ lw_all := lw_g (lw_at lw_m8 192 rfl) rfl
theorem q2018 : (Jvm.Cond.constant "LetterNightsModel" (427 : Nat) (268435456 : Int32)) ∈ lw_all := lw_g (lw_at lw_m8 193 rfl) rfl
theorem q2019 : (Jvm.Cond.methodLink "LetterNightsModel" (428 : Nat) ({ cls := "LetterNightsModel", name := "kindsIn", desc := "()I" } : Jvm.MethodName)) ∈ lw_all := lw_g (lw_at lw_m8 194 rfl) rfl
theorem q2020 : (Jvm.Cond.privateMethod ({ cls := "LetterNightsModel", name := "kindsIn", desc := "()I" } : Jvm.MethodName)) ∈ lw_tbl := lw_at lw_m8 195 rfl
theorem q2021 : (Jvm.Cond.instanceMethod ({ cls := "LetterNightsModel", name := "kindsIn", desc := "()I" } : Jvm.MethodName)) ∈ lw_all := lw_g (lw_at lw_m8 196 rfl) rfl
theorem q2022 : (Jvm.Cond.code ({ cls := "LetterNightsModel", name := "kindsIn", desc := "()I" } : Jvm.MethodName) prog_17_method_101_code (3 : Nat) (Option.some Jvm.ClassFile.FieldType.int)) ∈ lw_all := lw_g (lw_at lw_m8 197 rfl) rfl
theorem q2023 : (Jvm.Cond.methodLink "LetterNightsModel" (431 : Nat) ({ cls := "LetterNightsModel", name := "kindsTo", desc := "(II)I" } : Jvm.MethodName)) ∈ lw_all := lw_g (lw_at lw_m8 198 rfl) rfl
theorem q2024 : (Jvm.Cond.privateMethod ({ cls := "LetterNightsModel", name := "kindsTo", desc := "(II)I" } : Jvm.MethodName)) ∈ lw_tbl := lw_at lw_m8 199 rfl
theorem q2025 : (Jvm.Cond.instanceMethod ({ cls := "LetterNightsModel", name := "kindsTo", desc := "(II)I" } : Jvm.MethodName)) ∈ lw_all := lw_g (lw_at lw_m8 200 rfl) rfl
theorem q2026 : (Jvm.Cond.code ({ cls := "LetterNightsModel", name := "kindsTo", desc := "(II)I" } : Jvm.MethodName) prog_17_method_102_code (6 : Nat) (Option.some Jvm.ClassFile.FieldType.int)) ∈ lw_all := lw_g (lw_at lw_m8 201 rfl) rfl
theorem q2028 : (Jvm.Cond.instanceMethod ({ cls := "LetterNightsModel", name := "soonest", desc := "(J)I" } : Jvm.MethodName)) ∈ lw_all := lw_g (lw_at lw_m8 203 rfl) rfl
theorem q2029 : (Jvm.Cond.selects "LetterNightsModel" ({ cls := "LetterNightsModel", name := "soonest", desc := "(J)I" } : Jvm.MethodName) ({ cls := "LetterNightsModel", name := "soonest", desc := "(J)I" } : Jvm.MethodName)) ∈ lw_all := lw_g (lw_at lw_m8 204 rfl) rfl
theorem q2030 : (Jvm.Cond.code ({ cls := "LetterNightsModel", name := "soonest", desc := "(J)I" } : Jvm.MethodName) prog_17_method_106_code (3 : Nat) (Option.some Jvm.ClassFile.FieldType.int)) ∈ lw_all := lw_g (lw_at lw_m8 205 rfl) rfl
theorem q2031 : (Jvm.Cond.methodLink "LetterNightsModel" (445 : Nat) ({ cls := "LetterNightsModel", name := "laysFound", desc := "(J)I" } : Jvm.MethodName)) ∈ lw_all := lw_g (lw_at lw_m8 206 rfl) rfl
theorem q2032 : (Jvm.Cond.privateMethod ({ cls := "LetterNightsModel", name := "laysFound", desc := "(J)I" } : Jvm.MethodName)) ∈ lw_tbl := lw_at lw_m8 207 rfl
theorem q2033 : (Jvm.Cond.instanceMethod ({ cls := "LetterNightsModel", name := "laysFound", desc := "(J)I" } : Jvm.MethodName)) ∈ lw_all := lw_g (lw_at lw_m8 208 rfl) rfl
theorem q2034 : (Jvm.Cond.code ({ cls := "LetterNightsModel", name := "laysFound", desc := "(J)I" } : Jvm.MethodName) prog_17_method_105_code (4 : Nat) (Option.some Jvm.ClassFile.FieldType.int)) ∈ lw_all := lw_g (lw_at lw_m8 209 rfl) rfl
theorem q2035 : (Jvm.Cond.methodLink "LetterNightsModel" (441 : Nat) ({ cls := "LetterNightsModel", name := "finds", desc := "(JII)Z" } : Jvm.MethodName)) ∈ lw_all := lw_g (lw_at lw_m8 210 rfl) rfl
theorem q2036 : (Jvm.Cond.privateMethod ({ cls := "LetterNightsModel", name := "finds", desc := "(JII)Z" } : Jvm.MethodName)) ∈ lw_tbl := lw_at lw_m8 211 rfl
theorem q2037 : (Jvm.Cond.instanceMethod ({ cls := "LetterNightsModel", name := "finds", desc := "(JII)Z" } : Jvm.MethodName)) ∈ lw_all := lw_g (lw_at lw_m8 212 rfl) rfl
theorem q2038 : (Jvm.Cond.code ({ cls := "LetterNightsModel", name := "finds", desc := "(JII)Z" } : Jvm.MethodName) prog_17_method_104_code (6 : Nat) (Option.some Jvm.ClassFile.FieldType.boolean)) ∈ lw_all := lw_g (lw_at lw_m8 213 rfl) rfl
theorem q2039 : (Jvm.Cond.methodLink "LetterNightsModel" (434 : Nat) ({ cls := "LetterNightsModel", name := "longIn", desc := "(I)J" } : Jvm.MethodName)) ∈ lw_all := lw_g (lw_at lw_m8 214 rfl) rfl
theorem q2040 : (Jvm.Cond.privateMethod ({ cls := "LetterNightsModel", name := "longIn", desc := "(I)J" } : Jvm.MethodName)) ∈ lw_tbl := lw_at lw_m8 215 rfl
theorem q2041 : (Jvm.Cond.instanceMethod ({ cls := "LetterNightsModel", name := "longIn", desc := "(I)J" } : Jvm.MethodName)) ∈ lw_all := lw_g (lw_at lw_m8 216 rfl) rfl
theorem q2042 : (Jvm.Cond.code ({ cls := "LetterNightsModel", name := "longIn", desc := "(I)J" } : Jvm.MethodName) prog_17_method_100_code (5 : Nat) (Option.some Jvm.ClassFile.FieldType.long)) ∈ lw_all := lw_g (lw_at lw_m8 217 rfl) rfl
theorem q2043 : (Jvm.Cond.methodLink "LetterNightsModel" (437 : Nat) ({ cls := "LetterNightsModel", name := "goesMany", desc := "(II)V" } : Jvm.MethodName)) ∈ lw_all := lw_g (lw_at lw_m8 218 rfl) rfl
theorem q2044 : (Jvm.Cond.privateMethod ({ cls := "LetterNightsModel", name := "goesMany", desc := "(II)V" } : Jvm.MethodName)) ∈ lw_tbl := lw_at lw_m8 219 rfl
theorem q2045 : (Jvm.Cond.instanceMethod ({ cls := "LetterNightsModel", name := "goesMany", desc := "(II)V" } : Jvm.MethodName)) ∈ lw_all := lw_g (lw_at lw_m8 220 rfl) rfl
theorem q2046 : (Jvm.Cond.code ({ cls := "LetterNightsModel", name := "goesMany", desc := "(II)V" } : Jvm.MethodName) prog_17_method_99_code (6 : Nat) (Option.none : Option Jvm.ClassFile.FieldType)) ∈ lw_all := lw_g (lw_at lw_m8 221 rfl) rfl
theorem q2048 : (Jvm.Cond.instanceMethod ({ cls := "LetterNightsModel", name := "way", desc := "(JI)I" } : Jvm.MethodName)) ∈ lw_all := lw_g (lw_at lw_m8 223 rfl) rfl
theorem q2049 : (Jvm.Cond.selects "LetterNightsModel" ({ cls := "LetterNightsModel", name := "way", desc := "(JI)I" } : Jvm.MethodName) ({ cls := "LetterNightsModel", name := "way", desc := "(JI)I" } : Jvm.MethodName)) ∈ lw_all := lw_g (lw_at lw_m8 224 rfl) rfl
theorem q2050 : (Jvm.Cond.code ({ cls := "LetterNightsModel", name := "way", desc := "(JI)I" } : Jvm.MethodName) prog_17_method_107_code (5 : Nat) (Option.some Jvm.ClassFile.FieldType.int)) ∈ lw_all := lw_g (lw_at lw_m8 225 rfl) rfl
theorem q2052 : (Jvm.Cond.instanceMethod ({ cls := "LetterNightsModel", name := "rows", desc := "(JI)I" } : Jvm.MethodName)) ∈ lw_all := lw_g (lw_at lw_m8 227 rfl) rfl
theorem q2053 : (Jvm.Cond.selects "LetterNightsModel" ({ cls := "LetterNightsModel", name := "rows", desc := "(JI)I" } : Jvm.MethodName) ({ cls := "LetterNightsModel", name := "rows", desc := "(JI)I" } : Jvm.MethodName)) ∈ lw_all := lw_g (lw_at lw_m8 228 rfl) rfl
theorem q2054 : (Jvm.Cond.code ({ cls := "LetterNightsModel", name := "rows", desc := "(JI)I" } : Jvm.MethodName) prog_17_method_109_code (4 : Nat) (Option.some Jvm.ClassFile.FieldType.int)) ∈ lw_all := lw_g (lw_at lw_m8 229 rfl) rfl
theorem q2055 : (Jvm.Cond.constantLong "LetterNightsModel" (452 : Nat) (7 : Int64)) ∈ lw_all := lw_g (lw_at lw_m8 230 rfl) rfl
theorem q2056 : (Jvm.Cond.methodLink "LetterNightsModel" (448 : Nat) ({ cls := "LetterNightsModel", name := "rowsFrom", desc := "(JII)I" } : Jvm.MethodName)) ∈ lw_all := lw_g (lw_at lw_m8 231 rfl) rfl
theorem q2057 : (Jvm.Cond.privateMethod ({ cls := "LetterNightsModel", name := "rowsFrom", desc := "(JII)I" } : Jvm.MethodName)) ∈ lw_tbl := lw_at lw_m8 232 rfl
theorem q2058 : (Jvm.Cond.instanceMethod ({ cls := "LetterNightsModel", name := "rowsFrom", desc := "(JII)I" } : Jvm.MethodName)) ∈ lw_all := lw_g (lw_at lw_m8 233 rfl) rfl
theorem q2059 : (Jvm.Cond.code ({ cls := "LetterNightsModel", name := "rowsFrom", desc := "(JII)I" } : Jvm.MethodName) prog_17_method_108_code (7 : Nat) (Option.some Jvm.ClassFile.FieldType.int)) ∈ lw_all := lw_g (lw_at lw_m8 234 rfl) rfl
theorem q2061 : (Jvm.Cond.instanceMethod ({ cls := "LetterNightsModel", name := "longBy", desc := "(I)I" } : Jvm.MethodName)) ∈ lw_all := lw_g (lw_at lw_m8 236 rfl) rfl
theorem q2062 : (Jvm.Cond.selects "LetterNightsModel" ({ cls := "LetterNightsModel", name := "longBy", desc := "(I)I" } : Jvm.MethodName) ({ cls := "LetterNightsModel", name := "longBy", desc := "(I)I" } : Jvm.MethodName)) ∈ lw_all := lw_g (lw_at lw_m8 237 rfl) rfl
theorem q2063 : (Jvm.Cond.code ({ cls := "LetterNightsModel", name := "longBy", desc := "(I)I" } : Jvm.MethodName) prog_17_method_113_code (3 : Nat) (Option.some Jvm.ClassFile.FieldType.int)) ∈ lw_all := lw_g (lw_at lw_m8 238 rfl) rfl
theorem q2064 : (Jvm.Cond.methodLink "LetterNightsModel" (462 : Nat) ({ cls := "LetterNightsModel", name := "noLong", desc := "(II)I" } : Jvm.MethodName)) ∈ lw_all := lw_g (lw_at lw_m8 239 rfl) rfl
theorem q2065 : (Jvm.Cond.privateMethod ({ cls := "LetterNightsModel", name := "noLong", desc := "(II)I" } : Jvm.MethodName)) ∈ lw_tbl := lw_at lw_m9 0 rfl
theorem q2066 : (Jvm.Cond.instanceMethod ({ cls := "LetterNightsModel", name := "noLong", desc := "(II)I" } : Jvm.MethodName)) ∈ lw_all := lw_g (lw_at lw_m9 1 rfl) rfl
theorem q2067 : (Jvm.Cond.code ({ cls := "LetterNightsModel", name := "noLong", desc := "(II)I" } : Jvm.MethodName) prog_17_method_110_code (5 : Nat) (Option.some Jvm.ClassFile.FieldType.int)) ∈ lw_all := lw_g (lw_at lw_m9 2 rfl) rfl
theorem q2068 : (Jvm.Cond.constantLong "LetterNightsModel" (454 : Nat) (8 : Int64)) ∈ lw_all := lw_g (lw_at lw_m9 3 rfl) rfl
theorem q2069 : (Jvm.Cond.methodLink "LetterNightsModel" (465 : Nat) ({ cls := "LetterNightsModel", name := "laysLongRows", desc := "(I)I" } : Jvm.MethodName)) ∈ lw_all := lw_g (lw_at lw_m9 4 rfl) rfl
theorem q2070 : (Jvm.Cond.privateMethod ({ cls := "LetterNightsModel", name := "laysLongRows", desc := "(I)I" } : Jvm.MethodName)) ∈ lw_tbl := lw_at lw_m9 5 rfl
theorem q2071 : (Jvm.Cond.instanceMethod ({ cls := "LetterNightsModel", name := "laysLongRows", desc := "(I)I" } : Jvm.MethodName)) ∈ lw_all := lw_g (lw_at lw_m9 6 rfl) rfl
theorem q2072 : (Jvm.Cond.code ({ cls := "LetterNightsModel", name := "laysLongRows", desc := "(I)I" } : Jvm.MethodName) prog_17_method_112_code (3 : Nat) (Option.some Jvm.ClassFile.FieldType.int)) ∈ lw_all := lw_g (lw_at lw_m9 7 rfl) rfl
theorem q2073 : (Jvm.Cond.methodLink "LetterNightsModel" (459 : Nat) ({ cls := "LetterNightsModel", name := "goesLong", desc := "(II)V" } : Jvm.MethodName)) ∈ lw_all := lw_g (lw_at lw_m9 8 rfl) rfl
theorem q2074 : (Jvm.Cond.privateMethod ({ cls := "LetterNightsModel", name := "goesLong", desc := "(II)V" } : Jvm.MethodName)) ∈ lw_tbl := lw_at lw_m9 9 rfl
theorem q2075 : (Jvm.Cond.instanceMethod ({ cls := "LetterNightsModel", name := "goesLong", desc := "(II)V" } : Jvm.MethodName)) ∈ lw_all := lw_g (lw_at lw_m9 10 rfl) rfl
theorem q2076 : (Jvm.Cond.code ({ cls := "LetterNightsModel", name := "goesLong", desc := "(II)V" } : Jvm.MethodName) prog_17_method_111_code (6 : Nat) (Option.none : Option Jvm.ClassFile.FieldType)) ∈ lw_all := lw_g (lw_at lw_m9 11 rfl) rfl
theorem q2078 : (Jvm.Cond.instanceMethod ({ cls := "LetterNightsModel", name := "tables", desc := "(II)I" } : Jvm.MethodName)) ∈ lw_all := lw_g (lw_at lw_m9 13 rfl) rfl
theorem q2079 : (Jvm.Cond.selects "LetterNightsModel" ({ cls := "LetterNightsModel", name := "tables", desc := "(II)I" } : Jvm.MethodName) ({ cls := "LetterNightsModel", name := "tables", desc := "(II)I" } : Jvm.MethodName)) ∈ lw_all := lw_g (lw_at lw_m9 14 rfl) rfl
theorem q2080 : (Jvm.Cond.code ({ cls := "LetterNightsModel", name := "tables", desc := "(II)I" } : Jvm.MethodName) prog_17_method_114_code (4 : Nat) (Option.some Jvm.ClassFile.FieldType.int)) ∈ lw_all := lw_g (lw_at lw_m9 15 rfl) rfl
theorem q2082 : (Jvm.Cond.instanceMethod ({ cls := "LetterNightsModel", name := "moons", desc := "(I)I" } : Jvm.MethodName)) ∈ lw_all := lw_g (lw_at lw_m9 17 rfl) rfl
theorem q2083 : (Jvm.Cond.selects "LetterNightsModel" ({ cls := "LetterNightsModel", name := "moons", desc := "(I)I" } : Jvm.MethodName) ({ cls := "LetterNightsModel", name := "moons", desc := "(I)I" } : Jvm.MethodName)) ∈ lw_all := lw_g (lw_at lw_m9 18 rfl) rfl
theorem q2084 : (Jvm.Cond.code ({ cls := "LetterNightsModel", name := "moons", desc := "(I)I" } : Jvm.MethodName) prog_17_method_115_code (6 : Nat) (Option.some Jvm.ClassFile.FieldType.int)) ∈ lw_all := lw_g (lw_at lw_m9 19 rfl) rfl
theorem q2086 : (Jvm.Cond.instanceMethod ({ cls := "LetterNightsModel", name := "attempt", desc := "(I)I" } : Jvm.MethodName)) ∈ lw_all := lw_g (lw_at lw_m9 21 rfl) rfl
theorem q2087 : (Jvm.Cond.selects "LetterNightsModel" ({ cls := "LetterNightsModel", name := "attempt", desc := "(I)I" } : Jvm.MethodName) ({ cls := "LetterNightsModel", name := "attempt", desc := "(I)I" } : Jvm.MethodName)) ∈ lw_all := lw_g (lw_at lw_m9 22 rfl) rfl
theorem q2088 : (Jvm.Cond.code ({ cls := "LetterNightsModel", name := "attempt", desc := "(I)I" } : Jvm.MethodName) prog_17_method_117_code (10 : Nat) (Option.some Jvm.ClassFile.FieldType.int)) ∈ lw_all := lw_g (lw_at lw_m9 23 rfl) rfl
theorem q2089 : (Jvm.Cond.methodLink "LetterNightsModel" (468 : Nat) ({ cls := "LetterNightsModel", name := "sorts", desc := "(II)V" } : Jvm.MethodName)) ∈ lw_all := lw_g (lw_at lw_m9 24 rfl) rfl
theorem q2090 : (Jvm.Cond.privateMethod ({ cls := "LetterNightsModel", name := "sorts", desc := "(II)V" } : Jvm.MethodName)) ∈ lw_tbl := lw_at lw_m9 25 rfl
theorem q2091 : (Jvm.Cond.instanceMethod ({ cls := "LetterNightsModel", name := "sorts", desc := "(II)V" } : Jvm.MethodName)) ∈ lw_all := lw_g (lw_at lw_m9 26 rfl) rfl
theorem q2092 : (Jvm.Cond.code ({ cls := "LetterNightsModel", name := "sorts", desc := "(II)V" } : Jvm.MethodName) prog_17_method_116_code (8 : Nat) (Option.none : Option Jvm.ClassFile.FieldType)) ∈ lw_all := lw_g (lw_at lw_m9 27 rfl) rfl
theorem q2094 : (Jvm.Cond.instanceMethod ({ cls := "LetterNightsModel", name := "turned", desc := "(I)J" } : Jvm.MethodName)) ∈ lw_all := lw_g (lw_at lw_m9 29 rfl) rfl
theorem q2095 : (Jvm.Cond.selects "LetterNightsModel" ({ cls := "LetterNightsModel", name := "turned", desc := "(I)J" } : Jvm.MethodName) ({ cls := "LetterNightsModel", name := "turned", desc := "(I)J" } : Jvm.MethodName)) ∈ lw_all := lw_g (lw_at lw_m9 30 rfl) rfl
theorem q2096 : (Jvm.Cond.code ({ cls := "LetterNightsModel", name := "turned", desc := "(I)J" } : Jvm.MethodName) prog_17_method_119_code (2 : Nat) (Option.some Jvm.ClassFile.FieldType.long)) ∈ lw_all := lw_g (lw_at lw_m9 31 rfl) rfl
theorem q2097 : (Jvm.Cond.methodLink "LetterNightsModel" (471 : Nat) ({ cls := "LetterNightsModel", name := "turnedFrom", desc := "(II)J" } : Jvm.MethodName)) ∈ lw_all := lw_g (lw_at lw_m9 32 rfl) rfl
theorem q2098 : (Jvm.Cond.privateMethod ({ cls := "LetterNightsModel", name := "turnedFrom", desc := "(II)J" } : Jvm.MethodName)) ∈ lw_tbl := lw_at lw_m9 33 rfl
theorem q2099 : (Jvm.Cond.instanceMethod ({ cls := "LetterNightsModel", name := "turnedFrom", desc := "(II)J" } : Jvm.MethodName)) ∈ lw_all := lw_g (lw_at lw_m9 34 rfl) rfl
theorem q2100 : (Jvm.Cond.code ({ cls := "LetterNightsModel", name := "turnedFrom", desc := "(II)J" } : Jvm.MethodName) prog_17_method_118_code (8 : Nat) (Option.some Jvm.ClassFile.FieldType.long)) ∈ lw_all := lw_g (lw_at lw_m9 35 rfl) rfl
theorem q2102 : (Jvm.Cond.instanceMethod ({ cls := "LetterNightsModel", name := "best", desc := "(I)I" } : Jvm.MethodName)) ∈ lw_all := lw_g (lw_at lw_m9 37 rfl) rfl
theorem q2103 : (Jvm.Cond.selects "LetterNightsModel" ({ cls := "LetterNightsModel", name := "best", desc := "(I)I" } : Jvm.MethodName) ({ cls := "LetterNightsModel", name := "best", desc := "(I)I" } : Jvm.MethodName)) ∈ lw_all := lw_g (lw_at lw_m9 38 rfl) rfl
theorem q2104 : (Jvm.Cond.code ({ cls := "LetterNightsModel", name := "best", desc := "(I)I" } : Jvm.MethodName) prog_17_method_120_code (5 : Nat) (Option.some Jvm.ClassFile.FieldType.int)) ∈ lw_all := lw_g (lw_at lw_m9 39 rfl) rfl
theorem q2106 : (Jvm.Cond.instanceMethod ({ cls := "LetterNightsModel", name := "chance", desc := "(II)I" } : Jvm.MethodName)) ∈ lw_all := lw_g (lw_at lw_m9 41 rfl) rfl
theorem q2107 : (Jvm.Cond.selects "LetterNightsModel" ({ cls := "LetterNightsModel", name := "chance", desc := "(II)I" } : Jvm.MethodName) ({ cls := "LetterNightsModel", name := "chance", desc := "(II)I" } : Jvm.MethodName)) ∈ lw_all := lw_g (lw_at lw_m9 42 rfl) rfl
theorem q2108 : (Jvm.Cond.code ({ cls := "LetterNightsModel", name := "chance", desc := "(II)I" } : Jvm.MethodName) prog_17_method_124_code (6 : Nat) (Option.some Jvm.ClassFile.FieldType.int)) ∈ lw_all := lw_g (lw_at lw_m9 43 rfl) rfl
theorem q2109 : (Jvm.Cond.constantLong "LetterNightsModel" (478 : Nat) (12 : Int64)) ∈ lw_all := lw_g (lw_at lw_m9 44 rfl) rfl
theorem q2110 : (Jvm.Cond.methodLink "LetterNightsModel" (480 : Nat) ({ cls := "LetterNightsModel", name := "wholeOf", desc := "(I)J" } : Jvm.MethodName)) ∈ lw_all := lw_g (lw_at lw_m9 45 rfl) rfl
theorem q2111 : (Jvm.Cond.privateMethod ({ cls := "LetterNightsModel", name := "wholeOf", desc := "(I)J" } : Jvm.MethodName)) ∈ lw_tbl := lw_at lw_m9 46 rfl
theorem q2112 : (Jvm.Cond.instanceMethod ({ cls := "LetterNightsModel", name := "wholeOf", desc := "(I)J" } : Jvm.MethodName)) ∈ lw_all := lw_g (lw_at lw_m9 47 rfl) rfl
theorem q2113 : (Jvm.Cond.code ({ cls := "LetterNightsModel", name := "wholeOf", desc := "(I)J" } : Jvm.MethodName) prog_17_method_121_code (5 : Nat) (Option.some Jvm.ClassFile.FieldType.long)) ∈ lw_all := lw_g (lw_at lw_m9 48 rfl) rfl
theorem q2114 : (Jvm.Cond.methodLink "LetterNightsModel" (483 : Nat) ({ cls := "LetterNightsModel", name := "part", desc := "(JJI)J" } : Jvm.MethodName)) ∈ lw_all := lw_g (lw_at lw_m9 49 rfl) rfl
theorem q2115 : (Jvm.Cond.static ({ cls := "LetterNightsModel", name := "part", desc := "(JJI)J" } : Jvm.MethodName)) ∈ lw_all := lw_g (lw_at lw_m9 50 rfl) rfl
theorem q2116 : (Jvm.Cond.code ({ cls := "LetterNightsModel", name := "part", desc := "(JJI)J" } : Jvm.MethodName) prog_17_method_123_code (5 : Nat) (Option.some Jvm.ClassFile.FieldType.long)) ∈ lw_all := lw_g (lw_at lw_m9 51 rfl) rfl
theorem q2117 : (Jvm.Cond.methodLink "LetterNightsModel" (475 : Nat) ({ cls := "LetterNightsModel", name := "common", desc := "(JJ)J" } : Jvm.MethodName)) ∈ lw_all := lw_g (lw_at lw_m9 52 rfl) rfl
theorem q2118 : (Jvm.Cond.static ({ cls := "LetterNightsModel", name := "common", desc := "(JJ)J" } : Jvm.MethodName)) ∈ lw_all := lw_g (lw_at lw_m9 53 rfl) rfl
theorem q2119 : (Jvm.Cond.code ({ cls := "LetterNightsModel", name := "common", desc := "(JJ)J" } : Jvm.MethodName) prog_17_method_122_code (4 : Nat) (Option.some Jvm.ClassFile.FieldType.long)) ∈ lw_all := lw_g (lw_at lw_m9 54 rfl) rfl
theorem q2121 : (Jvm.Cond.instanceMethod ({ cls := "LetterNightsModel", name := "mean", desc := "(II)J" } : Jvm.MethodName)) ∈ lw_all := lw_g (lw_at lw_m9 56 rfl) rfl
theorem q2122 : (Jvm.Cond.selects "LetterNightsModel" ({ cls := "LetterNightsModel", name := "mean", desc := "(II)J" } : Jvm.MethodName) ({ cls := "LetterNightsModel", name := "mean", desc := "(II)J" } : Jvm.MethodName)) ∈ lw_all := lw_g (lw_at lw_m9 57 rfl) rfl
theorem q2123 : (Jvm.Cond.code ({ cls := "LetterNightsModel", name := "mean", desc := "(II)J" } : Jvm.MethodName) prog_17_method_125_code (7 : Nat) (Option.some Jvm.ClassFile.FieldType.long)) ∈ lw_all := lw_g (lw_at lw_m9 58 rfl) rfl
theorem q2125 : (Jvm.Cond.instanceMethod ({ cls := "LetterNightsModel", name := "numbers", desc := "(III)I" } : Jvm.MethodName)) ∈ lw_all := lw_g (lw_at lw_m9 60 rfl) rfl
theorem q2126 : (Jvm.Cond.selects "LetterNightsModel" ({ cls := "LetterNightsModel", name := "numbers", desc := "(III)I" } : Jvm.MethodName) ({ cls := "LetterNightsModel", name := "numbers", desc := "(III)I" } : Jvm.MethodName)) ∈ lw_all := lw_g (lw_at lw_m9 61 rfl) rfl
theorem q2127 : (Jvm.Cond.code ({ cls := "LetterNightsModel", name := "numbers", desc := "(III)I" } : Jvm.MethodName) prog_17_method_127_code (5 : Nat) (Option.some Jvm.ClassFile.FieldType.int)) ∈ lw_all := lw_g (lw_at lw_m9 62 rfl) rfl
theorem q2128 : (Jvm.Cond.constantLong "LetterNightsModel" (487 : Nat) (40 : Int64)) ∈ lw_all := lw_g (lw_at lw_m9 63 rfl) rfl
theorem q2130 : (Jvm.Cond.instanceMethod ({ cls := "LetterNightsModel", name := "write", desc := "(IIJ)J" } : Jvm.MethodName)) ∈ lw_all := lw_g (lw_at lw_m9 65 rfl) rfl
theorem q2131 : (Jvm.Cond.selects "LetterNightsModel" ({ cls := "LetterNightsModel", name := "write", desc := "(IIJ)J" } : Jvm.MethodName) ({ cls := "LetterNightsModel", name := "write", desc := "(IIJ)J" } : Jvm.MethodName)) ∈ lw_all := lw_g (lw_at lw_m9 66 rfl) rfl
theorem q2132 : (Jvm.Cond.code ({ cls := "LetterNightsModel", name := "write", desc := "(IIJ)J" } : Jvm.MethodName) prog_17_method_128_code (6 : Nat) (Option.some Jvm.ClassFile.FieldType.long)) ∈ lw_all := lw_g (lw_at lw_m9 67 rfl) rfl
theorem q2133 : (Jvm.Cond.constantLong "LetterNightsModel" (489 : Nat) (-7 : Int64)) ∈ lw_all := lw_g (lw_at lw_m9 68 rfl) rfl
theorem q2134 : (Jvm.Cond.methodLink "LetterNightsModel" (491 : Nat) ({ cls := "LetterNightsModel", name := "cut", desc := "(JI)J" } : Jvm.MethodName)) ∈ lw_all := lw_g (lw_at lw_m9 69 rfl) rfl
theorem q2135 : (Jvm.Cond.static ({ cls := "LetterNightsModel", name := "cut", desc := "(JI)J" } : Jvm.MethodName)) ∈ lw_all := lw_g (lw_at lw_m9 70 rfl) rfl
theorem q2136 : (Jvm.Cond.code ({ cls := "LetterNightsModel", name := "cut", desc := "(JI)J" } : Jvm.MethodName) prog_17_method_126_code (3 : Nat) (Option.some Jvm.ClassFile.FieldType.long)) ∈ lw_all := lw_g (lw_at lw_m9 71 rfl) rfl
theorem q2138 : (Jvm.Cond.instanceMethod ({ cls := "LetterNightsModel", name := "lists", desc := "(IJ)I" } : Jvm.MethodName)) ∈ lw_all := lw_g (lw_at lw_m9 73 rfl) rfl
theorem q2139 : (Jvm.Cond.selects "LetterNightsModel" ({ cls := "LetterNightsModel", name := "lists", desc := "(IJ)I" } : Jvm.MethodName) ({ cls := "LetterNightsModel", name := "lists", desc := "(IJ)I" } : Jvm.MethodName)) ∈ lw_all := lw_g (lw_at lw_m9 74 rfl) rfl
theorem q2140 : (Jvm.Cond.code ({ cls := "LetterNightsModel", name := "lists", desc := "(IJ)I" } : Jvm.MethodName) prog_17_method_129_code (9 : Nat) (Option.some Jvm.ClassFile.FieldType.int)) ∈ lw_all := lw_g (lw_at lw_m9 75 rfl) rfl
theorem q2142 : (Jvm.Cond.instanceMethod ({ cls := "LetterNightsModel", name := "image", desc := "(I)I" } : Jvm.MethodName)) ∈ lw_all := lw_g (lw_at lw_m9 77 rfl) rfl
theorem q2143 : (Jvm.Cond.selects "LetterNightsModel" ({ cls := "LetterNightsModel", name := "image", desc := "(I)I" } : Jvm.MethodName) ({ cls := "LetterNightsModel", name := "image", desc := "(I)I" } : Jvm.MethodName)) ∈ lw_all := lw_g (lw_at lw_m9 78 rfl) rfl
theorem q2144 : (Jvm.Cond.code ({ cls := "LetterNightsModel", name := "image", desc := "(I)I" } : Jvm.MethodName) prog_17_method_130_code (3 : Nat) (Option.some Jvm.ClassFile.FieldType.int)) ∈ lw_all := lw_g (lw_at lw_m9 79 rfl) rfl
theorem q2146 : (Jvm.Cond.instanceMethod ({ cls := "LetterNightsModel", name := "restore", desc := "(I)I" } : Jvm.MethodName)) ∈ lw_all := lw_g (lw_at lw_m9 81 rfl) rfl
theorem q2147 : (Jvm.Cond.selects "LetterNightsModel" ({ cls := "LetterNightsModel", name := "restore", desc := "(I)I" } : Jvm.MethodName) ({ cls := "LetterNightsModel", name := "restore", desc := "(I)I" } : Jvm.MethodName)) ∈ lw_all := lw_g (lw_at lw_m9 82 rfl) rfl
theorem q2148 : (Jvm.Cond.code ({ cls := "LetterNightsModel", name := "restore", desc := "(I)I" } : Jvm.MethodName) prog_17_method_131_code (3 : Nat) (Option.some Jvm.ClassFile.FieldType.int)) ∈ lw_all := lw_g (lw_at lw_m9 83 rfl) rfl
theorem q2150 : (Jvm.Cond.instanceMethod ({ cls := "LetterNightsModel", name := "told", desc := "(I)I" } : Jvm.MethodName)) ∈ lw_all := lw_g (lw_at lw_m9 85 rfl) rfl
theorem q2151 : (Jvm.Cond.selects "LetterNightsModel" ({ cls := "LetterNightsModel", name := "told", desc := "(I)I" } : Jvm.MethodName) ({ cls := "LetterNightsModel", name := "told", desc := "(I)I" } : Jvm.MethodName)) ∈ lw_all := lw_g (lw_at lw_m9 86 rfl) rfl
theorem q2152 : (Jvm.Cond.code ({ cls := "LetterNightsModel", name := "told", desc := "(I)I" } : Jvm.MethodName) prog_17_method_132_code (6 : Nat) (Option.some Jvm.ClassFile.FieldType.int)) ∈ lw_all := lw_g (lw_at lw_m9 87 rfl) rfl
theorem in_X5 : ∀ w ∈ wsX50, w ∈ lw_all := lw_in wsX50 [1529, 1531, 1533, 1535, 1537, 1539, 1541, 1543, 1545, 1547, 1549, 1551, 1553, 1555, 1557, 1559, 1561, 1563, 1565, 1567, 1569, 1571, 1573, 1575, 1577, 1579, 1581, 1583, 1585, 1587, 1589, 1591, 1593, 1595, 1597, 1599, 1601, 1603, 1605, 1607, 1609, 1611, 1613, 1615, 1617] (by decide +kernel) (by decide +kernel)
def RX6 : String := "LetterNights$Reader"
def TX6 : u_T := fun k => match k with
  | 0 => ("LetterNights$Reader", "size", "I", true)
  | 1 => ("LetterNights$Reader", "made", "LLetterNights$Street;", true)
  | 2 => ("LetterNights$Reader", "at", "I", false)
  | 3 => ("LetterNights$Reader", "begin", "I", false)
  | 4 => ("LetterNights$Reader", "token", "I", false)
  | 5 => ("LetterNights$Reader", "value", "I", false)
  | 6 => ("LetterNights$Reader", "fault", "I", false)
  | 7 => ("LetterNights$Reader", "deep", "I", false)
  | 8 => ("LetterNights$Reader", "place", "I", false)
  | 9 => ("LetterNights$Reader", "one", "[I", true)
  | _ => ("LetterNights$Reader", "this$0", "LLetterNights;", true)
def tyX6 : Nat → FieldType := fun k => match k with
  | 0 => .int
  | 1 => .object "LetterNights$Street"
  | 2 => .int
  | 3 => .int
  | 4 => .int
  | 5 => .int
  | 6 => .int
  | 7 => .int
  | 8 => .int
  | 9 => .array .int
  | _ => .object "LetterNights"
abbrev wsX60 : List Cond := u_ws RX6 TX6 11
theorem nmX6 : ∀ a, a < 11 → ∀ b, b < 11 → a ≠ b → (TX6 a).2.1 ≠ (TX6 b).2.1 := by decide +kernel
theorem tyX6_ok : ∀ k, k < 11 → parseFieldDescriptor (TX6 k).2.2.1 = some (tyX6 k) := by decide +kernel
abbrev cX6_init : ByteArray := prog_11_method_1_code
def yX6_init : MethodName := ⟨RX6, "<init>", "(LLetterNights;I)V"⟩
abbrev cX6_read : ByteArray := prog_11_method_14_code
def yX6_read : MethodName := ⟨RX6, "read", "()V"⟩
abbrev cX6_next : ByteArray := prog_11_method_5_code
def yX6_next : MethodName := ⟨RX6, "next", "()V"⟩
abbrev cX6_see : ByteArray := prog_11_method_2_code
def yX6_see : MethodName := ⟨RX6, "see", "(I)I"⟩
abbrev cX6_isSmall : ByteArray := prog_11_method_3_code
def yX6_isSmall : MethodName := ⟨RX6, "isSmall", "(I)Z"⟩
abbrev cX6_isDigit : ByteArray := prog_11_method_4_code
def yX6_isDigit : MethodName := ⟨RX6, "isDigit", "(I)Z"⟩
abbrev cX6_mustWord : ByteArray := prog_11_method_11_code
def yX6_mustWord : MethodName := ⟨RX6, "mustWord", "(Ljava/lang/String;)V"⟩
abbrev cX6_takes : ByteArray := prog_11_method_8_code
def yX6_takes : MethodName := ⟨RX6, "takes", "(Ljava/lang/String;)Z"⟩
abbrev cX6_is : ByteArray := prog_11_method_7_code
def yX6_is : MethodName := ⟨RX6, "is", "(Ljava/lang/String;)Z"⟩
abbrev cX6_wrong : ByteArray := prog_11_method_6_code
def yX6_wrong : MethodName := ⟨RX6, "wrong", "(I)V"⟩
abbrev cX6_number : ByteArray := prog_11_method_12_code
def yX6_number : MethodName := ⟨RX6, "number", "(II)I"⟩
abbrev cX6_ends : ByteArray := prog_11_method_15_code
def yX6_ends : MethodName := ⟨RX6, "ends", "()V"⟩
abbrev cX6_must : ByteArray := prog_11_method_10_code
def yX6_must : MethodName := ⟨RX6, "must", "(I)V"⟩
abbrev cX6_line : ByteArray := prog_11_method_16_code
def yX6_line : MethodName := ⟨RX6, "line", "()V"⟩
abbrev cX6_stands : ByteArray := prog_11_method_17_code
def yX6_stands : MethodName := ⟨RX6, "stands", "()V"⟩
abbrev cX6_letters : ByteArray := prog_11_method_13_code
def yX6_letters : MethodName := ⟨RX6, "letters", "([III)I"⟩
abbrev cX6_rule : ByteArray := prog_11_method_18_code
def yX6_rule : MethodName := ⟨RX6, "rule", "()V"⟩
abbrev cX6_lawPicks : ByteArray := prog_11_method_19_code
def yX6_lawPicks : MethodName := ⟨RX6, "lawPicks", "()V"⟩
abbrev cX6_sum : ByteArray := prog_11_method_25_code
def yX6_sum : MethodName := ⟨RX6, "sum", "()LLetterNights$Sum;"⟩
abbrev cX6_term : ByteArray := prog_11_method_26_code
def yX6_term : MethodName := ⟨RX6, "term", "()LLetterNights$Sum;"⟩
abbrev cX6_atom : ByteArray := prog_11_method_28_code
def yX6_atom : MethodName := ⟨RX6, "atom", "()LLetterNights$Sum;"⟩
abbrev cX6_asks : ByteArray := prog_11_method_29_code
def yX6_asks : MethodName := ⟨RX6, "asks", "()LLetterNights$Sum;"⟩
abbrev cX6_goesIn : ByteArray := prog_11_method_21_code
def yX6_goesIn : MethodName := ⟨RX6, "goesIn", "()V"⟩
abbrev cX6_truth : ByteArray := prog_11_method_22_code
def yX6_truth : MethodName := ⟨RX6, "truth", "()LLetterNights$Truth;"⟩
abbrev cX6_both : ByteArray := prog_11_method_23_code
def yX6_both : MethodName := ⟨RX6, "both", "()LLetterNights$Truth;"⟩
abbrev cX6_unit : ByteArray := prog_11_method_24_code
def yX6_unit : MethodName := ⟨RX6, "unit", "()LLetterNights$Truth;"⟩
abbrev cX6_isSign : ByteArray := prog_11_method_9_code
def yX6_isSign : MethodName := ⟨RX6, "isSign", "(I)Z"⟩
abbrev cX6_word : ByteArray := prog_11_method_27_code
def yX6_word : MethodName := ⟨RX6, "word", "()I"⟩
abbrev cX6_lawSleeps : ByteArray := prog_11_method_20_code
def yX6_lawSleeps : MethodName := ⟨RX6, "lawSleeps", "()V"⟩
theorem q152 : (Jvm.Cond.initialized "LetterNights$Reader") ∈ lw_all := lw_g (lw_at lw_m1 7 rfl) rfl
theorem q193 : (Jvm.Cond.fieldLinkNest "LetterNights$Reader" (154 : Nat) "LetterNights$Street" "stands" "[I" "LetterNights") ∈ lw_tbl := lw_at lw_m1 48 rfl
theorem q196 : (Jvm.Cond.fieldLinkNest "LetterNights$Reader" (165 : Nat) "LetterNights$Street" "rule" "[I" "LetterNights") ∈ lw_tbl := lw_at lw_m1 51 rfl
theorem q198 : (Jvm.Cond.fieldLinkNest "LetterNights$Reader" (167 : Nat) "LetterNights$Street" "many" "[I" "LetterNights") ∈ lw_tbl := lw_at lw_m1 53 rfl
theorem q202 : (Jvm.Cond.fieldLinkNest "LetterNights$Reader" (118 : Nat) "LetterNights$Street" "tables" "I" "LetterNights") ∈ lw_tbl := lw_at lw_m1 57 rfl
theorem q205 : (Jvm.Cond.fieldLinkNest "LetterNights$Reader" (122 : Nat) "LetterNights$Street" "moon" "I" "LetterNights") ∈ lw_tbl := lw_at lw_m1 60 rfl
theorem q208 : (Jvm.Cond.fieldLinkNest "LetterNights$Reader" (160 : Nat) "LetterNights$Street" "standing" "I" "LetterNights") ∈ lw_tbl := lw_at lw_m1 63 rfl
theorem q211 : (Jvm.Cond.fieldLinkNest "LetterNights$Reader" (133 : Nat) "LetterNights$Street" "lines" "I" "LetterNights") ∈ lw_tbl := lw_at lw_m1 66 rfl
theorem q213 : (Jvm.Cond.fieldLinkNest "LetterNights$Reader" (174 : Nat) "LetterNights$Street" "picks" "LLetterNights$Sum;" "LetterNights") ∈ lw_tbl := lw_at lw_m1 68 rfl
theorem q215 : (Jvm.Cond.fieldLinkNest "LetterNights$Reader" (181 : Nat) "LetterNights$Street" "sleeps" "LLetterNights$Truth;" "LetterNights") ∈ lw_tbl := lw_at lw_m1 70 rfl
theorem q322 : (Jvm.Cond.fieldLinkNest "LetterNights$Reader" (33 : Nat) "LetterNights" "tape" "[B" "LetterNights") ∈ lw_tbl := lw_at lw_m1 177 rfl
theorem q439 : (Jvm.Cond.instantiable "LetterNights$Reader" (11 : Nat)) ∈ lw_all := lw_g (lw_at lw_m2 54 rfl) rfl
theorem q441 : (Jvm.Cond.instanceMethod ({ cls := "LetterNights$Reader", name := "<init>", desc := "(LLetterNights;I)V" } : Jvm.MethodName)) ∈ lw_all := lw_g (lw_at lw_m2 56 rfl) rfl
theorem q442 : (Jvm.Cond.code ({ cls := "LetterNights$Reader", name := "<init>", desc := "(LLetterNights;I)V" } : Jvm.MethodName) prog_11_method_1_code (3 : Nat) (Option.none : Option Jvm.ClassFile.FieldType)) ∈ lw_all := lw_g (lw_at lw_m2 57 rfl) rfl
theorem q443 : (Jvm.Cond.methodLink "LetterNights$Reader" (9 : Nat) ({ cls := "java/lang/Object", name := "<init>", desc := "()V" } : Jvm.MethodName)) ∈ lw_all := lw_g (lw_at lw_m2 58 rfl) rfl
theorem q444 : (Jvm.Cond.classLink "LetterNights$Reader" (15 : Nat) "LetterNights$Street") ∈ lw_all := lw_g (lw_at lw_m2 59 rfl) rfl
theorem q445 : (Jvm.Cond.methodLink "LetterNights$Reader" (17 : Nat) ({ cls := "LetterNights$Street", name := "<init>", desc := "()V" } : Jvm.MethodName)) ∈ lw_all := lw_g (lw_at lw_m2 60 rfl) rfl
theorem q446 : (Jvm.Cond.fieldLink "LetterNights$Reader" (30 : Nat) "LetterNights$Reader" "size" "I") ∈ lw_all := lw_g (lw_at lw_m2 61 rfl) rfl
theorem q447 : (Jvm.Cond.fieldLink "LetterNights$Reader" (18 : Nat) "LetterNights$Reader" "made" "LLetterNights$Street;") ∈ lw_all := lw_g (lw_at lw_m2 62 rfl) rfl
theorem q449 : (Jvm.Cond.fieldLink "LetterNights$Reader" (53 : Nat) "LetterNights$Reader" "at" "I") ∈ lw_all := lw_g (lw_at lw_m2 64 rfl) rfl
theorem q450 : (Jvm.Cond.fieldLink "LetterNights$Reader" (56 : Nat) "LetterNights$Reader" "begin" "I") ∈ lw_all := lw_g (lw_at lw_m2 65 rfl) rfl
theorem q451 : (Jvm.Cond.fieldLink "LetterNights$Reader" (59 : Nat) "LetterNights$Reader" "token" "I") ∈ lw_all := lw_g (lw_at lw_m2 66 rfl) rfl
theorem q452 : (Jvm.Cond.fieldLink "LetterNights$Reader" (69 : Nat) "LetterNights$Reader" "value" "I") ∈ lw_all := lw_g (lw_at lw_m2 67 rfl) rfl
theorem q453 : (Jvm.Cond.fieldLink "LetterNights$Reader" (79 : Nat) "LetterNights$Reader" "fault" "I") ∈ lw_all := lw_g (lw_at lw_m2 68 rfl) rfl
theorem q455 : (Jvm.Cond.fieldLink "LetterNights$Reader" (184 : Nat) "LetterNights$Reader" "deep" "I") ∈ lw_all := lw_g (lw_at lw_m2 70 rfl) rfl
theorem q456 : (Jvm.Cond.fieldLink "LetterNights$Reader" (22 : Nat) "LetterNights$Reader" "place" "I") ∈ lw_all := lw_g (lw_at lw_m2 71 rfl) rfl
theorem q458 : (Jvm.Cond.fieldLink "LetterNights$Reader" (26 : Nat) "LetterNights$Reader" "one" "[I") ∈ lw_all := lw_g (lw_at lw_m2 73 rfl) rfl
theorem q459 : (Jvm.Cond.fieldLink "LetterNights$Reader" (3 : Nat) "LetterNights$Reader" "this$0" "LLetterNights;") ∈ lw_all := lw_g (lw_at lw_m2 74 rfl) rfl
theorem q460 : (Jvm.Cond.laysFinal "LetterNights$Reader" "LetterNights$Reader" "size" "I") ∈ lw_all := lw_g (lw_at lw_m2 75 rfl) rfl
theorem q461 : (Jvm.Cond.soleField "LetterNights$Reader" "size") ∈ lw_all := lw_g (lw_at lw_m2 76 rfl) rfl
theorem q462 : (Jvm.Cond.laysFinal "LetterNights$Reader" "LetterNights$Reader" "made" "LLetterNights$Street;") ∈ lw_all := lw_g (lw_at lw_m2 77 rfl) rfl
theorem q463 : (Jvm.Cond.soleField "LetterNights$Reader" "made") ∈ lw_all := lw_g (lw_at lw_m2 78 rfl) rfl
theorem q464 : (Jvm.Cond.lays "LetterNights$Reader" "LetterNights$Reader" "at" "I") ∈ lw_all := lw_g (lw_at lw_m2 79 rfl) rfl
theorem q465 : (Jvm.Cond.soleField "LetterNights$Reader" "at") ∈ lw_all := lw_g (lw_at lw_m2 80 rfl) rfl
theorem q466 : (Jvm.Cond.lays "LetterNights$Reader" "LetterNights$Reader" "begin" "I") ∈ lw_all := lw_g (lw_at lw_m2 81 rfl) rfl
theorem q467 : (Jvm.Cond.soleField "LetterNights$Reader" "begin") ∈ lw_all := lw_g (lw_at lw_m2 82 rfl) rfl
theorem q468 : (Jvm.Cond.lays "LetterNights$Reader" "LetterNights$Reader" "token" "I") ∈ lw_all := lw_g (lw_at lw_m2 83 rfl) rfl
theorem q469 : (Jvm.Cond.soleField "LetterNights$Reader" "token") ∈ lw_all := lw_g (lw_at lw_m2 84 rfl) rfl
theorem q470 : (Jvm.Cond.lays "LetterNights$Reader" "LetterNights$Reader" "value" "I") ∈ lw_all := lw_g (lw_at lw_m2 85 rfl) rfl
theorem q471 : (Jvm.Cond.soleField "LetterNights$Reader" "value") ∈ lw_all := lw_g (lw_at lw_m2 86 rfl) rfl
theorem q472 : (Jvm.Cond.lays "LetterNights$Reader" "LetterNights$Reader" "fault" "I") ∈ lw_all := lw_g (lw_at lw_m2 87 rfl) rfl
theorem q473 : (Jvm.Cond.soleField "LetterNights$Reader" "fault") ∈ lw_all := lw_g (lw_at lw_m2 88 rfl) rfl
theorem q474 : (Jvm.Cond.lays "LetterNights$Reader" "LetterNights$Reader" "deep" "I") ∈ lw_all := lw_g (lw_at lw_m2 89 rfl) rfl
theorem q475 : (Jvm.Cond.soleField "LetterNights$Reader" "deep") ∈ lw_all := lw_g (lw_at lw_m2 90 rfl) rfl
theorem q476 : (Jvm.Cond.lays "LetterNights$Reader" "LetterNights$Reader" "place" "I") ∈ lw_all := lw_g (lw_at lw_m2 91 rfl) rfl
theorem q477 : (Jvm.Cond.soleField "LetterNights$Reader" "place") ∈ lw_all := lw_g (lw_at lw_m2 92 rfl) rfl
theorem q478 : (Jvm.Cond.laysFinal "LetterNights$Reader" "LetterNights$Reader" "one" "[I") ∈ lw_all := lw_g (lw_at lw_m2 93 rfl) rfl
theorem q479 : (Jvm.Cond.soleField "LetterNights$Reader" "one") ∈ lw_all := lw_g (lw_at lw_m2 94 rfl) rfl
theorem q480 : (Jvm.Cond.laysFinal "LetterNights$Reader" "LetterNights$Reader" "this$0" "LLetterNights;") ∈ lw_all := lw_g (lw_at lw_m2 95 rfl) rfl
theorem q481 : (Jvm.Cond.soleField "LetterNights$Reader" "this$0") ∈ lw_all := lw_g (lw_at lw_m2 96 rfl) rfl
theorem q482 : (Jvm.Cond.superclass "LetterNights$Reader" "java/lang/Object") ∈ lw_all := lw_g (lw_at lw_m2 97 rfl) rfl
theorem q484 : (Jvm.Cond.instanceMethod ({ cls := "LetterNights$Reader", name := "read", desc := "()V" } : Jvm.MethodName)) ∈ lw_all := lw_g (lw_at lw_m2 99 rfl) rfl
theorem q485 : (Jvm.Cond.selects "LetterNights$Reader" ({ cls := "LetterNights$Reader", name := "read", desc := "()V" } : Jvm.MethodName) ({ cls := "LetterNights$Reader", name := "read", desc := "()V" } : Jvm.MethodName)) ∈ lw_all := lw_g (lw_at lw_m2 100 rfl) rfl
theorem q486 : (Jvm.Cond.code ({ cls := "LetterNights$Reader", name := "read", desc := "()V" } : Jvm.MethodName) prog_11_method_14_code (1 : Nat) (Option.none : Option Jvm.ClassFile.FieldType)) ∈ lw_all := lw_g (lw_at lw_m2 101 rfl) rfl
theorem q487 : (Jvm.Cond.methodLink "LetterNights$Reader" (94 : Nat) ({ cls := "LetterNights$Reader", name := "next", desc := "()V" } : Jvm.MethodName)) ∈ lw_all := lw_g (lw_at lw_m2 102 rfl) rfl
theorem q488 : (Jvm.Cond.privateMethod ({ cls := "LetterNights$Reader", name := "next", desc := "()V" } : Jvm.MethodName)) ∈ lw_tbl := lw_at lw_m2 103 rfl
theorem q489 : (Jvm.Cond.instanceMethod ({ cls := "LetterNights$Reader", name := "next", desc := "()V" } : Jvm.MethodName)) ∈ lw_all := lw_g (lw_at lw_m2 104 rfl) rfl
theorem q490 : (Jvm.Cond.code ({ cls := "LetterNights$Reader", name := "next", desc := "()V" } : Jvm.MethodName) prog_11_method_5_code (1 : Nat) (Option.none : Option Jvm.ClassFile.FieldType)) ∈ lw_all := lw_g (lw_at lw_m2 105 rfl) rfl
theorem q491 : (Jvm.Cond.methodLink "LetterNights$Reader" (37 : Nat) ({ cls := "LetterNights$Reader", name := "see", desc := "(I)I" } : Jvm.MethodName)) ∈ lw_all := lw_g (lw_at lw_m2 106 rfl) rfl
theorem q492 : (Jvm.Cond.privateMethod ({ cls := "LetterNights$Reader", name := "see", desc := "(I)I" } : Jvm.MethodName)) ∈ lw_tbl := lw_at lw_m2 107 rfl
theorem q493 : (Jvm.Cond.instanceMethod ({ cls := "LetterNights$Reader", name := "see", desc := "(I)I" } : Jvm.MethodName)) ∈ lw_all := lw_g (lw_at lw_m2 108 rfl) rfl
theorem q494 : (Jvm.Cond.code ({ cls := "LetterNights$Reader", name := "see", desc := "(I)I" } : Jvm.MethodName) prog_11_method_2_code (2 : Nat) (Option.some Jvm.ClassFile.FieldType.int)) ∈ lw_all := lw_g (lw_at lw_m2 109 rfl) rfl
theorem q495 : (Jvm.Cond.methodLink "LetterNights$Reader" (62 : Nat) ({ cls := "LetterNights$Reader", name := "isSmall", desc := "(I)Z" } : Jvm.MethodName)) ∈ lw_all := lw_g (lw_at lw_m2 110 rfl) rfl
theorem q496 : (Jvm.Cond.privateMethod ({ cls := "LetterNights$Reader", name := "isSmall", desc := "(I)Z" } : Jvm.MethodName)) ∈ lw_tbl := lw_at lw_m2 111 rfl
theorem q497 : (Jvm.Cond.instanceMethod ({ cls := "LetterNights$Reader", name := "isSmall", desc := "(I)Z" } : Jvm.MethodName)) ∈ lw_all := lw_g (lw_at lw_m2 112 rfl) rfl
theorem q498 : (Jvm.Cond.code ({ cls := "LetterNights$Reader", name := "isSmall", desc := "(I)Z" } : Jvm.MethodName) prog_11_method_3_code (2 : Nat) (Option.some Jvm.ClassFile.FieldType.boolean)) ∈ lw_all := lw_g (lw_at lw_m2 113 rfl) rfl
theorem q499 : (Jvm.Cond.constantLong "LetterNights$Reader" (41 : Nat) (97 : Int64)) ∈ lw_all := lw_g (lw_at lw_m2 114 rfl) rfl
theorem q500 : (Jvm.Cond.constantLong "LetterNights$Reader" (43 : Nat) (122 : Int64)) ∈ lw_all := lw_g (lw_at lw_m2 115 rfl) rfl
theorem q501 : (Jvm.Cond.methodLinkNest "LetterNights$Reader" (45 : Nat) ({ cls := "LetterNights", name := "in", desc := "(JJJ)Z" } : Jvm.MethodName) "LetterNights") ∈ lw_tbl := lw_at lw_m2 116 rfl
theorem q502 : (Jvm.Cond.methodLink "LetterNights$Reader" (66 : Nat) ({ cls := "LetterNights$Reader", name := "isDigit", desc := "(I)Z" } : Jvm.MethodName)) ∈ lw_all := lw_g (lw_at lw_m2 117 rfl) rfl
theorem q503 : (Jvm.Cond.privateMethod ({ cls := "LetterNights$Reader", name := "isDigit", desc := "(I)Z" } : Jvm.MethodName)) ∈ lw_tbl := lw_at lw_m2 118 rfl
theorem q504 : (Jvm.Cond.instanceMethod ({ cls := "LetterNights$Reader", name := "isDigit", desc := "(I)Z" } : Jvm.MethodName)) ∈ lw_all := lw_g (lw_at lw_m2 119 rfl) rfl
theorem q505 : (Jvm.Cond.code ({ cls := "LetterNights$Reader", name := "isDigit", desc := "(I)Z" } : Jvm.MethodName) prog_11_method_4_code (2 : Nat) (Option.some Jvm.ClassFile.FieldType.boolean)) ∈ lw_all := lw_g (lw_at lw_m2 120 rfl) rfl
theorem q506 : (Jvm.Cond.constantLong "LetterNights$Reader" (49 : Nat) (48 : Int64)) ∈ lw_all := lw_g (lw_at lw_m2 121 rfl) rfl
theorem q507 : (Jvm.Cond.constantLong "LetterNights$Reader" (51 : Nat) (57 : Int64)) ∈ lw_all := lw_g (lw_at lw_m2 122 rfl) rfl
theorem q508 : (Jvm.Cond.stringRef "LetterNights$Reader" (72 : Nat) ";:+-*()[]=<>") ∈ lw_tbl := lw_at lw_m2 123 rfl
theorem q509 : (Jvm.Cond.methodLink "LetterNights$Reader" (74 : Nat) ({ cls := "java/lang/String", name := "indexOf", desc := "(I)I" } : Jvm.MethodName)) ∈ lw_all := lw_g (lw_at lw_m2 124 rfl) rfl
theorem q595 : (Jvm.Cond.stringRef "LetterNights$Reader" (106 : Nat) "street") ∈ lw_tbl := lw_at lw_m2 210 rfl
theorem q596 : (Jvm.Cond.methodLink "LetterNights$Reader" (108 : Nat) ({ cls := "LetterNights$Reader", name := "mustWord", desc := "(Ljava/lang/String;)V" } : Jvm.MethodName)) ∈ lw_all := lw_g (lw_at lw_m2 211 rfl) rfl
theorem q597 : (Jvm.Cond.privateMethod ({ cls := "LetterNights$Reader", name := "mustWord", desc := "(Ljava/lang/String;)V" } : Jvm.MethodName)) ∈ lw_tbl := lw_at lw_m2 212 rfl
theorem q598 : (Jvm.Cond.instanceMethod ({ cls := "LetterNights$Reader", name := "mustWord", desc := "(Ljava/lang/String;)V" } : Jvm.MethodName)) ∈ lw_all := lw_g (lw_at lw_m2 213 rfl) rfl
theorem q599 : (Jvm.Cond.code ({ cls := "LetterNights$Reader", name := "mustWord", desc := "(Ljava/lang/String;)V" } : Jvm.MethodName) prog_11_method_11_code (2 : Nat) (Option.none : Option Jvm.ClassFile.FieldType)) ∈ lw_all := lw_g (lw_at lw_m2 214 rfl) rfl
theorem q600 : (Jvm.Cond.methodLink "LetterNights$Reader" (101 : Nat) ({ cls := "LetterNights$Reader", name := "takes", desc := "(Ljava/lang/String;)Z" } : Jvm.MethodName)) ∈ lw_all := lw_g (lw_at lw_m2 215 rfl) rfl
theorem q601 : (Jvm.Cond.privateMethod ({ cls := "LetterNights$Reader", name := "takes", desc := "(Ljava/lang/String;)Z" } : Jvm.MethodName)) ∈ lw_tbl := lw_at lw_m2 216 rfl
theorem q602 : (Jvm.Cond.instanceMethod ({ cls := "LetterNights$Reader", name := "takes", desc := "(Ljava/lang/String;)Z" } : Jvm.MethodName)) ∈ lw_all := lw_g (lw_at lw_m2 217 rfl) rfl
theorem q603 : (Jvm.Cond.code ({ cls := "LetterNights$Reader", name := "takes", desc := "(Ljava/lang/String;)Z" } : Jvm.MethodName) prog_11_method_8_code (2 : Nat) (Option.some Jvm.ClassFile.FieldType.boolean)) ∈ lw_all := lw_g (lw_at lw_m2 218 rfl) rfl
theorem q604 : (Jvm.Cond.methodLink "LetterNights$Reader" (90 : Nat) ({ cls := "LetterNights$Reader", name := "is", desc := "(Ljava/lang/String;)Z" } : Jvm.MethodName)) ∈ lw_all := lw_g (lw_at lw_m2 219 rfl) rfl
theorem q605 : (Jvm.Cond.privateMethod ({ cls := "LetterNights$Reader", name := "is", desc := "(Ljava/lang/String;)Z" } : Jvm.MethodName)) ∈ lw_tbl := lw_at lw_m2 220 rfl
theorem q606 : (Jvm.Cond.instanceMethod ({ cls := "LetterNights$Reader", name := "is", desc := "(Ljava/lang/String;)Z" } : Jvm.MethodName)) ∈ lw_all := lw_g (lw_at lw_m2 221 rfl) rfl
theorem q607 : (Jvm.Cond.code ({ cls := "LetterNights$Reader", name := "is", desc := "(Ljava/lang/String;)Z" } : Jvm.MethodName) prog_11_method_7_code (3 : Nat) (Option.some Jvm.ClassFile.FieldType.boolean)) ∈ lw_all := lw_g (lw_at lw_m2 222 rfl) rfl
theorem q608 : (Jvm.Cond.methodLink "LetterNights$Reader" (82 : Nat) ({ cls := "java/lang/String", name := "length", desc := "()I" } : Jvm.MethodName)) ∈ lw_all := lw_g (lw_at lw_m2 223 rfl) rfl
theorem q609 : (Jvm.Cond.methodLink "LetterNights$Reader" (86 : Nat) ({ cls := "java/lang/String", name := "charAt", desc := "(I)C" } : Jvm.MethodName)) ∈ lw_all := lw_g (lw_at lw_m2 224 rfl) rfl
theorem q629 : (Jvm.Cond.methodLink "LetterNights$Reader" (97 : Nat) ({ cls := "LetterNights$Reader", name := "wrong", desc := "(I)V" } : Jvm.MethodName)) ∈ lw_all := lw_g (lw_at lw_m3 4 rfl) rfl
theorem q630 : (Jvm.Cond.privateMethod ({ cls := "LetterNights$Reader", name := "wrong", desc := "(I)V" } : Jvm.MethodName)) ∈ lw_tbl := lw_at lw_m3 5 rfl
theorem q631 : (Jvm.Cond.instanceMethod ({ cls := "LetterNights$Reader", name := "wrong", desc := "(I)V" } : Jvm.MethodName)) ∈ lw_all := lw_g (lw_at lw_m3 6 rfl) rfl
theorem q632 : (Jvm.Cond.code ({ cls := "LetterNights$Reader", name := "wrong", desc := "(I)V" } : Jvm.MethodName) prog_11_method_6_code (2 : Nat) (Option.none : Option Jvm.ClassFile.FieldType)) ∈ lw_all := lw_g (lw_at lw_m3 7 rfl) rfl
theorem q633 : (Jvm.Cond.stringRef "LetterNights$Reader" (112 : Nat) "tables") ∈ lw_tbl := lw_at lw_m3 8 rfl
theorem q634 : (Jvm.Cond.methodLink "LetterNights$Reader" (114 : Nat) ({ cls := "LetterNights$Reader", name := "number", desc := "(II)I" } : Jvm.MethodName)) ∈ lw_all := lw_g (lw_at lw_m3 9 rfl) rfl
theorem q635 : (Jvm.Cond.privateMethod ({ cls := "LetterNights$Reader", name := "number", desc := "(II)I" } : Jvm.MethodName)) ∈ lw_tbl := lw_at lw_m3 10 rfl
theorem q636 : (Jvm.Cond.instanceMethod ({ cls := "LetterNights$Reader", name := "number", desc := "(II)I" } : Jvm.MethodName)) ∈ lw_all := lw_g (lw_at lw_m3 11 rfl) rfl
theorem q637 : (Jvm.Cond.code ({ cls := "LetterNights$Reader", name := "number", desc := "(II)I" } : Jvm.MethodName) prog_11_method_12_code (4 : Nat) (Option.some Jvm.ClassFile.FieldType.int)) ∈ lw_all := lw_g (lw_at lw_m3 12 rfl) rfl
theorem q638 : (Jvm.Cond.stringRef "LetterNights$Reader" (120 : Nat) "moon") ∈ lw_tbl := lw_at lw_m3 13 rfl
theorem q639 : (Jvm.Cond.methodLink "LetterNights$Reader" (124 : Nat) ({ cls := "LetterNights$Reader", name := "ends", desc := "()V" } : Jvm.MethodName)) ∈ lw_all := lw_g (lw_at lw_m3 14 rfl) rfl
theorem q640 : (Jvm.Cond.privateMethod ({ cls := "LetterNights$Reader", name := "ends", desc := "()V" } : Jvm.MethodName)) ∈ lw_tbl := lw_at lw_m3 15 rfl
theorem q641 : (Jvm.Cond.instanceMethod ({ cls := "LetterNights$Reader", name := "ends", desc := "()V" } : Jvm.MethodName)) ∈ lw_all := lw_g (lw_at lw_m3 16 rfl) rfl
theorem q642 : (Jvm.Cond.code ({ cls := "LetterNights$Reader", name := "ends", desc := "()V" } : Jvm.MethodName) prog_11_method_15_code (1 : Nat) (Option.none : Option Jvm.ClassFile.FieldType)) ∈ lw_all := lw_g (lw_at lw_m3 17 rfl) rfl
theorem q643 : (Jvm.Cond.methodLink "LetterNights$Reader" (130 : Nat) ({ cls := "LetterNights$Reader", name := "must", desc := "(I)V" } : Jvm.MethodName)) ∈ lw_all := lw_g (lw_at lw_m3 18 rfl) rfl
theorem q644 : (Jvm.Cond.privateMethod ({ cls := "LetterNights$Reader", name := "must", desc := "(I)V" } : Jvm.MethodName)) ∈ lw_tbl := lw_at lw_m3 19 rfl
theorem q645 : (Jvm.Cond.instanceMethod ({ cls := "LetterNights$Reader", name := "must", desc := "(I)V" } : Jvm.MethodName)) ∈ lw_all := lw_g (lw_at lw_m3 20 rfl) rfl
theorem q646 : (Jvm.Cond.code ({ cls := "LetterNights$Reader", name := "must", desc := "(I)V" } : Jvm.MethodName) prog_11_method_10_code (2 : Nat) (Option.none : Option Jvm.ClassFile.FieldType)) ∈ lw_all := lw_g (lw_at lw_m3 21 rfl) rfl
theorem q647 : (Jvm.Cond.methodLink "LetterNights$Reader" (127 : Nat) ({ cls := "LetterNights$Reader", name := "line", desc := "()V" } : Jvm.MethodName)) ∈ lw_all := lw_g (lw_at lw_m3 22 rfl) rfl
theorem q648 : (Jvm.Cond.privateMethod ({ cls := "LetterNights$Reader", name := "line", desc := "()V" } : Jvm.MethodName)) ∈ lw_tbl := lw_at lw_m3 23 rfl
theorem q649 : (Jvm.Cond.instanceMethod ({ cls := "LetterNights$Reader", name := "line", desc := "()V" } : Jvm.MethodName)) ∈ lw_all := lw_g (lw_at lw_m3 24 rfl) rfl
theorem q650 : (Jvm.Cond.code ({ cls := "LetterNights$Reader", name := "line", desc := "()V" } : Jvm.MethodName) prog_11_method_16_code (1 : Nat) (Option.none : Option Jvm.ClassFile.FieldType)) ∈ lw_all := lw_g (lw_at lw_m3 25 rfl) rfl
theorem q651 : (Jvm.Cond.stringRef "LetterNights$Reader" (136 : Nat) "stands") ∈ lw_tbl := lw_at lw_m3 26 rfl
theorem q652 : (Jvm.Cond.methodLink "LetterNights$Reader" (138 : Nat) ({ cls := "LetterNights$Reader", name := "stands", desc := "()V" } : Jvm.MethodName)) ∈ lw_all := lw_g (lw_at lw_m3 27 rfl) rfl
theorem q653 : (Jvm.Cond.privateMethod ({ cls := "LetterNights$Reader", name := "stands", desc := "()V" } : Jvm.MethodName)) ∈ lw_tbl := lw_at lw_m3 28 rfl
theorem q654 : (Jvm.Cond.instanceMethod ({ cls := "LetterNights$Reader", name := "stands", desc := "()V" } : Jvm.MethodName)) ∈ lw_all := lw_g (lw_at lw_m3 29 rfl) rfl
theorem q655 : (Jvm.Cond.code ({ cls := "LetterNights$Reader", name := "stands", desc := "()V" } : Jvm.MethodName) prog_11_method_17_code (2 : Nat) (Option.none : Option Jvm.ClassFile.FieldType)) ∈ lw_all := lw_g (lw_at lw_m3 30 rfl) rfl
theorem q656 : (Jvm.Cond.methodLink "LetterNights$Reader" (156 : Nat) ({ cls := "LetterNights$Reader", name := "letters", desc := "([III)I" } : Jvm.MethodName)) ∈ lw_all := lw_g (lw_at lw_m3 31 rfl) rfl
theorem q657 : (Jvm.Cond.privateMethod ({ cls := "LetterNights$Reader", name := "letters", desc := "([III)I" } : Jvm.MethodName)) ∈ lw_tbl := lw_at lw_m3 32 rfl
theorem q658 : (Jvm.Cond.instanceMethod ({ cls := "LetterNights$Reader", name := "letters", desc := "([III)I" } : Jvm.MethodName)) ∈ lw_all := lw_g (lw_at lw_m3 33 rfl) rfl
theorem q659 : (Jvm.Cond.code ({ cls := "LetterNights$Reader", name := "letters", desc := "([III)I" } : Jvm.MethodName) prog_11_method_13_code (7 : Nat) (Option.some Jvm.ClassFile.FieldType.int)) ∈ lw_all := lw_g (lw_at lw_m3 34 rfl) rfl
theorem q660 : (Jvm.Cond.constantLong "LetterNights$Reader" (104 : Nat) (102 : Int64)) ∈ lw_all := lw_g (lw_at lw_m3 35 rfl) rfl
theorem q661 : (Jvm.Cond.stringRef "LetterNights$Reader" (140 : Nat) "rule") ∈ lw_tbl := lw_at lw_m3 36 rfl
theorem q662 : (Jvm.Cond.methodLink "LetterNights$Reader" (142 : Nat) ({ cls := "LetterNights$Reader", name := "rule", desc := "()V" } : Jvm.MethodName)) ∈ lw_all := lw_g (lw_at lw_m3 37 rfl) rfl
theorem q663 : (Jvm.Cond.privateMethod ({ cls := "LetterNights$Reader", name := "rule", desc := "()V" } : Jvm.MethodName)) ∈ lw_tbl := lw_at lw_m3 38 rfl
theorem q664 : (Jvm.Cond.instanceMethod ({ cls := "LetterNights$Reader", name := "rule", desc := "()V" } : Jvm.MethodName)) ∈ lw_all := lw_g (lw_at lw_m3 39 rfl) rfl
theorem q665 : (Jvm.Cond.code ({ cls := "LetterNights$Reader", name := "rule", desc := "()V" } : Jvm.MethodName) prog_11_method_18_code (4 : Nat) (Option.none : Option Jvm.ClassFile.FieldType)) ∈ lw_all := lw_g (lw_at lw_m3 40 rfl) rfl
theorem q666 : (Jvm.Cond.stringRef "LetterNights$Reader" (163 : Nat) "nothing") ∈ lw_tbl := lw_at lw_m3 41 rfl
theorem q667 : (Jvm.Cond.stringRef "LetterNights$Reader" (144 : Nat) "picks") ∈ lw_tbl := lw_at lw_m3 42 rfl
theorem q668 : (Jvm.Cond.methodLink "LetterNights$Reader" (146 : Nat) ({ cls := "LetterNights$Reader", name := "lawPicks", desc := "()V" } : Jvm.MethodName)) ∈ lw_all := lw_g (lw_at lw_m3 43 rfl) rfl
theorem q669 : (Jvm.Cond.privateMethod ({ cls := "LetterNights$Reader", name := "lawPicks", desc := "()V" } : Jvm.MethodName)) ∈ lw_tbl := lw_at lw_m3 44 rfl
theorem q670 : (Jvm.Cond.instanceMethod ({ cls := "LetterNights$Reader", name := "lawPicks", desc := "()V" } : Jvm.MethodName)) ∈ lw_all := lw_g (lw_at lw_m3 45 rfl) rfl
theorem q671 : (Jvm.Cond.code ({ cls := "LetterNights$Reader", name := "lawPicks", desc := "()V" } : Jvm.MethodName) prog_11_method_19_code (2 : Nat) (Option.none : Option Jvm.ClassFile.FieldType)) ∈ lw_all := lw_g (lw_at lw_m3 46 rfl) rfl
theorem q672 : (Jvm.Cond.methodLink "LetterNights$Reader" (170 : Nat) ({ cls := "LetterNights$Reader", name := "sum", desc := "()LLetterNights$Sum;" } : Jvm.MethodName)) ∈ lw_all := lw_g (lw_at lw_m3 47 rfl) rfl
theorem q673 : (Jvm.Cond.privateMethod ({ cls := "LetterNights$Reader", name := "sum", desc := "()LLetterNights$Sum;" } : Jvm.MethodName)) ∈ lw_tbl := lw_at lw_m3 48 rfl
theorem q674 : (Jvm.Cond.instanceMethod ({ cls := "LetterNights$Reader", name := "sum", desc := "()LLetterNights$Sum;" } : Jvm.MethodName)) ∈ lw_all := lw_g (lw_at lw_m3 49 rfl) rfl
theorem q675 : (Jvm.Cond.code ({ cls := "LetterNights$Reader", name := "sum", desc := "()LLetterNights$Sum;" } : Jvm.MethodName) prog_11_method_25_code (3 : Nat) (Option.some (Jvm.ClassFile.FieldType.object "LetterNights$Sum"))) ∈ lw_all := lw_g (lw_at lw_m3 50 rfl) rfl
theorem q676 : (Jvm.Cond.methodLink "LetterNights$Reader" (220 : Nat) ({ cls := "LetterNights$Reader", name := "term", desc := "()LLetterNights$Sum;" } : Jvm.MethodName)) ∈ lw_all := lw_g (lw_at lw_m3 51 rfl) rfl
theorem q677 : (Jvm.Cond.privateMethod ({ cls := "LetterNights$Reader", name := "term", desc := "()LLetterNights$Sum;" } : Jvm.MethodName)) ∈ lw_tbl := lw_at lw_m3 52 rfl
theorem q678 : (Jvm.Cond.instanceMethod ({ cls := "LetterNights$Reader", name := "term", desc := "()LLetterNights$Sum;" } : Jvm.MethodName)) ∈ lw_all := lw_g (lw_at lw_m3 53 rfl) rfl
theorem q679 : (Jvm.Cond.code ({ cls := "LetterNights$Reader", name := "term", desc := "()LLetterNights$Sum;" } : Jvm.MethodName) prog_11_method_26_code (2 : Nat) (Option.some (Jvm.ClassFile.FieldType.object "LetterNights$Sum"))) ∈ lw_all := lw_g (lw_at lw_m3 54 rfl) rfl
theorem q680 : (Jvm.Cond.methodLink "LetterNights$Reader" (226 : Nat) ({ cls := "LetterNights$Reader", name := "atom", desc := "()LLetterNights$Sum;" } : Jvm.MethodName)) ∈ lw_all := lw_g (lw_at lw_m3 55 rfl) rfl
theorem q681 : (Jvm.Cond.privateMethod ({ cls := "LetterNights$Reader", name := "atom", desc := "()LLetterNights$Sum;" } : Jvm.MethodName)) ∈ lw_tbl := lw_at lw_m3 56 rfl
theorem q682 : (Jvm.Cond.instanceMethod ({ cls := "LetterNights$Reader", name := "atom", desc := "()LLetterNights$Sum;" } : Jvm.MethodName)) ∈ lw_all := lw_g (lw_at lw_m3 57 rfl) rfl
theorem q683 : (Jvm.Cond.code ({ cls := "LetterNights$Reader", name := "atom", desc := "()LLetterNights$Sum;" } : Jvm.MethodName) prog_11_method_28_code (3 : Nat) (Option.some (Jvm.ClassFile.FieldType.object "LetterNights$Sum"))) ∈ lw_all := lw_g (lw_at lw_m3 58 rfl) rfl
theorem q684 : (Jvm.Cond.stringRef "LetterNights$Reader" (237 : Nat) "if") ∈ lw_tbl := lw_at lw_m3 59 rfl
theorem q685 : (Jvm.Cond.methodLink "LetterNights$Reader" (239 : Nat) ({ cls := "LetterNights$Reader", name := "asks", desc := "()LLetterNights$Sum;" } : Jvm.MethodName)) ∈ lw_all := lw_g (lw_at lw_m3 60 rfl) rfl
theorem q686 : (Jvm.Cond.privateMethod ({ cls := "LetterNights$Reader", name := "asks", desc := "()LLetterNights$Sum;" } : Jvm.MethodName)) ∈ lw_tbl := lw_at lw_m3 61 rfl
theorem q687 : (Jvm.Cond.instanceMethod ({ cls := "LetterNights$Reader", name := "asks", desc := "()LLetterNights$Sum;" } : Jvm.MethodName)) ∈ lw_all := lw_g (lw_at lw_m3 62 rfl) rfl
theorem q688 : (Jvm.Cond.code ({ cls := "LetterNights$Reader", name := "asks", desc := "()LLetterNights$Sum;" } : Jvm.MethodName) prog_11_method_29_code (4 : Nat) (Option.some (Jvm.ClassFile.FieldType.object "LetterNights$Sum"))) ∈ lw_all := lw_g (lw_at lw_m3 63 rfl) rfl
theorem q689 : (Jvm.Cond.methodLink "LetterNights$Reader" (204 : Nat) ({ cls := "LetterNights$Reader", name := "goesIn", desc := "()V" } : Jvm.MethodName)) ∈ lw_all := lw_g (lw_at lw_m3 64 rfl) rfl
theorem q690 : (Jvm.Cond.privateMethod ({ cls := "LetterNights$Reader", name := "goesIn", desc := "()V" } : Jvm.MethodName)) ∈ lw_tbl := lw_at lw_m3 65 rfl
theorem q691 : (Jvm.Cond.instanceMethod ({ cls := "LetterNights$Reader", name := "goesIn", desc := "()V" } : Jvm.MethodName)) ∈ lw_all := lw_g (lw_at lw_m3 66 rfl) rfl
theorem q692 : (Jvm.Cond.code ({ cls := "LetterNights$Reader", name := "goesIn", desc := "()V" } : Jvm.MethodName) prog_11_method_21_code (1 : Nat) (Option.none : Option Jvm.ClassFile.FieldType)) ∈ lw_all := lw_g (lw_at lw_m3 67 rfl) rfl
theorem q693 : (Jvm.Cond.methodLink "LetterNights$Reader" (177 : Nat) ({ cls := "LetterNights$Reader", name := "truth", desc := "()LLetterNights$Truth;" } : Jvm.MethodName)) ∈ lw_all := lw_g (lw_at lw_m3 68 rfl) rfl
theorem q694 : (Jvm.Cond.privateMethod ({ cls := "LetterNights$Reader", name := "truth", desc := "()LLetterNights$Truth;" } : Jvm.MethodName)) ∈ lw_tbl := lw_at lw_m3 69 rfl
theorem q695 : (Jvm.Cond.instanceMethod ({ cls := "LetterNights$Reader", name := "truth", desc := "()LLetterNights$Truth;" } : Jvm.MethodName)) ∈ lw_all := lw_g (lw_at lw_m3 70 rfl) rfl
theorem q696 : (Jvm.Cond.code ({ cls := "LetterNights$Reader", name := "truth", desc := "()LLetterNights$Truth;" } : Jvm.MethodName) prog_11_method_22_code (2 : Nat) (Option.some (Jvm.ClassFile.FieldType.object "LetterNights$Truth"))) ∈ lw_all := lw_g (lw_at lw_m3 71 rfl) rfl
theorem q697 : (Jvm.Cond.methodLink "LetterNights$Reader" (187 : Nat) ({ cls := "LetterNights$Reader", name := "both", desc := "()LLetterNights$Truth;" } : Jvm.MethodName)) ∈ lw_all := lw_g (lw_at lw_m3 72 rfl) rfl
theorem q698 : (Jvm.Cond.privateMethod ({ cls := "LetterNights$Reader", name := "both", desc := "()LLetterNights$Truth;" } : Jvm.MethodName)) ∈ lw_tbl := lw_at lw_m3 73 rfl
theorem q699 : (Jvm.Cond.instanceMethod ({ cls := "LetterNights$Reader", name := "both", desc := "()LLetterNights$Truth;" } : Jvm.MethodName)) ∈ lw_all := lw_g (lw_at lw_m3 74 rfl) rfl
theorem q700 : (Jvm.Cond.code ({ cls := "LetterNights$Reader", name := "both", desc := "()LLetterNights$Truth;" } : Jvm.MethodName) prog_11_method_23_code (2 : Nat) (Option.some (Jvm.ClassFile.FieldType.object "LetterNights$Truth"))) ∈ lw_all := lw_g (lw_at lw_m3 75 rfl) rfl
theorem q701 : (Jvm.Cond.methodLink "LetterNights$Reader" (197 : Nat) ({ cls := "LetterNights$Reader", name := "unit", desc := "()LLetterNights$Truth;" } : Jvm.MethodName)) ∈ lw_all := lw_g (lw_at lw_m3 76 rfl) rfl
theorem q702 : (Jvm.Cond.privateMethod ({ cls := "LetterNights$Reader", name := "unit", desc := "()LLetterNights$Truth;" } : Jvm.MethodName)) ∈ lw_tbl := lw_at lw_m3 77 rfl
theorem q703 : (Jvm.Cond.instanceMethod ({ cls := "LetterNights$Reader", name := "unit", desc := "()LLetterNights$Truth;" } : Jvm.MethodName)) ∈ lw_all := lw_g (lw_at lw_m3 78 rfl) rfl
theorem q704 : (Jvm.Cond.code ({ cls := "LetterNights$Reader", name := "unit", desc := "()LLetterNights$Truth;" } : Jvm.MethodName) prog_11_method_24_code (3 : Nat) (Option.some (Jvm.ClassFile.FieldType.object "LetterNights$Truth"))) ∈ lw_all := lw_g (lw_at lw_m3 79 rfl) rfl
theorem q705 : (Jvm.Cond.stringRef "LetterNights$Reader" (202 : Nat) "not") ∈ lw_tbl := lw_at lw_m3 80 rfl
theorem q706 : (Jvm.Cond.classLink "LetterNights$Reader" (207 : Nat) "LetterNights$Not") ∈ lw_all := lw_g (lw_at lw_m3 81 rfl) rfl
theorem q708 : (Jvm.Cond.methodLink "LetterNights$Reader" (209 : Nat) ({ cls := "LetterNights$Not", name := "<init>", desc := "(LLetterNights$Truth;)V" } : Jvm.MethodName)) ∈ lw_all := lw_g (lw_at lw_m3 83 rfl) rfl
theorem q719 : (Jvm.Cond.methodLink "LetterNights$Reader" (212 : Nat) ({ cls := "LetterNights$Reader", name := "isSign", desc := "(I)Z" } : Jvm.MethodName)) ∈ lw_all := lw_g (lw_at lw_m3 94 rfl) rfl
theorem q720 : (Jvm.Cond.privateMethod ({ cls := "LetterNights$Reader", name := "isSign", desc := "(I)Z" } : Jvm.MethodName)) ∈ lw_tbl := lw_at lw_m3 95 rfl
theorem q721 : (Jvm.Cond.instanceMethod ({ cls := "LetterNights$Reader", name := "isSign", desc := "(I)Z" } : Jvm.MethodName)) ∈ lw_all := lw_g (lw_at lw_m3 96 rfl) rfl
theorem q722 : (Jvm.Cond.code ({ cls := "LetterNights$Reader", name := "isSign", desc := "(I)Z" } : Jvm.MethodName) prog_11_method_9_code (2 : Nat) (Option.some Jvm.ClassFile.FieldType.boolean)) ∈ lw_all := lw_g (lw_at lw_m3 97 rfl) rfl
theorem q723 : (Jvm.Cond.classLink "LetterNights$Reader" (215 : Nat) "LetterNights$Compare") ∈ lw_all := lw_g (lw_at lw_m3 98 rfl) rfl
theorem q725 : (Jvm.Cond.methodLink "LetterNights$Reader" (217 : Nat) ({ cls := "LetterNights$Compare", name := "<init>", desc := "(LLetterNights$Sum;ILLetterNights$Sum;)V" } : Jvm.MethodName)) ∈ lw_all := lw_g (lw_at lw_m3 100 rfl) rfl
theorem q739 : (Jvm.Cond.stringRef "LetterNights$Reader" (200 : Nat) "and") ∈ lw_tbl := lw_at lw_m3 114 rfl
theorem q740 : (Jvm.Cond.classLink "LetterNights$Reader" (192 : Nat) "LetterNights$Both") ∈ lw_all := lw_g (lw_at lw_m3 115 rfl) rfl
theorem q742 : (Jvm.Cond.methodLink "LetterNights$Reader" (194 : Nat) ({ cls := "LetterNights$Both", name := "<init>", desc := "(LLetterNights$Truth;ZLLetterNights$Truth;)V" } : Jvm.MethodName)) ∈ lw_all := lw_g (lw_at lw_m3 117 rfl) rfl
theorem q756 : (Jvm.Cond.stringRef "LetterNights$Reader" (190 : Nat) "or") ∈ lw_tbl := lw_at lw_m3 131 rfl
theorem q757 : (Jvm.Cond.stringRef "LetterNights$Reader" (252 : Nat) "then") ∈ lw_tbl := lw_at lw_m3 132 rfl
theorem q758 : (Jvm.Cond.stringRef "LetterNights$Reader" (254 : Nat) "else") ∈ lw_tbl := lw_at lw_m3 133 rfl
theorem q759 : (Jvm.Cond.stringRef "LetterNights$Reader" (256 : Nat) "end") ∈ lw_tbl := lw_at lw_m3 134 rfl
theorem q760 : (Jvm.Cond.classLink "LetterNights$Reader" (258 : Nat) "LetterNights$If") ∈ lw_all := lw_g (lw_at lw_m3 135 rfl) rfl
theorem q762 : (Jvm.Cond.methodLink "LetterNights$Reader" (260 : Nat) ({ cls := "LetterNights$If", name := "<init>", desc := "(LLetterNights$Truth;LLetterNights$Sum;LLetterNights$Sum;)V" } : Jvm.MethodName)) ∈ lw_all := lw_g (lw_at lw_m3 137 rfl) rfl
theorem q779 : (Jvm.Cond.methodLink "LetterNights$Reader" (242 : Nat) ({ cls := "LetterNights$Reader", name := "word", desc := "()I" } : Jvm.MethodName)) ∈ lw_all := lw_g (lw_at lw_m3 154 rfl) rfl
theorem q780 : (Jvm.Cond.privateMethod ({ cls := "LetterNights$Reader", name := "word", desc := "()I" } : Jvm.MethodName)) ∈ lw_tbl := lw_at lw_m3 155 rfl
theorem q781 : (Jvm.Cond.instanceMethod ({ cls := "LetterNights$Reader", name := "word", desc := "()I" } : Jvm.MethodName)) ∈ lw_all := lw_g (lw_at lw_m3 156 rfl) rfl
theorem q782 : (Jvm.Cond.code ({ cls := "LetterNights$Reader", name := "word", desc := "()I" } : Jvm.MethodName) prog_11_method_27_code (1 : Nat) (Option.some Jvm.ClassFile.FieldType.int)) ∈ lw_all := lw_g (lw_at lw_m3 157 rfl) rfl
theorem q783 : (Jvm.Cond.stringRef "LetterNights$Reader" (229 : Nat) "night") ∈ lw_tbl := lw_at lw_m3 158 rfl
theorem q784 : (Jvm.Cond.stringRef "LetterNights$Reader" (231 : Nat) "front") ∈ lw_tbl := lw_at lw_m3 159 rfl
theorem q785 : (Jvm.Cond.stringRef "LetterNights$Reader" (233 : Nat) "back") ∈ lw_tbl := lw_at lw_m3 160 rfl
theorem q786 : (Jvm.Cond.stringRef "LetterNights$Reader" (235 : Nat) "rest") ∈ lw_tbl := lw_at lw_m3 161 rfl
theorem q787 : (Jvm.Cond.classLink "LetterNights$Reader" (245 : Nat) "LetterNights$Known") ∈ lw_all := lw_g (lw_at lw_m3 162 rfl) rfl
theorem q789 : (Jvm.Cond.methodLink "LetterNights$Reader" (247 : Nat) ({ cls := "LetterNights$Known", name := "<init>", desc := "(I)V" } : Jvm.MethodName)) ∈ lw_all := lw_g (lw_at lw_m3 164 rfl) rfl
theorem q797 : (Jvm.Cond.classLink "LetterNights$Reader" (249 : Nat) "LetterNights$Plain") ∈ lw_all := lw_g (lw_at lw_m3 172 rfl) rfl
theorem q799 : (Jvm.Cond.methodLink "LetterNights$Reader" (251 : Nat) ({ cls := "LetterNights$Plain", name := "<init>", desc := "(I)V" } : Jvm.MethodName)) ∈ lw_all := lw_g (lw_at lw_m3 174 rfl) rfl
theorem q807 : (Jvm.Cond.classLink "LetterNights$Reader" (223 : Nat) "LetterNights$Pair") ∈ lw_all := lw_g (lw_at lw_m3 182 rfl) rfl
theorem q809 : (Jvm.Cond.methodLink "LetterNights$Reader" (225 : Nat) ({ cls := "LetterNights$Pair", name := "<init>", desc := "(LLetterNights$Sum;ILLetterNights$Sum;)V" } : Jvm.MethodName)) ∈ lw_all := lw_g (lw_at lw_m3 184 rfl) rfl
theorem q823 : (Jvm.Cond.stringRef "LetterNights$Reader" (149 : Nat) "sleeps") ∈ lw_tbl := lw_at lw_m3 198 rfl
theorem q824 : (Jvm.Cond.methodLink "LetterNights$Reader" (151 : Nat) ({ cls := "LetterNights$Reader", name := "lawSleeps", desc := "()V" } : Jvm.MethodName)) ∈ lw_all := lw_g (lw_at lw_m3 199 rfl) rfl
theorem q825 : (Jvm.Cond.privateMethod ({ cls := "LetterNights$Reader", name := "lawSleeps", desc := "()V" } : Jvm.MethodName)) ∈ lw_tbl := lw_at lw_m3 200 rfl
theorem q826 : (Jvm.Cond.instanceMethod ({ cls := "LetterNights$Reader", name := "lawSleeps", desc := "()V" } : Jvm.MethodName)) ∈ lw_all := lw_g (lw_at lw_m3 201 rfl) rfl
theorem q827 : (Jvm.Cond.code ({ cls := "LetterNights$Reader", name := "lawSleeps", desc := "()V" } : Jvm.MethodName) prog_11_method_20_code (2 : Nat) (Option.none : Option Jvm.ClassFile.FieldType)) ∈ lw_all := lw_g (lw_at lw_m3 202 rfl) rfl
theorem in_X6 : ∀ w ∈ wsX60, w ∈ lw_all := lw_in wsX60 [460, 462, 464, 466, 468, 470, 472, 474, 476, 478, 480] (by decide +kernel) (by decide +kernel)
def RX7 : String := "LetterNights$Truth"
abbrev cX7_init : ByteArray := prog_15_method_1_code
def yX7_init : MethodName := ⟨RX7, "<init>", "()V"⟩
theorem q159 : (Jvm.Cond.initialized "LetterNights$Truth") ∈ lw_all := lw_g (lw_at lw_m1 14 rfl) rfl
theorem q712 : (Jvm.Cond.instanceMethod ({ cls := "LetterNights$Truth", name := "<init>", desc := "()V" } : Jvm.MethodName)) ∈ lw_all := lw_g (lw_at lw_m3 87 rfl) rfl
theorem q713 : (Jvm.Cond.code ({ cls := "LetterNights$Truth", name := "<init>", desc := "()V" } : Jvm.MethodName) prog_15_method_1_code (1 : Nat) (Option.none : Option Jvm.ClassFile.FieldType)) ∈ lw_all := lw_g (lw_at lw_m3 88 rfl) rfl
theorem q714 : (Jvm.Cond.methodLink "LetterNights$Truth" (1 : Nat) ({ cls := "java/lang/Object", name := "<init>", desc := "()V" } : Jvm.MethodName)) ∈ lw_all := lw_g (lw_at lw_m3 89 rfl) rfl
theorem q900 : (Jvm.Cond.declares ({ cls := "LetterNights$Truth", name := "holds", desc := "([I)Z" } : Jvm.MethodName)) ∈ lw_tbl := lw_at lw_m4 35 rfl
theorem q901 : (Jvm.Cond.sameMethod "LetterNights$Truth" "LetterNights$Truth" "holds" "([I)Z") ∈ lw_all := lw_g (lw_at lw_m4 36 rfl) rfl
def RX8 : String := "LetterNights$Not"
def TX8 : u_T := fun k => match k with
  | _ => ("LetterNights$Not", "one", "LLetterNights$Truth;", true)
def tyX8 : Nat → FieldType := fun k => match k with
  | _ => .object "LetterNights$Truth"
abbrev wsX80 : List Cond := u_ws RX8 TX8 1
theorem nmX8 : ∀ a, a < 1 → ∀ b, b < 1 → a ≠ b → (TX8 a).2.1 ≠ (TX8 b).2.1 := by decide +kernel
theorem tyX8_ok : ∀ k, k < 1 → parseFieldDescriptor (TX8 k).2.2.1 = some (tyX8 k) := by decide +kernel
abbrev cX8_init : ByteArray := prog_6_method_1_code
def yX8_init : MethodName := ⟨RX8, "<init>", "(LLetterNights$Truth;)V"⟩
abbrev cX8_holds : ByteArray := prog_6_method_2_code
def yX8_holds : MethodName := ⟨RX8, "holds", "([I)Z"⟩
theorem q160 : (Jvm.Cond.initialized "LetterNights$Not") ∈ lw_all := lw_g (lw_at lw_m1 15 rfl) rfl
theorem q707 : (Jvm.Cond.instantiable "LetterNights$Not" (1 : Nat)) ∈ lw_all := lw_g (lw_at lw_m3 82 rfl) rfl
theorem q709 : (Jvm.Cond.instanceMethod ({ cls := "LetterNights$Not", name := "<init>", desc := "(LLetterNights$Truth;)V" } : Jvm.MethodName)) ∈ lw_all := lw_g (lw_at lw_m3 84 rfl) rfl
theorem q710 : (Jvm.Cond.code ({ cls := "LetterNights$Not", name := "<init>", desc := "(LLetterNights$Truth;)V" } : Jvm.MethodName) prog_6_method_1_code (2 : Nat) (Option.none : Option Jvm.ClassFile.FieldType)) ∈ lw_all := lw_g (lw_at lw_m3 85 rfl) rfl
theorem q711 : (Jvm.Cond.methodLinkNest "LetterNights$Not" (1 : Nat) ({ cls := "LetterNights$Truth", name := "<init>", desc := "()V" } : Jvm.MethodName) "LetterNights") ∈ lw_tbl := lw_at lw_m3 86 rfl
theorem q715 : (Jvm.Cond.fieldLink "LetterNights$Not" (7 : Nat) "LetterNights$Not" "one" "LLetterNights$Truth;") ∈ lw_all := lw_g (lw_at lw_m3 90 rfl) rfl
theorem q716 : (Jvm.Cond.laysFinal "LetterNights$Not" "LetterNights$Not" "one" "LLetterNights$Truth;") ∈ lw_all := lw_g (lw_at lw_m3 91 rfl) rfl
theorem q717 : (Jvm.Cond.soleField "LetterNights$Not" "one") ∈ lw_all := lw_g (lw_at lw_m3 92 rfl) rfl
theorem q718 : (Jvm.Cond.superclass "LetterNights$Not" "LetterNights$Truth") ∈ lw_all := lw_g (lw_at lw_m3 93 rfl) rfl
theorem q915 : (Jvm.Cond.instanceMethod ({ cls := "LetterNights$Not", name := "holds", desc := "([I)Z" } : Jvm.MethodName)) ∈ lw_all := lw_g (lw_at lw_m4 50 rfl) rfl
theorem q916 : (Jvm.Cond.code ({ cls := "LetterNights$Not", name := "holds", desc := "([I)Z" } : Jvm.MethodName) prog_6_method_2_code (2 : Nat) (Option.some Jvm.ClassFile.FieldType.boolean)) ∈ lw_all := lw_g (lw_at lw_m4 51 rfl) rfl
theorem q917 : (Jvm.Cond.methodLink "LetterNights$Not" (13 : Nat) ({ cls := "LetterNights$Truth", name := "holds", desc := "([I)Z" } : Jvm.MethodName)) ∈ lw_all := lw_g (lw_at lw_m4 52 rfl) rfl
theorem q936 : (Jvm.Cond.selects "LetterNights$Not" ({ cls := "LetterNights$Truth", name := "holds", desc := "([I)Z" } : Jvm.MethodName) ({ cls := "LetterNights$Not", name := "holds", desc := "([I)Z" } : Jvm.MethodName)) ∈ lw_all := lw_g (lw_at lw_m4 71 rfl) rfl
theorem in_X8 : ∀ w ∈ wsX80, w ∈ lw_all := lw_in wsX80 [716] (by decide +kernel) (by decide +kernel)
def RX9 : String := "LetterNights$Compare"
def TX9 : u_T := fun k => match k with
  | 0 => ("LetterNights$Compare", "one", "LLetterNights$Sum;", true)
  | 1 => ("LetterNights$Compare", "two", "LLetterNights$Sum;", true)
  | _ => ("LetterNights$Compare", "sign", "I", true)
def tyX9 : Nat → FieldType := fun k => match k with
  | 0 => .object "LetterNights$Sum"
  | 1 => .object "LetterNights$Sum"
  | _ => .int
abbrev wsX90 : List Cond := u_ws RX9 TX9 3
theorem nmX9 : ∀ a, a < 3 → ∀ b, b < 3 → a ≠ b → (TX9 a).2.1 ≠ (TX9 b).2.1 := by decide +kernel
theorem tyX9_ok : ∀ k, k < 3 → parseFieldDescriptor (TX9 k).2.2.1 = some (tyX9 k) := by decide +kernel
abbrev cX9_init : ByteArray := prog_3_method_1_code
def yX9_init : MethodName := ⟨RX9, "<init>", "(LLetterNights$Sum;ILLetterNights$Sum;)V"⟩
abbrev cX9_holds : ByteArray := prog_3_method_2_code
def yX9_holds : MethodName := ⟨RX9, "holds", "([I)Z"⟩
theorem q161 : (Jvm.Cond.initialized "LetterNights$Compare") ∈ lw_all := lw_g (lw_at lw_m1 16 rfl) rfl
theorem q724 : (Jvm.Cond.instantiable "LetterNights$Compare" (3 : Nat)) ∈ lw_all := lw_g (lw_at lw_m3 99 rfl) rfl
theorem q726 : (Jvm.Cond.instanceMethod ({ cls := "LetterNights$Compare", name := "<init>", desc := "(LLetterNights$Sum;ILLetterNights$Sum;)V" } : Jvm.MethodName)) ∈ lw_all := lw_g (lw_at lw_m3 101 rfl) rfl
theorem q727 : (Jvm.Cond.code ({ cls := "LetterNights$Compare", name := "<init>", desc := "(LLetterNights$Sum;ILLetterNights$Sum;)V" } : Jvm.MethodName) prog_3_method_1_code (4 : Nat) (Option.none : Option Jvm.ClassFile.FieldType)) ∈ lw_all := lw_g (lw_at lw_m3 102 rfl) rfl
theorem q728 : (Jvm.Cond.methodLinkNest "LetterNights$Compare" (1 : Nat) ({ cls := "LetterNights$Truth", name := "<init>", desc := "()V" } : Jvm.MethodName) "LetterNights") ∈ lw_tbl := lw_at lw_m3 103 rfl
theorem q729 : (Jvm.Cond.fieldLink "LetterNights$Compare" (7 : Nat) "LetterNights$Compare" "one" "LLetterNights$Sum;") ∈ lw_all := lw_g (lw_at lw_m3 104 rfl) rfl
theorem q730 : (Jvm.Cond.fieldLink "LetterNights$Compare" (17 : Nat) "LetterNights$Compare" "two" "LLetterNights$Sum;") ∈ lw_all := lw_g (lw_at lw_m3 105 rfl) rfl
theorem q731 : (Jvm.Cond.fieldLink "LetterNights$Compare" (13 : Nat) "LetterNights$Compare" "sign" "I") ∈ lw_all := lw_g (lw_at lw_m3 106 rfl) rfl
theorem q732 : (Jvm.Cond.laysFinal "LetterNights$Compare" "LetterNights$Compare" "one" "LLetterNights$Sum;") ∈ lw_all := lw_g (lw_at lw_m3 107 rfl) rfl
theorem q733 : (Jvm.Cond.soleField "LetterNights$Compare" "one") ∈ lw_all := lw_g (lw_at lw_m3 108 rfl) rfl
theorem q734 : (Jvm.Cond.laysFinal "LetterNights$Compare" "LetterNights$Compare" "two" "LLetterNights$Sum;") ∈ lw_all := lw_g (lw_at lw_m3 109 rfl) rfl
theorem q735 : (Jvm.Cond.soleField "LetterNights$Compare" "two") ∈ lw_all := lw_g (lw_at lw_m3 110 rfl) rfl
theorem q736 : (Jvm.Cond.laysFinal "LetterNights$Compare" "LetterNights$Compare" "sign" "I") ∈ lw_all := lw_g (lw_at lw_m3 111 rfl) rfl
theorem q737 : (Jvm.Cond.soleField "LetterNights$Compare" "sign") ∈ lw_all := lw_g (lw_at lw_m3 112 rfl) rfl
theorem q738 : (Jvm.Cond.superclass "LetterNights$Compare" "LetterNights$Truth") ∈ lw_all := lw_g (lw_at lw_m3 113 rfl) rfl
theorem q906 : (Jvm.Cond.instanceMethod ({ cls := "LetterNights$Compare", name := "holds", desc := "([I)Z" } : Jvm.MethodName)) ∈ lw_all := lw_g (lw_at lw_m4 41 rfl) rfl
theorem q907 : (Jvm.Cond.code ({ cls := "LetterNights$Compare", name := "holds", desc := "([I)Z" } : Jvm.MethodName) prog_3_method_2_code (4 : Nat) (Option.some Jvm.ClassFile.FieldType.boolean)) ∈ lw_all := lw_g (lw_at lw_m4 42 rfl) rfl
theorem q908 : (Jvm.Cond.methodLink "LetterNights$Compare" (20 : Nat) ({ cls := "LetterNights$Sum", name := "value", desc := "([I)I" } : Jvm.MethodName)) ∈ lw_all := lw_g (lw_at lw_m4 43 rfl) rfl
theorem q935 : (Jvm.Cond.selects "LetterNights$Compare" ({ cls := "LetterNights$Truth", name := "holds", desc := "([I)Z" } : Jvm.MethodName) ({ cls := "LetterNights$Compare", name := "holds", desc := "([I)Z" } : Jvm.MethodName)) ∈ lw_all := lw_g (lw_at lw_m4 70 rfl) rfl
theorem in_X9 : ∀ w ∈ wsX90, w ∈ lw_all := lw_in wsX90 [732, 734, 736] (by decide +kernel) (by decide +kernel)
def RX10 : String := "LetterNights$Both"
def TX10 : u_T := fun k => match k with
  | 0 => ("LetterNights$Both", "one", "LLetterNights$Truth;", true)
  | 1 => ("LetterNights$Both", "two", "LLetterNights$Truth;", true)
  | _ => ("LetterNights$Both", "isAnd", "Z", true)
def tyX10 : Nat → FieldType := fun k => match k with
  | 0 => .object "LetterNights$Truth"
  | 1 => .object "LetterNights$Truth"
  | _ => .boolean
abbrev wsX100 : List Cond := u_ws RX10 TX10 3
theorem nmX10 : ∀ a, a < 3 → ∀ b, b < 3 → a ≠ b → (TX10 a).2.1 ≠ (TX10 b).2.1 := by decide +kernel
theorem tyX10_ok : ∀ k, k < 3 → parseFieldDescriptor (TX10 k).2.2.1 = some (tyX10 k) := by decide +kernel
abbrev cX10_init : ByteArray := prog_2_method_1_code
def yX10_init : MethodName := ⟨RX10, "<init>", "(LLetterNights$Truth;ZLLetterNights$Truth;)V"⟩
abbrev cX10_holds : ByteArray := prog_2_method_2_code
def yX10_holds : MethodName := ⟨RX10, "holds", "([I)Z"⟩
theorem q162 : (Jvm.Cond.initialized "LetterNights$Both") ∈ lw_all := lw_g (lw_at lw_m1 17 rfl) rfl
theorem q741 : (Jvm.Cond.instantiable "LetterNights$Both" (3 : Nat)) ∈ lw_all := lw_g (lw_at lw_m3 116 rfl) rfl
theorem q743 : (Jvm.Cond.instanceMethod ({ cls := "LetterNights$Both", name := "<init>", desc := "(LLetterNights$Truth;ZLLetterNights$Truth;)V" } : Jvm.MethodName)) ∈ lw_all := lw_g (lw_at lw_m3 118 rfl) rfl
theorem q744 : (Jvm.Cond.code ({ cls := "LetterNights$Both", name := "<init>", desc := "(LLetterNights$Truth;ZLLetterNights$Truth;)V" } : Jvm.MethodName) prog_2_method_1_code (4 : Nat) (Option.none : Option Jvm.ClassFile.FieldType)) ∈ lw_all := lw_g (lw_at lw_m3 119 rfl) rfl
theorem q745 : (Jvm.Cond.methodLinkNest "LetterNights$Both" (1 : Nat) ({ cls := "LetterNights$Truth", name := "<init>", desc := "()V" } : Jvm.MethodName) "LetterNights") ∈ lw_tbl := lw_at lw_m3 120 rfl
theorem q746 : (Jvm.Cond.fieldLink "LetterNights$Both" (7 : Nat) "LetterNights$Both" "one" "LLetterNights$Truth;") ∈ lw_all := lw_g (lw_at lw_m3 121 rfl) rfl
theorem q747 : (Jvm.Cond.fieldLink "LetterNights$Both" (17 : Nat) "LetterNights$Both" "two" "LLetterNights$Truth;") ∈ lw_all := lw_g (lw_at lw_m3 122 rfl) rfl
theorem q748 : (Jvm.Cond.fieldLink "LetterNights$Both" (13 : Nat) "LetterNights$Both" "isAnd" "Z") ∈ lw_all := lw_g (lw_at lw_m3 123 rfl) rfl
theorem q749 : (Jvm.Cond.laysFinal "LetterNights$Both" "LetterNights$Both" "one" "LLetterNights$Truth;") ∈ lw_all := lw_g (lw_at lw_m3 124 rfl) rfl
theorem q750 : (Jvm.Cond.soleField "LetterNights$Both" "one") ∈ lw_all := lw_g (lw_at lw_m3 125 rfl) rfl
theorem q751 : (Jvm.Cond.laysFinal "LetterNights$Both" "LetterNights$Both" "two" "LLetterNights$Truth;") ∈ lw_all := lw_g (lw_at lw_m3 126 rfl) rfl
theorem q752 : (Jvm.Cond.soleField "LetterNights$Both" "two") ∈ lw_all := lw_g (lw_at lw_m3 127 rfl) rfl
theorem q753 : (Jvm.Cond.laysFinal "LetterNights$Both" "LetterNights$Both" "isAnd" "Z") ∈ lw_all := lw_g (lw_at lw_m3 128 rfl) rfl
theorem q754 : (Jvm.Cond.soleField "LetterNights$Both" "isAnd") ∈ lw_all := lw_g (lw_at lw_m3 129 rfl) rfl
theorem q755 : (Jvm.Cond.superclass "LetterNights$Both" "LetterNights$Truth") ∈ lw_all := lw_g (lw_at lw_m3 130 rfl) rfl
theorem q902 : (Jvm.Cond.selects "LetterNights$Both" ({ cls := "LetterNights$Truth", name := "holds", desc := "([I)Z" } : Jvm.MethodName) ({ cls := "LetterNights$Both", name := "holds", desc := "([I)Z" } : Jvm.MethodName)) ∈ lw_all := lw_g (lw_at lw_m4 37 rfl) rfl
theorem q903 : (Jvm.Cond.instanceMethod ({ cls := "LetterNights$Both", name := "holds", desc := "([I)Z" } : Jvm.MethodName)) ∈ lw_all := lw_g (lw_at lw_m4 38 rfl) rfl
theorem q904 : (Jvm.Cond.code ({ cls := "LetterNights$Both", name := "holds", desc := "([I)Z" } : Jvm.MethodName) prog_2_method_2_code (2 : Nat) (Option.some Jvm.ClassFile.FieldType.boolean)) ∈ lw_all := lw_g (lw_at lw_m4 39 rfl) rfl
theorem q905 : (Jvm.Cond.methodLink "LetterNights$Both" (20 : Nat) ({ cls := "LetterNights$Truth", name := "holds", desc := "([I)Z" } : Jvm.MethodName)) ∈ lw_all := lw_g (lw_at lw_m4 40 rfl) rfl
theorem in_X10 : ∀ w ∈ wsX100, w ∈ lw_all := lw_in wsX100 [749, 751, 753] (by decide +kernel) (by decide +kernel)
def RX11 : String := "LetterNights$Sum"
abbrev cX11_init : ByteArray := prog_14_method_1_code
def yX11_init : MethodName := ⟨RX11, "<init>", "()V"⟩
theorem q163 : (Jvm.Cond.initialized "LetterNights$Sum") ∈ lw_all := lw_g (lw_at lw_m1 18 rfl) rfl
theorem q766 : (Jvm.Cond.instanceMethod ({ cls := "LetterNights$Sum", name := "<init>", desc := "()V" } : Jvm.MethodName)) ∈ lw_all := lw_g (lw_at lw_m3 141 rfl) rfl
theorem q767 : (Jvm.Cond.code ({ cls := "LetterNights$Sum", name := "<init>", desc := "()V" } : Jvm.MethodName) prog_14_method_1_code (1 : Nat) (Option.none : Option Jvm.ClassFile.FieldType)) ∈ lw_all := lw_g (lw_at lw_m3 142 rfl) rfl
theorem q768 : (Jvm.Cond.methodLink "LetterNights$Sum" (1 : Nat) ({ cls := "java/lang/Object", name := "<init>", desc := "()V" } : Jvm.MethodName)) ∈ lw_all := lw_g (lw_at lw_m3 143 rfl) rfl
theorem q909 : (Jvm.Cond.declares ({ cls := "LetterNights$Sum", name := "value", desc := "([I)I" } : Jvm.MethodName)) ∈ lw_tbl := lw_at lw_m4 44 rfl
theorem q910 : (Jvm.Cond.sameMethod "LetterNights$Sum" "LetterNights$Sum" "value" "([I)I") ∈ lw_all := lw_g (lw_at lw_m4 45 rfl) rfl
def RX12 : String := "LetterNights$If"
def TX12 : u_T := fun k => match k with
  | 0 => ("LetterNights$If", "asked", "LLetterNights$Truth;", true)
  | 1 => ("LetterNights$If", "so", "LLetterNights$Sum;", true)
  | _ => ("LetterNights$If", "otherwise", "LLetterNights$Sum;", true)
def tyX12 : Nat → FieldType := fun k => match k with
  | 0 => .object "LetterNights$Truth"
  | 1 => .object "LetterNights$Sum"
  | _ => .object "LetterNights$Sum"
abbrev wsX120 : List Cond := u_ws RX12 TX12 3
theorem nmX12 : ∀ a, a < 3 → ∀ b, b < 3 → a ≠ b → (TX12 a).2.1 ≠ (TX12 b).2.1 := by decide +kernel
theorem tyX12_ok : ∀ k, k < 3 → parseFieldDescriptor (TX12 k).2.2.1 = some (tyX12 k) := by decide +kernel
abbrev cX12_init : ByteArray := prog_4_method_1_code
def yX12_init : MethodName := ⟨RX12, "<init>", "(LLetterNights$Truth;LLetterNights$Sum;LLetterNights$Sum;)V"⟩
abbrev cX12_value : ByteArray := prog_4_method_2_code
def yX12_value : MethodName := ⟨RX12, "value", "([I)I"⟩
theorem q164 : (Jvm.Cond.initialized "LetterNights$If") ∈ lw_all := lw_g (lw_at lw_m1 19 rfl) rfl
theorem q761 : (Jvm.Cond.instantiable "LetterNights$If" (3 : Nat)) ∈ lw_all := lw_g (lw_at lw_m3 136 rfl) rfl
theorem q763 : (Jvm.Cond.instanceMethod ({ cls := "LetterNights$If", name := "<init>", desc := "(LLetterNights$Truth;LLetterNights$Sum;LLetterNights$Sum;)V" } : Jvm.MethodName)) ∈ lw_all := lw_g (lw_at lw_m3 138 rfl) rfl
theorem q764 : (Jvm.Cond.code ({ cls := "LetterNights$If", name := "<init>", desc := "(LLetterNights$Truth;LLetterNights$Sum;LLetterNights$Sum;)V" } : Jvm.MethodName) prog_4_method_1_code (4 : Nat) (Option.none : Option Jvm.ClassFile.FieldType)) ∈ lw_all := lw_g (lw_at lw_m3 139 rfl) rfl
theorem q765 : (Jvm.Cond.methodLinkNest "LetterNights$If" (1 : Nat) ({ cls := "LetterNights$Sum", name := "<init>", desc := "()V" } : Jvm.MethodName) "LetterNights") ∈ lw_tbl := lw_at lw_m3 140 rfl
theorem q769 : (Jvm.Cond.fieldLink "LetterNights$If" (7 : Nat) "LetterNights$If" "asked" "LLetterNights$Truth;") ∈ lw_all := lw_g (lw_at lw_m3 144 rfl) rfl
theorem q770 : (Jvm.Cond.fieldLink "LetterNights$If" (13 : Nat) "LetterNights$If" "so" "LLetterNights$Sum;") ∈ lw_all := lw_g (lw_at lw_m3 145 rfl) rfl
theorem q771 : (Jvm.Cond.fieldLink "LetterNights$If" (17 : Nat) "LetterNights$If" "otherwise" "LLetterNights$Sum;") ∈ lw_all := lw_g (lw_at lw_m3 146 rfl) rfl
theorem q772 : (Jvm.Cond.laysFinal "LetterNights$If" "LetterNights$If" "asked" "LLetterNights$Truth;") ∈ lw_all := lw_g (lw_at lw_m3 147 rfl) rfl
theorem q773 : (Jvm.Cond.soleField "LetterNights$If" "asked") ∈ lw_all := lw_g (lw_at lw_m3 148 rfl) rfl
theorem q774 : (Jvm.Cond.laysFinal "LetterNights$If" "LetterNights$If" "so" "LLetterNights$Sum;") ∈ lw_all := lw_g (lw_at lw_m3 149 rfl) rfl
theorem q775 : (Jvm.Cond.soleField "LetterNights$If" "so") ∈ lw_all := lw_g (lw_at lw_m3 150 rfl) rfl
theorem q776 : (Jvm.Cond.laysFinal "LetterNights$If" "LetterNights$If" "otherwise" "LLetterNights$Sum;") ∈ lw_all := lw_g (lw_at lw_m3 151 rfl) rfl
theorem q777 : (Jvm.Cond.soleField "LetterNights$If" "otherwise") ∈ lw_all := lw_g (lw_at lw_m3 152 rfl) rfl
theorem q778 : (Jvm.Cond.superclass "LetterNights$If" "LetterNights$Sum") ∈ lw_all := lw_g (lw_at lw_m3 153 rfl) rfl
theorem q911 : (Jvm.Cond.selects "LetterNights$If" ({ cls := "LetterNights$Sum", name := "value", desc := "([I)I" } : Jvm.MethodName) ({ cls := "LetterNights$If", name := "value", desc := "([I)I" } : Jvm.MethodName)) ∈ lw_all := lw_g (lw_at lw_m4 46 rfl) rfl
theorem q912 : (Jvm.Cond.instanceMethod ({ cls := "LetterNights$If", name := "value", desc := "([I)I" } : Jvm.MethodName)) ∈ lw_all := lw_g (lw_at lw_m4 47 rfl) rfl
theorem q913 : (Jvm.Cond.code ({ cls := "LetterNights$If", name := "value", desc := "([I)I" } : Jvm.MethodName) prog_4_method_2_code (2 : Nat) (Option.some Jvm.ClassFile.FieldType.int)) ∈ lw_all := lw_g (lw_at lw_m4 48 rfl) rfl
theorem q914 : (Jvm.Cond.methodLink "LetterNights$If" (20 : Nat) ({ cls := "LetterNights$Truth", name := "holds", desc := "([I)Z" } : Jvm.MethodName)) ∈ lw_all := lw_g (lw_at lw_m4 49 rfl) rfl
theorem q918 : (Jvm.Cond.methodLink "LetterNights$If" (26 : Nat) ({ cls := "LetterNights$Sum", name := "value", desc := "([I)I" } : Jvm.MethodName)) ∈ lw_all := lw_g (lw_at lw_m4 53 rfl) rfl
theorem in_X12 : ∀ w ∈ wsX120, w ∈ lw_all := lw_in wsX120 [772, 774, 776] (by decide +kernel) (by decide +kernel)
def RX13 : String := "LetterNights$Known"
def TX13 : u_T := fun k => match k with
  | _ => ("LetterNights$Known", "word", "I", true)
def tyX13 : Nat → FieldType := fun k => match k with
  | _ => .int
abbrev wsX130 : List Cond := u_ws RX13 TX13 1
theorem nmX13 : ∀ a, a < 1 → ∀ b, b < 1 → a ≠ b → (TX13 a).2.1 ≠ (TX13 b).2.1 := by decide +kernel
theorem tyX13_ok : ∀ k, k < 1 → parseFieldDescriptor (TX13 k).2.2.1 = some (tyX13 k) := by decide +kernel
abbrev cX13_init : ByteArray := prog_5_method_1_code
def yX13_init : MethodName := ⟨RX13, "<init>", "(I)V"⟩
abbrev cX13_value : ByteArray := prog_5_method_2_code
def yX13_value : MethodName := ⟨RX13, "value", "([I)I"⟩
theorem q165 : (Jvm.Cond.initialized "LetterNights$Known") ∈ lw_all := lw_g (lw_at lw_m1 20 rfl) rfl
theorem q788 : (Jvm.Cond.instantiable "LetterNights$Known" (1 : Nat)) ∈ lw_all := lw_g (lw_at lw_m3 163 rfl) rfl
theorem q790 : (Jvm.Cond.instanceMethod ({ cls := "LetterNights$Known", name := "<init>", desc := "(I)V" } : Jvm.MethodName)) ∈ lw_all := lw_g (lw_at lw_m3 165 rfl) rfl
theorem q791 : (Jvm.Cond.code ({ cls := "LetterNights$Known", name := "<init>", desc := "(I)V" } : Jvm.MethodName) prog_5_method_1_code (2 : Nat) (Option.none : Option Jvm.ClassFile.FieldType)) ∈ lw_all := lw_g (lw_at lw_m3 166 rfl) rfl
theorem q792 : (Jvm.Cond.methodLinkNest "LetterNights$Known" (1 : Nat) ({ cls := "LetterNights$Sum", name := "<init>", desc := "()V" } : Jvm.MethodName) "LetterNights") ∈ lw_tbl := lw_at lw_m3 167 rfl
theorem q793 : (Jvm.Cond.fieldLink "LetterNights$Known" (7 : Nat) "LetterNights$Known" "word" "I") ∈ lw_all := lw_g (lw_at lw_m3 168 rfl) rfl
theorem q794 : (Jvm.Cond.laysFinal "LetterNights$Known" "LetterNights$Known" "word" "I") ∈ lw_all := lw_g (lw_at lw_m3 169 rfl) rfl
theorem q795 : (Jvm.Cond.soleField "LetterNights$Known" "word") ∈ lw_all := lw_g (lw_at lw_m3 170 rfl) rfl
theorem q796 : (Jvm.Cond.superclass "LetterNights$Known" "LetterNights$Sum") ∈ lw_all := lw_g (lw_at lw_m3 171 rfl) rfl
theorem q919 : (Jvm.Cond.instanceMethod ({ cls := "LetterNights$Known", name := "value", desc := "([I)I" } : Jvm.MethodName)) ∈ lw_all := lw_g (lw_at lw_m4 54 rfl) rfl
theorem q920 : (Jvm.Cond.code ({ cls := "LetterNights$Known", name := "value", desc := "([I)I" } : Jvm.MethodName) prog_5_method_2_code (2 : Nat) (Option.some Jvm.ClassFile.FieldType.int)) ∈ lw_all := lw_g (lw_at lw_m4 55 rfl) rfl
theorem q932 : (Jvm.Cond.selects "LetterNights$Known" ({ cls := "LetterNights$Sum", name := "value", desc := "([I)I" } : Jvm.MethodName) ({ cls := "LetterNights$Known", name := "value", desc := "([I)I" } : Jvm.MethodName)) ∈ lw_all := lw_g (lw_at lw_m4 67 rfl) rfl
theorem in_X13 : ∀ w ∈ wsX130, w ∈ lw_all := lw_in wsX130 [794] (by decide +kernel) (by decide +kernel)
def RX14 : String := "LetterNights$Plain"
def TX14 : u_T := fun k => match k with
  | _ => ("LetterNights$Plain", "n", "I", true)
def tyX14 : Nat → FieldType := fun k => match k with
  | _ => .int
abbrev wsX140 : List Cond := u_ws RX14 TX14 1
theorem nmX14 : ∀ a, a < 1 → ∀ b, b < 1 → a ≠ b → (TX14 a).2.1 ≠ (TX14 b).2.1 := by decide +kernel
theorem tyX14_ok : ∀ k, k < 1 → parseFieldDescriptor (TX14 k).2.2.1 = some (tyX14 k) := by decide +kernel
abbrev cX14_init : ByteArray := prog_10_method_1_code
def yX14_init : MethodName := ⟨RX14, "<init>", "(I)V"⟩
abbrev cX14_value : ByteArray := prog_10_method_2_code
def yX14_value : MethodName := ⟨RX14, "value", "([I)I"⟩
theorem q166 : (Jvm.Cond.initialized "LetterNights$Plain") ∈ lw_all := lw_g (lw_at lw_m1 21 rfl) rfl
theorem q798 : (Jvm.Cond.instantiable "LetterNights$Plain" (1 : Nat)) ∈ lw_all := lw_g (lw_at lw_m3 173 rfl) rfl
theorem q800 : (Jvm.Cond.instanceMethod ({ cls := "LetterNights$Plain", name := "<init>", desc := "(I)V" } : Jvm.MethodName)) ∈ lw_all := lw_g (lw_at lw_m3 175 rfl) rfl
theorem q801 : (Jvm.Cond.code ({ cls := "LetterNights$Plain", name := "<init>", desc := "(I)V" } : Jvm.MethodName) prog_10_method_1_code (2 : Nat) (Option.none : Option Jvm.ClassFile.FieldType)) ∈ lw_all := lw_g (lw_at lw_m3 176 rfl) rfl
theorem q802 : (Jvm.Cond.methodLinkNest "LetterNights$Plain" (1 : Nat) ({ cls := "LetterNights$Sum", name := "<init>", desc := "()V" } : Jvm.MethodName) "LetterNights") ∈ lw_tbl := lw_at lw_m3 177 rfl
theorem q803 : (Jvm.Cond.fieldLink "LetterNights$Plain" (7 : Nat) "LetterNights$Plain" "n" "I") ∈ lw_all := lw_g (lw_at lw_m3 178 rfl) rfl
theorem q804 : (Jvm.Cond.laysFinal "LetterNights$Plain" "LetterNights$Plain" "n" "I") ∈ lw_all := lw_g (lw_at lw_m3 179 rfl) rfl
theorem q805 : (Jvm.Cond.soleField "LetterNights$Plain" "n") ∈ lw_all := lw_g (lw_at lw_m3 180 rfl) rfl
theorem q806 : (Jvm.Cond.superclass "LetterNights$Plain" "LetterNights$Sum") ∈ lw_all := lw_g (lw_at lw_m3 181 rfl) rfl
theorem q924 : (Jvm.Cond.instanceMethod ({ cls := "LetterNights$Plain", name := "value", desc := "([I)I" } : Jvm.MethodName)) ∈ lw_all := lw_g (lw_at lw_m4 59 rfl) rfl
theorem q925 : (Jvm.Cond.code ({ cls := "LetterNights$Plain", name := "value", desc := "([I)I" } : Jvm.MethodName) prog_10_method_2_code (2 : Nat) (Option.some Jvm.ClassFile.FieldType.int)) ∈ lw_all := lw_g (lw_at lw_m4 60 rfl) rfl
theorem q934 : (Jvm.Cond.selects "LetterNights$Plain" ({ cls := "LetterNights$Sum", name := "value", desc := "([I)I" } : Jvm.MethodName) ({ cls := "LetterNights$Plain", name := "value", desc := "([I)I" } : Jvm.MethodName)) ∈ lw_all := lw_g (lw_at lw_m4 69 rfl) rfl
theorem in_X14 : ∀ w ∈ wsX140, w ∈ lw_all := lw_in wsX140 [804] (by decide +kernel) (by decide +kernel)
def RX15 : String := "LetterNights$Pair"
def TX15 : u_T := fun k => match k with
  | 0 => ("LetterNights$Pair", "one", "LLetterNights$Sum;", true)
  | 1 => ("LetterNights$Pair", "two", "LLetterNights$Sum;", true)
  | _ => ("LetterNights$Pair", "sign", "I", true)
def tyX15 : Nat → FieldType := fun k => match k with
  | 0 => .object "LetterNights$Sum"
  | 1 => .object "LetterNights$Sum"
  | _ => .int
abbrev wsX150 : List Cond := u_ws RX15 TX15 3
theorem nmX15 : ∀ a, a < 3 → ∀ b, b < 3 → a ≠ b → (TX15 a).2.1 ≠ (TX15 b).2.1 := by decide +kernel
theorem tyX15_ok : ∀ k, k < 3 → parseFieldDescriptor (TX15 k).2.2.1 = some (tyX15 k) := by decide +kernel
abbrev cX15_init : ByteArray := prog_8_method_1_code
def yX15_init : MethodName := ⟨RX15, "<init>", "(LLetterNights$Sum;ILLetterNights$Sum;)V"⟩
abbrev cX15_value : ByteArray := prog_8_method_2_code
def yX15_value : MethodName := ⟨RX15, "value", "([I)I"⟩
theorem q167 : (Jvm.Cond.initialized "LetterNights$Pair") ∈ lw_all := lw_g (lw_at lw_m1 22 rfl) rfl
theorem q808 : (Jvm.Cond.instantiable "LetterNights$Pair" (3 : Nat)) ∈ lw_all := lw_g (lw_at lw_m3 183 rfl) rfl
theorem q810 : (Jvm.Cond.instanceMethod ({ cls := "LetterNights$Pair", name := "<init>", desc := "(LLetterNights$Sum;ILLetterNights$Sum;)V" } : Jvm.MethodName)) ∈ lw_all := lw_g (lw_at lw_m3 185 rfl) rfl
theorem q811 : (Jvm.Cond.code ({ cls := "LetterNights$Pair", name := "<init>", desc := "(LLetterNights$Sum;ILLetterNights$Sum;)V" } : Jvm.MethodName) prog_8_method_1_code (4 : Nat) (Option.none : Option Jvm.ClassFile.FieldType)) ∈ lw_all := lw_g (lw_at lw_m3 186 rfl) rfl
theorem q812 : (Jvm.Cond.methodLinkNest "LetterNights$Pair" (3 : Nat) ({ cls := "LetterNights$Sum", name := "<init>", desc := "()V" } : Jvm.MethodName) "LetterNights") ∈ lw_tbl := lw_at lw_m3 187 rfl
theorem q813 : (Jvm.Cond.fieldLink "LetterNights$Pair" (9 : Nat) "LetterNights$Pair" "one" "LLetterNights$Sum;") ∈ lw_all := lw_g (lw_at lw_m3 188 rfl) rfl
theorem q814 : (Jvm.Cond.fieldLink "LetterNights$Pair" (19 : Nat) "LetterNights$Pair" "two" "LLetterNights$Sum;") ∈ lw_all := lw_g (lw_at lw_m3 189 rfl) rfl
theorem q815 : (Jvm.Cond.fieldLink "LetterNights$Pair" (15 : Nat) "LetterNights$Pair" "sign" "I") ∈ lw_all := lw_g (lw_at lw_m3 190 rfl) rfl
theorem q816 : (Jvm.Cond.laysFinal "LetterNights$Pair" "LetterNights$Pair" "one" "LLetterNights$Sum;") ∈ lw_all := lw_g (lw_at lw_m3 191 rfl) rfl
theorem q817 : (Jvm.Cond.soleField "LetterNights$Pair" "one") ∈ lw_all := lw_g (lw_at lw_m3 192 rfl) rfl
theorem q818 : (Jvm.Cond.laysFinal "LetterNights$Pair" "LetterNights$Pair" "two" "LLetterNights$Sum;") ∈ lw_all := lw_g (lw_at lw_m3 193 rfl) rfl
theorem q819 : (Jvm.Cond.soleField "LetterNights$Pair" "two") ∈ lw_all := lw_g (lw_at lw_m3 194 rfl) rfl
theorem q820 : (Jvm.Cond.laysFinal "LetterNights$Pair" "LetterNights$Pair" "sign" "I") ∈ lw_all := lw_g (lw_at lw_m3 195 rfl) rfl
theorem q821 : (Jvm.Cond.soleField "LetterNights$Pair" "sign") ∈ lw_all := lw_g (lw_at lw_m3 196 rfl) rfl
theorem q822 : (Jvm.Cond.superclass "LetterNights$Pair" "LetterNights$Sum") ∈ lw_all := lw_g (lw_at lw_m3 197 rfl) rfl
theorem q921 : (Jvm.Cond.instanceMethod ({ cls := "LetterNights$Pair", name := "value", desc := "([I)I" } : Jvm.MethodName)) ∈ lw_all := lw_g (lw_at lw_m4 56 rfl) rfl
theorem q922 : (Jvm.Cond.code ({ cls := "LetterNights$Pair", name := "value", desc := "([I)I" } : Jvm.MethodName) prog_8_method_2_code (8 : Nat) (Option.some Jvm.ClassFile.FieldType.int)) ∈ lw_all := lw_g (lw_at lw_m4 57 rfl) rfl
theorem q923 : (Jvm.Cond.methodLink "LetterNights$Pair" (22 : Nat) ({ cls := "LetterNights$Sum", name := "value", desc := "([I)I" } : Jvm.MethodName)) ∈ lw_all := lw_g (lw_at lw_m4 58 rfl) rfl
theorem q926 : (Jvm.Cond.constantLong "LetterNights$Pair" (26 : Nat) (-1000000 : Int64)) ∈ lw_all := lw_g (lw_at lw_m4 61 rfl) rfl
theorem q927 : (Jvm.Cond.constantLong "LetterNights$Pair" (28 : Nat) (1000000 : Int64)) ∈ lw_all := lw_g (lw_at lw_m4 62 rfl) rfl
theorem q928 : (Jvm.Cond.methodLink "LetterNights$Pair" (30 : Nat) ({ cls := "java/lang/Math", name := "min", desc := "(JJ)J" } : Jvm.MethodName)) ∈ lw_all := lw_g (lw_at lw_m4 63 rfl) rfl
theorem q929 : (Jvm.Cond.methodLink "LetterNights$Pair" (36 : Nat) ({ cls := "java/lang/Math", name := "max", desc := "(JJ)J" } : Jvm.MethodName)) ∈ lw_all := lw_g (lw_at lw_m4 64 rfl) rfl
theorem q933 : (Jvm.Cond.selects "LetterNights$Pair" ({ cls := "LetterNights$Sum", name := "value", desc := "([I)I" } : Jvm.MethodName) ({ cls := "LetterNights$Pair", name := "value", desc := "([I)I" } : Jvm.MethodName)) ∈ lw_all := lw_g (lw_at lw_m4 68 rfl) rfl
theorem in_X15 : ∀ w ∈ wsX150, w ∈ lw_all := lw_in wsX150 [816, 818, 820] (by decide +kernel) (by decide +kernel)
def RJ0 : String := "java/lang/String"
def TJ0 : u_T := fun k => match k with
  | 0 => ("java/lang/String", "value", "[B", true)
  | _ => ("java/lang/String", "coder", "B", true)
def tyJ0 : Nat → FieldType := fun k => match k with
  | 0 => .array .byte
  | _ => .byte
abbrev wsJ00 : List Cond := u_ws RJ0 TJ0 2
theorem nmJ0 : ∀ a, a < 2 → ∀ b, b < 2 → a ≠ b → (TJ0 a).2.1 ≠ (TJ0 b).2.1 := by decide +kernel
theorem tyJ0_ok : ∀ k, k < 2 → parseFieldDescriptor (TJ0 k).2.2.1 = some (tyJ0 k) := by decide +kernel
abbrev cJ0_indexOf : ByteArray := prog_27_method_79_code
def yJ0_indexOf : MethodName := ⟨RJ0, "indexOf", "(I)I"⟩
abbrev cJ0_indexOf_2 : ByteArray := prog_27_method_80_code
def yJ0_indexOf_2 : MethodName := ⟨RJ0, "indexOf", "(II)I"⟩
abbrev cJ0_isLatin1 : ByteArray := prog_27_method_154_code
def yJ0_isLatin1 : MethodName := ⟨RJ0, "isLatin1", "()Z"⟩
abbrev cJ0_length : ByteArray := prog_27_method_54_code
def yJ0_length : MethodName := ⟨RJ0, "length", "()I"⟩
abbrev cJ0_coder : ByteArray := prog_27_method_152_code
def yJ0_coder : MethodName := ⟨RJ0, "coder", "()B"⟩
abbrev cJ0_checkBoundsBeginEnd : ByteArray := prog_27_method_158_code
def yJ0_checkBoundsBeginEnd : MethodName := ⟨RJ0, "checkBoundsBeginEnd", "(III)V"⟩
abbrev cJ0_charAt : ByteArray := prog_27_method_56_code
def yJ0_charAt : MethodName := ⟨RJ0, "charAt", "(I)C"⟩
abbrev cJ0_checkIndex : ByteArray := prog_27_method_155_code
def yJ0_checkIndex : MethodName := ⟨RJ0, "checkIndex", "(II)V"⟩
theorem q153 : (Jvm.Cond.initialized "java/lang/String") ∈ lw_all := lw_g (lw_at lw_m1 8 rfl) rfl
theorem q510 : (Jvm.Cond.instanceMethod ({ cls := "java/lang/String", name := "indexOf", desc := "(I)I" } : Jvm.MethodName)) ∈ lw_all := lw_g (lw_at lw_m2 125 rfl) rfl
theorem q511 : (Jvm.Cond.selects "java/lang/String" ({ cls := "java/lang/String", name := "indexOf", desc := "(I)I" } : Jvm.MethodName) ({ cls := "java/lang/String", name := "indexOf", desc := "(I)I" } : Jvm.MethodName)) ∈ lw_all := lw_g (lw_at lw_m2 126 rfl) rfl
theorem q512 : (Jvm.Cond.code ({ cls := "java/lang/String", name := "indexOf", desc := "(I)I" } : Jvm.MethodName) prog_27_method_79_code (2 : Nat) (Option.some Jvm.ClassFile.FieldType.int)) ∈ lw_all := lw_g (lw_at lw_m2 127 rfl) rfl
theorem q513 : (Jvm.Cond.methodLink "java/lang/String" (633 : Nat) ({ cls := "java/lang/String", name := "indexOf", desc := "(II)I" } : Jvm.MethodName)) ∈ lw_all := lw_g (lw_at lw_m2 128 rfl) rfl
theorem q514 : (Jvm.Cond.instanceMethod ({ cls := "java/lang/String", name := "indexOf", desc := "(II)I" } : Jvm.MethodName)) ∈ lw_all := lw_g (lw_at lw_m2 129 rfl) rfl
theorem q515 : (Jvm.Cond.selects "java/lang/String" ({ cls := "java/lang/String", name := "indexOf", desc := "(II)I" } : Jvm.MethodName) ({ cls := "java/lang/String", name := "indexOf", desc := "(II)I" } : Jvm.MethodName)) ∈ lw_all := lw_g (lw_at lw_m2 130 rfl) rfl
theorem q516 : (Jvm.Cond.code ({ cls := "java/lang/String", name := "indexOf", desc := "(II)I" } : Jvm.MethodName) prog_27_method_80_code (3 : Nat) (Option.some Jvm.ClassFile.FieldType.int)) ∈ lw_all := lw_g (lw_at lw_m2 131 rfl) rfl
theorem q517 : (Jvm.Cond.methodLink "java/lang/String" (492 : Nat) ({ cls := "java/lang/String", name := "isLatin1", desc := "()Z" } : Jvm.MethodName)) ∈ lw_all := lw_g (lw_at lw_m2 132 rfl) rfl
theorem q518 : (Jvm.Cond.instanceMethod ({ cls := "java/lang/String", name := "isLatin1", desc := "()Z" } : Jvm.MethodName)) ∈ lw_all := lw_g (lw_at lw_m2 133 rfl) rfl
theorem q519 : (Jvm.Cond.selects "java/lang/String" ({ cls := "java/lang/String", name := "isLatin1", desc := "()Z" } : Jvm.MethodName) ({ cls := "java/lang/String", name := "isLatin1", desc := "()Z" } : Jvm.MethodName)) ∈ lw_all := lw_g (lw_at lw_m2 134 rfl) rfl
theorem q520 : (Jvm.Cond.code ({ cls := "java/lang/String", name := "isLatin1", desc := "()Z" } : Jvm.MethodName) prog_27_method_154_code (1 : Nat) (Option.some Jvm.ClassFile.FieldType.boolean)) ∈ lw_all := lw_g (lw_at lw_m2 135 rfl) rfl
theorem q521 : (Jvm.Cond.fieldLink "java/lang/String" (38 : Nat) "java/lang/String" "COMPACT_STRINGS" "Z") ∈ lw_all := lw_g (lw_at lw_m2 136 rfl) rfl
theorem q522 : (Jvm.Cond.laysStatic "java/lang/String" "COMPACT_STRINGS" "Z") ∈ lw_tbl := lw_at lw_m2 137 rfl
theorem q523 : (Jvm.Cond.methodLink "java/lang/String" (505 : Nat) ({ cls := "java/lang/String", name := "length", desc := "()I" } : Jvm.MethodName)) ∈ lw_all := lw_g (lw_at lw_m2 138 rfl) rfl
theorem q524 : (Jvm.Cond.instanceMethod ({ cls := "java/lang/String", name := "length", desc := "()I" } : Jvm.MethodName)) ∈ lw_all := lw_g (lw_at lw_m2 139 rfl) rfl
theorem q525 : (Jvm.Cond.selects "java/lang/String" ({ cls := "java/lang/String", name := "length", desc := "()I" } : Jvm.MethodName) ({ cls := "java/lang/String", name := "length", desc := "()I" } : Jvm.MethodName)) ∈ lw_all := lw_g (lw_at lw_m2 140 rfl) rfl
theorem q526 : (Jvm.Cond.code ({ cls := "java/lang/String", name := "length", desc := "()I" } : Jvm.MethodName) prog_27_method_54_code (1 : Nat) (Option.some Jvm.ClassFile.FieldType.int)) ∈ lw_all := lw_g (lw_at lw_m2 141 rfl) rfl
theorem q527 : (Jvm.Cond.methodLink "java/lang/String" (335 : Nat) ({ cls := "java/lang/String", name := "coder", desc := "()B" } : Jvm.MethodName)) ∈ lw_all := lw_g (lw_at lw_m2 142 rfl) rfl
theorem q528 : (Jvm.Cond.instanceMethod ({ cls := "java/lang/String", name := "coder", desc := "()B" } : Jvm.MethodName)) ∈ lw_all := lw_g (lw_at lw_m2 143 rfl) rfl
theorem q529 : (Jvm.Cond.selects "java/lang/String" ({ cls := "java/lang/String", name := "coder", desc := "()B" } : Jvm.MethodName) ({ cls := "java/lang/String", name := "coder", desc := "()B" } : Jvm.MethodName)) ∈ lw_all := lw_g (lw_at lw_m2 144 rfl) rfl
theorem q530 : (Jvm.Cond.code ({ cls := "java/lang/String", name := "coder", desc := "()B" } : Jvm.MethodName) prog_27_method_152_code (1 : Nat) (Option.some Jvm.ClassFile.FieldType.byte)) ∈ lw_all := lw_g (lw_at lw_m2 145 rfl) rfl
theorem q531 : (Jvm.Cond.methodLink "java/lang/String" (637 : Nat) ({ cls := "java/lang/StringLatin1", name := "indexOf", desc := "([BIII)I" } : Jvm.MethodName)) ∈ lw_all := lw_g (lw_at lw_m2 146 rfl) rfl
theorem q546 : (Jvm.Cond.methodLink "java/lang/String" (640 : Nat) ({ cls := "java/lang/StringUTF16", name := "indexOf", desc := "([BIII)I" } : Jvm.MethodName)) ∈ lw_all := lw_g (lw_at lw_m2 161 rfl) rfl
theorem q562 : (Jvm.Cond.static ({ cls := "java/lang/String", name := "checkBoundsBeginEnd", desc := "(III)V" } : Jvm.MethodName)) ∈ lw_all := lw_g (lw_at lw_m2 177 rfl) rfl
theorem q563 : (Jvm.Cond.code ({ cls := "java/lang/String", name := "checkBoundsBeginEnd", desc := "(III)V" } : Jvm.MethodName) prog_27_method_158_code (3 : Nat) (Option.none : Option Jvm.ClassFile.FieldType)) ∈ lw_all := lw_g (lw_at lw_m2 178 rfl) rfl
theorem q564 : (Jvm.Cond.fieldLink "java/lang/String" (1053 : Nat) "jdk/internal/util/Preconditions" "SIOOBE_FORMATTER" "Ljava/util/function/BiFunction;") ∈ lw_all := lw_g (lw_at lw_m2 179 rfl) rfl
theorem q566 : (Jvm.Cond.methodLink "java/lang/String" (1062 : Nat) ({ cls := "jdk/internal/util/Preconditions", name := "checkFromToIndex", desc := "(IIILjava/util/function/BiFunction;)I" } : Jvm.MethodName)) ∈ lw_all := lw_g (lw_at lw_m2 181 rfl) rfl
theorem q610 : (Jvm.Cond.instanceMethod ({ cls := "java/lang/String", name := "charAt", desc := "(I)C" } : Jvm.MethodName)) ∈ lw_all := lw_g (lw_at lw_m2 225 rfl) rfl
theorem q611 : (Jvm.Cond.selects "java/lang/String" ({ cls := "java/lang/String", name := "charAt", desc := "(I)C" } : Jvm.MethodName) ({ cls := "java/lang/String", name := "charAt", desc := "(I)C" } : Jvm.MethodName)) ∈ lw_all := lw_g (lw_at lw_m2 226 rfl) rfl
theorem q612 : (Jvm.Cond.code ({ cls := "java/lang/String", name := "charAt", desc := "(I)C" } : Jvm.MethodName) prog_27_method_56_code (2 : Nat) (Option.some Jvm.ClassFile.FieldType.char)) ∈ lw_all := lw_g (lw_at lw_m2 227 rfl) rfl
theorem q613 : (Jvm.Cond.methodLink "java/lang/String" (495 : Nat) ({ cls := "java/lang/StringLatin1", name := "charAt", desc := "([BI)C" } : Jvm.MethodName)) ∈ lw_all := lw_g (lw_at lw_m2 228 rfl) rfl
theorem q617 : (Jvm.Cond.static ({ cls := "java/lang/String", name := "checkIndex", desc := "(II)V" } : Jvm.MethodName)) ∈ lw_all := lw_g (lw_at lw_m2 232 rfl) rfl
theorem q618 : (Jvm.Cond.code ({ cls := "java/lang/String", name := "checkIndex", desc := "(II)V" } : Jvm.MethodName) prog_27_method_155_code (2 : Nat) (Option.none : Option Jvm.ClassFile.FieldType)) ∈ lw_all := lw_g (lw_at lw_m2 233 rfl) rfl
theorem q619 : (Jvm.Cond.methodLink "java/lang/String" (1059 : Nat) ({ cls := "jdk/internal/util/Preconditions", name := "checkIndex", desc := "(IILjava/util/function/BiFunction;)I" } : Jvm.MethodName)) ∈ lw_all := lw_g (lw_at lw_m2 234 rfl) rfl
theorem q622 : (Jvm.Cond.methodLink "java/lang/String" (498 : Nat) ({ cls := "java/lang/StringUTF16", name := "charAt", desc := "([BI)C" } : Jvm.MethodName)) ∈ lw_all := lw_g (lw_at lw_m2 237 rfl) rfl
theorem q1391 : (Jvm.Cond.instantiable "java/lang/String" (4 : Nat)) ∈ lw_all := lw_g (lw_at lw_m6 46 rfl) rfl
theorem q1392 : (Jvm.Cond.laysFinal "java/lang/String" "java/lang/String" "value" "[B") ∈ lw_all := lw_g (lw_at lw_m6 47 rfl) rfl
theorem q1393 : (Jvm.Cond.soleField "java/lang/String" "value") ∈ lw_all := lw_g (lw_at lw_m6 48 rfl) rfl
theorem q1394 : (Jvm.Cond.laysFinal "java/lang/String" "java/lang/String" "coder" "B") ∈ lw_all := lw_g (lw_at lw_m6 49 rfl) rfl
theorem q1395 : (Jvm.Cond.soleField "java/lang/String" "coder") ∈ lw_all := lw_g (lw_at lw_m6 50 rfl) rfl
theorem q2155 : (Jvm.Cond.fieldLink "java/lang/String" (15 : Nat) "java/lang/String" "coder" "B") ∈ lw_all := lw_g (lw_at lw_m9 90 rfl) rfl
theorem q2156 : (Jvm.Cond.fieldLink "java/lang/String" (9 : Nat) "java/lang/String" "value" "[B") ∈ lw_all := lw_g (lw_at lw_m9 91 rfl) rfl
theorem in_J0 : ∀ w ∈ wsJ00, w ∈ lw_all := lw_in wsJ00 [1392, 1394] (by decide +kernel) (by decide +kernel)
def RJ1 : String := "java/lang/StringLatin1"
abbrev cJ1_indexOf : ByteArray := prog_28_method_22_code
def yJ1_indexOf : MethodName := ⟨RJ1, "indexOf", "([BIII)I"⟩
abbrev cJ1_canEncode : ByteArray := prog_28_method_4_code
def yJ1_canEncode : MethodName := ⟨RJ1, "canEncode", "(I)Z"⟩
abbrev cJ1_indexOfChar : ByteArray := prog_28_method_23_code
def yJ1_indexOfChar : MethodName := ⟨RJ1, "indexOfChar", "([BIII)I"⟩
abbrev cJ1_charAt : ByteArray := prog_28_method_2_code
def yJ1_charAt : MethodName := ⟨RJ1, "charAt", "([BI)C"⟩
theorem q154 : (Jvm.Cond.initialized "java/lang/StringLatin1") ∈ lw_all := lw_g (lw_at lw_m1 9 rfl) rfl
theorem q532 : (Jvm.Cond.static ({ cls := "java/lang/StringLatin1", name := "indexOf", desc := "([BIII)I" } : Jvm.MethodName)) ∈ lw_all := lw_g (lw_at lw_m2 147 rfl) rfl
theorem q533 : (Jvm.Cond.code ({ cls := "java/lang/StringLatin1", name := "indexOf", desc := "([BIII)I" } : Jvm.MethodName) prog_28_method_22_code (4 : Nat) (Option.some Jvm.ClassFile.FieldType.int)) ∈ lw_all := lw_g (lw_at lw_m2 148 rfl) rfl
theorem q534 : (Jvm.Cond.methodLink "java/lang/StringLatin1" (88 : Nat) ({ cls := "java/lang/StringLatin1", name := "canEncode", desc := "(I)Z" } : Jvm.MethodName)) ∈ lw_all := lw_g (lw_at lw_m2 149 rfl) rfl
theorem q535 : (Jvm.Cond.static ({ cls := "java/lang/StringLatin1", name := "canEncode", desc := "(I)Z" } : Jvm.MethodName)) ∈ lw_all := lw_g (lw_at lw_m2 150 rfl) rfl
theorem q536 : (Jvm.Cond.code ({ cls := "java/lang/StringLatin1", name := "canEncode", desc := "(I)Z" } : Jvm.MethodName) prog_28_method_4_code (1 : Nat) (Option.some Jvm.ClassFile.FieldType.boolean)) ∈ lw_all := lw_g (lw_at lw_m2 151 rfl) rfl
theorem q537 : (Jvm.Cond.methodLink "java/lang/StringLatin1" (92 : Nat) ({ cls := "java/lang/Math", name := "max", desc := "(II)I" } : Jvm.MethodName)) ∈ lw_all := lw_g (lw_at lw_m2 152 rfl) rfl
theorem q540 : (Jvm.Cond.methodLink "java/lang/StringLatin1" (38 : Nat) ({ cls := "java/lang/Math", name := "min", desc := "(II)I" } : Jvm.MethodName)) ∈ lw_all := lw_g (lw_at lw_m2 155 rfl) rfl
theorem q543 : (Jvm.Cond.methodLink "java/lang/StringLatin1" (95 : Nat) ({ cls := "java/lang/StringLatin1", name := "indexOfChar", desc := "([BIII)I" } : Jvm.MethodName)) ∈ lw_all := lw_g (lw_at lw_m2 158 rfl) rfl
theorem q544 : (Jvm.Cond.static ({ cls := "java/lang/StringLatin1", name := "indexOfChar", desc := "([BIII)I" } : Jvm.MethodName)) ∈ lw_all := lw_g (lw_at lw_m2 159 rfl) rfl
theorem q545 : (Jvm.Cond.code ({ cls := "java/lang/StringLatin1", name := "indexOfChar", desc := "([BIII)I" } : Jvm.MethodName) prog_28_method_23_code (6 : Nat) (Option.some Jvm.ClassFile.FieldType.int)) ∈ lw_all := lw_g (lw_at lw_m2 160 rfl) rfl
theorem q614 : (Jvm.Cond.static ({ cls := "java/lang/StringLatin1", name := "charAt", desc := "([BI)C" } : Jvm.MethodName)) ∈ lw_all := lw_g (lw_at lw_m2 229 rfl) rfl
theorem q615 : (Jvm.Cond.code ({ cls := "java/lang/StringLatin1", name := "charAt", desc := "([BI)C" } : Jvm.MethodName) prog_28_method_2_code (2 : Nat) (Option.some Jvm.ClassFile.FieldType.char)) ∈ lw_all := lw_g (lw_at lw_m2 230 rfl) rfl
theorem q616 : (Jvm.Cond.methodLink "java/lang/StringLatin1" (9 : Nat) ({ cls := "java/lang/String", name := "checkIndex", desc := "(II)V" } : Jvm.MethodName)) ∈ lw_all := lw_g (lw_at lw_m2 231 rfl) rfl
def RJ2 : String := "java/lang/Math"
abbrev cJ2_max : ByteArray := prog_23_method_65_code
def yJ2_max : MethodName := ⟨RJ2, "max", "(II)I"⟩
abbrev cJ2_min : ByteArray := prog_23_method_69_code
def yJ2_min : MethodName := ⟨RJ2, "min", "(II)I"⟩
abbrev cJ2_min_2 : ByteArray := prog_23_method_70_code
def yJ2_min_2 : MethodName := ⟨RJ2, "min", "(JJ)J"⟩
abbrev cJ2_max_2 : ByteArray := prog_23_method_66_code
def yJ2_max_2 : MethodName := ⟨RJ2, "max", "(JJ)J"⟩
abbrev cJ2_floorMod : ByteArray := prog_23_method_50_code
def yJ2_floorMod : MethodName := ⟨RJ2, "floorMod", "(II)I"⟩
theorem q155 : (Jvm.Cond.initialized "java/lang/Math") ∈ lw_all := lw_g (lw_at lw_m1 10 rfl) rfl
theorem q538 : (Jvm.Cond.static ({ cls := "java/lang/Math", name := "max", desc := "(II)I" } : Jvm.MethodName)) ∈ lw_all := lw_g (lw_at lw_m2 153 rfl) rfl
theorem q539 : (Jvm.Cond.code ({ cls := "java/lang/Math", name := "max", desc := "(II)I" } : Jvm.MethodName) prog_23_method_65_code (2 : Nat) (Option.some Jvm.ClassFile.FieldType.int)) ∈ lw_all := lw_g (lw_at lw_m2 154 rfl) rfl
theorem q541 : (Jvm.Cond.static ({ cls := "java/lang/Math", name := "min", desc := "(II)I" } : Jvm.MethodName)) ∈ lw_all := lw_g (lw_at lw_m2 156 rfl) rfl
theorem q542 : (Jvm.Cond.code ({ cls := "java/lang/Math", name := "min", desc := "(II)I" } : Jvm.MethodName) prog_23_method_69_code (2 : Nat) (Option.some Jvm.ClassFile.FieldType.int)) ∈ lw_all := lw_g (lw_at lw_m2 157 rfl) rfl
theorem q876 : (Jvm.Cond.static ({ cls := "java/lang/Math", name := "min", desc := "(JJ)J" } : Jvm.MethodName)) ∈ lw_all := lw_g (lw_at lw_m4 11 rfl) rfl
theorem q877 : (Jvm.Cond.code ({ cls := "java/lang/Math", name := "min", desc := "(JJ)J" } : Jvm.MethodName) prog_23_method_70_code (4 : Nat) (Option.some Jvm.ClassFile.FieldType.long)) ∈ lw_all := lw_g (lw_at lw_m4 12 rfl) rfl
theorem q930 : (Jvm.Cond.static ({ cls := "java/lang/Math", name := "max", desc := "(JJ)J" } : Jvm.MethodName)) ∈ lw_all := lw_g (lw_at lw_m4 65 rfl) rfl
theorem q931 : (Jvm.Cond.code ({ cls := "java/lang/Math", name := "max", desc := "(JJ)J" } : Jvm.MethodName) prog_23_method_66_code (4 : Nat) (Option.some Jvm.ClassFile.FieldType.long)) ∈ lw_all := lw_g (lw_at lw_m4 66 rfl) rfl
theorem q939 : (Jvm.Cond.static ({ cls := "java/lang/Math", name := "floorMod", desc := "(II)I" } : Jvm.MethodName)) ∈ lw_all := lw_g (lw_at lw_m4 74 rfl) rfl
theorem q940 : (Jvm.Cond.code ({ cls := "java/lang/Math", name := "floorMod", desc := "(II)I" } : Jvm.MethodName) prog_23_method_50_code (3 : Nat) (Option.some Jvm.ClassFile.FieldType.int)) ∈ lw_all := lw_g (lw_at lw_m4 75 rfl) rfl
def RJ3 : String := "java/lang/StringUTF16"
abbrev cJ3_indexOf : ByteArray := prog_29_method_40_code
def yJ3_indexOf : MethodName := ⟨RJ3, "indexOf", "([BIII)I"⟩
abbrev cJ3_indexOfChar : ByteArray := prog_29_method_47_code
def yJ3_indexOfChar : MethodName := ⟨RJ3, "indexOfChar", "([BIII)I"⟩
abbrev cJ3_checkBoundsBeginEnd : ByteArray := prog_29_method_93_code
def yJ3_checkBoundsBeginEnd : MethodName := ⟨RJ3, "checkBoundsBeginEnd", "(II[B)V"⟩
abbrev cJ3_length : ByteArray := prog_29_method_6_code
def yJ3_length : MethodName := ⟨RJ3, "length", "([B)I"⟩
abbrev cJ3_indexOfCharUnsafe : ByteArray := prog_29_method_48_code
def yJ3_indexOfCharUnsafe : MethodName := ⟨RJ3, "indexOfCharUnsafe", "([BIII)I"⟩
abbrev cJ3_getChar : ByteArray := prog_29_method_5_code
def yJ3_getChar : MethodName := ⟨RJ3, "getChar", "([BI)C"⟩
abbrev cJ3_indexOfSupplementary : ByteArray := prog_29_method_49_code
def yJ3_indexOfSupplementary : MethodName := ⟨RJ3, "indexOfSupplementary", "([BIII)I"⟩
abbrev cJ3_charAt : ByteArray := prog_29_method_83_code
def yJ3_charAt : MethodName := ⟨RJ3, "charAt", "([BI)C"⟩
abbrev cJ3_checkIndex : ByteArray := prog_29_method_91_code
def yJ3_checkIndex : MethodName := ⟨RJ3, "checkIndex", "(I[B)V"⟩
theorem q156 : (Jvm.Cond.initialized "java/lang/StringUTF16") ∈ lw_all := lw_g (lw_at lw_m1 11 rfl) rfl
theorem q547 : (Jvm.Cond.static ({ cls := "java/lang/StringUTF16", name := "indexOf", desc := "([BIII)I" } : Jvm.MethodName)) ∈ lw_all := lw_g (lw_at lw_m2 162 rfl) rfl
theorem q548 : (Jvm.Cond.code ({ cls := "java/lang/StringUTF16", name := "indexOf", desc := "([BIII)I" } : Jvm.MethodName) prog_29_method_40_code (4 : Nat) (Option.some Jvm.ClassFile.FieldType.int)) ∈ lw_all := lw_g (lw_at lw_m2 163 rfl) rfl
theorem q549 : (Jvm.Cond.methodLink "java/lang/StringUTF16" (224 : Nat) ({ cls := "java/lang/Math", name := "max", desc := "(II)I" } : Jvm.MethodName)) ∈ lw_all := lw_g (lw_at lw_m2 164 rfl) rfl
theorem q550 : (Jvm.Cond.methodLink "java/lang/StringUTF16" (183 : Nat) ({ cls := "java/lang/Math", name := "min", desc := "(II)I" } : Jvm.MethodName)) ∈ lw_all := lw_g (lw_at lw_m2 165 rfl) rfl
theorem q551 : (Jvm.Cond.constant "java/lang/StringUTF16" (227 : Nat) (65536 : Int32)) ∈ lw_all := lw_g (lw_at lw_m2 166 rfl) rfl
theorem q552 : (Jvm.Cond.methodLink "java/lang/StringUTF16" (228 : Nat) ({ cls := "java/lang/StringUTF16", name := "indexOfChar", desc := "([BIII)I" } : Jvm.MethodName)) ∈ lw_all := lw_g (lw_at lw_m2 167 rfl) rfl
theorem q553 : (Jvm.Cond.static ({ cls := "java/lang/StringUTF16", name := "indexOfChar", desc := "([BIII)I" } : Jvm.MethodName)) ∈ lw_all := lw_g (lw_at lw_m2 168 rfl) rfl
theorem q554 : (Jvm.Cond.code ({ cls := "java/lang/StringUTF16", name := "indexOfChar", desc := "([BIII)I" } : Jvm.MethodName) prog_29_method_47_code (4 : Nat) (Option.some Jvm.ClassFile.FieldType.int)) ∈ lw_all := lw_g (lw_at lw_m2 169 rfl) rfl
theorem q555 : (Jvm.Cond.methodLink "java/lang/StringUTF16" (96 : Nat) ({ cls := "java/lang/StringUTF16", name := "checkBoundsBeginEnd", desc := "(II[B)V" } : Jvm.MethodName)) ∈ lw_all := lw_g (lw_at lw_m2 170 rfl) rfl
theorem q556 : (Jvm.Cond.static ({ cls := "java/lang/StringUTF16", name := "checkBoundsBeginEnd", desc := "(II[B)V" } : Jvm.MethodName)) ∈ lw_all := lw_g (lw_at lw_m2 171 rfl) rfl
theorem q557 : (Jvm.Cond.code ({ cls := "java/lang/StringUTF16", name := "checkBoundsBeginEnd", desc := "(II[B)V" } : Jvm.MethodName) prog_29_method_93_code (3 : Nat) (Option.none : Option Jvm.ClassFile.FieldType)) ∈ lw_all := lw_g (lw_at lw_m2 172 rfl) rfl
theorem q558 : (Jvm.Cond.methodLink "java/lang/StringUTF16" (48 : Nat) ({ cls := "java/lang/StringUTF16", name := "length", desc := "([B)I" } : Jvm.MethodName)) ∈ lw_all := lw_g (lw_at lw_m2 173 rfl) rfl
theorem q559 : (Jvm.Cond.static ({ cls := "java/lang/StringUTF16", name := "length", desc := "([B)I" } : Jvm.MethodName)) ∈ lw_all := lw_g (lw_at lw_m2 174 rfl) rfl
theorem q560 : (Jvm.Cond.code ({ cls := "java/lang/StringUTF16", name := "length", desc := "([B)I" } : Jvm.MethodName) prog_29_method_6_code (1 : Nat) (Option.some Jvm.ClassFile.FieldType.int)) ∈ lw_all := lw_g (lw_at lw_m2 175 rfl) rfl
theorem q561 : (Jvm.Cond.methodLink "java/lang/StringUTF16" (241 : Nat) ({ cls := "java/lang/String", name := "checkBoundsBeginEnd", desc := "(III)V" } : Jvm.MethodName)) ∈ lw_all := lw_g (lw_at lw_m2 176 rfl) rfl
theorem q569 : (Jvm.Cond.methodLink "java/lang/StringUTF16" (244 : Nat) ({ cls := "java/lang/StringUTF16", name := "indexOfCharUnsafe", desc := "([BIII)I" } : Jvm.MethodName)) ∈ lw_all := lw_g (lw_at lw_m2 184 rfl) rfl
theorem q570 : (Jvm.Cond.static ({ cls := "java/lang/StringUTF16", name := "indexOfCharUnsafe", desc := "([BIII)I" } : Jvm.MethodName)) ∈ lw_all := lw_g (lw_at lw_m2 185 rfl) rfl
theorem q571 : (Jvm.Cond.code ({ cls := "java/lang/StringUTF16", name := "indexOfCharUnsafe", desc := "([BIII)I" } : Jvm.MethodName) prog_29_method_48_code (5 : Nat) (Option.some Jvm.ClassFile.FieldType.int)) ∈ lw_all := lw_g (lw_at lw_m2 186 rfl) rfl
theorem q572 : (Jvm.Cond.methodLink "java/lang/StringUTF16" (71 : Nat) ({ cls := "java/lang/StringUTF16", name := "getChar", desc := "([BI)C" } : Jvm.MethodName)) ∈ lw_all := lw_g (lw_at lw_m2 187 rfl) rfl
theorem q573 : (Jvm.Cond.static ({ cls := "java/lang/StringUTF16", name := "getChar", desc := "([BI)C" } : Jvm.MethodName)) ∈ lw_all := lw_g (lw_at lw_m2 188 rfl) rfl
theorem q574 : (Jvm.Cond.code ({ cls := "java/lang/StringUTF16", name := "getChar", desc := "([BI)C" } : Jvm.MethodName) prog_29_method_5_code (2 : Nat) (Option.some Jvm.ClassFile.FieldType.char)) ∈ lw_all := lw_g (lw_at lw_m2 189 rfl) rfl
theorem q575 : (Jvm.Cond.fieldLink "java/lang/StringUTF16" (44 : Nat) "java/lang/StringUTF16" "$assertionsDisabled" "Z") ∈ lw_all := lw_g (lw_at lw_m2 190 rfl) rfl
theorem q576 : (Jvm.Cond.laysStatic "java/lang/StringUTF16" "$assertionsDisabled" "Z") ∈ lw_tbl := lw_at lw_m2 191 rfl
theorem q577 : (Jvm.Cond.fieldLink "java/lang/StringUTF16" (59 : Nat) "java/lang/StringUTF16" "HI_BYTE_SHIFT" "I") ∈ lw_all := lw_g (lw_at lw_m2 192 rfl) rfl
theorem q578 : (Jvm.Cond.laysStatic "java/lang/StringUTF16" "HI_BYTE_SHIFT" "I") ∈ lw_tbl := lw_at lw_m2 193 rfl
theorem q579 : (Jvm.Cond.fieldLink "java/lang/StringUTF16" (63 : Nat) "java/lang/StringUTF16" "LO_BYTE_SHIFT" "I") ∈ lw_all := lw_g (lw_at lw_m2 194 rfl) rfl
theorem q580 : (Jvm.Cond.laysStatic "java/lang/StringUTF16" "LO_BYTE_SHIFT" "I") ∈ lw_tbl := lw_at lw_m2 195 rfl
theorem q581 : (Jvm.Cond.methodLink "java/lang/StringUTF16" (232 : Nat) ({ cls := "java/lang/StringUTF16", name := "indexOfSupplementary", desc := "([BIII)I" } : Jvm.MethodName)) ∈ lw_all := lw_g (lw_at lw_m2 196 rfl) rfl
theorem q582 : (Jvm.Cond.static ({ cls := "java/lang/StringUTF16", name := "indexOfSupplementary", desc := "([BIII)I" } : Jvm.MethodName)) ∈ lw_all := lw_g (lw_at lw_m2 197 rfl) rfl
theorem q583 : (Jvm.Cond.code ({ cls := "java/lang/StringUTF16", name := "indexOfSupplementary", desc := "([BIII)I" } : Jvm.MethodName) prog_29_method_49_code (7 : Nat) (Option.some Jvm.ClassFile.FieldType.int)) ∈ lw_all := lw_g (lw_at lw_m2 198 rfl) rfl
theorem q584 : (Jvm.Cond.methodLink "java/lang/StringUTF16" (164 : Nat) ({ cls := "java/lang/Character", name := "isValidCodePoint", desc := "(I)Z" } : Jvm.MethodName)) ∈ lw_all := lw_g (lw_at lw_m2 199 rfl) rfl
theorem q587 : (Jvm.Cond.methodLink "java/lang/StringUTF16" (157 : Nat) ({ cls := "java/lang/Character", name := "highSurrogate", desc := "(I)C" } : Jvm.MethodName)) ∈ lw_all := lw_g (lw_at lw_m2 202 rfl) rfl
theorem q591 : (Jvm.Cond.methodLink "java/lang/StringUTF16" (161 : Nat) ({ cls := "java/lang/Character", name := "lowSurrogate", desc := "(I)C" } : Jvm.MethodName)) ∈ lw_all := lw_g (lw_at lw_m2 206 rfl) rfl
theorem q623 : (Jvm.Cond.static ({ cls := "java/lang/StringUTF16", name := "charAt", desc := "([BI)C" } : Jvm.MethodName)) ∈ lw_all := lw_g (lw_at lw_m2 238 rfl) rfl
theorem q624 : (Jvm.Cond.code ({ cls := "java/lang/StringUTF16", name := "charAt", desc := "([BI)C" } : Jvm.MethodName) prog_29_method_83_code (2 : Nat) (Option.some Jvm.ClassFile.FieldType.char)) ∈ lw_all := lw_g (lw_at lw_m2 239 rfl) rfl
theorem q625 : (Jvm.Cond.methodLink "java/lang/StringUTF16" (67 : Nat) ({ cls := "java/lang/StringUTF16", name := "checkIndex", desc := "(I[B)V" } : Jvm.MethodName)) ∈ lw_all := lw_g (lw_at lw_m3 0 rfl) rfl
theorem q626 : (Jvm.Cond.static ({ cls := "java/lang/StringUTF16", name := "checkIndex", desc := "(I[B)V" } : Jvm.MethodName)) ∈ lw_all := lw_g (lw_at lw_m3 1 rfl) rfl
theorem q627 : (Jvm.Cond.code ({ cls := "java/lang/StringUTF16", name := "checkIndex", desc := "(I[B)V" } : Jvm.MethodName) prog_29_method_91_code (2 : Nat) (Option.none : Option Jvm.ClassFile.FieldType)) ∈ lw_all := lw_g (lw_at lw_m3 2 rfl) rfl
theorem q628 : (Jvm.Cond.methodLink "java/lang/StringUTF16" (414 : Nat) ({ cls := "java/lang/String", name := "checkIndex", desc := "(II)V" } : Jvm.MethodName)) ∈ lw_all := lw_g (lw_at lw_m3 3 rfl) rfl
def RJ4 : String := "jdk/internal/util/Preconditions"
abbrev cJ4_checkFromToIndex : ByteArray := prog_32_method_12_code
def yJ4_checkFromToIndex : MethodName := ⟨RJ4, "checkFromToIndex", "(IIILjava/util/function/BiFunction;)I"⟩
abbrev cJ4_checkIndex : ByteArray := prog_32_method_11_code
def yJ4_checkIndex : MethodName := ⟨RJ4, "checkIndex", "(IILjava/util/function/BiFunction;)I"⟩
theorem q157 : (Jvm.Cond.initialized "jdk/internal/util/Preconditions") ∈ lw_all := lw_g (lw_at lw_m1 12 rfl) rfl
theorem q565 : (Jvm.Cond.laysStatic "jdk/internal/util/Preconditions" "SIOOBE_FORMATTER" "Ljava/util/function/BiFunction;") ∈ lw_tbl := lw_at lw_m2 180 rfl
theorem q567 : (Jvm.Cond.static ({ cls := "jdk/internal/util/Preconditions", name := "checkFromToIndex", desc := "(IIILjava/util/function/BiFunction;)I" } : Jvm.MethodName)) ∈ lw_all := lw_g (lw_at lw_m2 182 rfl) rfl
theorem q568 : (Jvm.Cond.code ({ cls := "jdk/internal/util/Preconditions", name := "checkFromToIndex", desc := "(IIILjava/util/function/BiFunction;)I" } : Jvm.MethodName) prog_32_method_12_code (4 : Nat) (Option.some Jvm.ClassFile.FieldType.int)) ∈ lw_all := lw_g (lw_at lw_m2 183 rfl) rfl
theorem q620 : (Jvm.Cond.static ({ cls := "jdk/internal/util/Preconditions", name := "checkIndex", desc := "(IILjava/util/function/BiFunction;)I" } : Jvm.MethodName)) ∈ lw_all := lw_g (lw_at lw_m2 235 rfl) rfl
theorem q621 : (Jvm.Cond.code ({ cls := "jdk/internal/util/Preconditions", name := "checkIndex", desc := "(IILjava/util/function/BiFunction;)I" } : Jvm.MethodName) prog_32_method_11_code (3 : Nat) (Option.some Jvm.ClassFile.FieldType.int)) ∈ lw_all := lw_g (lw_at lw_m2 236 rfl) rfl
def RJ5 : String := "java/lang/Character"
abbrev cJ5_isValidCodePoint : ByteArray := prog_19_method_11_code
def yJ5_isValidCodePoint : MethodName := ⟨RJ5, "isValidCodePoint", "(I)Z"⟩
abbrev cJ5_highSurrogate : ByteArray := prog_19_method_28_code
def yJ5_highSurrogate : MethodName := ⟨RJ5, "highSurrogate", "(I)C"⟩
abbrev cJ5_lowSurrogate : ByteArray := prog_19_method_29_code
def yJ5_lowSurrogate : MethodName := ⟨RJ5, "lowSurrogate", "(I)C"⟩
theorem q158 : (Jvm.Cond.initialized "java/lang/Character") ∈ lw_all := lw_g (lw_at lw_m1 13 rfl) rfl
theorem q585 : (Jvm.Cond.static ({ cls := "java/lang/Character", name := "isValidCodePoint", desc := "(I)Z" } : Jvm.MethodName)) ∈ lw_all := lw_g (lw_at lw_m2 200 rfl) rfl
theorem q586 : (Jvm.Cond.code ({ cls := "java/lang/Character", name := "isValidCodePoint", desc := "(I)Z" } : Jvm.MethodName) prog_19_method_11_code (2 : Nat) (Option.some Jvm.ClassFile.FieldType.boolean)) ∈ lw_all := lw_g (lw_at lw_m2 201 rfl) rfl
theorem q588 : (Jvm.Cond.static ({ cls := "java/lang/Character", name := "highSurrogate", desc := "(I)C" } : Jvm.MethodName)) ∈ lw_all := lw_g (lw_at lw_m2 203 rfl) rfl
theorem q589 : (Jvm.Cond.code ({ cls := "java/lang/Character", name := "highSurrogate", desc := "(I)C" } : Jvm.MethodName) prog_19_method_28_code (1 : Nat) (Option.some Jvm.ClassFile.FieldType.char)) ∈ lw_all := lw_g (lw_at lw_m2 204 rfl) rfl
theorem q590 : (Jvm.Cond.constant "java/lang/Character" (110 : Nat) (55232 : Int32)) ∈ lw_all := lw_g (lw_at lw_m2 205 rfl) rfl
theorem q592 : (Jvm.Cond.static ({ cls := "java/lang/Character", name := "lowSurrogate", desc := "(I)C" } : Jvm.MethodName)) ∈ lw_all := lw_g (lw_at lw_m2 207 rfl) rfl
theorem q593 : (Jvm.Cond.code ({ cls := "java/lang/Character", name := "lowSurrogate", desc := "(I)C" } : Jvm.MethodName) prog_19_method_29_code (1 : Nat) (Option.some Jvm.ClassFile.FieldType.char)) ∈ lw_all := lw_g (lw_at lw_m2 208 rfl) rfl
theorem q594 : (Jvm.Cond.constant "java/lang/Character" (76 : Nat) (56320 : Int32)) ∈ lw_all := lw_g (lw_at lw_m2 209 rfl) rfl
def RJ6 : String := "java/lang/Throwable"
def TJ6 : u_T := fun k => match k with
  | 0 => ("java/lang/Throwable", "cause", "Ljava/lang/Throwable;", false)
  | 1 => ("java/lang/Throwable", "stackTrace", "[Ljava/lang/StackTraceElement;", false)
  | 2 => ("java/lang/Throwable", "suppressedExceptions", "Ljava/util/List;", false)
  | 3 => ("java/lang/Throwable", "detailMessage", "Ljava/lang/String;", false)
  | _ => ("java/lang/Throwable", "backtrace", "Ljava/lang/Object;", false)
def tyJ6 : Nat → FieldType := fun k => match k with
  | 0 => .object "java/lang/Throwable"
  | 1 => .array (.object "java/lang/StackTraceElement")
  | 2 => .object "java/util/List"
  | 3 => .object "java/lang/String"
  | _ => .object "java/lang/Object"
abbrev wsJ60 : List Cond := u_ws RJ6 TJ6 5
theorem nmJ6 : ∀ a, a < 5 → ∀ b, b < 5 → a ≠ b → (TJ6 a).2.1 ≠ (TJ6 b).2.1 := by decide +kernel
theorem tyJ6_ok : ∀ k, k < 5 → parseFieldDescriptor (TJ6 k).2.2.1 = some (tyJ6 k) := by decide +kernel
abbrev cJ6_init : ByteArray := prog_31_method_2_code
def yJ6_init : MethodName := ⟨RJ6, "<init>", "(Ljava/lang/String;)V"⟩
abbrev cJ6_init_2 : ByteArray := prog_31_method_1_code
def yJ6_init_2 : MethodName := ⟨RJ6, "<init>", "()V"⟩
theorem q169 : (Jvm.Cond.initialized "java/lang/Throwable") ∈ lw_all := lw_g (lw_at lw_m1 24 rfl) rfl
theorem q1324 : (Jvm.Cond.instanceMethod ({ cls := "java/lang/Throwable", name := "<init>", desc := "(Ljava/lang/String;)V" } : Jvm.MethodName)) ∈ lw_all := lw_g (lw_at lw_m5 219 rfl) rfl
theorem q1325 : (Jvm.Cond.code ({ cls := "java/lang/Throwable", name := "<init>", desc := "(Ljava/lang/String;)V" } : Jvm.MethodName) prog_31_method_2_code (2 : Nat) (Option.none : Option Jvm.ClassFile.FieldType)) ∈ lw_all := lw_g (lw_at lw_m5 220 rfl) rfl
theorem q1326 : (Jvm.Cond.methodLink "java/lang/Throwable" (1 : Nat) ({ cls := "java/lang/Object", name := "<init>", desc := "()V" } : Jvm.MethodName)) ∈ lw_all := lw_g (lw_at lw_m5 221 rfl) rfl
theorem q1327 : (Jvm.Cond.fieldLink "java/lang/Throwable" (13 : Nat) "java/lang/Throwable" "UNASSIGNED_STACK" "[Ljava/lang/StackTraceElement;") ∈ lw_all := lw_g (lw_at lw_m5 222 rfl) rfl
theorem q1328 : (Jvm.Cond.laysStatic "java/lang/Throwable" "UNASSIGNED_STACK" "[Ljava/lang/StackTraceElement;") ∈ lw_tbl := lw_at lw_m5 223 rfl
theorem q1329 : (Jvm.Cond.fieldLink "java/lang/Throwable" (20 : Nat) "java/lang/Throwable" "SUPPRESSED_SENTINEL" "Ljava/util/List;") ∈ lw_all := lw_g (lw_at lw_m5 224 rfl) rfl
theorem q1330 : (Jvm.Cond.laysStatic "java/lang/Throwable" "SUPPRESSED_SENTINEL" "Ljava/util/List;") ∈ lw_tbl := lw_at lw_m5 225 rfl
theorem q1331 : (Jvm.Cond.methodLink "java/lang/Throwable" (27 : Nat) ({ cls := "java/lang/Throwable", name := "fillInStackTrace", desc := "()Ljava/lang/Throwable;" } : Jvm.MethodName)) ∈ lw_all := lw_g (lw_at lw_m5 226 rfl) rfl
theorem q1332 : (Jvm.Cond.instanceMethod ({ cls := "java/lang/Throwable", name := "fillInStackTrace", desc := "()Ljava/lang/Throwable;" } : Jvm.MethodName)) ∈ lw_all := lw_g (lw_at lw_m5 227 rfl) rfl
theorem q1333 : (Jvm.Cond.sameMethod "java/lang/Throwable" "java/lang/Throwable" "fillInStackTrace" "()Ljava/lang/Throwable;") ∈ lw_all := lw_g (lw_at lw_m5 228 rfl) rfl
theorem q1346 : (Jvm.Cond.declares ({ cls := "java/lang/Throwable", name := "fillInStackTrace", desc := "()Ljava/lang/Throwable;" } : Jvm.MethodName)) ∈ lw_tbl := lw_at lw_m6 1 rfl
theorem q1350 : (Jvm.Cond.codeSync ({ cls := "java/lang/Throwable", name := "fillInStackTrace", desc := "()Ljava/lang/Throwable;" } : Jvm.MethodName) prog_31_method_18_code (1 : Nat) (Option.some (Jvm.ClassFile.FieldType.object "java/lang/Throwable"))) ∈ lw_all := lw_g (lw_at lw_m6 5 rfl) rfl
theorem q1351 : (Jvm.Cond.methodLink "java/lang/Throwable" (202 : Nat) ({ cls := "java/lang/Throwable", name := "fillInStackTrace", desc := "(I)Ljava/lang/Throwable;" } : Jvm.MethodName)) ∈ lw_all := lw_g (lw_at lw_m6 6 rfl) rfl
theorem q1352 : (Jvm.Cond.privateMethod ({ cls := "java/lang/Throwable", name := "fillInStackTrace", desc := "(I)Ljava/lang/Throwable;" } : Jvm.MethodName)) ∈ lw_tbl := lw_at lw_m6 7 rfl
theorem q1353 : (Jvm.Cond.instanceMethod ({ cls := "java/lang/Throwable", name := "fillInStackTrace", desc := "(I)Ljava/lang/Throwable;" } : Jvm.MethodName)) ∈ lw_all := lw_g (lw_at lw_m6 8 rfl) rfl
theorem q1354 : (Jvm.Cond.instantiable "java/lang/Throwable" (6 : Nat)) ∈ lw_all := lw_g (lw_at lw_m6 9 rfl) rfl
theorem q1355 : (Jvm.Cond.native ({ cls := "java/lang/Throwable", name := "fillInStackTrace", desc := "(I)Ljava/lang/Throwable;" } : Jvm.MethodName)) ∈ lw_all := lw_g (lw_at lw_m6 10 rfl) rfl
theorem q1356 : (Jvm.Cond.fieldLink "java/lang/Throwable" (198 : Nat) "java/lang/Throwable" "backtrace" "Ljava/lang/Object;") ∈ lw_all := lw_g (lw_at lw_m6 11 rfl) rfl
theorem q1357 : (Jvm.Cond.fieldLink "java/lang/Throwable" (31 : Nat) "java/lang/Throwable" "detailMessage" "Ljava/lang/String;") ∈ lw_all := lw_g (lw_at lw_m6 12 rfl) rfl
theorem q1358 : (Jvm.Cond.fieldLink "java/lang/Throwable" (7 : Nat) "java/lang/Throwable" "cause" "Ljava/lang/Throwable;") ∈ lw_all := lw_g (lw_at lw_m6 13 rfl) rfl
theorem q1359 : (Jvm.Cond.fieldLink "java/lang/Throwable" (17 : Nat) "java/lang/Throwable" "stackTrace" "[Ljava/lang/StackTraceElement;") ∈ lw_all := lw_g (lw_at lw_m6 14 rfl) rfl
theorem q1360 : (Jvm.Cond.fieldLink "java/lang/Throwable" (24 : Nat) "java/lang/Throwable" "suppressedExceptions" "Ljava/util/List;") ∈ lw_all := lw_g (lw_at lw_m6 15 rfl) rfl
theorem q1362 : (Jvm.Cond.soleField "java/lang/Throwable" "backtrace") ∈ lw_all := lw_g (lw_at lw_m6 17 rfl) rfl
theorem q1364 : (Jvm.Cond.soleField "java/lang/Throwable" "detailMessage") ∈ lw_all := lw_g (lw_at lw_m6 19 rfl) rfl
theorem q1366 : (Jvm.Cond.soleField "java/lang/Throwable" "cause") ∈ lw_all := lw_g (lw_at lw_m6 21 rfl) rfl
theorem q1368 : (Jvm.Cond.soleField "java/lang/Throwable" "stackTrace") ∈ lw_all := lw_g (lw_at lw_m6 23 rfl) rfl
theorem q1370 : (Jvm.Cond.soleField "java/lang/Throwable" "depth") ∈ lw_all := lw_g (lw_at lw_m6 25 rfl) rfl
theorem q1372 : (Jvm.Cond.soleField "java/lang/Throwable" "suppressedExceptions") ∈ lw_all := lw_g (lw_at lw_m6 27 rfl) rfl
theorem q1379 : (Jvm.Cond.declares ({ cls := "java/lang/Throwable", name := "<init>", desc := "()V" } : Jvm.MethodName)) ∈ lw_tbl := lw_at lw_m6 34 rfl
theorem q1380 : (Jvm.Cond.declares ({ cls := "java/lang/Throwable", name := "<init>", desc := "(Ljava/lang/String;)V" } : Jvm.MethodName)) ∈ lw_tbl := lw_at lw_m6 35 rfl
theorem q1382 : (Jvm.Cond.lays "java/lang/Throwable" "java/lang/Throwable" "cause" "Ljava/lang/Throwable;") ∈ lw_all := lw_g (lw_at lw_m6 37 rfl) rfl
theorem q1383 : (Jvm.Cond.lays "java/lang/Throwable" "java/lang/Throwable" "stackTrace" "[Ljava/lang/StackTraceElement;") ∈ lw_all := lw_g (lw_at lw_m6 38 rfl) rfl
theorem q1384 : (Jvm.Cond.lays "java/lang/Throwable" "java/lang/Throwable" "suppressedExceptions" "Ljava/util/List;") ∈ lw_all := lw_g (lw_at lw_m6 39 rfl) rfl
theorem q1385 : (Jvm.Cond.lays "java/lang/Throwable" "java/lang/Throwable" "detailMessage" "Ljava/lang/String;") ∈ lw_all := lw_g (lw_at lw_m6 40 rfl) rfl
theorem q1386 : (Jvm.Cond.lays "java/lang/Throwable" "java/lang/Throwable" "backtrace" "Ljava/lang/Object;") ∈ lw_all := lw_g (lw_at lw_m6 41 rfl) rfl
theorem q1387 : (Jvm.Cond.fieldLink "java/lang/Throwable" (198 : Nat) "java/lang/Throwable" "backtrace" "Ljava/lang/Object;") ∈ lw_all := lw_g (lw_at lw_m6 42 rfl) rfl
theorem q1388 : (Jvm.Cond.superclass "java/lang/Throwable" "java/lang/Object") ∈ lw_all := lw_g (lw_at lw_m6 43 rfl) rfl
theorem q1389 : (Jvm.Cond.instanceMethod ({ cls := "java/lang/Throwable", name := "<init>", desc := "()V" } : Jvm.MethodName)) ∈ lw_all := lw_g (lw_at lw_m6 44 rfl) rfl
theorem q1390 : (Jvm.Cond.code ({ cls := "java/lang/Throwable", name := "<init>", desc := "()V" } : Jvm.MethodName) prog_31_method_1_code (1 : Nat) (Option.none : Option Jvm.ClassFile.FieldType)) ∈ lw_all := lw_g (lw_at lw_m6 45 rfl) rfl
theorem q2154 : (Jvm.Cond.sameMethod "java/lang/Throwable" "java/lang/Throwable" "fillInStackTrace" "(I)Ljava/lang/Throwable;") ∈ lw_all := lw_g (lw_at lw_m9 89 rfl) rfl
theorem in_J6 : ∀ w ∈ wsJ60, w ∈ lw_all := lw_in wsJ60 [1382, 1383, 1384, 1385, 1386] (by decide +kernel) (by decide +kernel)
def RJ7 : String := "java/lang/Exception"
abbrev cJ7_init : ByteArray := prog_20_method_2_code
def yJ7_init : MethodName := ⟨RJ7, "<init>", "(Ljava/lang/String;)V"⟩
abbrev cJ7_init_2 : ByteArray := prog_20_method_1_code
def yJ7_init_2 : MethodName := ⟨RJ7, "<init>", "()V"⟩
theorem q170 : (Jvm.Cond.initialized "java/lang/Exception") ∈ lw_all := lw_g (lw_at lw_m1 25 rfl) rfl
theorem q1321 : (Jvm.Cond.instanceMethod ({ cls := "java/lang/Exception", name := "<init>", desc := "(Ljava/lang/String;)V" } : Jvm.MethodName)) ∈ lw_all := lw_g (lw_at lw_m5 216 rfl) rfl
theorem q1322 : (Jvm.Cond.code ({ cls := "java/lang/Exception", name := "<init>", desc := "(Ljava/lang/String;)V" } : Jvm.MethodName) prog_20_method_2_code (2 : Nat) (Option.none : Option Jvm.ClassFile.FieldType)) ∈ lw_all := lw_g (lw_at lw_m5 217 rfl) rfl
theorem q1323 : (Jvm.Cond.methodLink "java/lang/Exception" (7 : Nat) ({ cls := "java/lang/Throwable", name := "<init>", desc := "(Ljava/lang/String;)V" } : Jvm.MethodName)) ∈ lw_all := lw_g (lw_at lw_m5 218 rfl) rfl
theorem q1349 : (Jvm.Cond.superclass "java/lang/Exception" "java/lang/Throwable") ∈ lw_all := lw_g (lw_at lw_m6 4 rfl) rfl
theorem q1377 : (Jvm.Cond.declares ({ cls := "java/lang/Exception", name := "<init>", desc := "()V" } : Jvm.MethodName)) ∈ lw_tbl := lw_at lw_m6 32 rfl
theorem q1378 : (Jvm.Cond.declares ({ cls := "java/lang/Exception", name := "<init>", desc := "(Ljava/lang/String;)V" } : Jvm.MethodName)) ∈ lw_tbl := lw_at lw_m6 33 rfl
theorem q1408 : (Jvm.Cond.instanceMethod ({ cls := "java/lang/Exception", name := "<init>", desc := "()V" } : Jvm.MethodName)) ∈ lw_all := lw_g (lw_at lw_m6 63 rfl) rfl
theorem q1409 : (Jvm.Cond.code ({ cls := "java/lang/Exception", name := "<init>", desc := "()V" } : Jvm.MethodName) prog_20_method_1_code (1 : Nat) (Option.none : Option Jvm.ClassFile.FieldType)) ∈ lw_all := lw_g (lw_at lw_m6 64 rfl) rfl
theorem q1410 : (Jvm.Cond.methodLink "java/lang/Exception" (1 : Nat) ({ cls := "java/lang/Throwable", name := "<init>", desc := "()V" } : Jvm.MethodName)) ∈ lw_all := lw_g (lw_at lw_m6 65 rfl) rfl
def RJ8 : String := "java/lang/RuntimeException"
abbrev cJ8_init : ByteArray := prog_26_method_2_code
def yJ8_init : MethodName := ⟨RJ8, "<init>", "(Ljava/lang/String;)V"⟩
abbrev cJ8_init_2 : ByteArray := prog_26_method_1_code
def yJ8_init_2 : MethodName := ⟨RJ8, "<init>", "()V"⟩
theorem q171 : (Jvm.Cond.initialized "java/lang/RuntimeException") ∈ lw_all := lw_g (lw_at lw_m1 26 rfl) rfl
theorem q1318 : (Jvm.Cond.instanceMethod ({ cls := "java/lang/RuntimeException", name := "<init>", desc := "(Ljava/lang/String;)V" } : Jvm.MethodName)) ∈ lw_all := lw_g (lw_at lw_m5 213 rfl) rfl
theorem q1319 : (Jvm.Cond.code ({ cls := "java/lang/RuntimeException", name := "<init>", desc := "(Ljava/lang/String;)V" } : Jvm.MethodName) prog_26_method_2_code (2 : Nat) (Option.none : Option Jvm.ClassFile.FieldType)) ∈ lw_all := lw_g (lw_at lw_m5 214 rfl) rfl
theorem q1320 : (Jvm.Cond.methodLink "java/lang/RuntimeException" (7 : Nat) ({ cls := "java/lang/Exception", name := "<init>", desc := "(Ljava/lang/String;)V" } : Jvm.MethodName)) ∈ lw_all := lw_g (lw_at lw_m5 215 rfl) rfl
theorem q1345 : (Jvm.Cond.sameMethod "java/lang/RuntimeException" "java/lang/Throwable" "fillInStackTrace" "()Ljava/lang/Throwable;") ∈ lw_all := lw_g (lw_at lw_m6 0 rfl) rfl
theorem q1348 : (Jvm.Cond.superclass "java/lang/RuntimeException" "java/lang/Exception") ∈ lw_all := lw_g (lw_at lw_m6 3 rfl) rfl
theorem q1375 : (Jvm.Cond.declares ({ cls := "java/lang/RuntimeException", name := "<init>", desc := "()V" } : Jvm.MethodName)) ∈ lw_tbl := lw_at lw_m6 30 rfl
theorem q1376 : (Jvm.Cond.declares ({ cls := "java/lang/RuntimeException", name := "<init>", desc := "(Ljava/lang/String;)V" } : Jvm.MethodName)) ∈ lw_tbl := lw_at lw_m6 31 rfl
theorem q1405 : (Jvm.Cond.instanceMethod ({ cls := "java/lang/RuntimeException", name := "<init>", desc := "()V" } : Jvm.MethodName)) ∈ lw_all := lw_g (lw_at lw_m6 60 rfl) rfl
theorem q1406 : (Jvm.Cond.code ({ cls := "java/lang/RuntimeException", name := "<init>", desc := "()V" } : Jvm.MethodName) prog_26_method_1_code (1 : Nat) (Option.none : Option Jvm.ClassFile.FieldType)) ∈ lw_all := lw_g (lw_at lw_m6 61 rfl) rfl
theorem q1407 : (Jvm.Cond.methodLink "java/lang/RuntimeException" (1 : Nat) ({ cls := "java/lang/Exception", name := "<init>", desc := "()V" } : Jvm.MethodName)) ∈ lw_all := lw_g (lw_at lw_m6 62 rfl) rfl
theorem q1425 : (Jvm.Cond.castable "java/lang/RuntimeException" "java/lang/Throwable") ∈ lw_tbl := lw_at lw_m6 80 rfl
def RJ9 : String := "java/lang/NegativeArraySizeException"
def TJ9 : u_T := fun k => match k with
  | 0 => ("java/lang/Throwable", "backtrace", "Ljava/lang/Object;", false)
  | 1 => ("java/lang/Throwable", "detailMessage", "Ljava/lang/String;", false)
  | 2 => ("java/lang/Throwable", "cause", "Ljava/lang/Throwable;", false)
  | 3 => ("java/lang/Throwable", "stackTrace", "[Ljava/lang/StackTraceElement;", false)
  | 4 => ("java/lang/Throwable", "depth", "I", false)
  | _ => ("java/lang/Throwable", "suppressedExceptions", "Ljava/util/List;", false)
def tyJ9 : Nat → FieldType := fun k => match k with
  | 0 => .object "java/lang/Object"
  | 1 => .object "java/lang/String"
  | 2 => .object "java/lang/Throwable"
  | 3 => .array (.object "java/lang/StackTraceElement")
  | 4 => .int
  | _ => .object "java/util/List"
abbrev wsJ90 : List Cond := u_ws RJ9 TJ9 6
theorem nmJ9 : ∀ a, a < 6 → ∀ b, b < 6 → a ≠ b → (TJ9 a).2.1 ≠ (TJ9 b).2.1 := by decide +kernel
theorem tyJ9_ok : ∀ k, k < 6 → parseFieldDescriptor (TJ9 k).2.2.1 = some (tyJ9 k) := by decide +kernel
abbrev cJ9_init : ByteArray := prog_24_method_2_code
def yJ9_init : MethodName := ⟨RJ9, "<init>", "(Ljava/lang/String;)V"⟩
theorem q172 : (Jvm.Cond.initialized "java/lang/NegativeArraySizeException") ∈ lw_all := lw_g (lw_at lw_m1 27 rfl) rfl
theorem q1314 : (Jvm.Cond.instantiable "java/lang/NegativeArraySizeException" (6 : Nat)) ∈ lw_all := lw_g (lw_at lw_m5 209 rfl) rfl
theorem q1315 : (Jvm.Cond.instanceMethod ({ cls := "java/lang/NegativeArraySizeException", name := "<init>", desc := "(Ljava/lang/String;)V" } : Jvm.MethodName)) ∈ lw_all := lw_g (lw_at lw_m5 210 rfl) rfl
theorem q1316 : (Jvm.Cond.code ({ cls := "java/lang/NegativeArraySizeException", name := "<init>", desc := "(Ljava/lang/String;)V" } : Jvm.MethodName) prog_24_method_2_code (2 : Nat) (Option.none : Option Jvm.ClassFile.FieldType)) ∈ lw_all := lw_g (lw_at lw_m5 211 rfl) rfl
theorem q1317 : (Jvm.Cond.methodLink "java/lang/NegativeArraySizeException" (7 : Nat) ({ cls := "java/lang/RuntimeException", name := "<init>", desc := "(Ljava/lang/String;)V" } : Jvm.MethodName)) ∈ lw_all := lw_g (lw_at lw_m5 212 rfl) rfl
theorem q1335 : (Jvm.Cond.selects "java/lang/NegativeArraySizeException" ({ cls := "java/lang/Throwable", name := "fillInStackTrace", desc := "()Ljava/lang/Throwable;" } : Jvm.MethodName) ({ cls := "java/lang/Throwable", name := "fillInStackTrace", desc := "()Ljava/lang/Throwable;" } : Jvm.MethodName)) ∈ lw_all := lw_g (lw_at lw_m5 230 rfl) rfl
theorem q1361 : (Jvm.Cond.lays "java/lang/NegativeArraySizeException" "java/lang/Throwable" "backtrace" "Ljava/lang/Object;") ∈ lw_all := lw_g (lw_at lw_m6 16 rfl) rfl
theorem q1363 : (Jvm.Cond.lays "java/lang/NegativeArraySizeException" "java/lang/Throwable" "detailMessage" "Ljava/lang/String;") ∈ lw_all := lw_g (lw_at lw_m6 18 rfl) rfl
theorem q1365 : (Jvm.Cond.lays "java/lang/NegativeArraySizeException" "java/lang/Throwable" "cause" "Ljava/lang/Throwable;") ∈ lw_all := lw_g (lw_at lw_m6 20 rfl) rfl
theorem q1367 : (Jvm.Cond.lays "java/lang/NegativeArraySizeException" "java/lang/Throwable" "stackTrace" "[Ljava/lang/StackTraceElement;") ∈ lw_all := lw_g (lw_at lw_m6 22 rfl) rfl
theorem q1369 : (Jvm.Cond.lays "java/lang/NegativeArraySizeException" "java/lang/Throwable" "depth" "I") ∈ lw_all := lw_g (lw_at lw_m6 24 rfl) rfl
theorem q1371 : (Jvm.Cond.lays "java/lang/NegativeArraySizeException" "java/lang/Throwable" "suppressedExceptions" "Ljava/util/List;") ∈ lw_all := lw_g (lw_at lw_m6 26 rfl) rfl
theorem q1373 : (Jvm.Cond.superclass "java/lang/NegativeArraySizeException" "java/lang/RuntimeException") ∈ lw_all := lw_g (lw_at lw_m6 28 rfl) rfl
theorem q1374 : (Jvm.Cond.castable "java/lang/NegativeArraySizeException" "java/lang/NegativeArraySizeException") ∈ lw_tbl := lw_at lw_m6 29 rfl
theorem q1381 : (Jvm.Cond.selects "java/lang/NegativeArraySizeException" ({ cls := "java/lang/Throwable", name := "fillInStackTrace", desc := "(I)Ljava/lang/Throwable;" } : Jvm.MethodName) ({ cls := "java/lang/Throwable", name := "fillInStackTrace", desc := "(I)Ljava/lang/Throwable;" } : Jvm.MethodName)) ∈ lw_all := lw_g (lw_at lw_m6 36 rfl) rfl
theorem in_J9 : ∀ w ∈ wsJ90, w ∈ lw_all := lw_in wsJ90 [1361, 1363, 1365, 1367, 1369, 1371] (by decide +kernel) (by decide +kernel)
def RJ10 : String := "java/lang/NullPointerException"
def TJ10 : u_T := fun k => match k with
  | 0 => ("java/lang/Throwable", "backtrace", "Ljava/lang/Object;", false)
  | 1 => ("java/lang/Throwable", "detailMessage", "Ljava/lang/String;", false)
  | 2 => ("java/lang/Throwable", "cause", "Ljava/lang/Throwable;", false)
  | 3 => ("java/lang/Throwable", "stackTrace", "[Ljava/lang/StackTraceElement;", false)
  | 4 => ("java/lang/Throwable", "depth", "I", false)
  | 5 => ("java/lang/Throwable", "suppressedExceptions", "Ljava/util/List;", false)
  | 6 => ("java/lang/NullPointerException", "extendedMessageState", "I", false)
  | _ => ("java/lang/NullPointerException", "extendedMessage", "Ljava/lang/String;", false)
def tyJ10 : Nat → FieldType := fun k => match k with
  | 0 => .object "java/lang/Object"
  | 1 => .object "java/lang/String"
  | 2 => .object "java/lang/Throwable"
  | 3 => .array (.object "java/lang/StackTraceElement")
  | 4 => .int
  | 5 => .object "java/util/List"
  | 6 => .int
  | _ => .object "java/lang/String"
abbrev wsJ100 : List Cond := u_ws RJ10 TJ10 8
theorem nmJ10 : ∀ a, a < 8 → ∀ b, b < 8 → a ≠ b → (TJ10 a).2.1 ≠ (TJ10 b).2.1 := by decide +kernel
theorem tyJ10_ok : ∀ k, k < 8 → parseFieldDescriptor (TJ10 k).2.2.1 = some (tyJ10 k) := by decide +kernel
abbrev cJ10_init : ByteArray := prog_25_method_1_code
def yJ10_init : MethodName := ⟨RJ10, "<init>", "()V"⟩
theorem q173 : (Jvm.Cond.initialized "java/lang/NullPointerException") ∈ lw_all := lw_g (lw_at lw_m1 28 rfl) rfl
theorem q1336 : (Jvm.Cond.selects "java/lang/NullPointerException" ({ cls := "java/lang/Throwable", name := "fillInStackTrace", desc := "()Ljava/lang/Throwable;" } : Jvm.MethodName) ({ cls := "java/lang/NullPointerException", name := "fillInStackTrace", desc := "()Ljava/lang/Throwable;" } : Jvm.MethodName)) ∈ lw_all := lw_g (lw_at lw_m5 231 rfl) rfl
theorem q1337 : (Jvm.Cond.instanceMethod ({ cls := "java/lang/NullPointerException", name := "fillInStackTrace", desc := "()Ljava/lang/Throwable;" } : Jvm.MethodName)) ∈ lw_all := lw_g (lw_at lw_m5 232 rfl) rfl
theorem q1338 : (Jvm.Cond.codeSync ({ cls := "java/lang/NullPointerException", name := "fillInStackTrace", desc := "()Ljava/lang/Throwable;" } : Jvm.MethodName) prog_25_method_3_code (1 : Nat) (Option.some (Jvm.ClassFile.FieldType.object "java/lang/Throwable"))) ∈ lw_all := lw_g (lw_at lw_m5 233 rfl) rfl
theorem q1339 : (Jvm.Cond.methodLink "java/lang/NullPointerException" (16 : Nat) ({ cls := "java/lang/NullPointerException", name := "getExtendedNPEMessage", desc := "()Ljava/lang/String;" } : Jvm.MethodName)) ∈ lw_all := lw_g (lw_at lw_m5 234 rfl) rfl
theorem q1340 : (Jvm.Cond.privateMethod ({ cls := "java/lang/NullPointerException", name := "getExtendedNPEMessage", desc := "()Ljava/lang/String;" } : Jvm.MethodName)) ∈ lw_tbl := lw_at lw_m5 235 rfl
theorem q1341 : (Jvm.Cond.instanceMethod ({ cls := "java/lang/NullPointerException", name := "getExtendedNPEMessage", desc := "()Ljava/lang/String;" } : Jvm.MethodName)) ∈ lw_all := lw_g (lw_at lw_m5 236 rfl) rfl
theorem q1342 : (Jvm.Cond.instantiable "java/lang/NullPointerException" (8 : Nat)) ∈ lw_all := lw_g (lw_at lw_m5 237 rfl) rfl
theorem q1343 : (Jvm.Cond.native ({ cls := "java/lang/NullPointerException", name := "getExtendedNPEMessage", desc := "()Ljava/lang/String;" } : Jvm.MethodName)) ∈ lw_all := lw_g (lw_at lw_m5 238 rfl) rfl
theorem q1344 : (Jvm.Cond.methodLink "java/lang/NullPointerException" (24 : Nat) ({ cls := "java/lang/RuntimeException", name := "fillInStackTrace", desc := "()Ljava/lang/Throwable;" } : Jvm.MethodName)) ∈ lw_all := lw_g (lw_at lw_m5 239 rfl) rfl
theorem q1347 : (Jvm.Cond.superclass "java/lang/NullPointerException" "java/lang/RuntimeException") ∈ lw_all := lw_g (lw_at lw_m6 2 rfl) rfl
theorem q1402 : (Jvm.Cond.instanceMethod ({ cls := "java/lang/NullPointerException", name := "<init>", desc := "()V" } : Jvm.MethodName)) ∈ lw_all := lw_g (lw_at lw_m6 57 rfl) rfl
theorem q1403 : (Jvm.Cond.code ({ cls := "java/lang/NullPointerException", name := "<init>", desc := "()V" } : Jvm.MethodName) prog_25_method_1_code (1 : Nat) (Option.none : Option Jvm.ClassFile.FieldType)) ∈ lw_all := lw_g (lw_at lw_m6 58 rfl) rfl
theorem q1404 : (Jvm.Cond.methodLink "java/lang/NullPointerException" (1 : Nat) ({ cls := "java/lang/RuntimeException", name := "<init>", desc := "()V" } : Jvm.MethodName)) ∈ lw_all := lw_g (lw_at lw_m6 59 rfl) rfl
theorem q1411 : (Jvm.Cond.fieldLink "java/lang/NullPointerException" (10 : Nat) "java/lang/NullPointerException" "extendedMessageState" "I") ∈ lw_all := lw_g (lw_at lw_m6 66 rfl) rfl
theorem q1412 : (Jvm.Cond.fieldLink "java/lang/NullPointerException" (20 : Nat) "java/lang/NullPointerException" "extendedMessage" "Ljava/lang/String;") ∈ lw_all := lw_g (lw_at lw_m6 67 rfl) rfl
theorem q1413 : (Jvm.Cond.lays "java/lang/NullPointerException" "java/lang/NullPointerException" "extendedMessageState" "I") ∈ lw_all := lw_g (lw_at lw_m6 68 rfl) rfl
theorem q1414 : (Jvm.Cond.soleField "java/lang/NullPointerException" "extendedMessageState") ∈ lw_all := lw_g (lw_at lw_m6 69 rfl) rfl
theorem q1415 : (Jvm.Cond.lays "java/lang/NullPointerException" "java/lang/NullPointerException" "extendedMessage" "Ljava/lang/String;") ∈ lw_all := lw_g (lw_at lw_m6 70 rfl) rfl
theorem q1416 : (Jvm.Cond.soleField "java/lang/NullPointerException" "extendedMessage") ∈ lw_all := lw_g (lw_at lw_m6 71 rfl) rfl
theorem q1417 : (Jvm.Cond.lays "java/lang/NullPointerException" "java/lang/Throwable" "backtrace" "Ljava/lang/Object;") ∈ lw_all := lw_g (lw_at lw_m6 72 rfl) rfl
theorem q1418 : (Jvm.Cond.lays "java/lang/NullPointerException" "java/lang/Throwable" "detailMessage" "Ljava/lang/String;") ∈ lw_all := lw_g (lw_at lw_m6 73 rfl) rfl
theorem q1419 : (Jvm.Cond.lays "java/lang/NullPointerException" "java/lang/Throwable" "cause" "Ljava/lang/Throwable;") ∈ lw_all := lw_g (lw_at lw_m6 74 rfl) rfl
theorem q1420 : (Jvm.Cond.lays "java/lang/NullPointerException" "java/lang/Throwable" "stackTrace" "[Ljava/lang/StackTraceElement;") ∈ lw_all := lw_g (lw_at lw_m6 75 rfl) rfl
theorem q1421 : (Jvm.Cond.lays "java/lang/NullPointerException" "java/lang/Throwable" "depth" "I") ∈ lw_all := lw_g (lw_at lw_m6 76 rfl) rfl
theorem q1422 : (Jvm.Cond.lays "java/lang/NullPointerException" "java/lang/Throwable" "suppressedExceptions" "Ljava/util/List;") ∈ lw_all := lw_g (lw_at lw_m6 77 rfl) rfl
theorem q1423 : (Jvm.Cond.castable "java/lang/NullPointerException" "java/lang/NullPointerException") ∈ lw_tbl := lw_at lw_m6 78 rfl
theorem q1424 : (Jvm.Cond.selects "java/lang/NullPointerException" ({ cls := "java/lang/Throwable", name := "fillInStackTrace", desc := "(I)Ljava/lang/Throwable;" } : Jvm.MethodName) ({ cls := "java/lang/Throwable", name := "fillInStackTrace", desc := "(I)Ljava/lang/Throwable;" } : Jvm.MethodName)) ∈ lw_all := lw_g (lw_at lw_m6 79 rfl) rfl
theorem in_J10 : ∀ w ∈ wsJ100, w ∈ lw_all := lw_in wsJ100 [1417, 1418, 1419, 1420, 1421, 1422, 1413, 1415] (by decide +kernel) (by decide +kernel)
def RJ11 : String := "java/lang/IndexOutOfBoundsException"
abbrev cJ11_init : ByteArray := prog_21_method_2_code
def yJ11_init : MethodName := ⟨RJ11, "<init>", "(Ljava/lang/String;)V"⟩
theorem q174 : (Jvm.Cond.initialized "java/lang/IndexOutOfBoundsException") ∈ lw_all := lw_g (lw_at lw_m1 29 rfl) rfl
theorem q1431 : (Jvm.Cond.instanceMethod ({ cls := "java/lang/IndexOutOfBoundsException", name := "<init>", desc := "(Ljava/lang/String;)V" } : Jvm.MethodName)) ∈ lw_all := lw_g (lw_at lw_m6 86 rfl) rfl
theorem q1432 : (Jvm.Cond.code ({ cls := "java/lang/IndexOutOfBoundsException", name := "<init>", desc := "(Ljava/lang/String;)V" } : Jvm.MethodName) prog_21_method_2_code (2 : Nat) (Option.none : Option Jvm.ClassFile.FieldType)) ∈ lw_all := lw_g (lw_at lw_m6 87 rfl) rfl
theorem q1433 : (Jvm.Cond.methodLink "java/lang/IndexOutOfBoundsException" (7 : Nat) ({ cls := "java/lang/RuntimeException", name := "<init>", desc := "(Ljava/lang/String;)V" } : Jvm.MethodName)) ∈ lw_all := lw_g (lw_at lw_m6 88 rfl) rfl
theorem q1442 : (Jvm.Cond.declares ({ cls := "java/lang/IndexOutOfBoundsException", name := "<init>", desc := "()V" } : Jvm.MethodName)) ∈ lw_tbl := lw_at lw_m6 97 rfl
theorem q1443 : (Jvm.Cond.declares ({ cls := "java/lang/IndexOutOfBoundsException", name := "<init>", desc := "(Ljava/lang/String;)V" } : Jvm.MethodName)) ∈ lw_tbl := lw_at lw_m6 98 rfl
def RJ12 : String := "java/lang/ArrayIndexOutOfBoundsException"
def TJ12 : u_T := fun k => match k with
  | 0 => ("java/lang/Throwable", "backtrace", "Ljava/lang/Object;", false)
  | 1 => ("java/lang/Throwable", "detailMessage", "Ljava/lang/String;", false)
  | 2 => ("java/lang/Throwable", "cause", "Ljava/lang/Throwable;", false)
  | 3 => ("java/lang/Throwable", "stackTrace", "[Ljava/lang/StackTraceElement;", false)
  | 4 => ("java/lang/Throwable", "depth", "I", false)
  | _ => ("java/lang/Throwable", "suppressedExceptions", "Ljava/util/List;", false)
def tyJ12 : Nat → FieldType := fun k => match k with
  | 0 => .object "java/lang/Object"
  | 1 => .object "java/lang/String"
  | 2 => .object "java/lang/Throwable"
  | 3 => .array (.object "java/lang/StackTraceElement")
  | 4 => .int
  | _ => .object "java/util/List"
abbrev wsJ120 : List Cond := u_ws RJ12 TJ12 6
theorem nmJ12 : ∀ a, a < 6 → ∀ b, b < 6 → a ≠ b → (TJ12 a).2.1 ≠ (TJ12 b).2.1 := by decide +kernel
theorem tyJ12_ok : ∀ k, k < 6 → parseFieldDescriptor (TJ12 k).2.2.1 = some (tyJ12 k) := by decide +kernel
abbrev cJ12_init : ByteArray := prog_18_method_2_code
def yJ12_init : MethodName := ⟨RJ12, "<init>", "(Ljava/lang/String;)V"⟩
theorem q175 : (Jvm.Cond.initialized "java/lang/ArrayIndexOutOfBoundsException") ∈ lw_all := lw_g (lw_at lw_m1 30 rfl) rfl
theorem q1334 : (Jvm.Cond.selects "java/lang/ArrayIndexOutOfBoundsException" ({ cls := "java/lang/Throwable", name := "fillInStackTrace", desc := "()Ljava/lang/Throwable;" } : Jvm.MethodName) ({ cls := "java/lang/Throwable", name := "fillInStackTrace", desc := "()Ljava/lang/Throwable;" } : Jvm.MethodName)) ∈ lw_all := lw_g (lw_at lw_m5 229 rfl) rfl
theorem q1427 : (Jvm.Cond.instantiable "java/lang/ArrayIndexOutOfBoundsException" (6 : Nat)) ∈ lw_all := lw_g (lw_at lw_m6 82 rfl) rfl
theorem q1428 : (Jvm.Cond.instanceMethod ({ cls := "java/lang/ArrayIndexOutOfBoundsException", name := "<init>", desc := "(Ljava/lang/String;)V" } : Jvm.MethodName)) ∈ lw_all := lw_g (lw_at lw_m6 83 rfl) rfl
theorem q1429 : (Jvm.Cond.code ({ cls := "java/lang/ArrayIndexOutOfBoundsException", name := "<init>", desc := "(Ljava/lang/String;)V" } : Jvm.MethodName) prog_18_method_2_code (2 : Nat) (Option.none : Option Jvm.ClassFile.FieldType)) ∈ lw_all := lw_g (lw_at lw_m6 84 rfl) rfl
theorem q1430 : (Jvm.Cond.methodLink "java/lang/ArrayIndexOutOfBoundsException" (7 : Nat) ({ cls := "java/lang/IndexOutOfBoundsException", name := "<init>", desc := "(Ljava/lang/String;)V" } : Jvm.MethodName)) ∈ lw_all := lw_g (lw_at lw_m6 85 rfl) rfl
theorem q1434 : (Jvm.Cond.lays "java/lang/ArrayIndexOutOfBoundsException" "java/lang/Throwable" "backtrace" "Ljava/lang/Object;") ∈ lw_all := lw_g (lw_at lw_m6 89 rfl) rfl
theorem q1435 : (Jvm.Cond.lays "java/lang/ArrayIndexOutOfBoundsException" "java/lang/Throwable" "detailMessage" "Ljava/lang/String;") ∈ lw_all := lw_g (lw_at lw_m6 90 rfl) rfl
theorem q1436 : (Jvm.Cond.lays "java/lang/ArrayIndexOutOfBoundsException" "java/lang/Throwable" "cause" "Ljava/lang/Throwable;") ∈ lw_all := lw_g (lw_at lw_m6 91 rfl) rfl
theorem q1437 : (Jvm.Cond.lays "java/lang/ArrayIndexOutOfBoundsException" "java/lang/Throwable" "stackTrace" "[Ljava/lang/StackTraceElement;") ∈ lw_all := lw_g (lw_at lw_m6 92 rfl) rfl
theorem q1438 : (Jvm.Cond.lays "java/lang/ArrayIndexOutOfBoundsException" "java/lang/Throwable" "depth" "I") ∈ lw_all := lw_g (lw_at lw_m6 93 rfl) rfl
theorem q1439 : (Jvm.Cond.lays "java/lang/ArrayIndexOutOfBoundsException" "java/lang/Throwable" "suppressedExceptions" "Ljava/util/List;") ∈ lw_all := lw_g (lw_at lw_m6 94 rfl) rfl
theorem q1440 : (Jvm.Cond.superclass "java/lang/ArrayIndexOutOfBoundsException" "java/lang/IndexOutOfBoundsException") ∈ lw_all := lw_g (lw_at lw_m6 95 rfl) rfl
theorem q1441 : (Jvm.Cond.castable "java/lang/ArrayIndexOutOfBoundsException" "java/lang/ArrayIndexOutOfBoundsException") ∈ lw_tbl := lw_at lw_m6 96 rfl
theorem q1444 : (Jvm.Cond.selects "java/lang/ArrayIndexOutOfBoundsException" ({ cls := "java/lang/Throwable", name := "fillInStackTrace", desc := "(I)Ljava/lang/Throwable;" } : Jvm.MethodName) ({ cls := "java/lang/Throwable", name := "fillInStackTrace", desc := "(I)Ljava/lang/Throwable;" } : Jvm.MethodName)) ∈ lw_all := lw_g (lw_at lw_m6 99 rfl) rfl
theorem in_J12 : ∀ w ∈ wsJ120, w ∈ lw_all := lw_in wsJ120 [1434, 1435, 1436, 1437, 1438, 1439] (by decide +kernel) (by decide +kernel)
def RJ13 : String := "java/lang/Integer"
abbrev cJ13_bitCount : ByteArray := prog_22_method_49_code
def yJ13_bitCount : MethodName := ⟨RJ13, "bitCount", "(I)I"⟩
theorem q176 : (Jvm.Cond.initialized "java/lang/Integer") ∈ lw_all := lw_g (lw_at lw_m1 31 rfl) rfl
theorem q1470 : (Jvm.Cond.static ({ cls := "java/lang/Integer", name := "bitCount", desc := "(I)I" } : Jvm.MethodName)) ∈ lw_all := lw_g (lw_at lw_m6 125 rfl) rfl
theorem q1471 : (Jvm.Cond.code ({ cls := "java/lang/Integer", name := "bitCount", desc := "(I)I" } : Jvm.MethodName) prog_22_method_49_code (1 : Nat) (Option.some Jvm.ClassFile.FieldType.int)) ∈ lw_all := lw_g (lw_at lw_m6 126 rfl) rfl
theorem q1472 : (Jvm.Cond.constant "java/lang/Integer" (265 : Nat) (1431655765 : Int32)) ∈ lw_all := lw_g (lw_at lw_m6 127 rfl) rfl
theorem q1473 : (Jvm.Cond.constant "java/lang/Integer" (266 : Nat) (858993459 : Int32)) ∈ lw_all := lw_g (lw_at lw_m6 128 rfl) rfl
theorem q1474 : (Jvm.Cond.constant "java/lang/Integer" (267 : Nat) (252645135 : Int32)) ∈ lw_all := lw_g (lw_at lw_m6 129 rfl) rfl
def RJ14 : String := "java/lang/Object"
abbrev cJ14_init : ByteArray := object_method_1_code
def yJ14_init : MethodName := ⟨RJ14, "<init>", "()V"⟩
theorem q183 : (Jvm.Cond.instanceMethod ({ cls := "java/lang/Object", name := "<init>", desc := "()V" } : Jvm.MethodName)) ∈ lw_all := lw_g (lw_at lw_m1 38 rfl) rfl
theorem q184 : (Jvm.Cond.code ({ cls := "java/lang/Object", name := "<init>", desc := "()V" } : Jvm.MethodName) object_method_1_code (1 : Nat) (Option.none : Option Jvm.ClassFile.FieldType)) ∈ lw_all := lw_g (lw_at lw_m1 39 rfl) rfl
theorem q145 : (Jvm.Cond.initialized "LetterNightsLaw") ∈ lw_all := lw_g (lw_at lw_m1 0 rfl) rfl
theorem q177 : (Jvm.Cond.classLink "LetterNightsLaw" (7 : Nat) "LetterNights") ∈ lw_all := lw_g (lw_at lw_m1 32 rfl) rfl
theorem q179 : (Jvm.Cond.methodLink "LetterNightsLaw" (9 : Nat) ({ cls := "LetterNights", name := "<init>", desc := "()V" } : Jvm.MethodName)) ∈ lw_all := lw_g (lw_at lw_m1 34 rfl) rfl
theorem q423 : (Jvm.Cond.methodLink "LetterNightsLaw" (13 : Nat) ({ cls := "LetterNights", name := "feed", desc := "(IIIII)I" } : Jvm.MethodName)) ∈ lw_all := lw_g (lw_at lw_m2 38 rfl) rfl
theorem q431 : (Jvm.Cond.methodLink "LetterNightsLaw" (18 : Nat) ({ cls := "LetterNights", name := "street", desc := "(I)I" } : Jvm.MethodName)) ∈ lw_all := lw_g (lw_at lw_m2 46 rfl) rfl
theorem q828 : (Jvm.Cond.methodLink "LetterNightsLaw" (23 : Nat) ({ cls := "LetterNights", name := "fault", desc := "(I)I" } : Jvm.MethodName)) ∈ lw_all := lw_g (lw_at lw_m3 203 rfl) rfl
theorem q832 : (Jvm.Cond.methodLink "LetterNightsLaw" (27 : Nat) ({ cls := "LetterNights", name := "becomes", desc := "(III)I" } : Jvm.MethodName)) ∈ lw_all := lw_g (lw_at lw_m3 207 rfl) rfl
theorem q852 : (Jvm.Cond.methodLink "LetterNightsLaw" (32 : Nat) ({ cls := "LetterNights", name := "picks", desc := "()I" } : Jvm.MethodName)) ∈ lw_all := lw_g (lw_at lw_m3 227 rfl) rfl
theorem q941 : (Jvm.Cond.methodLink "LetterNightsLaw" (37 : Nat) ({ cls := "LetterNights", name := "length", desc := "()J" } : Jvm.MethodName)) ∈ lw_all := lw_g (lw_at lw_m4 76 rfl) rfl
theorem q946 : (Jvm.Cond.methodLink "LetterNightsLaw" (44 : Nat) ({ cls := "LetterNights", name := "letter", desc := "(J)I" } : Jvm.MethodName)) ∈ lw_all := lw_g (lw_at lw_m4 81 rfl) rfl
theorem q951 : (Jvm.Cond.methodLink "LetterNightsLaw" (49 : Nat) ({ cls := "LetterNights", name := "count", desc := "(IJ)J" } : Jvm.MethodName)) ∈ lw_all := lw_g (lw_at lw_m4 86 rfl) rfl
theorem q965 : (Jvm.Cond.methodLink "LetterNightsLaw" (54 : Nat) ({ cls := "LetterNights", name := "place", desc := "(IJ)J" } : Jvm.MethodName)) ∈ lw_all := lw_g (lw_at lw_m4 100 rfl) rfl
theorem q974 : (Jvm.Cond.methodLink "LetterNightsLaw" (58 : Nat) ({ cls := "LetterNights", name := "night", desc := "(I)J" } : Jvm.MethodName)) ∈ lw_all := lw_g (lw_at lw_m4 109 rfl) rfl
theorem q1014 : (Jvm.Cond.methodLink "LetterNightsLaw" (63 : Nat) ({ cls := "LetterNights", name := "nights", desc := "(I)I" } : Jvm.MethodName)) ∈ lw_all := lw_g (lw_at lw_m4 149 rfl) rfl
theorem q1019 : (Jvm.Cond.methodLink "LetterNightsLaw" (67 : Nat) ({ cls := "LetterNights", name := "moon", desc := "(I)I" } : Jvm.MethodName)) ∈ lw_all := lw_g (lw_at lw_m4 154 rfl) rfl
theorem q1024 : (Jvm.Cond.methodLink "LetterNightsLaw" (71 : Nat) ({ cls := "LetterNights", name := "undo", desc := "(I)I" } : Jvm.MethodName)) ∈ lw_all := lw_g (lw_at lw_m4 159 rfl) rfl
theorem q1028 : (Jvm.Cond.methodLink "LetterNightsLaw" (75 : Nat) ({ cls := "LetterNights", name := "judge", desc := "(II)I" } : Jvm.MethodName)) ∈ lw_all := lw_g (lw_at lw_m4 163 rfl) rfl
theorem q1065 : (Jvm.Cond.methodLink "LetterNightsLaw" (80 : Nat) ({ cls := "LetterNights", name := "perform", desc := "(I)I" } : Jvm.MethodName)) ∈ lw_all := lw_g (lw_at lw_m4 200 rfl) rfl
theorem q1069 : (Jvm.Cond.methodLink "LetterNightsLaw" (84 : Nat) ({ cls := "LetterNights", name := "year", desc := "(II)I" } : Jvm.MethodName)) ∈ lw_all := lw_g (lw_at lw_m4 204 rfl) rfl
theorem q1083 : (Jvm.Cond.methodLink "LetterNightsLaw" (88 : Nat) ({ cls := "LetterNights", name := "occurs", desc := "(I)J" } : Jvm.MethodName)) ∈ lw_all := lw_g (lw_at lw_m4 218 rfl) rfl
theorem q1125 : (Jvm.Cond.methodLink "LetterNightsLaw" (92 : Nat) ({ cls := "LetterNights", name := "first", desc := "(I)J" } : Jvm.MethodName)) ∈ lw_all := lw_g (lw_at lw_m5 20 rfl) rfl
theorem q1129 : (Jvm.Cond.methodLink "LetterNightsLaw" (96 : Nat) ({ cls := "LetterNights", name := "backs", desc := "(II)I" } : Jvm.MethodName)) ∈ lw_all := lw_g (lw_at lw_m5 24 rfl) rfl
theorem q1141 : (Jvm.Cond.methodLink "LetterNightsLaw" (100 : Nat) ({ cls := "LetterNights", name := "backBy", desc := "(III)I" } : Jvm.MethodName)) ∈ lw_all := lw_g (lw_at lw_m5 36 rfl) rfl
theorem q1145 : (Jvm.Cond.methodLink "LetterNightsLaw" (104 : Nat) ({ cls := "LetterNights", name := "fate", desc := "(II)I" } : Jvm.MethodName)) ∈ lw_all := lw_g (lw_at lw_m5 40 rfl) rfl
theorem q1172 : (Jvm.Cond.methodLink "LetterNightsLaw" (108 : Nat) ({ cls := "LetterNights", name := "degree", desc := "(II)I" } : Jvm.MethodName)) ∈ lw_all := lw_g (lw_at lw_m5 67 rfl) rfl
theorem q1177 : (Jvm.Cond.methodLink "LetterNightsLaw" (112 : Nat) ({ cls := "LetterNights", name := "begins", desc := "(I)I" } : Jvm.MethodName)) ∈ lw_all := lw_g (lw_at lw_m5 72 rfl) rfl
theorem q1181 : (Jvm.Cond.methodLink "LetterNightsLaw" (116 : Nat) ({ cls := "LetterNights", name := "comes", desc := "(I)I" } : Jvm.MethodName)) ∈ lw_all := lw_g (lw_at lw_m5 76 rfl) rfl
theorem q1193 : (Jvm.Cond.methodLink "LetterNightsLaw" (120 : Nat) ({ cls := "LetterNights", name := "soonest", desc := "(J)I" } : Jvm.MethodName)) ∈ lw_all := lw_g (lw_at lw_m5 88 rfl) rfl
theorem q1217 : (Jvm.Cond.methodLink "LetterNightsLaw" (124 : Nat) ({ cls := "LetterNights", name := "way", desc := "(JI)I" } : Jvm.MethodName)) ∈ lw_all := lw_g (lw_at lw_m5 112 rfl) rfl
theorem q1221 : (Jvm.Cond.methodLink "LetterNightsLaw" (129 : Nat) ({ cls := "LetterNights", name := "rows", desc := "(JI)I" } : Jvm.MethodName)) ∈ lw_all := lw_g (lw_at lw_m5 116 rfl) rfl
theorem q1227 : (Jvm.Cond.methodLink "LetterNightsLaw" (133 : Nat) ({ cls := "LetterNights", name := "longBy", desc := "(I)I" } : Jvm.MethodName)) ∈ lw_all := lw_g (lw_at lw_m5 122 rfl) rfl
theorem q1248 : (Jvm.Cond.methodLink "LetterNightsLaw" (137 : Nat) ({ cls := "LetterNights", name := "tables", desc := "(II)I" } : Jvm.MethodName)) ∈ lw_all := lw_g (lw_at lw_m5 143 rfl) rfl
theorem q1252 : (Jvm.Cond.methodLink "LetterNightsLaw" (141 : Nat) ({ cls := "LetterNights", name := "moons", desc := "(I)I" } : Jvm.MethodName)) ∈ lw_all := lw_g (lw_at lw_m5 147 rfl) rfl
theorem q1256 : (Jvm.Cond.methodLink "LetterNightsLaw" (145 : Nat) ({ cls := "LetterNights", name := "attempt", desc := "(I)I" } : Jvm.MethodName)) ∈ lw_all := lw_g (lw_at lw_m5 151 rfl) rfl
theorem q1268 : (Jvm.Cond.methodLink "LetterNightsLaw" (149 : Nat) ({ cls := "LetterNights", name := "turned", desc := "(I)J" } : Jvm.MethodName)) ∈ lw_all := lw_g (lw_at lw_m5 163 rfl) rfl
theorem q1280 : (Jvm.Cond.methodLink "LetterNightsLaw" (153 : Nat) ({ cls := "LetterNights", name := "best", desc := "(I)I" } : Jvm.MethodName)) ∈ lw_all := lw_g (lw_at lw_m5 175 rfl) rfl
theorem q1284 : (Jvm.Cond.methodLink "LetterNightsLaw" (157 : Nat) ({ cls := "LetterNights", name := "chance", desc := "(II)I" } : Jvm.MethodName)) ∈ lw_all := lw_g (lw_at lw_m5 179 rfl) rfl
theorem q1301 : (Jvm.Cond.methodLink "LetterNightsLaw" (161 : Nat) ({ cls := "LetterNights", name := "mean", desc := "(II)J" } : Jvm.MethodName)) ∈ lw_all := lw_g (lw_at lw_m5 196 rfl) rfl
theorem q1305 : (Jvm.Cond.methodLink "LetterNightsLaw" (166 : Nat) ({ cls := "LetterNights", name := "numbers", desc := "(III)I" } : Jvm.MethodName)) ∈ lw_all := lw_g (lw_at lw_m5 200 rfl) rfl
theorem q1397 : (Jvm.Cond.methodLink "LetterNightsLaw" (170 : Nat) ({ cls := "LetterNights", name := "write", desc := "(IIJ)J" } : Jvm.MethodName)) ∈ lw_all := lw_g (lw_at lw_m6 52 rfl) rfl
theorem q1451 : (Jvm.Cond.methodLink "LetterNightsLaw" (175 : Nat) ({ cls := "LetterNights", name := "lists", desc := "(IJ)I" } : Jvm.MethodName)) ∈ lw_all := lw_g (lw_at lw_m6 106 rfl) rfl
theorem q1456 : (Jvm.Cond.methodLink "LetterNightsLaw" (180 : Nat) ({ cls := "LetterNights", name := "image", desc := "(I)I" } : Jvm.MethodName)) ∈ lw_all := lw_g (lw_at lw_m6 111 rfl) rfl
theorem q1460 : (Jvm.Cond.methodLink "LetterNightsLaw" (184 : Nat) ({ cls := "LetterNights", name := "restore", desc := "(I)I" } : Jvm.MethodName)) ∈ lw_all := lw_g (lw_at lw_m6 115 rfl) rfl
theorem q1464 : (Jvm.Cond.methodLink "LetterNightsLaw" (188 : Nat) ({ cls := "LetterNights", name := "told", desc := "(I)I" } : Jvm.MethodName)) ∈ lw_all := lw_g (lw_at lw_m6 119 rfl) rfl
theorem q1475 : (Jvm.Cond.classLink "LetterNightsLaw" (10 : Nat) "LetterNightsModel") ∈ lw_all := lw_g (lw_at lw_m6 130 rfl) rfl
theorem q1477 : (Jvm.Cond.methodLink "LetterNightsLaw" (12 : Nat) ({ cls := "LetterNightsModel", name := "<init>", desc := "()V" } : Jvm.MethodName)) ∈ lw_all := lw_g (lw_at lw_m6 132 rfl) rfl
theorem q1621 : (Jvm.Cond.methodLink "LetterNightsLaw" (17 : Nat) ({ cls := "LetterNightsModel", name := "feed", desc := "(IIIII)I" } : Jvm.MethodName)) ∈ lw_all := lw_g (lw_at lw_m7 36 rfl) rfl
theorem q1625 : (Jvm.Cond.methodLink "LetterNightsLaw" (22 : Nat) ({ cls := "LetterNightsModel", name := "street", desc := "(I)I" } : Jvm.MethodName)) ∈ lw_all := lw_g (lw_at lw_m7 40 rfl) rfl
theorem q1738 : (Jvm.Cond.methodLink "LetterNightsLaw" (26 : Nat) ({ cls := "LetterNightsModel", name := "fault", desc := "(I)I" } : Jvm.MethodName)) ∈ lw_all := lw_g (lw_at lw_m7 153 rfl) rfl
theorem q1742 : (Jvm.Cond.methodLink "LetterNightsLaw" (31 : Nat) ({ cls := "LetterNightsModel", name := "becomes", desc := "(III)I" } : Jvm.MethodName)) ∈ lw_all := lw_g (lw_at lw_m7 157 rfl) rfl
theorem q1762 : (Jvm.Cond.methodLink "LetterNightsLaw" (36 : Nat) ({ cls := "LetterNightsModel", name := "picks", desc := "()I" } : Jvm.MethodName)) ∈ lw_all := lw_g (lw_at lw_m7 177 rfl) rfl
theorem q1812 : (Jvm.Cond.methodLink "LetterNightsLaw" (41 : Nat) ({ cls := "LetterNightsModel", name := "length", desc := "()J" } : Jvm.MethodName)) ∈ lw_all := lw_g (lw_at lw_m7 227 rfl) rfl
theorem q1816 : (Jvm.Cond.methodLink "LetterNightsLaw" (48 : Nat) ({ cls := "LetterNightsModel", name := "letter", desc := "(J)I" } : Jvm.MethodName)) ∈ lw_all := lw_g (lw_at lw_m7 231 rfl) rfl
theorem q1820 : (Jvm.Cond.methodLink "LetterNightsLaw" (53 : Nat) ({ cls := "LetterNightsModel", name := "count", desc := "(IJ)J" } : Jvm.MethodName)) ∈ lw_all := lw_g (lw_at lw_m7 235 rfl) rfl
theorem q1830 : (Jvm.Cond.methodLink "LetterNightsLaw" (57 : Nat) ({ cls := "LetterNightsModel", name := "place", desc := "(IJ)J" } : Jvm.MethodName)) ∈ lw_all := lw_g (lw_at lw_m8 5 rfl) rfl
theorem q1835 : (Jvm.Cond.methodLink "LetterNightsLaw" (62 : Nat) ({ cls := "LetterNightsModel", name := "night", desc := "(I)J" } : Jvm.MethodName)) ∈ lw_all := lw_g (lw_at lw_m8 10 rfl) rfl
theorem q1860 : (Jvm.Cond.methodLink "LetterNightsLaw" (66 : Nat) ({ cls := "LetterNightsModel", name := "nights", desc := "(I)I" } : Jvm.MethodName)) ∈ lw_all := lw_g (lw_at lw_m8 35 rfl) rfl
theorem q1865 : (Jvm.Cond.methodLink "LetterNightsLaw" (70 : Nat) ({ cls := "LetterNightsModel", name := "moon", desc := "(I)I" } : Jvm.MethodName)) ∈ lw_all := lw_g (lw_at lw_m8 40 rfl) rfl
theorem q1870 : (Jvm.Cond.methodLink "LetterNightsLaw" (74 : Nat) ({ cls := "LetterNightsModel", name := "undo", desc := "(I)I" } : Jvm.MethodName)) ∈ lw_all := lw_g (lw_at lw_m8 45 rfl) rfl
theorem q1874 : (Jvm.Cond.methodLink "LetterNightsLaw" (79 : Nat) ({ cls := "LetterNightsModel", name := "judge", desc := "(II)I" } : Jvm.MethodName)) ∈ lw_all := lw_g (lw_at lw_m8 49 rfl) rfl
theorem q1908 : (Jvm.Cond.methodLink "LetterNightsLaw" (83 : Nat) ({ cls := "LetterNightsModel", name := "perform", desc := "(I)I" } : Jvm.MethodName)) ∈ lw_all := lw_g (lw_at lw_m8 83 rfl) rfl
theorem q1912 : (Jvm.Cond.methodLink "LetterNightsLaw" (87 : Nat) ({ cls := "LetterNightsModel", name := "year", desc := "(II)I" } : Jvm.MethodName)) ∈ lw_all := lw_g (lw_at lw_m8 87 rfl) rfl
theorem q1926 : (Jvm.Cond.methodLink "LetterNightsLaw" (91 : Nat) ({ cls := "LetterNightsModel", name := "occurs", desc := "(I)J" } : Jvm.MethodName)) ∈ lw_all := lw_g (lw_at lw_m8 101 rfl) rfl
theorem q1947 : (Jvm.Cond.methodLink "LetterNightsLaw" (95 : Nat) ({ cls := "LetterNightsModel", name := "first", desc := "(I)J" } : Jvm.MethodName)) ∈ lw_all := lw_g (lw_at lw_m8 122 rfl) rfl
theorem q1951 : (Jvm.Cond.methodLink "LetterNightsLaw" (99 : Nat) ({ cls := "LetterNightsModel", name := "backs", desc := "(II)I" } : Jvm.MethodName)) ∈ lw_all := lw_g (lw_at lw_m8 126 rfl) rfl
theorem q1967 : (Jvm.Cond.methodLink "LetterNightsLaw" (103 : Nat) ({ cls := "LetterNightsModel", name := "backBy", desc := "(III)I" } : Jvm.MethodName)) ∈ lw_all := lw_g (lw_at lw_m8 142 rfl) rfl
theorem q1971 : (Jvm.Cond.methodLink "LetterNightsLaw" (107 : Nat) ({ cls := "LetterNightsModel", name := "fate", desc := "(II)I" } : Jvm.MethodName)) ∈ lw_all := lw_g (lw_at lw_m8 146 rfl) rfl
theorem q2002 : (Jvm.Cond.methodLink "LetterNightsLaw" (111 : Nat) ({ cls := "LetterNightsModel", name := "degree", desc := "(II)I" } : Jvm.MethodName)) ∈ lw_all := lw_g (lw_at lw_m8 177 rfl) rfl
theorem q2006 : (Jvm.Cond.methodLink "LetterNightsLaw" (115 : Nat) ({ cls := "LetterNightsModel", name := "begins", desc := "(I)I" } : Jvm.MethodName)) ∈ lw_all := lw_g (lw_at lw_m8 181 rfl) rfl
theorem q2010 : (Jvm.Cond.methodLink "LetterNightsLaw" (119 : Nat) ({ cls := "LetterNightsModel", name := "comes", desc := "(I)I" } : Jvm.MethodName)) ∈ lw_all := lw_g (lw_at lw_m8 185 rfl) rfl
theorem q2027 : (Jvm.Cond.methodLink "LetterNightsLaw" (123 : Nat) ({ cls := "LetterNightsModel", name := "soonest", desc := "(J)I" } : Jvm.MethodName)) ∈ lw_all := lw_g (lw_at lw_m8 202 rfl) rfl
theorem q2047 : (Jvm.Cond.methodLink "LetterNightsLaw" (128 : Nat) ({ cls := "LetterNightsModel", name := "way", desc := "(JI)I" } : Jvm.MethodName)) ∈ lw_all := lw_g (lw_at lw_m8 222 rfl) rfl
theorem q2051 : (Jvm.Cond.methodLink "LetterNightsLaw" (132 : Nat) ({ cls := "LetterNightsModel", name := "rows", desc := "(JI)I" } : Jvm.MethodName)) ∈ lw_all := lw_g (lw_at lw_m8 226 rfl) rfl
theorem q2060 : (Jvm.Cond.methodLink "LetterNightsLaw" (136 : Nat) ({ cls := "LetterNightsModel", name := "longBy", desc := "(I)I" } : Jvm.MethodName)) ∈ lw_all := lw_g (lw_at lw_m8 235 rfl) rfl
theorem q2077 : (Jvm.Cond.methodLink "LetterNightsLaw" (140 : Nat) ({ cls := "LetterNightsModel", name := "tables", desc := "(II)I" } : Jvm.MethodName)) ∈ lw_all := lw_g (lw_at lw_m9 12 rfl) rfl
theorem q2081 : (Jvm.Cond.methodLink "LetterNightsLaw" (144 : Nat) ({ cls := "LetterNightsModel", name := "moons", desc := "(I)I" } : Jvm.MethodName)) ∈ lw_all := lw_g (lw_at lw_m9 16 rfl) rfl
theorem q2085 : (Jvm.Cond.methodLink "LetterNightsLaw" (148 : Nat) ({ cls := "LetterNightsModel", name := "attempt", desc := "(I)I" } : Jvm.MethodName)) ∈ lw_all := lw_g (lw_at lw_m9 20 rfl) rfl
theorem q2093 : (Jvm.Cond.methodLink "LetterNightsLaw" (152 : Nat) ({ cls := "LetterNightsModel", name := "turned", desc := "(I)J" } : Jvm.MethodName)) ∈ lw_all := lw_g (lw_at lw_m9 28 rfl) rfl
theorem q2101 : (Jvm.Cond.methodLink "LetterNightsLaw" (156 : Nat) ({ cls := "LetterNightsModel", name := "best", desc := "(I)I" } : Jvm.MethodName)) ∈ lw_all := lw_g (lw_at lw_m9 36 rfl) rfl
theorem q2105 : (Jvm.Cond.methodLink "LetterNightsLaw" (160 : Nat) ({ cls := "LetterNightsModel", name := "chance", desc := "(II)I" } : Jvm.MethodName)) ∈ lw_all := lw_g (lw_at lw_m9 40 rfl) rfl
theorem q2120 : (Jvm.Cond.methodLink "LetterNightsLaw" (165 : Nat) ({ cls := "LetterNightsModel", name := "mean", desc := "(II)J" } : Jvm.MethodName)) ∈ lw_all := lw_g (lw_at lw_m9 55 rfl) rfl
theorem q2124 : (Jvm.Cond.methodLink "LetterNightsLaw" (169 : Nat) ({ cls := "LetterNightsModel", name := "numbers", desc := "(III)I" } : Jvm.MethodName)) ∈ lw_all := lw_g (lw_at lw_m9 59 rfl) rfl
theorem q2129 : (Jvm.Cond.methodLink "LetterNightsLaw" (174 : Nat) ({ cls := "LetterNightsModel", name := "write", desc := "(IIJ)J" } : Jvm.MethodName)) ∈ lw_all := lw_g (lw_at lw_m9 64 rfl) rfl
theorem q2137 : (Jvm.Cond.methodLink "LetterNightsLaw" (179 : Nat) ({ cls := "LetterNightsModel", name := "lists", desc := "(IJ)I" } : Jvm.MethodName)) ∈ lw_all := lw_g (lw_at lw_m9 72 rfl) rfl
theorem q2141 : (Jvm.Cond.methodLink "LetterNightsLaw" (183 : Nat) ({ cls := "LetterNightsModel", name := "image", desc := "(I)I" } : Jvm.MethodName)) ∈ lw_all := lw_g (lw_at lw_m9 76 rfl) rfl
theorem q2145 : (Jvm.Cond.methodLink "LetterNightsLaw" (187 : Nat) ({ cls := "LetterNightsModel", name := "restore", desc := "(I)I" } : Jvm.MethodName)) ∈ lw_all := lw_g (lw_at lw_m9 80 rfl) rfl
theorem q2149 : (Jvm.Cond.methodLink "LetterNightsLaw" (191 : Nat) ({ cls := "LetterNightsModel", name := "told", desc := "(I)I" } : Jvm.MethodName)) ∈ lw_all := lw_g (lw_at lw_m9 84 rfl) rfl
theorem q2153 : (Jvm.Cond.constantLong "LetterNightsLaw" (42 : Nat) (4294967295 : Int64)) ∈ lw_all := lw_g (lw_at lw_m9 88 rfl) rfl
theorem q168 : (Jvm.Cond.initialized "java/lang/System") ∈ lw_all := lw_g (lw_at lw_m1 23 rfl) rfl
theorem q1003 : (Jvm.Cond.static ({ cls := "java/lang/System", name := "arraycopy", desc := "(Ljava/lang/Object;ILjava/lang/Object;II)V" } : Jvm.MethodName)) ∈ lw_all := lw_g (lw_at lw_m4 138 rfl) rfl
theorem q1004 : (Jvm.Cond.native ({ cls := "java/lang/System", name := "arraycopy", desc := "(Ljava/lang/Object;ILjava/lang/Object;II)V" } : Jvm.MethodName)) ∈ lw_all := lw_g (lw_at lw_m4 139 rfl) rfl
theorem q237 : (Jvm.Cond.arrayClass Jvm.ClassFile.FieldType.int) ∈ lw_all := lw_g (lw_at lw_m1 92 rfl) rfl
theorem q270 : (Jvm.Cond.arrayClass Jvm.ClassFile.FieldType.long) ∈ lw_all := lw_g (lw_at lw_m1 125 rfl) rfl
theorem q271 : (Jvm.Cond.arrayOver (Jvm.ClassFile.FieldType.object "LetterNights$State")) ∈ lw_tbl := lw_at lw_m1 126 rfl
theorem q273 : (Jvm.Cond.arrayOver (Jvm.ClassFile.FieldType.object "LetterNights$Part")) ∈ lw_tbl := lw_at lw_m1 128 rfl
theorem q300 : (Jvm.Cond.arrayClass Jvm.ClassFile.FieldType.byte) ∈ lw_all := lw_g (lw_at lw_m1 155 rfl) rfl
theorem q302 : (Jvm.Cond.arrayOver (Jvm.ClassFile.FieldType.object "LetterNights$Numbers")) ∈ lw_tbl := lw_at lw_m1 157 rfl
theorem q313 : (Jvm.Cond.arrayOver (Jvm.ClassFile.FieldType.object "LetterNights$Street")) ∈ lw_tbl := lw_at lw_m1 168 rfl
theorem q1396 : (Jvm.Cond.arrayClass Jvm.ClassFile.FieldType.short) ∈ lw_all := lw_g (lw_at lw_m6 51 rfl) rfl
theorem q1620 : (Jvm.Cond.arrayClass Jvm.ClassFile.FieldType.boolean) ∈ lw_all := lw_g (lw_at lw_m7 35 rfl) rfl
