set_option maxRecDepth 100000
/-! LastPebble -/
set_option maxRecDepth 100000
def RX0 : String := "LastPebble"
def TX0 : u_T := fun k => match k with
  | 0 => ("LastPebble", "trays", "[LLastPebble$Tray;", true)
  | 1 => ("LastPebble", "tape", "[B", true)
  | 2 => ("LastPebble", "taped", "I", false)
  | 3 => ("LastPebble", "faultKind", "I", false)
  | 4 => ("LastPebble", "faultAt", "I", false)
  | 5 => ("LastPebble", "bad", "LLastPebble$Bad;", true)
  | 6 => ("LastPebble", "refused", "LLastPebble$Refused;", true)
  | 7 => ("LastPebble", "status", "I", false)
  | 8 => ("LastPebble", "above", "J", false)
  | 9 => ("LastPebble", "under", "J", false)
  | 10 => ("LastPebble", "now", "LLastPebble$House;", true)
  | 11 => ("LastPebble", "marks", "[LLastPebble$House;", true)
  | 12 => ("LastPebble", "markMany", "I", false)
  | 13 => ("LastPebble", "row", "[I", true)
  | 14 => ("LastPebble", "bestRow", "[I", true)
  | 15 => ("LastPebble", "toldRow", "[I", true)
  | 16 => ("LastPebble", "bestMany", "I", false)
  | 17 => ("LastPebble", "bestWorth", "I", false)
  | 18 => ("LastPebble", "toldMany", "I", false)
  | 19 => ("LastPebble", "boys", "[I", true)
  | 20 => ("LastPebble", "aside", "LLastPebble$Day;", true)
  | 21 => ("LastPebble", "last", "[I", true)
  | _ => ("LastPebble", "hasLived", "Z", false)
def tyX0 : Nat → FieldType := fun k => match k with
  | 0 => .array (.object "LastPebble$Tray")
  | 1 => .array .byte
  | 2 => .int
  | 3 => .int
  | 4 => .int
  | 5 => .object "LastPebble$Bad"
  | 6 => .object "LastPebble$Refused"
  | 7 => .int
  | 8 => .long
  | 9 => .long
  | 10 => .object "LastPebble$House"
  | 11 => .array (.object "LastPebble$House")
  | 12 => .int
  | 13 => .array .int
  | 14 => .array .int
  | 15 => .array .int
  | 16 => .int
  | 17 => .int
  | 18 => .int
  | 19 => .array .int
  | 20 => .object "LastPebble$Day"
  | 21 => .array .int
  | _ => .boolean
abbrev wsX00 : List Cond := u_ws RX0 TX0 23
set_option maxRecDepth 100000 in
theorem nmX0 : ∀ a, a < 23 → ∀ b, b < 23 → a ≠ b → (TX0 a).2.1 ≠ (TX0 b).2.1 := by decide +kernel
set_option maxRecDepth 100000 in
theorem tyX0_ok : ∀ k, k < 23 → parseFieldDescriptor (TX0 k).2.2.1 = some (tyX0 k) := by decide +kernel
theorem q134 : (Jvm.Cond.initialized "LastPebble") ∈ lw_all := lw_g (lw_at lw_m1 1 rfl) rfl
theorem q165 : (Jvm.Cond.instantiable "LastPebble" (23 : Nat)) ∈ lw_all := lw_g (lw_at lw_m1 32 rfl) rfl
theorem q167 : (Jvm.Cond.instanceMethod ({ cls := "LastPebble", name := "<init>", desc := "()V" } : Jvm.MethodName)) ∈ lw_all := lw_g (lw_at lw_m1 34 rfl) rfl
theorem q168 : (Jvm.Cond.code ({ cls := "LastPebble", name := "<init>", desc := "()V" } : Jvm.MethodName) prog_1_method_6_code (1 : Nat) (Option.none : Option Jvm.ClassFile.FieldType)) ∈ lw_all := lw_g (lw_at lw_m1 35 rfl) rfl
theorem q169 : (Jvm.Cond.methodLink "LastPebble" (9 : Nat) ({ cls := "java/lang/Object", name := "<init>", desc := "()V" } : Jvm.MethodName)) ∈ lw_all := lw_g (lw_at lw_m1 36 rfl) rfl
theorem q172 : (Jvm.Cond.classLink "LastPebble" (15 : Nat) "LastPebble$Tray") ∈ lw_all := lw_g (lw_at lw_m1 39 rfl) rfl
theorem q175 : (Jvm.Cond.methodLinkNest "LastPebble" (17 : Nat) ({ cls := "LastPebble$Tray", name := "<init>", desc := "()V" } : Jvm.MethodName) "LastPebble") ∈ lw_tbl := lw_at lw_m1 42 rfl
theorem q179 : (Jvm.Cond.fieldLinkNest "LastPebble" (114 : Nat) "LastPebble$Tray" "row" "Ljava/lang/Object;" "LastPebble") ∈ lw_tbl := lw_at lw_m1 46 rfl
theorem q183 : (Jvm.Cond.classLink "LastPebble" (34 : Nat) "LastPebble$Bad") ∈ lw_all := lw_g (lw_at lw_m1 50 rfl) rfl
theorem q223 : (Jvm.Cond.methodLink "LastPebble" (36 : Nat) ({ cls := "LastPebble$Bad", name := "<init>", desc := "()V" } : Jvm.MethodName)) ∈ lw_all := lw_g (lw_at lw_m1 90 rfl) rfl
theorem q233 : (Jvm.Cond.fieldLinkNest "LastPebble" (200 : Nat) "LastPebble$Bad" "kind" "I" "LastPebble") ∈ lw_tbl := lw_at lw_m1 100 rfl
theorem q235 : (Jvm.Cond.fieldLinkNest "LastPebble" (203 : Nat) "LastPebble$Bad" "place" "I" "LastPebble") ∈ lw_tbl := lw_at lw_m1 102 rfl
theorem q254 : (Jvm.Cond.classLink "LastPebble" (41 : Nat) "LastPebble$Refused") ∈ lw_all := lw_g (lw_at lw_m1 121 rfl) rfl
theorem q263 : (Jvm.Cond.methodLink "LastPebble" (43 : Nat) ({ cls := "LastPebble$Refused", name := "<init>", desc := "()V" } : Jvm.MethodName)) ∈ lw_all := lw_g (lw_at lw_m1 130 rfl) rfl
theorem q268 : (Jvm.Cond.fieldLinkNest "LastPebble" (95 : Nat) "LastPebble$Refused" "why" "I" "LastPebble") ∈ lw_tbl := lw_at lw_m1 135 rfl
theorem q273 : (Jvm.Cond.classLink "LastPebble" (52 : Nat) "LastPebble$House") ∈ lw_all := lw_g (lw_at lw_m1 140 rfl) rfl
theorem q275 : (Jvm.Cond.methodLinkNest "LastPebble" (54 : Nat) ({ cls := "LastPebble$House", name := "<init>", desc := "()V" } : Jvm.MethodName) "LastPebble") ∈ lw_tbl := lw_at lw_m1 142 rfl
theorem q293 : (Jvm.Cond.fieldLinkNest "LastPebble" (242 : Nat) "LastPebble$Beach" "cells" "I" "LastPebble") ∈ lw_tbl := lw_at lw_m1 160 rfl
theorem q299 : (Jvm.Cond.fieldLinkNest "LastPebble" (248 : Nat) "LastPebble$Beach" "moon" "I" "LastPebble") ∈ lw_tbl := lw_at lw_m1 166 rfl
theorem q303 : (Jvm.Cond.fieldLinkNest "LastPebble" (168 : Nat) "LastPebble$Beach" "finders" "I" "LastPebble") ∈ lw_tbl := lw_at lw_m1 170 rfl
theorem q308 : (Jvm.Cond.fieldLinkNest "LastPebble" (177 : Nat) "LastPebble$Beach" "finds" "I" "LastPebble") ∈ lw_tbl := lw_at lw_m1 175 rfl
theorem q312 : (Jvm.Cond.fieldLinkNest "LastPebble" (251 : Nat) "LastPebble$Beach" "duel" "I" "LastPebble") ∈ lw_tbl := lw_at lw_m1 179 rfl
theorem q325 : (Jvm.Cond.fieldLinkNest "LastPebble" (268 : Nat) "LastPebble$Beach" "pace" "[I" "LastPebble") ∈ lw_tbl := lw_at lw_m1 192 rfl
theorem q332 : (Jvm.Cond.fieldLinkNest "LastPebble" (282 : Nat) "LastPebble$Beach" "findAt" "[I" "LastPebble") ∈ lw_tbl := lw_at lw_m1 199 rfl
theorem q336 : (Jvm.Cond.fieldLinkNest "LastPebble" (285 : Nat) "LastPebble$Beach" "worth" "[I" "LastPebble") ∈ lw_tbl := lw_at lw_m1 203 rfl
theorem q392 : (Jvm.Cond.fieldLinkNest "LastPebble" (297 : Nat) "LastPebble$Heap" "whose" "[I" "LastPebble") ∈ lw_tbl := lw_at lw_m2 19 rfl
theorem q395 : (Jvm.Cond.fieldLinkNest "LastPebble" (300 : Nat) "LastPebble$Heap" "minutes" "[I" "LastPebble") ∈ lw_tbl := lw_at lw_m2 22 rfl
theorem q399 : (Jvm.Cond.fieldLinkNest "LastPebble" (292 : Nat) "LastPebble$Heap" "size" "I" "LastPebble") ∈ lw_tbl := lw_at lw_m2 26 rfl
theorem q409 : (Jvm.Cond.fieldLinkNest "LastPebble" (161 : Nat) "LastPebble$Day" "beach" "LLastPebble$Beach;" "LastPebble") ∈ lw_tbl := lw_at lw_m2 36 rfl
theorem q411 : (Jvm.Cond.fieldLinkNest "LastPebble" (265 : Nat) "LastPebble$Day" "at" "[I" "LastPebble") ∈ lw_tbl := lw_at lw_m2 38 rfl
theorem q414 : (Jvm.Cond.fieldLinkNest "LastPebble" (271 : Nat) "LastPebble$Day" "pouch" "[I" "LastPebble") ∈ lw_tbl := lw_at lw_m2 41 rfl
theorem q416 : (Jvm.Cond.fieldLinkNest "LastPebble" (274 : Nat) "LastPebble$Day" "clock" "[I" "LastPebble") ∈ lw_tbl := lw_at lw_m2 43 rfl
theorem q418 : (Jvm.Cond.fieldLinkNest "LastPebble" (277 : Nat) "LastPebble$Day" "kept" "[I" "LastPebble") ∈ lw_tbl := lw_at lw_m2 45 rfl
theorem q422 : (Jvm.Cond.fieldLinkNest "LastPebble" (288 : Nat) "LastPebble$Day" "heaps" "[LLastPebble$Heap;" "LastPebble") ∈ lw_tbl := lw_at lw_m2 49 rfl
theorem q425 : (Jvm.Cond.fieldLinkNest "LastPebble" (256 : Nat) "LastPebble$Day" "there" "I" "LastPebble") ∈ lw_tbl := lw_at lw_m2 52 rfl
theorem q428 : (Jvm.Cond.fieldLinkNest "LastPebble" (254 : Nat) "LastPebble$Day" "day" "I" "LastPebble") ∈ lw_tbl := lw_at lw_m2 55 rfl
theorem q430 : (Jvm.Cond.fieldLinkNest "LastPebble" (245 : Nat) "LastPebble$Day" "tide" "I" "LastPebble") ∈ lw_tbl := lw_at lw_m2 57 rfl
theorem q451 : (Jvm.Cond.fieldLinkNest "LastPebble" (158 : Nat) "LastPebble$House" "day" "LLastPebble$Day;" "LastPebble") ∈ lw_tbl := lw_at lw_m2 78 rfl
theorem q453 : (Jvm.Cond.fieldLinkNest "LastPebble" (222 : Nat) "LastPebble$House" "days" "LLastPebble$Loop;" "LastPebble") ∈ lw_tbl := lw_at lw_m2 80 rfl
theorem q460 : (Jvm.Cond.classLink "LastPebble" (75 : Nat) "LastPebble$Day") ∈ lw_all := lw_g (lw_at lw_m2 87 rfl) rfl
theorem q461 : (Jvm.Cond.methodLink "LastPebble" (77 : Nat) ({ cls := "LastPebble$Day", name := "<init>", desc := "()V" } : Jvm.MethodName)) ∈ lw_all := lw_g (lw_at lw_m2 88 rfl) rfl
theorem q462 : (Jvm.Cond.fieldLink "LastPebble" (18 : Nat) "LastPebble" "trays" "[LLastPebble$Tray;") ∈ lw_all := lw_g (lw_at lw_m2 89 rfl) rfl
theorem q464 : (Jvm.Cond.fieldLink "LastPebble" (24 : Nat) "LastPebble" "tape" "[B") ∈ lw_all := lw_g (lw_at lw_m2 91 rfl) rfl
theorem q465 : (Jvm.Cond.fieldLink "LastPebble" (193 : Nat) "LastPebble" "taped" "I") ∈ lw_all := lw_g (lw_at lw_m2 92 rfl) rfl
theorem q466 : (Jvm.Cond.fieldLink "LastPebble" (27 : Nat) "LastPebble" "faultKind" "I") ∈ lw_all := lw_g (lw_at lw_m2 93 rfl) rfl
theorem q467 : (Jvm.Cond.fieldLink "LastPebble" (31 : Nat) "LastPebble" "faultAt" "I") ∈ lw_all := lw_g (lw_at lw_m2 94 rfl) rfl
theorem q468 : (Jvm.Cond.fieldLink "LastPebble" (37 : Nat) "LastPebble" "bad" "LLastPebble$Bad;") ∈ lw_all := lw_g (lw_at lw_m2 95 rfl) rfl
theorem q470 : (Jvm.Cond.fieldLink "LastPebble" (44 : Nat) "LastPebble" "refused" "LLastPebble$Refused;") ∈ lw_all := lw_g (lw_at lw_m2 97 rfl) rfl
theorem q471 : (Jvm.Cond.fieldLink "LastPebble" (85 : Nat) "LastPebble" "status" "I") ∈ lw_all := lw_g (lw_at lw_m2 98 rfl) rfl
theorem q472 : (Jvm.Cond.fieldLink "LastPebble" (88 : Nat) "LastPebble" "above" "J") ∈ lw_all := lw_g (lw_at lw_m2 99 rfl) rfl
theorem q473 : (Jvm.Cond.fieldLink "LastPebble" (48 : Nat) "LastPebble" "under" "J") ∈ lw_all := lw_g (lw_at lw_m2 100 rfl) rfl
theorem q474 : (Jvm.Cond.fieldLink "LastPebble" (55 : Nat) "LastPebble" "now" "LLastPebble$House;") ∈ lw_all := lw_g (lw_at lw_m2 101 rfl) rfl
theorem q475 : (Jvm.Cond.fieldLink "LastPebble" (59 : Nat) "LastPebble" "marks" "[LLastPebble$House;") ∈ lw_all := lw_g (lw_at lw_m2 102 rfl) rfl
theorem q476 : (Jvm.Cond.fieldLink "LastPebble" (469 : Nat) "LastPebble" "markMany" "I") ∈ lw_all := lw_g (lw_at lw_m2 103 rfl) rfl
theorem q477 : (Jvm.Cond.fieldLink "LastPebble" (63 : Nat) "LastPebble" "row" "[I") ∈ lw_all := lw_g (lw_at lw_m2 104 rfl) rfl
theorem q478 : (Jvm.Cond.fieldLink "LastPebble" (66 : Nat) "LastPebble" "bestRow" "[I") ∈ lw_all := lw_g (lw_at lw_m2 105 rfl) rfl
theorem q479 : (Jvm.Cond.fieldLink "LastPebble" (69 : Nat) "LastPebble" "toldRow" "[I") ∈ lw_all := lw_g (lw_at lw_m2 106 rfl) rfl
theorem q480 : (Jvm.Cond.fieldLink "LastPebble" (379 : Nat) "LastPebble" "bestMany" "I") ∈ lw_all := lw_g (lw_at lw_m2 107 rfl) rfl
theorem q481 : (Jvm.Cond.fieldLink "LastPebble" (376 : Nat) "LastPebble" "bestWorth" "I") ∈ lw_all := lw_g (lw_at lw_m2 108 rfl) rfl
theorem q482 : (Jvm.Cond.fieldLink "LastPebble" (391 : Nat) "LastPebble" "toldMany" "I") ∈ lw_all := lw_g (lw_at lw_m2 109 rfl) rfl
theorem q483 : (Jvm.Cond.fieldLink "LastPebble" (72 : Nat) "LastPebble" "boys" "[I") ∈ lw_all := lw_g (lw_at lw_m2 110 rfl) rfl
theorem q484 : (Jvm.Cond.fieldLink "LastPebble" (78 : Nat) "LastPebble" "aside" "LLastPebble$Day;") ∈ lw_all := lw_g (lw_at lw_m2 111 rfl) rfl
theorem q485 : (Jvm.Cond.fieldLink "LastPebble" (82 : Nat) "LastPebble" "last" "[I") ∈ lw_all := lw_g (lw_at lw_m2 112 rfl) rfl
theorem q486 : (Jvm.Cond.fieldLink "LastPebble" (461 : Nat) "LastPebble" "hasLived" "Z") ∈ lw_all := lw_g (lw_at lw_m2 113 rfl) rfl
theorem q487 : (Jvm.Cond.laysFinal "LastPebble" "LastPebble" "trays" "[LLastPebble$Tray;") ∈ lw_all := lw_g (lw_at lw_m2 114 rfl) rfl
theorem q488 : (Jvm.Cond.soleField "LastPebble" "trays") ∈ lw_all := lw_g (lw_at lw_m2 115 rfl) rfl
theorem q489 : (Jvm.Cond.laysFinal "LastPebble" "LastPebble" "tape" "[B") ∈ lw_all := lw_g (lw_at lw_m2 116 rfl) rfl
theorem q490 : (Jvm.Cond.soleField "LastPebble" "tape") ∈ lw_all := lw_g (lw_at lw_m2 117 rfl) rfl
theorem q491 : (Jvm.Cond.lays "LastPebble" "LastPebble" "taped" "I") ∈ lw_all := lw_g (lw_at lw_m2 118 rfl) rfl
theorem q492 : (Jvm.Cond.soleField "LastPebble" "taped") ∈ lw_all := lw_g (lw_at lw_m2 119 rfl) rfl
theorem q493 : (Jvm.Cond.lays "LastPebble" "LastPebble" "faultKind" "I") ∈ lw_all := lw_g (lw_at lw_m2 120 rfl) rfl
theorem q494 : (Jvm.Cond.soleField "LastPebble" "faultKind") ∈ lw_all := lw_g (lw_at lw_m2 121 rfl) rfl
theorem q495 : (Jvm.Cond.lays "LastPebble" "LastPebble" "faultAt" "I") ∈ lw_all := lw_g (lw_at lw_m2 122 rfl) rfl
theorem q496 : (Jvm.Cond.soleField "LastPebble" "faultAt") ∈ lw_all := lw_g (lw_at lw_m2 123 rfl) rfl
theorem q497 : (Jvm.Cond.laysFinal "LastPebble" "LastPebble" "bad" "LLastPebble$Bad;") ∈ lw_all := lw_g (lw_at lw_m2 124 rfl) rfl
theorem q498 : (Jvm.Cond.soleField "LastPebble" "bad") ∈ lw_all := lw_g (lw_at lw_m2 125 rfl) rfl
theorem q499 : (Jvm.Cond.laysFinal "LastPebble" "LastPebble" "refused" "LLastPebble$Refused;") ∈ lw_all := lw_g (lw_at lw_m2 126 rfl) rfl
theorem q500 : (Jvm.Cond.soleField "LastPebble" "refused") ∈ lw_all := lw_g (lw_at lw_m2 127 rfl) rfl
theorem q501 : (Jvm.Cond.lays "LastPebble" "LastPebble" "status" "I") ∈ lw_all := lw_g (lw_at lw_m2 128 rfl) rfl
theorem q502 : (Jvm.Cond.soleField "LastPebble" "status") ∈ lw_all := lw_g (lw_at lw_m2 129 rfl) rfl
theorem q503 : (Jvm.Cond.lays "LastPebble" "LastPebble" "above" "J") ∈ lw_all := lw_g (lw_at lw_m2 130 rfl) rfl
theorem q504 : (Jvm.Cond.soleField "LastPebble" "above") ∈ lw_all := lw_g (lw_at lw_m2 131 rfl) rfl
theorem q505 : (Jvm.Cond.lays "LastPebble" "LastPebble" "under" "J") ∈ lw_all := lw_g (lw_at lw_m2 132 rfl) rfl
theorem q506 : (Jvm.Cond.soleField "LastPebble" "under") ∈ lw_all := lw_g (lw_at lw_m2 133 rfl) rfl
theorem q507 : (Jvm.Cond.laysFinal "LastPebble" "LastPebble" "now" "LLastPebble$House;") ∈ lw_all := lw_g (lw_at lw_m2 134 rfl) rfl
theorem q508 : (Jvm.Cond.soleField "LastPebble" "now") ∈ lw_all := lw_g (lw_at lw_m2 135 rfl) rfl
theorem q509 : (Jvm.Cond.laysFinal "LastPebble" "LastPebble" "marks" "[LLastPebble$House;") ∈ lw_all := lw_g (lw_at lw_m2 136 rfl) rfl
theorem q510 : (Jvm.Cond.soleField "LastPebble" "marks") ∈ lw_all := lw_g (lw_at lw_m2 137 rfl) rfl
theorem q511 : (Jvm.Cond.lays "LastPebble" "LastPebble" "markMany" "I") ∈ lw_all := lw_g (lw_at lw_m2 138 rfl) rfl
theorem q512 : (Jvm.Cond.soleField "LastPebble" "markMany") ∈ lw_all := lw_g (lw_at lw_m2 139 rfl) rfl
theorem q513 : (Jvm.Cond.laysFinal "LastPebble" "LastPebble" "row" "[I") ∈ lw_all := lw_g (lw_at lw_m2 140 rfl) rfl
theorem q514 : (Jvm.Cond.soleField "LastPebble" "row") ∈ lw_all := lw_g (lw_at lw_m2 141 rfl) rfl
theorem q515 : (Jvm.Cond.laysFinal "LastPebble" "LastPebble" "bestRow" "[I") ∈ lw_all := lw_g (lw_at lw_m2 142 rfl) rfl
theorem q516 : (Jvm.Cond.soleField "LastPebble" "bestRow") ∈ lw_all := lw_g (lw_at lw_m2 143 rfl) rfl
theorem q517 : (Jvm.Cond.laysFinal "LastPebble" "LastPebble" "toldRow" "[I") ∈ lw_all := lw_g (lw_at lw_m2 144 rfl) rfl
theorem q518 : (Jvm.Cond.soleField "LastPebble" "toldRow") ∈ lw_all := lw_g (lw_at lw_m2 145 rfl) rfl
theorem q519 : (Jvm.Cond.lays "LastPebble" "LastPebble" "bestMany" "I") ∈ lw_all := lw_g (lw_at lw_m2 146 rfl) rfl
theorem q520 : (Jvm.Cond.soleField "LastPebble" "bestMany") ∈ lw_all := lw_g (lw_at lw_m2 147 rfl) rfl
theorem q521 : (Jvm.Cond.lays "LastPebble" "LastPebble" "bestWorth" "I") ∈ lw_all := lw_g (lw_at lw_m2 148 rfl) rfl
theorem q522 : (Jvm.Cond.soleField "LastPebble" "bestWorth") ∈ lw_all := lw_g (lw_at lw_m2 149 rfl) rfl
theorem q523 : (Jvm.Cond.lays "LastPebble" "LastPebble" "toldMany" "I") ∈ lw_all := lw_g (lw_at lw_m2 150 rfl) rfl
theorem q524 : (Jvm.Cond.soleField "LastPebble" "toldMany") ∈ lw_all := lw_g (lw_at lw_m2 151 rfl) rfl
theorem q525 : (Jvm.Cond.laysFinal "LastPebble" "LastPebble" "boys" "[I") ∈ lw_all := lw_g (lw_at lw_m2 152 rfl) rfl
theorem q526 : (Jvm.Cond.soleField "LastPebble" "boys") ∈ lw_all := lw_g (lw_at lw_m2 153 rfl) rfl
theorem q527 : (Jvm.Cond.laysFinal "LastPebble" "LastPebble" "aside" "LLastPebble$Day;") ∈ lw_all := lw_g (lw_at lw_m2 154 rfl) rfl
theorem q528 : (Jvm.Cond.soleField "LastPebble" "aside") ∈ lw_all := lw_g (lw_at lw_m2 155 rfl) rfl
theorem q529 : (Jvm.Cond.laysFinal "LastPebble" "LastPebble" "last" "[I") ∈ lw_all := lw_g (lw_at lw_m2 156 rfl) rfl
theorem q530 : (Jvm.Cond.soleField "LastPebble" "last") ∈ lw_all := lw_g (lw_at lw_m2 157 rfl) rfl
theorem q531 : (Jvm.Cond.lays "LastPebble" "LastPebble" "hasLived" "Z") ∈ lw_all := lw_g (lw_at lw_m2 158 rfl) rfl
theorem q532 : (Jvm.Cond.soleField "LastPebble" "hasLived") ∈ lw_all := lw_g (lw_at lw_m2 159 rfl) rfl
theorem q533 : (Jvm.Cond.superclass "LastPebble" "java/lang/Object") ∈ lw_all := lw_g (lw_at lw_m2 160 rfl) rfl
theorem q535 : (Jvm.Cond.instanceMethod ({ cls := "LastPebble", name := "status", desc := "()I" } : Jvm.MethodName)) ∈ lw_all := lw_g (lw_at lw_m2 162 rfl) rfl
theorem q536 : (Jvm.Cond.selects "LastPebble" ({ cls := "LastPebble", name := "status", desc := "()I" } : Jvm.MethodName) ({ cls := "LastPebble", name := "status", desc := "()I" } : Jvm.MethodName)) ∈ lw_all := lw_g (lw_at lw_m2 163 rfl) rfl
theorem q537 : (Jvm.Cond.code ({ cls := "LastPebble", name := "status", desc := "()I" } : Jvm.MethodName) prog_1_method_7_code (1 : Nat) (Option.some Jvm.ClassFile.FieldType.int)) ∈ lw_all := lw_g (lw_at lw_m2 164 rfl) rfl
theorem q539 : (Jvm.Cond.instanceMethod ({ cls := "LastPebble", name := "top", desc := "()J" } : Jvm.MethodName)) ∈ lw_all := lw_g (lw_at lw_m2 166 rfl) rfl
theorem q540 : (Jvm.Cond.selects "LastPebble" ({ cls := "LastPebble", name := "top", desc := "()J" } : Jvm.MethodName) ({ cls := "LastPebble", name := "top", desc := "()J" } : Jvm.MethodName)) ∈ lw_all := lw_g (lw_at lw_m2 167 rfl) rfl
theorem q541 : (Jvm.Cond.code ({ cls := "LastPebble", name := "top", desc := "()J" } : Jvm.MethodName) prog_1_method_8_code (1 : Nat) (Option.some Jvm.ClassFile.FieldType.long)) ∈ lw_all := lw_g (lw_at lw_m2 168 rfl) rfl
theorem q543 : (Jvm.Cond.instanceMethod ({ cls := "LastPebble", name := "bottom", desc := "()J" } : Jvm.MethodName)) ∈ lw_all := lw_g (lw_at lw_m2 170 rfl) rfl
theorem q544 : (Jvm.Cond.selects "LastPebble" ({ cls := "LastPebble", name := "bottom", desc := "()J" } : Jvm.MethodName) ({ cls := "LastPebble", name := "bottom", desc := "()J" } : Jvm.MethodName)) ∈ lw_all := lw_g (lw_at lw_m2 171 rfl) rfl
theorem q545 : (Jvm.Cond.code ({ cls := "LastPebble", name := "bottom", desc := "()J" } : Jvm.MethodName) prog_1_method_9_code (1 : Nat) (Option.some Jvm.ClassFile.FieldType.long)) ∈ lw_all := lw_g (lw_at lw_m2 172 rfl) rfl
theorem q547 : (Jvm.Cond.instanceMethod ({ cls := "LastPebble", name := "tray", desc := "(III)Z" } : Jvm.MethodName)) ∈ lw_all := lw_g (lw_at lw_m2 174 rfl) rfl
theorem q548 : (Jvm.Cond.selects "LastPebble" ({ cls := "LastPebble", name := "tray", desc := "(III)Z" } : Jvm.MethodName) ({ cls := "LastPebble", name := "tray", desc := "(III)Z" } : Jvm.MethodName)) ∈ lw_all := lw_g (lw_at lw_m2 175 rfl) rfl
theorem q549 : (Jvm.Cond.codeWith ({ cls := "LastPebble", name := "tray", desc := "(III)Z" } : Jvm.MethodName) prog_1_method_15_code (5 : Nat) (Option.some Jvm.ClassFile.FieldType.boolean) [((5 : Nat), (54 : Nat), (55 : Nat), (120 : Nat)), ((5 : Nat), (54 : Nat), (64 : Nat), (41 : Nat))]) ∈ lw_all := lw_g (lw_at lw_m2 176 rfl) rfl
theorem q550 : (Jvm.Cond.classLink "LastPebble" (120 : Nat) "java/lang/NegativeArraySizeException") ∈ lw_all := lw_g (lw_at lw_m2 177 rfl) rfl
theorem q579 : (Jvm.Cond.methodLink "LastPebble" (110 : Nat) ({ cls := "LastPebble", name := "want", desc := "(ZI)V" } : Jvm.MethodName)) ∈ lw_all := lw_g (lw_at lw_m2 206 rfl) rfl
theorem q580 : (Jvm.Cond.privateMethod ({ cls := "LastPebble", name := "want", desc := "(ZI)V" } : Jvm.MethodName)) ∈ lw_tbl := lw_at lw_m2 207 rfl
theorem q581 : (Jvm.Cond.instanceMethod ({ cls := "LastPebble", name := "want", desc := "(ZI)V" } : Jvm.MethodName)) ∈ lw_all := lw_g (lw_at lw_m2 208 rfl) rfl
theorem q582 : (Jvm.Cond.code ({ cls := "LastPebble", name := "want", desc := "(ZI)V" } : Jvm.MethodName) prog_1_method_10_code (3 : Nat) (Option.none : Option Jvm.ClassFile.FieldType)) ∈ lw_all := lw_g (lw_at lw_m2 209 rfl) rfl
theorem q583 : (Jvm.Cond.methodLink "LastPebble" (91 : Nat) ({ cls := "LastPebble$Refused", name := "by", desc := "(I)LLastPebble$Refused;" } : Jvm.MethodName)) ∈ lw_all := lw_g (lw_at lw_m2 210 rfl) rfl
theorem q587 : (Jvm.Cond.methodLink "LastPebble" (117 : Nat) ({ cls := "LastPebble", name := "row", desc := "(II)Ljava/lang/Object;" } : Jvm.MethodName)) ∈ lw_all := lw_g (lw_at lw_m2 214 rfl) rfl
theorem q588 : (Jvm.Cond.static ({ cls := "LastPebble", name := "row", desc := "(II)Ljava/lang/Object;" } : Jvm.MethodName)) ∈ lw_all := lw_g (lw_at lw_m2 215 rfl) rfl
theorem q589 : (Jvm.Cond.code ({ cls := "LastPebble", name := "row", desc := "(II)Ljava/lang/Object;" } : Jvm.MethodName) prog_1_method_1_code (2 : Nat) (Option.some (Jvm.ClassFile.FieldType.object "java/lang/Object"))) ∈ lw_all := lw_g (lw_at lw_m2 216 rfl) rfl
theorem q590 : (Jvm.Cond.methodLink "LastPebble" (122 : Nat) ({ cls := "LastPebble", name := "no", desc := "(LLastPebble$Refused;)Z" } : Jvm.MethodName)) ∈ lw_all := lw_g (lw_at lw_m2 217 rfl) rfl
theorem q591 : (Jvm.Cond.privateMethod ({ cls := "LastPebble", name := "no", desc := "(LLastPebble$Refused;)Z" } : Jvm.MethodName)) ∈ lw_tbl := lw_at lw_m2 218 rfl
theorem q592 : (Jvm.Cond.instanceMethod ({ cls := "LastPebble", name := "no", desc := "(LLastPebble$Refused;)Z" } : Jvm.MethodName)) ∈ lw_all := lw_g (lw_at lw_m2 219 rfl) rfl
theorem q593 : (Jvm.Cond.code ({ cls := "LastPebble", name := "no", desc := "(LLastPebble$Refused;)Z" } : Jvm.MethodName) prog_1_method_12_code (2 : Nat) (Option.some Jvm.ClassFile.FieldType.boolean)) ∈ lw_all := lw_g (lw_at lw_m2 220 rfl) rfl
theorem q596 : (Jvm.Cond.instanceMethod ({ cls := "LastPebble", name := "write", desc := "(IIJ)Z" } : Jvm.MethodName)) ∈ lw_all := lw_g (lw_at lw_m2 223 rfl) rfl
theorem q597 : (Jvm.Cond.selects "LastPebble" ({ cls := "LastPebble", name := "write", desc := "(IIJ)Z" } : Jvm.MethodName) ({ cls := "LastPebble", name := "write", desc := "(IIJ)Z" } : Jvm.MethodName)) ∈ lw_all := lw_g (lw_at lw_m2 224 rfl) rfl
theorem q598 : (Jvm.Cond.codeWith ({ cls := "LastPebble", name := "write", desc := "(IIJ)Z" } : Jvm.MethodName) prog_1_method_16_code (6 : Nat) (Option.some Jvm.ClassFile.FieldType.boolean) [((5 : Nat), (16 : Nat), (17 : Nat), (134 : Nat)), ((5 : Nat), (16 : Nat), (26 : Nat), (41 : Nat))]) ∈ lw_all := lw_g (lw_at lw_m2 225 rfl) rfl
theorem q599 : (Jvm.Cond.classLink "LastPebble" (134 : Nat) "java/lang/ArrayIndexOutOfBoundsException") ∈ lw_all := lw_g (lw_at lw_m2 226 rfl) rfl
theorem q618 : (Jvm.Cond.methodLink "LastPebble" (126 : Nat) ({ cls := "LastPebble", name := "on", desc := "(I)Ljava/lang/Object;" } : Jvm.MethodName)) ∈ lw_all := lw_g (lw_at lw_m3 5 rfl) rfl
theorem q619 : (Jvm.Cond.privateMethod ({ cls := "LastPebble", name := "on", desc := "(I)Ljava/lang/Object;" } : Jvm.MethodName)) ∈ lw_tbl := lw_at lw_m3 6 rfl
theorem q620 : (Jvm.Cond.instanceMethod ({ cls := "LastPebble", name := "on", desc := "(I)Ljava/lang/Object;" } : Jvm.MethodName)) ∈ lw_all := lw_g (lw_at lw_m3 7 rfl) rfl
theorem q621 : (Jvm.Cond.code ({ cls := "LastPebble", name := "on", desc := "(I)Ljava/lang/Object;" } : Jvm.MethodName) prog_1_method_14_code (2 : Nat) (Option.some (Jvm.ClassFile.FieldType.object "java/lang/Object"))) ∈ lw_all := lw_g (lw_at lw_m3 8 rfl) rfl
theorem q622 : (Jvm.Cond.methodLink "LastPebble" (130 : Nat) ({ cls := "LastPebble", name := "put", desc := "(Ljava/lang/Object;IJ)V" } : Jvm.MethodName)) ∈ lw_all := lw_g (lw_at lw_m3 9 rfl) rfl
theorem q623 : (Jvm.Cond.static ({ cls := "LastPebble", name := "put", desc := "(Ljava/lang/Object;IJ)V" } : Jvm.MethodName)) ∈ lw_all := lw_g (lw_at lw_m3 10 rfl) rfl
theorem q624 : (Jvm.Cond.code ({ cls := "LastPebble", name := "put", desc := "(Ljava/lang/Object;IJ)V" } : Jvm.MethodName) prog_1_method_5_code (7 : Nat) (Option.none : Option Jvm.ClassFile.FieldType)) ∈ lw_all := lw_g (lw_at lw_m3 11 rfl) rfl
theorem q625 : (Jvm.Cond.classLink "LastPebble" (1 : Nat) "[B") ∈ lw_all := lw_g (lw_at lw_m3 12 rfl) rfl
theorem q626 : (Jvm.Cond.classLink "LastPebble" (3 : Nat) "[S") ∈ lw_all := lw_g (lw_at lw_m3 13 rfl) rfl
theorem q627 : (Jvm.Cond.classLink "LastPebble" (5 : Nat) "[I") ∈ lw_all := lw_g (lw_at lw_m3 14 rfl) rfl
theorem q628 : (Jvm.Cond.classLink "LastPebble" (7 : Nat) "[J") ∈ lw_all := lw_g (lw_at lw_m3 15 rfl) rfl
theorem q630 : (Jvm.Cond.instanceMethod ({ cls := "LastPebble", name := "read", desc := "(II)J" } : Jvm.MethodName)) ∈ lw_all := lw_g (lw_at lw_m3 17 rfl) rfl
theorem q631 : (Jvm.Cond.selects "LastPebble" ({ cls := "LastPebble", name := "read", desc := "(II)J" } : Jvm.MethodName) ({ cls := "LastPebble", name := "read", desc := "(II)J" } : Jvm.MethodName)) ∈ lw_all := lw_g (lw_at lw_m3 18 rfl) rfl
theorem q632 : (Jvm.Cond.codeWith ({ cls := "LastPebble", name := "read", desc := "(II)J" } : Jvm.MethodName) prog_1_method_17_code (4 : Nat) (Option.some Jvm.ClassFile.FieldType.long) [((5 : Nat), (14 : Nat), (15 : Nat), (134 : Nat)), ((5 : Nat), (14 : Nat), (25 : Nat), (41 : Nat))]) ∈ lw_all := lw_g (lw_at lw_m3 19 rfl) rfl
theorem q633 : (Jvm.Cond.methodLink "LastPebble" (136 : Nat) ({ cls := "LastPebble", name := "number", desc := "(Ljava/lang/Object;I)J" } : Jvm.MethodName)) ∈ lw_all := lw_g (lw_at lw_m3 20 rfl) rfl
theorem q634 : (Jvm.Cond.static ({ cls := "LastPebble", name := "number", desc := "(Ljava/lang/Object;I)J" } : Jvm.MethodName)) ∈ lw_all := lw_g (lw_at lw_m3 21 rfl) rfl
theorem q635 : (Jvm.Cond.code ({ cls := "LastPebble", name := "number", desc := "(Ljava/lang/Object;I)J" } : Jvm.MethodName) prog_1_method_4_code (3 : Nat) (Option.some Jvm.ClassFile.FieldType.long)) ∈ lw_all := lw_g (lw_at lw_m3 22 rfl) rfl
theorem q636 : (Jvm.Cond.constantLong "LastPebble" (140 : Nat) (-1 : Int64)) ∈ lw_all := lw_g (lw_at lw_m3 23 rfl) rfl
theorem q637 : (Jvm.Cond.methodLink "LastPebble" (142 : Nat) ({ cls := "LastPebble", name := "none", desc := "(LLastPebble$Refused;)I" } : Jvm.MethodName)) ∈ lw_all := lw_g (lw_at lw_m3 24 rfl) rfl
theorem q638 : (Jvm.Cond.privateMethod ({ cls := "LastPebble", name := "none", desc := "(LLastPebble$Refused;)I" } : Jvm.MethodName)) ∈ lw_tbl := lw_at lw_m3 25 rfl
theorem q639 : (Jvm.Cond.instanceMethod ({ cls := "LastPebble", name := "none", desc := "(LLastPebble$Refused;)I" } : Jvm.MethodName)) ∈ lw_all := lw_g (lw_at lw_m3 26 rfl) rfl
theorem q640 : (Jvm.Cond.code ({ cls := "LastPebble", name := "none", desc := "(LLastPebble$Refused;)I" } : Jvm.MethodName) prog_1_method_11_code (2 : Nat) (Option.some Jvm.ClassFile.FieldType.int)) ∈ lw_all := lw_g (lw_at lw_m3 27 rfl) rfl
theorem q642 : (Jvm.Cond.instanceMethod ({ cls := "LastPebble", name := "pour", desc := "(IIIII)Z" } : Jvm.MethodName)) ∈ lw_all := lw_g (lw_at lw_m3 29 rfl) rfl
theorem q643 : (Jvm.Cond.selects "LastPebble" ({ cls := "LastPebble", name := "pour", desc := "(IIIII)Z" } : Jvm.MethodName) ({ cls := "LastPebble", name := "pour", desc := "(IIIII)Z" } : Jvm.MethodName)) ∈ lw_all := lw_g (lw_at lw_m3 30 rfl) rfl
theorem q644 : (Jvm.Cond.codeWith ({ cls := "LastPebble", name := "pour", desc := "(IIIII)Z" } : Jvm.MethodName) prog_1_method_18_code (9 : Nat) (Option.some Jvm.ClassFile.FieldType.boolean) [((85 : Nat), (97 : Nat), (100 : Nat), (156 : Nat)), ((5 : Nat), (112 : Nat), (113 : Nat), (41 : Nat))]) ∈ lw_all := lw_g (lw_at lw_m3 31 rfl) rfl
theorem q645 : (Jvm.Cond.classLink "LastPebble" (156 : Nat) "java/lang/IndexOutOfBoundsException") ∈ lw_all := lw_g (lw_at lw_m3 32 rfl) rfl
theorem q646 : (Jvm.Cond.methodLink "LastPebble" (146 : Nat) ({ cls := "LastPebble", name := "sortOf", desc := "(Ljava/lang/Object;)I" } : Jvm.MethodName)) ∈ lw_all := lw_g (lw_at lw_m3 33 rfl) rfl
theorem q647 : (Jvm.Cond.static ({ cls := "LastPebble", name := "sortOf", desc := "(Ljava/lang/Object;)I" } : Jvm.MethodName)) ∈ lw_all := lw_g (lw_at lw_m3 34 rfl) rfl
theorem q648 : (Jvm.Cond.code ({ cls := "LastPebble", name := "sortOf", desc := "(Ljava/lang/Object;)I" } : Jvm.MethodName) prog_1_method_2_code (1 : Nat) (Option.some Jvm.ClassFile.FieldType.int)) ∈ lw_all := lw_g (lw_at lw_m3 35 rfl) rfl
theorem q649 : (Jvm.Cond.methodLink "LastPebble" (150 : Nat) ({ cls := "java/lang/System", name := "arraycopy", desc := "(Ljava/lang/Object;ILjava/lang/Object;II)V" } : Jvm.MethodName)) ∈ lw_all := lw_g (lw_at lw_m3 36 rfl) rfl
theorem q653 : (Jvm.Cond.instanceMethod ({ cls := "LastPebble", name := "feed", desc := "(IIIII)I" } : Jvm.MethodName)) ∈ lw_all := lw_g (lw_at lw_m3 40 rfl) rfl
theorem q654 : (Jvm.Cond.selects "LastPebble" ({ cls := "LastPebble", name := "feed", desc := "(IIIII)I" } : Jvm.MethodName) ({ cls := "LastPebble", name := "feed", desc := "(IIIII)I" } : Jvm.MethodName)) ∈ lw_all := lw_g (lw_at lw_m3 41 rfl) rfl
theorem q655 : (Jvm.Cond.code ({ cls := "LastPebble", name := "feed", desc := "(IIIII)I" } : Jvm.MethodName) prog_1_method_27_code (6 : Nat) (Option.some Jvm.ClassFile.FieldType.int)) ∈ lw_all := lw_g (lw_at lw_m3 42 rfl) rfl
theorem q656 : (Jvm.Cond.methodLink "LastPebble" (196 : Nat) ({ cls := "LastPebble", name := "lay", desc := "(I)V" } : Jvm.MethodName)) ∈ lw_all := lw_g (lw_at lw_m3 43 rfl) rfl
theorem q657 : (Jvm.Cond.privateMethod ({ cls := "LastPebble", name := "lay", desc := "(I)V" } : Jvm.MethodName)) ∈ lw_tbl := lw_at lw_m3 44 rfl
theorem q658 : (Jvm.Cond.instanceMethod ({ cls := "LastPebble", name := "lay", desc := "(I)V" } : Jvm.MethodName)) ∈ lw_all := lw_g (lw_at lw_m3 45 rfl) rfl
theorem q659 : (Jvm.Cond.code ({ cls := "LastPebble", name := "lay", desc := "(I)V" } : Jvm.MethodName) prog_1_method_28_code (3 : Nat) (Option.none : Option Jvm.ClassFile.FieldType)) ∈ lw_all := lw_g (lw_at lw_m3 46 rfl) rfl
theorem q661 : (Jvm.Cond.instanceMethod ({ cls := "LastPebble", name := "beach", desc := "(I)I" } : Jvm.MethodName)) ∈ lw_all := lw_g (lw_at lw_m3 48 rfl) rfl
theorem q662 : (Jvm.Cond.selects "LastPebble" ({ cls := "LastPebble", name := "beach", desc := "(I)I" } : Jvm.MethodName) ({ cls := "LastPebble", name := "beach", desc := "(I)I" } : Jvm.MethodName)) ∈ lw_all := lw_g (lw_at lw_m3 49 rfl) rfl
theorem q663 : (Jvm.Cond.codeWith ({ cls := "LastPebble", name := "beach", desc := "(I)I" } : Jvm.MethodName) prog_1_method_31_code (3 : Nat) (Option.some Jvm.ClassFile.FieldType.int) [((13 : Nat), (54 : Nat), (55 : Nat), (34 : Nat))]) ∈ lw_all := lw_g (lw_at lw_m3 50 rfl) rfl
theorem q664 : (Jvm.Cond.methodLink "LastPebble" (206 : Nat) ({ cls := "LastPebble", name := "opens", desc := "(II)Z" } : Jvm.MethodName)) ∈ lw_all := lw_g (lw_at lw_m3 51 rfl) rfl
theorem q665 : (Jvm.Cond.privateMethod ({ cls := "LastPebble", name := "opens", desc := "(II)Z" } : Jvm.MethodName)) ∈ lw_tbl := lw_at lw_m3 52 rfl
theorem q666 : (Jvm.Cond.instanceMethod ({ cls := "LastPebble", name := "opens", desc := "(II)Z" } : Jvm.MethodName)) ∈ lw_all := lw_g (lw_at lw_m3 53 rfl) rfl
theorem q667 : (Jvm.Cond.code ({ cls := "LastPebble", name := "opens", desc := "(II)Z" } : Jvm.MethodName) prog_1_method_29_code (3 : Nat) (Option.some Jvm.ClassFile.FieldType.boolean)) ∈ lw_all := lw_g (lw_at lw_m3 54 rfl) rfl
theorem q668 : (Jvm.Cond.classLink "LastPebble" (169 : Nat) "LastPebble$Beach") ∈ lw_all := lw_g (lw_at lw_m3 55 rfl) rfl
theorem q669 : (Jvm.Cond.methodLinkNest "LastPebble" (210 : Nat) ({ cls := "LastPebble$Beach", name := "<init>", desc := "()V" } : Jvm.MethodName) "LastPebble") ∈ lw_tbl := lw_at lw_m3 56 rfl
theorem q670 : (Jvm.Cond.classLink "LastPebble" (211 : Nat) "LastPebble$Reader") ∈ lw_all := lw_g (lw_at lw_m3 57 rfl) rfl
theorem q672 : (Jvm.Cond.methodLink "LastPebble" (213 : Nat) ({ cls := "LastPebble$Reader", name := "<init>", desc := "(LLastPebble;I)V" } : Jvm.MethodName)) ∈ lw_all := lw_g (lw_at lw_m3 59 rfl) rfl
theorem q694 : (Jvm.Cond.fieldLinkNest "LastPebble" (237 : Nat) "LastPebble$Reader" "steps" "I" "LastPebble") ∈ lw_tbl := lw_at lw_m3 81 rfl
theorem q714 : (Jvm.Cond.methodLink "LastPebble" (216 : Nat) ({ cls := "LastPebble$Reader", name := "beach", desc := "(LLastPebble$Beach;)V" } : Jvm.MethodName)) ∈ lw_all := lw_g (lw_at lw_m3 101 rfl) rfl
theorem q886 : (Jvm.Cond.methodLink "LastPebble" (187 : Nat) ({ cls := "LastPebble", name := "day", desc := "()LLastPebble$Day;" } : Jvm.MethodName)) ∈ lw_all := lw_g (lw_at lw_m4 33 rfl) rfl
theorem q887 : (Jvm.Cond.privateMethod ({ cls := "LastPebble", name := "day", desc := "()LLastPebble$Day;" } : Jvm.MethodName)) ∈ lw_tbl := lw_at lw_m4 34 rfl
theorem q888 : (Jvm.Cond.instanceMethod ({ cls := "LastPebble", name := "day", desc := "()LLastPebble$Day;" } : Jvm.MethodName)) ∈ lw_all := lw_g (lw_at lw_m4 35 rfl) rfl
theorem q889 : (Jvm.Cond.code ({ cls := "LastPebble", name := "day", desc := "()LLastPebble$Day;" } : Jvm.MethodName) prog_1_method_20_code (1 : Nat) (Option.some (Jvm.ClassFile.FieldType.object "LastPebble$Day"))) ∈ lw_all := lw_g (lw_at lw_m4 36 rfl) rfl
theorem q890 : (Jvm.Cond.methodLink "LastPebble" (219 : Nat) ({ cls := "LastPebble$Day", name := "begin", desc := "(LLastPebble$Beach;)V" } : Jvm.MethodName)) ∈ lw_all := lw_g (lw_at lw_m4 37 rfl) rfl
theorem q902 : (Jvm.Cond.methodLink "LastPebble" (226 : Nat) ({ cls := "LastPebble", name := "faulty", desc := "(LLastPebble$Bad;)I" } : Jvm.MethodName)) ∈ lw_all := lw_g (lw_at lw_m4 49 rfl) rfl
theorem q903 : (Jvm.Cond.privateMethod ({ cls := "LastPebble", name := "faulty", desc := "(LLastPebble$Bad;)I" } : Jvm.MethodName)) ∈ lw_tbl := lw_at lw_m4 50 rfl
theorem q904 : (Jvm.Cond.instanceMethod ({ cls := "LastPebble", name := "faulty", desc := "(LLastPebble$Bad;)I" } : Jvm.MethodName)) ∈ lw_all := lw_g (lw_at lw_m4 51 rfl) rfl
theorem q905 : (Jvm.Cond.code ({ cls := "LastPebble", name := "faulty", desc := "(LLastPebble$Bad;)I" } : Jvm.MethodName) prog_1_method_30_code (2 : Nat) (Option.some Jvm.ClassFile.FieldType.int)) ∈ lw_all := lw_g (lw_at lw_m4 52 rfl) rfl
theorem q907 : (Jvm.Cond.instanceMethod ({ cls := "LastPebble", name := "days", desc := "(I)I" } : Jvm.MethodName)) ∈ lw_all := lw_g (lw_at lw_m4 54 rfl) rfl
theorem q908 : (Jvm.Cond.selects "LastPebble" ({ cls := "LastPebble", name := "days", desc := "(I)I" } : Jvm.MethodName) ({ cls := "LastPebble", name := "days", desc := "(I)I" } : Jvm.MethodName)) ∈ lw_all := lw_g (lw_at lw_m4 55 rfl) rfl
theorem q909 : (Jvm.Cond.codeWith ({ cls := "LastPebble", name := "days", desc := "(I)I" } : Jvm.MethodName) prog_1_method_32_code (4 : Nat) (Option.some Jvm.ClassFile.FieldType.int) [((13 : Nat), (53 : Nat), (54 : Nat), (34 : Nat))]) ∈ lw_all := lw_g (lw_at lw_m4 56 rfl) rfl
theorem q910 : (Jvm.Cond.classLink "LastPebble" (230 : Nat) "LastPebble$Loop") ∈ lw_all := lw_g (lw_at lw_m4 57 rfl) rfl
theorem q912 : (Jvm.Cond.methodLink "LastPebble" (232 : Nat) ({ cls := "LastPebble$Loop", name := "<init>", desc := "(I)V" } : Jvm.MethodName)) ∈ lw_all := lw_g (lw_at lw_m4 59 rfl) rfl
theorem q934 : (Jvm.Cond.methodLink "LastPebble" (165 : Nat) ({ cls := "LastPebble", name := "beach", desc := "()LLastPebble$Beach;" } : Jvm.MethodName)) ∈ lw_all := lw_g (lw_at lw_m4 81 rfl) rfl
theorem q935 : (Jvm.Cond.privateMethod ({ cls := "LastPebble", name := "beach", desc := "()LLastPebble$Beach;" } : Jvm.MethodName)) ∈ lw_tbl := lw_at lw_m4 82 rfl
theorem q936 : (Jvm.Cond.instanceMethod ({ cls := "LastPebble", name := "beach", desc := "()LLastPebble$Beach;" } : Jvm.MethodName)) ∈ lw_all := lw_g (lw_at lw_m4 83 rfl) rfl
theorem q937 : (Jvm.Cond.code ({ cls := "LastPebble", name := "beach", desc := "()LLastPebble$Beach;" } : Jvm.MethodName) prog_1_method_21_code (1 : Nat) (Option.some (Jvm.ClassFile.FieldType.object "LastPebble$Beach"))) ∈ lw_all := lw_g (lw_at lw_m4 84 rfl) rfl
theorem q938 : (Jvm.Cond.methodLink "LastPebble" (234 : Nat) ({ cls := "LastPebble$Reader", name := "days", desc := "(LLastPebble$Beach;LLastPebble$Block;)V" } : Jvm.MethodName)) ∈ lw_all := lw_g (lw_at lw_m4 85 rfl) rfl
theorem q1008 : (Jvm.Cond.instanceMethod ({ cls := "LastPebble", name := "fault", desc := "(I)I" } : Jvm.MethodName)) ∈ lw_all := lw_g (lw_at lw_m4 155 rfl) rfl
theorem q1009 : (Jvm.Cond.selects "LastPebble" ({ cls := "LastPebble", name := "fault", desc := "(I)I" } : Jvm.MethodName) ({ cls := "LastPebble", name := "fault", desc := "(I)I" } : Jvm.MethodName)) ∈ lw_all := lw_g (lw_at lw_m4 156 rfl) rfl
theorem q1010 : (Jvm.Cond.code ({ cls := "LastPebble", name := "fault", desc := "(I)I" } : Jvm.MethodName) prog_1_method_33_code (2 : Nat) (Option.some Jvm.ClassFile.FieldType.int)) ∈ lw_all := lw_g (lw_at lw_m4 157 rfl) rfl
theorem q1012 : (Jvm.Cond.instanceMethod ({ cls := "LastPebble", name := "told", desc := "(I)I" } : Jvm.MethodName)) ∈ lw_all := lw_g (lw_at lw_m4 159 rfl) rfl
theorem q1013 : (Jvm.Cond.selects "LastPebble" ({ cls := "LastPebble", name := "told", desc := "(I)I" } : Jvm.MethodName) ({ cls := "LastPebble", name := "told", desc := "(I)I" } : Jvm.MethodName)) ∈ lw_all := lw_g (lw_at lw_m4 160 rfl) rfl
theorem q1014 : (Jvm.Cond.code ({ cls := "LastPebble", name := "told", desc := "(I)I" } : Jvm.MethodName) prog_1_method_34_code (2 : Nat) (Option.some Jvm.ClassFile.FieldType.int)) ∈ lw_all := lw_g (lw_at lw_m4 161 rfl) rfl
theorem q1015 : (Jvm.Cond.constantLong "LastPebble" (240 : Nat) (8 : Int64)) ∈ lw_all := lw_g (lw_at lw_m4 162 rfl) rfl
theorem q1016 : (Jvm.Cond.methodLink "LastPebble" (173 : Nat) ({ cls := "LastPebble", name := "isIn", desc := "(JJJ)Z" } : Jvm.MethodName)) ∈ lw_all := lw_g (lw_at lw_m4 163 rfl) rfl
theorem q1017 : (Jvm.Cond.static ({ cls := "LastPebble", name := "isIn", desc := "(JJJ)Z" } : Jvm.MethodName)) ∈ lw_all := lw_g (lw_at lw_m4 164 rfl) rfl
theorem q1018 : (Jvm.Cond.code ({ cls := "LastPebble", name := "isIn", desc := "(JJJ)Z" } : Jvm.MethodName) prog_1_method_19_code (6 : Nat) (Option.some Jvm.ClassFile.FieldType.boolean)) ∈ lw_all := lw_g (lw_at lw_m4 165 rfl) rfl
theorem q1019 : (Jvm.Cond.methodLink "LastPebble" (259 : Nat) ({ cls := "LastPebble$Day", name := "pebbles", desc := "()I" } : Jvm.MethodName)) ∈ lw_all := lw_g (lw_at lw_m4 166 rfl) rfl
theorem q1024 : (Jvm.Cond.instanceMethod ({ cls := "LastPebble", name := "finder", desc := "(II)I" } : Jvm.MethodName)) ∈ lw_all := lw_g (lw_at lw_m4 171 rfl) rfl
theorem q1025 : (Jvm.Cond.selects "LastPebble" ({ cls := "LastPebble", name := "finder", desc := "(II)I" } : Jvm.MethodName) ({ cls := "LastPebble", name := "finder", desc := "(II)I" } : Jvm.MethodName)) ∈ lw_all := lw_g (lw_at lw_m4 172 rfl) rfl
theorem q1026 : (Jvm.Cond.code ({ cls := "LastPebble", name := "finder", desc := "(II)I" } : Jvm.MethodName) prog_1_method_35_code (3 : Nat) (Option.some Jvm.ClassFile.FieldType.int)) ∈ lw_all := lw_g (lw_at lw_m4 173 rfl) rfl
theorem q1027 : (Jvm.Cond.methodLink "LastPebble" (180 : Nat) ({ cls := "LastPebble", name := "isFinder", desc := "(I)Z" } : Jvm.MethodName)) ∈ lw_all := lw_g (lw_at lw_m4 174 rfl) rfl
theorem q1028 : (Jvm.Cond.privateMethod ({ cls := "LastPebble", name := "isFinder", desc := "(I)Z" } : Jvm.MethodName)) ∈ lw_tbl := lw_at lw_m4 175 rfl
theorem q1029 : (Jvm.Cond.instanceMethod ({ cls := "LastPebble", name := "isFinder", desc := "(I)Z" } : Jvm.MethodName)) ∈ lw_all := lw_g (lw_at lw_m4 176 rfl) rfl
theorem q1030 : (Jvm.Cond.code ({ cls := "LastPebble", name := "isFinder", desc := "(I)Z" } : Jvm.MethodName) prog_1_method_22_code (2 : Nat) (Option.some Jvm.ClassFile.FieldType.boolean)) ∈ lw_all := lw_g (lw_at lw_m4 177 rfl) rfl
theorem q1031 : (Jvm.Cond.constantLong "LastPebble" (263 : Nat) (4 : Int64)) ∈ lw_all := lw_g (lw_at lw_m4 178 rfl) rfl
theorem q1033 : (Jvm.Cond.instanceMethod ({ cls := "LastPebble", name := "find", desc := "(II)I" } : Jvm.MethodName)) ∈ lw_all := lw_g (lw_at lw_m4 180 rfl) rfl
theorem q1034 : (Jvm.Cond.selects "LastPebble" ({ cls := "LastPebble", name := "find", desc := "(II)I" } : Jvm.MethodName) ({ cls := "LastPebble", name := "find", desc := "(II)I" } : Jvm.MethodName)) ∈ lw_all := lw_g (lw_at lw_m4 181 rfl) rfl
theorem q1035 : (Jvm.Cond.code ({ cls := "LastPebble", name := "find", desc := "(II)I" } : Jvm.MethodName) prog_1_method_36_code (3 : Nat) (Option.some Jvm.ClassFile.FieldType.int)) ∈ lw_all := lw_g (lw_at lw_m4 182 rfl) rfl
theorem q1036 : (Jvm.Cond.methodLink "LastPebble" (184 : Nat) ({ cls := "LastPebble", name := "isFind", desc := "(I)Z" } : Jvm.MethodName)) ∈ lw_all := lw_g (lw_at lw_m4 183 rfl) rfl
theorem q1037 : (Jvm.Cond.privateMethod ({ cls := "LastPebble", name := "isFind", desc := "(I)Z" } : Jvm.MethodName)) ∈ lw_tbl := lw_at lw_m4 184 rfl
theorem q1038 : (Jvm.Cond.instanceMethod ({ cls := "LastPebble", name := "isFind", desc := "(I)Z" } : Jvm.MethodName)) ∈ lw_all := lw_g (lw_at lw_m4 185 rfl) rfl
theorem q1039 : (Jvm.Cond.code ({ cls := "LastPebble", name := "isFind", desc := "(I)Z" } : Jvm.MethodName) prog_1_method_23_code (2 : Nat) (Option.some Jvm.ClassFile.FieldType.boolean)) ∈ lw_all := lw_g (lw_at lw_m4 186 rfl) rfl
theorem q1040 : (Jvm.Cond.constantLong "LastPebble" (280 : Nat) (2 : Int64)) ∈ lw_all := lw_g (lw_at lw_m4 187 rfl) rfl
theorem q1042 : (Jvm.Cond.instanceMethod ({ cls := "LastPebble", name := "pebble", desc := "(III)I" } : Jvm.MethodName)) ∈ lw_all := lw_g (lw_at lw_m4 189 rfl) rfl
theorem q1043 : (Jvm.Cond.selects "LastPebble" ({ cls := "LastPebble", name := "pebble", desc := "(III)I" } : Jvm.MethodName) ({ cls := "LastPebble", name := "pebble", desc := "(III)I" } : Jvm.MethodName)) ∈ lw_all := lw_g (lw_at lw_m4 190 rfl) rfl
theorem q1044 : (Jvm.Cond.code ({ cls := "LastPebble", name := "pebble", desc := "(III)I" } : Jvm.MethodName) prog_1_method_37_code (4 : Nat) (Option.some Jvm.ClassFile.FieldType.int)) ∈ lw_all := lw_g (lw_at lw_m4 191 rfl) rfl
theorem q1046 : (Jvm.Cond.instanceMethod ({ cls := "LastPebble", name := "go", desc := "(II)I" } : Jvm.MethodName)) ∈ lw_all := lw_g (lw_at lw_m4 193 rfl) rfl
theorem q1047 : (Jvm.Cond.selects "LastPebble" ({ cls := "LastPebble", name := "go", desc := "(II)I" } : Jvm.MethodName) ({ cls := "LastPebble", name := "go", desc := "(II)I" } : Jvm.MethodName)) ∈ lw_all := lw_g (lw_at lw_m4 194 rfl) rfl
theorem q1048 : (Jvm.Cond.code ({ cls := "LastPebble", name := "go", desc := "(II)I" } : Jvm.MethodName) prog_1_method_38_code (3 : Nat) (Option.some Jvm.ClassFile.FieldType.int)) ∈ lw_all := lw_g (lw_at lw_m4 195 rfl) rfl
theorem q1049 : (Jvm.Cond.methodLink "LastPebble" (303 : Nat) ({ cls := "LastPebble$Day", name := "goes", desc := "(II)Z" } : Jvm.MethodName)) ∈ lw_all := lw_g (lw_at lw_m4 196 rfl) rfl
theorem q1061 : (Jvm.Cond.instanceMethod ({ cls := "LastPebble", name := "pass", desc := "(II)I" } : Jvm.MethodName)) ∈ lw_all := lw_g (lw_at lw_m4 208 rfl) rfl
theorem q1062 : (Jvm.Cond.selects "LastPebble" ({ cls := "LastPebble", name := "pass", desc := "(II)I" } : Jvm.MethodName) ({ cls := "LastPebble", name := "pass", desc := "(II)I" } : Jvm.MethodName)) ∈ lw_all := lw_g (lw_at lw_m4 209 rfl) rfl
theorem q1063 : (Jvm.Cond.code ({ cls := "LastPebble", name := "pass", desc := "(II)I" } : Jvm.MethodName) prog_1_method_39_code (3 : Nat) (Option.some Jvm.ClassFile.FieldType.int)) ∈ lw_all := lw_g (lw_at lw_m4 210 rfl) rfl
theorem q1064 : (Jvm.Cond.constantLong "LastPebble" (306 : Nat) (240 : Int64)) ∈ lw_all := lw_g (lw_at lw_m4 211 rfl) rfl
theorem q1065 : (Jvm.Cond.methodLink "LastPebble" (308 : Nat) ({ cls := "LastPebble$Day", name := "waits", desc := "(II)Z" } : Jvm.MethodName)) ∈ lw_all := lw_g (lw_at lw_m4 212 rfl) rfl
theorem q1070 : (Jvm.Cond.instanceMethod ({ cls := "LastPebble", name := "set", desc := "(II)I" } : Jvm.MethodName)) ∈ lw_all := lw_g (lw_at lw_m4 217 rfl) rfl
theorem q1071 : (Jvm.Cond.selects "LastPebble" ({ cls := "LastPebble", name := "set", desc := "(II)I" } : Jvm.MethodName) ({ cls := "LastPebble", name := "set", desc := "(II)I" } : Jvm.MethodName)) ∈ lw_all := lw_g (lw_at lw_m4 218 rfl) rfl
theorem q1072 : (Jvm.Cond.code ({ cls := "LastPebble", name := "set", desc := "(II)I" } : Jvm.MethodName) prog_1_method_40_code (4 : Nat) (Option.some Jvm.ClassFile.FieldType.int)) ∈ lw_all := lw_g (lw_at lw_m4 219 rfl) rfl
theorem q1073 : (Jvm.Cond.methodLink "LastPebble" (311 : Nat) ({ cls := "LastPebble", name := "areThere", desc := "(II)Z" } : Jvm.MethodName)) ∈ lw_all := lw_g (lw_at lw_m4 220 rfl) rfl
theorem q1074 : (Jvm.Cond.privateMethod ({ cls := "LastPebble", name := "areThere", desc := "(II)Z" } : Jvm.MethodName)) ∈ lw_tbl := lw_at lw_m4 221 rfl
theorem q1075 : (Jvm.Cond.instanceMethod ({ cls := "LastPebble", name := "areThere", desc := "(II)Z" } : Jvm.MethodName)) ∈ lw_all := lw_g (lw_at lw_m4 222 rfl) rfl
theorem q1076 : (Jvm.Cond.code ({ cls := "LastPebble", name := "areThere", desc := "(II)Z" } : Jvm.MethodName) prog_1_method_24_code (3 : Nat) (Option.some Jvm.ClassFile.FieldType.boolean)) ∈ lw_all := lw_g (lw_at lw_m4 223 rfl) rfl
theorem q1077 : (Jvm.Cond.methodLink "LastPebble" (314 : Nat) ({ cls := "LastPebble$Day", name := "isAt", desc := "(II)Z" } : Jvm.MethodName)) ∈ lw_all := lw_g (lw_at lw_m4 224 rfl) rfl
theorem q1085 : (Jvm.Cond.methodLink "LastPebble" (317 : Nat) ({ cls := "LastPebble$Day", name := "sets", desc := "(II)V" } : Jvm.MethodName)) ∈ lw_all := lw_g (lw_at lw_m4 232 rfl) rfl
theorem q1090 : (Jvm.Cond.instanceMethod ({ cls := "LastPebble", name := "lift", desc := "(II)I" } : Jvm.MethodName)) ∈ lw_all := lw_g (lw_at lw_m4 237 rfl) rfl
theorem q1091 : (Jvm.Cond.selects "LastPebble" ({ cls := "LastPebble", name := "lift", desc := "(II)I" } : Jvm.MethodName) ({ cls := "LastPebble", name := "lift", desc := "(II)I" } : Jvm.MethodName)) ∈ lw_all := lw_g (lw_at lw_m4 238 rfl) rfl
theorem q1092 : (Jvm.Cond.code ({ cls := "LastPebble", name := "lift", desc := "(II)I" } : Jvm.MethodName) prog_1_method_41_code (4 : Nat) (Option.some Jvm.ClassFile.FieldType.int)) ∈ lw_all := lw_g (lw_at lw_m4 239 rfl) rfl
theorem q1093 : (Jvm.Cond.methodLink "LastPebble" (321 : Nat) ({ cls := "LastPebble$Heap", name := "latestOf", desc := "(I)I" } : Jvm.MethodName)) ∈ lw_all := lw_g (lw_at lw_m5 0 rfl) rfl
theorem q1097 : (Jvm.Cond.methodLink "LastPebble" (325 : Nat) ({ cls := "LastPebble$Day", name := "lifts", desc := "(II)I" } : Jvm.MethodName)) ∈ lw_all := lw_g (lw_at lw_m5 4 rfl) rfl
theorem q1107 : (Jvm.Cond.instanceMethod ({ cls := "LastPebble", name := "gull", desc := "(II)I" } : Jvm.MethodName)) ∈ lw_all := lw_g (lw_at lw_m5 14 rfl) rfl
theorem q1108 : (Jvm.Cond.selects "LastPebble" ({ cls := "LastPebble", name := "gull", desc := "(II)I" } : Jvm.MethodName) ({ cls := "LastPebble", name := "gull", desc := "(II)I" } : Jvm.MethodName)) ∈ lw_all := lw_g (lw_at lw_m5 15 rfl) rfl
theorem q1109 : (Jvm.Cond.code ({ cls := "LastPebble", name := "gull", desc := "(II)I" } : Jvm.MethodName) prog_1_method_42_code (4 : Nat) (Option.some Jvm.ClassFile.FieldType.int)) ∈ lw_all := lw_g (lw_at lw_m5 16 rfl) rfl
theorem q1110 : (Jvm.Cond.methodLink "LastPebble" (329 : Nat) ({ cls := "LastPebble$Day", name := "canGull", desc := "(II)Z" } : Jvm.MethodName)) ∈ lw_all := lw_g (lw_at lw_m5 17 rfl) rfl
theorem q1114 : (Jvm.Cond.methodLink "LastPebble" (332 : Nat) ({ cls := "LastPebble$Day", name := "gull", desc := "(II)I" } : Jvm.MethodName)) ∈ lw_all := lw_g (lw_at lw_m5 21 rfl) rfl
theorem q1119 : (Jvm.Cond.instanceMethod ({ cls := "LastPebble", name := "wave", desc := "(I)I" } : Jvm.MethodName)) ∈ lw_all := lw_g (lw_at lw_m5 26 rfl) rfl
theorem q1120 : (Jvm.Cond.selects "LastPebble" ({ cls := "LastPebble", name := "wave", desc := "(I)I" } : Jvm.MethodName) ({ cls := "LastPebble", name := "wave", desc := "(I)I" } : Jvm.MethodName)) ∈ lw_all := lw_g (lw_at lw_m5 27 rfl) rfl
theorem q1121 : (Jvm.Cond.code ({ cls := "LastPebble", name := "wave", desc := "(I)I" } : Jvm.MethodName) prog_1_method_43_code (2 : Nat) (Option.some Jvm.ClassFile.FieldType.int)) ∈ lw_all := lw_g (lw_at lw_m5 28 rfl) rfl
theorem q1122 : (Jvm.Cond.constantLong "LastPebble" (335 : Nat) (40 : Int64)) ∈ lw_all := lw_g (lw_at lw_m5 29 rfl) rfl
theorem q1123 : (Jvm.Cond.methodLink "LastPebble" (337 : Nat) ({ cls := "LastPebble$Day", name := "wave", desc := "(I)I" } : Jvm.MethodName)) ∈ lw_all := lw_g (lw_at lw_m5 30 rfl) rfl
theorem q1128 : (Jvm.Cond.instanceMethod ({ cls := "LastPebble", name := "tide", desc := "()I" } : Jvm.MethodName)) ∈ lw_all := lw_g (lw_at lw_m5 35 rfl) rfl
theorem q1129 : (Jvm.Cond.selects "LastPebble" ({ cls := "LastPebble", name := "tide", desc := "()I" } : Jvm.MethodName) ({ cls := "LastPebble", name := "tide", desc := "()I" } : Jvm.MethodName)) ∈ lw_all := lw_g (lw_at lw_m5 36 rfl) rfl
theorem q1130 : (Jvm.Cond.code ({ cls := "LastPebble", name := "tide", desc := "()I" } : Jvm.MethodName) prog_1_method_44_code (1 : Nat) (Option.some Jvm.ClassFile.FieldType.int)) ∈ lw_all := lw_g (lw_at lw_m5 37 rfl) rfl
theorem q1131 : (Jvm.Cond.methodLink "LastPebble" (340 : Nat) ({ cls := "LastPebble$Day", name := "tide", desc := "()V" } : Jvm.MethodName)) ∈ lw_all := lw_g (lw_at lw_m5 38 rfl) rfl
theorem q1168 : (Jvm.Cond.instanceMethod ({ cls := "LastPebble", name := "dawn", desc := "()I" } : Jvm.MethodName)) ∈ lw_all := lw_g (lw_at lw_m5 75 rfl) rfl
theorem q1169 : (Jvm.Cond.selects "LastPebble" ({ cls := "LastPebble", name := "dawn", desc := "()I" } : Jvm.MethodName) ({ cls := "LastPebble", name := "dawn", desc := "()I" } : Jvm.MethodName)) ∈ lw_all := lw_g (lw_at lw_m5 76 rfl) rfl
theorem q1170 : (Jvm.Cond.code ({ cls := "LastPebble", name := "dawn", desc := "()I" } : Jvm.MethodName) prog_1_method_45_code (1 : Nat) (Option.some Jvm.ClassFile.FieldType.int)) ∈ lw_all := lw_g (lw_at lw_m5 77 rfl) rfl
theorem q1171 : (Jvm.Cond.methodLink "LastPebble" (342 : Nat) ({ cls := "LastPebble$Day", name := "dawn", desc := "()V" } : Jvm.MethodName)) ∈ lw_all := lw_g (lw_at lw_m5 78 rfl) rfl
theorem q1176 : (Jvm.Cond.instanceMethod ({ cls := "LastPebble", name := "last", desc := "(I)I" } : Jvm.MethodName)) ∈ lw_all := lw_g (lw_at lw_m5 83 rfl) rfl
theorem q1177 : (Jvm.Cond.selects "LastPebble" ({ cls := "LastPebble", name := "last", desc := "(I)I" } : Jvm.MethodName) ({ cls := "LastPebble", name := "last", desc := "(I)I" } : Jvm.MethodName)) ∈ lw_all := lw_g (lw_at lw_m5 84 rfl) rfl
theorem q1178 : (Jvm.Cond.code ({ cls := "LastPebble", name := "last", desc := "(I)I" } : Jvm.MethodName) prog_1_method_46_code (2 : Nat) (Option.some Jvm.ClassFile.FieldType.int)) ∈ lw_all := lw_g (lw_at lw_m5 85 rfl) rfl
theorem q1179 : (Jvm.Cond.methodLink "LastPebble" (345 : Nat) ({ cls := "LastPebble", name := "whyGone", desc := "(I)I" } : Jvm.MethodName)) ∈ lw_all := lw_g (lw_at lw_m5 86 rfl) rfl
theorem q1180 : (Jvm.Cond.privateMethod ({ cls := "LastPebble", name := "whyGone", desc := "(I)I" } : Jvm.MethodName)) ∈ lw_tbl := lw_at lw_m5 87 rfl
theorem q1181 : (Jvm.Cond.instanceMethod ({ cls := "LastPebble", name := "whyGone", desc := "(I)I" } : Jvm.MethodName)) ∈ lw_all := lw_g (lw_at lw_m5 88 rfl) rfl
theorem q1182 : (Jvm.Cond.code ({ cls := "LastPebble", name := "whyGone", desc := "(I)I" } : Jvm.MethodName) prog_1_method_25_code (2 : Nat) (Option.some Jvm.ClassFile.FieldType.int)) ∈ lw_all := lw_g (lw_at lw_m5 89 rfl) rfl
theorem q1183 : (Jvm.Cond.methodLink "LastPebble" (190 : Nat) ({ cls := "LastPebble$Day", name := "isThere", desc := "(I)Z" } : Jvm.MethodName)) ∈ lw_all := lw_g (lw_at lw_m5 90 rfl) rfl
theorem q1184 : (Jvm.Cond.methodLink "LastPebble" (348 : Nat) ({ cls := "LastPebble$Heap", name := "last", desc := "()I" } : Jvm.MethodName)) ∈ lw_all := lw_g (lw_at lw_m5 91 rfl) rfl
theorem q1186 : (Jvm.Cond.instanceMethod ({ cls := "LastPebble", name := "whose", desc := "(I)I" } : Jvm.MethodName)) ∈ lw_all := lw_g (lw_at lw_m5 93 rfl) rfl
theorem q1187 : (Jvm.Cond.selects "LastPebble" ({ cls := "LastPebble", name := "whose", desc := "(I)I" } : Jvm.MethodName) ({ cls := "LastPebble", name := "whose", desc := "(I)I" } : Jvm.MethodName)) ∈ lw_all := lw_g (lw_at lw_m5 94 rfl) rfl
theorem q1188 : (Jvm.Cond.code ({ cls := "LastPebble", name := "whose", desc := "(I)I" } : Jvm.MethodName) prog_1_method_47_code (2 : Nat) (Option.some Jvm.ClassFile.FieldType.int)) ∈ lw_all := lw_g (lw_at lw_m5 95 rfl) rfl
theorem q1189 : (Jvm.Cond.methodLink "LastPebble" (350 : Nat) ({ cls := "LastPebble$Day", name := "whose", desc := "(I)I" } : Jvm.MethodName)) ∈ lw_all := lw_g (lw_at lw_m5 96 rfl) rfl
theorem q1191 : (Jvm.Cond.instanceMethod ({ cls := "LastPebble", name := "leads", desc := "(I)I" } : Jvm.MethodName)) ∈ lw_all := lw_g (lw_at lw_m5 98 rfl) rfl
theorem q1192 : (Jvm.Cond.selects "LastPebble" ({ cls := "LastPebble", name := "leads", desc := "(I)I" } : Jvm.MethodName) ({ cls := "LastPebble", name := "leads", desc := "(I)I" } : Jvm.MethodName)) ∈ lw_all := lw_g (lw_at lw_m5 99 rfl) rfl
theorem q1193 : (Jvm.Cond.code ({ cls := "LastPebble", name := "leads", desc := "(I)I" } : Jvm.MethodName) prog_1_method_48_code (2 : Nat) (Option.some Jvm.ClassFile.FieldType.int)) ∈ lw_all := lw_g (lw_at lw_m5 100 rfl) rfl
theorem q1194 : (Jvm.Cond.methodLink "LastPebble" (352 : Nat) ({ cls := "LastPebble$Day", name := "leads", desc := "(I)I" } : Jvm.MethodName)) ∈ lw_all := lw_g (lw_at lw_m5 101 rfl) rfl
theorem q1196 : (Jvm.Cond.instanceMethod ({ cls := "LastPebble", name := "leader", desc := "()I" } : Jvm.MethodName)) ∈ lw_all := lw_g (lw_at lw_m5 103 rfl) rfl
theorem q1197 : (Jvm.Cond.selects "LastPebble" ({ cls := "LastPebble", name := "leader", desc := "()I" } : Jvm.MethodName) ({ cls := "LastPebble", name := "leader", desc := "()I" } : Jvm.MethodName)) ∈ lw_all := lw_g (lw_at lw_m5 104 rfl) rfl
theorem q1198 : (Jvm.Cond.code ({ cls := "LastPebble", name := "leader", desc := "()I" } : Jvm.MethodName) prog_1_method_49_code (3 : Nat) (Option.some Jvm.ClassFile.FieldType.int)) ∈ lw_all := lw_g (lw_at lw_m5 105 rfl) rfl
theorem q1199 : (Jvm.Cond.methodLink "LastPebble" (355 : Nat) ({ cls := "LastPebble", name := "answer", desc := "(I)I" } : Jvm.MethodName)) ∈ lw_all := lw_g (lw_at lw_m5 106 rfl) rfl
theorem q1200 : (Jvm.Cond.privateMethod ({ cls := "LastPebble", name := "answer", desc := "(I)I" } : Jvm.MethodName)) ∈ lw_tbl := lw_at lw_m5 107 rfl
theorem q1201 : (Jvm.Cond.instanceMethod ({ cls := "LastPebble", name := "answer", desc := "(I)I" } : Jvm.MethodName)) ∈ lw_all := lw_g (lw_at lw_m5 108 rfl) rfl
theorem q1202 : (Jvm.Cond.code ({ cls := "LastPebble", name := "answer", desc := "(I)I" } : Jvm.MethodName) prog_1_method_26_code (2 : Nat) (Option.some Jvm.ClassFile.FieldType.int)) ∈ lw_all := lw_g (lw_at lw_m5 109 rfl) rfl
theorem q1204 : (Jvm.Cond.instanceMethod ({ cls := "LastPebble", name := "duels", desc := "()I" } : Jvm.MethodName)) ∈ lw_all := lw_g (lw_at lw_m5 111 rfl) rfl
theorem q1205 : (Jvm.Cond.selects "LastPebble" ({ cls := "LastPebble", name := "duels", desc := "()I" } : Jvm.MethodName) ({ cls := "LastPebble", name := "duels", desc := "()I" } : Jvm.MethodName)) ∈ lw_all := lw_g (lw_at lw_m5 112 rfl) rfl
theorem q1206 : (Jvm.Cond.code ({ cls := "LastPebble", name := "duels", desc := "()I" } : Jvm.MethodName) prog_1_method_50_code (3 : Nat) (Option.some Jvm.ClassFile.FieldType.int)) ∈ lw_all := lw_g (lw_at lw_m5 113 rfl) rfl
theorem q1207 : (Jvm.Cond.methodLink "LastPebble" (358 : Nat) ({ cls := "java/lang/Integer", name := "bitCount", desc := "(I)I" } : Jvm.MethodName)) ∈ lw_all := lw_g (lw_at lw_m5 114 rfl) rfl
theorem q1209 : (Jvm.Cond.instanceMethod ({ cls := "LastPebble", name := "needs", desc := "(I)I" } : Jvm.MethodName)) ∈ lw_all := lw_g (lw_at lw_m5 116 rfl) rfl
theorem q1210 : (Jvm.Cond.selects "LastPebble" ({ cls := "LastPebble", name := "needs", desc := "(I)I" } : Jvm.MethodName) ({ cls := "LastPebble", name := "needs", desc := "(I)I" } : Jvm.MethodName)) ∈ lw_all := lw_g (lw_at lw_m5 117 rfl) rfl
theorem q1211 : (Jvm.Cond.code ({ cls := "LastPebble", name := "needs", desc := "(I)I" } : Jvm.MethodName) prog_1_method_51_code (4 : Nat) (Option.some Jvm.ClassFile.FieldType.int)) ∈ lw_all := lw_g (lw_at lw_m5 118 rfl) rfl
theorem q1213 : (Jvm.Cond.instanceMethod ({ cls := "LastPebble", name := "strewn", desc := "(I)I" } : Jvm.MethodName)) ∈ lw_all := lw_g (lw_at lw_m5 120 rfl) rfl
theorem q1214 : (Jvm.Cond.selects "LastPebble" ({ cls := "LastPebble", name := "strewn", desc := "(I)I" } : Jvm.MethodName) ({ cls := "LastPebble", name := "strewn", desc := "(I)I" } : Jvm.MethodName)) ∈ lw_all := lw_g (lw_at lw_m5 121 rfl) rfl
theorem q1215 : (Jvm.Cond.code ({ cls := "LastPebble", name := "strewn", desc := "(I)I" } : Jvm.MethodName) prog_1_method_52_code (4 : Nat) (Option.some Jvm.ClassFile.FieldType.int)) ∈ lw_all := lw_g (lw_at lw_m5 122 rfl) rfl
theorem q1216 : (Jvm.Cond.methodLink "LastPebble" (363 : Nat) ({ cls := "LastPebble$Heap", name := "many", desc := "(I)I" } : Jvm.MethodName)) ∈ lw_all := lw_g (lw_at lw_m5 123 rfl) rfl
theorem q1221 : (Jvm.Cond.instanceMethod ({ cls := "LastPebble", name := "soonest", desc := "(II)I" } : Jvm.MethodName)) ∈ lw_all := lw_g (lw_at lw_m5 128 rfl) rfl
theorem q1222 : (Jvm.Cond.selects "LastPebble" ({ cls := "LastPebble", name := "soonest", desc := "(II)I" } : Jvm.MethodName) ({ cls := "LastPebble", name := "soonest", desc := "(II)I" } : Jvm.MethodName)) ∈ lw_all := lw_g (lw_at lw_m5 129 rfl) rfl
theorem q1223 : (Jvm.Cond.code ({ cls := "LastPebble", name := "soonest", desc := "(II)I" } : Jvm.MethodName) prog_1_method_54_code (4 : Nat) (Option.some Jvm.ClassFile.FieldType.int)) ∈ lw_all := lw_g (lw_at lw_m5 130 rfl) rfl
theorem q1224 : (Jvm.Cond.methodLink "LastPebble" (373 : Nat) ({ cls := "LastPebble", name := "soonestOf", desc := "(II)I" } : Jvm.MethodName)) ∈ lw_all := lw_g (lw_at lw_m5 131 rfl) rfl
theorem q1225 : (Jvm.Cond.privateMethod ({ cls := "LastPebble", name := "soonestOf", desc := "(II)I" } : Jvm.MethodName)) ∈ lw_tbl := lw_at lw_m5 132 rfl
theorem q1226 : (Jvm.Cond.instanceMethod ({ cls := "LastPebble", name := "soonestOf", desc := "(II)I" } : Jvm.MethodName)) ∈ lw_all := lw_g (lw_at lw_m5 133 rfl) rfl
theorem q1227 : (Jvm.Cond.code ({ cls := "LastPebble", name := "soonestOf", desc := "(II)I" } : Jvm.MethodName) prog_1_method_53_code (4 : Nat) (Option.some Jvm.ClassFile.FieldType.int)) ∈ lw_all := lw_g (lw_at lw_m5 134 rfl) rfl
theorem q1228 : (Jvm.Cond.methodLink "LastPebble" (366 : Nat) ({ cls := "LastPebble$Day", name := "arrives", desc := "(II)I" } : Jvm.MethodName)) ∈ lw_all := lw_g (lw_at lw_m5 135 rfl) rfl
theorem q1229 : (Jvm.Cond.methodLink "LastPebble" (369 : Nat) ({ cls := "LastPebble$Day", name := "minute", desc := "(III)I" } : Jvm.MethodName)) ∈ lw_all := lw_g (lw_at lw_m5 136 rfl) rfl
theorem q1238 : (Jvm.Cond.instanceMethod ({ cls := "LastPebble", name := "threat", desc := "(I)I" } : Jvm.MethodName)) ∈ lw_all := lw_g (lw_at lw_m5 145 rfl) rfl
theorem q1239 : (Jvm.Cond.selects "LastPebble" ({ cls := "LastPebble", name := "threat", desc := "(I)I" } : Jvm.MethodName) ({ cls := "LastPebble", name := "threat", desc := "(I)I" } : Jvm.MethodName)) ∈ lw_all := lw_g (lw_at lw_m5 146 rfl) rfl
theorem q1240 : (Jvm.Cond.code ({ cls := "LastPebble", name := "threat", desc := "(I)I" } : Jvm.MethodName) prog_1_method_55_code (4 : Nat) (Option.some Jvm.ClassFile.FieldType.int)) ∈ lw_all := lw_g (lw_at lw_m5 147 rfl) rfl
theorem q1242 : (Jvm.Cond.instanceMethod ({ cls := "LastPebble", name := "best", desc := "(I)I" } : Jvm.MethodName)) ∈ lw_all := lw_g (lw_at lw_m5 149 rfl) rfl
theorem q1243 : (Jvm.Cond.selects "LastPebble" ({ cls := "LastPebble", name := "best", desc := "(I)I" } : Jvm.MethodName) ({ cls := "LastPebble", name := "best", desc := "(I)I" } : Jvm.MethodName)) ∈ lw_all := lw_g (lw_at lw_m5 150 rfl) rfl
theorem q1244 : (Jvm.Cond.code ({ cls := "LastPebble", name := "best", desc := "(I)I" } : Jvm.MethodName) prog_1_method_58_code (2 : Nat) (Option.some Jvm.ClassFile.FieldType.int)) ∈ lw_all := lw_g (lw_at lw_m5 151 rfl) rfl
theorem q1245 : (Jvm.Cond.methodLink "LastPebble" (388 : Nat) ({ cls := "LastPebble", name := "bestOf", desc := "(II)I" } : Jvm.MethodName)) ∈ lw_all := lw_g (lw_at lw_m5 152 rfl) rfl
theorem q1246 : (Jvm.Cond.privateMethod ({ cls := "LastPebble", name := "bestOf", desc := "(II)I" } : Jvm.MethodName)) ∈ lw_tbl := lw_at lw_m5 153 rfl
theorem q1247 : (Jvm.Cond.instanceMethod ({ cls := "LastPebble", name := "bestOf", desc := "(II)I" } : Jvm.MethodName)) ∈ lw_all := lw_g (lw_at lw_m5 154 rfl) rfl
theorem q1248 : (Jvm.Cond.code ({ cls := "LastPebble", name := "bestOf", desc := "(II)I" } : Jvm.MethodName) prog_1_method_57_code (3 : Nat) (Option.some Jvm.ClassFile.FieldType.int)) ∈ lw_all := lw_g (lw_at lw_m5 155 rfl) rfl
theorem q1249 : (Jvm.Cond.methodLink "LastPebble" (384 : Nat) ({ cls := "LastPebble", name := "round", desc := "(IIIIIII)V" } : Jvm.MethodName)) ∈ lw_all := lw_g (lw_at lw_m5 156 rfl) rfl
theorem q1250 : (Jvm.Cond.privateMethod ({ cls := "LastPebble", name := "round", desc := "(IIIIIII)V" } : Jvm.MethodName)) ∈ lw_tbl := lw_at lw_m5 157 rfl
theorem q1251 : (Jvm.Cond.instanceMethod ({ cls := "LastPebble", name := "round", desc := "(IIIIIII)V" } : Jvm.MethodName)) ∈ lw_all := lw_g (lw_at lw_m5 158 rfl) rfl
theorem q1252 : (Jvm.Cond.code ({ cls := "LastPebble", name := "round", desc := "(IIIIIII)V" } : Jvm.MethodName) prog_1_method_56_code (10 : Nat) (Option.none : Option Jvm.ClassFile.FieldType)) ∈ lw_all := lw_g (lw_at lw_m5 159 rfl) rfl
theorem q1253 : (Jvm.Cond.methodLink "LastPebble" (382 : Nat) ({ cls := "java/lang/Math", name := "abs", desc := "(I)I" } : Jvm.MethodName)) ∈ lw_all := lw_g (lw_at lw_m5 160 rfl) rfl
theorem q1255 : (Jvm.Cond.instanceMethod ({ cls := "LastPebble", name := "bestAt", desc := "(I)I" } : Jvm.MethodName)) ∈ lw_all := lw_g (lw_at lw_m5 162 rfl) rfl
theorem q1256 : (Jvm.Cond.selects "LastPebble" ({ cls := "LastPebble", name := "bestAt", desc := "(I)I" } : Jvm.MethodName) ({ cls := "LastPebble", name := "bestAt", desc := "(I)I" } : Jvm.MethodName)) ∈ lw_all := lw_g (lw_at lw_m5 163 rfl) rfl
theorem q1257 : (Jvm.Cond.code ({ cls := "LastPebble", name := "bestAt", desc := "(I)I" } : Jvm.MethodName) prog_1_method_59_code (2 : Nat) (Option.some Jvm.ClassFile.FieldType.int)) ∈ lw_all := lw_g (lw_at lw_m5 164 rfl) rfl
theorem q1259 : (Jvm.Cond.instanceMethod ({ cls := "LastPebble", name := "lateness", desc := "(II)I" } : Jvm.MethodName)) ∈ lw_all := lw_g (lw_at lw_m5 166 rfl) rfl
theorem q1260 : (Jvm.Cond.selects "LastPebble" ({ cls := "LastPebble", name := "lateness", desc := "(II)I" } : Jvm.MethodName) ({ cls := "LastPebble", name := "lateness", desc := "(II)I" } : Jvm.MethodName)) ∈ lw_all := lw_g (lw_at lw_m5 167 rfl) rfl
theorem q1261 : (Jvm.Cond.code ({ cls := "LastPebble", name := "lateness", desc := "(II)I" } : Jvm.MethodName) prog_1_method_60_code (4 : Nat) (Option.some Jvm.ClassFile.FieldType.int)) ∈ lw_all := lw_g (lw_at lw_m5 168 rfl) rfl
theorem q1263 : (Jvm.Cond.instanceMethod ({ cls := "LastPebble", name := "seen", desc := "(II)I" } : Jvm.MethodName)) ∈ lw_all := lw_g (lw_at lw_m5 170 rfl) rfl
theorem q1264 : (Jvm.Cond.selects "LastPebble" ({ cls := "LastPebble", name := "seen", desc := "(II)I" } : Jvm.MethodName) ({ cls := "LastPebble", name := "seen", desc := "(II)I" } : Jvm.MethodName)) ∈ lw_all := lw_g (lw_at lw_m5 171 rfl) rfl
theorem q1265 : (Jvm.Cond.code ({ cls := "LastPebble", name := "seen", desc := "(II)I" } : Jvm.MethodName) prog_1_method_61_code (3 : Nat) (Option.some Jvm.ClassFile.FieldType.int)) ∈ lw_all := lw_g (lw_at lw_m5 172 rfl) rfl
theorem q1266 : (Jvm.Cond.methodLink "LastPebble" (394 : Nat) ({ cls := "LastPebble", name := "seenBy", desc := "(II)I" } : Jvm.MethodName)) ∈ lw_all := lw_g (lw_at lw_m5 173 rfl) rfl
theorem q1267 : (Jvm.Cond.privateMethod ({ cls := "LastPebble", name := "seenBy", desc := "(II)I" } : Jvm.MethodName)) ∈ lw_tbl := lw_at lw_m5 174 rfl
theorem q1268 : (Jvm.Cond.instanceMethod ({ cls := "LastPebble", name := "seenBy", desc := "(II)I" } : Jvm.MethodName)) ∈ lw_all := lw_g (lw_at lw_m5 175 rfl) rfl
theorem q1269 : (Jvm.Cond.code ({ cls := "LastPebble", name := "seenBy", desc := "(II)I" } : Jvm.MethodName) prog_1_method_62_code (5 : Nat) (Option.some Jvm.ClassFile.FieldType.int)) ∈ lw_all := lw_g (lw_at lw_m5 176 rfl) rfl
theorem q1271 : (Jvm.Cond.instanceMethod ({ cls := "LastPebble", name := "boys", desc := "(I)I" } : Jvm.MethodName)) ∈ lw_all := lw_g (lw_at lw_m5 178 rfl) rfl
theorem q1272 : (Jvm.Cond.selects "LastPebble" ({ cls := "LastPebble", name := "boys", desc := "(I)I" } : Jvm.MethodName) ({ cls := "LastPebble", name := "boys", desc := "(I)I" } : Jvm.MethodName)) ∈ lw_all := lw_g (lw_at lw_m5 179 rfl) rfl
theorem q1273 : (Jvm.Cond.code ({ cls := "LastPebble", name := "boys", desc := "(I)I" } : Jvm.MethodName) prog_1_method_64_code (2 : Nat) (Option.some Jvm.ClassFile.FieldType.int)) ∈ lw_all := lw_g (lw_at lw_m5 180 rfl) rfl
theorem q1274 : (Jvm.Cond.methodLink "LastPebble" (400 : Nat) ({ cls := "LastPebble", name := "watches", desc := "(I)I" } : Jvm.MethodName)) ∈ lw_all := lw_g (lw_at lw_m5 181 rfl) rfl
theorem q1275 : (Jvm.Cond.privateMethod ({ cls := "LastPebble", name := "watches", desc := "(I)I" } : Jvm.MethodName)) ∈ lw_tbl := lw_at lw_m5 182 rfl
theorem q1276 : (Jvm.Cond.instanceMethod ({ cls := "LastPebble", name := "watches", desc := "(I)I" } : Jvm.MethodName)) ∈ lw_all := lw_g (lw_at lw_m5 183 rfl) rfl
theorem q1277 : (Jvm.Cond.code ({ cls := "LastPebble", name := "watches", desc := "(I)I" } : Jvm.MethodName) prog_1_method_63_code (6 : Nat) (Option.some Jvm.ClassFile.FieldType.int)) ∈ lw_all := lw_g (lw_at lw_m5 184 rfl) rfl
theorem q1278 : (Jvm.Cond.methodLink "LastPebble" (397 : Nat) ({ cls := "java/lang/Math", name := "min", desc := "(II)I" } : Jvm.MethodName)) ∈ lw_all := lw_g (lw_at lw_m5 185 rfl) rfl
theorem q1282 : (Jvm.Cond.instanceMethod ({ cls := "LastPebble", name := "boyAt", desc := "(II)I" } : Jvm.MethodName)) ∈ lw_all := lw_g (lw_at lw_m5 189 rfl) rfl
theorem q1283 : (Jvm.Cond.selects "LastPebble" ({ cls := "LastPebble", name := "boyAt", desc := "(II)I" } : Jvm.MethodName) ({ cls := "LastPebble", name := "boyAt", desc := "(II)I" } : Jvm.MethodName)) ∈ lw_all := lw_g (lw_at lw_m5 190 rfl) rfl
theorem q1284 : (Jvm.Cond.code ({ cls := "LastPebble", name := "boyAt", desc := "(II)I" } : Jvm.MethodName) prog_1_method_65_code (3 : Nat) (Option.some Jvm.ClassFile.FieldType.int)) ∈ lw_all := lw_g (lw_at lw_m5 191 rfl) rfl
theorem q1286 : (Jvm.Cond.instanceMethod ({ cls := "LastPebble", name := "odds", desc := "(III)Z" } : Jvm.MethodName)) ∈ lw_all := lw_g (lw_at lw_m5 193 rfl) rfl
theorem q1287 : (Jvm.Cond.selects "LastPebble" ({ cls := "LastPebble", name := "odds", desc := "(III)Z" } : Jvm.MethodName) ({ cls := "LastPebble", name := "odds", desc := "(III)Z" } : Jvm.MethodName)) ∈ lw_all := lw_g (lw_at lw_m5 194 rfl) rfl
theorem q1288 : (Jvm.Cond.code ({ cls := "LastPebble", name := "odds", desc := "(III)Z" } : Jvm.MethodName) prog_1_method_66_code (11 : Nat) (Option.some Jvm.ClassFile.FieldType.boolean)) ∈ lw_all := lw_g (lw_at lw_m5 195 rfl) rfl
theorem q1289 : (Jvm.Cond.constantLong "LastPebble" (403 : Nat) (16 : Int64)) ∈ lw_all := lw_g (lw_at lw_m5 196 rfl) rfl
theorem q1290 : (Jvm.Cond.methodLink "LastPebble" (405 : Nat) ({ cls := "LastPebble", name := "fraction", desc := "(JJ)I" } : Jvm.MethodName)) ∈ lw_all := lw_g (lw_at lw_m5 197 rfl) rfl
theorem q1291 : (Jvm.Cond.privateMethod ({ cls := "LastPebble", name := "fraction", desc := "(JJ)I" } : Jvm.MethodName)) ∈ lw_tbl := lw_at lw_m5 198 rfl
theorem q1292 : (Jvm.Cond.instanceMethod ({ cls := "LastPebble", name := "fraction", desc := "(JJ)I" } : Jvm.MethodName)) ∈ lw_all := lw_g (lw_at lw_m5 199 rfl) rfl
theorem q1293 : (Jvm.Cond.code ({ cls := "LastPebble", name := "fraction", desc := "(JJ)I" } : Jvm.MethodName) prog_1_method_13_code (11 : Nat) (Option.some Jvm.ClassFile.FieldType.int)) ∈ lw_all := lw_g (lw_at lw_m5 200 rfl) rfl
theorem q1294 : (Jvm.Cond.methodLink "LastPebble" (98 : Nat) ({ cls := "java/lang/Math", name := "abs", desc := "(J)J" } : Jvm.MethodName)) ∈ lw_all := lw_g (lw_at lw_m5 201 rfl) rfl
theorem q1297 : (Jvm.Cond.methodLink "LastPebble" (104 : Nat) ({ cls := "java/lang/Long", name := "signum", desc := "(J)I" } : Jvm.MethodName)) ∈ lw_all := lw_g (lw_at lw_m5 204 rfl) rfl
theorem q1301 : (Jvm.Cond.instanceMethod ({ cls := "LastPebble", name := "gulls", desc := "(I)I" } : Jvm.MethodName)) ∈ lw_all := lw_g (lw_at lw_m5 208 rfl) rfl
theorem q1302 : (Jvm.Cond.selects "LastPebble" ({ cls := "LastPebble", name := "gulls", desc := "(I)I" } : Jvm.MethodName) ({ cls := "LastPebble", name := "gulls", desc := "(I)I" } : Jvm.MethodName)) ∈ lw_all := lw_g (lw_at lw_m5 209 rfl) rfl
theorem q1303 : (Jvm.Cond.codeWith ({ cls := "LastPebble", name := "gulls", desc := "(I)I" } : Jvm.MethodName) prog_1_method_67_code (7 : Nat) (Option.some Jvm.ClassFile.FieldType.int) [((5 : Nat), (195 : Nat), (196 : Nat), (41 : Nat))]) ∈ lw_all := lw_g (lw_at lw_m5 210 rfl) rfl
theorem q1304 : (Jvm.Cond.constantLong "LastPebble" (409 : Nat) (3 : Int64)) ∈ lw_all := lw_g (lw_at lw_m5 211 rfl) rfl
theorem q1305 : (Jvm.Cond.methodLink "LastPebble" (411 : Nat) ({ cls := "LastPebble", name := "sizeOf", desc := "(Ljava/lang/Object;)I" } : Jvm.MethodName)) ∈ lw_all := lw_g (lw_at lw_m5 212 rfl) rfl
theorem q1306 : (Jvm.Cond.static ({ cls := "LastPebble", name := "sizeOf", desc := "(Ljava/lang/Object;)I" } : Jvm.MethodName)) ∈ lw_all := lw_g (lw_at lw_m5 213 rfl) rfl
theorem q1307 : (Jvm.Cond.code ({ cls := "LastPebble", name := "sizeOf", desc := "(Ljava/lang/Object;)I" } : Jvm.MethodName) prog_1_method_3_code (2 : Nat) (Option.some Jvm.ClassFile.FieldType.int)) ∈ lw_all := lw_g (lw_at lw_m5 214 rfl) rfl
theorem q1308 : (Jvm.Cond.constantLong "LastPebble" (414 : Nat) (60 : Int64)) ∈ lw_all := lw_g (lw_at lw_m5 215 rfl) rfl
theorem q1309 : (Jvm.Cond.methodLink "LastPebble" (416 : Nat) ({ cls := "java/lang/Math", name := "max", desc := "(II)I" } : Jvm.MethodName)) ∈ lw_all := lw_g (lw_at lw_m5 216 rfl) rfl
theorem q1311 : (Jvm.Cond.instanceMethod ({ cls := "LastPebble", name := "walk", desc := "(II)I" } : Jvm.MethodName)) ∈ lw_all := lw_g (lw_at lw_m5 218 rfl) rfl
theorem q1312 : (Jvm.Cond.selects "LastPebble" ({ cls := "LastPebble", name := "walk", desc := "(II)I" } : Jvm.MethodName) ({ cls := "LastPebble", name := "walk", desc := "(II)I" } : Jvm.MethodName)) ∈ lw_all := lw_g (lw_at lw_m5 219 rfl) rfl
theorem q1313 : (Jvm.Cond.code ({ cls := "LastPebble", name := "walk", desc := "(II)I" } : Jvm.MethodName) prog_1_method_68_code (3 : Nat) (Option.some Jvm.ClassFile.FieldType.int)) ∈ lw_all := lw_g (lw_at lw_m5 220 rfl) rfl
theorem q1315 : (Jvm.Cond.instanceMethod ({ cls := "LastPebble", name := "gain", desc := "(II)I" } : Jvm.MethodName)) ∈ lw_all := lw_g (lw_at lw_m5 222 rfl) rfl
theorem q1316 : (Jvm.Cond.selects "LastPebble" ({ cls := "LastPebble", name := "gain", desc := "(II)I" } : Jvm.MethodName) ({ cls := "LastPebble", name := "gain", desc := "(II)I" } : Jvm.MethodName)) ∈ lw_all := lw_g (lw_at lw_m5 223 rfl) rfl
theorem q1317 : (Jvm.Cond.code ({ cls := "LastPebble", name := "gain", desc := "(II)I" } : Jvm.MethodName) prog_1_method_69_code (4 : Nat) (Option.some Jvm.ClassFile.FieldType.int)) ∈ lw_all := lw_g (lw_at lw_m5 224 rfl) rfl
theorem q1318 : (Jvm.Cond.methodLink "LastPebble" (419 : Nat) ({ cls := "LastPebble$Day", name := "be", desc := "(LLastPebble$Day;)V" } : Jvm.MethodName)) ∈ lw_all := lw_g (lw_at lw_m5 225 rfl) rfl
theorem q1327 : (Jvm.Cond.methodLink "LastPebble" (423 : Nat) ({ cls := "LastPebble$Heap", name := "add", desc := "(II)V" } : Jvm.MethodName)) ∈ lw_all := lw_g (lw_at lw_m5 234 rfl) rfl
theorem q1329 : (Jvm.Cond.instanceMethod ({ cls := "LastPebble", name := "safe", desc := "(I)I" } : Jvm.MethodName)) ∈ lw_all := lw_g (lw_at lw_m5 236 rfl) rfl
theorem q1330 : (Jvm.Cond.selects "LastPebble" ({ cls := "LastPebble", name := "safe", desc := "(I)I" } : Jvm.MethodName) ({ cls := "LastPebble", name := "safe", desc := "(I)I" } : Jvm.MethodName)) ∈ lw_all := lw_g (lw_at lw_m5 237 rfl) rfl
theorem q1331 : (Jvm.Cond.code ({ cls := "LastPebble", name := "safe", desc := "(I)I" } : Jvm.MethodName) prog_1_method_70_code (6 : Nat) (Option.some Jvm.ClassFile.FieldType.int)) ∈ lw_all := lw_g (lw_at lw_m5 238 rfl) rfl
theorem q1333 : (Jvm.Cond.instanceMethod ({ cls := "LastPebble", name := "ranked", desc := "(I)I" } : Jvm.MethodName)) ∈ lw_all := lw_g (lw_at lw_m6 0 rfl) rfl
theorem q1334 : (Jvm.Cond.selects "LastPebble" ({ cls := "LastPebble", name := "ranked", desc := "(I)I" } : Jvm.MethodName) ({ cls := "LastPebble", name := "ranked", desc := "(I)I" } : Jvm.MethodName)) ∈ lw_all := lw_g (lw_at lw_m6 1 rfl) rfl
theorem q1335 : (Jvm.Cond.code ({ cls := "LastPebble", name := "ranked", desc := "(I)I" } : Jvm.MethodName) prog_1_method_71_code (6 : Nat) (Option.some Jvm.ClassFile.FieldType.int)) ∈ lw_all := lw_g (lw_at lw_m6 2 rfl) rfl
theorem q1337 : (Jvm.Cond.instanceMethod ({ cls := "LastPebble", name := "rivals", desc := "(II)I" } : Jvm.MethodName)) ∈ lw_all := lw_g (lw_at lw_m6 4 rfl) rfl
theorem q1338 : (Jvm.Cond.selects "LastPebble" ({ cls := "LastPebble", name := "rivals", desc := "(II)I" } : Jvm.MethodName) ({ cls := "LastPebble", name := "rivals", desc := "(II)I" } : Jvm.MethodName)) ∈ lw_all := lw_g (lw_at lw_m6 5 rfl) rfl
theorem q1339 : (Jvm.Cond.code ({ cls := "LastPebble", name := "rivals", desc := "(II)I" } : Jvm.MethodName) prog_1_method_72_code (5 : Nat) (Option.some Jvm.ClassFile.FieldType.int)) ∈ lw_all := lw_g (lw_at lw_m6 6 rfl) rfl
theorem q1341 : (Jvm.Cond.instanceMethod ({ cls := "LastPebble", name := "richest", desc := "()I" } : Jvm.MethodName)) ∈ lw_all := lw_g (lw_at lw_m6 8 rfl) rfl
theorem q1342 : (Jvm.Cond.selects "LastPebble" ({ cls := "LastPebble", name := "richest", desc := "()I" } : Jvm.MethodName) ({ cls := "LastPebble", name := "richest", desc := "()I" } : Jvm.MethodName)) ∈ lw_all := lw_g (lw_at lw_m6 9 rfl) rfl
theorem q1343 : (Jvm.Cond.code ({ cls := "LastPebble", name := "richest", desc := "()I" } : Jvm.MethodName) prog_1_method_73_code (3 : Nat) (Option.some Jvm.ClassFile.FieldType.int)) ∈ lw_all := lw_g (lw_at lw_m6 10 rfl) rfl
theorem q1345 : (Jvm.Cond.instanceMethod ({ cls := "LastPebble", name := "left", desc := "(I)I" } : Jvm.MethodName)) ∈ lw_all := lw_g (lw_at lw_m6 12 rfl) rfl
theorem q1346 : (Jvm.Cond.selects "LastPebble" ({ cls := "LastPebble", name := "left", desc := "(I)I" } : Jvm.MethodName) ({ cls := "LastPebble", name := "left", desc := "(I)I" } : Jvm.MethodName)) ∈ lw_all := lw_g (lw_at lw_m6 13 rfl) rfl
theorem q1347 : (Jvm.Cond.code ({ cls := "LastPebble", name := "left", desc := "(I)I" } : Jvm.MethodName) prog_1_method_74_code (3 : Nat) (Option.some Jvm.ClassFile.FieldType.int)) ∈ lw_all := lw_g (lw_at lw_m6 14 rfl) rfl
theorem q1349 : (Jvm.Cond.instanceMethod ({ cls := "LastPebble", name := "tideIn", desc := "(I)I" } : Jvm.MethodName)) ∈ lw_all := lw_g (lw_at lw_m6 16 rfl) rfl
theorem q1350 : (Jvm.Cond.selects "LastPebble" ({ cls := "LastPebble", name := "tideIn", desc := "(I)I" } : Jvm.MethodName) ({ cls := "LastPebble", name := "tideIn", desc := "(I)I" } : Jvm.MethodName)) ∈ lw_all := lw_g (lw_at lw_m6 17 rfl) rfl
theorem q1351 : (Jvm.Cond.code ({ cls := "LastPebble", name := "tideIn", desc := "(I)I" } : Jvm.MethodName) prog_1_method_75_code (2 : Nat) (Option.some Jvm.ClassFile.FieldType.int)) ∈ lw_all := lw_g (lw_at lw_m6 18 rfl) rfl
theorem q1352 : (Jvm.Cond.constantLong "LastPebble" (426 : Nat) (99 : Int64)) ∈ lw_all := lw_g (lw_at lw_m6 19 rfl) rfl
theorem q1354 : (Jvm.Cond.instanceMethod ({ cls := "LastPebble", name := "open", desc := "()I" } : Jvm.MethodName)) ∈ lw_all := lw_g (lw_at lw_m6 21 rfl) rfl
theorem q1355 : (Jvm.Cond.selects "LastPebble" ({ cls := "LastPebble", name := "open", desc := "()I" } : Jvm.MethodName) ({ cls := "LastPebble", name := "open", desc := "()I" } : Jvm.MethodName)) ∈ lw_all := lw_g (lw_at lw_m6 22 rfl) rfl
theorem q1356 : (Jvm.Cond.code ({ cls := "LastPebble", name := "open", desc := "()I" } : Jvm.MethodName) prog_1_method_76_code (3 : Nat) (Option.some Jvm.ClassFile.FieldType.int)) ∈ lw_all := lw_g (lw_at lw_m6 23 rfl) rfl
theorem q1358 : (Jvm.Cond.instanceMethod ({ cls := "LastPebble", name := "farthest", desc := "(I)I" } : Jvm.MethodName)) ∈ lw_all := lw_g (lw_at lw_m6 25 rfl) rfl
theorem q1359 : (Jvm.Cond.selects "LastPebble" ({ cls := "LastPebble", name := "farthest", desc := "(I)I" } : Jvm.MethodName) ({ cls := "LastPebble", name := "farthest", desc := "(I)I" } : Jvm.MethodName)) ∈ lw_all := lw_g (lw_at lw_m6 26 rfl) rfl
theorem q1360 : (Jvm.Cond.code ({ cls := "LastPebble", name := "farthest", desc := "(I)I" } : Jvm.MethodName) prog_1_method_78_code (4 : Nat) (Option.some Jvm.ClassFile.FieldType.int)) ∈ lw_all := lw_g (lw_at lw_m6 27 rfl) rfl
theorem q1361 : (Jvm.Cond.methodLink "LastPebble" (428 : Nat) ({ cls := "LastPebble", name := "minutesTo", desc := "(II)I" } : Jvm.MethodName)) ∈ lw_all := lw_g (lw_at lw_m6 28 rfl) rfl
theorem q1362 : (Jvm.Cond.privateMethod ({ cls := "LastPebble", name := "minutesTo", desc := "(II)I" } : Jvm.MethodName)) ∈ lw_tbl := lw_at lw_m6 29 rfl
theorem q1363 : (Jvm.Cond.instanceMethod ({ cls := "LastPebble", name := "minutesTo", desc := "(II)I" } : Jvm.MethodName)) ∈ lw_all := lw_g (lw_at lw_m6 30 rfl) rfl
theorem q1364 : (Jvm.Cond.code ({ cls := "LastPebble", name := "minutesTo", desc := "(II)I" } : Jvm.MethodName) prog_1_method_77_code (3 : Nat) (Option.some Jvm.ClassFile.FieldType.int)) ∈ lw_all := lw_g (lw_at lw_m6 31 rfl) rfl
theorem q1366 : (Jvm.Cond.instanceMethod ({ cls := "LastPebble", name := "time", desc := "(I)I" } : Jvm.MethodName)) ∈ lw_all := lw_g (lw_at lw_m6 33 rfl) rfl
theorem q1367 : (Jvm.Cond.selects "LastPebble" ({ cls := "LastPebble", name := "time", desc := "(I)I" } : Jvm.MethodName) ({ cls := "LastPebble", name := "time", desc := "(I)I" } : Jvm.MethodName)) ∈ lw_all := lw_g (lw_at lw_m6 34 rfl) rfl
theorem q1368 : (Jvm.Cond.code ({ cls := "LastPebble", name := "time", desc := "(I)I" } : Jvm.MethodName) prog_1_method_79_code (2 : Nat) (Option.some Jvm.ClassFile.FieldType.int)) ∈ lw_all := lw_g (lw_at lw_m6 35 rfl) rfl
theorem q1370 : (Jvm.Cond.instanceMethod ({ cls := "LastPebble", name := "tally", desc := "(II)I" } : Jvm.MethodName)) ∈ lw_all := lw_g (lw_at lw_m6 37 rfl) rfl
theorem q1371 : (Jvm.Cond.selects "LastPebble" ({ cls := "LastPebble", name := "tally", desc := "(II)I" } : Jvm.MethodName) ({ cls := "LastPebble", name := "tally", desc := "(II)I" } : Jvm.MethodName)) ∈ lw_all := lw_g (lw_at lw_m6 38 rfl) rfl
theorem q1372 : (Jvm.Cond.code ({ cls := "LastPebble", name := "tally", desc := "(II)I" } : Jvm.MethodName) prog_1_method_80_code (3 : Nat) (Option.some Jvm.ClassFile.FieldType.int)) ∈ lw_all := lw_g (lw_at lw_m6 39 rfl) rfl
theorem q1374 : (Jvm.Cond.instanceMethod ({ cls := "LastPebble", name := "busiest", desc := "()I" } : Jvm.MethodName)) ∈ lw_all := lw_g (lw_at lw_m6 41 rfl) rfl
theorem q1375 : (Jvm.Cond.selects "LastPebble" ({ cls := "LastPebble", name := "busiest", desc := "()I" } : Jvm.MethodName) ({ cls := "LastPebble", name := "busiest", desc := "()I" } : Jvm.MethodName)) ∈ lw_all := lw_g (lw_at lw_m6 42 rfl) rfl
theorem q1376 : (Jvm.Cond.code ({ cls := "LastPebble", name := "busiest", desc := "()I" } : Jvm.MethodName) prog_1_method_82_code (3 : Nat) (Option.some Jvm.ClassFile.FieldType.int)) ∈ lw_all := lw_g (lw_at lw_m6 43 rfl) rfl
theorem q1377 : (Jvm.Cond.methodLink "LastPebble" (431 : Nat) ({ cls := "LastPebble", name := "strewnOf", desc := "(I)I" } : Jvm.MethodName)) ∈ lw_all := lw_g (lw_at lw_m6 44 rfl) rfl
theorem q1378 : (Jvm.Cond.privateMethod ({ cls := "LastPebble", name := "strewnOf", desc := "(I)I" } : Jvm.MethodName)) ∈ lw_tbl := lw_at lw_m6 45 rfl
theorem q1379 : (Jvm.Cond.instanceMethod ({ cls := "LastPebble", name := "strewnOf", desc := "(I)I" } : Jvm.MethodName)) ∈ lw_all := lw_g (lw_at lw_m6 46 rfl) rfl
theorem q1380 : (Jvm.Cond.code ({ cls := "LastPebble", name := "strewnOf", desc := "(I)I" } : Jvm.MethodName) prog_1_method_81_code (4 : Nat) (Option.some Jvm.ClassFile.FieldType.int)) ∈ lw_all := lw_g (lw_at lw_m6 47 rfl) rfl
theorem q1382 : (Jvm.Cond.instanceMethod ({ cls := "LastPebble", name := "both", desc := "(III)I" } : Jvm.MethodName)) ∈ lw_all := lw_g (lw_at lw_m6 49 rfl) rfl
theorem q1383 : (Jvm.Cond.selects "LastPebble" ({ cls := "LastPebble", name := "both", desc := "(III)I" } : Jvm.MethodName) ({ cls := "LastPebble", name := "both", desc := "(III)I" } : Jvm.MethodName)) ∈ lw_all := lw_g (lw_at lw_m6 50 rfl) rfl
theorem q1384 : (Jvm.Cond.code ({ cls := "LastPebble", name := "both", desc := "(III)I" } : Jvm.MethodName) prog_1_method_83_code (4 : Nat) (Option.some Jvm.ClassFile.FieldType.int)) ∈ lw_all := lw_g (lw_at lw_m6 51 rfl) rfl
theorem q1386 : (Jvm.Cond.instanceMethod ({ cls := "LastPebble", name := "latest", desc := "()I" } : Jvm.MethodName)) ∈ lw_all := lw_g (lw_at lw_m6 53 rfl) rfl
theorem q1387 : (Jvm.Cond.selects "LastPebble" ({ cls := "LastPebble", name := "latest", desc := "()I" } : Jvm.MethodName) ({ cls := "LastPebble", name := "latest", desc := "()I" } : Jvm.MethodName)) ∈ lw_all := lw_g (lw_at lw_m6 54 rfl) rfl
theorem q1388 : (Jvm.Cond.code ({ cls := "LastPebble", name := "latest", desc := "()I" } : Jvm.MethodName) prog_1_method_84_code (3 : Nat) (Option.some Jvm.ClassFile.FieldType.int)) ∈ lw_all := lw_g (lw_at lw_m6 55 rfl) rfl
theorem q1390 : (Jvm.Cond.instanceMethod ({ cls := "LastPebble", name := "behind", desc := "(I)I" } : Jvm.MethodName)) ∈ lw_all := lw_g (lw_at lw_m6 57 rfl) rfl
theorem q1391 : (Jvm.Cond.selects "LastPebble" ({ cls := "LastPebble", name := "behind", desc := "(I)I" } : Jvm.MethodName) ({ cls := "LastPebble", name := "behind", desc := "(I)I" } : Jvm.MethodName)) ∈ lw_all := lw_g (lw_at lw_m6 58 rfl) rfl
theorem q1392 : (Jvm.Cond.code ({ cls := "LastPebble", name := "behind", desc := "(I)I" } : Jvm.MethodName) prog_1_method_85_code (4 : Nat) (Option.some Jvm.ClassFile.FieldType.int)) ∈ lw_all := lw_g (lw_at lw_m6 59 rfl) rfl
theorem q1394 : (Jvm.Cond.instanceMethod ({ cls := "LastPebble", name := "alone", desc := "()I" } : Jvm.MethodName)) ∈ lw_all := lw_g (lw_at lw_m6 61 rfl) rfl
theorem q1395 : (Jvm.Cond.selects "LastPebble" ({ cls := "LastPebble", name := "alone", desc := "()I" } : Jvm.MethodName) ({ cls := "LastPebble", name := "alone", desc := "()I" } : Jvm.MethodName)) ∈ lw_all := lw_g (lw_at lw_m6 62 rfl) rfl
theorem q1396 : (Jvm.Cond.code ({ cls := "LastPebble", name := "alone", desc := "()I" } : Jvm.MethodName) prog_1_method_86_code (4 : Nat) (Option.some Jvm.ClassFile.FieldType.int)) ∈ lw_all := lw_g (lw_at lw_m6 63 rfl) rfl
theorem q1398 : (Jvm.Cond.instanceMethod ({ cls := "LastPebble", name := "part", desc := "(II)I" } : Jvm.MethodName)) ∈ lw_all := lw_g (lw_at lw_m6 65 rfl) rfl
theorem q1399 : (Jvm.Cond.selects "LastPebble" ({ cls := "LastPebble", name := "part", desc := "(II)I" } : Jvm.MethodName) ({ cls := "LastPebble", name := "part", desc := "(II)I" } : Jvm.MethodName)) ∈ lw_all := lw_g (lw_at lw_m6 66 rfl) rfl
theorem q1400 : (Jvm.Cond.code ({ cls := "LastPebble", name := "part", desc := "(II)I" } : Jvm.MethodName) prog_1_method_87_code (7 : Nat) (Option.some Jvm.ClassFile.FieldType.int)) ∈ lw_all := lw_g (lw_at lw_m6 67 rfl) rfl
theorem q1402 : (Jvm.Cond.instanceMethod ({ cls := "LastPebble", name := "crowd", desc := "(I)I" } : Jvm.MethodName)) ∈ lw_all := lw_g (lw_at lw_m6 69 rfl) rfl
theorem q1403 : (Jvm.Cond.selects "LastPebble" ({ cls := "LastPebble", name := "crowd", desc := "(I)I" } : Jvm.MethodName) ({ cls := "LastPebble", name := "crowd", desc := "(I)I" } : Jvm.MethodName)) ∈ lw_all := lw_g (lw_at lw_m6 70 rfl) rfl
theorem q1404 : (Jvm.Cond.code ({ cls := "LastPebble", name := "crowd", desc := "(I)I" } : Jvm.MethodName) prog_1_method_88_code (6 : Nat) (Option.some Jvm.ClassFile.FieldType.int)) ∈ lw_all := lw_g (lw_at lw_m6 71 rfl) rfl
theorem q1406 : (Jvm.Cond.instanceMethod ({ cls := "LastPebble", name := "lies", desc := "(II)I" } : Jvm.MethodName)) ∈ lw_all := lw_g (lw_at lw_m6 73 rfl) rfl
theorem q1407 : (Jvm.Cond.selects "LastPebble" ({ cls := "LastPebble", name := "lies", desc := "(II)I" } : Jvm.MethodName) ({ cls := "LastPebble", name := "lies", desc := "(II)I" } : Jvm.MethodName)) ∈ lw_all := lw_g (lw_at lw_m6 74 rfl) rfl
theorem q1408 : (Jvm.Cond.code ({ cls := "LastPebble", name := "lies", desc := "(II)I" } : Jvm.MethodName) prog_1_method_89_code (5 : Nat) (Option.some Jvm.ClassFile.FieldType.int)) ∈ lw_all := lw_g (lw_at lw_m6 75 rfl) rfl
theorem q1410 : (Jvm.Cond.instanceMethod ({ cls := "LastPebble", name := "live", desc := "(I)I" } : Jvm.MethodName)) ∈ lw_all := lw_g (lw_at lw_m6 77 rfl) rfl
theorem q1411 : (Jvm.Cond.selects "LastPebble" ({ cls := "LastPebble", name := "live", desc := "(I)I" } : Jvm.MethodName) ({ cls := "LastPebble", name := "live", desc := "(I)I" } : Jvm.MethodName)) ∈ lw_all := lw_g (lw_at lw_m6 78 rfl) rfl
theorem q1412 : (Jvm.Cond.code ({ cls := "LastPebble", name := "live", desc := "(I)I" } : Jvm.MethodName) prog_1_method_90_code (3 : Nat) (Option.some Jvm.ClassFile.FieldType.int)) ∈ lw_all := lw_g (lw_at lw_m6 79 rfl) rfl
theorem q1413 : (Jvm.Cond.constantLong "LastPebble" (434 : Nat) (9999 : Int64)) ∈ lw_all := lw_g (lw_at lw_m6 80 rfl) rfl
theorem q1414 : (Jvm.Cond.classLink "LastPebble" (436 : Nat) "LastPebble$Living") ∈ lw_all := lw_g (lw_at lw_m6 81 rfl) rfl
theorem q1416 : (Jvm.Cond.methodLink "LastPebble" (438 : Nat) ({ cls := "LastPebble$Living", name := "<init>", desc := "(LLastPebble$Day;I)V" } : Jvm.MethodName)) ∈ lw_all := lw_g (lw_at lw_m6 83 rfl) rfl
theorem q1425 : (Jvm.Cond.fieldLinkNest "LastPebble" (464 : Nat) "LastPebble$Living" "done" "I" "LastPebble") ∈ lw_tbl := lw_at lw_m6 92 rfl
theorem q1427 : (Jvm.Cond.fieldLinkNest "LastPebble" (445 : Nat) "LastPebble$Living" "missed" "I" "LastPebble") ∈ lw_tbl := lw_at lw_m6 94 rfl
theorem q1429 : (Jvm.Cond.fieldLinkNest "LastPebble" (448 : Nat) "LastPebble$Living" "gulls" "I" "LastPebble") ∈ lw_tbl := lw_at lw_m6 96 rfl
theorem q1431 : (Jvm.Cond.fieldLinkNest "LastPebble" (451 : Nat) "LastPebble$Living" "washed" "I" "LastPebble") ∈ lw_tbl := lw_at lw_m6 98 rfl
theorem q1433 : (Jvm.Cond.fieldLinkNest "LastPebble" (454 : Nat) "LastPebble$Living" "tides" "I" "LastPebble") ∈ lw_tbl := lw_at lw_m6 100 rfl
theorem q1439 : (Jvm.Cond.fieldLinkNest "LastPebble" (457 : Nat) "LastPebble$Living" "isLeft" "Z" "LastPebble") ∈ lw_tbl := lw_at lw_m6 106 rfl
theorem q1459 : (Jvm.Cond.methodLink "LastPebble" (441 : Nat) ({ cls := "LastPebble$Loop", name := "all", desc := "(LLastPebble$Living;)V" } : Jvm.MethodName)) ∈ lw_all := lw_g (lw_at lw_m6 126 rfl) rfl
theorem q1521 : (Jvm.Cond.instanceMethod ({ cls := "LastPebble", name := "lived", desc := "(I)I" } : Jvm.MethodName)) ∈ lw_all := lw_g (lw_at lw_m6 188 rfl) rfl
theorem q1522 : (Jvm.Cond.selects "LastPebble" ({ cls := "LastPebble", name := "lived", desc := "(I)I" } : Jvm.MethodName) ({ cls := "LastPebble", name := "lived", desc := "(I)I" } : Jvm.MethodName)) ∈ lw_all := lw_g (lw_at lw_m6 189 rfl) rfl
theorem q1523 : (Jvm.Cond.code ({ cls := "LastPebble", name := "lived", desc := "(I)I" } : Jvm.MethodName) prog_1_method_91_code (2 : Nat) (Option.some Jvm.ClassFile.FieldType.int)) ∈ lw_all := lw_g (lw_at lw_m6 190 rfl) rfl
theorem q1525 : (Jvm.Cond.instanceMethod ({ cls := "LastPebble", name := "mean", desc := "(III)Z" } : Jvm.MethodName)) ∈ lw_all := lw_g (lw_at lw_m6 192 rfl) rfl
theorem q1526 : (Jvm.Cond.selects "LastPebble" ({ cls := "LastPebble", name := "mean", desc := "(III)Z" } : Jvm.MethodName) ({ cls := "LastPebble", name := "mean", desc := "(III)Z" } : Jvm.MethodName)) ∈ lw_all := lw_g (lw_at lw_m6 193 rfl) rfl
theorem q1527 : (Jvm.Cond.code ({ cls := "LastPebble", name := "mean", desc := "(III)Z" } : Jvm.MethodName) prog_1_method_92_code (7 : Nat) (Option.some Jvm.ClassFile.FieldType.boolean)) ∈ lw_all := lw_g (lw_at lw_m6 194 rfl) rfl
theorem q1528 : (Jvm.Cond.constantLong "LastPebble" (467 : Nat) (20 : Int64)) ∈ lw_all := lw_g (lw_at lw_m6 195 rfl) rfl
theorem q1530 : (Jvm.Cond.instanceMethod ({ cls := "LastPebble", name := "mark", desc := "()I" } : Jvm.MethodName)) ∈ lw_all := lw_g (lw_at lw_m6 197 rfl) rfl
theorem q1531 : (Jvm.Cond.selects "LastPebble" ({ cls := "LastPebble", name := "mark", desc := "()I" } : Jvm.MethodName) ({ cls := "LastPebble", name := "mark", desc := "()I" } : Jvm.MethodName)) ∈ lw_all := lw_g (lw_at lw_m6 198 rfl) rfl
theorem q1532 : (Jvm.Cond.code ({ cls := "LastPebble", name := "mark", desc := "()I" } : Jvm.MethodName) prog_1_method_93_code (1 : Nat) (Option.some Jvm.ClassFile.FieldType.int)) ∈ lw_all := lw_g (lw_at lw_m6 199 rfl) rfl
theorem q1533 : (Jvm.Cond.methodLink "LastPebble" (472 : Nat) ({ cls := "LastPebble$House", name := "be", desc := "(LLastPebble$House;)V" } : Jvm.MethodName)) ∈ lw_all := lw_g (lw_at lw_m6 200 rfl) rfl
theorem q1539 : (Jvm.Cond.instanceMethod ({ cls := "LastPebble", name := "back", desc := "()I" } : Jvm.MethodName)) ∈ lw_all := lw_g (lw_at lw_m6 206 rfl) rfl
theorem q1540 : (Jvm.Cond.selects "LastPebble" ({ cls := "LastPebble", name := "back", desc := "()I" } : Jvm.MethodName) ({ cls := "LastPebble", name := "back", desc := "()I" } : Jvm.MethodName)) ∈ lw_all := lw_g (lw_at lw_m6 207 rfl) rfl
theorem q1541 : (Jvm.Cond.code ({ cls := "LastPebble", name := "back", desc := "()I" } : Jvm.MethodName) prog_1_method_94_code (1 : Nat) (Option.some Jvm.ClassFile.FieldType.int)) ∈ lw_all := lw_g (lw_at lw_m6 208 rfl) rfl
theorem in_X0 : ∀ w ∈ wsX00, w ∈ lw_all := lw_in wsX00 [487, 489, 491, 493, 495, 497, 499, 501, 503, 505, 507, 509, 511, 513, 515, 517, 519, 521, 523, 525, 527, 529, 531] (by decide +kernel) (by decide +kernel)

/-! LastPebble$Tray -/
set_option maxRecDepth 100000
def RX1 : String := "LastPebble$Tray"
def TX1 : u_T := fun k => match k with
  | _ => ("LastPebble$Tray", "row", "Ljava/lang/Object;", false)
def tyX1 : Nat → FieldType := fun k => match k with
  | _ => .object "java/lang/Object"
abbrev wsX10 : List Cond := u_ws RX1 TX1 1
theorem nmX1 : ∀ a, a < 1 → ∀ b, b < 1 → a ≠ b → (TX1 a).2.1 ≠ (TX1 b).2.1 := by decide +kernel
theorem tyX1_ok : ∀ k, k < 1 → parseFieldDescriptor (TX1 k).2.2.1 = some (tyX1 k) := by decide +kernel
theorem q135 : (Jvm.Cond.initialized "LastPebble$Tray") ∈ lw_all := lw_g (lw_at lw_m1 2 rfl) rfl
theorem q174 : (Jvm.Cond.instantiable "LastPebble$Tray" (1 : Nat)) ∈ lw_all := lw_g (lw_at lw_m1 41 rfl) rfl
theorem q176 : (Jvm.Cond.instanceMethod ({ cls := "LastPebble$Tray", name := "<init>", desc := "()V" } : Jvm.MethodName)) ∈ lw_all := lw_g (lw_at lw_m1 43 rfl) rfl
theorem q177 : (Jvm.Cond.code ({ cls := "LastPebble$Tray", name := "<init>", desc := "()V" } : Jvm.MethodName) prog_14_method_1_code (1 : Nat) (Option.none : Option Jvm.ClassFile.FieldType)) ∈ lw_all := lw_g (lw_at lw_m1 44 rfl) rfl
theorem q178 : (Jvm.Cond.methodLink "LastPebble$Tray" (1 : Nat) ({ cls := "java/lang/Object", name := "<init>", desc := "()V" } : Jvm.MethodName)) ∈ lw_all := lw_g (lw_at lw_m1 45 rfl) rfl
theorem q180 : (Jvm.Cond.lays "LastPebble$Tray" "LastPebble$Tray" "row" "Ljava/lang/Object;") ∈ lw_all := lw_g (lw_at lw_m1 47 rfl) rfl
theorem q181 : (Jvm.Cond.soleField "LastPebble$Tray" "row") ∈ lw_all := lw_g (lw_at lw_m1 48 rfl) rfl
theorem q182 : (Jvm.Cond.superclass "LastPebble$Tray" "java/lang/Object") ∈ lw_all := lw_g (lw_at lw_m1 49 rfl) rfl
theorem in_X1 : ∀ w ∈ wsX10, w ∈ lw_all := lw_in wsX10 [180] (by decide +kernel) (by decide +kernel)

/-! java/lang/Throwable -/
set_option maxRecDepth 100000
def RJ0 : String := "java/lang/Throwable"
def TJ0 : u_T := fun k => match k with
  | 0 => ("java/lang/Throwable", "cause", "Ljava/lang/Throwable;", false)
  | 1 => ("java/lang/Throwable", "stackTrace", "[Ljava/lang/StackTraceElement;", false)
  | 2 => ("java/lang/Throwable", "suppressedExceptions", "Ljava/util/List;", false)
  | 3 => ("java/lang/Throwable", "detailMessage", "Ljava/lang/String;", false)
  | _ => ("java/lang/Throwable", "backtrace", "Ljava/lang/Object;", false)
def tyJ0 : Nat → FieldType := fun k => match k with
  | 0 => .object "java/lang/Throwable"
  | 1 => .array (.object "java/lang/StackTraceElement")
  | 2 => .object "java/util/List"
  | 3 => .object "java/lang/String"
  | _ => .object "java/lang/Object"
abbrev wsJ00 : List Cond := u_ws RJ0 TJ0 5
theorem nmJ0 : ∀ a, a < 5 → ∀ b, b < 5 → a ≠ b → (TJ0 a).2.1 ≠ (TJ0 b).2.1 := by decide +kernel
theorem tyJ0_ok : ∀ k, k < 5 → parseFieldDescriptor (TJ0 k).2.2.1 = some (tyJ0 k) := by decide +kernel
theorem q136 : (Jvm.Cond.initialized "java/lang/Throwable") ∈ lw_all := lw_g (lw_at lw_m1 3 rfl) rfl
theorem q188 : (Jvm.Cond.declares ({ cls := "java/lang/Throwable", name := "<init>", desc := "()V" } : Jvm.MethodName)) ∈ lw_tbl := lw_at lw_m1 55 rfl
theorem q189 : (Jvm.Cond.declares ({ cls := "java/lang/Throwable", name := "<init>", desc := "(Ljava/lang/String;)V" } : Jvm.MethodName)) ∈ lw_tbl := lw_at lw_m1 56 rfl
theorem q193 : (Jvm.Cond.lays "java/lang/Throwable" "java/lang/Throwable" "cause" "Ljava/lang/Throwable;") ∈ lw_all := lw_g (lw_at lw_m1 60 rfl) rfl
theorem q195 : (Jvm.Cond.lays "java/lang/Throwable" "java/lang/Throwable" "stackTrace" "[Ljava/lang/StackTraceElement;") ∈ lw_all := lw_g (lw_at lw_m1 62 rfl) rfl
theorem q197 : (Jvm.Cond.lays "java/lang/Throwable" "java/lang/Throwable" "suppressedExceptions" "Ljava/util/List;") ∈ lw_all := lw_g (lw_at lw_m1 64 rfl) rfl
theorem q199 : (Jvm.Cond.lays "java/lang/Throwable" "java/lang/Throwable" "detailMessage" "Ljava/lang/String;") ∈ lw_all := lw_g (lw_at lw_m1 66 rfl) rfl
theorem q201 : (Jvm.Cond.lays "java/lang/Throwable" "java/lang/Throwable" "backtrace" "Ljava/lang/Object;") ∈ lw_all := lw_g (lw_at lw_m1 68 rfl) rfl
theorem q202 : (Jvm.Cond.fieldLink "java/lang/Throwable" (198 : Nat) "java/lang/Throwable" "backtrace" "Ljava/lang/Object;") ∈ lw_all := lw_g (lw_at lw_m1 69 rfl) rfl
theorem q203 : (Jvm.Cond.superclass "java/lang/Throwable" "java/lang/Object") ∈ lw_all := lw_g (lw_at lw_m1 70 rfl) rfl
theorem q204 : (Jvm.Cond.instanceMethod ({ cls := "java/lang/Throwable", name := "<init>", desc := "()V" } : Jvm.MethodName)) ∈ lw_all := lw_g (lw_at lw_m1 71 rfl) rfl
theorem q205 : (Jvm.Cond.code ({ cls := "java/lang/Throwable", name := "<init>", desc := "()V" } : Jvm.MethodName) prog_30_method_1_code (1 : Nat) (Option.none : Option Jvm.ClassFile.FieldType)) ∈ lw_all := lw_g (lw_at lw_m1 72 rfl) rfl
theorem q206 : (Jvm.Cond.methodLink "java/lang/Throwable" (1 : Nat) ({ cls := "java/lang/Object", name := "<init>", desc := "()V" } : Jvm.MethodName)) ∈ lw_all := lw_g (lw_at lw_m1 73 rfl) rfl
theorem q207 : (Jvm.Cond.fieldLink "java/lang/Throwable" (13 : Nat) "java/lang/Throwable" "UNASSIGNED_STACK" "[Ljava/lang/StackTraceElement;") ∈ lw_all := lw_g (lw_at lw_m1 74 rfl) rfl
theorem q208 : (Jvm.Cond.laysStatic "java/lang/Throwable" "UNASSIGNED_STACK" "[Ljava/lang/StackTraceElement;") ∈ lw_tbl := lw_at lw_m1 75 rfl
theorem q209 : (Jvm.Cond.fieldLink "java/lang/Throwable" (20 : Nat) "java/lang/Throwable" "SUPPRESSED_SENTINEL" "Ljava/util/List;") ∈ lw_all := lw_g (lw_at lw_m1 76 rfl) rfl
theorem q210 : (Jvm.Cond.laysStatic "java/lang/Throwable" "SUPPRESSED_SENTINEL" "Ljava/util/List;") ∈ lw_tbl := lw_at lw_m1 77 rfl
theorem q211 : (Jvm.Cond.methodLink "java/lang/Throwable" (27 : Nat) ({ cls := "java/lang/Throwable", name := "fillInStackTrace", desc := "()Ljava/lang/Throwable;" } : Jvm.MethodName)) ∈ lw_all := lw_g (lw_at lw_m1 78 rfl) rfl
theorem q212 : (Jvm.Cond.instanceMethod ({ cls := "java/lang/Throwable", name := "fillInStackTrace", desc := "()Ljava/lang/Throwable;" } : Jvm.MethodName)) ∈ lw_all := lw_g (lw_at lw_m1 79 rfl) rfl
theorem q213 : (Jvm.Cond.sameMethod "java/lang/Throwable" "java/lang/Throwable" "fillInStackTrace" "()Ljava/lang/Throwable;") ∈ lw_all := lw_g (lw_at lw_m1 80 rfl) rfl
theorem q217 : (Jvm.Cond.codeSync ({ cls := "java/lang/Throwable", name := "fillInStackTrace", desc := "()Ljava/lang/Throwable;" } : Jvm.MethodName) prog_30_method_18_code (1 : Nat) (Option.some (Jvm.ClassFile.FieldType.object "java/lang/Throwable"))) ∈ lw_all := lw_g (lw_at lw_m1 84 rfl) rfl
theorem q218 : (Jvm.Cond.methodLink "java/lang/Throwable" (202 : Nat) ({ cls := "java/lang/Throwable", name := "fillInStackTrace", desc := "(I)Ljava/lang/Throwable;" } : Jvm.MethodName)) ∈ lw_all := lw_g (lw_at lw_m1 85 rfl) rfl
theorem q219 : (Jvm.Cond.privateMethod ({ cls := "java/lang/Throwable", name := "fillInStackTrace", desc := "(I)Ljava/lang/Throwable;" } : Jvm.MethodName)) ∈ lw_tbl := lw_at lw_m1 86 rfl
theorem q220 : (Jvm.Cond.instanceMethod ({ cls := "java/lang/Throwable", name := "fillInStackTrace", desc := "(I)Ljava/lang/Throwable;" } : Jvm.MethodName)) ∈ lw_all := lw_g (lw_at lw_m1 87 rfl) rfl
theorem q221 : (Jvm.Cond.instantiable "java/lang/Throwable" (6 : Nat)) ∈ lw_all := lw_g (lw_at lw_m1 88 rfl) rfl
theorem q222 : (Jvm.Cond.native ({ cls := "java/lang/Throwable", name := "fillInStackTrace", desc := "(I)Ljava/lang/Throwable;" } : Jvm.MethodName)) ∈ lw_all := lw_g (lw_at lw_m1 89 rfl) rfl
theorem q230 : (Jvm.Cond.instanceMethod ({ cls := "java/lang/Throwable", name := "<init>", desc := "(Ljava/lang/String;Ljava/lang/Throwable;ZZ)V" } : Jvm.MethodName)) ∈ lw_all := lw_g (lw_at lw_m1 97 rfl) rfl
theorem q231 : (Jvm.Cond.code ({ cls := "java/lang/Throwable", name := "<init>", desc := "(Ljava/lang/String;Ljava/lang/Throwable;ZZ)V" } : Jvm.MethodName) prog_30_method_5_code (5 : Nat) (Option.none : Option Jvm.ClassFile.FieldType)) ∈ lw_all := lw_g (lw_at lw_m1 98 rfl) rfl
theorem q236 : (Jvm.Cond.fieldLink "java/lang/Throwable" (198 : Nat) "java/lang/Throwable" "backtrace" "Ljava/lang/Object;") ∈ lw_all := lw_g (lw_at lw_m1 103 rfl) rfl
theorem q237 : (Jvm.Cond.fieldLink "java/lang/Throwable" (31 : Nat) "java/lang/Throwable" "detailMessage" "Ljava/lang/String;") ∈ lw_all := lw_g (lw_at lw_m1 104 rfl) rfl
theorem q238 : (Jvm.Cond.fieldLink "java/lang/Throwable" (7 : Nat) "java/lang/Throwable" "cause" "Ljava/lang/Throwable;") ∈ lw_all := lw_g (lw_at lw_m1 105 rfl) rfl
theorem q239 : (Jvm.Cond.fieldLink "java/lang/Throwable" (17 : Nat) "java/lang/Throwable" "stackTrace" "[Ljava/lang/StackTraceElement;") ∈ lw_all := lw_g (lw_at lw_m1 106 rfl) rfl
theorem q240 : (Jvm.Cond.fieldLink "java/lang/Throwable" (24 : Nat) "java/lang/Throwable" "suppressedExceptions" "Ljava/util/List;") ∈ lw_all := lw_g (lw_at lw_m1 107 rfl) rfl
theorem q245 : (Jvm.Cond.soleField "java/lang/Throwable" "backtrace") ∈ lw_all := lw_g (lw_at lw_m1 112 rfl) rfl
theorem q246 : (Jvm.Cond.soleField "java/lang/Throwable" "detailMessage") ∈ lw_all := lw_g (lw_at lw_m1 113 rfl) rfl
theorem q247 : (Jvm.Cond.soleField "java/lang/Throwable" "cause") ∈ lw_all := lw_g (lw_at lw_m1 114 rfl) rfl
theorem q248 : (Jvm.Cond.soleField "java/lang/Throwable" "stackTrace") ∈ lw_all := lw_g (lw_at lw_m1 115 rfl) rfl
theorem q250 : (Jvm.Cond.soleField "java/lang/Throwable" "depth") ∈ lw_all := lw_g (lw_at lw_m1 117 rfl) rfl
theorem q251 : (Jvm.Cond.soleField "java/lang/Throwable" "suppressedExceptions") ∈ lw_all := lw_g (lw_at lw_m1 118 rfl) rfl
theorem q561 : (Jvm.Cond.instanceMethod ({ cls := "java/lang/Throwable", name := "<init>", desc := "(Ljava/lang/String;)V" } : Jvm.MethodName)) ∈ lw_all := lw_g (lw_at lw_m2 188 rfl) rfl
theorem q562 : (Jvm.Cond.code ({ cls := "java/lang/Throwable", name := "<init>", desc := "(Ljava/lang/String;)V" } : Jvm.MethodName) prog_30_method_2_code (2 : Nat) (Option.none : Option Jvm.ClassFile.FieldType)) ∈ lw_all := lw_g (lw_at lw_m2 189 rfl) rfl
theorem q2291 : (Jvm.Cond.sameMethod "java/lang/Throwable" "java/lang/Throwable" "fillInStackTrace" "(I)Ljava/lang/Throwable;") ∈ lw_all := lw_g (lw_at lw_m9 238 rfl) rfl
theorem in_J0 : ∀ w ∈ wsJ00, w ∈ lw_all := lw_in wsJ00 [193, 195, 197, 199, 201] (by decide +kernel) (by decide +kernel)

/-! java/lang/Exception -/
set_option maxRecDepth 100000
def RJ1 : String := "java/lang/Exception"
theorem q137 : (Jvm.Cond.initialized "java/lang/Exception") ∈ lw_all := lw_g (lw_at lw_m1 4 rfl) rfl
theorem q186 : (Jvm.Cond.declares ({ cls := "java/lang/Exception", name := "<init>", desc := "()V" } : Jvm.MethodName)) ∈ lw_tbl := lw_at lw_m1 53 rfl
theorem q187 : (Jvm.Cond.declares ({ cls := "java/lang/Exception", name := "<init>", desc := "(Ljava/lang/String;)V" } : Jvm.MethodName)) ∈ lw_tbl := lw_at lw_m1 54 rfl
theorem q227 : (Jvm.Cond.instanceMethod ({ cls := "java/lang/Exception", name := "<init>", desc := "(Ljava/lang/String;Ljava/lang/Throwable;ZZ)V" } : Jvm.MethodName)) ∈ lw_all := lw_g (lw_at lw_m1 94 rfl) rfl
theorem q228 : (Jvm.Cond.code ({ cls := "java/lang/Exception", name := "<init>", desc := "(Ljava/lang/String;Ljava/lang/Throwable;ZZ)V" } : Jvm.MethodName) prog_19_method_5_code (5 : Nat) (Option.none : Option Jvm.ClassFile.FieldType)) ∈ lw_all := lw_g (lw_at lw_m1 95 rfl) rfl
theorem q229 : (Jvm.Cond.methodLink "java/lang/Exception" (16 : Nat) ({ cls := "java/lang/Throwable", name := "<init>", desc := "(Ljava/lang/String;Ljava/lang/Throwable;ZZ)V" } : Jvm.MethodName)) ∈ lw_all := lw_g (lw_at lw_m1 96 rfl) rfl
theorem q558 : (Jvm.Cond.instanceMethod ({ cls := "java/lang/Exception", name := "<init>", desc := "(Ljava/lang/String;)V" } : Jvm.MethodName)) ∈ lw_all := lw_g (lw_at lw_m2 185 rfl) rfl
theorem q559 : (Jvm.Cond.code ({ cls := "java/lang/Exception", name := "<init>", desc := "(Ljava/lang/String;)V" } : Jvm.MethodName) prog_19_method_2_code (2 : Nat) (Option.none : Option Jvm.ClassFile.FieldType)) ∈ lw_all := lw_g (lw_at lw_m2 186 rfl) rfl
theorem q560 : (Jvm.Cond.methodLink "java/lang/Exception" (7 : Nat) ({ cls := "java/lang/Throwable", name := "<init>", desc := "(Ljava/lang/String;)V" } : Jvm.MethodName)) ∈ lw_all := lw_g (lw_at lw_m2 187 rfl) rfl

/-! LastPebble$Bad -/
set_option maxRecDepth 100000
def RX2 : String := "LastPebble$Bad"
def TX2 : u_T := fun k => match k with
  | 0 => ("java/lang/Throwable", "cause", "Ljava/lang/Throwable;", false)
  | 1 => ("java/lang/Throwable", "stackTrace", "[Ljava/lang/StackTraceElement;", false)
  | 2 => ("java/lang/Throwable", "suppressedExceptions", "Ljava/util/List;", false)
  | 3 => ("java/lang/Throwable", "detailMessage", "Ljava/lang/String;", false)
  | 4 => ("java/lang/Throwable", "backtrace", "Ljava/lang/Object;", false)
  | 5 => ("java/lang/Throwable", "depth", "I", false)
  | 6 => ("LastPebble$Bad", "kind", "I", false)
  | _ => ("LastPebble$Bad", "place", "I", false)
def tyX2 : Nat → FieldType := fun k => match k with
  | 0 => .object "java/lang/Throwable"
  | 1 => .array (.object "java/lang/StackTraceElement")
  | 2 => .object "java/util/List"
  | 3 => .object "java/lang/String"
  | 4 => .object "java/lang/Object"
  | 5 => .int
  | 6 => .int
  | _ => .int
abbrev wsX20 : List Cond := u_ws RX2 TX2 8
theorem nmX2 : ∀ a, a < 8 → ∀ b, b < 8 → a ≠ b → (TX2 a).2.1 ≠ (TX2 b).2.1 := by decide +kernel
theorem tyX2_ok : ∀ k, k < 8 → parseFieldDescriptor (TX2 k).2.2.1 = some (tyX2 k) := by decide +kernel
theorem q138 : (Jvm.Cond.initialized "LastPebble$Bad") ∈ lw_all := lw_g (lw_at lw_m1 5 rfl) rfl
theorem q184 : (Jvm.Cond.instantiable "LastPebble$Bad" (8 : Nat)) ∈ lw_all := lw_g (lw_at lw_m1 51 rfl) rfl
theorem q185 : (Jvm.Cond.castable "LastPebble$Bad" "LastPebble$Bad") ∈ lw_tbl := lw_at lw_m1 52 rfl
theorem q190 : (Jvm.Cond.selects "LastPebble$Bad" ({ cls := "java/lang/Throwable", name := "fillInStackTrace", desc := "(I)Ljava/lang/Throwable;" } : Jvm.MethodName) ({ cls := "java/lang/Throwable", name := "fillInStackTrace", desc := "(I)Ljava/lang/Throwable;" } : Jvm.MethodName)) ∈ lw_all := lw_g (lw_at lw_m1 57 rfl) rfl
theorem q191 : (Jvm.Cond.selects "LastPebble$Bad" ({ cls := "java/lang/Throwable", name := "fillInStackTrace", desc := "()Ljava/lang/Throwable;" } : Jvm.MethodName) ({ cls := "java/lang/Throwable", name := "fillInStackTrace", desc := "()Ljava/lang/Throwable;" } : Jvm.MethodName)) ∈ lw_all := lw_g (lw_at lw_m1 58 rfl) rfl
theorem q192 : (Jvm.Cond.lays "LastPebble$Bad" "java/lang/Throwable" "cause" "Ljava/lang/Throwable;") ∈ lw_all := lw_g (lw_at lw_m1 59 rfl) rfl
theorem q194 : (Jvm.Cond.lays "LastPebble$Bad" "java/lang/Throwable" "stackTrace" "[Ljava/lang/StackTraceElement;") ∈ lw_all := lw_g (lw_at lw_m1 61 rfl) rfl
theorem q196 : (Jvm.Cond.lays "LastPebble$Bad" "java/lang/Throwable" "suppressedExceptions" "Ljava/util/List;") ∈ lw_all := lw_g (lw_at lw_m1 63 rfl) rfl
theorem q198 : (Jvm.Cond.lays "LastPebble$Bad" "java/lang/Throwable" "detailMessage" "Ljava/lang/String;") ∈ lw_all := lw_g (lw_at lw_m1 65 rfl) rfl
theorem q200 : (Jvm.Cond.lays "LastPebble$Bad" "java/lang/Throwable" "backtrace" "Ljava/lang/Object;") ∈ lw_all := lw_g (lw_at lw_m1 67 rfl) rfl
theorem q224 : (Jvm.Cond.instanceMethod ({ cls := "LastPebble$Bad", name := "<init>", desc := "()V" } : Jvm.MethodName)) ∈ lw_all := lw_g (lw_at lw_m1 91 rfl) rfl
theorem q225 : (Jvm.Cond.code ({ cls := "LastPebble$Bad", name := "<init>", desc := "()V" } : Jvm.MethodName) prog_3_method_1_code (1 : Nat) (Option.none : Option Jvm.ClassFile.FieldType)) ∈ lw_all := lw_g (lw_at lw_m1 92 rfl) rfl
theorem q226 : (Jvm.Cond.methodLink "LastPebble$Bad" (1 : Nat) ({ cls := "java/lang/Exception", name := "<init>", desc := "(Ljava/lang/String;Ljava/lang/Throwable;ZZ)V" } : Jvm.MethodName)) ∈ lw_all := lw_g (lw_at lw_m1 93 rfl) rfl
theorem q232 : (Jvm.Cond.fieldLink "LastPebble$Bad" (7 : Nat) "LastPebble$Bad" "kind" "I") ∈ lw_all := lw_g (lw_at lw_m1 99 rfl) rfl
theorem q234 : (Jvm.Cond.fieldLink "LastPebble$Bad" (13 : Nat) "LastPebble$Bad" "place" "I") ∈ lw_all := lw_g (lw_at lw_m1 101 rfl) rfl
theorem q241 : (Jvm.Cond.lays "LastPebble$Bad" "LastPebble$Bad" "kind" "I") ∈ lw_all := lw_g (lw_at lw_m1 108 rfl) rfl
theorem q242 : (Jvm.Cond.soleField "LastPebble$Bad" "kind") ∈ lw_all := lw_g (lw_at lw_m1 109 rfl) rfl
theorem q243 : (Jvm.Cond.lays "LastPebble$Bad" "LastPebble$Bad" "place" "I") ∈ lw_all := lw_g (lw_at lw_m1 110 rfl) rfl
theorem q244 : (Jvm.Cond.soleField "LastPebble$Bad" "place") ∈ lw_all := lw_g (lw_at lw_m1 111 rfl) rfl
theorem q249 : (Jvm.Cond.lays "LastPebble$Bad" "java/lang/Throwable" "depth" "I") ∈ lw_all := lw_g (lw_at lw_m1 116 rfl) rfl
theorem q252 : (Jvm.Cond.superclass "LastPebble$Bad" "java/lang/Exception") ∈ lw_all := lw_g (lw_at lw_m1 119 rfl) rfl
theorem q784 : (Jvm.Cond.instanceMethod ({ cls := "LastPebble$Bad", name := "at", desc := "(II)LLastPebble$Bad;" } : Jvm.MethodName)) ∈ lw_all := lw_g (lw_at lw_m3 171 rfl) rfl
theorem q785 : (Jvm.Cond.selects "LastPebble$Bad" ({ cls := "LastPebble$Bad", name := "at", desc := "(II)LLastPebble$Bad;" } : Jvm.MethodName) ({ cls := "LastPebble$Bad", name := "at", desc := "(II)LLastPebble$Bad;" } : Jvm.MethodName)) ∈ lw_all := lw_g (lw_at lw_m3 172 rfl) rfl
theorem q786 : (Jvm.Cond.code ({ cls := "LastPebble$Bad", name := "at", desc := "(II)LLastPebble$Bad;" } : Jvm.MethodName) prog_3_method_2_code (3 : Nat) (Option.some (Jvm.ClassFile.FieldType.object "LastPebble$Bad"))) ∈ lw_all := lw_g (lw_at lw_m3 173 rfl) rfl
theorem in_X2 : ∀ w ∈ wsX20, w ∈ lw_all := lw_in wsX20 [192, 194, 196, 198, 200, 249, 241, 243] (by decide +kernel) (by decide +kernel)

/-! LastPebble$Refused -/
set_option maxRecDepth 100000
def RX3 : String := "LastPebble$Refused"
def TX3 : u_T := fun k => match k with
  | 0 => ("java/lang/Throwable", "cause", "Ljava/lang/Throwable;", false)
  | 1 => ("java/lang/Throwable", "stackTrace", "[Ljava/lang/StackTraceElement;", false)
  | 2 => ("java/lang/Throwable", "suppressedExceptions", "Ljava/util/List;", false)
  | 3 => ("java/lang/Throwable", "detailMessage", "Ljava/lang/String;", false)
  | 4 => ("java/lang/Throwable", "backtrace", "Ljava/lang/Object;", false)
  | 5 => ("java/lang/Throwable", "depth", "I", false)
  | _ => ("LastPebble$Refused", "why", "I", false)
def tyX3 : Nat → FieldType := fun k => match k with
  | 0 => .object "java/lang/Throwable"
  | 1 => .array (.object "java/lang/StackTraceElement")
  | 2 => .object "java/util/List"
  | 3 => .object "java/lang/String"
  | 4 => .object "java/lang/Object"
  | 5 => .int
  | _ => .int
abbrev wsX30 : List Cond := u_ws RX3 TX3 7
theorem nmX3 : ∀ a, a < 7 → ∀ b, b < 7 → a ≠ b → (TX3 a).2.1 ≠ (TX3 b).2.1 := by decide +kernel
theorem tyX3_ok : ∀ k, k < 7 → parseFieldDescriptor (TX3 k).2.2.1 = some (tyX3 k) := by decide +kernel
theorem q139 : (Jvm.Cond.initialized "LastPebble$Refused") ∈ lw_all := lw_g (lw_at lw_m1 6 rfl) rfl
theorem q214 : (Jvm.Cond.selects "LastPebble$Refused" ({ cls := "java/lang/Throwable", name := "fillInStackTrace", desc := "()Ljava/lang/Throwable;" } : Jvm.MethodName) ({ cls := "java/lang/Throwable", name := "fillInStackTrace", desc := "()Ljava/lang/Throwable;" } : Jvm.MethodName)) ∈ lw_all := lw_g (lw_at lw_m1 81 rfl) rfl
theorem q255 : (Jvm.Cond.instantiable "LastPebble$Refused" (7 : Nat)) ∈ lw_all := lw_g (lw_at lw_m1 122 rfl) rfl
theorem q256 : (Jvm.Cond.castable "LastPebble$Refused" "LastPebble$Refused") ∈ lw_tbl := lw_at lw_m1 123 rfl
theorem q257 : (Jvm.Cond.selects "LastPebble$Refused" ({ cls := "java/lang/Throwable", name := "fillInStackTrace", desc := "(I)Ljava/lang/Throwable;" } : Jvm.MethodName) ({ cls := "java/lang/Throwable", name := "fillInStackTrace", desc := "(I)Ljava/lang/Throwable;" } : Jvm.MethodName)) ∈ lw_all := lw_g (lw_at lw_m1 124 rfl) rfl
theorem q258 : (Jvm.Cond.lays "LastPebble$Refused" "java/lang/Throwable" "cause" "Ljava/lang/Throwable;") ∈ lw_all := lw_g (lw_at lw_m1 125 rfl) rfl
theorem q259 : (Jvm.Cond.lays "LastPebble$Refused" "java/lang/Throwable" "stackTrace" "[Ljava/lang/StackTraceElement;") ∈ lw_all := lw_g (lw_at lw_m1 126 rfl) rfl
theorem q260 : (Jvm.Cond.lays "LastPebble$Refused" "java/lang/Throwable" "suppressedExceptions" "Ljava/util/List;") ∈ lw_all := lw_g (lw_at lw_m1 127 rfl) rfl
theorem q261 : (Jvm.Cond.lays "LastPebble$Refused" "java/lang/Throwable" "detailMessage" "Ljava/lang/String;") ∈ lw_all := lw_g (lw_at lw_m1 128 rfl) rfl
theorem q262 : (Jvm.Cond.lays "LastPebble$Refused" "java/lang/Throwable" "backtrace" "Ljava/lang/Object;") ∈ lw_all := lw_g (lw_at lw_m1 129 rfl) rfl
theorem q264 : (Jvm.Cond.instanceMethod ({ cls := "LastPebble$Refused", name := "<init>", desc := "()V" } : Jvm.MethodName)) ∈ lw_all := lw_g (lw_at lw_m1 131 rfl) rfl
theorem q265 : (Jvm.Cond.code ({ cls := "LastPebble$Refused", name := "<init>", desc := "()V" } : Jvm.MethodName) prog_12_method_1_code (1 : Nat) (Option.none : Option Jvm.ClassFile.FieldType)) ∈ lw_all := lw_g (lw_at lw_m1 132 rfl) rfl
theorem q266 : (Jvm.Cond.methodLink "LastPebble$Refused" (1 : Nat) ({ cls := "java/lang/Exception", name := "<init>", desc := "(Ljava/lang/String;Ljava/lang/Throwable;ZZ)V" } : Jvm.MethodName)) ∈ lw_all := lw_g (lw_at lw_m1 133 rfl) rfl
theorem q267 : (Jvm.Cond.fieldLink "LastPebble$Refused" (7 : Nat) "LastPebble$Refused" "why" "I") ∈ lw_all := lw_g (lw_at lw_m1 134 rfl) rfl
theorem q269 : (Jvm.Cond.lays "LastPebble$Refused" "LastPebble$Refused" "why" "I") ∈ lw_all := lw_g (lw_at lw_m1 136 rfl) rfl
theorem q270 : (Jvm.Cond.soleField "LastPebble$Refused" "why") ∈ lw_all := lw_g (lw_at lw_m1 137 rfl) rfl
theorem q271 : (Jvm.Cond.lays "LastPebble$Refused" "java/lang/Throwable" "depth" "I") ∈ lw_all := lw_g (lw_at lw_m1 138 rfl) rfl
theorem q272 : (Jvm.Cond.superclass "LastPebble$Refused" "java/lang/Exception") ∈ lw_all := lw_g (lw_at lw_m1 139 rfl) rfl
theorem q584 : (Jvm.Cond.instanceMethod ({ cls := "LastPebble$Refused", name := "by", desc := "(I)LLastPebble$Refused;" } : Jvm.MethodName)) ∈ lw_all := lw_g (lw_at lw_m2 211 rfl) rfl
theorem q585 : (Jvm.Cond.selects "LastPebble$Refused" ({ cls := "LastPebble$Refused", name := "by", desc := "(I)LLastPebble$Refused;" } : Jvm.MethodName) ({ cls := "LastPebble$Refused", name := "by", desc := "(I)LLastPebble$Refused;" } : Jvm.MethodName)) ∈ lw_all := lw_g (lw_at lw_m2 212 rfl) rfl
theorem q586 : (Jvm.Cond.code ({ cls := "LastPebble$Refused", name := "by", desc := "(I)LLastPebble$Refused;" } : Jvm.MethodName) prog_12_method_2_code (2 : Nat) (Option.some (Jvm.ClassFile.FieldType.object "LastPebble$Refused"))) ∈ lw_all := lw_g (lw_at lw_m2 213 rfl) rfl
theorem in_X3 : ∀ w ∈ wsX30, w ∈ lw_all := lw_in wsX30 [258, 259, 260, 261, 262, 271, 269] (by decide +kernel) (by decide +kernel)

/-! LastPebble$House -/
set_option maxRecDepth 100000
def RX4 : String := "LastPebble$House"
def TX4 : u_T := fun k => match k with
  | 0 => ("LastPebble$House", "day", "LLastPebble$Day;", true)
  | _ => ("LastPebble$House", "days", "LLastPebble$Loop;", false)
def tyX4 : Nat → FieldType := fun k => match k with
  | 0 => .object "LastPebble$Day"
  | _ => .object "LastPebble$Loop"
abbrev wsX40 : List Cond := u_ws RX4 TX4 2
theorem nmX4 : ∀ a, a < 2 → ∀ b, b < 2 → a ≠ b → (TX4 a).2.1 ≠ (TX4 b).2.1 := by decide +kernel
theorem tyX4_ok : ∀ k, k < 2 → parseFieldDescriptor (TX4 k).2.2.1 = some (tyX4 k) := by decide +kernel
theorem q140 : (Jvm.Cond.initialized "LastPebble$House") ∈ lw_all := lw_g (lw_at lw_m1 7 rfl) rfl
theorem q274 : (Jvm.Cond.instantiable "LastPebble$House" (2 : Nat)) ∈ lw_all := lw_g (lw_at lw_m1 141 rfl) rfl
theorem q276 : (Jvm.Cond.instanceMethod ({ cls := "LastPebble$House", name := "<init>", desc := "()V" } : Jvm.MethodName)) ∈ lw_all := lw_g (lw_at lw_m1 143 rfl) rfl
theorem q277 : (Jvm.Cond.code ({ cls := "LastPebble$House", name := "<init>", desc := "()V" } : Jvm.MethodName) prog_8_method_1_code (1 : Nat) (Option.none : Option Jvm.ClassFile.FieldType)) ∈ lw_all := lw_g (lw_at lw_m1 144 rfl) rfl
theorem q278 : (Jvm.Cond.methodLink "LastPebble$House" (1 : Nat) ({ cls := "java/lang/Object", name := "<init>", desc := "()V" } : Jvm.MethodName)) ∈ lw_all := lw_g (lw_at lw_m1 145 rfl) rfl
theorem q279 : (Jvm.Cond.classLink "LastPebble$House" (7 : Nat) "LastPebble$Day") ∈ lw_all := lw_g (lw_at lw_m1 146 rfl) rfl
theorem q281 : (Jvm.Cond.methodLink "LastPebble$House" (9 : Nat) ({ cls := "LastPebble$Day", name := "<init>", desc := "()V" } : Jvm.MethodName)) ∈ lw_all := lw_g (lw_at lw_m1 148 rfl) rfl
theorem q450 : (Jvm.Cond.fieldLink "LastPebble$House" (10 : Nat) "LastPebble$House" "day" "LLastPebble$Day;") ∈ lw_all := lw_g (lw_at lw_m2 77 rfl) rfl
theorem q452 : (Jvm.Cond.fieldLink "LastPebble$House" (20 : Nat) "LastPebble$House" "days" "LLastPebble$Loop;") ∈ lw_all := lw_g (lw_at lw_m2 79 rfl) rfl
theorem q454 : (Jvm.Cond.laysFinal "LastPebble$House" "LastPebble$House" "day" "LLastPebble$Day;") ∈ lw_all := lw_g (lw_at lw_m2 81 rfl) rfl
theorem q455 : (Jvm.Cond.soleField "LastPebble$House" "day") ∈ lw_all := lw_g (lw_at lw_m2 82 rfl) rfl
theorem q456 : (Jvm.Cond.lays "LastPebble$House" "LastPebble$House" "days" "LLastPebble$Loop;") ∈ lw_all := lw_g (lw_at lw_m2 83 rfl) rfl
theorem q457 : (Jvm.Cond.soleField "LastPebble$House" "days") ∈ lw_all := lw_g (lw_at lw_m2 84 rfl) rfl
theorem q458 : (Jvm.Cond.superclass "LastPebble$House" "java/lang/Object") ∈ lw_all := lw_g (lw_at lw_m2 85 rfl) rfl
theorem q1534 : (Jvm.Cond.instanceMethod ({ cls := "LastPebble$House", name := "be", desc := "(LLastPebble$House;)V" } : Jvm.MethodName)) ∈ lw_all := lw_g (lw_at lw_m6 201 rfl) rfl
theorem q1535 : (Jvm.Cond.selects "LastPebble$House" ({ cls := "LastPebble$House", name := "be", desc := "(LLastPebble$House;)V" } : Jvm.MethodName) ({ cls := "LastPebble$House", name := "be", desc := "(LLastPebble$House;)V" } : Jvm.MethodName)) ∈ lw_all := lw_g (lw_at lw_m6 202 rfl) rfl
theorem q1536 : (Jvm.Cond.code ({ cls := "LastPebble$House", name := "be", desc := "(LLastPebble$House;)V" } : Jvm.MethodName) prog_8_method_2_code (2 : Nat) (Option.none : Option Jvm.ClassFile.FieldType)) ∈ lw_all := lw_g (lw_at lw_m6 203 rfl) rfl
theorem q1537 : (Jvm.Cond.methodLink "LastPebble$House" (16 : Nat) ({ cls := "LastPebble$Day", name := "be", desc := "(LLastPebble$Day;)V" } : Jvm.MethodName)) ∈ lw_all := lw_g (lw_at lw_m6 204 rfl) rfl
theorem in_X4 : ∀ w ∈ wsX40, w ∈ lw_all := lw_in wsX40 [454, 456] (by decide +kernel) (by decide +kernel)

/-! LastPebble$Day -/
set_option maxRecDepth 100000
def RX5 : String := "LastPebble$Day"
def TX5 : u_T := fun k => match k with
  | 0 => ("LastPebble$Day", "beach", "LLastPebble$Beach;", false)
  | 1 => ("LastPebble$Day", "at", "[I", true)
  | 2 => ("LastPebble$Day", "pouch", "[I", true)
  | 3 => ("LastPebble$Day", "clock", "[I", true)
  | 4 => ("LastPebble$Day", "kept", "[I", true)
  | 5 => ("LastPebble$Day", "heaps", "[LLastPebble$Heap;", true)
  | 6 => ("LastPebble$Day", "there", "I", false)
  | 7 => ("LastPebble$Day", "day", "I", false)
  | _ => ("LastPebble$Day", "tide", "I", false)
def tyX5 : Nat → FieldType := fun k => match k with
  | 0 => .object "LastPebble$Beach"
  | 1 => .array .int
  | 2 => .array .int
  | 3 => .array .int
  | 4 => .array .int
  | 5 => .array (.object "LastPebble$Heap")
  | 6 => .int
  | 7 => .int
  | _ => .int
abbrev wsX50 : List Cond := u_ws RX5 TX5 9
theorem nmX5 : ∀ a, a < 9 → ∀ b, b < 9 → a ≠ b → (TX5 a).2.1 ≠ (TX5 b).2.1 := by decide +kernel
theorem tyX5_ok : ∀ k, k < 9 → parseFieldDescriptor (TX5 k).2.2.1 = some (tyX5 k) := by decide +kernel
theorem q141 : (Jvm.Cond.initialized "LastPebble$Day") ∈ lw_all := lw_g (lw_at lw_m1 8 rfl) rfl
theorem q280 : (Jvm.Cond.instantiable "LastPebble$Day" (9 : Nat)) ∈ lw_all := lw_g (lw_at lw_m1 147 rfl) rfl
theorem q282 : (Jvm.Cond.instanceMethod ({ cls := "LastPebble$Day", name := "<init>", desc := "()V" } : Jvm.MethodName)) ∈ lw_all := lw_g (lw_at lw_m1 149 rfl) rfl
theorem q283 : (Jvm.Cond.code ({ cls := "LastPebble$Day", name := "<init>", desc := "()V" } : Jvm.MethodName) prog_6_method_1_code (2 : Nat) (Option.none : Option Jvm.ClassFile.FieldType)) ∈ lw_all := lw_g (lw_at lw_m1 150 rfl) rfl
theorem q284 : (Jvm.Cond.methodLink "LastPebble$Day" (3 : Nat) ({ cls := "java/lang/Object", name := "<init>", desc := "()V" } : Jvm.MethodName)) ∈ lw_all := lw_g (lw_at lw_m1 151 rfl) rfl
theorem q285 : (Jvm.Cond.classLink "LastPebble$Day" (9 : Nat) "LastPebble$Beach") ∈ lw_all := lw_g (lw_at lw_m1 152 rfl) rfl
theorem q287 : (Jvm.Cond.methodLinkNest "LastPebble$Day" (11 : Nat) ({ cls := "LastPebble$Beach", name := "<init>", desc := "()V" } : Jvm.MethodName) "LastPebble") ∈ lw_tbl := lw_at lw_m1 154 rfl
theorem q295 : (Jvm.Cond.fieldLinkNest "LastPebble$Day" (42 : Nat) "LastPebble$Beach" "tide" "I" "LastPebble") ∈ lw_tbl := lw_at lw_m1 162 rfl
theorem q297 : (Jvm.Cond.fieldLinkNest "LastPebble$Day" (143 : Nat) "LastPebble$Beach" "moon" "I" "LastPebble") ∈ lw_tbl := lw_at lw_m1 164 rfl
theorem q301 : (Jvm.Cond.fieldLinkNest "LastPebble$Day" (137 : Nat) "LastPebble$Beach" "finders" "I" "LastPebble") ∈ lw_tbl := lw_at lw_m1 168 rfl
theorem q304 : (Jvm.Cond.fieldLinkNest "LastPebble$Day" (46 : Nat) "LastPebble$Beach" "finds" "I" "LastPebble") ∈ lw_tbl := lw_at lw_m1 171 rfl
theorem q310 : (Jvm.Cond.fieldLinkNest "LastPebble$Day" (123 : Nat) "LastPebble$Beach" "duel" "I" "LastPebble") ∈ lw_tbl := lw_at lw_m1 177 rfl
theorem q313 : (Jvm.Cond.fieldLinkNest "LastPebble$Day" (57 : Nat) "LastPebble$Beach" "pebbles" "I" "LastPebble") ∈ lw_tbl := lw_at lw_m1 180 rfl
theorem q320 : (Jvm.Cond.fieldLinkNest "LastPebble$Day" (52 : Nat) "LastPebble$Beach" "at" "[I" "LastPebble") ∈ lw_tbl := lw_at lw_m1 187 rfl
theorem q323 : (Jvm.Cond.fieldLinkNest "LastPebble$Day" (83 : Nat) "LastPebble$Beach" "pace" "[I" "LastPebble") ∈ lw_tbl := lw_at lw_m1 190 rfl
theorem q327 : (Jvm.Cond.fieldLinkNest "LastPebble$Day" (53 : Nat) "LastPebble$Beach" "pouch" "[I" "LastPebble") ∈ lw_tbl := lw_at lw_m1 194 rfl
theorem q330 : (Jvm.Cond.fieldLinkNest "LastPebble$Day" (100 : Nat) "LastPebble$Beach" "findAt" "[I" "LastPebble") ∈ lw_tbl := lw_at lw_m1 197 rfl
theorem q334 : (Jvm.Cond.fieldLinkNest "LastPebble$Day" (134 : Nat) "LastPebble$Beach" "worth" "[I" "LastPebble") ∈ lw_tbl := lw_at lw_m1 201 rfl
theorem q338 : (Jvm.Cond.fieldLinkNest "LastPebble$Day" (63 : Nat) "LastPebble$Beach" "whose" "[I" "LastPebble") ∈ lw_tbl := lw_at lw_m1 205 rfl
theorem q341 : (Jvm.Cond.fieldLinkNest "LastPebble$Day" (60 : Nat) "LastPebble$Beach" "on" "[I" "LastPebble") ∈ lw_tbl := lw_at lw_m1 208 rfl
theorem q344 : (Jvm.Cond.fieldLinkNest "LastPebble$Day" (66 : Nat) "LastPebble$Beach" "minute" "[I" "LastPebble") ∈ lw_tbl := lw_at lw_m1 211 rfl
theorem q383 : (Jvm.Cond.classLink "LastPebble$Day" (31 : Nat) "LastPebble$Heap") ∈ lw_all := lw_g (lw_at lw_m2 10 rfl) rfl
theorem q386 : (Jvm.Cond.methodLinkNest "LastPebble$Day" (41 : Nat) ({ cls := "LastPebble$Heap", name := "<init>", desc := "()V" } : Jvm.MethodName) "LastPebble") ∈ lw_tbl := lw_at lw_m2 13 rfl
theorem q391 : (Jvm.Cond.fieldLinkNest "LastPebble$Day" (113 : Nat) "LastPebble$Heap" "whose" "[I" "LastPebble") ∈ lw_tbl := lw_at lw_m2 18 rfl
theorem q394 : (Jvm.Cond.fieldLinkNest "LastPebble$Day" (106 : Nat) "LastPebble$Heap" "minutes" "[I" "LastPebble") ∈ lw_tbl := lw_at lw_m2 21 rfl
theorem q398 : (Jvm.Cond.fieldLinkNest "LastPebble$Day" (54 : Nat) "LastPebble$Heap" "size" "I" "LastPebble") ∈ lw_tbl := lw_at lw_m2 25 rfl
theorem q407 : (Jvm.Cond.fieldLink "LastPebble$Day" (12 : Nat) "LastPebble$Day" "beach" "LLastPebble$Beach;") ∈ lw_all := lw_g (lw_at lw_m2 34 rfl) rfl
theorem q410 : (Jvm.Cond.fieldLink "LastPebble$Day" (18 : Nat) "LastPebble$Day" "at" "[I") ∈ lw_all := lw_g (lw_at lw_m2 37 rfl) rfl
theorem q412 : (Jvm.Cond.fieldLink "LastPebble$Day" (22 : Nat) "LastPebble$Day" "pouch" "[I") ∈ lw_all := lw_g (lw_at lw_m2 39 rfl) rfl
theorem q415 : (Jvm.Cond.fieldLink "LastPebble$Day" (25 : Nat) "LastPebble$Day" "clock" "[I") ∈ lw_all := lw_g (lw_at lw_m2 42 rfl) rfl
theorem q417 : (Jvm.Cond.fieldLink "LastPebble$Day" (28 : Nat) "LastPebble$Day" "kept" "[I") ∈ lw_all := lw_g (lw_at lw_m2 44 rfl) rfl
theorem q419 : (Jvm.Cond.fieldLink "LastPebble$Day" (33 : Nat) "LastPebble$Day" "heaps" "[LLastPebble$Heap;") ∈ lw_all := lw_g (lw_at lw_m2 46 rfl) rfl
theorem q423 : (Jvm.Cond.fieldLink "LastPebble$Day" (49 : Nat) "LastPebble$Day" "there" "I") ∈ lw_all := lw_g (lw_at lw_m2 50 rfl) rfl
theorem q426 : (Jvm.Cond.fieldLink "LastPebble$Day" (43 : Nat) "LastPebble$Day" "day" "I") ∈ lw_all := lw_g (lw_at lw_m2 53 rfl) rfl
theorem q429 : (Jvm.Cond.fieldLink "LastPebble$Day" (37 : Nat) "LastPebble$Day" "tide" "I") ∈ lw_all := lw_g (lw_at lw_m2 56 rfl) rfl
theorem q431 : (Jvm.Cond.lays "LastPebble$Day" "LastPebble$Day" "beach" "LLastPebble$Beach;") ∈ lw_all := lw_g (lw_at lw_m2 58 rfl) rfl
theorem q432 : (Jvm.Cond.soleField "LastPebble$Day" "beach") ∈ lw_all := lw_g (lw_at lw_m2 59 rfl) rfl
theorem q433 : (Jvm.Cond.laysFinal "LastPebble$Day" "LastPebble$Day" "at" "[I") ∈ lw_all := lw_g (lw_at lw_m2 60 rfl) rfl
theorem q434 : (Jvm.Cond.soleField "LastPebble$Day" "at") ∈ lw_all := lw_g (lw_at lw_m2 61 rfl) rfl
theorem q435 : (Jvm.Cond.laysFinal "LastPebble$Day" "LastPebble$Day" "pouch" "[I") ∈ lw_all := lw_g (lw_at lw_m2 62 rfl) rfl
theorem q436 : (Jvm.Cond.soleField "LastPebble$Day" "pouch") ∈ lw_all := lw_g (lw_at lw_m2 63 rfl) rfl
theorem q437 : (Jvm.Cond.laysFinal "LastPebble$Day" "LastPebble$Day" "clock" "[I") ∈ lw_all := lw_g (lw_at lw_m2 64 rfl) rfl
theorem q438 : (Jvm.Cond.soleField "LastPebble$Day" "clock") ∈ lw_all := lw_g (lw_at lw_m2 65 rfl) rfl
theorem q439 : (Jvm.Cond.laysFinal "LastPebble$Day" "LastPebble$Day" "kept" "[I") ∈ lw_all := lw_g (lw_at lw_m2 66 rfl) rfl
theorem q440 : (Jvm.Cond.soleField "LastPebble$Day" "kept") ∈ lw_all := lw_g (lw_at lw_m2 67 rfl) rfl
theorem q441 : (Jvm.Cond.laysFinal "LastPebble$Day" "LastPebble$Day" "heaps" "[LLastPebble$Heap;") ∈ lw_all := lw_g (lw_at lw_m2 68 rfl) rfl
theorem q442 : (Jvm.Cond.soleField "LastPebble$Day" "heaps") ∈ lw_all := lw_g (lw_at lw_m2 69 rfl) rfl
theorem q443 : (Jvm.Cond.lays "LastPebble$Day" "LastPebble$Day" "there" "I") ∈ lw_all := lw_g (lw_at lw_m2 70 rfl) rfl
theorem q444 : (Jvm.Cond.soleField "LastPebble$Day" "there") ∈ lw_all := lw_g (lw_at lw_m2 71 rfl) rfl
theorem q445 : (Jvm.Cond.lays "LastPebble$Day" "LastPebble$Day" "day" "I") ∈ lw_all := lw_g (lw_at lw_m2 72 rfl) rfl
theorem q446 : (Jvm.Cond.soleField "LastPebble$Day" "day") ∈ lw_all := lw_g (lw_at lw_m2 73 rfl) rfl
theorem q447 : (Jvm.Cond.lays "LastPebble$Day" "LastPebble$Day" "tide" "I") ∈ lw_all := lw_g (lw_at lw_m2 74 rfl) rfl
theorem q448 : (Jvm.Cond.soleField "LastPebble$Day" "tide") ∈ lw_all := lw_g (lw_at lw_m2 75 rfl) rfl
theorem q449 : (Jvm.Cond.superclass "LastPebble$Day" "java/lang/Object") ∈ lw_all := lw_g (lw_at lw_m2 76 rfl) rfl
theorem q891 : (Jvm.Cond.instanceMethod ({ cls := "LastPebble$Day", name := "begin", desc := "(LLastPebble$Beach;)V" } : Jvm.MethodName)) ∈ lw_all := lw_g (lw_at lw_m4 38 rfl) rfl
theorem q892 : (Jvm.Cond.selects "LastPebble$Day" ({ cls := "LastPebble$Day", name := "begin", desc := "(LLastPebble$Beach;)V" } : Jvm.MethodName) ({ cls := "LastPebble$Day", name := "begin", desc := "(LLastPebble$Beach;)V" } : Jvm.MethodName)) ∈ lw_all := lw_g (lw_at lw_m4 39 rfl) rfl
theorem q893 : (Jvm.Cond.code ({ cls := "LastPebble$Day", name := "begin", desc := "(LLastPebble$Beach;)V" } : Jvm.MethodName) prog_6_method_2_code (3 : Nat) (Option.none : Option Jvm.ClassFile.FieldType)) ∈ lw_all := lw_g (lw_at lw_m4 40 rfl) rfl
theorem q894 : (Jvm.Cond.methodLink "LastPebble$Day" (69 : Nat) ({ cls := "LastPebble$Heap", name := "add", desc := "(II)V" } : Jvm.MethodName)) ∈ lw_all := lw_g (lw_at lw_m4 41 rfl) rfl
theorem q1020 : (Jvm.Cond.instanceMethod ({ cls := "LastPebble$Day", name := "pebbles", desc := "()I" } : Jvm.MethodName)) ∈ lw_all := lw_g (lw_at lw_m4 167 rfl) rfl
theorem q1021 : (Jvm.Cond.selects "LastPebble$Day" ({ cls := "LastPebble$Day", name := "pebbles", desc := "()I" } : Jvm.MethodName) ({ cls := "LastPebble$Day", name := "pebbles", desc := "()I" } : Jvm.MethodName)) ∈ lw_all := lw_g (lw_at lw_m4 168 rfl) rfl
theorem q1022 : (Jvm.Cond.code ({ cls := "LastPebble$Day", name := "pebbles", desc := "()I" } : Jvm.MethodName) prog_6_method_5_code (3 : Nat) (Option.some Jvm.ClassFile.FieldType.int)) ∈ lw_all := lw_g (lw_at lw_m4 169 rfl) rfl
theorem q1050 : (Jvm.Cond.instanceMethod ({ cls := "LastPebble$Day", name := "goes", desc := "(II)Z" } : Jvm.MethodName)) ∈ lw_all := lw_g (lw_at lw_m4 197 rfl) rfl
theorem q1051 : (Jvm.Cond.selects "LastPebble$Day" ({ cls := "LastPebble$Day", name := "goes", desc := "(II)Z" } : Jvm.MethodName) ({ cls := "LastPebble$Day", name := "goes", desc := "(II)Z" } : Jvm.MethodName)) ∈ lw_all := lw_g (lw_at lw_m4 198 rfl) rfl
theorem q1052 : (Jvm.Cond.code ({ cls := "LastPebble$Day", name := "goes", desc := "(II)Z" } : Jvm.MethodName) prog_6_method_7_code (4 : Nat) (Option.some Jvm.ClassFile.FieldType.boolean)) ∈ lw_all := lw_g (lw_at lw_m4 199 rfl) rfl
theorem q1053 : (Jvm.Cond.methodLink "LastPebble$Day" (92 : Nat) ({ cls := "LastPebble$Day", name := "arrives", desc := "(II)I" } : Jvm.MethodName)) ∈ lw_all := lw_g (lw_at lw_m4 200 rfl) rfl
theorem q1054 : (Jvm.Cond.instanceMethod ({ cls := "LastPebble$Day", name := "arrives", desc := "(II)I" } : Jvm.MethodName)) ∈ lw_all := lw_g (lw_at lw_m4 201 rfl) rfl
theorem q1055 : (Jvm.Cond.selects "LastPebble$Day" ({ cls := "LastPebble$Day", name := "arrives", desc := "(II)I" } : Jvm.MethodName) ({ cls := "LastPebble$Day", name := "arrives", desc := "(II)I" } : Jvm.MethodName)) ∈ lw_all := lw_g (lw_at lw_m4 202 rfl) rfl
theorem q1056 : (Jvm.Cond.code ({ cls := "LastPebble$Day", name := "arrives", desc := "(II)I" } : Jvm.MethodName) prog_6_method_6_code (3 : Nat) (Option.some Jvm.ClassFile.FieldType.int)) ∈ lw_all := lw_g (lw_at lw_m4 203 rfl) rfl
theorem q1057 : (Jvm.Cond.methodLink "LastPebble$Day" (86 : Nat) ({ cls := "java/lang/Math", name := "abs", desc := "(I)I" } : Jvm.MethodName)) ∈ lw_all := lw_g (lw_at lw_m4 204 rfl) rfl
theorem q1066 : (Jvm.Cond.instanceMethod ({ cls := "LastPebble$Day", name := "waits", desc := "(II)Z" } : Jvm.MethodName)) ∈ lw_all := lw_g (lw_at lw_m4 213 rfl) rfl
theorem q1067 : (Jvm.Cond.selects "LastPebble$Day" ({ cls := "LastPebble$Day", name := "waits", desc := "(II)Z" } : Jvm.MethodName) ({ cls := "LastPebble$Day", name := "waits", desc := "(II)Z" } : Jvm.MethodName)) ∈ lw_all := lw_g (lw_at lw_m4 214 rfl) rfl
theorem q1068 : (Jvm.Cond.code ({ cls := "LastPebble$Day", name := "waits", desc := "(II)Z" } : Jvm.MethodName) prog_6_method_8_code (3 : Nat) (Option.some Jvm.ClassFile.FieldType.boolean)) ∈ lw_all := lw_g (lw_at lw_m4 215 rfl) rfl
theorem q1078 : (Jvm.Cond.instanceMethod ({ cls := "LastPebble$Day", name := "isAt", desc := "(II)Z" } : Jvm.MethodName)) ∈ lw_all := lw_g (lw_at lw_m4 225 rfl) rfl
theorem q1079 : (Jvm.Cond.selects "LastPebble$Day" ({ cls := "LastPebble$Day", name := "isAt", desc := "(II)Z" } : Jvm.MethodName) ({ cls := "LastPebble$Day", name := "isAt", desc := "(II)Z" } : Jvm.MethodName)) ∈ lw_all := lw_g (lw_at lw_m4 226 rfl) rfl
theorem q1080 : (Jvm.Cond.code ({ cls := "LastPebble$Day", name := "isAt", desc := "(II)Z" } : Jvm.MethodName) prog_6_method_9_code (3 : Nat) (Option.some Jvm.ClassFile.FieldType.boolean)) ∈ lw_all := lw_g (lw_at lw_m4 227 rfl) rfl
theorem q1081 : (Jvm.Cond.methodLink "LastPebble$Day" (96 : Nat) ({ cls := "LastPebble$Day", name := "isThere", desc := "(I)Z" } : Jvm.MethodName)) ∈ lw_all := lw_g (lw_at lw_m4 228 rfl) rfl
theorem q1082 : (Jvm.Cond.instanceMethod ({ cls := "LastPebble$Day", name := "isThere", desc := "(I)Z" } : Jvm.MethodName)) ∈ lw_all := lw_g (lw_at lw_m4 229 rfl) rfl
theorem q1083 : (Jvm.Cond.selects "LastPebble$Day" ({ cls := "LastPebble$Day", name := "isThere", desc := "(I)Z" } : Jvm.MethodName) ({ cls := "LastPebble$Day", name := "isThere", desc := "(I)Z" } : Jvm.MethodName)) ∈ lw_all := lw_g (lw_at lw_m4 230 rfl) rfl
theorem q1084 : (Jvm.Cond.code ({ cls := "LastPebble$Day", name := "isThere", desc := "(I)Z" } : Jvm.MethodName) prog_6_method_4_code (2 : Nat) (Option.some Jvm.ClassFile.FieldType.boolean)) ∈ lw_all := lw_g (lw_at lw_m4 231 rfl) rfl
theorem q1086 : (Jvm.Cond.instanceMethod ({ cls := "LastPebble$Day", name := "sets", desc := "(II)V" } : Jvm.MethodName)) ∈ lw_all := lw_g (lw_at lw_m4 233 rfl) rfl
theorem q1087 : (Jvm.Cond.selects "LastPebble$Day" ({ cls := "LastPebble$Day", name := "sets", desc := "(II)V" } : Jvm.MethodName) ({ cls := "LastPebble$Day", name := "sets", desc := "(II)V" } : Jvm.MethodName)) ∈ lw_all := lw_g (lw_at lw_m4 234 rfl) rfl
theorem q1088 : (Jvm.Cond.code ({ cls := "LastPebble$Day", name := "sets", desc := "(II)V" } : Jvm.MethodName) prog_6_method_10_code (3 : Nat) (Option.none : Option Jvm.ClassFile.FieldType)) ∈ lw_all := lw_g (lw_at lw_m4 235 rfl) rfl
theorem q1098 : (Jvm.Cond.instanceMethod ({ cls := "LastPebble$Day", name := "lifts", desc := "(II)I" } : Jvm.MethodName)) ∈ lw_all := lw_g (lw_at lw_m5 5 rfl) rfl
theorem q1099 : (Jvm.Cond.selects "LastPebble$Day" ({ cls := "LastPebble$Day", name := "lifts", desc := "(II)I" } : Jvm.MethodName) ({ cls := "LastPebble$Day", name := "lifts", desc := "(II)I" } : Jvm.MethodName)) ∈ lw_all := lw_g (lw_at lw_m5 6 rfl) rfl
theorem q1100 : (Jvm.Cond.code ({ cls := "LastPebble$Day", name := "lifts", desc := "(II)I" } : Jvm.MethodName) prog_6_method_11_code (5 : Nat) (Option.some Jvm.ClassFile.FieldType.int)) ∈ lw_all := lw_g (lw_at lw_m5 7 rfl) rfl
theorem q1101 : (Jvm.Cond.methodLink "LastPebble$Day" (103 : Nat) ({ cls := "LastPebble$Heap", name := "latestOf", desc := "(I)I" } : Jvm.MethodName)) ∈ lw_all := lw_g (lw_at lw_m5 8 rfl) rfl
theorem q1102 : (Jvm.Cond.methodLink "LastPebble$Day" (109 : Nat) ({ cls := "LastPebble$Heap", name := "takes", desc := "(I)V" } : Jvm.MethodName)) ∈ lw_all := lw_g (lw_at lw_m5 9 rfl) rfl
theorem q1111 : (Jvm.Cond.instanceMethod ({ cls := "LastPebble$Day", name := "canGull", desc := "(II)Z" } : Jvm.MethodName)) ∈ lw_all := lw_g (lw_at lw_m5 18 rfl) rfl
theorem q1112 : (Jvm.Cond.selects "LastPebble$Day" ({ cls := "LastPebble$Day", name := "canGull", desc := "(II)Z" } : Jvm.MethodName) ({ cls := "LastPebble$Day", name := "canGull", desc := "(II)Z" } : Jvm.MethodName)) ∈ lw_all := lw_g (lw_at lw_m5 19 rfl) rfl
theorem q1113 : (Jvm.Cond.code ({ cls := "LastPebble$Day", name := "canGull", desc := "(II)Z" } : Jvm.MethodName) prog_6_method_12_code (3 : Nat) (Option.some Jvm.ClassFile.FieldType.boolean)) ∈ lw_all := lw_g (lw_at lw_m5 20 rfl) rfl
theorem q1115 : (Jvm.Cond.instanceMethod ({ cls := "LastPebble$Day", name := "gull", desc := "(II)I" } : Jvm.MethodName)) ∈ lw_all := lw_g (lw_at lw_m5 22 rfl) rfl
theorem q1116 : (Jvm.Cond.selects "LastPebble$Day" ({ cls := "LastPebble$Day", name := "gull", desc := "(II)I" } : Jvm.MethodName) ({ cls := "LastPebble$Day", name := "gull", desc := "(II)I" } : Jvm.MethodName)) ∈ lw_all := lw_g (lw_at lw_m5 23 rfl) rfl
theorem q1117 : (Jvm.Cond.code ({ cls := "LastPebble$Day", name := "gull", desc := "(II)I" } : Jvm.MethodName) prog_6_method_13_code (5 : Nat) (Option.some Jvm.ClassFile.FieldType.int)) ∈ lw_all := lw_g (lw_at lw_m5 24 rfl) rfl
theorem q1124 : (Jvm.Cond.instanceMethod ({ cls := "LastPebble$Day", name := "wave", desc := "(I)I" } : Jvm.MethodName)) ∈ lw_all := lw_g (lw_at lw_m5 31 rfl) rfl
theorem q1125 : (Jvm.Cond.selects "LastPebble$Day" ({ cls := "LastPebble$Day", name := "wave", desc := "(I)I" } : Jvm.MethodName) ({ cls := "LastPebble$Day", name := "wave", desc := "(I)I" } : Jvm.MethodName)) ∈ lw_all := lw_g (lw_at lw_m5 32 rfl) rfl
theorem q1126 : (Jvm.Cond.code ({ cls := "LastPebble$Day", name := "wave", desc := "(I)I" } : Jvm.MethodName) prog_6_method_14_code (4 : Nat) (Option.some Jvm.ClassFile.FieldType.int)) ∈ lw_all := lw_g (lw_at lw_m5 33 rfl) rfl
theorem q1132 : (Jvm.Cond.instanceMethod ({ cls := "LastPebble$Day", name := "tide", desc := "()V" } : Jvm.MethodName)) ∈ lw_all := lw_g (lw_at lw_m5 39 rfl) rfl
theorem q1133 : (Jvm.Cond.selects "LastPebble$Day" ({ cls := "LastPebble$Day", name := "tide", desc := "()V" } : Jvm.MethodName) ({ cls := "LastPebble$Day", name := "tide", desc := "()V" } : Jvm.MethodName)) ∈ lw_all := lw_g (lw_at lw_m5 40 rfl) rfl
theorem q1134 : (Jvm.Cond.code ({ cls := "LastPebble$Day", name := "tide", desc := "()V" } : Jvm.MethodName) prog_6_method_17_code (3 : Nat) (Option.none : Option Jvm.ClassFile.FieldType)) ∈ lw_all := lw_g (lw_at lw_m5 41 rfl) rfl
theorem q1135 : (Jvm.Cond.methodLink "LastPebble$Day" (140 : Nat) ({ cls := "LastPebble$Day", name := "leads", desc := "(I)I" } : Jvm.MethodName)) ∈ lw_all := lw_g (lw_at lw_m5 42 rfl) rfl
theorem q1136 : (Jvm.Cond.instanceMethod ({ cls := "LastPebble$Day", name := "leads", desc := "(I)I" } : Jvm.MethodName)) ∈ lw_all := lw_g (lw_at lw_m5 43 rfl) rfl
theorem q1137 : (Jvm.Cond.selects "LastPebble$Day" ({ cls := "LastPebble$Day", name := "leads", desc := "(I)I" } : Jvm.MethodName) ({ cls := "LastPebble$Day", name := "leads", desc := "(I)I" } : Jvm.MethodName)) ∈ lw_all := lw_g (lw_at lw_m5 44 rfl) rfl
theorem q1138 : (Jvm.Cond.code ({ cls := "LastPebble$Day", name := "leads", desc := "(I)I" } : Jvm.MethodName) prog_6_method_16_code (5 : Nat) (Option.some Jvm.ClassFile.FieldType.int)) ∈ lw_all := lw_g (lw_at lw_m5 45 rfl) rfl
theorem q1139 : (Jvm.Cond.methodLink "LastPebble$Day" (132 : Nat) ({ cls := "LastPebble$Day", name := "whose", desc := "(I)I" } : Jvm.MethodName)) ∈ lw_all := lw_g (lw_at lw_m5 46 rfl) rfl
theorem q1140 : (Jvm.Cond.instanceMethod ({ cls := "LastPebble$Day", name := "whose", desc := "(I)I" } : Jvm.MethodName)) ∈ lw_all := lw_g (lw_at lw_m5 47 rfl) rfl
theorem q1141 : (Jvm.Cond.selects "LastPebble$Day" ({ cls := "LastPebble$Day", name := "whose", desc := "(I)I" } : Jvm.MethodName) ({ cls := "LastPebble$Day", name := "whose", desc := "(I)I" } : Jvm.MethodName)) ∈ lw_all := lw_g (lw_at lw_m5 48 rfl) rfl
theorem q1142 : (Jvm.Cond.code ({ cls := "LastPebble$Day", name := "whose", desc := "(I)I" } : Jvm.MethodName) prog_6_method_15_code (3 : Nat) (Option.some Jvm.ClassFile.FieldType.int)) ∈ lw_all := lw_g (lw_at lw_m5 49 rfl) rfl
theorem q1143 : (Jvm.Cond.methodLink "LastPebble$Day" (114 : Nat) ({ cls := "LastPebble$Heap", name := "last", desc := "()I" } : Jvm.MethodName)) ∈ lw_all := lw_g (lw_at lw_m5 50 rfl) rfl
theorem q1147 : (Jvm.Cond.methodLink "LastPebble$Day" (118 : Nat) ({ cls := "java/lang/Integer", name := "bitCount", desc := "(I)I" } : Jvm.MethodName)) ∈ lw_all := lw_g (lw_at lw_m5 54 rfl) rfl
theorem q1153 : (Jvm.Cond.methodLink "LastPebble$Day" (126 : Nat) ({ cls := "java/lang/Integer", name := "lowestOneBit", desc := "(I)I" } : Jvm.MethodName)) ∈ lw_all := lw_g (lw_at lw_m5 60 rfl) rfl
theorem q1156 : (Jvm.Cond.methodLink "LastPebble$Day" (129 : Nat) ({ cls := "java/lang/Integer", name := "highestOneBit", desc := "(I)I" } : Jvm.MethodName)) ∈ lw_all := lw_g (lw_at lw_m5 63 rfl) rfl
theorem q1164 : (Jvm.Cond.methodLink "LastPebble$Day" (146 : Nat) ({ cls := "java/lang/Math", name := "max", desc := "(II)I" } : Jvm.MethodName)) ∈ lw_all := lw_g (lw_at lw_m5 71 rfl) rfl
theorem q1172 : (Jvm.Cond.instanceMethod ({ cls := "LastPebble$Day", name := "dawn", desc := "()V" } : Jvm.MethodName)) ∈ lw_all := lw_g (lw_at lw_m5 79 rfl) rfl
theorem q1173 : (Jvm.Cond.selects "LastPebble$Day" ({ cls := "LastPebble$Day", name := "dawn", desc := "()V" } : Jvm.MethodName) ({ cls := "LastPebble$Day", name := "dawn", desc := "()V" } : Jvm.MethodName)) ∈ lw_all := lw_g (lw_at lw_m5 80 rfl) rfl
theorem q1174 : (Jvm.Cond.code ({ cls := "LastPebble$Day", name := "dawn", desc := "()V" } : Jvm.MethodName) prog_6_method_18_code (1 : Nat) (Option.none : Option Jvm.ClassFile.FieldType)) ∈ lw_all := lw_g (lw_at lw_m5 81 rfl) rfl
theorem q1230 : (Jvm.Cond.instanceMethod ({ cls := "LastPebble$Day", name := "minute", desc := "(III)I" } : Jvm.MethodName)) ∈ lw_all := lw_g (lw_at lw_m5 137 rfl) rfl
theorem q1231 : (Jvm.Cond.selects "LastPebble$Day" ({ cls := "LastPebble$Day", name := "minute", desc := "(III)I" } : Jvm.MethodName) ({ cls := "LastPebble$Day", name := "minute", desc := "(III)I" } : Jvm.MethodName)) ∈ lw_all := lw_g (lw_at lw_m5 138 rfl) rfl
theorem q1232 : (Jvm.Cond.code ({ cls := "LastPebble$Day", name := "minute", desc := "(III)I" } : Jvm.MethodName) prog_6_method_19_code (4 : Nat) (Option.some Jvm.ClassFile.FieldType.int)) ∈ lw_all := lw_g (lw_at lw_m5 139 rfl) rfl
theorem q1233 : (Jvm.Cond.methodLink "LastPebble$Day" (149 : Nat) ({ cls := "LastPebble$Heap", name := "others", desc := "(I)I" } : Jvm.MethodName)) ∈ lw_all := lw_g (lw_at lw_m5 140 rfl) rfl
theorem q1319 : (Jvm.Cond.instanceMethod ({ cls := "LastPebble$Day", name := "be", desc := "(LLastPebble$Day;)V" } : Jvm.MethodName)) ∈ lw_all := lw_g (lw_at lw_m5 226 rfl) rfl
theorem q1320 : (Jvm.Cond.selects "LastPebble$Day" ({ cls := "LastPebble$Day", name := "be", desc := "(LLastPebble$Day;)V" } : Jvm.MethodName) ({ cls := "LastPebble$Day", name := "be", desc := "(LLastPebble$Day;)V" } : Jvm.MethodName)) ∈ lw_all := lw_g (lw_at lw_m5 227 rfl) rfl
theorem q1321 : (Jvm.Cond.code ({ cls := "LastPebble$Day", name := "be", desc := "(LLastPebble$Day;)V" } : Jvm.MethodName) prog_6_method_3_code (3 : Nat) (Option.none : Option Jvm.ClassFile.FieldType)) ∈ lw_all := lw_g (lw_at lw_m5 228 rfl) rfl
theorem q1322 : (Jvm.Cond.methodLink "LastPebble$Day" (73 : Nat) ({ cls := "java/lang/System", name := "arraycopy", desc := "(Ljava/lang/Object;ILjava/lang/Object;II)V" } : Jvm.MethodName)) ∈ lw_all := lw_g (lw_at lw_m5 229 rfl) rfl
theorem q1323 : (Jvm.Cond.methodLink "LastPebble$Day" (79 : Nat) ({ cls := "LastPebble$Heap", name := "be", desc := "(LLastPebble$Heap;)V" } : Jvm.MethodName)) ∈ lw_all := lw_g (lw_at lw_m5 230 rfl) rfl
theorem in_X5 : ∀ w ∈ wsX50, w ∈ lw_all := lw_in wsX50 [431, 433, 435, 437, 439, 441, 443, 445, 447] (by decide +kernel) (by decide +kernel)

/-! LastPebble$Beach -/
set_option maxRecDepth 100000
def RX6 : String := "LastPebble$Beach"
def TX6 : u_T := fun k => match k with
  | 0 => ("LastPebble$Beach", "cells", "I", false)
  | 1 => ("LastPebble$Beach", "tide", "I", false)
  | 2 => ("LastPebble$Beach", "moon", "I", false)
  | 3 => ("LastPebble$Beach", "finders", "I", false)
  | 4 => ("LastPebble$Beach", "finds", "I", false)
  | 5 => ("LastPebble$Beach", "duel", "I", false)
  | 6 => ("LastPebble$Beach", "pebbles", "I", false)
  | 7 => ("LastPebble$Beach", "finderNames", "[J", true)
  | 8 => ("LastPebble$Beach", "findNames", "[J", true)
  | 9 => ("LastPebble$Beach", "at", "[I", true)
  | 10 => ("LastPebble$Beach", "pace", "[I", true)
  | 11 => ("LastPebble$Beach", "pouch", "[I", true)
  | 12 => ("LastPebble$Beach", "findAt", "[I", true)
  | 13 => ("LastPebble$Beach", "worth", "[I", true)
  | 14 => ("LastPebble$Beach", "whose", "[I", true)
  | 15 => ("LastPebble$Beach", "on", "[I", true)
  | _ => ("LastPebble$Beach", "minute", "[I", true)
def tyX6 : Nat → FieldType := fun k => match k with
  | 0 => .int
  | 1 => .int
  | 2 => .int
  | 3 => .int
  | 4 => .int
  | 5 => .int
  | 6 => .int
  | 7 => .array .long
  | 8 => .array .long
  | 9 => .array .int
  | 10 => .array .int
  | 11 => .array .int
  | 12 => .array .int
  | 13 => .array .int
  | 14 => .array .int
  | 15 => .array .int
  | _ => .array .int
abbrev wsX60 : List Cond := u_ws RX6 TX6 17
set_option maxRecDepth 100000 in
theorem nmX6 : ∀ a, a < 17 → ∀ b, b < 17 → a ≠ b → (TX6 a).2.1 ≠ (TX6 b).2.1 := by decide +kernel
set_option maxRecDepth 100000 in
theorem tyX6_ok : ∀ k, k < 17 → parseFieldDescriptor (TX6 k).2.2.1 = some (tyX6 k) := by decide +kernel
theorem q142 : (Jvm.Cond.initialized "LastPebble$Beach") ∈ lw_all := lw_g (lw_at lw_m1 9 rfl) rfl
theorem q286 : (Jvm.Cond.instantiable "LastPebble$Beach" (17 : Nat)) ∈ lw_all := lw_g (lw_at lw_m1 153 rfl) rfl
theorem q288 : (Jvm.Cond.instanceMethod ({ cls := "LastPebble$Beach", name := "<init>", desc := "()V" } : Jvm.MethodName)) ∈ lw_all := lw_g (lw_at lw_m1 155 rfl) rfl
theorem q289 : (Jvm.Cond.code ({ cls := "LastPebble$Beach", name := "<init>", desc := "()V" } : Jvm.MethodName) prog_4_method_1_code (1 : Nat) (Option.none : Option Jvm.ClassFile.FieldType)) ∈ lw_all := lw_g (lw_at lw_m1 156 rfl) rfl
theorem q290 : (Jvm.Cond.methodLink "LastPebble$Beach" (3 : Nat) ({ cls := "java/lang/Object", name := "<init>", desc := "()V" } : Jvm.MethodName)) ∈ lw_all := lw_g (lw_at lw_m1 157 rfl) rfl
theorem q291 : (Jvm.Cond.fieldLink "LastPebble$Beach" (9 : Nat) "LastPebble$Beach" "cells" "I") ∈ lw_all := lw_g (lw_at lw_m1 158 rfl) rfl
theorem q294 : (Jvm.Cond.fieldLink "LastPebble$Beach" (15 : Nat) "LastPebble$Beach" "tide" "I") ∈ lw_all := lw_g (lw_at lw_m1 161 rfl) rfl
theorem q300 : (Jvm.Cond.fieldLink "LastPebble$Beach" (53 : Nat) "LastPebble$Beach" "finders" "I") ∈ lw_all := lw_g (lw_at lw_m1 167 rfl) rfl
theorem q305 : (Jvm.Cond.fieldLink "LastPebble$Beach" (56 : Nat) "LastPebble$Beach" "finds" "I") ∈ lw_all := lw_g (lw_at lw_m1 172 rfl) rfl
theorem q309 : (Jvm.Cond.fieldLink "LastPebble$Beach" (18 : Nat) "LastPebble$Beach" "duel" "I") ∈ lw_all := lw_g (lw_at lw_m1 176 rfl) rfl
theorem q315 : (Jvm.Cond.fieldLink "LastPebble$Beach" (21 : Nat) "LastPebble$Beach" "finderNames" "[J") ∈ lw_all := lw_g (lw_at lw_m1 182 rfl) rfl
theorem q317 : (Jvm.Cond.fieldLink "LastPebble$Beach" (25 : Nat) "LastPebble$Beach" "findNames" "[J") ∈ lw_all := lw_g (lw_at lw_m1 184 rfl) rfl
theorem q319 : (Jvm.Cond.fieldLink "LastPebble$Beach" (28 : Nat) "LastPebble$Beach" "at" "[I") ∈ lw_all := lw_g (lw_at lw_m1 186 rfl) rfl
theorem q322 : (Jvm.Cond.fieldLink "LastPebble$Beach" (32 : Nat) "LastPebble$Beach" "pace" "[I") ∈ lw_all := lw_g (lw_at lw_m1 189 rfl) rfl
theorem q326 : (Jvm.Cond.fieldLink "LastPebble$Beach" (35 : Nat) "LastPebble$Beach" "pouch" "[I") ∈ lw_all := lw_g (lw_at lw_m1 193 rfl) rfl
theorem q329 : (Jvm.Cond.fieldLink "LastPebble$Beach" (38 : Nat) "LastPebble$Beach" "findAt" "[I") ∈ lw_all := lw_g (lw_at lw_m1 196 rfl) rfl
theorem q333 : (Jvm.Cond.fieldLink "LastPebble$Beach" (41 : Nat) "LastPebble$Beach" "worth" "[I") ∈ lw_all := lw_g (lw_at lw_m1 200 rfl) rfl
theorem q337 : (Jvm.Cond.fieldLink "LastPebble$Beach" (44 : Nat) "LastPebble$Beach" "whose" "[I") ∈ lw_all := lw_g (lw_at lw_m1 204 rfl) rfl
theorem q340 : (Jvm.Cond.fieldLink "LastPebble$Beach" (47 : Nat) "LastPebble$Beach" "on" "[I") ∈ lw_all := lw_g (lw_at lw_m1 207 rfl) rfl
theorem q343 : (Jvm.Cond.fieldLink "LastPebble$Beach" (50 : Nat) "LastPebble$Beach" "minute" "[I") ∈ lw_all := lw_g (lw_at lw_m1 210 rfl) rfl
theorem q346 : (Jvm.Cond.lays "LastPebble$Beach" "LastPebble$Beach" "cells" "I") ∈ lw_all := lw_g (lw_at lw_m1 213 rfl) rfl
theorem q347 : (Jvm.Cond.soleField "LastPebble$Beach" "cells") ∈ lw_all := lw_g (lw_at lw_m1 214 rfl) rfl
theorem q348 : (Jvm.Cond.lays "LastPebble$Beach" "LastPebble$Beach" "tide" "I") ∈ lw_all := lw_g (lw_at lw_m1 215 rfl) rfl
theorem q349 : (Jvm.Cond.soleField "LastPebble$Beach" "tide") ∈ lw_all := lw_g (lw_at lw_m1 216 rfl) rfl
theorem q350 : (Jvm.Cond.lays "LastPebble$Beach" "LastPebble$Beach" "moon" "I") ∈ lw_all := lw_g (lw_at lw_m1 217 rfl) rfl
theorem q351 : (Jvm.Cond.soleField "LastPebble$Beach" "moon") ∈ lw_all := lw_g (lw_at lw_m1 218 rfl) rfl
theorem q352 : (Jvm.Cond.lays "LastPebble$Beach" "LastPebble$Beach" "finders" "I") ∈ lw_all := lw_g (lw_at lw_m1 219 rfl) rfl
theorem q353 : (Jvm.Cond.soleField "LastPebble$Beach" "finders") ∈ lw_all := lw_g (lw_at lw_m1 220 rfl) rfl
theorem q354 : (Jvm.Cond.lays "LastPebble$Beach" "LastPebble$Beach" "finds" "I") ∈ lw_all := lw_g (lw_at lw_m1 221 rfl) rfl
theorem q355 : (Jvm.Cond.soleField "LastPebble$Beach" "finds") ∈ lw_all := lw_g (lw_at lw_m1 222 rfl) rfl
theorem q356 : (Jvm.Cond.lays "LastPebble$Beach" "LastPebble$Beach" "duel" "I") ∈ lw_all := lw_g (lw_at lw_m1 223 rfl) rfl
theorem q357 : (Jvm.Cond.soleField "LastPebble$Beach" "duel") ∈ lw_all := lw_g (lw_at lw_m1 224 rfl) rfl
theorem q358 : (Jvm.Cond.lays "LastPebble$Beach" "LastPebble$Beach" "pebbles" "I") ∈ lw_all := lw_g (lw_at lw_m1 225 rfl) rfl
theorem q359 : (Jvm.Cond.soleField "LastPebble$Beach" "pebbles") ∈ lw_all := lw_g (lw_at lw_m1 226 rfl) rfl
theorem q360 : (Jvm.Cond.laysFinal "LastPebble$Beach" "LastPebble$Beach" "finderNames" "[J") ∈ lw_all := lw_g (lw_at lw_m1 227 rfl) rfl
theorem q361 : (Jvm.Cond.soleField "LastPebble$Beach" "finderNames") ∈ lw_all := lw_g (lw_at lw_m1 228 rfl) rfl
theorem q362 : (Jvm.Cond.laysFinal "LastPebble$Beach" "LastPebble$Beach" "findNames" "[J") ∈ lw_all := lw_g (lw_at lw_m1 229 rfl) rfl
theorem q363 : (Jvm.Cond.soleField "LastPebble$Beach" "findNames") ∈ lw_all := lw_g (lw_at lw_m1 230 rfl) rfl
theorem q364 : (Jvm.Cond.laysFinal "LastPebble$Beach" "LastPebble$Beach" "at" "[I") ∈ lw_all := lw_g (lw_at lw_m1 231 rfl) rfl
theorem q365 : (Jvm.Cond.soleField "LastPebble$Beach" "at") ∈ lw_all := lw_g (lw_at lw_m1 232 rfl) rfl
theorem q366 : (Jvm.Cond.laysFinal "LastPebble$Beach" "LastPebble$Beach" "pace" "[I") ∈ lw_all := lw_g (lw_at lw_m1 233 rfl) rfl
theorem q367 : (Jvm.Cond.soleField "LastPebble$Beach" "pace") ∈ lw_all := lw_g (lw_at lw_m1 234 rfl) rfl
theorem q368 : (Jvm.Cond.laysFinal "LastPebble$Beach" "LastPebble$Beach" "pouch" "[I") ∈ lw_all := lw_g (lw_at lw_m1 235 rfl) rfl
theorem q369 : (Jvm.Cond.soleField "LastPebble$Beach" "pouch") ∈ lw_all := lw_g (lw_at lw_m1 236 rfl) rfl
theorem q370 : (Jvm.Cond.laysFinal "LastPebble$Beach" "LastPebble$Beach" "findAt" "[I") ∈ lw_all := lw_g (lw_at lw_m1 237 rfl) rfl
theorem q371 : (Jvm.Cond.soleField "LastPebble$Beach" "findAt") ∈ lw_all := lw_g (lw_at lw_m1 238 rfl) rfl
theorem q372 : (Jvm.Cond.laysFinal "LastPebble$Beach" "LastPebble$Beach" "worth" "[I") ∈ lw_all := lw_g (lw_at lw_m1 239 rfl) rfl
theorem q373 : (Jvm.Cond.soleField "LastPebble$Beach" "worth") ∈ lw_all := lw_g (lw_at lw_m2 0 rfl) rfl
theorem q374 : (Jvm.Cond.laysFinal "LastPebble$Beach" "LastPebble$Beach" "whose" "[I") ∈ lw_all := lw_g (lw_at lw_m2 1 rfl) rfl
theorem q375 : (Jvm.Cond.soleField "LastPebble$Beach" "whose") ∈ lw_all := lw_g (lw_at lw_m2 2 rfl) rfl
theorem q376 : (Jvm.Cond.laysFinal "LastPebble$Beach" "LastPebble$Beach" "on" "[I") ∈ lw_all := lw_g (lw_at lw_m2 3 rfl) rfl
theorem q377 : (Jvm.Cond.soleField "LastPebble$Beach" "on") ∈ lw_all := lw_g (lw_at lw_m2 4 rfl) rfl
theorem q378 : (Jvm.Cond.laysFinal "LastPebble$Beach" "LastPebble$Beach" "minute" "[I") ∈ lw_all := lw_g (lw_at lw_m2 5 rfl) rfl
theorem q379 : (Jvm.Cond.soleField "LastPebble$Beach" "minute") ∈ lw_all := lw_g (lw_at lw_m2 6 rfl) rfl
theorem q380 : (Jvm.Cond.superclass "LastPebble$Beach" "java/lang/Object") ∈ lw_all := lw_g (lw_at lw_m2 7 rfl) rfl
theorem q855 : (Jvm.Cond.instanceMethod ({ cls := "LastPebble$Beach", name := "finderNamed", desc := "(J)I" } : Jvm.MethodName)) ∈ lw_all := lw_g (lw_at lw_m4 2 rfl) rfl
theorem q856 : (Jvm.Cond.selects "LastPebble$Beach" ({ cls := "LastPebble$Beach", name := "finderNamed", desc := "(J)I" } : Jvm.MethodName) ({ cls := "LastPebble$Beach", name := "finderNamed", desc := "(J)I" } : Jvm.MethodName)) ∈ lw_all := lw_g (lw_at lw_m4 3 rfl) rfl
theorem q857 : (Jvm.Cond.code ({ cls := "LastPebble$Beach", name := "finderNamed", desc := "(J)I" } : Jvm.MethodName) prog_4_method_2_code (4 : Nat) (Option.some Jvm.ClassFile.FieldType.int)) ∈ lw_all := lw_g (lw_at lw_m4 4 rfl) rfl
theorem q859 : (Jvm.Cond.instanceMethod ({ cls := "LastPebble$Beach", name := "findNamed", desc := "(J)I" } : Jvm.MethodName)) ∈ lw_all := lw_g (lw_at lw_m4 6 rfl) rfl
theorem q860 : (Jvm.Cond.selects "LastPebble$Beach" ({ cls := "LastPebble$Beach", name := "findNamed", desc := "(J)I" } : Jvm.MethodName) ({ cls := "LastPebble$Beach", name := "findNamed", desc := "(J)I" } : Jvm.MethodName)) ∈ lw_all := lw_g (lw_at lw_m4 7 rfl) rfl
theorem q861 : (Jvm.Cond.code ({ cls := "LastPebble$Beach", name := "findNamed", desc := "(J)I" } : Jvm.MethodName) prog_4_method_3_code (4 : Nat) (Option.some Jvm.ClassFile.FieldType.int)) ∈ lw_all := lw_g (lw_at lw_m4 8 rfl) rfl
theorem in_X6 : ∀ w ∈ wsX60, w ∈ lw_all := lw_in wsX60 [346, 348, 350, 352, 354, 356, 358, 360, 362, 364, 366, 368, 370, 372, 374, 376, 378] (by decide +kernel) (by decide +kernel)

/-! LastPebble$Heap -/
set_option maxRecDepth 100000
def RX7 : String := "LastPebble$Heap"
def TX7 : u_T := fun k => match k with
  | 0 => ("LastPebble$Heap", "whose", "[I", false)
  | 1 => ("LastPebble$Heap", "minutes", "[I", false)
  | _ => ("LastPebble$Heap", "size", "I", false)
def tyX7 : Nat → FieldType := fun k => match k with
  | 0 => .array .int
  | 1 => .array .int
  | _ => .int
abbrev wsX70 : List Cond := u_ws RX7 TX7 3
theorem nmX7 : ∀ a, a < 3 → ∀ b, b < 3 → a ≠ b → (TX7 a).2.1 ≠ (TX7 b).2.1 := by decide +kernel
theorem tyX7_ok : ∀ k, k < 3 → parseFieldDescriptor (TX7 k).2.2.1 = some (tyX7 k) := by decide +kernel
theorem q143 : (Jvm.Cond.initialized "LastPebble$Heap") ∈ lw_all := lw_g (lw_at lw_m1 10 rfl) rfl
theorem q385 : (Jvm.Cond.instantiable "LastPebble$Heap" (3 : Nat)) ∈ lw_all := lw_g (lw_at lw_m2 12 rfl) rfl
theorem q387 : (Jvm.Cond.instanceMethod ({ cls := "LastPebble$Heap", name := "<init>", desc := "()V" } : Jvm.MethodName)) ∈ lw_all := lw_g (lw_at lw_m2 14 rfl) rfl
theorem q388 : (Jvm.Cond.code ({ cls := "LastPebble$Heap", name := "<init>", desc := "()V" } : Jvm.MethodName) prog_7_method_1_code (1 : Nat) (Option.none : Option Jvm.ClassFile.FieldType)) ∈ lw_all := lw_g (lw_at lw_m2 15 rfl) rfl
theorem q389 : (Jvm.Cond.methodLink "LastPebble$Heap" (3 : Nat) ({ cls := "java/lang/Object", name := "<init>", desc := "()V" } : Jvm.MethodName)) ∈ lw_all := lw_g (lw_at lw_m2 16 rfl) rfl
theorem q390 : (Jvm.Cond.fieldLink "LastPebble$Heap" (9 : Nat) "LastPebble$Heap" "whose" "[I") ∈ lw_all := lw_g (lw_at lw_m2 17 rfl) rfl
theorem q393 : (Jvm.Cond.fieldLink "LastPebble$Heap" (15 : Nat) "LastPebble$Heap" "minutes" "[I") ∈ lw_all := lw_g (lw_at lw_m2 20 rfl) rfl
theorem q396 : (Jvm.Cond.fieldLink "LastPebble$Heap" (18 : Nat) "LastPebble$Heap" "size" "I") ∈ lw_all := lw_g (lw_at lw_m2 23 rfl) rfl
theorem q400 : (Jvm.Cond.lays "LastPebble$Heap" "LastPebble$Heap" "whose" "[I") ∈ lw_all := lw_g (lw_at lw_m2 27 rfl) rfl
theorem q401 : (Jvm.Cond.soleField "LastPebble$Heap" "whose") ∈ lw_all := lw_g (lw_at lw_m2 28 rfl) rfl
theorem q402 : (Jvm.Cond.lays "LastPebble$Heap" "LastPebble$Heap" "minutes" "[I") ∈ lw_all := lw_g (lw_at lw_m2 29 rfl) rfl
theorem q403 : (Jvm.Cond.soleField "LastPebble$Heap" "minutes") ∈ lw_all := lw_g (lw_at lw_m2 30 rfl) rfl
theorem q404 : (Jvm.Cond.lays "LastPebble$Heap" "LastPebble$Heap" "size" "I") ∈ lw_all := lw_g (lw_at lw_m2 31 rfl) rfl
theorem q405 : (Jvm.Cond.soleField "LastPebble$Heap" "size") ∈ lw_all := lw_g (lw_at lw_m2 32 rfl) rfl
theorem q406 : (Jvm.Cond.superclass "LastPebble$Heap" "java/lang/Object") ∈ lw_all := lw_g (lw_at lw_m2 33 rfl) rfl
theorem q895 : (Jvm.Cond.instanceMethod ({ cls := "LastPebble$Heap", name := "add", desc := "(II)V" } : Jvm.MethodName)) ∈ lw_all := lw_g (lw_at lw_m4 42 rfl) rfl
theorem q896 : (Jvm.Cond.selects "LastPebble$Heap" ({ cls := "LastPebble$Heap", name := "add", desc := "(II)V" } : Jvm.MethodName) ({ cls := "LastPebble$Heap", name := "add", desc := "(II)V" } : Jvm.MethodName)) ∈ lw_all := lw_g (lw_at lw_m4 43 rfl) rfl
theorem q897 : (Jvm.Cond.code ({ cls := "LastPebble$Heap", name := "add", desc := "(II)V" } : Jvm.MethodName) prog_7_method_4_code (4 : Nat) (Option.none : Option Jvm.ClassFile.FieldType)) ∈ lw_all := lw_g (lw_at lw_m4 44 rfl) rfl
theorem q898 : (Jvm.Cond.methodLink "LastPebble$Heap" (28 : Nat) ({ cls := "LastPebble$Heap", name := "longer", desc := "([I)[I" } : Jvm.MethodName)) ∈ lw_all := lw_g (lw_at lw_m4 45 rfl) rfl
theorem q899 : (Jvm.Cond.static ({ cls := "LastPebble$Heap", name := "longer", desc := "([I)[I" } : Jvm.MethodName)) ∈ lw_all := lw_g (lw_at lw_m4 46 rfl) rfl
theorem q900 : (Jvm.Cond.code ({ cls := "LastPebble$Heap", name := "longer", desc := "([I)[I" } : Jvm.MethodName) prog_7_method_3_code (2 : Nat) (Option.some (Jvm.ClassFile.FieldType.array Jvm.ClassFile.FieldType.int))) ∈ lw_all := lw_g (lw_at lw_m4 47 rfl) rfl
theorem q901 : (Jvm.Cond.methodLink "LastPebble$Heap" (22 : Nat) ({ cls := "java/lang/System", name := "arraycopy", desc := "(Ljava/lang/Object;ILjava/lang/Object;II)V" } : Jvm.MethodName)) ∈ lw_all := lw_g (lw_at lw_m4 48 rfl) rfl
theorem q1094 : (Jvm.Cond.instanceMethod ({ cls := "LastPebble$Heap", name := "latestOf", desc := "(I)I" } : Jvm.MethodName)) ∈ lw_all := lw_g (lw_at lw_m5 1 rfl) rfl
theorem q1095 : (Jvm.Cond.selects "LastPebble$Heap" ({ cls := "LastPebble$Heap", name := "latestOf", desc := "(I)I" } : Jvm.MethodName) ({ cls := "LastPebble$Heap", name := "latestOf", desc := "(I)I" } : Jvm.MethodName)) ∈ lw_all := lw_g (lw_at lw_m5 2 rfl) rfl
theorem q1096 : (Jvm.Cond.code ({ cls := "LastPebble$Heap", name := "latestOf", desc := "(I)I" } : Jvm.MethodName) prog_7_method_7_code (3 : Nat) (Option.some Jvm.ClassFile.FieldType.int)) ∈ lw_all := lw_g (lw_at lw_m5 3 rfl) rfl
theorem q1103 : (Jvm.Cond.instanceMethod ({ cls := "LastPebble$Heap", name := "takes", desc := "(I)V" } : Jvm.MethodName)) ∈ lw_all := lw_g (lw_at lw_m5 10 rfl) rfl
theorem q1104 : (Jvm.Cond.selects "LastPebble$Heap" ({ cls := "LastPebble$Heap", name := "takes", desc := "(I)V" } : Jvm.MethodName) ({ cls := "LastPebble$Heap", name := "takes", desc := "(I)V" } : Jvm.MethodName)) ∈ lw_all := lw_g (lw_at lw_m5 11 rfl) rfl
theorem q1105 : (Jvm.Cond.code ({ cls := "LastPebble$Heap", name := "takes", desc := "(I)V" } : Jvm.MethodName) prog_7_method_5_code (3 : Nat) (Option.none : Option Jvm.ClassFile.FieldType)) ∈ lw_all := lw_g (lw_at lw_m5 12 rfl) rfl
theorem q1144 : (Jvm.Cond.instanceMethod ({ cls := "LastPebble$Heap", name := "last", desc := "()I" } : Jvm.MethodName)) ∈ lw_all := lw_g (lw_at lw_m5 51 rfl) rfl
theorem q1145 : (Jvm.Cond.selects "LastPebble$Heap" ({ cls := "LastPebble$Heap", name := "last", desc := "()I" } : Jvm.MethodName) ({ cls := "LastPebble$Heap", name := "last", desc := "()I" } : Jvm.MethodName)) ∈ lw_all := lw_g (lw_at lw_m5 52 rfl) rfl
theorem q1146 : (Jvm.Cond.code ({ cls := "LastPebble$Heap", name := "last", desc := "()I" } : Jvm.MethodName) prog_7_method_6_code (3 : Nat) (Option.some Jvm.ClassFile.FieldType.int)) ∈ lw_all := lw_g (lw_at lw_m5 53 rfl) rfl
theorem q1217 : (Jvm.Cond.instanceMethod ({ cls := "LastPebble$Heap", name := "many", desc := "(I)I" } : Jvm.MethodName)) ∈ lw_all := lw_g (lw_at lw_m5 124 rfl) rfl
theorem q1218 : (Jvm.Cond.selects "LastPebble$Heap" ({ cls := "LastPebble$Heap", name := "many", desc := "(I)I" } : Jvm.MethodName) ({ cls := "LastPebble$Heap", name := "many", desc := "(I)I" } : Jvm.MethodName)) ∈ lw_all := lw_g (lw_at lw_m5 125 rfl) rfl
theorem q1219 : (Jvm.Cond.code ({ cls := "LastPebble$Heap", name := "many", desc := "(I)I" } : Jvm.MethodName) prog_7_method_9_code (4 : Nat) (Option.some Jvm.ClassFile.FieldType.int)) ∈ lw_all := lw_g (lw_at lw_m5 126 rfl) rfl
theorem q1234 : (Jvm.Cond.instanceMethod ({ cls := "LastPebble$Heap", name := "others", desc := "(I)I" } : Jvm.MethodName)) ∈ lw_all := lw_g (lw_at lw_m5 141 rfl) rfl
theorem q1235 : (Jvm.Cond.selects "LastPebble$Heap" ({ cls := "LastPebble$Heap", name := "others", desc := "(I)I" } : Jvm.MethodName) ({ cls := "LastPebble$Heap", name := "others", desc := "(I)I" } : Jvm.MethodName)) ∈ lw_all := lw_g (lw_at lw_m5 142 rfl) rfl
theorem q1236 : (Jvm.Cond.code ({ cls := "LastPebble$Heap", name := "others", desc := "(I)I" } : Jvm.MethodName) prog_7_method_8_code (3 : Nat) (Option.some Jvm.ClassFile.FieldType.int)) ∈ lw_all := lw_g (lw_at lw_m5 143 rfl) rfl
theorem q1324 : (Jvm.Cond.instanceMethod ({ cls := "LastPebble$Heap", name := "be", desc := "(LLastPebble$Heap;)V" } : Jvm.MethodName)) ∈ lw_all := lw_g (lw_at lw_m5 231 rfl) rfl
theorem q1325 : (Jvm.Cond.selects "LastPebble$Heap" ({ cls := "LastPebble$Heap", name := "be", desc := "(LLastPebble$Heap;)V" } : Jvm.MethodName) ({ cls := "LastPebble$Heap", name := "be", desc := "(LLastPebble$Heap;)V" } : Jvm.MethodName)) ∈ lw_all := lw_g (lw_at lw_m5 232 rfl) rfl
theorem q1326 : (Jvm.Cond.code ({ cls := "LastPebble$Heap", name := "be", desc := "(LLastPebble$Heap;)V" } : Jvm.MethodName) prog_7_method_2_code (2 : Nat) (Option.none : Option Jvm.ClassFile.FieldType)) ∈ lw_all := lw_g (lw_at lw_m5 233 rfl) rfl
theorem in_X7 : ∀ w ∈ wsX70, w ∈ lw_all := lw_in wsX70 [400, 402, 404] (by decide +kernel) (by decide +kernel)

/-! LastPebbleModel -/
set_option maxRecDepth 100000
def RX8 : String := "LastPebbleModel"
def TX8 : u_T := fun k => match k with
  | 0 => ("LastPebbleModel", "at", "[I", true)
  | 1 => ("LastPebbleModel", "names", "[J", true)
  | 2 => ("LastPebbleModel", "status", "I", false)
  | 3 => ("LastPebbleModel", "top", "J", false)
  | 4 => ("LastPebbleModel", "bottom", "J", false)
  | 5 => ("LastPebbleModel", "sort", "[I", true)
  | 6 => ("LastPebbleModel", "trayMany", "[I", true)
  | 7 => ("LastPebbleModel", "trays", "[J", true)
  | 8 => ("LastPebbleModel", "tape", "[B", true)
  | 9 => ("LastPebbleModel", "text", "[B", true)
  | 10 => ("LastPebbleModel", "taped", "I", false)
  | 11 => ("LastPebbleModel", "size", "I", false)
  | 12 => ("LastPebbleModel", "token", "I", false)
  | 13 => ("LastPebbleModel", "from", "I", false)
  | 14 => ("LastPebbleModel", "end", "I", false)
  | 15 => ("LastPebbleModel", "value", "I", false)
  | 16 => ("LastPebbleModel", "faultKind", "I", false)
  | 17 => ("LastPebbleModel", "faultPlace", "I", false)
  | 18 => ("LastPebbleModel", "faults", "I", false)
  | 19 => ("LastPebbleModel", "seen", "I", false)
  | 20 => ("LastPebbleModel", "duelTold", "Z", false)
  | 21 => ("LastPebbleModel", "pebblesTold", "I", false)
  | 22 => ("LastPebbleModel", "opened", "[I", true)
  | 23 => ("LastPebbleModel", "depth", "I", false)
  | 24 => ("LastPebbleModel", "counted", "I", false)
  | 25 => ("LastPebbleModel", "row", "[I", true)
  | 26 => ("LastPebbleModel", "when", "[I", true)
  | 27 => ("LastPebbleModel", "bestRow", "[I", true)
  | 28 => ("LastPebbleModel", "toldRow", "[I", true)
  | 29 => ("LastPebbleModel", "bestMany", "I", false)
  | 30 => ("LastPebbleModel", "toldMany", "I", false)
  | 31 => ("LastPebbleModel", "drawn", "I", false)
  | 32 => ("LastPebbleModel", "ranSteps", "I", false)
  | 33 => ("LastPebbleModel", "loops", "[I", true)
  | 34 => ("LastPebbleModel", "ran", "[I", true)
  | 35 => ("LastPebbleModel", "told0", "[I", true)
  | 36 => ("LastPebbleModel", "isTold", "Z", false)
  | _ => ("LastPebbleModel", "marks", "I", false)
def tyX8 : Nat → FieldType := fun k => match k with
  | 0 => .array .int
  | 1 => .array .long
  | 2 => .int
  | 3 => .long
  | 4 => .long
  | 5 => .array .int
  | 6 => .array .int
  | 7 => .array .long
  | 8 => .array .byte
  | 9 => .array .byte
  | 10 => .int
  | 11 => .int
  | 12 => .int
  | 13 => .int
  | 14 => .int
  | 15 => .int
  | 16 => .int
  | 17 => .int
  | 18 => .int
  | 19 => .int
  | 20 => .boolean
  | 21 => .int
  | 22 => .array .int
  | 23 => .int
  | 24 => .int
  | 25 => .array .int
  | 26 => .array .int
  | 27 => .array .int
  | 28 => .array .int
  | 29 => .int
  | 30 => .int
  | 31 => .int
  | 32 => .int
  | 33 => .array .int
  | 34 => .array .int
  | 35 => .array .int
  | 36 => .boolean
  | _ => .int
abbrev wsX80 : List Cond := u_ws RX8 TX8 38
set_option maxRecDepth 100000 in
theorem nmX8 : ∀ a, a < 38 → ∀ b, b < 38 → a ≠ b → (TX8 a).2.1 ≠ (TX8 b).2.1 := by decide +kernel
set_option maxRecDepth 100000 in
theorem tyX8_ok : ∀ k, k < 38 → parseFieldDescriptor (TX8 k).2.2.1 = some (tyX8 k) := by decide +kernel
theorem q144 : (Jvm.Cond.initialized "LastPebbleModel") ∈ lw_all := lw_g (lw_at lw_m1 11 rfl) rfl
theorem q1543 : (Jvm.Cond.instantiable "LastPebbleModel" (38 : Nat)) ∈ lw_all := lw_g (lw_at lw_m6 210 rfl) rfl
theorem q1545 : (Jvm.Cond.instanceMethod ({ cls := "LastPebbleModel", name := "<init>", desc := "()V" } : Jvm.MethodName)) ∈ lw_all := lw_g (lw_at lw_m6 212 rfl) rfl
theorem q1546 : (Jvm.Cond.code ({ cls := "LastPebbleModel", name := "<init>", desc := "()V" } : Jvm.MethodName) prog_17_method_1_code (1 : Nat) (Option.none : Option Jvm.ClassFile.FieldType)) ∈ lw_all := lw_g (lw_at lw_m6 213 rfl) rfl
theorem q1547 : (Jvm.Cond.methodLink "LastPebbleModel" (1 : Nat) ({ cls := "java/lang/Object", name := "<init>", desc := "()V" } : Jvm.MethodName)) ∈ lw_all := lw_g (lw_at lw_m6 214 rfl) rfl
theorem q1548 : (Jvm.Cond.methodLink "LastPebbleModel" (68 : Nat) ({ cls := "LastPebbleModel", name := "plain", desc := "(I)V" } : Jvm.MethodName)) ∈ lw_all := lw_g (lw_at lw_m6 215 rfl) rfl
theorem q1549 : (Jvm.Cond.privateMethod ({ cls := "LastPebbleModel", name := "plain", desc := "(I)V" } : Jvm.MethodName)) ∈ lw_tbl := lw_at lw_m6 216 rfl
theorem q1550 : (Jvm.Cond.instanceMethod ({ cls := "LastPebbleModel", name := "plain", desc := "(I)V" } : Jvm.MethodName)) ∈ lw_all := lw_g (lw_at lw_m6 217 rfl) rfl
theorem q1551 : (Jvm.Cond.code ({ cls := "LastPebbleModel", name := "plain", desc := "(I)V" } : Jvm.MethodName) prog_17_method_2_code (3 : Nat) (Option.none : Option Jvm.ClassFile.FieldType)) ∈ lw_all := lw_g (lw_at lw_m6 218 rfl) rfl
theorem q1552 : (Jvm.Cond.fieldLink "LastPebbleModel" (7 : Nat) "LastPebbleModel" "at" "[I") ∈ lw_all := lw_g (lw_at lw_m6 219 rfl) rfl
theorem q1553 : (Jvm.Cond.fieldLink "LastPebbleModel" (13 : Nat) "LastPebbleModel" "names" "[J") ∈ lw_all := lw_g (lw_at lw_m6 220 rfl) rfl
theorem q1554 : (Jvm.Cond.fieldLink "LastPebbleModel" (72 : Nat) "LastPebbleModel" "status" "I") ∈ lw_all := lw_g (lw_at lw_m6 221 rfl) rfl
theorem q1555 : (Jvm.Cond.fieldLink "LastPebbleModel" (75 : Nat) "LastPebbleModel" "top" "J") ∈ lw_all := lw_g (lw_at lw_m6 222 rfl) rfl
theorem q1556 : (Jvm.Cond.fieldLink "LastPebbleModel" (17 : Nat) "LastPebbleModel" "bottom" "J") ∈ lw_all := lw_g (lw_at lw_m6 223 rfl) rfl
theorem q1557 : (Jvm.Cond.fieldLink "LastPebbleModel" (21 : Nat) "LastPebbleModel" "sort" "[I") ∈ lw_all := lw_g (lw_at lw_m6 224 rfl) rfl
theorem q1558 : (Jvm.Cond.fieldLink "LastPebbleModel" (24 : Nat) "LastPebbleModel" "trayMany" "[I") ∈ lw_all := lw_g (lw_at lw_m6 225 rfl) rfl
theorem q1559 : (Jvm.Cond.fieldLink "LastPebbleModel" (27 : Nat) "LastPebbleModel" "trays" "[J") ∈ lw_all := lw_g (lw_at lw_m6 226 rfl) rfl
theorem q1560 : (Jvm.Cond.fieldLink "LastPebbleModel" (30 : Nat) "LastPebbleModel" "tape" "[B") ∈ lw_all := lw_g (lw_at lw_m6 227 rfl) rfl
theorem q1561 : (Jvm.Cond.fieldLink "LastPebbleModel" (34 : Nat) "LastPebbleModel" "text" "[B") ∈ lw_all := lw_g (lw_at lw_m6 228 rfl) rfl
theorem q1562 : (Jvm.Cond.fieldLink "LastPebbleModel" (102 : Nat) "LastPebbleModel" "taped" "I") ∈ lw_all := lw_g (lw_at lw_m6 229 rfl) rfl
theorem q1563 : (Jvm.Cond.fieldLink "LastPebbleModel" (108 : Nat) "LastPebbleModel" "size" "I") ∈ lw_all := lw_g (lw_at lw_m6 230 rfl) rfl
theorem q1564 : (Jvm.Cond.fieldLink "LastPebbleModel" (123 : Nat) "LastPebbleModel" "token" "I") ∈ lw_all := lw_g (lw_at lw_m6 231 rfl) rfl
theorem q1565 : (Jvm.Cond.fieldLink "LastPebbleModel" (117 : Nat) "LastPebbleModel" "from" "I") ∈ lw_all := lw_g (lw_at lw_m6 232 rfl) rfl
theorem q1566 : (Jvm.Cond.fieldLink "LastPebbleModel" (111 : Nat) "LastPebbleModel" "end" "I") ∈ lw_all := lw_g (lw_at lw_m6 233 rfl) rfl
theorem q1567 : (Jvm.Cond.fieldLink "LastPebbleModel" (120 : Nat) "LastPebbleModel" "value" "I") ∈ lw_all := lw_g (lw_at lw_m6 234 rfl) rfl
theorem q1568 : (Jvm.Cond.fieldLink "LastPebbleModel" (37 : Nat) "LastPebbleModel" "faultKind" "I") ∈ lw_all := lw_g (lw_at lw_m6 235 rfl) rfl
theorem q1569 : (Jvm.Cond.fieldLink "LastPebbleModel" (41 : Nat) "LastPebbleModel" "faultPlace" "I") ∈ lw_all := lw_g (lw_at lw_m6 236 rfl) rfl
theorem q1570 : (Jvm.Cond.fieldLink "LastPebbleModel" (148 : Nat) "LastPebbleModel" "faults" "I") ∈ lw_all := lw_g (lw_at lw_m6 237 rfl) rfl
theorem q1571 : (Jvm.Cond.fieldLink "LastPebbleModel" (151 : Nat) "LastPebbleModel" "seen" "I") ∈ lw_all := lw_g (lw_at lw_m6 238 rfl) rfl
theorem q1572 : (Jvm.Cond.fieldLink "LastPebbleModel" (214 : Nat) "LastPebbleModel" "duelTold" "Z") ∈ lw_all := lw_g (lw_at lw_m6 239 rfl) rfl
theorem q1573 : (Jvm.Cond.fieldLink "LastPebbleModel" (204 : Nat) "LastPebbleModel" "pebblesTold" "I") ∈ lw_all := lw_g (lw_at lw_m7 0 rfl) rfl
theorem q1574 : (Jvm.Cond.fieldLink "LastPebbleModel" (44 : Nat) "LastPebbleModel" "opened" "[I") ∈ lw_all := lw_g (lw_at lw_m7 1 rfl) rfl
theorem q1575 : (Jvm.Cond.fieldLink "LastPebbleModel" (253 : Nat) "LastPebbleModel" "depth" "I") ∈ lw_all := lw_g (lw_at lw_m7 2 rfl) rfl
theorem q1576 : (Jvm.Cond.fieldLink "LastPebbleModel" (256 : Nat) "LastPebbleModel" "counted" "I") ∈ lw_all := lw_g (lw_at lw_m7 3 rfl) rfl
theorem q1577 : (Jvm.Cond.fieldLink "LastPebbleModel" (47 : Nat) "LastPebbleModel" "row" "[I") ∈ lw_all := lw_g (lw_at lw_m7 4 rfl) rfl
theorem q1578 : (Jvm.Cond.fieldLink "LastPebbleModel" (50 : Nat) "LastPebbleModel" "when" "[I") ∈ lw_all := lw_g (lw_at lw_m7 5 rfl) rfl
theorem q1579 : (Jvm.Cond.fieldLink "LastPebbleModel" (53 : Nat) "LastPebbleModel" "bestRow" "[I") ∈ lw_all := lw_g (lw_at lw_m7 6 rfl) rfl
theorem q1580 : (Jvm.Cond.fieldLink "LastPebbleModel" (56 : Nat) "LastPebbleModel" "toldRow" "[I") ∈ lw_all := lw_g (lw_at lw_m7 7 rfl) rfl
theorem q1581 : (Jvm.Cond.fieldLink "LastPebbleModel" (396 : Nat) "LastPebbleModel" "bestMany" "I") ∈ lw_all := lw_g (lw_at lw_m7 8 rfl) rfl
theorem q1582 : (Jvm.Cond.fieldLink "LastPebbleModel" (402 : Nat) "LastPebbleModel" "toldMany" "I") ∈ lw_all := lw_g (lw_at lw_m7 9 rfl) rfl
theorem q1583 : (Jvm.Cond.fieldLink "LastPebbleModel" (419 : Nat) "LastPebbleModel" "drawn" "I") ∈ lw_all := lw_g (lw_at lw_m7 10 rfl) rfl
theorem q1584 : (Jvm.Cond.fieldLink "LastPebbleModel" (429 : Nat) "LastPebbleModel" "ranSteps" "I") ∈ lw_all := lw_g (lw_at lw_m7 11 rfl) rfl
theorem q1585 : (Jvm.Cond.fieldLink "LastPebbleModel" (59 : Nat) "LastPebbleModel" "loops" "[I") ∈ lw_all := lw_g (lw_at lw_m7 12 rfl) rfl
theorem q1586 : (Jvm.Cond.fieldLink "LastPebbleModel" (62 : Nat) "LastPebbleModel" "ran" "[I") ∈ lw_all := lw_g (lw_at lw_m7 13 rfl) rfl
theorem q1587 : (Jvm.Cond.fieldLink "LastPebbleModel" (65 : Nat) "LastPebbleModel" "told0" "[I") ∈ lw_all := lw_g (lw_at lw_m7 14 rfl) rfl
theorem q1588 : (Jvm.Cond.fieldLink "LastPebbleModel" (446 : Nat) "LastPebbleModel" "isTold" "Z") ∈ lw_all := lw_g (lw_at lw_m7 15 rfl) rfl
theorem q1589 : (Jvm.Cond.fieldLink "LastPebbleModel" (451 : Nat) "LastPebbleModel" "marks" "I") ∈ lw_all := lw_g (lw_at lw_m7 16 rfl) rfl
theorem q1590 : (Jvm.Cond.laysFinal "LastPebbleModel" "LastPebbleModel" "at" "[I") ∈ lw_all := lw_g (lw_at lw_m7 17 rfl) rfl
theorem q1591 : (Jvm.Cond.soleField "LastPebbleModel" "at") ∈ lw_all := lw_g (lw_at lw_m7 18 rfl) rfl
theorem q1592 : (Jvm.Cond.laysFinal "LastPebbleModel" "LastPebbleModel" "names" "[J") ∈ lw_all := lw_g (lw_at lw_m7 19 rfl) rfl
theorem q1593 : (Jvm.Cond.soleField "LastPebbleModel" "names") ∈ lw_all := lw_g (lw_at lw_m7 20 rfl) rfl
theorem q1594 : (Jvm.Cond.lays "LastPebbleModel" "LastPebbleModel" "status" "I") ∈ lw_all := lw_g (lw_at lw_m7 21 rfl) rfl
theorem q1595 : (Jvm.Cond.soleField "LastPebbleModel" "status") ∈ lw_all := lw_g (lw_at lw_m7 22 rfl) rfl
theorem q1596 : (Jvm.Cond.lays "LastPebbleModel" "LastPebbleModel" "top" "J") ∈ lw_all := lw_g (lw_at lw_m7 23 rfl) rfl
theorem q1597 : (Jvm.Cond.soleField "LastPebbleModel" "top") ∈ lw_all := lw_g (lw_at lw_m7 24 rfl) rfl
theorem q1598 : (Jvm.Cond.lays "LastPebbleModel" "LastPebbleModel" "bottom" "J") ∈ lw_all := lw_g (lw_at lw_m7 25 rfl) rfl
theorem q1599 : (Jvm.Cond.soleField "LastPebbleModel" "bottom") ∈ lw_all := lw_g (lw_at lw_m7 26 rfl) rfl
theorem q1600 : (Jvm.Cond.laysFinal "LastPebbleModel" "LastPebbleModel" "sort" "[I") ∈ lw_all := lw_g (lw_at lw_m7 27 rfl) rfl
theorem q1601 : (Jvm.Cond.soleField "LastPebbleModel" "sort") ∈ lw_all := lw_g (lw_at lw_m7 28 rfl) rfl
theorem q1602 : (Jvm.Cond.laysFinal "LastPebbleModel" "LastPebbleModel" "trayMany" "[I") ∈ lw_all := lw_g (lw_at lw_m7 29 rfl) rfl
theorem q1603 : (Jvm.Cond.soleField "LastPebbleModel" "trayMany") ∈ lw_all := lw_g (lw_at lw_m7 30 rfl) rfl
theorem q1604 : (Jvm.Cond.laysFinal "LastPebbleModel" "LastPebbleModel" "trays" "[J") ∈ lw_all := lw_g (lw_at lw_m7 31 rfl) rfl
theorem q1605 : (Jvm.Cond.soleField "LastPebbleModel" "trays") ∈ lw_all := lw_g (lw_at lw_m7 32 rfl) rfl
theorem q1606 : (Jvm.Cond.laysFinal "LastPebbleModel" "LastPebbleModel" "tape" "[B") ∈ lw_all := lw_g (lw_at lw_m7 33 rfl) rfl
theorem q1607 : (Jvm.Cond.soleField "LastPebbleModel" "tape") ∈ lw_all := lw_g (lw_at lw_m7 34 rfl) rfl
theorem q1608 : (Jvm.Cond.laysFinal "LastPebbleModel" "LastPebbleModel" "text" "[B") ∈ lw_all := lw_g (lw_at lw_m7 35 rfl) rfl
theorem q1609 : (Jvm.Cond.soleField "LastPebbleModel" "text") ∈ lw_all := lw_g (lw_at lw_m7 36 rfl) rfl
theorem q1610 : (Jvm.Cond.lays "LastPebbleModel" "LastPebbleModel" "taped" "I") ∈ lw_all := lw_g (lw_at lw_m7 37 rfl) rfl
theorem q1611 : (Jvm.Cond.soleField "LastPebbleModel" "taped") ∈ lw_all := lw_g (lw_at lw_m7 38 rfl) rfl
theorem q1612 : (Jvm.Cond.lays "LastPebbleModel" "LastPebbleModel" "size" "I") ∈ lw_all := lw_g (lw_at lw_m7 39 rfl) rfl
theorem q1613 : (Jvm.Cond.soleField "LastPebbleModel" "size") ∈ lw_all := lw_g (lw_at lw_m7 40 rfl) rfl
theorem q1614 : (Jvm.Cond.lays "LastPebbleModel" "LastPebbleModel" "token" "I") ∈ lw_all := lw_g (lw_at lw_m7 41 rfl) rfl
theorem q1615 : (Jvm.Cond.soleField "LastPebbleModel" "token") ∈ lw_all := lw_g (lw_at lw_m7 42 rfl) rfl
theorem q1616 : (Jvm.Cond.lays "LastPebbleModel" "LastPebbleModel" "from" "I") ∈ lw_all := lw_g (lw_at lw_m7 43 rfl) rfl
theorem q1617 : (Jvm.Cond.soleField "LastPebbleModel" "from") ∈ lw_all := lw_g (lw_at lw_m7 44 rfl) rfl
theorem q1618 : (Jvm.Cond.lays "LastPebbleModel" "LastPebbleModel" "end" "I") ∈ lw_all := lw_g (lw_at lw_m7 45 rfl) rfl
theorem q1619 : (Jvm.Cond.soleField "LastPebbleModel" "end") ∈ lw_all := lw_g (lw_at lw_m7 46 rfl) rfl
theorem q1620 : (Jvm.Cond.lays "LastPebbleModel" "LastPebbleModel" "value" "I") ∈ lw_all := lw_g (lw_at lw_m7 47 rfl) rfl
theorem q1621 : (Jvm.Cond.soleField "LastPebbleModel" "value") ∈ lw_all := lw_g (lw_at lw_m7 48 rfl) rfl
theorem q1622 : (Jvm.Cond.lays "LastPebbleModel" "LastPebbleModel" "faultKind" "I") ∈ lw_all := lw_g (lw_at lw_m7 49 rfl) rfl
theorem q1623 : (Jvm.Cond.soleField "LastPebbleModel" "faultKind") ∈ lw_all := lw_g (lw_at lw_m7 50 rfl) rfl
theorem q1624 : (Jvm.Cond.lays "LastPebbleModel" "LastPebbleModel" "faultPlace" "I") ∈ lw_all := lw_g (lw_at lw_m7 51 rfl) rfl
theorem q1625 : (Jvm.Cond.soleField "LastPebbleModel" "faultPlace") ∈ lw_all := lw_g (lw_at lw_m7 52 rfl) rfl
theorem q1626 : (Jvm.Cond.lays "LastPebbleModel" "LastPebbleModel" "faults" "I") ∈ lw_all := lw_g (lw_at lw_m7 53 rfl) rfl
theorem q1627 : (Jvm.Cond.soleField "LastPebbleModel" "faults") ∈ lw_all := lw_g (lw_at lw_m7 54 rfl) rfl
theorem q1628 : (Jvm.Cond.lays "LastPebbleModel" "LastPebbleModel" "seen" "I") ∈ lw_all := lw_g (lw_at lw_m7 55 rfl) rfl
theorem q1629 : (Jvm.Cond.soleField "LastPebbleModel" "seen") ∈ lw_all := lw_g (lw_at lw_m7 56 rfl) rfl
theorem q1630 : (Jvm.Cond.lays "LastPebbleModel" "LastPebbleModel" "duelTold" "Z") ∈ lw_all := lw_g (lw_at lw_m7 57 rfl) rfl
theorem q1631 : (Jvm.Cond.soleField "LastPebbleModel" "duelTold") ∈ lw_all := lw_g (lw_at lw_m7 58 rfl) rfl
theorem q1632 : (Jvm.Cond.lays "LastPebbleModel" "LastPebbleModel" "pebblesTold" "I") ∈ lw_all := lw_g (lw_at lw_m7 59 rfl) rfl
theorem q1633 : (Jvm.Cond.soleField "LastPebbleModel" "pebblesTold") ∈ lw_all := lw_g (lw_at lw_m7 60 rfl) rfl
theorem q1634 : (Jvm.Cond.laysFinal "LastPebbleModel" "LastPebbleModel" "opened" "[I") ∈ lw_all := lw_g (lw_at lw_m7 61 rfl) rfl
theorem q1635 : (Jvm.Cond.soleField "LastPebbleModel" "opened") ∈ lw_all := lw_g (lw_at lw_m7 62 rfl) rfl
theorem q1636 : (Jvm.Cond.lays "LastPebbleModel" "LastPebbleModel" "depth" "I") ∈ lw_all := lw_g (lw_at lw_m7 63 rfl) rfl
theorem q1637 : (Jvm.Cond.soleField "LastPebbleModel" "depth") ∈ lw_all := lw_g (lw_at lw_m7 64 rfl) rfl
theorem q1638 : (Jvm.Cond.lays "LastPebbleModel" "LastPebbleModel" "counted" "I") ∈ lw_all := lw_g (lw_at lw_m7 65 rfl) rfl
theorem q1639 : (Jvm.Cond.soleField "LastPebbleModel" "counted") ∈ lw_all := lw_g (lw_at lw_m7 66 rfl) rfl
theorem q1640 : (Jvm.Cond.laysFinal "LastPebbleModel" "LastPebbleModel" "row" "[I") ∈ lw_all := lw_g (lw_at lw_m7 67 rfl) rfl
theorem q1641 : (Jvm.Cond.soleField "LastPebbleModel" "row") ∈ lw_all := lw_g (lw_at lw_m7 68 rfl) rfl
theorem q1642 : (Jvm.Cond.laysFinal "LastPebbleModel" "LastPebbleModel" "when" "[I") ∈ lw_all := lw_g (lw_at lw_m7 69 rfl) rfl
theorem q1643 : (Jvm.Cond.soleField "LastPebbleModel" "when") ∈ lw_all := lw_g (lw_at lw_m7 70 rfl) rfl
theorem q1644 : (Jvm.Cond.laysFinal "LastPebbleModel" "LastPebbleModel" "bestRow" "[I") ∈ lw_all := lw_g (lw_at lw_m7 71 rfl) rfl
theorem q1645 : (Jvm.Cond.soleField "LastPebbleModel" "bestRow") ∈ lw_all := lw_g (lw_at lw_m7 72 rfl) rfl
theorem q1646 : (Jvm.Cond.laysFinal "LastPebbleModel" "LastPebbleModel" "toldRow" "[I") ∈ lw_all := lw_g (lw_at lw_m7 73 rfl) rfl
theorem q1647 : (Jvm.Cond.soleField "LastPebbleModel" "toldRow") ∈ lw_all := lw_g (lw_at lw_m7 74 rfl) rfl
theorem q1648 : (Jvm.Cond.lays "LastPebbleModel" "LastPebbleModel" "bestMany" "I") ∈ lw_all := lw_g (lw_at lw_m7 75 rfl) rfl
theorem q1649 : (Jvm.Cond.soleField "LastPebbleModel" "bestMany") ∈ lw_all := lw_g (lw_at lw_m7 76 rfl) rfl
theorem q1650 : (Jvm.Cond.lays "LastPebbleModel" "LastPebbleModel" "toldMany" "I") ∈ lw_all := lw_g (lw_at lw_m7 77 rfl) rfl
theorem q1651 : (Jvm.Cond.soleField "LastPebbleModel" "toldMany") ∈ lw_all := lw_g (lw_at lw_m7 78 rfl) rfl
theorem q1652 : (Jvm.Cond.lays "LastPebbleModel" "LastPebbleModel" "drawn" "I") ∈ lw_all := lw_g (lw_at lw_m7 79 rfl) rfl
theorem q1653 : (Jvm.Cond.soleField "LastPebbleModel" "drawn") ∈ lw_all := lw_g (lw_at lw_m7 80 rfl) rfl
theorem q1654 : (Jvm.Cond.lays "LastPebbleModel" "LastPebbleModel" "ranSteps" "I") ∈ lw_all := lw_g (lw_at lw_m7 81 rfl) rfl
theorem q1655 : (Jvm.Cond.soleField "LastPebbleModel" "ranSteps") ∈ lw_all := lw_g (lw_at lw_m7 82 rfl) rfl
theorem q1656 : (Jvm.Cond.laysFinal "LastPebbleModel" "LastPebbleModel" "loops" "[I") ∈ lw_all := lw_g (lw_at lw_m7 83 rfl) rfl
theorem q1657 : (Jvm.Cond.soleField "LastPebbleModel" "loops") ∈ lw_all := lw_g (lw_at lw_m7 84 rfl) rfl
theorem q1658 : (Jvm.Cond.laysFinal "LastPebbleModel" "LastPebbleModel" "ran" "[I") ∈ lw_all := lw_g (lw_at lw_m7 85 rfl) rfl
theorem q1659 : (Jvm.Cond.soleField "LastPebbleModel" "ran") ∈ lw_all := lw_g (lw_at lw_m7 86 rfl) rfl
theorem q1660 : (Jvm.Cond.laysFinal "LastPebbleModel" "LastPebbleModel" "told0" "[I") ∈ lw_all := lw_g (lw_at lw_m7 87 rfl) rfl
theorem q1661 : (Jvm.Cond.soleField "LastPebbleModel" "told0") ∈ lw_all := lw_g (lw_at lw_m7 88 rfl) rfl
theorem q1662 : (Jvm.Cond.lays "LastPebbleModel" "LastPebbleModel" "isTold" "Z") ∈ lw_all := lw_g (lw_at lw_m7 89 rfl) rfl
theorem q1663 : (Jvm.Cond.soleField "LastPebbleModel" "isTold") ∈ lw_all := lw_g (lw_at lw_m7 90 rfl) rfl
theorem q1664 : (Jvm.Cond.lays "LastPebbleModel" "LastPebbleModel" "marks" "I") ∈ lw_all := lw_g (lw_at lw_m7 91 rfl) rfl
theorem q1665 : (Jvm.Cond.soleField "LastPebbleModel" "marks") ∈ lw_all := lw_g (lw_at lw_m7 92 rfl) rfl
theorem q1666 : (Jvm.Cond.superclass "LastPebbleModel" "java/lang/Object") ∈ lw_all := lw_g (lw_at lw_m7 93 rfl) rfl
theorem q1668 : (Jvm.Cond.instanceMethod ({ cls := "LastPebbleModel", name := "status", desc := "()I" } : Jvm.MethodName)) ∈ lw_all := lw_g (lw_at lw_m7 95 rfl) rfl
theorem q1669 : (Jvm.Cond.selects "LastPebbleModel" ({ cls := "LastPebbleModel", name := "status", desc := "()I" } : Jvm.MethodName) ({ cls := "LastPebbleModel", name := "status", desc := "()I" } : Jvm.MethodName)) ∈ lw_all := lw_g (lw_at lw_m7 96 rfl) rfl
theorem q1670 : (Jvm.Cond.code ({ cls := "LastPebbleModel", name := "status", desc := "()I" } : Jvm.MethodName) prog_17_method_3_code (1 : Nat) (Option.some Jvm.ClassFile.FieldType.int)) ∈ lw_all := lw_g (lw_at lw_m7 97 rfl) rfl
theorem q1672 : (Jvm.Cond.instanceMethod ({ cls := "LastPebbleModel", name := "top", desc := "()J" } : Jvm.MethodName)) ∈ lw_all := lw_g (lw_at lw_m7 99 rfl) rfl
theorem q1673 : (Jvm.Cond.selects "LastPebbleModel" ({ cls := "LastPebbleModel", name := "top", desc := "()J" } : Jvm.MethodName) ({ cls := "LastPebbleModel", name := "top", desc := "()J" } : Jvm.MethodName)) ∈ lw_all := lw_g (lw_at lw_m7 100 rfl) rfl
theorem q1674 : (Jvm.Cond.code ({ cls := "LastPebbleModel", name := "top", desc := "()J" } : Jvm.MethodName) prog_17_method_4_code (1 : Nat) (Option.some Jvm.ClassFile.FieldType.long)) ∈ lw_all := lw_g (lw_at lw_m7 101 rfl) rfl
theorem q1676 : (Jvm.Cond.instanceMethod ({ cls := "LastPebbleModel", name := "bottom", desc := "()J" } : Jvm.MethodName)) ∈ lw_all := lw_g (lw_at lw_m7 103 rfl) rfl
theorem q1677 : (Jvm.Cond.selects "LastPebbleModel" ({ cls := "LastPebbleModel", name := "bottom", desc := "()J" } : Jvm.MethodName) ({ cls := "LastPebbleModel", name := "bottom", desc := "()J" } : Jvm.MethodName)) ∈ lw_all := lw_g (lw_at lw_m7 104 rfl) rfl
theorem q1678 : (Jvm.Cond.code ({ cls := "LastPebbleModel", name := "bottom", desc := "()J" } : Jvm.MethodName) prog_17_method_5_code (1 : Nat) (Option.some Jvm.ClassFile.FieldType.long)) ∈ lw_all := lw_g (lw_at lw_m7 105 rfl) rfl
theorem q1680 : (Jvm.Cond.instanceMethod ({ cls := "LastPebbleModel", name := "tray", desc := "(III)Z" } : Jvm.MethodName)) ∈ lw_all := lw_g (lw_at lw_m7 107 rfl) rfl
theorem q1681 : (Jvm.Cond.selects "LastPebbleModel" ({ cls := "LastPebbleModel", name := "tray", desc := "(III)Z" } : Jvm.MethodName) ({ cls := "LastPebbleModel", name := "tray", desc := "(III)Z" } : Jvm.MethodName)) ∈ lw_all := lw_g (lw_at lw_m7 108 rfl) rfl
theorem q1682 : (Jvm.Cond.code ({ cls := "LastPebbleModel", name := "tray", desc := "(III)Z" } : Jvm.MethodName) prog_17_method_13_code (5 : Nat) (Option.some Jvm.ClassFile.FieldType.boolean)) ∈ lw_all := lw_g (lw_at lw_m7 109 rfl) rfl
theorem q1683 : (Jvm.Cond.methodLink "LastPebbleModel" (89 : Nat) ({ cls := "LastPebbleModel", name := "isTray", desc := "(I)Z" } : Jvm.MethodName)) ∈ lw_all := lw_g (lw_at lw_m7 110 rfl) rfl
theorem q1684 : (Jvm.Cond.static ({ cls := "LastPebbleModel", name := "isTray", desc := "(I)Z" } : Jvm.MethodName)) ∈ lw_all := lw_g (lw_at lw_m7 111 rfl) rfl
theorem q1685 : (Jvm.Cond.code ({ cls := "LastPebbleModel", name := "isTray", desc := "(I)Z" } : Jvm.MethodName) prog_17_method_11_code (1 : Nat) (Option.some Jvm.ClassFile.FieldType.boolean)) ∈ lw_all := lw_g (lw_at lw_m7 112 rfl) rfl
theorem q1686 : (Jvm.Cond.methodLink "LastPebbleModel" (85 : Nat) ({ cls := "LastPebbleModel", name := "is", desc := "(I)Z" } : Jvm.MethodName)) ∈ lw_all := lw_g (lw_at lw_m7 113 rfl) rfl
theorem q1687 : (Jvm.Cond.privateMethod ({ cls := "LastPebbleModel", name := "is", desc := "(I)Z" } : Jvm.MethodName)) ∈ lw_tbl := lw_at lw_m7 114 rfl
theorem q1688 : (Jvm.Cond.instanceMethod ({ cls := "LastPebbleModel", name := "is", desc := "(I)Z" } : Jvm.MethodName)) ∈ lw_all := lw_g (lw_at lw_m7 115 rfl) rfl
theorem q1689 : (Jvm.Cond.code ({ cls := "LastPebbleModel", name := "is", desc := "(I)Z" } : Jvm.MethodName) prog_17_method_6_code (2 : Nat) (Option.some Jvm.ClassFile.FieldType.boolean)) ∈ lw_all := lw_g (lw_at lw_m7 116 rfl) rfl
theorem q1691 : (Jvm.Cond.instanceMethod ({ cls := "LastPebbleModel", name := "write", desc := "(IIJ)Z" } : Jvm.MethodName)) ∈ lw_all := lw_g (lw_at lw_m7 118 rfl) rfl
theorem q1692 : (Jvm.Cond.selects "LastPebbleModel" ({ cls := "LastPebbleModel", name := "write", desc := "(IIJ)Z" } : Jvm.MethodName) ({ cls := "LastPebbleModel", name := "write", desc := "(IIJ)Z" } : Jvm.MethodName)) ∈ lw_all := lw_g (lw_at lw_m7 119 rfl) rfl
theorem q1693 : (Jvm.Cond.code ({ cls := "LastPebbleModel", name := "write", desc := "(IIJ)Z" } : Jvm.MethodName) prog_17_method_15_code (6 : Nat) (Option.some Jvm.ClassFile.FieldType.boolean)) ∈ lw_all := lw_g (lw_at lw_m7 120 rfl) rfl
theorem q1694 : (Jvm.Cond.methodLink "LastPebbleModel" (92 : Nat) ({ cls := "LastPebbleModel", name := "wrongPlace", desc := "(II)I" } : Jvm.MethodName)) ∈ lw_all := lw_g (lw_at lw_m7 121 rfl) rfl
theorem q1695 : (Jvm.Cond.privateMethod ({ cls := "LastPebbleModel", name := "wrongPlace", desc := "(II)I" } : Jvm.MethodName)) ∈ lw_tbl := lw_at lw_m7 122 rfl
theorem q1696 : (Jvm.Cond.instanceMethod ({ cls := "LastPebbleModel", name := "wrongPlace", desc := "(II)I" } : Jvm.MethodName)) ∈ lw_all := lw_g (lw_at lw_m7 123 rfl) rfl
theorem q1697 : (Jvm.Cond.code ({ cls := "LastPebbleModel", name := "wrongPlace", desc := "(II)I" } : Jvm.MethodName) prog_17_method_14_code (3 : Nat) (Option.some Jvm.ClassFile.FieldType.int)) ∈ lw_all := lw_g (lw_at lw_m7 124 rfl) rfl
theorem q1698 : (Jvm.Cond.methodLink "LastPebbleModel" (96 : Nat) ({ cls := "LastPebbleModel", name := "cut", desc := "(JI)J" } : Jvm.MethodName)) ∈ lw_all := lw_g (lw_at lw_m7 125 rfl) rfl
theorem q1699 : (Jvm.Cond.static ({ cls := "LastPebbleModel", name := "cut", desc := "(JI)J" } : Jvm.MethodName)) ∈ lw_all := lw_g (lw_at lw_m7 126 rfl) rfl
theorem q1700 : (Jvm.Cond.code ({ cls := "LastPebbleModel", name := "cut", desc := "(JI)J" } : Jvm.MethodName) prog_17_method_12_code (3 : Nat) (Option.some Jvm.ClassFile.FieldType.long)) ∈ lw_all := lw_g (lw_at lw_m7 127 rfl) rfl
theorem q1702 : (Jvm.Cond.instanceMethod ({ cls := "LastPebbleModel", name := "read", desc := "(II)J" } : Jvm.MethodName)) ∈ lw_all := lw_g (lw_at lw_m7 129 rfl) rfl
theorem q1703 : (Jvm.Cond.selects "LastPebbleModel" ({ cls := "LastPebbleModel", name := "read", desc := "(II)J" } : Jvm.MethodName) ({ cls := "LastPebbleModel", name := "read", desc := "(II)J" } : Jvm.MethodName)) ∈ lw_all := lw_g (lw_at lw_m7 130 rfl) rfl
theorem q1704 : (Jvm.Cond.code ({ cls := "LastPebbleModel", name := "read", desc := "(II)J" } : Jvm.MethodName) prog_17_method_16_code (3 : Nat) (Option.some Jvm.ClassFile.FieldType.long)) ∈ lw_all := lw_g (lw_at lw_m7 131 rfl) rfl
theorem q1705 : (Jvm.Cond.constantLong "LastPebbleModel" (100 : Nat) (-1 : Int64)) ∈ lw_all := lw_g (lw_at lw_m7 132 rfl) rfl
theorem q1707 : (Jvm.Cond.instanceMethod ({ cls := "LastPebbleModel", name := "pour", desc := "(IIIII)Z" } : Jvm.MethodName)) ∈ lw_all := lw_g (lw_at lw_m7 134 rfl) rfl
theorem q1708 : (Jvm.Cond.selects "LastPebbleModel" ({ cls := "LastPebbleModel", name := "pour", desc := "(IIIII)Z" } : Jvm.MethodName) ({ cls := "LastPebbleModel", name := "pour", desc := "(IIIII)Z" } : Jvm.MethodName)) ∈ lw_all := lw_g (lw_at lw_m7 135 rfl) rfl
theorem q1709 : (Jvm.Cond.code ({ cls := "LastPebbleModel", name := "pour", desc := "(IIIII)Z" } : Jvm.MethodName) prog_17_method_17_code (8 : Nat) (Option.some Jvm.ClassFile.FieldType.boolean)) ∈ lw_all := lw_g (lw_at lw_m7 136 rfl) rfl
theorem q1711 : (Jvm.Cond.instanceMethod ({ cls := "LastPebbleModel", name := "feed", desc := "(IIIII)I" } : Jvm.MethodName)) ∈ lw_all := lw_g (lw_at lw_m7 138 rfl) rfl
theorem q1712 : (Jvm.Cond.selects "LastPebbleModel" ({ cls := "LastPebbleModel", name := "feed", desc := "(IIIII)I" } : Jvm.MethodName) ({ cls := "LastPebbleModel", name := "feed", desc := "(IIIII)I" } : Jvm.MethodName)) ∈ lw_all := lw_g (lw_at lw_m7 139 rfl) rfl
theorem q1713 : (Jvm.Cond.code ({ cls := "LastPebbleModel", name := "feed", desc := "(IIIII)I" } : Jvm.MethodName) prog_17_method_19_code (6 : Nat) (Option.some Jvm.ClassFile.FieldType.int)) ∈ lw_all := lw_g (lw_at lw_m7 140 rfl) rfl
theorem q1714 : (Jvm.Cond.methodLink "LastPebbleModel" (105 : Nat) ({ cls := "LastPebbleModel", name := "four", desc := "(I)V" } : Jvm.MethodName)) ∈ lw_all := lw_g (lw_at lw_m7 141 rfl) rfl
theorem q1715 : (Jvm.Cond.privateMethod ({ cls := "LastPebbleModel", name := "four", desc := "(I)V" } : Jvm.MethodName)) ∈ lw_tbl := lw_at lw_m7 142 rfl
theorem q1716 : (Jvm.Cond.instanceMethod ({ cls := "LastPebbleModel", name := "four", desc := "(I)V" } : Jvm.MethodName)) ∈ lw_all := lw_g (lw_at lw_m7 143 rfl) rfl
theorem q1717 : (Jvm.Cond.code ({ cls := "LastPebbleModel", name := "four", desc := "(I)V" } : Jvm.MethodName) prog_17_method_20_code (3 : Nat) (Option.none : Option Jvm.ClassFile.FieldType)) ∈ lw_all := lw_g (lw_at lw_m7 144 rfl) rfl
theorem q1719 : (Jvm.Cond.instanceMethod ({ cls := "LastPebbleModel", name := "fault", desc := "(I)I" } : Jvm.MethodName)) ∈ lw_all := lw_g (lw_at lw_m7 146 rfl) rfl
theorem q1720 : (Jvm.Cond.selects "LastPebbleModel" ({ cls := "LastPebbleModel", name := "fault", desc := "(I)I" } : Jvm.MethodName) ({ cls := "LastPebbleModel", name := "fault", desc := "(I)I" } : Jvm.MethodName)) ∈ lw_all := lw_g (lw_at lw_m7 147 rfl) rfl
theorem q1721 : (Jvm.Cond.code ({ cls := "LastPebbleModel", name := "fault", desc := "(I)I" } : Jvm.MethodName) prog_17_method_35_code (2 : Nat) (Option.some Jvm.ClassFile.FieldType.int)) ∈ lw_all := lw_g (lw_at lw_m7 148 rfl) rfl
theorem q1723 : (Jvm.Cond.instanceMethod ({ cls := "LastPebbleModel", name := "beach", desc := "(I)I" } : Jvm.MethodName)) ∈ lw_all := lw_g (lw_at lw_m7 150 rfl) rfl
theorem q1724 : (Jvm.Cond.selects "LastPebbleModel" ({ cls := "LastPebbleModel", name := "beach", desc := "(I)I" } : Jvm.MethodName) ({ cls := "LastPebbleModel", name := "beach", desc := "(I)I" } : Jvm.MethodName)) ∈ lw_all := lw_g (lw_at lw_m7 151 rfl) rfl
theorem q1725 : (Jvm.Cond.code ({ cls := "LastPebbleModel", name := "beach", desc := "(I)I" } : Jvm.MethodName) prog_17_method_50_code (4 : Nat) (Option.some Jvm.ClassFile.FieldType.int)) ∈ lw_all := lw_g (lw_at lw_m7 152 rfl) rfl
theorem q1726 : (Jvm.Cond.methodLink "LastPebbleModel" (231 : Nat) ({ cls := "LastPebbleModel", name := "begins", desc := "(II)Z" } : Jvm.MethodName)) ∈ lw_all := lw_g (lw_at lw_m7 153 rfl) rfl
theorem q1727 : (Jvm.Cond.privateMethod ({ cls := "LastPebbleModel", name := "begins", desc := "(II)Z" } : Jvm.MethodName)) ∈ lw_tbl := lw_at lw_m7 154 rfl
theorem q1728 : (Jvm.Cond.instanceMethod ({ cls := "LastPebbleModel", name := "begins", desc := "(II)Z" } : Jvm.MethodName)) ∈ lw_all := lw_g (lw_at lw_m7 155 rfl) rfl
theorem q1729 : (Jvm.Cond.code ({ cls := "LastPebbleModel", name := "begins", desc := "(II)Z" } : Jvm.MethodName) prog_17_method_28_code (4 : Nat) (Option.some Jvm.ClassFile.FieldType.boolean)) ∈ lw_all := lw_g (lw_at lw_m7 156 rfl) rfl
theorem q1730 : (Jvm.Cond.methodLink "LastPebbleModel" (154 : Nat) ({ cls := "LastPebbleModel", name := "ahead", desc := "()V" } : Jvm.MethodName)) ∈ lw_all := lw_g (lw_at lw_m7 157 rfl) rfl
theorem q1731 : (Jvm.Cond.privateMethod ({ cls := "LastPebbleModel", name := "ahead", desc := "()V" } : Jvm.MethodName)) ∈ lw_tbl := lw_at lw_m7 158 rfl
theorem q1732 : (Jvm.Cond.instanceMethod ({ cls := "LastPebbleModel", name := "ahead", desc := "()V" } : Jvm.MethodName)) ∈ lw_all := lw_g (lw_at lw_m7 159 rfl) rfl
theorem q1733 : (Jvm.Cond.code ({ cls := "LastPebbleModel", name := "ahead", desc := "()V" } : Jvm.MethodName) prog_17_method_24_code (2 : Nat) (Option.none : Option Jvm.ClassFile.FieldType)) ∈ lw_all := lw_g (lw_at lw_m7 160 rfl) rfl
theorem q1734 : (Jvm.Cond.methodLink "LastPebbleModel" (114 : Nat) ({ cls := "LastPebbleModel", name := "byteAt", desc := "(I)I" } : Jvm.MethodName)) ∈ lw_all := lw_g (lw_at lw_m7 161 rfl) rfl
theorem q1735 : (Jvm.Cond.privateMethod ({ cls := "LastPebbleModel", name := "byteAt", desc := "(I)I" } : Jvm.MethodName)) ∈ lw_tbl := lw_at lw_m7 162 rfl
theorem q1736 : (Jvm.Cond.instanceMethod ({ cls := "LastPebbleModel", name := "byteAt", desc := "(I)I" } : Jvm.MethodName)) ∈ lw_all := lw_g (lw_at lw_m7 163 rfl) rfl
theorem q1737 : (Jvm.Cond.code ({ cls := "LastPebbleModel", name := "byteAt", desc := "(I)I" } : Jvm.MethodName) prog_17_method_21_code (2 : Nat) (Option.some Jvm.ClassFile.FieldType.int)) ∈ lw_all := lw_g (lw_at lw_m7 164 rfl) rfl
theorem q1738 : (Jvm.Cond.methodLink "LastPebbleModel" (126 : Nat) ({ cls := "LastPebbleModel", name := "isSmall", desc := "(I)Z" } : Jvm.MethodName)) ∈ lw_all := lw_g (lw_at lw_m7 165 rfl) rfl
theorem q1739 : (Jvm.Cond.static ({ cls := "LastPebbleModel", name := "isSmall", desc := "(I)Z" } : Jvm.MethodName)) ∈ lw_all := lw_g (lw_at lw_m7 166 rfl) rfl
theorem q1740 : (Jvm.Cond.code ({ cls := "LastPebbleModel", name := "isSmall", desc := "(I)Z" } : Jvm.MethodName) prog_17_method_22_code (1 : Nat) (Option.some Jvm.ClassFile.FieldType.boolean)) ∈ lw_all := lw_g (lw_at lw_m7 167 rfl) rfl
theorem q1741 : (Jvm.Cond.methodLink "LastPebbleModel" (129 : Nat) ({ cls := "LastPebbleModel", name := "isDigit", desc := "(I)Z" } : Jvm.MethodName)) ∈ lw_all := lw_g (lw_at lw_m7 168 rfl) rfl
theorem q1742 : (Jvm.Cond.static ({ cls := "LastPebbleModel", name := "isDigit", desc := "(I)Z" } : Jvm.MethodName)) ∈ lw_all := lw_g (lw_at lw_m7 169 rfl) rfl
theorem q1743 : (Jvm.Cond.code ({ cls := "LastPebbleModel", name := "isDigit", desc := "(I)Z" } : Jvm.MethodName) prog_17_method_23_code (1 : Nat) (Option.some Jvm.ClassFile.FieldType.boolean)) ∈ lw_all := lw_g (lw_at lw_m7 170 rfl) rfl
theorem q1744 : (Jvm.Cond.constant "LastPebbleModel" (132 : Nat) (100000 : Int32)) ∈ lw_all := lw_g (lw_at lw_m7 171 rfl) rfl
theorem q1745 : (Jvm.Cond.methodLink "LastPebbleModel" (133 : Nat) ({ cls := "java/lang/Math", name := "min", desc := "(II)I" } : Jvm.MethodName)) ∈ lw_all := lw_g (lw_at lw_m7 172 rfl) rfl
theorem q1746 : (Jvm.Cond.methodLink "LastPebbleModel" (78 : Nat) ({ cls := "LastPebbleModel", name := "refuse", desc := "(I)I" } : Jvm.MethodName)) ∈ lw_all := lw_g (lw_at lw_m7 173 rfl) rfl
theorem q1747 : (Jvm.Cond.privateMethod ({ cls := "LastPebbleModel", name := "refuse", desc := "(I)I" } : Jvm.MethodName)) ∈ lw_tbl := lw_at lw_m7 174 rfl
theorem q1748 : (Jvm.Cond.instanceMethod ({ cls := "LastPebbleModel", name := "refuse", desc := "(I)I" } : Jvm.MethodName)) ∈ lw_all := lw_g (lw_at lw_m7 175 rfl) rfl
theorem q1749 : (Jvm.Cond.code ({ cls := "LastPebbleModel", name := "refuse", desc := "(I)I" } : Jvm.MethodName) prog_17_method_7_code (2 : Nat) (Option.some Jvm.ClassFile.FieldType.int)) ∈ lw_all := lw_g (lw_at lw_m7 176 rfl) rfl
theorem q1750 : (Jvm.Cond.methodLink "LastPebbleModel" (235 : Nat) ({ cls := "LastPebbleModel", name := "first", desc := "()Z" } : Jvm.MethodName)) ∈ lw_all := lw_g (lw_at lw_m7 177 rfl) rfl
theorem q1751 : (Jvm.Cond.privateMethod ({ cls := "LastPebbleModel", name := "first", desc := "()Z" } : Jvm.MethodName)) ∈ lw_tbl := lw_at lw_m7 178 rfl
theorem q1752 : (Jvm.Cond.instanceMethod ({ cls := "LastPebbleModel", name := "first", desc := "()Z" } : Jvm.MethodName)) ∈ lw_all := lw_g (lw_at lw_m7 179 rfl) rfl
theorem q1753 : (Jvm.Cond.code ({ cls := "LastPebbleModel", name := "first", desc := "()Z" } : Jvm.MethodName) prog_17_method_43_code (1 : Nat) (Option.some Jvm.ClassFile.FieldType.boolean)) ∈ lw_all := lw_g (lw_at lw_m7 180 rfl) rfl
theorem q1754 : (Jvm.Cond.stringRef "LastPebbleModel" (178 : Nat) " beach tide moon finder find pebble duel at pace pebbles worth of on none first last share to go set wait lift gull wave when loop end stop leads free ") ∈ lw_tbl := lw_at lw_m7 181 rfl
theorem q1755 : (Jvm.Cond.methodLink "LastPebbleModel" (187 : Nat) ({ cls := "LastPebbleModel", name := "wantWord", desc := "(Ljava/lang/String;I)Z" } : Jvm.MethodName)) ∈ lw_all := lw_g (lw_at lw_m7 182 rfl) rfl
theorem q1756 : (Jvm.Cond.privateMethod ({ cls := "LastPebbleModel", name := "wantWord", desc := "(Ljava/lang/String;I)Z" } : Jvm.MethodName)) ∈ lw_tbl := lw_at lw_m7 183 rfl
theorem q1757 : (Jvm.Cond.instanceMethod ({ cls := "LastPebbleModel", name := "wantWord", desc := "(Ljava/lang/String;I)Z" } : Jvm.MethodName)) ∈ lw_all := lw_g (lw_at lw_m7 184 rfl) rfl
theorem q1758 : (Jvm.Cond.code ({ cls := "LastPebbleModel", name := "wantWord", desc := "(Ljava/lang/String;I)Z" } : Jvm.MethodName) prog_17_method_30_code (3 : Nat) (Option.some Jvm.ClassFile.FieldType.boolean)) ∈ lw_all := lw_g (lw_at lw_m7 185 rfl) rfl
theorem q1759 : (Jvm.Cond.methodLink "LastPebbleModel" (163 : Nat) ({ cls := "LastPebbleModel", name := "inWords", desc := "(Ljava/lang/String;)I" } : Jvm.MethodName)) ∈ lw_all := lw_g (lw_at lw_m7 186 rfl) rfl
theorem q1760 : (Jvm.Cond.privateMethod ({ cls := "LastPebbleModel", name := "inWords", desc := "(Ljava/lang/String;)I" } : Jvm.MethodName)) ∈ lw_tbl := lw_at lw_m7 187 rfl
theorem q1761 : (Jvm.Cond.instanceMethod ({ cls := "LastPebbleModel", name := "inWords", desc := "(Ljava/lang/String;)I" } : Jvm.MethodName)) ∈ lw_all := lw_g (lw_at lw_m7 188 rfl) rfl
theorem q1762 : (Jvm.Cond.code ({ cls := "LastPebbleModel", name := "inWords", desc := "(Ljava/lang/String;)I" } : Jvm.MethodName) prog_17_method_26_code (7 : Nat) (Option.some Jvm.ClassFile.FieldType.int)) ∈ lw_all := lw_g (lw_at lw_m7 189 rfl) rfl
theorem q1763 : (Jvm.Cond.methodLink "LastPebbleModel" (138 : Nat) ({ cls := "java/lang/String", name := "length", desc := "()I" } : Jvm.MethodName)) ∈ lw_all := lw_g (lw_at lw_m7 190 rfl) rfl
theorem q1764 : (Jvm.Cond.methodLink "LastPebbleModel" (144 : Nat) ({ cls := "java/lang/String", name := "charAt", desc := "(I)C" } : Jvm.MethodName)) ∈ lw_all := lw_g (lw_at lw_m7 191 rfl) rfl
theorem q1765 : (Jvm.Cond.methodLink "LastPebbleModel" (160 : Nat) ({ cls := "LastPebbleModel", name := "fails", desc := "(I)Z" } : Jvm.MethodName)) ∈ lw_all := lw_g (lw_at lw_m7 192 rfl) rfl
theorem q1766 : (Jvm.Cond.privateMethod ({ cls := "LastPebbleModel", name := "fails", desc := "(I)Z" } : Jvm.MethodName)) ∈ lw_tbl := lw_at lw_m7 193 rfl
theorem q1767 : (Jvm.Cond.instanceMethod ({ cls := "LastPebbleModel", name := "fails", desc := "(I)Z" } : Jvm.MethodName)) ∈ lw_all := lw_g (lw_at lw_m7 194 rfl) rfl
theorem q1768 : (Jvm.Cond.code ({ cls := "LastPebbleModel", name := "fails", desc := "(I)Z" } : Jvm.MethodName) prog_17_method_27_code (2 : Nat) (Option.some Jvm.ClassFile.FieldType.boolean)) ∈ lw_all := lw_g (lw_at lw_m7 195 rfl) rfl
theorem q1769 : (Jvm.Cond.methodLink "LastPebbleModel" (191 : Nat) ({ cls := "LastPebbleModel", name := "number", desc := "(III)Z" } : Jvm.MethodName)) ∈ lw_all := lw_g (lw_at lw_m7 196 rfl) rfl
theorem q1770 : (Jvm.Cond.privateMethod ({ cls := "LastPebbleModel", name := "number", desc := "(III)Z" } : Jvm.MethodName)) ∈ lw_tbl := lw_at lw_m7 197 rfl
theorem q1771 : (Jvm.Cond.instanceMethod ({ cls := "LastPebbleModel", name := "number", desc := "(III)Z" } : Jvm.MethodName)) ∈ lw_all := lw_g (lw_at lw_m7 198 rfl) rfl
theorem q1772 : (Jvm.Cond.code ({ cls := "LastPebbleModel", name := "number", desc := "(III)Z" } : Jvm.MethodName) prog_17_method_31_code (4 : Nat) (Option.some Jvm.ClassFile.FieldType.boolean)) ∈ lw_all := lw_g (lw_at lw_m7 199 rfl) rfl
theorem q1773 : (Jvm.Cond.methodLink "LastPebbleModel" (195 : Nat) ({ cls := "LastPebbleModel", name := "wantSign", desc := "(I)Z" } : Jvm.MethodName)) ∈ lw_all := lw_g (lw_at lw_m7 200 rfl) rfl
theorem q1774 : (Jvm.Cond.privateMethod ({ cls := "LastPebbleModel", name := "wantSign", desc := "(I)Z" } : Jvm.MethodName)) ∈ lw_tbl := lw_at lw_m7 201 rfl
theorem q1775 : (Jvm.Cond.instanceMethod ({ cls := "LastPebbleModel", name := "wantSign", desc := "(I)Z" } : Jvm.MethodName)) ∈ lw_all := lw_g (lw_at lw_m7 202 rfl) rfl
theorem q1776 : (Jvm.Cond.code ({ cls := "LastPebbleModel", name := "wantSign", desc := "(I)Z" } : Jvm.MethodName) prog_17_method_29_code (2 : Nat) (Option.some Jvm.ClassFile.FieldType.boolean)) ∈ lw_all := lw_g (lw_at lw_m7 203 rfl) rfl
theorem q1777 : (Jvm.Cond.methodLink "LastPebbleModel" (157 : Nat) ({ cls := "LastPebbleModel", name := "isSign", desc := "(I)Z" } : Jvm.MethodName)) ∈ lw_all := lw_g (lw_at lw_m7 204 rfl) rfl
theorem q1778 : (Jvm.Cond.privateMethod ({ cls := "LastPebbleModel", name := "isSign", desc := "(I)Z" } : Jvm.MethodName)) ∈ lw_tbl := lw_at lw_m7 205 rfl
theorem q1779 : (Jvm.Cond.instanceMethod ({ cls := "LastPebbleModel", name := "isSign", desc := "(I)Z" } : Jvm.MethodName)) ∈ lw_all := lw_g (lw_at lw_m7 206 rfl) rfl
theorem q1780 : (Jvm.Cond.code ({ cls := "LastPebbleModel", name := "isSign", desc := "(I)Z" } : Jvm.MethodName) prog_17_method_25_code (2 : Nat) (Option.some Jvm.ClassFile.FieldType.boolean)) ∈ lw_all := lw_g (lw_at lw_m7 207 rfl) rfl
theorem q1781 : (Jvm.Cond.methodLink "LastPebbleModel" (238 : Nat) ({ cls := "LastPebbleModel", name := "beachPart", desc := "()Z" } : Jvm.MethodName)) ∈ lw_all := lw_g (lw_at lw_m7 208 rfl) rfl
theorem q1782 : (Jvm.Cond.privateMethod ({ cls := "LastPebbleModel", name := "beachPart", desc := "()Z" } : Jvm.MethodName)) ∈ lw_tbl := lw_at lw_m7 209 rfl
theorem q1783 : (Jvm.Cond.instanceMethod ({ cls := "LastPebbleModel", name := "beachPart", desc := "()Z" } : Jvm.MethodName)) ∈ lw_all := lw_g (lw_at lw_m7 210 rfl) rfl
theorem q1784 : (Jvm.Cond.code ({ cls := "LastPebbleModel", name := "beachPart", desc := "()Z" } : Jvm.MethodName) prog_17_method_49_code (2 : Nat) (Option.some Jvm.ClassFile.FieldType.boolean)) ∈ lw_all := lw_g (lw_at lw_m7 211 rfl) rfl
theorem q1785 : (Jvm.Cond.methodLink "LastPebbleModel" (218 : Nat) ({ cls := "LastPebbleModel", name := "aFinder", desc := "()Z" } : Jvm.MethodName)) ∈ lw_all := lw_g (lw_at lw_m7 212 rfl) rfl
theorem q1786 : (Jvm.Cond.privateMethod ({ cls := "LastPebbleModel", name := "aFinder", desc := "()Z" } : Jvm.MethodName)) ∈ lw_tbl := lw_at lw_m7 213 rfl
theorem q1787 : (Jvm.Cond.instanceMethod ({ cls := "LastPebbleModel", name := "aFinder", desc := "()Z" } : Jvm.MethodName)) ∈ lw_all := lw_g (lw_at lw_m7 214 rfl) rfl
theorem q1788 : (Jvm.Cond.code ({ cls := "LastPebbleModel", name := "aFinder", desc := "()Z" } : Jvm.MethodName) prog_17_method_45_code (2 : Nat) (Option.some Jvm.ClassFile.FieldType.boolean)) ∈ lw_all := lw_g (lw_at lw_m7 215 rfl) rfl
theorem q1789 : (Jvm.Cond.methodLink "LastPebbleModel" (198 : Nat) ({ cls := "LastPebbleModel", name := "newOne", desc := "(III)Z" } : Jvm.MethodName)) ∈ lw_all := lw_g (lw_at lw_m7 216 rfl) rfl
theorem q1790 : (Jvm.Cond.privateMethod ({ cls := "LastPebbleModel", name := "newOne", desc := "(III)Z" } : Jvm.MethodName)) ∈ lw_tbl := lw_at lw_m7 217 rfl
theorem q1791 : (Jvm.Cond.instanceMethod ({ cls := "LastPebbleModel", name := "newOne", desc := "(III)Z" } : Jvm.MethodName)) ∈ lw_all := lw_g (lw_at lw_m7 218 rfl) rfl
theorem q1792 : (Jvm.Cond.code ({ cls := "LastPebbleModel", name := "newOne", desc := "(III)Z" } : Jvm.MethodName) prog_17_method_41_code (4 : Nat) (Option.some Jvm.ClassFile.FieldType.boolean)) ∈ lw_all := lw_g (lw_at lw_m7 219 rfl) rfl
theorem q1793 : (Jvm.Cond.methodLink "LastPebbleModel" (180 : Nat) ({ cls := "LastPebbleModel", name := "isName", desc := "(Ljava/lang/String;)Z" } : Jvm.MethodName)) ∈ lw_all := lw_g (lw_at lw_m7 220 rfl) rfl
theorem q1794 : (Jvm.Cond.privateMethod ({ cls := "LastPebbleModel", name := "isName", desc := "(Ljava/lang/String;)Z" } : Jvm.MethodName)) ∈ lw_tbl := lw_at lw_m7 221 rfl
theorem q1795 : (Jvm.Cond.instanceMethod ({ cls := "LastPebbleModel", name := "isName", desc := "(Ljava/lang/String;)Z" } : Jvm.MethodName)) ∈ lw_all := lw_g (lw_at lw_m7 222 rfl) rfl
theorem q1796 : (Jvm.Cond.code ({ cls := "LastPebbleModel", name := "isName", desc := "(Ljava/lang/String;)Z" } : Jvm.MethodName) prog_17_method_32_code (2 : Nat) (Option.some Jvm.ClassFile.FieldType.boolean)) ∈ lw_all := lw_g (lw_at lw_m7 223 rfl) rfl
theorem q1797 : (Jvm.Cond.methodLink "LastPebbleModel" (184 : Nat) ({ cls := "LastPebbleModel", name := "findHere", desc := "(II)I" } : Jvm.MethodName)) ∈ lw_all := lw_g (lw_at lw_m7 224 rfl) rfl
theorem q1798 : (Jvm.Cond.privateMethod ({ cls := "LastPebbleModel", name := "findHere", desc := "(II)I" } : Jvm.MethodName)) ∈ lw_tbl := lw_at lw_m7 225 rfl
theorem q1799 : (Jvm.Cond.instanceMethod ({ cls := "LastPebbleModel", name := "findHere", desc := "(II)I" } : Jvm.MethodName)) ∈ lw_all := lw_g (lw_at lw_m7 226 rfl) rfl
theorem q1800 : (Jvm.Cond.code ({ cls := "LastPebbleModel", name := "findHere", desc := "(II)I" } : Jvm.MethodName) prog_17_method_34_code (4 : Nat) (Option.some Jvm.ClassFile.FieldType.int)) ∈ lw_all := lw_g (lw_at lw_m7 227 rfl) rfl
theorem q1801 : (Jvm.Cond.methodLink "LastPebbleModel" (167 : Nat) ({ cls := "LastPebbleModel", name := "nameHere", desc := "()J" } : Jvm.MethodName)) ∈ lw_all := lw_g (lw_at lw_m7 228 rfl) rfl
theorem q1802 : (Jvm.Cond.privateMethod ({ cls := "LastPebbleModel", name := "nameHere", desc := "()J" } : Jvm.MethodName)) ∈ lw_tbl := lw_at lw_m7 229 rfl
theorem q1803 : (Jvm.Cond.instanceMethod ({ cls := "LastPebbleModel", name := "nameHere", desc := "()J" } : Jvm.MethodName)) ∈ lw_all := lw_g (lw_at lw_m7 230 rfl) rfl
theorem q1804 : (Jvm.Cond.code ({ cls := "LastPebbleModel", name := "nameHere", desc := "()J" } : Jvm.MethodName) prog_17_method_33_code (4 : Nat) (Option.some Jvm.ClassFile.FieldType.long)) ∈ lw_all := lw_g (lw_at lw_m7 231 rfl) rfl
theorem q1805 : (Jvm.Cond.methodLink "LastPebbleModel" (201 : Nat) ({ cls := "LastPebbleModel", name := "atCell", desc := "(I)Z" } : Jvm.MethodName)) ∈ lw_all := lw_g (lw_at lw_m7 232 rfl) rfl
theorem q1806 : (Jvm.Cond.privateMethod ({ cls := "LastPebbleModel", name := "atCell", desc := "(I)Z" } : Jvm.MethodName)) ∈ lw_tbl := lw_at lw_m7 233 rfl
theorem q1807 : (Jvm.Cond.instanceMethod ({ cls := "LastPebbleModel", name := "atCell", desc := "(I)Z" } : Jvm.MethodName)) ∈ lw_all := lw_g (lw_at lw_m7 234 rfl) rfl
theorem q1808 : (Jvm.Cond.code ({ cls := "LastPebbleModel", name := "atCell", desc := "(I)Z" } : Jvm.MethodName) prog_17_method_44_code (2 : Nat) (Option.some Jvm.ClassFile.FieldType.boolean)) ∈ lw_all := lw_g (lw_at lw_m7 235 rfl) rfl
theorem q1809 : (Jvm.Cond.methodLink "LastPebbleModel" (222 : Nat) ({ cls := "LastPebbleModel", name := "aFind", desc := "()Z" } : Jvm.MethodName)) ∈ lw_all := lw_g (lw_at lw_m7 236 rfl) rfl
theorem q1810 : (Jvm.Cond.privateMethod ({ cls := "LastPebbleModel", name := "aFind", desc := "()Z" } : Jvm.MethodName)) ∈ lw_tbl := lw_at lw_m7 237 rfl
theorem q1811 : (Jvm.Cond.instanceMethod ({ cls := "LastPebbleModel", name := "aFind", desc := "()Z" } : Jvm.MethodName)) ∈ lw_all := lw_g (lw_at lw_m7 238 rfl) rfl
theorem q1812 : (Jvm.Cond.code ({ cls := "LastPebbleModel", name := "aFind", desc := "()Z" } : Jvm.MethodName) prog_17_method_46_code (2 : Nat) (Option.some Jvm.ClassFile.FieldType.boolean)) ∈ lw_all := lw_g (lw_at lw_m7 239 rfl) rfl
theorem q1813 : (Jvm.Cond.methodLink "LastPebbleModel" (171 : Nat) ({ cls := "LastPebbleModel", name := "findRow", desc := "(II)I" } : Jvm.MethodName)) ∈ lw_all := lw_g (lw_at lw_m8 0 rfl) rfl
theorem q1814 : (Jvm.Cond.static ({ cls := "LastPebbleModel", name := "findRow", desc := "(II)I" } : Jvm.MethodName)) ∈ lw_all := lw_g (lw_at lw_m8 1 rfl) rfl
theorem q1815 : (Jvm.Cond.code ({ cls := "LastPebbleModel", name := "findRow", desc := "(II)I" } : Jvm.MethodName) prog_17_method_37_code (2 : Nat) (Option.some Jvm.ClassFile.FieldType.int)) ∈ lw_all := lw_g (lw_at lw_m8 2 rfl) rfl
theorem q1816 : (Jvm.Cond.methodLink "LastPebbleModel" (225 : Nat) ({ cls := "LastPebbleModel", name := "aPebble", desc := "()Z" } : Jvm.MethodName)) ∈ lw_all := lw_g (lw_at lw_m8 3 rfl) rfl
theorem q1817 : (Jvm.Cond.privateMethod ({ cls := "LastPebbleModel", name := "aPebble", desc := "()Z" } : Jvm.MethodName)) ∈ lw_tbl := lw_at lw_m8 4 rfl
theorem q1818 : (Jvm.Cond.instanceMethod ({ cls := "LastPebbleModel", name := "aPebble", desc := "()Z" } : Jvm.MethodName)) ∈ lw_all := lw_g (lw_at lw_m8 5 rfl) rfl
theorem q1819 : (Jvm.Cond.code ({ cls := "LastPebbleModel", name := "aPebble", desc := "()Z" } : Jvm.MethodName) prog_17_method_47_code (1 : Nat) (Option.some Jvm.ClassFile.FieldType.boolean)) ∈ lw_all := lw_g (lw_at lw_m8 6 rfl) rfl
theorem q1820 : (Jvm.Cond.methodLink "LastPebbleModel" (207 : Nat) ({ cls := "LastPebbleModel", name := "oldOne", desc := "(III)Z" } : Jvm.MethodName)) ∈ lw_all := lw_g (lw_at lw_m8 7 rfl) rfl
theorem q1821 : (Jvm.Cond.privateMethod ({ cls := "LastPebbleModel", name := "oldOne", desc := "(III)Z" } : Jvm.MethodName)) ∈ lw_tbl := lw_at lw_m8 8 rfl
theorem q1822 : (Jvm.Cond.instanceMethod ({ cls := "LastPebbleModel", name := "oldOne", desc := "(III)Z" } : Jvm.MethodName)) ∈ lw_all := lw_g (lw_at lw_m8 9 rfl) rfl
theorem q1823 : (Jvm.Cond.code ({ cls := "LastPebbleModel", name := "oldOne", desc := "(III)Z" } : Jvm.MethodName) prog_17_method_42_code (4 : Nat) (Option.some Jvm.ClassFile.FieldType.boolean)) ∈ lw_all := lw_g (lw_at lw_m8 10 rfl) rfl
theorem q1824 : (Jvm.Cond.methodLink "LastPebbleModel" (210 : Nat) ({ cls := "LastPebbleModel", name := "comes", desc := "(IIII)V" } : Jvm.MethodName)) ∈ lw_all := lw_g (lw_at lw_m8 11 rfl) rfl
theorem q1825 : (Jvm.Cond.privateMethod ({ cls := "LastPebbleModel", name := "comes", desc := "(IIII)V" } : Jvm.MethodName)) ∈ lw_tbl := lw_at lw_m8 12 rfl
theorem q1826 : (Jvm.Cond.instanceMethod ({ cls := "LastPebbleModel", name := "comes", desc := "(IIII)V" } : Jvm.MethodName)) ∈ lw_all := lw_g (lw_at lw_m8 13 rfl) rfl
theorem q1827 : (Jvm.Cond.code ({ cls := "LastPebbleModel", name := "comes", desc := "(IIII)V" } : Jvm.MethodName) prog_17_method_39_code (6 : Nat) (Option.none : Option Jvm.ClassFile.FieldType)) ∈ lw_all := lw_g (lw_at lw_m8 14 rfl) rfl
theorem q1828 : (Jvm.Cond.methodLink "LastPebbleModel" (174 : Nat) ({ cls := "LastPebbleModel", name := "pebbleRow", desc := "(III)I" } : Jvm.MethodName)) ∈ lw_all := lw_g (lw_at lw_m8 15 rfl) rfl
theorem q1829 : (Jvm.Cond.static ({ cls := "LastPebbleModel", name := "pebbleRow", desc := "(III)I" } : Jvm.MethodName)) ∈ lw_all := lw_g (lw_at lw_m8 16 rfl) rfl
theorem q1830 : (Jvm.Cond.code ({ cls := "LastPebbleModel", name := "pebbleRow", desc := "(III)I" } : Jvm.MethodName) prog_17_method_38_code (3 : Nat) (Option.some Jvm.ClassFile.FieldType.int)) ∈ lw_all := lw_g (lw_at lw_m8 17 rfl) rfl
theorem q1831 : (Jvm.Cond.methodLink "LastPebbleModel" (228 : Nat) ({ cls := "LastPebbleModel", name := "aDuel", desc := "()Z" } : Jvm.MethodName)) ∈ lw_all := lw_g (lw_at lw_m8 18 rfl) rfl
theorem q1832 : (Jvm.Cond.privateMethod ({ cls := "LastPebbleModel", name := "aDuel", desc := "()Z" } : Jvm.MethodName)) ∈ lw_tbl := lw_at lw_m8 19 rfl
theorem q1833 : (Jvm.Cond.instanceMethod ({ cls := "LastPebbleModel", name := "aDuel", desc := "()Z" } : Jvm.MethodName)) ∈ lw_all := lw_g (lw_at lw_m8 20 rfl) rfl
theorem q1834 : (Jvm.Cond.code ({ cls := "LastPebbleModel", name := "aDuel", desc := "()Z" } : Jvm.MethodName) prog_17_method_48_code (2 : Nat) (Option.some Jvm.ClassFile.FieldType.boolean)) ∈ lw_all := lw_g (lw_at lw_m8 21 rfl) rfl
theorem q1835 : (Jvm.Cond.methodLink "LastPebbleModel" (241 : Nat) ({ cls := "LastPebbleModel", name := "taken", desc := "(I)I" } : Jvm.MethodName)) ∈ lw_all := lw_g (lw_at lw_m8 22 rfl) rfl
theorem q1836 : (Jvm.Cond.privateMethod ({ cls := "LastPebbleModel", name := "taken", desc := "(I)I" } : Jvm.MethodName)) ∈ lw_tbl := lw_at lw_m8 23 rfl
theorem q1837 : (Jvm.Cond.instanceMethod ({ cls := "LastPebbleModel", name := "taken", desc := "(I)I" } : Jvm.MethodName)) ∈ lw_all := lw_g (lw_at lw_m8 24 rfl) rfl
theorem q1838 : (Jvm.Cond.code ({ cls := "LastPebbleModel", name := "taken", desc := "(I)I" } : Jvm.MethodName) prog_17_method_36_code (2 : Nat) (Option.some Jvm.ClassFile.FieldType.int)) ∈ lw_all := lw_g (lw_at lw_m8 25 rfl) rfl
theorem q1839 : (Jvm.Cond.methodLink "LastPebbleModel" (82 : Nat) ({ cls := "LastPebbleModel", name := "gives", desc := "(I)I" } : Jvm.MethodName)) ∈ lw_all := lw_g (lw_at lw_m8 26 rfl) rfl
theorem q1840 : (Jvm.Cond.privateMethod ({ cls := "LastPebbleModel", name := "gives", desc := "(I)I" } : Jvm.MethodName)) ∈ lw_tbl := lw_at lw_m8 27 rfl
theorem q1841 : (Jvm.Cond.instanceMethod ({ cls := "LastPebbleModel", name := "gives", desc := "(I)I" } : Jvm.MethodName)) ∈ lw_all := lw_g (lw_at lw_m8 28 rfl) rfl
theorem q1842 : (Jvm.Cond.code ({ cls := "LastPebbleModel", name := "gives", desc := "(I)I" } : Jvm.MethodName) prog_17_method_8_code (2 : Nat) (Option.some Jvm.ClassFile.FieldType.int)) ∈ lw_all := lw_g (lw_at lw_m8 29 rfl) rfl
theorem q1844 : (Jvm.Cond.instanceMethod ({ cls := "LastPebbleModel", name := "days", desc := "(I)I" } : Jvm.MethodName)) ∈ lw_all := lw_g (lw_at lw_m8 31 rfl) rfl
theorem q1845 : (Jvm.Cond.selects "LastPebbleModel" ({ cls := "LastPebbleModel", name := "days", desc := "(I)I" } : Jvm.MethodName) ({ cls := "LastPebbleModel", name := "days", desc := "(I)I" } : Jvm.MethodName)) ∈ lw_all := lw_g (lw_at lw_m8 32 rfl) rfl
theorem q1846 : (Jvm.Cond.code ({ cls := "LastPebbleModel", name := "days", desc := "(I)I" } : Jvm.MethodName) prog_17_method_56_code (4 : Nat) (Option.some Jvm.ClassFile.FieldType.int)) ∈ lw_all := lw_g (lw_at lw_m8 33 rfl) rfl
theorem q1847 : (Jvm.Cond.methodLink "LastPebbleModel" (262 : Nat) ({ cls := "LastPebbleModel", name := "dayStep", desc := "()Z" } : Jvm.MethodName)) ∈ lw_all := lw_g (lw_at lw_m8 34 rfl) rfl
theorem q1848 : (Jvm.Cond.privateMethod ({ cls := "LastPebbleModel", name := "dayStep", desc := "()Z" } : Jvm.MethodName)) ∈ lw_tbl := lw_at lw_m8 35 rfl
theorem q1849 : (Jvm.Cond.instanceMethod ({ cls := "LastPebbleModel", name := "dayStep", desc := "()Z" } : Jvm.MethodName)) ∈ lw_all := lw_g (lw_at lw_m8 36 rfl) rfl
theorem q1850 : (Jvm.Cond.code ({ cls := "LastPebbleModel", name := "dayStep", desc := "()Z" } : Jvm.MethodName) prog_17_method_55_code (6 : Nat) (Option.some Jvm.ClassFile.FieldType.boolean)) ∈ lw_all := lw_g (lw_at lw_m8 37 rfl) rfl
theorem q1851 : (Jvm.Cond.methodLink "LastPebbleModel" (259 : Nat) ({ cls := "LastPebbleModel", name := "dayOrder", desc := "(II)Z" } : Jvm.MethodName)) ∈ lw_all := lw_g (lw_at lw_m8 38 rfl) rfl
theorem q1852 : (Jvm.Cond.privateMethod ({ cls := "LastPebbleModel", name := "dayOrder", desc := "(II)Z" } : Jvm.MethodName)) ∈ lw_tbl := lw_at lw_m8 39 rfl
theorem q1853 : (Jvm.Cond.instanceMethod ({ cls := "LastPebbleModel", name := "dayOrder", desc := "(II)Z" } : Jvm.MethodName)) ∈ lw_all := lw_g (lw_at lw_m8 40 rfl) rfl
theorem q1854 : (Jvm.Cond.code ({ cls := "LastPebbleModel", name := "dayOrder", desc := "(II)Z" } : Jvm.MethodName) prog_17_method_54_code (3 : Nat) (Option.some Jvm.ClassFile.FieldType.boolean)) ∈ lw_all := lw_g (lw_at lw_m8 41 rfl) rfl
theorem q1855 : (Jvm.Cond.methodLink "LastPebbleModel" (247 : Nat) ({ cls := "LastPebbleModel", name := "finderTo", desc := "(I)Z" } : Jvm.MethodName)) ∈ lw_all := lw_g (lw_at lw_m8 42 rfl) rfl
theorem q1856 : (Jvm.Cond.privateMethod ({ cls := "LastPebbleModel", name := "finderTo", desc := "(I)Z" } : Jvm.MethodName)) ∈ lw_tbl := lw_at lw_m8 43 rfl
theorem q1857 : (Jvm.Cond.instanceMethod ({ cls := "LastPebbleModel", name := "finderTo", desc := "(I)Z" } : Jvm.MethodName)) ∈ lw_all := lw_g (lw_at lw_m8 44 rfl) rfl
theorem q1858 : (Jvm.Cond.code ({ cls := "LastPebbleModel", name := "finderTo", desc := "(I)Z" } : Jvm.MethodName) prog_17_method_51_code (2 : Nat) (Option.some Jvm.ClassFile.FieldType.boolean)) ∈ lw_all := lw_g (lw_at lw_m8 45 rfl) rfl
theorem q1859 : (Jvm.Cond.methodLink "LastPebbleModel" (244 : Nat) ({ cls := "LastPebbleModel", name := "findTo", desc := "(I)Z" } : Jvm.MethodName)) ∈ lw_all := lw_g (lw_at lw_m8 46 rfl) rfl
theorem q1860 : (Jvm.Cond.privateMethod ({ cls := "LastPebbleModel", name := "findTo", desc := "(I)Z" } : Jvm.MethodName)) ∈ lw_tbl := lw_at lw_m8 47 rfl
theorem q1861 : (Jvm.Cond.instanceMethod ({ cls := "LastPebbleModel", name := "findTo", desc := "(I)Z" } : Jvm.MethodName)) ∈ lw_all := lw_g (lw_at lw_m8 48 rfl) rfl
theorem q1862 : (Jvm.Cond.code ({ cls := "LastPebbleModel", name := "findTo", desc := "(I)Z" } : Jvm.MethodName) prog_17_method_52_code (2 : Nat) (Option.some Jvm.ClassFile.FieldType.boolean)) ∈ lw_all := lw_g (lw_at lw_m8 49 rfl) rfl
theorem q1863 : (Jvm.Cond.methodLink "LastPebbleModel" (250 : Nat) ({ cls := "LastPebbleModel", name := "test", desc := "(I)Z" } : Jvm.MethodName)) ∈ lw_all := lw_g (lw_at lw_m8 50 rfl) rfl
theorem q1864 : (Jvm.Cond.privateMethod ({ cls := "LastPebbleModel", name := "test", desc := "(I)Z" } : Jvm.MethodName)) ∈ lw_tbl := lw_at lw_m8 51 rfl
theorem q1865 : (Jvm.Cond.instanceMethod ({ cls := "LastPebbleModel", name := "test", desc := "(I)Z" } : Jvm.MethodName)) ∈ lw_all := lw_g (lw_at lw_m8 52 rfl) rfl
theorem q1866 : (Jvm.Cond.code ({ cls := "LastPebbleModel", name := "test", desc := "(I)Z" } : Jvm.MethodName) prog_17_method_53_code (3 : Nat) (Option.some Jvm.ClassFile.FieldType.boolean)) ∈ lw_all := lw_g (lw_at lw_m8 53 rfl) rfl
theorem q1868 : (Jvm.Cond.instanceMethod ({ cls := "LastPebbleModel", name := "told", desc := "(I)I" } : Jvm.MethodName)) ∈ lw_all := lw_g (lw_at lw_m8 55 rfl) rfl
theorem q1869 : (Jvm.Cond.selects "LastPebbleModel" ({ cls := "LastPebbleModel", name := "told", desc := "(I)I" } : Jvm.MethodName) ({ cls := "LastPebbleModel", name := "told", desc := "(I)I" } : Jvm.MethodName)) ∈ lw_all := lw_g (lw_at lw_m8 56 rfl) rfl
theorem q1870 : (Jvm.Cond.code ({ cls := "LastPebbleModel", name := "told", desc := "(I)I" } : Jvm.MethodName) prog_17_method_65_code (2 : Nat) (Option.some Jvm.ClassFile.FieldType.int)) ∈ lw_all := lw_g (lw_at lw_m8 57 rfl) rfl
theorem q1872 : (Jvm.Cond.instanceMethod ({ cls := "LastPebbleModel", name := "finder", desc := "(II)I" } : Jvm.MethodName)) ∈ lw_all := lw_g (lw_at lw_m8 59 rfl) rfl
theorem q1873 : (Jvm.Cond.selects "LastPebbleModel" ({ cls := "LastPebbleModel", name := "finder", desc := "(II)I" } : Jvm.MethodName) ({ cls := "LastPebbleModel", name := "finder", desc := "(II)I" } : Jvm.MethodName)) ∈ lw_all := lw_g (lw_at lw_m8 60 rfl) rfl
theorem q1874 : (Jvm.Cond.code ({ cls := "LastPebbleModel", name := "finder", desc := "(II)I" } : Jvm.MethodName) prog_17_method_66_code (3 : Nat) (Option.some Jvm.ClassFile.FieldType.int)) ∈ lw_all := lw_g (lw_at lw_m8 61 rfl) rfl
theorem q1875 : (Jvm.Cond.methodLink "LastPebbleModel" (271 : Nat) ({ cls := "LastPebbleModel", name := "isFinder", desc := "(I)Z" } : Jvm.MethodName)) ∈ lw_all := lw_g (lw_at lw_m8 62 rfl) rfl
theorem q1876 : (Jvm.Cond.privateMethod ({ cls := "LastPebbleModel", name := "isFinder", desc := "(I)Z" } : Jvm.MethodName)) ∈ lw_tbl := lw_at lw_m8 63 rfl
theorem q1877 : (Jvm.Cond.instanceMethod ({ cls := "LastPebbleModel", name := "isFinder", desc := "(I)Z" } : Jvm.MethodName)) ∈ lw_all := lw_g (lw_at lw_m8 64 rfl) rfl
theorem q1878 : (Jvm.Cond.code ({ cls := "LastPebbleModel", name := "isFinder", desc := "(I)Z" } : Jvm.MethodName) prog_17_method_58_code (2 : Nat) (Option.some Jvm.ClassFile.FieldType.boolean)) ∈ lw_all := lw_g (lw_at lw_m8 65 rfl) rfl
theorem q1879 : (Jvm.Cond.methodLink "LastPebbleModel" (274 : Nat) ({ cls := "LastPebbleModel", name := "finderRow", desc := "(I)I" } : Jvm.MethodName)) ∈ lw_all := lw_g (lw_at lw_m8 66 rfl) rfl
theorem q1880 : (Jvm.Cond.static ({ cls := "LastPebbleModel", name := "finderRow", desc := "(I)I" } : Jvm.MethodName)) ∈ lw_all := lw_g (lw_at lw_m8 67 rfl) rfl
theorem q1881 : (Jvm.Cond.code ({ cls := "LastPebbleModel", name := "finderRow", desc := "(I)I" } : Jvm.MethodName) prog_17_method_57_code (1 : Nat) (Option.some Jvm.ClassFile.FieldType.int)) ∈ lw_all := lw_g (lw_at lw_m8 68 rfl) rfl
theorem q1883 : (Jvm.Cond.instanceMethod ({ cls := "LastPebbleModel", name := "find", desc := "(II)I" } : Jvm.MethodName)) ∈ lw_all := lw_g (lw_at lw_m8 70 rfl) rfl
theorem q1884 : (Jvm.Cond.selects "LastPebbleModel" ({ cls := "LastPebbleModel", name := "find", desc := "(II)I" } : Jvm.MethodName) ({ cls := "LastPebbleModel", name := "find", desc := "(II)I" } : Jvm.MethodName)) ∈ lw_all := lw_g (lw_at lw_m8 71 rfl) rfl
theorem q1885 : (Jvm.Cond.code ({ cls := "LastPebbleModel", name := "find", desc := "(II)I" } : Jvm.MethodName) prog_17_method_67_code (3 : Nat) (Option.some Jvm.ClassFile.FieldType.int)) ∈ lw_all := lw_g (lw_at lw_m8 72 rfl) rfl
theorem q1886 : (Jvm.Cond.methodLink "LastPebbleModel" (265 : Nat) ({ cls := "LastPebbleModel", name := "isFind", desc := "(I)Z" } : Jvm.MethodName)) ∈ lw_all := lw_g (lw_at lw_m8 73 rfl) rfl
theorem q1887 : (Jvm.Cond.privateMethod ({ cls := "LastPebbleModel", name := "isFind", desc := "(I)Z" } : Jvm.MethodName)) ∈ lw_tbl := lw_at lw_m8 74 rfl
theorem q1888 : (Jvm.Cond.instanceMethod ({ cls := "LastPebbleModel", name := "isFind", desc := "(I)Z" } : Jvm.MethodName)) ∈ lw_all := lw_g (lw_at lw_m8 75 rfl) rfl
theorem q1889 : (Jvm.Cond.code ({ cls := "LastPebbleModel", name := "isFind", desc := "(I)Z" } : Jvm.MethodName) prog_17_method_59_code (2 : Nat) (Option.some Jvm.ClassFile.FieldType.boolean)) ∈ lw_all := lw_g (lw_at lw_m8 76 rfl) rfl
theorem q1891 : (Jvm.Cond.instanceMethod ({ cls := "LastPebbleModel", name := "pebble", desc := "(III)I" } : Jvm.MethodName)) ∈ lw_all := lw_g (lw_at lw_m8 78 rfl) rfl
theorem q1892 : (Jvm.Cond.selects "LastPebbleModel" ({ cls := "LastPebbleModel", name := "pebble", desc := "(III)I" } : Jvm.MethodName) ({ cls := "LastPebbleModel", name := "pebble", desc := "(III)I" } : Jvm.MethodName)) ∈ lw_all := lw_g (lw_at lw_m8 79 rfl) rfl
theorem q1893 : (Jvm.Cond.code ({ cls := "LastPebbleModel", name := "pebble", desc := "(III)I" } : Jvm.MethodName) prog_17_method_68_code (4 : Nat) (Option.some Jvm.ClassFile.FieldType.int)) ∈ lw_all := lw_g (lw_at lw_m8 80 rfl) rfl
theorem q1894 : (Jvm.Cond.methodLink "LastPebbleModel" (277 : Nat) ({ cls := "LastPebbleModel", name := "manyOn", desc := "(I)I" } : Jvm.MethodName)) ∈ lw_all := lw_g (lw_at lw_m8 81 rfl) rfl
theorem q1895 : (Jvm.Cond.privateMethod ({ cls := "LastPebbleModel", name := "manyOn", desc := "(I)I" } : Jvm.MethodName)) ∈ lw_tbl := lw_at lw_m8 82 rfl
theorem q1896 : (Jvm.Cond.instanceMethod ({ cls := "LastPebbleModel", name := "manyOn", desc := "(I)I" } : Jvm.MethodName)) ∈ lw_all := lw_g (lw_at lw_m8 83 rfl) rfl
theorem q1897 : (Jvm.Cond.code ({ cls := "LastPebbleModel", name := "manyOn", desc := "(I)I" } : Jvm.MethodName) prog_17_method_61_code (2 : Nat) (Option.some Jvm.ClassFile.FieldType.int)) ∈ lw_all := lw_g (lw_at lw_m8 84 rfl) rfl
theorem q1899 : (Jvm.Cond.instanceMethod ({ cls := "LastPebbleModel", name := "go", desc := "(II)I" } : Jvm.MethodName)) ∈ lw_all := lw_g (lw_at lw_m8 86 rfl) rfl
theorem q1900 : (Jvm.Cond.selects "LastPebbleModel" ({ cls := "LastPebbleModel", name := "go", desc := "(II)I" } : Jvm.MethodName) ({ cls := "LastPebbleModel", name := "go", desc := "(II)I" } : Jvm.MethodName)) ∈ lw_all := lw_g (lw_at lw_m8 87 rfl) rfl
theorem q1901 : (Jvm.Cond.code ({ cls := "LastPebbleModel", name := "go", desc := "(II)I" } : Jvm.MethodName) prog_17_method_72_code (3 : Nat) (Option.some Jvm.ClassFile.FieldType.int)) ∈ lw_all := lw_g (lw_at lw_m8 88 rfl) rfl
theorem q1902 : (Jvm.Cond.methodLink "LastPebbleModel" (289 : Nat) ({ cls := "LastPebbleModel", name := "isFrom", desc := "(JJJ)Z" } : Jvm.MethodName)) ∈ lw_all := lw_g (lw_at lw_m8 89 rfl) rfl
theorem q1903 : (Jvm.Cond.static ({ cls := "LastPebbleModel", name := "isFrom", desc := "(JJJ)Z" } : Jvm.MethodName)) ∈ lw_all := lw_g (lw_at lw_m8 90 rfl) rfl
theorem q1904 : (Jvm.Cond.code ({ cls := "LastPebbleModel", name := "isFrom", desc := "(JJJ)Z" } : Jvm.MethodName) prog_17_method_18_code (6 : Nat) (Option.some Jvm.ClassFile.FieldType.boolean)) ∈ lw_all := lw_g (lw_at lw_m8 91 rfl) rfl
theorem q1905 : (Jvm.Cond.methodLink "LastPebbleModel" (293 : Nat) ({ cls := "LastPebbleModel", name := "went", desc := "(II)Z" } : Jvm.MethodName)) ∈ lw_all := lw_g (lw_at lw_m8 92 rfl) rfl
theorem q1906 : (Jvm.Cond.privateMethod ({ cls := "LastPebbleModel", name := "went", desc := "(II)Z" } : Jvm.MethodName)) ∈ lw_tbl := lw_at lw_m8 93 rfl
theorem q1907 : (Jvm.Cond.instanceMethod ({ cls := "LastPebbleModel", name := "went", desc := "(II)Z" } : Jvm.MethodName)) ∈ lw_all := lw_g (lw_at lw_m8 94 rfl) rfl
theorem q1908 : (Jvm.Cond.code ({ cls := "LastPebbleModel", name := "went", desc := "(II)Z" } : Jvm.MethodName) prog_17_method_71_code (3 : Nat) (Option.some Jvm.ClassFile.FieldType.boolean)) ∈ lw_all := lw_g (lw_at lw_m8 95 rfl) rfl
theorem q1909 : (Jvm.Cond.methodLink "LastPebbleModel" (283 : Nat) ({ cls := "LastPebbleModel", name := "stepsTo", desc := "(II)I" } : Jvm.MethodName)) ∈ lw_all := lw_g (lw_at lw_m8 96 rfl) rfl
theorem q1910 : (Jvm.Cond.privateMethod ({ cls := "LastPebbleModel", name := "stepsTo", desc := "(II)I" } : Jvm.MethodName)) ∈ lw_tbl := lw_at lw_m8 97 rfl
theorem q1911 : (Jvm.Cond.instanceMethod ({ cls := "LastPebbleModel", name := "stepsTo", desc := "(II)I" } : Jvm.MethodName)) ∈ lw_all := lw_g (lw_at lw_m8 98 rfl) rfl
theorem q1912 : (Jvm.Cond.code ({ cls := "LastPebbleModel", name := "stepsTo", desc := "(II)I" } : Jvm.MethodName) prog_17_method_69_code (3 : Nat) (Option.some Jvm.ClassFile.FieldType.int)) ∈ lw_all := lw_g (lw_at lw_m8 99 rfl) rfl
theorem q1913 : (Jvm.Cond.methodLink "LastPebbleModel" (280 : Nat) ({ cls := "java/lang/Math", name := "abs", desc := "(I)I" } : Jvm.MethodName)) ∈ lw_all := lw_g (lw_at lw_m8 100 rfl) rfl
theorem q1914 : (Jvm.Cond.methodLink "LastPebbleModel" (286 : Nat) ({ cls := "LastPebbleModel", name := "mayTo", desc := "(II)Z" } : Jvm.MethodName)) ∈ lw_all := lw_g (lw_at lw_m8 101 rfl) rfl
theorem q1915 : (Jvm.Cond.privateMethod ({ cls := "LastPebbleModel", name := "mayTo", desc := "(II)Z" } : Jvm.MethodName)) ∈ lw_tbl := lw_at lw_m8 102 rfl
theorem q1916 : (Jvm.Cond.instanceMethod ({ cls := "LastPebbleModel", name := "mayTo", desc := "(II)Z" } : Jvm.MethodName)) ∈ lw_all := lw_g (lw_at lw_m8 103 rfl) rfl
theorem q1917 : (Jvm.Cond.code ({ cls := "LastPebbleModel", name := "mayTo", desc := "(II)Z" } : Jvm.MethodName) prog_17_method_70_code (3 : Nat) (Option.some Jvm.ClassFile.FieldType.boolean)) ∈ lw_all := lw_g (lw_at lw_m8 104 rfl) rfl
theorem q1919 : (Jvm.Cond.instanceMethod ({ cls := "LastPebbleModel", name := "pass", desc := "(II)I" } : Jvm.MethodName)) ∈ lw_all := lw_g (lw_at lw_m8 106 rfl) rfl
theorem q1920 : (Jvm.Cond.selects "LastPebbleModel" ({ cls := "LastPebbleModel", name := "pass", desc := "(II)I" } : Jvm.MethodName) ({ cls := "LastPebbleModel", name := "pass", desc := "(II)I" } : Jvm.MethodName)) ∈ lw_all := lw_g (lw_at lw_m8 107 rfl) rfl
theorem q1921 : (Jvm.Cond.code ({ cls := "LastPebbleModel", name := "pass", desc := "(II)I" } : Jvm.MethodName) prog_17_method_74_code (3 : Nat) (Option.some Jvm.ClassFile.FieldType.int)) ∈ lw_all := lw_g (lw_at lw_m8 108 rfl) rfl
theorem q1922 : (Jvm.Cond.constantLong "LastPebbleModel" (296 : Nat) (240 : Int64)) ∈ lw_all := lw_g (lw_at lw_m8 109 rfl) rfl
theorem q1923 : (Jvm.Cond.methodLink "LastPebbleModel" (298 : Nat) ({ cls := "LastPebbleModel", name := "waited", desc := "(II)Z" } : Jvm.MethodName)) ∈ lw_all := lw_g (lw_at lw_m8 110 rfl) rfl
theorem q1924 : (Jvm.Cond.privateMethod ({ cls := "LastPebbleModel", name := "waited", desc := "(II)Z" } : Jvm.MethodName)) ∈ lw_tbl := lw_at lw_m8 111 rfl
theorem q1925 : (Jvm.Cond.instanceMethod ({ cls := "LastPebbleModel", name := "waited", desc := "(II)Z" } : Jvm.MethodName)) ∈ lw_all := lw_g (lw_at lw_m8 112 rfl) rfl
theorem q1926 : (Jvm.Cond.code ({ cls := "LastPebbleModel", name := "waited", desc := "(II)Z" } : Jvm.MethodName) prog_17_method_73_code (3 : Nat) (Option.some Jvm.ClassFile.FieldType.boolean)) ∈ lw_all := lw_g (lw_at lw_m8 113 rfl) rfl
theorem q1928 : (Jvm.Cond.instanceMethod ({ cls := "LastPebbleModel", name := "set", desc := "(II)I" } : Jvm.MethodName)) ∈ lw_all := lw_g (lw_at lw_m8 115 rfl) rfl
theorem q1929 : (Jvm.Cond.selects "LastPebbleModel" ({ cls := "LastPebbleModel", name := "set", desc := "(II)I" } : Jvm.MethodName) ({ cls := "LastPebbleModel", name := "set", desc := "(II)I" } : Jvm.MethodName)) ∈ lw_all := lw_g (lw_at lw_m8 116 rfl) rfl
theorem q1930 : (Jvm.Cond.code ({ cls := "LastPebbleModel", name := "set", desc := "(II)I" } : Jvm.MethodName) prog_17_method_77_code (4 : Nat) (Option.some Jvm.ClassFile.FieldType.int)) ∈ lw_all := lw_g (lw_at lw_m8 117 rfl) rfl
theorem q1931 : (Jvm.Cond.methodLink "LastPebbleModel" (301 : Nat) ({ cls := "LastPebbleModel", name := "wrongSet", desc := "(II)I" } : Jvm.MethodName)) ∈ lw_all := lw_g (lw_at lw_m8 118 rfl) rfl
theorem q1932 : (Jvm.Cond.privateMethod ({ cls := "LastPebbleModel", name := "wrongSet", desc := "(II)I" } : Jvm.MethodName)) ∈ lw_tbl := lw_at lw_m8 119 rfl
theorem q1933 : (Jvm.Cond.instanceMethod ({ cls := "LastPebbleModel", name := "wrongSet", desc := "(II)I" } : Jvm.MethodName)) ∈ lw_all := lw_g (lw_at lw_m8 120 rfl) rfl
theorem q1934 : (Jvm.Cond.code ({ cls := "LastPebbleModel", name := "wrongSet", desc := "(II)I" } : Jvm.MethodName) prog_17_method_75_code (3 : Nat) (Option.some Jvm.ClassFile.FieldType.int)) ∈ lw_all := lw_g (lw_at lw_m8 121 rfl) rfl
theorem q1935 : (Jvm.Cond.methodLink "LastPebbleModel" (268 : Nat) ({ cls := "LastPebbleModel", name := "isThere", desc := "(I)Z" } : Jvm.MethodName)) ∈ lw_all := lw_g (lw_at lw_m8 122 rfl) rfl
theorem q1936 : (Jvm.Cond.privateMethod ({ cls := "LastPebbleModel", name := "isThere", desc := "(I)Z" } : Jvm.MethodName)) ∈ lw_tbl := lw_at lw_m8 123 rfl
theorem q1937 : (Jvm.Cond.instanceMethod ({ cls := "LastPebbleModel", name := "isThere", desc := "(I)Z" } : Jvm.MethodName)) ∈ lw_all := lw_g (lw_at lw_m8 124 rfl) rfl
theorem q1938 : (Jvm.Cond.code ({ cls := "LastPebbleModel", name := "isThere", desc := "(I)Z" } : Jvm.MethodName) prog_17_method_60_code (2 : Nat) (Option.some Jvm.ClassFile.FieldType.boolean)) ∈ lw_all := lw_g (lw_at lw_m8 125 rfl) rfl
theorem q1939 : (Jvm.Cond.methodLink "LastPebbleModel" (304 : Nat) ({ cls := "LastPebbleModel", name := "sets", desc := "(II)V" } : Jvm.MethodName)) ∈ lw_all := lw_g (lw_at lw_m8 126 rfl) rfl
theorem q1940 : (Jvm.Cond.privateMethod ({ cls := "LastPebbleModel", name := "sets", desc := "(II)V" } : Jvm.MethodName)) ∈ lw_tbl := lw_at lw_m8 127 rfl
theorem q1941 : (Jvm.Cond.instanceMethod ({ cls := "LastPebbleModel", name := "sets", desc := "(II)V" } : Jvm.MethodName)) ∈ lw_all := lw_g (lw_at lw_m8 128 rfl) rfl
theorem q1942 : (Jvm.Cond.code ({ cls := "LastPebbleModel", name := "sets", desc := "(II)V" } : Jvm.MethodName) prog_17_method_76_code (3 : Nat) (Option.none : Option Jvm.ClassFile.FieldType)) ∈ lw_all := lw_g (lw_at lw_m8 129 rfl) rfl
theorem q1944 : (Jvm.Cond.instanceMethod ({ cls := "LastPebbleModel", name := "lift", desc := "(II)I" } : Jvm.MethodName)) ∈ lw_all := lw_g (lw_at lw_m8 131 rfl) rfl
theorem q1945 : (Jvm.Cond.selects "LastPebbleModel" ({ cls := "LastPebbleModel", name := "lift", desc := "(II)I" } : Jvm.MethodName) ({ cls := "LastPebbleModel", name := "lift", desc := "(II)I" } : Jvm.MethodName)) ∈ lw_all := lw_g (lw_at lw_m8 132 rfl) rfl
theorem q1946 : (Jvm.Cond.code ({ cls := "LastPebbleModel", name := "lift", desc := "(II)I" } : Jvm.MethodName) prog_17_method_81_code (4 : Nat) (Option.some Jvm.ClassFile.FieldType.int)) ∈ lw_all := lw_g (lw_at lw_m8 133 rfl) rfl
theorem q1947 : (Jvm.Cond.methodLink "LastPebbleModel" (320 : Nat) ({ cls := "LastPebbleModel", name := "wrongLift", desc := "(II)I" } : Jvm.MethodName)) ∈ lw_all := lw_g (lw_at lw_m8 134 rfl) rfl
theorem q1948 : (Jvm.Cond.privateMethod ({ cls := "LastPebbleModel", name := "wrongLift", desc := "(II)I" } : Jvm.MethodName)) ∈ lw_tbl := lw_at lw_m8 135 rfl
theorem q1949 : (Jvm.Cond.instanceMethod ({ cls := "LastPebbleModel", name := "wrongLift", desc := "(II)I" } : Jvm.MethodName)) ∈ lw_all := lw_g (lw_at lw_m8 136 rfl) rfl
theorem q1950 : (Jvm.Cond.code ({ cls := "LastPebbleModel", name := "wrongLift", desc := "(II)I" } : Jvm.MethodName) prog_17_method_79_code (3 : Nat) (Option.some Jvm.ClassFile.FieldType.int)) ∈ lw_all := lw_g (lw_at lw_m8 137 rfl) rfl
theorem q1951 : (Jvm.Cond.methodLink "LastPebbleModel" (311 : Nat) ({ cls := "LastPebbleModel", name := "ownOn", desc := "(II)I" } : Jvm.MethodName)) ∈ lw_all := lw_g (lw_at lw_m8 138 rfl) rfl
theorem q1952 : (Jvm.Cond.privateMethod ({ cls := "LastPebbleModel", name := "ownOn", desc := "(II)I" } : Jvm.MethodName)) ∈ lw_tbl := lw_at lw_m8 139 rfl
theorem q1953 : (Jvm.Cond.instanceMethod ({ cls := "LastPebbleModel", name := "ownOn", desc := "(II)I" } : Jvm.MethodName)) ∈ lw_all := lw_g (lw_at lw_m8 140 rfl) rfl
theorem q1954 : (Jvm.Cond.code ({ cls := "LastPebbleModel", name := "ownOn", desc := "(II)I" } : Jvm.MethodName) prog_17_method_78_code (4 : Nat) (Option.some Jvm.ClassFile.FieldType.int)) ∈ lw_all := lw_g (lw_at lw_m8 141 rfl) rfl
theorem q1955 : (Jvm.Cond.methodLink "LastPebbleModel" (308 : Nat) ({ cls := "LastPebbleModel", name := "whoAt", desc := "(II)I" } : Jvm.MethodName)) ∈ lw_all := lw_g (lw_at lw_m8 142 rfl) rfl
theorem q1956 : (Jvm.Cond.privateMethod ({ cls := "LastPebbleModel", name := "whoAt", desc := "(II)I" } : Jvm.MethodName)) ∈ lw_tbl := lw_at lw_m8 143 rfl
theorem q1957 : (Jvm.Cond.instanceMethod ({ cls := "LastPebbleModel", name := "whoAt", desc := "(II)I" } : Jvm.MethodName)) ∈ lw_all := lw_g (lw_at lw_m8 144 rfl) rfl
theorem q1958 : (Jvm.Cond.code ({ cls := "LastPebbleModel", name := "whoAt", desc := "(II)I" } : Jvm.MethodName) prog_17_method_62_code (3 : Nat) (Option.some Jvm.ClassFile.FieldType.int)) ∈ lw_all := lw_g (lw_at lw_m8 145 rfl) rfl
theorem q1959 : (Jvm.Cond.methodLink "LastPebbleModel" (323 : Nat) ({ cls := "LastPebbleModel", name := "lifts", desc := "(II)I" } : Jvm.MethodName)) ∈ lw_all := lw_g (lw_at lw_m8 146 rfl) rfl
theorem q1960 : (Jvm.Cond.privateMethod ({ cls := "LastPebbleModel", name := "lifts", desc := "(II)I" } : Jvm.MethodName)) ∈ lw_tbl := lw_at lw_m8 147 rfl
theorem q1961 : (Jvm.Cond.instanceMethod ({ cls := "LastPebbleModel", name := "lifts", desc := "(II)I" } : Jvm.MethodName)) ∈ lw_all := lw_g (lw_at lw_m8 148 rfl) rfl
theorem q1962 : (Jvm.Cond.code ({ cls := "LastPebbleModel", name := "lifts", desc := "(II)I" } : Jvm.MethodName) prog_17_method_80_code (5 : Nat) (Option.some Jvm.ClassFile.FieldType.int)) ∈ lw_all := lw_g (lw_at lw_m8 149 rfl) rfl
theorem q1963 : (Jvm.Cond.methodLink "LastPebbleModel" (314 : Nat) ({ cls := "LastPebbleModel", name := "minuteAt", desc := "(II)I" } : Jvm.MethodName)) ∈ lw_all := lw_g (lw_at lw_m8 150 rfl) rfl
theorem q1964 : (Jvm.Cond.privateMethod ({ cls := "LastPebbleModel", name := "minuteAt", desc := "(II)I" } : Jvm.MethodName)) ∈ lw_tbl := lw_at lw_m8 151 rfl
theorem q1965 : (Jvm.Cond.instanceMethod ({ cls := "LastPebbleModel", name := "minuteAt", desc := "(II)I" } : Jvm.MethodName)) ∈ lw_all := lw_g (lw_at lw_m8 152 rfl) rfl
theorem q1966 : (Jvm.Cond.code ({ cls := "LastPebbleModel", name := "minuteAt", desc := "(II)I" } : Jvm.MethodName) prog_17_method_63_code (3 : Nat) (Option.some Jvm.ClassFile.FieldType.int)) ∈ lw_all := lw_g (lw_at lw_m8 153 rfl) rfl
theorem q1967 : (Jvm.Cond.methodLink "LastPebbleModel" (317 : Nat) ({ cls := "LastPebbleModel", name := "goes", desc := "(II)V" } : Jvm.MethodName)) ∈ lw_all := lw_g (lw_at lw_m8 154 rfl) rfl
theorem q1968 : (Jvm.Cond.privateMethod ({ cls := "LastPebbleModel", name := "goes", desc := "(II)V" } : Jvm.MethodName)) ∈ lw_tbl := lw_at lw_m8 155 rfl
theorem q1969 : (Jvm.Cond.instanceMethod ({ cls := "LastPebbleModel", name := "goes", desc := "(II)V" } : Jvm.MethodName)) ∈ lw_all := lw_g (lw_at lw_m8 156 rfl) rfl
theorem q1970 : (Jvm.Cond.code ({ cls := "LastPebbleModel", name := "goes", desc := "(II)V" } : Jvm.MethodName) prog_17_method_40_code (5 : Nat) (Option.none : Option Jvm.ClassFile.FieldType)) ∈ lw_all := lw_g (lw_at lw_m8 157 rfl) rfl
theorem q1972 : (Jvm.Cond.instanceMethod ({ cls := "LastPebbleModel", name := "gull", desc := "(II)I" } : Jvm.MethodName)) ∈ lw_all := lw_g (lw_at lw_m8 159 rfl) rfl
theorem q1973 : (Jvm.Cond.selects "LastPebbleModel" ({ cls := "LastPebbleModel", name := "gull", desc := "(II)I" } : Jvm.MethodName) ({ cls := "LastPebbleModel", name := "gull", desc := "(II)I" } : Jvm.MethodName)) ∈ lw_all := lw_g (lw_at lw_m8 160 rfl) rfl
theorem q1974 : (Jvm.Cond.code ({ cls := "LastPebbleModel", name := "gull", desc := "(II)I" } : Jvm.MethodName) prog_17_method_84_code (4 : Nat) (Option.some Jvm.ClassFile.FieldType.int)) ∈ lw_all := lw_g (lw_at lw_m8 161 rfl) rfl
theorem q1975 : (Jvm.Cond.methodLink "LastPebbleModel" (326 : Nat) ({ cls := "LastPebbleModel", name := "wrongGull", desc := "(II)I" } : Jvm.MethodName)) ∈ lw_all := lw_g (lw_at lw_m8 162 rfl) rfl
theorem q1976 : (Jvm.Cond.privateMethod ({ cls := "LastPebbleModel", name := "wrongGull", desc := "(II)I" } : Jvm.MethodName)) ∈ lw_tbl := lw_at lw_m8 163 rfl
theorem q1977 : (Jvm.Cond.instanceMethod ({ cls := "LastPebbleModel", name := "wrongGull", desc := "(II)I" } : Jvm.MethodName)) ∈ lw_all := lw_g (lw_at lw_m8 164 rfl) rfl
theorem q1978 : (Jvm.Cond.code ({ cls := "LastPebbleModel", name := "wrongGull", desc := "(II)I" } : Jvm.MethodName) prog_17_method_82_code (3 : Nat) (Option.some Jvm.ClassFile.FieldType.int)) ∈ lw_all := lw_g (lw_at lw_m8 165 rfl) rfl
theorem q1979 : (Jvm.Cond.methodLink "LastPebbleModel" (329 : Nat) ({ cls := "LastPebbleModel", name := "carries", desc := "(II)I" } : Jvm.MethodName)) ∈ lw_all := lw_g (lw_at lw_m8 166 rfl) rfl
theorem q1980 : (Jvm.Cond.privateMethod ({ cls := "LastPebbleModel", name := "carries", desc := "(II)I" } : Jvm.MethodName)) ∈ lw_tbl := lw_at lw_m8 167 rfl
theorem q1981 : (Jvm.Cond.instanceMethod ({ cls := "LastPebbleModel", name := "carries", desc := "(II)I" } : Jvm.MethodName)) ∈ lw_all := lw_g (lw_at lw_m8 168 rfl) rfl
theorem q1982 : (Jvm.Cond.code ({ cls := "LastPebbleModel", name := "carries", desc := "(II)I" } : Jvm.MethodName) prog_17_method_83_code (6 : Nat) (Option.some Jvm.ClassFile.FieldType.int)) ∈ lw_all := lw_g (lw_at lw_m8 169 rfl) rfl
theorem q1984 : (Jvm.Cond.instanceMethod ({ cls := "LastPebbleModel", name := "wave", desc := "(I)I" } : Jvm.MethodName)) ∈ lw_all := lw_g (lw_at lw_m8 171 rfl) rfl
theorem q1985 : (Jvm.Cond.selects "LastPebbleModel" ({ cls := "LastPebbleModel", name := "wave", desc := "(I)I" } : Jvm.MethodName) ({ cls := "LastPebbleModel", name := "wave", desc := "(I)I" } : Jvm.MethodName)) ∈ lw_all := lw_g (lw_at lw_m8 172 rfl) rfl
theorem q1986 : (Jvm.Cond.code ({ cls := "LastPebbleModel", name := "wave", desc := "(I)I" } : Jvm.MethodName) prog_17_method_86_code (2 : Nat) (Option.some Jvm.ClassFile.FieldType.int)) ∈ lw_all := lw_g (lw_at lw_m8 173 rfl) rfl
theorem q1987 : (Jvm.Cond.constantLong "LastPebbleModel" (332 : Nat) (40 : Int64)) ∈ lw_all := lw_g (lw_at lw_m8 174 rfl) rfl
theorem q1988 : (Jvm.Cond.methodLink "LastPebbleModel" (334 : Nat) ({ cls := "LastPebbleModel", name := "washes", desc := "(I)I" } : Jvm.MethodName)) ∈ lw_all := lw_g (lw_at lw_m8 175 rfl) rfl
theorem q1989 : (Jvm.Cond.privateMethod ({ cls := "LastPebbleModel", name := "washes", desc := "(I)I" } : Jvm.MethodName)) ∈ lw_tbl := lw_at lw_m8 176 rfl
theorem q1990 : (Jvm.Cond.instanceMethod ({ cls := "LastPebbleModel", name := "washes", desc := "(I)I" } : Jvm.MethodName)) ∈ lw_all := lw_g (lw_at lw_m8 177 rfl) rfl
theorem q1991 : (Jvm.Cond.code ({ cls := "LastPebbleModel", name := "washes", desc := "(I)I" } : Jvm.MethodName) prog_17_method_85_code (4 : Nat) (Option.some Jvm.ClassFile.FieldType.int)) ∈ lw_all := lw_g (lw_at lw_m8 178 rfl) rfl
theorem q1993 : (Jvm.Cond.instanceMethod ({ cls := "LastPebbleModel", name := "last", desc := "(I)I" } : Jvm.MethodName)) ∈ lw_all := lw_g (lw_at lw_m8 180 rfl) rfl
theorem q1994 : (Jvm.Cond.selects "LastPebbleModel" ({ cls := "LastPebbleModel", name := "last", desc := "(I)I" } : Jvm.MethodName) ({ cls := "LastPebbleModel", name := "last", desc := "(I)I" } : Jvm.MethodName)) ∈ lw_all := lw_g (lw_at lw_m8 181 rfl) rfl
theorem q1995 : (Jvm.Cond.code ({ cls := "LastPebbleModel", name := "last", desc := "(I)I" } : Jvm.MethodName) prog_17_method_92_code (3 : Nat) (Option.some Jvm.ClassFile.FieldType.int)) ∈ lw_all := lw_g (lw_at lw_m8 182 rfl) rfl
theorem q1996 : (Jvm.Cond.methodLink "LastPebbleModel" (349 : Nat) ({ cls := "LastPebbleModel", name := "wrongFind", desc := "(I)I" } : Jvm.MethodName)) ∈ lw_all := lw_g (lw_at lw_m8 183 rfl) rfl
theorem q1997 : (Jvm.Cond.privateMethod ({ cls := "LastPebbleModel", name := "wrongFind", desc := "(I)I" } : Jvm.MethodName)) ∈ lw_tbl := lw_at lw_m8 184 rfl
theorem q1998 : (Jvm.Cond.instanceMethod ({ cls := "LastPebbleModel", name := "wrongFind", desc := "(I)I" } : Jvm.MethodName)) ∈ lw_all := lw_g (lw_at lw_m8 185 rfl) rfl
theorem q1999 : (Jvm.Cond.code ({ cls := "LastPebbleModel", name := "wrongFind", desc := "(I)I" } : Jvm.MethodName) prog_17_method_64_code (2 : Nat) (Option.some Jvm.ClassFile.FieldType.int)) ∈ lw_all := lw_g (lw_at lw_m8 186 rfl) rfl
theorem q2000 : (Jvm.Cond.methodLink "LastPebbleModel" (337 : Nat) ({ cls := "LastPebbleModel", name := "lastOn", desc := "(I)I" } : Jvm.MethodName)) ∈ lw_all := lw_g (lw_at lw_m8 187 rfl) rfl
theorem q2001 : (Jvm.Cond.privateMethod ({ cls := "LastPebbleModel", name := "lastOn", desc := "(I)I" } : Jvm.MethodName)) ∈ lw_tbl := lw_at lw_m8 188 rfl
theorem q2002 : (Jvm.Cond.instanceMethod ({ cls := "LastPebbleModel", name := "lastOn", desc := "(I)I" } : Jvm.MethodName)) ∈ lw_all := lw_g (lw_at lw_m8 189 rfl) rfl
theorem q2003 : (Jvm.Cond.code ({ cls := "LastPebbleModel", name := "lastOn", desc := "(I)I" } : Jvm.MethodName) prog_17_method_87_code (4 : Nat) (Option.some Jvm.ClassFile.FieldType.int)) ∈ lw_all := lw_g (lw_at lw_m8 190 rfl) rfl
theorem q2005 : (Jvm.Cond.instanceMethod ({ cls := "LastPebbleModel", name := "whose", desc := "(I)I" } : Jvm.MethodName)) ∈ lw_all := lw_g (lw_at lw_m8 192 rfl) rfl
theorem q2006 : (Jvm.Cond.selects "LastPebbleModel" ({ cls := "LastPebbleModel", name := "whose", desc := "(I)I" } : Jvm.MethodName) ({ cls := "LastPebbleModel", name := "whose", desc := "(I)I" } : Jvm.MethodName)) ∈ lw_all := lw_g (lw_at lw_m8 193 rfl) rfl
theorem q2007 : (Jvm.Cond.code ({ cls := "LastPebbleModel", name := "whose", desc := "(I)I" } : Jvm.MethodName) prog_17_method_93_code (3 : Nat) (Option.some Jvm.ClassFile.FieldType.int)) ∈ lw_all := lw_g (lw_at lw_m8 194 rfl) rfl
theorem q2008 : (Jvm.Cond.methodLink "LastPebbleModel" (343 : Nat) ({ cls := "LastPebbleModel", name := "ownersOf", desc := "(I)I" } : Jvm.MethodName)) ∈ lw_all := lw_g (lw_at lw_m8 195 rfl) rfl
theorem q2009 : (Jvm.Cond.privateMethod ({ cls := "LastPebbleModel", name := "ownersOf", desc := "(I)I" } : Jvm.MethodName)) ∈ lw_tbl := lw_at lw_m8 196 rfl
theorem q2010 : (Jvm.Cond.instanceMethod ({ cls := "LastPebbleModel", name := "ownersOf", desc := "(I)I" } : Jvm.MethodName)) ∈ lw_all := lw_g (lw_at lw_m8 197 rfl) rfl
theorem q2011 : (Jvm.Cond.code ({ cls := "LastPebbleModel", name := "ownersOf", desc := "(I)I" } : Jvm.MethodName) prog_17_method_89_code (5 : Nat) (Option.some Jvm.ClassFile.FieldType.int)) ∈ lw_all := lw_g (lw_at lw_m8 198 rfl) rfl
theorem q2012 : (Jvm.Cond.methodLink "LastPebbleModel" (340 : Nat) ({ cls := "LastPebbleModel", name := "bits", desc := "(I)I" } : Jvm.MethodName)) ∈ lw_all := lw_g (lw_at lw_m8 199 rfl) rfl
theorem q2013 : (Jvm.Cond.static ({ cls := "LastPebbleModel", name := "bits", desc := "(I)I" } : Jvm.MethodName)) ∈ lw_all := lw_g (lw_at lw_m8 200 rfl) rfl
theorem q2014 : (Jvm.Cond.code ({ cls := "LastPebbleModel", name := "bits", desc := "(I)I" } : Jvm.MethodName) prog_17_method_88_code (3 : Nat) (Option.some Jvm.ClassFile.FieldType.int)) ∈ lw_all := lw_g (lw_at lw_m8 201 rfl) rfl
theorem q2016 : (Jvm.Cond.instanceMethod ({ cls := "LastPebbleModel", name := "leads", desc := "(I)I" } : Jvm.MethodName)) ∈ lw_all := lw_g (lw_at lw_m8 203 rfl) rfl
theorem q2017 : (Jvm.Cond.selects "LastPebbleModel" ({ cls := "LastPebbleModel", name := "leads", desc := "(I)I" } : Jvm.MethodName) ({ cls := "LastPebbleModel", name := "leads", desc := "(I)I" } : Jvm.MethodName)) ∈ lw_all := lw_g (lw_at lw_m8 204 rfl) rfl
theorem q2018 : (Jvm.Cond.code ({ cls := "LastPebbleModel", name := "leads", desc := "(I)I" } : Jvm.MethodName) prog_17_method_94_code (2 : Nat) (Option.some Jvm.ClassFile.FieldType.int)) ∈ lw_all := lw_g (lw_at lw_m8 205 rfl) rfl
theorem q2019 : (Jvm.Cond.methodLink "LastPebbleModel" (352 : Nat) ({ cls := "LastPebbleModel", name := "leadOf", desc := "(I)I" } : Jvm.MethodName)) ∈ lw_all := lw_g (lw_at lw_m8 206 rfl) rfl
theorem q2020 : (Jvm.Cond.privateMethod ({ cls := "LastPebbleModel", name := "leadOf", desc := "(I)I" } : Jvm.MethodName)) ∈ lw_tbl := lw_at lw_m8 207 rfl
theorem q2021 : (Jvm.Cond.instanceMethod ({ cls := "LastPebbleModel", name := "leadOf", desc := "(I)I" } : Jvm.MethodName)) ∈ lw_all := lw_g (lw_at lw_m8 208 rfl) rfl
theorem q2022 : (Jvm.Cond.code ({ cls := "LastPebbleModel", name := "leadOf", desc := "(I)I" } : Jvm.MethodName) prog_17_method_91_code (4 : Nat) (Option.some Jvm.ClassFile.FieldType.int)) ∈ lw_all := lw_g (lw_at lw_m8 209 rfl) rfl
theorem q2023 : (Jvm.Cond.methodLink "LastPebbleModel" (346 : Nat) ({ cls := "LastPebbleModel", name := "shareOf", desc := "(II)I" } : Jvm.MethodName)) ∈ lw_all := lw_g (lw_at lw_m8 210 rfl) rfl
theorem q2024 : (Jvm.Cond.privateMethod ({ cls := "LastPebbleModel", name := "shareOf", desc := "(II)I" } : Jvm.MethodName)) ∈ lw_tbl := lw_at lw_m8 211 rfl
theorem q2025 : (Jvm.Cond.instanceMethod ({ cls := "LastPebbleModel", name := "shareOf", desc := "(II)I" } : Jvm.MethodName)) ∈ lw_all := lw_g (lw_at lw_m8 212 rfl) rfl
theorem q2026 : (Jvm.Cond.code ({ cls := "LastPebbleModel", name := "shareOf", desc := "(II)I" } : Jvm.MethodName) prog_17_method_90_code (4 : Nat) (Option.some Jvm.ClassFile.FieldType.int)) ∈ lw_all := lw_g (lw_at lw_m8 213 rfl) rfl
theorem q2028 : (Jvm.Cond.instanceMethod ({ cls := "LastPebbleModel", name := "leader", desc := "()I" } : Jvm.MethodName)) ∈ lw_all := lw_g (lw_at lw_m8 215 rfl) rfl
theorem q2029 : (Jvm.Cond.selects "LastPebbleModel" ({ cls := "LastPebbleModel", name := "leader", desc := "()I" } : Jvm.MethodName) ({ cls := "LastPebbleModel", name := "leader", desc := "()I" } : Jvm.MethodName)) ∈ lw_all := lw_g (lw_at lw_m8 216 rfl) rfl
theorem q2030 : (Jvm.Cond.code ({ cls := "LastPebbleModel", name := "leader", desc := "()I" } : Jvm.MethodName) prog_17_method_96_code (1 : Nat) (Option.some Jvm.ClassFile.FieldType.int)) ∈ lw_all := lw_g (lw_at lw_m8 217 rfl) rfl
theorem q2031 : (Jvm.Cond.methodLink "LastPebbleModel" (355 : Nat) ({ cls := "LastPebbleModel", name := "atRank", desc := "(I)I" } : Jvm.MethodName)) ∈ lw_all := lw_g (lw_at lw_m8 218 rfl) rfl
theorem q2032 : (Jvm.Cond.privateMethod ({ cls := "LastPebbleModel", name := "atRank", desc := "(I)I" } : Jvm.MethodName)) ∈ lw_tbl := lw_at lw_m8 219 rfl
theorem q2033 : (Jvm.Cond.instanceMethod ({ cls := "LastPebbleModel", name := "atRank", desc := "(I)I" } : Jvm.MethodName)) ∈ lw_all := lw_g (lw_at lw_m8 220 rfl) rfl
theorem q2034 : (Jvm.Cond.code ({ cls := "LastPebbleModel", name := "atRank", desc := "(I)I" } : Jvm.MethodName) prog_17_method_95_code (5 : Nat) (Option.some Jvm.ClassFile.FieldType.int)) ∈ lw_all := lw_g (lw_at lw_m8 221 rfl) rfl
theorem q2035 : (Jvm.Cond.methodLink "LastPebbleModel" (358 : Nat) ({ cls := "LastPebbleModel", name := "orNone", desc := "(I)I" } : Jvm.MethodName)) ∈ lw_all := lw_g (lw_at lw_m8 222 rfl) rfl
theorem q2036 : (Jvm.Cond.privateMethod ({ cls := "LastPebbleModel", name := "orNone", desc := "(I)I" } : Jvm.MethodName)) ∈ lw_tbl := lw_at lw_m8 223 rfl
theorem q2037 : (Jvm.Cond.instanceMethod ({ cls := "LastPebbleModel", name := "orNone", desc := "(I)I" } : Jvm.MethodName)) ∈ lw_all := lw_g (lw_at lw_m8 224 rfl) rfl
theorem q2038 : (Jvm.Cond.code ({ cls := "LastPebbleModel", name := "orNone", desc := "(I)I" } : Jvm.MethodName) prog_17_method_9_code (2 : Nat) (Option.some Jvm.ClassFile.FieldType.int)) ∈ lw_all := lw_g (lw_at lw_m8 225 rfl) rfl
theorem q2040 : (Jvm.Cond.instanceMethod ({ cls := "LastPebbleModel", name := "ranked", desc := "(I)I" } : Jvm.MethodName)) ∈ lw_all := lw_g (lw_at lw_m8 227 rfl) rfl
theorem q2041 : (Jvm.Cond.selects "LastPebbleModel" ({ cls := "LastPebbleModel", name := "ranked", desc := "(I)I" } : Jvm.MethodName) ({ cls := "LastPebbleModel", name := "ranked", desc := "(I)I" } : Jvm.MethodName)) ∈ lw_all := lw_g (lw_at lw_m8 228 rfl) rfl
theorem q2042 : (Jvm.Cond.code ({ cls := "LastPebbleModel", name := "ranked", desc := "(I)I" } : Jvm.MethodName) prog_17_method_97_code (2 : Nat) (Option.some Jvm.ClassFile.FieldType.int)) ∈ lw_all := lw_g (lw_at lw_m8 229 rfl) rfl
theorem q2044 : (Jvm.Cond.instanceMethod ({ cls := "LastPebbleModel", name := "duels", desc := "()I" } : Jvm.MethodName)) ∈ lw_all := lw_g (lw_at lw_m8 231 rfl) rfl
theorem q2045 : (Jvm.Cond.selects "LastPebbleModel" ({ cls := "LastPebbleModel", name := "duels", desc := "()I" } : Jvm.MethodName) ({ cls := "LastPebbleModel", name := "duels", desc := "()I" } : Jvm.MethodName)) ∈ lw_all := lw_g (lw_at lw_m8 232 rfl) rfl
theorem q2046 : (Jvm.Cond.code ({ cls := "LastPebbleModel", name := "duels", desc := "()I" } : Jvm.MethodName) prog_17_method_98_code (3 : Nat) (Option.some Jvm.ClassFile.FieldType.int)) ∈ lw_all := lw_g (lw_at lw_m8 233 rfl) rfl
theorem q2048 : (Jvm.Cond.instanceMethod ({ cls := "LastPebbleModel", name := "needs", desc := "(I)I" } : Jvm.MethodName)) ∈ lw_all := lw_g (lw_at lw_m8 235 rfl) rfl
theorem q2049 : (Jvm.Cond.selects "LastPebbleModel" ({ cls := "LastPebbleModel", name := "needs", desc := "(I)I" } : Jvm.MethodName) ({ cls := "LastPebbleModel", name := "needs", desc := "(I)I" } : Jvm.MethodName)) ∈ lw_all := lw_g (lw_at lw_m8 236 rfl) rfl
theorem q2050 : (Jvm.Cond.code ({ cls := "LastPebbleModel", name := "needs", desc := "(I)I" } : Jvm.MethodName) prog_17_method_99_code (4 : Nat) (Option.some Jvm.ClassFile.FieldType.int)) ∈ lw_all := lw_g (lw_at lw_m8 237 rfl) rfl
theorem q2052 : (Jvm.Cond.instanceMethod ({ cls := "LastPebbleModel", name := "strewn", desc := "(I)I" } : Jvm.MethodName)) ∈ lw_all := lw_g (lw_at lw_m8 239 rfl) rfl
theorem q2053 : (Jvm.Cond.selects "LastPebbleModel" ({ cls := "LastPebbleModel", name := "strewn", desc := "(I)I" } : Jvm.MethodName) ({ cls := "LastPebbleModel", name := "strewn", desc := "(I)I" } : Jvm.MethodName)) ∈ lw_all := lw_g (lw_at lw_m9 0 rfl) rfl
theorem q2054 : (Jvm.Cond.code ({ cls := "LastPebbleModel", name := "strewn", desc := "(I)I" } : Jvm.MethodName) prog_17_method_101_code (2 : Nat) (Option.some Jvm.ClassFile.FieldType.int)) ∈ lw_all := lw_g (lw_at lw_m9 1 rfl) rfl
theorem q2055 : (Jvm.Cond.methodLink "LastPebbleModel" (361 : Nat) ({ cls := "LastPebbleModel", name := "strewnOf", desc := "(I)I" } : Jvm.MethodName)) ∈ lw_all := lw_g (lw_at lw_m9 2 rfl) rfl
theorem q2056 : (Jvm.Cond.privateMethod ({ cls := "LastPebbleModel", name := "strewnOf", desc := "(I)I" } : Jvm.MethodName)) ∈ lw_tbl := lw_at lw_m9 3 rfl
theorem q2057 : (Jvm.Cond.instanceMethod ({ cls := "LastPebbleModel", name := "strewnOf", desc := "(I)I" } : Jvm.MethodName)) ∈ lw_all := lw_g (lw_at lw_m9 4 rfl) rfl
theorem q2058 : (Jvm.Cond.code ({ cls := "LastPebbleModel", name := "strewnOf", desc := "(I)I" } : Jvm.MethodName) prog_17_method_119_code (4 : Nat) (Option.some Jvm.ClassFile.FieldType.int)) ∈ lw_all := lw_g (lw_at lw_m9 5 rfl) rfl
theorem q2059 : (Jvm.Cond.methodLink "LastPebbleModel" (364 : Nat) ({ cls := "LastPebbleModel", name := "ownMany", desc := "(II)I" } : Jvm.MethodName)) ∈ lw_all := lw_g (lw_at lw_m9 6 rfl) rfl
theorem q2060 : (Jvm.Cond.privateMethod ({ cls := "LastPebbleModel", name := "ownMany", desc := "(II)I" } : Jvm.MethodName)) ∈ lw_tbl := lw_at lw_m9 7 rfl
theorem q2061 : (Jvm.Cond.instanceMethod ({ cls := "LastPebbleModel", name := "ownMany", desc := "(II)I" } : Jvm.MethodName)) ∈ lw_all := lw_g (lw_at lw_m9 8 rfl) rfl
theorem q2062 : (Jvm.Cond.code ({ cls := "LastPebbleModel", name := "ownMany", desc := "(II)I" } : Jvm.MethodName) prog_17_method_100_code (5 : Nat) (Option.some Jvm.ClassFile.FieldType.int)) ∈ lw_all := lw_g (lw_at lw_m9 9 rfl) rfl
theorem q2064 : (Jvm.Cond.instanceMethod ({ cls := "LastPebbleModel", name := "lies", desc := "(II)I" } : Jvm.MethodName)) ∈ lw_all := lw_g (lw_at lw_m9 11 rfl) rfl
theorem q2065 : (Jvm.Cond.selects "LastPebbleModel" ({ cls := "LastPebbleModel", name := "lies", desc := "(II)I" } : Jvm.MethodName) ({ cls := "LastPebbleModel", name := "lies", desc := "(II)I" } : Jvm.MethodName)) ∈ lw_all := lw_g (lw_at lw_m9 12 rfl) rfl
theorem q2066 : (Jvm.Cond.code ({ cls := "LastPebbleModel", name := "lies", desc := "(II)I" } : Jvm.MethodName) prog_17_method_102_code (5 : Nat) (Option.some Jvm.ClassFile.FieldType.int)) ∈ lw_all := lw_g (lw_at lw_m9 13 rfl) rfl
theorem q2068 : (Jvm.Cond.instanceMethod ({ cls := "LastPebbleModel", name := "rivals", desc := "(II)I" } : Jvm.MethodName)) ∈ lw_all := lw_g (lw_at lw_m9 15 rfl) rfl
theorem q2069 : (Jvm.Cond.selects "LastPebbleModel" ({ cls := "LastPebbleModel", name := "rivals", desc := "(II)I" } : Jvm.MethodName) ({ cls := "LastPebbleModel", name := "rivals", desc := "(II)I" } : Jvm.MethodName)) ∈ lw_all := lw_g (lw_at lw_m9 16 rfl) rfl
theorem q2070 : (Jvm.Cond.code ({ cls := "LastPebbleModel", name := "rivals", desc := "(II)I" } : Jvm.MethodName) prog_17_method_103_code (5 : Nat) (Option.some Jvm.ClassFile.FieldType.int)) ∈ lw_all := lw_g (lw_at lw_m9 17 rfl) rfl
theorem q2072 : (Jvm.Cond.instanceMethod ({ cls := "LastPebbleModel", name := "richest", desc := "()I" } : Jvm.MethodName)) ∈ lw_all := lw_g (lw_at lw_m9 19 rfl) rfl
theorem q2073 : (Jvm.Cond.selects "LastPebbleModel" ({ cls := "LastPebbleModel", name := "richest", desc := "()I" } : Jvm.MethodName) ({ cls := "LastPebbleModel", name := "richest", desc := "()I" } : Jvm.MethodName)) ∈ lw_all := lw_g (lw_at lw_m9 20 rfl) rfl
theorem q2074 : (Jvm.Cond.code ({ cls := "LastPebbleModel", name := "richest", desc := "()I" } : Jvm.MethodName) prog_17_method_104_code (3 : Nat) (Option.some Jvm.ClassFile.FieldType.int)) ∈ lw_all := lw_g (lw_at lw_m9 21 rfl) rfl
theorem q2076 : (Jvm.Cond.instanceMethod ({ cls := "LastPebbleModel", name := "left", desc := "(I)I" } : Jvm.MethodName)) ∈ lw_all := lw_g (lw_at lw_m9 23 rfl) rfl
theorem q2077 : (Jvm.Cond.selects "LastPebbleModel" ({ cls := "LastPebbleModel", name := "left", desc := "(I)I" } : Jvm.MethodName) ({ cls := "LastPebbleModel", name := "left", desc := "(I)I" } : Jvm.MethodName)) ∈ lw_all := lw_g (lw_at lw_m9 24 rfl) rfl
theorem q2078 : (Jvm.Cond.code ({ cls := "LastPebbleModel", name := "left", desc := "(I)I" } : Jvm.MethodName) prog_17_method_107_code (3 : Nat) (Option.some Jvm.ClassFile.FieldType.int)) ∈ lw_all := lw_g (lw_at lw_m9 25 rfl) rfl
theorem q2079 : (Jvm.Cond.methodLink "LastPebbleModel" (367 : Nat) ({ cls := "LastPebbleModel", name := "wrongLast", desc := "(I)I" } : Jvm.MethodName)) ∈ lw_all := lw_g (lw_at lw_m9 26 rfl) rfl
theorem q2080 : (Jvm.Cond.privateMethod ({ cls := "LastPebbleModel", name := "wrongLast", desc := "(I)I" } : Jvm.MethodName)) ∈ lw_tbl := lw_at lw_m9 27 rfl
theorem q2081 : (Jvm.Cond.instanceMethod ({ cls := "LastPebbleModel", name := "wrongLast", desc := "(I)I" } : Jvm.MethodName)) ∈ lw_all := lw_g (lw_at lw_m9 28 rfl) rfl
theorem q2082 : (Jvm.Cond.code ({ cls := "LastPebbleModel", name := "wrongLast", desc := "(I)I" } : Jvm.MethodName) prog_17_method_105_code (2 : Nat) (Option.some Jvm.ClassFile.FieldType.int)) ∈ lw_all := lw_g (lw_at lw_m9 29 rfl) rfl
theorem q2083 : (Jvm.Cond.methodLink "LastPebbleModel" (370 : Nat) ({ cls := "LastPebbleModel", name := "leftOn", desc := "(I)I" } : Jvm.MethodName)) ∈ lw_all := lw_g (lw_at lw_m9 30 rfl) rfl
theorem q2084 : (Jvm.Cond.privateMethod ({ cls := "LastPebbleModel", name := "leftOn", desc := "(I)I" } : Jvm.MethodName)) ∈ lw_tbl := lw_at lw_m9 31 rfl
theorem q2085 : (Jvm.Cond.instanceMethod ({ cls := "LastPebbleModel", name := "leftOn", desc := "(I)I" } : Jvm.MethodName)) ∈ lw_all := lw_g (lw_at lw_m9 32 rfl) rfl
theorem q2086 : (Jvm.Cond.code ({ cls := "LastPebbleModel", name := "leftOn", desc := "(I)I" } : Jvm.MethodName) prog_17_method_106_code (2 : Nat) (Option.some Jvm.ClassFile.FieldType.int)) ∈ lw_all := lw_g (lw_at lw_m9 33 rfl) rfl
theorem q2088 : (Jvm.Cond.instanceMethod ({ cls := "LastPebbleModel", name := "tideIn", desc := "(I)I" } : Jvm.MethodName)) ∈ lw_all := lw_g (lw_at lw_m9 35 rfl) rfl
theorem q2089 : (Jvm.Cond.selects "LastPebbleModel" ({ cls := "LastPebbleModel", name := "tideIn", desc := "(I)I" } : Jvm.MethodName) ({ cls := "LastPebbleModel", name := "tideIn", desc := "(I)I" } : Jvm.MethodName)) ∈ lw_all := lw_g (lw_at lw_m9 36 rfl) rfl
theorem q2090 : (Jvm.Cond.code ({ cls := "LastPebbleModel", name := "tideIn", desc := "(I)I" } : Jvm.MethodName) prog_17_method_108_code (2 : Nat) (Option.some Jvm.ClassFile.FieldType.int)) ∈ lw_all := lw_g (lw_at lw_m9 37 rfl) rfl
theorem q2091 : (Jvm.Cond.constantLong "LastPebbleModel" (373 : Nat) (99 : Int64)) ∈ lw_all := lw_g (lw_at lw_m9 38 rfl) rfl
theorem q2092 : (Jvm.Cond.methodLink "LastPebbleModel" (375 : Nat) ({ cls := "java/lang/Math", name := "max", desc := "(II)I" } : Jvm.MethodName)) ∈ lw_all := lw_g (lw_at lw_m9 39 rfl) rfl
theorem q2094 : (Jvm.Cond.instanceMethod ({ cls := "LastPebbleModel", name := "latest", desc := "()I" } : Jvm.MethodName)) ∈ lw_all := lw_g (lw_at lw_m9 41 rfl) rfl
theorem q2095 : (Jvm.Cond.selects "LastPebbleModel" ({ cls := "LastPebbleModel", name := "latest", desc := "()I" } : Jvm.MethodName) ({ cls := "LastPebbleModel", name := "latest", desc := "()I" } : Jvm.MethodName)) ∈ lw_all := lw_g (lw_at lw_m9 42 rfl) rfl
theorem q2096 : (Jvm.Cond.code ({ cls := "LastPebbleModel", name := "latest", desc := "()I" } : Jvm.MethodName) prog_17_method_109_code (3 : Nat) (Option.some Jvm.ClassFile.FieldType.int)) ∈ lw_all := lw_g (lw_at lw_m9 43 rfl) rfl
theorem q2098 : (Jvm.Cond.instanceMethod ({ cls := "LastPebbleModel", name := "behind", desc := "(I)I" } : Jvm.MethodName)) ∈ lw_all := lw_g (lw_at lw_m9 45 rfl) rfl
theorem q2099 : (Jvm.Cond.selects "LastPebbleModel" ({ cls := "LastPebbleModel", name := "behind", desc := "(I)I" } : Jvm.MethodName) ({ cls := "LastPebbleModel", name := "behind", desc := "(I)I" } : Jvm.MethodName)) ∈ lw_all := lw_g (lw_at lw_m9 46 rfl) rfl
theorem q2100 : (Jvm.Cond.code ({ cls := "LastPebbleModel", name := "behind", desc := "(I)I" } : Jvm.MethodName) prog_17_method_110_code (2 : Nat) (Option.some Jvm.ClassFile.FieldType.int)) ∈ lw_all := lw_g (lw_at lw_m9 47 rfl) rfl
theorem q2102 : (Jvm.Cond.instanceMethod ({ cls := "LastPebbleModel", name := "alone", desc := "()I" } : Jvm.MethodName)) ∈ lw_all := lw_g (lw_at lw_m9 49 rfl) rfl
theorem q2103 : (Jvm.Cond.selects "LastPebbleModel" ({ cls := "LastPebbleModel", name := "alone", desc := "()I" } : Jvm.MethodName) ({ cls := "LastPebbleModel", name := "alone", desc := "()I" } : Jvm.MethodName)) ∈ lw_all := lw_g (lw_at lw_m9 50 rfl) rfl
theorem q2104 : (Jvm.Cond.code ({ cls := "LastPebbleModel", name := "alone", desc := "()I" } : Jvm.MethodName) prog_17_method_111_code (5 : Nat) (Option.some Jvm.ClassFile.FieldType.int)) ∈ lw_all := lw_g (lw_at lw_m9 51 rfl) rfl
theorem q2106 : (Jvm.Cond.instanceMethod ({ cls := "LastPebbleModel", name := "part", desc := "(II)I" } : Jvm.MethodName)) ∈ lw_all := lw_g (lw_at lw_m9 53 rfl) rfl
theorem q2107 : (Jvm.Cond.selects "LastPebbleModel" ({ cls := "LastPebbleModel", name := "part", desc := "(II)I" } : Jvm.MethodName) ({ cls := "LastPebbleModel", name := "part", desc := "(II)I" } : Jvm.MethodName)) ∈ lw_all := lw_g (lw_at lw_m9 54 rfl) rfl
theorem q2108 : (Jvm.Cond.code ({ cls := "LastPebbleModel", name := "part", desc := "(II)I" } : Jvm.MethodName) prog_17_method_112_code (6 : Nat) (Option.some Jvm.ClassFile.FieldType.int)) ∈ lw_all := lw_g (lw_at lw_m9 55 rfl) rfl
theorem q2110 : (Jvm.Cond.instanceMethod ({ cls := "LastPebbleModel", name := "crowd", desc := "(I)I" } : Jvm.MethodName)) ∈ lw_all := lw_g (lw_at lw_m9 57 rfl) rfl
theorem q2111 : (Jvm.Cond.selects "LastPebbleModel" ({ cls := "LastPebbleModel", name := "crowd", desc := "(I)I" } : Jvm.MethodName) ({ cls := "LastPebbleModel", name := "crowd", desc := "(I)I" } : Jvm.MethodName)) ∈ lw_all := lw_g (lw_at lw_m9 58 rfl) rfl
theorem q2112 : (Jvm.Cond.code ({ cls := "LastPebbleModel", name := "crowd", desc := "(I)I" } : Jvm.MethodName) prog_17_method_113_code (6 : Nat) (Option.some Jvm.ClassFile.FieldType.int)) ∈ lw_all := lw_g (lw_at lw_m9 59 rfl) rfl
theorem q2114 : (Jvm.Cond.instanceMethod ({ cls := "LastPebbleModel", name := "walk", desc := "(II)I" } : Jvm.MethodName)) ∈ lw_all := lw_g (lw_at lw_m9 61 rfl) rfl
theorem q2115 : (Jvm.Cond.selects "LastPebbleModel" ({ cls := "LastPebbleModel", name := "walk", desc := "(II)I" } : Jvm.MethodName) ({ cls := "LastPebbleModel", name := "walk", desc := "(II)I" } : Jvm.MethodName)) ∈ lw_all := lw_g (lw_at lw_m9 62 rfl) rfl
theorem q2116 : (Jvm.Cond.code ({ cls := "LastPebbleModel", name := "walk", desc := "(II)I" } : Jvm.MethodName) prog_17_method_114_code (3 : Nat) (Option.some Jvm.ClassFile.FieldType.int)) ∈ lw_all := lw_g (lw_at lw_m9 63 rfl) rfl
theorem q2118 : (Jvm.Cond.instanceMethod ({ cls := "LastPebbleModel", name := "open", desc := "()I" } : Jvm.MethodName)) ∈ lw_all := lw_g (lw_at lw_m9 65 rfl) rfl
theorem q2119 : (Jvm.Cond.selects "LastPebbleModel" ({ cls := "LastPebbleModel", name := "open", desc := "()I" } : Jvm.MethodName) ({ cls := "LastPebbleModel", name := "open", desc := "()I" } : Jvm.MethodName)) ∈ lw_all := lw_g (lw_at lw_m9 66 rfl) rfl
theorem q2120 : (Jvm.Cond.code ({ cls := "LastPebbleModel", name := "open", desc := "()I" } : Jvm.MethodName) prog_17_method_115_code (3 : Nat) (Option.some Jvm.ClassFile.FieldType.int)) ∈ lw_all := lw_g (lw_at lw_m9 67 rfl) rfl
theorem q2122 : (Jvm.Cond.instanceMethod ({ cls := "LastPebbleModel", name := "farthest", desc := "(I)I" } : Jvm.MethodName)) ∈ lw_all := lw_g (lw_at lw_m9 69 rfl) rfl
theorem q2123 : (Jvm.Cond.selects "LastPebbleModel" ({ cls := "LastPebbleModel", name := "farthest", desc := "(I)I" } : Jvm.MethodName) ({ cls := "LastPebbleModel", name := "farthest", desc := "(I)I" } : Jvm.MethodName)) ∈ lw_all := lw_g (lw_at lw_m9 70 rfl) rfl
theorem q2124 : (Jvm.Cond.code ({ cls := "LastPebbleModel", name := "farthest", desc := "(I)I" } : Jvm.MethodName) prog_17_method_116_code (6 : Nat) (Option.some Jvm.ClassFile.FieldType.int)) ∈ lw_all := lw_g (lw_at lw_m9 71 rfl) rfl
theorem q2126 : (Jvm.Cond.instanceMethod ({ cls := "LastPebbleModel", name := "time", desc := "(I)I" } : Jvm.MethodName)) ∈ lw_all := lw_g (lw_at lw_m9 73 rfl) rfl
theorem q2127 : (Jvm.Cond.selects "LastPebbleModel" ({ cls := "LastPebbleModel", name := "time", desc := "(I)I" } : Jvm.MethodName) ({ cls := "LastPebbleModel", name := "time", desc := "(I)I" } : Jvm.MethodName)) ∈ lw_all := lw_g (lw_at lw_m9 74 rfl) rfl
theorem q2128 : (Jvm.Cond.code ({ cls := "LastPebbleModel", name := "time", desc := "(I)I" } : Jvm.MethodName) prog_17_method_117_code (2 : Nat) (Option.some Jvm.ClassFile.FieldType.int)) ∈ lw_all := lw_g (lw_at lw_m9 75 rfl) rfl
theorem q2130 : (Jvm.Cond.instanceMethod ({ cls := "LastPebbleModel", name := "tally", desc := "(II)I" } : Jvm.MethodName)) ∈ lw_all := lw_g (lw_at lw_m9 77 rfl) rfl
theorem q2131 : (Jvm.Cond.selects "LastPebbleModel" ({ cls := "LastPebbleModel", name := "tally", desc := "(II)I" } : Jvm.MethodName) ({ cls := "LastPebbleModel", name := "tally", desc := "(II)I" } : Jvm.MethodName)) ∈ lw_all := lw_g (lw_at lw_m9 78 rfl) rfl
theorem q2132 : (Jvm.Cond.code ({ cls := "LastPebbleModel", name := "tally", desc := "(II)I" } : Jvm.MethodName) prog_17_method_118_code (3 : Nat) (Option.some Jvm.ClassFile.FieldType.int)) ∈ lw_all := lw_g (lw_at lw_m9 79 rfl) rfl
theorem q2134 : (Jvm.Cond.instanceMethod ({ cls := "LastPebbleModel", name := "busiest", desc := "()I" } : Jvm.MethodName)) ∈ lw_all := lw_g (lw_at lw_m9 81 rfl) rfl
theorem q2135 : (Jvm.Cond.selects "LastPebbleModel" ({ cls := "LastPebbleModel", name := "busiest", desc := "()I" } : Jvm.MethodName) ({ cls := "LastPebbleModel", name := "busiest", desc := "()I" } : Jvm.MethodName)) ∈ lw_all := lw_g (lw_at lw_m9 82 rfl) rfl
theorem q2136 : (Jvm.Cond.code ({ cls := "LastPebbleModel", name := "busiest", desc := "()I" } : Jvm.MethodName) prog_17_method_120_code (3 : Nat) (Option.some Jvm.ClassFile.FieldType.int)) ∈ lw_all := lw_g (lw_at lw_m9 83 rfl) rfl
theorem q2138 : (Jvm.Cond.instanceMethod ({ cls := "LastPebbleModel", name := "both", desc := "(III)I" } : Jvm.MethodName)) ∈ lw_all := lw_g (lw_at lw_m9 85 rfl) rfl
theorem q2139 : (Jvm.Cond.selects "LastPebbleModel" ({ cls := "LastPebbleModel", name := "both", desc := "(III)I" } : Jvm.MethodName) ({ cls := "LastPebbleModel", name := "both", desc := "(III)I" } : Jvm.MethodName)) ∈ lw_all := lw_g (lw_at lw_m9 86 rfl) rfl
theorem q2140 : (Jvm.Cond.code ({ cls := "LastPebbleModel", name := "both", desc := "(III)I" } : Jvm.MethodName) prog_17_method_121_code (4 : Nat) (Option.some Jvm.ClassFile.FieldType.int)) ∈ lw_all := lw_g (lw_at lw_m9 87 rfl) rfl
theorem q2141 : (Jvm.Cond.methodLink "LastPebbleModel" (378 : Nat) ({ cls := "LastPebbleModel", name := "seenBy", desc := "(II)I" } : Jvm.MethodName)) ∈ lw_all := lw_g (lw_at lw_m9 88 rfl) rfl
theorem q2142 : (Jvm.Cond.privateMethod ({ cls := "LastPebbleModel", name := "seenBy", desc := "(II)I" } : Jvm.MethodName)) ∈ lw_tbl := lw_at lw_m9 89 rfl
theorem q2143 : (Jvm.Cond.instanceMethod ({ cls := "LastPebbleModel", name := "seenBy", desc := "(II)I" } : Jvm.MethodName)) ∈ lw_all := lw_g (lw_at lw_m9 90 rfl) rfl
theorem q2144 : (Jvm.Cond.code ({ cls := "LastPebbleModel", name := "seenBy", desc := "(II)I" } : Jvm.MethodName) prog_17_method_137_code (5 : Nat) (Option.some Jvm.ClassFile.FieldType.int)) ∈ lw_all := lw_g (lw_at lw_m9 91 rfl) rfl
theorem q2146 : (Jvm.Cond.instanceMethod ({ cls := "LastPebbleModel", name := "tide", desc := "()I" } : Jvm.MethodName)) ∈ lw_all := lw_g (lw_at lw_m9 93 rfl) rfl
theorem q2147 : (Jvm.Cond.selects "LastPebbleModel" ({ cls := "LastPebbleModel", name := "tide", desc := "()I" } : Jvm.MethodName) ({ cls := "LastPebbleModel", name := "tide", desc := "()I" } : Jvm.MethodName)) ∈ lw_all := lw_g (lw_at lw_m9 94 rfl) rfl
theorem q2148 : (Jvm.Cond.code ({ cls := "LastPebbleModel", name := "tide", desc := "()I" } : Jvm.MethodName) prog_17_method_123_code (1 : Nat) (Option.some Jvm.ClassFile.FieldType.int)) ∈ lw_all := lw_g (lw_at lw_m9 95 rfl) rfl
theorem q2149 : (Jvm.Cond.methodLink "LastPebbleModel" (381 : Nat) ({ cls := "LastPebbleModel", name := "floods", desc := "()V" } : Jvm.MethodName)) ∈ lw_all := lw_g (lw_at lw_m9 96 rfl) rfl
theorem q2150 : (Jvm.Cond.privateMethod ({ cls := "LastPebbleModel", name := "floods", desc := "()V" } : Jvm.MethodName)) ∈ lw_tbl := lw_at lw_m9 97 rfl
theorem q2151 : (Jvm.Cond.instanceMethod ({ cls := "LastPebbleModel", name := "floods", desc := "()V" } : Jvm.MethodName)) ∈ lw_all := lw_g (lw_at lw_m9 98 rfl) rfl
theorem q2152 : (Jvm.Cond.code ({ cls := "LastPebbleModel", name := "floods", desc := "()V" } : Jvm.MethodName) prog_17_method_122_code (4 : Nat) (Option.none : Option Jvm.ClassFile.FieldType)) ∈ lw_all := lw_g (lw_at lw_m9 99 rfl) rfl
theorem q2154 : (Jvm.Cond.instanceMethod ({ cls := "LastPebbleModel", name := "dawn", desc := "()I" } : Jvm.MethodName)) ∈ lw_all := lw_g (lw_at lw_m9 101 rfl) rfl
theorem q2155 : (Jvm.Cond.selects "LastPebbleModel" ({ cls := "LastPebbleModel", name := "dawn", desc := "()I" } : Jvm.MethodName) ({ cls := "LastPebbleModel", name := "dawn", desc := "()I" } : Jvm.MethodName)) ∈ lw_all := lw_g (lw_at lw_m9 102 rfl) rfl
theorem q2156 : (Jvm.Cond.code ({ cls := "LastPebbleModel", name := "dawn", desc := "()I" } : Jvm.MethodName) prog_17_method_125_code (1 : Nat) (Option.some Jvm.ClassFile.FieldType.int)) ∈ lw_all := lw_g (lw_at lw_m9 103 rfl) rfl
theorem q2157 : (Jvm.Cond.methodLink "LastPebbleModel" (384 : Nat) ({ cls := "LastPebbleModel", name := "dawns", desc := "()V" } : Jvm.MethodName)) ∈ lw_all := lw_g (lw_at lw_m9 104 rfl) rfl
theorem q2158 : (Jvm.Cond.privateMethod ({ cls := "LastPebbleModel", name := "dawns", desc := "()V" } : Jvm.MethodName)) ∈ lw_tbl := lw_at lw_m9 105 rfl
theorem q2159 : (Jvm.Cond.instanceMethod ({ cls := "LastPebbleModel", name := "dawns", desc := "()V" } : Jvm.MethodName)) ∈ lw_all := lw_g (lw_at lw_m9 106 rfl) rfl
theorem q2160 : (Jvm.Cond.code ({ cls := "LastPebbleModel", name := "dawns", desc := "()V" } : Jvm.MethodName) prog_17_method_124_code (1 : Nat) (Option.none : Option Jvm.ClassFile.FieldType)) ∈ lw_all := lw_g (lw_at lw_m9 107 rfl) rfl
theorem q2162 : (Jvm.Cond.instanceMethod ({ cls := "LastPebbleModel", name := "soonest", desc := "(II)I" } : Jvm.MethodName)) ∈ lw_all := lw_g (lw_at lw_m9 109 rfl) rfl
theorem q2163 : (Jvm.Cond.selects "LastPebbleModel" ({ cls := "LastPebbleModel", name := "soonest", desc := "(II)I" } : Jvm.MethodName) ({ cls := "LastPebbleModel", name := "soonest", desc := "(II)I" } : Jvm.MethodName)) ∈ lw_all := lw_g (lw_at lw_m9 110 rfl) rfl
theorem q2164 : (Jvm.Cond.code ({ cls := "LastPebbleModel", name := "soonest", desc := "(II)I" } : Jvm.MethodName) prog_17_method_128_code (3 : Nat) (Option.some Jvm.ClassFile.FieldType.int)) ∈ lw_all := lw_g (lw_at lw_m9 111 rfl) rfl
theorem q2165 : (Jvm.Cond.methodLink "LastPebbleModel" (390 : Nat) ({ cls := "LastPebbleModel", name := "soonestOf", desc := "(II)I" } : Jvm.MethodName)) ∈ lw_all := lw_g (lw_at lw_m9 112 rfl) rfl
theorem q2166 : (Jvm.Cond.privateMethod ({ cls := "LastPebbleModel", name := "soonestOf", desc := "(II)I" } : Jvm.MethodName)) ∈ lw_tbl := lw_at lw_m9 113 rfl
theorem q2167 : (Jvm.Cond.instanceMethod ({ cls := "LastPebbleModel", name := "soonestOf", desc := "(II)I" } : Jvm.MethodName)) ∈ lw_all := lw_g (lw_at lw_m9 114 rfl) rfl
theorem q2168 : (Jvm.Cond.code ({ cls := "LastPebbleModel", name := "soonestOf", desc := "(II)I" } : Jvm.MethodName) prog_17_method_127_code (4 : Nat) (Option.some Jvm.ClassFile.FieldType.int)) ∈ lw_all := lw_g (lw_at lw_m9 115 rfl) rfl
theorem q2169 : (Jvm.Cond.methodLink "LastPebbleModel" (387 : Nat) ({ cls := "LastPebbleModel", name := "behindOthers", desc := "(II)I" } : Jvm.MethodName)) ∈ lw_all := lw_g (lw_at lw_m9 116 rfl) rfl
theorem q2170 : (Jvm.Cond.privateMethod ({ cls := "LastPebbleModel", name := "behindOthers", desc := "(II)I" } : Jvm.MethodName)) ∈ lw_tbl := lw_at lw_m9 117 rfl
theorem q2171 : (Jvm.Cond.instanceMethod ({ cls := "LastPebbleModel", name := "behindOthers", desc := "(II)I" } : Jvm.MethodName)) ∈ lw_all := lw_g (lw_at lw_m9 118 rfl) rfl
theorem q2172 : (Jvm.Cond.code ({ cls := "LastPebbleModel", name := "behindOthers", desc := "(II)I" } : Jvm.MethodName) prog_17_method_126_code (5 : Nat) (Option.some Jvm.ClassFile.FieldType.int)) ∈ lw_all := lw_g (lw_at lw_m9 119 rfl) rfl
theorem q2174 : (Jvm.Cond.instanceMethod ({ cls := "LastPebbleModel", name := "threat", desc := "(I)I" } : Jvm.MethodName)) ∈ lw_all := lw_g (lw_at lw_m9 121 rfl) rfl
theorem q2175 : (Jvm.Cond.selects "LastPebbleModel" ({ cls := "LastPebbleModel", name := "threat", desc := "(I)I" } : Jvm.MethodName) ({ cls := "LastPebbleModel", name := "threat", desc := "(I)I" } : Jvm.MethodName)) ∈ lw_all := lw_g (lw_at lw_m9 122 rfl) rfl
theorem q2176 : (Jvm.Cond.code ({ cls := "LastPebbleModel", name := "threat", desc := "(I)I" } : Jvm.MethodName) prog_17_method_130_code (3 : Nat) (Option.some Jvm.ClassFile.FieldType.int)) ∈ lw_all := lw_g (lw_at lw_m9 123 rfl) rfl
theorem q2177 : (Jvm.Cond.methodLink "LastPebbleModel" (393 : Nat) ({ cls := "LastPebbleModel", name := "threatTo", desc := "(I)I" } : Jvm.MethodName)) ∈ lw_all := lw_g (lw_at lw_m9 124 rfl) rfl
theorem q2178 : (Jvm.Cond.privateMethod ({ cls := "LastPebbleModel", name := "threatTo", desc := "(I)I" } : Jvm.MethodName)) ∈ lw_tbl := lw_at lw_m9 125 rfl
theorem q2179 : (Jvm.Cond.instanceMethod ({ cls := "LastPebbleModel", name := "threatTo", desc := "(I)I" } : Jvm.MethodName)) ∈ lw_all := lw_g (lw_at lw_m9 126 rfl) rfl
theorem q2180 : (Jvm.Cond.code ({ cls := "LastPebbleModel", name := "threatTo", desc := "(I)I" } : Jvm.MethodName) prog_17_method_129_code (4 : Nat) (Option.some Jvm.ClassFile.FieldType.int)) ∈ lw_all := lw_g (lw_at lw_m9 127 rfl) rfl
theorem q2182 : (Jvm.Cond.instanceMethod ({ cls := "LastPebbleModel", name := "safe", desc := "(I)I" } : Jvm.MethodName)) ∈ lw_all := lw_g (lw_at lw_m9 129 rfl) rfl
theorem q2183 : (Jvm.Cond.selects "LastPebbleModel" ({ cls := "LastPebbleModel", name := "safe", desc := "(I)I" } : Jvm.MethodName) ({ cls := "LastPebbleModel", name := "safe", desc := "(I)I" } : Jvm.MethodName)) ∈ lw_all := lw_g (lw_at lw_m9 130 rfl) rfl
theorem q2184 : (Jvm.Cond.code ({ cls := "LastPebbleModel", name := "safe", desc := "(I)I" } : Jvm.MethodName) prog_17_method_131_code (4 : Nat) (Option.some Jvm.ClassFile.FieldType.int)) ∈ lw_all := lw_g (lw_at lw_m9 131 rfl) rfl
theorem q2186 : (Jvm.Cond.instanceMethod ({ cls := "LastPebbleModel", name := "gain", desc := "(II)I" } : Jvm.MethodName)) ∈ lw_all := lw_g (lw_at lw_m9 133 rfl) rfl
theorem q2187 : (Jvm.Cond.selects "LastPebbleModel" ({ cls := "LastPebbleModel", name := "gain", desc := "(II)I" } : Jvm.MethodName) ({ cls := "LastPebbleModel", name := "gain", desc := "(II)I" } : Jvm.MethodName)) ∈ lw_all := lw_g (lw_at lw_m9 134 rfl) rfl
theorem q2188 : (Jvm.Cond.code ({ cls := "LastPebbleModel", name := "gain", desc := "(II)I" } : Jvm.MethodName) prog_17_method_132_code (3 : Nat) (Option.some Jvm.ClassFile.FieldType.int)) ∈ lw_all := lw_g (lw_at lw_m9 135 rfl) rfl
theorem q2190 : (Jvm.Cond.instanceMethod ({ cls := "LastPebbleModel", name := "best", desc := "(I)I" } : Jvm.MethodName)) ∈ lw_all := lw_g (lw_at lw_m9 137 rfl) rfl
theorem q2191 : (Jvm.Cond.selects "LastPebbleModel" ({ cls := "LastPebbleModel", name := "best", desc := "(I)I" } : Jvm.MethodName) ({ cls := "LastPebbleModel", name := "best", desc := "(I)I" } : Jvm.MethodName)) ∈ lw_all := lw_g (lw_at lw_m9 138 rfl) rfl
theorem q2192 : (Jvm.Cond.code ({ cls := "LastPebbleModel", name := "best", desc := "(I)I" } : Jvm.MethodName) prog_17_method_134_code (4 : Nat) (Option.some Jvm.ClassFile.FieldType.int)) ∈ lw_all := lw_g (lw_at lw_m9 139 rfl) rfl
theorem q2193 : (Jvm.Cond.methodLink "LastPebbleModel" (399 : Nat) ({ cls := "LastPebbleModel", name := "rounds", desc := "(II)I" } : Jvm.MethodName)) ∈ lw_all := lw_g (lw_at lw_m9 140 rfl) rfl
theorem q2194 : (Jvm.Cond.privateMethod ({ cls := "LastPebbleModel", name := "rounds", desc := "(II)I" } : Jvm.MethodName)) ∈ lw_tbl := lw_at lw_m9 141 rfl
theorem q2195 : (Jvm.Cond.instanceMethod ({ cls := "LastPebbleModel", name := "rounds", desc := "(II)I" } : Jvm.MethodName)) ∈ lw_all := lw_g (lw_at lw_m9 142 rfl) rfl
theorem q2196 : (Jvm.Cond.code ({ cls := "LastPebbleModel", name := "rounds", desc := "(II)I" } : Jvm.MethodName) prog_17_method_133_code (12 : Nat) (Option.some Jvm.ClassFile.FieldType.int)) ∈ lw_all := lw_g (lw_at lw_m9 143 rfl) rfl
theorem q2198 : (Jvm.Cond.instanceMethod ({ cls := "LastPebbleModel", name := "bestAt", desc := "(I)I" } : Jvm.MethodName)) ∈ lw_all := lw_g (lw_at lw_m9 145 rfl) rfl
theorem q2199 : (Jvm.Cond.selects "LastPebbleModel" ({ cls := "LastPebbleModel", name := "bestAt", desc := "(I)I" } : Jvm.MethodName) ({ cls := "LastPebbleModel", name := "bestAt", desc := "(I)I" } : Jvm.MethodName)) ∈ lw_all := lw_g (lw_at lw_m9 146 rfl) rfl
theorem q2200 : (Jvm.Cond.code ({ cls := "LastPebbleModel", name := "bestAt", desc := "(I)I" } : Jvm.MethodName) prog_17_method_135_code (2 : Nat) (Option.some Jvm.ClassFile.FieldType.int)) ∈ lw_all := lw_g (lw_at lw_m9 147 rfl) rfl
theorem q2202 : (Jvm.Cond.instanceMethod ({ cls := "LastPebbleModel", name := "lateness", desc := "(II)I" } : Jvm.MethodName)) ∈ lw_all := lw_g (lw_at lw_m9 149 rfl) rfl
theorem q2203 : (Jvm.Cond.selects "LastPebbleModel" ({ cls := "LastPebbleModel", name := "lateness", desc := "(II)I" } : Jvm.MethodName) ({ cls := "LastPebbleModel", name := "lateness", desc := "(II)I" } : Jvm.MethodName)) ∈ lw_all := lw_g (lw_at lw_m9 150 rfl) rfl
theorem q2204 : (Jvm.Cond.code ({ cls := "LastPebbleModel", name := "lateness", desc := "(II)I" } : Jvm.MethodName) prog_17_method_136_code (3 : Nat) (Option.some Jvm.ClassFile.FieldType.int)) ∈ lw_all := lw_g (lw_at lw_m9 151 rfl) rfl
theorem q2206 : (Jvm.Cond.instanceMethod ({ cls := "LastPebbleModel", name := "seen", desc := "(II)I" } : Jvm.MethodName)) ∈ lw_all := lw_g (lw_at lw_m9 153 rfl) rfl
theorem q2207 : (Jvm.Cond.selects "LastPebbleModel" ({ cls := "LastPebbleModel", name := "seen", desc := "(II)I" } : Jvm.MethodName) ({ cls := "LastPebbleModel", name := "seen", desc := "(II)I" } : Jvm.MethodName)) ∈ lw_all := lw_g (lw_at lw_m9 154 rfl) rfl
theorem q2208 : (Jvm.Cond.code ({ cls := "LastPebbleModel", name := "seen", desc := "(II)I" } : Jvm.MethodName) prog_17_method_138_code (3 : Nat) (Option.some Jvm.ClassFile.FieldType.int)) ∈ lw_all := lw_g (lw_at lw_m9 155 rfl) rfl
theorem q2210 : (Jvm.Cond.instanceMethod ({ cls := "LastPebbleModel", name := "boys", desc := "(I)I" } : Jvm.MethodName)) ∈ lw_all := lw_g (lw_at lw_m9 157 rfl) rfl
theorem q2211 : (Jvm.Cond.selects "LastPebbleModel" ({ cls := "LastPebbleModel", name := "boys", desc := "(I)I" } : Jvm.MethodName) ({ cls := "LastPebbleModel", name := "boys", desc := "(I)I" } : Jvm.MethodName)) ∈ lw_all := lw_g (lw_at lw_m9 158 rfl) rfl
theorem q2212 : (Jvm.Cond.code ({ cls := "LastPebbleModel", name := "boys", desc := "(I)I" } : Jvm.MethodName) prog_17_method_141_code (3 : Nat) (Option.some Jvm.ClassFile.FieldType.int)) ∈ lw_all := lw_g (lw_at lw_m9 159 rfl) rfl
theorem q2213 : (Jvm.Cond.methodLink "LastPebbleModel" (408 : Nat) ({ cls := "LastPebbleModel", name := "boy", desc := "(II)I" } : Jvm.MethodName)) ∈ lw_all := lw_g (lw_at lw_m9 160 rfl) rfl
theorem q2214 : (Jvm.Cond.privateMethod ({ cls := "LastPebbleModel", name := "boy", desc := "(II)I" } : Jvm.MethodName)) ∈ lw_tbl := lw_at lw_m9 161 rfl
theorem q2215 : (Jvm.Cond.instanceMethod ({ cls := "LastPebbleModel", name := "boy", desc := "(II)I" } : Jvm.MethodName)) ∈ lw_all := lw_g (lw_at lw_m9 162 rfl) rfl
theorem q2216 : (Jvm.Cond.code ({ cls := "LastPebbleModel", name := "boy", desc := "(II)I" } : Jvm.MethodName) prog_17_method_140_code (5 : Nat) (Option.some Jvm.ClassFile.FieldType.int)) ∈ lw_all := lw_g (lw_at lw_m9 163 rfl) rfl
theorem q2217 : (Jvm.Cond.methodLink "LastPebbleModel" (405 : Nat) ({ cls := "LastPebbleModel", name := "boyFrom", desc := "(II)I" } : Jvm.MethodName)) ∈ lw_all := lw_g (lw_at lw_m9 164 rfl) rfl
theorem q2218 : (Jvm.Cond.privateMethod ({ cls := "LastPebbleModel", name := "boyFrom", desc := "(II)I" } : Jvm.MethodName)) ∈ lw_tbl := lw_at lw_m9 165 rfl
theorem q2219 : (Jvm.Cond.instanceMethod ({ cls := "LastPebbleModel", name := "boyFrom", desc := "(II)I" } : Jvm.MethodName)) ∈ lw_all := lw_g (lw_at lw_m9 166 rfl) rfl
theorem q2220 : (Jvm.Cond.code ({ cls := "LastPebbleModel", name := "boyFrom", desc := "(II)I" } : Jvm.MethodName) prog_17_method_139_code (5 : Nat) (Option.some Jvm.ClassFile.FieldType.int)) ∈ lw_all := lw_g (lw_at lw_m9 167 rfl) rfl
theorem q2222 : (Jvm.Cond.instanceMethod ({ cls := "LastPebbleModel", name := "boyAt", desc := "(II)I" } : Jvm.MethodName)) ∈ lw_all := lw_g (lw_at lw_m9 169 rfl) rfl
theorem q2223 : (Jvm.Cond.selects "LastPebbleModel" ({ cls := "LastPebbleModel", name := "boyAt", desc := "(II)I" } : Jvm.MethodName) ({ cls := "LastPebbleModel", name := "boyAt", desc := "(II)I" } : Jvm.MethodName)) ∈ lw_all := lw_g (lw_at lw_m9 170 rfl) rfl
theorem q2224 : (Jvm.Cond.code ({ cls := "LastPebbleModel", name := "boyAt", desc := "(II)I" } : Jvm.MethodName) prog_17_method_142_code (3 : Nat) (Option.some Jvm.ClassFile.FieldType.int)) ∈ lw_all := lw_g (lw_at lw_m9 171 rfl) rfl
theorem q2226 : (Jvm.Cond.instanceMethod ({ cls := "LastPebbleModel", name := "odds", desc := "(III)Z" } : Jvm.MethodName)) ∈ lw_all := lw_g (lw_at lw_m9 173 rfl) rfl
theorem q2227 : (Jvm.Cond.selects "LastPebbleModel" ({ cls := "LastPebbleModel", name := "odds", desc := "(III)Z" } : Jvm.MethodName) ({ cls := "LastPebbleModel", name := "odds", desc := "(III)Z" } : Jvm.MethodName)) ∈ lw_all := lw_g (lw_at lw_m9 174 rfl) rfl
theorem q2228 : (Jvm.Cond.code ({ cls := "LastPebbleModel", name := "odds", desc := "(III)Z" } : Jvm.MethodName) prog_17_method_143_code (10 : Nat) (Option.some Jvm.ClassFile.FieldType.boolean)) ∈ lw_all := lw_g (lw_at lw_m9 175 rfl) rfl
theorem q2229 : (Jvm.Cond.constantLong "LastPebbleModel" (411 : Nat) (16 : Int64)) ∈ lw_all := lw_g (lw_at lw_m9 176 rfl) rfl
theorem q2230 : (Jvm.Cond.methodLink "LastPebbleModel" (413 : Nat) ({ cls := "LastPebbleModel", name := "tellsBy", desc := "(JJ)Z" } : Jvm.MethodName)) ∈ lw_all := lw_g (lw_at lw_m9 177 rfl) rfl
theorem q2231 : (Jvm.Cond.privateMethod ({ cls := "LastPebbleModel", name := "tellsBy", desc := "(JJ)Z" } : Jvm.MethodName)) ∈ lw_tbl := lw_at lw_m9 178 rfl
theorem q2232 : (Jvm.Cond.instanceMethod ({ cls := "LastPebbleModel", name := "tellsBy", desc := "(JJ)Z" } : Jvm.MethodName)) ∈ lw_all := lw_g (lw_at lw_m9 179 rfl) rfl
theorem q2233 : (Jvm.Cond.code ({ cls := "LastPebbleModel", name := "tellsBy", desc := "(JJ)Z" } : Jvm.MethodName) prog_17_method_10_code (11 : Nat) (Option.some Jvm.ClassFile.FieldType.boolean)) ∈ lw_all := lw_g (lw_at lw_m9 180 rfl) rfl
theorem q2235 : (Jvm.Cond.instanceMethod ({ cls := "LastPebbleModel", name := "gulls", desc := "(I)I" } : Jvm.MethodName)) ∈ lw_all := lw_g (lw_at lw_m9 182 rfl) rfl
theorem q2236 : (Jvm.Cond.selects "LastPebbleModel" ({ cls := "LastPebbleModel", name := "gulls", desc := "(I)I" } : Jvm.MethodName) ({ cls := "LastPebbleModel", name := "gulls", desc := "(I)I" } : Jvm.MethodName)) ∈ lw_all := lw_g (lw_at lw_m9 183 rfl) rfl
theorem q2237 : (Jvm.Cond.code ({ cls := "LastPebbleModel", name := "gulls", desc := "(I)I" } : Jvm.MethodName) prog_17_method_144_code (6 : Nat) (Option.some Jvm.ClassFile.FieldType.int)) ∈ lw_all := lw_g (lw_at lw_m9 184 rfl) rfl
theorem q2238 : (Jvm.Cond.constantLong "LastPebbleModel" (417 : Nat) (60 : Int64)) ∈ lw_all := lw_g (lw_at lw_m9 185 rfl) rfl
theorem q2240 : (Jvm.Cond.instanceMethod ({ cls := "LastPebbleModel", name := "live", desc := "(I)I" } : Jvm.MethodName)) ∈ lw_all := lw_g (lw_at lw_m9 187 rfl) rfl
theorem q2241 : (Jvm.Cond.selects "LastPebbleModel" ({ cls := "LastPebbleModel", name := "live", desc := "(I)I" } : Jvm.MethodName) ({ cls := "LastPebbleModel", name := "live", desc := "(I)I" } : Jvm.MethodName)) ∈ lw_all := lw_g (lw_at lw_m9 188 rfl) rfl
theorem q2242 : (Jvm.Cond.code ({ cls := "LastPebbleModel", name := "live", desc := "(I)I" } : Jvm.MethodName) prog_17_method_151_code (3 : Nat) (Option.some Jvm.ClassFile.FieldType.int)) ∈ lw_all := lw_g (lw_at lw_m9 189 rfl) rfl
theorem q2243 : (Jvm.Cond.constantLong "LastPebbleModel" (441 : Nat) (9999 : Int64)) ∈ lw_all := lw_g (lw_at lw_m9 190 rfl) rfl
theorem q2244 : (Jvm.Cond.methodLink "LastPebbleModel" (443 : Nat) ({ cls := "LastPebbleModel", name := "lives", desc := "(I)V" } : Jvm.MethodName)) ∈ lw_all := lw_g (lw_at lw_m9 191 rfl) rfl
theorem q2245 : (Jvm.Cond.privateMethod ({ cls := "LastPebbleModel", name := "lives", desc := "(I)V" } : Jvm.MethodName)) ∈ lw_tbl := lw_at lw_m9 192 rfl
theorem q2246 : (Jvm.Cond.instanceMethod ({ cls := "LastPebbleModel", name := "lives", desc := "(I)V" } : Jvm.MethodName)) ∈ lw_all := lw_g (lw_at lw_m9 193 rfl) rfl
theorem q2247 : (Jvm.Cond.code ({ cls := "LastPebbleModel", name := "lives", desc := "(I)V" } : Jvm.MethodName) prog_17_method_150_code (4 : Nat) (Option.none : Option Jvm.ClassFile.FieldType)) ∈ lw_all := lw_g (lw_at lw_m9 194 rfl) rfl
theorem q2248 : (Jvm.Cond.methodLink "LastPebbleModel" (432 : Nat) ({ cls := "LastPebbleModel", name := "does", desc := "(I)Z" } : Jvm.MethodName)) ∈ lw_all := lw_g (lw_at lw_m9 195 rfl) rfl
theorem q2249 : (Jvm.Cond.privateMethod ({ cls := "LastPebbleModel", name := "does", desc := "(I)Z" } : Jvm.MethodName)) ∈ lw_tbl := lw_at lw_m9 196 rfl
theorem q2250 : (Jvm.Cond.instanceMethod ({ cls := "LastPebbleModel", name := "does", desc := "(I)Z" } : Jvm.MethodName)) ∈ lw_all := lw_g (lw_at lw_m9 197 rfl) rfl
theorem q2251 : (Jvm.Cond.code ({ cls := "LastPebbleModel", name := "does", desc := "(I)Z" } : Jvm.MethodName) prog_17_method_147_code (4 : Nat) (Option.some Jvm.ClassFile.FieldType.boolean)) ∈ lw_all := lw_g (lw_at lw_m9 198 rfl) rfl
theorem q2252 : (Jvm.Cond.methodLink "LastPebbleModel" (426 : Nat) ({ cls := "LastPebbleModel", name := "gullComes", desc := "(I)V" } : Jvm.MethodName)) ∈ lw_all := lw_g (lw_at lw_m9 199 rfl) rfl
theorem q2253 : (Jvm.Cond.privateMethod ({ cls := "LastPebbleModel", name := "gullComes", desc := "(I)V" } : Jvm.MethodName)) ∈ lw_tbl := lw_at lw_m9 200 rfl
theorem q2254 : (Jvm.Cond.instanceMethod ({ cls := "LastPebbleModel", name := "gullComes", desc := "(I)V" } : Jvm.MethodName)) ∈ lw_all := lw_g (lw_at lw_m9 201 rfl) rfl
theorem q2255 : (Jvm.Cond.code ({ cls := "LastPebbleModel", name := "gullComes", desc := "(I)V" } : Jvm.MethodName) prog_17_method_146_code (4 : Nat) (Option.none : Option Jvm.ClassFile.FieldType)) ∈ lw_all := lw_g (lw_at lw_m9 202 rfl) rfl
theorem q2256 : (Jvm.Cond.methodLink "LastPebbleModel" (423 : Nat) ({ cls := "LastPebbleModel", name := "draw", desc := "(I)I" } : Jvm.MethodName)) ∈ lw_all := lw_g (lw_at lw_m9 203 rfl) rfl
theorem q2257 : (Jvm.Cond.privateMethod ({ cls := "LastPebbleModel", name := "draw", desc := "(I)I" } : Jvm.MethodName)) ∈ lw_tbl := lw_at lw_m9 204 rfl
theorem q2258 : (Jvm.Cond.instanceMethod ({ cls := "LastPebbleModel", name := "draw", desc := "(I)I" } : Jvm.MethodName)) ∈ lw_all := lw_g (lw_at lw_m9 205 rfl) rfl
theorem q2259 : (Jvm.Cond.code ({ cls := "LastPebbleModel", name := "draw", desc := "(I)I" } : Jvm.MethodName) prog_17_method_145_code (2 : Nat) (Option.some Jvm.ClassFile.FieldType.int)) ∈ lw_all := lw_g (lw_at lw_m9 206 rfl) rfl
theorem q2260 : (Jvm.Cond.constant "LastPebbleModel" (422 : Nat) (65536 : Int32)) ∈ lw_all := lw_g (lw_at lw_m9 207 rfl) rfl
theorem q2261 : (Jvm.Cond.methodLink "LastPebbleModel" (435 : Nat) ({ cls := "LastPebbleModel", name := "holds", desc := "(I)Z" } : Jvm.MethodName)) ∈ lw_all := lw_g (lw_at lw_m9 208 rfl) rfl
theorem q2262 : (Jvm.Cond.privateMethod ({ cls := "LastPebbleModel", name := "holds", desc := "(I)Z" } : Jvm.MethodName)) ∈ lw_tbl := lw_at lw_m9 209 rfl
theorem q2263 : (Jvm.Cond.instanceMethod ({ cls := "LastPebbleModel", name := "holds", desc := "(I)Z" } : Jvm.MethodName)) ∈ lw_all := lw_g (lw_at lw_m9 210 rfl) rfl
theorem q2264 : (Jvm.Cond.code ({ cls := "LastPebbleModel", name := "holds", desc := "(I)Z" } : Jvm.MethodName) prog_17_method_148_code (6 : Nat) (Option.some Jvm.ClassFile.FieldType.boolean)) ∈ lw_all := lw_g (lw_at lw_m9 211 rfl) rfl
theorem q2265 : (Jvm.Cond.methodLink "LastPebbleModel" (438 : Nat) ({ cls := "LastPebbleModel", name := "behindEnds", desc := "(I)I" } : Jvm.MethodName)) ∈ lw_all := lw_g (lw_at lw_m9 212 rfl) rfl
theorem q2266 : (Jvm.Cond.privateMethod ({ cls := "LastPebbleModel", name := "behindEnds", desc := "(I)I" } : Jvm.MethodName)) ∈ lw_tbl := lw_at lw_m9 213 rfl
theorem q2267 : (Jvm.Cond.instanceMethod ({ cls := "LastPebbleModel", name := "behindEnds", desc := "(I)I" } : Jvm.MethodName)) ∈ lw_all := lw_g (lw_at lw_m9 214 rfl) rfl
theorem q2268 : (Jvm.Cond.code ({ cls := "LastPebbleModel", name := "behindEnds", desc := "(I)I" } : Jvm.MethodName) prog_17_method_149_code (5 : Nat) (Option.some Jvm.ClassFile.FieldType.int)) ∈ lw_all := lw_g (lw_at lw_m9 215 rfl) rfl
theorem q2270 : (Jvm.Cond.instanceMethod ({ cls := "LastPebbleModel", name := "lived", desc := "(I)I" } : Jvm.MethodName)) ∈ lw_all := lw_g (lw_at lw_m9 217 rfl) rfl
theorem q2271 : (Jvm.Cond.selects "LastPebbleModel" ({ cls := "LastPebbleModel", name := "lived", desc := "(I)I" } : Jvm.MethodName) ({ cls := "LastPebbleModel", name := "lived", desc := "(I)I" } : Jvm.MethodName)) ∈ lw_all := lw_g (lw_at lw_m9 218 rfl) rfl
theorem q2272 : (Jvm.Cond.code ({ cls := "LastPebbleModel", name := "lived", desc := "(I)I" } : Jvm.MethodName) prog_17_method_152_code (2 : Nat) (Option.some Jvm.ClassFile.FieldType.int)) ∈ lw_all := lw_g (lw_at lw_m9 219 rfl) rfl
theorem q2274 : (Jvm.Cond.instanceMethod ({ cls := "LastPebbleModel", name := "mean", desc := "(III)Z" } : Jvm.MethodName)) ∈ lw_all := lw_g (lw_at lw_m9 221 rfl) rfl
theorem q2275 : (Jvm.Cond.selects "LastPebbleModel" ({ cls := "LastPebbleModel", name := "mean", desc := "(III)Z" } : Jvm.MethodName) ({ cls := "LastPebbleModel", name := "mean", desc := "(III)Z" } : Jvm.MethodName)) ∈ lw_all := lw_g (lw_at lw_m9 222 rfl) rfl
theorem q2276 : (Jvm.Cond.code ({ cls := "LastPebbleModel", name := "mean", desc := "(III)Z" } : Jvm.MethodName) prog_17_method_153_code (8 : Nat) (Option.some Jvm.ClassFile.FieldType.boolean)) ∈ lw_all := lw_g (lw_at lw_m9 223 rfl) rfl
theorem q2277 : (Jvm.Cond.constantLong "LastPebbleModel" (449 : Nat) (20 : Int64)) ∈ lw_all := lw_g (lw_at lw_m9 224 rfl) rfl
theorem q2279 : (Jvm.Cond.instanceMethod ({ cls := "LastPebbleModel", name := "mark", desc := "()I" } : Jvm.MethodName)) ∈ lw_all := lw_g (lw_at lw_m9 226 rfl) rfl
theorem q2280 : (Jvm.Cond.selects "LastPebbleModel" ({ cls := "LastPebbleModel", name := "mark", desc := "()I" } : Jvm.MethodName) ({ cls := "LastPebbleModel", name := "mark", desc := "()I" } : Jvm.MethodName)) ∈ lw_all := lw_g (lw_at lw_m9 227 rfl) rfl
theorem q2281 : (Jvm.Cond.code ({ cls := "LastPebbleModel", name := "mark", desc := "()I" } : Jvm.MethodName) prog_17_method_155_code (1 : Nat) (Option.some Jvm.ClassFile.FieldType.int)) ∈ lw_all := lw_g (lw_at lw_m9 228 rfl) rfl
theorem q2282 : (Jvm.Cond.methodLink "LastPebbleModel" (454 : Nat) ({ cls := "LastPebbleModel", name := "copies", desc := "(II)V" } : Jvm.MethodName)) ∈ lw_all := lw_g (lw_at lw_m9 229 rfl) rfl
theorem q2283 : (Jvm.Cond.privateMethod ({ cls := "LastPebbleModel", name := "copies", desc := "(II)V" } : Jvm.MethodName)) ∈ lw_tbl := lw_at lw_m9 230 rfl
theorem q2284 : (Jvm.Cond.instanceMethod ({ cls := "LastPebbleModel", name := "copies", desc := "(II)V" } : Jvm.MethodName)) ∈ lw_all := lw_g (lw_at lw_m9 231 rfl) rfl
theorem q2285 : (Jvm.Cond.code ({ cls := "LastPebbleModel", name := "copies", desc := "(II)V" } : Jvm.MethodName) prog_17_method_154_code (4 : Nat) (Option.none : Option Jvm.ClassFile.FieldType)) ∈ lw_all := lw_g (lw_at lw_m9 232 rfl) rfl
theorem q2287 : (Jvm.Cond.instanceMethod ({ cls := "LastPebbleModel", name := "back", desc := "()I" } : Jvm.MethodName)) ∈ lw_all := lw_g (lw_at lw_m9 234 rfl) rfl
theorem q2288 : (Jvm.Cond.selects "LastPebbleModel" ({ cls := "LastPebbleModel", name := "back", desc := "()I" } : Jvm.MethodName) ({ cls := "LastPebbleModel", name := "back", desc := "()I" } : Jvm.MethodName)) ∈ lw_all := lw_g (lw_at lw_m9 235 rfl) rfl
theorem q2289 : (Jvm.Cond.code ({ cls := "LastPebbleModel", name := "back", desc := "()I" } : Jvm.MethodName) prog_17_method_156_code (1 : Nat) (Option.some Jvm.ClassFile.FieldType.int)) ∈ lw_all := lw_g (lw_at lw_m9 236 rfl) rfl
theorem in_X8 : ∀ w ∈ wsX80, w ∈ lw_all := lw_in wsX80 [1590, 1592, 1594, 1596, 1598, 1600, 1602, 1604, 1606, 1608, 1610, 1612, 1614, 1616, 1618, 1620, 1622, 1624, 1626, 1628, 1630, 1632, 1634, 1636, 1638, 1640, 1642, 1644, 1646, 1648, 1650, 1652, 1654, 1656, 1658, 1660, 1662, 1664] (by decide +kernel) (by decide +kernel)

/-! java/lang/RuntimeException -/
set_option maxRecDepth 100000
def RJ2 : String := "java/lang/RuntimeException"
theorem q145 : (Jvm.Cond.initialized "java/lang/RuntimeException") ∈ lw_all := lw_g (lw_at lw_m1 12 rfl) rfl
theorem q555 : (Jvm.Cond.instanceMethod ({ cls := "java/lang/RuntimeException", name := "<init>", desc := "(Ljava/lang/String;)V" } : Jvm.MethodName)) ∈ lw_all := lw_g (lw_at lw_m2 182 rfl) rfl
theorem q556 : (Jvm.Cond.code ({ cls := "java/lang/RuntimeException", name := "<init>", desc := "(Ljava/lang/String;)V" } : Jvm.MethodName) prog_25_method_2_code (2 : Nat) (Option.none : Option Jvm.ClassFile.FieldType)) ∈ lw_all := lw_g (lw_at lw_m2 183 rfl) rfl
theorem q557 : (Jvm.Cond.methodLink "java/lang/RuntimeException" (7 : Nat) ({ cls := "java/lang/Exception", name := "<init>", desc := "(Ljava/lang/String;)V" } : Jvm.MethodName)) ∈ lw_all := lw_g (lw_at lw_m2 184 rfl) rfl
theorem q571 : (Jvm.Cond.declares ({ cls := "java/lang/RuntimeException", name := "<init>", desc := "()V" } : Jvm.MethodName)) ∈ lw_tbl := lw_at lw_m2 198 rfl
theorem q572 : (Jvm.Cond.declares ({ cls := "java/lang/RuntimeException", name := "<init>", desc := "(Ljava/lang/String;)V" } : Jvm.MethodName)) ∈ lw_tbl := lw_at lw_m2 199 rfl

/-! java/lang/NegativeArraySizeException -/
set_option maxRecDepth 100000
def RJ3 : String := "java/lang/NegativeArraySizeException"
def TJ3 : u_T := fun k => match k with
  | 0 => ("java/lang/Throwable", "backtrace", "Ljava/lang/Object;", false)
  | 1 => ("java/lang/Throwable", "detailMessage", "Ljava/lang/String;", false)
  | 2 => ("java/lang/Throwable", "cause", "Ljava/lang/Throwable;", false)
  | 3 => ("java/lang/Throwable", "stackTrace", "[Ljava/lang/StackTraceElement;", false)
  | 4 => ("java/lang/Throwable", "depth", "I", false)
  | _ => ("java/lang/Throwable", "suppressedExceptions", "Ljava/util/List;", false)
def tyJ3 : Nat → FieldType := fun k => match k with
  | 0 => .object "java/lang/Object"
  | 1 => .object "java/lang/String"
  | 2 => .object "java/lang/Throwable"
  | 3 => .array (.object "java/lang/StackTraceElement")
  | 4 => .int
  | _ => .object "java/util/List"
abbrev wsJ30 : List Cond := u_ws RJ3 TJ3 6
theorem nmJ3 : ∀ a, a < 6 → ∀ b, b < 6 → a ≠ b → (TJ3 a).2.1 ≠ (TJ3 b).2.1 := by decide +kernel
theorem tyJ3_ok : ∀ k, k < 6 → parseFieldDescriptor (TJ3 k).2.2.1 = some (tyJ3 k) := by decide +kernel
theorem q146 : (Jvm.Cond.initialized "java/lang/NegativeArraySizeException") ∈ lw_all := lw_g (lw_at lw_m1 13 rfl) rfl
theorem q216 : (Jvm.Cond.selects "java/lang/NegativeArraySizeException" ({ cls := "java/lang/Throwable", name := "fillInStackTrace", desc := "()Ljava/lang/Throwable;" } : Jvm.MethodName) ({ cls := "java/lang/Throwable", name := "fillInStackTrace", desc := "()Ljava/lang/Throwable;" } : Jvm.MethodName)) ∈ lw_all := lw_g (lw_at lw_m1 83 rfl) rfl
theorem q551 : (Jvm.Cond.instantiable "java/lang/NegativeArraySizeException" (6 : Nat)) ∈ lw_all := lw_g (lw_at lw_m2 178 rfl) rfl
theorem q552 : (Jvm.Cond.instanceMethod ({ cls := "java/lang/NegativeArraySizeException", name := "<init>", desc := "(Ljava/lang/String;)V" } : Jvm.MethodName)) ∈ lw_all := lw_g (lw_at lw_m2 179 rfl) rfl
theorem q553 : (Jvm.Cond.code ({ cls := "java/lang/NegativeArraySizeException", name := "<init>", desc := "(Ljava/lang/String;)V" } : Jvm.MethodName) prog_24_method_2_code (2 : Nat) (Option.none : Option Jvm.ClassFile.FieldType)) ∈ lw_all := lw_g (lw_at lw_m2 180 rfl) rfl
theorem q554 : (Jvm.Cond.methodLink "java/lang/NegativeArraySizeException" (7 : Nat) ({ cls := "java/lang/RuntimeException", name := "<init>", desc := "(Ljava/lang/String;)V" } : Jvm.MethodName)) ∈ lw_all := lw_g (lw_at lw_m2 181 rfl) rfl
theorem q563 : (Jvm.Cond.lays "java/lang/NegativeArraySizeException" "java/lang/Throwable" "backtrace" "Ljava/lang/Object;") ∈ lw_all := lw_g (lw_at lw_m2 190 rfl) rfl
theorem q564 : (Jvm.Cond.lays "java/lang/NegativeArraySizeException" "java/lang/Throwable" "detailMessage" "Ljava/lang/String;") ∈ lw_all := lw_g (lw_at lw_m2 191 rfl) rfl
theorem q565 : (Jvm.Cond.lays "java/lang/NegativeArraySizeException" "java/lang/Throwable" "cause" "Ljava/lang/Throwable;") ∈ lw_all := lw_g (lw_at lw_m2 192 rfl) rfl
theorem q566 : (Jvm.Cond.lays "java/lang/NegativeArraySizeException" "java/lang/Throwable" "stackTrace" "[Ljava/lang/StackTraceElement;") ∈ lw_all := lw_g (lw_at lw_m2 193 rfl) rfl
theorem q567 : (Jvm.Cond.lays "java/lang/NegativeArraySizeException" "java/lang/Throwable" "depth" "I") ∈ lw_all := lw_g (lw_at lw_m2 194 rfl) rfl
theorem q568 : (Jvm.Cond.lays "java/lang/NegativeArraySizeException" "java/lang/Throwable" "suppressedExceptions" "Ljava/util/List;") ∈ lw_all := lw_g (lw_at lw_m2 195 rfl) rfl
theorem q569 : (Jvm.Cond.superclass "java/lang/NegativeArraySizeException" "java/lang/RuntimeException") ∈ lw_all := lw_g (lw_at lw_m2 196 rfl) rfl
theorem q570 : (Jvm.Cond.castable "java/lang/NegativeArraySizeException" "java/lang/NegativeArraySizeException") ∈ lw_tbl := lw_at lw_m2 197 rfl
theorem q573 : (Jvm.Cond.selects "java/lang/NegativeArraySizeException" ({ cls := "java/lang/Throwable", name := "fillInStackTrace", desc := "(I)Ljava/lang/Throwable;" } : Jvm.MethodName) ({ cls := "java/lang/Throwable", name := "fillInStackTrace", desc := "(I)Ljava/lang/Throwable;" } : Jvm.MethodName)) ∈ lw_all := lw_g (lw_at lw_m2 200 rfl) rfl
theorem in_J3 : ∀ w ∈ wsJ30, w ∈ lw_all := lw_in wsJ30 [563, 564, 565, 566, 567, 568] (by decide +kernel) (by decide +kernel)

/-! java/lang/String -/
set_option maxRecDepth 100000
def RJ4 : String := "java/lang/String"
def TJ4 : u_T := fun k => match k with
  | 0 => ("java/lang/String", "value", "[B", true)
  | _ => ("java/lang/String", "coder", "B", true)
def tyJ4 : Nat → FieldType := fun k => match k with
  | 0 => .array .byte
  | _ => .byte
abbrev wsJ40 : List Cond := u_ws RJ4 TJ4 2
theorem nmJ4 : ∀ a, a < 2 → ∀ b, b < 2 → a ≠ b → (TJ4 a).2.1 ≠ (TJ4 b).2.1 := by decide +kernel
theorem tyJ4_ok : ∀ k, k < 2 → parseFieldDescriptor (TJ4 k).2.2.1 = some (tyJ4 k) := by decide +kernel
theorem q147 : (Jvm.Cond.initialized "java/lang/String") ∈ lw_all := lw_g (lw_at lw_m1 14 rfl) rfl
theorem q574 : (Jvm.Cond.instantiable "java/lang/String" (4 : Nat)) ∈ lw_all := lw_g (lw_at lw_m2 201 rfl) rfl
theorem q575 : (Jvm.Cond.laysFinal "java/lang/String" "java/lang/String" "value" "[B") ∈ lw_all := lw_g (lw_at lw_m2 202 rfl) rfl
theorem q576 : (Jvm.Cond.soleField "java/lang/String" "value") ∈ lw_all := lw_g (lw_at lw_m2 203 rfl) rfl
theorem q577 : (Jvm.Cond.laysFinal "java/lang/String" "java/lang/String" "coder" "B") ∈ lw_all := lw_g (lw_at lw_m2 204 rfl) rfl
theorem q578 : (Jvm.Cond.soleField "java/lang/String" "coder") ∈ lw_all := lw_g (lw_at lw_m2 205 rfl) rfl
theorem q732 : (Jvm.Cond.instanceMethod ({ cls := "java/lang/String", name := "length", desc := "()I" } : Jvm.MethodName)) ∈ lw_all := lw_g (lw_at lw_m3 119 rfl) rfl
theorem q733 : (Jvm.Cond.selects "java/lang/String" ({ cls := "java/lang/String", name := "length", desc := "()I" } : Jvm.MethodName) ({ cls := "java/lang/String", name := "length", desc := "()I" } : Jvm.MethodName)) ∈ lw_all := lw_g (lw_at lw_m3 120 rfl) rfl
theorem q734 : (Jvm.Cond.code ({ cls := "java/lang/String", name := "length", desc := "()I" } : Jvm.MethodName) prog_26_method_54_code (1 : Nat) (Option.some Jvm.ClassFile.FieldType.int)) ∈ lw_all := lw_g (lw_at lw_m3 121 rfl) rfl
theorem q735 : (Jvm.Cond.methodLink "java/lang/String" (335 : Nat) ({ cls := "java/lang/String", name := "coder", desc := "()B" } : Jvm.MethodName)) ∈ lw_all := lw_g (lw_at lw_m3 122 rfl) rfl
theorem q736 : (Jvm.Cond.instanceMethod ({ cls := "java/lang/String", name := "coder", desc := "()B" } : Jvm.MethodName)) ∈ lw_all := lw_g (lw_at lw_m3 123 rfl) rfl
theorem q737 : (Jvm.Cond.selects "java/lang/String" ({ cls := "java/lang/String", name := "coder", desc := "()B" } : Jvm.MethodName) ({ cls := "java/lang/String", name := "coder", desc := "()B" } : Jvm.MethodName)) ∈ lw_all := lw_g (lw_at lw_m3 124 rfl) rfl
theorem q738 : (Jvm.Cond.code ({ cls := "java/lang/String", name := "coder", desc := "()B" } : Jvm.MethodName) prog_26_method_152_code (1 : Nat) (Option.some Jvm.ClassFile.FieldType.byte)) ∈ lw_all := lw_g (lw_at lw_m3 125 rfl) rfl
theorem q739 : (Jvm.Cond.fieldLink "java/lang/String" (38 : Nat) "java/lang/String" "COMPACT_STRINGS" "Z") ∈ lw_all := lw_g (lw_at lw_m3 126 rfl) rfl
theorem q740 : (Jvm.Cond.laysStatic "java/lang/String" "COMPACT_STRINGS" "Z") ∈ lw_tbl := lw_at lw_m3 127 rfl
theorem q742 : (Jvm.Cond.instanceMethod ({ cls := "java/lang/String", name := "charAt", desc := "(I)C" } : Jvm.MethodName)) ∈ lw_all := lw_g (lw_at lw_m3 129 rfl) rfl
theorem q743 : (Jvm.Cond.selects "java/lang/String" ({ cls := "java/lang/String", name := "charAt", desc := "(I)C" } : Jvm.MethodName) ({ cls := "java/lang/String", name := "charAt", desc := "(I)C" } : Jvm.MethodName)) ∈ lw_all := lw_g (lw_at lw_m3 130 rfl) rfl
theorem q744 : (Jvm.Cond.code ({ cls := "java/lang/String", name := "charAt", desc := "(I)C" } : Jvm.MethodName) prog_26_method_56_code (2 : Nat) (Option.some Jvm.ClassFile.FieldType.char)) ∈ lw_all := lw_g (lw_at lw_m3 131 rfl) rfl
theorem q745 : (Jvm.Cond.methodLink "java/lang/String" (492 : Nat) ({ cls := "java/lang/String", name := "isLatin1", desc := "()Z" } : Jvm.MethodName)) ∈ lw_all := lw_g (lw_at lw_m3 132 rfl) rfl
theorem q746 : (Jvm.Cond.instanceMethod ({ cls := "java/lang/String", name := "isLatin1", desc := "()Z" } : Jvm.MethodName)) ∈ lw_all := lw_g (lw_at lw_m3 133 rfl) rfl
theorem q747 : (Jvm.Cond.selects "java/lang/String" ({ cls := "java/lang/String", name := "isLatin1", desc := "()Z" } : Jvm.MethodName) ({ cls := "java/lang/String", name := "isLatin1", desc := "()Z" } : Jvm.MethodName)) ∈ lw_all := lw_g (lw_at lw_m3 134 rfl) rfl
theorem q748 : (Jvm.Cond.code ({ cls := "java/lang/String", name := "isLatin1", desc := "()Z" } : Jvm.MethodName) prog_26_method_154_code (1 : Nat) (Option.some Jvm.ClassFile.FieldType.boolean)) ∈ lw_all := lw_g (lw_at lw_m3 135 rfl) rfl
theorem q749 : (Jvm.Cond.methodLink "java/lang/String" (495 : Nat) ({ cls := "java/lang/StringLatin1", name := "charAt", desc := "([BI)C" } : Jvm.MethodName)) ∈ lw_all := lw_g (lw_at lw_m3 136 rfl) rfl
theorem q753 : (Jvm.Cond.static ({ cls := "java/lang/String", name := "checkIndex", desc := "(II)V" } : Jvm.MethodName)) ∈ lw_all := lw_g (lw_at lw_m3 140 rfl) rfl
theorem q754 : (Jvm.Cond.code ({ cls := "java/lang/String", name := "checkIndex", desc := "(II)V" } : Jvm.MethodName) prog_26_method_155_code (2 : Nat) (Option.none : Option Jvm.ClassFile.FieldType)) ∈ lw_all := lw_g (lw_at lw_m3 141 rfl) rfl
theorem q755 : (Jvm.Cond.fieldLink "java/lang/String" (1053 : Nat) "jdk/internal/util/Preconditions" "SIOOBE_FORMATTER" "Ljava/util/function/BiFunction;") ∈ lw_all := lw_g (lw_at lw_m3 142 rfl) rfl
theorem q757 : (Jvm.Cond.methodLink "java/lang/String" (1059 : Nat) ({ cls := "jdk/internal/util/Preconditions", name := "checkIndex", desc := "(IILjava/util/function/BiFunction;)I" } : Jvm.MethodName)) ∈ lw_all := lw_g (lw_at lw_m3 144 rfl) rfl
theorem q760 : (Jvm.Cond.methodLink "java/lang/String" (498 : Nat) ({ cls := "java/lang/StringUTF16", name := "charAt", desc := "([BI)C" } : Jvm.MethodName)) ∈ lw_all := lw_g (lw_at lw_m3 147 rfl) rfl
theorem q2296 : (Jvm.Cond.fieldLink "java/lang/String" (9 : Nat) "java/lang/String" "value" "[B") ∈ lw_all := lw_g (lw_at lw_m10 3 rfl) rfl
theorem q2297 : (Jvm.Cond.fieldLink "java/lang/String" (15 : Nat) "java/lang/String" "coder" "B") ∈ lw_all := lw_g (lw_at lw_m10 4 rfl) rfl
theorem in_J4 : ∀ w ∈ wsJ40, w ∈ lw_all := lw_in wsJ40 [575, 577] (by decide +kernel) (by decide +kernel)

/-! java/lang/IndexOutOfBoundsException -/
set_option maxRecDepth 100000
def RJ5 : String := "java/lang/IndexOutOfBoundsException"
theorem q148 : (Jvm.Cond.initialized "java/lang/IndexOutOfBoundsException") ∈ lw_all := lw_g (lw_at lw_m1 15 rfl) rfl
theorem q604 : (Jvm.Cond.instanceMethod ({ cls := "java/lang/IndexOutOfBoundsException", name := "<init>", desc := "(Ljava/lang/String;)V" } : Jvm.MethodName)) ∈ lw_all := lw_g (lw_at lw_m2 231 rfl) rfl
theorem q605 : (Jvm.Cond.code ({ cls := "java/lang/IndexOutOfBoundsException", name := "<init>", desc := "(Ljava/lang/String;)V" } : Jvm.MethodName) prog_20_method_2_code (2 : Nat) (Option.none : Option Jvm.ClassFile.FieldType)) ∈ lw_all := lw_g (lw_at lw_m2 232 rfl) rfl
theorem q606 : (Jvm.Cond.methodLink "java/lang/IndexOutOfBoundsException" (7 : Nat) ({ cls := "java/lang/RuntimeException", name := "<init>", desc := "(Ljava/lang/String;)V" } : Jvm.MethodName)) ∈ lw_all := lw_g (lw_at lw_m2 233 rfl) rfl
theorem q615 : (Jvm.Cond.declares ({ cls := "java/lang/IndexOutOfBoundsException", name := "<init>", desc := "()V" } : Jvm.MethodName)) ∈ lw_tbl := lw_at lw_m3 2 rfl
theorem q616 : (Jvm.Cond.declares ({ cls := "java/lang/IndexOutOfBoundsException", name := "<init>", desc := "(Ljava/lang/String;)V" } : Jvm.MethodName)) ∈ lw_tbl := lw_at lw_m3 3 rfl

/-! java/lang/ArrayIndexOutOfBoundsException -/
set_option maxRecDepth 100000
def RJ6 : String := "java/lang/ArrayIndexOutOfBoundsException"
def TJ6 : u_T := fun k => match k with
  | 0 => ("java/lang/Throwable", "backtrace", "Ljava/lang/Object;", false)
  | 1 => ("java/lang/Throwable", "detailMessage", "Ljava/lang/String;", false)
  | 2 => ("java/lang/Throwable", "cause", "Ljava/lang/Throwable;", false)
  | 3 => ("java/lang/Throwable", "stackTrace", "[Ljava/lang/StackTraceElement;", false)
  | 4 => ("java/lang/Throwable", "depth", "I", false)
  | _ => ("java/lang/Throwable", "suppressedExceptions", "Ljava/util/List;", false)
def tyJ6 : Nat → FieldType := fun k => match k with
  | 0 => .object "java/lang/Object"
  | 1 => .object "java/lang/String"
  | 2 => .object "java/lang/Throwable"
  | 3 => .array (.object "java/lang/StackTraceElement")
  | 4 => .int
  | _ => .object "java/util/List"
abbrev wsJ60 : List Cond := u_ws RJ6 TJ6 6
theorem nmJ6 : ∀ a, a < 6 → ∀ b, b < 6 → a ≠ b → (TJ6 a).2.1 ≠ (TJ6 b).2.1 := by decide +kernel
theorem tyJ6_ok : ∀ k, k < 6 → parseFieldDescriptor (TJ6 k).2.2.1 = some (tyJ6 k) := by decide +kernel
theorem q149 : (Jvm.Cond.initialized "java/lang/ArrayIndexOutOfBoundsException") ∈ lw_all := lw_g (lw_at lw_m1 16 rfl) rfl
theorem q215 : (Jvm.Cond.selects "java/lang/ArrayIndexOutOfBoundsException" ({ cls := "java/lang/Throwable", name := "fillInStackTrace", desc := "()Ljava/lang/Throwable;" } : Jvm.MethodName) ({ cls := "java/lang/Throwable", name := "fillInStackTrace", desc := "()Ljava/lang/Throwable;" } : Jvm.MethodName)) ∈ lw_all := lw_g (lw_at lw_m1 82 rfl) rfl
theorem q600 : (Jvm.Cond.instantiable "java/lang/ArrayIndexOutOfBoundsException" (6 : Nat)) ∈ lw_all := lw_g (lw_at lw_m2 227 rfl) rfl
theorem q601 : (Jvm.Cond.instanceMethod ({ cls := "java/lang/ArrayIndexOutOfBoundsException", name := "<init>", desc := "(Ljava/lang/String;)V" } : Jvm.MethodName)) ∈ lw_all := lw_g (lw_at lw_m2 228 rfl) rfl
theorem q602 : (Jvm.Cond.code ({ cls := "java/lang/ArrayIndexOutOfBoundsException", name := "<init>", desc := "(Ljava/lang/String;)V" } : Jvm.MethodName) prog_18_method_2_code (2 : Nat) (Option.none : Option Jvm.ClassFile.FieldType)) ∈ lw_all := lw_g (lw_at lw_m2 229 rfl) rfl
theorem q603 : (Jvm.Cond.methodLink "java/lang/ArrayIndexOutOfBoundsException" (7 : Nat) ({ cls := "java/lang/IndexOutOfBoundsException", name := "<init>", desc := "(Ljava/lang/String;)V" } : Jvm.MethodName)) ∈ lw_all := lw_g (lw_at lw_m2 230 rfl) rfl
theorem q607 : (Jvm.Cond.lays "java/lang/ArrayIndexOutOfBoundsException" "java/lang/Throwable" "backtrace" "Ljava/lang/Object;") ∈ lw_all := lw_g (lw_at lw_m2 234 rfl) rfl
theorem q608 : (Jvm.Cond.lays "java/lang/ArrayIndexOutOfBoundsException" "java/lang/Throwable" "detailMessage" "Ljava/lang/String;") ∈ lw_all := lw_g (lw_at lw_m2 235 rfl) rfl
theorem q609 : (Jvm.Cond.lays "java/lang/ArrayIndexOutOfBoundsException" "java/lang/Throwable" "cause" "Ljava/lang/Throwable;") ∈ lw_all := lw_g (lw_at lw_m2 236 rfl) rfl
theorem q610 : (Jvm.Cond.lays "java/lang/ArrayIndexOutOfBoundsException" "java/lang/Throwable" "stackTrace" "[Ljava/lang/StackTraceElement;") ∈ lw_all := lw_g (lw_at lw_m2 237 rfl) rfl
theorem q611 : (Jvm.Cond.lays "java/lang/ArrayIndexOutOfBoundsException" "java/lang/Throwable" "depth" "I") ∈ lw_all := lw_g (lw_at lw_m2 238 rfl) rfl
theorem q612 : (Jvm.Cond.lays "java/lang/ArrayIndexOutOfBoundsException" "java/lang/Throwable" "suppressedExceptions" "Ljava/util/List;") ∈ lw_all := lw_g (lw_at lw_m2 239 rfl) rfl
theorem q613 : (Jvm.Cond.superclass "java/lang/ArrayIndexOutOfBoundsException" "java/lang/IndexOutOfBoundsException") ∈ lw_all := lw_g (lw_at lw_m3 0 rfl) rfl
theorem q614 : (Jvm.Cond.castable "java/lang/ArrayIndexOutOfBoundsException" "java/lang/ArrayIndexOutOfBoundsException") ∈ lw_tbl := lw_at lw_m3 1 rfl
theorem q617 : (Jvm.Cond.selects "java/lang/ArrayIndexOutOfBoundsException" ({ cls := "java/lang/Throwable", name := "fillInStackTrace", desc := "(I)Ljava/lang/Throwable;" } : Jvm.MethodName) ({ cls := "java/lang/Throwable", name := "fillInStackTrace", desc := "(I)Ljava/lang/Throwable;" } : Jvm.MethodName)) ∈ lw_all := lw_g (lw_at lw_m3 4 rfl) rfl
theorem q2292 : (Jvm.Cond.castable "java/lang/ArrayIndexOutOfBoundsException" "java/lang/IndexOutOfBoundsException") ∈ lw_tbl := lw_at lw_m9 239 rfl
theorem in_J6 : ∀ w ∈ wsJ60, w ∈ lw_all := lw_in wsJ60 [607, 608, 609, 610, 611, 612] (by decide +kernel) (by decide +kernel)

/-! LastPebble$Reader -/
set_option maxRecDepth 100000
def RX9 : String := "LastPebble$Reader"
def TX9 : u_T := fun k => match k with
  | 0 => ("LastPebble$Reader", "size", "I", true)
  | 1 => ("LastPebble$Reader", "at", "I", false)
  | 2 => ("LastPebble$Reader", "behind", "I", false)
  | 3 => ("LastPebble$Reader", "sort", "I", false)
  | 4 => ("LastPebble$Reader", "number", "I", false)
  | 5 => ("LastPebble$Reader", "steps", "I", false)
  | 6 => ("LastPebble$Reader", "hasDuel", "Z", false)
  | _ => ("LastPebble$Reader", "this$0", "LLastPebble;", true)
def tyX9 : Nat → FieldType := fun k => match k with
  | 0 => .int
  | 1 => .int
  | 2 => .int
  | 3 => .int
  | 4 => .int
  | 5 => .int
  | 6 => .boolean
  | _ => .object "LastPebble"
abbrev wsX90 : List Cond := u_ws RX9 TX9 8
theorem nmX9 : ∀ a, a < 8 → ∀ b, b < 8 → a ≠ b → (TX9 a).2.1 ≠ (TX9 b).2.1 := by decide +kernel
theorem tyX9_ok : ∀ k, k < 8 → parseFieldDescriptor (TX9 k).2.2.1 = some (tyX9 k) := by decide +kernel
theorem q151 : (Jvm.Cond.initialized "LastPebble$Reader") ∈ lw_all := lw_g (lw_at lw_m1 18 rfl) rfl
theorem q292 : (Jvm.Cond.fieldLinkNest "LastPebble$Reader" (176 : Nat) "LastPebble$Beach" "cells" "I" "LastPebble") ∈ lw_tbl := lw_at lw_m1 159 rfl
theorem q296 : (Jvm.Cond.fieldLinkNest "LastPebble$Reader" (179 : Nat) "LastPebble$Beach" "tide" "I" "LastPebble") ∈ lw_tbl := lw_at lw_m1 163 rfl
theorem q298 : (Jvm.Cond.fieldLinkNest "LastPebble$Reader" (181 : Nat) "LastPebble$Beach" "moon" "I" "LastPebble") ∈ lw_tbl := lw_at lw_m1 165 rfl
theorem q302 : (Jvm.Cond.fieldLinkNest "LastPebble$Reader" (198 : Nat) "LastPebble$Beach" "finders" "I" "LastPebble") ∈ lw_tbl := lw_at lw_m1 169 rfl
theorem q307 : (Jvm.Cond.fieldLinkNest "LastPebble$Reader" (217 : Nat) "LastPebble$Beach" "finds" "I" "LastPebble") ∈ lw_tbl := lw_at lw_m1 174 rfl
theorem q311 : (Jvm.Cond.fieldLinkNest "LastPebble$Reader" (247 : Nat) "LastPebble$Beach" "duel" "I" "LastPebble") ∈ lw_tbl := lw_at lw_m1 178 rfl
theorem q314 : (Jvm.Cond.fieldLinkNest "LastPebble$Reader" (228 : Nat) "LastPebble$Beach" "pebbles" "I" "LastPebble") ∈ lw_tbl := lw_at lw_m1 181 rfl
theorem q316 : (Jvm.Cond.fieldLinkNest "LastPebble$Reader" (213 : Nat) "LastPebble$Beach" "finderNames" "[J" "LastPebble") ∈ lw_tbl := lw_at lw_m1 183 rfl
theorem q318 : (Jvm.Cond.fieldLinkNest "LastPebble$Reader" (225 : Nat) "LastPebble$Beach" "findNames" "[J" "LastPebble") ∈ lw_tbl := lw_at lw_m1 185 rfl
theorem q321 : (Jvm.Cond.fieldLinkNest "LastPebble$Reader" (205 : Nat) "LastPebble$Beach" "at" "[I" "LastPebble") ∈ lw_tbl := lw_at lw_m1 188 rfl
theorem q324 : (Jvm.Cond.fieldLinkNest "LastPebble$Reader" (208 : Nat) "LastPebble$Beach" "pace" "[I" "LastPebble") ∈ lw_tbl := lw_at lw_m1 191 rfl
theorem q328 : (Jvm.Cond.fieldLinkNest "LastPebble$Reader" (210 : Nat) "LastPebble$Beach" "pouch" "[I" "LastPebble") ∈ lw_tbl := lw_at lw_m1 195 rfl
theorem q331 : (Jvm.Cond.fieldLinkNest "LastPebble$Reader" (220 : Nat) "LastPebble$Beach" "findAt" "[I" "LastPebble") ∈ lw_tbl := lw_at lw_m1 198 rfl
theorem q335 : (Jvm.Cond.fieldLinkNest "LastPebble$Reader" (223 : Nat) "LastPebble$Beach" "worth" "[I" "LastPebble") ∈ lw_tbl := lw_at lw_m1 202 rfl
theorem q339 : (Jvm.Cond.fieldLinkNest "LastPebble$Reader" (230 : Nat) "LastPebble$Beach" "whose" "[I" "LastPebble") ∈ lw_tbl := lw_at lw_m1 206 rfl
theorem q342 : (Jvm.Cond.fieldLinkNest "LastPebble$Reader" (236 : Nat) "LastPebble$Beach" "on" "[I" "LastPebble") ∈ lw_tbl := lw_at lw_m1 209 rfl
theorem q345 : (Jvm.Cond.fieldLinkNest "LastPebble$Reader" (240 : Nat) "LastPebble$Beach" "minute" "[I" "LastPebble") ∈ lw_tbl := lw_at lw_m1 212 rfl
theorem q463 : (Jvm.Cond.fieldLinkNest "LastPebble$Reader" (22 : Nat) "LastPebble" "tape" "[B" "LastPebble") ∈ lw_tbl := lw_at lw_m2 90 rfl
theorem q469 : (Jvm.Cond.fieldLinkNest "LastPebble$Reader" (55 : Nat) "LastPebble" "bad" "LLastPebble$Bad;" "LastPebble") ∈ lw_tbl := lw_at lw_m2 96 rfl
theorem q671 : (Jvm.Cond.instantiable "LastPebble$Reader" (8 : Nat)) ∈ lw_all := lw_g (lw_at lw_m3 58 rfl) rfl
theorem q673 : (Jvm.Cond.instanceMethod ({ cls := "LastPebble$Reader", name := "<init>", desc := "(LLastPebble;I)V" } : Jvm.MethodName)) ∈ lw_all := lw_g (lw_at lw_m3 60 rfl) rfl
theorem q674 : (Jvm.Cond.code ({ cls := "LastPebble$Reader", name := "<init>", desc := "(LLastPebble;I)V" } : Jvm.MethodName) prog_11_method_1_code (3 : Nat) (Option.none : Option Jvm.ClassFile.FieldType)) ∈ lw_all := lw_g (lw_at lw_m3 61 rfl) rfl
theorem q675 : (Jvm.Cond.methodLink "LastPebble$Reader" (9 : Nat) ({ cls := "java/lang/Object", name := "<init>", desc := "()V" } : Jvm.MethodName)) ∈ lw_all := lw_g (lw_at lw_m3 62 rfl) rfl
theorem q676 : (Jvm.Cond.methodLink "LastPebble$Reader" (19 : Nat) ({ cls := "LastPebble$Reader", name := "next", desc := "()V" } : Jvm.MethodName)) ∈ lw_all := lw_g (lw_at lw_m3 63 rfl) rfl
theorem q677 : (Jvm.Cond.privateMethod ({ cls := "LastPebble$Reader", name := "next", desc := "()V" } : Jvm.MethodName)) ∈ lw_tbl := lw_at lw_m3 64 rfl
theorem q678 : (Jvm.Cond.instanceMethod ({ cls := "LastPebble$Reader", name := "next", desc := "()V" } : Jvm.MethodName)) ∈ lw_all := lw_g (lw_at lw_m3 65 rfl) rfl
theorem q679 : (Jvm.Cond.code ({ cls := "LastPebble$Reader", name := "next", desc := "()V" } : Jvm.MethodName) prog_11_method_4_code (1 : Nat) (Option.none : Option Jvm.ClassFile.FieldType)) ∈ lw_all := lw_g (lw_at lw_m3 66 rfl) rfl
theorem q680 : (Jvm.Cond.methodLink "LastPebble$Reader" (35 : Nat) ({ cls := "LastPebble$Reader", name := "isLetter", desc := "(I)Z" } : Jvm.MethodName)) ∈ lw_all := lw_g (lw_at lw_m3 67 rfl) rfl
theorem q681 : (Jvm.Cond.privateMethod ({ cls := "LastPebble$Reader", name := "isLetter", desc := "(I)Z" } : Jvm.MethodName)) ∈ lw_tbl := lw_at lw_m3 68 rfl
theorem q682 : (Jvm.Cond.instanceMethod ({ cls := "LastPebble$Reader", name := "isLetter", desc := "(I)Z" } : Jvm.MethodName)) ∈ lw_all := lw_g (lw_at lw_m3 69 rfl) rfl
theorem q683 : (Jvm.Cond.code ({ cls := "LastPebble$Reader", name := "isLetter", desc := "(I)Z" } : Jvm.MethodName) prog_11_method_2_code (2 : Nat) (Option.some Jvm.ClassFile.FieldType.boolean)) ∈ lw_all := lw_g (lw_at lw_m3 70 rfl) rfl
theorem q684 : (Jvm.Cond.methodLink "LastPebble$Reader" (39 : Nat) ({ cls := "LastPebble$Reader", name := "isDigit", desc := "(I)Z" } : Jvm.MethodName)) ∈ lw_all := lw_g (lw_at lw_m3 71 rfl) rfl
theorem q685 : (Jvm.Cond.privateMethod ({ cls := "LastPebble$Reader", name := "isDigit", desc := "(I)Z" } : Jvm.MethodName)) ∈ lw_tbl := lw_at lw_m3 72 rfl
theorem q686 : (Jvm.Cond.instanceMethod ({ cls := "LastPebble$Reader", name := "isDigit", desc := "(I)Z" } : Jvm.MethodName)) ∈ lw_all := lw_g (lw_at lw_m3 73 rfl) rfl
theorem q687 : (Jvm.Cond.code ({ cls := "LastPebble$Reader", name := "isDigit", desc := "(I)Z" } : Jvm.MethodName) prog_11_method_3_code (2 : Nat) (Option.some Jvm.ClassFile.FieldType.boolean)) ∈ lw_all := lw_g (lw_at lw_m3 74 rfl) rfl
theorem q688 : (Jvm.Cond.fieldLink "LastPebble$Reader" (15 : Nat) "LastPebble$Reader" "size" "I") ∈ lw_all := lw_g (lw_at lw_m3 75 rfl) rfl
theorem q689 : (Jvm.Cond.fieldLink "LastPebble$Reader" (29 : Nat) "LastPebble$Reader" "at" "I") ∈ lw_all := lw_g (lw_at lw_m3 76 rfl) rfl
theorem q690 : (Jvm.Cond.fieldLink "LastPebble$Reader" (26 : Nat) "LastPebble$Reader" "behind" "I") ∈ lw_all := lw_g (lw_at lw_m3 77 rfl) rfl
theorem q691 : (Jvm.Cond.fieldLink "LastPebble$Reader" (32 : Nat) "LastPebble$Reader" "sort" "I") ∈ lw_all := lw_g (lw_at lw_m3 78 rfl) rfl
theorem q692 : (Jvm.Cond.fieldLink "LastPebble$Reader" (42 : Nat) "LastPebble$Reader" "number" "I") ∈ lw_all := lw_g (lw_at lw_m3 79 rfl) rfl
theorem q693 : (Jvm.Cond.fieldLink "LastPebble$Reader" (253 : Nat) "LastPebble$Reader" "steps" "I") ∈ lw_all := lw_g (lw_at lw_m3 80 rfl) rfl
theorem q695 : (Jvm.Cond.fieldLink "LastPebble$Reader" (243 : Nat) "LastPebble$Reader" "hasDuel" "Z") ∈ lw_all := lw_g (lw_at lw_m3 82 rfl) rfl
theorem q696 : (Jvm.Cond.fieldLink "LastPebble$Reader" (3 : Nat) "LastPebble$Reader" "this$0" "LLastPebble;") ∈ lw_all := lw_g (lw_at lw_m3 83 rfl) rfl
theorem q697 : (Jvm.Cond.laysFinal "LastPebble$Reader" "LastPebble$Reader" "size" "I") ∈ lw_all := lw_g (lw_at lw_m3 84 rfl) rfl
theorem q698 : (Jvm.Cond.soleField "LastPebble$Reader" "size") ∈ lw_all := lw_g (lw_at lw_m3 85 rfl) rfl
theorem q699 : (Jvm.Cond.lays "LastPebble$Reader" "LastPebble$Reader" "at" "I") ∈ lw_all := lw_g (lw_at lw_m3 86 rfl) rfl
theorem q700 : (Jvm.Cond.soleField "LastPebble$Reader" "at") ∈ lw_all := lw_g (lw_at lw_m3 87 rfl) rfl
theorem q701 : (Jvm.Cond.lays "LastPebble$Reader" "LastPebble$Reader" "behind" "I") ∈ lw_all := lw_g (lw_at lw_m3 88 rfl) rfl
theorem q702 : (Jvm.Cond.soleField "LastPebble$Reader" "behind") ∈ lw_all := lw_g (lw_at lw_m3 89 rfl) rfl
theorem q703 : (Jvm.Cond.lays "LastPebble$Reader" "LastPebble$Reader" "sort" "I") ∈ lw_all := lw_g (lw_at lw_m3 90 rfl) rfl
theorem q704 : (Jvm.Cond.soleField "LastPebble$Reader" "sort") ∈ lw_all := lw_g (lw_at lw_m3 91 rfl) rfl
theorem q705 : (Jvm.Cond.lays "LastPebble$Reader" "LastPebble$Reader" "number" "I") ∈ lw_all := lw_g (lw_at lw_m3 92 rfl) rfl
theorem q706 : (Jvm.Cond.soleField "LastPebble$Reader" "number") ∈ lw_all := lw_g (lw_at lw_m3 93 rfl) rfl
theorem q707 : (Jvm.Cond.lays "LastPebble$Reader" "LastPebble$Reader" "steps" "I") ∈ lw_all := lw_g (lw_at lw_m3 94 rfl) rfl
theorem q708 : (Jvm.Cond.soleField "LastPebble$Reader" "steps") ∈ lw_all := lw_g (lw_at lw_m3 95 rfl) rfl
theorem q709 : (Jvm.Cond.lays "LastPebble$Reader" "LastPebble$Reader" "hasDuel" "Z") ∈ lw_all := lw_g (lw_at lw_m3 96 rfl) rfl
theorem q710 : (Jvm.Cond.soleField "LastPebble$Reader" "hasDuel") ∈ lw_all := lw_g (lw_at lw_m3 97 rfl) rfl
theorem q711 : (Jvm.Cond.laysFinal "LastPebble$Reader" "LastPebble$Reader" "this$0" "LLastPebble;") ∈ lw_all := lw_g (lw_at lw_m3 98 rfl) rfl
theorem q712 : (Jvm.Cond.soleField "LastPebble$Reader" "this$0") ∈ lw_all := lw_g (lw_at lw_m3 99 rfl) rfl
theorem q713 : (Jvm.Cond.superclass "LastPebble$Reader" "java/lang/Object") ∈ lw_all := lw_g (lw_at lw_m3 100 rfl) rfl
theorem q715 : (Jvm.Cond.instanceMethod ({ cls := "LastPebble$Reader", name := "beach", desc := "(LLastPebble$Beach;)V" } : Jvm.MethodName)) ∈ lw_all := lw_g (lw_at lw_m3 102 rfl) rfl
theorem q716 : (Jvm.Cond.selects "LastPebble$Reader" ({ cls := "LastPebble$Reader", name := "beach", desc := "(LLastPebble$Beach;)V" } : Jvm.MethodName) ({ cls := "LastPebble$Reader", name := "beach", desc := "(LLastPebble$Beach;)V" } : Jvm.MethodName)) ∈ lw_all := lw_g (lw_at lw_m3 103 rfl) rfl
theorem q717 : (Jvm.Cond.code ({ cls := "LastPebble$Reader", name := "beach", desc := "(LLastPebble$Beach;)V" } : Jvm.MethodName) prog_11_method_20_code (2 : Nat) (Option.none : Option Jvm.ClassFile.FieldType)) ∈ lw_all := lw_g (lw_at lw_m3 104 rfl) rfl
theorem q718 : (Jvm.Cond.stringRef "LastPebble$Reader" (107 : Nat) "beach") ∈ lw_tbl := lw_at lw_m3 105 rfl
theorem q719 : (Jvm.Cond.methodLink "LastPebble$Reader" (173 : Nat) ({ cls := "LastPebble$Reader", name := "behind", desc := "(Ljava/lang/String;II)I" } : Jvm.MethodName)) ∈ lw_all := lw_g (lw_at lw_m3 106 rfl) rfl
theorem q720 : (Jvm.Cond.privateMethod ({ cls := "LastPebble$Reader", name := "behind", desc := "(Ljava/lang/String;II)I" } : Jvm.MethodName)) ∈ lw_tbl := lw_at lw_m3 107 rfl
theorem q721 : (Jvm.Cond.instanceMethod ({ cls := "LastPebble$Reader", name := "behind", desc := "(Ljava/lang/String;II)I" } : Jvm.MethodName)) ∈ lw_all := lw_g (lw_at lw_m3 108 rfl) rfl
theorem q722 : (Jvm.Cond.code ({ cls := "LastPebble$Reader", name := "behind", desc := "(Ljava/lang/String;II)I" } : Jvm.MethodName) prog_11_method_11_code (4 : Nat) (Option.some Jvm.ClassFile.FieldType.int)) ∈ lw_all := lw_g (lw_at lw_m3 109 rfl) rfl
theorem q723 : (Jvm.Cond.methodLink "LastPebble$Reader" (76 : Nat) ({ cls := "LastPebble$Reader", name := "word", desc := "(Ljava/lang/String;)V" } : Jvm.MethodName)) ∈ lw_all := lw_g (lw_at lw_m3 110 rfl) rfl
theorem q724 : (Jvm.Cond.privateMethod ({ cls := "LastPebble$Reader", name := "word", desc := "(Ljava/lang/String;)V" } : Jvm.MethodName)) ∈ lw_tbl := lw_at lw_m3 111 rfl
theorem q725 : (Jvm.Cond.instanceMethod ({ cls := "LastPebble$Reader", name := "word", desc := "(Ljava/lang/String;)V" } : Jvm.MethodName)) ∈ lw_all := lw_g (lw_at lw_m3 112 rfl) rfl
theorem q726 : (Jvm.Cond.code ({ cls := "LastPebble$Reader", name := "word", desc := "(Ljava/lang/String;)V" } : Jvm.MethodName) prog_11_method_9_code (2 : Nat) (Option.none : Option Jvm.ClassFile.FieldType)) ∈ lw_all := lw_g (lw_at lw_m3 113 rfl) rfl
theorem q727 : (Jvm.Cond.methodLink "LastPebble$Reader" (72 : Nat) ({ cls := "LastPebble$Reader", name := "isWord", desc := "(Ljava/lang/String;)Z" } : Jvm.MethodName)) ∈ lw_all := lw_g (lw_at lw_m3 114 rfl) rfl
theorem q728 : (Jvm.Cond.privateMethod ({ cls := "LastPebble$Reader", name := "isWord", desc := "(Ljava/lang/String;)Z" } : Jvm.MethodName)) ∈ lw_tbl := lw_at lw_m3 115 rfl
theorem q729 : (Jvm.Cond.instanceMethod ({ cls := "LastPebble$Reader", name := "isWord", desc := "(Ljava/lang/String;)Z" } : Jvm.MethodName)) ∈ lw_all := lw_g (lw_at lw_m3 116 rfl) rfl
theorem q730 : (Jvm.Cond.code ({ cls := "LastPebble$Reader", name := "isWord", desc := "(Ljava/lang/String;)Z" } : Jvm.MethodName) prog_11_method_5_code (3 : Nat) (Option.some Jvm.ClassFile.FieldType.boolean)) ∈ lw_all := lw_g (lw_at lw_m3 117 rfl) rfl
theorem q731 : (Jvm.Cond.methodLink "LastPebble$Reader" (45 : Nat) ({ cls := "java/lang/String", name := "length", desc := "()I" } : Jvm.MethodName)) ∈ lw_all := lw_g (lw_at lw_m3 118 rfl) rfl
theorem q741 : (Jvm.Cond.methodLink "LastPebble$Reader" (51 : Nat) ({ cls := "java/lang/String", name := "charAt", desc := "(I)C" } : Jvm.MethodName)) ∈ lw_all := lw_g (lw_at lw_m3 128 rfl) rfl
theorem q779 : (Jvm.Cond.methodLink "LastPebble$Reader" (68 : Nat) ({ cls := "LastPebble$Reader", name := "wrong", desc := "()LLastPebble$Bad;" } : Jvm.MethodName)) ∈ lw_all := lw_g (lw_at lw_m3 166 rfl) rfl
theorem q780 : (Jvm.Cond.privateMethod ({ cls := "LastPebble$Reader", name := "wrong", desc := "()LLastPebble$Bad;" } : Jvm.MethodName)) ∈ lw_tbl := lw_at lw_m3 167 rfl
theorem q781 : (Jvm.Cond.instanceMethod ({ cls := "LastPebble$Reader", name := "wrong", desc := "()LLastPebble$Bad;" } : Jvm.MethodName)) ∈ lw_all := lw_g (lw_at lw_m3 168 rfl) rfl
theorem q782 : (Jvm.Cond.code ({ cls := "LastPebble$Reader", name := "wrong", desc := "()LLastPebble$Bad;" } : Jvm.MethodName) prog_11_method_7_code (1 : Nat) (Option.some (Jvm.ClassFile.FieldType.object "LastPebble$Bad"))) ∈ lw_all := lw_g (lw_at lw_m3 169 rfl) rfl
theorem q783 : (Jvm.Cond.methodLink "LastPebble$Reader" (59 : Nat) ({ cls := "LastPebble$Bad", name := "at", desc := "(II)LLastPebble$Bad;" } : Jvm.MethodName)) ∈ lw_all := lw_g (lw_at lw_m3 170 rfl) rfl
theorem q787 : (Jvm.Cond.methodLink "LastPebble$Reader" (80 : Nat) ({ cls := "LastPebble$Reader", name := "number", desc := "(II)I" } : Jvm.MethodName)) ∈ lw_all := lw_g (lw_at lw_m3 174 rfl) rfl
theorem q788 : (Jvm.Cond.privateMethod ({ cls := "LastPebble$Reader", name := "number", desc := "(II)I" } : Jvm.MethodName)) ∈ lw_tbl := lw_at lw_m3 175 rfl
theorem q789 : (Jvm.Cond.instanceMethod ({ cls := "LastPebble$Reader", name := "number", desc := "(II)I" } : Jvm.MethodName)) ∈ lw_all := lw_g (lw_at lw_m3 176 rfl) rfl
theorem q790 : (Jvm.Cond.code ({ cls := "LastPebble$Reader", name := "number", desc := "(II)I" } : Jvm.MethodName) prog_11_method_10_code (4 : Nat) (Option.some Jvm.ClassFile.FieldType.int)) ∈ lw_all := lw_g (lw_at lw_m3 177 rfl) rfl
theorem q791 : (Jvm.Cond.stringRef "LastPebble$Reader" (95 : Nat) "tide") ∈ lw_tbl := lw_at lw_m3 178 rfl
theorem q792 : (Jvm.Cond.stringRef "LastPebble$Reader" (109 : Nat) "moon") ∈ lw_tbl := lw_at lw_m3 179 rfl
theorem q793 : (Jvm.Cond.methodLink "LastPebble$Reader" (183 : Nat) ({ cls := "LastPebble$Reader", name := "close", desc := "()V" } : Jvm.MethodName)) ∈ lw_all := lw_g (lw_at lw_m3 180 rfl) rfl
theorem q794 : (Jvm.Cond.privateMethod ({ cls := "LastPebble$Reader", name := "close", desc := "()V" } : Jvm.MethodName)) ∈ lw_tbl := lw_at lw_m3 181 rfl
theorem q795 : (Jvm.Cond.instanceMethod ({ cls := "LastPebble$Reader", name := "close", desc := "()V" } : Jvm.MethodName)) ∈ lw_all := lw_g (lw_at lw_m3 182 rfl) rfl
theorem q796 : (Jvm.Cond.code ({ cls := "LastPebble$Reader", name := "close", desc := "()V" } : Jvm.MethodName) prog_11_method_8_code (1 : Nat) (Option.none : Option Jvm.ClassFile.FieldType)) ∈ lw_all := lw_g (lw_at lw_m3 183 rfl) rfl
theorem q797 : (Jvm.Cond.methodLink "LastPebble$Reader" (64 : Nat) ({ cls := "LastPebble$Reader", name := "isSign", desc := "(C)Z" } : Jvm.MethodName)) ∈ lw_all := lw_g (lw_at lw_m3 184 rfl) rfl
theorem q798 : (Jvm.Cond.privateMethod ({ cls := "LastPebble$Reader", name := "isSign", desc := "(C)Z" } : Jvm.MethodName)) ∈ lw_tbl := lw_at lw_m3 185 rfl
theorem q799 : (Jvm.Cond.instanceMethod ({ cls := "LastPebble$Reader", name := "isSign", desc := "(C)Z" } : Jvm.MethodName)) ∈ lw_all := lw_g (lw_at lw_m3 186 rfl) rfl
theorem q800 : (Jvm.Cond.code ({ cls := "LastPebble$Reader", name := "isSign", desc := "(C)Z" } : Jvm.MethodName) prog_11_method_6_code (2 : Nat) (Option.some Jvm.ClassFile.FieldType.boolean)) ∈ lw_all := lw_g (lw_at lw_m3 187 rfl) rfl
theorem q801 : (Jvm.Cond.stringRef "LastPebble$Reader" (111 : Nat) "finder") ∈ lw_tbl := lw_at lw_m3 188 rfl
theorem q802 : (Jvm.Cond.methodLink "LastPebble$Reader" (186 : Nat) ({ cls := "LastPebble$Reader", name := "newFinder", desc := "(LLastPebble$Beach;)V" } : Jvm.MethodName)) ∈ lw_all := lw_g (lw_at lw_m3 189 rfl) rfl
theorem q803 : (Jvm.Cond.privateMethod ({ cls := "LastPebble$Reader", name := "newFinder", desc := "(LLastPebble$Beach;)V" } : Jvm.MethodName)) ∈ lw_tbl := lw_at lw_m3 190 rfl
theorem q804 : (Jvm.Cond.instanceMethod ({ cls := "LastPebble$Reader", name := "newFinder", desc := "(LLastPebble$Beach;)V" } : Jvm.MethodName)) ∈ lw_all := lw_g (lw_at lw_m3 191 rfl) rfl
theorem q805 : (Jvm.Cond.code ({ cls := "LastPebble$Reader", name := "newFinder", desc := "(LLastPebble$Beach;)V" } : Jvm.MethodName) prog_11_method_21_code (5 : Nat) (Option.none : Option Jvm.ClassFile.FieldType)) ∈ lw_all := lw_g (lw_at lw_m3 192 rfl) rfl
theorem q806 : (Jvm.Cond.methodLink "LastPebble$Reader" (201 : Nat) ({ cls := "LastPebble$Reader", name := "fresh", desc := "(LLastPebble$Beach;)J" } : Jvm.MethodName)) ∈ lw_all := lw_g (lw_at lw_m3 193 rfl) rfl
theorem q807 : (Jvm.Cond.privateMethod ({ cls := "LastPebble$Reader", name := "fresh", desc := "(LLastPebble$Beach;)J" } : Jvm.MethodName)) ∈ lw_tbl := lw_at lw_m3 194 rfl
theorem q808 : (Jvm.Cond.instanceMethod ({ cls := "LastPebble$Reader", name := "fresh", desc := "(LLastPebble$Beach;)J" } : Jvm.MethodName)) ∈ lw_all := lw_g (lw_at lw_m3 195 rfl) rfl
theorem q809 : (Jvm.Cond.code ({ cls := "LastPebble$Reader", name := "fresh", desc := "(LLastPebble$Beach;)J" } : Jvm.MethodName) prog_11_method_16_code (4 : Nat) (Option.some Jvm.ClassFile.FieldType.long)) ∈ lw_all := lw_g (lw_at lw_m3 196 rfl) rfl
theorem q810 : (Jvm.Cond.methodLink "LastPebble$Reader" (156 : Nat) ({ cls := "LastPebble$Reader", name := "name", desc := "()J" } : Jvm.MethodName)) ∈ lw_all := lw_g (lw_at lw_m3 197 rfl) rfl
theorem q811 : (Jvm.Cond.privateMethod ({ cls := "LastPebble$Reader", name := "name", desc := "()J" } : Jvm.MethodName)) ∈ lw_tbl := lw_at lw_m3 198 rfl
theorem q812 : (Jvm.Cond.instanceMethod ({ cls := "LastPebble$Reader", name := "name", desc := "()J" } : Jvm.MethodName)) ∈ lw_all := lw_g (lw_at lw_m3 199 rfl) rfl
theorem q813 : (Jvm.Cond.code ({ cls := "LastPebble$Reader", name := "name", desc := "()J" } : Jvm.MethodName) prog_11_method_15_code (4 : Nat) (Option.some Jvm.ClassFile.FieldType.long)) ∈ lw_all := lw_g (lw_at lw_m3 200 rfl) rfl
theorem q814 : (Jvm.Cond.methodLink "LastPebble$Reader" (148 : Nat) ({ cls := "LastPebble$Reader", name := "isKept", desc := "()Z" } : Jvm.MethodName)) ∈ lw_all := lw_g (lw_at lw_m3 201 rfl) rfl
theorem q815 : (Jvm.Cond.privateMethod ({ cls := "LastPebble$Reader", name := "isKept", desc := "()Z" } : Jvm.MethodName)) ∈ lw_tbl := lw_at lw_m3 202 rfl
theorem q816 : (Jvm.Cond.instanceMethod ({ cls := "LastPebble$Reader", name := "isKept", desc := "()Z" } : Jvm.MethodName)) ∈ lw_all := lw_g (lw_at lw_m3 203 rfl) rfl
theorem q817 : (Jvm.Cond.code ({ cls := "LastPebble$Reader", name := "isKept", desc := "()Z" } : Jvm.MethodName) prog_11_method_14_code (3 : Nat) (Option.some Jvm.ClassFile.FieldType.boolean)) ∈ lw_all := lw_g (lw_at lw_m3 204 rfl) rfl
theorem q818 : (Jvm.Cond.stringRef "LastPebble$Reader" (113 : Nat) "at") ∈ lw_tbl := lw_at lw_m3 205 rfl
theorem q819 : (Jvm.Cond.stringRef "LastPebble$Reader" (114 : Nat) "pace") ∈ lw_tbl := lw_at lw_m3 206 rfl
theorem q820 : (Jvm.Cond.stringRef "LastPebble$Reader" (116 : Nat) "pebbles") ∈ lw_tbl := lw_at lw_m3 207 rfl
theorem q821 : (Jvm.Cond.stringRef "LastPebble$Reader" (118 : Nat) "find") ∈ lw_tbl := lw_at lw_m3 208 rfl
theorem q822 : (Jvm.Cond.stringRef "LastPebble$Reader" (120 : Nat) "worth") ∈ lw_tbl := lw_at lw_m3 209 rfl
theorem q823 : (Jvm.Cond.stringRef "LastPebble$Reader" (122 : Nat) "pebble") ∈ lw_tbl := lw_at lw_m3 210 rfl
theorem q824 : (Jvm.Cond.stringRef "LastPebble$Reader" (124 : Nat) "of") ∈ lw_tbl := lw_at lw_m3 211 rfl
theorem q825 : (Jvm.Cond.stringRef "LastPebble$Reader" (126 : Nat) "on") ∈ lw_tbl := lw_at lw_m3 212 rfl
theorem q826 : (Jvm.Cond.stringRef "LastPebble$Reader" (128 : Nat) "duel") ∈ lw_tbl := lw_at lw_m3 213 rfl
theorem q827 : (Jvm.Cond.stringRef "LastPebble$Reader" (130 : Nat) "to") ∈ lw_tbl := lw_at lw_m3 214 rfl
theorem q828 : (Jvm.Cond.stringRef "LastPebble$Reader" (132 : Nat) "when") ∈ lw_tbl := lw_at lw_m3 215 rfl
theorem q829 : (Jvm.Cond.stringRef "LastPebble$Reader" (134 : Nat) "leads") ∈ lw_tbl := lw_at lw_m3 216 rfl
theorem q830 : (Jvm.Cond.stringRef "LastPebble$Reader" (136 : Nat) "free") ∈ lw_tbl := lw_at lw_m3 217 rfl
theorem q831 : (Jvm.Cond.stringRef "LastPebble$Reader" (138 : Nat) "loop") ∈ lw_tbl := lw_at lw_m3 218 rfl
theorem q832 : (Jvm.Cond.stringRef "LastPebble$Reader" (140 : Nat) "end") ∈ lw_tbl := lw_at lw_m3 219 rfl
theorem q833 : (Jvm.Cond.methodLink "LastPebble$Reader" (142 : Nat) ({ cls := "LastPebble$Reader", name := "acts", desc := "()I" } : Jvm.MethodName)) ∈ lw_all := lw_g (lw_at lw_m3 220 rfl) rfl
theorem q834 : (Jvm.Cond.privateMethod ({ cls := "LastPebble$Reader", name := "acts", desc := "()I" } : Jvm.MethodName)) ∈ lw_tbl := lw_at lw_m3 221 rfl
theorem q835 : (Jvm.Cond.instanceMethod ({ cls := "LastPebble$Reader", name := "acts", desc := "()I" } : Jvm.MethodName)) ∈ lw_all := lw_g (lw_at lw_m3 222 rfl) rfl
theorem q836 : (Jvm.Cond.code ({ cls := "LastPebble$Reader", name := "acts", desc := "()I" } : Jvm.MethodName) prog_11_method_12_code (1 : Nat) (Option.some Jvm.ClassFile.FieldType.int)) ∈ lw_all := lw_g (lw_at lw_m3 223 rfl) rfl
theorem q837 : (Jvm.Cond.stringRef "LastPebble$Reader" (83 : Nat) "go") ∈ lw_tbl := lw_at lw_m3 224 rfl
theorem q838 : (Jvm.Cond.stringRef "LastPebble$Reader" (85 : Nat) "set") ∈ lw_tbl := lw_at lw_m3 225 rfl
theorem q839 : (Jvm.Cond.stringRef "LastPebble$Reader" (87 : Nat) "wait") ∈ lw_tbl := lw_at lw_m3 226 rfl
theorem q840 : (Jvm.Cond.stringRef "LastPebble$Reader" (89 : Nat) "lift") ∈ lw_tbl := lw_at lw_m3 227 rfl
theorem q841 : (Jvm.Cond.stringRef "LastPebble$Reader" (91 : Nat) "gull") ∈ lw_tbl := lw_at lw_m3 228 rfl
theorem q842 : (Jvm.Cond.stringRef "LastPebble$Reader" (93 : Nat) "wave") ∈ lw_tbl := lw_at lw_m3 229 rfl
theorem q843 : (Jvm.Cond.stringRef "LastPebble$Reader" (97 : Nat) "stop") ∈ lw_tbl := lw_at lw_m3 230 rfl
theorem q844 : (Jvm.Cond.methodLink "LastPebble$Reader" (145 : Nat) ({ cls := "LastPebble$Reader", name := "duels", desc := "()I" } : Jvm.MethodName)) ∈ lw_all := lw_g (lw_at lw_m3 231 rfl) rfl
theorem q845 : (Jvm.Cond.privateMethod ({ cls := "LastPebble$Reader", name := "duels", desc := "()I" } : Jvm.MethodName)) ∈ lw_tbl := lw_at lw_m3 232 rfl
theorem q846 : (Jvm.Cond.instanceMethod ({ cls := "LastPebble$Reader", name := "duels", desc := "()I" } : Jvm.MethodName)) ∈ lw_all := lw_g (lw_at lw_m3 233 rfl) rfl
theorem q847 : (Jvm.Cond.code ({ cls := "LastPebble$Reader", name := "duels", desc := "()I" } : Jvm.MethodName) prog_11_method_13_code (1 : Nat) (Option.some Jvm.ClassFile.FieldType.int)) ∈ lw_all := lw_g (lw_at lw_m3 234 rfl) rfl
theorem q848 : (Jvm.Cond.stringRef "LastPebble$Reader" (99 : Nat) "none") ∈ lw_tbl := lw_at lw_m3 235 rfl
theorem q849 : (Jvm.Cond.stringRef "LastPebble$Reader" (101 : Nat) "first") ∈ lw_tbl := lw_at lw_m3 236 rfl
theorem q850 : (Jvm.Cond.stringRef "LastPebble$Reader" (103 : Nat) "last") ∈ lw_tbl := lw_at lw_m3 237 rfl
theorem q851 : (Jvm.Cond.stringRef "LastPebble$Reader" (105 : Nat) "share") ∈ lw_tbl := lw_at lw_m3 238 rfl
theorem q852 : (Jvm.Cond.constantLong "LastPebble$Reader" (152 : Nat) (32 : Int64)) ∈ lw_all := lw_g (lw_at lw_m3 239 rfl) rfl
theorem q853 : (Jvm.Cond.constantLong "LastPebble$Reader" (154 : Nat) (96 : Int64)) ∈ lw_all := lw_g (lw_at lw_m4 0 rfl) rfl
theorem q854 : (Jvm.Cond.methodLink "LastPebble$Reader" (160 : Nat) ({ cls := "LastPebble$Beach", name := "finderNamed", desc := "(J)I" } : Jvm.MethodName)) ∈ lw_all := lw_g (lw_at lw_m4 1 rfl) rfl
theorem q858 : (Jvm.Cond.methodLink "LastPebble$Reader" (166 : Nat) ({ cls := "LastPebble$Beach", name := "findNamed", desc := "(J)I" } : Jvm.MethodName)) ∈ lw_all := lw_g (lw_at lw_m4 5 rfl) rfl
theorem q862 : (Jvm.Cond.methodLink "LastPebble$Reader" (190 : Nat) ({ cls := "LastPebble$Reader", name := "newFind", desc := "(LLastPebble$Beach;)V" } : Jvm.MethodName)) ∈ lw_all := lw_g (lw_at lw_m4 9 rfl) rfl
theorem q863 : (Jvm.Cond.privateMethod ({ cls := "LastPebble$Reader", name := "newFind", desc := "(LLastPebble$Beach;)V" } : Jvm.MethodName)) ∈ lw_tbl := lw_at lw_m4 10 rfl
theorem q864 : (Jvm.Cond.instanceMethod ({ cls := "LastPebble$Reader", name := "newFind", desc := "(LLastPebble$Beach;)V" } : Jvm.MethodName)) ∈ lw_all := lw_g (lw_at lw_m4 11 rfl) rfl
theorem q865 : (Jvm.Cond.code ({ cls := "LastPebble$Reader", name := "newFind", desc := "(LLastPebble$Beach;)V" } : Jvm.MethodName) prog_11_method_22_code (5 : Nat) (Option.none : Option Jvm.ClassFile.FieldType)) ∈ lw_all := lw_g (lw_at lw_m4 12 rfl) rfl
theorem q866 : (Jvm.Cond.methodLink "LastPebble$Reader" (193 : Nat) ({ cls := "LastPebble$Reader", name := "newPebble", desc := "(LLastPebble$Beach;)V" } : Jvm.MethodName)) ∈ lw_all := lw_g (lw_at lw_m4 13 rfl) rfl
theorem q867 : (Jvm.Cond.privateMethod ({ cls := "LastPebble$Reader", name := "newPebble", desc := "(LLastPebble$Beach;)V" } : Jvm.MethodName)) ∈ lw_tbl := lw_at lw_m4 14 rfl
theorem q868 : (Jvm.Cond.instanceMethod ({ cls := "LastPebble$Reader", name := "newPebble", desc := "(LLastPebble$Beach;)V" } : Jvm.MethodName)) ∈ lw_all := lw_g (lw_at lw_m4 15 rfl) rfl
theorem q869 : (Jvm.Cond.code ({ cls := "LastPebble$Reader", name := "newPebble", desc := "(LLastPebble$Beach;)V" } : Jvm.MethodName) prog_11_method_23_code (3 : Nat) (Option.none : Option Jvm.ClassFile.FieldType)) ∈ lw_all := lw_g (lw_at lw_m4 16 rfl) rfl
theorem q870 : (Jvm.Cond.methodLink "LastPebble$Reader" (233 : Nat) ({ cls := "LastPebble$Reader", name := "finder", desc := "(LLastPebble$Beach;)I" } : Jvm.MethodName)) ∈ lw_all := lw_g (lw_at lw_m4 17 rfl) rfl
theorem q871 : (Jvm.Cond.privateMethod ({ cls := "LastPebble$Reader", name := "finder", desc := "(LLastPebble$Beach;)I" } : Jvm.MethodName)) ∈ lw_tbl := lw_at lw_m4 18 rfl
theorem q872 : (Jvm.Cond.instanceMethod ({ cls := "LastPebble$Reader", name := "finder", desc := "(LLastPebble$Beach;)I" } : Jvm.MethodName)) ∈ lw_all := lw_g (lw_at lw_m4 19 rfl) rfl
theorem q873 : (Jvm.Cond.code ({ cls := "LastPebble$Reader", name := "finder", desc := "(LLastPebble$Beach;)I" } : Jvm.MethodName) prog_11_method_18_code (2 : Nat) (Option.some Jvm.ClassFile.FieldType.int)) ∈ lw_all := lw_g (lw_at lw_m4 20 rfl) rfl
theorem q874 : (Jvm.Cond.methodLink "LastPebble$Reader" (169 : Nat) ({ cls := "LastPebble$Reader", name := "known", desc := "(I)I" } : Jvm.MethodName)) ∈ lw_all := lw_g (lw_at lw_m4 21 rfl) rfl
theorem q875 : (Jvm.Cond.privateMethod ({ cls := "LastPebble$Reader", name := "known", desc := "(I)I" } : Jvm.MethodName)) ∈ lw_tbl := lw_at lw_m4 22 rfl
theorem q876 : (Jvm.Cond.instanceMethod ({ cls := "LastPebble$Reader", name := "known", desc := "(I)I" } : Jvm.MethodName)) ∈ lw_all := lw_g (lw_at lw_m4 23 rfl) rfl
theorem q877 : (Jvm.Cond.code ({ cls := "LastPebble$Reader", name := "known", desc := "(I)I" } : Jvm.MethodName) prog_11_method_17_code (2 : Nat) (Option.some Jvm.ClassFile.FieldType.int)) ∈ lw_all := lw_g (lw_at lw_m4 24 rfl) rfl
theorem q878 : (Jvm.Cond.methodLink "LastPebble$Reader" (238 : Nat) ({ cls := "LastPebble$Reader", name := "find", desc := "(LLastPebble$Beach;)I" } : Jvm.MethodName)) ∈ lw_all := lw_g (lw_at lw_m4 25 rfl) rfl
theorem q879 : (Jvm.Cond.privateMethod ({ cls := "LastPebble$Reader", name := "find", desc := "(LLastPebble$Beach;)I" } : Jvm.MethodName)) ∈ lw_tbl := lw_at lw_m4 26 rfl
theorem q880 : (Jvm.Cond.instanceMethod ({ cls := "LastPebble$Reader", name := "find", desc := "(LLastPebble$Beach;)I" } : Jvm.MethodName)) ∈ lw_all := lw_g (lw_at lw_m4 27 rfl) rfl
theorem q881 : (Jvm.Cond.code ({ cls := "LastPebble$Reader", name := "find", desc := "(LLastPebble$Beach;)I" } : Jvm.MethodName) prog_11_method_19_code (2 : Nat) (Option.some Jvm.ClassFile.FieldType.int)) ∈ lw_all := lw_g (lw_at lw_m4 28 rfl) rfl
theorem q882 : (Jvm.Cond.methodLink "LastPebble$Reader" (196 : Nat) ({ cls := "LastPebble$Reader", name := "duel", desc := "(LLastPebble$Beach;)V" } : Jvm.MethodName)) ∈ lw_all := lw_g (lw_at lw_m4 29 rfl) rfl
theorem q883 : (Jvm.Cond.privateMethod ({ cls := "LastPebble$Reader", name := "duel", desc := "(LLastPebble$Beach;)V" } : Jvm.MethodName)) ∈ lw_tbl := lw_at lw_m4 30 rfl
theorem q884 : (Jvm.Cond.instanceMethod ({ cls := "LastPebble$Reader", name := "duel", desc := "(LLastPebble$Beach;)V" } : Jvm.MethodName)) ∈ lw_all := lw_g (lw_at lw_m4 31 rfl) rfl
theorem q885 : (Jvm.Cond.code ({ cls := "LastPebble$Reader", name := "duel", desc := "(LLastPebble$Beach;)V" } : Jvm.MethodName) prog_11_method_24_code (2 : Nat) (Option.none : Option Jvm.ClassFile.FieldType)) ∈ lw_all := lw_g (lw_at lw_m4 32 rfl) rfl
theorem q939 : (Jvm.Cond.instanceMethod ({ cls := "LastPebble$Reader", name := "days", desc := "(LLastPebble$Beach;LLastPebble$Block;)V" } : Jvm.MethodName)) ∈ lw_all := lw_g (lw_at lw_m4 86 rfl) rfl
theorem q940 : (Jvm.Cond.selects "LastPebble$Reader" ({ cls := "LastPebble$Reader", name := "days", desc := "(LLastPebble$Beach;LLastPebble$Block;)V" } : Jvm.MethodName) ({ cls := "LastPebble$Reader", name := "days", desc := "(LLastPebble$Beach;LLastPebble$Block;)V" } : Jvm.MethodName)) ∈ lw_all := lw_g (lw_at lw_m4 87 rfl) rfl
theorem q941 : (Jvm.Cond.code ({ cls := "LastPebble$Reader", name := "days", desc := "(LLastPebble$Beach;LLastPebble$Block;)V" } : Jvm.MethodName) prog_11_method_25_code (3 : Nat) (Option.none : Option Jvm.ClassFile.FieldType)) ∈ lw_all := lw_g (lw_at lw_m4 88 rfl) rfl
theorem q942 : (Jvm.Cond.methodLink "LastPebble$Reader" (249 : Nat) ({ cls := "LastPebble$Reader", name := "step", desc := "(LLastPebble$Beach;LLastPebble$Block;I)V" } : Jvm.MethodName)) ∈ lw_all := lw_g (lw_at lw_m4 89 rfl) rfl
theorem q943 : (Jvm.Cond.privateMethod ({ cls := "LastPebble$Reader", name := "step", desc := "(LLastPebble$Beach;LLastPebble$Block;I)V" } : Jvm.MethodName)) ∈ lw_tbl := lw_at lw_m4 90 rfl
theorem q944 : (Jvm.Cond.instanceMethod ({ cls := "LastPebble$Reader", name := "step", desc := "(LLastPebble$Beach;LLastPebble$Block;I)V" } : Jvm.MethodName)) ∈ lw_all := lw_g (lw_at lw_m4 91 rfl) rfl
theorem q945 : (Jvm.Cond.code ({ cls := "LastPebble$Reader", name := "step", desc := "(LLastPebble$Beach;LLastPebble$Block;I)V" } : Jvm.MethodName) prog_11_method_26_code (7 : Nat) (Option.none : Option Jvm.ClassFile.FieldType)) ∈ lw_all := lw_g (lw_at lw_m4 92 rfl) rfl
theorem q946 : (Jvm.Cond.methodLink "LastPebble$Reader" (256 : Nat) ({ cls := "LastPebble$Reader", name := "block", desc := "(LLastPebble$Beach;ZI)LLastPebble$Block;" } : Jvm.MethodName)) ∈ lw_all := lw_g (lw_at lw_m4 93 rfl) rfl
theorem q947 : (Jvm.Cond.privateMethod ({ cls := "LastPebble$Reader", name := "block", desc := "(LLastPebble$Beach;ZI)LLastPebble$Block;" } : Jvm.MethodName)) ∈ lw_tbl := lw_at lw_m4 94 rfl
theorem q948 : (Jvm.Cond.instanceMethod ({ cls := "LastPebble$Reader", name := "block", desc := "(LLastPebble$Beach;ZI)LLastPebble$Block;" } : Jvm.MethodName)) ∈ lw_all := lw_g (lw_at lw_m4 95 rfl) rfl
theorem q949 : (Jvm.Cond.code ({ cls := "LastPebble$Reader", name := "block", desc := "(LLastPebble$Beach;ZI)LLastPebble$Block;" } : Jvm.MethodName) prog_11_method_28_code (5 : Nat) (Option.some (Jvm.ClassFile.FieldType.object "LastPebble$Block"))) ∈ lw_all := lw_g (lw_at lw_m4 96 rfl) rfl
theorem q950 : (Jvm.Cond.methodLink "LastPebble$Reader" (275 : Nat) ({ cls := "LastPebble$Reader", name := "when", desc := "(LLastPebble$Beach;)LLastPebble$When;" } : Jvm.MethodName)) ∈ lw_all := lw_g (lw_at lw_m4 97 rfl) rfl
theorem q951 : (Jvm.Cond.privateMethod ({ cls := "LastPebble$Reader", name := "when", desc := "(LLastPebble$Beach;)LLastPebble$When;" } : Jvm.MethodName)) ∈ lw_tbl := lw_at lw_m4 98 rfl
theorem q952 : (Jvm.Cond.instanceMethod ({ cls := "LastPebble$Reader", name := "when", desc := "(LLastPebble$Beach;)LLastPebble$When;" } : Jvm.MethodName)) ∈ lw_all := lw_g (lw_at lw_m4 99 rfl) rfl
theorem q953 : (Jvm.Cond.code ({ cls := "LastPebble$Reader", name := "when", desc := "(LLastPebble$Beach;)LLastPebble$When;" } : Jvm.MethodName) prog_11_method_29_code (5 : Nat) (Option.some (Jvm.ClassFile.FieldType.object "LastPebble$When"))) ∈ lw_all := lw_g (lw_at lw_m4 100 rfl) rfl
theorem q954 : (Jvm.Cond.classLink "LastPebble$Reader" (283 : Nat) "LastPebble$When") ∈ lw_all := lw_g (lw_at lw_m4 101 rfl) rfl
theorem q956 : (Jvm.Cond.methodLink "LastPebble$Reader" (285 : Nat) ({ cls := "LastPebble$When", name := "<init>", desc := "(IIIII)V" } : Jvm.MethodName)) ∈ lw_all := lw_g (lw_at lw_m4 103 rfl) rfl
theorem q978 : (Jvm.Cond.classLink "LastPebble$Reader" (278 : Nat) "LastPebble$Loop") ∈ lw_all := lw_g (lw_at lw_m4 125 rfl) rfl
theorem q979 : (Jvm.Cond.methodLink "LastPebble$Reader" (280 : Nat) ({ cls := "LastPebble$Loop", name := "<init>", desc := "(I)V" } : Jvm.MethodName)) ∈ lw_all := lw_g (lw_at lw_m4 126 rfl) rfl
theorem q980 : (Jvm.Cond.methodLink "LastPebble$Reader" (260 : Nat) ({ cls := "LastPebble$Reader", name := "plain", desc := "(LLastPebble$Beach;)LLastPebble$Step;" } : Jvm.MethodName)) ∈ lw_all := lw_g (lw_at lw_m4 127 rfl) rfl
theorem q981 : (Jvm.Cond.privateMethod ({ cls := "LastPebble$Reader", name := "plain", desc := "(LLastPebble$Beach;)LLastPebble$Step;" } : Jvm.MethodName)) ∈ lw_tbl := lw_at lw_m4 128 rfl
theorem q982 : (Jvm.Cond.instanceMethod ({ cls := "LastPebble$Reader", name := "plain", desc := "(LLastPebble$Beach;)LLastPebble$Step;" } : Jvm.MethodName)) ∈ lw_all := lw_g (lw_at lw_m4 129 rfl) rfl
theorem q983 : (Jvm.Cond.code ({ cls := "LastPebble$Reader", name := "plain", desc := "(LLastPebble$Beach;)LLastPebble$Step;" } : Jvm.MethodName) prog_11_method_27_code (4 : Nat) (Option.some (Jvm.ClassFile.FieldType.object "LastPebble$Step"))) ∈ lw_all := lw_g (lw_at lw_m4 130 rfl) rfl
theorem q984 : (Jvm.Cond.classLink "LastPebble$Reader" (270 : Nat) "LastPebble$Act") ∈ lw_all := lw_g (lw_at lw_m4 131 rfl) rfl
theorem q986 : (Jvm.Cond.methodLink "LastPebble$Reader" (272 : Nat) ({ cls := "LastPebble$Act", name := "<init>", desc := "(III)V" } : Jvm.MethodName)) ∈ lw_all := lw_g (lw_at lw_m4 133 rfl) rfl
theorem q1000 : (Jvm.Cond.methodLink "LastPebble$Reader" (264 : Nat) ({ cls := "LastPebble$Block", name := "add", desc := "(LLastPebble$Step;)V" } : Jvm.MethodName)) ∈ lw_all := lw_g (lw_at lw_m4 147 rfl) rfl
theorem in_X9 : ∀ w ∈ wsX90, w ∈ lw_all := lw_in wsX90 [697, 699, 701, 703, 705, 707, 709, 711] (by decide +kernel) (by decide +kernel)

/-! java/lang/StringLatin1 -/
set_option maxRecDepth 100000
def RJ7 : String := "java/lang/StringLatin1"
theorem q152 : (Jvm.Cond.initialized "java/lang/StringLatin1") ∈ lw_all := lw_g (lw_at lw_m1 19 rfl) rfl
theorem q750 : (Jvm.Cond.static ({ cls := "java/lang/StringLatin1", name := "charAt", desc := "([BI)C" } : Jvm.MethodName)) ∈ lw_all := lw_g (lw_at lw_m3 137 rfl) rfl
theorem q751 : (Jvm.Cond.code ({ cls := "java/lang/StringLatin1", name := "charAt", desc := "([BI)C" } : Jvm.MethodName) prog_27_method_2_code (2 : Nat) (Option.some Jvm.ClassFile.FieldType.char)) ∈ lw_all := lw_g (lw_at lw_m3 138 rfl) rfl
theorem q752 : (Jvm.Cond.methodLink "java/lang/StringLatin1" (9 : Nat) ({ cls := "java/lang/String", name := "checkIndex", desc := "(II)V" } : Jvm.MethodName)) ∈ lw_all := lw_g (lw_at lw_m3 139 rfl) rfl

/-! jdk/internal/util/Preconditions -/
set_option maxRecDepth 100000
def RJ8 : String := "jdk/internal/util/Preconditions"
theorem q153 : (Jvm.Cond.initialized "jdk/internal/util/Preconditions") ∈ lw_all := lw_g (lw_at lw_m1 20 rfl) rfl
theorem q756 : (Jvm.Cond.laysStatic "jdk/internal/util/Preconditions" "SIOOBE_FORMATTER" "Ljava/util/function/BiFunction;") ∈ lw_tbl := lw_at lw_m3 143 rfl
theorem q758 : (Jvm.Cond.static ({ cls := "jdk/internal/util/Preconditions", name := "checkIndex", desc := "(IILjava/util/function/BiFunction;)I" } : Jvm.MethodName)) ∈ lw_all := lw_g (lw_at lw_m3 145 rfl) rfl
theorem q759 : (Jvm.Cond.code ({ cls := "jdk/internal/util/Preconditions", name := "checkIndex", desc := "(IILjava/util/function/BiFunction;)I" } : Jvm.MethodName) prog_31_method_11_code (3 : Nat) (Option.some Jvm.ClassFile.FieldType.int)) ∈ lw_all := lw_g (lw_at lw_m3 146 rfl) rfl

/-! java/lang/StringUTF16 -/
set_option maxRecDepth 100000
def RJ9 : String := "java/lang/StringUTF16"
theorem q154 : (Jvm.Cond.initialized "java/lang/StringUTF16") ∈ lw_all := lw_g (lw_at lw_m1 21 rfl) rfl
theorem q761 : (Jvm.Cond.static ({ cls := "java/lang/StringUTF16", name := "charAt", desc := "([BI)C" } : Jvm.MethodName)) ∈ lw_all := lw_g (lw_at lw_m3 148 rfl) rfl
theorem q762 : (Jvm.Cond.code ({ cls := "java/lang/StringUTF16", name := "charAt", desc := "([BI)C" } : Jvm.MethodName) prog_28_method_83_code (2 : Nat) (Option.some Jvm.ClassFile.FieldType.char)) ∈ lw_all := lw_g (lw_at lw_m3 149 rfl) rfl
theorem q763 : (Jvm.Cond.methodLink "java/lang/StringUTF16" (67 : Nat) ({ cls := "java/lang/StringUTF16", name := "checkIndex", desc := "(I[B)V" } : Jvm.MethodName)) ∈ lw_all := lw_g (lw_at lw_m3 150 rfl) rfl
theorem q764 : (Jvm.Cond.static ({ cls := "java/lang/StringUTF16", name := "checkIndex", desc := "(I[B)V" } : Jvm.MethodName)) ∈ lw_all := lw_g (lw_at lw_m3 151 rfl) rfl
theorem q765 : (Jvm.Cond.code ({ cls := "java/lang/StringUTF16", name := "checkIndex", desc := "(I[B)V" } : Jvm.MethodName) prog_28_method_91_code (2 : Nat) (Option.none : Option Jvm.ClassFile.FieldType)) ∈ lw_all := lw_g (lw_at lw_m3 152 rfl) rfl
theorem q766 : (Jvm.Cond.methodLink "java/lang/StringUTF16" (48 : Nat) ({ cls := "java/lang/StringUTF16", name := "length", desc := "([B)I" } : Jvm.MethodName)) ∈ lw_all := lw_g (lw_at lw_m3 153 rfl) rfl
theorem q767 : (Jvm.Cond.static ({ cls := "java/lang/StringUTF16", name := "length", desc := "([B)I" } : Jvm.MethodName)) ∈ lw_all := lw_g (lw_at lw_m3 154 rfl) rfl
theorem q768 : (Jvm.Cond.code ({ cls := "java/lang/StringUTF16", name := "length", desc := "([B)I" } : Jvm.MethodName) prog_28_method_6_code (1 : Nat) (Option.some Jvm.ClassFile.FieldType.int)) ∈ lw_all := lw_g (lw_at lw_m3 155 rfl) rfl
theorem q769 : (Jvm.Cond.methodLink "java/lang/StringUTF16" (414 : Nat) ({ cls := "java/lang/String", name := "checkIndex", desc := "(II)V" } : Jvm.MethodName)) ∈ lw_all := lw_g (lw_at lw_m3 156 rfl) rfl
theorem q770 : (Jvm.Cond.methodLink "java/lang/StringUTF16" (71 : Nat) ({ cls := "java/lang/StringUTF16", name := "getChar", desc := "([BI)C" } : Jvm.MethodName)) ∈ lw_all := lw_g (lw_at lw_m3 157 rfl) rfl
theorem q771 : (Jvm.Cond.static ({ cls := "java/lang/StringUTF16", name := "getChar", desc := "([BI)C" } : Jvm.MethodName)) ∈ lw_all := lw_g (lw_at lw_m3 158 rfl) rfl
theorem q772 : (Jvm.Cond.code ({ cls := "java/lang/StringUTF16", name := "getChar", desc := "([BI)C" } : Jvm.MethodName) prog_28_method_5_code (2 : Nat) (Option.some Jvm.ClassFile.FieldType.char)) ∈ lw_all := lw_g (lw_at lw_m3 159 rfl) rfl
theorem q773 : (Jvm.Cond.fieldLink "java/lang/StringUTF16" (44 : Nat) "java/lang/StringUTF16" "$assertionsDisabled" "Z") ∈ lw_all := lw_g (lw_at lw_m3 160 rfl) rfl
theorem q774 : (Jvm.Cond.laysStatic "java/lang/StringUTF16" "$assertionsDisabled" "Z") ∈ lw_tbl := lw_at lw_m3 161 rfl
theorem q775 : (Jvm.Cond.fieldLink "java/lang/StringUTF16" (59 : Nat) "java/lang/StringUTF16" "HI_BYTE_SHIFT" "I") ∈ lw_all := lw_g (lw_at lw_m3 162 rfl) rfl
theorem q776 : (Jvm.Cond.laysStatic "java/lang/StringUTF16" "HI_BYTE_SHIFT" "I") ∈ lw_tbl := lw_at lw_m3 163 rfl
theorem q777 : (Jvm.Cond.fieldLink "java/lang/StringUTF16" (63 : Nat) "java/lang/StringUTF16" "LO_BYTE_SHIFT" "I") ∈ lw_all := lw_g (lw_at lw_m3 164 rfl) rfl
theorem q778 : (Jvm.Cond.laysStatic "java/lang/StringUTF16" "LO_BYTE_SHIFT" "I") ∈ lw_tbl := lw_at lw_m3 165 rfl

/-! java/lang/Math -/
set_option maxRecDepth 100000
def RJ10 : String := "java/lang/Math"
theorem q155 : (Jvm.Cond.initialized "java/lang/Math") ∈ lw_all := lw_g (lw_at lw_m1 22 rfl) rfl
theorem q1058 : (Jvm.Cond.static ({ cls := "java/lang/Math", name := "abs", desc := "(I)I" } : Jvm.MethodName)) ∈ lw_all := lw_g (lw_at lw_m4 205 rfl) rfl
theorem q1059 : (Jvm.Cond.code ({ cls := "java/lang/Math", name := "abs", desc := "(I)I" } : Jvm.MethodName) prog_23_method_59_code (1 : Nat) (Option.some Jvm.ClassFile.FieldType.int)) ∈ lw_all := lw_g (lw_at lw_m4 206 rfl) rfl
theorem q1165 : (Jvm.Cond.static ({ cls := "java/lang/Math", name := "max", desc := "(II)I" } : Jvm.MethodName)) ∈ lw_all := lw_g (lw_at lw_m5 72 rfl) rfl
theorem q1166 : (Jvm.Cond.code ({ cls := "java/lang/Math", name := "max", desc := "(II)I" } : Jvm.MethodName) prog_23_method_65_code (2 : Nat) (Option.some Jvm.ClassFile.FieldType.int)) ∈ lw_all := lw_g (lw_at lw_m5 73 rfl) rfl
theorem q1279 : (Jvm.Cond.static ({ cls := "java/lang/Math", name := "min", desc := "(II)I" } : Jvm.MethodName)) ∈ lw_all := lw_g (lw_at lw_m5 186 rfl) rfl
theorem q1280 : (Jvm.Cond.code ({ cls := "java/lang/Math", name := "min", desc := "(II)I" } : Jvm.MethodName) prog_23_method_69_code (2 : Nat) (Option.some Jvm.ClassFile.FieldType.int)) ∈ lw_all := lw_g (lw_at lw_m5 187 rfl) rfl
theorem q1295 : (Jvm.Cond.static ({ cls := "java/lang/Math", name := "abs", desc := "(J)J" } : Jvm.MethodName)) ∈ lw_all := lw_g (lw_at lw_m5 202 rfl) rfl
theorem q1296 : (Jvm.Cond.code ({ cls := "java/lang/Math", name := "abs", desc := "(J)J" } : Jvm.MethodName) prog_23_method_61_code (2 : Nat) (Option.some Jvm.ClassFile.FieldType.long)) ∈ lw_all := lw_g (lw_at lw_m5 203 rfl) rfl

/-! LastPebble$Step -/
set_option maxRecDepth 100000
def RX10 : String := "LastPebble$Step"
theorem q156 : (Jvm.Cond.initialized "LastPebble$Step") ∈ lw_all := lw_g (lw_at lw_m1 23 rfl) rfl
theorem q919 : (Jvm.Cond.instanceMethod ({ cls := "LastPebble$Step", name := "<init>", desc := "()V" } : Jvm.MethodName)) ∈ lw_all := lw_g (lw_at lw_m4 66 rfl) rfl
theorem q920 : (Jvm.Cond.code ({ cls := "LastPebble$Step", name := "<init>", desc := "()V" } : Jvm.MethodName) prog_13_method_1_code (1 : Nat) (Option.none : Option Jvm.ClassFile.FieldType)) ∈ lw_all := lw_g (lw_at lw_m4 67 rfl) rfl
theorem q921 : (Jvm.Cond.methodLink "LastPebble$Step" (3 : Nat) ({ cls := "java/lang/Object", name := "<init>", desc := "()V" } : Jvm.MethodName)) ∈ lw_all := lw_g (lw_at lw_m4 68 rfl) rfl
theorem q1424 : (Jvm.Cond.fieldLinkNest "LastPebble$Step" (9 : Nat) "LastPebble$Living" "done" "I" "LastPebble") ∈ lw_tbl := lw_at lw_m6 91 rfl
theorem q1437 : (Jvm.Cond.fieldLinkNest "LastPebble$Step" (15 : Nat) "LastPebble$Living" "isOver" "Z" "LastPebble") ∈ lw_tbl := lw_at lw_m6 104 rfl
theorem q1438 : (Jvm.Cond.fieldLinkNest "LastPebble$Step" (19 : Nat) "LastPebble$Living" "isLeft" "Z" "LastPebble") ∈ lw_tbl := lw_at lw_m6 105 rfl
theorem q1466 : (Jvm.Cond.instanceMethod ({ cls := "LastPebble$Step", name := "go", desc := "(LLastPebble$Living;)V" } : Jvm.MethodName)) ∈ lw_all := lw_g (lw_at lw_m6 133 rfl) rfl
theorem q1467 : (Jvm.Cond.sameMethod "LastPebble$Step" "LastPebble$Step" "go" "(LLastPebble$Living;)V") ∈ lw_all := lw_g (lw_at lw_m6 134 rfl) rfl
theorem q1471 : (Jvm.Cond.code ({ cls := "LastPebble$Step", name := "go", desc := "(LLastPebble$Living;)V" } : Jvm.MethodName) prog_13_method_3_code (2 : Nat) (Option.none : Option Jvm.ClassFile.FieldType)) ∈ lw_all := lw_g (lw_at lw_m6 138 rfl) rfl
theorem q1472 : (Jvm.Cond.methodLink "LastPebble$Step" (22 : Nat) ({ cls := "LastPebble$Step", name := "does", desc := "(LLastPebble$Living;)V" } : Jvm.MethodName)) ∈ lw_all := lw_g (lw_at lw_m6 139 rfl) rfl
theorem q1473 : (Jvm.Cond.declares ({ cls := "LastPebble$Step", name := "does", desc := "(LLastPebble$Living;)V" } : Jvm.MethodName)) ∈ lw_tbl := lw_at lw_m6 140 rfl
theorem q1474 : (Jvm.Cond.sameMethod "LastPebble$Step" "LastPebble$Step" "does" "(LLastPebble$Living;)V") ∈ lw_all := lw_g (lw_at lw_m6 141 rfl) rfl

/-! LastPebble$Block -/
set_option maxRecDepth 100000
def RX11 : String := "LastPebble$Block"
theorem q157 : (Jvm.Cond.initialized "LastPebble$Block") ∈ lw_all := lw_g (lw_at lw_m1 24 rfl) rfl
theorem q916 : (Jvm.Cond.instanceMethod ({ cls := "LastPebble$Block", name := "<init>", desc := "()V" } : Jvm.MethodName)) ∈ lw_all := lw_g (lw_at lw_m4 63 rfl) rfl
theorem q917 : (Jvm.Cond.code ({ cls := "LastPebble$Block", name := "<init>", desc := "()V" } : Jvm.MethodName) prog_5_method_1_code (1 : Nat) (Option.none : Option Jvm.ClassFile.FieldType)) ∈ lw_all := lw_g (lw_at lw_m4 64 rfl) rfl
theorem q918 : (Jvm.Cond.methodLinkNest "LastPebble$Block" (1 : Nat) ({ cls := "LastPebble$Step", name := "<init>", desc := "()V" } : Jvm.MethodName) "LastPebble") ∈ lw_tbl := lw_at lw_m4 65 rfl
theorem q922 : (Jvm.Cond.classLink "LastPebble$Block" (2 : Nat) "LastPebble$Step") ∈ lw_all := lw_g (lw_at lw_m4 69 rfl) rfl
theorem q925 : (Jvm.Cond.fieldLink "LastPebble$Block" (7 : Nat) "LastPebble$Block" "steps" "[LLastPebble$Step;") ∈ lw_all := lw_g (lw_at lw_m4 72 rfl) rfl
theorem q926 : (Jvm.Cond.fieldLink "LastPebble$Block" (13 : Nat) "LastPebble$Block" "size" "I") ∈ lw_all := lw_g (lw_at lw_m4 73 rfl) rfl
theorem q930 : (Jvm.Cond.soleField "LastPebble$Block" "steps") ∈ lw_all := lw_g (lw_at lw_m4 77 rfl) rfl
theorem q932 : (Jvm.Cond.soleField "LastPebble$Block" "size") ∈ lw_all := lw_g (lw_at lw_m4 79 rfl) rfl
theorem q1001 : (Jvm.Cond.instanceMethod ({ cls := "LastPebble$Block", name := "add", desc := "(LLastPebble$Step;)V" } : Jvm.MethodName)) ∈ lw_all := lw_g (lw_at lw_m4 148 rfl) rfl
theorem q1002 : (Jvm.Cond.sameMethod "LastPebble$Block" "LastPebble$Block" "add" "(LLastPebble$Step;)V") ∈ lw_all := lw_g (lw_at lw_m4 149 rfl) rfl
theorem q1005 : (Jvm.Cond.code ({ cls := "LastPebble$Block", name := "add", desc := "(LLastPebble$Step;)V" } : Jvm.MethodName) prog_5_method_2_code (3 : Nat) (Option.none : Option Jvm.ClassFile.FieldType)) ∈ lw_all := lw_g (lw_at lw_m4 152 rfl) rfl
theorem q1006 : (Jvm.Cond.methodLink "LastPebble$Block" (17 : Nat) ({ cls := "java/lang/System", name := "arraycopy", desc := "(Ljava/lang/Object;ILjava/lang/Object;II)V" } : Jvm.MethodName)) ∈ lw_all := lw_g (lw_at lw_m4 153 rfl) rfl
theorem q1436 : (Jvm.Cond.fieldLinkNest "LastPebble$Block" (23 : Nat) "LastPebble$Living" "isOver" "Z" "LastPebble") ∈ lw_tbl := lw_at lw_m6 103 rfl
theorem q1461 : (Jvm.Cond.declares ({ cls := "LastPebble$Block", name := "all", desc := "(LLastPebble$Living;)V" } : Jvm.MethodName)) ∈ lw_tbl := lw_at lw_m6 128 rfl
theorem q1463 : (Jvm.Cond.instanceMethod ({ cls := "LastPebble$Block", name := "all", desc := "(LLastPebble$Living;)V" } : Jvm.MethodName)) ∈ lw_all := lw_g (lw_at lw_m6 130 rfl) rfl
theorem q1464 : (Jvm.Cond.code ({ cls := "LastPebble$Block", name := "all", desc := "(LLastPebble$Living;)V" } : Jvm.MethodName) prog_5_method_3_code (3 : Nat) (Option.none : Option Jvm.ClassFile.FieldType)) ∈ lw_all := lw_g (lw_at lw_m6 131 rfl) rfl
theorem q1465 : (Jvm.Cond.methodLink "LastPebble$Block" (29 : Nat) ({ cls := "LastPebble$Step", name := "go", desc := "(LLastPebble$Living;)V" } : Jvm.MethodName)) ∈ lw_all := lw_g (lw_at lw_m6 132 rfl) rfl

/-! LastPebble$Loop -/
set_option maxRecDepth 100000
def RX12 : String := "LastPebble$Loop"
def TX12 : u_T := fun k => match k with
  | 0 => ("LastPebble$Block", "steps", "[LLastPebble$Step;", false)
  | 1 => ("LastPebble$Block", "size", "I", false)
  | _ => ("LastPebble$Loop", "times", "I", true)
def tyX12 : Nat → FieldType := fun k => match k with
  | 0 => .array (.object "LastPebble$Step")
  | 1 => .int
  | _ => .int
abbrev wsX120 : List Cond := u_ws RX12 TX12 3
theorem nmX12 : ∀ a, a < 3 → ∀ b, b < 3 → a ≠ b → (TX12 a).2.1 ≠ (TX12 b).2.1 := by decide +kernel
theorem tyX12_ok : ∀ k, k < 3 → parseFieldDescriptor (TX12 k).2.2.1 = some (tyX12 k) := by decide +kernel
theorem q158 : (Jvm.Cond.initialized "LastPebble$Loop") ∈ lw_all := lw_g (lw_at lw_m1 25 rfl) rfl
theorem q911 : (Jvm.Cond.instantiable "LastPebble$Loop" (3 : Nat)) ∈ lw_all := lw_g (lw_at lw_m4 58 rfl) rfl
theorem q913 : (Jvm.Cond.instanceMethod ({ cls := "LastPebble$Loop", name := "<init>", desc := "(I)V" } : Jvm.MethodName)) ∈ lw_all := lw_g (lw_at lw_m4 60 rfl) rfl
theorem q914 : (Jvm.Cond.code ({ cls := "LastPebble$Loop", name := "<init>", desc := "(I)V" } : Jvm.MethodName) prog_10_method_1_code (2 : Nat) (Option.none : Option Jvm.ClassFile.FieldType)) ∈ lw_all := lw_g (lw_at lw_m4 61 rfl) rfl
theorem q915 : (Jvm.Cond.methodLinkNest "LastPebble$Loop" (1 : Nat) ({ cls := "LastPebble$Block", name := "<init>", desc := "()V" } : Jvm.MethodName) "LastPebble") ∈ lw_tbl := lw_at lw_m4 62 rfl
theorem q924 : (Jvm.Cond.fieldLink "LastPebble$Loop" (7 : Nat) "LastPebble$Loop" "times" "I") ∈ lw_all := lw_g (lw_at lw_m4 71 rfl) rfl
theorem q927 : (Jvm.Cond.laysFinal "LastPebble$Loop" "LastPebble$Loop" "times" "I") ∈ lw_all := lw_g (lw_at lw_m4 74 rfl) rfl
theorem q928 : (Jvm.Cond.soleField "LastPebble$Loop" "times") ∈ lw_all := lw_g (lw_at lw_m4 75 rfl) rfl
theorem q929 : (Jvm.Cond.lays "LastPebble$Loop" "LastPebble$Block" "steps" "[LLastPebble$Step;") ∈ lw_all := lw_g (lw_at lw_m4 76 rfl) rfl
theorem q931 : (Jvm.Cond.lays "LastPebble$Loop" "LastPebble$Block" "size" "I") ∈ lw_all := lw_g (lw_at lw_m4 78 rfl) rfl
theorem q933 : (Jvm.Cond.superclass "LastPebble$Loop" "LastPebble$Block") ∈ lw_all := lw_g (lw_at lw_m4 80 rfl) rfl
theorem q1003 : (Jvm.Cond.selects "LastPebble$Loop" ({ cls := "LastPebble$Block", name := "add", desc := "(LLastPebble$Step;)V" } : Jvm.MethodName) ({ cls := "LastPebble$Block", name := "add", desc := "(LLastPebble$Step;)V" } : Jvm.MethodName)) ∈ lw_all := lw_g (lw_at lw_m4 150 rfl) rfl
theorem q1434 : (Jvm.Cond.fieldLinkNest "LastPebble$Loop" (13 : Nat) "LastPebble$Living" "isOver" "Z" "LastPebble") ∈ lw_tbl := lw_at lw_m6 101 rfl
theorem q1460 : (Jvm.Cond.sameMethod "LastPebble$Loop" "LastPebble$Block" "all" "(LLastPebble$Living;)V") ∈ lw_all := lw_g (lw_at lw_m6 127 rfl) rfl
theorem q1462 : (Jvm.Cond.selects "LastPebble$Loop" ({ cls := "LastPebble$Loop", name := "all", desc := "(LLastPebble$Living;)V" } : Jvm.MethodName) ({ cls := "LastPebble$Block", name := "all", desc := "(LLastPebble$Living;)V" } : Jvm.MethodName)) ∈ lw_all := lw_g (lw_at lw_m6 129 rfl) rfl
theorem q1469 : (Jvm.Cond.selects "LastPebble$Loop" ({ cls := "LastPebble$Step", name := "go", desc := "(LLastPebble$Living;)V" } : Jvm.MethodName) ({ cls := "LastPebble$Step", name := "go", desc := "(LLastPebble$Living;)V" } : Jvm.MethodName)) ∈ lw_all := lw_g (lw_at lw_m6 136 rfl) rfl
theorem q1503 : (Jvm.Cond.selects "LastPebble$Loop" ({ cls := "LastPebble$Step", name := "does", desc := "(LLastPebble$Living;)V" } : Jvm.MethodName) ({ cls := "LastPebble$Loop", name := "does", desc := "(LLastPebble$Living;)V" } : Jvm.MethodName)) ∈ lw_all := lw_g (lw_at lw_m6 170 rfl) rfl
theorem q1504 : (Jvm.Cond.instanceMethod ({ cls := "LastPebble$Loop", name := "does", desc := "(LLastPebble$Living;)V" } : Jvm.MethodName)) ∈ lw_all := lw_g (lw_at lw_m6 171 rfl) rfl
theorem q1505 : (Jvm.Cond.code ({ cls := "LastPebble$Loop", name := "does", desc := "(LLastPebble$Living;)V" } : Jvm.MethodName) prog_10_method_2_code (3 : Nat) (Option.none : Option Jvm.ClassFile.FieldType)) ∈ lw_all := lw_g (lw_at lw_m6 172 rfl) rfl
theorem q1506 : (Jvm.Cond.methodLink "LastPebble$Loop" (19 : Nat) ({ cls := "LastPebble$Loop", name := "all", desc := "(LLastPebble$Living;)V" } : Jvm.MethodName)) ∈ lw_all := lw_g (lw_at lw_m6 173 rfl) rfl
theorem q2293 : (Jvm.Cond.castable "LastPebble$Loop" "LastPebble$Step") ∈ lw_tbl := lw_at lw_m10 0 rfl
theorem in_X12 : ∀ w ∈ wsX120, w ∈ lw_all := lw_in wsX120 [929, 931, 927] (by decide +kernel) (by decide +kernel)

/-! LastPebble$When -/
set_option maxRecDepth 100000
def RX13 : String := "LastPebble$When"
def TX13 : u_T := fun k => match k with
  | 0 => ("LastPebble$Block", "steps", "[LLastPebble$Step;", false)
  | 1 => ("LastPebble$Block", "size", "I", false)
  | 2 => ("LastPebble$When", "what", "I", true)
  | 3 => ("LastPebble$When", "finder", "I", true)
  | 4 => ("LastPebble$When", "find", "I", true)
  | 5 => ("LastPebble$When", "sign", "I", true)
  | _ => ("LastPebble$When", "number", "I", true)
def tyX13 : Nat → FieldType := fun k => match k with
  | 0 => .array (.object "LastPebble$Step")
  | 1 => .int
  | 2 => .int
  | 3 => .int
  | 4 => .int
  | 5 => .int
  | _ => .int
abbrev wsX130 : List Cond := u_ws RX13 TX13 7
theorem nmX13 : ∀ a, a < 7 → ∀ b, b < 7 → a ≠ b → (TX13 a).2.1 ≠ (TX13 b).2.1 := by decide +kernel
theorem tyX13_ok : ∀ k, k < 7 → parseFieldDescriptor (TX13 k).2.2.1 = some (tyX13 k) := by decide +kernel
theorem q159 : (Jvm.Cond.initialized "LastPebble$When") ∈ lw_all := lw_g (lw_at lw_m1 26 rfl) rfl
theorem q397 : (Jvm.Cond.fieldLinkNest "LastPebble$When" (43 : Nat) "LastPebble$Heap" "size" "I" "LastPebble") ∈ lw_tbl := lw_at lw_m2 24 rfl
theorem q420 : (Jvm.Cond.fieldLinkNest "LastPebble$When" (27 : Nat) "LastPebble$Day" "heaps" "[LLastPebble$Heap;" "LastPebble") ∈ lw_tbl := lw_at lw_m2 47 rfl
theorem q955 : (Jvm.Cond.instantiable "LastPebble$When" (7 : Nat)) ∈ lw_all := lw_g (lw_at lw_m4 102 rfl) rfl
theorem q957 : (Jvm.Cond.instanceMethod ({ cls := "LastPebble$When", name := "<init>", desc := "(IIIII)V" } : Jvm.MethodName)) ∈ lw_all := lw_g (lw_at lw_m4 104 rfl) rfl
theorem q958 : (Jvm.Cond.code ({ cls := "LastPebble$When", name := "<init>", desc := "(IIIII)V" } : Jvm.MethodName) prog_15_method_1_code (6 : Nat) (Option.none : Option Jvm.ClassFile.FieldType)) ∈ lw_all := lw_g (lw_at lw_m4 105 rfl) rfl
theorem q959 : (Jvm.Cond.methodLinkNest "LastPebble$When" (3 : Nat) ({ cls := "LastPebble$Block", name := "<init>", desc := "()V" } : Jvm.MethodName) "LastPebble") ∈ lw_tbl := lw_at lw_m4 106 rfl
theorem q960 : (Jvm.Cond.fieldLink "LastPebble$When" (9 : Nat) "LastPebble$When" "what" "I") ∈ lw_all := lw_g (lw_at lw_m4 107 rfl) rfl
theorem q961 : (Jvm.Cond.fieldLink "LastPebble$When" (15 : Nat) "LastPebble$When" "finder" "I") ∈ lw_all := lw_g (lw_at lw_m4 108 rfl) rfl
theorem q962 : (Jvm.Cond.fieldLink "LastPebble$When" (18 : Nat) "LastPebble$When" "find" "I") ∈ lw_all := lw_g (lw_at lw_m4 109 rfl) rfl
theorem q963 : (Jvm.Cond.fieldLink "LastPebble$When" (21 : Nat) "LastPebble$When" "sign" "I") ∈ lw_all := lw_g (lw_at lw_m4 110 rfl) rfl
theorem q964 : (Jvm.Cond.fieldLink "LastPebble$When" (24 : Nat) "LastPebble$When" "number" "I") ∈ lw_all := lw_g (lw_at lw_m4 111 rfl) rfl
theorem q965 : (Jvm.Cond.laysFinal "LastPebble$When" "LastPebble$When" "what" "I") ∈ lw_all := lw_g (lw_at lw_m4 112 rfl) rfl
theorem q966 : (Jvm.Cond.soleField "LastPebble$When" "what") ∈ lw_all := lw_g (lw_at lw_m4 113 rfl) rfl
theorem q967 : (Jvm.Cond.laysFinal "LastPebble$When" "LastPebble$When" "finder" "I") ∈ lw_all := lw_g (lw_at lw_m4 114 rfl) rfl
theorem q968 : (Jvm.Cond.soleField "LastPebble$When" "finder") ∈ lw_all := lw_g (lw_at lw_m4 115 rfl) rfl
theorem q969 : (Jvm.Cond.laysFinal "LastPebble$When" "LastPebble$When" "find" "I") ∈ lw_all := lw_g (lw_at lw_m4 116 rfl) rfl
theorem q970 : (Jvm.Cond.soleField "LastPebble$When" "find") ∈ lw_all := lw_g (lw_at lw_m4 117 rfl) rfl
theorem q971 : (Jvm.Cond.laysFinal "LastPebble$When" "LastPebble$When" "sign" "I") ∈ lw_all := lw_g (lw_at lw_m4 118 rfl) rfl
theorem q972 : (Jvm.Cond.soleField "LastPebble$When" "sign") ∈ lw_all := lw_g (lw_at lw_m4 119 rfl) rfl
theorem q973 : (Jvm.Cond.laysFinal "LastPebble$When" "LastPebble$When" "number" "I") ∈ lw_all := lw_g (lw_at lw_m4 120 rfl) rfl
theorem q974 : (Jvm.Cond.soleField "LastPebble$When" "number") ∈ lw_all := lw_g (lw_at lw_m4 121 rfl) rfl
theorem q975 : (Jvm.Cond.lays "LastPebble$When" "LastPebble$Block" "steps" "[LLastPebble$Step;") ∈ lw_all := lw_g (lw_at lw_m4 122 rfl) rfl
theorem q976 : (Jvm.Cond.lays "LastPebble$When" "LastPebble$Block" "size" "I") ∈ lw_all := lw_g (lw_at lw_m4 123 rfl) rfl
theorem q977 : (Jvm.Cond.superclass "LastPebble$When" "LastPebble$Block") ∈ lw_all := lw_g (lw_at lw_m4 124 rfl) rfl
theorem q1004 : (Jvm.Cond.selects "LastPebble$When" ({ cls := "LastPebble$Block", name := "add", desc := "(LLastPebble$Step;)V" } : Jvm.MethodName) ({ cls := "LastPebble$Block", name := "add", desc := "(LLastPebble$Step;)V" } : Jvm.MethodName)) ∈ lw_all := lw_g (lw_at lw_m4 151 rfl) rfl
theorem q1422 : (Jvm.Cond.fieldLinkNest "LastPebble$When" (50 : Nat) "LastPebble$Living" "day" "LLastPebble$Day;" "LastPebble") ∈ lw_tbl := lw_at lw_m6 89 rfl
theorem q1470 : (Jvm.Cond.selects "LastPebble$When" ({ cls := "LastPebble$Step", name := "go", desc := "(LLastPebble$Living;)V" } : Jvm.MethodName) ({ cls := "LastPebble$Step", name := "go", desc := "(LLastPebble$Living;)V" } : Jvm.MethodName)) ∈ lw_all := lw_g (lw_at lw_m6 137 rfl) rfl
theorem q1507 : (Jvm.Cond.selects "LastPebble$When" ({ cls := "LastPebble$Step", name := "does", desc := "(LLastPebble$Living;)V" } : Jvm.MethodName) ({ cls := "LastPebble$When", name := "does", desc := "(LLastPebble$Living;)V" } : Jvm.MethodName)) ∈ lw_all := lw_g (lw_at lw_m6 174 rfl) rfl
theorem q1508 : (Jvm.Cond.instanceMethod ({ cls := "LastPebble$When", name := "does", desc := "(LLastPebble$Living;)V" } : Jvm.MethodName)) ∈ lw_all := lw_g (lw_at lw_m6 175 rfl) rfl
theorem q1509 : (Jvm.Cond.code ({ cls := "LastPebble$When", name := "does", desc := "(LLastPebble$Living;)V" } : Jvm.MethodName) prog_15_method_3_code (2 : Nat) (Option.none : Option Jvm.ClassFile.FieldType)) ∈ lw_all := lw_g (lw_at lw_m6 176 rfl) rfl
theorem q1510 : (Jvm.Cond.methodLink "LastPebble$When" (56 : Nat) ({ cls := "LastPebble$When", name := "is", desc := "(LLastPebble$Day;)Z" } : Jvm.MethodName)) ∈ lw_all := lw_g (lw_at lw_m6 177 rfl) rfl
theorem q1511 : (Jvm.Cond.privateMethod ({ cls := "LastPebble$When", name := "is", desc := "(LLastPebble$Day;)Z" } : Jvm.MethodName)) ∈ lw_tbl := lw_at lw_m6 178 rfl
theorem q1512 : (Jvm.Cond.instanceMethod ({ cls := "LastPebble$When", name := "is", desc := "(LLastPebble$Day;)Z" } : Jvm.MethodName)) ∈ lw_all := lw_g (lw_at lw_m6 179 rfl) rfl
theorem q1513 : (Jvm.Cond.code ({ cls := "LastPebble$When", name := "is", desc := "(LLastPebble$Day;)Z" } : Jvm.MethodName) prog_15_method_2_code (3 : Nat) (Option.some Jvm.ClassFile.FieldType.boolean)) ∈ lw_all := lw_g (lw_at lw_m6 180 rfl) rfl
theorem q1514 : (Jvm.Cond.methodLink "LastPebble$When" (33 : Nat) ({ cls := "LastPebble$Heap", name := "last", desc := "()I" } : Jvm.MethodName)) ∈ lw_all := lw_g (lw_at lw_m6 181 rfl) rfl
theorem q1515 : (Jvm.Cond.methodLink "LastPebble$When" (39 : Nat) ({ cls := "LastPebble$Day", name := "isThere", desc := "(I)Z" } : Jvm.MethodName)) ∈ lw_all := lw_g (lw_at lw_m6 182 rfl) rfl
theorem q1516 : (Jvm.Cond.methodLink "LastPebble$When" (46 : Nat) ({ cls := "LastPebble$Day", name := "leads", desc := "(I)I" } : Jvm.MethodName)) ∈ lw_all := lw_g (lw_at lw_m6 183 rfl) rfl
theorem q1517 : (Jvm.Cond.methodLink "LastPebble$When" (60 : Nat) ({ cls := "LastPebble$When", name := "all", desc := "(LLastPebble$Living;)V" } : Jvm.MethodName)) ∈ lw_all := lw_g (lw_at lw_m6 184 rfl) rfl
theorem q1518 : (Jvm.Cond.sameMethod "LastPebble$When" "LastPebble$Block" "all" "(LLastPebble$Living;)V") ∈ lw_all := lw_g (lw_at lw_m6 185 rfl) rfl
theorem q1519 : (Jvm.Cond.selects "LastPebble$When" ({ cls := "LastPebble$When", name := "all", desc := "(LLastPebble$Living;)V" } : Jvm.MethodName) ({ cls := "LastPebble$Block", name := "all", desc := "(LLastPebble$Living;)V" } : Jvm.MethodName)) ∈ lw_all := lw_g (lw_at lw_m6 186 rfl) rfl
theorem q2294 : (Jvm.Cond.castable "LastPebble$When" "LastPebble$Step") ∈ lw_tbl := lw_at lw_m10 1 rfl
theorem in_X13 : ∀ w ∈ wsX130, w ∈ lw_all := lw_in wsX130 [975, 976, 965, 967, 969, 971, 973] (by decide +kernel) (by decide +kernel)

/-! LastPebble$Act -/
set_option maxRecDepth 100000
def RX14 : String := "LastPebble$Act"
def TX14 : u_T := fun k => match k with
  | 0 => ("LastPebble$Act", "what", "I", true)
  | 1 => ("LastPebble$Act", "finder", "I", true)
  | _ => ("LastPebble$Act", "other", "I", true)
def tyX14 : Nat → FieldType := fun k => match k with
  | 0 => .int
  | 1 => .int
  | _ => .int
abbrev wsX140 : List Cond := u_ws RX14 TX14 3
theorem nmX14 : ∀ a, a < 3 → ∀ b, b < 3 → a ≠ b → (TX14 a).2.1 ≠ (TX14 b).2.1 := by decide +kernel
theorem tyX14_ok : ∀ k, k < 3 → parseFieldDescriptor (TX14 k).2.2.1 = some (tyX14 k) := by decide +kernel
theorem q160 : (Jvm.Cond.initialized "LastPebble$Act") ∈ lw_all := lw_g (lw_at lw_m1 27 rfl) rfl
theorem q306 : (Jvm.Cond.fieldLinkNest "LastPebble$Act" (100 : Nat) "LastPebble$Beach" "finds" "I" "LastPebble") ∈ lw_tbl := lw_at lw_m1 173 rfl
theorem q408 : (Jvm.Cond.fieldLinkNest "LastPebble$Act" (96 : Nat) "LastPebble$Day" "beach" "LLastPebble$Beach;" "LastPebble") ∈ lw_tbl := lw_at lw_m2 35 rfl
theorem q413 : (Jvm.Cond.fieldLinkNest "LastPebble$Act" (39 : Nat) "LastPebble$Day" "pouch" "[I" "LastPebble") ∈ lw_tbl := lw_at lw_m2 40 rfl
theorem q421 : (Jvm.Cond.fieldLinkNest "LastPebble$Act" (51 : Nat) "LastPebble$Day" "heaps" "[LLastPebble$Heap;" "LastPebble") ∈ lw_tbl := lw_at lw_m2 48 rfl
theorem q424 : (Jvm.Cond.fieldLinkNest "LastPebble$Act" (77 : Nat) "LastPebble$Day" "there" "I" "LastPebble") ∈ lw_tbl := lw_at lw_m2 51 rfl
theorem q427 : (Jvm.Cond.fieldLinkNest "LastPebble$Act" (75 : Nat) "LastPebble$Day" "day" "I" "LastPebble") ∈ lw_tbl := lw_at lw_m2 54 rfl
theorem q985 : (Jvm.Cond.instantiable "LastPebble$Act" (3 : Nat)) ∈ lw_all := lw_g (lw_at lw_m4 132 rfl) rfl
theorem q987 : (Jvm.Cond.instanceMethod ({ cls := "LastPebble$Act", name := "<init>", desc := "(III)V" } : Jvm.MethodName)) ∈ lw_all := lw_g (lw_at lw_m4 134 rfl) rfl
theorem q988 : (Jvm.Cond.code ({ cls := "LastPebble$Act", name := "<init>", desc := "(III)V" } : Jvm.MethodName) prog_2_method_1_code (4 : Nat) (Option.none : Option Jvm.ClassFile.FieldType)) ∈ lw_all := lw_g (lw_at lw_m4 135 rfl) rfl
theorem q989 : (Jvm.Cond.methodLinkNest "LastPebble$Act" (3 : Nat) ({ cls := "LastPebble$Step", name := "<init>", desc := "()V" } : Jvm.MethodName) "LastPebble") ∈ lw_tbl := lw_at lw_m4 136 rfl
theorem q990 : (Jvm.Cond.fieldLink "LastPebble$Act" (9 : Nat) "LastPebble$Act" "what" "I") ∈ lw_all := lw_g (lw_at lw_m4 137 rfl) rfl
theorem q991 : (Jvm.Cond.fieldLink "LastPebble$Act" (15 : Nat) "LastPebble$Act" "finder" "I") ∈ lw_all := lw_g (lw_at lw_m4 138 rfl) rfl
theorem q992 : (Jvm.Cond.fieldLink "LastPebble$Act" (18 : Nat) "LastPebble$Act" "other" "I") ∈ lw_all := lw_g (lw_at lw_m4 139 rfl) rfl
theorem q993 : (Jvm.Cond.laysFinal "LastPebble$Act" "LastPebble$Act" "what" "I") ∈ lw_all := lw_g (lw_at lw_m4 140 rfl) rfl
theorem q994 : (Jvm.Cond.soleField "LastPebble$Act" "what") ∈ lw_all := lw_g (lw_at lw_m4 141 rfl) rfl
theorem q995 : (Jvm.Cond.laysFinal "LastPebble$Act" "LastPebble$Act" "finder" "I") ∈ lw_all := lw_g (lw_at lw_m4 142 rfl) rfl
theorem q996 : (Jvm.Cond.soleField "LastPebble$Act" "finder") ∈ lw_all := lw_g (lw_at lw_m4 143 rfl) rfl
theorem q997 : (Jvm.Cond.laysFinal "LastPebble$Act" "LastPebble$Act" "other" "I") ∈ lw_all := lw_g (lw_at lw_m4 144 rfl) rfl
theorem q998 : (Jvm.Cond.soleField "LastPebble$Act" "other") ∈ lw_all := lw_g (lw_at lw_m4 145 rfl) rfl
theorem q999 : (Jvm.Cond.superclass "LastPebble$Act" "LastPebble$Step") ∈ lw_all := lw_g (lw_at lw_m4 146 rfl) rfl
theorem q1421 : (Jvm.Cond.fieldLinkNest "LastPebble$Act" (21 : Nat) "LastPebble$Living" "day" "LLastPebble$Day;" "LastPebble") ∈ lw_tbl := lw_at lw_m6 88 rfl
theorem q1426 : (Jvm.Cond.fieldLinkNest "LastPebble$Act" (117 : Nat) "LastPebble$Living" "missed" "I" "LastPebble") ∈ lw_tbl := lw_at lw_m6 93 rfl
theorem q1428 : (Jvm.Cond.fieldLinkNest "LastPebble$Act" (111 : Nat) "LastPebble$Living" "gulls" "I" "LastPebble") ∈ lw_tbl := lw_at lw_m6 95 rfl
theorem q1430 : (Jvm.Cond.fieldLinkNest "LastPebble$Act" (69 : Nat) "LastPebble$Living" "washed" "I" "LastPebble") ∈ lw_tbl := lw_at lw_m6 97 rfl
theorem q1432 : (Jvm.Cond.fieldLinkNest "LastPebble$Act" (86 : Nat) "LastPebble$Living" "tides" "I" "LastPebble") ∈ lw_tbl := lw_at lw_m6 99 rfl
theorem q1435 : (Jvm.Cond.fieldLinkNest "LastPebble$Act" (89 : Nat) "LastPebble$Living" "isOver" "Z" "LastPebble") ∈ lw_tbl := lw_at lw_m6 102 rfl
theorem q1468 : (Jvm.Cond.selects "LastPebble$Act" ({ cls := "LastPebble$Step", name := "go", desc := "(LLastPebble$Living;)V" } : Jvm.MethodName) ({ cls := "LastPebble$Step", name := "go", desc := "(LLastPebble$Living;)V" } : Jvm.MethodName)) ∈ lw_all := lw_g (lw_at lw_m6 135 rfl) rfl
theorem q1475 : (Jvm.Cond.selects "LastPebble$Act" ({ cls := "LastPebble$Step", name := "does", desc := "(LLastPebble$Living;)V" } : Jvm.MethodName) ({ cls := "LastPebble$Act", name := "does", desc := "(LLastPebble$Living;)V" } : Jvm.MethodName)) ∈ lw_all := lw_g (lw_at lw_m6 142 rfl) rfl
theorem q1476 : (Jvm.Cond.instanceMethod ({ cls := "LastPebble$Act", name := "does", desc := "(LLastPebble$Living;)V" } : Jvm.MethodName)) ∈ lw_all := lw_g (lw_at lw_m6 143 rfl) rfl
theorem q1477 : (Jvm.Cond.code ({ cls := "LastPebble$Act", name := "does", desc := "(LLastPebble$Living;)V" } : Jvm.MethodName) prog_2_method_4_code (2 : Nat) (Option.none : Option Jvm.ClassFile.FieldType)) ∈ lw_all := lw_g (lw_at lw_m6 144 rfl) rfl
theorem q1478 : (Jvm.Cond.methodLink "LastPebble$Act" (113 : Nat) ({ cls := "LastPebble$Act", name := "can", desc := "(LLastPebble$Living;)Z" } : Jvm.MethodName)) ∈ lw_all := lw_g (lw_at lw_m6 145 rfl) rfl
theorem q1479 : (Jvm.Cond.privateMethod ({ cls := "LastPebble$Act", name := "can", desc := "(LLastPebble$Living;)Z" } : Jvm.MethodName)) ∈ lw_tbl := lw_at lw_m6 146 rfl
theorem q1480 : (Jvm.Cond.instanceMethod ({ cls := "LastPebble$Act", name := "can", desc := "(LLastPebble$Living;)Z" } : Jvm.MethodName)) ∈ lw_all := lw_g (lw_at lw_m6 147 rfl) rfl
theorem q1481 : (Jvm.Cond.code ({ cls := "LastPebble$Act", name := "can", desc := "(LLastPebble$Living;)Z" } : Jvm.MethodName) prog_2_method_2_code (3 : Nat) (Option.some Jvm.ClassFile.FieldType.boolean)) ∈ lw_all := lw_g (lw_at lw_m6 148 rfl) rfl
theorem q1482 : (Jvm.Cond.methodLink "LastPebble$Act" (27 : Nat) ({ cls := "LastPebble$Day", name := "goes", desc := "(II)Z" } : Jvm.MethodName)) ∈ lw_all := lw_g (lw_at lw_m6 149 rfl) rfl
theorem q1483 : (Jvm.Cond.methodLink "LastPebble$Act" (33 : Nat) ({ cls := "LastPebble$Day", name := "waits", desc := "(II)Z" } : Jvm.MethodName)) ∈ lw_all := lw_g (lw_at lw_m6 150 rfl) rfl
theorem q1484 : (Jvm.Cond.methodLink "LastPebble$Act" (36 : Nat) ({ cls := "LastPebble$Day", name := "isAt", desc := "(II)Z" } : Jvm.MethodName)) ∈ lw_all := lw_g (lw_at lw_m6 151 rfl) rfl
theorem q1485 : (Jvm.Cond.methodLink "LastPebble$Act" (43 : Nat) ({ cls := "LastPebble$Day", name := "pebbles", desc := "()I" } : Jvm.MethodName)) ∈ lw_all := lw_g (lw_at lw_m6 152 rfl) rfl
theorem q1486 : (Jvm.Cond.methodLink "LastPebble$Act" (47 : Nat) ({ cls := "LastPebble$Day", name := "sets", desc := "(II)V" } : Jvm.MethodName)) ∈ lw_all := lw_g (lw_at lw_m6 153 rfl) rfl
theorem q1487 : (Jvm.Cond.methodLink "LastPebble$Act" (55 : Nat) ({ cls := "LastPebble$Heap", name := "latestOf", desc := "(I)I" } : Jvm.MethodName)) ∈ lw_all := lw_g (lw_at lw_m6 154 rfl) rfl
theorem q1488 : (Jvm.Cond.methodLink "LastPebble$Act" (61 : Nat) ({ cls := "LastPebble$Day", name := "lifts", desc := "(II)I" } : Jvm.MethodName)) ∈ lw_all := lw_g (lw_at lw_m6 155 rfl) rfl
theorem q1489 : (Jvm.Cond.methodLink "LastPebble$Act" (65 : Nat) ({ cls := "LastPebble$Act", name := "gulls", desc := "(LLastPebble$Living;LLastPebble$Day;)V" } : Jvm.MethodName)) ∈ lw_all := lw_g (lw_at lw_m6 156 rfl) rfl
theorem q1490 : (Jvm.Cond.privateMethod ({ cls := "LastPebble$Act", name := "gulls", desc := "(LLastPebble$Living;LLastPebble$Day;)V" } : Jvm.MethodName)) ∈ lw_tbl := lw_at lw_m6 157 rfl
theorem q1491 : (Jvm.Cond.instanceMethod ({ cls := "LastPebble$Act", name := "gulls", desc := "(LLastPebble$Living;LLastPebble$Day;)V" } : Jvm.MethodName)) ∈ lw_all := lw_g (lw_at lw_m6 158 rfl) rfl
theorem q1492 : (Jvm.Cond.code ({ cls := "LastPebble$Act", name := "gulls", desc := "(LLastPebble$Living;LLastPebble$Day;)V" } : Jvm.MethodName) prog_2_method_3_code (5 : Nat) (Option.none : Option Jvm.ClassFile.FieldType)) ∈ lw_all := lw_g (lw_at lw_m6 159 rfl) rfl
theorem q1493 : (Jvm.Cond.methodLink "LastPebble$Act" (93 : Nat) ({ cls := "LastPebble$Living", name := "draw", desc := "(I)I" } : Jvm.MethodName)) ∈ lw_all := lw_g (lw_at lw_m6 160 rfl) rfl
theorem q1498 : (Jvm.Cond.methodLink "LastPebble$Act" (105 : Nat) ({ cls := "LastPebble$Day", name := "canGull", desc := "(II)Z" } : Jvm.MethodName)) ∈ lw_all := lw_g (lw_at lw_m6 165 rfl) rfl
theorem q1499 : (Jvm.Cond.methodLink "LastPebble$Act" (108 : Nat) ({ cls := "LastPebble$Day", name := "gull", desc := "(II)I" } : Jvm.MethodName)) ∈ lw_all := lw_g (lw_at lw_m6 166 rfl) rfl
theorem q1500 : (Jvm.Cond.methodLink "LastPebble$Act" (72 : Nat) ({ cls := "LastPebble$Day", name := "wave", desc := "(I)I" } : Jvm.MethodName)) ∈ lw_all := lw_g (lw_at lw_m6 167 rfl) rfl
theorem q1501 : (Jvm.Cond.methodLink "LastPebble$Act" (80 : Nat) ({ cls := "LastPebble$Day", name := "tide", desc := "()V" } : Jvm.MethodName)) ∈ lw_all := lw_g (lw_at lw_m6 168 rfl) rfl
theorem q1502 : (Jvm.Cond.methodLink "LastPebble$Act" (83 : Nat) ({ cls := "LastPebble$Day", name := "dawn", desc := "()V" } : Jvm.MethodName)) ∈ lw_all := lw_g (lw_at lw_m6 169 rfl) rfl
theorem q2295 : (Jvm.Cond.castable "LastPebble$Act" "LastPebble$Step") ∈ lw_tbl := lw_at lw_m10 2 rfl
theorem in_X14 : ∀ w ∈ wsX140, w ∈ lw_all := lw_in wsX140 [993, 995, 997] (by decide +kernel) (by decide +kernel)

/-! java/lang/Integer -/
set_option maxRecDepth 100000
def RJ11 : String := "java/lang/Integer"
theorem q161 : (Jvm.Cond.initialized "java/lang/Integer") ∈ lw_all := lw_g (lw_at lw_m1 28 rfl) rfl
theorem q1148 : (Jvm.Cond.static ({ cls := "java/lang/Integer", name := "bitCount", desc := "(I)I" } : Jvm.MethodName)) ∈ lw_all := lw_g (lw_at lw_m5 55 rfl) rfl
theorem q1149 : (Jvm.Cond.code ({ cls := "java/lang/Integer", name := "bitCount", desc := "(I)I" } : Jvm.MethodName) prog_21_method_49_code (1 : Nat) (Option.some Jvm.ClassFile.FieldType.int)) ∈ lw_all := lw_g (lw_at lw_m5 56 rfl) rfl
theorem q1150 : (Jvm.Cond.constant "java/lang/Integer" (265 : Nat) (1431655765 : Int32)) ∈ lw_all := lw_g (lw_at lw_m5 57 rfl) rfl
theorem q1151 : (Jvm.Cond.constant "java/lang/Integer" (266 : Nat) (858993459 : Int32)) ∈ lw_all := lw_g (lw_at lw_m5 58 rfl) rfl
theorem q1152 : (Jvm.Cond.constant "java/lang/Integer" (267 : Nat) (252645135 : Int32)) ∈ lw_all := lw_g (lw_at lw_m5 59 rfl) rfl
theorem q1154 : (Jvm.Cond.static ({ cls := "java/lang/Integer", name := "lowestOneBit", desc := "(I)I" } : Jvm.MethodName)) ∈ lw_all := lw_g (lw_at lw_m5 61 rfl) rfl
theorem q1155 : (Jvm.Cond.code ({ cls := "java/lang/Integer", name := "lowestOneBit", desc := "(I)I" } : Jvm.MethodName) prog_21_method_46_code (1 : Nat) (Option.some Jvm.ClassFile.FieldType.int)) ∈ lw_all := lw_g (lw_at lw_m5 62 rfl) rfl
theorem q1157 : (Jvm.Cond.static ({ cls := "java/lang/Integer", name := "highestOneBit", desc := "(I)I" } : Jvm.MethodName)) ∈ lw_all := lw_g (lw_at lw_m5 64 rfl) rfl
theorem q1158 : (Jvm.Cond.code ({ cls := "java/lang/Integer", name := "highestOneBit", desc := "(I)I" } : Jvm.MethodName) prog_21_method_45_code (1 : Nat) (Option.some Jvm.ClassFile.FieldType.int)) ∈ lw_all := lw_g (lw_at lw_m5 65 rfl) rfl
theorem q1159 : (Jvm.Cond.constant "java/lang/Integer" (127 : Nat) (-2147483648 : Int32)) ∈ lw_all := lw_g (lw_at lw_m5 66 rfl) rfl
theorem q1160 : (Jvm.Cond.methodLink "java/lang/Integer" (51 : Nat) ({ cls := "java/lang/Integer", name := "numberOfLeadingZeros", desc := "(I)I" } : Jvm.MethodName)) ∈ lw_all := lw_g (lw_at lw_m5 67 rfl) rfl
theorem q1161 : (Jvm.Cond.static ({ cls := "java/lang/Integer", name := "numberOfLeadingZeros", desc := "(I)I" } : Jvm.MethodName)) ∈ lw_all := lw_g (lw_at lw_m5 68 rfl) rfl
theorem q1162 : (Jvm.Cond.code ({ cls := "java/lang/Integer", name := "numberOfLeadingZeros", desc := "(I)I" } : Jvm.MethodName) prog_21_method_47_code (2 : Nat) (Option.some Jvm.ClassFile.FieldType.int)) ∈ lw_all := lw_g (lw_at lw_m5 69 rfl) rfl
theorem q1163 : (Jvm.Cond.constant "java/lang/Integer" (264 : Nat) (65536 : Int32)) ∈ lw_all := lw_g (lw_at lw_m5 70 rfl) rfl

/-! java/lang/Long -/
set_option maxRecDepth 100000
def RJ12 : String := "java/lang/Long"
theorem q162 : (Jvm.Cond.initialized "java/lang/Long") ∈ lw_all := lw_g (lw_at lw_m1 29 rfl) rfl
theorem q1298 : (Jvm.Cond.static ({ cls := "java/lang/Long", name := "signum", desc := "(J)I" } : Jvm.MethodName)) ∈ lw_all := lw_g (lw_at lw_m5 205 rfl) rfl
theorem q1299 : (Jvm.Cond.code ({ cls := "java/lang/Long", name := "signum", desc := "(J)I" } : Jvm.MethodName) prog_22_method_57_code (2 : Nat) (Option.some Jvm.ClassFile.FieldType.int)) ∈ lw_all := lw_g (lw_at lw_m5 206 rfl) rfl

/-! LastPebble$Living -/
set_option maxRecDepth 100000
def RX15 : String := "LastPebble$Living"
def TX15 : u_T := fun k => match k with
  | 0 => ("LastPebble$Living", "day", "LLastPebble$Day;", true)
  | 1 => ("LastPebble$Living", "state", "I", false)
  | 2 => ("LastPebble$Living", "done", "I", false)
  | 3 => ("LastPebble$Living", "missed", "I", false)
  | 4 => ("LastPebble$Living", "gulls", "I", false)
  | 5 => ("LastPebble$Living", "washed", "I", false)
  | 6 => ("LastPebble$Living", "tides", "I", false)
  | 7 => ("LastPebble$Living", "isOver", "Z", false)
  | _ => ("LastPebble$Living", "isLeft", "Z", false)
def tyX15 : Nat → FieldType := fun k => match k with
  | 0 => .object "LastPebble$Day"
  | 1 => .int
  | 2 => .int
  | 3 => .int
  | 4 => .int
  | 5 => .int
  | 6 => .int
  | 7 => .boolean
  | _ => .boolean
abbrev wsX150 : List Cond := u_ws RX15 TX15 9
theorem nmX15 : ∀ a, a < 9 → ∀ b, b < 9 → a ≠ b → (TX15 a).2.1 ≠ (TX15 b).2.1 := by decide +kernel
theorem tyX15_ok : ∀ k, k < 9 → parseFieldDescriptor (TX15 k).2.2.1 = some (tyX15 k) := by decide +kernel
theorem q163 : (Jvm.Cond.initialized "LastPebble$Living") ∈ lw_all := lw_g (lw_at lw_m1 30 rfl) rfl
theorem q1415 : (Jvm.Cond.instantiable "LastPebble$Living" (9 : Nat)) ∈ lw_all := lw_g (lw_at lw_m6 82 rfl) rfl
theorem q1417 : (Jvm.Cond.instanceMethod ({ cls := "LastPebble$Living", name := "<init>", desc := "(LLastPebble$Day;I)V" } : Jvm.MethodName)) ∈ lw_all := lw_g (lw_at lw_m6 84 rfl) rfl
theorem q1418 : (Jvm.Cond.code ({ cls := "LastPebble$Living", name := "<init>", desc := "(LLastPebble$Day;I)V" } : Jvm.MethodName) prog_9_method_1_code (3 : Nat) (Option.none : Option Jvm.ClassFile.FieldType)) ∈ lw_all := lw_g (lw_at lw_m6 85 rfl) rfl
theorem q1419 : (Jvm.Cond.methodLink "LastPebble$Living" (1 : Nat) ({ cls := "java/lang/Object", name := "<init>", desc := "()V" } : Jvm.MethodName)) ∈ lw_all := lw_g (lw_at lw_m6 86 rfl) rfl
theorem q1420 : (Jvm.Cond.fieldLink "LastPebble$Living" (7 : Nat) "LastPebble$Living" "day" "LLastPebble$Day;") ∈ lw_all := lw_g (lw_at lw_m6 87 rfl) rfl
theorem q1423 : (Jvm.Cond.fieldLink "LastPebble$Living" (13 : Nat) "LastPebble$Living" "state" "I") ∈ lw_all := lw_g (lw_at lw_m6 90 rfl) rfl
theorem q1440 : (Jvm.Cond.laysFinal "LastPebble$Living" "LastPebble$Living" "day" "LLastPebble$Day;") ∈ lw_all := lw_g (lw_at lw_m6 107 rfl) rfl
theorem q1441 : (Jvm.Cond.soleField "LastPebble$Living" "day") ∈ lw_all := lw_g (lw_at lw_m6 108 rfl) rfl
theorem q1442 : (Jvm.Cond.lays "LastPebble$Living" "LastPebble$Living" "state" "I") ∈ lw_all := lw_g (lw_at lw_m6 109 rfl) rfl
theorem q1443 : (Jvm.Cond.soleField "LastPebble$Living" "state") ∈ lw_all := lw_g (lw_at lw_m6 110 rfl) rfl
theorem q1444 : (Jvm.Cond.lays "LastPebble$Living" "LastPebble$Living" "done" "I") ∈ lw_all := lw_g (lw_at lw_m6 111 rfl) rfl
theorem q1445 : (Jvm.Cond.soleField "LastPebble$Living" "done") ∈ lw_all := lw_g (lw_at lw_m6 112 rfl) rfl
theorem q1446 : (Jvm.Cond.lays "LastPebble$Living" "LastPebble$Living" "missed" "I") ∈ lw_all := lw_g (lw_at lw_m6 113 rfl) rfl
theorem q1447 : (Jvm.Cond.soleField "LastPebble$Living" "missed") ∈ lw_all := lw_g (lw_at lw_m6 114 rfl) rfl
theorem q1448 : (Jvm.Cond.lays "LastPebble$Living" "LastPebble$Living" "gulls" "I") ∈ lw_all := lw_g (lw_at lw_m6 115 rfl) rfl
theorem q1449 : (Jvm.Cond.soleField "LastPebble$Living" "gulls") ∈ lw_all := lw_g (lw_at lw_m6 116 rfl) rfl
theorem q1450 : (Jvm.Cond.lays "LastPebble$Living" "LastPebble$Living" "washed" "I") ∈ lw_all := lw_g (lw_at lw_m6 117 rfl) rfl
theorem q1451 : (Jvm.Cond.soleField "LastPebble$Living" "washed") ∈ lw_all := lw_g (lw_at lw_m6 118 rfl) rfl
theorem q1452 : (Jvm.Cond.lays "LastPebble$Living" "LastPebble$Living" "tides" "I") ∈ lw_all := lw_g (lw_at lw_m6 119 rfl) rfl
theorem q1453 : (Jvm.Cond.soleField "LastPebble$Living" "tides") ∈ lw_all := lw_g (lw_at lw_m6 120 rfl) rfl
theorem q1454 : (Jvm.Cond.lays "LastPebble$Living" "LastPebble$Living" "isOver" "Z") ∈ lw_all := lw_g (lw_at lw_m6 121 rfl) rfl
theorem q1455 : (Jvm.Cond.soleField "LastPebble$Living" "isOver") ∈ lw_all := lw_g (lw_at lw_m6 122 rfl) rfl
theorem q1456 : (Jvm.Cond.lays "LastPebble$Living" "LastPebble$Living" "isLeft" "Z") ∈ lw_all := lw_g (lw_at lw_m6 123 rfl) rfl
theorem q1457 : (Jvm.Cond.soleField "LastPebble$Living" "isLeft") ∈ lw_all := lw_g (lw_at lw_m6 124 rfl) rfl
theorem q1458 : (Jvm.Cond.superclass "LastPebble$Living" "java/lang/Object") ∈ lw_all := lw_g (lw_at lw_m6 125 rfl) rfl
theorem q1494 : (Jvm.Cond.instanceMethod ({ cls := "LastPebble$Living", name := "draw", desc := "(I)I" } : Jvm.MethodName)) ∈ lw_all := lw_g (lw_at lw_m6 161 rfl) rfl
theorem q1495 : (Jvm.Cond.selects "LastPebble$Living" ({ cls := "LastPebble$Living", name := "draw", desc := "(I)I" } : Jvm.MethodName) ({ cls := "LastPebble$Living", name := "draw", desc := "(I)I" } : Jvm.MethodName)) ∈ lw_all := lw_g (lw_at lw_m6 162 rfl) rfl
theorem q1496 : (Jvm.Cond.code ({ cls := "LastPebble$Living", name := "draw", desc := "(I)I" } : Jvm.MethodName) prog_9_method_2_code (2 : Nat) (Option.some Jvm.ClassFile.FieldType.int)) ∈ lw_all := lw_g (lw_at lw_m6 163 rfl) rfl
theorem q1497 : (Jvm.Cond.constant "LastPebble$Living" (17 : Nat) (65536 : Int32)) ∈ lw_all := lw_g (lw_at lw_m6 164 rfl) rfl
theorem in_X15 : ∀ w ∈ wsX150, w ∈ lw_all := lw_in wsX150 [1440, 1442, 1444, 1446, 1448, 1450, 1452, 1454, 1456] (by decide +kernel) (by decide +kernel)

/-! java/lang/Object -/
set_option maxRecDepth 100000
def RJ13 : String := "java/lang/Object"
theorem q170 : (Jvm.Cond.instanceMethod ({ cls := "java/lang/Object", name := "<init>", desc := "()V" } : Jvm.MethodName)) ∈ lw_all := lw_g (lw_at lw_m1 37 rfl) rfl
theorem q171 : (Jvm.Cond.code ({ cls := "java/lang/Object", name := "<init>", desc := "()V" } : Jvm.MethodName) object_method_1_code (1 : Nat) (Option.none : Option Jvm.ClassFile.FieldType)) ∈ lw_all := lw_g (lw_at lw_m1 38 rfl) rfl

theorem q173 : (Jvm.Cond.arrayOver (Jvm.ClassFile.FieldType.object "LastPebble$Tray")) ∈ lw_tbl := lw_at lw_m1 40 rfl
set_option maxRecDepth 100000
theorem q253 : (Jvm.Cond.arrayClass Jvm.ClassFile.FieldType.byte) ∈ lw_all := lw_g (lw_at lw_m1 120 rfl) rfl
theorem q381 : (Jvm.Cond.arrayClass Jvm.ClassFile.FieldType.long) ∈ lw_all := lw_g (lw_at lw_m2 8 rfl) rfl
theorem q382 : (Jvm.Cond.arrayClass Jvm.ClassFile.FieldType.int) ∈ lw_all := lw_g (lw_at lw_m2 9 rfl) rfl
theorem q384 : (Jvm.Cond.arrayOver (Jvm.ClassFile.FieldType.object "LastPebble$Heap")) ∈ lw_tbl := lw_at lw_m2 11 rfl
theorem q459 : (Jvm.Cond.arrayOver (Jvm.ClassFile.FieldType.object "LastPebble$House")) ∈ lw_tbl := lw_at lw_m2 86 rfl
theorem q594 : (Jvm.Cond.arrayClass Jvm.ClassFile.FieldType.short) ∈ lw_all := lw_g (lw_at lw_m2 221 rfl) rfl
theorem q923 : (Jvm.Cond.arrayOver (Jvm.ClassFile.FieldType.object "LastPebble$Step")) ∈ lw_tbl := lw_at lw_m4 70 rfl

theorem q133 : (Jvm.Cond.initialized "LastPebbleLaw") ∈ lw_all := lw_g (lw_at lw_m1 0 rfl) rfl
set_option maxRecDepth 100000
theorem q164 : (Jvm.Cond.classLink "LastPebbleLaw" (7 : Nat) "LastPebble") ∈ lw_all := lw_g (lw_at lw_m1 31 rfl) rfl
theorem q166 : (Jvm.Cond.methodLink "LastPebbleLaw" (9 : Nat) ({ cls := "LastPebble", name := "<init>", desc := "()V" } : Jvm.MethodName)) ∈ lw_all := lw_g (lw_at lw_m1 33 rfl) rfl
theorem q534 : (Jvm.Cond.methodLink "LastPebbleLaw" (13 : Nat) ({ cls := "LastPebble", name := "status", desc := "()I" } : Jvm.MethodName)) ∈ lw_all := lw_g (lw_at lw_m2 161 rfl) rfl
theorem q538 : (Jvm.Cond.methodLink "LastPebbleLaw" (18 : Nat) ({ cls := "LastPebble", name := "top", desc := "()J" } : Jvm.MethodName)) ∈ lw_all := lw_g (lw_at lw_m2 165 rfl) rfl
theorem q542 : (Jvm.Cond.methodLink "LastPebbleLaw" (23 : Nat) ({ cls := "LastPebble", name := "bottom", desc := "()J" } : Jvm.MethodName)) ∈ lw_all := lw_g (lw_at lw_m2 169 rfl) rfl
theorem q546 : (Jvm.Cond.methodLink "LastPebbleLaw" (27 : Nat) ({ cls := "LastPebble", name := "tray", desc := "(III)Z" } : Jvm.MethodName)) ∈ lw_all := lw_g (lw_at lw_m2 173 rfl) rfl
theorem q595 : (Jvm.Cond.methodLink "LastPebbleLaw" (34 : Nat) ({ cls := "LastPebble", name := "write", desc := "(IIJ)Z" } : Jvm.MethodName)) ∈ lw_all := lw_g (lw_at lw_m2 222 rfl) rfl
theorem q629 : (Jvm.Cond.methodLink "LastPebbleLaw" (39 : Nat) ({ cls := "LastPebble", name := "read", desc := "(II)J" } : Jvm.MethodName)) ∈ lw_all := lw_g (lw_at lw_m3 16 rfl) rfl
theorem q641 : (Jvm.Cond.methodLink "LastPebbleLaw" (44 : Nat) ({ cls := "LastPebble", name := "pour", desc := "(IIIII)Z" } : Jvm.MethodName)) ∈ lw_all := lw_g (lw_at lw_m3 28 rfl) rfl
theorem q652 : (Jvm.Cond.methodLink "LastPebbleLaw" (49 : Nat) ({ cls := "LastPebble", name := "feed", desc := "(IIIII)I" } : Jvm.MethodName)) ∈ lw_all := lw_g (lw_at lw_m3 39 rfl) rfl
theorem q660 : (Jvm.Cond.methodLink "LastPebbleLaw" (54 : Nat) ({ cls := "LastPebble", name := "beach", desc := "(I)I" } : Jvm.MethodName)) ∈ lw_all := lw_g (lw_at lw_m3 47 rfl) rfl
theorem q906 : (Jvm.Cond.methodLink "LastPebbleLaw" (59 : Nat) ({ cls := "LastPebble", name := "days", desc := "(I)I" } : Jvm.MethodName)) ∈ lw_all := lw_g (lw_at lw_m4 53 rfl) rfl
theorem q1007 : (Jvm.Cond.methodLink "LastPebbleLaw" (63 : Nat) ({ cls := "LastPebble", name := "fault", desc := "(I)I" } : Jvm.MethodName)) ∈ lw_all := lw_g (lw_at lw_m4 154 rfl) rfl
theorem q1011 : (Jvm.Cond.methodLink "LastPebbleLaw" (67 : Nat) ({ cls := "LastPebble", name := "told", desc := "(I)I" } : Jvm.MethodName)) ∈ lw_all := lw_g (lw_at lw_m4 158 rfl) rfl
theorem q1023 : (Jvm.Cond.methodLink "LastPebbleLaw" (71 : Nat) ({ cls := "LastPebble", name := "finder", desc := "(II)I" } : Jvm.MethodName)) ∈ lw_all := lw_g (lw_at lw_m4 170 rfl) rfl
theorem q1032 : (Jvm.Cond.methodLink "LastPebbleLaw" (76 : Nat) ({ cls := "LastPebble", name := "find", desc := "(II)I" } : Jvm.MethodName)) ∈ lw_all := lw_g (lw_at lw_m4 179 rfl) rfl
theorem q1041 : (Jvm.Cond.methodLink "LastPebbleLaw" (80 : Nat) ({ cls := "LastPebble", name := "pebble", desc := "(III)I" } : Jvm.MethodName)) ∈ lw_all := lw_g (lw_at lw_m4 188 rfl) rfl
theorem q1045 : (Jvm.Cond.methodLink "LastPebbleLaw" (85 : Nat) ({ cls := "LastPebble", name := "go", desc := "(II)I" } : Jvm.MethodName)) ∈ lw_all := lw_g (lw_at lw_m4 192 rfl) rfl
theorem q1060 : (Jvm.Cond.methodLink "LastPebbleLaw" (89 : Nat) ({ cls := "LastPebble", name := "pass", desc := "(II)I" } : Jvm.MethodName)) ∈ lw_all := lw_g (lw_at lw_m4 207 rfl) rfl
theorem q1069 : (Jvm.Cond.methodLink "LastPebbleLaw" (93 : Nat) ({ cls := "LastPebble", name := "set", desc := "(II)I" } : Jvm.MethodName)) ∈ lw_all := lw_g (lw_at lw_m4 216 rfl) rfl
theorem q1089 : (Jvm.Cond.methodLink "LastPebbleLaw" (97 : Nat) ({ cls := "LastPebble", name := "lift", desc := "(II)I" } : Jvm.MethodName)) ∈ lw_all := lw_g (lw_at lw_m4 236 rfl) rfl
theorem q1106 : (Jvm.Cond.methodLink "LastPebbleLaw" (101 : Nat) ({ cls := "LastPebble", name := "gull", desc := "(II)I" } : Jvm.MethodName)) ∈ lw_all := lw_g (lw_at lw_m5 13 rfl) rfl
theorem q1118 : (Jvm.Cond.methodLink "LastPebbleLaw" (105 : Nat) ({ cls := "LastPebble", name := "wave", desc := "(I)I" } : Jvm.MethodName)) ∈ lw_all := lw_g (lw_at lw_m5 25 rfl) rfl
theorem q1127 : (Jvm.Cond.methodLink "LastPebbleLaw" (109 : Nat) ({ cls := "LastPebble", name := "tide", desc := "()I" } : Jvm.MethodName)) ∈ lw_all := lw_g (lw_at lw_m5 34 rfl) rfl
theorem q1167 : (Jvm.Cond.methodLink "LastPebbleLaw" (113 : Nat) ({ cls := "LastPebble", name := "dawn", desc := "()I" } : Jvm.MethodName)) ∈ lw_all := lw_g (lw_at lw_m5 74 rfl) rfl
theorem q1175 : (Jvm.Cond.methodLink "LastPebbleLaw" (117 : Nat) ({ cls := "LastPebble", name := "last", desc := "(I)I" } : Jvm.MethodName)) ∈ lw_all := lw_g (lw_at lw_m5 82 rfl) rfl
theorem q1185 : (Jvm.Cond.methodLink "LastPebbleLaw" (121 : Nat) ({ cls := "LastPebble", name := "whose", desc := "(I)I" } : Jvm.MethodName)) ∈ lw_all := lw_g (lw_at lw_m5 92 rfl) rfl
theorem q1190 : (Jvm.Cond.methodLink "LastPebbleLaw" (125 : Nat) ({ cls := "LastPebble", name := "leads", desc := "(I)I" } : Jvm.MethodName)) ∈ lw_all := lw_g (lw_at lw_m5 97 rfl) rfl
theorem q1195 : (Jvm.Cond.methodLink "LastPebbleLaw" (129 : Nat) ({ cls := "LastPebble", name := "leader", desc := "()I" } : Jvm.MethodName)) ∈ lw_all := lw_g (lw_at lw_m5 102 rfl) rfl
theorem q1203 : (Jvm.Cond.methodLink "LastPebbleLaw" (133 : Nat) ({ cls := "LastPebble", name := "duels", desc := "()I" } : Jvm.MethodName)) ∈ lw_all := lw_g (lw_at lw_m5 110 rfl) rfl
theorem q1208 : (Jvm.Cond.methodLink "LastPebbleLaw" (137 : Nat) ({ cls := "LastPebble", name := "needs", desc := "(I)I" } : Jvm.MethodName)) ∈ lw_all := lw_g (lw_at lw_m5 115 rfl) rfl
theorem q1212 : (Jvm.Cond.methodLink "LastPebbleLaw" (141 : Nat) ({ cls := "LastPebble", name := "strewn", desc := "(I)I" } : Jvm.MethodName)) ∈ lw_all := lw_g (lw_at lw_m5 119 rfl) rfl
theorem q1220 : (Jvm.Cond.methodLink "LastPebbleLaw" (145 : Nat) ({ cls := "LastPebble", name := "soonest", desc := "(II)I" } : Jvm.MethodName)) ∈ lw_all := lw_g (lw_at lw_m5 127 rfl) rfl
theorem q1237 : (Jvm.Cond.methodLink "LastPebbleLaw" (149 : Nat) ({ cls := "LastPebble", name := "threat", desc := "(I)I" } : Jvm.MethodName)) ∈ lw_all := lw_g (lw_at lw_m5 144 rfl) rfl
theorem q1241 : (Jvm.Cond.methodLink "LastPebbleLaw" (153 : Nat) ({ cls := "LastPebble", name := "best", desc := "(I)I" } : Jvm.MethodName)) ∈ lw_all := lw_g (lw_at lw_m5 148 rfl) rfl
theorem q1254 : (Jvm.Cond.methodLink "LastPebbleLaw" (157 : Nat) ({ cls := "LastPebble", name := "bestAt", desc := "(I)I" } : Jvm.MethodName)) ∈ lw_all := lw_g (lw_at lw_m5 161 rfl) rfl
theorem q1258 : (Jvm.Cond.methodLink "LastPebbleLaw" (161 : Nat) ({ cls := "LastPebble", name := "lateness", desc := "(II)I" } : Jvm.MethodName)) ∈ lw_all := lw_g (lw_at lw_m5 165 rfl) rfl
theorem q1262 : (Jvm.Cond.methodLink "LastPebbleLaw" (165 : Nat) ({ cls := "LastPebble", name := "seen", desc := "(II)I" } : Jvm.MethodName)) ∈ lw_all := lw_g (lw_at lw_m5 169 rfl) rfl
theorem q1270 : (Jvm.Cond.methodLink "LastPebbleLaw" (169 : Nat) ({ cls := "LastPebble", name := "boys", desc := "(I)I" } : Jvm.MethodName)) ∈ lw_all := lw_g (lw_at lw_m5 177 rfl) rfl
theorem q1281 : (Jvm.Cond.methodLink "LastPebbleLaw" (173 : Nat) ({ cls := "LastPebble", name := "boyAt", desc := "(II)I" } : Jvm.MethodName)) ∈ lw_all := lw_g (lw_at lw_m5 188 rfl) rfl
theorem q1285 : (Jvm.Cond.methodLink "LastPebbleLaw" (177 : Nat) ({ cls := "LastPebble", name := "odds", desc := "(III)Z" } : Jvm.MethodName)) ∈ lw_all := lw_g (lw_at lw_m5 192 rfl) rfl
theorem q1300 : (Jvm.Cond.methodLink "LastPebbleLaw" (181 : Nat) ({ cls := "LastPebble", name := "gulls", desc := "(I)I" } : Jvm.MethodName)) ∈ lw_all := lw_g (lw_at lw_m5 207 rfl) rfl
theorem q1310 : (Jvm.Cond.methodLink "LastPebbleLaw" (185 : Nat) ({ cls := "LastPebble", name := "walk", desc := "(II)I" } : Jvm.MethodName)) ∈ lw_all := lw_g (lw_at lw_m5 217 rfl) rfl
theorem q1314 : (Jvm.Cond.methodLink "LastPebbleLaw" (189 : Nat) ({ cls := "LastPebble", name := "gain", desc := "(II)I" } : Jvm.MethodName)) ∈ lw_all := lw_g (lw_at lw_m5 221 rfl) rfl
theorem q1328 : (Jvm.Cond.methodLink "LastPebbleLaw" (193 : Nat) ({ cls := "LastPebble", name := "safe", desc := "(I)I" } : Jvm.MethodName)) ∈ lw_all := lw_g (lw_at lw_m5 235 rfl) rfl
theorem q1332 : (Jvm.Cond.methodLink "LastPebbleLaw" (197 : Nat) ({ cls := "LastPebble", name := "ranked", desc := "(I)I" } : Jvm.MethodName)) ∈ lw_all := lw_g (lw_at lw_m5 239 rfl) rfl
theorem q1336 : (Jvm.Cond.methodLink "LastPebbleLaw" (201 : Nat) ({ cls := "LastPebble", name := "rivals", desc := "(II)I" } : Jvm.MethodName)) ∈ lw_all := lw_g (lw_at lw_m6 3 rfl) rfl
theorem q1340 : (Jvm.Cond.methodLink "LastPebbleLaw" (205 : Nat) ({ cls := "LastPebble", name := "richest", desc := "()I" } : Jvm.MethodName)) ∈ lw_all := lw_g (lw_at lw_m6 7 rfl) rfl
theorem q1344 : (Jvm.Cond.methodLink "LastPebbleLaw" (209 : Nat) ({ cls := "LastPebble", name := "left", desc := "(I)I" } : Jvm.MethodName)) ∈ lw_all := lw_g (lw_at lw_m6 11 rfl) rfl
theorem q1348 : (Jvm.Cond.methodLink "LastPebbleLaw" (213 : Nat) ({ cls := "LastPebble", name := "tideIn", desc := "(I)I" } : Jvm.MethodName)) ∈ lw_all := lw_g (lw_at lw_m6 15 rfl) rfl
theorem q1353 : (Jvm.Cond.methodLink "LastPebbleLaw" (217 : Nat) ({ cls := "LastPebble", name := "open", desc := "()I" } : Jvm.MethodName)) ∈ lw_all := lw_g (lw_at lw_m6 20 rfl) rfl
theorem q1357 : (Jvm.Cond.methodLink "LastPebbleLaw" (221 : Nat) ({ cls := "LastPebble", name := "farthest", desc := "(I)I" } : Jvm.MethodName)) ∈ lw_all := lw_g (lw_at lw_m6 24 rfl) rfl
theorem q1365 : (Jvm.Cond.methodLink "LastPebbleLaw" (225 : Nat) ({ cls := "LastPebble", name := "time", desc := "(I)I" } : Jvm.MethodName)) ∈ lw_all := lw_g (lw_at lw_m6 32 rfl) rfl
theorem q1369 : (Jvm.Cond.methodLink "LastPebbleLaw" (229 : Nat) ({ cls := "LastPebble", name := "tally", desc := "(II)I" } : Jvm.MethodName)) ∈ lw_all := lw_g (lw_at lw_m6 36 rfl) rfl
theorem q1373 : (Jvm.Cond.methodLink "LastPebbleLaw" (233 : Nat) ({ cls := "LastPebble", name := "busiest", desc := "()I" } : Jvm.MethodName)) ∈ lw_all := lw_g (lw_at lw_m6 40 rfl) rfl
theorem q1381 : (Jvm.Cond.methodLink "LastPebbleLaw" (237 : Nat) ({ cls := "LastPebble", name := "both", desc := "(III)I" } : Jvm.MethodName)) ∈ lw_all := lw_g (lw_at lw_m6 48 rfl) rfl
theorem q1385 : (Jvm.Cond.methodLink "LastPebbleLaw" (241 : Nat) ({ cls := "LastPebble", name := "latest", desc := "()I" } : Jvm.MethodName)) ∈ lw_all := lw_g (lw_at lw_m6 52 rfl) rfl
theorem q1389 : (Jvm.Cond.methodLink "LastPebbleLaw" (245 : Nat) ({ cls := "LastPebble", name := "behind", desc := "(I)I" } : Jvm.MethodName)) ∈ lw_all := lw_g (lw_at lw_m6 56 rfl) rfl
theorem q1393 : (Jvm.Cond.methodLink "LastPebbleLaw" (249 : Nat) ({ cls := "LastPebble", name := "alone", desc := "()I" } : Jvm.MethodName)) ∈ lw_all := lw_g (lw_at lw_m6 60 rfl) rfl
theorem q1397 : (Jvm.Cond.methodLink "LastPebbleLaw" (253 : Nat) ({ cls := "LastPebble", name := "part", desc := "(II)I" } : Jvm.MethodName)) ∈ lw_all := lw_g (lw_at lw_m6 64 rfl) rfl
theorem q1401 : (Jvm.Cond.methodLink "LastPebbleLaw" (257 : Nat) ({ cls := "LastPebble", name := "crowd", desc := "(I)I" } : Jvm.MethodName)) ∈ lw_all := lw_g (lw_at lw_m6 68 rfl) rfl
theorem q1405 : (Jvm.Cond.methodLink "LastPebbleLaw" (261 : Nat) ({ cls := "LastPebble", name := "lies", desc := "(II)I" } : Jvm.MethodName)) ∈ lw_all := lw_g (lw_at lw_m6 72 rfl) rfl
theorem q1409 : (Jvm.Cond.methodLink "LastPebbleLaw" (265 : Nat) ({ cls := "LastPebble", name := "live", desc := "(I)I" } : Jvm.MethodName)) ∈ lw_all := lw_g (lw_at lw_m6 76 rfl) rfl
theorem q1520 : (Jvm.Cond.methodLink "LastPebbleLaw" (269 : Nat) ({ cls := "LastPebble", name := "lived", desc := "(I)I" } : Jvm.MethodName)) ∈ lw_all := lw_g (lw_at lw_m6 187 rfl) rfl
theorem q1524 : (Jvm.Cond.methodLink "LastPebbleLaw" (273 : Nat) ({ cls := "LastPebble", name := "mean", desc := "(III)Z" } : Jvm.MethodName)) ∈ lw_all := lw_g (lw_at lw_m6 191 rfl) rfl
theorem q1529 : (Jvm.Cond.methodLink "LastPebbleLaw" (277 : Nat) ({ cls := "LastPebble", name := "mark", desc := "()I" } : Jvm.MethodName)) ∈ lw_all := lw_g (lw_at lw_m6 196 rfl) rfl
theorem q1538 : (Jvm.Cond.methodLink "LastPebbleLaw" (281 : Nat) ({ cls := "LastPebble", name := "back", desc := "()I" } : Jvm.MethodName)) ∈ lw_all := lw_g (lw_at lw_m6 205 rfl) rfl
theorem q1542 : (Jvm.Cond.classLink "LastPebbleLaw" (10 : Nat) "LastPebbleModel") ∈ lw_all := lw_g (lw_at lw_m6 209 rfl) rfl
theorem q1544 : (Jvm.Cond.methodLink "LastPebbleLaw" (12 : Nat) ({ cls := "LastPebbleModel", name := "<init>", desc := "()V" } : Jvm.MethodName)) ∈ lw_all := lw_g (lw_at lw_m6 211 rfl) rfl
theorem q1667 : (Jvm.Cond.methodLink "LastPebbleLaw" (17 : Nat) ({ cls := "LastPebbleModel", name := "status", desc := "()I" } : Jvm.MethodName)) ∈ lw_all := lw_g (lw_at lw_m7 94 rfl) rfl
theorem q1671 : (Jvm.Cond.methodLink "LastPebbleLaw" (22 : Nat) ({ cls := "LastPebbleModel", name := "top", desc := "()J" } : Jvm.MethodName)) ∈ lw_all := lw_g (lw_at lw_m7 98 rfl) rfl
theorem q1675 : (Jvm.Cond.methodLink "LastPebbleLaw" (26 : Nat) ({ cls := "LastPebbleModel", name := "bottom", desc := "()J" } : Jvm.MethodName)) ∈ lw_all := lw_g (lw_at lw_m7 102 rfl) rfl
theorem q1679 : (Jvm.Cond.methodLink "LastPebbleLaw" (31 : Nat) ({ cls := "LastPebbleModel", name := "tray", desc := "(III)Z" } : Jvm.MethodName)) ∈ lw_all := lw_g (lw_at lw_m7 106 rfl) rfl
theorem q1690 : (Jvm.Cond.methodLink "LastPebbleLaw" (38 : Nat) ({ cls := "LastPebbleModel", name := "write", desc := "(IIJ)Z" } : Jvm.MethodName)) ∈ lw_all := lw_g (lw_at lw_m7 117 rfl) rfl
theorem q1701 : (Jvm.Cond.methodLink "LastPebbleLaw" (43 : Nat) ({ cls := "LastPebbleModel", name := "read", desc := "(II)J" } : Jvm.MethodName)) ∈ lw_all := lw_g (lw_at lw_m7 128 rfl) rfl
theorem q1706 : (Jvm.Cond.methodLink "LastPebbleLaw" (48 : Nat) ({ cls := "LastPebbleModel", name := "pour", desc := "(IIIII)Z" } : Jvm.MethodName)) ∈ lw_all := lw_g (lw_at lw_m7 133 rfl) rfl
theorem q1710 : (Jvm.Cond.methodLink "LastPebbleLaw" (53 : Nat) ({ cls := "LastPebbleModel", name := "feed", desc := "(IIIII)I" } : Jvm.MethodName)) ∈ lw_all := lw_g (lw_at lw_m7 137 rfl) rfl
theorem q1718 : (Jvm.Cond.methodLink "LastPebbleLaw" (66 : Nat) ({ cls := "LastPebbleModel", name := "fault", desc := "(I)I" } : Jvm.MethodName)) ∈ lw_all := lw_g (lw_at lw_m7 145 rfl) rfl
theorem q1722 : (Jvm.Cond.methodLink "LastPebbleLaw" (58 : Nat) ({ cls := "LastPebbleModel", name := "beach", desc := "(I)I" } : Jvm.MethodName)) ∈ lw_all := lw_g (lw_at lw_m7 149 rfl) rfl
theorem q1843 : (Jvm.Cond.methodLink "LastPebbleLaw" (62 : Nat) ({ cls := "LastPebbleModel", name := "days", desc := "(I)I" } : Jvm.MethodName)) ∈ lw_all := lw_g (lw_at lw_m8 30 rfl) rfl
theorem q1867 : (Jvm.Cond.methodLink "LastPebbleLaw" (70 : Nat) ({ cls := "LastPebbleModel", name := "told", desc := "(I)I" } : Jvm.MethodName)) ∈ lw_all := lw_g (lw_at lw_m8 54 rfl) rfl
theorem q1871 : (Jvm.Cond.methodLink "LastPebbleLaw" (75 : Nat) ({ cls := "LastPebbleModel", name := "finder", desc := "(II)I" } : Jvm.MethodName)) ∈ lw_all := lw_g (lw_at lw_m8 58 rfl) rfl
theorem q1882 : (Jvm.Cond.methodLink "LastPebbleLaw" (79 : Nat) ({ cls := "LastPebbleModel", name := "find", desc := "(II)I" } : Jvm.MethodName)) ∈ lw_all := lw_g (lw_at lw_m8 69 rfl) rfl
theorem q1890 : (Jvm.Cond.methodLink "LastPebbleLaw" (84 : Nat) ({ cls := "LastPebbleModel", name := "pebble", desc := "(III)I" } : Jvm.MethodName)) ∈ lw_all := lw_g (lw_at lw_m8 77 rfl) rfl
theorem q1898 : (Jvm.Cond.methodLink "LastPebbleLaw" (88 : Nat) ({ cls := "LastPebbleModel", name := "go", desc := "(II)I" } : Jvm.MethodName)) ∈ lw_all := lw_g (lw_at lw_m8 85 rfl) rfl
theorem q1918 : (Jvm.Cond.methodLink "LastPebbleLaw" (92 : Nat) ({ cls := "LastPebbleModel", name := "pass", desc := "(II)I" } : Jvm.MethodName)) ∈ lw_all := lw_g (lw_at lw_m8 105 rfl) rfl
theorem q1927 : (Jvm.Cond.methodLink "LastPebbleLaw" (96 : Nat) ({ cls := "LastPebbleModel", name := "set", desc := "(II)I" } : Jvm.MethodName)) ∈ lw_all := lw_g (lw_at lw_m8 114 rfl) rfl
theorem q1943 : (Jvm.Cond.methodLink "LastPebbleLaw" (100 : Nat) ({ cls := "LastPebbleModel", name := "lift", desc := "(II)I" } : Jvm.MethodName)) ∈ lw_all := lw_g (lw_at lw_m8 130 rfl) rfl
theorem q1971 : (Jvm.Cond.methodLink "LastPebbleLaw" (104 : Nat) ({ cls := "LastPebbleModel", name := "gull", desc := "(II)I" } : Jvm.MethodName)) ∈ lw_all := lw_g (lw_at lw_m8 158 rfl) rfl
theorem q1983 : (Jvm.Cond.methodLink "LastPebbleLaw" (108 : Nat) ({ cls := "LastPebbleModel", name := "wave", desc := "(I)I" } : Jvm.MethodName)) ∈ lw_all := lw_g (lw_at lw_m8 170 rfl) rfl
theorem q1992 : (Jvm.Cond.methodLink "LastPebbleLaw" (120 : Nat) ({ cls := "LastPebbleModel", name := "last", desc := "(I)I" } : Jvm.MethodName)) ∈ lw_all := lw_g (lw_at lw_m8 179 rfl) rfl
theorem q2004 : (Jvm.Cond.methodLink "LastPebbleLaw" (124 : Nat) ({ cls := "LastPebbleModel", name := "whose", desc := "(I)I" } : Jvm.MethodName)) ∈ lw_all := lw_g (lw_at lw_m8 191 rfl) rfl
theorem q2015 : (Jvm.Cond.methodLink "LastPebbleLaw" (128 : Nat) ({ cls := "LastPebbleModel", name := "leads", desc := "(I)I" } : Jvm.MethodName)) ∈ lw_all := lw_g (lw_at lw_m8 202 rfl) rfl
theorem q2027 : (Jvm.Cond.methodLink "LastPebbleLaw" (132 : Nat) ({ cls := "LastPebbleModel", name := "leader", desc := "()I" } : Jvm.MethodName)) ∈ lw_all := lw_g (lw_at lw_m8 214 rfl) rfl
theorem q2039 : (Jvm.Cond.methodLink "LastPebbleLaw" (200 : Nat) ({ cls := "LastPebbleModel", name := "ranked", desc := "(I)I" } : Jvm.MethodName)) ∈ lw_all := lw_g (lw_at lw_m8 226 rfl) rfl
theorem q2043 : (Jvm.Cond.methodLink "LastPebbleLaw" (136 : Nat) ({ cls := "LastPebbleModel", name := "duels", desc := "()I" } : Jvm.MethodName)) ∈ lw_all := lw_g (lw_at lw_m8 230 rfl) rfl
theorem q2047 : (Jvm.Cond.methodLink "LastPebbleLaw" (140 : Nat) ({ cls := "LastPebbleModel", name := "needs", desc := "(I)I" } : Jvm.MethodName)) ∈ lw_all := lw_g (lw_at lw_m8 234 rfl) rfl
theorem q2051 : (Jvm.Cond.methodLink "LastPebbleLaw" (144 : Nat) ({ cls := "LastPebbleModel", name := "strewn", desc := "(I)I" } : Jvm.MethodName)) ∈ lw_all := lw_g (lw_at lw_m8 238 rfl) rfl
theorem q2063 : (Jvm.Cond.methodLink "LastPebbleLaw" (264 : Nat) ({ cls := "LastPebbleModel", name := "lies", desc := "(II)I" } : Jvm.MethodName)) ∈ lw_all := lw_g (lw_at lw_m9 10 rfl) rfl
theorem q2067 : (Jvm.Cond.methodLink "LastPebbleLaw" (204 : Nat) ({ cls := "LastPebbleModel", name := "rivals", desc := "(II)I" } : Jvm.MethodName)) ∈ lw_all := lw_g (lw_at lw_m9 14 rfl) rfl
theorem q2071 : (Jvm.Cond.methodLink "LastPebbleLaw" (208 : Nat) ({ cls := "LastPebbleModel", name := "richest", desc := "()I" } : Jvm.MethodName)) ∈ lw_all := lw_g (lw_at lw_m9 18 rfl) rfl
theorem q2075 : (Jvm.Cond.methodLink "LastPebbleLaw" (212 : Nat) ({ cls := "LastPebbleModel", name := "left", desc := "(I)I" } : Jvm.MethodName)) ∈ lw_all := lw_g (lw_at lw_m9 22 rfl) rfl
theorem q2087 : (Jvm.Cond.methodLink "LastPebbleLaw" (216 : Nat) ({ cls := "LastPebbleModel", name := "tideIn", desc := "(I)I" } : Jvm.MethodName)) ∈ lw_all := lw_g (lw_at lw_m9 34 rfl) rfl
theorem q2093 : (Jvm.Cond.methodLink "LastPebbleLaw" (244 : Nat) ({ cls := "LastPebbleModel", name := "latest", desc := "()I" } : Jvm.MethodName)) ∈ lw_all := lw_g (lw_at lw_m9 40 rfl) rfl
theorem q2097 : (Jvm.Cond.methodLink "LastPebbleLaw" (248 : Nat) ({ cls := "LastPebbleModel", name := "behind", desc := "(I)I" } : Jvm.MethodName)) ∈ lw_all := lw_g (lw_at lw_m9 44 rfl) rfl
theorem q2101 : (Jvm.Cond.methodLink "LastPebbleLaw" (252 : Nat) ({ cls := "LastPebbleModel", name := "alone", desc := "()I" } : Jvm.MethodName)) ∈ lw_all := lw_g (lw_at lw_m9 48 rfl) rfl
theorem q2105 : (Jvm.Cond.methodLink "LastPebbleLaw" (256 : Nat) ({ cls := "LastPebbleModel", name := "part", desc := "(II)I" } : Jvm.MethodName)) ∈ lw_all := lw_g (lw_at lw_m9 52 rfl) rfl
theorem q2109 : (Jvm.Cond.methodLink "LastPebbleLaw" (260 : Nat) ({ cls := "LastPebbleModel", name := "crowd", desc := "(I)I" } : Jvm.MethodName)) ∈ lw_all := lw_g (lw_at lw_m9 56 rfl) rfl
theorem q2113 : (Jvm.Cond.methodLink "LastPebbleLaw" (188 : Nat) ({ cls := "LastPebbleModel", name := "walk", desc := "(II)I" } : Jvm.MethodName)) ∈ lw_all := lw_g (lw_at lw_m9 60 rfl) rfl
theorem q2117 : (Jvm.Cond.methodLink "LastPebbleLaw" (220 : Nat) ({ cls := "LastPebbleModel", name := "open", desc := "()I" } : Jvm.MethodName)) ∈ lw_all := lw_g (lw_at lw_m9 64 rfl) rfl
theorem q2121 : (Jvm.Cond.methodLink "LastPebbleLaw" (224 : Nat) ({ cls := "LastPebbleModel", name := "farthest", desc := "(I)I" } : Jvm.MethodName)) ∈ lw_all := lw_g (lw_at lw_m9 68 rfl) rfl
theorem q2125 : (Jvm.Cond.methodLink "LastPebbleLaw" (228 : Nat) ({ cls := "LastPebbleModel", name := "time", desc := "(I)I" } : Jvm.MethodName)) ∈ lw_all := lw_g (lw_at lw_m9 72 rfl) rfl
theorem q2129 : (Jvm.Cond.methodLink "LastPebbleLaw" (232 : Nat) ({ cls := "LastPebbleModel", name := "tally", desc := "(II)I" } : Jvm.MethodName)) ∈ lw_all := lw_g (lw_at lw_m9 76 rfl) rfl
theorem q2133 : (Jvm.Cond.methodLink "LastPebbleLaw" (236 : Nat) ({ cls := "LastPebbleModel", name := "busiest", desc := "()I" } : Jvm.MethodName)) ∈ lw_all := lw_g (lw_at lw_m9 80 rfl) rfl
theorem q2137 : (Jvm.Cond.methodLink "LastPebbleLaw" (240 : Nat) ({ cls := "LastPebbleModel", name := "both", desc := "(III)I" } : Jvm.MethodName)) ∈ lw_all := lw_g (lw_at lw_m9 84 rfl) rfl
theorem q2145 : (Jvm.Cond.methodLink "LastPebbleLaw" (112 : Nat) ({ cls := "LastPebbleModel", name := "tide", desc := "()I" } : Jvm.MethodName)) ∈ lw_all := lw_g (lw_at lw_m9 92 rfl) rfl
theorem q2153 : (Jvm.Cond.methodLink "LastPebbleLaw" (116 : Nat) ({ cls := "LastPebbleModel", name := "dawn", desc := "()I" } : Jvm.MethodName)) ∈ lw_all := lw_g (lw_at lw_m9 100 rfl) rfl
theorem q2161 : (Jvm.Cond.methodLink "LastPebbleLaw" (148 : Nat) ({ cls := "LastPebbleModel", name := "soonest", desc := "(II)I" } : Jvm.MethodName)) ∈ lw_all := lw_g (lw_at lw_m9 108 rfl) rfl
theorem q2173 : (Jvm.Cond.methodLink "LastPebbleLaw" (152 : Nat) ({ cls := "LastPebbleModel", name := "threat", desc := "(I)I" } : Jvm.MethodName)) ∈ lw_all := lw_g (lw_at lw_m9 120 rfl) rfl
theorem q2181 : (Jvm.Cond.methodLink "LastPebbleLaw" (196 : Nat) ({ cls := "LastPebbleModel", name := "safe", desc := "(I)I" } : Jvm.MethodName)) ∈ lw_all := lw_g (lw_at lw_m9 128 rfl) rfl
theorem q2185 : (Jvm.Cond.methodLink "LastPebbleLaw" (192 : Nat) ({ cls := "LastPebbleModel", name := "gain", desc := "(II)I" } : Jvm.MethodName)) ∈ lw_all := lw_g (lw_at lw_m9 132 rfl) rfl
theorem q2189 : (Jvm.Cond.methodLink "LastPebbleLaw" (156 : Nat) ({ cls := "LastPebbleModel", name := "best", desc := "(I)I" } : Jvm.MethodName)) ∈ lw_all := lw_g (lw_at lw_m9 136 rfl) rfl
theorem q2197 : (Jvm.Cond.methodLink "LastPebbleLaw" (160 : Nat) ({ cls := "LastPebbleModel", name := "bestAt", desc := "(I)I" } : Jvm.MethodName)) ∈ lw_all := lw_g (lw_at lw_m9 144 rfl) rfl
theorem q2201 : (Jvm.Cond.methodLink "LastPebbleLaw" (164 : Nat) ({ cls := "LastPebbleModel", name := "lateness", desc := "(II)I" } : Jvm.MethodName)) ∈ lw_all := lw_g (lw_at lw_m9 148 rfl) rfl
theorem q2205 : (Jvm.Cond.methodLink "LastPebbleLaw" (168 : Nat) ({ cls := "LastPebbleModel", name := "seen", desc := "(II)I" } : Jvm.MethodName)) ∈ lw_all := lw_g (lw_at lw_m9 152 rfl) rfl
theorem q2209 : (Jvm.Cond.methodLink "LastPebbleLaw" (172 : Nat) ({ cls := "LastPebbleModel", name := "boys", desc := "(I)I" } : Jvm.MethodName)) ∈ lw_all := lw_g (lw_at lw_m9 156 rfl) rfl
theorem q2221 : (Jvm.Cond.methodLink "LastPebbleLaw" (176 : Nat) ({ cls := "LastPebbleModel", name := "boyAt", desc := "(II)I" } : Jvm.MethodName)) ∈ lw_all := lw_g (lw_at lw_m9 168 rfl) rfl
theorem q2225 : (Jvm.Cond.methodLink "LastPebbleLaw" (180 : Nat) ({ cls := "LastPebbleModel", name := "odds", desc := "(III)Z" } : Jvm.MethodName)) ∈ lw_all := lw_g (lw_at lw_m9 172 rfl) rfl
theorem q2234 : (Jvm.Cond.methodLink "LastPebbleLaw" (184 : Nat) ({ cls := "LastPebbleModel", name := "gulls", desc := "(I)I" } : Jvm.MethodName)) ∈ lw_all := lw_g (lw_at lw_m9 181 rfl) rfl
theorem q2239 : (Jvm.Cond.methodLink "LastPebbleLaw" (268 : Nat) ({ cls := "LastPebbleModel", name := "live", desc := "(I)I" } : Jvm.MethodName)) ∈ lw_all := lw_g (lw_at lw_m9 186 rfl) rfl
theorem q2269 : (Jvm.Cond.methodLink "LastPebbleLaw" (272 : Nat) ({ cls := "LastPebbleModel", name := "lived", desc := "(I)I" } : Jvm.MethodName)) ∈ lw_all := lw_g (lw_at lw_m9 216 rfl) rfl
theorem q2273 : (Jvm.Cond.methodLink "LastPebbleLaw" (276 : Nat) ({ cls := "LastPebbleModel", name := "mean", desc := "(III)Z" } : Jvm.MethodName)) ∈ lw_all := lw_g (lw_at lw_m9 220 rfl) rfl
theorem q2278 : (Jvm.Cond.methodLink "LastPebbleLaw" (280 : Nat) ({ cls := "LastPebbleModel", name := "mark", desc := "()I" } : Jvm.MethodName)) ∈ lw_all := lw_g (lw_at lw_m9 225 rfl) rfl
theorem q2286 : (Jvm.Cond.methodLink "LastPebbleLaw" (284 : Nat) ({ cls := "LastPebbleModel", name := "back", desc := "()I" } : Jvm.MethodName)) ∈ lw_all := lw_g (lw_at lw_m9 233 rfl) rfl
theorem q2290 : (Jvm.Cond.constantLong "LastPebbleLaw" (32 : Nat) (4294967295 : Int64)) ∈ lw_all := lw_g (lw_at lw_m9 237 rfl) rfl

theorem q150 : (Jvm.Cond.initialized "java/lang/System") ∈ lw_all := lw_g (lw_at lw_m1 17 rfl) rfl
set_option maxRecDepth 100000
theorem q650 : (Jvm.Cond.static ({ cls := "java/lang/System", name := "arraycopy", desc := "(Ljava/lang/Object;ILjava/lang/Object;II)V" } : Jvm.MethodName)) ∈ lw_all := lw_g (lw_at lw_m3 37 rfl) rfl
theorem q651 : (Jvm.Cond.native ({ cls := "java/lang/System", name := "arraycopy", desc := "(Ljava/lang/Object;ILjava/lang/Object;II)V" } : Jvm.MethodName)) ∈ lw_all := lw_g (lw_at lw_m3 38 rfl) rfl

