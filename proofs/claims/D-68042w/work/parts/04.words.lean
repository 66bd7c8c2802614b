-- printed by gen/wordsgen.py: the table words that are used
def lw_keep (w : Cond) : Bool := (w.onTables && w.keeps) || (match w with | .arrayClass _ => true | _ => false)
def lw_isN (w : Cond) : Bool := match w with | .fieldLinkNest .. => true | .methodLinkNest .. => true | _ => false
/-- the words that every method is given -/
def lw_g : List Cond := lw_tbl.filter lw_keep
/-- the words of nest mates, which travel in KK -/
def lw_nest : List Cond := tables_1.filter lw_isN
theorem lw_in {w : Cond} (i : Nat) (h : tables_1[i]? = some w) (hk : lw_keep w = true) : w ∈ lw_g := List.mem_filter.mpr ⟨List.mem_append_right _ (List.mem_of_getElem? h), hk⟩
theorem lw_inS {w : Cond} (i : Nat) (h : (k2_sels lw_privs)[i]? = some w) (hk : lw_keep w = true) : w ∈ lw_g := List.mem_filter.mpr ⟨List.mem_append_left _ (List.mem_of_getElem? h), hk⟩
theorem lw_inN {w : Cond} (i : Nat) (h : tables_1[i]? = some w) (hk : lw_isN w = true) : w ∈ lw_nest := List.mem_filter.mpr ⟨List.mem_of_getElem? h, hk⟩
theorem lw_g_tbl {w : Cond} (h : w ∈ lw_g) : w ∈ lw_tbl := (List.mem_filter.mp h).1
theorem lw_g_good {w : Cond} (h : w ∈ lw_g) : (w.onTables && w.keeps) = true ∨ ∃ ty, w = .arrayClass ty := by
  have hk := (List.mem_filter.mp h).2
  unfold lw_keep at hk
  rcases Bool.or_eq_true _ _ ▸ hk with h1 | h1
  · exact Or.inl h1
  · right
    cases w <;> first | exact ⟨_, rfl⟩ | cases h1
theorem lw_good {ws : List Cond} (h : ∀ w ∈ ws, w ∈ lw_g) : GoodIn lw_g ws := fun w hw => ⟨h w hw, lw_g_good (h w hw)⟩
theorem kf_X_9 : (.fieldLink "TwoLevelParser$Lexer" 9 "TwoLevelParser$Lexer" "text" "[B" : Cond) ∈ lw_g := lw_in 27 (by decide +kernel) (by decide +kernel)
theorem kf_X_22 : (.fieldLink "TwoLevelParser$Lexer" 22 "TwoLevelParser$Lexer" "size" "I" : Cond) ∈ lw_g := lw_in 29 (by decide +kernel) (by decide +kernel)
theorem kf_X_15 : (.fieldLink "TwoLevelParser$Lexer" 15 "TwoLevelParser$Lexer" "at" "I" : Cond) ∈ lw_g := lw_in 31 (by decide +kernel) (by decide +kernel)
theorem kf_X_34 : (.fieldLink "TwoLevelParser$Lexer" 34 "TwoLevelParser$Lexer" "sort" "LTwoLevelParser$Sort;" : Cond) ∈ lw_g := lw_in 32 (by decide +kernel) (by decide +kernel)
theorem kf_X_25 : (.fieldLink "TwoLevelParser$Lexer" 25 "TwoLevelParser$Lexer" "place" "I" : Cond) ∈ lw_g := lw_in 34 (by decide +kernel) (by decide +kernel)
theorem kf_X_57 : (.fieldLink "TwoLevelParser$Lexer" 57 "TwoLevelParser$Lexer" "word" "J" : Cond) ∈ lw_g := lw_in 36 (by decide +kernel) (by decide +kernel)
theorem kf_X_74 : (.fieldLink "TwoLevelParser$Lexer" 74 "TwoLevelParser$Lexer" "value" "I" : Cond) ∈ lw_g := lw_in 38 (by decide +kernel) (by decide +kernel)
theorem kf_D_9 : (.fieldLink "TwoLevelParser$Definition" 9 "TwoLevelParser$Definition" "names" "[J" : Cond) ∈ lw_g := lw_in 73 (by decide +kernel) (by decide +kernel)
theorem kf_D_15 : (.fieldLink "TwoLevelParser$Definition" 15 "TwoLevelParser$Definition" "types" "[I" : Cond) ∈ lw_g := lw_in 75 (by decide +kernel) (by decide +kernel)
theorem kf_P_112 : (.fieldLink "TwoLevelParser" 112 "TwoLevelParser" "lexer" "LTwoLevelParser$Lexer;" : Cond) ∈ lw_g := lw_in 96 (by decide +kernel) (by decide +kernel)
theorem kf_P_118 : (.fieldLink "TwoLevelParser" 118 "TwoLevelParser" "nodes" "[LTwoLevelParser$Node;" : Cond) ∈ lw_g := lw_in 97 (by decide +kernel) (by decide +kernel)
theorem kf_P_179 : (.fieldLink "TwoLevelParser" 179 "TwoLevelParser" "many" "I" : Cond) ∈ lw_g := lw_in 98 (by decide +kernel) (by decide +kernel)
theorem kf_P_124 : (.fieldLink "TwoLevelParser" 124 "TwoLevelParser" "definitions" "[LTwoLevelParser$Definition;" : Cond) ∈ lw_g := lw_in 99 (by decide +kernel) (by decide +kernel)
theorem kf_P_182 : (.fieldLink "TwoLevelParser" 182 "TwoLevelParser" "defined" "I" : Cond) ∈ lw_g := lw_in 100 (by decide +kernel) (by decide +kernel)
theorem kf_P_130 : (.fieldLink "TwoLevelParser" 130 "TwoLevelParser" "open" "[LTwoLevelParser$Open;" : Cond) ∈ lw_g := lw_in 101 (by decide +kernel) (by decide +kernel)
theorem kf_P_259 : (.fieldLink "TwoLevelParser" 259 "TwoLevelParser" "depth" "I" : Cond) ∈ lw_g := lw_in 102 (by decide +kernel) (by decide +kernel)
theorem kf_P_146 : (.fieldLink "TwoLevelParser" 146 "TwoLevelParser" "fault" "I" : Cond) ∈ lw_g := lw_in 103 (by decide +kernel) (by decide +kernel)
theorem kf_P_134 : (.fieldLink "TwoLevelParser" 134 "TwoLevelParser" "place" "I" : Cond) ∈ lw_g := lw_in 104 (by decide +kernel) (by decide +kernel)
theorem kf_X_28 : (.fieldLink "TwoLevelParser$Lexer" 28 "TwoLevelParser$Sort" "END" "LTwoLevelParser$Sort;" : Cond) ∈ lw_g := lw_in 144 (by decide +kernel) (by decide +kernel)
theorem kf_X_37 : (.fieldLink "TwoLevelParser$Lexer" 37 "TwoLevelParser$Sort" "OPEN" "LTwoLevelParser$Sort;" : Cond) ∈ lw_g := lw_in 146 (by decide +kernel) (by decide +kernel)
theorem kf_X_40 : (.fieldLink "TwoLevelParser$Lexer" 40 "TwoLevelParser$Sort" "CLOSE" "LTwoLevelParser$Sort;" : Cond) ∈ lw_g := lw_in 148 (by decide +kernel) (by decide +kernel)
theorem kf_X_47 : (.fieldLink "TwoLevelParser$Lexer" 47 "TwoLevelParser$Sort" "WRONG" "LTwoLevelParser$Sort;" : Cond) ∈ lw_g := lw_in 153 (by decide +kernel) (by decide +kernel)
theorem kf_X_65 : (.fieldLink "TwoLevelParser$Lexer" 65 "TwoLevelParser$Sort" "NAME" "LTwoLevelParser$Sort;" : Cond) ∈ lw_g := lw_in 161 (by decide +kernel) (by decide +kernel)
theorem kf_X_79 : (.fieldLink "TwoLevelParser$Lexer" 79 "TwoLevelParser$Sort" "NUMBER" "LTwoLevelParser$Sort;" : Cond) ∈ lw_g := lw_in 171 (by decide +kernel) (by decide +kernel)
theorem kf_P_158 : (.fieldLink "TwoLevelParser" 158 "TwoLevelParser$Sort" "END" "LTwoLevelParser$Sort;" : Cond) ∈ lw_g := lw_in 173 (by decide +kernel) (by decide +kernel)
theorem kf_P_188 : (.fieldLink "TwoLevelParser" 188 "TwoLevelParser$Sort" "OPEN" "LTwoLevelParser$Sort;" : Cond) ∈ lw_g := lw_in 174 (by decide +kernel) (by decide +kernel)
theorem kf_P_153 : (.fieldLink "TwoLevelParser" 153 "TwoLevelParser$Sort" "WRONG" "LTwoLevelParser$Sort;" : Cond) ∈ lw_g := lw_in 179 (by decide +kernel) (by decide +kernel)
theorem kf_P_162 : (.fieldLink "TwoLevelParser" 162 "TwoLevelParser$Sort" "NAME" "LTwoLevelParser$Sort;" : Cond) ∈ lw_g := lw_in 190 (by decide +kernel) (by decide +kernel)
theorem kf_Js_38 : (.fieldLink "java/lang/String" 38 "java/lang/String" "COMPACT_STRINGS" "Z" : Cond) ∈ lw_g := lw_in 202 (by decide +kernel) (by decide +kernel)
theorem kf_Js_1053 : (.fieldLink "java/lang/String" 1053 "jdk/internal/util/Preconditions" "SIOOBE_FORMATTER" "Ljava/util/function/BiFunction;" : Cond) ∈ lw_g := lw_in 219 (by decide +kernel) (by decide +kernel)
theorem kf_P_218 : (.fieldLink "TwoLevelParser" 218 "TwoLevelParser$Sort" "CLOSE" "LTwoLevelParser$Sort;" : Cond) ∈ lw_g := lw_in 291 (by decide +kernel) (by decide +kernel)
theorem kf_P_296 : (.fieldLink "TwoLevelParser" 296 "TwoLevelParser$Sort" "NUMBER" "LTwoLevelParser$Sort;" : Cond) ∈ lw_g := lw_in 383 (by decide +kernel) (by decide +kernel)
theorem kf_M_77 : (.fieldLink "TwoLevelParserModel" 77 "TwoLevelParserModel" "thrown" "I" : Cond) ∈ lw_g := lw_in 442 (by decide +kernel) (by decide +kernel)
theorem kf_M_7 : (.fieldLink "TwoLevelParserModel" 7 "TwoLevelParserModel" "text" "[B" : Cond) ∈ lw_g := lw_in 443 (by decide +kernel) (by decide +kernel)
theorem kf_M_80 : (.fieldLink "TwoLevelParserModel" 80 "TwoLevelParserModel" "size" "I" : Cond) ∈ lw_g := lw_in 444 (by decide +kernel) (by decide +kernel)
theorem kf_M_83 : (.fieldLink "TwoLevelParserModel" 83 "TwoLevelParserModel" "fault" "I" : Cond) ∈ lw_g := lw_in 445 (by decide +kernel) (by decide +kernel)
theorem kf_M_13 : (.fieldLink "TwoLevelParserModel" 13 "TwoLevelParserModel" "place" "I" : Cond) ∈ lw_g := lw_in 446 (by decide +kernel) (by decide +kernel)
theorem kf_M_93 : (.fieldLink "TwoLevelParserModel" 93 "TwoLevelParserModel" "p" "I" : Cond) ∈ lw_g := lw_in 447 (by decide +kernel) (by decide +kernel)
theorem kf_M_99 : (.fieldLink "TwoLevelParserModel" 99 "TwoLevelParserModel" "token" "I" : Cond) ∈ lw_g := lw_in 448 (by decide +kernel) (by decide +kernel)
theorem kf_M_96 : (.fieldLink "TwoLevelParserModel" 96 "TwoLevelParserModel" "at" "I" : Cond) ∈ lw_g := lw_in 449 (by decide +kernel) (by decide +kernel)
theorem kf_M_115 : (.fieldLink "TwoLevelParserModel" 115 "TwoLevelParserModel" "spelled" "J" : Cond) ∈ lw_g := lw_in 450 (by decide +kernel) (by decide +kernel)
theorem kf_M_129 : (.fieldLink "TwoLevelParserModel" 129 "TwoLevelParserModel" "value" "I" : Cond) ∈ lw_g := lw_in 451 (by decide +kernel) (by decide +kernel)
theorem kf_M_251 : (.fieldLink "TwoLevelParserModel" 251 "TwoLevelParserModel" "definitions" "I" : Cond) ∈ lw_g := lw_in 452 (by decide +kernel) (by decide +kernel)
theorem kf_M_17 : (.fieldLink "TwoLevelParserModel" 17 "TwoLevelParserModel" "isChg" "[I" : Cond) ∈ lw_g := lw_in 453 (by decide +kernel) (by decide +kernel)
theorem kf_M_21 : (.fieldLink "TwoLevelParserModel" 21 "TwoLevelParserModel" "types" "[I" : Cond) ∈ lw_g := lw_in 454 (by decide +kernel) (by decide +kernel)
theorem kf_M_24 : (.fieldLink "TwoLevelParserModel" 24 "TwoLevelParserModel" "parameters" "[I" : Cond) ∈ lw_g := lw_in 455 (by decide +kernel) (by decide +kernel)
theorem kf_M_27 : (.fieldLink "TwoLevelParserModel" 27 "TwoLevelParserModel" "firsts" "[I" : Cond) ∈ lw_g := lw_in 456 (by decide +kernel) (by decide +kernel)
theorem kf_M_30 : (.fieldLink "TwoLevelParserModel" 30 "TwoLevelParserModel" "titlePlaces" "[I" : Cond) ∈ lw_g := lw_in 457 (by decide +kernel) (by decide +kernel)
theorem kf_M_33 : (.fieldLink "TwoLevelParserModel" 33 "TwoLevelParserModel" "titles" "[J" : Cond) ∈ lw_g := lw_in 458 (by decide +kernel) (by decide +kernel)
theorem kf_M_37 : (.fieldLink "TwoLevelParserModel" 37 "TwoLevelParserModel" "parameterNames" "[J" : Cond) ∈ lw_g := lw_in 459 (by decide +kernel) (by decide +kernel)
theorem kf_M_40 : (.fieldLink "TwoLevelParserModel" 40 "TwoLevelParserModel" "parameterTypes" "[I" : Cond) ∈ lw_g := lw_in 460 (by decide +kernel) (by decide +kernel)
theorem kf_M_207 : (.fieldLink "TwoLevelParserModel" 207 "TwoLevelParserModel" "nodes" "I" : Cond) ∈ lw_g := lw_in 461 (by decide +kernel) (by decide +kernel)
theorem kf_M_43 : (.fieldLink "TwoLevelParserModel" 43 "TwoLevelParserModel" "kinds" "[I" : Cond) ∈ lw_g := lw_in 462 (by decide +kernel) (by decide +kernel)
theorem kf_M_46 : (.fieldLink "TwoLevelParserModel" 46 "TwoLevelParserModel" "parents" "[I" : Cond) ∈ lw_g := lw_in 463 (by decide +kernel) (by decide +kernel)
theorem kf_M_49 : (.fieldLink "TwoLevelParserModel" 49 "TwoLevelParserModel" "places" "[I" : Cond) ∈ lw_g := lw_in 464 (by decide +kernel) (by decide +kernel)
theorem kf_M_52 : (.fieldLink "TwoLevelParserModel" 52 "TwoLevelParserModel" "namePlaces" "[I" : Cond) ∈ lw_g := lw_in 465 (by decide +kernel) (by decide +kernel)
theorem kf_M_55 : (.fieldLink "TwoLevelParserModel" 55 "TwoLevelParserModel" "secondPlaces" "[I" : Cond) ∈ lw_g := lw_in 466 (by decide +kernel) (by decide +kernel)
theorem kf_M_58 : (.fieldLink "TwoLevelParserModel" 58 "TwoLevelParserModel" "variables" "[I" : Cond) ∈ lw_g := lw_in 467 (by decide +kernel) (by decide +kernel)
theorem kf_M_61 : (.fieldLink "TwoLevelParserModel" 61 "TwoLevelParserModel" "values" "[I" : Cond) ∈ lw_g := lw_in 468 (by decide +kernel) (by decide +kernel)
theorem kf_M_64 : (.fieldLink "TwoLevelParserModel" 64 "TwoLevelParserModel" "names" "[J" : Cond) ∈ lw_g := lw_in 469 (by decide +kernel) (by decide +kernel)
theorem kf_M_67 : (.fieldLink "TwoLevelParserModel" 67 "TwoLevelParserModel" "seconds" "[J" : Cond) ∈ lw_g := lw_in 470 (by decide +kernel) (by decide +kernel)
theorem kf_M_71 : (.fieldLink "TwoLevelParserModel" 71 "TwoLevelParserModel" "due" "[B" : Cond) ∈ lw_g := lw_in 471 (by decide +kernel) (by decide +kernel)
theorem kf_M_74 : (.fieldLink "TwoLevelParserModel" 74 "TwoLevelParserModel" "dueOf" "[I" : Cond) ∈ lw_g := lw_in 472 (by decide +kernel) (by decide +kernel)
theorem kf_M_204 : (.fieldLink "TwoLevelParserModel" 204 "TwoLevelParserModel" "dues" "I" : Cond) ∈ lw_g := lw_in 473 (by decide +kernel) (by decide +kernel)
theorem kf_M_210 : (.fieldLink "TwoLevelParserModel" 210 "TwoLevelParserModel" "there" "I" : Cond) ∈ lw_g := lw_in 474 (by decide +kernel) (by decide +kernel)
theorem kf_Js_9 : (.fieldLink "java/lang/String" 9 "java/lang/String" "value" "[B" : Cond) ∈ lw_g := lw_in 719 (by decide +kernel) (by decide +kernel)
theorem kf_Js_15 : (.fieldLink "java/lang/String" 15 "java/lang/String" "coder" "B" : Cond) ∈ lw_g := lw_in 720 (by decide +kernel) (by decide +kernel)
theorem kf_P_142 : (.fieldLinkNest "TwoLevelParser" 142 "TwoLevelParser$Lexer" "text" "[B" "TwoLevelParser" : Cond) ∈ lw_nest := lw_inN 28 (by decide +kernel) (by decide +kernel)
theorem kf_P_139 : (.fieldLinkNest "TwoLevelParser" 139 "TwoLevelParser$Lexer" "size" "I" "TwoLevelParser" : Cond) ∈ lw_nest := lw_inN 30 (by decide +kernel) (by decide +kernel)
theorem kf_P_149 : (.fieldLinkNest "TwoLevelParser" 149 "TwoLevelParser$Lexer" "sort" "LTwoLevelParser$Sort;" "TwoLevelParser" : Cond) ∈ lw_nest := lw_inN 33 (by decide +kernel) (by decide +kernel)
theorem kf_P_161 : (.fieldLinkNest "TwoLevelParser" 161 "TwoLevelParser$Lexer" "place" "I" "TwoLevelParser" : Cond) ∈ lw_nest := lw_inN 35 (by decide +kernel) (by decide +kernel)
theorem kf_P_165 : (.fieldLinkNest "TwoLevelParser" 165 "TwoLevelParser$Lexer" "word" "J" "TwoLevelParser" : Cond) ∈ lw_nest := lw_inN 37 (by decide +kernel) (by decide +kernel)
theorem kf_P_299 : (.fieldLinkNest "TwoLevelParser" 299 "TwoLevelParser$Lexer" "value" "I" "TwoLevelParser" : Cond) ∈ lw_nest := lw_inN 39 (by decide +kernel) (by decide +kernel)
theorem kf_P_201 : (.fieldLinkNest "TwoLevelParser" 201 "TwoLevelParser$Definition" "changes" "Z" "TwoLevelParser" : Cond) ∈ lw_nest := lw_inN 67 (by decide +kernel) (by decide +kernel)
theorem kf_P_229 : (.fieldLinkNest "TwoLevelParser" 229 "TwoLevelParser$Definition" "type" "I" "TwoLevelParser" : Cond) ∈ lw_nest := lw_inN 68 (by decide +kernel) (by decide +kernel)
theorem kf_P_217 : (.fieldLinkNest "TwoLevelParser" 217 "TwoLevelParser$Definition" "many" "I" "TwoLevelParser" : Cond) ∈ lw_nest := lw_inN 69 (by decide +kernel) (by decide +kernel)
theorem kf_P_231 : (.fieldLinkNest "TwoLevelParser" 231 "TwoLevelParser$Definition" "node" "I" "TwoLevelParser" : Cond) ∈ lw_nest := lw_inN 70 (by decide +kernel) (by decide +kernel)
theorem kf_P_194 : (.fieldLinkNest "TwoLevelParser" 194 "TwoLevelParser$Definition" "name" "J" "TwoLevelParser" : Cond) ∈ lw_nest := lw_inN 71 (by decide +kernel) (by decide +kernel)
theorem kf_P_216 : (.fieldLinkNest "TwoLevelParser" 216 "TwoLevelParser$Definition" "place" "I" "TwoLevelParser" : Cond) ∈ lw_nest := lw_inN 72 (by decide +kernel) (by decide +kernel)
theorem kf_P_237 : (.fieldLinkNest "TwoLevelParser" 237 "TwoLevelParser$Definition" "names" "[J" "TwoLevelParser" : Cond) ∈ lw_nest := lw_inN 74 (by decide +kernel) (by decide +kernel)
theorem kf_P_241 : (.fieldLinkNest "TwoLevelParser" 241 "TwoLevelParser$Definition" "types" "[I" "TwoLevelParser" : Cond) ∈ lw_nest := lw_inN 76 (by decide +kernel) (by decide +kernel)
theorem kf_P_246 : (.fieldLinkNest "TwoLevelParser" 246 "TwoLevelParser$Node" "kind" "I" "TwoLevelParser" : Cond) ∈ lw_nest := lw_inN 317 (by decide +kernel) (by decide +kernel)
theorem kf_P_249 : (.fieldLinkNest "TwoLevelParser" 249 "TwoLevelParser$Node" "parts" "I" "TwoLevelParser" : Cond) ∈ lw_nest := lw_inN 318 (by decide +kernel) (by decide +kernel)
theorem kf_P_252 : (.fieldLinkNest "TwoLevelParser" 252 "TwoLevelParser$Node" "all" "I" "TwoLevelParser" : Cond) ∈ lw_nest := lw_inN 319 (by decide +kernel) (by decide +kernel)
theorem kf_P_255 : (.fieldLinkNest "TwoLevelParser" 255 "TwoLevelParser$Node" "place" "I" "TwoLevelParser" : Cond) ∈ lw_nest := lw_inN 320 (by decide +kernel) (by decide +kernel)
theorem kf_P_263 : (.fieldLinkNest "TwoLevelParser" 263 "TwoLevelParser$Node" "around" "I" "TwoLevelParser" : Cond) ∈ lw_nest := lw_inN 321 (by decide +kernel) (by decide +kernel)
theorem kf_P_256 : (.fieldLinkNest "TwoLevelParser" 256 "TwoLevelParser$Node" "variables" "I" "TwoLevelParser" : Cond) ∈ lw_nest := lw_inN 322 (by decide +kernel) (by decide +kernel)
theorem kf_P_266 : (.fieldLinkNest "TwoLevelParser" 266 "TwoLevelParser$Node" "first" "J" "TwoLevelParser" : Cond) ∈ lw_nest := lw_inN 323 (by decide +kernel) (by decide +kernel)
theorem kf_P_269 : (.fieldLinkNest "TwoLevelParser" 269 "TwoLevelParser$Node" "second" "J" "TwoLevelParser" : Cond) ∈ lw_nest := lw_inN 324 (by decide +kernel) (by decide +kernel)
theorem kf_P_272 : (.fieldLinkNest "TwoLevelParser" 272 "TwoLevelParser$Node" "firstPlace" "I" "TwoLevelParser" : Cond) ∈ lw_nest := lw_inN 325 (by decide +kernel) (by decide +kernel)
theorem kf_P_275 : (.fieldLinkNest "TwoLevelParser" 275 "TwoLevelParser$Node" "secondPlace" "I" "TwoLevelParser" : Cond) ∈ lw_nest := lw_inN 326 (by decide +kernel) (by decide +kernel)
theorem kf_P_278 : (.fieldLinkNest "TwoLevelParser" 278 "TwoLevelParser$Node" "value" "I" "TwoLevelParser" : Cond) ∈ lw_nest := lw_inN 327 (by decide +kernel) (by decide +kernel)
theorem kf_P_262 : (.fieldLinkNest "TwoLevelParser" 262 "TwoLevelParser$Open" "node" "I" "TwoLevelParser" : Cond) ∈ lw_nest := lw_inN 356 (by decide +kernel) (by decide +kernel)
theorem kf_P_288 : (.fieldLinkNest "TwoLevelParser" 288 "TwoLevelParser$Open" "form" "Ljava/lang/String;" "TwoLevelParser" : Cond) ∈ lw_nest := lw_inN 357 (by decide +kernel) (by decide +kernel)
theorem kf_P_292 : (.fieldLinkNest "TwoLevelParser" 292 "TwoLevelParser$Open" "step" "I" "TwoLevelParser" : Cond) ∈ lw_nest := lw_inN 358 (by decide +kernel) (by decide +kernel)
theorem kf_P_295 : (.fieldLinkNest "TwoLevelParser" 295 "TwoLevelParser$Open" "variables" "I" "TwoLevelParser" : Cond) ∈ lw_nest := lw_inN 359 (by decide +kernel) (by decide +kernel)
theorem km_law_9 : (.methodLink "TwoLevelParserLaw" 9 y_P_init : Cond) ∈ lw_g := lw_in 15 (by decide +kernel) (by decide +kernel)
theorem km_P_103 : (.methodLink "TwoLevelParser" 103 objectInit : Cond) ∈ lw_g := lw_in 18 (by decide +kernel) (by decide +kernel)
theorem km_X_3 : (.methodLink "TwoLevelParser$Lexer" 3 objectInit : Cond) ∈ lw_g := lw_in 26 (by decide +kernel) (by decide +kernel)
theorem km_D_3 : (.methodLink "TwoLevelParser$Definition" 3 objectInit : Cond) ∈ lw_g := lw_in 66 (by decide +kernel) (by decide +kernel)
theorem km_law_15 : (.methodLink "TwoLevelParserLaw" 15 y_P_give : Cond) ∈ lw_g := lw_in 124 (by decide +kernel) (by decide +kernel)
theorem km_law_20 : (.methodLink "TwoLevelParserLaw" 20 y_P_wipe : Cond) ∈ lw_g := lw_in 128 (by decide +kernel) (by decide +kernel)
theorem km_law_24 : (.methodLink "TwoLevelParserLaw" 24 y_P_read : Cond) ∈ lw_g := lw_in 132 (by decide +kernel) (by decide +kernel)
theorem km_P_185 : (.methodLink "TwoLevelParser" 185 y_X_begin : Cond) ∈ lw_g := lw_in 136 (by decide +kernel) (by decide +kernel)
theorem km_X_19 : (.methodLink "TwoLevelParser$Lexer" 19 y_X_next : Cond) ∈ lw_g := lw_in 140 (by decide +kernel) (by decide +kernel)
theorem km_X_43 : (.methodLink "TwoLevelParser$Lexer" 43 y_X_isOf : Cond) ∈ lw_g := lw_in 150 (by decide +kernel) (by decide +kernel)
theorem km_X_50 : (.methodLink "TwoLevelParser$Lexer" 50 y_X_spell : Cond) ∈ lw_g := lw_in 155 (by decide +kernel) (by decide +kernel)
theorem km_X_54 : (.methodLink "TwoLevelParser$Lexer" 54 y_X_count : Cond) ∈ lw_g := lw_in 163 (by decide +kernel) (by decide +kernel)
theorem km_P_169 : (.methodLink "TwoLevelParser" 169 y_P_refuse : Cond) ∈ lw_g := lw_in 175 (by decide +kernel) (by decide +kernel)
theorem km_P_191 : (.methodLink "TwoLevelParser" 191 y_P_readDefinition : Cond) ∈ lw_g := lw_in 180 (by decide +kernel) (by decide +kernel)
theorem km_P_172 : (.methodLink "TwoLevelParser" 172 y_X_next : Cond) ∈ lw_g := lw_in 184 (by decide +kernel) (by decide +kernel)
theorem km_P_197 : (.methodLink "TwoLevelParser" 197 y_P_isWord : Cond) ∈ lw_g := lw_in 186 (by decide +kernel) (by decide +kernel)
theorem km_P_77 : (.methodLink "TwoLevelParser" 77 y_P_spelled : Cond) ∈ lw_g := lw_in 191 (by decide +kernel) (by decide +kernel)
theorem km_P_1 : (.methodLink "TwoLevelParser" 1 y_Js_length : Cond) ∈ lw_g := lw_in 194 (by decide +kernel) (by decide +kernel)
theorem km_Js_335 : (.methodLink "java/lang/String" 335 y_Js_coder : Cond) ∈ lw_g := lw_in 198 (by decide +kernel) (by decide +kernel)
theorem km_P_9 : (.methodLink "TwoLevelParser" 9 y_Js_charAt : Cond) ∈ lw_g := lw_in 205 (by decide +kernel) (by decide +kernel)
theorem km_Js_492 : (.methodLink "java/lang/String" 492 y_Js_isLatin1 : Cond) ∈ lw_g := lw_in 209 (by decide +kernel) (by decide +kernel)
theorem km_Js_495 : (.methodLink "java/lang/String" 495 y_Jl_charAt : Cond) ∈ lw_g := lw_in 213 (by decide +kernel) (by decide +kernel)
theorem km_Jl_9 : (.methodLink "java/lang/StringLatin1" 9 y_Js_checkIndex : Cond) ∈ lw_g := lw_in 216 (by decide +kernel) (by decide +kernel)
theorem km_Js_1059 : (.methodLink "java/lang/String" 1059 y_Jp_checkIndex : Cond) ∈ lw_g := lw_in 221 (by decide +kernel) (by decide +kernel)
theorem km_P_205 : (.methodLink "TwoLevelParser" 205 y_P_pass : Cond) ∈ lw_g := lw_in 245 (by decide +kernel) (by decide +kernel)
theorem km_P_209 : (.methodLink "TwoLevelParser" 209 y_P_isName : Cond) ∈ lw_g := lw_in 249 (by decide +kernel) (by decide +kernel)
theorem km_P_175 : (.methodLink "TwoLevelParser" 175 y_P_isFree : Cond) ∈ lw_g := lw_in 253 (by decide +kernel) (by decide +kernel)
theorem km_P_95 : (.methodLink "TwoLevelParser" 95 y_P_typeOf : Cond) ∈ lw_g := lw_in 257 (by decide +kernel) (by decide +kernel)
theorem km_P_99 : (.methodLink "TwoLevelParser" 99 y_P_kindOf : Cond) ∈ lw_g := lw_in 264 (by decide +kernel) (by decide +kernel)
theorem km_P_85 : (.methodLink "TwoLevelParser" 85 y_P_wordOf : Cond) ∈ lw_g := lw_in 267 (by decide +kernel) (by decide +kernel)
theorem km_P_213 : (.methodLink "TwoLevelParser" 213 y_P_isDefined : Cond) ∈ lw_g := lw_in 287 (by decide +kernel) (by decide +kernel)
theorem km_P_221 : (.methodLink "TwoLevelParser" 221 y_P_readParameter : Cond) ∈ lw_g := lw_in 292 (by decide +kernel) (by decide +kernel)
theorem km_P_225 : (.methodLink "TwoLevelParser" 225 y_P_type : Cond) ∈ lw_g := lw_in 296 (by decide +kernel) (by decide +kernel)
theorem km_P_234 : (.methodLink "TwoLevelParser" 234 y_P_body : Cond) ∈ lw_g := lw_in 300 (by decide +kernel) (by decide +kernel)
theorem km_P_300 : (.methodLink "TwoLevelParser" 300 y_P_expression : Cond) ∈ lw_g := lw_in 304 (by decide +kernel) (by decide +kernel)
theorem km_P_281 : (.methodLink "TwoLevelParser" 281 y_P_begin : Cond) ∈ lw_g := lw_in 308 (by decide +kernel) (by decide +kernel)
theorem km_N_1 : (.methodLink "TwoLevelParser$Node" 1 objectInit : Cond) ∈ lw_g := lw_in 316 (by decide +kernel) (by decide +kernel)
theorem km_O_1 : (.methodLink "TwoLevelParser$Open" 1 objectInit : Cond) ∈ lw_g := lw_in 355 (by decide +kernel) (by decide +kernel)
theorem km_P_285 : (.methodLink "TwoLevelParser" 285 y_P_formOf : Cond) ∈ lw_g := lw_in 369 (by decide +kernel) (by decide +kernel)
theorem km_P_304 : (.methodLink "TwoLevelParser" 304 y_P_step : Cond) ∈ lw_g := lw_in 384 (by decide +kernel) (by decide +kernel)
theorem km_P_307 : (.methodLink "TwoLevelParser" 307 y_P_isInner : Cond) ∈ lw_g := lw_in 388 (by decide +kernel) (by decide +kernel)
theorem km_P_311 : (.methodLink "TwoLevelParser" 311 y_P_variable : Cond) ∈ lw_g := lw_in 391 (by decide +kernel) (by decide +kernel)
theorem km_P_315 : (.methodLink "TwoLevelParser" 315 y_P_function : Cond) ∈ lw_g := lw_in 395 (by decide +kernel) (by decide +kernel)
theorem km_P_319 : (.methodLink "TwoLevelParser" 319 y_P_close : Cond) ∈ lw_g := lw_in 399 (by decide +kernel) (by decide +kernel)
theorem km_law_29 : (.methodLink "TwoLevelParserLaw" 29 y_P_definition : Cond) ∈ lw_g := lw_in 403 (by decide +kernel) (by decide +kernel)
theorem km_law_34 : (.methodLink "TwoLevelParserLaw" 34 y_P_title : Cond) ∈ lw_g := lw_in 407 (by decide +kernel) (by decide +kernel)
theorem km_law_39 : (.methodLink "TwoLevelParserLaw" 39 y_P_parameter : Cond) ∈ lw_g := lw_in 411 (by decide +kernel) (by decide +kernel)
theorem km_law_43 : (.methodLink "TwoLevelParserLaw" 43 y_P_node : Cond) ∈ lw_g := lw_in 415 (by decide +kernel) (by decide +kernel)
theorem km_P_322 : (.methodLink "TwoLevelParser" 322 y_P_isNode : Cond) ∈ lw_g := lw_in 419 (by decide +kernel) (by decide +kernel)
theorem km_law_47 : (.methodLink "TwoLevelParserLaw" 47 y_P_name : Cond) ∈ lw_g := lw_in 423 (by decide +kernel) (by decide +kernel)
theorem km_law_51 : (.methodLink "TwoLevelParserLaw" 51 y_P_number : Cond) ∈ lw_g := lw_in 427 (by decide +kernel) (by decide +kernel)
theorem km_law_56 : (.methodLink "TwoLevelParserLaw" 56 y_P_look : Cond) ∈ lw_g := lw_in 431 (by decide +kernel) (by decide +kernel)
theorem km_law_12 : (.methodLink "TwoLevelParserLaw" 12 y_M_init : Cond) ∈ lw_g := lw_in 437 (by decide +kernel) (by decide +kernel)
theorem km_M_1 : (.methodLink "TwoLevelParserModel" 1 objectInit : Cond) ∈ lw_g := lw_in 440 (by decide +kernel) (by decide +kernel)
theorem km_law_19 : (.methodLink "TwoLevelParserLaw" 19 y_M_give : Cond) ∈ lw_g := lw_in 542 (by decide +kernel) (by decide +kernel)
theorem km_law_23 : (.methodLink "TwoLevelParserLaw" 23 y_M_wipe : Cond) ∈ lw_g := lw_in 546 (by decide +kernel) (by decide +kernel)
theorem km_law_28 : (.methodLink "TwoLevelParserLaw" 28 y_M_read : Cond) ∈ lw_g := lw_in 550 (by decide +kernel) (by decide +kernel)
theorem km_M_232 : (.methodLink "TwoLevelParserModel" 232 y_M_next : Cond) ∈ lw_g := lw_in 554 (by decide +kernel) (by decide +kernel)
theorem km_M_102 : (.methodLink "TwoLevelParserModel" 102 y_M_isRun : Cond) ∈ lw_g := lw_in 558 (by decide +kernel) (by decide +kernel)
theorem km_M_86 : (.methodLink "TwoLevelParserModel" 86 y_M_isLetter : Cond) ∈ lw_g := lw_in 562 (by decide +kernel) (by decide +kernel)
theorem km_M_90 : (.methodLink "TwoLevelParserModel" 90 y_M_isDigit : Cond) ∈ lw_g := lw_in 565 (by decide +kernel) (by decide +kernel)
theorem km_M_105 : (.methodLink "TwoLevelParserModel" 105 y_M_wrong : Cond) ∈ lw_g := lw_in 568 (by decide +kernel) (by decide +kernel)
theorem km_M_109 : (.methodLink "TwoLevelParserModel" 109 y_M_readName : Cond) ∈ lw_g := lw_in 572 (by decide +kernel) (by decide +kernel)
theorem km_M_112 : (.methodLink "TwoLevelParserModel" 112 y_M_readNumber : Cond) ∈ lw_g := lw_in 577 (by decide +kernel) (by decide +kernel)
theorem km_M_261 : (.methodLink "TwoLevelParserModel" 261 y_M_readDefinition : Cond) ∈ lw_g := lw_in 585 (by decide +kernel) (by decide +kernel)
theorem km_M_213 : (.methodLink "TwoLevelParserModel" 213 y_M_must : Cond) ∈ lw_g := lw_in 589 (by decide +kernel) (by decide +kernel)
theorem km_M_144 : (.methodLink "TwoLevelParserModel" 144 y_M_is : Cond) ∈ lw_g := lw_in 594 (by decide +kernel) (by decide +kernel)
theorem km_M_132 : (.methodLink "TwoLevelParserModel" 132 y_Js_length : Cond) ∈ lw_g := lw_in 598 (by decide +kernel) (by decide +kernel)
theorem km_M_138 : (.methodLink "TwoLevelParserModel" 138 y_Js_charAt : Cond) ∈ lw_g := lw_in 599 (by decide +kernel) (by decide +kernel)
theorem km_M_224 : (.methodLink "TwoLevelParserModel" 224 y_M_isOwn : Cond) ∈ lw_g := lw_in 601 (by decide +kernel) (by decide +kernel)
theorem km_M_189 : (.methodLink "TwoLevelParserModel" 189 y_M_type : Cond) ∈ lw_g := lw_in 605 (by decide +kernel) (by decide +kernel)
theorem km_M_192 : (.methodLink "TwoLevelParserModel" 192 y_M_stableKind : Cond) ∈ lw_g := lw_in 613 (by decide +kernel) (by decide +kernel)
theorem km_M_168 : (.methodLink "TwoLevelParserModel" 168 y_M_operation : Cond) ∈ lw_g := lw_in 617 (by decide +kernel) (by decide +kernel)
theorem km_M_195 : (.methodLink "TwoLevelParserModel" 195 y_M_changeableKind : Cond) ∈ lw_g := lw_in 634 (by decide +kernel) (by decide +kernel)
theorem km_M_254 : (.methodLink "TwoLevelParserModel" 254 y_M_readParameter : Cond) ∈ lw_g := lw_in 642 (by decide +kernel) (by decide +kernel)
theorem km_M_257 : (.methodLink "TwoLevelParserModel" 257 y_M_expression : Cond) ∈ lw_g := lw_in 646 (by decide +kernel) (by decide +kernel)
theorem km_M_217 : (.methodLink "TwoLevelParserModel" 217 y_M_push : Cond) ∈ lw_g := lw_in 650 (by decide +kernel) (by decide +kernel)
theorem km_M_248 : (.methodLink "TwoLevelParserModel" 248 y_M_step : Cond) ∈ lw_g := lw_in 654 (by decide +kernel) (by decide +kernel)
theorem km_M_238 : (.methodLink "TwoLevelParserModel" 238 y_M_begin : Cond) ∈ lw_g := lw_in 658 (by decide +kernel) (by decide +kernel)
theorem km_M_220 : (.methodLink "TwoLevelParserModel" 220 y_M_make : Cond) ∈ lw_g := lw_in 662 (by decide +kernel) (by decide +kernel)
theorem km_M_228 : (.methodLink "TwoLevelParserModel" 228 y_M_setName : Cond) ∈ lw_g := lw_in 666 (by decide +kernel) (by decide +kernel)
theorem km_M_235 : (.methodLink "TwoLevelParserModel" 235 y_M_expect : Cond) ∈ lw_g := lw_in 670 (by decide +kernel) (by decide +kernel)
theorem km_M_242 : (.methodLink "TwoLevelParserModel" 242 y_M_letBinds : Cond) ∈ lw_g := lw_in 674 (by decide +kernel) (by decide +kernel)
theorem km_M_245 : (.methodLink "TwoLevelParserModel" 245 y_M_bind : Cond) ∈ lw_g := lw_in 678 (by decide +kernel) (by decide +kernel)
theorem km_law_33 : (.methodLink "TwoLevelParserLaw" 33 y_M_definition : Cond) ∈ lw_g := lw_in 682 (by decide +kernel) (by decide +kernel)
theorem km_M_264 : (.methodLink "TwoLevelParserModel" 264 y_M_isDefinition : Cond) ∈ lw_g := lw_in 686 (by decide +kernel) (by decide +kernel)
theorem km_law_38 : (.methodLink "TwoLevelParserLaw" 38 y_M_title : Cond) ∈ lw_g := lw_in 690 (by decide +kernel) (by decide +kernel)
theorem km_law_42 : (.methodLink "TwoLevelParserLaw" 42 y_M_parameter : Cond) ∈ lw_g := lw_in 694 (by decide +kernel) (by decide +kernel)
theorem km_law_46 : (.methodLink "TwoLevelParserLaw" 46 y_M_node : Cond) ∈ lw_g := lw_in 698 (by decide +kernel) (by decide +kernel)
theorem km_M_267 : (.methodLink "TwoLevelParserModel" 267 y_M_within : Cond) ∈ lw_g := lw_in 702 (by decide +kernel) (by decide +kernel)
theorem km_law_50 : (.methodLink "TwoLevelParserLaw" 50 y_M_name : Cond) ∈ lw_g := lw_in 706 (by decide +kernel) (by decide +kernel)
theorem km_law_55 : (.methodLink "TwoLevelParserLaw" 55 y_M_number : Cond) ∈ lw_g := lw_in 710 (by decide +kernel) (by decide +kernel)
theorem km_law_59 : (.methodLink "TwoLevelParserLaw" 59 y_M_look : Cond) ∈ lw_g := lw_in 714 (by decide +kernel) (by decide +kernel)
theorem km_P_111 : (.methodLinkNest "TwoLevelParser" 111 y_X_init "TwoLevelParser" : Cond) ∈ lw_nest := lw_inN 23 (by decide +kernel) (by decide +kernel)
theorem km_P_138 : (.methodLinkNest "TwoLevelParser" 138 y_D_init "TwoLevelParser" : Cond) ∈ lw_nest := lw_inN 63 (by decide +kernel) (by decide +kernel)
theorem km_P_245 : (.methodLinkNest "TwoLevelParser" 245 y_N_init "TwoLevelParser" : Cond) ∈ lw_nest := lw_inN 313 (by decide +kernel) (by decide +kernel)
theorem km_P_284 : (.methodLinkNest "TwoLevelParser" 284 y_O_init "TwoLevelParser" : Cond) ∈ lw_nest := lw_inN 352 (by decide +kernel) (by decide +kernel)
theorem kc_law_7 : (.classLink "TwoLevelParserLaw" 7 "TwoLevelParser" : Cond) ∈ lw_g := lw_in 13 (by decide +kernel) (by decide +kernel)
theorem kc_P_109 : (.classLink "TwoLevelParser" 109 "TwoLevelParser$Lexer" : Cond) ∈ lw_g := lw_in 21 (by decide +kernel) (by decide +kernel)
theorem kc_P_116 : (.classLink "TwoLevelParser" 116 "TwoLevelParser$Node" : Cond) ∈ lw_g := lw_in 56 (by decide +kernel) (by decide +kernel)
theorem kc_P_122 : (.classLink "TwoLevelParser" 122 "TwoLevelParser$Definition" : Cond) ∈ lw_g := lw_in 58 (by decide +kernel) (by decide +kernel)
theorem kc_P_128 : (.classLink "TwoLevelParser" 128 "TwoLevelParser$Open" : Cond) ∈ lw_g := lw_in 60 (by decide +kernel) (by decide +kernel)
theorem kc_law_10 : (.classLink "TwoLevelParserLaw" 10 "TwoLevelParserModel" : Cond) ∈ lw_g := lw_in 435 (by decide +kernel) (by decide +kernel)
theorem kl_X_61 : (.constantLong "TwoLevelParser$Lexer" 61 (32) : Cond) ∈ lw_g := lw_in 159 (by decide +kernel) (by decide +kernel)
theorem kl_X_63 : (.constantLong "TwoLevelParser$Lexer" 63 (96) : Cond) ∈ lw_g := lw_in 160 (by decide +kernel) (by decide +kernel)
theorem kl_X_68 : (.constantLong "TwoLevelParser$Lexer" 68 (10) : Cond) ∈ lw_g := lw_in 167 (by decide +kernel) (by decide +kernel)
theorem kl_X_70 : (.constantLong "TwoLevelParser$Lexer" 70 (48) : Cond) ∈ lw_g := lw_in 168 (by decide +kernel) (by decide +kernel)
theorem kl_X_72 : (.constantLong "TwoLevelParser$Lexer" 72 (2147483648) : Cond) ∈ lw_g := lw_in 169 (by decide +kernel) (by decide +kernel)
theorem kl_X_77 : (.constantLong "TwoLevelParser$Lexer" 77 (2147483647) : Cond) ∈ lw_g := lw_in 170 (by decide +kernel) (by decide +kernel)
theorem kl_P_7 : (.constantLong "TwoLevelParser" 7 (32) : Cond) ∈ lw_g := lw_in 204 (by decide +kernel) (by decide +kernel)
theorem kl_P_13 : (.constantLong "TwoLevelParser" 13 (96) : Cond) ∈ lw_g := lw_in 243 (by decide +kernel) (by decide +kernel)
theorem kl_M_119 : (.constantLong "TwoLevelParserModel" 119 (32) : Cond) ∈ lw_g := lw_in 576 (by decide +kernel) (by decide +kernel)
theorem kl_M_121 : (.constantLong "TwoLevelParserModel" 121 (99999999999) : Cond) ∈ lw_g := lw_in 581 (by decide +kernel) (by decide +kernel)
theorem kl_M_123 : (.constantLong "TwoLevelParserModel" 123 (10) : Cond) ∈ lw_g := lw_in 582 (by decide +kernel) (by decide +kernel)
theorem kl_M_125 : (.constantLong "TwoLevelParserModel" 125 (-2147483648) : Cond) ∈ lw_g := lw_in 583 (by decide +kernel) (by decide +kernel)
theorem kl_M_127 : (.constantLong "TwoLevelParserModel" 127 (2147483647) : Cond) ∈ lw_g := lw_in 584 (by decide +kernel) (by decide +kernel)
theorem kl_law_13 : (.constantLong "TwoLevelParserLaw" 13 (4294967295) : Cond) ∈ lw_g := lw_in 718 (by decide +kernel) (by decide +kernel)
theorem ki_M_70 : (.constant "TwoLevelParserModel" 70 (33000) : Cond) ∈ lw_g := lw_in 441 (by decide +kernel) (by decide +kernel)
theorem kn_law : (.initialized "TwoLevelParserLaw" : Cond) ∈ lw_g := lw_in 0 (by decide +kernel) (by decide +kernel)
theorem kn_P : (.initialized "TwoLevelParser" : Cond) ∈ lw_g := lw_in 1 (by decide +kernel) (by decide +kernel)
theorem kn_X : (.initialized "TwoLevelParser$Lexer" : Cond) ∈ lw_g := lw_in 2 (by decide +kernel) (by decide +kernel)
theorem kn_D : (.initialized "TwoLevelParser$Definition" : Cond) ∈ lw_g := lw_in 3 (by decide +kernel) (by decide +kernel)
theorem kn_M : (.initialized "TwoLevelParserModel" : Cond) ∈ lw_g := lw_in 4 (by decide +kernel) (by decide +kernel)
theorem kn_Js : (.initialized "java/lang/String" : Cond) ∈ lw_g := lw_in 7 (by decide +kernel) (by decide +kernel)
theorem kn_Jl : (.initialized "java/lang/StringLatin1" : Cond) ∈ lw_g := lw_in 8 (by decide +kernel) (by decide +kernel)
theorem kn_Jp : (.initialized "jdk/internal/util/Preconditions" : Cond) ∈ lw_g := lw_in 9 (by decide +kernel) (by decide +kernel)
theorem kn_N : (.initialized "TwoLevelParser$Node" : Cond) ∈ lw_g := lw_in 11 (by decide +kernel) (by decide +kernel)
theorem kn_O : (.initialized "TwoLevelParser$Open" : Cond) ∈ lw_g := lw_in 12 (by decide +kernel) (by decide +kernel)
theorem kn_Sort : (.initialized "TwoLevelParser$Sort" : Cond) ∈ lw_g := lw_in 6 (by decide +kernel) (by decide +kernel)
theorem kt_P : (.instantiable "TwoLevelParser" 9 : Cond) ∈ lw_g := lw_in 14 (by decide +kernel) (by decide +kernel)
theorem kt_X : (.instantiable "TwoLevelParser$Lexer" 7 : Cond) ∈ lw_g := lw_in 22 (by decide +kernel) (by decide +kernel)
theorem kt_D : (.instantiable "TwoLevelParser$Definition" 8 : Cond) ∈ lw_g := lw_in 62 (by decide +kernel) (by decide +kernel)
theorem kt_N : (.instantiable "TwoLevelParser$Node" 11 : Cond) ∈ lw_g := lw_in 312 (by decide +kernel) (by decide +kernel)
theorem kt_O : (.instantiable "TwoLevelParser$Open" 4 : Cond) ∈ lw_g := lw_in 351 (by decide +kernel) (by decide +kernel)
theorem kt_M : (.instantiable "TwoLevelParserModel" 33 : Cond) ∈ lw_g := lw_in 436 (by decide +kernel) (by decide +kernel)
theorem ka_byte : (.arrayClass .byte : Cond) ∈ lw_g := lw_in 55 (by decide +kernel) (by decide +kernel)
theorem ka_long : (.arrayClass .long : Cond) ∈ lw_g := lw_in 94 (by decide +kernel) (by decide +kernel)
theorem ka_int : (.arrayClass .int : Cond) ∈ lw_g := lw_in 95 (by decide +kernel) (by decide +kernel)
theorem ko_ins : (.instanceMethod objectInit : Cond) ∈ lw_g := lw_in 19 (by decide +kernel) (by decide +kernel)
theorem ko_code : (.code objectInit ⟨#[0xb1]⟩ 1 none : Cond) ∈ lw_g := lw_in 20 (by decide +kernel) (by decide +kernel)
theorem kw_P_init : (.code y_P_init b_P_init 2 none : Cond) ∈ lw_g := lw_in 17 (by decide +kernel) (by decide +kernel)
theorem kv_P_init : (.instanceMethod y_P_init : Cond) ∈ lw_g := lw_in 16 (by decide +kernel) (by decide +kernel)
theorem kd_P_init : y_P_init.cls ≠ "java/lang/invoke/MethodHandle" ∧ y_P_init.cls ≠ "java/lang/invoke/VarHandle" ∧ (parseMethodDescriptor y_P_init.desc).map (fun d => d.parameters.length) = some 0 := by decide +kernel
theorem kw_X_init : (.code y_X_init b_X_init 1 none : Cond) ∈ lw_g := lw_in 25 (by decide +kernel) (by decide +kernel)
theorem kv_X_init : (.instanceMethod y_X_init : Cond) ∈ lw_g := lw_in 24 (by decide +kernel) (by decide +kernel)
theorem kd_X_init : y_X_init.cls ≠ "java/lang/invoke/MethodHandle" ∧ y_X_init.cls ≠ "java/lang/invoke/VarHandle" ∧ (parseMethodDescriptor y_X_init.desc).map (fun d => d.parameters.length) = some 0 := by decide +kernel
theorem kw_D_init : (.code y_D_init b_D_init 1 none : Cond) ∈ lw_g := lw_in 65 (by decide +kernel) (by decide +kernel)
theorem kv_D_init : (.instanceMethod y_D_init : Cond) ∈ lw_g := lw_in 64 (by decide +kernel) (by decide +kernel)
theorem kd_D_init : y_D_init.cls ≠ "java/lang/invoke/MethodHandle" ∧ y_D_init.cls ≠ "java/lang/invoke/VarHandle" ∧ (parseMethodDescriptor y_D_init.desc).map (fun d => d.parameters.length) = some 0 := by decide +kernel
theorem kw_P_give : (.code y_P_give b_P_give 5 (some .boolean) : Cond) ∈ lw_g := lw_in 127 (by decide +kernel) (by decide +kernel)
theorem kv_P_give : (.instanceMethod y_P_give : Cond) ∈ lw_g := lw_in 125 (by decide +kernel) (by decide +kernel)
theorem ke_P_give : (.selects y_P_give.cls y_P_give y_P_give : Cond) ∈ lw_g := lw_in 126 (by decide +kernel) (by decide +kernel)
theorem kd_P_give : y_P_give.cls ≠ "java/lang/invoke/MethodHandle" ∧ y_P_give.cls ≠ "java/lang/invoke/VarHandle" ∧ (parseMethodDescriptor y_P_give.desc).map (fun d => d.parameters.length) = some 2 := by decide +kernel
theorem kw_P_wipe : (.code y_P_wipe b_P_wipe 1 none : Cond) ∈ lw_g := lw_in 131 (by decide +kernel) (by decide +kernel)
theorem kv_P_wipe : (.instanceMethod y_P_wipe : Cond) ∈ lw_g := lw_in 129 (by decide +kernel) (by decide +kernel)
theorem ke_P_wipe : (.selects y_P_wipe.cls y_P_wipe y_P_wipe : Cond) ∈ lw_g := lw_in 130 (by decide +kernel) (by decide +kernel)
theorem kd_P_wipe : y_P_wipe.cls ≠ "java/lang/invoke/MethodHandle" ∧ y_P_wipe.cls ≠ "java/lang/invoke/VarHandle" ∧ (parseMethodDescriptor y_P_wipe.desc).map (fun d => d.parameters.length) = some 0 := by decide +kernel
theorem kw_P_read : (.code y_P_read b_P_read 1 (some .int) : Cond) ∈ lw_g := lw_in 135 (by decide +kernel) (by decide +kernel)
theorem kv_P_read : (.instanceMethod y_P_read : Cond) ∈ lw_g := lw_in 133 (by decide +kernel) (by decide +kernel)
theorem ke_P_read : (.selects y_P_read.cls y_P_read y_P_read : Cond) ∈ lw_g := lw_in 134 (by decide +kernel) (by decide +kernel)
theorem kd_P_read : y_P_read.cls ≠ "java/lang/invoke/MethodHandle" ∧ y_P_read.cls ≠ "java/lang/invoke/VarHandle" ∧ (parseMethodDescriptor y_P_read.desc).map (fun d => d.parameters.length) = some 0 := by decide +kernel
theorem kw_X_begin : (.code y_X_begin b_X_begin 1 none : Cond) ∈ lw_g := lw_in 139 (by decide +kernel) (by decide +kernel)
theorem kv_X_begin : (.instanceMethod y_X_begin : Cond) ∈ lw_g := lw_in 137 (by decide +kernel) (by decide +kernel)
theorem ke_X_begin : (.selects y_X_begin.cls y_X_begin y_X_begin : Cond) ∈ lw_g := lw_in 138 (by decide +kernel) (by decide +kernel)
theorem kd_X_begin : y_X_begin.cls ≠ "java/lang/invoke/MethodHandle" ∧ y_X_begin.cls ≠ "java/lang/invoke/VarHandle" ∧ (parseMethodDescriptor y_X_begin.desc).map (fun d => d.parameters.length) = some 0 := by decide +kernel
theorem kw_X_next : (.code y_X_next b_X_next 2 none : Cond) ∈ lw_g := lw_in 143 (by decide +kernel) (by decide +kernel)
theorem kv_X_next : (.instanceMethod y_X_next : Cond) ∈ lw_g := lw_in 141 (by decide +kernel) (by decide +kernel)
theorem ke_X_next : (.selects y_X_next.cls y_X_next y_X_next : Cond) ∈ lw_g := lw_in 142 (by decide +kernel) (by decide +kernel)
theorem kd_X_next : y_X_next.cls ≠ "java/lang/invoke/MethodHandle" ∧ y_X_next.cls ≠ "java/lang/invoke/VarHandle" ∧ (parseMethodDescriptor y_X_next.desc).map (fun d => d.parameters.length) = some 0 := by decide +kernel
theorem kw_X_isOf : (.code y_X_isOf b_X_isOf 1 (some .boolean) : Cond) ∈ lw_g := lw_in 152 (by decide +kernel) (by decide +kernel)
theorem kv_X_isOf : (.static y_X_isOf : Cond) ∈ lw_g := lw_in 151 (by decide +kernel) (by decide +kernel)
theorem kd_X_isOf : y_X_isOf.cls ≠ "java/lang/invoke/MethodHandle" ∧ y_X_isOf.cls ≠ "java/lang/invoke/VarHandle" ∧ (parseMethodDescriptor y_X_isOf.desc).map (fun d => d.parameters.length) = some 1 := by decide +kernel
theorem kw_X_spell : (.code y_X_spell b_X_spell 3 (some (.object "TwoLevelParser$Sort")) : Cond) ∈ lw_g := lw_in 158 (by decide +kernel) (by decide +kernel)
theorem kv_X_spell : (.instanceMethod y_X_spell : Cond) ∈ lw_g := lw_in 157 (by decide +kernel) (by decide +kernel)
theorem ke_X_spell : (.selects y_X_spell.cls y_X_spell y_X_spell : Cond) ∈ lw_g := lw_inS 0 (by decide +kernel) (by decide +kernel)
theorem kd_X_spell : y_X_spell.cls ≠ "java/lang/invoke/MethodHandle" ∧ y_X_spell.cls ≠ "java/lang/invoke/VarHandle" ∧ (parseMethodDescriptor y_X_spell.desc).map (fun d => d.parameters.length) = some 0 := by decide +kernel
theorem kw_X_count : (.code y_X_count b_X_count 7 (some (.object "TwoLevelParser$Sort")) : Cond) ∈ lw_g := lw_in 166 (by decide +kernel) (by decide +kernel)
theorem kv_X_count : (.instanceMethod y_X_count : Cond) ∈ lw_g := lw_in 165 (by decide +kernel) (by decide +kernel)
theorem ke_X_count : (.selects y_X_count.cls y_X_count y_X_count : Cond) ∈ lw_g := lw_inS 1 (by decide +kernel) (by decide +kernel)
theorem kd_X_count : y_X_count.cls ≠ "java/lang/invoke/MethodHandle" ∧ y_X_count.cls ≠ "java/lang/invoke/VarHandle" ∧ (parseMethodDescriptor y_X_count.desc).map (fun d => d.parameters.length) = some 0 := by decide +kernel
theorem kw_P_refuse : (.code y_P_refuse b_P_refuse 1 none : Cond) ∈ lw_g := lw_in 178 (by decide +kernel) (by decide +kernel)
theorem kv_P_refuse : (.instanceMethod y_P_refuse : Cond) ∈ lw_g := lw_in 177 (by decide +kernel) (by decide +kernel)
theorem ke_P_refuse : (.selects y_P_refuse.cls y_P_refuse y_P_refuse : Cond) ∈ lw_g := lw_inS 2 (by decide +kernel) (by decide +kernel)
theorem kd_P_refuse : y_P_refuse.cls ≠ "java/lang/invoke/MethodHandle" ∧ y_P_refuse.cls ≠ "java/lang/invoke/VarHandle" ∧ (parseMethodDescriptor y_P_refuse.desc).map (fun d => d.parameters.length) = some 0 := by decide +kernel
theorem kw_P_readDefinition : (.code y_P_readDefinition b_P_readDefinition 2 none : Cond) ∈ lw_g := lw_in 183 (by decide +kernel) (by decide +kernel)
theorem kv_P_readDefinition : (.instanceMethod y_P_readDefinition : Cond) ∈ lw_g := lw_in 182 (by decide +kernel) (by decide +kernel)
theorem ke_P_readDefinition : (.selects y_P_readDefinition.cls y_P_readDefinition y_P_readDefinition : Cond) ∈ lw_g := lw_inS 3 (by decide +kernel) (by decide +kernel)
theorem kd_P_readDefinition : y_P_readDefinition.cls ≠ "java/lang/invoke/MethodHandle" ∧ y_P_readDefinition.cls ≠ "java/lang/invoke/VarHandle" ∧ (parseMethodDescriptor y_P_readDefinition.desc).map (fun d => d.parameters.length) = some 0 := by decide +kernel
theorem kw_P_isWord : (.code y_P_isWord b_P_isWord 2 (some .boolean) : Cond) ∈ lw_g := lw_in 189 (by decide +kernel) (by decide +kernel)
theorem kv_P_isWord : (.instanceMethod y_P_isWord : Cond) ∈ lw_g := lw_in 188 (by decide +kernel) (by decide +kernel)
theorem ke_P_isWord : (.selects y_P_isWord.cls y_P_isWord y_P_isWord : Cond) ∈ lw_g := lw_inS 4 (by decide +kernel) (by decide +kernel)
theorem kd_P_isWord : y_P_isWord.cls ≠ "java/lang/invoke/MethodHandle" ∧ y_P_isWord.cls ≠ "java/lang/invoke/VarHandle" ∧ (parseMethodDescriptor y_P_isWord.desc).map (fun d => d.parameters.length) = some 1 := by decide +kernel
theorem kw_P_spelled : (.code y_P_spelled b_P_spelled 4 (some .long) : Cond) ∈ lw_g := lw_in 193 (by decide +kernel) (by decide +kernel)
theorem kv_P_spelled : (.static y_P_spelled : Cond) ∈ lw_g := lw_in 192 (by decide +kernel) (by decide +kernel)
theorem kd_P_spelled : y_P_spelled.cls ≠ "java/lang/invoke/MethodHandle" ∧ y_P_spelled.cls ≠ "java/lang/invoke/VarHandle" ∧ (parseMethodDescriptor y_P_spelled.desc).map (fun d => d.parameters.length) = some 1 := by decide +kernel
theorem kw_Js_length : (.code y_Js_length b_Js_length 1 (some .int) : Cond) ∈ lw_g := lw_in 197 (by decide +kernel) (by decide +kernel)
theorem kv_Js_length : (.instanceMethod y_Js_length : Cond) ∈ lw_g := lw_in 195 (by decide +kernel) (by decide +kernel)
theorem ke_Js_length : (.selects y_Js_length.cls y_Js_length y_Js_length : Cond) ∈ lw_g := lw_in 196 (by decide +kernel) (by decide +kernel)
theorem kd_Js_length : y_Js_length.cls ≠ "java/lang/invoke/MethodHandle" ∧ y_Js_length.cls ≠ "java/lang/invoke/VarHandle" ∧ (parseMethodDescriptor y_Js_length.desc).map (fun d => d.parameters.length) = some 0 := by decide +kernel
theorem kw_Js_coder : (.code y_Js_coder b_Js_coder 1 (some .byte) : Cond) ∈ lw_g := lw_in 201 (by decide +kernel) (by decide +kernel)
theorem kv_Js_coder : (.instanceMethod y_Js_coder : Cond) ∈ lw_g := lw_in 199 (by decide +kernel) (by decide +kernel)
theorem ke_Js_coder : (.selects y_Js_coder.cls y_Js_coder y_Js_coder : Cond) ∈ lw_g := lw_in 200 (by decide +kernel) (by decide +kernel)
theorem kd_Js_coder : y_Js_coder.cls ≠ "java/lang/invoke/MethodHandle" ∧ y_Js_coder.cls ≠ "java/lang/invoke/VarHandle" ∧ (parseMethodDescriptor y_Js_coder.desc).map (fun d => d.parameters.length) = some 0 := by decide +kernel
theorem kw_Js_charAt : (.code y_Js_charAt b_Js_charAt 2 (some .char) : Cond) ∈ lw_g := lw_in 208 (by decide +kernel) (by decide +kernel)
theorem kv_Js_charAt : (.instanceMethod y_Js_charAt : Cond) ∈ lw_g := lw_in 206 (by decide +kernel) (by decide +kernel)
theorem ke_Js_charAt : (.selects y_Js_charAt.cls y_Js_charAt y_Js_charAt : Cond) ∈ lw_g := lw_in 207 (by decide +kernel) (by decide +kernel)
theorem kd_Js_charAt : y_Js_charAt.cls ≠ "java/lang/invoke/MethodHandle" ∧ y_Js_charAt.cls ≠ "java/lang/invoke/VarHandle" ∧ (parseMethodDescriptor y_Js_charAt.desc).map (fun d => d.parameters.length) = some 1 := by decide +kernel
theorem kw_Js_isLatin1 : (.code y_Js_isLatin1 b_Js_isLatin1 1 (some .boolean) : Cond) ∈ lw_g := lw_in 212 (by decide +kernel) (by decide +kernel)
theorem kv_Js_isLatin1 : (.instanceMethod y_Js_isLatin1 : Cond) ∈ lw_g := lw_in 210 (by decide +kernel) (by decide +kernel)
theorem ke_Js_isLatin1 : (.selects y_Js_isLatin1.cls y_Js_isLatin1 y_Js_isLatin1 : Cond) ∈ lw_g := lw_in 211 (by decide +kernel) (by decide +kernel)
theorem kd_Js_isLatin1 : y_Js_isLatin1.cls ≠ "java/lang/invoke/MethodHandle" ∧ y_Js_isLatin1.cls ≠ "java/lang/invoke/VarHandle" ∧ (parseMethodDescriptor y_Js_isLatin1.desc).map (fun d => d.parameters.length) = some 0 := by decide +kernel
theorem kw_Jl_charAt : (.code y_Jl_charAt b_Jl_charAt 2 (some .char) : Cond) ∈ lw_g := lw_in 215 (by decide +kernel) (by decide +kernel)
theorem kv_Jl_charAt : (.static y_Jl_charAt : Cond) ∈ lw_g := lw_in 214 (by decide +kernel) (by decide +kernel)
theorem kd_Jl_charAt : y_Jl_charAt.cls ≠ "java/lang/invoke/MethodHandle" ∧ y_Jl_charAt.cls ≠ "java/lang/invoke/VarHandle" ∧ (parseMethodDescriptor y_Jl_charAt.desc).map (fun d => d.parameters.length) = some 2 := by decide +kernel
theorem kw_Js_checkIndex : (.code y_Js_checkIndex b_Js_checkIndex 2 none : Cond) ∈ lw_g := lw_in 218 (by decide +kernel) (by decide +kernel)
theorem kv_Js_checkIndex : (.static y_Js_checkIndex : Cond) ∈ lw_g := lw_in 217 (by decide +kernel) (by decide +kernel)
theorem kd_Js_checkIndex : y_Js_checkIndex.cls ≠ "java/lang/invoke/MethodHandle" ∧ y_Js_checkIndex.cls ≠ "java/lang/invoke/VarHandle" ∧ (parseMethodDescriptor y_Js_checkIndex.desc).map (fun d => d.parameters.length) = some 2 := by decide +kernel
theorem kw_Jp_checkIndex : (.code y_Jp_checkIndex b_Jp_checkIndex 3 (some .int) : Cond) ∈ lw_g := lw_in 223 (by decide +kernel) (by decide +kernel)
theorem kv_Jp_checkIndex : (.static y_Jp_checkIndex : Cond) ∈ lw_g := lw_in 222 (by decide +kernel) (by decide +kernel)
theorem kd_Jp_checkIndex : y_Jp_checkIndex.cls ≠ "java/lang/invoke/MethodHandle" ∧ y_Jp_checkIndex.cls ≠ "java/lang/invoke/VarHandle" ∧ (parseMethodDescriptor y_Jp_checkIndex.desc).map (fun d => d.parameters.length) = some 3 := by decide +kernel
theorem kw_P_pass : (.code y_P_pass b_P_pass 2 none : Cond) ∈ lw_g := lw_in 248 (by decide +kernel) (by decide +kernel)
theorem kv_P_pass : (.instanceMethod y_P_pass : Cond) ∈ lw_g := lw_in 247 (by decide +kernel) (by decide +kernel)
theorem ke_P_pass : (.selects y_P_pass.cls y_P_pass y_P_pass : Cond) ∈ lw_g := lw_inS 5 (by decide +kernel) (by decide +kernel)
theorem kd_P_pass : y_P_pass.cls ≠ "java/lang/invoke/MethodHandle" ∧ y_P_pass.cls ≠ "java/lang/invoke/VarHandle" ∧ (parseMethodDescriptor y_P_pass.desc).map (fun d => d.parameters.length) = some 1 := by decide +kernel
theorem kw_P_isName : (.code y_P_isName b_P_isName 1 (some .boolean) : Cond) ∈ lw_g := lw_in 252 (by decide +kernel) (by decide +kernel)
theorem kv_P_isName : (.instanceMethod y_P_isName : Cond) ∈ lw_g := lw_in 251 (by decide +kernel) (by decide +kernel)
theorem ke_P_isName : (.selects y_P_isName.cls y_P_isName y_P_isName : Cond) ∈ lw_g := lw_inS 6 (by decide +kernel) (by decide +kernel)
theorem kd_P_isName : y_P_isName.cls ≠ "java/lang/invoke/MethodHandle" ∧ y_P_isName.cls ≠ "java/lang/invoke/VarHandle" ∧ (parseMethodDescriptor y_P_isName.desc).map (fun d => d.parameters.length) = some 0 := by decide +kernel
theorem kw_P_isFree : (.code y_P_isFree b_P_isFree 3 (some .boolean) : Cond) ∈ lw_g := lw_in 255 (by decide +kernel) (by decide +kernel)
theorem kv_P_isFree : (.static y_P_isFree : Cond) ∈ lw_g := lw_in 254 (by decide +kernel) (by decide +kernel)
theorem kd_P_isFree : y_P_isFree.cls ≠ "java/lang/invoke/MethodHandle" ∧ y_P_isFree.cls ≠ "java/lang/invoke/VarHandle" ∧ (parseMethodDescriptor y_P_isFree.desc).map (fun d => d.parameters.length) = some 1 := by decide +kernel
theorem kw_P_typeOf : (.code y_P_typeOf b_P_typeOf 2 (some .int) : Cond) ∈ lw_g := lw_in 259 (by decide +kernel) (by decide +kernel)
theorem kv_P_typeOf : (.static y_P_typeOf : Cond) ∈ lw_g := lw_in 258 (by decide +kernel) (by decide +kernel)
theorem kd_P_typeOf : y_P_typeOf.cls ≠ "java/lang/invoke/MethodHandle" ∧ y_P_typeOf.cls ≠ "java/lang/invoke/VarHandle" ∧ (parseMethodDescriptor y_P_typeOf.desc).map (fun d => d.parameters.length) = some 1 := by decide +kernel
theorem kw_P_kindOf : (.code y_P_kindOf b_P_kindOf 5 (some .int) : Cond) ∈ lw_g := lw_in 266 (by decide +kernel) (by decide +kernel)
theorem kv_P_kindOf : (.static y_P_kindOf : Cond) ∈ lw_g := lw_in 265 (by decide +kernel) (by decide +kernel)
theorem kd_P_kindOf : y_P_kindOf.cls ≠ "java/lang/invoke/MethodHandle" ∧ y_P_kindOf.cls ≠ "java/lang/invoke/VarHandle" ∧ (parseMethodDescriptor y_P_kindOf.desc).map (fun d => d.parameters.length) = some 2 := by decide +kernel
theorem kw_P_wordOf : (.code y_P_wordOf b_P_wordOf 1 (some (.object "java/lang/String")) : Cond) ∈ lw_g := lw_in 269 (by decide +kernel) (by decide +kernel)
theorem kv_P_wordOf : (.static y_P_wordOf : Cond) ∈ lw_g := lw_in 268 (by decide +kernel) (by decide +kernel)
theorem kd_P_wordOf : y_P_wordOf.cls ≠ "java/lang/invoke/MethodHandle" ∧ y_P_wordOf.cls ≠ "java/lang/invoke/VarHandle" ∧ (parseMethodDescriptor y_P_wordOf.desc).map (fun d => d.parameters.length) = some 1 := by decide +kernel
theorem kw_P_isDefined : (.code y_P_isDefined b_P_isDefined 5 (some .boolean) : Cond) ∈ lw_g := lw_in 290 (by decide +kernel) (by decide +kernel)
theorem kv_P_isDefined : (.instanceMethod y_P_isDefined : Cond) ∈ lw_g := lw_in 289 (by decide +kernel) (by decide +kernel)
theorem ke_P_isDefined : (.selects y_P_isDefined.cls y_P_isDefined y_P_isDefined : Cond) ∈ lw_g := lw_inS 7 (by decide +kernel) (by decide +kernel)
theorem kd_P_isDefined : y_P_isDefined.cls ≠ "java/lang/invoke/MethodHandle" ∧ y_P_isDefined.cls ≠ "java/lang/invoke/VarHandle" ∧ (parseMethodDescriptor y_P_isDefined.desc).map (fun d => d.parameters.length) = some 1 := by decide +kernel
theorem kw_P_readParameter : (.code y_P_readParameter b_P_readParameter 4 none : Cond) ∈ lw_g := lw_in 295 (by decide +kernel) (by decide +kernel)
theorem kv_P_readParameter : (.instanceMethod y_P_readParameter : Cond) ∈ lw_g := lw_in 294 (by decide +kernel) (by decide +kernel)
theorem ke_P_readParameter : (.selects y_P_readParameter.cls y_P_readParameter y_P_readParameter : Cond) ∈ lw_g := lw_inS 8 (by decide +kernel) (by decide +kernel)
theorem kd_P_readParameter : y_P_readParameter.cls ≠ "java/lang/invoke/MethodHandle" ∧ y_P_readParameter.cls ≠ "java/lang/invoke/VarHandle" ∧ (parseMethodDescriptor y_P_readParameter.desc).map (fun d => d.parameters.length) = some 1 := by decide +kernel
theorem kw_P_type : (.code y_P_type b_P_type 3 (some .int) : Cond) ∈ lw_g := lw_in 299 (by decide +kernel) (by decide +kernel)
theorem kv_P_type : (.instanceMethod y_P_type : Cond) ∈ lw_g := lw_in 298 (by decide +kernel) (by decide +kernel)
theorem ke_P_type : (.selects y_P_type.cls y_P_type y_P_type : Cond) ∈ lw_g := lw_inS 9 (by decide +kernel) (by decide +kernel)
theorem kd_P_type : y_P_type.cls ≠ "java/lang/invoke/MethodHandle" ∧ y_P_type.cls ≠ "java/lang/invoke/VarHandle" ∧ (parseMethodDescriptor y_P_type.desc).map (fun d => d.parameters.length) = some 1 := by decide +kernel
theorem kw_P_body : (.code y_P_body b_P_body 2 none : Cond) ∈ lw_g := lw_in 303 (by decide +kernel) (by decide +kernel)
theorem kv_P_body : (.instanceMethod y_P_body : Cond) ∈ lw_g := lw_in 302 (by decide +kernel) (by decide +kernel)
theorem ke_P_body : (.selects y_P_body.cls y_P_body y_P_body : Cond) ∈ lw_g := lw_inS 10 (by decide +kernel) (by decide +kernel)
theorem kd_P_body : y_P_body.cls ≠ "java/lang/invoke/MethodHandle" ∧ y_P_body.cls ≠ "java/lang/invoke/VarHandle" ∧ (parseMethodDescriptor y_P_body.desc).map (fun d => d.parameters.length) = some 1 := by decide +kernel
theorem kw_P_expression : (.code y_P_expression b_P_expression 7 none : Cond) ∈ lw_g := lw_in 307 (by decide +kernel) (by decide +kernel)
theorem kv_P_expression : (.instanceMethod y_P_expression : Cond) ∈ lw_g := lw_in 306 (by decide +kernel) (by decide +kernel)
theorem ke_P_expression : (.selects y_P_expression.cls y_P_expression y_P_expression : Cond) ∈ lw_g := lw_inS 11 (by decide +kernel) (by decide +kernel)
theorem kd_P_expression : y_P_expression.cls ≠ "java/lang/invoke/MethodHandle" ∧ y_P_expression.cls ≠ "java/lang/invoke/VarHandle" ∧ (parseMethodDescriptor y_P_expression.desc).map (fun d => d.parameters.length) = some 2 := by decide +kernel
theorem kw_P_begin : (.code y_P_begin b_P_begin 5 (some (.object "TwoLevelParser$Node")) : Cond) ∈ lw_g := lw_in 311 (by decide +kernel) (by decide +kernel)
theorem kv_P_begin : (.instanceMethod y_P_begin : Cond) ∈ lw_g := lw_in 310 (by decide +kernel) (by decide +kernel)
theorem ke_P_begin : (.selects y_P_begin.cls y_P_begin y_P_begin : Cond) ∈ lw_g := lw_inS 12 (by decide +kernel) (by decide +kernel)
theorem kd_P_begin : y_P_begin.cls ≠ "java/lang/invoke/MethodHandle" ∧ y_P_begin.cls ≠ "java/lang/invoke/VarHandle" ∧ (parseMethodDescriptor y_P_begin.desc).map (fun d => d.parameters.length) = some 3 := by decide +kernel
theorem kw_N_init : (.code y_N_init b_N_init 1 none : Cond) ∈ lw_g := lw_in 315 (by decide +kernel) (by decide +kernel)
theorem kv_N_init : (.instanceMethod y_N_init : Cond) ∈ lw_g := lw_in 314 (by decide +kernel) (by decide +kernel)
theorem kd_N_init : y_N_init.cls ≠ "java/lang/invoke/MethodHandle" ∧ y_N_init.cls ≠ "java/lang/invoke/VarHandle" ∧ (parseMethodDescriptor y_N_init.desc).map (fun d => d.parameters.length) = some 0 := by decide +kernel
theorem kw_O_init : (.code y_O_init b_O_init 1 none : Cond) ∈ lw_g := lw_in 354 (by decide +kernel) (by decide +kernel)
theorem kv_O_init : (.instanceMethod y_O_init : Cond) ∈ lw_g := lw_in 353 (by decide +kernel) (by decide +kernel)
theorem kd_O_init : y_O_init.cls ≠ "java/lang/invoke/MethodHandle" ∧ y_O_init.cls ≠ "java/lang/invoke/VarHandle" ∧ (parseMethodDescriptor y_O_init.desc).map (fun d => d.parameters.length) = some 0 := by decide +kernel
theorem kw_P_formOf : (.code y_P_formOf b_P_formOf 1 (some (.object "java/lang/String")) : Cond) ∈ lw_g := lw_in 371 (by decide +kernel) (by decide +kernel)
theorem kv_P_formOf : (.static y_P_formOf : Cond) ∈ lw_g := lw_in 370 (by decide +kernel) (by decide +kernel)
theorem kd_P_formOf : y_P_formOf.cls ≠ "java/lang/invoke/MethodHandle" ∧ y_P_formOf.cls ≠ "java/lang/invoke/VarHandle" ∧ (parseMethodDescriptor y_P_formOf.desc).map (fun d => d.parameters.length) = some 1 := by decide +kernel
theorem kw_P_step : (.code y_P_step b_P_step 3 none : Cond) ∈ lw_g := lw_in 387 (by decide +kernel) (by decide +kernel)
theorem kv_P_step : (.instanceMethod y_P_step : Cond) ∈ lw_g := lw_in 386 (by decide +kernel) (by decide +kernel)
theorem ke_P_step : (.selects y_P_step.cls y_P_step y_P_step : Cond) ∈ lw_g := lw_inS 13 (by decide +kernel) (by decide +kernel)
theorem kd_P_step : y_P_step.cls ≠ "java/lang/invoke/MethodHandle" ∧ y_P_step.cls ≠ "java/lang/invoke/VarHandle" ∧ (parseMethodDescriptor y_P_step.desc).map (fun d => d.parameters.length) = some 1 := by decide +kernel
theorem kw_P_isInner : (.code y_P_isInner b_P_isInner 1 (some .boolean) : Cond) ∈ lw_g := lw_in 390 (by decide +kernel) (by decide +kernel)
theorem kv_P_isInner : (.static y_P_isInner : Cond) ∈ lw_g := lw_in 389 (by decide +kernel) (by decide +kernel)
theorem kd_P_isInner : y_P_isInner.cls ≠ "java/lang/invoke/MethodHandle" ∧ y_P_isInner.cls ≠ "java/lang/invoke/VarHandle" ∧ (parseMethodDescriptor y_P_isInner.desc).map (fun d => d.parameters.length) = some 1 := by decide +kernel
theorem kw_P_variable : (.code y_P_variable b_P_variable 4 none : Cond) ∈ lw_g := lw_in 394 (by decide +kernel) (by decide +kernel)
theorem kv_P_variable : (.instanceMethod y_P_variable : Cond) ∈ lw_g := lw_in 393 (by decide +kernel) (by decide +kernel)
theorem ke_P_variable : (.selects y_P_variable.cls y_P_variable y_P_variable : Cond) ∈ lw_g := lw_inS 14 (by decide +kernel) (by decide +kernel)
theorem kd_P_variable : y_P_variable.cls ≠ "java/lang/invoke/MethodHandle" ∧ y_P_variable.cls ≠ "java/lang/invoke/VarHandle" ∧ (parseMethodDescriptor y_P_variable.desc).map (fun d => d.parameters.length) = some 2 := by decide +kernel
theorem kw_P_function : (.code y_P_function b_P_function 2 none : Cond) ∈ lw_g := lw_in 398 (by decide +kernel) (by decide +kernel)
theorem kv_P_function : (.instanceMethod y_P_function : Cond) ∈ lw_g := lw_in 397 (by decide +kernel) (by decide +kernel)
theorem ke_P_function : (.selects y_P_function.cls y_P_function y_P_function : Cond) ∈ lw_g := lw_inS 15 (by decide +kernel) (by decide +kernel)
theorem kd_P_function : y_P_function.cls ≠ "java/lang/invoke/MethodHandle" ∧ y_P_function.cls ≠ "java/lang/invoke/VarHandle" ∧ (parseMethodDescriptor y_P_function.desc).map (fun d => d.parameters.length) = some 1 := by decide +kernel
theorem kw_P_close : (.code y_P_close b_P_close 2 none : Cond) ∈ lw_g := lw_in 402 (by decide +kernel) (by decide +kernel)
theorem kv_P_close : (.instanceMethod y_P_close : Cond) ∈ lw_g := lw_in 401 (by decide +kernel) (by decide +kernel)
theorem ke_P_close : (.selects y_P_close.cls y_P_close y_P_close : Cond) ∈ lw_g := lw_inS 16 (by decide +kernel) (by decide +kernel)
theorem kd_P_close : y_P_close.cls ≠ "java/lang/invoke/MethodHandle" ∧ y_P_close.cls ≠ "java/lang/invoke/VarHandle" ∧ (parseMethodDescriptor y_P_close.desc).map (fun d => d.parameters.length) = some 1 := by decide +kernel
theorem kw_P_definition : (.code y_P_definition b_P_definition 4 (some .int) : Cond) ∈ lw_g := lw_in 406 (by decide +kernel) (by decide +kernel)
theorem kv_P_definition : (.instanceMethod y_P_definition : Cond) ∈ lw_g := lw_in 404 (by decide +kernel) (by decide +kernel)
theorem ke_P_definition : (.selects y_P_definition.cls y_P_definition y_P_definition : Cond) ∈ lw_g := lw_in 405 (by decide +kernel) (by decide +kernel)
theorem kd_P_definition : y_P_definition.cls ≠ "java/lang/invoke/MethodHandle" ∧ y_P_definition.cls ≠ "java/lang/invoke/VarHandle" ∧ (parseMethodDescriptor y_P_definition.desc).map (fun d => d.parameters.length) = some 2 := by decide +kernel
theorem kw_P_title : (.code y_P_title b_P_title 3 (some .long) : Cond) ∈ lw_g := lw_in 410 (by decide +kernel) (by decide +kernel)
theorem kv_P_title : (.instanceMethod y_P_title : Cond) ∈ lw_g := lw_in 408 (by decide +kernel) (by decide +kernel)
theorem ke_P_title : (.selects y_P_title.cls y_P_title y_P_title : Cond) ∈ lw_g := lw_in 409 (by decide +kernel) (by decide +kernel)
theorem kd_P_title : y_P_title.cls ≠ "java/lang/invoke/MethodHandle" ∧ y_P_title.cls ≠ "java/lang/invoke/VarHandle" ∧ (parseMethodDescriptor y_P_title.desc).map (fun d => d.parameters.length) = some 2 := by decide +kernel
theorem kw_P_parameter : (.code y_P_parameter b_P_parameter 3 (some .int) : Cond) ∈ lw_g := lw_in 414 (by decide +kernel) (by decide +kernel)
theorem kv_P_parameter : (.instanceMethod y_P_parameter : Cond) ∈ lw_g := lw_in 412 (by decide +kernel) (by decide +kernel)
theorem ke_P_parameter : (.selects y_P_parameter.cls y_P_parameter y_P_parameter : Cond) ∈ lw_g := lw_in 413 (by decide +kernel) (by decide +kernel)
theorem kd_P_parameter : y_P_parameter.cls ≠ "java/lang/invoke/MethodHandle" ∧ y_P_parameter.cls ≠ "java/lang/invoke/VarHandle" ∧ (parseMethodDescriptor y_P_parameter.desc).map (fun d => d.parameters.length) = some 2 := by decide +kernel
theorem kw_P_node : (.code y_P_node b_P_node 4 (some .int) : Cond) ∈ lw_g := lw_in 418 (by decide +kernel) (by decide +kernel)
theorem kv_P_node : (.instanceMethod y_P_node : Cond) ∈ lw_g := lw_in 416 (by decide +kernel) (by decide +kernel)
theorem ke_P_node : (.selects y_P_node.cls y_P_node y_P_node : Cond) ∈ lw_g := lw_in 417 (by decide +kernel) (by decide +kernel)
theorem kd_P_node : y_P_node.cls ≠ "java/lang/invoke/MethodHandle" ∧ y_P_node.cls ≠ "java/lang/invoke/VarHandle" ∧ (parseMethodDescriptor y_P_node.desc).map (fun d => d.parameters.length) = some 2 := by decide +kernel
theorem kw_P_isNode : (.code y_P_isNode b_P_isNode 2 (some .boolean) : Cond) ∈ lw_g := lw_in 422 (by decide +kernel) (by decide +kernel)
theorem kv_P_isNode : (.instanceMethod y_P_isNode : Cond) ∈ lw_g := lw_in 421 (by decide +kernel) (by decide +kernel)
theorem ke_P_isNode : (.selects y_P_isNode.cls y_P_isNode y_P_isNode : Cond) ∈ lw_g := lw_inS 17 (by decide +kernel) (by decide +kernel)
theorem kd_P_isNode : y_P_isNode.cls ≠ "java/lang/invoke/MethodHandle" ∧ y_P_isNode.cls ≠ "java/lang/invoke/VarHandle" ∧ (parseMethodDescriptor y_P_isNode.desc).map (fun d => d.parameters.length) = some 1 := by decide +kernel
theorem kw_P_name : (.code y_P_name b_P_name 3 (some .long) : Cond) ∈ lw_g := lw_in 426 (by decide +kernel) (by decide +kernel)
theorem kv_P_name : (.instanceMethod y_P_name : Cond) ∈ lw_g := lw_in 424 (by decide +kernel) (by decide +kernel)
theorem ke_P_name : (.selects y_P_name.cls y_P_name y_P_name : Cond) ∈ lw_g := lw_in 425 (by decide +kernel) (by decide +kernel)
theorem kd_P_name : y_P_name.cls ≠ "java/lang/invoke/MethodHandle" ∧ y_P_name.cls ≠ "java/lang/invoke/VarHandle" ∧ (parseMethodDescriptor y_P_name.desc).map (fun d => d.parameters.length) = some 2 := by decide +kernel
theorem kw_P_number : (.code y_P_number b_P_number 2 (some .int) : Cond) ∈ lw_g := lw_in 430 (by decide +kernel) (by decide +kernel)
theorem kv_P_number : (.instanceMethod y_P_number : Cond) ∈ lw_g := lw_in 428 (by decide +kernel) (by decide +kernel)
theorem ke_P_number : (.selects y_P_number.cls y_P_number y_P_number : Cond) ∈ lw_g := lw_in 429 (by decide +kernel) (by decide +kernel)
theorem kd_P_number : y_P_number.cls ≠ "java/lang/invoke/MethodHandle" ∧ y_P_number.cls ≠ "java/lang/invoke/VarHandle" ∧ (parseMethodDescriptor y_P_number.desc).map (fun d => d.parameters.length) = some 1 := by decide +kernel
theorem kw_P_look : (.code y_P_look b_P_look 2 (some .int) : Cond) ∈ lw_g := lw_in 434 (by decide +kernel) (by decide +kernel)
theorem kv_P_look : (.instanceMethod y_P_look : Cond) ∈ lw_g := lw_in 432 (by decide +kernel) (by decide +kernel)
theorem ke_P_look : (.selects y_P_look.cls y_P_look y_P_look : Cond) ∈ lw_g := lw_in 433 (by decide +kernel) (by decide +kernel)
theorem kd_P_look : y_P_look.cls ≠ "java/lang/invoke/MethodHandle" ∧ y_P_look.cls ≠ "java/lang/invoke/VarHandle" ∧ (parseMethodDescriptor y_P_look.desc).map (fun d => d.parameters.length) = some 1 := by decide +kernel
theorem kw_M_init : (.code y_M_init b_M_init 1 none : Cond) ∈ lw_g := lw_in 439 (by decide +kernel) (by decide +kernel)
theorem kv_M_init : (.instanceMethod y_M_init : Cond) ∈ lw_g := lw_in 438 (by decide +kernel) (by decide +kernel)
theorem kd_M_init : y_M_init.cls ≠ "java/lang/invoke/MethodHandle" ∧ y_M_init.cls ≠ "java/lang/invoke/VarHandle" ∧ (parseMethodDescriptor y_M_init.desc).map (fun d => d.parameters.length) = some 0 := by decide +kernel
theorem kw_M_give : (.code y_M_give b_M_give 5 (some .boolean) : Cond) ∈ lw_g := lw_in 545 (by decide +kernel) (by decide +kernel)
theorem kv_M_give : (.instanceMethod y_M_give : Cond) ∈ lw_g := lw_in 543 (by decide +kernel) (by decide +kernel)
theorem ke_M_give : (.selects y_M_give.cls y_M_give y_M_give : Cond) ∈ lw_g := lw_in 544 (by decide +kernel) (by decide +kernel)
theorem kd_M_give : y_M_give.cls ≠ "java/lang/invoke/MethodHandle" ∧ y_M_give.cls ≠ "java/lang/invoke/VarHandle" ∧ (parseMethodDescriptor y_M_give.desc).map (fun d => d.parameters.length) = some 2 := by decide +kernel
theorem kw_M_wipe : (.code y_M_wipe b_M_wipe 1 none : Cond) ∈ lw_g := lw_in 549 (by decide +kernel) (by decide +kernel)
theorem kv_M_wipe : (.instanceMethod y_M_wipe : Cond) ∈ lw_g := lw_in 547 (by decide +kernel) (by decide +kernel)
theorem ke_M_wipe : (.selects y_M_wipe.cls y_M_wipe y_M_wipe : Cond) ∈ lw_g := lw_in 548 (by decide +kernel) (by decide +kernel)
theorem kd_M_wipe : y_M_wipe.cls ≠ "java/lang/invoke/MethodHandle" ∧ y_M_wipe.cls ≠ "java/lang/invoke/VarHandle" ∧ (parseMethodDescriptor y_M_wipe.desc).map (fun d => d.parameters.length) = some 0 := by decide +kernel
theorem kw_M_read : (.code y_M_read b_M_read 1 (some .int) : Cond) ∈ lw_g := lw_in 553 (by decide +kernel) (by decide +kernel)
theorem kv_M_read : (.instanceMethod y_M_read : Cond) ∈ lw_g := lw_in 551 (by decide +kernel) (by decide +kernel)
theorem ke_M_read : (.selects y_M_read.cls y_M_read y_M_read : Cond) ∈ lw_g := lw_in 552 (by decide +kernel) (by decide +kernel)
theorem kd_M_read : y_M_read.cls ≠ "java/lang/invoke/MethodHandle" ∧ y_M_read.cls ≠ "java/lang/invoke/VarHandle" ∧ (parseMethodDescriptor y_M_read.desc).map (fun d => d.parameters.length) = some 0 := by decide +kernel
theorem kw_M_next : (.code y_M_next b_M_next 1 none : Cond) ∈ lw_g := lw_in 557 (by decide +kernel) (by decide +kernel)
theorem kv_M_next : (.instanceMethod y_M_next : Cond) ∈ lw_g := lw_in 556 (by decide +kernel) (by decide +kernel)
theorem ke_M_next : (.selects y_M_next.cls y_M_next y_M_next : Cond) ∈ lw_g := lw_inS 18 (by decide +kernel) (by decide +kernel)
theorem kd_M_next : y_M_next.cls ≠ "java/lang/invoke/MethodHandle" ∧ y_M_next.cls ≠ "java/lang/invoke/VarHandle" ∧ (parseMethodDescriptor y_M_next.desc).map (fun d => d.parameters.length) = some 0 := by decide +kernel
theorem kw_M_isRun : (.code y_M_isRun b_M_isRun 2 (some .boolean) : Cond) ∈ lw_g := lw_in 561 (by decide +kernel) (by decide +kernel)
theorem kv_M_isRun : (.instanceMethod y_M_isRun : Cond) ∈ lw_g := lw_in 560 (by decide +kernel) (by decide +kernel)
theorem ke_M_isRun : (.selects y_M_isRun.cls y_M_isRun y_M_isRun : Cond) ∈ lw_g := lw_inS 19 (by decide +kernel) (by decide +kernel)
theorem kd_M_isRun : y_M_isRun.cls ≠ "java/lang/invoke/MethodHandle" ∧ y_M_isRun.cls ≠ "java/lang/invoke/VarHandle" ∧ (parseMethodDescriptor y_M_isRun.desc).map (fun d => d.parameters.length) = some 1 := by decide +kernel
theorem kw_M_isLetter : (.code y_M_isLetter b_M_isLetter 1 (some .boolean) : Cond) ∈ lw_g := lw_in 564 (by decide +kernel) (by decide +kernel)
theorem kv_M_isLetter : (.static y_M_isLetter : Cond) ∈ lw_g := lw_in 563 (by decide +kernel) (by decide +kernel)
theorem kd_M_isLetter : y_M_isLetter.cls ≠ "java/lang/invoke/MethodHandle" ∧ y_M_isLetter.cls ≠ "java/lang/invoke/VarHandle" ∧ (parseMethodDescriptor y_M_isLetter.desc).map (fun d => d.parameters.length) = some 1 := by decide +kernel
theorem kw_M_isDigit : (.code y_M_isDigit b_M_isDigit 1 (some .boolean) : Cond) ∈ lw_g := lw_in 567 (by decide +kernel) (by decide +kernel)
theorem kv_M_isDigit : (.static y_M_isDigit : Cond) ∈ lw_g := lw_in 566 (by decide +kernel) (by decide +kernel)
theorem kd_M_isDigit : y_M_isDigit.cls ≠ "java/lang/invoke/MethodHandle" ∧ y_M_isDigit.cls ≠ "java/lang/invoke/VarHandle" ∧ (parseMethodDescriptor y_M_isDigit.desc).map (fun d => d.parameters.length) = some 1 := by decide +kernel
theorem kw_M_wrong : (.code y_M_wrong b_M_wrong 3 none : Cond) ∈ lw_g := lw_in 571 (by decide +kernel) (by decide +kernel)
theorem kv_M_wrong : (.instanceMethod y_M_wrong : Cond) ∈ lw_g := lw_in 570 (by decide +kernel) (by decide +kernel)
theorem ke_M_wrong : (.selects y_M_wrong.cls y_M_wrong y_M_wrong : Cond) ∈ lw_g := lw_inS 20 (by decide +kernel) (by decide +kernel)
theorem kd_M_wrong : y_M_wrong.cls ≠ "java/lang/invoke/MethodHandle" ∧ y_M_wrong.cls ≠ "java/lang/invoke/VarHandle" ∧ (parseMethodDescriptor y_M_wrong.desc).map (fun d => d.parameters.length) = some 2 := by decide +kernel
theorem kw_M_readName : (.code y_M_readName b_M_readName 3 none : Cond) ∈ lw_g := lw_in 575 (by decide +kernel) (by decide +kernel)
theorem kv_M_readName : (.instanceMethod y_M_readName : Cond) ∈ lw_g := lw_in 574 (by decide +kernel) (by decide +kernel)
theorem ke_M_readName : (.selects y_M_readName.cls y_M_readName y_M_readName : Cond) ∈ lw_g := lw_inS 21 (by decide +kernel) (by decide +kernel)
theorem kd_M_readName : y_M_readName.cls ≠ "java/lang/invoke/MethodHandle" ∧ y_M_readName.cls ≠ "java/lang/invoke/VarHandle" ∧ (parseMethodDescriptor y_M_readName.desc).map (fun d => d.parameters.length) = some 0 := by decide +kernel
theorem kw_M_readNumber : (.code y_M_readNumber b_M_readNumber 6 none : Cond) ∈ lw_g := lw_in 580 (by decide +kernel) (by decide +kernel)
theorem kv_M_readNumber : (.instanceMethod y_M_readNumber : Cond) ∈ lw_g := lw_in 579 (by decide +kernel) (by decide +kernel)
theorem ke_M_readNumber : (.selects y_M_readNumber.cls y_M_readNumber y_M_readNumber : Cond) ∈ lw_g := lw_inS 22 (by decide +kernel) (by decide +kernel)
theorem kd_M_readNumber : y_M_readNumber.cls ≠ "java/lang/invoke/MethodHandle" ∧ y_M_readNumber.cls ≠ "java/lang/invoke/VarHandle" ∧ (parseMethodDescriptor y_M_readNumber.desc).map (fun d => d.parameters.length) = some 0 := by decide +kernel
theorem kw_M_readDefinition : (.code y_M_readDefinition b_M_readDefinition 4 none : Cond) ∈ lw_g := lw_in 588 (by decide +kernel) (by decide +kernel)
theorem kv_M_readDefinition : (.instanceMethod y_M_readDefinition : Cond) ∈ lw_g := lw_in 587 (by decide +kernel) (by decide +kernel)
theorem ke_M_readDefinition : (.selects y_M_readDefinition.cls y_M_readDefinition y_M_readDefinition : Cond) ∈ lw_g := lw_inS 23 (by decide +kernel) (by decide +kernel)
theorem kd_M_readDefinition : y_M_readDefinition.cls ≠ "java/lang/invoke/MethodHandle" ∧ y_M_readDefinition.cls ≠ "java/lang/invoke/VarHandle" ∧ (parseMethodDescriptor y_M_readDefinition.desc).map (fun d => d.parameters.length) = some 0 := by decide +kernel
theorem kw_M_must : (.code y_M_must b_M_must 2 (some .boolean) : Cond) ∈ lw_g := lw_in 592 (by decide +kernel) (by decide +kernel)
theorem kv_M_must : (.instanceMethod y_M_must : Cond) ∈ lw_g := lw_in 591 (by decide +kernel) (by decide +kernel)
theorem ke_M_must : (.selects y_M_must.cls y_M_must y_M_must : Cond) ∈ lw_g := lw_inS 24 (by decide +kernel) (by decide +kernel)
theorem kd_M_must : y_M_must.cls ≠ "java/lang/invoke/MethodHandle" ∧ y_M_must.cls ≠ "java/lang/invoke/VarHandle" ∧ (parseMethodDescriptor y_M_must.desc).map (fun d => d.parameters.length) = some 1 := by decide +kernel
theorem kw_M_is : (.code y_M_is b_M_is 4 (some .boolean) : Cond) ∈ lw_g := lw_in 597 (by decide +kernel) (by decide +kernel)
theorem kv_M_is : (.instanceMethod y_M_is : Cond) ∈ lw_g := lw_in 596 (by decide +kernel) (by decide +kernel)
theorem ke_M_is : (.selects y_M_is.cls y_M_is y_M_is : Cond) ∈ lw_g := lw_inS 25 (by decide +kernel) (by decide +kernel)
theorem kd_M_is : y_M_is.cls ≠ "java/lang/invoke/MethodHandle" ∧ y_M_is.cls ≠ "java/lang/invoke/VarHandle" ∧ (parseMethodDescriptor y_M_is.desc).map (fun d => d.parameters.length) = some 1 := by decide +kernel
theorem kw_M_isOwn : (.code y_M_isOwn b_M_isOwn 1 (some .boolean) : Cond) ∈ lw_g := lw_in 604 (by decide +kernel) (by decide +kernel)
theorem kv_M_isOwn : (.instanceMethod y_M_isOwn : Cond) ∈ lw_g := lw_in 603 (by decide +kernel) (by decide +kernel)
theorem ke_M_isOwn : (.selects y_M_isOwn.cls y_M_isOwn y_M_isOwn : Cond) ∈ lw_g := lw_inS 26 (by decide +kernel) (by decide +kernel)
theorem kd_M_isOwn : y_M_isOwn.cls ≠ "java/lang/invoke/MethodHandle" ∧ y_M_isOwn.cls ≠ "java/lang/invoke/VarHandle" ∧ (parseMethodDescriptor y_M_isOwn.desc).map (fun d => d.parameters.length) = some 0 := by decide +kernel
theorem kw_M_type : (.code y_M_type b_M_type 1 (some .int) : Cond) ∈ lw_g := lw_in 608 (by decide +kernel) (by decide +kernel)
theorem kv_M_type : (.instanceMethod y_M_type : Cond) ∈ lw_g := lw_in 607 (by decide +kernel) (by decide +kernel)
theorem ke_M_type : (.selects y_M_type.cls y_M_type y_M_type : Cond) ∈ lw_g := lw_inS 27 (by decide +kernel) (by decide +kernel)
theorem kd_M_type : y_M_type.cls ≠ "java/lang/invoke/MethodHandle" ∧ y_M_type.cls ≠ "java/lang/invoke/VarHandle" ∧ (parseMethodDescriptor y_M_type.desc).map (fun d => d.parameters.length) = some 0 := by decide +kernel
theorem kw_M_stableKind : (.code y_M_stableKind b_M_stableKind 1 (some .int) : Cond) ∈ lw_g := lw_in 616 (by decide +kernel) (by decide +kernel)
theorem kv_M_stableKind : (.instanceMethod y_M_stableKind : Cond) ∈ lw_g := lw_in 615 (by decide +kernel) (by decide +kernel)
theorem ke_M_stableKind : (.selects y_M_stableKind.cls y_M_stableKind y_M_stableKind : Cond) ∈ lw_g := lw_inS 28 (by decide +kernel) (by decide +kernel)
theorem kd_M_stableKind : y_M_stableKind.cls ≠ "java/lang/invoke/MethodHandle" ∧ y_M_stableKind.cls ≠ "java/lang/invoke/VarHandle" ∧ (parseMethodDescriptor y_M_stableKind.desc).map (fun d => d.parameters.length) = some 0 := by decide +kernel
theorem kw_M_operation : (.code y_M_operation b_M_operation 1 (some .int) : Cond) ∈ lw_g := lw_in 620 (by decide +kernel) (by decide +kernel)
theorem kv_M_operation : (.instanceMethod y_M_operation : Cond) ∈ lw_g := lw_in 619 (by decide +kernel) (by decide +kernel)
theorem ke_M_operation : (.selects y_M_operation.cls y_M_operation y_M_operation : Cond) ∈ lw_g := lw_inS 29 (by decide +kernel) (by decide +kernel)
theorem kd_M_operation : y_M_operation.cls ≠ "java/lang/invoke/MethodHandle" ∧ y_M_operation.cls ≠ "java/lang/invoke/VarHandle" ∧ (parseMethodDescriptor y_M_operation.desc).map (fun d => d.parameters.length) = some 0 := by decide +kernel
theorem kw_M_changeableKind : (.code y_M_changeableKind b_M_changeableKind 1 (some .int) : Cond) ∈ lw_g := lw_in 637 (by decide +kernel) (by decide +kernel)
theorem kv_M_changeableKind : (.instanceMethod y_M_changeableKind : Cond) ∈ lw_g := lw_in 636 (by decide +kernel) (by decide +kernel)
theorem ke_M_changeableKind : (.selects y_M_changeableKind.cls y_M_changeableKind y_M_changeableKind : Cond) ∈ lw_g := lw_inS 30 (by decide +kernel) (by decide +kernel)
theorem kd_M_changeableKind : y_M_changeableKind.cls ≠ "java/lang/invoke/MethodHandle" ∧ y_M_changeableKind.cls ≠ "java/lang/invoke/VarHandle" ∧ (parseMethodDescriptor y_M_changeableKind.desc).map (fun d => d.parameters.length) = some 0 := by decide +kernel
theorem kw_M_readParameter : (.code y_M_readParameter b_M_readParameter 4 none : Cond) ∈ lw_g := lw_in 645 (by decide +kernel) (by decide +kernel)
theorem kv_M_readParameter : (.instanceMethod y_M_readParameter : Cond) ∈ lw_g := lw_in 644 (by decide +kernel) (by decide +kernel)
theorem ke_M_readParameter : (.selects y_M_readParameter.cls y_M_readParameter y_M_readParameter : Cond) ∈ lw_g := lw_inS 31 (by decide +kernel) (by decide +kernel)
theorem kd_M_readParameter : y_M_readParameter.cls ≠ "java/lang/invoke/MethodHandle" ∧ y_M_readParameter.cls ≠ "java/lang/invoke/VarHandle" ∧ (parseMethodDescriptor y_M_readParameter.desc).map (fun d => d.parameters.length) = some 1 := by decide +kernel
theorem kw_M_expression : (.code y_M_expression b_M_expression 2 none : Cond) ∈ lw_g := lw_in 649 (by decide +kernel) (by decide +kernel)
theorem kv_M_expression : (.instanceMethod y_M_expression : Cond) ∈ lw_g := lw_in 648 (by decide +kernel) (by decide +kernel)
theorem ke_M_expression : (.selects y_M_expression.cls y_M_expression y_M_expression : Cond) ∈ lw_g := lw_inS 32 (by decide +kernel) (by decide +kernel)
theorem kd_M_expression : y_M_expression.cls ≠ "java/lang/invoke/MethodHandle" ∧ y_M_expression.cls ≠ "java/lang/invoke/VarHandle" ∧ (parseMethodDescriptor y_M_expression.desc).map (fun d => d.parameters.length) = some 1 := by decide +kernel
theorem kw_M_push : (.code y_M_push b_M_push 3 none : Cond) ∈ lw_g := lw_in 653 (by decide +kernel) (by decide +kernel)
theorem kv_M_push : (.instanceMethod y_M_push : Cond) ∈ lw_g := lw_in 652 (by decide +kernel) (by decide +kernel)
theorem ke_M_push : (.selects y_M_push.cls y_M_push y_M_push : Cond) ∈ lw_g := lw_inS 33 (by decide +kernel) (by decide +kernel)
theorem kd_M_push : y_M_push.cls ≠ "java/lang/invoke/MethodHandle" ∧ y_M_push.cls ≠ "java/lang/invoke/VarHandle" ∧ (parseMethodDescriptor y_M_push.desc).map (fun d => d.parameters.length) = some 2 := by decide +kernel
theorem kw_M_step : (.code y_M_step b_M_step 3 none : Cond) ∈ lw_g := lw_in 657 (by decide +kernel) (by decide +kernel)
theorem kv_M_step : (.instanceMethod y_M_step : Cond) ∈ lw_g := lw_in 656 (by decide +kernel) (by decide +kernel)
theorem ke_M_step : (.selects y_M_step.cls y_M_step y_M_step : Cond) ∈ lw_g := lw_inS 34 (by decide +kernel) (by decide +kernel)
theorem kd_M_step : y_M_step.cls ≠ "java/lang/invoke/MethodHandle" ∧ y_M_step.cls ≠ "java/lang/invoke/VarHandle" ∧ (parseMethodDescriptor y_M_step.desc).map (fun d => d.parameters.length) = some 0 := by decide +kernel
theorem kw_M_begin : (.code y_M_begin b_M_begin 5 none : Cond) ∈ lw_g := lw_in 661 (by decide +kernel) (by decide +kernel)
theorem kv_M_begin : (.instanceMethod y_M_begin : Cond) ∈ lw_g := lw_in 660 (by decide +kernel) (by decide +kernel)
theorem ke_M_begin : (.selects y_M_begin.cls y_M_begin y_M_begin : Cond) ∈ lw_g := lw_inS 35 (by decide +kernel) (by decide +kernel)
theorem kd_M_begin : y_M_begin.cls ≠ "java/lang/invoke/MethodHandle" ∧ y_M_begin.cls ≠ "java/lang/invoke/VarHandle" ∧ (parseMethodDescriptor y_M_begin.desc).map (fun d => d.parameters.length) = some 2 := by decide +kernel
theorem kw_M_make : (.code y_M_make b_M_make 4 (some .int) : Cond) ∈ lw_g := lw_in 665 (by decide +kernel) (by decide +kernel)
theorem kv_M_make : (.instanceMethod y_M_make : Cond) ∈ lw_g := lw_in 664 (by decide +kernel) (by decide +kernel)
theorem ke_M_make : (.selects y_M_make.cls y_M_make y_M_make : Cond) ∈ lw_g := lw_inS 36 (by decide +kernel) (by decide +kernel)
theorem kd_M_make : y_M_make.cls ≠ "java/lang/invoke/MethodHandle" ∧ y_M_make.cls ≠ "java/lang/invoke/VarHandle" ∧ (parseMethodDescriptor y_M_make.desc).map (fun d => d.parameters.length) = some 2 := by decide +kernel
theorem kw_M_setName : (.code y_M_setName b_M_setName 2 none : Cond) ∈ lw_g := lw_in 669 (by decide +kernel) (by decide +kernel)
theorem kv_M_setName : (.instanceMethod y_M_setName : Cond) ∈ lw_g := lw_in 668 (by decide +kernel) (by decide +kernel)
theorem ke_M_setName : (.selects y_M_setName.cls y_M_setName y_M_setName : Cond) ∈ lw_g := lw_inS 37 (by decide +kernel) (by decide +kernel)
theorem kd_M_setName : y_M_setName.cls ≠ "java/lang/invoke/MethodHandle" ∧ y_M_setName.cls ≠ "java/lang/invoke/VarHandle" ∧ (parseMethodDescriptor y_M_setName.desc).map (fun d => d.parameters.length) = some 1 := by decide +kernel
theorem kw_M_expect : (.code y_M_expect b_M_expect 4 none : Cond) ∈ lw_g := lw_in 673 (by decide +kernel) (by decide +kernel)
theorem kv_M_expect : (.instanceMethod y_M_expect : Cond) ∈ lw_g := lw_in 672 (by decide +kernel) (by decide +kernel)
theorem ke_M_expect : (.selects y_M_expect.cls y_M_expect y_M_expect : Cond) ∈ lw_g := lw_inS 38 (by decide +kernel) (by decide +kernel)
theorem kd_M_expect : y_M_expect.cls ≠ "java/lang/invoke/MethodHandle" ∧ y_M_expect.cls ≠ "java/lang/invoke/VarHandle" ∧ (parseMethodDescriptor y_M_expect.desc).map (fun d => d.parameters.length) = some 1 := by decide +kernel
theorem kw_M_letBinds : (.code y_M_letBinds b_M_letBinds 2 none : Cond) ∈ lw_g := lw_in 677 (by decide +kernel) (by decide +kernel)
theorem kv_M_letBinds : (.instanceMethod y_M_letBinds : Cond) ∈ lw_g := lw_in 676 (by decide +kernel) (by decide +kernel)
theorem ke_M_letBinds : (.selects y_M_letBinds.cls y_M_letBinds y_M_letBinds : Cond) ∈ lw_g := lw_inS 39 (by decide +kernel) (by decide +kernel)
theorem kd_M_letBinds : y_M_letBinds.cls ≠ "java/lang/invoke/MethodHandle" ∧ y_M_letBinds.cls ≠ "java/lang/invoke/VarHandle" ∧ (parseMethodDescriptor y_M_letBinds.desc).map (fun d => d.parameters.length) = some 1 := by decide +kernel
theorem kw_M_bind : (.code y_M_bind b_M_bind 1 none : Cond) ∈ lw_g := lw_in 681 (by decide +kernel) (by decide +kernel)
theorem kv_M_bind : (.instanceMethod y_M_bind : Cond) ∈ lw_g := lw_in 680 (by decide +kernel) (by decide +kernel)
theorem ke_M_bind : (.selects y_M_bind.cls y_M_bind y_M_bind : Cond) ∈ lw_g := lw_inS 40 (by decide +kernel) (by decide +kernel)
theorem kd_M_bind : y_M_bind.cls ≠ "java/lang/invoke/MethodHandle" ∧ y_M_bind.cls ≠ "java/lang/invoke/VarHandle" ∧ (parseMethodDescriptor y_M_bind.desc).map (fun d => d.parameters.length) = some 0 := by decide +kernel
theorem kw_M_definition : (.code y_M_definition b_M_definition 3 (some .int) : Cond) ∈ lw_g := lw_in 685 (by decide +kernel) (by decide +kernel)
theorem kv_M_definition : (.instanceMethod y_M_definition : Cond) ∈ lw_g := lw_in 683 (by decide +kernel) (by decide +kernel)
theorem ke_M_definition : (.selects y_M_definition.cls y_M_definition y_M_definition : Cond) ∈ lw_g := lw_in 684 (by decide +kernel) (by decide +kernel)
theorem kd_M_definition : y_M_definition.cls ≠ "java/lang/invoke/MethodHandle" ∧ y_M_definition.cls ≠ "java/lang/invoke/VarHandle" ∧ (parseMethodDescriptor y_M_definition.desc).map (fun d => d.parameters.length) = some 2 := by decide +kernel
theorem kw_M_isDefinition : (.code y_M_isDefinition b_M_isDefinition 2 (some .boolean) : Cond) ∈ lw_g := lw_in 689 (by decide +kernel) (by decide +kernel)
theorem kv_M_isDefinition : (.instanceMethod y_M_isDefinition : Cond) ∈ lw_g := lw_in 688 (by decide +kernel) (by decide +kernel)
theorem ke_M_isDefinition : (.selects y_M_isDefinition.cls y_M_isDefinition y_M_isDefinition : Cond) ∈ lw_g := lw_inS 41 (by decide +kernel) (by decide +kernel)
theorem kd_M_isDefinition : y_M_isDefinition.cls ≠ "java/lang/invoke/MethodHandle" ∧ y_M_isDefinition.cls ≠ "java/lang/invoke/VarHandle" ∧ (parseMethodDescriptor y_M_isDefinition.desc).map (fun d => d.parameters.length) = some 1 := by decide +kernel
theorem kw_M_title : (.code y_M_title b_M_title 3 (some .long) : Cond) ∈ lw_g := lw_in 693 (by decide +kernel) (by decide +kernel)
theorem kv_M_title : (.instanceMethod y_M_title : Cond) ∈ lw_g := lw_in 691 (by decide +kernel) (by decide +kernel)
theorem ke_M_title : (.selects y_M_title.cls y_M_title y_M_title : Cond) ∈ lw_g := lw_in 692 (by decide +kernel) (by decide +kernel)
theorem kd_M_title : y_M_title.cls ≠ "java/lang/invoke/MethodHandle" ∧ y_M_title.cls ≠ "java/lang/invoke/VarHandle" ∧ (parseMethodDescriptor y_M_title.desc).map (fun d => d.parameters.length) = some 2 := by decide +kernel
theorem kw_M_parameter : (.code y_M_parameter b_M_parameter 3 (some .int) : Cond) ∈ lw_g := lw_in 697 (by decide +kernel) (by decide +kernel)
theorem kv_M_parameter : (.instanceMethod y_M_parameter : Cond) ∈ lw_g := lw_in 695 (by decide +kernel) (by decide +kernel)
theorem ke_M_parameter : (.selects y_M_parameter.cls y_M_parameter y_M_parameter : Cond) ∈ lw_g := lw_in 696 (by decide +kernel) (by decide +kernel)
theorem kd_M_parameter : y_M_parameter.cls ≠ "java/lang/invoke/MethodHandle" ∧ y_M_parameter.cls ≠ "java/lang/invoke/VarHandle" ∧ (parseMethodDescriptor y_M_parameter.desc).map (fun d => d.parameters.length) = some 2 := by decide +kernel
theorem kw_M_node : (.code y_M_node b_M_node 3 (some .int) : Cond) ∈ lw_g := lw_in 701 (by decide +kernel) (by decide +kernel)
theorem kv_M_node : (.instanceMethod y_M_node : Cond) ∈ lw_g := lw_in 699 (by decide +kernel) (by decide +kernel)
theorem ke_M_node : (.selects y_M_node.cls y_M_node y_M_node : Cond) ∈ lw_g := lw_in 700 (by decide +kernel) (by decide +kernel)
theorem kd_M_node : y_M_node.cls ≠ "java/lang/invoke/MethodHandle" ∧ y_M_node.cls ≠ "java/lang/invoke/VarHandle" ∧ (parseMethodDescriptor y_M_node.desc).map (fun d => d.parameters.length) = some 2 := by decide +kernel
theorem kw_M_within : (.code y_M_within b_M_within 5 (some .int) : Cond) ∈ lw_g := lw_in 705 (by decide +kernel) (by decide +kernel)
theorem kv_M_within : (.instanceMethod y_M_within : Cond) ∈ lw_g := lw_in 704 (by decide +kernel) (by decide +kernel)
theorem ke_M_within : (.selects y_M_within.cls y_M_within y_M_within : Cond) ∈ lw_g := lw_inS 42 (by decide +kernel) (by decide +kernel)
theorem kd_M_within : y_M_within.cls ≠ "java/lang/invoke/MethodHandle" ∧ y_M_within.cls ≠ "java/lang/invoke/VarHandle" ∧ (parseMethodDescriptor y_M_within.desc).map (fun d => d.parameters.length) = some 2 := by decide +kernel
theorem kw_M_name : (.code y_M_name b_M_name 3 (some .long) : Cond) ∈ lw_g := lw_in 709 (by decide +kernel) (by decide +kernel)
theorem kv_M_name : (.instanceMethod y_M_name : Cond) ∈ lw_g := lw_in 707 (by decide +kernel) (by decide +kernel)
theorem ke_M_name : (.selects y_M_name.cls y_M_name y_M_name : Cond) ∈ lw_g := lw_in 708 (by decide +kernel) (by decide +kernel)
theorem kd_M_name : y_M_name.cls ≠ "java/lang/invoke/MethodHandle" ∧ y_M_name.cls ≠ "java/lang/invoke/VarHandle" ∧ (parseMethodDescriptor y_M_name.desc).map (fun d => d.parameters.length) = some 2 := by decide +kernel
theorem kw_M_number : (.code y_M_number b_M_number 2 (some .int) : Cond) ∈ lw_g := lw_in 713 (by decide +kernel) (by decide +kernel)
theorem kv_M_number : (.instanceMethod y_M_number : Cond) ∈ lw_g := lw_in 711 (by decide +kernel) (by decide +kernel)
theorem ke_M_number : (.selects y_M_number.cls y_M_number y_M_number : Cond) ∈ lw_g := lw_in 712 (by decide +kernel) (by decide +kernel)
theorem kd_M_number : y_M_number.cls ≠ "java/lang/invoke/MethodHandle" ∧ y_M_number.cls ≠ "java/lang/invoke/VarHandle" ∧ (parseMethodDescriptor y_M_number.desc).map (fun d => d.parameters.length) = some 1 := by decide +kernel
theorem kw_M_look : (.code y_M_look b_M_look 2 (some .int) : Cond) ∈ lw_g := lw_in 717 (by decide +kernel) (by decide +kernel)
theorem kv_M_look : (.instanceMethod y_M_look : Cond) ∈ lw_g := lw_in 715 (by decide +kernel) (by decide +kernel)
theorem ke_M_look : (.selects y_M_look.cls y_M_look y_M_look : Cond) ∈ lw_g := lw_in 716 (by decide +kernel) (by decide +kernel)
theorem kd_M_look : y_M_look.cls ≠ "java/lang/invoke/MethodHandle" ∧ y_M_look.cls ≠ "java/lang/invoke/VarHandle" ∧ (parseMethodDescriptor y_M_look.desc).map (fun d => d.parameters.length) = some 1 := by decide +kernel
theorem n_P : ∀ a, a < 9 → ∀ b, b < 9 → a ≠ b → (F_P a).2.1 ≠ (F_P b).2.1 := by decide +kernel
theorem t_P_ok : ∀ k, k < 9 → parseFieldDescriptor (F_P k).2.2.1 = some (t_P k) := by decide +kernel
theorem i_P_0 : u_lay R_P F_P 0 ∈ lw_g := lw_in 105 (by decide +kernel) (by decide +kernel)
theorem i_P_1 : u_lay R_P F_P 1 ∈ lw_g := lw_in 107 (by decide +kernel) (by decide +kernel)
theorem i_P_2 : u_lay R_P F_P 2 ∈ lw_g := lw_in 109 (by decide +kernel) (by decide +kernel)
theorem i_P_3 : u_lay R_P F_P 3 ∈ lw_g := lw_in 111 (by decide +kernel) (by decide +kernel)
theorem i_P_4 : u_lay R_P F_P 4 ∈ lw_g := lw_in 113 (by decide +kernel) (by decide +kernel)
theorem i_P_5 : u_lay R_P F_P 5 ∈ lw_g := lw_in 115 (by decide +kernel) (by decide +kernel)
theorem i_P_6 : u_lay R_P F_P 6 ∈ lw_g := lw_in 117 (by decide +kernel) (by decide +kernel)
theorem i_P_7 : u_lay R_P F_P 7 ∈ lw_g := lw_in 119 (by decide +kernel) (by decide +kernel)
theorem i_P_8 : u_lay R_P F_P 8 ∈ lw_g := lw_in 121 (by decide +kernel) (by decide +kernel)
theorem i_P : ∀ w ∈ u_ws R_P F_P 9, w ∈ lw_g := by
  intro w hw
  obtain ⟨k, hk, rfl⟩ := List.mem_map.mp hw
  have hk := List.mem_range.mp hk
  match k, hk with
  | 0, _ => exact i_P_0
  | 1, _ => exact i_P_1
  | 2, _ => exact i_P_2
  | 3, _ => exact i_P_3
  | 4, _ => exact i_P_4
  | 5, _ => exact i_P_5
  | 6, _ => exact i_P_6
  | 7, _ => exact i_P_7
  | 8, _ => exact i_P_8
  | k + 9, h => exact absurd h (by omega)
theorem n_X : ∀ a, a < 7 → ∀ b, b < 7 → a ≠ b → (F_X a).2.1 ≠ (F_X b).2.1 := by decide +kernel
theorem t_X_ok : ∀ k, k < 7 → parseFieldDescriptor (F_X k).2.2.1 = some (t_X k) := by decide +kernel
theorem i_X_0 : u_lay R_X F_X 0 ∈ lw_g := lw_in 40 (by decide +kernel) (by decide +kernel)
theorem i_X_1 : u_lay R_X F_X 1 ∈ lw_g := lw_in 42 (by decide +kernel) (by decide +kernel)
theorem i_X_2 : u_lay R_X F_X 2 ∈ lw_g := lw_in 44 (by decide +kernel) (by decide +kernel)
theorem i_X_3 : u_lay R_X F_X 3 ∈ lw_g := lw_in 46 (by decide +kernel) (by decide +kernel)
theorem i_X_4 : u_lay R_X F_X 4 ∈ lw_g := lw_in 48 (by decide +kernel) (by decide +kernel)
theorem i_X_5 : u_lay R_X F_X 5 ∈ lw_g := lw_in 50 (by decide +kernel) (by decide +kernel)
theorem i_X_6 : u_lay R_X F_X 6 ∈ lw_g := lw_in 52 (by decide +kernel) (by decide +kernel)
theorem i_X : ∀ w ∈ u_ws R_X F_X 7, w ∈ lw_g := by
  intro w hw
  obtain ⟨k, hk, rfl⟩ := List.mem_map.mp hw
  have hk := List.mem_range.mp hk
  match k, hk with
  | 0, _ => exact i_X_0
  | 1, _ => exact i_X_1
  | 2, _ => exact i_X_2
  | 3, _ => exact i_X_3
  | 4, _ => exact i_X_4
  | 5, _ => exact i_X_5
  | 6, _ => exact i_X_6
  | k + 7, h => exact absurd h (by omega)
theorem n_D : ∀ a, a < 8 → ∀ b, b < 8 → a ≠ b → (F_D a).2.1 ≠ (F_D b).2.1 := by decide +kernel
theorem t_D_ok : ∀ k, k < 8 → parseFieldDescriptor (F_D k).2.2.1 = some (t_D k) := by decide +kernel
theorem i_D_0 : u_lay R_D F_D 0 ∈ lw_g := lw_in 77 (by decide +kernel) (by decide +kernel)
theorem i_D_1 : u_lay R_D F_D 1 ∈ lw_g := lw_in 79 (by decide +kernel) (by decide +kernel)
theorem i_D_2 : u_lay R_D F_D 2 ∈ lw_g := lw_in 81 (by decide +kernel) (by decide +kernel)
theorem i_D_3 : u_lay R_D F_D 3 ∈ lw_g := lw_in 83 (by decide +kernel) (by decide +kernel)
theorem i_D_4 : u_lay R_D F_D 4 ∈ lw_g := lw_in 85 (by decide +kernel) (by decide +kernel)
theorem i_D_5 : u_lay R_D F_D 5 ∈ lw_g := lw_in 87 (by decide +kernel) (by decide +kernel)
theorem i_D_6 : u_lay R_D F_D 6 ∈ lw_g := lw_in 89 (by decide +kernel) (by decide +kernel)
theorem i_D_7 : u_lay R_D F_D 7 ∈ lw_g := lw_in 91 (by decide +kernel) (by decide +kernel)
theorem i_D : ∀ w ∈ u_ws R_D F_D 8, w ∈ lw_g := by
  intro w hw
  obtain ⟨k, hk, rfl⟩ := List.mem_map.mp hw
  have hk := List.mem_range.mp hk
  match k, hk with
  | 0, _ => exact i_D_0
  | 1, _ => exact i_D_1
  | 2, _ => exact i_D_2
  | 3, _ => exact i_D_3
  | 4, _ => exact i_D_4
  | 5, _ => exact i_D_5
  | 6, _ => exact i_D_6
  | 7, _ => exact i_D_7
  | k + 8, h => exact absurd h (by omega)
theorem n_N : ∀ a, a < 11 → ∀ b, b < 11 → a ≠ b → (F_N a).2.1 ≠ (F_N b).2.1 := by decide +kernel
theorem t_N_ok : ∀ k, k < 11 → parseFieldDescriptor (F_N k).2.2.1 = some (t_N k) := by decide +kernel
theorem i_N_0 : u_lay R_N F_N 0 ∈ lw_g := lw_in 328 (by decide +kernel) (by decide +kernel)
theorem i_N_1 : u_lay R_N F_N 1 ∈ lw_g := lw_in 330 (by decide +kernel) (by decide +kernel)
theorem i_N_2 : u_lay R_N F_N 2 ∈ lw_g := lw_in 332 (by decide +kernel) (by decide +kernel)
theorem i_N_3 : u_lay R_N F_N 3 ∈ lw_g := lw_in 334 (by decide +kernel) (by decide +kernel)
theorem i_N_4 : u_lay R_N F_N 4 ∈ lw_g := lw_in 336 (by decide +kernel) (by decide +kernel)
theorem i_N_5 : u_lay R_N F_N 5 ∈ lw_g := lw_in 338 (by decide +kernel) (by decide +kernel)
theorem i_N_6 : u_lay R_N F_N 6 ∈ lw_g := lw_in 340 (by decide +kernel) (by decide +kernel)
theorem i_N_7 : u_lay R_N F_N 7 ∈ lw_g := lw_in 342 (by decide +kernel) (by decide +kernel)
theorem i_N_8 : u_lay R_N F_N 8 ∈ lw_g := lw_in 344 (by decide +kernel) (by decide +kernel)
theorem i_N_9 : u_lay R_N F_N 9 ∈ lw_g := lw_in 346 (by decide +kernel) (by decide +kernel)
theorem i_N_10 : u_lay R_N F_N 10 ∈ lw_g := lw_in 348 (by decide +kernel) (by decide +kernel)
theorem i_N : ∀ w ∈ u_ws R_N F_N 11, w ∈ lw_g := by
  intro w hw
  obtain ⟨k, hk, rfl⟩ := List.mem_map.mp hw
  have hk := List.mem_range.mp hk
  match k, hk with
  | 0, _ => exact i_N_0
  | 1, _ => exact i_N_1
  | 2, _ => exact i_N_2
  | 3, _ => exact i_N_3
  | 4, _ => exact i_N_4
  | 5, _ => exact i_N_5
  | 6, _ => exact i_N_6
  | 7, _ => exact i_N_7
  | 8, _ => exact i_N_8
  | 9, _ => exact i_N_9
  | 10, _ => exact i_N_10
  | k + 11, h => exact absurd h (by omega)
theorem n_O : ∀ a, a < 4 → ∀ b, b < 4 → a ≠ b → (F_O a).2.1 ≠ (F_O b).2.1 := by decide +kernel
theorem t_O_ok : ∀ k, k < 4 → parseFieldDescriptor (F_O k).2.2.1 = some (t_O k) := by decide +kernel
theorem i_O_0 : u_lay R_O F_O 0 ∈ lw_g := lw_in 360 (by decide +kernel) (by decide +kernel)
theorem i_O_1 : u_lay R_O F_O 1 ∈ lw_g := lw_in 362 (by decide +kernel) (by decide +kernel)
theorem i_O_2 : u_lay R_O F_O 2 ∈ lw_g := lw_in 364 (by decide +kernel) (by decide +kernel)
theorem i_O_3 : u_lay R_O F_O 3 ∈ lw_g := lw_in 366 (by decide +kernel) (by decide +kernel)
theorem i_O : ∀ w ∈ u_ws R_O F_O 4, w ∈ lw_g := by
  intro w hw
  obtain ⟨k, hk, rfl⟩ := List.mem_map.mp hw
  have hk := List.mem_range.mp hk
  match k, hk with
  | 0, _ => exact i_O_0
  | 1, _ => exact i_O_1
  | 2, _ => exact i_O_2
  | 3, _ => exact i_O_3
  | k + 4, h => exact absurd h (by omega)
theorem n_M : ∀ a, a < 33 → ∀ b, b < 33 → a ≠ b → (F_M a).2.1 ≠ (F_M b).2.1 := by decide +kernel
theorem t_M_ok : ∀ k, k < 33 → parseFieldDescriptor (F_M k).2.2.1 = some (t_M k) := by decide +kernel
theorem i_M_0 : u_lay R_M F_M 0 ∈ lw_g := lw_in 475 (by decide +kernel) (by decide +kernel)
theorem i_M_1 : u_lay R_M F_M 1 ∈ lw_g := lw_in 477 (by decide +kernel) (by decide +kernel)
theorem i_M_2 : u_lay R_M F_M 2 ∈ lw_g := lw_in 479 (by decide +kernel) (by decide +kernel)
theorem i_M_3 : u_lay R_M F_M 3 ∈ lw_g := lw_in 481 (by decide +kernel) (by decide +kernel)
theorem i_M_4 : u_lay R_M F_M 4 ∈ lw_g := lw_in 483 (by decide +kernel) (by decide +kernel)
theorem i_M_5 : u_lay R_M F_M 5 ∈ lw_g := lw_in 485 (by decide +kernel) (by decide +kernel)
theorem i_M_6 : u_lay R_M F_M 6 ∈ lw_g := lw_in 487 (by decide +kernel) (by decide +kernel)
theorem i_M_7 : u_lay R_M F_M 7 ∈ lw_g := lw_in 489 (by decide +kernel) (by decide +kernel)
theorem i_M_8 : u_lay R_M F_M 8 ∈ lw_g := lw_in 491 (by decide +kernel) (by decide +kernel)
theorem i_M_9 : u_lay R_M F_M 9 ∈ lw_g := lw_in 493 (by decide +kernel) (by decide +kernel)
theorem i_M_10 : u_lay R_M F_M 10 ∈ lw_g := lw_in 495 (by decide +kernel) (by decide +kernel)
theorem i_M_11 : u_lay R_M F_M 11 ∈ lw_g := lw_in 497 (by decide +kernel) (by decide +kernel)
theorem i_M_12 : u_lay R_M F_M 12 ∈ lw_g := lw_in 499 (by decide +kernel) (by decide +kernel)
theorem i_M_13 : u_lay R_M F_M 13 ∈ lw_g := lw_in 501 (by decide +kernel) (by decide +kernel)
theorem i_M_14 : u_lay R_M F_M 14 ∈ lw_g := lw_in 503 (by decide +kernel) (by decide +kernel)
theorem i_M_15 : u_lay R_M F_M 15 ∈ lw_g := lw_in 505 (by decide +kernel) (by decide +kernel)
theorem i_M_16 : u_lay R_M F_M 16 ∈ lw_g := lw_in 507 (by decide +kernel) (by decide +kernel)
theorem i_M_17 : u_lay R_M F_M 17 ∈ lw_g := lw_in 509 (by decide +kernel) (by decide +kernel)
theorem i_M_18 : u_lay R_M F_M 18 ∈ lw_g := lw_in 511 (by decide +kernel) (by decide +kernel)
theorem i_M_19 : u_lay R_M F_M 19 ∈ lw_g := lw_in 513 (by decide +kernel) (by decide +kernel)
theorem i_M_20 : u_lay R_M F_M 20 ∈ lw_g := lw_in 515 (by decide +kernel) (by decide +kernel)
theorem i_M_21 : u_lay R_M F_M 21 ∈ lw_g := lw_in 517 (by decide +kernel) (by decide +kernel)
theorem i_M_22 : u_lay R_M F_M 22 ∈ lw_g := lw_in 519 (by decide +kernel) (by decide +kernel)
theorem i_M_23 : u_lay R_M F_M 23 ∈ lw_g := lw_in 521 (by decide +kernel) (by decide +kernel)
theorem i_M_24 : u_lay R_M F_M 24 ∈ lw_g := lw_in 523 (by decide +kernel) (by decide +kernel)
theorem i_M_25 : u_lay R_M F_M 25 ∈ lw_g := lw_in 525 (by decide +kernel) (by decide +kernel)
theorem i_M_26 : u_lay R_M F_M 26 ∈ lw_g := lw_in 527 (by decide +kernel) (by decide +kernel)
theorem i_M_27 : u_lay R_M F_M 27 ∈ lw_g := lw_in 529 (by decide +kernel) (by decide +kernel)
theorem i_M_28 : u_lay R_M F_M 28 ∈ lw_g := lw_in 531 (by decide +kernel) (by decide +kernel)
theorem i_M_29 : u_lay R_M F_M 29 ∈ lw_g := lw_in 533 (by decide +kernel) (by decide +kernel)
theorem i_M_30 : u_lay R_M F_M 30 ∈ lw_g := lw_in 535 (by decide +kernel) (by decide +kernel)
theorem i_M_31 : u_lay R_M F_M 31 ∈ lw_g := lw_in 537 (by decide +kernel) (by decide +kernel)
theorem i_M_32 : u_lay R_M F_M 32 ∈ lw_g := lw_in 539 (by decide +kernel) (by decide +kernel)
theorem i_M : ∀ w ∈ u_ws R_M F_M 33, w ∈ lw_g := by
  intro w hw
  obtain ⟨k, hk, rfl⟩ := List.mem_map.mp hw
  have hk := List.mem_range.mp hk
  match k, hk with
  | 0, _ => exact i_M_0
  | 1, _ => exact i_M_1
  | 2, _ => exact i_M_2
  | 3, _ => exact i_M_3
  | 4, _ => exact i_M_4
  | 5, _ => exact i_M_5
  | 6, _ => exact i_M_6
  | 7, _ => exact i_M_7
  | 8, _ => exact i_M_8
  | 9, _ => exact i_M_9
  | 10, _ => exact i_M_10
  | 11, _ => exact i_M_11
  | 12, _ => exact i_M_12
  | 13, _ => exact i_M_13
  | 14, _ => exact i_M_14
  | 15, _ => exact i_M_15
  | 16, _ => exact i_M_16
  | 17, _ => exact i_M_17
  | 18, _ => exact i_M_18
  | 19, _ => exact i_M_19
  | 20, _ => exact i_M_20
  | 21, _ => exact i_M_21
  | 22, _ => exact i_M_22
  | 23, _ => exact i_M_23
  | 24, _ => exact i_M_24
  | 25, _ => exact i_M_25
  | 26, _ => exact i_M_26
  | 27, _ => exact i_M_27
  | 28, _ => exact i_M_28
  | 29, _ => exact i_M_29
  | 30, _ => exact i_M_30
  | 31, _ => exact i_M_31
  | 32, _ => exact i_M_32
  | k + 33, h => exact absurd h (by omega)
