/-! names of LP_,MD_,LW_,Alg_,Card_,Fld_,Kept_,Knot_,Named_,Paths_,Place_,Places_,Prim_,Rows_,Schema_,Sign_,Signs_,Step_,Terms_,Walker_,Math_ (printed by wip/gen/links.py) -/
abbrev m_LP_nearest : zM := (⟨"LensPaths", "nearest", "(III)I"⟩, prog_1_method_1_code, 3, (some .int), [])
set_option maxRecDepth 20000 in
theorem c_LP_nearest : zCode m_LP_nearest := ⟨by decide +kernel, Or.inl ⟨(z_w4 81 rfl), rfl⟩⟩
abbrev m_LP_between : zM := (⟨"LensPaths", "between", "(III)I"⟩, prog_1_method_2_code, 5, (some .int), [])
set_option maxRecDepth 20000 in
theorem c_LP_between : zCode m_LP_between := ⟨by decide +kernel, Or.inl ⟨(z_w5 30 rfl), rfl⟩⟩
abbrev m_LP_measure : zM := (⟨"LensPaths", "measure", "(II)V"⟩, prog_1_method_3_code, 5, none, [])
set_option maxRecDepth 20000 in
theorem c_LP_measure : zCode m_LP_measure := ⟨by decide +kernel, Or.inl ⟨(z_w5 22 rfl), rfl⟩⟩
abbrev m_LP_isNextTo : zM := (⟨"LensPaths", "isNextTo", "(III)Z"⟩, prog_1_method_4_code, 6, (some .boolean), [])
set_option maxRecDepth 20000 in
theorem c_LP_isNextTo : zCode m_LP_isNextTo := ⟨by decide +kernel, Or.inl ⟨(z_w5 26 rfl), rfl⟩⟩
abbrev m_LP_find : zM := (⟨"LensPaths", "find", "(III)I"⟩, prog_1_method_5_code, 10, (some .int), [])
set_option maxRecDepth 20000 in
theorem c_LP_find : zCode m_LP_find := ⟨by decide +kernel, Or.inl ⟨(z_w5 18 rfl), rfl⟩⟩
abbrev m_LP_walk : zM := (⟨"LensPaths", "walk", "(LLensPaths$Walker;LLensPaths$Algebra;LLensPaths$Rows;II)V"⟩, prog_1_method_6_code, 8, none, [])
set_option maxRecDepth 20000 in
theorem c_LP_walk : zCode m_LP_walk := ⟨by decide +kernel, Or.inl ⟨(z_w5 38 rfl), rfl⟩⟩
abbrev m_LP_init : zM := (⟨"LensPaths", "<init>", "()V"⟩, prog_1_method_7_code, 1, none, [])
set_option maxRecDepth 20000 in
theorem c_LP_init : zCode m_LP_init := ⟨by decide +kernel, Or.inl ⟨(z_w1 35 rfl), rfl⟩⟩
abbrev m_LP_need : zM := (⟨"LensPaths", "need", "(Z)V"⟩, prog_1_method_8_code, 1, none, [])
set_option maxRecDepth 20000 in
theorem c_LP_need : zCode m_LP_need := ⟨by decide +kernel, Or.inl ⟨(z_w2 108 rfl), rfl⟩⟩
abbrev m_LP_state : zM := (⟨"LensPaths", "state", "(Z)V"⟩, prog_1_method_9_code, 1, none, [])
set_option maxRecDepth 20000 in
theorem c_LP_state : zCode m_LP_state := ⟨by decide +kernel, Or.inl ⟨(z_w2 7 rfl), rfl⟩⟩
abbrev m_LP_room : zM := (⟨"LensPaths", "room", "(Z)V"⟩, prog_1_method_10_code, 1, none, [])
set_option maxRecDepth 20000 in
theorem c_LP_room : zCode m_LP_room := ⟨by decide +kernel, Or.inl ⟨(z_w4 18 rfl), rfl⟩⟩
abbrev m_LP_there : zM := (⟨"LensPaths", "there", "(Z)V"⟩, prog_1_method_11_code, 1, none, [])
set_option maxRecDepth 20000 in
theorem c_LP_there : zCode m_LP_there := ⟨by decide +kernel, Or.inl ⟨(z_w3 38 rfl), rfl⟩⟩
abbrev m_LP_isVersion : zM := (⟨"LensPaths", "isVersion", "(I)Z"⟩, prog_1_method_12_code, 2, (some .boolean), [])
set_option maxRecDepth 20000 in
theorem c_LP_isVersion : zCode m_LP_isVersion := ⟨by decide +kernel, Or.inl ⟨(z_w3 35 rfl), rfl⟩⟩
abbrev m_LP_field : zM := (⟨"LensPaths", "field", "(IIII)I"⟩, prog_1_method_13_code, 6, (some .int), [])
set_option maxRecDepth 20000 in
theorem c_LP_field : zCode m_LP_field := ⟨by decide +kernel, Or.inl ⟨(z_w2 4 rfl), rfl⟩⟩
abbrev m_LP_begin : zM := (⟨"LensPaths", "begin", "(I)V"⟩, prog_1_method_14_code, 2, none, [])
set_option maxRecDepth 20000 in
theorem c_LP_begin : zCode m_LP_begin := ⟨by decide +kernel, Or.inl ⟨(z_w3 31 rfl), rfl⟩⟩
abbrev m_LP_primitive : zM := (⟨"LensPaths", "primitive", "(IIIII)I"⟩, prog_1_method_15_code, 7, (some .int), [])
set_option maxRecDepth 20000 in
theorem c_LP_primitive : zCode m_LP_primitive := ⟨by decide +kernel, Or.inl ⟨(z_w3 107 rfl), rfl⟩⟩
abbrev m_LP_end : zM := (⟨"LensPaths", "end", "(I)I"⟩, prog_1_method_16_code, 3, (some .int), [])
set_option maxRecDepth 20000 in
theorem c_LP_end : zCode m_LP_end := ⟨by decide +kernel, Or.inl ⟨(z_w4 7 rfl), rfl⟩⟩
abbrev m_LP_leave : zM := (⟨"LensPaths", "leave", "()Z"⟩, prog_1_method_17_code, 2, (some .boolean), [])
set_option maxRecDepth 20000 in
theorem c_LP_leave : zCode m_LP_leave := ⟨by decide +kernel, Or.inl ⟨(z_w1 235 rfl), rfl⟩⟩
abbrev m_LP_about : zM := (⟨"LensPaths", "about", "(III)I"⟩, prog_1_method_18_code, 6, (some .int), [])
set_option maxRecDepth 20000 in
theorem c_LP_about : zCode m_LP_about := ⟨by decide +kernel, Or.inl ⟨(z_w4 41 rfl), rfl⟩⟩
abbrev m_LP_count : zM := (⟨"LensPaths", "count", "(I)I"⟩, prog_1_method_19_code, 7, (some .int), [])
set_option maxRecDepth 20000 in
theorem c_LP_count : zCode m_LP_count := ⟨by decide +kernel, Or.inl ⟨(z_w4 51 rfl), rfl⟩⟩
abbrev m_LP_card : zM := (⟨"LensPaths", "card", "(I)LLensPaths$Card;"⟩, prog_1_method_20_code, 2, (some (.object "LensPaths$Card")), [])
set_option maxRecDepth 20000 in
theorem c_LP_card : zCode m_LP_card := ⟨by decide +kernel, Or.inl ⟨(z_w4 99 rfl), rfl⟩⟩
abbrev m_LP_free : zM := (⟨"LensPaths", "free", "()I"⟩, prog_1_method_21_code, 2, (some .int), [])
set_option maxRecDepth 20000 in
theorem c_LP_free : zCode m_LP_free := ⟨by decide +kernel, Or.inl ⟨(z_w4 62 rfl), rfl⟩⟩
abbrev m_LP_fresh : zM := (⟨"LensPaths", "fresh", "(I)LLensPaths$Card;"⟩, prog_1_method_22_code, 2, (some (.object "LensPaths$Card")), [])
set_option maxRecDepth 20000 in
theorem c_LP_fresh : zCode m_LP_fresh := ⟨by decide +kernel, Or.inl ⟨(z_w4 66 rfl), rfl⟩⟩
abbrev m_LP_record : zM := (⟨"LensPaths", "record", "(I)I"⟩, prog_1_method_23_code, 3, (some .int), [])
set_option maxRecDepth 20000 in
theorem c_LP_record : zCode m_LP_record := ⟨by decide +kernel, Or.inl ⟨(z_w4 58 rfl), rfl⟩⟩
abbrev m_LP_copy : zM := (⟨"LensPaths", "copy", "(I)I"⟩, prog_1_method_24_code, 4, (some .int), [])
set_option maxRecDepth 20000 in
theorem c_LP_copy : zCode m_LP_copy := ⟨by decide +kernel, Or.inl ⟨(z_w4 95 rfl), rfl⟩⟩
abbrev m_LP_drop : zM := (⟨"LensPaths", "drop", "(I)V"⟩, prog_1_method_25_code, 2, none, [])
set_option maxRecDepth 20000 in
theorem c_LP_drop : zCode m_LP_drop := ⟨by decide +kernel, Or.inl ⟨(z_w4 150 rfl), rfl⟩⟩
abbrev m_LP_place : zM := (⟨"LensPaths", "place", "(IIZ)LLensPaths$Place;"⟩, prog_1_method_26_code, 5, (some (.object "LensPaths$Place")), [])
set_option maxRecDepth 20000 in
theorem c_LP_place : zCode m_LP_place := ⟨by decide +kernel, Or.inl ⟨(z_w4 161 rfl), rfl⟩⟩
abbrev m_LP_isIn : zM := (⟨"LensPaths", "isIn", "(III)Z"⟩, prog_1_method_27_code, 5, (some .boolean), [])
set_option maxRecDepth 20000 in
theorem c_LP_isIn : zCode m_LP_isIn := ⟨by decide +kernel, Or.inl ⟨(z_w4 169 rfl), rfl⟩⟩
abbrev m_LP_set : zM := (⟨"LensPaths", "set", "(III)V"⟩, prog_1_method_28_code, 5, none, [])
set_option maxRecDepth 20000 in
theorem c_LP_set : zCode m_LP_set := ⟨by decide +kernel, Or.inl ⟨(z_w4 157 rfl), rfl⟩⟩
abbrev m_LP_put : zM := (⟨"LensPaths", "put", "(IIII)I"⟩, prog_1_method_29_code, 6, (some .int), [])
set_option maxRecDepth 20000 in
theorem c_LP_put : zCode m_LP_put := ⟨by decide +kernel, Or.inl ⟨(z_w4 176 rfl), rfl⟩⟩
abbrev m_LP_cut : zM := (⟨"LensPaths", "cut", "(III)V"⟩, prog_1_method_30_code, 5, none, [])
set_option maxRecDepth 20000 in
theorem c_LP_cut : zCode m_LP_cut := ⟨by decide +kernel, Or.inl ⟨(z_w4 183 rfl), rfl⟩⟩
abbrev m_LP_get : zM := (⟨"LensPaths", "get", "(II)I"⟩, prog_1_method_31_code, 3, (some .int), [])
set_option maxRecDepth 20000 in
theorem c_LP_get : zCode m_LP_get := ⟨by decide +kernel, Or.inl ⟨(z_w4 190 rfl), rfl⟩⟩
abbrev m_LP_size : zM := (⟨"LensPaths", "size", "(II)I"⟩, prog_1_method_32_code, 3, (some .int), [])
set_option maxRecDepth 20000 in
theorem c_LP_size : zCode m_LP_size := ⟨by decide +kernel, Or.inl ⟨(z_w4 197 rfl), rfl⟩⟩
abbrev m_LP_item : zM := (⟨"LensPaths", "item", "(III)I"⟩, prog_1_method_33_code, 5, (some .int), [])
set_option maxRecDepth 20000 in
theorem c_LP_item : zCode m_LP_item := ⟨by decide +kernel, Or.inl ⟨(z_w4 204 rfl), rfl⟩⟩
abbrev m_LP_version : zM := (⟨"LensPaths", "version", "(I)I"⟩, prog_1_method_34_code, 2, (some .int), [])
set_option maxRecDepth 20000 in
theorem c_LP_version : zCode m_LP_version := ⟨by decide +kernel, Or.inl ⟨(z_w4 211 rfl), rfl⟩⟩
abbrev m_LP_kept : zM := (⟨"LensPaths", "kept", "(I)I"⟩, prog_1_method_35_code, 2, (some .int), [])
set_option maxRecDepth 20000 in
theorem c_LP_kept : zCode m_LP_kept := ⟨by decide +kernel, Or.inl ⟨(z_w4 218 rfl), rfl⟩⟩
abbrev m_LP_same : zM := (⟨"LensPaths", "same", "(II)Z"⟩, prog_1_method_36_code, 5, (some .boolean), [])
set_option maxRecDepth 20000 in
theorem c_LP_same : zCode m_LP_same := ⟨by decide +kernel, Or.inl ⟨(z_w4 225 rfl), rfl⟩⟩
abbrev m_LP_translate : zM := (⟨"LensPaths", "translate", "(II)I"⟩, prog_1_method_37_code, 5, (some .int), [])
set_option maxRecDepth 20000 in
theorem c_LP_translate : zCode m_LP_translate := ⟨by decide +kernel, Or.inl ⟨(z_w5 14 rfl), rfl⟩⟩
abbrev m_LP_route : zM := (⟨"LensPaths", "route", "(III)I"⟩, prog_1_method_38_code, 5, (some .int), [])
set_option maxRecDepth 20000 in
theorem c_LP_route : zCode m_LP_route := ⟨by decide +kernel, Or.inl ⟨(z_w6 90 rfl), rfl⟩⟩
abbrev m_LP_isLike : zM := (⟨"LensPaths", "isLike", "()Z"⟩, prog_1_method_39_code, 3, (some .boolean), [])
set_option maxRecDepth 20000 in
theorem c_LP_isLike : zCode m_LP_isLike := ⟨by decide +kernel, Or.inl ⟨(z_w6 117 rfl), rfl⟩⟩
abbrev m_LP_clash : zM := (⟨"LensPaths", "clash", "(I)I"⟩, prog_1_method_40_code, 4, (some .int), [])
set_option maxRecDepth 20000 in
theorem c_LP_clash : zCode m_LP_clash := ⟨by decide +kernel, Or.inl ⟨(z_w6 97 rfl), rfl⟩⟩
abbrev m_MD_init : zM := (⟨"LensPathsModel", "<init>", "()V"⟩, prog_20_method_1_code, 1, none, [])
set_option maxRecDepth 20000 in
theorem c_MD_init : zCode m_MD_init := ⟨by decide +kernel, Or.inl ⟨(z_w6 126 rfl), rfl⟩⟩
abbrev m_MD_thrown : zM := (⟨"LensPathsModel", "thrown", "()I"⟩, prog_20_method_2_code, 1, (some .int), [])
set_option maxRecDepth 20000 in
theorem c_MD_thrown : zCode m_MD_thrown := ⟨by decide +kernel, Or.inl ⟨(z_w7 9 rfl), rfl⟩⟩
abbrev m_MD_depth : zM := (⟨"LensPathsModel", "depth", "(I)I"⟩, prog_20_method_3_code, 4, (some .int), [])
set_option maxRecDepth 20000 in
theorem c_MD_depth : zCode m_MD_depth := ⟨by decide +kernel, Or.inl ⟨(z_w7 39 rfl), rfl⟩⟩
abbrev m_MD_cutTo : zM := (⟨"LensPathsModel", "cutTo", "(II)I"⟩, prog_20_method_4_code, 2, (some .int), [])
set_option maxRecDepth 20000 in
theorem c_MD_cutTo : zCode m_MD_cutTo := ⟨by decide +kernel, Or.inl ⟨(z_w7 42 rfl), rfl⟩⟩
abbrev m_MD_lastName : zM := (⟨"LensPathsModel", "lastName", "(II)I"⟩, prog_20_method_5_code, 2, (some .int), [])
set_option maxRecDepth 20000 in
theorem c_MD_lastName : zCode m_MD_lastName := ⟨by decide +kernel, Or.inl ⟨(z_w7 91 rfl), rfl⟩⟩
abbrev m_MD_inside : zM := (⟨"LensPathsModel", "inside", "(III)I"⟩, prog_20_method_6_code, 3, (some .int), [])
set_option maxRecDepth 20000 in
theorem c_MD_inside : zCode m_MD_inside := ⟨by decide +kernel, Or.inl ⟨(z_w7 88 rfl), rfl⟩⟩
abbrev m_MD_isIn : zM := (⟨"LensPathsModel", "isIn", "(III)Z"⟩, prog_20_method_7_code, 3, (some .boolean), [])
set_option maxRecDepth 20000 in
theorem c_MD_isIn : zCode m_MD_isIn := ⟨by decide +kernel, Or.inl ⟨(z_w7 98 rfl), rfl⟩⟩
abbrev m_MD_before : zM := (⟨"LensPathsModel", "before", "(II)Z"⟩, prog_20_method_8_code, 4, (some .boolean), [])
set_option maxRecDepth 20000 in
theorem c_MD_before : zCode m_MD_before := ⟨by decide +kernel, Or.inl ⟨(z_w7 57 rfl), rfl⟩⟩
abbrev m_MD_find : zM := (⟨"LensPathsModel", "find", "(I)I"⟩, prog_20_method_9_code, 3, (some .int), [])
set_option maxRecDepth 20000 in
theorem c_MD_find : zCode m_MD_find := ⟨by decide +kernel, Or.inl ⟨(z_w7 50 rfl), rfl⟩⟩
abbrev m_MD_isRecord : zM := (⟨"LensPathsModel", "isRecord", "(I)Z"⟩, prog_20_method_10_code, 3, (some .boolean), [])
set_option maxRecDepth 20000 in
theorem c_MD_isRecord : zCode m_MD_isRecord := ⟨by decide +kernel, Or.inl ⟨(z_w7 46 rfl), rfl⟩⟩
abbrev m_MD_nearest : zM := (⟨"LensPathsModel", "nearest", "(II)I"⟩, prog_20_method_11_code, 2, (some .int), [])
set_option maxRecDepth 20000 in
theorem c_MD_nearest : zCode m_MD_nearest := ⟨by decide +kernel, Or.inl ⟨(z_w7 24 rfl), rfl⟩⟩
abbrev m_MD_come : zM := (⟨"LensPathsModel", "come", "(IIII)I"⟩, prog_20_method_12_code, 7, (some .int), [])
set_option maxRecDepth 20000 in
theorem c_MD_come : zCode m_MD_come := ⟨by decide +kernel, Or.inl ⟨(z_w7 21 rfl), rfl⟩⟩
abbrev m_MD_go : zM := (⟨"LensPathsModel", "go", "(I)V"⟩, prog_20_method_13_code, 2, none, [])
set_option maxRecDepth 20000 in
theorem c_MD_go : zCode m_MD_go := ⟨by decide +kernel, Or.inl ⟨(z_w7 117 rfl), rfl⟩⟩
abbrev m_MD_copyRow : zM := (⟨"LensPathsModel", "copyRow", "([II[II)V"⟩, prog_20_method_14_code, 5, none, [])
set_option maxRecDepth 20000 in
theorem c_MD_copyRow : zCode m_MD_copyRow := ⟨by decide +kernel, Or.inl ⟨(z_w7 105 rfl), rfl⟩⟩
abbrev m_MD_sameRow : zM := (⟨"LensPathsModel", "sameRow", "([II[II)Z"⟩, prog_20_method_15_code, 6, (some .boolean), [])
set_option maxRecDepth 20000 in
theorem c_MD_sameRow : zCode m_MD_sameRow := ⟨by decide +kernel, Or.inl ⟨(z_w7 153 rfl), rfl⟩⟩
abbrev m_MD_move : zM := (⟨"LensPathsModel", "move", "(II)V"⟩, prog_20_method_16_code, 7, none, [])
set_option maxRecDepth 20000 in
theorem c_MD_move : zCode m_MD_move := ⟨by decide +kernel, Or.inl ⟨(z_w7 95 rfl), rfl⟩⟩
abbrev m_MD_take : zM := (⟨"LensPathsModel", "take", "(I)V"⟩, prog_20_method_17_code, 3, none, [])
set_option maxRecDepth 20000 in
theorem c_MD_take : zCode m_MD_take := ⟨by decide +kernel, Or.inl ⟨(z_w7 17 rfl), rfl⟩⟩
abbrev m_MD_known : zM := (⟨"LensPathsModel", "known", "(IIIIII)I"⟩, prog_20_method_18_code, 9, (some .int), [])
set_option maxRecDepth 20000 in
theorem c_MD_known : zCode m_MD_known := ⟨by decide +kernel, Or.inl ⟨(z_w7 32 rfl), rfl⟩⟩
abbrev m_MD_number : zM := (⟨"LensPathsModel", "number", "(I)I"⟩, prog_20_method_19_code, 2, (some .int), [])
set_option maxRecDepth 20000 in
theorem c_MD_number : zCode m_MD_number := ⟨by decide +kernel, Or.inl ⟨(z_w7 28 rfl), rfl⟩⟩
abbrev m_MD_isNumber : zM := (⟨"LensPathsModel", "isNumber", "(I)Z"⟩, prog_20_method_20_code, 2, (some .boolean), [])
set_option maxRecDepth 20000 in
theorem c_MD_isNumber : zCode m_MD_isNumber := ⟨by decide +kernel, Or.inl ⟨(z_w7 135 rfl), rfl⟩⟩
abbrev m_MD_argument : zM := (⟨"LensPathsModel", "argument", "(II)I"⟩, prog_20_method_21_code, 3, (some .int), [])
set_option maxRecDepth 20000 in
theorem c_MD_argument : zCode m_MD_argument := ⟨by decide +kernel, Or.inl ⟨(z_w7 139 rfl), rfl⟩⟩
abbrev m_MD_floor : zM := (⟨"LensPathsModel", "floor", "(JJ)J"⟩, prog_20_method_22_code, 6, (some .long), [])
set_option maxRecDepth 20000 in
theorem c_MD_floor : zCode m_MD_floor := ⟨by decide +kernel, Or.inl ⟨(z_w7 128 rfl), rfl⟩⟩
abbrev m_MD_isInt : zM := (⟨"LensPathsModel", "isInt", "(J)Z"⟩, prog_20_method_23_code, 2, (some .boolean), [])
set_option maxRecDepth 20000 in
theorem c_MD_isInt : zCode m_MD_isInt := ⟨by decide +kernel, Or.inl ⟨(z_w7 163 rfl), rfl⟩⟩
abbrev m_MD_within : zM := (⟨"LensPathsModel", "within", "(JII)J"⟩, prog_20_method_24_code, 4, (some .long), [])
set_option maxRecDepth 20000 in
theorem c_MD_within : zCode m_MD_within := ⟨by decide +kernel, Or.inl ⟨(z_w7 150 rfl), rfl⟩⟩
abbrev m_MD_at : zM := (⟨"LensPathsModel", "at", "(II)I"⟩, prog_20_method_25_code, 3, (some .int), [])
set_option maxRecDepth 20000 in
theorem c_MD_at : zCode m_MD_at := ⟨by decide +kernel, Or.inl ⟨(z_w7 81 rfl), rfl⟩⟩
abbrev m_MD_pathBehind : zM := (⟨"LensPathsModel", "pathBehind", "(III)I"⟩, prog_20_method_26_code, 5, (some .int), [])
set_option maxRecDepth 20000 in
theorem c_MD_pathBehind : zCode m_MD_pathBehind := ⟨by decide +kernel, Or.inl ⟨(z_w7 85 rfl), rfl⟩⟩
abbrev m_MD_besides : zM := (⟨"LensPathsModel", "besides", "(II)I"⟩, prog_20_method_27_code, 3, (some .int), [])
set_option maxRecDepth 20000 in
theorem c_MD_besides : zCode m_MD_besides := ⟨by decide +kernel, Or.inl ⟨(z_w7 131 rfl), rfl⟩⟩
abbrev m_MD_forth : zM := (⟨"LensPathsModel", "forth", "(II)V"⟩, prog_20_method_28_code, 10, none, [])
set_option maxRecDepth 20000 in
theorem c_MD_forth : zCode m_MD_forth := ⟨by decide +kernel, Or.inl ⟨(z_w7 77 rfl), rfl⟩⟩
abbrev m_MD_back : zM := (⟨"LensPathsModel", "back", "(II)V"⟩, prog_20_method_29_code, 10, none, [])
set_option maxRecDepth 20000 in
theorem c_MD_back : zCode m_MD_back := ⟨by decide +kernel, Or.inl ⟨(z_w8 37 rfl), rfl⟩⟩
abbrev m_MD_arrive : zM := (⟨"LensPathsModel", "arrive", "(II)V"⟩, prog_20_method_30_code, 4, none, [])
set_option maxRecDepth 20000 in
theorem c_MD_arrive : zCode m_MD_arrive := ⟨by decide +kernel, Or.inl ⟨(z_w7 102 rfl), rfl⟩⟩
abbrev m_MD_depart : zM := (⟨"LensPathsModel", "depart", "(II)V"⟩, prog_20_method_31_code, 5, none, [])
set_option maxRecDepth 20000 in
theorem c_MD_depart : zCode m_MD_depart := ⟨by decide +kernel, Or.inl ⟨(z_w7 109 rfl), rfl⟩⟩
abbrev m_MD_keepOne : zM := (⟨"LensPathsModel", "keepOne", "(II)V"⟩, prog_20_method_32_code, 3, none, [])
set_option maxRecDepth 20000 in
theorem c_MD_keepOne : zCode m_MD_keepOne := ⟨by decide +kernel, Or.inl ⟨(z_w7 113 rfl), rfl⟩⟩
abbrev m_MD_wrap : zM := (⟨"LensPathsModel", "wrap", "(II)V"⟩, prog_20_method_33_code, 4, none, [])
set_option maxRecDepth 20000 in
theorem c_MD_wrap : zCode m_MD_wrap := ⟨by decide +kernel, Or.inl ⟨(z_w7 121 rfl), rfl⟩⟩
abbrev m_MD_unwrap : zM := (⟨"LensPathsModel", "unwrap", "(II)V"⟩, prog_20_method_34_code, 3, none, [])
set_option maxRecDepth 20000 in
theorem c_MD_unwrap : zCode m_MD_unwrap := ⟨by decide +kernel, Or.inl ⟨(z_w8 41 rfl), rfl⟩⟩
abbrev m_MD_opened : zM := (⟨"LensPathsModel", "opened", "(I)I"⟩, prog_20_method_35_code, 3, (some .int), [])
set_option maxRecDepth 20000 in
theorem c_MD_opened : zCode m_MD_opened := ⟨by decide +kernel, Or.inl ⟨(z_w8 45 rfl), rfl⟩⟩
abbrev m_MD_split : zM := (⟨"LensPathsModel", "split", "(IIII)V"⟩, prog_20_method_36_code, 10, none, [])
set_option maxRecDepth 20000 in
theorem c_MD_split : zCode m_MD_split := ⟨by decide +kernel, Or.inl ⟨(z_w7 125 rfl), rfl⟩⟩
abbrev m_MD_join : zM := (⟨"LensPathsModel", "join", "(IIII)V"⟩, prog_20_method_37_code, 9, none, [])
set_option maxRecDepth 20000 in
theorem c_MD_join : zCode m_MD_join := ⟨by decide +kernel, Or.inl ⟨(z_w8 49 rfl), rfl⟩⟩
abbrev m_MD_plain : zM := (⟨"LensPathsModel", "plain", "([IIIIIZII[I)V"⟩, prog_20_method_38_code, 12, none, [])
set_option maxRecDepth 20000 in
theorem c_MD_plain : zCode m_MD_plain := ⟨by decide +kernel, Or.inl ⟨(z_w7 156 rfl), rfl⟩⟩
abbrev m_MD_change : zM := (⟨"LensPathsModel", "change", "(IIIIZII)V"⟩, prog_20_method_39_code, 10, none, [])
set_option maxRecDepth 20000 in
theorem c_MD_change : zCode m_MD_change := ⟨by decide +kernel, Or.inl ⟨(z_w7 143 rfl), rfl⟩⟩
abbrev m_MD_changed : zM := (⟨"LensPathsModel", "changed", "(IIIIZII)I"⟩, prog_20_method_40_code, 10, (some .int), [])
set_option maxRecDepth 20000 in
theorem c_MD_changed : zCode m_MD_changed := ⟨by decide +kernel, Or.inl ⟨(z_w7 147 rfl), rfl⟩⟩
abbrev m_MD_field : zM := (⟨"LensPathsModel", "field", "(IIII)I"⟩, prog_20_method_41_code, 5, (some .int), [])
set_option maxRecDepth 20000 in
theorem c_MD_field : zCode m_MD_field := ⟨by decide +kernel, Or.inl ⟨(z_w7 13 rfl), rfl⟩⟩
abbrev m_MD_canAdd : zM := (⟨"LensPathsModel", "canAdd", "(IIII)Z"⟩, prog_20_method_42_code, 6, (some .boolean), [])
set_option maxRecDepth 20000 in
theorem c_MD_canAdd : zCode m_MD_canAdd := ⟨by decide +kernel, Or.inl ⟨(z_w7 36 rfl), rfl⟩⟩
abbrev m_MD_settle : zM := (⟨"LensPathsModel", "settle", "(I)V"⟩, prog_20_method_43_code, 5, none, [])
set_option maxRecDepth 20000 in
theorem c_MD_settle : zCode m_MD_settle := ⟨by decide +kernel, Or.inl ⟨(z_w7 54 rfl), rfl⟩⟩
abbrev m_MD_isVersion : zM := (⟨"LensPathsModel", "isVersion", "(I)Z"⟩, prog_20_method_44_code, 2, (some .boolean), [])
set_option maxRecDepth 20000 in
theorem c_MD_isVersion : zCode m_MD_isVersion := ⟨by decide +kernel, Or.inl ⟨(z_w7 65 rfl), rfl⟩⟩
abbrev m_MD_begin : zM := (⟨"LensPathsModel", "begin", "(I)V"⟩, prog_20_method_45_code, 2, none, [])
set_option maxRecDepth 20000 in
theorem c_MD_begin : zCode m_MD_begin := ⟨by decide +kernel, Or.inl ⟨(z_w7 61 rfl), rfl⟩⟩
abbrev m_MD_takeUnderWay : zM := (⟨"LensPathsModel", "takeUnderWay", "()V"⟩, prog_20_method_46_code, 2, none, [])
set_option maxRecDepth 20000 in
theorem c_MD_takeUnderWay : zCode m_MD_takeUnderWay := ⟨by decide +kernel, Or.inl ⟨(z_w7 73 rfl), rfl⟩⟩
abbrev m_MD_canDo : zM := (⟨"LensPathsModel", "canDo", "(IIIII)Z"⟩, prog_20_method_47_code, 11, (some .boolean), [])
set_option maxRecDepth 20000 in
theorem c_MD_canDo : zCode m_MD_canDo := ⟨by decide +kernel, Or.inl ⟨(z_w7 160 rfl), rfl⟩⟩
abbrev m_MD_primitive : zM := (⟨"LensPathsModel", "primitive", "(IIIII)I"⟩, prog_20_method_48_code, 8, (some .int), [])
set_option maxRecDepth 20000 in
theorem c_MD_primitive : zCode m_MD_primitive := ⟨by decide +kernel, Or.inl ⟨(z_w7 69 rfl), rfl⟩⟩
abbrev m_MD_isSchema : zM := (⟨"LensPathsModel", "isSchema", "(I)Z"⟩, prog_20_method_49_code, 5, (some .boolean), [])
set_option maxRecDepth 20000 in
theorem c_MD_isSchema : zCode m_MD_isSchema := ⟨by decide +kernel, Or.inl ⟨(z_w7 173 rfl), rfl⟩⟩
abbrev m_MD_end : zM := (⟨"LensPathsModel", "end", "(I)I"⟩, prog_20_method_50_code, 3, (some .int), [])
set_option maxRecDepth 20000 in
theorem c_MD_end : zCode m_MD_end := ⟨by decide +kernel, Or.inl ⟨(z_w7 169 rfl), rfl⟩⟩
abbrev m_MD_leave : zM := (⟨"LensPathsModel", "leave", "()Z"⟩, prog_20_method_51_code, 2, (some .boolean), [])
set_option maxRecDepth 20000 in
theorem c_MD_leave : zCode m_MD_leave := ⟨by decide +kernel, Or.inl ⟨(z_w7 177 rfl), rfl⟩⟩
abbrev m_MD_about : zM := (⟨"LensPathsModel", "about", "(III)I"⟩, prog_20_method_52_code, 8, (some .int), [])
set_option maxRecDepth 20000 in
theorem c_MD_about : zCode m_MD_about := ⟨by decide +kernel, Or.inl ⟨(z_w7 181 rfl), rfl⟩⟩
abbrev m_MD_count : zM := (⟨"LensPathsModel", "count", "(I)I"⟩, prog_20_method_53_code, 4, (some .int), [])
set_option maxRecDepth 20000 in
theorem c_MD_count : zCode m_MD_count := ⟨by decide +kernel, Or.inl ⟨(z_w7 185 rfl), rfl⟩⟩
abbrev m_MD_isRecordHandle : zM := (⟨"LensPathsModel", "isRecordHandle", "(I)Z"⟩, prog_20_method_54_code, 2, (some .boolean), [])
set_option maxRecDepth 20000 in
theorem c_MD_isRecordHandle : zCode m_MD_isRecordHandle := ⟨by decide +kernel, Or.inl ⟨(z_w7 201 rfl), rfl⟩⟩
abbrev m_MD_free : zM := (⟨"LensPathsModel", "free", "()I"⟩, prog_20_method_55_code, 2, (some .int), [])
set_option maxRecDepth 20000 in
theorem c_MD_free : zCode m_MD_free := ⟨by decide +kernel, Or.inl ⟨(z_w7 193 rfl), rfl⟩⟩
abbrev m_MD_record : zM := (⟨"LensPathsModel", "record", "(I)I"⟩, prog_20_method_56_code, 4, (some .int), [])
set_option maxRecDepth 20000 in
theorem c_MD_record : zCode m_MD_record := ⟨by decide +kernel, Or.inl ⟨(z_w7 189 rfl), rfl⟩⟩
abbrev m_MD_copy : zM := (⟨"LensPathsModel", "copy", "(I)I"⟩, prog_20_method_57_code, 5, (some .int), [])
set_option maxRecDepth 20000 in
theorem c_MD_copy : zCode m_MD_copy := ⟨by decide +kernel, Or.inl ⟨(z_w7 197 rfl), rfl⟩⟩
abbrev m_MD_drop : zM := (⟨"LensPathsModel", "drop", "(I)V"⟩, prog_20_method_58_code, 2, none, [])
set_option maxRecDepth 20000 in
theorem c_MD_drop : zCode m_MD_drop := ⟨by decide +kernel, Or.inl ⟨(z_w7 205 rfl), rfl⟩⟩
abbrev m_MD_fieldOf : zM := (⟨"LensPathsModel", "fieldOf", "(III)I"⟩, prog_20_method_59_code, 6, (some .int), [])
set_option maxRecDepth 20000 in
theorem c_MD_fieldOf : zCode m_MD_fieldOf := ⟨by decide +kernel, Or.inl ⟨(z_w7 213 rfl), rfl⟩⟩
abbrev m_MD_fits : zM := (⟨"LensPathsModel", "fits", "(III)Z"⟩, prog_20_method_60_code, 5, (some .boolean), [])
set_option maxRecDepth 20000 in
theorem c_MD_fits : zCode m_MD_fits := ⟨by decide +kernel, Or.inl ⟨(z_w7 217 rfl), rfl⟩⟩
abbrev m_MD_rowOf : zM := (⟨"LensPathsModel", "rowOf", "(II)I"⟩, prog_20_method_61_code, 3, (some .int), [])
set_option maxRecDepth 20000 in
theorem c_MD_rowOf : zCode m_MD_rowOf := ⟨by decide +kernel, Or.inl ⟨(z_w7 221 rfl), rfl⟩⟩
abbrev m_MD_set : zM := (⟨"LensPathsModel", "set", "(III)V"⟩, prog_20_method_62_code, 5, none, [])
set_option maxRecDepth 20000 in
theorem c_MD_set : zCode m_MD_set := ⟨by decide +kernel, Or.inl ⟨(z_w7 209 rfl), rfl⟩⟩
abbrev m_MD_put : zM := (⟨"LensPathsModel", "put", "(IIII)I"⟩, prog_20_method_63_code, 7, (some .int), [])
set_option maxRecDepth 20000 in
theorem c_MD_put : zCode m_MD_put := ⟨by decide +kernel, Or.inl ⟨(z_w7 225 rfl), rfl⟩⟩
abbrev m_MD_cut : zM := (⟨"LensPathsModel", "cut", "(III)V"⟩, prog_20_method_64_code, 5, none, [])
set_option maxRecDepth 20000 in
theorem c_MD_cut : zCode m_MD_cut := ⟨by decide +kernel, Or.inl ⟨(z_w7 229 rfl), rfl⟩⟩
abbrev m_MD_get : zM := (⟨"LensPathsModel", "get", "(II)I"⟩, prog_20_method_65_code, 4, (some .int), [])
set_option maxRecDepth 20000 in
theorem c_MD_get : zCode m_MD_get := ⟨by decide +kernel, Or.inl ⟨(z_w7 233 rfl), rfl⟩⟩
abbrev m_MD_size : zM := (⟨"LensPathsModel", "size", "(II)I"⟩, prog_20_method_66_code, 4, (some .int), [])
set_option maxRecDepth 20000 in
theorem c_MD_size : zCode m_MD_size := ⟨by decide +kernel, Or.inl ⟨(z_w7 237 rfl), rfl⟩⟩
abbrev m_MD_item : zM := (⟨"LensPathsModel", "item", "(III)I"⟩, prog_20_method_67_code, 5, (some .int), [])
set_option maxRecDepth 20000 in
theorem c_MD_item : zCode m_MD_item := ⟨by decide +kernel, Or.inl ⟨(z_w8 1 rfl), rfl⟩⟩
abbrev m_MD_version : zM := (⟨"LensPathsModel", "version", "(I)I"⟩, prog_20_method_68_code, 2, (some .int), [])
set_option maxRecDepth 20000 in
theorem c_MD_version : zCode m_MD_version := ⟨by decide +kernel, Or.inl ⟨(z_w8 5 rfl), rfl⟩⟩
abbrev m_MD_kept : zM := (⟨"LensPathsModel", "kept", "(I)I"⟩, prog_20_method_69_code, 4, (some .int), [])
set_option maxRecDepth 20000 in
theorem c_MD_kept : zCode m_MD_kept := ⟨by decide +kernel, Or.inl ⟨(z_w8 9 rfl), rfl⟩⟩
abbrev m_MD_same : zM := (⟨"LensPathsModel", "same", "(II)Z"⟩, prog_20_method_70_code, 5, (some .boolean), [])
set_option maxRecDepth 20000 in
theorem c_MD_same : zCode m_MD_same := ⟨by decide +kernel, Or.inl ⟨(z_w8 13 rfl), rfl⟩⟩
abbrev m_MD_between : zM := (⟨"LensPathsModel", "between", "(III)I"⟩, prog_20_method_71_code, 6, (some .int), [])
set_option maxRecDepth 20000 in
theorem c_MD_between : zCode m_MD_between := ⟨by decide +kernel, Or.inl ⟨(z_w8 25 rfl), rfl⟩⟩
abbrev m_MD_findRoute : zM := (⟨"LensPathsModel", "findRoute", "(III)Z"⟩, prog_20_method_72_code, 9, (some .boolean), [])
set_option maxRecDepth 20000 in
theorem c_MD_findRoute : zCode m_MD_findRoute := ⟨by decide +kernel, Or.inl ⟨(z_w8 21 rfl), rfl⟩⟩
abbrev m_MD_turnRoute : zM := (⟨"LensPathsModel", "turnRoute", "()V"⟩, prog_20_method_73_code, 3, none, [])
set_option maxRecDepth 20000 in
theorem c_MD_turnRoute : zCode m_MD_turnRoute := ⟨by decide +kernel, Or.inl ⟨(z_w8 29 rfl), rfl⟩⟩
abbrev m_MD_goRoute : zM := (⟨"LensPathsModel", "goRoute", "()V"⟩, prog_20_method_74_code, 5, none, [])
set_option maxRecDepth 20000 in
theorem c_MD_goRoute : zCode m_MD_goRoute := ⟨by decide +kernel, Or.inl ⟨(z_w8 33 rfl), rfl⟩⟩
abbrev m_MD_translate : zM := (⟨"LensPathsModel", "translate", "(II)I"⟩, prog_20_method_75_code, 5, (some .int), [])
set_option maxRecDepth 20000 in
theorem c_MD_translate : zCode m_MD_translate := ⟨by decide +kernel, Or.inl ⟨(z_w8 17 rfl), rfl⟩⟩
abbrev m_MD_route : zM := (⟨"LensPathsModel", "route", "(III)I"⟩, prog_20_method_76_code, 4, (some .int), [])
set_option maxRecDepth 20000 in
theorem c_MD_route : zCode m_MD_route := ⟨by decide +kernel, Or.inl ⟨(z_w8 53 rfl), rfl⟩⟩
abbrev m_MD_takeTerms : zM := (⟨"LensPathsModel", "takeTerms", "(I)V"⟩, prog_20_method_77_code, 4, none, [])
set_option maxRecDepth 20000 in
theorem c_MD_takeTerms : zCode m_MD_takeTerms := ⟨by decide +kernel, Or.inl ⟨(z_w8 61 rfl), rfl⟩⟩
abbrev m_MD_clash : zM := (⟨"LensPathsModel", "clash", "(I)I"⟩, prog_20_method_78_code, 6, (some .int), [])
set_option maxRecDepth 20000 in
theorem c_MD_clash : zCode m_MD_clash := ⟨by decide +kernel, Or.inl ⟨(z_w8 57 rfl), rfl⟩⟩
abbrev m_Alg_key : zM := (⟨"LensPaths$Algebra", "key", "(II)I"⟩, prog_2_method_1_code, 2, (some .int), [])
set_option maxRecDepth 20000 in
theorem c_Alg_key : zCode m_Alg_key := ⟨by decide +kernel, Or.inl ⟨(z_w5 45 rfl), rfl⟩⟩
abbrev m_Alg_turned : zM := (⟨"LensPaths$Algebra", "turned", "(LLensPaths$Named;LLensPaths$Primitive;IZ)V"⟩, prog_2_method_9_code, 5, none, [])
set_option maxRecDepth 20000 in
theorem c_Alg_turned : zCode m_Alg_turned := ⟨by decide +kernel, Or.inl ⟨(z_w6 59 rfl), rfl⟩⟩
abbrev m_Alg_wrapped : zM := (⟨"LensPaths$Algebra", "wrapped", "(LLensPaths$Named;LLensPaths$Primitive;IZ)V"⟩, prog_2_method_10_code, 5, none, [])
set_option maxRecDepth 20000 in
theorem c_Alg_wrapped : zCode m_Alg_wrapped := ⟨by decide +kernel, Or.inl ⟨(z_w5 159 rfl), rfl⟩⟩
abbrev m_Card_init : zM := (⟨"LensPaths$Card", "<init>", "()V"⟩, prog_3_method_1_code, 1, none, [])
set_option maxRecDepth 20000 in
theorem c_Card_init : zCode m_Card_init := ⟨by decide +kernel, Or.inl ⟨(z_w1 76 rfl), rfl⟩⟩
abbrev m_Card_begin : zM := (⟨"LensPaths$Card", "begin", "(ILLensPaths$Schema;)V"⟩, prog_3_method_2_code, 5, none, [])
set_option maxRecDepth 20000 in
theorem c_Card_begin : zCode m_Card_begin := ⟨by decide +kernel, Or.inl ⟨(z_w4 70 rfl), rfl⟩⟩
abbrev m_Card_copy : zM := (⟨"LensPaths$Card", "copy", "(LLensPaths$Card;)V"⟩, prog_3_method_3_code, 3, none, [])
set_option maxRecDepth 20000 in
theorem c_Card_copy : zCode m_Card_copy := ⟨by decide +kernel, Or.inl ⟨(z_w4 103 rfl), rfl⟩⟩
abbrev m_Card_keep : zM := (⟨"LensPaths$Card", "keep", "(IZLLensPaths$Place;LLensPaths$Place;)V"⟩, prog_3_method_4_code, 6, none, [])
set_option maxRecDepth 20000 in
theorem c_Card_keep : zCode m_Card_keep := ⟨by decide +kernel, Or.inl ⟨(z_w4 120 rfl), rfl⟩⟩
abbrev m_Card_take : zM := (⟨"LensPaths$Card", "take", "(I)LLensPaths$Kept;"⟩, prog_3_method_5_code, 4, (some (.object "LensPaths$Kept")), [])
set_option maxRecDepth 20000 in
theorem c_Card_take : zCode m_Card_take := ⟨by decide +kernel, Or.inl ⟨(z_w5 89 rfl), rfl⟩⟩
abbrev m_Card_come1 : zM := (⟨"LensPaths$Card", "come", "(LLensPaths$Place;LLensPaths$Primitive;I)V"⟩, prog_3_method_6_code, 5, none, [])
set_option maxRecDepth 20000 in
theorem c_Card_come1 : zCode m_Card_come1 := ⟨by decide +kernel, Or.inl ⟨(z_w5 85 rfl), rfl⟩⟩
abbrev m_Card_come2 : zM := (⟨"LensPaths$Card", "come", "(LLensPaths$Named;LLensPaths$Primitive;I)V"⟩, prog_3_method_21_code, 4, none, [])
set_option maxRecDepth 20000 in
theorem c_Card_come2 : zCode m_Card_come2 := ⟨by decide +kernel, Or.inl ⟨(z_w5 81 rfl), rfl⟩⟩
abbrev m_Card_go1 : zM := (⟨"LensPaths$Card", "go", "(LLensPaths$Place;LLensPaths$Primitive;I)V"⟩, prog_3_method_7_code, 4, none, [])
set_option maxRecDepth 20000 in
theorem c_Card_go1 : zCode m_Card_go1 := ⟨by decide +kernel, Or.inl ⟨(z_w5 136 rfl), rfl⟩⟩
abbrev m_Card_go2 : zM := (⟨"LensPaths$Card", "go", "(LLensPaths$Named;LLensPaths$Primitive;I)V"⟩, prog_3_method_20_code, 4, none, [])
set_option maxRecDepth 20000 in
theorem c_Card_go2 : zCode m_Card_go2 := ⟨by decide +kernel, Or.inl ⟨(z_w5 132 rfl), rfl⟩⟩
abbrev m_Card_wrap1 : zM := (⟨"LensPaths$Card", "wrap", "(LLensPaths$Place;LLensPaths$Primitive;I)V"⟩, prog_3_method_8_code, 6, none, [])
set_option maxRecDepth 20000 in
theorem c_Card_wrap1 : zCode m_Card_wrap1 := ⟨by decide +kernel, Or.inl ⟨(z_w5 194 rfl), rfl⟩⟩
abbrev m_Card_wrap2 : zM := (⟨"LensPaths$Card", "wrap", "(LLensPaths$Named;LLensPaths$Primitive;I)V"⟩, prog_3_method_19_code, 4, none, [])
set_option maxRecDepth 20000 in
theorem c_Card_wrap2 : zCode m_Card_wrap2 := ⟨by decide +kernel, Or.inl ⟨(z_w5 190 rfl), rfl⟩⟩
abbrev m_Card_unwrap1 : zM := (⟨"LensPaths$Card", "unwrap", "(LLensPaths$Place;LLensPaths$Primitive;I)V"⟩, prog_3_method_9_code, 4, none, [])
set_option maxRecDepth 20000 in
theorem c_Card_unwrap1 : zCode m_Card_unwrap1 := ⟨by decide +kernel, Or.inl ⟨(z_w5 172 rfl), rfl⟩⟩
abbrev m_Card_unwrap2 : zM := (⟨"LensPaths$Card", "unwrap", "(LLensPaths$Named;LLensPaths$Primitive;I)V"⟩, prog_3_method_18_code, 4, none, [])
set_option maxRecDepth 20000 in
theorem c_Card_unwrap2 : zCode m_Card_unwrap2 := ⟨by decide +kernel, Or.inl ⟨(z_w5 168 rfl), rfl⟩⟩
abbrev m_Card_split1 : zM := (⟨"LensPaths$Card", "split", "(LLensPaths$Place;LLensPaths$Place;LLensPaths$Primitive;)V"⟩, prog_3_method_10_code, 5, none, [])
set_option maxRecDepth 20000 in
theorem c_Card_split1 : zCode m_Card_split1 := ⟨by decide +kernel, Or.inl ⟨(z_w6 7 rfl), rfl⟩⟩
abbrev m_Card_split2 : zM := (⟨"LensPaths$Card", "split", "(LLensPaths$Named;LLensPaths$Named;LLensPaths$Primitive;)V"⟩, prog_3_method_17_code, 4, none, [])
set_option maxRecDepth 20000 in
theorem c_Card_split2 : zCode m_Card_split2 := ⟨by decide +kernel, Or.inl ⟨(z_w6 3 rfl), rfl⟩⟩
abbrev m_Card_join1 : zM := (⟨"LensPaths$Card", "join", "(LLensPaths$Place;LLensPaths$Place;LLensPaths$Primitive;)V"⟩, prog_3_method_11_code, 6, none, [])
set_option maxRecDepth 20000 in
theorem c_Card_join1 : zCode m_Card_join1 := ⟨by decide +kernel, Or.inl ⟨(z_w5 222 rfl), rfl⟩⟩
abbrev m_Card_join2 : zM := (⟨"LensPaths$Card", "join", "(LLensPaths$Named;LLensPaths$Named;LLensPaths$Primitive;)V"⟩, prog_3_method_16_code, 4, none, [])
set_option maxRecDepth 20000 in
theorem c_Card_join2 : zCode m_Card_join2 := ⟨by decide +kernel, Or.inl ⟨(z_w5 218 rfl), rfl⟩⟩
abbrev m_Card_turn1 : zM := (⟨"LensPaths$Card", "turn", "(LLensPaths$Place;LLensPaths$Primitive;Z)V"⟩, prog_3_method_12_code, 4, none, [])
set_option maxRecDepth 20000 in
theorem c_Card_turn1 : zCode m_Card_turn1 := ⟨by decide +kernel, Or.inl ⟨(z_w6 40 rfl), rfl⟩⟩
abbrev m_Card_turn2 : zM := (⟨"LensPaths$Card", "turn", "(LLensPaths$Named;LLensPaths$Primitive;Z)V"⟩, prog_3_method_15_code, 4, none, [])
set_option maxRecDepth 20000 in
theorem c_Card_turn2 : zCode m_Card_turn2 := ⟨by decide +kernel, Or.inl ⟨(z_w6 68 rfl), rfl⟩⟩
abbrev m_Card_turned1 : zM := (⟨"LensPaths$Card", "turned", "(LLensPaths$Place;LLensPaths$Primitive;IZ)V"⟩, prog_3_method_13_code, 6, none, [])
set_option maxRecDepth 20000 in
theorem c_Card_turned1 : zCode m_Card_turned1 := ⟨by decide +kernel, Or.inl ⟨(z_w6 35 rfl), rfl⟩⟩
abbrev m_Card_turned2 : zM := (⟨"LensPaths$Card", "turned", "(LLensPaths$Named;LLensPaths$Primitive;IZ)V"⟩, prog_3_method_14_code, 5, none, [])
set_option maxRecDepth 20000 in
theorem c_Card_turned2 : zCode m_Card_turned2 := ⟨by decide +kernel, Or.inl ⟨(z_w6 31 rfl), rfl⟩⟩
abbrev m_Fld_init : zM := (⟨"LensPaths$Field", "<init>", "()V"⟩, prog_4_method_1_code, 1, none, [])
set_option maxRecDepth 20000 in
theorem c_Fld_init : zCode m_Fld_init := ⟨by decide +kernel, Or.inl ⟨(z_w2 159 rfl), rfl⟩⟩
abbrev m_Fld_clear : zM := (⟨"LensPaths$Field", "clear", "()V"⟩, prog_4_method_2_code, 1, none, [])
set_option maxRecDepth 20000 in
theorem c_Fld_clear : zCode m_Fld_clear := ⟨by decide +kernel, Or.inl ⟨(z_w2 223 rfl), rfl⟩⟩
abbrev m_Fld_isLike : zM := (⟨"LensPaths$Field", "isLike", "(LLensPaths$Field;)Z"⟩, prog_4_method_3_code, 2, (some .boolean), [])
set_option maxRecDepth 20000 in
theorem c_Fld_isLike : zCode m_Fld_isLike := ⟨by decide +kernel, Or.inl ⟨(z_w4 15 rfl), rfl⟩⟩
abbrev m_Kept_init : zM := (⟨"LensPaths$Kept", "<init>", "()V"⟩, prog_5_method_1_code, 1, none, [])
set_option maxRecDepth 20000 in
theorem c_Kept_init : zCode m_Kept_init := ⟨by decide +kernel, Or.inl ⟨(z_w4 124 rfl), rfl⟩⟩
abbrev m_Knot_init : zM := (⟨"LensPaths$Knot", "<init>", "(LLensPaths$Named;)V"⟩, prog_6_method_1_code, 2, none, [])
set_option maxRecDepth 20000 in
theorem c_Knot_init : zCode m_Knot_init := ⟨by decide +kernel, Or.inl ⟨(z_w2 208 rfl), rfl⟩⟩
abbrev m_Named_init : zM := (⟨"LensPaths$Named", "<init>", "()V"⟩, prog_7_method_1_code, 1, none, [])
set_option maxRecDepth 20000 in
theorem c_Named_init : zCode m_Named_init := ⟨by decide +kernel, Or.inl ⟨(z_w1 98 rfl), rfl⟩⟩
abbrev m_Paths_isRight : zM := (⟨"LensPaths$Paths", "isRight", "(I)Z"⟩, prog_8_method_2_code, 3, (some .boolean), [])
set_option maxRecDepth 20000 in
theorem c_Paths_isRight : zCode m_Paths_isRight := ⟨by decide +kernel, Or.inl ⟨(z_w2 85 rfl), rfl⟩⟩
abbrev m_Paths_depth : zM := (⟨"LensPaths$Paths", "depth", "(I)I"⟩, prog_8_method_3_code, 2, (some .int), [])
set_option maxRecDepth 20000 in
theorem c_Paths_depth : zCode m_Paths_depth := ⟨by decide +kernel, Or.inl ⟨(z_w2 97 rfl), rfl⟩⟩
abbrev m_Paths_top : zM := (⟨"LensPaths$Paths", "top", "(II)I"⟩, prog_8_method_4_code, 2, (some .int), [])
set_option maxRecDepth 20000 in
theorem c_Paths_top : zCode m_Paths_top := ⟨by decide +kernel, Or.inl ⟨(z_w2 100 rfl), rfl⟩⟩
abbrev m_Paths_parent : zM := (⟨"LensPaths$Paths", "parent", "(I)I"⟩, prog_8_method_5_code, 1, (some .int), [])
set_option maxRecDepth 20000 in
theorem c_Paths_parent : zCode m_Paths_parent := ⟨by decide +kernel, Or.inl ⟨(z_w2 94 rfl), rfl⟩⟩
abbrev m_Paths_name : zM := (⟨"LensPaths$Paths", "name", "(I)I"⟩, prog_8_method_6_code, 1, (some .int), [])
set_option maxRecDepth 20000 in
theorem c_Paths_name : zCode m_Paths_name := ⟨by decide +kernel, Or.inl ⟨(z_w5 53 rfl), rfl⟩⟩
abbrev m_Paths_child : zM := (⟨"LensPaths$Paths", "child", "(II)I"⟩, prog_8_method_7_code, 2, (some .int), [])
set_option maxRecDepth 20000 in
theorem c_Paths_child : zCode m_Paths_child := ⟨by decide +kernel, Or.inl ⟨(z_w3 222 rfl), rfl⟩⟩
abbrev m_Paths_isIn : zM := (⟨"LensPaths$Paths", "isIn", "(II)Z"⟩, prog_8_method_8_code, 2, (some .boolean), [])
set_option maxRecDepth 20000 in
theorem c_Paths_isIn : zCode m_Paths_isIn := ⟨by decide +kernel, Or.inl ⟨(z_w3 191 rfl), rfl⟩⟩
abbrev m_Paths_compare : zM := (⟨"LensPaths$Paths", "compare", "(II)I"⟩, prog_8_method_9_code, 4, (some .int), [])
set_option maxRecDepth 20000 in
theorem c_Paths_compare : zCode m_Paths_compare := ⟨by decide +kernel, Or.inl ⟨(z_w3 0 rfl), rfl⟩⟩
abbrev m_Paths_renamed : zM := (⟨"LensPaths$Paths", "renamed", "(III)I"⟩, prog_8_method_10_code, 4, (some .int), [])
set_option maxRecDepth 20000 in
theorem c_Paths_renamed : zCode m_Paths_renamed := ⟨by decide +kernel, Or.inl ⟨(z_w3 179 rfl), rfl⟩⟩
abbrev m_Paths_lifted : zM := (⟨"LensPaths$Paths", "lifted", "(II)I"⟩, prog_8_method_11_code, 3, (some .int), [])
set_option maxRecDepth 20000 in
theorem c_Paths_lifted : zCode m_Paths_lifted := ⟨by decide +kernel, Or.inl ⟨(z_w3 182 rfl), rfl⟩⟩
abbrev m_Paths_sunk : zM := (⟨"LensPaths$Paths", "sunk", "(III)I"⟩, prog_8_method_12_code, 4, (some .int), [])
set_option maxRecDepth 20000 in
theorem c_Paths_sunk : zCode m_Paths_sunk := ⟨by decide +kernel, Or.inl ⟨(z_w5 65 rfl), rfl⟩⟩
abbrev m_Place_init : zM := (⟨"LensPaths$Place", "<init>", "()V"⟩, prog_9_method_1_code, 1, none, [])
set_option maxRecDepth 20000 in
theorem c_Place_init : zCode m_Place_init := ⟨by decide +kernel, Or.inl ⟨(z_w1 95 rfl), rfl⟩⟩
abbrev m_Place_clear : zM := (⟨"LensPaths$Place", "clear", "()V"⟩, prog_9_method_2_code, 1, none, [])
set_option maxRecDepth 20000 in
theorem c_Place_clear : zCode m_Place_clear := ⟨by decide +kernel, Or.inl ⟨(z_w2 226 rfl), rfl⟩⟩
abbrev m_Place_set : zM := (⟨"LensPaths$Place", "set", "(ZI)V"⟩, prog_9_method_3_code, 3, none, [])
set_option maxRecDepth 20000 in
theorem c_Place_set : zCode m_Place_set := ⟨by decide +kernel, Or.inl ⟨(z_w2 230 rfl), rfl⟩⟩
abbrev m_Place_copy : zM := (⟨"LensPaths$Place", "copy", "(LLensPaths$Place;)V"⟩, prog_9_method_4_code, 3, none, [])
set_option maxRecDepth 20000 in
theorem c_Place_copy : zCode m_Place_copy := ⟨by decide +kernel, Or.inl ⟨(z_w4 116 rfl), rfl⟩⟩
abbrev m_Place_isLike : zM := (⟨"LensPaths$Place", "isLike", "(LLensPaths$Place;)Z"⟩, prog_9_method_5_code, 4, (some .boolean), [])
set_option maxRecDepth 20000 in
theorem c_Place_isLike : zCode m_Place_isLike := ⟨by decide +kernel, Or.inl ⟨(z_w4 233 rfl), rfl⟩⟩
abbrev m_Place_isDefault : zM := (⟨"LensPaths$Place", "isDefault", "(LLensPaths$Primitive;)Z"⟩, prog_9_method_6_code, 2, (some .boolean), [])
set_option maxRecDepth 20000 in
theorem c_Place_isDefault : zCode m_Place_isDefault := ⟨by decide +kernel, Or.inl ⟨(z_w5 140 rfl), rfl⟩⟩
abbrev m_Place_sort : zM := (⟨"LensPaths$Place", "sort", "()V"⟩, prog_9_method_7_code, 4, none, [])
set_option maxRecDepth 20000 in
theorem c_Place_sort : zCode m_Place_sort := ⟨by decide +kernel, Or.inl ⟨(z_w6 55 rfl), rfl⟩⟩
abbrev m_Places_init : zM := (⟨"LensPaths$Places", "<init>", "()V"⟩, prog_10_method_1_code, 1, none, [])
set_option maxRecDepth 20000 in
theorem c_Places_init : zCode m_Places_init := ⟨by decide +kernel, Or.inl ⟨(z_w1 82 rfl), rfl⟩⟩
abbrev m_Places_make1 : zM := (⟨"LensPaths$Places", "make", "()LLensPaths$Place;"⟩, prog_10_method_2_code, 1, (some (.object "LensPaths$Place")), [])
set_option maxRecDepth 20000 in
theorem c_Places_make1 : zCode m_Places_make1 := ⟨by decide +kernel, Or.inl ⟨(z_w2 146 rfl), rfl⟩⟩
abbrev m_Places_make2 : zM := (⟨"LensPaths$Places", "make", "()LLensPaths$Named;"⟩, prog_10_method_5_code, 1, (some (.object "LensPaths$Named")), [])
set_option maxRecDepth 20000 in
theorem c_Places_make2 : zCode m_Places_make2 := ⟨by decide +kernel, Or.inl ⟨(z_w2 142 rfl), rfl⟩⟩
abbrev m_Places_copy : zM := (⟨"LensPaths$Places", "copy", "(LLensPaths$Places;)V"⟩, prog_10_method_3_code, 4, none, [])
set_option maxRecDepth 20000 in
theorem c_Places_copy : zCode m_Places_copy := ⟨by decide +kernel, Or.inl ⟨(z_w4 107 rfl), rfl⟩⟩
abbrev m_Places_isLike : zM := (⟨"LensPaths$Places", "isLike", "(LLensPaths$Places;)Z"⟩, prog_10_method_4_code, 4, (some .boolean), [])
set_option maxRecDepth 20000 in
theorem c_Places_isLike : zCode m_Places_isLike := ⟨by decide +kernel, Or.inl ⟨(z_w4 229 rfl), rfl⟩⟩
abbrev m_Prim_init : zM := (⟨"LensPaths$Primitive", "<init>", "()V"⟩, prog_11_method_1_code, 1, none, [])
set_option maxRecDepth 20000 in
theorem c_Prim_init : zCode m_Prim_init := ⟨by decide +kernel, Or.inl ⟨(z_w3 112 rfl), rfl⟩⟩
abbrev m_Prim_to : zM := (⟨"LensPaths$Primitive", "to", "()I"⟩, prog_11_method_2_code, 1, (some .int), [])
set_option maxRecDepth 20000 in
theorem c_Prim_to : zCode m_Prim_to := ⟨by decide +kernel, Or.inl ⟨(z_w3 176 rfl), rfl⟩⟩
abbrev m_Prim_beside : zM := (⟨"LensPaths$Primitive", "beside", "()I"⟩, prog_11_method_3_code, 1, (some .int), [])
set_option maxRecDepth 20000 in
theorem c_Prim_beside : zCode m_Prim_beside := ⟨by decide +kernel, Or.inl ⟨(z_w3 218 rfl), rfl⟩⟩
abbrev m_Prim_zero : zM := (⟨"LensPaths$Primitive", "zero", "()I"⟩, prog_11_method_4_code, 1, (some .int), [])
set_option maxRecDepth 20000 in
theorem c_Prim_zero : zCode m_Prim_zero := ⟨by decide +kernel, Or.inl ⟨(z_w5 93 rfl), rfl⟩⟩
abbrev m_Prim_quotient : zM := (⟨"LensPaths$Primitive", "quotient", "(III)J"⟩, prog_11_method_5_code, 3, (some .long), [])
set_option maxRecDepth 20000 in
theorem c_Prim_quotient : zCode m_Prim_quotient := ⟨by decide +kernel, Or.inl ⟨(z_w3 232 rfl), rfl⟩⟩
abbrev m_Prim_scaled : zM := (⟨"LensPaths$Primitive", "scaled", "(I)I"⟩, prog_11_method_6_code, 2, (some .int), [])
set_option maxRecDepth 20000 in
theorem c_Prim_scaled : zCode m_Prim_scaled := ⟨by decide +kernel, Or.inl ⟨(z_w3 239 rfl), rfl⟩⟩
abbrev m_Prim_unscaled : zM := (⟨"LensPaths$Primitive", "unscaled", "(I)I"⟩, prog_11_method_7_code, 2, (some .int), [])
set_option maxRecDepth 20000 in
theorem c_Prim_unscaled : zCode m_Prim_unscaled := ⟨by decide +kernel, Or.inl ⟨(z_w6 44 rfl), rfl⟩⟩
abbrev m_Prim_isInt : zM := (⟨"LensPaths$Primitive", "isInt", "(I)Z"⟩, prog_11_method_8_code, 2, (some .boolean), [])
set_option maxRecDepth 20000 in
theorem c_Prim_isInt : zCode m_Prim_isInt := ⟨by decide +kernel, Or.inl ⟨(z_w3 229 rfl), rfl⟩⟩
abbrev m_Prim_isDone1 : zM := (⟨"LensPaths$Primitive", "isDone", "(LLensPaths$Schema;I)Z"⟩, prog_11_method_9_code, 4, (some .boolean), [])
set_option maxRecDepth 20000 in
theorem c_Prim_isDone1 : zCode m_Prim_isDone1 := ⟨by decide +kernel, Or.inl ⟨(z_w3 159 rfl), rfl⟩⟩
abbrev m_Prim_isDone2 : zM := (⟨"LensPaths$Primitive", "isDone", "(LLensPaths$Schema;LLensPaths$Field;)Z"⟩, prog_11_method_11_code, 5, (some .boolean), [])
set_option maxRecDepth 20000 in
theorem c_Prim_isDone2 : zCode m_Prim_isDone2 := ⟨by decide +kernel, Or.inl ⟨(z_w3 172 rfl), rfl⟩⟩
abbrev m_Prim_isAdded : zM := (⟨"LensPaths$Primitive", "isAdded", "(LLensPaths$Schema;I)Z"⟩, prog_11_method_10_code, 3, (some .boolean), [])
set_option maxRecDepth 20000 in
theorem c_Prim_isAdded : zCode m_Prim_isAdded := ⟨by decide +kernel, Or.inl ⟨(z_w3 164 rfl), rfl⟩⟩
abbrev m_Rows_init : zM := (⟨"LensPaths$Rows", "<init>", "()V"⟩, prog_12_method_1_code, 1, none, [])
set_option maxRecDepth 20000 in
theorem c_Rows_init : zCode m_Rows_init := ⟨by decide +kernel, Or.inl ⟨(z_w1 49 rfl), rfl⟩⟩
abbrev m_Rows_at : zM := (⟨"LensPaths$Rows", "at", "(I)LLensPaths$Named;"⟩, prog_12_method_3_code, 3, (some (.object "LensPaths$Named")), [])
set_option maxRecDepth 20000 in
theorem c_Rows_at : zCode m_Rows_at := ⟨by decide +kernel, Or.inl ⟨(z_w2 91 rfl), rfl⟩⟩
abbrev m_Rows_get : zM := (⟨"LensPaths$Rows", "get", "(I)LLensPaths$Named;"⟩, prog_12_method_4_code, 4, (some (.object "LensPaths$Named")), [])
set_option maxRecDepth 20000 in
theorem c_Rows_get : zCode m_Rows_get := ⟨by decide +kernel, Or.inl ⟨(z_w3 99 rfl), rfl⟩⟩
abbrev m_Rows_insert : zM := (⟨"LensPaths$Rows", "insert", "(LLensPaths$Knot;)V"⟩, prog_12_method_5_code, 3, none, [])
set_option maxRecDepth 20000 in
theorem c_Rows_insert : zCode m_Rows_insert := ⟨by decide +kernel, Or.inl ⟨(z_w2 237 rfl), rfl⟩⟩
abbrev m_Rows_add : zM := (⟨"LensPaths$Rows", "add", "(I)LLensPaths$Named;"⟩, prog_12_method_6_code, 3, (some (.object "LensPaths$Named")), [])
set_option maxRecDepth 20000 in
theorem c_Rows_add : zCode m_Rows_add := ⟨by decide +kernel, Or.inl ⟨(z_w2 134 rfl), rfl⟩⟩
abbrev m_Rows_remove : zM := (⟨"LensPaths$Rows", "remove", "(I)V"⟩, prog_12_method_7_code, 4, none, [])
set_option maxRecDepth 20000 in
theorem c_Rows_remove : zCode m_Rows_remove := ⟨by decide +kernel, Or.inl ⟨(z_w3 93 rfl), rfl⟩⟩
abbrev m_Rows_clear : zM := (⟨"LensPaths$Rows", "clear", "()V"⟩, prog_12_method_8_code, 1, none, [])
set_option maxRecDepth 20000 in
theorem c_Rows_clear : zCode m_Rows_clear := ⟨by decide +kernel, Or.inl ⟨(z_w3 86 rfl), rfl⟩⟩
abbrev m_Rows_order : zM := (⟨"LensPaths$Rows", "order", "()V"⟩, prog_12_method_9_code, 3, none, [])
set_option maxRecDepth 20000 in
theorem c_Rows_order : zCode m_Rows_order := ⟨by decide +kernel, Or.inl ⟨(z_w3 196 rfl), rfl⟩⟩
abbrev m_Rows_rename : zM := (⟨"LensPaths$Rows", "rename", "(II)V"⟩, prog_12_method_10_code, 4, none, [])
set_option maxRecDepth 20000 in
theorem c_Rows_rename : zCode m_Rows_rename := ⟨by decide +kernel, Or.inl ⟨(z_w3 188 rfl), rfl⟩⟩
abbrev m_Rows_lift : zM := (⟨"LensPaths$Rows", "lift", "(I)V"⟩, prog_12_method_11_code, 3, none, [])
set_option maxRecDepth 20000 in
theorem c_Rows_lift : zCode m_Rows_lift := ⟨by decide +kernel, Or.inl ⟨(z_w3 213 rfl), rfl⟩⟩
abbrev m_Rows_sink : zM := (⟨"LensPaths$Rows", "sink", "(II)V"⟩, prog_12_method_12_code, 4, none, [])
set_option maxRecDepth 20000 in
theorem c_Rows_sink : zCode m_Rows_sink := ⟨by decide +kernel, Or.inl ⟨(z_w5 62 rfl), rfl⟩⟩
abbrev m_Rows_inside : zM := (⟨"LensPaths$Rows", "inside", "(I)I"⟩, prog_12_method_13_code, 4, (some .int), [])
set_option maxRecDepth 20000 in
theorem c_Rows_inside : zCode m_Rows_inside := ⟨by decide +kernel, Or.inl ⟨(z_w3 202 rfl), rfl⟩⟩
abbrev m_Schema_init : zM := (⟨"LensPaths$Schema", "<init>", "()V"⟩, prog_13_method_1_code, 1, none, [])
set_option maxRecDepth 20000 in
theorem c_Schema_init : zCode m_Schema_init := ⟨by decide +kernel, Or.inl ⟨(z_w1 46 rfl), rfl⟩⟩
abbrev m_Schema_make1 : zM := (⟨"LensPaths$Schema", "make", "()LLensPaths$Field;"⟩, prog_13_method_2_code, 1, (some (.object "LensPaths$Field")), [])
set_option maxRecDepth 20000 in
theorem c_Schema_make1 : zCode m_Schema_make1 := ⟨by decide +kernel, Or.inl ⟨(z_w2 155 rfl), rfl⟩⟩
abbrev m_Schema_make2 : zM := (⟨"LensPaths$Schema", "make", "()LLensPaths$Named;"⟩, prog_13_method_8_code, 1, (some (.object "LensPaths$Named")), [])
set_option maxRecDepth 20000 in
theorem c_Schema_make2 : zCode m_Schema_make2 := ⟨by decide +kernel, Or.inl ⟨(z_w2 151 rfl), rfl⟩⟩
abbrev m_Schema_add : zM := (⟨"LensPaths$Schema", "add", "(IIII)V"⟩, prog_13_method_3_code, 6, none, [])
set_option maxRecDepth 20000 in
theorem c_Schema_add : zCode m_Schema_add := ⟨by decide +kernel, Or.inl ⟨(z_w2 128 rfl), rfl⟩⟩
abbrev m_Schema_copy : zM := (⟨"LensPaths$Schema", "copy", "(LLensPaths$Schema;)V"⟩, prog_13_method_4_code, 4, none, [])
set_option maxRecDepth 20000 in
theorem c_Schema_copy : zCode m_Schema_copy := ⟨by decide +kernel, Or.inl ⟨(z_w3 80 rfl), rfl⟩⟩
abbrev m_Schema_isLike : zM := (⟨"LensPaths$Schema", "isLike", "(LLensPaths$Schema;)Z"⟩, prog_13_method_5_code, 4, (some .boolean), [])
set_option maxRecDepth 20000 in
theorem c_Schema_isLike : zCode m_Schema_isLike := ⟨by decide +kernel, Or.inl ⟨(z_w4 11 rfl), rfl⟩⟩
abbrev m_Schema_isSort : zM := (⟨"LensPaths$Schema", "isSort", "(II)Z"⟩, prog_13_method_6_code, 4, (some .boolean), [])
set_option maxRecDepth 20000 in
theorem c_Schema_isSort : zCode m_Schema_isSort := ⟨by decide +kernel, Or.inl ⟨(z_w2 104 rfl), rfl⟩⟩
abbrev m_Schema_isFree : zM := (⟨"LensPaths$Schema", "isFree", "(I)Z"⟩, prog_13_method_7_code, 3, (some .boolean), [])
set_option maxRecDepth 20000 in
theorem c_Schema_isFree : zCode m_Schema_isFree := ⟨by decide +kernel, Or.inl ⟨(z_w2 82 rfl), rfl⟩⟩
abbrev m_Sign_init : zM := (⟨"LensPaths$Sign", "<init>", "()V"⟩, prog_14_method_1_code, 1, none, [])
set_option maxRecDepth 20000 in
theorem c_Sign_init : zCode m_Sign_init := ⟨by decide +kernel, Or.inl ⟨(z_w2 196 rfl), rfl⟩⟩
abbrev m_Sign_clear : zM := (⟨"LensPaths$Sign", "clear", "()V"⟩, prog_14_method_2_code, 1, none, [])
set_option maxRecDepth 20000 in
theorem c_Sign_clear : zCode m_Sign_clear := ⟨by decide +kernel, Or.inl ⟨(z_w2 233 rfl), rfl⟩⟩
abbrev m_Signs_init : zM := (⟨"LensPaths$Signs", "<init>", "()V"⟩, prog_15_method_1_code, 1, none, [])
set_option maxRecDepth 20000 in
theorem c_Signs_init : zCode m_Signs_init := ⟨by decide +kernel, Or.inl ⟨(z_w1 177 rfl), rfl⟩⟩
abbrev m_Signs_make1 : zM := (⟨"LensPaths$Signs", "make", "()LLensPaths$Sign;"⟩, prog_15_method_2_code, 1, (some (.object "LensPaths$Sign")), [])
set_option maxRecDepth 20000 in
theorem c_Signs_make1 : zCode m_Signs_make1 := ⟨by decide +kernel, Or.inl ⟨(z_w2 191 rfl), rfl⟩⟩
abbrev m_Signs_make2 : zM := (⟨"LensPaths$Signs", "make", "()LLensPaths$Named;"⟩, prog_15_method_4_code, 1, (some (.object "LensPaths$Named")), [])
set_option maxRecDepth 20000 in
theorem c_Signs_make2 : zCode m_Signs_make2 := ⟨by decide +kernel, Or.inl ⟨(z_w2 187 rfl), rfl⟩⟩
abbrev m_Signs_begin : zM := (⟨"LensPaths$Signs", "begin", "(LLensPaths$Schema;)V"⟩, prog_15_method_3_code, 4, none, [])
set_option maxRecDepth 20000 in
theorem c_Signs_begin : zCode m_Signs_begin := ⟨by decide +kernel, Or.inl ⟨(z_w6 105 rfl), rfl⟩⟩
abbrev m_Step_init : zM := (⟨"LensPaths$Step", "<init>", "()V"⟩, prog_16_method_1_code, 1, none, [])
set_option maxRecDepth 20000 in
theorem c_Step_init : zCode m_Step_init := ⟨by decide +kernel, Or.inl ⟨(z_w3 55 rfl), rfl⟩⟩
abbrev m_Step_joins : zM := (⟨"LensPaths$Step", "joins", "(II)Z"⟩, prog_16_method_2_code, 3, (some .boolean), [])
set_option maxRecDepth 20000 in
theorem c_Step_joins : zCode m_Step_joins := ⟨by decide +kernel, Or.inl ⟨(z_w5 34 rfl), rfl⟩⟩
abbrev m_Terms_init : zM := (⟨"LensPaths$Terms", "<init>", "()V"⟩, prog_17_method_1_code, 1, none, [])
set_option maxRecDepth 20000 in
theorem c_Terms_init : zCode m_Terms_init := ⟨by decide +kernel, Or.inl ⟨(z_w1 164 rfl), rfl⟩⟩
abbrev m_Terms_begin : zM := (⟨"LensPaths$Terms", "begin", "()V"⟩, prog_17_method_2_code, 2, none, [])
set_option maxRecDepth 20000 in
theorem c_Terms_begin : zCode m_Terms_begin := ⟨by decide +kernel, Or.inl ⟨(z_w6 101 rfl), rfl⟩⟩
abbrev m_Terms_cell : zM := (⟨"LensPaths$Terms", "cell", "(II)I"⟩, prog_17_method_3_code, 3, (some .int), [])
set_option maxRecDepth 20000 in
theorem c_Terms_cell : zCode m_Terms_cell := ⟨by decide +kernel, Or.inl ⟨(z_w5 117 rfl), rfl⟩⟩
abbrev m_Terms_is : zM := (⟨"LensPaths$Terms", "is", "(II)Z"⟩, prog_17_method_4_code, 3, (some .boolean), [])
set_option maxRecDepth 20000 in
theorem c_Terms_is : zCode m_Terms_is := ⟨by decide +kernel, Or.inl ⟨(z_w5 113 rfl), rfl⟩⟩
abbrev m_Terms_make : zM := (⟨"LensPaths$Terms", "make", "(IIIIII)I"⟩, prog_17_method_5_code, 8, (some .int), [])
set_option maxRecDepth 20000 in
theorem c_Terms_make : zCode m_Terms_make := ⟨by decide +kernel, Or.inl ⟨(z_w5 109 rfl), rfl⟩⟩
abbrev m_Terms_number : zM := (⟨"LensPaths$Terms", "number", "(I)I"⟩, prog_17_method_6_code, 2, (some .int), [])
set_option maxRecDepth 20000 in
theorem c_Terms_number : zCode m_Terms_number := ⟨by decide +kernel, Or.inl ⟨(z_w5 122 rfl), rfl⟩⟩
abbrev m_Terms_come1 : zM := (⟨"LensPaths$Terms", "come", "(LLensPaths$Sign;LLensPaths$Primitive;I)V"⟩, prog_17_method_7_code, 4, none, [])
set_option maxRecDepth 20000 in
theorem c_Terms_come1 : zCode m_Terms_come1 := ⟨by decide +kernel, Or.inl ⟨(z_w5 105 rfl), rfl⟩⟩
abbrev m_Terms_come2 : zM := (⟨"LensPaths$Terms", "come", "(LLensPaths$Named;LLensPaths$Primitive;I)V"⟩, prog_17_method_21_code, 4, none, [])
set_option maxRecDepth 20000 in
theorem c_Terms_come2 : zCode m_Terms_come2 := ⟨by decide +kernel, Or.inl ⟨(z_w5 100 rfl), rfl⟩⟩
abbrev m_Terms_go1 : zM := (⟨"LensPaths$Terms", "go", "(LLensPaths$Sign;LLensPaths$Primitive;I)V"⟩, prog_17_method_8_code, 4, none, [])
set_option maxRecDepth 20000 in
theorem c_Terms_go1 : zCode m_Terms_go1 := ⟨by decide +kernel, Or.inl ⟨(z_w5 150 rfl), rfl⟩⟩
abbrev m_Terms_go2 : zM := (⟨"LensPaths$Terms", "go", "(LLensPaths$Named;LLensPaths$Primitive;I)V"⟩, prog_17_method_20_code, 4, none, [])
set_option maxRecDepth 20000 in
theorem c_Terms_go2 : zCode m_Terms_go2 := ⟨by decide +kernel, Or.inl ⟨(z_w5 146 rfl), rfl⟩⟩
abbrev m_Terms_wrap1 : zM := (⟨"LensPaths$Terms", "wrap", "(LLensPaths$Sign;LLensPaths$Primitive;I)V"⟩, prog_17_method_9_code, 4, none, [])
set_option maxRecDepth 20000 in
theorem c_Terms_wrap1 : zCode m_Terms_wrap1 := ⟨by decide +kernel, Or.inl ⟨(z_w5 203 rfl), rfl⟩⟩
abbrev m_Terms_wrap2 : zM := (⟨"LensPaths$Terms", "wrap", "(LLensPaths$Named;LLensPaths$Primitive;I)V"⟩, prog_17_method_19_code, 4, none, [])
set_option maxRecDepth 20000 in
theorem c_Terms_wrap2 : zCode m_Terms_wrap2 := ⟨by decide +kernel, Or.inl ⟨(z_w5 199 rfl), rfl⟩⟩
abbrev m_Terms_unwrap1 : zM := (⟨"LensPaths$Terms", "unwrap", "(LLensPaths$Sign;LLensPaths$Primitive;I)V"⟩, prog_17_method_10_code, 5, none, [])
set_option maxRecDepth 20000 in
theorem c_Terms_unwrap1 : zCode m_Terms_unwrap1 := ⟨by decide +kernel, Or.inl ⟨(z_w5 181 rfl), rfl⟩⟩
abbrev m_Terms_unwrap2 : zM := (⟨"LensPaths$Terms", "unwrap", "(LLensPaths$Named;LLensPaths$Primitive;I)V"⟩, prog_17_method_18_code, 4, none, [])
set_option maxRecDepth 20000 in
theorem c_Terms_unwrap2 : zCode m_Terms_unwrap2 := ⟨by decide +kernel, Or.inl ⟨(z_w5 177 rfl), rfl⟩⟩
abbrev m_Terms_split1 : zM := (⟨"LensPaths$Terms", "split", "(LLensPaths$Sign;LLensPaths$Sign;LLensPaths$Primitive;)V"⟩, prog_17_method_11_code, 5, none, [])
set_option maxRecDepth 20000 in
theorem c_Terms_split1 : zCode m_Terms_split1 := ⟨by decide +kernel, Or.inl ⟨(z_w6 20 rfl), rfl⟩⟩
abbrev m_Terms_split2 : zM := (⟨"LensPaths$Terms", "split", "(LLensPaths$Named;LLensPaths$Named;LLensPaths$Primitive;)V"⟩, prog_17_method_17_code, 4, none, [])
set_option maxRecDepth 20000 in
theorem c_Terms_split2 : zCode m_Terms_split2 := ⟨by decide +kernel, Or.inl ⟨(z_w6 16 rfl), rfl⟩⟩
abbrev m_Terms_join1 : zM := (⟨"LensPaths$Terms", "join", "(LLensPaths$Sign;LLensPaths$Sign;LLensPaths$Primitive;)V"⟩, prog_17_method_12_code, 6, none, [])
set_option maxRecDepth 20000 in
theorem c_Terms_join1 : zCode m_Terms_join1 := ⟨by decide +kernel, Or.inl ⟨(z_w5 234 rfl), rfl⟩⟩
abbrev m_Terms_join2 : zM := (⟨"LensPaths$Terms", "join", "(LLensPaths$Named;LLensPaths$Named;LLensPaths$Primitive;)V"⟩, prog_17_method_16_code, 4, none, [])
set_option maxRecDepth 20000 in
theorem c_Terms_join2 : zCode m_Terms_join2 := ⟨by decide +kernel, Or.inl ⟨(z_w5 230 rfl), rfl⟩⟩
abbrev m_Terms_turn1 : zM := (⟨"LensPaths$Terms", "turn", "(LLensPaths$Sign;LLensPaths$Primitive;Z)V"⟩, prog_17_method_13_code, 5, none, [])
set_option maxRecDepth 20000 in
theorem c_Terms_turn1 : zCode m_Terms_turn1 := ⟨by decide +kernel, Or.inl ⟨(z_w6 77 rfl), rfl⟩⟩
abbrev m_Terms_turn2 : zM := (⟨"LensPaths$Terms", "turn", "(LLensPaths$Named;LLensPaths$Primitive;Z)V"⟩, prog_17_method_15_code, 4, none, [])
set_option maxRecDepth 20000 in
theorem c_Terms_turn2 : zCode m_Terms_turn2 := ⟨by decide +kernel, Or.inl ⟨(z_w6 73 rfl), rfl⟩⟩
abbrev m_Terms_unscaled : zM := (⟨"LensPaths$Terms", "unscaled", "(ILLensPaths$Primitive;)I"⟩, prog_17_method_14_code, 3, (some .int), [])
set_option maxRecDepth 20000 in
theorem c_Terms_unscaled : zCode m_Terms_unscaled := ⟨by decide +kernel, Or.inl ⟨(z_w6 81 rfl), rfl⟩⟩
abbrev m_Walker_init : zM := (⟨"LensPaths$Walker", "<init>", "()V"⟩, prog_18_method_1_code, 1, none, [])
set_option maxRecDepth 20000 in
theorem c_Walker_init : zCode m_Walker_init := ⟨by decide +kernel, Or.inl ⟨(z_w1 154 rfl), rfl⟩⟩
abbrev m_Walker_over : zM := (⟨"LensPaths$Walker", "over", "(LLensPaths$Algebra;LLensPaths$Rows;LLensPaths$Step;IZ)V"⟩, prog_18_method_2_code, 8, none, [])
set_option maxRecDepth 20000 in
theorem c_Walker_over : zCode m_Walker_over := ⟨by decide +kernel, Or.inl ⟨(z_w5 42 rfl), rfl⟩⟩
abbrev m_Walker_one : zM := (⟨"LensPaths$Walker", "one", "(LLensPaths$Rows;LLensPaths$Primitive;IZ)V"⟩, prog_18_method_3_code, 5, none, [])
set_option maxRecDepth 20000 in
theorem c_Walker_one : zCode m_Walker_one := ⟨by decide +kernel, Or.inl ⟨(z_w5 49 rfl), rfl⟩⟩
abbrev m_Walker_change : zM := (⟨"LensPaths$Walker", "change", "(LLensPaths$Rows;LLensPaths$Primitive;IZ)V"⟩, prog_18_method_4_code, 5, none, [])
set_option maxRecDepth 20000 in
theorem c_Walker_change : zCode m_Walker_change := ⟨by decide +kernel, Or.inl ⟨(z_w5 70 rfl), rfl⟩⟩
abbrev m_Walker_part : zM := (⟨"LensPaths$Walker", "part", "(LLensPaths$Rows;LLensPaths$Primitive;Z)V"⟩, prog_18_method_5_code, 4, none, [])
set_option maxRecDepth 20000 in
theorem c_Walker_part : zCode m_Walker_part := ⟨by decide +kernel, Or.inl ⟨(z_w5 208 rfl), rfl⟩⟩
abbrev m_LW_field : zM := (⟨"LensPathsLaw", "field", "(LLensPaths;IIII[J)I"⟩, method_3_code, 7, (some .int), [(0, 14, 17, 13), (0, 14, 21, 15)])
set_option maxRecDepth 20000 in
theorem c_LW_field : zCode m_LW_field := ⟨by decide +kernel, Or.inr (z_w1 238 rfl)⟩
abbrev m_LW_begin : zM := (⟨"LensPathsLaw", "begin", "(LLensPaths;I)I"⟩, method_4_code, 3, (some .int), [(0, 5, 8, 21), (0, 5, 11, 13)])
set_option maxRecDepth 20000 in
theorem c_LW_begin : zCode m_LW_begin := ⟨by decide +kernel, Or.inr (z_w3 3 rfl)⟩
abbrev m_LW_primitive : zM := (⟨"LensPathsLaw", "primitive", "(LLensPaths;IIIII[J)I"⟩, method_5_code, 8, (some .int), [(0, 16, 19, 13), (0, 16, 23, 15)])
set_option maxRecDepth 20000 in
theorem c_LW_primitive : zCode m_LW_primitive := ⟨by decide +kernel, Or.inr (z_w3 103 rfl)⟩
abbrev m_LW_end : zM := (⟨"LensPathsLaw", "end", "(LLensPaths;I[J)I"⟩, method_6_code, 4, (some .int), [(0, 9, 12, 13), (0, 9, 15, 21), (0, 9, 18, 15), (0, 9, 21, 31)])
set_option maxRecDepth 20000 in
theorem c_LW_end : zCode m_LW_end := ⟨by decide +kernel, Or.inr (z_w4 2 rfl)⟩
abbrev m_LW_about : zM := (⟨"LensPathsLaw", "about", "(LLensPaths;III[J)I"⟩, method_7_code, 6, (some .int), [(0, 12, 15, 21), (0, 12, 19, 15)])
set_option maxRecDepth 20000 in
theorem c_LW_about : zCode m_LW_about := ⟨by decide +kernel, Or.inr (z_w4 37 rfl)⟩
abbrev m_LW_count : zM := (⟨"LensPathsLaw", "count", "(LLensPaths;I[J)I"⟩, method_8_code, 4, (some .int), [(0, 9, 12, 15)])
set_option maxRecDepth 20000 in
theorem c_LW_count : zCode m_LW_count := ⟨by decide +kernel, Or.inr (z_w4 47 rfl)⟩
abbrev m_LW_record : zM := (⟨"LensPathsLaw", "record", "(LLensPaths;I[J)I"⟩, method_9_code, 4, (some .int), [(0, 9, 12, 21), (0, 9, 15, 31)])
set_option maxRecDepth 20000 in
theorem c_LW_record : zCode m_LW_record := ⟨by decide +kernel, Or.inr (z_w4 54 rfl)⟩
abbrev m_LW_copy : zM := (⟨"LensPathsLaw", "copy", "(LLensPaths;I[J)I"⟩, method_10_code, 4, (some .int), [(0, 9, 12, 21), (0, 9, 15, 31)])
set_option maxRecDepth 20000 in
theorem c_LW_copy : zCode m_LW_copy := ⟨by decide +kernel, Or.inr (z_w4 91 rfl)⟩
abbrev m_LW_drop : zM := (⟨"LensPathsLaw", "drop", "(LLensPaths;I)I"⟩, method_11_code, 3, (some .int), [(0, 5, 8, 21)])
set_option maxRecDepth 20000 in
theorem c_LW_drop : zCode m_LW_drop := ⟨by decide +kernel, Or.inr (z_w4 146 rfl)⟩
abbrev m_LW_set : zM := (⟨"LensPathsLaw", "set", "(LLensPaths;III)I"⟩, method_12_code, 5, (some .int), [(0, 7, 10, 21), (0, 7, 14, 15)])
set_option maxRecDepth 20000 in
theorem c_LW_set : zCode m_LW_set := ⟨by decide +kernel, Or.inr (z_w4 153 rfl)⟩
abbrev m_LW_put : zM := (⟨"LensPathsLaw", "put", "(LLensPaths;IIII[J)I"⟩, method_13_code, 7, (some .int), [(0, 14, 17, 21), (0, 14, 21, 15)])
set_option maxRecDepth 20000 in
theorem c_LW_put : zCode m_LW_put := ⟨by decide +kernel, Or.inr (z_w4 172 rfl)⟩
abbrev m_LW_cut : zM := (⟨"LensPathsLaw", "cut", "(LLensPaths;III)I"⟩, method_14_code, 5, (some .int), [(0, 7, 10, 21), (0, 7, 14, 15)])
set_option maxRecDepth 20000 in
theorem c_LW_cut : zCode m_LW_cut := ⟨by decide +kernel, Or.inr (z_w4 179 rfl)⟩
abbrev m_LW_get : zM := (⟨"LensPathsLaw", "get", "(LLensPaths;II[J)I"⟩, method_15_code, 5, (some .int), [(0, 10, 13, 21), (0, 10, 17, 15)])
set_option maxRecDepth 20000 in
theorem c_LW_get : zCode m_LW_get := ⟨by decide +kernel, Or.inr (z_w4 186 rfl)⟩
abbrev m_LW_size : zM := (⟨"LensPathsLaw", "size", "(LLensPaths;II[J)I"⟩, method_16_code, 5, (some .int), [(0, 10, 13, 21), (0, 10, 17, 15)])
set_option maxRecDepth 20000 in
theorem c_LW_size : zCode m_LW_size := ⟨by decide +kernel, Or.inr (z_w4 193 rfl)⟩
abbrev m_LW_item : zM := (⟨"LensPathsLaw", "item", "(LLensPaths;III[J)I"⟩, method_17_code, 6, (some .int), [(0, 12, 15, 21), (0, 12, 19, 15)])
set_option maxRecDepth 20000 in
theorem c_LW_item : zCode m_LW_item := ⟨by decide +kernel, Or.inr (z_w4 200 rfl)⟩
abbrev m_LW_version : zM := (⟨"LensPathsLaw", "version", "(LLensPaths;I[J)I"⟩, method_18_code, 4, (some .int), [(0, 9, 12, 21)])
set_option maxRecDepth 20000 in
theorem c_LW_version : zCode m_LW_version := ⟨by decide +kernel, Or.inr (z_w4 207 rfl)⟩
abbrev m_LW_kept : zM := (⟨"LensPathsLaw", "kept", "(LLensPaths;I[J)I"⟩, method_19_code, 4, (some .int), [(0, 9, 12, 21)])
set_option maxRecDepth 20000 in
theorem c_LW_kept : zCode m_LW_kept := ⟨by decide +kernel, Or.inr (z_w4 214 rfl)⟩
abbrev m_LW_same : zM := (⟨"LensPathsLaw", "same", "(LLensPaths;II[J)I"⟩, method_20_code, 5, (some .int), [(0, 17, 20, 21)])
set_option maxRecDepth 20000 in
theorem c_LW_same : zCode m_LW_same := ⟨by decide +kernel, Or.inr (z_w4 221 rfl)⟩
abbrev m_LW_translate : zM := (⟨"LensPathsLaw", "translate", "(LLensPaths;II[J)I"⟩, method_21_code, 5, (some .int), [(0, 10, 13, 21), (0, 10, 17, 13), (0, 10, 21, 82)])
set_option maxRecDepth 20000 in
theorem c_LW_translate : zCode m_LW_translate := ⟨by decide +kernel, Or.inr (z_w4 236 rfl)⟩
abbrev m_LW_route : zM := (⟨"LensPathsLaw", "route", "(LLensPaths;III[J)I"⟩, method_22_code, 6, (some .int), [(0, 12, 15, 21)])
set_option maxRecDepth 20000 in
theorem c_LW_route : zCode m_LW_route := ⟨by decide +kernel, Or.inr (z_w6 86 rfl)⟩
abbrev m_LW_clash : zM := (⟨"LensPathsLaw", "clash", "(LLensPaths;I[J)I"⟩, method_23_code, 4, (some .int), [(0, 9, 12, 21)])
set_option maxRecDepth 20000 in
theorem c_LW_clash : zCode m_LW_clash := ⟨by decide +kernel, Or.inr (z_w6 93 rfl)⟩
abbrev m_LW_law : zM := (⟨"LensPathsLaw", "law", "([I)Z"⟩, code, 7, ret, [])
abbrev m_Math_floorDivI : zM := (⟨"java/lang/Math", "floorDiv", "(II)I"⟩, prog_27_method_47_code, 3, (some .int), [])
set_option maxRecDepth 20000 in
theorem c_Math_floorDivI : zCode m_Math_floorDivI := ⟨by decide +kernel, Or.inl ⟨(z_w3 225 rfl), rfl⟩⟩
abbrev m_Math_floorDivJ : zM := (⟨"java/lang/Math", "floorDiv", "(JJ)J"⟩, prog_27_method_49_code, 6, (some .long), [])
set_option maxRecDepth 20000 in
theorem c_Math_floorDivJ : zCode m_Math_floorDivJ := ⟨by decide +kernel, Or.inl ⟨(z_w3 235 rfl), rfl⟩⟩
abbrev m_Math_floorModI : zM := (⟨"java/lang/Math", "floorMod", "(II)I"⟩, prog_27_method_50_code, 3, (some .int), [])
set_option maxRecDepth 20000 in
theorem c_Math_floorModI : zCode m_Math_floorModI := ⟨by decide +kernel, Or.inl ⟨(z_w6 11 rfl), rfl⟩⟩
abbrev m_Math_maxI : zM := (⟨"java/lang/Math", "max", "(II)I"⟩, prog_27_method_65_code, 2, (some .int), [])
set_option maxRecDepth 20000 in
theorem c_Math_maxI : zCode m_Math_maxI := ⟨by decide +kernel, Or.inl ⟨(z_w4 87 rfl), rfl⟩⟩
abbrev m_Math_maxJ : zM := (⟨"java/lang/Math", "max", "(JJ)J"⟩, prog_27_method_66_code, 4, (some .long), [])
set_option maxRecDepth 20000 in
theorem c_Math_maxJ : zCode m_Math_maxJ := ⟨by decide +kernel, Or.inl ⟨(z_w6 50 rfl), rfl⟩⟩
abbrev m_Math_minI : zM := (⟨"java/lang/Math", "min", "(II)I"⟩, prog_27_method_69_code, 2, (some .int), [])
set_option maxRecDepth 20000 in
theorem c_Math_minI : zCode m_Math_minI := ⟨by decide +kernel, Or.inl ⟨(z_w4 84 rfl), rfl⟩⟩
abbrev m_Math_minJ : zM := (⟨"java/lang/Math", "min", "(JJ)J"⟩, prog_27_method_70_code, 4, (some .long), [])
set_option maxRecDepth 20000 in
theorem c_Math_minJ : zCode m_Math_minJ := ⟨by decide +kernel, Or.inl ⟨(z_w6 47 rfl), rfl⟩⟩
