/-! field links (printed by wip/gen/links.py) -/
theorem f_LP_10 : zFL "LensPaths" 10 1 3 := ⟨by decide, by decide, by decide, "LensPaths", z_wd 186 (by decide +kernel), Or.inl rfl⟩
theorem f_LP_16 : zFL "LensPaths" 16 1 2 := ⟨by decide, by decide, by decide, "LensPaths", z_wd 185 (by decide +kernel), Or.inl rfl⟩
theorem f_LP_26 : zFL "LensPaths" 26 1 1 := ⟨by decide, by decide, by decide, "LensPaths", z_wd 184 (by decide +kernel), Or.inl rfl⟩
theorem f_LP_29 : zFL "LensPaths" 29 1 7 := ⟨by decide, by decide, by decide, "LensPaths", z_wd 190 (by decide +kernel), Or.inl rfl⟩
theorem f_LP_45 : zFL "LensPaths" 45 1 8 := ⟨by decide, by decide, by decide, "LensPaths", z_wd 191 (by decide +kernel), Or.inl rfl⟩
theorem f_LP_48 : zFL "LensPaths" 48 11 0 := ⟨by decide, by decide, by decide, "LensPaths$Step", z_wd 540 (by decide +kernel), Or.inl rfl⟩
theorem f_LP_65 : zFL "LensPaths" 65 1 0 := ⟨by decide, by decide, by decide, "LensPaths", z_wd 183 (by decide +kernel), Or.inl rfl⟩
theorem f_LP_70 : zFL "LensPaths" 70 1 5 := ⟨by decide, by decide, by decide, "LensPaths", z_wd 188 (by decide +kernel), Or.inl rfl⟩
theorem f_LP_76 : zFL "LensPaths" 76 1 9 := ⟨by decide, by decide, by decide, "LensPaths", z_wd 192 (by decide +kernel), Or.inl rfl⟩
theorem f_LP_81 : zFL "LensPaths" 81 1 10 := ⟨by decide, by decide, by decide, "LensPaths", z_wd 193 (by decide +kernel), Or.inl rfl⟩
theorem f_LP_86 : zFL "LensPaths" 86 1 11 := ⟨by decide, by decide, by decide, "LensPaths", z_wd 194 (by decide +kernel), Or.inl rfl⟩
theorem f_LP_90 : zFL "LensPaths" 90 1 12 := ⟨by decide, by decide, by decide, "LensPaths", z_wd 195 (by decide +kernel), Or.inl rfl⟩
theorem f_LP_96 : zFL "LensPaths" 96 1 13 := ⟨by decide, by decide, by decide, "LensPaths", z_wd 196 (by decide +kernel), Or.inl rfl⟩
theorem f_LP_103 : zFL "LensPaths" 103 1 14 := ⟨by decide, by decide, by decide, "LensPaths", z_wd 197 (by decide +kernel), Or.inl rfl⟩
theorem f_LP_107 : zFL "LensPaths" 107 1 15 := ⟨by decide, by decide, by decide, "LensPaths", z_wd 198 (by decide +kernel), Or.inl rfl⟩
theorem f_LP_132 : zFL "LensPaths" 132 1 6 := ⟨by decide, by decide, by decide, "LensPaths", z_wd 189 (by decide +kernel), Or.inl rfl⟩
theorem f_LP_136 : zFL "LensPaths" 136 2 2 := ⟨by decide, by decide, by decide, "LensPaths$Schema", z_wd 62 (by decide +kernel), Or.inr (z_wd 54 (by decide +kernel))⟩
theorem f_LP_158 : zFL "LensPaths" 158 1 4 := ⟨by decide, by decide, by decide, "LensPaths", z_wd 187 (by decide +kernel), Or.inl rfl⟩
theorem f_LP_167 : zFL "LensPaths" 167 11 2 := ⟨by decide, by decide, by decide, "LensPaths$Step", z_wd 544 (by decide +kernel), Or.inl rfl⟩
theorem f_LP_171 : zFL "LensPaths" 171 12 0 := ⟨by decide, by decide, by decide, "LensPaths$Primitive", z_wd 598 (by decide +kernel), Or.inl rfl⟩
theorem f_LP_174 : zFL "LensPaths" 174 12 1 := ⟨by decide, by decide, by decide, "LensPaths$Primitive", z_wd 601 (by decide +kernel), Or.inl rfl⟩
theorem f_LP_177 : zFL "LensPaths" 177 12 2 := ⟨by decide, by decide, by decide, "LensPaths$Primitive", z_wd 606 (by decide +kernel), Or.inl rfl⟩
theorem f_LP_180 : zFL "LensPaths" 180 12 3 := ⟨by decide, by decide, by decide, "LensPaths$Primitive", z_wd 610 (by decide +kernel), Or.inl rfl⟩
theorem f_LP_187 : zFL "LensPaths" 187 11 3 := ⟨by decide, by decide, by decide, "LensPaths$Step", z_wd 547 (by decide +kernel), Or.inl rfl⟩
theorem f_LP_198 : zFL "LensPaths" 198 11 1 := ⟨by decide, by decide, by decide, "LensPaths$Step", z_wd 542 (by decide +kernel), Or.inl rfl⟩
theorem f_LP_207 : zFL "LensPaths" 207 5 1 := ⟨by decide, by decide, by decide, "LensPaths$Field", z_wd 406 (by decide +kernel), Or.inl rfl⟩
theorem f_LP_210 : zFL "LensPaths" 210 5 2 := ⟨by decide, by decide, by decide, "LensPaths$Field", z_wd 411 (by decide +kernel), Or.inl rfl⟩
theorem f_LP_213 : zFL "LensPaths" 213 5 3 := ⟨by decide, by decide, by decide, "LensPaths$Field", z_wd 416 (by decide +kernel), Or.inl rfl⟩
theorem f_LP_220 : zFL "LensPaths" 220 9 0 := ⟨by decide, by decide, by decide, "LensPaths$Card", z_wd 129 (by decide +kernel), Or.inl rfl⟩
theorem f_LP_241 : zFL "LensPaths" 241 9 1 := ⟨by decide, by decide, by decide, "LensPaths$Card", z_wd 131 (by decide +kernel), Or.inl rfl⟩
theorem f_LP_249 : zFL "LensPaths" 249 6 1 := ⟨by decide, by decide, by decide, "LensPaths$Place", z_wd 102 (by decide +kernel), Or.inl rfl⟩
theorem f_LP_259 : zFL "LensPaths" 259 6 3 := ⟨by decide, by decide, by decide, "LensPaths$Place", z_wd 108 (by decide +kernel), Or.inl rfl⟩
theorem f_LP_262 : zFL "LensPaths" 262 6 2 := ⟨by decide, by decide, by decide, "LensPaths$Place", z_wd 105 (by decide +kernel), Or.inl rfl⟩
theorem f_LP_265 : zFL "LensPaths" 265 9 3 := ⟨by decide, by decide, by decide, "LensPaths$Card", z_wd 134 (by decide +kernel), Or.inl rfl⟩
theorem f_LP_276 : zFL "LensPaths" 276 4 2 := ⟨by decide, by decide, by decide, "LensPaths$Signs", z_wd 63 (by decide +kernel), Or.inr (z_wd 59 (by decide +kernel))⟩
theorem f_LP_282 : zFL "LensPaths" 282 7 0 := ⟨by decide, by decide, by decide, "LensPaths$Sign", z_wd 117 (by decide +kernel), Or.inr (z_wd 118 (by decide +kernel))⟩
theorem f_LP_283 : zFL "LensPaths" 283 7 1 := ⟨by decide, by decide, by decide, "LensPaths$Sign", z_wd 441 (by decide +kernel), Or.inl rfl⟩
theorem f_Card_9 : zFL "LensPaths$Card" 9 9 0 := ⟨by decide, by decide, by decide, "LensPaths$Card", z_wd 128 (by decide +kernel), Or.inl rfl⟩
theorem f_Card_18 : zFL "LensPaths$Card" 18 9 1 := ⟨by decide, by decide, by decide, "LensPaths$Card", z_wd 130 (by decide +kernel), Or.inl rfl⟩
theorem f_Card_24 : zFL "LensPaths$Card" 24 9 2 := ⟨by decide, by decide, by decide, "LensPaths$Card", z_wd 132 (by decide +kernel), Or.inl rfl⟩
theorem f_Card_31 : zFL "LensPaths$Card" 31 9 4 := ⟨by decide, by decide, by decide, "LensPaths$Card", z_wd 135 (by decide +kernel), Or.inl rfl⟩
theorem f_Card_35 : zFL "LensPaths$Card" 35 9 5 := ⟨by decide, by decide, by decide, "LensPaths$Card", z_wd 136 (by decide +kernel), Or.inl rfl⟩
theorem f_Card_38 : zFL "LensPaths$Card" 38 9 3 := ⟨by decide, by decide, by decide, "LensPaths$Card", z_wd 133 (by decide +kernel), Or.inl rfl⟩
theorem f_Card_44 : zFL "LensPaths$Card" 44 2 2 := ⟨by decide, by decide, by decide, "LensPaths$Schema", z_wd 53 (by decide +kernel), Or.inr (z_wd 54 (by decide +kernel))⟩
theorem f_Card_53 : zFL "LensPaths$Card" 53 5 1 := ⟨by decide, by decide, by decide, "LensPaths$Field", z_wd 402 (by decide +kernel), Or.inl rfl⟩
theorem f_Card_56 : zFL "LensPaths$Card" 56 5 0 := ⟨by decide, by decide, by decide, "LensPaths$Field", z_wd 109 (by decide +kernel), Or.inr (z_wd 110 (by decide +kernel))⟩
theorem f_Card_62 : zFL "LensPaths$Card" 62 5 2 := ⟨by decide, by decide, by decide, "LensPaths$Field", z_wd 408 (by decide +kernel), Or.inl rfl⟩
theorem f_Card_65 : zFL "LensPaths$Card" 65 5 3 := ⟨by decide, by decide, by decide, "LensPaths$Field", z_wd 413 (by decide +kernel), Or.inl rfl⟩
theorem f_Card_80 : zFL "LensPaths$Card" 80 10 0 := ⟨by decide, by decide, by decide, "LensPaths$Kept", z_wd 848 (by decide +kernel), Or.inl rfl⟩
theorem f_Card_83 : zFL "LensPaths$Card" 83 10 1 := ⟨by decide, by decide, by decide, "LensPaths$Kept", z_wd 849 (by decide +kernel), Or.inl rfl⟩
theorem f_Card_87 : zFL "LensPaths$Card" 87 10 2 := ⟨by decide, by decide, by decide, "LensPaths$Kept", z_wd 851 (by decide +kernel), Or.inl rfl⟩
theorem f_Card_90 : zFL "LensPaths$Card" 90 10 3 := ⟨by decide, by decide, by decide, "LensPaths$Kept", z_wd 853 (by decide +kernel), Or.inl rfl⟩
theorem f_Card_105 : zFL "LensPaths$Card" 105 12 4 := ⟨by decide, by decide, by decide, "LensPaths$Primitive", z_wd 612 (by decide +kernel), Or.inl rfl⟩
theorem f_Card_116 : zFL "LensPaths$Card" 116 6 3 := ⟨by decide, by decide, by decide, "LensPaths$Place", z_wd 107 (by decide +kernel), Or.inl rfl⟩
theorem f_Card_120 : zFL "LensPaths$Card" 120 6 1 := ⟨by decide, by decide, by decide, "LensPaths$Place", z_wd 101 (by decide +kernel), Or.inl rfl⟩
theorem f_Card_123 : zFL "LensPaths$Card" 123 6 2 := ⟨by decide, by decide, by decide, "LensPaths$Place", z_wd 104 (by decide +kernel), Or.inl rfl⟩
theorem f_Card_126 : zFL "LensPaths$Card" 126 12 2 := ⟨by decide, by decide, by decide, "LensPaths$Primitive", z_wd 604 (by decide +kernel), Or.inl rfl⟩
theorem f_Card_138 : zFL "LensPaths$Card" 138 12 5 := ⟨by decide, by decide, by decide, "LensPaths$Primitive", z_wd 616 (by decide +kernel), Or.inl rfl⟩
theorem f_Card_139 : zFL "LensPaths$Card" 139 12 6 := ⟨by decide, by decide, by decide, "LensPaths$Primitive", z_wd 619 (by decide +kernel), Or.inl rfl⟩
theorem f_Card_147 : zFL "LensPaths$Card" 147 12 0 := ⟨by decide, by decide, by decide, "LensPaths$Primitive", z_wd 596 (by decide +kernel), Or.inl rfl⟩
theorem f_Card_157 : zFL "LensPaths$Card" 157 12 3 := ⟨by decide, by decide, by decide, "LensPaths$Primitive", z_wd 608 (by decide +kernel), Or.inl rfl⟩
theorem f_Fld_9 : zFL "LensPaths$Field" 9 5 1 := ⟨by decide, by decide, by decide, "LensPaths$Field", z_wd 401 (by decide +kernel), Or.inl rfl⟩
theorem f_Fld_15 : zFL "LensPaths$Field" 15 5 2 := ⟨by decide, by decide, by decide, "LensPaths$Field", z_wd 407 (by decide +kernel), Or.inl rfl⟩
theorem f_Fld_18 : zFL "LensPaths$Field" 18 5 3 := ⟨by decide, by decide, by decide, "LensPaths$Field", z_wd 412 (by decide +kernel), Or.inl rfl⟩
theorem f_Fld_21 : zFL "LensPaths$Field" 21 5 0 := ⟨by decide, by decide, by decide, "LensPaths$Field", z_wd 111 (by decide +kernel), Or.inr (z_wd 110 (by decide +kernel))⟩
theorem f_Kept_10 : zFL "LensPaths$Kept" 10 10 2 := ⟨by decide, by decide, by decide, "LensPaths$Kept", z_wd 850 (by decide +kernel), Or.inl rfl⟩
theorem f_Kept_16 : zFL "LensPaths$Kept" 16 10 3 := ⟨by decide, by decide, by decide, "LensPaths$Kept", z_wd 852 (by decide +kernel), Or.inl rfl⟩
theorem f_Knot_7 : zFL "LensPaths$Knot" 7 8 0 := ⟨by decide, by decide, by decide, "LensPaths$Knot", z_wd 450 (by decide +kernel), Or.inl rfl⟩
theorem f_Place_9 : zFL "LensPaths$Place" 9 6 3 := ⟨by decide, by decide, by decide, "LensPaths$Place", z_wd 106 (by decide +kernel), Or.inl rfl⟩
theorem f_Place_19 : zFL "LensPaths$Place" 19 6 1 := ⟨by decide, by decide, by decide, "LensPaths$Place", z_wd 100 (by decide +kernel), Or.inl rfl⟩
theorem f_Place_23 : zFL "LensPaths$Place" 23 6 2 := ⟨by decide, by decide, by decide, "LensPaths$Place", z_wd 103 (by decide +kernel), Or.inl rfl⟩
theorem f_Places_15 : zFL "LensPaths$Places" 15 3 2 := ⟨by decide, by decide, by decide, "LensPaths$Places", z_wd 55 (by decide +kernel), Or.inr (z_wd 56 (by decide +kernel))⟩
theorem f_Places_23 : zFL "LensPaths$Places" 23 6 0 := ⟨by decide, by decide, by decide, "LensPaths$Place", z_wd 113 (by decide +kernel), Or.inr (z_wd 114 (by decide +kernel))⟩
theorem f_Prim_9 : zFL "LensPaths$Primitive" 9 12 0 := ⟨by decide, by decide, by decide, "LensPaths$Primitive", z_wd 594 (by decide +kernel), Or.inl rfl⟩
theorem f_Prim_15 : zFL "LensPaths$Primitive" 15 12 1 := ⟨by decide, by decide, by decide, "LensPaths$Primitive", z_wd 599 (by decide +kernel), Or.inl rfl⟩
theorem f_Prim_18 : zFL "LensPaths$Primitive" 18 12 2 := ⟨by decide, by decide, by decide, "LensPaths$Primitive", z_wd 602 (by decide +kernel), Or.inl rfl⟩
theorem f_Prim_35 : zFL "LensPaths$Primitive" 35 12 3 := ⟨by decide, by decide, by decide, "LensPaths$Primitive", z_wd 607 (by decide +kernel), Or.inl rfl⟩
theorem f_Prim_41 : zFL "LensPaths$Primitive" 41 12 5 := ⟨by decide, by decide, by decide, "LensPaths$Primitive", z_wd 615 (by decide +kernel), Or.inl rfl⟩
theorem f_Prim_44 : zFL "LensPaths$Primitive" 44 12 6 := ⟨by decide, by decide, by decide, "LensPaths$Primitive", z_wd 618 (by decide +kernel), Or.inl rfl⟩
theorem f_Prim_85 : zFL "LensPaths$Primitive" 85 5 1 := ⟨by decide, by decide, by decide, "LensPaths$Field", z_wd 405 (by decide +kernel), Or.inl rfl⟩
theorem f_Prim_88 : zFL "LensPaths$Primitive" 88 12 4 := ⟨by decide, by decide, by decide, "LensPaths$Primitive", z_wd 614 (by decide +kernel), Or.inl rfl⟩
theorem f_Prim_89 : zFL "LensPaths$Primitive" 89 5 2 := ⟨by decide, by decide, by decide, "LensPaths$Field", z_wd 410 (by decide +kernel), Or.inl rfl⟩
theorem f_Prim_90 : zFL "LensPaths$Primitive" 90 5 3 := ⟨by decide, by decide, by decide, "LensPaths$Field", z_wd 415 (by decide +kernel), Or.inl rfl⟩
theorem f_Rows_7_2 : zFL "LensPaths$Rows" 7 2 0 := ⟨by decide, by decide, by decide, "LensPaths$Rows", z_wd 51 (by decide +kernel), Or.inl rfl⟩
theorem f_Rows_7_3 : zFL "LensPaths$Rows" 7 3 0 := ⟨by decide, by decide, by decide, "LensPaths$Rows", z_wd 51 (by decide +kernel), Or.inl rfl⟩
theorem f_Rows_7_4 : zFL "LensPaths$Rows" 7 4 0 := ⟨by decide, by decide, by decide, "LensPaths$Rows", z_wd 51 (by decide +kernel), Or.inl rfl⟩
theorem f_Rows_7 {k : Nat} (hk : k = 2 ∨ k = 3 ∨ k = 4) : zFL "LensPaths$Rows" 7 k 0 := by
  rcases hk with rfl | rfl | rfl
  · exact f_Rows_7_2
  · exact f_Rows_7_3
  · exact f_Rows_7_4
theorem f_Rows_13 : zFL "LensPaths$Rows" 13 8 0 := ⟨by decide, by decide, by decide, "LensPaths$Knot", z_wd 451 (by decide +kernel), Or.inl rfl⟩
theorem f_Rows_19_5 : zFL "LensPaths$Rows" 19 5 0 := ⟨by decide, by decide, by decide, "LensPaths$Named", z_wd 112 (by decide +kernel), Or.inl rfl⟩
theorem f_Rows_19_6 : zFL "LensPaths$Rows" 19 6 0 := ⟨by decide, by decide, by decide, "LensPaths$Named", z_wd 112 (by decide +kernel), Or.inl rfl⟩
theorem f_Rows_19_7 : zFL "LensPaths$Rows" 19 7 0 := ⟨by decide, by decide, by decide, "LensPaths$Named", z_wd 112 (by decide +kernel), Or.inl rfl⟩
theorem f_Rows_19 {k : Nat} (hk : k = 5 ∨ k = 6 ∨ k = 7) : zFL "LensPaths$Rows" 19 k 0 := by
  rcases hk with rfl | rfl | rfl
  · exact f_Rows_19_5
  · exact f_Rows_19_6
  · exact f_Rows_19_7
theorem f_Rows_25 : zFL "LensPaths$Rows" 25 8 1 := ⟨by decide, by decide, by decide, "LensPaths$Knot", z_wd 452 (by decide +kernel), Or.inl rfl⟩
theorem f_Rows_34_2 : zFL "LensPaths$Rows" 34 2 1 := ⟨by decide, by decide, by decide, "LensPaths$Rows", z_wd 52 (by decide +kernel), Or.inl rfl⟩
theorem f_Rows_34_3 : zFL "LensPaths$Rows" 34 3 1 := ⟨by decide, by decide, by decide, "LensPaths$Rows", z_wd 52 (by decide +kernel), Or.inl rfl⟩
theorem f_Rows_34_4 : zFL "LensPaths$Rows" 34 4 1 := ⟨by decide, by decide, by decide, "LensPaths$Rows", z_wd 52 (by decide +kernel), Or.inl rfl⟩
theorem f_Rows_34 {k : Nat} (hk : k = 2 ∨ k = 3 ∨ k = 4) : zFL "LensPaths$Rows" 34 k 1 := by
  rcases hk with rfl | rfl | rfl
  · exact f_Rows_34_2
  · exact f_Rows_34_3
  · exact f_Rows_34_4
theorem f_Rows_51_2 : zFL "LensPaths$Rows" 51 2 2 := ⟨by decide, by decide, by decide, "LensPaths$Rows", z_wd 61 (by decide +kernel), Or.inl rfl⟩
theorem f_Rows_51_3 : zFL "LensPaths$Rows" 51 3 2 := ⟨by decide, by decide, by decide, "LensPaths$Rows", z_wd 61 (by decide +kernel), Or.inl rfl⟩
theorem f_Rows_51_4 : zFL "LensPaths$Rows" 51 4 2 := ⟨by decide, by decide, by decide, "LensPaths$Rows", z_wd 61 (by decide +kernel), Or.inl rfl⟩
theorem f_Rows_51 {k : Nat} (hk : k = 2 ∨ k = 3 ∨ k = 4) : zFL "LensPaths$Rows" 51 k 2 := by
  rcases hk with rfl | rfl | rfl
  · exact f_Rows_51_2
  · exact f_Rows_51_3
  · exact f_Rows_51_4
theorem f_Schema_18 : zFL "LensPaths$Schema" 18 5 1 := ⟨by decide, by decide, by decide, "LensPaths$Field", z_wd 403 (by decide +kernel), Or.inl rfl⟩
theorem f_Schema_22 : zFL "LensPaths$Schema" 22 5 2 := ⟨by decide, by decide, by decide, "LensPaths$Field", z_wd 409 (by decide +kernel), Or.inl rfl⟩
theorem f_Schema_25 : zFL "LensPaths$Schema" 25 5 3 := ⟨by decide, by decide, by decide, "LensPaths$Field", z_wd 414 (by decide +kernel), Or.inl rfl⟩
theorem f_Schema_31 : zFL "LensPaths$Schema" 31 2 2 := ⟨by decide, by decide, by decide, "LensPaths$Schema", z_wd 60 (by decide +kernel), Or.inr (z_wd 54 (by decide +kernel))⟩
theorem f_Schema_37 : zFL "LensPaths$Schema" 37 5 0 := ⟨by decide, by decide, by decide, "LensPaths$Field", z_wd 116 (by decide +kernel), Or.inr (z_wd 110 (by decide +kernel))⟩
theorem f_Sign_7 : zFL "LensPaths$Sign" 7 7 1 := ⟨by decide, by decide, by decide, "LensPaths$Sign", z_wd 438 (by decide +kernel), Or.inl rfl⟩
theorem f_Signs_17 : zFL "LensPaths$Signs" 17 2 2 := ⟨by decide, by decide, by decide, "LensPaths$Schema", z_wd 57 (by decide +kernel), Or.inr (z_wd 54 (by decide +kernel))⟩
theorem f_Signs_29 : zFL "LensPaths$Signs" 29 5 1 := ⟨by decide, by decide, by decide, "LensPaths$Field", z_wd 404 (by decide +kernel), Or.inl rfl⟩
theorem f_Signs_32 : zFL "LensPaths$Signs" 32 4 2 := ⟨by decide, by decide, by decide, "LensPaths$Signs", z_wd 58 (by decide +kernel), Or.inr (z_wd 59 (by decide +kernel))⟩
theorem f_Signs_33 : zFL "LensPaths$Signs" 33 5 0 := ⟨by decide, by decide, by decide, "LensPaths$Field", z_wd 115 (by decide +kernel), Or.inr (z_wd 110 (by decide +kernel))⟩
theorem f_Signs_39 : zFL "LensPaths$Signs" 39 7 1 := ⟨by decide, by decide, by decide, "LensPaths$Sign", z_wd 439 (by decide +kernel), Or.inl rfl⟩
theorem f_Step_11 : zFL "LensPaths$Step" 11 11 3 := ⟨by decide, by decide, by decide, "LensPaths$Step", z_wd 545 (by decide +kernel), Or.inl rfl⟩
theorem f_Step_17 : zFL "LensPaths$Step" 17 11 0 := ⟨by decide, by decide, by decide, "LensPaths$Step", z_wd 539 (by decide +kernel), Or.inl rfl⟩
theorem f_Step_21 : zFL "LensPaths$Step" 21 11 1 := ⟨by decide, by decide, by decide, "LensPaths$Step", z_wd 541 (by decide +kernel), Or.inl rfl⟩
theorem f_Terms_9 : zFL "LensPaths$Terms" 9 14 0 := ⟨by decide, by decide, by decide, "LensPaths$Terms", z_wd 166 (by decide +kernel), Or.inl rfl⟩
theorem f_Terms_15 : zFL "LensPaths$Terms" 15 14 1 := ⟨by decide, by decide, by decide, "LensPaths$Terms", z_wd 167 (by decide +kernel), Or.inl rfl⟩
theorem f_Terms_31 : zFL "LensPaths$Terms" 31 12 4 := ⟨by decide, by decide, by decide, "LensPaths$Primitive", z_wd 613 (by decide +kernel), Or.inl rfl⟩
theorem f_Terms_44 : zFL "LensPaths$Terms" 44 7 1 := ⟨by decide, by decide, by decide, "LensPaths$Sign", z_wd 440 (by decide +kernel), Or.inl rfl⟩
theorem f_Terms_49 : zFL "LensPaths$Terms" 49 12 2 := ⟨by decide, by decide, by decide, "LensPaths$Primitive", z_wd 605 (by decide +kernel), Or.inl rfl⟩
theorem f_Terms_60 : zFL "LensPaths$Terms" 60 12 0 := ⟨by decide, by decide, by decide, "LensPaths$Primitive", z_wd 597 (by decide +kernel), Or.inl rfl⟩
theorem f_Terms_63 : zFL "LensPaths$Terms" 63 12 3 := ⟨by decide, by decide, by decide, "LensPaths$Primitive", z_wd 609 (by decide +kernel), Or.inl rfl⟩
theorem f_Terms_75 : zFL "LensPaths$Terms" 75 12 5 := ⟨by decide, by decide, by decide, "LensPaths$Primitive", z_wd 617 (by decide +kernel), Or.inl rfl⟩
theorem f_Terms_78 : zFL "LensPaths$Terms" 78 12 6 := ⟨by decide, by decide, by decide, "LensPaths$Primitive", z_wd 620 (by decide +kernel), Or.inl rfl⟩
theorem f_Walker_9 : zFL "LensPaths$Walker" 9 13 0 := ⟨by decide, by decide, by decide, "LensPaths$Walker", z_wd 156 (by decide +kernel), Or.inl rfl⟩
theorem f_Walker_15 : zFL "LensPaths$Walker" 15 11 2 := ⟨by decide, by decide, by decide, "LensPaths$Step", z_wd 543 (by decide +kernel), Or.inl rfl⟩
theorem f_Walker_21 : zFL "LensPaths$Walker" 21 11 3 := ⟨by decide, by decide, by decide, "LensPaths$Step", z_wd 546 (by decide +kernel), Or.inl rfl⟩
theorem f_Walker_35 : zFL "LensPaths$Walker" 35 12 0 := ⟨by decide, by decide, by decide, "LensPaths$Primitive", z_wd 595 (by decide +kernel), Or.inl rfl⟩
theorem f_Walker_44 : zFL "LensPaths$Walker" 44 12 1 := ⟨by decide, by decide, by decide, "LensPaths$Primitive", z_wd 600 (by decide +kernel), Or.inl rfl⟩
theorem f_Walker_53 : zFL "LensPaths$Walker" 53 12 2 := ⟨by decide, by decide, by decide, "LensPaths$Primitive", z_wd 603 (by decide +kernel), Or.inl rfl⟩
theorem f_Walker_72 : zFL "LensPaths$Walker" 72 12 4 := ⟨by decide, by decide, by decide, "LensPaths$Primitive", z_wd 611 (by decide +kernel), Or.inl rfl⟩
theorem f_MD_7 : zFL "LensPathsModel" 7 15 1 := ⟨by decide, by decide, by decide, "LensPathsModel", z_wd 1329 (by decide +kernel), Or.inl rfl⟩
theorem f_MD_13 : zFL "LensPathsModel" 13 15 2 := ⟨by decide, by decide, by decide, "LensPathsModel", z_wd 1330 (by decide +kernel), Or.inl rfl⟩
theorem f_MD_17 : zFL "LensPathsModel" 17 15 3 := ⟨by decide, by decide, by decide, "LensPathsModel", z_wd 1331 (by decide +kernel), Or.inl rfl⟩
theorem f_MD_20 : zFL "LensPathsModel" 20 15 4 := ⟨by decide, by decide, by decide, "LensPathsModel", z_wd 1332 (by decide +kernel), Or.inl rfl⟩
theorem f_MD_23 : zFL "LensPathsModel" 23 15 5 := ⟨by decide, by decide, by decide, "LensPathsModel", z_wd 1333 (by decide +kernel), Or.inl rfl⟩
theorem f_MD_26 : zFL "LensPathsModel" 26 15 6 := ⟨by decide, by decide, by decide, "LensPathsModel", z_wd 1334 (by decide +kernel), Or.inl rfl⟩
theorem f_MD_29 : zFL "LensPathsModel" 29 15 9 := ⟨by decide, by decide, by decide, "LensPathsModel", z_wd 1337 (by decide +kernel), Or.inl rfl⟩
theorem f_MD_32 : zFL "LensPathsModel" 32 15 10 := ⟨by decide, by decide, by decide, "LensPathsModel", z_wd 1338 (by decide +kernel), Or.inl rfl⟩
theorem f_MD_35 : zFL "LensPathsModel" 35 15 11 := ⟨by decide, by decide, by decide, "LensPathsModel", z_wd 1339 (by decide +kernel), Or.inl rfl⟩
theorem f_MD_38 : zFL "LensPathsModel" 38 15 12 := ⟨by decide, by decide, by decide, "LensPathsModel", z_wd 1340 (by decide +kernel), Or.inl rfl⟩
theorem f_MD_41 : zFL "LensPathsModel" 41 15 14 := ⟨by decide, by decide, by decide, "LensPathsModel", z_wd 1342 (by decide +kernel), Or.inl rfl⟩
theorem f_MD_44 : zFL "LensPathsModel" 44 15 15 := ⟨by decide, by decide, by decide, "LensPathsModel", z_wd 1343 (by decide +kernel), Or.inl rfl⟩
theorem f_MD_47 : zFL "LensPathsModel" 47 15 16 := ⟨by decide, by decide, by decide, "LensPathsModel", z_wd 1344 (by decide +kernel), Or.inl rfl⟩
theorem f_MD_50 : zFL "LensPathsModel" 50 15 17 := ⟨by decide, by decide, by decide, "LensPathsModel", z_wd 1345 (by decide +kernel), Or.inl rfl⟩
theorem f_MD_53 : zFL "LensPathsModel" 53 15 19 := ⟨by decide, by decide, by decide, "LensPathsModel", z_wd 1347 (by decide +kernel), Or.inl rfl⟩
theorem f_MD_56 : zFL "LensPathsModel" 56 15 20 := ⟨by decide, by decide, by decide, "LensPathsModel", z_wd 1348 (by decide +kernel), Or.inl rfl⟩
theorem f_MD_59 : zFL "LensPathsModel" 59 15 21 := ⟨by decide, by decide, by decide, "LensPathsModel", z_wd 1349 (by decide +kernel), Or.inl rfl⟩
theorem f_MD_62 : zFL "LensPathsModel" 62 15 22 := ⟨by decide, by decide, by decide, "LensPathsModel", z_wd 1350 (by decide +kernel), Or.inl rfl⟩
theorem f_MD_65 : zFL "LensPathsModel" 65 15 23 := ⟨by decide, by decide, by decide, "LensPathsModel", z_wd 1351 (by decide +kernel), Or.inl rfl⟩
theorem f_MD_68 : zFL "LensPathsModel" 68 15 24 := ⟨by decide, by decide, by decide, "LensPathsModel", z_wd 1352 (by decide +kernel), Or.inl rfl⟩
theorem f_MD_71 : zFL "LensPathsModel" 71 15 25 := ⟨by decide, by decide, by decide, "LensPathsModel", z_wd 1353 (by decide +kernel), Or.inl rfl⟩
theorem f_MD_74 : zFL "LensPathsModel" 74 15 26 := ⟨by decide, by decide, by decide, "LensPathsModel", z_wd 1354 (by decide +kernel), Or.inl rfl⟩
theorem f_MD_77 : zFL "LensPathsModel" 77 15 30 := ⟨by decide, by decide, by decide, "LensPathsModel", z_wd 1358 (by decide +kernel), Or.inl rfl⟩
theorem f_MD_80 : zFL "LensPathsModel" 80 15 31 := ⟨by decide, by decide, by decide, "LensPathsModel", z_wd 1359 (by decide +kernel), Or.inl rfl⟩
theorem f_MD_83 : zFL "LensPathsModel" 83 15 32 := ⟨by decide, by decide, by decide, "LensPathsModel", z_wd 1360 (by decide +kernel), Or.inl rfl⟩
theorem f_MD_86 : zFL "LensPathsModel" 86 15 34 := ⟨by decide, by decide, by decide, "LensPathsModel", z_wd 1362 (by decide +kernel), Or.inl rfl⟩
theorem f_MD_89 : zFL "LensPathsModel" 89 15 35 := ⟨by decide, by decide, by decide, "LensPathsModel", z_wd 1363 (by decide +kernel), Or.inl rfl⟩
theorem f_MD_92 : zFL "LensPathsModel" 92 15 36 := ⟨by decide, by decide, by decide, "LensPathsModel", z_wd 1364 (by decide +kernel), Or.inl rfl⟩
theorem f_MD_95 : zFL "LensPathsModel" 95 15 37 := ⟨by decide, by decide, by decide, "LensPathsModel", z_wd 1365 (by decide +kernel), Or.inl rfl⟩
theorem f_MD_98 : zFL "LensPathsModel" 98 15 38 := ⟨by decide, by decide, by decide, "LensPathsModel", z_wd 1366 (by decide +kernel), Or.inl rfl⟩
theorem f_MD_101 : zFL "LensPathsModel" 101 15 0 := ⟨by decide, by decide, by decide, "LensPathsModel", z_wd 1328 (by decide +kernel), Or.inl rfl⟩
theorem f_MD_108 : zFL "LensPathsModel" 108 15 18 := ⟨by decide, by decide, by decide, "LensPathsModel", z_wd 1346 (by decide +kernel), Or.inl rfl⟩
theorem f_MD_118 : zFL "LensPathsModel" 118 15 27 := ⟨by decide, by decide, by decide, "LensPathsModel", z_wd 1355 (by decide +kernel), Or.inl rfl⟩
theorem f_MD_143 : zFL "LensPathsModel" 143 15 29 := ⟨by decide, by decide, by decide, "LensPathsModel", z_wd 1357 (by decide +kernel), Or.inl rfl⟩
theorem f_MD_214 : zFL "LensPathsModel" 214 15 28 := ⟨by decide, by decide, by decide, "LensPathsModel", z_wd 1356 (by decide +kernel), Or.inl rfl⟩
theorem f_MD_234 : zFL "LensPathsModel" 234 15 7 := ⟨by decide, by decide, by decide, "LensPathsModel", z_wd 1335 (by decide +kernel), Or.inl rfl⟩
theorem f_MD_257 : zFL "LensPathsModel" 257 15 13 := ⟨by decide, by decide, by decide, "LensPathsModel", z_wd 1341 (by decide +kernel), Or.inl rfl⟩
theorem f_MD_260 : zFL "LensPathsModel" 260 15 8 := ⟨by decide, by decide, by decide, "LensPathsModel", z_wd 1336 (by decide +kernel), Or.inl rfl⟩
theorem f_MD_299 : zFL "LensPathsModel" 299 15 33 := ⟨by decide, by decide, by decide, "LensPathsModel", z_wd 1361 (by decide +kernel), Or.inl rfl⟩
