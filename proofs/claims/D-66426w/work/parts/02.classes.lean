/-! PART 02: the classes, by number: 1 LensPaths, 2 Schema, 3 Places, 4 Signs, 5 Field, 6 Place, 7 Sign, 8 Knot, 9 Card, 10 Kept, 11 Step, 12 Primitive, 13 Walker, 14 Terms, 15 LensPathsModel; thrown: 16 IllegalState, 17 IllegalArgument, 18 IndexOutOfBounds, 19 UnsupportedOperation, 20 Arithmetic; arrays: 21 int, 22 long, 23 Schema, 24 Step, 25 Card, 26 Primitive, 27 Kept (printed by wip/gen/names.py) -/
def zF1 : u_T := fun k => match k with
  | 0 => ("LensPaths", "versions", "[LLensPaths$Schema;", true)
  | 1 => ("LensPaths", "many", "I", false)
  | 2 => ("LensPaths", "steps", "[LLensPaths$Step;", true)
  | 3 => ("LensPaths", "stepCount", "I", false)
  | 4 => ("LensPaths", "under", "LLensPaths$Step;", false)
  | 5 => ("LensPaths", "made", "LLensPaths$Schema;", true)
  | 6 => ("LensPaths", "closed", "Z", false)
  | 7 => ("LensPaths", "distances", "[I", true)
  | 8 => ("LensPaths", "way", "[I", true)
  | 9 => ("LensPaths", "cards", "[LLensPaths$Card;", true)
  | 10 => ("LensPaths", "scratch", "LLensPaths$Card;", false)
  | 11 => ("LensPaths", "places", "LLensPaths$Walker;", true)
  | 12 => ("LensPaths", "signs", "LLensPaths$Walker;", true)
  | 13 => ("LensPaths", "terms", "LLensPaths$Terms;", true)
  | 14 => ("LensPaths", "one", "LLensPaths$Signs;", true)
  | _ => ("LensPaths", "other", "LLensPaths$Signs;", true)
def zT1 : Nat → FieldType := fun k => match k with
  | 0 => .array (.object "LensPaths$Schema")
  | 1 => .int
  | 2 => .array (.object "LensPaths$Step")
  | 3 => .int
  | 4 => .object "LensPaths$Step"
  | 5 => .object "LensPaths$Schema"
  | 6 => .boolean
  | 7 => .array .int
  | 8 => .array .int
  | 9 => .array (.object "LensPaths$Card")
  | 10 => .object "LensPaths$Card"
  | 11 => .object "LensPaths$Walker"
  | 12 => .object "LensPaths$Walker"
  | 13 => .object "LensPaths$Terms"
  | 14 => .object "LensPaths$Signs"
  | _ => .object "LensPaths$Signs"
def zF2 : u_T := fun k => match k with
  | 0 => ("LensPaths$Rows", "first", "LLensPaths$Knot;", false)
  | 1 => ("LensPaths$Rows", "spare", "LLensPaths$Knot;", false)
  | _ => ("LensPaths$Rows", "many", "I", false)
def zT2 : Nat → FieldType := fun k => match k with
  | 0 => .object "LensPaths$Knot"
  | 1 => .object "LensPaths$Knot"
  | _ => .int
def zF3 : u_T := fun k => match k with
  | 0 => ("LensPaths$Rows", "first", "LLensPaths$Knot;", false)
  | 1 => ("LensPaths$Rows", "spare", "LLensPaths$Knot;", false)
  | _ => ("LensPaths$Rows", "many", "I", false)
def zT3 : Nat → FieldType := fun k => match k with
  | 0 => .object "LensPaths$Knot"
  | 1 => .object "LensPaths$Knot"
  | _ => .int
def zF4 : u_T := fun k => match k with
  | 0 => ("LensPaths$Rows", "first", "LLensPaths$Knot;", false)
  | 1 => ("LensPaths$Rows", "spare", "LLensPaths$Knot;", false)
  | _ => ("LensPaths$Rows", "many", "I", false)
def zT4 : Nat → FieldType := fun k => match k with
  | 0 => .object "LensPaths$Knot"
  | 1 => .object "LensPaths$Knot"
  | _ => .int
def zF5 : u_T := fun k => match k with
  | 0 => ("LensPaths$Named", "path", "I", false)
  | 1 => ("LensPaths$Field", "sort", "I", false)
  | 2 => ("LensPaths$Field", "low", "I", false)
  | _ => ("LensPaths$Field", "high", "I", false)
def zT5 : Nat → FieldType := fun k => match k with
  | 0 => .int
  | 1 => .int
  | 2 => .int
  | _ => .int
def zF6 : u_T := fun k => match k with
  | 0 => ("LensPaths$Named", "path", "I", false)
  | 1 => ("LensPaths$Place", "list", "Z", false)
  | 2 => ("LensPaths$Place", "size", "I", false)
  | _ => ("LensPaths$Place", "numbers", "[I", true)
def zT6 : Nat → FieldType := fun k => match k with
  | 0 => .int
  | 1 => .boolean
  | 2 => .int
  | _ => .array .int
def zF7 : u_T := fun k => match k with
  | 0 => ("LensPaths$Named", "path", "I", false)
  | _ => ("LensPaths$Sign", "term", "I", false)
def zT7 : Nat → FieldType := fun k => match k with
  | 0 => .int
  | _ => .int
def zF8 : u_T := fun k => match k with
  | 0 => ("LensPaths$Knot", "row", "LLensPaths$Named;", true)
  | _ => ("LensPaths$Knot", "next", "LLensPaths$Knot;", false)
def zT8 : Nat → FieldType := fun k => match k with
  | 0 => .object "LensPaths$Named"
  | _ => .object "LensPaths$Knot"
def zF9 : u_T := fun k => match k with
  | 0 => ("LensPaths$Card", "version", "I", false)
  | 1 => ("LensPaths$Card", "places", "LLensPaths$Places;", true)
  | 2 => ("LensPaths$Card", "kept", "[LLensPaths$Kept;", true)
  | 3 => ("LensPaths$Card", "many", "I", false)
  | 4 => ("LensPaths$Card", "before", "LLensPaths$Place;", true)
  | _ => ("LensPaths$Card", "behind", "LLensPaths$Place;", true)
def zT9 : Nat → FieldType := fun k => match k with
  | 0 => .int
  | 1 => .object "LensPaths$Places"
  | 2 => .array (.object "LensPaths$Kept")
  | 3 => .int
  | 4 => .object "LensPaths$Place"
  | _ => .object "LensPaths$Place"
def zF10 : u_T := fun k => match k with
  | 0 => ("LensPaths$Kept", "key", "I", false)
  | 1 => ("LensPaths$Kept", "back", "Z", false)
  | 2 => ("LensPaths$Kept", "was", "LLensPaths$Place;", true)
  | _ => ("LensPaths$Kept", "came", "LLensPaths$Place;", true)
def zT10 : Nat → FieldType := fun k => match k with
  | 0 => .int
  | 1 => .boolean
  | 2 => .object "LensPaths$Place"
  | _ => .object "LensPaths$Place"
def zF11 : u_T := fun k => match k with
  | 0 => ("LensPaths$Step", "from", "I", false)
  | 1 => ("LensPaths$Step", "to", "I", false)
  | 2 => ("LensPaths$Step", "many", "I", false)
  | _ => ("LensPaths$Step", "primitives", "[LLensPaths$Primitive;", true)
def zT11 : Nat → FieldType := fun k => match k with
  | 0 => .int
  | 1 => .int
  | 2 => .int
  | _ => .array (.object "LensPaths$Primitive")
def zF12 : u_T := fun k => match k with
  | 0 => ("LensPaths$Primitive", "kind", "I", false)
  | 1 => ("LensPaths$Primitive", "path", "I", false)
  | 2 => ("LensPaths$Primitive", "a", "I", false)
  | 3 => ("LensPaths$Primitive", "b", "I", false)
  | 4 => ("LensPaths$Primitive", "sort", "I", false)
  | 5 => ("LensPaths$Primitive", "low", "I", false)
  | _ => ("LensPaths$Primitive", "high", "I", false)
def zT12 : Nat → FieldType := fun k => match k with
  | 0 => .int
  | 1 => .int
  | 2 => .int
  | 3 => .int
  | 4 => .int
  | 5 => .int
  | _ => .int
def zF13 : u_T := fun k => match k with
  | _ => ("LensPaths$Walker", "algebra", "LLensPaths$Algebra;", false)
def zT13 : Nat → FieldType := fun k => match k with
  | _ => .object "LensPaths$Algebra"
def zF14 : u_T := fun k => match k with
  | 0 => ("LensPaths$Terms", "cells", "[I", true)
  | _ => ("LensPaths$Terms", "many", "I", false)
def zT14 : Nat → FieldType := fun k => match k with
  | 0 => .array .int
  | _ => .int
def zF15 : u_T := fun k => match k with
  | 0 => ("LensPathsModel", "thrown", "I", false)
  | 1 => ("LensPathsModel", "versions", "I", false)
  | 2 => ("LensPathsModel", "counts", "[I", true)
  | 3 => ("LensPathsModel", "paths", "[I", true)
  | 4 => ("LensPathsModel", "sorts", "[I", true)
  | 5 => ("LensPathsModel", "lows", "[I", true)
  | 6 => ("LensPathsModel", "highs", "[I", true)
  | 7 => ("LensPathsModel", "begun", "Z", false)
  | 8 => ("LensPathsModel", "steps", "I", false)
  | 9 => ("LensPathsModel", "stepFrom", "[I", true)
  | 10 => ("LensPathsModel", "stepTo", "[I", true)
  | 11 => ("LensPathsModel", "stepSize", "[I", true)
  | 12 => ("LensPathsModel", "prim", "[I", true)
  | 13 => ("LensPathsModel", "underWay", "Z", false)
  | 14 => ("LensPathsModel", "recordVersion", "[I", true)
  | 15 => ("LensPathsModel", "values", "[I", true)
  | 16 => ("LensPathsModel", "keptKind", "[I", true)
  | 17 => ("LensPathsModel", "keptRows", "[I", true)
  | 18 => ("LensPathsModel", "fields", "I", false)
  | 19 => ("LensPathsModel", "path", "[I", true)
  | 20 => ("LensPathsModel", "sort", "[I", true)
  | 21 => ("LensPathsModel", "low", "[I", true)
  | 22 => ("LensPathsModel", "high", "[I", true)
  | 23 => ("LensPathsModel", "row", "[I", true)
  | 24 => ("LensPathsModel", "term", "[I", true)
  | 25 => ("LensPathsModel", "workKind", "[I", true)
  | 26 => ("LensPathsModel", "workRows", "[I", true)
  | 27 => ("LensPathsModel", "mode", "I", false)
  | 28 => ("LensPathsModel", "cannot", "Z", false)
  | 29 => ("LensPathsModel", "terms", "I", false)
  | 30 => ("LensPathsModel", "termTag", "[I", true)
  | 31 => ("LensPathsModel", "termArguments", "[I", true)
  | 32 => ("LensPathsModel", "otherTerms", "[I", true)
  | 33 => ("LensPathsModel", "routeSize", "I", false)
  | 34 => ("LensPathsModel", "routeVersions", "[I", true)
  | 35 => ("LensPathsModel", "routeSteps", "[I", true)
  | 36 => ("LensPathsModel", "distance", "[I", true)
  | 37 => ("LensPathsModel", "made", "[I", true)
  | _ => ("LensPathsModel", "again", "[I", true)
def zT15 : Nat → FieldType := fun k => match k with
  | 0 => .int
  | 1 => .int
  | 2 => .array .int
  | 3 => .array .int
  | 4 => .array .int
  | 5 => .array .int
  | 6 => .array .int
  | 7 => .boolean
  | 8 => .int
  | 9 => .array .int
  | 10 => .array .int
  | 11 => .array .int
  | 12 => .array .int
  | 13 => .boolean
  | 14 => .array .int
  | 15 => .array .int
  | 16 => .array .int
  | 17 => .array .int
  | 18 => .int
  | 19 => .array .int
  | 20 => .array .int
  | 21 => .array .int
  | 22 => .array .int
  | 23 => .array .int
  | 24 => .array .int
  | 25 => .array .int
  | 26 => .array .int
  | 27 => .int
  | 28 => .boolean
  | 29 => .int
  | 30 => .array .int
  | 31 => .array .int
  | 32 => .array .int
  | 33 => .int
  | 34 => .array .int
  | 35 => .array .int
  | 36 => .array .int
  | 37 => .array .int
  | _ => .array .int
def zC (k : Nat) : String := match k with
  | 1 => "LensPaths"
  | 2 => "LensPaths$Schema"
  | 3 => "LensPaths$Places"
  | 4 => "LensPaths$Signs"
  | 5 => "LensPaths$Field"
  | 6 => "LensPaths$Place"
  | 7 => "LensPaths$Sign"
  | 8 => "LensPaths$Knot"
  | 9 => "LensPaths$Card"
  | 10 => "LensPaths$Kept"
  | 11 => "LensPaths$Step"
  | 12 => "LensPaths$Primitive"
  | 13 => "LensPaths$Walker"
  | 14 => "LensPaths$Terms"
  | 15 => "LensPathsModel"
  | 16 => "java/lang/IllegalStateException"
  | 17 => "java/lang/IllegalArgumentException"
  | 18 => "java/lang/IndexOutOfBoundsException"
  | 19 => "java/lang/UnsupportedOperationException"
  | 20 => "java/lang/ArithmeticException"
  | _ => ""
def zF (k : Nat) : u_T := match k with
  | 1 => zF1
  | 2 => zF2
  | 3 => zF3
  | 4 => zF4
  | 5 => zF5
  | 6 => zF6
  | 7 => zF7
  | 8 => zF8
  | 9 => zF9
  | 10 => zF10
  | 11 => zF11
  | 12 => zF12
  | 13 => zF13
  | 14 => zF14
  | 15 => zF15
  | _ => fun _ => ("", "", "", false)
def zT (k : Nat) : Nat → FieldType := match k with
  | 1 => zT1
  | 2 => zT2
  | 3 => zT3
  | 4 => zT4
  | 5 => zT5
  | 6 => zT6
  | 7 => zT7
  | 8 => zT8
  | 9 => zT9
  | 10 => zT10
  | 11 => zT11
  | 12 => zT12
  | 13 => zT13
  | 14 => zT14
  | 15 => zT15
  | _ => fun _ => .int
/-- how many fields -/
def zN (k : Nat) : Nat := match k with
  | 1 => 16
  | 2 => 3
  | 3 => 3
  | 4 => 3
  | 5 => 4
  | 6 => 4
  | 7 => 2
  | 8 => 2
  | 9 => 6
  | 10 => 4
  | 11 => 4
  | 12 => 7
  | 13 => 1
  | 14 => 2
  | 15 => 39
  | _ => 0
/-- the components of the arrays of references -/
def zE (k : Nat) : String := match k with
  | 23 => "LensPaths$Schema"
  | 24 => "LensPaths$Step"
  | 25 => "LensPaths$Card"
  | 26 => "LensPaths$Primitive"
  | 27 => "LensPaths$Kept"
  | _ => ""
/-- is the field a reference -/
def zq (k j : Nat) : Bool := (zT k j).isReference
/-- every word by its place in tables_1 -/
theorem z_tbl {w : Cond} (h : w ∈ tables_1) : w ∈ lw_tbl := List.mem_append_right _ h
theorem z_wd {w : Cond} (i : Nat) (h : tables_1[i]? = some w) : w ∈ lw_tbl := z_tbl (List.mem_of_getElem? h)
theorem zK_t1 : ∀ j, j < zN 1 → parseFieldDescriptor (zF 1 j).2.2.1 = some (zT 1 j) := by decide +kernel
theorem zK_n1 : ∀ i, i < zN 1 → ∀ j, j < zN 1 → i ≠ j → (zF 1 i).2.1 ≠ (zF 1 j).2.1 := by decide +kernel
theorem zK_l1 : ∀ w ∈ u_ws (zC 1) (zF 1) (zN 1), w ∈ lw_tbl := by
  intro w hw
  obtain ⟨j, hj, rfl⟩ := List.mem_map.mp hw
  have hj : j < 16 := List.mem_range.mp hj
  have e : (List.range 16).map (u_lay (zC 1) (zF 1)) = [199, 201, 203, 205, 207, 209, 211, 213, 215, 217, 219, 221, 223, 225, 227, 229].filterMap (fun i => tables_1[i]?) := by decide +kernel
  have hm : u_lay (zC 1) (zF 1) j ∈ (List.range 16).map (u_lay (zC 1) (zF 1)) := List.mem_map.mpr ⟨j, List.mem_range.mpr hj, rfl⟩
  rw [e] at hm
  obtain ⟨i, -, hi⟩ := List.mem_filterMap.mp hm
  exact z_wd i hi
theorem zK_i1 : Cond.instantiable (zC 1) (zN 1) ∈ lw_tbl := z_wd 32 (by decide +kernel)
theorem zK_t2 : ∀ j, j < zN 2 → parseFieldDescriptor (zF 2 j).2.2.1 = some (zT 2 j) := by decide +kernel
theorem zK_n2 : ∀ i, i < zN 2 → ∀ j, j < zN 2 → i ≠ j → (zF 2 i).2.1 ≠ (zF 2 j).2.1 := by decide +kernel
theorem zK_l2 : ∀ w ∈ u_ws (zC 2) (zF 2) (zN 2), w ∈ lw_tbl := by
  intro w hw
  obtain ⟨j, hj, rfl⟩ := List.mem_map.mp hw
  have hj : j < 3 := List.mem_range.mp hj
  have e : (List.range 3).map (u_lay (zC 2) (zF 2)) = [64, 66, 68].filterMap (fun i => tables_1[i]?) := by decide +kernel
  have hm : u_lay (zC 2) (zF 2) j ∈ (List.range 3).map (u_lay (zC 2) (zF 2)) := List.mem_map.mpr ⟨j, List.mem_range.mpr hj, rfl⟩
  rw [e] at hm
  obtain ⟨i, -, hi⟩ := List.mem_filterMap.mp hm
  exact z_wd i hi
theorem zK_i2 : Cond.instantiable (zC 2) (zN 2) ∈ lw_tbl := z_wd 43 (by decide +kernel)
theorem zK_t3 : ∀ j, j < zN 3 → parseFieldDescriptor (zF 3 j).2.2.1 = some (zT 3 j) := by decide +kernel
theorem zK_n3 : ∀ i, i < zN 3 → ∀ j, j < zN 3 → i ≠ j → (zF 3 i).2.1 ≠ (zF 3 j).2.1 := by decide +kernel
theorem zK_l3 : ∀ w ∈ u_ws (zC 3) (zF 3) (zN 3), w ∈ lw_tbl := by
  intro w hw
  obtain ⟨j, hj, rfl⟩ := List.mem_map.mp hw
  have hj : j < 3 := List.mem_range.mp hj
  have e : (List.range 3).map (u_lay (zC 3) (zF 3)) = [84, 85, 86].filterMap (fun i => tables_1[i]?) := by decide +kernel
  have hm : u_lay (zC 3) (zF 3) j ∈ (List.range 3).map (u_lay (zC 3) (zF 3)) := List.mem_map.mpr ⟨j, List.mem_range.mpr hj, rfl⟩
  rw [e] at hm
  obtain ⟨i, -, hi⟩ := List.mem_filterMap.mp hm
  exact z_wd i hi
theorem zK_i3 : Cond.instantiable (zC 3) (zN 3) ∈ lw_tbl := z_wd 79 (by decide +kernel)
theorem zK_t4 : ∀ j, j < zN 4 → parseFieldDescriptor (zF 4 j).2.2.1 = some (zT 4 j) := by decide +kernel
theorem zK_n4 : ∀ i, i < zN 4 → ∀ j, j < zN 4 → i ≠ j → (zF 4 i).2.1 ≠ (zF 4 j).2.1 := by decide +kernel
theorem zK_l4 : ∀ w ∈ u_ws (zC 4) (zF 4) (zN 4), w ∈ lw_tbl := by
  intro w hw
  obtain ⟨j, hj, rfl⟩ := List.mem_map.mp hw
  have hj : j < 3 := List.mem_range.mp hj
  have e : (List.range 3).map (u_lay (zC 4) (zF 4)) = [179, 180, 181].filterMap (fun i => tables_1[i]?) := by decide +kernel
  have hm : u_lay (zC 4) (zF 4) j ∈ (List.range 3).map (u_lay (zC 4) (zF 4)) := List.mem_map.mpr ⟨j, List.mem_range.mpr hj, rfl⟩
  rw [e] at hm
  obtain ⟨i, -, hi⟩ := List.mem_filterMap.mp hm
  exact z_wd i hi
theorem zK_i4 : Cond.instantiable (zC 4) (zN 4) ∈ lw_tbl := z_wd 174 (by decide +kernel)
theorem zK_t5 : ∀ j, j < zN 5 → parseFieldDescriptor (zF 5 j).2.2.1 = some (zT 5 j) := by decide +kernel
theorem zK_n5 : ∀ i, i < zN 5 → ∀ j, j < zN 5 → i ≠ j → (zF 5 i).2.1 ≠ (zF 5 j).2.1 := by decide +kernel
theorem zK_l5 : ∀ w ∈ u_ws (zC 5) (zF 5) (zN 5), w ∈ lw_tbl := by
  intro w hw
  obtain ⟨j, hj, rfl⟩ := List.mem_map.mp hw
  have hj : j < 4 := List.mem_range.mp hj
  have e : (List.range 4).map (u_lay (zC 5) (zF 5)) = [423, 417, 419, 421].filterMap (fun i => tables_1[i]?) := by decide +kernel
  have hm : u_lay (zC 5) (zF 5) j ∈ (List.range 4).map (u_lay (zC 5) (zF 5)) := List.mem_map.mpr ⟨j, List.mem_range.mpr hj, rfl⟩
  rw [e] at hm
  obtain ⟨i, -, hi⟩ := List.mem_filterMap.mp hm
  exact z_wd i hi
theorem zK_i5 : Cond.instantiable (zC 5) (zN 5) ∈ lw_tbl := z_wd 396 (by decide +kernel)
theorem zK_t6 : ∀ j, j < zN 6 → parseFieldDescriptor (zF 6 j).2.2.1 = some (zT 6 j) := by decide +kernel
theorem zK_n6 : ∀ i, i < zN 6 → ∀ j, j < zN 6 → i ≠ j → (zF 6 i).2.1 ≠ (zF 6 j).2.1 := by decide +kernel
theorem zK_l6 : ∀ w ∈ u_ws (zC 6) (zF 6) (zN 6), w ∈ lw_tbl := by
  intro w hw
  obtain ⟨j, hj, rfl⟩ := List.mem_map.mp hw
  have hj : j < 4 := List.mem_range.mp hj
  have e : (List.range 4).map (u_lay (zC 6) (zF 6)) = [125, 119, 121, 123].filterMap (fun i => tables_1[i]?) := by decide +kernel
  have hm : u_lay (zC 6) (zF 6) j ∈ (List.range 4).map (u_lay (zC 6) (zF 6)) := List.mem_map.mpr ⟨j, List.mem_range.mpr hj, rfl⟩
  rw [e] at hm
  obtain ⟨i, -, hi⟩ := List.mem_filterMap.mp hm
  exact z_wd i hi
theorem zK_i6 : Cond.instantiable (zC 6) (zN 6) ∈ lw_tbl := z_wd 92 (by decide +kernel)
theorem zK_t7 : ∀ j, j < zN 7 → parseFieldDescriptor (zF 7 j).2.2.1 = some (zT 7 j) := by decide +kernel
theorem zK_n7 : ∀ i, i < zN 7 → ∀ j, j < zN 7 → i ≠ j → (zF 7 i).2.1 ≠ (zF 7 j).2.1 := by decide +kernel
theorem zK_l7 : ∀ w ∈ u_ws (zC 7) (zF 7) (zN 7), w ∈ lw_tbl := by
  intro w hw
  obtain ⟨j, hj, rfl⟩ := List.mem_map.mp hw
  have hj : j < 2 := List.mem_range.mp hj
  have e : (List.range 2).map (u_lay (zC 7) (zF 7)) = [444, 442].filterMap (fun i => tables_1[i]?) := by decide +kernel
  have hm : u_lay (zC 7) (zF 7) j ∈ (List.range 2).map (u_lay (zC 7) (zF 7)) := List.mem_map.mpr ⟨j, List.mem_range.mpr hj, rfl⟩
  rw [e] at hm
  obtain ⟨i, -, hi⟩ := List.mem_filterMap.mp hm
  exact z_wd i hi
theorem zK_i7 : Cond.instantiable (zC 7) (zN 7) ∈ lw_tbl := z_wd 433 (by decide +kernel)
theorem zK_t8 : ∀ j, j < zN 8 → parseFieldDescriptor (zF 8 j).2.2.1 = some (zT 8 j) := by decide +kernel
theorem zK_n8 : ∀ i, i < zN 8 → ∀ j, j < zN 8 → i ≠ j → (zF 8 i).2.1 ≠ (zF 8 j).2.1 := by decide +kernel
theorem zK_l8 : ∀ w ∈ u_ws (zC 8) (zF 8) (zN 8), w ∈ lw_tbl := by
  intro w hw
  obtain ⟨j, hj, rfl⟩ := List.mem_map.mp hw
  have hj : j < 2 := List.mem_range.mp hj
  have e : (List.range 2).map (u_lay (zC 8) (zF 8)) = [453, 455].filterMap (fun i => tables_1[i]?) := by decide +kernel
  have hm : u_lay (zC 8) (zF 8) j ∈ (List.range 2).map (u_lay (zC 8) (zF 8)) := List.mem_map.mpr ⟨j, List.mem_range.mpr hj, rfl⟩
  rw [e] at hm
  obtain ⟨i, -, hi⟩ := List.mem_filterMap.mp hm
  exact z_wd i hi
theorem zK_i8 : Cond.instantiable (zC 8) (zN 8) ∈ lw_tbl := z_wd 376 (by decide +kernel)
theorem zK_t9 : ∀ j, j < zN 9 → parseFieldDescriptor (zF 9 j).2.2.1 = some (zT 9 j) := by decide +kernel
theorem zK_n9 : ∀ i, i < zN 9 → ∀ j, j < zN 9 → i ≠ j → (zF 9 i).2.1 ≠ (zF 9 j).2.1 := by decide +kernel
theorem zK_l9 : ∀ w ∈ u_ws (zC 9) (zF 9) (zN 9), w ∈ lw_tbl := by
  intro w hw
  obtain ⟨j, hj, rfl⟩ := List.mem_map.mp hw
  have hj : j < 6 := List.mem_range.mp hj
  have e : (List.range 6).map (u_lay (zC 9) (zF 9)) = [137, 139, 141, 143, 145, 147].filterMap (fun i => tables_1[i]?) := by decide +kernel
  have hm : u_lay (zC 9) (zF 9) j ∈ (List.range 6).map (u_lay (zC 9) (zF 9)) := List.mem_map.mpr ⟨j, List.mem_range.mpr hj, rfl⟩
  rw [e] at hm
  obtain ⟨i, -, hi⟩ := List.mem_filterMap.mp hm
  exact z_wd i hi
theorem zK_i9 : Cond.instantiable (zC 9) (zN 9) ∈ lw_tbl := z_wd 73 (by decide +kernel)
theorem zK_t10 : ∀ j, j < zN 10 → parseFieldDescriptor (zF 10 j).2.2.1 = some (zT 10 j) := by decide +kernel
theorem zK_n10 : ∀ i, i < zN 10 → ∀ j, j < zN 10 → i ≠ j → (zF 10 i).2.1 ≠ (zF 10 j).2.1 := by decide +kernel
theorem zK_l10 : ∀ w ∈ u_ws (zC 10) (zF 10) (zN 10), w ∈ lw_tbl := by
  intro w hw
  obtain ⟨j, hj, rfl⟩ := List.mem_map.mp hw
  have hj : j < 4 := List.mem_range.mp hj
  have e : (List.range 4).map (u_lay (zC 10) (zF 10)) = [854, 856, 858, 860].filterMap (fun i => tables_1[i]?) := by decide +kernel
  have hm : u_lay (zC 10) (zF 10) j ∈ (List.range 4).map (u_lay (zC 10) (zF 10)) := List.mem_map.mpr ⟨j, List.mem_range.mpr hj, rfl⟩
  rw [e] at hm
  obtain ⟨i, -, hi⟩ := List.mem_filterMap.mp hm
  exact z_wd i hi
theorem zK_i10 : Cond.instantiable (zC 10) (zN 10) ∈ lw_tbl := z_wd 841 (by decide +kernel)
theorem zK_t11 : ∀ j, j < zN 11 → parseFieldDescriptor (zF 11 j).2.2.1 = some (zT 11 j) := by decide +kernel
theorem zK_n11 : ∀ i, i < zN 11 → ∀ j, j < zN 11 → i ≠ j → (zF 11 i).2.1 ≠ (zF 11 j).2.1 := by decide +kernel
theorem zK_l11 : ∀ w ∈ u_ws (zC 11) (zF 11) (zN 11), w ∈ lw_tbl := by
  intro w hw
  obtain ⟨j, hj, rfl⟩ := List.mem_map.mp hw
  have hj : j < 4 := List.mem_range.mp hj
  have e : (List.range 4).map (u_lay (zC 11) (zF 11)) = [548, 550, 552, 554].filterMap (fun i => tables_1[i]?) := by decide +kernel
  have hm : u_lay (zC 11) (zF 11) j ∈ (List.range 4).map (u_lay (zC 11) (zF 11)) := List.mem_map.mpr ⟨j, List.mem_range.mpr hj, rfl⟩
  rw [e] at hm
  obtain ⟨i, -, hi⟩ := List.mem_filterMap.mp hm
  exact z_wd i hi
theorem zK_i11 : Cond.instantiable (zC 11) (zN 11) ∈ lw_tbl := z_wd 532 (by decide +kernel)
theorem zK_t12 : ∀ j, j < zN 12 → parseFieldDescriptor (zF 12 j).2.2.1 = some (zT 12 j) := by decide +kernel
theorem zK_n12 : ∀ i, i < zN 12 → ∀ j, j < zN 12 → i ≠ j → (zF 12 i).2.1 ≠ (zF 12 j).2.1 := by decide +kernel
theorem zK_l12 : ∀ w ∈ u_ws (zC 12) (zF 12) (zN 12), w ∈ lw_tbl := by
  intro w hw
  obtain ⟨j, hj, rfl⟩ := List.mem_map.mp hw
  have hj : j < 7 := List.mem_range.mp hj
  have e : (List.range 7).map (u_lay (zC 12) (zF 12)) = [621, 623, 625, 627, 629, 631, 633].filterMap (fun i => tables_1[i]?) := by decide +kernel
  have hm : u_lay (zC 12) (zF 12) j ∈ (List.range 7).map (u_lay (zC 12) (zF 12)) := List.mem_map.mpr ⟨j, List.mem_range.mpr hj, rfl⟩
  rw [e] at hm
  obtain ⟨i, -, hi⟩ := List.mem_filterMap.mp hm
  exact z_wd i hi
theorem zK_i12 : Cond.instantiable (zC 12) (zN 12) ∈ lw_tbl := z_wd 589 (by decide +kernel)
theorem zK_t13 : ∀ j, j < zN 13 → parseFieldDescriptor (zF 13 j).2.2.1 = some (zT 13 j) := by decide +kernel
theorem zK_n13 : ∀ i, i < zN 13 → ∀ j, j < zN 13 → i ≠ j → (zF 13 i).2.1 ≠ (zF 13 j).2.1 := by decide +kernel
theorem zK_l13 : ∀ w ∈ u_ws (zC 13) (zF 13) (zN 13), w ∈ lw_tbl := by
  intro w hw
  obtain ⟨j, hj, rfl⟩ := List.mem_map.mp hw
  have hj : j < 1 := List.mem_range.mp hj
  have e : (List.range 1).map (u_lay (zC 13) (zF 13)) = [157].filterMap (fun i => tables_1[i]?) := by decide +kernel
  have hm : u_lay (zC 13) (zF 13) j ∈ (List.range 1).map (u_lay (zC 13) (zF 13)) := List.mem_map.mpr ⟨j, List.mem_range.mpr hj, rfl⟩
  rw [e] at hm
  obtain ⟨i, -, hi⟩ := List.mem_filterMap.mp hm
  exact z_wd i hi
theorem zK_i13 : Cond.instantiable (zC 13) (zN 13) ∈ lw_tbl := z_wd 151 (by decide +kernel)
theorem zK_t14 : ∀ j, j < zN 14 → parseFieldDescriptor (zF 14 j).2.2.1 = some (zT 14 j) := by decide +kernel
theorem zK_n14 : ∀ i, i < zN 14 → ∀ j, j < zN 14 → i ≠ j → (zF 14 i).2.1 ≠ (zF 14 j).2.1 := by decide +kernel
theorem zK_l14 : ∀ w ∈ u_ws (zC 14) (zF 14) (zN 14), w ∈ lw_tbl := by
  intro w hw
  obtain ⟨j, hj, rfl⟩ := List.mem_map.mp hw
  have hj : j < 2 := List.mem_range.mp hj
  have e : (List.range 2).map (u_lay (zC 14) (zF 14)) = [168, 170].filterMap (fun i => tables_1[i]?) := by decide +kernel
  have hm : u_lay (zC 14) (zF 14) j ∈ (List.range 2).map (u_lay (zC 14) (zF 14)) := List.mem_map.mpr ⟨j, List.mem_range.mpr hj, rfl⟩
  rw [e] at hm
  obtain ⟨i, -, hi⟩ := List.mem_filterMap.mp hm
  exact z_wd i hi
theorem zK_i14 : Cond.instantiable (zC 14) (zN 14) ∈ lw_tbl := z_wd 161 (by decide +kernel)
theorem zK_t15 : ∀ j, j < zN 15 → parseFieldDescriptor (zF 15 j).2.2.1 = some (zT 15 j) := by decide +kernel
theorem zK_n15 : ∀ i, i < zN 15 → ∀ j, j < zN 15 → i ≠ j → (zF 15 i).2.1 ≠ (zF 15 j).2.1 := by decide +kernel
theorem zK_l15 : ∀ w ∈ u_ws (zC 15) (zF 15) (zN 15), w ∈ lw_tbl := by
  intro w hw
  obtain ⟨j, hj, rfl⟩ := List.mem_map.mp hw
  have hj : j < 39 := List.mem_range.mp hj
  have e : (List.range 39).map (u_lay (zC 15) (zF 15)) = [1367, 1369, 1371, 1373, 1375, 1377, 1379, 1381, 1383, 1385, 1387, 1389, 1391, 1393, 1395, 1397, 1399, 1401, 1403, 1405, 1407, 1409, 1411, 1413, 1415, 1417, 1419, 1421, 1423, 1425, 1427, 1429, 1431, 1433, 1435, 1437, 1439, 1441, 1443].filterMap (fun i => tables_1[i]?) := by decide +kernel
  have hm : u_lay (zC 15) (zF 15) j ∈ (List.range 39).map (u_lay (zC 15) (zF 15)) := List.mem_map.mpr ⟨j, List.mem_range.mpr hj, rfl⟩
  rw [e] at hm
  obtain ⟨i, -, hi⟩ := List.mem_filterMap.mp hm
  exact z_wd i hi
theorem zK_i15 : Cond.instantiable (zC 15) (zN 15) ∈ lw_tbl := z_wd 1323 (by decide +kernel)
theorem zK_t {k : Nat} (h1 : 1 ≤ k) (h2 : k ≤ 15) : ∀ j, j < zN k → parseFieldDescriptor (zF k j).2.2.1 = some (zT k j) := by
  rcases (by omega : k = 1 ∨ k = 2 ∨ k = 3 ∨ k = 4 ∨ k = 5 ∨ k = 6 ∨ k = 7 ∨ k = 8 ∨ k = 9 ∨ k = 10 ∨ k = 11 ∨ k = 12 ∨ k = 13 ∨ k = 14 ∨ k = 15) with rfl | rfl | rfl | rfl | rfl | rfl | rfl | rfl | rfl | rfl | rfl | rfl | rfl | rfl | rfl
  · exact zK_t1
  · exact zK_t2
  · exact zK_t3
  · exact zK_t4
  · exact zK_t5
  · exact zK_t6
  · exact zK_t7
  · exact zK_t8
  · exact zK_t9
  · exact zK_t10
  · exact zK_t11
  · exact zK_t12
  · exact zK_t13
  · exact zK_t14
  · exact zK_t15
theorem zK_n {k : Nat} (h1 : 1 ≤ k) (h2 : k ≤ 15) : ∀ i, i < zN k → ∀ j, j < zN k → i ≠ j → (zF k i).2.1 ≠ (zF k j).2.1 := by
  rcases (by omega : k = 1 ∨ k = 2 ∨ k = 3 ∨ k = 4 ∨ k = 5 ∨ k = 6 ∨ k = 7 ∨ k = 8 ∨ k = 9 ∨ k = 10 ∨ k = 11 ∨ k = 12 ∨ k = 13 ∨ k = 14 ∨ k = 15) with rfl | rfl | rfl | rfl | rfl | rfl | rfl | rfl | rfl | rfl | rfl | rfl | rfl | rfl | rfl
  · exact zK_n1
  · exact zK_n2
  · exact zK_n3
  · exact zK_n4
  · exact zK_n5
  · exact zK_n6
  · exact zK_n7
  · exact zK_n8
  · exact zK_n9
  · exact zK_n10
  · exact zK_n11
  · exact zK_n12
  · exact zK_n13
  · exact zK_n14
  · exact zK_n15
theorem zK_l {k : Nat} (h1 : 1 ≤ k) (h2 : k ≤ 15) : ∀ w ∈ u_ws (zC k) (zF k) (zN k), w ∈ lw_tbl := by
  rcases (by omega : k = 1 ∨ k = 2 ∨ k = 3 ∨ k = 4 ∨ k = 5 ∨ k = 6 ∨ k = 7 ∨ k = 8 ∨ k = 9 ∨ k = 10 ∨ k = 11 ∨ k = 12 ∨ k = 13 ∨ k = 14 ∨ k = 15) with rfl | rfl | rfl | rfl | rfl | rfl | rfl | rfl | rfl | rfl | rfl | rfl | rfl | rfl | rfl
  · exact zK_l1
  · exact zK_l2
  · exact zK_l3
  · exact zK_l4
  · exact zK_l5
  · exact zK_l6
  · exact zK_l7
  · exact zK_l8
  · exact zK_l9
  · exact zK_l10
  · exact zK_l11
  · exact zK_l12
  · exact zK_l13
  · exact zK_l14
  · exact zK_l15
theorem zK_i {k : Nat} (h1 : 1 ≤ k) (h2 : k ≤ 15) : Cond.instantiable (zC k) (zN k) ∈ lw_tbl := by
  rcases (by omega : k = 1 ∨ k = 2 ∨ k = 3 ∨ k = 4 ∨ k = 5 ∨ k = 6 ∨ k = 7 ∨ k = 8 ∨ k = 9 ∨ k = 10 ∨ k = 11 ∨ k = 12 ∨ k = 13 ∨ k = 14 ∨ k = 15) with rfl | rfl | rfl | rfl | rfl | rfl | rfl | rfl | rfl | rfl | rfl | rfl | rfl | rfl | rfl
  · exact zK_i1
  · exact zK_i2
  · exact zK_i3
  · exact zK_i4
  · exact zK_i5
  · exact zK_i6
  · exact zK_i7
  · exact zK_i8
  · exact zK_i9
  · exact zK_i10
  · exact zK_i11
  · exact zK_i12
  · exact zK_i13
  · exact zK_i14
  · exact zK_i15
theorem zK_e16 : Cond.instantiable (zC 16) 6 ∈ lw_tbl := z_wd 249 (by decide +kernel)
theorem zK_e17 : Cond.instantiable (zC 17) 6 ∈ lw_tbl := z_wd 350 (by decide +kernel)
theorem zK_e18 : Cond.instantiable (zC 18) 6 ∈ lw_tbl := z_wd 520 (by decide +kernel)
theorem zK_e19 : Cond.instantiable (zC 19) 6 ∈ lw_tbl := z_wd 740 (by decide +kernel)
theorem zK_e20 : Cond.instantiable (zC 20) 6 ∈ lw_tbl := z_wd 958 (by decide +kernel)
