set_option maxRecDepth 100000
def RX1 : String := "OrderJudge"
def TX1 : u_T := fun k => match k with
  | 0 => ("OrderJudge", "points", "I", false)
  | 1 => ("OrderJudge", "point", "[LOrderJudge$Point;", true)
  | 2 => ("OrderJudge", "row", "[LOrderJudge$Point;", false)
  | 3 => ("OrderJudge", "isOn", "Z", false)
  | 4 => ("OrderJudge", "decided", "I", false)
  | 5 => ("OrderJudge", "undecided", "I", false)
  | 6 => ("OrderJudge", "zeros", "I", false)
  | 7 => ("OrderJudge", "lines", "I", false)
  | _ => ("OrderJudge", "line", "[LOrderJudge$Line;", true)
def tyX1 : Nat → FieldType := fun k => match k with
  | 0 => .int
  | 1 => .array (.object "OrderJudge$Point")
  | 2 => .array (.object "OrderJudge$Point")
  | 3 => .boolean
  | 4 => .int
  | 5 => .int
  | 6 => .int
  | 7 => .int
  | _ => .array (.object "OrderJudge$Line")
abbrev wsX10 : List Cond := u_ws RX1 TX1 9
theorem nmX1 : ∀ a, a < 9 → ∀ b, b < 9 → a ≠ b → (TX1 a).2.1 ≠ (TX1 b).2.1 := by decide +kernel
theorem tyX1_ok : ∀ k, k < 9 → parseFieldDescriptor (TX1 k).2.2.1 = some (tyX1 k) := by decide +kernel
abbrev cX1_init : ByteArray := prog_1_method_6_code
def yX1_init : MethodName := ⟨RX1, "<init>", "()V"⟩
abbrev cX1_point : ByteArray := prog_1_method_9_code
def yX1_point : MethodName := ⟨RX1, "point", "(JJJ)I"⟩
abbrev cX1_isIn : ByteArray := prog_1_method_1_code
def yX1_isIn : MethodName := ⟨RX1, "isIn", "(JJJ)Z"⟩
abbrev cX1_side : ByteArray := prog_1_method_15_code
def yX1_side : MethodName := ⟨RX1, "side", "(III)I"⟩
abbrev cX1_arePoints : ByteArray := prog_1_method_8_code
def yX1_arePoints : MethodName := ⟨RX1, "arePoints", "(III)Z"⟩
abbrev cX1_isPoint : ByteArray := prog_1_method_7_code
def yX1_isPoint : MethodName := ⟨RX1, "isPoint", "(I)Z"⟩
abbrev cX1_turn : ByteArray := prog_1_method_4_code
def yX1_turn : MethodName := ⟨RX1, "turn", "(LOrderJudge$Point;LOrderJudge$Point;LOrderJudge$Point;)I"⟩
abbrev cX1_bracket : ByteArray := prog_1_method_3_code
def yX1_bracket : MethodName := ⟨RX1, "bracket", "(JJJJ)J"⟩
abbrev cX1_signOf : ByteArray := prog_1_method_2_code
def yX1_signOf : MethodName := ⟨RX1, "signOf", "(J)I"⟩
abbrev cX1_told : ByteArray := prog_1_method_14_code
def yX1_told : MethodName := ⟨RX1, "told", "(II)I"⟩
abbrev cX1_circle : ByteArray := prog_1_method_16_code
def yX1_circle : MethodName := ⟨RX1, "circle", "(IIII)I"⟩
abbrev cX1_ring : ByteArray := prog_1_method_5_code
def yX1_ring : MethodName := ⟨RX1, "ring", "(LOrderJudge$Point;LOrderJudge$Point;LOrderJudge$Point;LOrderJudge$Point;)I"⟩
abbrev cX1_filter : ByteArray := prog_1_method_17_code
def yX1_filter : MethodName := ⟨RX1, "filter", "(Z)I"⟩
abbrev cX1_decided : ByteArray := prog_1_method_18_code
def yX1_decided : MethodName := ⟨RX1, "decided", "(I)I"⟩
abbrev cX1_between : ByteArray := prog_1_method_20_code
def yX1_between : MethodName := ⟨RX1, "between", "(III)I"⟩
abbrev cX1_between_2 : ByteArray := prog_1_method_19_code
def yX1_between_2 : MethodName := ⟨RX1, "between", "(LOrderJudge$Point;LOrderJudge$Point;LOrderJudge$Point;)I"⟩
abbrev cX1_inside : ByteArray := prog_1_method_24_code
def yX1_inside : MethodName := ⟨RX1, "inside", "(IIII)I"⟩
abbrev cX1_inside_2 : ByteArray := prog_1_method_23_code
def yX1_inside_2 : MethodName := ⟨RX1, "inside", "(LOrderJudge$Point;LOrderJudge$Point;LOrderJudge$Point;LOrderJudge$Point;)I"⟩
abbrev cX1_isOneWay : ByteArray := prog_1_method_21_code
def yX1_isOneWay : MethodName := ⟨RX1, "isOneWay", "(LOrderJudge$Point;LOrderJudge$Point;LOrderJudge$Point;)Z"⟩
abbrev cX1_isWithin : ByteArray := prog_1_method_22_code
def yX1_isWithin : MethodName := ⟨RX1, "isWithin", "(LOrderJudge$Point;LOrderJudge$Point;LOrderJudge$Point;LOrderJudge$Point;)Z"⟩
abbrev cX1_cross : ByteArray := prog_1_method_29_code
def yX1_cross : MethodName := ⟨RX1, "cross", "(IIII)I"⟩
abbrev cX1_cross_2 : ByteArray := prog_1_method_28_code
def yX1_cross_2 : MethodName := ⟨RX1, "cross", "(LOrderJudge$Point;LOrderJudge$Point;LOrderJudge$Point;LOrderJudge$Point;)I"⟩
abbrev cX1_overlap : ByteArray := prog_1_method_26_code
def yX1_overlap : MethodName := ⟨RX1, "overlap", "(LOrderJudge$Point;LOrderJudge$Point;LOrderJudge$Point;LOrderJudge$Point;)I"⟩
abbrev cX1_isBehind : ByteArray := prog_1_method_25_code
def yX1_isBehind : MethodName := ⟨RX1, "isBehind", "(LOrderJudge$Point;LOrderJudge$Point;)Z"⟩
abbrev cX1_isOnWay : ByteArray := prog_1_method_27_code
def yX1_isOnWay : MethodName := ⟨RX1, "isOnWay", "(LOrderJudge$Point;LOrderJudge$Point;LOrderJudge$Point;)Z"⟩
abbrev cX1_separated : ByteArray := prog_1_method_30_code
def yX1_separated : MethodName := ⟨RX1, "separated", "(IIII)I"⟩
abbrev cX1_convex : ByteArray := prog_1_method_32_code
def yX1_convex : MethodName := ⟨RX1, "convex", "(I)I"⟩
abbrev cX1_refused : ByteArray := prog_1_method_13_code
def yX1_refused : MethodName := ⟨RX1, "refused", "(II)I"⟩
abbrev cX1_next : ByteArray := prog_1_method_31_code
def yX1_next : MethodName := ⟨RX1, "next", "(II)LOrderJudge$Point;"⟩
abbrev cX1_polygon : ByteArray := prog_1_method_33_code
def yX1_polygon : MethodName := ⟨RX1, "polygon", "(II)I"⟩
abbrev cX1_winding : ByteArray := prog_1_method_34_code
def yX1_winding : MethodName := ⟨RX1, "winding", "(II)I"⟩
abbrev cX1_nearest : ByteArray := prog_1_method_35_code
def yX1_nearest : MethodName := ⟨RX1, "nearest", "(II)I"⟩
abbrev cX1_around : ByteArray := prog_1_method_37_code
def yX1_around : MethodName := ⟨RX1, "around", "(III)I"⟩
abbrev cX1_placeBy : ByteArray := prog_1_method_36_code
def yX1_placeBy : MethodName := ⟨RX1, "placeBy", "(LOrderJudge$Order;II)I"⟩
abbrev cX1_order : ByteArray := prog_1_method_38_code
def yX1_order : MethodName := ⟨RX1, "order", "(II)I"⟩
abbrev cX1_line : ByteArray := prog_1_method_40_code
def yX1_line : MethodName := ⟨RX1, "line", "(II)I"⟩
abbrev cX1_lines : ByteArray := prog_1_method_41_code
def yX1_lines : MethodName := ⟨RX1, "lines", "(II)I"⟩
abbrev cX1_count : ByteArray := prog_1_method_42_code
def yX1_count : MethodName := ⟨RX1, "count", "(I)I"⟩
abbrev cX1_size : ByteArray := prog_1_method_10_code
def yX1_size : MethodName := ⟨RX1, "size", "(I)I"⟩
abbrev cX1_of : ByteArray := prog_1_method_11_code
def yX1_of : MethodName := ⟨RX1, "of", "(II)I"⟩
abbrev cX1_at : ByteArray := prog_1_method_12_code
def yX1_at : MethodName := ⟨RX1, "at", "(II)I"⟩
abbrev cX1_area : ByteArray := prog_1_method_39_code
def yX1_area : MethodName := ⟨RX1, "area", "(IJ)J"⟩
def RX3 : String := "OrderJudge$Point"
def TX3 : u_T := fun k => match k with
  | 0 => ("OrderJudge$Point", "number", "I", true)
  | 1 => ("OrderJudge$Point", "x", "I", true)
  | 2 => ("OrderJudge$Point", "y", "I", true)
  | 3 => ("OrderJudge$Point", "fx", "F", true)
  | _ => ("OrderJudge$Point", "fy", "F", true)
def tyX3 : Nat → FieldType := fun k => match k with
  | 0 => .int
  | 1 => .int
  | 2 => .int
  | 3 => .float
  | _ => .float
abbrev wsX30 : List Cond := u_ws RX3 TX3 5
theorem nmX3 : ∀ a, a < 5 → ∀ b, b < 5 → a ≠ b → (TX3 a).2.1 ≠ (TX3 b).2.1 := by decide +kernel
theorem tyX3_ok : ∀ k, k < 5 → parseFieldDescriptor (TX3 k).2.2.1 = some (tyX3 k) := by decide +kernel
abbrev cX3_init : ByteArray := prog_8_method_1_code
def yX3_init : MethodName := ⟨RX3, "<init>", "(III)V"⟩
abbrev cX3_isEqual : ByteArray := prog_8_method_2_code
def yX3_isEqual : MethodName := ⟨RX3, "isEqual", "(LOrderJudge$Point;)Z"⟩
abbrev cX3_size : ByteArray := prog_8_method_3_code
def yX3_size : MethodName := ⟨RX3, "size", "()F"⟩
abbrev cX3_along : ByteArray := prog_8_method_5_code
def yX3_along : MethodName := ⟨RX3, "along", "(LOrderJudge$Point;LOrderJudge$Point;)J"⟩
abbrev cX3_far : ByteArray := prog_8_method_4_code
def yX3_far : MethodName := ⟨RX3, "far", "(LOrderJudge$Point;)J"⟩
def RX8 : String := "OrderJudge$Line"
def TX8 : u_T := fun k => match k with
  | 0 => ("OrderJudge$Line", "a", "J", true)
  | 1 => ("OrderJudge$Line", "b", "J", true)
  | _ => ("OrderJudge$Line", "c", "J", true)
def tyX8 : Nat → FieldType := fun k => match k with
  | 0 => .long
  | 1 => .long
  | _ => .long
abbrev wsX80 : List Cond := u_ws RX8 TX8 3
theorem nmX8 : ∀ a, a < 3 → ∀ b, b < 3 → a ≠ b → (TX8 a).2.1 ≠ (TX8 b).2.1 := by decide +kernel
theorem tyX8_ok : ∀ k, k < 3 → parseFieldDescriptor (TX8 k).2.2.1 = some (tyX8 k) := by decide +kernel
abbrev cX8_init : ByteArray := prog_6_method_1_code
def yX8_init : MethodName := ⟨RX8, "<init>", "(LOrderJudge$Point;LOrderJudge$Point;)V"⟩
abbrev cX8_isSame : ByteArray := prog_6_method_3_code
def yX8_isSame : MethodName := ⟨RX8, "isSame", "(LOrderJudge$Line;)Z"⟩
abbrev cX8_isParallel : ByteArray := prog_6_method_2_code
def yX8_isParallel : MethodName := ⟨RX8, "isParallel", "(LOrderJudge$Line;)Z"⟩
abbrev cX8_goesBy : ByteArray := prog_6_method_4_code
def yX8_goesBy : MethodName := ⟨RX8, "goesBy", "(LOrderJudge$Line;LOrderJudge$Line;)Z"⟩
def RX5 : String := "OrderJudge$Edges"
def TX5 : u_T := fun k => match k with
  | 0 => ("OrderJudge$Edges", "rises", "I", false)
  | 1 => ("OrderJudge$Edges", "falls", "I", false)
  | 2 => ("OrderJudge$Edges", "isOn", "Z", false)
  | _ => ("OrderJudge$Edges", "this$0", "LOrderJudge;", true)
def tyX5 : Nat → FieldType := fun k => match k with
  | 0 => .int
  | 1 => .int
  | 2 => .boolean
  | _ => .object "OrderJudge"
abbrev wsX50 : List Cond := u_ws RX5 TX5 4
theorem nmX5 : ∀ a, a < 4 → ∀ b, b < 4 → a ≠ b → (TX5 a).2.1 ≠ (TX5 b).2.1 := by decide +kernel
theorem tyX5_ok : ∀ k, k < 4 → parseFieldDescriptor (TX5 k).2.2.1 = some (tyX5 k) := by decide +kernel
abbrev cX5_init : ByteArray := prog_4_method_1_code
def yX5_init : MethodName := ⟨RX5, "<init>", "(LOrderJudge;)V"⟩
abbrev cX5_of : ByteArray := prog_4_method_2_code
def yX5_of : MethodName := ⟨RX5, "of", "(ILOrderJudge$Point;)LOrderJudge$Edges;"⟩
def RX6 : String := "OrderJudge$Round"
def TX6 : u_T := fun k => match k with
  | _ => ("OrderJudge$Round", "centre", "LOrderJudge$Point;", true)
def tyX6 : Nat → FieldType := fun k => match k with
  | _ => .object "OrderJudge$Point"
abbrev wsX60 : List Cond := u_ws RX6 TX6 1
theorem nmX6 : ∀ a, a < 1 → ∀ b, b < 1 → a ≠ b → (TX6 a).2.1 ≠ (TX6 b).2.1 := by decide +kernel
theorem tyX6_ok : ∀ k, k < 1 → parseFieldDescriptor (TX6 k).2.2.1 = some (tyX6 k) := by decide +kernel
abbrev cX6_init : ByteArray := prog_9_method_1_code
def yX6_init : MethodName := ⟨RX6, "<init>", "(LOrderJudge$Point;)V"⟩
abbrev cX6_compare : ByteArray := prog_9_method_3_code
def yX6_compare : MethodName := ⟨RX6, "compare", "(LOrderJudge$Point;LOrderJudge$Point;)J"⟩
abbrev cX6_half : ByteArray := prog_9_method_2_code
def yX6_half : MethodName := ⟨RX6, "half", "(LOrderJudge$Point;)I"⟩
def RX7 : String := "OrderJudge$Across"
abbrev cX7_compare : ByteArray := prog_2_method_2_code
def yX7_compare : MethodName := ⟨RX7, "compare", "(LOrderJudge$Point;LOrderJudge$Point;)J"⟩
abbrev cX7_init : ByteArray := prog_2_method_1_code
def yX7_init : MethodName := ⟨RX7, "<init>", "()V"⟩
def RX9 : String := "OrderJudge$Arrangement"
def TX9 : u_T := fun k => match k with
  | 0 => ("OrderJudge$Arrangement", "all", "[LOrderJudge$Line;", true)
  | 1 => ("OrderJudge$Arrangement", "different", "I", false)
  | 2 => ("OrderJudge$Arrangement", "meets", "I", false)
  | 3 => ("OrderJudge$Arrangement", "cells", "I", false)
  | 4 => ("OrderJudge$Arrangement", "most", "I", false)
  | _ => ("OrderJudge$Arrangement", "this$0", "LOrderJudge;", true)
def tyX9 : Nat → FieldType := fun k => match k with
  | 0 => .array (.object "OrderJudge$Line")
  | 1 => .int
  | 2 => .int
  | 3 => .int
  | 4 => .int
  | _ => .object "OrderJudge"
abbrev wsX90 : List Cond := u_ws RX9 TX9 6
theorem nmX9 : ∀ a, a < 6 → ∀ b, b < 6 → a ≠ b → (TX9 a).2.1 ≠ (TX9 b).2.1 := by decide +kernel
theorem tyX9_ok : ∀ k, k < 6 → parseFieldDescriptor (TX9 k).2.2.1 = some (tyX9 k) := by decide +kernel
abbrev cX9_init : ByteArray := prog_3_method_1_code
def yX9_init : MethodName := ⟨RX9, "<init>", "(LOrderJudge;I)V"⟩
abbrev cX9_add : ByteArray := prog_3_method_3_code
def yX9_add : MethodName := ⟨RX9, "add", "(LOrderJudge$Line;)V"⟩
abbrev cX9_through : ByteArray := prog_3_method_2_code
def yX9_through : MethodName := ⟨RX9, "through", "(LOrderJudge$Line;LOrderJudge$Line;I)I"⟩
abbrev cX9_pieces : ByteArray := prog_3_method_4_code
def yX9_pieces : MethodName := ⟨RX9, "pieces", "()I"⟩
abbrev cX9_isFirstOn : ByteArray := prog_3_method_5_code
def yX9_isFirstOn : MethodName := ⟨RX9, "isFirstOn", "(II)Z"⟩
def RX2 : String := "OrderJudgeModel"
def TX2 : u_T := fun k => match k with
  | 0 => ("OrderJudgeModel", "thrown", "I", false)
  | 1 => ("OrderJudgeModel", "points", "I", false)
  | 2 => ("OrderJudgeModel", "px", "[I", true)
  | 3 => ("OrderJudgeModel", "py", "[I", true)
  | 4 => ("OrderJudgeModel", "places", "I", false)
  | 5 => ("OrderJudgeModel", "row", "[I", true)
  | 6 => ("OrderJudgeModel", "isOn", "Z", false)
  | 7 => ("OrderJudgeModel", "clear", "I", false)
  | 8 => ("OrderJudgeModel", "unclear", "I", false)
  | 9 => ("OrderJudgeModel", "nothing", "I", false)
  | 10 => ("OrderJudgeModel", "lines", "I", false)
  | 11 => ("OrderJudgeModel", "la", "[J", true)
  | 12 => ("OrderJudgeModel", "lb", "[J", true)
  | _ => ("OrderJudgeModel", "lc", "[J", true)
def tyX2 : Nat → FieldType := fun k => match k with
  | 0 => .int
  | 1 => .int
  | 2 => .array .int
  | 3 => .array .int
  | 4 => .int
  | 5 => .array .int
  | 6 => .boolean
  | 7 => .int
  | 8 => .int
  | 9 => .int
  | 10 => .int
  | 11 => .array .long
  | 12 => .array .long
  | _ => .array .long
abbrev wsX20 : List Cond := u_ws RX2 TX2 14
theorem nmX2 : ∀ a, a < 14 → ∀ b, b < 14 → a ≠ b → (TX2 a).2.1 ≠ (TX2 b).2.1 := by decide +kernel
theorem tyX2_ok : ∀ k, k < 14 → parseFieldDescriptor (TX2 k).2.2.1 = some (tyX2 k) := by decide +kernel
abbrev cX2_thrown : ByteArray := prog_11_method_1_code
def yX2_thrown : MethodName := ⟨RX2, "thrown", "()I"⟩
abbrev cX2_init : ByteArray := prog_11_method_3_code
def yX2_init : MethodName := ⟨RX2, "<init>", "()V"⟩
abbrev cX2_point : ByteArray := prog_11_method_4_code
def yX2_point : MethodName := ⟨RX2, "point", "(JJJ)I"⟩
abbrev cX2_size : ByteArray := prog_11_method_11_code
def yX2_size : MethodName := ⟨RX2, "size", "(I)I"⟩
abbrev cX2_fail : ByteArray := prog_11_method_2_code
def yX2_fail : MethodName := ⟨RX2, "fail", "(I)I"⟩
abbrev cX2_of : ByteArray := prog_11_method_13_code
def yX2_of : MethodName := ⟨RX2, "of", "(II)I"⟩
abbrev cX2_isPoint : ByteArray := prog_11_method_5_code
def yX2_isPoint : MethodName := ⟨RX2, "isPoint", "(I)Z"⟩
abbrev cX2_isPlace : ByteArray := prog_11_method_12_code
def yX2_isPlace : MethodName := ⟨RX2, "isPlace", "(I)Z"⟩
abbrev cX2_at : ByteArray := prog_11_method_14_code
def yX2_at : MethodName := ⟨RX2, "at", "(II)I"⟩
abbrev cX2_side : ByteArray := prog_11_method_23_code
def yX2_side : MethodName := ⟨RX2, "side", "(III)I"⟩
abbrev cX2_areEqual : ByteArray := prog_11_method_6_code
def yX2_areEqual : MethodName := ⟨RX2, "areEqual", "(II)Z"⟩
abbrev cX2_decidesTurn : ByteArray := prog_11_method_20_code
def yX2_decidesTurn : MethodName := ⟨RX2, "decidesTurn", "(III)Z"⟩
abbrev cX2_fx : ByteArray := prog_11_method_17_code
def yX2_fx : MethodName := ⟨RX2, "fx", "(I)F"⟩
abbrev cX2_fy : ByteArray := prog_11_method_18_code
def yX2_fy : MethodName := ⟨RX2, "fy", "(I)F"⟩
abbrev cX2_most : ByteArray := prog_11_method_19_code
def yX2_most : MethodName := ⟨RX2, "most", "(III)F"⟩
abbrev cX2_size_2 : ByteArray := prog_11_method_15_code
def yX2_size_2 : MethodName := ⟨RX2, "size", "(F)F"⟩
abbrev cX2_greater : ByteArray := prog_11_method_16_code
def yX2_greater : MethodName := ⟨RX2, "greater", "(FF)F"⟩
abbrev cX2_turn : ByteArray := prog_11_method_8_code
def yX2_turn : MethodName := ⟨RX2, "turn", "(III)I"⟩
abbrev cX2_signOf : ByteArray := prog_11_method_7_code
def yX2_signOf : MethodName := ⟨RX2, "signOf", "(J)I"⟩
abbrev cX2_counted : ByteArray := prog_11_method_22_code
def yX2_counted : MethodName := ⟨RX2, "counted", "(ZI)I"⟩
abbrev cX2_circle : ByteArray := prog_11_method_24_code
def yX2_circle : MethodName := ⟨RX2, "circle", "(IIII)I"⟩
abbrev cX2_decidesRing : ByteArray := prog_11_method_21_code
def yX2_decidesRing : MethodName := ⟨RX2, "decidesRing", "(IIII)Z"⟩
abbrev cX2_ring : ByteArray := prog_11_method_10_code
def yX2_ring : MethodName := ⟨RX2, "ring", "(IIII)I"⟩
abbrev cX2_filter : ByteArray := prog_11_method_25_code
def yX2_filter : MethodName := ⟨RX2, "filter", "(Z)I"⟩
abbrev cX2_decided : ByteArray := prog_11_method_26_code
def yX2_decided : MethodName := ⟨RX2, "decided", "(I)I"⟩
abbrev cX2_between : ByteArray := prog_11_method_28_code
def yX2_between : MethodName := ⟨RX2, "between", "(III)I"⟩
abbrev cX2_isOn : ByteArray := prog_11_method_27_code
def yX2_isOn : MethodName := ⟨RX2, "isOn", "(III)Z"⟩
abbrev cX2_along : ByteArray := prog_11_method_9_code
def yX2_along : MethodName := ⟨RX2, "along", "(III)J"⟩
abbrev cX2_inside : ByteArray := prog_11_method_30_code
def yX2_inside : MethodName := ⟨RX2, "inside", "(IIII)I"⟩
abbrev cX2_isOneWay : ByteArray := prog_11_method_29_code
def yX2_isOneWay : MethodName := ⟨RX2, "isOneWay", "(III)Z"⟩
abbrev cX2_cross : ByteArray := prog_11_method_32_code
def yX2_cross : MethodName := ⟨RX2, "cross", "(IIII)I"⟩
abbrev cX2_common : ByteArray := prog_11_method_31_code
def yX2_common : MethodName := ⟨RX2, "common", "(IIII)I"⟩
abbrev cX2_separated : ByteArray := prog_11_method_33_code
def yX2_separated : MethodName := ⟨RX2, "separated", "(IIII)I"⟩
abbrev cX2_convex : ByteArray := prog_11_method_37_code
def yX2_convex : MethodName := ⟨RX2, "convex", "(I)I"⟩
abbrev cX2_isMany : ByteArray := prog_11_method_34_code
def yX2_isMany : MethodName := ⟨RX2, "isMany", "(II)Z"⟩
abbrev cX2_isWhole : ByteArray := prog_11_method_35_code
def yX2_isWhole : MethodName := ⟨RX2, "isWhole", "(I)Z"⟩
abbrev cX2_next : ByteArray := prog_11_method_36_code
def yX2_next : MethodName := ⟨RX2, "next", "(II)I"⟩
abbrev cX2_polygon : ByteArray := prog_11_method_40_code
def yX2_polygon : MethodName := ⟨RX2, "polygon", "(II)I"⟩
abbrev cX2_isOnEdge : ByteArray := prog_11_method_38_code
def yX2_isOnEdge : MethodName := ⟨RX2, "isOnEdge", "(II)Z"⟩
abbrev cX2_rises : ByteArray := prog_11_method_39_code
def yX2_rises : MethodName := ⟨RX2, "rises", "(III)I"⟩
abbrev cX2_winding : ByteArray := prog_11_method_41_code
def yX2_winding : MethodName := ⟨RX2, "winding", "(II)I"⟩
abbrev cX2_nearest : ByteArray := prog_11_method_43_code
def yX2_nearest : MethodName := ⟨RX2, "nearest", "(II)I"⟩
abbrev cX2_far : ByteArray := prog_11_method_42_code
def yX2_far : MethodName := ⟨RX2, "far", "(II)J"⟩
abbrev cX2_around : ByteArray := prog_11_method_46_code
def yX2_around : MethodName := ⟨RX2, "around", "(III)I"⟩
abbrev cX2_isAhead : ByteArray := prog_11_method_45_code
def yX2_isAhead : MethodName := ⟨RX2, "isAhead", "(III)Z"⟩
abbrev cX2_half : ByteArray := prog_11_method_44_code
def yX2_half : MethodName := ⟨RX2, "half", "(II)I"⟩
abbrev cX2_order : ByteArray := prog_11_method_48_code
def yX2_order : MethodName := ⟨RX2, "order", "(II)I"⟩
abbrev cX2_isLess : ByteArray := prog_11_method_47_code
def yX2_isLess : MethodName := ⟨RX2, "isLess", "(II)Z"⟩
abbrev cX2_area : ByteArray := prog_11_method_49_code
def yX2_area : MethodName := ⟨RX2, "area", "(IJ)J"⟩
abbrev cX2_line : ByteArray := prog_11_method_50_code
def yX2_line : MethodName := ⟨RX2, "line", "(II)I"⟩
abbrev cX2_lines : ByteArray := prog_11_method_55_code
def yX2_lines : MethodName := ⟨RX2, "lines", "(II)I"⟩
abbrev cX2_isNew : ByteArray := prog_11_method_53_code
def yX2_isNew : MethodName := ⟨RX2, "isNew", "(I)Z"⟩
abbrev cX2_isOne : ByteArray := prog_11_method_52_code
def yX2_isOne : MethodName := ⟨RX2, "isOne", "(II)Z"⟩
abbrev cX2_both : ByteArray := prog_11_method_51_code
def yX2_both : MethodName := ⟨RX2, "both", "(II)J"⟩
abbrev cX2_isThrough : ByteArray := prog_11_method_54_code
def yX2_isThrough : MethodName := ⟨RX2, "isThrough", "(III)Z"⟩
abbrev cX2_count : ByteArray := prog_11_method_56_code
def yX2_count : MethodName := ⟨RX2, "count", "(I)I"⟩
def RX4 : String := "OrderJudge$Filter"
abbrev cX4_turn : ByteArray := prog_5_method_3_code
def yX4_turn : MethodName := ⟨RX4, "turn", "(LOrderJudge$Point;LOrderJudge$Point;LOrderJudge$Point;)I"⟩
abbrev cX4_decided : ByteArray := prog_5_method_2_code
def yX4_decided : MethodName := ⟨RX4, "decided", "(FF)I"⟩
abbrev cX4_ring : ByteArray := prog_5_method_4_code
def yX4_ring : MethodName := ⟨RX4, "ring", "(LOrderJudge$Point;LOrderJudge$Point;LOrderJudge$Point;LOrderJudge$Point;)I"⟩
def RX10 : String := "OrderJudge$Order"
abbrev cX10_isAhead : ByteArray := prog_7_method_2_code
def yX10_isAhead : MethodName := ⟨RX10, "isAhead", "(LOrderJudge$Point;ILOrderJudge$Point;I)Z"⟩
def RX0 : String := "OrderJudgeLaw"
abbrev cX0_size : ByteArray := method_3_code
def yX0_size : MethodName := ⟨RX0, "size", "(LOrderJudge;I[J)I"⟩
abbrev cX0_of : ByteArray := method_4_code
def yX0_of : MethodName := ⟨RX0, "of", "(LOrderJudge;II[J)I"⟩
abbrev cX0_at : ByteArray := method_5_code
def yX0_at : MethodName := ⟨RX0, "at", "(LOrderJudge;II[J)I"⟩
abbrev cX0_area : ByteArray := method_6_code
def yX0_area : MethodName := ⟨RX0, "area", "(LOrderJudge;IJ[J)I"⟩
def RJ8 : String := "java/lang/Math"
abbrev cJ8_abs : ByteArray := prog_17_method_63_code
def yJ8_abs : MethodName := ⟨RJ8, "abs", "(F)F"⟩
abbrev cJ8_max : ByteArray := prog_17_method_67_code
def yJ8_max : MethodName := ⟨RJ8, "max", "(FF)F"⟩
abbrev cJ8_min : ByteArray := prog_17_method_70_code
def yJ8_min : MethodName := ⟨RJ8, "min", "(JJ)J"⟩
abbrev cJ8_max_2 : ByteArray := prog_17_method_65_code
def yJ8_max_2 : MethodName := ⟨RJ8, "max", "(II)I"⟩
def RJ10 : String := "java/lang/Object"
abbrev cJ10_init : ByteArray := object_method_1_code
def yJ10_init : MethodName := ⟨RJ10, "<init>", "()V"⟩
/-- the class without fields -/
def TX7 : u_T := fun _ => ("", "", "", false)
theorem q45 : (Jvm.Cond.initialized "java/lang/Throwable") ∈ lw_all := lw_g (lw_at lw_m1 4 rfl) rfl
theorem q493 : (Jvm.Cond.instanceMethod ({ cls := "java/lang/Throwable", name := "<init>", desc := "(Ljava/lang/String;)V" } : Jvm.MethodName)) ∈ lw_all := lw_g (lw_at lw_m2 212 rfl) rfl
theorem q494 : (Jvm.Cond.code ({ cls := "java/lang/Throwable", name := "<init>", desc := "(Ljava/lang/String;)V" } : Jvm.MethodName) prog_22_method_2_code (2 : Nat) (Option.none : Option Jvm.ClassFile.FieldType)) ∈ lw_all := lw_g (lw_at lw_m2 213 rfl) rfl
theorem q495 : (Jvm.Cond.methodLink "java/lang/Throwable" (1 : Nat) ({ cls := "java/lang/Object", name := "<init>", desc := "()V" } : Jvm.MethodName)) ∈ lw_all := lw_g (lw_at lw_m2 214 rfl) rfl
theorem q496 : (Jvm.Cond.fieldLink "java/lang/Throwable" (13 : Nat) "java/lang/Throwable" "UNASSIGNED_STACK" "[Ljava/lang/StackTraceElement;") ∈ lw_all := lw_g (lw_at lw_m2 215 rfl) rfl
theorem q497 : (Jvm.Cond.laysStatic "java/lang/Throwable" "UNASSIGNED_STACK" "[Ljava/lang/StackTraceElement;") ∈ lw_tbl := lw_at lw_m2 216 rfl
theorem q498 : (Jvm.Cond.fieldLink "java/lang/Throwable" (20 : Nat) "java/lang/Throwable" "SUPPRESSED_SENTINEL" "Ljava/util/List;") ∈ lw_all := lw_g (lw_at lw_m2 217 rfl) rfl
theorem q499 : (Jvm.Cond.laysStatic "java/lang/Throwable" "SUPPRESSED_SENTINEL" "Ljava/util/List;") ∈ lw_tbl := lw_at lw_m2 218 rfl
theorem q500 : (Jvm.Cond.methodLink "java/lang/Throwable" (27 : Nat) ({ cls := "java/lang/Throwable", name := "fillInStackTrace", desc := "()Ljava/lang/Throwable;" } : Jvm.MethodName)) ∈ lw_all := lw_g (lw_at lw_m2 219 rfl) rfl
theorem q501 : (Jvm.Cond.instanceMethod ({ cls := "java/lang/Throwable", name := "fillInStackTrace", desc := "()Ljava/lang/Throwable;" } : Jvm.MethodName)) ∈ lw_all := lw_g (lw_at lw_m2 220 rfl) rfl
theorem q502 : (Jvm.Cond.sameMethod "java/lang/Throwable" "java/lang/Throwable" "fillInStackTrace" "()Ljava/lang/Throwable;") ∈ lw_all := lw_g (lw_at lw_m2 221 rfl) rfl
theorem q516 : (Jvm.Cond.declares ({ cls := "java/lang/Throwable", name := "fillInStackTrace", desc := "()Ljava/lang/Throwable;" } : Jvm.MethodName)) ∈ lw_tbl := lw_at lw_m2 235 rfl
theorem q520 : (Jvm.Cond.codeSync ({ cls := "java/lang/Throwable", name := "fillInStackTrace", desc := "()Ljava/lang/Throwable;" } : Jvm.MethodName) prog_22_method_18_code (1 : Nat) (Option.some (Jvm.ClassFile.FieldType.object "java/lang/Throwable"))) ∈ lw_all := lw_g (lw_at lw_m2 239 rfl) rfl
theorem q521 : (Jvm.Cond.methodLink "java/lang/Throwable" (202 : Nat) ({ cls := "java/lang/Throwable", name := "fillInStackTrace", desc := "(I)Ljava/lang/Throwable;" } : Jvm.MethodName)) ∈ lw_all := lw_g (lw_at lw_m3 0 rfl) rfl
theorem q522 : (Jvm.Cond.privateMethod ({ cls := "java/lang/Throwable", name := "fillInStackTrace", desc := "(I)Ljava/lang/Throwable;" } : Jvm.MethodName)) ∈ lw_tbl := lw_at lw_m3 1 rfl
theorem q523 : (Jvm.Cond.instanceMethod ({ cls := "java/lang/Throwable", name := "fillInStackTrace", desc := "(I)Ljava/lang/Throwable;" } : Jvm.MethodName)) ∈ lw_all := lw_g (lw_at lw_m3 2 rfl) rfl
theorem q524 : (Jvm.Cond.instantiable "java/lang/Throwable" (6 : Nat)) ∈ lw_all := lw_g (lw_at lw_m3 3 rfl) rfl
theorem q525 : (Jvm.Cond.native ({ cls := "java/lang/Throwable", name := "fillInStackTrace", desc := "(I)Ljava/lang/Throwable;" } : Jvm.MethodName)) ∈ lw_all := lw_g (lw_at lw_m3 4 rfl) rfl
theorem q526 : (Jvm.Cond.fieldLink "java/lang/Throwable" (198 : Nat) "java/lang/Throwable" "backtrace" "Ljava/lang/Object;") ∈ lw_all := lw_g (lw_at lw_m3 5 rfl) rfl
theorem q527 : (Jvm.Cond.fieldLink "java/lang/Throwable" (31 : Nat) "java/lang/Throwable" "detailMessage" "Ljava/lang/String;") ∈ lw_all := lw_g (lw_at lw_m3 6 rfl) rfl
theorem q528 : (Jvm.Cond.fieldLink "java/lang/Throwable" (7 : Nat) "java/lang/Throwable" "cause" "Ljava/lang/Throwable;") ∈ lw_all := lw_g (lw_at lw_m3 7 rfl) rfl
theorem q529 : (Jvm.Cond.fieldLink "java/lang/Throwable" (17 : Nat) "java/lang/Throwable" "stackTrace" "[Ljava/lang/StackTraceElement;") ∈ lw_all := lw_g (lw_at lw_m3 8 rfl) rfl
theorem q530 : (Jvm.Cond.fieldLink "java/lang/Throwable" (24 : Nat) "java/lang/Throwable" "suppressedExceptions" "Ljava/util/List;") ∈ lw_all := lw_g (lw_at lw_m3 9 rfl) rfl
theorem q532 : (Jvm.Cond.soleField "java/lang/Throwable" "backtrace") ∈ lw_all := lw_g (lw_at lw_m3 11 rfl) rfl
theorem q534 : (Jvm.Cond.soleField "java/lang/Throwable" "detailMessage") ∈ lw_all := lw_g (lw_at lw_m3 13 rfl) rfl
theorem q536 : (Jvm.Cond.soleField "java/lang/Throwable" "cause") ∈ lw_all := lw_g (lw_at lw_m3 15 rfl) rfl
theorem q538 : (Jvm.Cond.soleField "java/lang/Throwable" "stackTrace") ∈ lw_all := lw_g (lw_at lw_m3 17 rfl) rfl
theorem q540 : (Jvm.Cond.soleField "java/lang/Throwable" "depth") ∈ lw_all := lw_g (lw_at lw_m3 19 rfl) rfl
theorem q542 : (Jvm.Cond.soleField "java/lang/Throwable" "suppressedExceptions") ∈ lw_all := lw_g (lw_at lw_m3 21 rfl) rfl
theorem q549 : (Jvm.Cond.declares ({ cls := "java/lang/Throwable", name := "<init>", desc := "()V" } : Jvm.MethodName)) ∈ lw_tbl := lw_at lw_m3 28 rfl
theorem q550 : (Jvm.Cond.declares ({ cls := "java/lang/Throwable", name := "<init>", desc := "(Ljava/lang/String;)V" } : Jvm.MethodName)) ∈ lw_tbl := lw_at lw_m3 29 rfl
theorem q552 : (Jvm.Cond.lays "java/lang/Throwable" "java/lang/Throwable" "cause" "Ljava/lang/Throwable;") ∈ lw_all := lw_g (lw_at lw_m3 31 rfl) rfl
theorem q553 : (Jvm.Cond.lays "java/lang/Throwable" "java/lang/Throwable" "stackTrace" "[Ljava/lang/StackTraceElement;") ∈ lw_all := lw_g (lw_at lw_m3 32 rfl) rfl
theorem q554 : (Jvm.Cond.lays "java/lang/Throwable" "java/lang/Throwable" "suppressedExceptions" "Ljava/util/List;") ∈ lw_all := lw_g (lw_at lw_m3 33 rfl) rfl
theorem q555 : (Jvm.Cond.lays "java/lang/Throwable" "java/lang/Throwable" "detailMessage" "Ljava/lang/String;") ∈ lw_all := lw_g (lw_at lw_m3 34 rfl) rfl
theorem q556 : (Jvm.Cond.lays "java/lang/Throwable" "java/lang/Throwable" "backtrace" "Ljava/lang/Object;") ∈ lw_all := lw_g (lw_at lw_m3 35 rfl) rfl
theorem q557 : (Jvm.Cond.fieldLink "java/lang/Throwable" (198 : Nat) "java/lang/Throwable" "backtrace" "Ljava/lang/Object;") ∈ lw_all := lw_g (lw_at lw_m3 36 rfl) rfl
theorem q558 : (Jvm.Cond.superclass "java/lang/Throwable" "java/lang/Object") ∈ lw_all := lw_g (lw_at lw_m3 37 rfl) rfl
theorem q559 : (Jvm.Cond.instanceMethod ({ cls := "java/lang/Throwable", name := "<init>", desc := "()V" } : Jvm.MethodName)) ∈ lw_all := lw_g (lw_at lw_m3 38 rfl) rfl
theorem q560 : (Jvm.Cond.code ({ cls := "java/lang/Throwable", name := "<init>", desc := "()V" } : Jvm.MethodName) prog_22_method_1_code (1 : Nat) (Option.none : Option Jvm.ClassFile.FieldType)) ∈ lw_all := lw_g (lw_at lw_m3 39 rfl) rfl
theorem q929 : (Jvm.Cond.sameMethod "java/lang/Throwable" "java/lang/Throwable" "fillInStackTrace" "(I)Ljava/lang/Throwable;") ∈ lw_all := lw_g (lw_at lw_m4 168 rfl) rfl
theorem q46 : (Jvm.Cond.initialized "java/lang/Exception") ∈ lw_all := lw_g (lw_at lw_m1 5 rfl) rfl
theorem q490 : (Jvm.Cond.instanceMethod ({ cls := "java/lang/Exception", name := "<init>", desc := "(Ljava/lang/String;)V" } : Jvm.MethodName)) ∈ lw_all := lw_g (lw_at lw_m2 209 rfl) rfl
theorem q491 : (Jvm.Cond.code ({ cls := "java/lang/Exception", name := "<init>", desc := "(Ljava/lang/String;)V" } : Jvm.MethodName) prog_14_method_2_code (2 : Nat) (Option.none : Option Jvm.ClassFile.FieldType)) ∈ lw_all := lw_g (lw_at lw_m2 210 rfl) rfl
theorem q492 : (Jvm.Cond.methodLink "java/lang/Exception" (7 : Nat) ({ cls := "java/lang/Throwable", name := "<init>", desc := "(Ljava/lang/String;)V" } : Jvm.MethodName)) ∈ lw_all := lw_g (lw_at lw_m2 211 rfl) rfl
theorem q519 : (Jvm.Cond.superclass "java/lang/Exception" "java/lang/Throwable") ∈ lw_all := lw_g (lw_at lw_m2 238 rfl) rfl
theorem q547 : (Jvm.Cond.declares ({ cls := "java/lang/Exception", name := "<init>", desc := "()V" } : Jvm.MethodName)) ∈ lw_tbl := lw_at lw_m3 26 rfl
theorem q548 : (Jvm.Cond.declares ({ cls := "java/lang/Exception", name := "<init>", desc := "(Ljava/lang/String;)V" } : Jvm.MethodName)) ∈ lw_tbl := lw_at lw_m3 27 rfl
theorem q607 : (Jvm.Cond.instanceMethod ({ cls := "java/lang/Exception", name := "<init>", desc := "()V" } : Jvm.MethodName)) ∈ lw_all := lw_g (lw_at lw_m3 86 rfl) rfl
theorem q608 : (Jvm.Cond.code ({ cls := "java/lang/Exception", name := "<init>", desc := "()V" } : Jvm.MethodName) prog_14_method_1_code (1 : Nat) (Option.none : Option Jvm.ClassFile.FieldType)) ∈ lw_all := lw_g (lw_at lw_m3 87 rfl) rfl
theorem q609 : (Jvm.Cond.methodLink "java/lang/Exception" (1 : Nat) ({ cls := "java/lang/Throwable", name := "<init>", desc := "()V" } : Jvm.MethodName)) ∈ lw_all := lw_g (lw_at lw_m3 88 rfl) rfl
theorem q68 : (Jvm.Cond.instanceMethod ({ cls := "java/lang/Object", name := "<init>", desc := "()V" } : Jvm.MethodName)) ∈ lw_all := lw_g (lw_at lw_m1 27 rfl) rfl
theorem q69 : (Jvm.Cond.code ({ cls := "java/lang/Object", name := "<init>", desc := "()V" } : Jvm.MethodName) object_method_1_code (1 : Nat) (Option.none : Option Jvm.ClassFile.FieldType)) ∈ lw_all := lw_g (lw_at lw_m1 28 rfl) rfl
theorem q47 : (Jvm.Cond.initialized "java/lang/RuntimeException") ∈ lw_all := lw_g (lw_at lw_m1 6 rfl) rfl
theorem q487 : (Jvm.Cond.instanceMethod ({ cls := "java/lang/RuntimeException", name := "<init>", desc := "(Ljava/lang/String;)V" } : Jvm.MethodName)) ∈ lw_all := lw_g (lw_at lw_m2 206 rfl) rfl
theorem q488 : (Jvm.Cond.code ({ cls := "java/lang/RuntimeException", name := "<init>", desc := "(Ljava/lang/String;)V" } : Jvm.MethodName) prog_20_method_2_code (2 : Nat) (Option.none : Option Jvm.ClassFile.FieldType)) ∈ lw_all := lw_g (lw_at lw_m2 207 rfl) rfl
theorem q489 : (Jvm.Cond.methodLink "java/lang/RuntimeException" (7 : Nat) ({ cls := "java/lang/Exception", name := "<init>", desc := "(Ljava/lang/String;)V" } : Jvm.MethodName)) ∈ lw_all := lw_g (lw_at lw_m2 208 rfl) rfl
theorem q515 : (Jvm.Cond.sameMethod "java/lang/RuntimeException" "java/lang/Throwable" "fillInStackTrace" "()Ljava/lang/Throwable;") ∈ lw_all := lw_g (lw_at lw_m2 234 rfl) rfl
theorem q518 : (Jvm.Cond.superclass "java/lang/RuntimeException" "java/lang/Exception") ∈ lw_all := lw_g (lw_at lw_m2 237 rfl) rfl
theorem q545 : (Jvm.Cond.declares ({ cls := "java/lang/RuntimeException", name := "<init>", desc := "()V" } : Jvm.MethodName)) ∈ lw_tbl := lw_at lw_m3 24 rfl
theorem q546 : (Jvm.Cond.declares ({ cls := "java/lang/RuntimeException", name := "<init>", desc := "(Ljava/lang/String;)V" } : Jvm.MethodName)) ∈ lw_tbl := lw_at lw_m3 25 rfl
theorem q604 : (Jvm.Cond.instanceMethod ({ cls := "java/lang/RuntimeException", name := "<init>", desc := "()V" } : Jvm.MethodName)) ∈ lw_all := lw_g (lw_at lw_m3 83 rfl) rfl
theorem q605 : (Jvm.Cond.code ({ cls := "java/lang/RuntimeException", name := "<init>", desc := "()V" } : Jvm.MethodName) prog_20_method_1_code (1 : Nat) (Option.none : Option Jvm.ClassFile.FieldType)) ∈ lw_all := lw_g (lw_at lw_m3 84 rfl) rfl
theorem q606 : (Jvm.Cond.methodLink "java/lang/RuntimeException" (1 : Nat) ({ cls := "java/lang/Exception", name := "<init>", desc := "()V" } : Jvm.MethodName)) ∈ lw_all := lw_g (lw_at lw_m3 85 rfl) rfl
theorem q624 : (Jvm.Cond.castable "java/lang/RuntimeException" "java/lang/Throwable") ∈ lw_tbl := lw_at lw_m3 103 rfl
theorem q48 : (Jvm.Cond.initialized "java/lang/NegativeArraySizeException") ∈ lw_all := lw_g (lw_at lw_m1 7 rfl) rfl
theorem q483 : (Jvm.Cond.instantiable "java/lang/NegativeArraySizeException" (6 : Nat)) ∈ lw_all := lw_g (lw_at lw_m2 202 rfl) rfl
theorem q484 : (Jvm.Cond.instanceMethod ({ cls := "java/lang/NegativeArraySizeException", name := "<init>", desc := "(Ljava/lang/String;)V" } : Jvm.MethodName)) ∈ lw_all := lw_g (lw_at lw_m2 203 rfl) rfl
theorem q485 : (Jvm.Cond.code ({ cls := "java/lang/NegativeArraySizeException", name := "<init>", desc := "(Ljava/lang/String;)V" } : Jvm.MethodName) prog_18_method_2_code (2 : Nat) (Option.none : Option Jvm.ClassFile.FieldType)) ∈ lw_all := lw_g (lw_at lw_m2 204 rfl) rfl
theorem q486 : (Jvm.Cond.methodLink "java/lang/NegativeArraySizeException" (7 : Nat) ({ cls := "java/lang/RuntimeException", name := "<init>", desc := "(Ljava/lang/String;)V" } : Jvm.MethodName)) ∈ lw_all := lw_g (lw_at lw_m2 205 rfl) rfl
theorem q505 : (Jvm.Cond.selects "java/lang/NegativeArraySizeException" ({ cls := "java/lang/Throwable", name := "fillInStackTrace", desc := "()Ljava/lang/Throwable;" } : Jvm.MethodName) ({ cls := "java/lang/Throwable", name := "fillInStackTrace", desc := "()Ljava/lang/Throwable;" } : Jvm.MethodName)) ∈ lw_all := lw_g (lw_at lw_m2 224 rfl) rfl
theorem q531 : (Jvm.Cond.lays "java/lang/NegativeArraySizeException" "java/lang/Throwable" "backtrace" "Ljava/lang/Object;") ∈ lw_all := lw_g (lw_at lw_m3 10 rfl) rfl
theorem q533 : (Jvm.Cond.lays "java/lang/NegativeArraySizeException" "java/lang/Throwable" "detailMessage" "Ljava/lang/String;") ∈ lw_all := lw_g (lw_at lw_m3 12 rfl) rfl
theorem q535 : (Jvm.Cond.lays "java/lang/NegativeArraySizeException" "java/lang/Throwable" "cause" "Ljava/lang/Throwable;") ∈ lw_all := lw_g (lw_at lw_m3 14 rfl) rfl
theorem q537 : (Jvm.Cond.lays "java/lang/NegativeArraySizeException" "java/lang/Throwable" "stackTrace" "[Ljava/lang/StackTraceElement;") ∈ lw_all := lw_g (lw_at lw_m3 16 rfl) rfl
theorem q539 : (Jvm.Cond.lays "java/lang/NegativeArraySizeException" "java/lang/Throwable" "depth" "I") ∈ lw_all := lw_g (lw_at lw_m3 18 rfl) rfl
theorem q541 : (Jvm.Cond.lays "java/lang/NegativeArraySizeException" "java/lang/Throwable" "suppressedExceptions" "Ljava/util/List;") ∈ lw_all := lw_g (lw_at lw_m3 20 rfl) rfl
theorem q543 : (Jvm.Cond.superclass "java/lang/NegativeArraySizeException" "java/lang/RuntimeException") ∈ lw_all := lw_g (lw_at lw_m3 22 rfl) rfl
theorem q544 : (Jvm.Cond.castable "java/lang/NegativeArraySizeException" "java/lang/NegativeArraySizeException") ∈ lw_tbl := lw_at lw_m3 23 rfl
theorem q551 : (Jvm.Cond.selects "java/lang/NegativeArraySizeException" ({ cls := "java/lang/Throwable", name := "fillInStackTrace", desc := "(I)Ljava/lang/Throwable;" } : Jvm.MethodName) ({ cls := "java/lang/Throwable", name := "fillInStackTrace", desc := "(I)Ljava/lang/Throwable;" } : Jvm.MethodName)) ∈ lw_all := lw_g (lw_at lw_m3 30 rfl) rfl
theorem q49 : (Jvm.Cond.initialized "java/lang/String") ∈ lw_all := lw_g (lw_at lw_m1 8 rfl) rfl
theorem q561 : (Jvm.Cond.instantiable "java/lang/String" (4 : Nat)) ∈ lw_all := lw_g (lw_at lw_m3 40 rfl) rfl
theorem q563 : (Jvm.Cond.laysFinal "java/lang/String" "java/lang/String" "value" "[B") ∈ lw_all := lw_g (lw_at lw_m3 42 rfl) rfl
theorem q564 : (Jvm.Cond.soleField "java/lang/String" "value") ∈ lw_all := lw_g (lw_at lw_m3 43 rfl) rfl
theorem q565 : (Jvm.Cond.laysFinal "java/lang/String" "java/lang/String" "coder" "B") ∈ lw_all := lw_g (lw_at lw_m3 44 rfl) rfl
theorem q566 : (Jvm.Cond.soleField "java/lang/String" "coder") ∈ lw_all := lw_g (lw_at lw_m3 45 rfl) rfl
theorem q50 : (Jvm.Cond.initialized "java/lang/IndexOutOfBoundsException") ∈ lw_all := lw_g (lw_at lw_m1 9 rfl) rfl
theorem q579 : (Jvm.Cond.instanceMethod ({ cls := "java/lang/IndexOutOfBoundsException", name := "<init>", desc := "(Ljava/lang/String;)V" } : Jvm.MethodName)) ∈ lw_all := lw_g (lw_at lw_m3 58 rfl) rfl
theorem q580 : (Jvm.Cond.code ({ cls := "java/lang/IndexOutOfBoundsException", name := "<init>", desc := "(Ljava/lang/String;)V" } : Jvm.MethodName) prog_16_method_2_code (2 : Nat) (Option.none : Option Jvm.ClassFile.FieldType)) ∈ lw_all := lw_g (lw_at lw_m3 59 rfl) rfl
theorem q581 : (Jvm.Cond.methodLink "java/lang/IndexOutOfBoundsException" (7 : Nat) ({ cls := "java/lang/RuntimeException", name := "<init>", desc := "(Ljava/lang/String;)V" } : Jvm.MethodName)) ∈ lw_all := lw_g (lw_at lw_m3 60 rfl) rfl
theorem q590 : (Jvm.Cond.declares ({ cls := "java/lang/IndexOutOfBoundsException", name := "<init>", desc := "()V" } : Jvm.MethodName)) ∈ lw_tbl := lw_at lw_m3 69 rfl
theorem q591 : (Jvm.Cond.declares ({ cls := "java/lang/IndexOutOfBoundsException", name := "<init>", desc := "(Ljava/lang/String;)V" } : Jvm.MethodName)) ∈ lw_tbl := lw_at lw_m3 70 rfl
theorem q51 : (Jvm.Cond.initialized "java/lang/ArrayIndexOutOfBoundsException") ∈ lw_all := lw_g (lw_at lw_m1 10 rfl) rfl
theorem q504 : (Jvm.Cond.selects "java/lang/ArrayIndexOutOfBoundsException" ({ cls := "java/lang/Throwable", name := "fillInStackTrace", desc := "()Ljava/lang/Throwable;" } : Jvm.MethodName) ({ cls := "java/lang/Throwable", name := "fillInStackTrace", desc := "()Ljava/lang/Throwable;" } : Jvm.MethodName)) ∈ lw_all := lw_g (lw_at lw_m2 223 rfl) rfl
theorem q575 : (Jvm.Cond.instantiable "java/lang/ArrayIndexOutOfBoundsException" (6 : Nat)) ∈ lw_all := lw_g (lw_at lw_m3 54 rfl) rfl
theorem q576 : (Jvm.Cond.instanceMethod ({ cls := "java/lang/ArrayIndexOutOfBoundsException", name := "<init>", desc := "(Ljava/lang/String;)V" } : Jvm.MethodName)) ∈ lw_all := lw_g (lw_at lw_m3 55 rfl) rfl
theorem q577 : (Jvm.Cond.code ({ cls := "java/lang/ArrayIndexOutOfBoundsException", name := "<init>", desc := "(Ljava/lang/String;)V" } : Jvm.MethodName) prog_13_method_2_code (2 : Nat) (Option.none : Option Jvm.ClassFile.FieldType)) ∈ lw_all := lw_g (lw_at lw_m3 56 rfl) rfl
theorem q578 : (Jvm.Cond.methodLink "java/lang/ArrayIndexOutOfBoundsException" (7 : Nat) ({ cls := "java/lang/IndexOutOfBoundsException", name := "<init>", desc := "(Ljava/lang/String;)V" } : Jvm.MethodName)) ∈ lw_all := lw_g (lw_at lw_m3 57 rfl) rfl
theorem q582 : (Jvm.Cond.lays "java/lang/ArrayIndexOutOfBoundsException" "java/lang/Throwable" "backtrace" "Ljava/lang/Object;") ∈ lw_all := lw_g (lw_at lw_m3 61 rfl) rfl
theorem q583 : (Jvm.Cond.lays "java/lang/ArrayIndexOutOfBoundsException" "java/lang/Throwable" "detailMessage" "Ljava/lang/String;") ∈ lw_all := lw_g (lw_at lw_m3 62 rfl) rfl
theorem q584 : (Jvm.Cond.lays "java/lang/ArrayIndexOutOfBoundsException" "java/lang/Throwable" "cause" "Ljava/lang/Throwable;") ∈ lw_all := lw_g (lw_at lw_m3 63 rfl) rfl
theorem q585 : (Jvm.Cond.lays "java/lang/ArrayIndexOutOfBoundsException" "java/lang/Throwable" "stackTrace" "[Ljava/lang/StackTraceElement;") ∈ lw_all := lw_g (lw_at lw_m3 64 rfl) rfl
theorem q586 : (Jvm.Cond.lays "java/lang/ArrayIndexOutOfBoundsException" "java/lang/Throwable" "depth" "I") ∈ lw_all := lw_g (lw_at lw_m3 65 rfl) rfl
theorem q587 : (Jvm.Cond.lays "java/lang/ArrayIndexOutOfBoundsException" "java/lang/Throwable" "suppressedExceptions" "Ljava/util/List;") ∈ lw_all := lw_g (lw_at lw_m3 66 rfl) rfl
theorem q588 : (Jvm.Cond.superclass "java/lang/ArrayIndexOutOfBoundsException" "java/lang/IndexOutOfBoundsException") ∈ lw_all := lw_g (lw_at lw_m3 67 rfl) rfl
theorem q589 : (Jvm.Cond.castable "java/lang/ArrayIndexOutOfBoundsException" "java/lang/ArrayIndexOutOfBoundsException") ∈ lw_tbl := lw_at lw_m3 68 rfl
theorem q592 : (Jvm.Cond.selects "java/lang/ArrayIndexOutOfBoundsException" ({ cls := "java/lang/Throwable", name := "fillInStackTrace", desc := "(I)Ljava/lang/Throwable;" } : Jvm.MethodName) ({ cls := "java/lang/Throwable", name := "fillInStackTrace", desc := "(I)Ljava/lang/Throwable;" } : Jvm.MethodName)) ∈ lw_all := lw_g (lw_at lw_m3 71 rfl) rfl
theorem q52 : (Jvm.Cond.initialized "java/lang/NullPointerException") ∈ lw_all := lw_g (lw_at lw_m1 11 rfl) rfl
theorem q506 : (Jvm.Cond.selects "java/lang/NullPointerException" ({ cls := "java/lang/Throwable", name := "fillInStackTrace", desc := "()Ljava/lang/Throwable;" } : Jvm.MethodName) ({ cls := "java/lang/NullPointerException", name := "fillInStackTrace", desc := "()Ljava/lang/Throwable;" } : Jvm.MethodName)) ∈ lw_all := lw_g (lw_at lw_m2 225 rfl) rfl
theorem q507 : (Jvm.Cond.instanceMethod ({ cls := "java/lang/NullPointerException", name := "fillInStackTrace", desc := "()Ljava/lang/Throwable;" } : Jvm.MethodName)) ∈ lw_all := lw_g (lw_at lw_m2 226 rfl) rfl
theorem q508 : (Jvm.Cond.codeSync ({ cls := "java/lang/NullPointerException", name := "fillInStackTrace", desc := "()Ljava/lang/Throwable;" } : Jvm.MethodName) prog_19_method_3_code (1 : Nat) (Option.some (Jvm.ClassFile.FieldType.object "java/lang/Throwable"))) ∈ lw_all := lw_g (lw_at lw_m2 227 rfl) rfl
theorem q509 : (Jvm.Cond.methodLink "java/lang/NullPointerException" (16 : Nat) ({ cls := "java/lang/NullPointerException", name := "getExtendedNPEMessage", desc := "()Ljava/lang/String;" } : Jvm.MethodName)) ∈ lw_all := lw_g (lw_at lw_m2 228 rfl) rfl
theorem q510 : (Jvm.Cond.privateMethod ({ cls := "java/lang/NullPointerException", name := "getExtendedNPEMessage", desc := "()Ljava/lang/String;" } : Jvm.MethodName)) ∈ lw_tbl := lw_at lw_m2 229 rfl
theorem q511 : (Jvm.Cond.instanceMethod ({ cls := "java/lang/NullPointerException", name := "getExtendedNPEMessage", desc := "()Ljava/lang/String;" } : Jvm.MethodName)) ∈ lw_all := lw_g (lw_at lw_m2 230 rfl) rfl
theorem q512 : (Jvm.Cond.instantiable "java/lang/NullPointerException" (8 : Nat)) ∈ lw_all := lw_g (lw_at lw_m2 231 rfl) rfl
theorem q513 : (Jvm.Cond.native ({ cls := "java/lang/NullPointerException", name := "getExtendedNPEMessage", desc := "()Ljava/lang/String;" } : Jvm.MethodName)) ∈ lw_all := lw_g (lw_at lw_m2 232 rfl) rfl
theorem q514 : (Jvm.Cond.methodLink "java/lang/NullPointerException" (24 : Nat) ({ cls := "java/lang/RuntimeException", name := "fillInStackTrace", desc := "()Ljava/lang/Throwable;" } : Jvm.MethodName)) ∈ lw_all := lw_g (lw_at lw_m2 233 rfl) rfl
theorem q517 : (Jvm.Cond.superclass "java/lang/NullPointerException" "java/lang/RuntimeException") ∈ lw_all := lw_g (lw_at lw_m2 236 rfl) rfl
theorem q601 : (Jvm.Cond.instanceMethod ({ cls := "java/lang/NullPointerException", name := "<init>", desc := "()V" } : Jvm.MethodName)) ∈ lw_all := lw_g (lw_at lw_m3 80 rfl) rfl
theorem q602 : (Jvm.Cond.code ({ cls := "java/lang/NullPointerException", name := "<init>", desc := "()V" } : Jvm.MethodName) prog_19_method_1_code (1 : Nat) (Option.none : Option Jvm.ClassFile.FieldType)) ∈ lw_all := lw_g (lw_at lw_m3 81 rfl) rfl
theorem q603 : (Jvm.Cond.methodLink "java/lang/NullPointerException" (1 : Nat) ({ cls := "java/lang/RuntimeException", name := "<init>", desc := "()V" } : Jvm.MethodName)) ∈ lw_all := lw_g (lw_at lw_m3 82 rfl) rfl
theorem q610 : (Jvm.Cond.fieldLink "java/lang/NullPointerException" (10 : Nat) "java/lang/NullPointerException" "extendedMessageState" "I") ∈ lw_all := lw_g (lw_at lw_m3 89 rfl) rfl
theorem q611 : (Jvm.Cond.fieldLink "java/lang/NullPointerException" (20 : Nat) "java/lang/NullPointerException" "extendedMessage" "Ljava/lang/String;") ∈ lw_all := lw_g (lw_at lw_m3 90 rfl) rfl
theorem q612 : (Jvm.Cond.lays "java/lang/NullPointerException" "java/lang/NullPointerException" "extendedMessageState" "I") ∈ lw_all := lw_g (lw_at lw_m3 91 rfl) rfl
theorem q613 : (Jvm.Cond.soleField "java/lang/NullPointerException" "extendedMessageState") ∈ lw_all := lw_g (lw_at lw_m3 92 rfl) rfl
theorem q614 : (Jvm.Cond.lays "java/lang/NullPointerException" "java/lang/NullPointerException" "extendedMessage" "Ljava/lang/String;") ∈ lw_all := lw_g (lw_at lw_m3 93 rfl) rfl
theorem q615 : (Jvm.Cond.soleField "java/lang/NullPointerException" "extendedMessage") ∈ lw_all := lw_g (lw_at lw_m3 94 rfl) rfl
theorem q616 : (Jvm.Cond.lays "java/lang/NullPointerException" "java/lang/Throwable" "backtrace" "Ljava/lang/Object;") ∈ lw_all := lw_g (lw_at lw_m3 95 rfl) rfl
theorem q617 : (Jvm.Cond.lays "java/lang/NullPointerException" "java/lang/Throwable" "detailMessage" "Ljava/lang/String;") ∈ lw_all := lw_g (lw_at lw_m3 96 rfl) rfl
theorem q618 : (Jvm.Cond.lays "java/lang/NullPointerException" "java/lang/Throwable" "cause" "Ljava/lang/Throwable;") ∈ lw_all := lw_g (lw_at lw_m3 97 rfl) rfl
theorem q619 : (Jvm.Cond.lays "java/lang/NullPointerException" "java/lang/Throwable" "stackTrace" "[Ljava/lang/StackTraceElement;") ∈ lw_all := lw_g (lw_at lw_m3 98 rfl) rfl
theorem q620 : (Jvm.Cond.lays "java/lang/NullPointerException" "java/lang/Throwable" "depth" "I") ∈ lw_all := lw_g (lw_at lw_m3 99 rfl) rfl
theorem q621 : (Jvm.Cond.lays "java/lang/NullPointerException" "java/lang/Throwable" "suppressedExceptions" "Ljava/util/List;") ∈ lw_all := lw_g (lw_at lw_m3 100 rfl) rfl
theorem q622 : (Jvm.Cond.castable "java/lang/NullPointerException" "java/lang/NullPointerException") ∈ lw_tbl := lw_at lw_m3 101 rfl
theorem q623 : (Jvm.Cond.selects "java/lang/NullPointerException" ({ cls := "java/lang/Throwable", name := "fillInStackTrace", desc := "(I)Ljava/lang/Throwable;" } : Jvm.MethodName) ({ cls := "java/lang/Throwable", name := "fillInStackTrace", desc := "(I)Ljava/lang/Throwable;" } : Jvm.MethodName)) ∈ lw_all := lw_g (lw_at lw_m3 102 rfl) rfl
theorem q54 : (Jvm.Cond.initialized "java/lang/Math") ∈ lw_all := lw_g (lw_at lw_m1 13 rfl) rfl
theorem q172 : (Jvm.Cond.static ({ cls := "java/lang/Math", name := "abs", desc := "(F)F" } : Jvm.MethodName)) ∈ lw_all := lw_g (lw_at lw_m1 131 rfl) rfl
theorem q173 : (Jvm.Cond.code ({ cls := "java/lang/Math", name := "abs", desc := "(F)F" } : Jvm.MethodName) prog_17_method_63_code (1 : Nat) (Option.some Jvm.ClassFile.FieldType.float)) ∈ lw_all := lw_g (lw_at lw_m1 132 rfl) rfl
theorem q174 : (Jvm.Cond.methodLink "java/lang/Math" (68 : Nat) ({ cls := "java/lang/Float", name := "floatToRawIntBits", desc := "(F)I" } : Jvm.MethodName)) ∈ lw_all := lw_g (lw_at lw_m1 133 rfl) rfl
theorem q177 : (Jvm.Cond.constant "java/lang/Math" (134 : Nat) (2147483647 : Int32)) ∈ lw_all := lw_g (lw_at lw_m1 136 rfl) rfl
theorem q178 : (Jvm.Cond.methodLink "java/lang/Math" (162 : Nat) ({ cls := "java/lang/Float", name := "intBitsToFloat", desc := "(I)F" } : Jvm.MethodName)) ∈ lw_all := lw_g (lw_at lw_m1 137 rfl) rfl
theorem q182 : (Jvm.Cond.static ({ cls := "java/lang/Math", name := "max", desc := "(FF)F" } : Jvm.MethodName)) ∈ lw_all := lw_g (lw_at lw_m1 141 rfl) rfl
theorem q183 : (Jvm.Cond.code ({ cls := "java/lang/Math", name := "max", desc := "(FF)F" } : Jvm.MethodName) prog_17_method_67_code (2 : Nat) (Option.some Jvm.ClassFile.FieldType.float)) ∈ lw_all := lw_g (lw_at lw_m1 142 rfl) rfl
theorem q184 : (Jvm.Cond.fieldLink "java/lang/Math" (170 : Nat) "java/lang/Math" "negativeZeroFloatBits" "J") ∈ lw_all := lw_g (lw_at lw_m1 143 rfl) rfl
theorem q185 : (Jvm.Cond.laysStatic "java/lang/Math" "negativeZeroFloatBits" "J") ∈ lw_tbl := lw_at lw_m1 144 rfl
theorem q326 : (Jvm.Cond.static ({ cls := "java/lang/Math", name := "min", desc := "(JJ)J" } : Jvm.MethodName)) ∈ lw_all := lw_g (lw_at lw_m2 45 rfl) rfl
theorem q327 : (Jvm.Cond.code ({ cls := "java/lang/Math", name := "min", desc := "(JJ)J" } : Jvm.MethodName) prog_17_method_70_code (4 : Nat) (Option.some Jvm.ClassFile.FieldType.long)) ∈ lw_all := lw_g (lw_at lw_m2 46 rfl) rfl
theorem q442 : (Jvm.Cond.static ({ cls := "java/lang/Math", name := "max", desc := "(II)I" } : Jvm.MethodName)) ∈ lw_all := lw_g (lw_at lw_m2 161 rfl) rfl
theorem q443 : (Jvm.Cond.code ({ cls := "java/lang/Math", name := "max", desc := "(II)I" } : Jvm.MethodName) prog_17_method_65_code (2 : Nat) (Option.some Jvm.ClassFile.FieldType.int)) ∈ lw_all := lw_g (lw_at lw_m2 162 rfl) rfl
theorem q59 : (Jvm.Cond.initialized "java/lang/ArithmeticException") ∈ lw_all := lw_g (lw_at lw_m1 18 rfl) rfl
theorem q503 : (Jvm.Cond.selects "java/lang/ArithmeticException" ({ cls := "java/lang/Throwable", name := "fillInStackTrace", desc := "()Ljava/lang/Throwable;" } : Jvm.MethodName) ({ cls := "java/lang/Throwable", name := "fillInStackTrace", desc := "()Ljava/lang/Throwable;" } : Jvm.MethodName)) ∈ lw_all := lw_g (lw_at lw_m2 222 rfl) rfl
theorem q633 : (Jvm.Cond.instantiable "java/lang/ArithmeticException" (6 : Nat)) ∈ lw_all := lw_g (lw_at lw_m3 112 rfl) rfl
theorem q634 : (Jvm.Cond.instanceMethod ({ cls := "java/lang/ArithmeticException", name := "<init>", desc := "(Ljava/lang/String;)V" } : Jvm.MethodName)) ∈ lw_all := lw_g (lw_at lw_m3 113 rfl) rfl
theorem q635 : (Jvm.Cond.code ({ cls := "java/lang/ArithmeticException", name := "<init>", desc := "(Ljava/lang/String;)V" } : Jvm.MethodName) prog_12_method_2_code (2 : Nat) (Option.none : Option Jvm.ClassFile.FieldType)) ∈ lw_all := lw_g (lw_at lw_m3 114 rfl) rfl
theorem q636 : (Jvm.Cond.methodLink "java/lang/ArithmeticException" (7 : Nat) ({ cls := "java/lang/RuntimeException", name := "<init>", desc := "(Ljava/lang/String;)V" } : Jvm.MethodName)) ∈ lw_all := lw_g (lw_at lw_m3 115 rfl) rfl
theorem q637 : (Jvm.Cond.lays "java/lang/ArithmeticException" "java/lang/Throwable" "backtrace" "Ljava/lang/Object;") ∈ lw_all := lw_g (lw_at lw_m3 116 rfl) rfl
theorem q638 : (Jvm.Cond.lays "java/lang/ArithmeticException" "java/lang/Throwable" "detailMessage" "Ljava/lang/String;") ∈ lw_all := lw_g (lw_at lw_m3 117 rfl) rfl
theorem q639 : (Jvm.Cond.lays "java/lang/ArithmeticException" "java/lang/Throwable" "cause" "Ljava/lang/Throwable;") ∈ lw_all := lw_g (lw_at lw_m3 118 rfl) rfl
theorem q640 : (Jvm.Cond.lays "java/lang/ArithmeticException" "java/lang/Throwable" "stackTrace" "[Ljava/lang/StackTraceElement;") ∈ lw_all := lw_g (lw_at lw_m3 119 rfl) rfl
theorem q641 : (Jvm.Cond.lays "java/lang/ArithmeticException" "java/lang/Throwable" "depth" "I") ∈ lw_all := lw_g (lw_at lw_m3 120 rfl) rfl
theorem q642 : (Jvm.Cond.lays "java/lang/ArithmeticException" "java/lang/Throwable" "suppressedExceptions" "Ljava/util/List;") ∈ lw_all := lw_g (lw_at lw_m3 121 rfl) rfl
theorem q643 : (Jvm.Cond.superclass "java/lang/ArithmeticException" "java/lang/RuntimeException") ∈ lw_all := lw_g (lw_at lw_m3 122 rfl) rfl
theorem q644 : (Jvm.Cond.castable "java/lang/ArithmeticException" "java/lang/ArithmeticException") ∈ lw_tbl := lw_at lw_m3 123 rfl
theorem q645 : (Jvm.Cond.selects "java/lang/ArithmeticException" ({ cls := "java/lang/Throwable", name := "fillInStackTrace", desc := "(I)Ljava/lang/Throwable;" } : Jvm.MethodName) ({ cls := "java/lang/Throwable", name := "fillInStackTrace", desc := "(I)Ljava/lang/Throwable;" } : Jvm.MethodName)) ∈ lw_all := lw_g (lw_at lw_m3 124 rfl) rfl
theorem q41 : (Jvm.Cond.initialized "OrderJudgeLaw") ∈ lw_all := lw_g (lw_at lw_m1 0 rfl) rfl
theorem q62 : (Jvm.Cond.classLink "OrderJudgeLaw" (8 : Nat) "OrderJudge") ∈ lw_all := lw_g (lw_at lw_m1 21 rfl) rfl
theorem q64 : (Jvm.Cond.methodLink "OrderJudgeLaw" (32 : Nat) ({ cls := "OrderJudge", name := "<init>", desc := "()V" } : Jvm.MethodName)) ∈ lw_all := lw_g (lw_at lw_m1 23 rfl) rfl
theorem q104 : (Jvm.Cond.methodLink "OrderJudgeLaw" (38 : Nat) ({ cls := "OrderJudge", name := "point", desc := "(JJJ)I" } : Jvm.MethodName)) ∈ lw_all := lw_g (lw_at lw_m1 63 rfl) rfl
theorem q148 : (Jvm.Cond.methodLink "OrderJudgeLaw" (60 : Nat) ({ cls := "OrderJudge", name := "side", desc := "(III)I" } : Jvm.MethodName)) ∈ lw_all := lw_g (lw_at lw_m1 107 rfl) rfl
theorem q205 : (Jvm.Cond.methodLink "OrderJudgeLaw" (65 : Nat) ({ cls := "OrderJudge", name := "circle", desc := "(IIII)I" } : Jvm.MethodName)) ∈ lw_all := lw_g (lw_at lw_m1 164 rfl) rfl
theorem q216 : (Jvm.Cond.methodLink "OrderJudgeLaw" (70 : Nat) ({ cls := "OrderJudge", name := "filter", desc := "(Z)I" } : Jvm.MethodName)) ∈ lw_all := lw_g (lw_at lw_m1 175 rfl) rfl
theorem q220 : (Jvm.Cond.methodLink "OrderJudgeLaw" (75 : Nat) ({ cls := "OrderJudge", name := "decided", desc := "(I)I" } : Jvm.MethodName)) ∈ lw_all := lw_g (lw_at lw_m1 179 rfl) rfl
theorem q224 : (Jvm.Cond.methodLink "OrderJudgeLaw" (79 : Nat) ({ cls := "OrderJudge", name := "between", desc := "(III)I" } : Jvm.MethodName)) ∈ lw_all := lw_g (lw_at lw_m1 183 rfl) rfl
theorem q235 : (Jvm.Cond.methodLink "OrderJudgeLaw" (83 : Nat) ({ cls := "OrderJudge", name := "inside", desc := "(IIII)I" } : Jvm.MethodName)) ∈ lw_all := lw_g (lw_at lw_m1 194 rfl) rfl
theorem q248 : (Jvm.Cond.methodLink "OrderJudgeLaw" (87 : Nat) ({ cls := "OrderJudge", name := "cross", desc := "(IIII)I" } : Jvm.MethodName)) ∈ lw_all := lw_g (lw_at lw_m1 207 rfl) rfl
theorem q264 : (Jvm.Cond.methodLink "OrderJudgeLaw" (91 : Nat) ({ cls := "OrderJudge", name := "separated", desc := "(IIII)I" } : Jvm.MethodName)) ∈ lw_all := lw_g (lw_at lw_m1 223 rfl) rfl
theorem q268 : (Jvm.Cond.methodLink "OrderJudgeLaw" (95 : Nat) ({ cls := "OrderJudge", name := "convex", desc := "(I)I" } : Jvm.MethodName)) ∈ lw_all := lw_g (lw_at lw_m1 227 rfl) rfl
theorem q280 : (Jvm.Cond.methodLink "OrderJudgeLaw" (99 : Nat) ({ cls := "OrderJudge", name := "polygon", desc := "(II)I" } : Jvm.MethodName)) ∈ lw_all := lw_g (lw_at lw_m1 239 rfl) rfl
theorem q313 : (Jvm.Cond.methodLink "OrderJudgeLaw" (103 : Nat) ({ cls := "OrderJudge", name := "winding", desc := "(II)I" } : Jvm.MethodName)) ∈ lw_all := lw_g (lw_at lw_m2 32 rfl) rfl
theorem q317 : (Jvm.Cond.methodLink "OrderJudgeLaw" (107 : Nat) ({ cls := "OrderJudge", name := "nearest", desc := "(II)I" } : Jvm.MethodName)) ∈ lw_all := lw_g (lw_at lw_m2 36 rfl) rfl
theorem q328 : (Jvm.Cond.methodLink "OrderJudgeLaw" (111 : Nat) ({ cls := "OrderJudge", name := "around", desc := "(III)I" } : Jvm.MethodName)) ∈ lw_all := lw_g (lw_at lw_m2 47 rfl) rfl
theorem q378 : (Jvm.Cond.methodLink "OrderJudgeLaw" (115 : Nat) ({ cls := "OrderJudge", name := "order", desc := "(II)I" } : Jvm.MethodName)) ∈ lw_all := lw_g (lw_at lw_m2 97 rfl) rfl
theorem q389 : (Jvm.Cond.methodLink "OrderJudgeLaw" (123 : Nat) ({ cls := "OrderJudge", name := "line", desc := "(II)I" } : Jvm.MethodName)) ∈ lw_all := lw_g (lw_at lw_m2 108 rfl) rfl
theorem q408 : (Jvm.Cond.methodLink "OrderJudgeLaw" (127 : Nat) ({ cls := "OrderJudge", name := "lines", desc := "(II)I" } : Jvm.MethodName)) ∈ lw_all := lw_g (lw_at lw_m2 127 rfl) rfl
theorem q475 : (Jvm.Cond.methodLink "OrderJudgeLaw" (131 : Nat) ({ cls := "OrderJudge", name := "count", desc := "(I)I" } : Jvm.MethodName)) ∈ lw_all := lw_g (lw_at lw_m2 194 rfl) rfl
theorem q479 : (Jvm.Cond.methodLink "OrderJudgeLaw" (43 : Nat) ({ cls := "OrderJudgeLaw", name := "size", desc := "(LOrderJudge;I[J)I" } : Jvm.MethodName)) ∈ lw_all := lw_g (lw_at lw_m2 198 rfl) rfl
theorem q480 : (Jvm.Cond.static ({ cls := "OrderJudgeLaw", name := "size", desc := "(LOrderJudge;I[J)I" } : Jvm.MethodName)) ∈ lw_all := lw_g (lw_at lw_m2 199 rfl) rfl
theorem q481 : (Jvm.Cond.codeWith ({ cls := "OrderJudgeLaw", name := "size", desc := "(LOrderJudge;I[J)I" } : Jvm.MethodName) method_3_code (4 : Nat) (Option.some Jvm.ClassFile.FieldType.int) [((0 : Nat), (9 : Nat), (12 : Nat), (13 : Nat))]) ∈ lw_all := lw_g (lw_at lw_m2 200 rfl) rfl
theorem q482 : (Jvm.Cond.classLink "OrderJudgeLaw" (13 : Nat) "java/lang/NegativeArraySizeException") ∈ lw_all := lw_g (lw_at lw_m2 201 rfl) rfl
theorem q567 : (Jvm.Cond.methodLink "OrderJudgeLaw" (7 : Nat) ({ cls := "OrderJudge", name := "size", desc := "(I)I" } : Jvm.MethodName)) ∈ lw_all := lw_g (lw_at lw_m3 46 rfl) rfl
theorem q571 : (Jvm.Cond.methodLink "OrderJudgeLaw" (53 : Nat) ({ cls := "OrderJudgeLaw", name := "of", desc := "(LOrderJudge;II[J)I" } : Jvm.MethodName)) ∈ lw_all := lw_g (lw_at lw_m3 50 rfl) rfl
theorem q572 : (Jvm.Cond.static ({ cls := "OrderJudgeLaw", name := "of", desc := "(LOrderJudge;II[J)I" } : Jvm.MethodName)) ∈ lw_all := lw_g (lw_at lw_m3 51 rfl) rfl
theorem q573 : (Jvm.Cond.codeWith ({ cls := "OrderJudgeLaw", name := "of", desc := "(LOrderJudge;II[J)I" } : Jvm.MethodName) method_4_code (5 : Nat) (Option.some Jvm.ClassFile.FieldType.int) [((0 : Nat), (10 : Nat), (13 : Nat), (19 : Nat))]) ∈ lw_all := lw_g (lw_at lw_m3 52 rfl) rfl
theorem q574 : (Jvm.Cond.classLink "OrderJudgeLaw" (19 : Nat) "java/lang/ArrayIndexOutOfBoundsException") ∈ lw_all := lw_g (lw_at lw_m3 53 rfl) rfl
theorem q593 : (Jvm.Cond.methodLink "OrderJudgeLaw" (15 : Nat) ({ cls := "OrderJudge", name := "of", desc := "(II)I" } : Jvm.MethodName)) ∈ lw_all := lw_g (lw_at lw_m3 72 rfl) rfl
theorem q597 : (Jvm.Cond.methodLink "OrderJudgeLaw" (57 : Nat) ({ cls := "OrderJudgeLaw", name := "at", desc := "(LOrderJudge;II[J)I" } : Jvm.MethodName)) ∈ lw_all := lw_g (lw_at lw_m3 76 rfl) rfl
theorem q598 : (Jvm.Cond.static ({ cls := "OrderJudgeLaw", name := "at", desc := "(LOrderJudge;II[J)I" } : Jvm.MethodName)) ∈ lw_all := lw_g (lw_at lw_m3 77 rfl) rfl
theorem q599 : (Jvm.Cond.codeWith ({ cls := "OrderJudgeLaw", name := "at", desc := "(LOrderJudge;II[J)I" } : Jvm.MethodName) method_5_code (5 : Nat) (Option.some Jvm.ClassFile.FieldType.int) [((0 : Nat), (10 : Nat), (13 : Nat), (19 : Nat)), ((0 : Nat), (10 : Nat), (17 : Nat), (24 : Nat))]) ∈ lw_all := lw_g (lw_at lw_m3 78 rfl) rfl
theorem q600 : (Jvm.Cond.classLink "OrderJudgeLaw" (24 : Nat) "java/lang/NullPointerException") ∈ lw_all := lw_g (lw_at lw_m3 79 rfl) rfl
theorem q625 : (Jvm.Cond.methodLink "OrderJudgeLaw" (21 : Nat) ({ cls := "OrderJudge", name := "at", desc := "(II)I" } : Jvm.MethodName)) ∈ lw_all := lw_g (lw_at lw_m3 104 rfl) rfl
theorem q629 : (Jvm.Cond.methodLink "OrderJudgeLaw" (119 : Nat) ({ cls := "OrderJudgeLaw", name := "area", desc := "(LOrderJudge;IJ[J)I" } : Jvm.MethodName)) ∈ lw_all := lw_g (lw_at lw_m3 108 rfl) rfl
theorem q630 : (Jvm.Cond.static ({ cls := "OrderJudgeLaw", name := "area", desc := "(LOrderJudge;IJ[J)I" } : Jvm.MethodName)) ∈ lw_all := lw_g (lw_at lw_m3 109 rfl) rfl
theorem q631 : (Jvm.Cond.codeWith ({ cls := "OrderJudgeLaw", name := "area", desc := "(LOrderJudge;IJ[J)I" } : Jvm.MethodName) method_6_code (6 : Nat) (Option.some Jvm.ClassFile.FieldType.int) [((0 : Nat), (10 : Nat), (13 : Nat), (30 : Nat))]) ∈ lw_all := lw_g (lw_at lw_m3 110 rfl) rfl
theorem q632 : (Jvm.Cond.classLink "OrderJudgeLaw" (30 : Nat) "java/lang/ArithmeticException") ∈ lw_all := lw_g (lw_at lw_m3 111 rfl) rfl
theorem q646 : (Jvm.Cond.methodLink "OrderJudgeLaw" (26 : Nat) ({ cls := "OrderJudge", name := "area", desc := "(IJ)J" } : Jvm.MethodName)) ∈ lw_all := lw_g (lw_at lw_m3 125 rfl) rfl
theorem q650 : (Jvm.Cond.methodLink "OrderJudgeLaw" (49 : Nat) ({ cls := "OrderJudgeModel", name := "thrown", desc := "()I" } : Jvm.MethodName)) ∈ lw_all := lw_g (lw_at lw_m3 129 rfl) rfl
theorem q654 : (Jvm.Cond.classLink "OrderJudgeLaw" (33 : Nat) "OrderJudgeModel") ∈ lw_all := lw_g (lw_at lw_m3 133 rfl) rfl
theorem q656 : (Jvm.Cond.methodLink "OrderJudgeLaw" (35 : Nat) ({ cls := "OrderJudgeModel", name := "<init>", desc := "()V" } : Jvm.MethodName)) ∈ lw_all := lw_g (lw_at lw_m3 135 rfl) rfl
theorem q705 : (Jvm.Cond.methodLink "OrderJudgeLaw" (42 : Nat) ({ cls := "OrderJudgeModel", name := "point", desc := "(JJJ)I" } : Jvm.MethodName)) ∈ lw_all := lw_g (lw_at lw_m3 184 rfl) rfl
theorem q716 : (Jvm.Cond.methodLink "OrderJudgeLaw" (48 : Nat) ({ cls := "OrderJudgeModel", name := "size", desc := "(I)I" } : Jvm.MethodName)) ∈ lw_all := lw_g (lw_at lw_m3 195 rfl) rfl
theorem q724 : (Jvm.Cond.methodLink "OrderJudgeLaw" (56 : Nat) ({ cls := "OrderJudgeModel", name := "of", desc := "(II)I" } : Jvm.MethodName)) ∈ lw_all := lw_g (lw_at lw_m3 203 rfl) rfl
theorem q736 : (Jvm.Cond.methodLink "OrderJudgeLaw" (59 : Nat) ({ cls := "OrderJudgeModel", name := "at", desc := "(II)I" } : Jvm.MethodName)) ∈ lw_all := lw_g (lw_at lw_m3 215 rfl) rfl
theorem q740 : (Jvm.Cond.methodLink "OrderJudgeLaw" (64 : Nat) ({ cls := "OrderJudgeModel", name := "side", desc := "(III)I" } : Jvm.MethodName)) ∈ lw_all := lw_g (lw_at lw_m3 219 rfl) rfl
theorem q783 : (Jvm.Cond.methodLink "OrderJudgeLaw" (69 : Nat) ({ cls := "OrderJudgeModel", name := "circle", desc := "(IIII)I" } : Jvm.MethodName)) ∈ lw_all := lw_g (lw_at lw_m4 22 rfl) rfl
theorem q796 : (Jvm.Cond.methodLink "OrderJudgeLaw" (74 : Nat) ({ cls := "OrderJudgeModel", name := "filter", desc := "(Z)I" } : Jvm.MethodName)) ∈ lw_all := lw_g (lw_at lw_m4 35 rfl) rfl
theorem q800 : (Jvm.Cond.methodLink "OrderJudgeLaw" (78 : Nat) ({ cls := "OrderJudgeModel", name := "decided", desc := "(I)I" } : Jvm.MethodName)) ∈ lw_all := lw_g (lw_at lw_m4 39 rfl) rfl
theorem q804 : (Jvm.Cond.methodLink "OrderJudgeLaw" (82 : Nat) ({ cls := "OrderJudgeModel", name := "between", desc := "(III)I" } : Jvm.MethodName)) ∈ lw_all := lw_g (lw_at lw_m4 43 rfl) rfl
theorem q816 : (Jvm.Cond.methodLink "OrderJudgeLaw" (86 : Nat) ({ cls := "OrderJudgeModel", name := "inside", desc := "(IIII)I" } : Jvm.MethodName)) ∈ lw_all := lw_g (lw_at lw_m4 55 rfl) rfl
theorem q824 : (Jvm.Cond.methodLink "OrderJudgeLaw" (90 : Nat) ({ cls := "OrderJudgeModel", name := "cross", desc := "(IIII)I" } : Jvm.MethodName)) ∈ lw_all := lw_g (lw_at lw_m4 63 rfl) rfl
theorem q832 : (Jvm.Cond.methodLink "OrderJudgeLaw" (94 : Nat) ({ cls := "OrderJudgeModel", name := "separated", desc := "(IIII)I" } : Jvm.MethodName)) ∈ lw_all := lw_g (lw_at lw_m4 71 rfl) rfl
theorem q836 : (Jvm.Cond.methodLink "OrderJudgeLaw" (98 : Nat) ({ cls := "OrderJudgeModel", name := "convex", desc := "(I)I" } : Jvm.MethodName)) ∈ lw_all := lw_g (lw_at lw_m4 75 rfl) rfl
theorem q852 : (Jvm.Cond.methodLink "OrderJudgeLaw" (102 : Nat) ({ cls := "OrderJudgeModel", name := "polygon", desc := "(II)I" } : Jvm.MethodName)) ∈ lw_all := lw_g (lw_at lw_m4 91 rfl) rfl
theorem q864 : (Jvm.Cond.methodLink "OrderJudgeLaw" (106 : Nat) ({ cls := "OrderJudgeModel", name := "winding", desc := "(II)I" } : Jvm.MethodName)) ∈ lw_all := lw_g (lw_at lw_m4 103 rfl) rfl
theorem q868 : (Jvm.Cond.methodLink "OrderJudgeLaw" (110 : Nat) ({ cls := "OrderJudgeModel", name := "nearest", desc := "(II)I" } : Jvm.MethodName)) ∈ lw_all := lw_g (lw_at lw_m4 107 rfl) rfl
theorem q876 : (Jvm.Cond.methodLink "OrderJudgeLaw" (114 : Nat) ({ cls := "OrderJudgeModel", name := "around", desc := "(III)I" } : Jvm.MethodName)) ∈ lw_all := lw_g (lw_at lw_m4 115 rfl) rfl
theorem q888 : (Jvm.Cond.methodLink "OrderJudgeLaw" (118 : Nat) ({ cls := "OrderJudgeModel", name := "order", desc := "(II)I" } : Jvm.MethodName)) ∈ lw_all := lw_g (lw_at lw_m4 127 rfl) rfl
theorem q896 : (Jvm.Cond.methodLink "OrderJudgeLaw" (122 : Nat) ({ cls := "OrderJudgeModel", name := "area", desc := "(IJ)J" } : Jvm.MethodName)) ∈ lw_all := lw_g (lw_at lw_m4 135 rfl) rfl
theorem q900 : (Jvm.Cond.methodLink "OrderJudgeLaw" (126 : Nat) ({ cls := "OrderJudgeModel", name := "line", desc := "(II)I" } : Jvm.MethodName)) ∈ lw_all := lw_g (lw_at lw_m4 139 rfl) rfl
theorem q904 : (Jvm.Cond.methodLink "OrderJudgeLaw" (130 : Nat) ({ cls := "OrderJudgeModel", name := "lines", desc := "(II)I" } : Jvm.MethodName)) ∈ lw_all := lw_g (lw_at lw_m4 143 rfl) rfl
theorem q924 : (Jvm.Cond.methodLink "OrderJudgeLaw" (134 : Nat) ({ cls := "OrderJudgeModel", name := "count", desc := "(I)I" } : Jvm.MethodName)) ∈ lw_all := lw_g (lw_at lw_m4 163 rfl) rfl
theorem q928 : (Jvm.Cond.constantLong "OrderJudgeLaw" (36 : Nat) (4294967295 : Int64)) ∈ lw_all := lw_g (lw_at lw_m4 167 rfl) rfl
theorem q42 : (Jvm.Cond.initialized "OrderJudge") ∈ lw_all := lw_g (lw_at lw_m1 1 rfl) rfl
theorem q63 : (Jvm.Cond.instantiable "OrderJudge" (9 : Nat)) ∈ lw_all := lw_g (lw_at lw_m1 22 rfl) rfl
theorem q65 : (Jvm.Cond.instanceMethod ({ cls := "OrderJudge", name := "<init>", desc := "()V" } : Jvm.MethodName)) ∈ lw_all := lw_g (lw_at lw_m1 24 rfl) rfl
theorem q66 : (Jvm.Cond.code ({ cls := "OrderJudge", name := "<init>", desc := "()V" } : Jvm.MethodName) prog_1_method_6_code (1 : Nat) (Option.none : Option Jvm.ClassFile.FieldType)) ∈ lw_all := lw_g (lw_at lw_m1 25 rfl) rfl
theorem q67 : (Jvm.Cond.methodLink "OrderJudge" (20 : Nat) ({ cls := "java/lang/Object", name := "<init>", desc := "()V" } : Jvm.MethodName)) ∈ lw_all := lw_g (lw_at lw_m1 26 rfl) rfl
theorem q70 : (Jvm.Cond.classLink "OrderJudge" (2 : Nat) "OrderJudge$Point") ∈ lw_all := lw_g (lw_at lw_m1 29 rfl) rfl
theorem q72 : (Jvm.Cond.classLink "OrderJudge" (37 : Nat) "OrderJudge$Line") ∈ lw_all := lw_g (lw_at lw_m1 31 rfl) rfl
theorem q74 : (Jvm.Cond.fieldLink "OrderJudge" (43 : Nat) "OrderJudge" "points" "I") ∈ lw_all := lw_g (lw_at lw_m1 33 rfl) rfl
theorem q75 : (Jvm.Cond.fieldLink "OrderJudge" (26 : Nat) "OrderJudge" "point" "[LOrderJudge$Point;") ∈ lw_all := lw_g (lw_at lw_m1 34 rfl) rfl
theorem q77 : (Jvm.Cond.fieldLink "OrderJudge" (30 : Nat) "OrderJudge" "row" "[LOrderJudge$Point;") ∈ lw_all := lw_g (lw_at lw_m1 36 rfl) rfl
theorem q78 : (Jvm.Cond.fieldLink "OrderJudge" (33 : Nat) "OrderJudge" "isOn" "Z") ∈ lw_all := lw_g (lw_at lw_m1 37 rfl) rfl
theorem q79 : (Jvm.Cond.fieldLink "OrderJudge" (66 : Nat) "OrderJudge" "decided" "I") ∈ lw_all := lw_g (lw_at lw_m1 38 rfl) rfl
theorem q80 : (Jvm.Cond.fieldLink "OrderJudge" (69 : Nat) "OrderJudge" "undecided" "I") ∈ lw_all := lw_g (lw_at lw_m1 39 rfl) rfl
theorem q81 : (Jvm.Cond.fieldLink "OrderJudge" (72 : Nat) "OrderJudge" "zeros" "I") ∈ lw_all := lw_g (lw_at lw_m1 40 rfl) rfl
theorem q82 : (Jvm.Cond.fieldLink "OrderJudge" (181 : Nat) "OrderJudge" "lines" "I") ∈ lw_all := lw_g (lw_at lw_m1 41 rfl) rfl
theorem q84 : (Jvm.Cond.fieldLink "OrderJudge" (39 : Nat) "OrderJudge" "line" "[LOrderJudge$Line;") ∈ lw_all := lw_g (lw_at lw_m1 43 rfl) rfl
theorem q85 : (Jvm.Cond.lays "OrderJudge" "OrderJudge" "points" "I") ∈ lw_all := lw_g (lw_at lw_m1 44 rfl) rfl
theorem q86 : (Jvm.Cond.soleField "OrderJudge" "points") ∈ lw_all := lw_g (lw_at lw_m1 45 rfl) rfl
theorem q87 : (Jvm.Cond.laysFinal "OrderJudge" "OrderJudge" "point" "[LOrderJudge$Point;") ∈ lw_all := lw_g (lw_at lw_m1 46 rfl) rfl
theorem q88 : (Jvm.Cond.soleField "OrderJudge" "point") ∈ lw_all := lw_g (lw_at lw_m1 47 rfl) rfl
theorem q89 : (Jvm.Cond.lays "OrderJudge" "OrderJudge" "row" "[LOrderJudge$Point;") ∈ lw_all := lw_g (lw_at lw_m1 48 rfl) rfl
theorem q90 : (Jvm.Cond.soleField "OrderJudge" "row") ∈ lw_all := lw_g (lw_at lw_m1 49 rfl) rfl
theorem q91 : (Jvm.Cond.lays "OrderJudge" "OrderJudge" "isOn" "Z") ∈ lw_all := lw_g (lw_at lw_m1 50 rfl) rfl
theorem q92 : (Jvm.Cond.soleField "OrderJudge" "isOn") ∈ lw_all := lw_g (lw_at lw_m1 51 rfl) rfl
theorem q93 : (Jvm.Cond.lays "OrderJudge" "OrderJudge" "decided" "I") ∈ lw_all := lw_g (lw_at lw_m1 52 rfl) rfl
theorem q94 : (Jvm.Cond.soleField "OrderJudge" "decided") ∈ lw_all := lw_g (lw_at lw_m1 53 rfl) rfl
theorem q95 : (Jvm.Cond.lays "OrderJudge" "OrderJudge" "undecided" "I") ∈ lw_all := lw_g (lw_at lw_m1 54 rfl) rfl
theorem q96 : (Jvm.Cond.soleField "OrderJudge" "undecided") ∈ lw_all := lw_g (lw_at lw_m1 55 rfl) rfl
theorem q97 : (Jvm.Cond.lays "OrderJudge" "OrderJudge" "zeros" "I") ∈ lw_all := lw_g (lw_at lw_m1 56 rfl) rfl
theorem q98 : (Jvm.Cond.soleField "OrderJudge" "zeros") ∈ lw_all := lw_g (lw_at lw_m1 57 rfl) rfl
theorem q99 : (Jvm.Cond.lays "OrderJudge" "OrderJudge" "lines" "I") ∈ lw_all := lw_g (lw_at lw_m1 58 rfl) rfl
theorem q100 : (Jvm.Cond.soleField "OrderJudge" "lines") ∈ lw_all := lw_g (lw_at lw_m1 59 rfl) rfl
theorem q101 : (Jvm.Cond.laysFinal "OrderJudge" "OrderJudge" "line" "[LOrderJudge$Line;") ∈ lw_all := lw_g (lw_at lw_m1 60 rfl) rfl
theorem q102 : (Jvm.Cond.soleField "OrderJudge" "line") ∈ lw_all := lw_g (lw_at lw_m1 61 rfl) rfl
theorem q103 : (Jvm.Cond.superclass "OrderJudge" "java/lang/Object") ∈ lw_all := lw_g (lw_at lw_m1 62 rfl) rfl
theorem q105 : (Jvm.Cond.instanceMethod ({ cls := "OrderJudge", name := "point", desc := "(JJJ)I" } : Jvm.MethodName)) ∈ lw_all := lw_g (lw_at lw_m1 64 rfl) rfl
theorem q106 : (Jvm.Cond.selects "OrderJudge" ({ cls := "OrderJudge", name := "point", desc := "(JJJ)I" } : Jvm.MethodName) ({ cls := "OrderJudge", name := "point", desc := "(JJJ)I" } : Jvm.MethodName)) ∈ lw_all := lw_g (lw_at lw_m1 65 rfl) rfl
theorem q107 : (Jvm.Cond.code ({ cls := "OrderJudge", name := "point", desc := "(JJJ)I" } : Jvm.MethodName) prog_1_method_9_code (8 : Nat) (Option.some Jvm.ClassFile.FieldType.int)) ∈ lw_all := lw_g (lw_at lw_m1 66 rfl) rfl
theorem q108 : (Jvm.Cond.constantLong "OrderJudge" (54 : Nat) (-800 : Int64)) ∈ lw_all := lw_g (lw_at lw_m1 67 rfl) rfl
theorem q109 : (Jvm.Cond.constantLong "OrderJudge" (56 : Nat) (800 : Int64)) ∈ lw_all := lw_g (lw_at lw_m1 68 rfl) rfl
theorem q110 : (Jvm.Cond.methodLink "OrderJudge" (46 : Nat) ({ cls := "OrderJudge", name := "isIn", desc := "(JJJ)Z" } : Jvm.MethodName)) ∈ lw_all := lw_g (lw_at lw_m1 69 rfl) rfl
theorem q111 : (Jvm.Cond.static ({ cls := "OrderJudge", name := "isIn", desc := "(JJJ)Z" } : Jvm.MethodName)) ∈ lw_all := lw_g (lw_at lw_m1 70 rfl) rfl
theorem q112 : (Jvm.Cond.code ({ cls := "OrderJudge", name := "isIn", desc := "(JJJ)Z" } : Jvm.MethodName) prog_1_method_1_code (6 : Nat) (Option.some Jvm.ClassFile.FieldType.boolean)) ∈ lw_all := lw_g (lw_at lw_m1 71 rfl) rfl
theorem q113 : (Jvm.Cond.constantLong "OrderJudge" (58 : Nat) (12 : Int64)) ∈ lw_all := lw_g (lw_at lw_m1 72 rfl) rfl
theorem q115 : (Jvm.Cond.methodLink "OrderJudge" (60 : Nat) ({ cls := "OrderJudge$Point", name := "<init>", desc := "(III)V" } : Jvm.MethodName)) ∈ lw_all := lw_g (lw_at lw_m1 74 rfl) rfl
theorem q121 : (Jvm.Cond.fieldLinkNest "OrderJudge" (63 : Nat) "OrderJudge$Point" "number" "I" "OrderJudge") ∈ lw_tbl := lw_at lw_m1 80 rfl
theorem q126 : (Jvm.Cond.fieldLinkNest "OrderJudge" (1 : Nat) "OrderJudge$Point" "x" "I" "OrderJudge") ∈ lw_tbl := lw_at lw_m1 85 rfl
theorem q132 : (Jvm.Cond.fieldLinkNest "OrderJudge" (7 : Nat) "OrderJudge$Point" "y" "I" "OrderJudge") ∈ lw_tbl := lw_at lw_m1 91 rfl
theorem q149 : (Jvm.Cond.instanceMethod ({ cls := "OrderJudge", name := "side", desc := "(III)I" } : Jvm.MethodName)) ∈ lw_all := lw_g (lw_at lw_m1 108 rfl) rfl
theorem q150 : (Jvm.Cond.selects "OrderJudge" ({ cls := "OrderJudge", name := "side", desc := "(III)I" } : Jvm.MethodName) ({ cls := "OrderJudge", name := "side", desc := "(III)I" } : Jvm.MethodName)) ∈ lw_all := lw_g (lw_at lw_m1 109 rfl) rfl
theorem q151 : (Jvm.Cond.code ({ cls := "OrderJudge", name := "side", desc := "(III)I" } : Jvm.MethodName) prog_1_method_15_code (7 : Nat) (Option.some Jvm.ClassFile.FieldType.int)) ∈ lw_all := lw_g (lw_at lw_m1 110 rfl) rfl
theorem q152 : (Jvm.Cond.methodLink "OrderJudge" (75 : Nat) ({ cls := "OrderJudge", name := "arePoints", desc := "(III)Z" } : Jvm.MethodName)) ∈ lw_all := lw_g (lw_at lw_m1 111 rfl) rfl
theorem q153 : (Jvm.Cond.privateMethod ({ cls := "OrderJudge", name := "arePoints", desc := "(III)Z" } : Jvm.MethodName)) ∈ lw_tbl := lw_at lw_m1 112 rfl
theorem q154 : (Jvm.Cond.instanceMethod ({ cls := "OrderJudge", name := "arePoints", desc := "(III)Z" } : Jvm.MethodName)) ∈ lw_all := lw_g (lw_at lw_m1 113 rfl) rfl
theorem q155 : (Jvm.Cond.code ({ cls := "OrderJudge", name := "arePoints", desc := "(III)Z" } : Jvm.MethodName) prog_1_method_8_code (4 : Nat) (Option.some Jvm.ClassFile.FieldType.boolean)) ∈ lw_all := lw_g (lw_at lw_m1 114 rfl) rfl
theorem q156 : (Jvm.Cond.methodLink "OrderJudge" (50 : Nat) ({ cls := "OrderJudge", name := "isPoint", desc := "(I)Z" } : Jvm.MethodName)) ∈ lw_all := lw_g (lw_at lw_m1 115 rfl) rfl
theorem q157 : (Jvm.Cond.privateMethod ({ cls := "OrderJudge", name := "isPoint", desc := "(I)Z" } : Jvm.MethodName)) ∈ lw_tbl := lw_at lw_m1 116 rfl
theorem q158 : (Jvm.Cond.instanceMethod ({ cls := "OrderJudge", name := "isPoint", desc := "(I)Z" } : Jvm.MethodName)) ∈ lw_all := lw_g (lw_at lw_m1 117 rfl) rfl
theorem q159 : (Jvm.Cond.code ({ cls := "OrderJudge", name := "isPoint", desc := "(I)Z" } : Jvm.MethodName) prog_1_method_7_code (2 : Nat) (Option.some Jvm.ClassFile.FieldType.boolean)) ∈ lw_all := lw_g (lw_at lw_m1 118 rfl) rfl
theorem q160 : (Jvm.Cond.methodLink "OrderJudge" (79 : Nat) ({ cls := "OrderJudge$Point", name := "isEqual", desc := "(LOrderJudge$Point;)Z" } : Jvm.MethodName)) ∈ lw_all := lw_g (lw_at lw_m1 119 rfl) rfl
theorem q164 : (Jvm.Cond.methodLink "OrderJudge" (83 : Nat) ({ cls := "OrderJudge$Filter", name := "turn", desc := "(LOrderJudge$Point;LOrderJudge$Point;LOrderJudge$Point;)I" } : Jvm.MethodName)) ∈ lw_all := lw_g (lw_at lw_m1 123 rfl) rfl
theorem q192 : (Jvm.Cond.methodLink "OrderJudge" (89 : Nat) ({ cls := "OrderJudge", name := "turn", desc := "(LOrderJudge$Point;LOrderJudge$Point;LOrderJudge$Point;)I" } : Jvm.MethodName)) ∈ lw_all := lw_g (lw_at lw_m1 151 rfl) rfl
theorem q193 : (Jvm.Cond.static ({ cls := "OrderJudge", name := "turn", desc := "(LOrderJudge$Point;LOrderJudge$Point;LOrderJudge$Point;)I" } : Jvm.MethodName)) ∈ lw_all := lw_g (lw_at lw_m1 152 rfl) rfl
theorem q194 : (Jvm.Cond.code ({ cls := "OrderJudge", name := "turn", desc := "(LOrderJudge$Point;LOrderJudge$Point;LOrderJudge$Point;)I" } : Jvm.MethodName) prog_1_method_4_code (3 : Nat) (Option.some Jvm.ClassFile.FieldType.int)) ∈ lw_all := lw_g (lw_at lw_m1 153 rfl) rfl
theorem q195 : (Jvm.Cond.methodLink "OrderJudge" (10 : Nat) ({ cls := "OrderJudge", name := "bracket", desc := "(JJJJ)J" } : Jvm.MethodName)) ∈ lw_all := lw_g (lw_at lw_m1 154 rfl) rfl
theorem q196 : (Jvm.Cond.static ({ cls := "OrderJudge", name := "bracket", desc := "(JJJJ)J" } : Jvm.MethodName)) ∈ lw_all := lw_g (lw_at lw_m1 155 rfl) rfl
theorem q197 : (Jvm.Cond.code ({ cls := "OrderJudge", name := "bracket", desc := "(JJJJ)J" } : Jvm.MethodName) prog_1_method_3_code (8 : Nat) (Option.some Jvm.ClassFile.FieldType.long)) ∈ lw_all := lw_g (lw_at lw_m1 156 rfl) rfl
theorem q198 : (Jvm.Cond.methodLink "OrderJudge" (16 : Nat) ({ cls := "OrderJudge", name := "signOf", desc := "(J)I" } : Jvm.MethodName)) ∈ lw_all := lw_g (lw_at lw_m1 157 rfl) rfl
theorem q199 : (Jvm.Cond.static ({ cls := "OrderJudge", name := "signOf", desc := "(J)I" } : Jvm.MethodName)) ∈ lw_all := lw_g (lw_at lw_m1 158 rfl) rfl
theorem q200 : (Jvm.Cond.code ({ cls := "OrderJudge", name := "signOf", desc := "(J)I" } : Jvm.MethodName) prog_1_method_2_code (2 : Nat) (Option.some Jvm.ClassFile.FieldType.int)) ∈ lw_all := lw_g (lw_at lw_m1 159 rfl) rfl
theorem q201 : (Jvm.Cond.methodLink "OrderJudge" (90 : Nat) ({ cls := "OrderJudge", name := "told", desc := "(II)I" } : Jvm.MethodName)) ∈ lw_all := lw_g (lw_at lw_m1 160 rfl) rfl
theorem q202 : (Jvm.Cond.privateMethod ({ cls := "OrderJudge", name := "told", desc := "(II)I" } : Jvm.MethodName)) ∈ lw_tbl := lw_at lw_m1 161 rfl
theorem q203 : (Jvm.Cond.instanceMethod ({ cls := "OrderJudge", name := "told", desc := "(II)I" } : Jvm.MethodName)) ∈ lw_all := lw_g (lw_at lw_m1 162 rfl) rfl
theorem q204 : (Jvm.Cond.code ({ cls := "OrderJudge", name := "told", desc := "(II)I" } : Jvm.MethodName) prog_1_method_14_code (4 : Nat) (Option.some Jvm.ClassFile.FieldType.int)) ∈ lw_all := lw_g (lw_at lw_m1 163 rfl) rfl
theorem q206 : (Jvm.Cond.instanceMethod ({ cls := "OrderJudge", name := "circle", desc := "(IIII)I" } : Jvm.MethodName)) ∈ lw_all := lw_g (lw_at lw_m1 165 rfl) rfl
theorem q207 : (Jvm.Cond.selects "OrderJudge" ({ cls := "OrderJudge", name := "circle", desc := "(IIII)I" } : Jvm.MethodName) ({ cls := "OrderJudge", name := "circle", desc := "(IIII)I" } : Jvm.MethodName)) ∈ lw_all := lw_g (lw_at lw_m1 166 rfl) rfl
theorem q208 : (Jvm.Cond.code ({ cls := "OrderJudge", name := "circle", desc := "(IIII)I" } : Jvm.MethodName) prog_1_method_16_code (7 : Nat) (Option.some Jvm.ClassFile.FieldType.int)) ∈ lw_all := lw_g (lw_at lw_m1 167 rfl) rfl
theorem q209 : (Jvm.Cond.methodLink "OrderJudge" (94 : Nat) ({ cls := "OrderJudge$Filter", name := "ring", desc := "(LOrderJudge$Point;LOrderJudge$Point;LOrderJudge$Point;LOrderJudge$Point;)I" } : Jvm.MethodName)) ∈ lw_all := lw_g (lw_at lw_m1 168 rfl) rfl
theorem q213 : (Jvm.Cond.methodLink "OrderJudge" (98 : Nat) ({ cls := "OrderJudge", name := "ring", desc := "(LOrderJudge$Point;LOrderJudge$Point;LOrderJudge$Point;LOrderJudge$Point;)I" } : Jvm.MethodName)) ∈ lw_all := lw_g (lw_at lw_m1 172 rfl) rfl
theorem q214 : (Jvm.Cond.static ({ cls := "OrderJudge", name := "ring", desc := "(LOrderJudge$Point;LOrderJudge$Point;LOrderJudge$Point;LOrderJudge$Point;)I" } : Jvm.MethodName)) ∈ lw_all := lw_g (lw_at lw_m1 173 rfl) rfl
theorem q215 : (Jvm.Cond.code ({ cls := "OrderJudge", name := "ring", desc := "(LOrderJudge$Point;LOrderJudge$Point;LOrderJudge$Point;LOrderJudge$Point;)I" } : Jvm.MethodName) prog_1_method_5_code (16 : Nat) (Option.some Jvm.ClassFile.FieldType.int)) ∈ lw_all := lw_g (lw_at lw_m1 174 rfl) rfl
theorem q217 : (Jvm.Cond.instanceMethod ({ cls := "OrderJudge", name := "filter", desc := "(Z)I" } : Jvm.MethodName)) ∈ lw_all := lw_g (lw_at lw_m1 176 rfl) rfl
theorem q218 : (Jvm.Cond.selects "OrderJudge" ({ cls := "OrderJudge", name := "filter", desc := "(Z)I" } : Jvm.MethodName) ({ cls := "OrderJudge", name := "filter", desc := "(Z)I" } : Jvm.MethodName)) ∈ lw_all := lw_g (lw_at lw_m1 177 rfl) rfl
theorem q219 : (Jvm.Cond.code ({ cls := "OrderJudge", name := "filter", desc := "(Z)I" } : Jvm.MethodName) prog_1_method_17_code (3 : Nat) (Option.some Jvm.ClassFile.FieldType.int)) ∈ lw_all := lw_g (lw_at lw_m1 178 rfl) rfl
theorem q221 : (Jvm.Cond.instanceMethod ({ cls := "OrderJudge", name := "decided", desc := "(I)I" } : Jvm.MethodName)) ∈ lw_all := lw_g (lw_at lw_m1 180 rfl) rfl
theorem q222 : (Jvm.Cond.selects "OrderJudge" ({ cls := "OrderJudge", name := "decided", desc := "(I)I" } : Jvm.MethodName) ({ cls := "OrderJudge", name := "decided", desc := "(I)I" } : Jvm.MethodName)) ∈ lw_all := lw_g (lw_at lw_m1 181 rfl) rfl
theorem q223 : (Jvm.Cond.code ({ cls := "OrderJudge", name := "decided", desc := "(I)I" } : Jvm.MethodName) prog_1_method_18_code (2 : Nat) (Option.some Jvm.ClassFile.FieldType.int)) ∈ lw_all := lw_g (lw_at lw_m1 182 rfl) rfl
theorem q225 : (Jvm.Cond.instanceMethod ({ cls := "OrderJudge", name := "between", desc := "(III)I" } : Jvm.MethodName)) ∈ lw_all := lw_g (lw_at lw_m1 184 rfl) rfl
theorem q226 : (Jvm.Cond.selects "OrderJudge" ({ cls := "OrderJudge", name := "between", desc := "(III)I" } : Jvm.MethodName) ({ cls := "OrderJudge", name := "between", desc := "(III)I" } : Jvm.MethodName)) ∈ lw_all := lw_g (lw_at lw_m1 185 rfl) rfl
theorem q227 : (Jvm.Cond.code ({ cls := "OrderJudge", name := "between", desc := "(III)I" } : Jvm.MethodName) prog_1_method_20_code (4 : Nat) (Option.some Jvm.ClassFile.FieldType.int)) ∈ lw_all := lw_g (lw_at lw_m1 186 rfl) rfl
theorem q228 : (Jvm.Cond.methodLink "OrderJudge" (103 : Nat) ({ cls := "OrderJudge", name := "between", desc := "(LOrderJudge$Point;LOrderJudge$Point;LOrderJudge$Point;)I" } : Jvm.MethodName)) ∈ lw_all := lw_g (lw_at lw_m1 187 rfl) rfl
theorem q229 : (Jvm.Cond.static ({ cls := "OrderJudge", name := "between", desc := "(LOrderJudge$Point;LOrderJudge$Point;LOrderJudge$Point;)I" } : Jvm.MethodName)) ∈ lw_all := lw_g (lw_at lw_m1 188 rfl) rfl
theorem q230 : (Jvm.Cond.code ({ cls := "OrderJudge", name := "between", desc := "(LOrderJudge$Point;LOrderJudge$Point;LOrderJudge$Point;)I" } : Jvm.MethodName) prog_1_method_19_code (3 : Nat) (Option.some Jvm.ClassFile.FieldType.int)) ∈ lw_all := lw_g (lw_at lw_m1 189 rfl) rfl
theorem q231 : (Jvm.Cond.methodLink "OrderJudge" (99 : Nat) ({ cls := "OrderJudge$Point", name := "along", desc := "(LOrderJudge$Point;LOrderJudge$Point;)J" } : Jvm.MethodName)) ∈ lw_all := lw_g (lw_at lw_m1 190 rfl) rfl
theorem q236 : (Jvm.Cond.instanceMethod ({ cls := "OrderJudge", name := "inside", desc := "(IIII)I" } : Jvm.MethodName)) ∈ lw_all := lw_g (lw_at lw_m1 195 rfl) rfl
theorem q237 : (Jvm.Cond.selects "OrderJudge" ({ cls := "OrderJudge", name := "inside", desc := "(IIII)I" } : Jvm.MethodName) ({ cls := "OrderJudge", name := "inside", desc := "(IIII)I" } : Jvm.MethodName)) ∈ lw_all := lw_g (lw_at lw_m1 196 rfl) rfl
theorem q238 : (Jvm.Cond.code ({ cls := "OrderJudge", name := "inside", desc := "(IIII)I" } : Jvm.MethodName) prog_1_method_24_code (5 : Nat) (Option.some Jvm.ClassFile.FieldType.int)) ∈ lw_all := lw_g (lw_at lw_m1 197 rfl) rfl
theorem q239 : (Jvm.Cond.methodLink "OrderJudge" (114 : Nat) ({ cls := "OrderJudge", name := "inside", desc := "(LOrderJudge$Point;LOrderJudge$Point;LOrderJudge$Point;LOrderJudge$Point;)I" } : Jvm.MethodName)) ∈ lw_all := lw_g (lw_at lw_m1 198 rfl) rfl
theorem q240 : (Jvm.Cond.static ({ cls := "OrderJudge", name := "inside", desc := "(LOrderJudge$Point;LOrderJudge$Point;LOrderJudge$Point;LOrderJudge$Point;)I" } : Jvm.MethodName)) ∈ lw_all := lw_g (lw_at lw_m1 199 rfl) rfl
theorem q241 : (Jvm.Cond.code ({ cls := "OrderJudge", name := "inside", desc := "(LOrderJudge$Point;LOrderJudge$Point;LOrderJudge$Point;LOrderJudge$Point;)I" } : Jvm.MethodName) prog_1_method_23_code (6 : Nat) (Option.some Jvm.ClassFile.FieldType.int)) ∈ lw_all := lw_g (lw_at lw_m1 200 rfl) rfl
theorem q242 : (Jvm.Cond.methodLink "OrderJudge" (106 : Nat) ({ cls := "OrderJudge", name := "isOneWay", desc := "(LOrderJudge$Point;LOrderJudge$Point;LOrderJudge$Point;)Z" } : Jvm.MethodName)) ∈ lw_all := lw_g (lw_at lw_m1 201 rfl) rfl
theorem q243 : (Jvm.Cond.static ({ cls := "OrderJudge", name := "isOneWay", desc := "(LOrderJudge$Point;LOrderJudge$Point;LOrderJudge$Point;)Z" } : Jvm.MethodName)) ∈ lw_all := lw_g (lw_at lw_m1 202 rfl) rfl
theorem q244 : (Jvm.Cond.code ({ cls := "OrderJudge", name := "isOneWay", desc := "(LOrderJudge$Point;LOrderJudge$Point;LOrderJudge$Point;)Z" } : Jvm.MethodName) prog_1_method_21_code (3 : Nat) (Option.some Jvm.ClassFile.FieldType.boolean)) ∈ lw_all := lw_g (lw_at lw_m1 203 rfl) rfl
theorem q245 : (Jvm.Cond.methodLink "OrderJudge" (110 : Nat) ({ cls := "OrderJudge", name := "isWithin", desc := "(LOrderJudge$Point;LOrderJudge$Point;LOrderJudge$Point;LOrderJudge$Point;)Z" } : Jvm.MethodName)) ∈ lw_all := lw_g (lw_at lw_m1 204 rfl) rfl
theorem q246 : (Jvm.Cond.static ({ cls := "OrderJudge", name := "isWithin", desc := "(LOrderJudge$Point;LOrderJudge$Point;LOrderJudge$Point;LOrderJudge$Point;)Z" } : Jvm.MethodName)) ∈ lw_all := lw_g (lw_at lw_m1 205 rfl) rfl
theorem q247 : (Jvm.Cond.code ({ cls := "OrderJudge", name := "isWithin", desc := "(LOrderJudge$Point;LOrderJudge$Point;LOrderJudge$Point;LOrderJudge$Point;)Z" } : Jvm.MethodName) prog_1_method_22_code (4 : Nat) (Option.some Jvm.ClassFile.FieldType.boolean)) ∈ lw_all := lw_g (lw_at lw_m1 206 rfl) rfl
theorem q249 : (Jvm.Cond.instanceMethod ({ cls := "OrderJudge", name := "cross", desc := "(IIII)I" } : Jvm.MethodName)) ∈ lw_all := lw_g (lw_at lw_m1 208 rfl) rfl
theorem q250 : (Jvm.Cond.selects "OrderJudge" ({ cls := "OrderJudge", name := "cross", desc := "(IIII)I" } : Jvm.MethodName) ({ cls := "OrderJudge", name := "cross", desc := "(IIII)I" } : Jvm.MethodName)) ∈ lw_all := lw_g (lw_at lw_m1 209 rfl) rfl
theorem q251 : (Jvm.Cond.code ({ cls := "OrderJudge", name := "cross", desc := "(IIII)I" } : Jvm.MethodName) prog_1_method_29_code (5 : Nat) (Option.some Jvm.ClassFile.FieldType.int)) ∈ lw_all := lw_g (lw_at lw_m1 210 rfl) rfl
theorem q252 : (Jvm.Cond.methodLink "OrderJudge" (127 : Nat) ({ cls := "OrderJudge", name := "cross", desc := "(LOrderJudge$Point;LOrderJudge$Point;LOrderJudge$Point;LOrderJudge$Point;)I" } : Jvm.MethodName)) ∈ lw_all := lw_g (lw_at lw_m1 211 rfl) rfl
theorem q253 : (Jvm.Cond.static ({ cls := "OrderJudge", name := "cross", desc := "(LOrderJudge$Point;LOrderJudge$Point;LOrderJudge$Point;LOrderJudge$Point;)I" } : Jvm.MethodName)) ∈ lw_all := lw_g (lw_at lw_m1 212 rfl) rfl
theorem q254 : (Jvm.Cond.code ({ cls := "OrderJudge", name := "cross", desc := "(LOrderJudge$Point;LOrderJudge$Point;LOrderJudge$Point;LOrderJudge$Point;)I" } : Jvm.MethodName) prog_1_method_28_code (6 : Nat) (Option.some Jvm.ClassFile.FieldType.int)) ∈ lw_all := lw_g (lw_at lw_m1 213 rfl) rfl
theorem q255 : (Jvm.Cond.methodLink "OrderJudge" (121 : Nat) ({ cls := "OrderJudge", name := "overlap", desc := "(LOrderJudge$Point;LOrderJudge$Point;LOrderJudge$Point;LOrderJudge$Point;)I" } : Jvm.MethodName)) ∈ lw_all := lw_g (lw_at lw_m1 214 rfl) rfl
theorem q256 : (Jvm.Cond.static ({ cls := "OrderJudge", name := "overlap", desc := "(LOrderJudge$Point;LOrderJudge$Point;LOrderJudge$Point;LOrderJudge$Point;)I" } : Jvm.MethodName)) ∈ lw_all := lw_g (lw_at lw_m1 215 rfl) rfl
theorem q257 : (Jvm.Cond.code ({ cls := "OrderJudge", name := "overlap", desc := "(LOrderJudge$Point;LOrderJudge$Point;LOrderJudge$Point;LOrderJudge$Point;)I" } : Jvm.MethodName) prog_1_method_26_code (10 : Nat) (Option.some Jvm.ClassFile.FieldType.int)) ∈ lw_all := lw_g (lw_at lw_m1 216 rfl) rfl
theorem q258 : (Jvm.Cond.methodLink "OrderJudge" (117 : Nat) ({ cls := "OrderJudge", name := "isBehind", desc := "(LOrderJudge$Point;LOrderJudge$Point;)Z" } : Jvm.MethodName)) ∈ lw_all := lw_g (lw_at lw_m1 217 rfl) rfl
theorem q259 : (Jvm.Cond.static ({ cls := "OrderJudge", name := "isBehind", desc := "(LOrderJudge$Point;LOrderJudge$Point;)Z" } : Jvm.MethodName)) ∈ lw_all := lw_g (lw_at lw_m1 218 rfl) rfl
theorem q260 : (Jvm.Cond.code ({ cls := "OrderJudge", name := "isBehind", desc := "(LOrderJudge$Point;LOrderJudge$Point;)Z" } : Jvm.MethodName) prog_1_method_25_code (2 : Nat) (Option.some Jvm.ClassFile.FieldType.boolean)) ∈ lw_all := lw_g (lw_at lw_m1 219 rfl) rfl
theorem q261 : (Jvm.Cond.methodLink "OrderJudge" (124 : Nat) ({ cls := "OrderJudge", name := "isOnWay", desc := "(LOrderJudge$Point;LOrderJudge$Point;LOrderJudge$Point;)Z" } : Jvm.MethodName)) ∈ lw_all := lw_g (lw_at lw_m1 220 rfl) rfl
theorem q262 : (Jvm.Cond.static ({ cls := "OrderJudge", name := "isOnWay", desc := "(LOrderJudge$Point;LOrderJudge$Point;LOrderJudge$Point;)Z" } : Jvm.MethodName)) ∈ lw_all := lw_g (lw_at lw_m1 221 rfl) rfl
theorem q263 : (Jvm.Cond.code ({ cls := "OrderJudge", name := "isOnWay", desc := "(LOrderJudge$Point;LOrderJudge$Point;LOrderJudge$Point;)Z" } : Jvm.MethodName) prog_1_method_27_code (3 : Nat) (Option.some Jvm.ClassFile.FieldType.boolean)) ∈ lw_all := lw_g (lw_at lw_m1 222 rfl) rfl
theorem q265 : (Jvm.Cond.instanceMethod ({ cls := "OrderJudge", name := "separated", desc := "(IIII)I" } : Jvm.MethodName)) ∈ lw_all := lw_g (lw_at lw_m1 224 rfl) rfl
theorem q266 : (Jvm.Cond.selects "OrderJudge" ({ cls := "OrderJudge", name := "separated", desc := "(IIII)I" } : Jvm.MethodName) ({ cls := "OrderJudge", name := "separated", desc := "(IIII)I" } : Jvm.MethodName)) ∈ lw_all := lw_g (lw_at lw_m1 225 rfl) rfl
theorem q267 : (Jvm.Cond.code ({ cls := "OrderJudge", name := "separated", desc := "(IIII)I" } : Jvm.MethodName) prog_1_method_30_code (11 : Nat) (Option.some Jvm.ClassFile.FieldType.int)) ∈ lw_all := lw_g (lw_at lw_m1 226 rfl) rfl
theorem q269 : (Jvm.Cond.instanceMethod ({ cls := "OrderJudge", name := "convex", desc := "(I)I" } : Jvm.MethodName)) ∈ lw_all := lw_g (lw_at lw_m1 228 rfl) rfl
theorem q270 : (Jvm.Cond.selects "OrderJudge" ({ cls := "OrderJudge", name := "convex", desc := "(I)I" } : Jvm.MethodName) ({ cls := "OrderJudge", name := "convex", desc := "(I)I" } : Jvm.MethodName)) ∈ lw_all := lw_g (lw_at lw_m1 229 rfl) rfl
theorem q271 : (Jvm.Cond.code ({ cls := "OrderJudge", name := "convex", desc := "(I)I" } : Jvm.MethodName) prog_1_method_32_code (7 : Nat) (Option.some Jvm.ClassFile.FieldType.int)) ∈ lw_all := lw_g (lw_at lw_m1 230 rfl) rfl
theorem q272 : (Jvm.Cond.methodLink "OrderJudge" (130 : Nat) ({ cls := "OrderJudge", name := "refused", desc := "(II)I" } : Jvm.MethodName)) ∈ lw_all := lw_g (lw_at lw_m1 231 rfl) rfl
theorem q273 : (Jvm.Cond.privateMethod ({ cls := "OrderJudge", name := "refused", desc := "(II)I" } : Jvm.MethodName)) ∈ lw_tbl := lw_at lw_m1 232 rfl
theorem q274 : (Jvm.Cond.instanceMethod ({ cls := "OrderJudge", name := "refused", desc := "(II)I" } : Jvm.MethodName)) ∈ lw_all := lw_g (lw_at lw_m1 233 rfl) rfl
theorem q275 : (Jvm.Cond.code ({ cls := "OrderJudge", name := "refused", desc := "(II)I" } : Jvm.MethodName) prog_1_method_13_code (5 : Nat) (Option.some Jvm.ClassFile.FieldType.int)) ∈ lw_all := lw_g (lw_at lw_m1 234 rfl) rfl
theorem q276 : (Jvm.Cond.methodLink "OrderJudge" (133 : Nat) ({ cls := "OrderJudge", name := "next", desc := "(II)LOrderJudge$Point;" } : Jvm.MethodName)) ∈ lw_all := lw_g (lw_at lw_m1 235 rfl) rfl
theorem q277 : (Jvm.Cond.privateMethod ({ cls := "OrderJudge", name := "next", desc := "(II)LOrderJudge$Point;" } : Jvm.MethodName)) ∈ lw_tbl := lw_at lw_m1 236 rfl
theorem q278 : (Jvm.Cond.instanceMethod ({ cls := "OrderJudge", name := "next", desc := "(II)LOrderJudge$Point;" } : Jvm.MethodName)) ∈ lw_all := lw_g (lw_at lw_m1 237 rfl) rfl
theorem q279 : (Jvm.Cond.code ({ cls := "OrderJudge", name := "next", desc := "(II)LOrderJudge$Point;" } : Jvm.MethodName) prog_1_method_31_code (3 : Nat) (Option.some (Jvm.ClassFile.FieldType.object "OrderJudge$Point"))) ∈ lw_all := lw_g (lw_at lw_m1 238 rfl) rfl
theorem q281 : (Jvm.Cond.instanceMethod ({ cls := "OrderJudge", name := "polygon", desc := "(II)I" } : Jvm.MethodName)) ∈ lw_all := lw_g (lw_at lw_m2 0 rfl) rfl
theorem q282 : (Jvm.Cond.selects "OrderJudge" ({ cls := "OrderJudge", name := "polygon", desc := "(II)I" } : Jvm.MethodName) ({ cls := "OrderJudge", name := "polygon", desc := "(II)I" } : Jvm.MethodName)) ∈ lw_all := lw_g (lw_at lw_m2 1 rfl) rfl
theorem q283 : (Jvm.Cond.code ({ cls := "OrderJudge", name := "polygon", desc := "(II)I" } : Jvm.MethodName) prog_1_method_33_code (5 : Nat) (Option.some Jvm.ClassFile.FieldType.int)) ∈ lw_all := lw_g (lw_at lw_m2 2 rfl) rfl
theorem q284 : (Jvm.Cond.classLink "OrderJudge" (137 : Nat) "OrderJudge$Edges") ∈ lw_all := lw_g (lw_at lw_m2 3 rfl) rfl
theorem q286 : (Jvm.Cond.methodLinkNest "OrderJudge" (139 : Nat) ({ cls := "OrderJudge$Edges", name := "<init>", desc := "(LOrderJudge;)V" } : Jvm.MethodName) "OrderJudge") ∈ lw_tbl := lw_at lw_m2 5 rfl
theorem q291 : (Jvm.Cond.fieldLinkNest "OrderJudge" (147 : Nat) "OrderJudge$Edges" "rises" "I" "OrderJudge") ∈ lw_tbl := lw_at lw_m2 10 rfl
theorem q293 : (Jvm.Cond.fieldLinkNest "OrderJudge" (150 : Nat) "OrderJudge$Edges" "falls" "I" "OrderJudge") ∈ lw_tbl := lw_at lw_m2 12 rfl
theorem q295 : (Jvm.Cond.fieldLinkNest "OrderJudge" (146 : Nat) "OrderJudge$Edges" "isOn" "Z" "OrderJudge") ∈ lw_tbl := lw_at lw_m2 14 rfl
theorem q306 : (Jvm.Cond.methodLink "OrderJudge" (142 : Nat) ({ cls := "OrderJudge$Edges", name := "of", desc := "(ILOrderJudge$Point;)LOrderJudge$Edges;" } : Jvm.MethodName)) ∈ lw_all := lw_g (lw_at lw_m2 25 rfl) rfl
theorem q314 : (Jvm.Cond.instanceMethod ({ cls := "OrderJudge", name := "winding", desc := "(II)I" } : Jvm.MethodName)) ∈ lw_all := lw_g (lw_at lw_m2 33 rfl) rfl
theorem q315 : (Jvm.Cond.selects "OrderJudge" ({ cls := "OrderJudge", name := "winding", desc := "(II)I" } : Jvm.MethodName) ({ cls := "OrderJudge", name := "winding", desc := "(II)I" } : Jvm.MethodName)) ∈ lw_all := lw_g (lw_at lw_m2 34 rfl) rfl
theorem q316 : (Jvm.Cond.code ({ cls := "OrderJudge", name := "winding", desc := "(II)I" } : Jvm.MethodName) prog_1_method_34_code (4 : Nat) (Option.some Jvm.ClassFile.FieldType.int)) ∈ lw_all := lw_g (lw_at lw_m2 35 rfl) rfl
theorem q318 : (Jvm.Cond.instanceMethod ({ cls := "OrderJudge", name := "nearest", desc := "(II)I" } : Jvm.MethodName)) ∈ lw_all := lw_g (lw_at lw_m2 37 rfl) rfl
theorem q319 : (Jvm.Cond.selects "OrderJudge" ({ cls := "OrderJudge", name := "nearest", desc := "(II)I" } : Jvm.MethodName) ({ cls := "OrderJudge", name := "nearest", desc := "(II)I" } : Jvm.MethodName)) ∈ lw_all := lw_g (lw_at lw_m2 38 rfl) rfl
theorem q320 : (Jvm.Cond.code ({ cls := "OrderJudge", name := "nearest", desc := "(II)I" } : Jvm.MethodName) prog_1_method_35_code (10 : Nat) (Option.some Jvm.ClassFile.FieldType.int)) ∈ lw_all := lw_g (lw_at lw_m2 39 rfl) rfl
theorem q321 : (Jvm.Cond.methodLink "OrderJudge" (153 : Nat) ({ cls := "OrderJudge$Point", name := "far", desc := "(LOrderJudge$Point;)J" } : Jvm.MethodName)) ∈ lw_all := lw_g (lw_at lw_m2 40 rfl) rfl
theorem q325 : (Jvm.Cond.methodLink "OrderJudge" (157 : Nat) ({ cls := "java/lang/Math", name := "min", desc := "(JJ)J" } : Jvm.MethodName)) ∈ lw_all := lw_g (lw_at lw_m2 44 rfl) rfl
theorem q329 : (Jvm.Cond.instanceMethod ({ cls := "OrderJudge", name := "around", desc := "(III)I" } : Jvm.MethodName)) ∈ lw_all := lw_g (lw_at lw_m2 48 rfl) rfl
theorem q330 : (Jvm.Cond.selects "OrderJudge" ({ cls := "OrderJudge", name := "around", desc := "(III)I" } : Jvm.MethodName) ({ cls := "OrderJudge", name := "around", desc := "(III)I" } : Jvm.MethodName)) ∈ lw_all := lw_g (lw_at lw_m2 49 rfl) rfl
theorem q331 : (Jvm.Cond.code ({ cls := "OrderJudge", name := "around", desc := "(III)I" } : Jvm.MethodName) prog_1_method_37_code (5 : Nat) (Option.some Jvm.ClassFile.FieldType.int)) ∈ lw_all := lw_g (lw_at lw_m2 50 rfl) rfl
theorem q332 : (Jvm.Cond.classLink "OrderJudge" (169 : Nat) "OrderJudge$Round") ∈ lw_all := lw_g (lw_at lw_m2 51 rfl) rfl
theorem q334 : (Jvm.Cond.methodLink "OrderJudge" (171 : Nat) ({ cls := "OrderJudge$Round", name := "<init>", desc := "(LOrderJudge$Point;)V" } : Jvm.MethodName)) ∈ lw_all := lw_g (lw_at lw_m2 53 rfl) rfl
theorem q342 : (Jvm.Cond.methodLink "OrderJudge" (174 : Nat) ({ cls := "OrderJudge", name := "placeBy", desc := "(LOrderJudge$Order;II)I" } : Jvm.MethodName)) ∈ lw_all := lw_g (lw_at lw_m2 61 rfl) rfl
theorem q343 : (Jvm.Cond.privateMethod ({ cls := "OrderJudge", name := "placeBy", desc := "(LOrderJudge$Order;II)I" } : Jvm.MethodName)) ∈ lw_tbl := lw_at lw_m2 62 rfl
theorem q344 : (Jvm.Cond.instanceMethod ({ cls := "OrderJudge", name := "placeBy", desc := "(LOrderJudge$Order;II)I" } : Jvm.MethodName)) ∈ lw_all := lw_g (lw_at lw_m2 63 rfl) rfl
theorem q345 : (Jvm.Cond.code ({ cls := "OrderJudge", name := "placeBy", desc := "(LOrderJudge$Order;II)I" } : Jvm.MethodName) prog_1_method_36_code (8 : Nat) (Option.some Jvm.ClassFile.FieldType.int)) ∈ lw_all := lw_g (lw_at lw_m2 64 rfl) rfl
theorem q346 : (Jvm.Cond.interfaceEntry "OrderJudge" (163 : Nat)) ∈ lw_tbl := lw_at lw_m2 65 rfl
theorem q347 : (Jvm.Cond.methodLink "OrderJudge" (163 : Nat) ({ cls := "OrderJudge$Order", name := "isAhead", desc := "(LOrderJudge$Point;ILOrderJudge$Point;I)Z" } : Jvm.MethodName)) ∈ lw_all := lw_g (lw_at lw_m2 66 rfl) rfl
theorem q379 : (Jvm.Cond.instanceMethod ({ cls := "OrderJudge", name := "order", desc := "(II)I" } : Jvm.MethodName)) ∈ lw_all := lw_g (lw_at lw_m2 98 rfl) rfl
theorem q380 : (Jvm.Cond.selects "OrderJudge" ({ cls := "OrderJudge", name := "order", desc := "(II)I" } : Jvm.MethodName) ({ cls := "OrderJudge", name := "order", desc := "(II)I" } : Jvm.MethodName)) ∈ lw_all := lw_g (lw_at lw_m2 99 rfl) rfl
theorem q381 : (Jvm.Cond.code ({ cls := "OrderJudge", name := "order", desc := "(II)I" } : Jvm.MethodName) prog_1_method_38_code (4 : Nat) (Option.some Jvm.ClassFile.FieldType.int)) ∈ lw_all := lw_g (lw_at lw_m2 100 rfl) rfl
theorem q382 : (Jvm.Cond.classLink "OrderJudge" (178 : Nat) "OrderJudge$Across") ∈ lw_all := lw_g (lw_at lw_m2 101 rfl) rfl
theorem q384 : (Jvm.Cond.methodLinkNest "OrderJudge" (180 : Nat) ({ cls := "OrderJudge$Across", name := "<init>", desc := "()V" } : Jvm.MethodName) "OrderJudge") ∈ lw_tbl := lw_at lw_m2 103 rfl
theorem q390 : (Jvm.Cond.instanceMethod ({ cls := "OrderJudge", name := "line", desc := "(II)I" } : Jvm.MethodName)) ∈ lw_all := lw_g (lw_at lw_m2 109 rfl) rfl
theorem q391 : (Jvm.Cond.selects "OrderJudge" ({ cls := "OrderJudge", name := "line", desc := "(II)I" } : Jvm.MethodName) ({ cls := "OrderJudge", name := "line", desc := "(II)I" } : Jvm.MethodName)) ∈ lw_all := lw_g (lw_at lw_m2 110 rfl) rfl
theorem q392 : (Jvm.Cond.code ({ cls := "OrderJudge", name := "line", desc := "(II)I" } : Jvm.MethodName) prog_1_method_40_code (3 : Nat) (Option.some Jvm.ClassFile.FieldType.int)) ∈ lw_all := lw_g (lw_at lw_m2 111 rfl) rfl
theorem q394 : (Jvm.Cond.methodLink "OrderJudge" (184 : Nat) ({ cls := "OrderJudge$Line", name := "<init>", desc := "(LOrderJudge$Point;LOrderJudge$Point;)V" } : Jvm.MethodName)) ∈ lw_all := lw_g (lw_at lw_m2 113 rfl) rfl
theorem q409 : (Jvm.Cond.instanceMethod ({ cls := "OrderJudge", name := "lines", desc := "(II)I" } : Jvm.MethodName)) ∈ lw_all := lw_g (lw_at lw_m2 128 rfl) rfl
theorem q410 : (Jvm.Cond.selects "OrderJudge" ({ cls := "OrderJudge", name := "lines", desc := "(II)I" } : Jvm.MethodName) ({ cls := "OrderJudge", name := "lines", desc := "(II)I" } : Jvm.MethodName)) ∈ lw_all := lw_g (lw_at lw_m2 129 rfl) rfl
theorem q411 : (Jvm.Cond.code ({ cls := "OrderJudge", name := "lines", desc := "(II)I" } : Jvm.MethodName) prog_1_method_41_code (4 : Nat) (Option.some Jvm.ClassFile.FieldType.int)) ∈ lw_all := lw_g (lw_at lw_m2 130 rfl) rfl
theorem q412 : (Jvm.Cond.constantLong "OrderJudge" (187 : Nat) (5 : Int64)) ∈ lw_all := lw_g (lw_at lw_m2 131 rfl) rfl
theorem q413 : (Jvm.Cond.classLink "OrderJudge" (189 : Nat) "OrderJudge$Arrangement") ∈ lw_all := lw_g (lw_at lw_m2 132 rfl) rfl
theorem q415 : (Jvm.Cond.methodLink "OrderJudge" (191 : Nat) ({ cls := "OrderJudge$Arrangement", name := "<init>", desc := "(LOrderJudge;I)V" } : Jvm.MethodName)) ∈ lw_all := lw_g (lw_at lw_m2 134 rfl) rfl
theorem q446 : (Jvm.Cond.fieldLinkNest "OrderJudge" (194 : Nat) "OrderJudge$Arrangement" "different" "I" "OrderJudge") ∈ lw_tbl := lw_at lw_m2 165 rfl
theorem q448 : (Jvm.Cond.fieldLinkNest "OrderJudge" (197 : Nat) "OrderJudge$Arrangement" "meets" "I" "OrderJudge") ∈ lw_tbl := lw_at lw_m2 167 rfl
theorem q450 : (Jvm.Cond.fieldLinkNest "OrderJudge" (200 : Nat) "OrderJudge$Arrangement" "cells" "I" "OrderJudge") ∈ lw_tbl := lw_at lw_m2 169 rfl
theorem q452 : (Jvm.Cond.fieldLinkNest "OrderJudge" (207 : Nat) "OrderJudge$Arrangement" "most" "I" "OrderJudge") ∈ lw_tbl := lw_at lw_m2 171 rfl
theorem q467 : (Jvm.Cond.methodLink "OrderJudge" (203 : Nat) ({ cls := "OrderJudge$Arrangement", name := "pieces", desc := "()I" } : Jvm.MethodName)) ∈ lw_all := lw_g (lw_at lw_m2 186 rfl) rfl
theorem q476 : (Jvm.Cond.instanceMethod ({ cls := "OrderJudge", name := "count", desc := "(I)I" } : Jvm.MethodName)) ∈ lw_all := lw_g (lw_at lw_m2 195 rfl) rfl
theorem q477 : (Jvm.Cond.selects "OrderJudge" ({ cls := "OrderJudge", name := "count", desc := "(I)I" } : Jvm.MethodName) ({ cls := "OrderJudge", name := "count", desc := "(I)I" } : Jvm.MethodName)) ∈ lw_all := lw_g (lw_at lw_m2 196 rfl) rfl
theorem q478 : (Jvm.Cond.code ({ cls := "OrderJudge", name := "count", desc := "(I)I" } : Jvm.MethodName) prog_1_method_42_code (2 : Nat) (Option.some Jvm.ClassFile.FieldType.int)) ∈ lw_all := lw_g (lw_at lw_m2 197 rfl) rfl
theorem q568 : (Jvm.Cond.instanceMethod ({ cls := "OrderJudge", name := "size", desc := "(I)I" } : Jvm.MethodName)) ∈ lw_all := lw_g (lw_at lw_m3 47 rfl) rfl
theorem q569 : (Jvm.Cond.selects "OrderJudge" ({ cls := "OrderJudge", name := "size", desc := "(I)I" } : Jvm.MethodName) ({ cls := "OrderJudge", name := "size", desc := "(I)I" } : Jvm.MethodName)) ∈ lw_all := lw_g (lw_at lw_m3 48 rfl) rfl
theorem q570 : (Jvm.Cond.code ({ cls := "OrderJudge", name := "size", desc := "(I)I" } : Jvm.MethodName) prog_1_method_10_code (3 : Nat) (Option.some Jvm.ClassFile.FieldType.int)) ∈ lw_all := lw_g (lw_at lw_m3 49 rfl) rfl
theorem q594 : (Jvm.Cond.instanceMethod ({ cls := "OrderJudge", name := "of", desc := "(II)I" } : Jvm.MethodName)) ∈ lw_all := lw_g (lw_at lw_m3 73 rfl) rfl
theorem q595 : (Jvm.Cond.selects "OrderJudge" ({ cls := "OrderJudge", name := "of", desc := "(II)I" } : Jvm.MethodName) ({ cls := "OrderJudge", name := "of", desc := "(II)I" } : Jvm.MethodName)) ∈ lw_all := lw_g (lw_at lw_m3 74 rfl) rfl
theorem q596 : (Jvm.Cond.code ({ cls := "OrderJudge", name := "of", desc := "(II)I" } : Jvm.MethodName) prog_1_method_11_code (4 : Nat) (Option.some Jvm.ClassFile.FieldType.int)) ∈ lw_all := lw_g (lw_at lw_m3 75 rfl) rfl
theorem q626 : (Jvm.Cond.instanceMethod ({ cls := "OrderJudge", name := "at", desc := "(II)I" } : Jvm.MethodName)) ∈ lw_all := lw_g (lw_at lw_m3 105 rfl) rfl
theorem q627 : (Jvm.Cond.selects "OrderJudge" ({ cls := "OrderJudge", name := "at", desc := "(II)I" } : Jvm.MethodName) ({ cls := "OrderJudge", name := "at", desc := "(II)I" } : Jvm.MethodName)) ∈ lw_all := lw_g (lw_at lw_m3 106 rfl) rfl
theorem q628 : (Jvm.Cond.code ({ cls := "OrderJudge", name := "at", desc := "(II)I" } : Jvm.MethodName) prog_1_method_12_code (4 : Nat) (Option.some Jvm.ClassFile.FieldType.int)) ∈ lw_all := lw_g (lw_at lw_m3 107 rfl) rfl
theorem q647 : (Jvm.Cond.instanceMethod ({ cls := "OrderJudge", name := "area", desc := "(IJ)J" } : Jvm.MethodName)) ∈ lw_all := lw_g (lw_at lw_m3 126 rfl) rfl
theorem q648 : (Jvm.Cond.selects "OrderJudge" ({ cls := "OrderJudge", name := "area", desc := "(IJ)J" } : Jvm.MethodName) ({ cls := "OrderJudge", name := "area", desc := "(IJ)J" } : Jvm.MethodName)) ∈ lw_all := lw_g (lw_at lw_m3 127 rfl) rfl
theorem q649 : (Jvm.Cond.code ({ cls := "OrderJudge", name := "area", desc := "(IJ)J" } : Jvm.MethodName) prog_1_method_39_code (9 : Nat) (Option.some Jvm.ClassFile.FieldType.long)) ∈ lw_all := lw_g (lw_at lw_m3 128 rfl) rfl
theorem q348 : (Jvm.Cond.interfaceMethod "OrderJudge$Order" "OrderJudge$Order" "isAhead" "(LOrderJudge$Point;ILOrderJudge$Point;I)Z") ∈ lw_tbl := lw_at lw_m2 67 rfl
theorem q349 : (Jvm.Cond.declares ({ cls := "OrderJudge$Order", name := "isAhead", desc := "(LOrderJudge$Point;ILOrderJudge$Point;I)Z" } : Jvm.MethodName)) ∈ lw_tbl := lw_at lw_m2 68 rfl
theorem q352 : (Jvm.Cond.instanceMethod ({ cls := "OrderJudge$Order", name := "isAhead", desc := "(LOrderJudge$Point;ILOrderJudge$Point;I)Z" } : Jvm.MethodName)) ∈ lw_all := lw_g (lw_at lw_m2 71 rfl) rfl
theorem q353 : (Jvm.Cond.publicMethod ({ cls := "OrderJudge$Order", name := "isAhead", desc := "(LOrderJudge$Point;ILOrderJudge$Point;I)Z" } : Jvm.MethodName)) ∈ lw_tbl := lw_at lw_m2 72 rfl
theorem q354 : (Jvm.Cond.code ({ cls := "OrderJudge$Order", name := "isAhead", desc := "(LOrderJudge$Point;ILOrderJudge$Point;I)Z" } : Jvm.MethodName) prog_7_method_2_code (7 : Nat) (Option.some Jvm.ClassFile.FieldType.boolean)) ∈ lw_all := lw_g (lw_at lw_m2 73 rfl) rfl
theorem q355 : (Jvm.Cond.interfaceEntry "OrderJudge$Order" (1 : Nat)) ∈ lw_tbl := lw_at lw_m2 74 rfl
theorem q356 : (Jvm.Cond.methodLink "OrderJudge$Order" (1 : Nat) ({ cls := "OrderJudge$Order", name := "compare", desc := "(LOrderJudge$Point;LOrderJudge$Point;)J" } : Jvm.MethodName)) ∈ lw_all := lw_g (lw_at lw_m2 75 rfl) rfl
theorem q357 : (Jvm.Cond.interfaceMethod "OrderJudge$Order" "OrderJudge$Order" "compare" "(LOrderJudge$Point;LOrderJudge$Point;)J") ∈ lw_tbl := lw_at lw_m2 76 rfl
theorem q358 : (Jvm.Cond.declares ({ cls := "OrderJudge$Order", name := "compare", desc := "(LOrderJudge$Point;LOrderJudge$Point;)J" } : Jvm.MethodName)) ∈ lw_tbl := lw_at lw_m2 77 rfl
theorem q43 : (Jvm.Cond.initialized "OrderJudgeModel") ∈ lw_all := lw_g (lw_at lw_m1 2 rfl) rfl
theorem q651 : (Jvm.Cond.instanceMethod ({ cls := "OrderJudgeModel", name := "thrown", desc := "()I" } : Jvm.MethodName)) ∈ lw_all := lw_g (lw_at lw_m3 130 rfl) rfl
theorem q652 : (Jvm.Cond.selects "OrderJudgeModel" ({ cls := "OrderJudgeModel", name := "thrown", desc := "()I" } : Jvm.MethodName) ({ cls := "OrderJudgeModel", name := "thrown", desc := "()I" } : Jvm.MethodName)) ∈ lw_all := lw_g (lw_at lw_m3 131 rfl) rfl
theorem q653 : (Jvm.Cond.code ({ cls := "OrderJudgeModel", name := "thrown", desc := "()I" } : Jvm.MethodName) prog_11_method_1_code (2 : Nat) (Option.some Jvm.ClassFile.FieldType.int)) ∈ lw_all := lw_g (lw_at lw_m3 132 rfl) rfl
theorem q655 : (Jvm.Cond.instantiable "OrderJudgeModel" (14 : Nat)) ∈ lw_all := lw_g (lw_at lw_m3 134 rfl) rfl
theorem q657 : (Jvm.Cond.instanceMethod ({ cls := "OrderJudgeModel", name := "<init>", desc := "()V" } : Jvm.MethodName)) ∈ lw_all := lw_g (lw_at lw_m3 136 rfl) rfl
theorem q658 : (Jvm.Cond.code ({ cls := "OrderJudgeModel", name := "<init>", desc := "()V" } : Jvm.MethodName) prog_11_method_3_code (2 : Nat) (Option.none : Option Jvm.ClassFile.FieldType)) ∈ lw_all := lw_g (lw_at lw_m3 137 rfl) rfl
theorem q659 : (Jvm.Cond.methodLink "OrderJudgeModel" (7 : Nat) ({ cls := "java/lang/Object", name := "<init>", desc := "()V" } : Jvm.MethodName)) ∈ lw_all := lw_g (lw_at lw_m3 138 rfl) rfl
theorem q660 : (Jvm.Cond.fieldLink "OrderJudgeModel" (1 : Nat) "OrderJudgeModel" "thrown" "I") ∈ lw_all := lw_g (lw_at lw_m3 139 rfl) rfl
theorem q661 : (Jvm.Cond.fieldLink "OrderJudgeModel" (51 : Nat) "OrderJudgeModel" "points" "I") ∈ lw_all := lw_g (lw_at lw_m3 140 rfl) rfl
theorem q662 : (Jvm.Cond.fieldLink "OrderJudgeModel" (13 : Nat) "OrderJudgeModel" "px" "[I") ∈ lw_all := lw_g (lw_at lw_m3 141 rfl) rfl
theorem q663 : (Jvm.Cond.fieldLink "OrderJudgeModel" (17 : Nat) "OrderJudgeModel" "py" "[I") ∈ lw_all := lw_g (lw_at lw_m3 142 rfl) rfl
theorem q664 : (Jvm.Cond.fieldLink "OrderJudgeModel" (66 : Nat) "OrderJudgeModel" "places" "I") ∈ lw_all := lw_g (lw_at lw_m3 143 rfl) rfl
theorem q665 : (Jvm.Cond.fieldLink "OrderJudgeModel" (20 : Nat) "OrderJudgeModel" "row" "[I") ∈ lw_all := lw_g (lw_at lw_m3 144 rfl) rfl
theorem q666 : (Jvm.Cond.fieldLink "OrderJudgeModel" (23 : Nat) "OrderJudgeModel" "isOn" "Z") ∈ lw_all := lw_g (lw_at lw_m3 145 rfl) rfl
theorem q667 : (Jvm.Cond.fieldLink "OrderJudgeModel" (98 : Nat) "OrderJudgeModel" "clear" "I") ∈ lw_all := lw_g (lw_at lw_m3 146 rfl) rfl
theorem q668 : (Jvm.Cond.fieldLink "OrderJudgeModel" (101 : Nat) "OrderJudgeModel" "unclear" "I") ∈ lw_all := lw_g (lw_at lw_m3 147 rfl) rfl
theorem q669 : (Jvm.Cond.fieldLink "OrderJudgeModel" (104 : Nat) "OrderJudgeModel" "nothing" "I") ∈ lw_all := lw_g (lw_at lw_m3 148 rfl) rfl
theorem q670 : (Jvm.Cond.fieldLink "OrderJudgeModel" (168 : Nat) "OrderJudgeModel" "lines" "I") ∈ lw_all := lw_g (lw_at lw_m3 149 rfl) rfl
theorem q671 : (Jvm.Cond.fieldLink "OrderJudgeModel" (27 : Nat) "OrderJudgeModel" "la" "[J") ∈ lw_all := lw_g (lw_at lw_m3 150 rfl) rfl
theorem q672 : (Jvm.Cond.fieldLink "OrderJudgeModel" (31 : Nat) "OrderJudgeModel" "lb" "[J") ∈ lw_all := lw_g (lw_at lw_m3 151 rfl) rfl
theorem q673 : (Jvm.Cond.fieldLink "OrderJudgeModel" (34 : Nat) "OrderJudgeModel" "lc" "[J") ∈ lw_all := lw_g (lw_at lw_m3 152 rfl) rfl
theorem q674 : (Jvm.Cond.lays "OrderJudgeModel" "OrderJudgeModel" "thrown" "I") ∈ lw_all := lw_g (lw_at lw_m3 153 rfl) rfl
theorem q675 : (Jvm.Cond.soleField "OrderJudgeModel" "thrown") ∈ lw_all := lw_g (lw_at lw_m3 154 rfl) rfl
theorem q676 : (Jvm.Cond.lays "OrderJudgeModel" "OrderJudgeModel" "points" "I") ∈ lw_all := lw_g (lw_at lw_m3 155 rfl) rfl
theorem q677 : (Jvm.Cond.soleField "OrderJudgeModel" "points") ∈ lw_all := lw_g (lw_at lw_m3 156 rfl) rfl
theorem q678 : (Jvm.Cond.laysFinal "OrderJudgeModel" "OrderJudgeModel" "px" "[I") ∈ lw_all := lw_g (lw_at lw_m3 157 rfl) rfl
theorem q679 : (Jvm.Cond.soleField "OrderJudgeModel" "px") ∈ lw_all := lw_g (lw_at lw_m3 158 rfl) rfl
theorem q680 : (Jvm.Cond.laysFinal "OrderJudgeModel" "OrderJudgeModel" "py" "[I") ∈ lw_all := lw_g (lw_at lw_m3 159 rfl) rfl
theorem q681 : (Jvm.Cond.soleField "OrderJudgeModel" "py") ∈ lw_all := lw_g (lw_at lw_m3 160 rfl) rfl
theorem q682 : (Jvm.Cond.lays "OrderJudgeModel" "OrderJudgeModel" "places" "I") ∈ lw_all := lw_g (lw_at lw_m3 161 rfl) rfl
theorem q683 : (Jvm.Cond.soleField "OrderJudgeModel" "places") ∈ lw_all := lw_g (lw_at lw_m3 162 rfl) rfl
theorem q684 : (Jvm.Cond.laysFinal "OrderJudgeModel" "OrderJudgeModel" "row" "[I") ∈ lw_all := lw_g (lw_at lw_m3 163 rfl) rfl
theorem q685 : (Jvm.Cond.soleField "OrderJudgeModel" "row") ∈ lw_all := lw_g (lw_at lw_m3 164 rfl) rfl
theorem q686 : (Jvm.Cond.lays "OrderJudgeModel" "OrderJudgeModel" "isOn" "Z") ∈ lw_all := lw_g (lw_at lw_m3 165 rfl) rfl
theorem q687 : (Jvm.Cond.soleField "OrderJudgeModel" "isOn") ∈ lw_all := lw_g (lw_at lw_m3 166 rfl) rfl
theorem q688 : (Jvm.Cond.lays "OrderJudgeModel" "OrderJudgeModel" "clear" "I") ∈ lw_all := lw_g (lw_at lw_m3 167 rfl) rfl
theorem q689 : (Jvm.Cond.soleField "OrderJudgeModel" "clear") ∈ lw_all := lw_g (lw_at lw_m3 168 rfl) rfl
theorem q690 : (Jvm.Cond.lays "OrderJudgeModel" "OrderJudgeModel" "unclear" "I") ∈ lw_all := lw_g (lw_at lw_m3 169 rfl) rfl
theorem q691 : (Jvm.Cond.soleField "OrderJudgeModel" "unclear") ∈ lw_all := lw_g (lw_at lw_m3 170 rfl) rfl
theorem q692 : (Jvm.Cond.lays "OrderJudgeModel" "OrderJudgeModel" "nothing" "I") ∈ lw_all := lw_g (lw_at lw_m3 171 rfl) rfl
theorem q693 : (Jvm.Cond.soleField "OrderJudgeModel" "nothing") ∈ lw_all := lw_g (lw_at lw_m3 172 rfl) rfl
theorem q694 : (Jvm.Cond.lays "OrderJudgeModel" "OrderJudgeModel" "lines" "I") ∈ lw_all := lw_g (lw_at lw_m3 173 rfl) rfl
theorem q695 : (Jvm.Cond.soleField "OrderJudgeModel" "lines") ∈ lw_all := lw_g (lw_at lw_m3 174 rfl) rfl
theorem q696 : (Jvm.Cond.laysFinal "OrderJudgeModel" "OrderJudgeModel" "la" "[J") ∈ lw_all := lw_g (lw_at lw_m3 175 rfl) rfl
theorem q697 : (Jvm.Cond.soleField "OrderJudgeModel" "la") ∈ lw_all := lw_g (lw_at lw_m3 176 rfl) rfl
theorem q698 : (Jvm.Cond.laysFinal "OrderJudgeModel" "OrderJudgeModel" "lb" "[J") ∈ lw_all := lw_g (lw_at lw_m3 177 rfl) rfl
theorem q699 : (Jvm.Cond.soleField "OrderJudgeModel" "lb") ∈ lw_all := lw_g (lw_at lw_m3 178 rfl) rfl
theorem q700 : (Jvm.Cond.laysFinal "OrderJudgeModel" "OrderJudgeModel" "lc" "[J") ∈ lw_all := lw_g (lw_at lw_m3 179 rfl) rfl
theorem q701 : (Jvm.Cond.soleField "OrderJudgeModel" "lc") ∈ lw_all := lw_g (lw_at lw_m3 180 rfl) rfl
theorem q702 : (Jvm.Cond.superclass "OrderJudgeModel" "java/lang/Object") ∈ lw_all := lw_g (lw_at lw_m3 181 rfl) rfl
theorem q706 : (Jvm.Cond.instanceMethod ({ cls := "OrderJudgeModel", name := "point", desc := "(JJJ)I" } : Jvm.MethodName)) ∈ lw_all := lw_g (lw_at lw_m3 185 rfl) rfl
theorem q707 : (Jvm.Cond.selects "OrderJudgeModel" ({ cls := "OrderJudgeModel", name := "point", desc := "(JJJ)I" } : Jvm.MethodName) ({ cls := "OrderJudgeModel", name := "point", desc := "(JJJ)I" } : Jvm.MethodName)) ∈ lw_all := lw_g (lw_at lw_m3 186 rfl) rfl
theorem q708 : (Jvm.Cond.code ({ cls := "OrderJudgeModel", name := "point", desc := "(JJJ)I" } : Jvm.MethodName) prog_11_method_4_code (8 : Nat) (Option.some Jvm.ClassFile.FieldType.int)) ∈ lw_all := lw_g (lw_at lw_m3 187 rfl) rfl
theorem q709 : (Jvm.Cond.constantLong "OrderJudgeModel" (37 : Nat) (2 : Int64)) ∈ lw_all := lw_g (lw_at lw_m3 188 rfl) rfl
theorem q710 : (Jvm.Cond.constantLong "OrderJudgeModel" (39 : Nat) (3 : Int64)) ∈ lw_all := lw_g (lw_at lw_m3 189 rfl) rfl
theorem q711 : (Jvm.Cond.constantLong "OrderJudgeModel" (41 : Nat) (4 : Int64)) ∈ lw_all := lw_g (lw_at lw_m3 190 rfl) rfl
theorem q712 : (Jvm.Cond.constantLong "OrderJudgeModel" (43 : Nat) (6 : Int64)) ∈ lw_all := lw_g (lw_at lw_m3 191 rfl) rfl
theorem q713 : (Jvm.Cond.constantLong "OrderJudgeModel" (45 : Nat) (12 : Int64)) ∈ lw_all := lw_g (lw_at lw_m3 192 rfl) rfl
theorem q714 : (Jvm.Cond.constantLong "OrderJudgeModel" (47 : Nat) (-800 : Int64)) ∈ lw_all := lw_g (lw_at lw_m3 193 rfl) rfl
theorem q715 : (Jvm.Cond.constantLong "OrderJudgeModel" (49 : Nat) (800 : Int64)) ∈ lw_all := lw_g (lw_at lw_m3 194 rfl) rfl
theorem q717 : (Jvm.Cond.instanceMethod ({ cls := "OrderJudgeModel", name := "size", desc := "(I)I" } : Jvm.MethodName)) ∈ lw_all := lw_g (lw_at lw_m3 196 rfl) rfl
theorem q718 : (Jvm.Cond.selects "OrderJudgeModel" ({ cls := "OrderJudgeModel", name := "size", desc := "(I)I" } : Jvm.MethodName) ({ cls := "OrderJudgeModel", name := "size", desc := "(I)I" } : Jvm.MethodName)) ∈ lw_all := lw_g (lw_at lw_m3 197 rfl) rfl
theorem q719 : (Jvm.Cond.code ({ cls := "OrderJudgeModel", name := "size", desc := "(I)I" } : Jvm.MethodName) prog_11_method_11_code (4 : Nat) (Option.some Jvm.ClassFile.FieldType.int)) ∈ lw_all := lw_g (lw_at lw_m3 198 rfl) rfl
theorem q720 : (Jvm.Cond.methodLink "OrderJudgeModel" (62 : Nat) ({ cls := "OrderJudgeModel", name := "fail", desc := "(I)I" } : Jvm.MethodName)) ∈ lw_all := lw_g (lw_at lw_m3 199 rfl) rfl
theorem q721 : (Jvm.Cond.privateMethod ({ cls := "OrderJudgeModel", name := "fail", desc := "(I)I" } : Jvm.MethodName)) ∈ lw_tbl := lw_at lw_m3 200 rfl
theorem q722 : (Jvm.Cond.instanceMethod ({ cls := "OrderJudgeModel", name := "fail", desc := "(I)I" } : Jvm.MethodName)) ∈ lw_all := lw_g (lw_at lw_m3 201 rfl) rfl
theorem q723 : (Jvm.Cond.code ({ cls := "OrderJudgeModel", name := "fail", desc := "(I)I" } : Jvm.MethodName) prog_11_method_2_code (2 : Nat) (Option.some Jvm.ClassFile.FieldType.int)) ∈ lw_all := lw_g (lw_at lw_m3 202 rfl) rfl
theorem q725 : (Jvm.Cond.instanceMethod ({ cls := "OrderJudgeModel", name := "of", desc := "(II)I" } : Jvm.MethodName)) ∈ lw_all := lw_g (lw_at lw_m3 204 rfl) rfl
theorem q726 : (Jvm.Cond.selects "OrderJudgeModel" ({ cls := "OrderJudgeModel", name := "of", desc := "(II)I" } : Jvm.MethodName) ({ cls := "OrderJudgeModel", name := "of", desc := "(II)I" } : Jvm.MethodName)) ∈ lw_all := lw_g (lw_at lw_m3 205 rfl) rfl
theorem q727 : (Jvm.Cond.code ({ cls := "OrderJudgeModel", name := "of", desc := "(II)I" } : Jvm.MethodName) prog_11_method_13_code (4 : Nat) (Option.some Jvm.ClassFile.FieldType.int)) ∈ lw_all := lw_g (lw_at lw_m3 206 rfl) rfl
theorem q728 : (Jvm.Cond.methodLink "OrderJudgeModel" (69 : Nat) ({ cls := "OrderJudgeModel", name := "isPoint", desc := "(I)Z" } : Jvm.MethodName)) ∈ lw_all := lw_g (lw_at lw_m3 207 rfl) rfl
theorem q729 : (Jvm.Cond.privateMethod ({ cls := "OrderJudgeModel", name := "isPoint", desc := "(I)Z" } : Jvm.MethodName)) ∈ lw_tbl := lw_at lw_m3 208 rfl
theorem q730 : (Jvm.Cond.instanceMethod ({ cls := "OrderJudgeModel", name := "isPoint", desc := "(I)Z" } : Jvm.MethodName)) ∈ lw_all := lw_g (lw_at lw_m3 209 rfl) rfl
theorem q731 : (Jvm.Cond.code ({ cls := "OrderJudgeModel", name := "isPoint", desc := "(I)Z" } : Jvm.MethodName) prog_11_method_5_code (2 : Nat) (Option.some Jvm.ClassFile.FieldType.boolean)) ∈ lw_all := lw_g (lw_at lw_m3 210 rfl) rfl
theorem q732 : (Jvm.Cond.methodLink "OrderJudgeModel" (73 : Nat) ({ cls := "OrderJudgeModel", name := "isPlace", desc := "(I)Z" } : Jvm.MethodName)) ∈ lw_all := lw_g (lw_at lw_m3 211 rfl) rfl
theorem q733 : (Jvm.Cond.privateMethod ({ cls := "OrderJudgeModel", name := "isPlace", desc := "(I)Z" } : Jvm.MethodName)) ∈ lw_tbl := lw_at lw_m3 212 rfl
theorem q734 : (Jvm.Cond.instanceMethod ({ cls := "OrderJudgeModel", name := "isPlace", desc := "(I)Z" } : Jvm.MethodName)) ∈ lw_all := lw_g (lw_at lw_m3 213 rfl) rfl
theorem q735 : (Jvm.Cond.code ({ cls := "OrderJudgeModel", name := "isPlace", desc := "(I)Z" } : Jvm.MethodName) prog_11_method_12_code (2 : Nat) (Option.some Jvm.ClassFile.FieldType.boolean)) ∈ lw_all := lw_g (lw_at lw_m3 214 rfl) rfl
theorem q737 : (Jvm.Cond.instanceMethod ({ cls := "OrderJudgeModel", name := "at", desc := "(II)I" } : Jvm.MethodName)) ∈ lw_all := lw_g (lw_at lw_m3 216 rfl) rfl
theorem q738 : (Jvm.Cond.selects "OrderJudgeModel" ({ cls := "OrderJudgeModel", name := "at", desc := "(II)I" } : Jvm.MethodName) ({ cls := "OrderJudgeModel", name := "at", desc := "(II)I" } : Jvm.MethodName)) ∈ lw_all := lw_g (lw_at lw_m3 217 rfl) rfl
theorem q739 : (Jvm.Cond.code ({ cls := "OrderJudgeModel", name := "at", desc := "(II)I" } : Jvm.MethodName) prog_11_method_14_code (3 : Nat) (Option.some Jvm.ClassFile.FieldType.int)) ∈ lw_all := lw_g (lw_at lw_m3 218 rfl) rfl
theorem q741 : (Jvm.Cond.instanceMethod ({ cls := "OrderJudgeModel", name := "side", desc := "(III)I" } : Jvm.MethodName)) ∈ lw_all := lw_g (lw_at lw_m3 220 rfl) rfl
theorem q742 : (Jvm.Cond.selects "OrderJudgeModel" ({ cls := "OrderJudgeModel", name := "side", desc := "(III)I" } : Jvm.MethodName) ({ cls := "OrderJudgeModel", name := "side", desc := "(III)I" } : Jvm.MethodName)) ∈ lw_all := lw_g (lw_at lw_m3 221 rfl) rfl
theorem q743 : (Jvm.Cond.code ({ cls := "OrderJudgeModel", name := "side", desc := "(III)I" } : Jvm.MethodName) prog_11_method_23_code (4 : Nat) (Option.some Jvm.ClassFile.FieldType.int)) ∈ lw_all := lw_g (lw_at lw_m3 222 rfl) rfl
theorem q744 : (Jvm.Cond.methodLink "OrderJudgeModel" (107 : Nat) ({ cls := "OrderJudgeModel", name := "areEqual", desc := "(II)Z" } : Jvm.MethodName)) ∈ lw_all := lw_g (lw_at lw_m3 223 rfl) rfl
theorem q745 : (Jvm.Cond.privateMethod ({ cls := "OrderJudgeModel", name := "areEqual", desc := "(II)Z" } : Jvm.MethodName)) ∈ lw_tbl := lw_at lw_m3 224 rfl
theorem q746 : (Jvm.Cond.instanceMethod ({ cls := "OrderJudgeModel", name := "areEqual", desc := "(II)Z" } : Jvm.MethodName)) ∈ lw_all := lw_g (lw_at lw_m3 225 rfl) rfl
theorem q747 : (Jvm.Cond.code ({ cls := "OrderJudgeModel", name := "areEqual", desc := "(II)Z" } : Jvm.MethodName) prog_11_method_6_code (3 : Nat) (Option.some Jvm.ClassFile.FieldType.boolean)) ∈ lw_all := lw_g (lw_at lw_m3 226 rfl) rfl
theorem q748 : (Jvm.Cond.methodLink "OrderJudgeModel" (111 : Nat) ({ cls := "OrderJudgeModel", name := "decidesTurn", desc := "(III)Z" } : Jvm.MethodName)) ∈ lw_all := lw_g (lw_at lw_m3 227 rfl) rfl
theorem q749 : (Jvm.Cond.privateMethod ({ cls := "OrderJudgeModel", name := "decidesTurn", desc := "(III)Z" } : Jvm.MethodName)) ∈ lw_tbl := lw_at lw_m3 228 rfl
theorem q750 : (Jvm.Cond.instanceMethod ({ cls := "OrderJudgeModel", name := "decidesTurn", desc := "(III)Z" } : Jvm.MethodName)) ∈ lw_all := lw_g (lw_at lw_m3 229 rfl) rfl
theorem q751 : (Jvm.Cond.code ({ cls := "OrderJudgeModel", name := "decidesTurn", desc := "(III)Z" } : Jvm.MethodName) prog_11_method_20_code (9 : Nat) (Option.some Jvm.ClassFile.FieldType.boolean)) ∈ lw_all := lw_g (lw_at lw_m3 230 rfl) rfl
theorem q752 : (Jvm.Cond.methodLink "OrderJudgeModel" (77 : Nat) ({ cls := "OrderJudgeModel", name := "fx", desc := "(I)F" } : Jvm.MethodName)) ∈ lw_all := lw_g (lw_at lw_m3 231 rfl) rfl
theorem q753 : (Jvm.Cond.privateMethod ({ cls := "OrderJudgeModel", name := "fx", desc := "(I)F" } : Jvm.MethodName)) ∈ lw_tbl := lw_at lw_m3 232 rfl
theorem q754 : (Jvm.Cond.instanceMethod ({ cls := "OrderJudgeModel", name := "fx", desc := "(I)F" } : Jvm.MethodName)) ∈ lw_all := lw_g (lw_at lw_m3 233 rfl) rfl
theorem q755 : (Jvm.Cond.code ({ cls := "OrderJudgeModel", name := "fx", desc := "(I)F" } : Jvm.MethodName) prog_11_method_17_code (2 : Nat) (Option.some Jvm.ClassFile.FieldType.float)) ∈ lw_all := lw_g (lw_at lw_m3 234 rfl) rfl
theorem q756 : (Jvm.Cond.constantFloat "OrderJudgeModel" (76 : Nat) (1094713344 : UInt32)) ∈ lw_all := lw_g (lw_at lw_m3 235 rfl) rfl
theorem q757 : (Jvm.Cond.methodLink "OrderJudgeModel" (85 : Nat) ({ cls := "OrderJudgeModel", name := "fy", desc := "(I)F" } : Jvm.MethodName)) ∈ lw_all := lw_g (lw_at lw_m3 236 rfl) rfl
theorem q758 : (Jvm.Cond.privateMethod ({ cls := "OrderJudgeModel", name := "fy", desc := "(I)F" } : Jvm.MethodName)) ∈ lw_tbl := lw_at lw_m3 237 rfl
theorem q759 : (Jvm.Cond.instanceMethod ({ cls := "OrderJudgeModel", name := "fy", desc := "(I)F" } : Jvm.MethodName)) ∈ lw_all := lw_g (lw_at lw_m3 238 rfl) rfl
theorem q760 : (Jvm.Cond.code ({ cls := "OrderJudgeModel", name := "fy", desc := "(I)F" } : Jvm.MethodName) prog_11_method_18_code (2 : Nat) (Option.some Jvm.ClassFile.FieldType.float)) ∈ lw_all := lw_g (lw_at lw_m3 239 rfl) rfl
theorem q761 : (Jvm.Cond.methodLink "OrderJudgeModel" (92 : Nat) ({ cls := "OrderJudgeModel", name := "most", desc := "(III)F" } : Jvm.MethodName)) ∈ lw_all := lw_g (lw_at lw_m4 0 rfl) rfl
theorem q762 : (Jvm.Cond.privateMethod ({ cls := "OrderJudgeModel", name := "most", desc := "(III)F" } : Jvm.MethodName)) ∈ lw_tbl := lw_at lw_m4 1 rfl
theorem q763 : (Jvm.Cond.instanceMethod ({ cls := "OrderJudgeModel", name := "most", desc := "(III)F" } : Jvm.MethodName)) ∈ lw_all := lw_g (lw_at lw_m4 2 rfl) rfl
theorem q764 : (Jvm.Cond.code ({ cls := "OrderJudgeModel", name := "most", desc := "(III)F" } : Jvm.MethodName) prog_11_method_19_code (4 : Nat) (Option.some Jvm.ClassFile.FieldType.float)) ∈ lw_all := lw_g (lw_at lw_m4 3 rfl) rfl
theorem q765 : (Jvm.Cond.methodLink "OrderJudgeModel" (81 : Nat) ({ cls := "OrderJudgeModel", name := "size", desc := "(F)F" } : Jvm.MethodName)) ∈ lw_all := lw_g (lw_at lw_m4 4 rfl) rfl
theorem q766 : (Jvm.Cond.static ({ cls := "OrderJudgeModel", name := "size", desc := "(F)F" } : Jvm.MethodName)) ∈ lw_all := lw_g (lw_at lw_m4 5 rfl) rfl
theorem q767 : (Jvm.Cond.code ({ cls := "OrderJudgeModel", name := "size", desc := "(F)F" } : Jvm.MethodName) prog_11_method_15_code (1 : Nat) (Option.some Jvm.ClassFile.FieldType.float)) ∈ lw_all := lw_g (lw_at lw_m4 6 rfl) rfl
theorem q768 : (Jvm.Cond.methodLink "OrderJudgeModel" (88 : Nat) ({ cls := "OrderJudgeModel", name := "greater", desc := "(FF)F" } : Jvm.MethodName)) ∈ lw_all := lw_g (lw_at lw_m4 7 rfl) rfl
theorem q769 : (Jvm.Cond.static ({ cls := "OrderJudgeModel", name := "greater", desc := "(FF)F" } : Jvm.MethodName)) ∈ lw_all := lw_g (lw_at lw_m4 8 rfl) rfl
theorem q770 : (Jvm.Cond.code ({ cls := "OrderJudgeModel", name := "greater", desc := "(FF)F" } : Jvm.MethodName) prog_11_method_16_code (2 : Nat) (Option.some Jvm.ClassFile.FieldType.float)) ∈ lw_all := lw_g (lw_at lw_m4 9 rfl) rfl
theorem q771 : (Jvm.Cond.constantFloat "OrderJudgeModel" (96 : Nat) (914358272 : UInt32)) ∈ lw_all := lw_g (lw_at lw_m4 10 rfl) rfl
theorem q772 : (Jvm.Cond.methodLink "OrderJudgeModel" (58 : Nat) ({ cls := "OrderJudgeModel", name := "turn", desc := "(III)I" } : Jvm.MethodName)) ∈ lw_all := lw_g (lw_at lw_m4 11 rfl) rfl
theorem q773 : (Jvm.Cond.privateMethod ({ cls := "OrderJudgeModel", name := "turn", desc := "(III)I" } : Jvm.MethodName)) ∈ lw_tbl := lw_at lw_m4 12 rfl
theorem q774 : (Jvm.Cond.instanceMethod ({ cls := "OrderJudgeModel", name := "turn", desc := "(III)I" } : Jvm.MethodName)) ∈ lw_all := lw_g (lw_at lw_m4 13 rfl) rfl
theorem q775 : (Jvm.Cond.code ({ cls := "OrderJudgeModel", name := "turn", desc := "(III)I" } : Jvm.MethodName) prog_11_method_8_code (4 : Nat) (Option.some Jvm.ClassFile.FieldType.int)) ∈ lw_all := lw_g (lw_at lw_m4 14 rfl) rfl
theorem q776 : (Jvm.Cond.methodLink "OrderJudgeModel" (54 : Nat) ({ cls := "OrderJudgeModel", name := "signOf", desc := "(J)I" } : Jvm.MethodName)) ∈ lw_all := lw_g (lw_at lw_m4 15 rfl) rfl
theorem q777 : (Jvm.Cond.static ({ cls := "OrderJudgeModel", name := "signOf", desc := "(J)I" } : Jvm.MethodName)) ∈ lw_all := lw_g (lw_at lw_m4 16 rfl) rfl
theorem q778 : (Jvm.Cond.code ({ cls := "OrderJudgeModel", name := "signOf", desc := "(J)I" } : Jvm.MethodName) prog_11_method_7_code (2 : Nat) (Option.some Jvm.ClassFile.FieldType.int)) ∈ lw_all := lw_g (lw_at lw_m4 17 rfl) rfl
theorem q779 : (Jvm.Cond.methodLink "OrderJudgeModel" (115 : Nat) ({ cls := "OrderJudgeModel", name := "counted", desc := "(ZI)I" } : Jvm.MethodName)) ∈ lw_all := lw_g (lw_at lw_m4 18 rfl) rfl
theorem q780 : (Jvm.Cond.privateMethod ({ cls := "OrderJudgeModel", name := "counted", desc := "(ZI)I" } : Jvm.MethodName)) ∈ lw_tbl := lw_at lw_m4 19 rfl
theorem q781 : (Jvm.Cond.instanceMethod ({ cls := "OrderJudgeModel", name := "counted", desc := "(ZI)I" } : Jvm.MethodName)) ∈ lw_all := lw_g (lw_at lw_m4 20 rfl) rfl
theorem q782 : (Jvm.Cond.code ({ cls := "OrderJudgeModel", name := "counted", desc := "(ZI)I" } : Jvm.MethodName) prog_11_method_22_code (3 : Nat) (Option.some Jvm.ClassFile.FieldType.int)) ∈ lw_all := lw_g (lw_at lw_m4 21 rfl) rfl
theorem q784 : (Jvm.Cond.instanceMethod ({ cls := "OrderJudgeModel", name := "circle", desc := "(IIII)I" } : Jvm.MethodName)) ∈ lw_all := lw_g (lw_at lw_m4 23 rfl) rfl
theorem q785 : (Jvm.Cond.selects "OrderJudgeModel" ({ cls := "OrderJudgeModel", name := "circle", desc := "(IIII)I" } : Jvm.MethodName) ({ cls := "OrderJudgeModel", name := "circle", desc := "(IIII)I" } : Jvm.MethodName)) ∈ lw_all := lw_g (lw_at lw_m4 24 rfl) rfl
theorem q786 : (Jvm.Cond.code ({ cls := "OrderJudgeModel", name := "circle", desc := "(IIII)I" } : Jvm.MethodName) prog_11_method_24_code (5 : Nat) (Option.some Jvm.ClassFile.FieldType.int)) ∈ lw_all := lw_g (lw_at lw_m4 25 rfl) rfl
theorem q787 : (Jvm.Cond.methodLink "OrderJudgeModel" (119 : Nat) ({ cls := "OrderJudgeModel", name := "decidesRing", desc := "(IIII)Z" } : Jvm.MethodName)) ∈ lw_all := lw_g (lw_at lw_m4 26 rfl) rfl
theorem q788 : (Jvm.Cond.privateMethod ({ cls := "OrderJudgeModel", name := "decidesRing", desc := "(IIII)Z" } : Jvm.MethodName)) ∈ lw_tbl := lw_at lw_m4 27 rfl
theorem q789 : (Jvm.Cond.instanceMethod ({ cls := "OrderJudgeModel", name := "decidesRing", desc := "(IIII)Z" } : Jvm.MethodName)) ∈ lw_all := lw_g (lw_at lw_m4 28 rfl) rfl
theorem q790 : (Jvm.Cond.code ({ cls := "OrderJudgeModel", name := "decidesRing", desc := "(IIII)Z" } : Jvm.MethodName) prog_11_method_21_code (17 : Nat) (Option.some Jvm.ClassFile.FieldType.boolean)) ∈ lw_all := lw_g (lw_at lw_m4 29 rfl) rfl
theorem q791 : (Jvm.Cond.constantFloat "OrderJudgeModel" (97 : Nat) (964689920 : UInt32)) ∈ lw_all := lw_g (lw_at lw_m4 30 rfl) rfl
theorem q792 : (Jvm.Cond.methodLink "OrderJudgeModel" (123 : Nat) ({ cls := "OrderJudgeModel", name := "ring", desc := "(IIII)I" } : Jvm.MethodName)) ∈ lw_all := lw_g (lw_at lw_m4 31 rfl) rfl
theorem q793 : (Jvm.Cond.privateMethod ({ cls := "OrderJudgeModel", name := "ring", desc := "(IIII)I" } : Jvm.MethodName)) ∈ lw_tbl := lw_at lw_m4 32 rfl
theorem q794 : (Jvm.Cond.instanceMethod ({ cls := "OrderJudgeModel", name := "ring", desc := "(IIII)I" } : Jvm.MethodName)) ∈ lw_all := lw_g (lw_at lw_m4 33 rfl) rfl
theorem q795 : (Jvm.Cond.code ({ cls := "OrderJudgeModel", name := "ring", desc := "(IIII)I" } : Jvm.MethodName) prog_11_method_10_code (23 : Nat) (Option.some Jvm.ClassFile.FieldType.int)) ∈ lw_all := lw_g (lw_at lw_m4 34 rfl) rfl
theorem q797 : (Jvm.Cond.instanceMethod ({ cls := "OrderJudgeModel", name := "filter", desc := "(Z)I" } : Jvm.MethodName)) ∈ lw_all := lw_g (lw_at lw_m4 36 rfl) rfl
theorem q798 : (Jvm.Cond.selects "OrderJudgeModel" ({ cls := "OrderJudgeModel", name := "filter", desc := "(Z)I" } : Jvm.MethodName) ({ cls := "OrderJudgeModel", name := "filter", desc := "(Z)I" } : Jvm.MethodName)) ∈ lw_all := lw_g (lw_at lw_m4 37 rfl) rfl
theorem q799 : (Jvm.Cond.code ({ cls := "OrderJudgeModel", name := "filter", desc := "(Z)I" } : Jvm.MethodName) prog_11_method_25_code (3 : Nat) (Option.some Jvm.ClassFile.FieldType.int)) ∈ lw_all := lw_g (lw_at lw_m4 38 rfl) rfl
theorem q801 : (Jvm.Cond.instanceMethod ({ cls := "OrderJudgeModel", name := "decided", desc := "(I)I" } : Jvm.MethodName)) ∈ lw_all := lw_g (lw_at lw_m4 40 rfl) rfl
theorem q802 : (Jvm.Cond.selects "OrderJudgeModel" ({ cls := "OrderJudgeModel", name := "decided", desc := "(I)I" } : Jvm.MethodName) ({ cls := "OrderJudgeModel", name := "decided", desc := "(I)I" } : Jvm.MethodName)) ∈ lw_all := lw_g (lw_at lw_m4 41 rfl) rfl
theorem q803 : (Jvm.Cond.code ({ cls := "OrderJudgeModel", name := "decided", desc := "(I)I" } : Jvm.MethodName) prog_11_method_26_code (2 : Nat) (Option.some Jvm.ClassFile.FieldType.int)) ∈ lw_all := lw_g (lw_at lw_m4 42 rfl) rfl
theorem q805 : (Jvm.Cond.instanceMethod ({ cls := "OrderJudgeModel", name := "between", desc := "(III)I" } : Jvm.MethodName)) ∈ lw_all := lw_g (lw_at lw_m4 44 rfl) rfl
theorem q806 : (Jvm.Cond.selects "OrderJudgeModel" ({ cls := "OrderJudgeModel", name := "between", desc := "(III)I" } : Jvm.MethodName) ({ cls := "OrderJudgeModel", name := "between", desc := "(III)I" } : Jvm.MethodName)) ∈ lw_all := lw_g (lw_at lw_m4 45 rfl) rfl
theorem q807 : (Jvm.Cond.code ({ cls := "OrderJudgeModel", name := "between", desc := "(III)I" } : Jvm.MethodName) prog_11_method_28_code (4 : Nat) (Option.some Jvm.ClassFile.FieldType.int)) ∈ lw_all := lw_g (lw_at lw_m4 46 rfl) rfl
theorem q808 : (Jvm.Cond.methodLink "OrderJudgeModel" (131 : Nat) ({ cls := "OrderJudgeModel", name := "isOn", desc := "(III)Z" } : Jvm.MethodName)) ∈ lw_all := lw_g (lw_at lw_m4 47 rfl) rfl
theorem q809 : (Jvm.Cond.privateMethod ({ cls := "OrderJudgeModel", name := "isOn", desc := "(III)Z" } : Jvm.MethodName)) ∈ lw_tbl := lw_at lw_m4 48 rfl
theorem q810 : (Jvm.Cond.instanceMethod ({ cls := "OrderJudgeModel", name := "isOn", desc := "(III)Z" } : Jvm.MethodName)) ∈ lw_all := lw_g (lw_at lw_m4 49 rfl) rfl
theorem q811 : (Jvm.Cond.code ({ cls := "OrderJudgeModel", name := "isOn", desc := "(III)Z" } : Jvm.MethodName) prog_11_method_27_code (4 : Nat) (Option.some Jvm.ClassFile.FieldType.boolean)) ∈ lw_all := lw_g (lw_at lw_m4 50 rfl) rfl
theorem q812 : (Jvm.Cond.methodLink "OrderJudgeModel" (127 : Nat) ({ cls := "OrderJudgeModel", name := "along", desc := "(III)J" } : Jvm.MethodName)) ∈ lw_all := lw_g (lw_at lw_m4 51 rfl) rfl
theorem q813 : (Jvm.Cond.privateMethod ({ cls := "OrderJudgeModel", name := "along", desc := "(III)J" } : Jvm.MethodName)) ∈ lw_tbl := lw_at lw_m4 52 rfl
theorem q814 : (Jvm.Cond.instanceMethod ({ cls := "OrderJudgeModel", name := "along", desc := "(III)J" } : Jvm.MethodName)) ∈ lw_all := lw_g (lw_at lw_m4 53 rfl) rfl
theorem q815 : (Jvm.Cond.code ({ cls := "OrderJudgeModel", name := "along", desc := "(III)J" } : Jvm.MethodName) prog_11_method_9_code (4 : Nat) (Option.some Jvm.ClassFile.FieldType.long)) ∈ lw_all := lw_g (lw_at lw_m4 54 rfl) rfl
theorem q817 : (Jvm.Cond.instanceMethod ({ cls := "OrderJudgeModel", name := "inside", desc := "(IIII)I" } : Jvm.MethodName)) ∈ lw_all := lw_g (lw_at lw_m4 56 rfl) rfl
theorem q818 : (Jvm.Cond.selects "OrderJudgeModel" ({ cls := "OrderJudgeModel", name := "inside", desc := "(IIII)I" } : Jvm.MethodName) ({ cls := "OrderJudgeModel", name := "inside", desc := "(IIII)I" } : Jvm.MethodName)) ∈ lw_all := lw_g (lw_at lw_m4 57 rfl) rfl
theorem q819 : (Jvm.Cond.code ({ cls := "OrderJudgeModel", name := "inside", desc := "(IIII)I" } : Jvm.MethodName) prog_11_method_30_code (6 : Nat) (Option.some Jvm.ClassFile.FieldType.int)) ∈ lw_all := lw_g (lw_at lw_m4 58 rfl) rfl
theorem q820 : (Jvm.Cond.methodLink "OrderJudgeModel" (133 : Nat) ({ cls := "OrderJudgeModel", name := "isOneWay", desc := "(III)Z" } : Jvm.MethodName)) ∈ lw_all := lw_g (lw_at lw_m4 59 rfl) rfl
theorem q821 : (Jvm.Cond.privateMethod ({ cls := "OrderJudgeModel", name := "isOneWay", desc := "(III)Z" } : Jvm.MethodName)) ∈ lw_tbl := lw_at lw_m4 60 rfl
theorem q822 : (Jvm.Cond.instanceMethod ({ cls := "OrderJudgeModel", name := "isOneWay", desc := "(III)Z" } : Jvm.MethodName)) ∈ lw_all := lw_g (lw_at lw_m4 61 rfl) rfl
theorem q823 : (Jvm.Cond.code ({ cls := "OrderJudgeModel", name := "isOneWay", desc := "(III)Z" } : Jvm.MethodName) prog_11_method_29_code (4 : Nat) (Option.some Jvm.ClassFile.FieldType.boolean)) ∈ lw_all := lw_g (lw_at lw_m4 62 rfl) rfl
theorem q825 : (Jvm.Cond.instanceMethod ({ cls := "OrderJudgeModel", name := "cross", desc := "(IIII)I" } : Jvm.MethodName)) ∈ lw_all := lw_g (lw_at lw_m4 64 rfl) rfl
theorem q826 : (Jvm.Cond.selects "OrderJudgeModel" ({ cls := "OrderJudgeModel", name := "cross", desc := "(IIII)I" } : Jvm.MethodName) ({ cls := "OrderJudgeModel", name := "cross", desc := "(IIII)I" } : Jvm.MethodName)) ∈ lw_all := lw_g (lw_at lw_m4 65 rfl) rfl
theorem q827 : (Jvm.Cond.code ({ cls := "OrderJudgeModel", name := "cross", desc := "(IIII)I" } : Jvm.MethodName) prog_11_method_32_code (11 : Nat) (Option.some Jvm.ClassFile.FieldType.int)) ∈ lw_all := lw_g (lw_at lw_m4 66 rfl) rfl
theorem q828 : (Jvm.Cond.methodLink "OrderJudgeModel" (136 : Nat) ({ cls := "OrderJudgeModel", name := "common", desc := "(IIII)I" } : Jvm.MethodName)) ∈ lw_all := lw_g (lw_at lw_m4 67 rfl) rfl
theorem q829 : (Jvm.Cond.privateMethod ({ cls := "OrderJudgeModel", name := "common", desc := "(IIII)I" } : Jvm.MethodName)) ∈ lw_tbl := lw_at lw_m4 68 rfl
theorem q830 : (Jvm.Cond.instanceMethod ({ cls := "OrderJudgeModel", name := "common", desc := "(IIII)I" } : Jvm.MethodName)) ∈ lw_all := lw_g (lw_at lw_m4 69 rfl) rfl
theorem q831 : (Jvm.Cond.code ({ cls := "OrderJudgeModel", name := "common", desc := "(IIII)I" } : Jvm.MethodName) prog_11_method_31_code (10 : Nat) (Option.some Jvm.ClassFile.FieldType.int)) ∈ lw_all := lw_g (lw_at lw_m4 70 rfl) rfl
theorem q833 : (Jvm.Cond.instanceMethod ({ cls := "OrderJudgeModel", name := "separated", desc := "(IIII)I" } : Jvm.MethodName)) ∈ lw_all := lw_g (lw_at lw_m4 72 rfl) rfl
theorem q834 : (Jvm.Cond.selects "OrderJudgeModel" ({ cls := "OrderJudgeModel", name := "separated", desc := "(IIII)I" } : Jvm.MethodName) ({ cls := "OrderJudgeModel", name := "separated", desc := "(IIII)I" } : Jvm.MethodName)) ∈ lw_all := lw_g (lw_at lw_m4 73 rfl) rfl
theorem q835 : (Jvm.Cond.code ({ cls := "OrderJudgeModel", name := "separated", desc := "(IIII)I" } : Jvm.MethodName) prog_11_method_33_code (7 : Nat) (Option.some Jvm.ClassFile.FieldType.int)) ∈ lw_all := lw_g (lw_at lw_m4 74 rfl) rfl
theorem q837 : (Jvm.Cond.instanceMethod ({ cls := "OrderJudgeModel", name := "convex", desc := "(I)I" } : Jvm.MethodName)) ∈ lw_all := lw_g (lw_at lw_m4 76 rfl) rfl
theorem q838 : (Jvm.Cond.selects "OrderJudgeModel" ({ cls := "OrderJudgeModel", name := "convex", desc := "(I)I" } : Jvm.MethodName) ({ cls := "OrderJudgeModel", name := "convex", desc := "(I)I" } : Jvm.MethodName)) ∈ lw_all := lw_g (lw_at lw_m4 77 rfl) rfl
theorem q839 : (Jvm.Cond.code ({ cls := "OrderJudgeModel", name := "convex", desc := "(I)I" } : Jvm.MethodName) prog_11_method_37_code (8 : Nat) (Option.some Jvm.ClassFile.FieldType.int)) ∈ lw_all := lw_g (lw_at lw_m4 78 rfl) rfl
theorem q840 : (Jvm.Cond.methodLink "OrderJudgeModel" (139 : Nat) ({ cls := "OrderJudgeModel", name := "isMany", desc := "(II)Z" } : Jvm.MethodName)) ∈ lw_all := lw_g (lw_at lw_m4 79 rfl) rfl
theorem q841 : (Jvm.Cond.privateMethod ({ cls := "OrderJudgeModel", name := "isMany", desc := "(II)Z" } : Jvm.MethodName)) ∈ lw_tbl := lw_at lw_m4 80 rfl
theorem q842 : (Jvm.Cond.instanceMethod ({ cls := "OrderJudgeModel", name := "isMany", desc := "(II)Z" } : Jvm.MethodName)) ∈ lw_all := lw_g (lw_at lw_m4 81 rfl) rfl
theorem q843 : (Jvm.Cond.code ({ cls := "OrderJudgeModel", name := "isMany", desc := "(II)Z" } : Jvm.MethodName) prog_11_method_34_code (3 : Nat) (Option.some Jvm.ClassFile.FieldType.boolean)) ∈ lw_all := lw_g (lw_at lw_m4 82 rfl) rfl
theorem q844 : (Jvm.Cond.methodLink "OrderJudgeModel" (142 : Nat) ({ cls := "OrderJudgeModel", name := "isWhole", desc := "(I)Z" } : Jvm.MethodName)) ∈ lw_all := lw_g (lw_at lw_m4 83 rfl) rfl
theorem q845 : (Jvm.Cond.privateMethod ({ cls := "OrderJudgeModel", name := "isWhole", desc := "(I)Z" } : Jvm.MethodName)) ∈ lw_tbl := lw_at lw_m4 84 rfl
theorem q846 : (Jvm.Cond.instanceMethod ({ cls := "OrderJudgeModel", name := "isWhole", desc := "(I)Z" } : Jvm.MethodName)) ∈ lw_all := lw_g (lw_at lw_m4 85 rfl) rfl
theorem q847 : (Jvm.Cond.code ({ cls := "OrderJudgeModel", name := "isWhole", desc := "(I)Z" } : Jvm.MethodName) prog_11_method_35_code (4 : Nat) (Option.some Jvm.ClassFile.FieldType.boolean)) ∈ lw_all := lw_g (lw_at lw_m4 86 rfl) rfl
theorem q848 : (Jvm.Cond.methodLink "OrderJudgeModel" (145 : Nat) ({ cls := "OrderJudgeModel", name := "next", desc := "(II)I" } : Jvm.MethodName)) ∈ lw_all := lw_g (lw_at lw_m4 87 rfl) rfl
theorem q849 : (Jvm.Cond.privateMethod ({ cls := "OrderJudgeModel", name := "next", desc := "(II)I" } : Jvm.MethodName)) ∈ lw_tbl := lw_at lw_m4 88 rfl
theorem q850 : (Jvm.Cond.instanceMethod ({ cls := "OrderJudgeModel", name := "next", desc := "(II)I" } : Jvm.MethodName)) ∈ lw_all := lw_g (lw_at lw_m4 89 rfl) rfl
theorem q851 : (Jvm.Cond.code ({ cls := "OrderJudgeModel", name := "next", desc := "(II)I" } : Jvm.MethodName) prog_11_method_36_code (3 : Nat) (Option.some Jvm.ClassFile.FieldType.int)) ∈ lw_all := lw_g (lw_at lw_m4 90 rfl) rfl
theorem q853 : (Jvm.Cond.instanceMethod ({ cls := "OrderJudgeModel", name := "polygon", desc := "(II)I" } : Jvm.MethodName)) ∈ lw_all := lw_g (lw_at lw_m4 92 rfl) rfl
theorem q854 : (Jvm.Cond.selects "OrderJudgeModel" ({ cls := "OrderJudgeModel", name := "polygon", desc := "(II)I" } : Jvm.MethodName) ({ cls := "OrderJudgeModel", name := "polygon", desc := "(II)I" } : Jvm.MethodName)) ∈ lw_all := lw_g (lw_at lw_m4 93 rfl) rfl
theorem q855 : (Jvm.Cond.code ({ cls := "OrderJudgeModel", name := "polygon", desc := "(II)I" } : Jvm.MethodName) prog_11_method_40_code (5 : Nat) (Option.some Jvm.ClassFile.FieldType.int)) ∈ lw_all := lw_g (lw_at lw_m4 94 rfl) rfl
theorem q856 : (Jvm.Cond.methodLink "OrderJudgeModel" (149 : Nat) ({ cls := "OrderJudgeModel", name := "isOnEdge", desc := "(II)Z" } : Jvm.MethodName)) ∈ lw_all := lw_g (lw_at lw_m4 95 rfl) rfl
theorem q857 : (Jvm.Cond.privateMethod ({ cls := "OrderJudgeModel", name := "isOnEdge", desc := "(II)Z" } : Jvm.MethodName)) ∈ lw_tbl := lw_at lw_m4 96 rfl
theorem q858 : (Jvm.Cond.instanceMethod ({ cls := "OrderJudgeModel", name := "isOnEdge", desc := "(II)Z" } : Jvm.MethodName)) ∈ lw_all := lw_g (lw_at lw_m4 97 rfl) rfl
theorem q859 : (Jvm.Cond.code ({ cls := "OrderJudgeModel", name := "isOnEdge", desc := "(II)Z" } : Jvm.MethodName) prog_11_method_38_code (5 : Nat) (Option.some Jvm.ClassFile.FieldType.boolean)) ∈ lw_all := lw_g (lw_at lw_m4 98 rfl) rfl
theorem q860 : (Jvm.Cond.methodLink "OrderJudgeModel" (152 : Nat) ({ cls := "OrderJudgeModel", name := "rises", desc := "(III)I" } : Jvm.MethodName)) ∈ lw_all := lw_g (lw_at lw_m4 99 rfl) rfl
theorem q861 : (Jvm.Cond.privateMethod ({ cls := "OrderJudgeModel", name := "rises", desc := "(III)I" } : Jvm.MethodName)) ∈ lw_tbl := lw_at lw_m4 100 rfl
theorem q862 : (Jvm.Cond.instanceMethod ({ cls := "OrderJudgeModel", name := "rises", desc := "(III)I" } : Jvm.MethodName)) ∈ lw_all := lw_g (lw_at lw_m4 101 rfl) rfl
theorem q863 : (Jvm.Cond.code ({ cls := "OrderJudgeModel", name := "rises", desc := "(III)I" } : Jvm.MethodName) prog_11_method_39_code (8 : Nat) (Option.some Jvm.ClassFile.FieldType.int)) ∈ lw_all := lw_g (lw_at lw_m4 102 rfl) rfl
theorem q865 : (Jvm.Cond.instanceMethod ({ cls := "OrderJudgeModel", name := "winding", desc := "(II)I" } : Jvm.MethodName)) ∈ lw_all := lw_g (lw_at lw_m4 104 rfl) rfl
theorem q866 : (Jvm.Cond.selects "OrderJudgeModel" ({ cls := "OrderJudgeModel", name := "winding", desc := "(II)I" } : Jvm.MethodName) ({ cls := "OrderJudgeModel", name := "winding", desc := "(II)I" } : Jvm.MethodName)) ∈ lw_all := lw_g (lw_at lw_m4 105 rfl) rfl
theorem q867 : (Jvm.Cond.code ({ cls := "OrderJudgeModel", name := "winding", desc := "(II)I" } : Jvm.MethodName) prog_11_method_41_code (5 : Nat) (Option.some Jvm.ClassFile.FieldType.int)) ∈ lw_all := lw_g (lw_at lw_m4 106 rfl) rfl
theorem q869 : (Jvm.Cond.instanceMethod ({ cls := "OrderJudgeModel", name := "nearest", desc := "(II)I" } : Jvm.MethodName)) ∈ lw_all := lw_g (lw_at lw_m4 108 rfl) rfl
theorem q870 : (Jvm.Cond.selects "OrderJudgeModel" ({ cls := "OrderJudgeModel", name := "nearest", desc := "(II)I" } : Jvm.MethodName) ({ cls := "OrderJudgeModel", name := "nearest", desc := "(II)I" } : Jvm.MethodName)) ∈ lw_all := lw_g (lw_at lw_m4 109 rfl) rfl
theorem q871 : (Jvm.Cond.code ({ cls := "OrderJudgeModel", name := "nearest", desc := "(II)I" } : Jvm.MethodName) prog_11_method_43_code (9 : Nat) (Option.some Jvm.ClassFile.FieldType.int)) ∈ lw_all := lw_g (lw_at lw_m4 110 rfl) rfl
theorem q872 : (Jvm.Cond.methodLink "OrderJudgeModel" (155 : Nat) ({ cls := "OrderJudgeModel", name := "far", desc := "(II)J" } : Jvm.MethodName)) ∈ lw_all := lw_g (lw_at lw_m4 111 rfl) rfl
theorem q873 : (Jvm.Cond.privateMethod ({ cls := "OrderJudgeModel", name := "far", desc := "(II)J" } : Jvm.MethodName)) ∈ lw_tbl := lw_at lw_m4 112 rfl
theorem q874 : (Jvm.Cond.instanceMethod ({ cls := "OrderJudgeModel", name := "far", desc := "(II)J" } : Jvm.MethodName)) ∈ lw_all := lw_g (lw_at lw_m4 113 rfl) rfl
theorem q875 : (Jvm.Cond.code ({ cls := "OrderJudgeModel", name := "far", desc := "(II)J" } : Jvm.MethodName) prog_11_method_42_code (3 : Nat) (Option.some Jvm.ClassFile.FieldType.long)) ∈ lw_all := lw_g (lw_at lw_m4 114 rfl) rfl
theorem q877 : (Jvm.Cond.instanceMethod ({ cls := "OrderJudgeModel", name := "around", desc := "(III)I" } : Jvm.MethodName)) ∈ lw_all := lw_g (lw_at lw_m4 116 rfl) rfl
theorem q878 : (Jvm.Cond.selects "OrderJudgeModel" ({ cls := "OrderJudgeModel", name := "around", desc := "(III)I" } : Jvm.MethodName) ({ cls := "OrderJudgeModel", name := "around", desc := "(III)I" } : Jvm.MethodName)) ∈ lw_all := lw_g (lw_at lw_m4 117 rfl) rfl
theorem q879 : (Jvm.Cond.code ({ cls := "OrderJudgeModel", name := "around", desc := "(III)I" } : Jvm.MethodName) prog_11_method_46_code (8 : Nat) (Option.some Jvm.ClassFile.FieldType.int)) ∈ lw_all := lw_g (lw_at lw_m4 118 rfl) rfl
theorem q880 : (Jvm.Cond.methodLink "OrderJudgeModel" (162 : Nat) ({ cls := "OrderJudgeModel", name := "isAhead", desc := "(III)Z" } : Jvm.MethodName)) ∈ lw_all := lw_g (lw_at lw_m4 119 rfl) rfl
theorem q881 : (Jvm.Cond.privateMethod ({ cls := "OrderJudgeModel", name := "isAhead", desc := "(III)Z" } : Jvm.MethodName)) ∈ lw_tbl := lw_at lw_m4 120 rfl
theorem q882 : (Jvm.Cond.instanceMethod ({ cls := "OrderJudgeModel", name := "isAhead", desc := "(III)Z" } : Jvm.MethodName)) ∈ lw_all := lw_g (lw_at lw_m4 121 rfl) rfl
theorem q883 : (Jvm.Cond.code ({ cls := "OrderJudgeModel", name := "isAhead", desc := "(III)Z" } : Jvm.MethodName) prog_11_method_45_code (9 : Nat) (Option.some Jvm.ClassFile.FieldType.boolean)) ∈ lw_all := lw_g (lw_at lw_m4 122 rfl) rfl
theorem q884 : (Jvm.Cond.methodLink "OrderJudgeModel" (159 : Nat) ({ cls := "OrderJudgeModel", name := "half", desc := "(II)I" } : Jvm.MethodName)) ∈ lw_all := lw_g (lw_at lw_m4 123 rfl) rfl
theorem q885 : (Jvm.Cond.privateMethod ({ cls := "OrderJudgeModel", name := "half", desc := "(II)I" } : Jvm.MethodName)) ∈ lw_tbl := lw_at lw_m4 124 rfl
theorem q886 : (Jvm.Cond.instanceMethod ({ cls := "OrderJudgeModel", name := "half", desc := "(II)I" } : Jvm.MethodName)) ∈ lw_all := lw_g (lw_at lw_m4 125 rfl) rfl
theorem q887 : (Jvm.Cond.code ({ cls := "OrderJudgeModel", name := "half", desc := "(II)I" } : Jvm.MethodName) prog_11_method_44_code (3 : Nat) (Option.some Jvm.ClassFile.FieldType.int)) ∈ lw_all := lw_g (lw_at lw_m4 126 rfl) rfl
theorem q889 : (Jvm.Cond.instanceMethod ({ cls := "OrderJudgeModel", name := "order", desc := "(II)I" } : Jvm.MethodName)) ∈ lw_all := lw_g (lw_at lw_m4 128 rfl) rfl
theorem q890 : (Jvm.Cond.selects "OrderJudgeModel" ({ cls := "OrderJudgeModel", name := "order", desc := "(II)I" } : Jvm.MethodName) ({ cls := "OrderJudgeModel", name := "order", desc := "(II)I" } : Jvm.MethodName)) ∈ lw_all := lw_g (lw_at lw_m4 129 rfl) rfl
theorem q891 : (Jvm.Cond.code ({ cls := "OrderJudgeModel", name := "order", desc := "(II)I" } : Jvm.MethodName) prog_11_method_48_code (7 : Nat) (Option.some Jvm.ClassFile.FieldType.int)) ∈ lw_all := lw_g (lw_at lw_m4 130 rfl) rfl
theorem q892 : (Jvm.Cond.methodLink "OrderJudgeModel" (165 : Nat) ({ cls := "OrderJudgeModel", name := "isLess", desc := "(II)Z" } : Jvm.MethodName)) ∈ lw_all := lw_g (lw_at lw_m4 131 rfl) rfl
theorem q893 : (Jvm.Cond.privateMethod ({ cls := "OrderJudgeModel", name := "isLess", desc := "(II)Z" } : Jvm.MethodName)) ∈ lw_tbl := lw_at lw_m4 132 rfl
theorem q894 : (Jvm.Cond.instanceMethod ({ cls := "OrderJudgeModel", name := "isLess", desc := "(II)Z" } : Jvm.MethodName)) ∈ lw_all := lw_g (lw_at lw_m4 133 rfl) rfl
theorem q895 : (Jvm.Cond.code ({ cls := "OrderJudgeModel", name := "isLess", desc := "(II)Z" } : Jvm.MethodName) prog_11_method_47_code (5 : Nat) (Option.some Jvm.ClassFile.FieldType.boolean)) ∈ lw_all := lw_g (lw_at lw_m4 134 rfl) rfl
theorem q897 : (Jvm.Cond.instanceMethod ({ cls := "OrderJudgeModel", name := "area", desc := "(IJ)J" } : Jvm.MethodName)) ∈ lw_all := lw_g (lw_at lw_m4 136 rfl) rfl
theorem q898 : (Jvm.Cond.selects "OrderJudgeModel" ({ cls := "OrderJudgeModel", name := "area", desc := "(IJ)J" } : Jvm.MethodName) ({ cls := "OrderJudgeModel", name := "area", desc := "(IJ)J" } : Jvm.MethodName)) ∈ lw_all := lw_g (lw_at lw_m4 137 rfl) rfl
theorem q899 : (Jvm.Cond.code ({ cls := "OrderJudgeModel", name := "area", desc := "(IJ)J" } : Jvm.MethodName) prog_11_method_49_code (9 : Nat) (Option.some Jvm.ClassFile.FieldType.long)) ∈ lw_all := lw_g (lw_at lw_m4 138 rfl) rfl
theorem q901 : (Jvm.Cond.instanceMethod ({ cls := "OrderJudgeModel", name := "line", desc := "(II)I" } : Jvm.MethodName)) ∈ lw_all := lw_g (lw_at lw_m4 140 rfl) rfl
theorem q902 : (Jvm.Cond.selects "OrderJudgeModel" ({ cls := "OrderJudgeModel", name := "line", desc := "(II)I" } : Jvm.MethodName) ({ cls := "OrderJudgeModel", name := "line", desc := "(II)I" } : Jvm.MethodName)) ∈ lw_all := lw_g (lw_at lw_m4 141 rfl) rfl
theorem q903 : (Jvm.Cond.code ({ cls := "OrderJudgeModel", name := "line", desc := "(II)I" } : Jvm.MethodName) prog_11_method_50_code (3 : Nat) (Option.some Jvm.ClassFile.FieldType.int)) ∈ lw_all := lw_g (lw_at lw_m4 142 rfl) rfl
theorem q905 : (Jvm.Cond.instanceMethod ({ cls := "OrderJudgeModel", name := "lines", desc := "(II)I" } : Jvm.MethodName)) ∈ lw_all := lw_g (lw_at lw_m4 144 rfl) rfl
theorem q906 : (Jvm.Cond.selects "OrderJudgeModel" ({ cls := "OrderJudgeModel", name := "lines", desc := "(II)I" } : Jvm.MethodName) ({ cls := "OrderJudgeModel", name := "lines", desc := "(II)I" } : Jvm.MethodName)) ∈ lw_all := lw_g (lw_at lw_m4 145 rfl) rfl
theorem q907 : (Jvm.Cond.code ({ cls := "OrderJudgeModel", name := "lines", desc := "(II)I" } : Jvm.MethodName) prog_11_method_55_code (14 : Nat) (Option.some Jvm.ClassFile.FieldType.int)) ∈ lw_all := lw_g (lw_at lw_m4 146 rfl) rfl
theorem q908 : (Jvm.Cond.methodLink "OrderJudgeModel" (177 : Nat) ({ cls := "OrderJudgeModel", name := "isNew", desc := "(I)Z" } : Jvm.MethodName)) ∈ lw_all := lw_g (lw_at lw_m4 147 rfl) rfl
theorem q909 : (Jvm.Cond.privateMethod ({ cls := "OrderJudgeModel", name := "isNew", desc := "(I)Z" } : Jvm.MethodName)) ∈ lw_tbl := lw_at lw_m4 148 rfl
theorem q910 : (Jvm.Cond.instanceMethod ({ cls := "OrderJudgeModel", name := "isNew", desc := "(I)Z" } : Jvm.MethodName)) ∈ lw_all := lw_g (lw_at lw_m4 149 rfl) rfl
theorem q911 : (Jvm.Cond.code ({ cls := "OrderJudgeModel", name := "isNew", desc := "(I)Z" } : Jvm.MethodName) prog_11_method_53_code (4 : Nat) (Option.some Jvm.ClassFile.FieldType.boolean)) ∈ lw_all := lw_g (lw_at lw_m4 150 rfl) rfl
theorem q912 : (Jvm.Cond.methodLink "OrderJudgeModel" (174 : Nat) ({ cls := "OrderJudgeModel", name := "isOne", desc := "(II)Z" } : Jvm.MethodName)) ∈ lw_all := lw_g (lw_at lw_m4 151 rfl) rfl
theorem q913 : (Jvm.Cond.privateMethod ({ cls := "OrderJudgeModel", name := "isOne", desc := "(II)Z" } : Jvm.MethodName)) ∈ lw_tbl := lw_at lw_m4 152 rfl
theorem q914 : (Jvm.Cond.instanceMethod ({ cls := "OrderJudgeModel", name := "isOne", desc := "(II)Z" } : Jvm.MethodName)) ∈ lw_all := lw_g (lw_at lw_m4 153 rfl) rfl
theorem q915 : (Jvm.Cond.code ({ cls := "OrderJudgeModel", name := "isOne", desc := "(II)Z" } : Jvm.MethodName) prog_11_method_52_code (3 : Nat) (Option.some Jvm.ClassFile.FieldType.boolean)) ∈ lw_all := lw_g (lw_at lw_m4 154 rfl) rfl
theorem q916 : (Jvm.Cond.methodLink "OrderJudgeModel" (171 : Nat) ({ cls := "OrderJudgeModel", name := "both", desc := "(II)J" } : Jvm.MethodName)) ∈ lw_all := lw_g (lw_at lw_m4 155 rfl) rfl
theorem q917 : (Jvm.Cond.privateMethod ({ cls := "OrderJudgeModel", name := "both", desc := "(II)J" } : Jvm.MethodName)) ∈ lw_tbl := lw_at lw_m4 156 rfl
theorem q918 : (Jvm.Cond.instanceMethod ({ cls := "OrderJudgeModel", name := "both", desc := "(II)J" } : Jvm.MethodName)) ∈ lw_all := lw_g (lw_at lw_m4 157 rfl) rfl
theorem q919 : (Jvm.Cond.code ({ cls := "OrderJudgeModel", name := "both", desc := "(II)J" } : Jvm.MethodName) prog_11_method_51_code (3 : Nat) (Option.some Jvm.ClassFile.FieldType.long)) ∈ lw_all := lw_g (lw_at lw_m4 158 rfl) rfl
theorem q920 : (Jvm.Cond.methodLink "OrderJudgeModel" (180 : Nat) ({ cls := "OrderJudgeModel", name := "isThrough", desc := "(III)Z" } : Jvm.MethodName)) ∈ lw_all := lw_g (lw_at lw_m4 159 rfl) rfl
theorem q921 : (Jvm.Cond.privateMethod ({ cls := "OrderJudgeModel", name := "isThrough", desc := "(III)Z" } : Jvm.MethodName)) ∈ lw_tbl := lw_at lw_m4 160 rfl
theorem q922 : (Jvm.Cond.instanceMethod ({ cls := "OrderJudgeModel", name := "isThrough", desc := "(III)Z" } : Jvm.MethodName)) ∈ lw_all := lw_g (lw_at lw_m4 161 rfl) rfl
theorem q923 : (Jvm.Cond.code ({ cls := "OrderJudgeModel", name := "isThrough", desc := "(III)Z" } : Jvm.MethodName) prog_11_method_54_code (8 : Nat) (Option.some Jvm.ClassFile.FieldType.boolean)) ∈ lw_all := lw_g (lw_at lw_m4 162 rfl) rfl
theorem q925 : (Jvm.Cond.instanceMethod ({ cls := "OrderJudgeModel", name := "count", desc := "(I)I" } : Jvm.MethodName)) ∈ lw_all := lw_g (lw_at lw_m4 164 rfl) rfl
theorem q926 : (Jvm.Cond.selects "OrderJudgeModel" ({ cls := "OrderJudgeModel", name := "count", desc := "(I)I" } : Jvm.MethodName) ({ cls := "OrderJudgeModel", name := "count", desc := "(I)I" } : Jvm.MethodName)) ∈ lw_all := lw_g (lw_at lw_m4 165 rfl) rfl
theorem q927 : (Jvm.Cond.code ({ cls := "OrderJudgeModel", name := "count", desc := "(I)I" } : Jvm.MethodName) prog_11_method_56_code (2 : Nat) (Option.some Jvm.ClassFile.FieldType.int)) ∈ lw_all := lw_g (lw_at lw_m4 166 rfl) rfl
theorem q44 : (Jvm.Cond.initialized "OrderJudge$Point") ∈ lw_all := lw_g (lw_at lw_m1 3 rfl) rfl
theorem q114 : (Jvm.Cond.instantiable "OrderJudge$Point" (5 : Nat)) ∈ lw_all := lw_g (lw_at lw_m1 73 rfl) rfl
theorem q116 : (Jvm.Cond.instanceMethod ({ cls := "OrderJudge$Point", name := "<init>", desc := "(III)V" } : Jvm.MethodName)) ∈ lw_all := lw_g (lw_at lw_m1 75 rfl) rfl
theorem q117 : (Jvm.Cond.code ({ cls := "OrderJudge$Point", name := "<init>", desc := "(III)V" } : Jvm.MethodName) prog_8_method_1_code (4 : Nat) (Option.none : Option Jvm.ClassFile.FieldType)) ∈ lw_all := lw_g (lw_at lw_m1 76 rfl) rfl
theorem q118 : (Jvm.Cond.methodLink "OrderJudge$Point" (1 : Nat) ({ cls := "java/lang/Object", name := "<init>", desc := "()V" } : Jvm.MethodName)) ∈ lw_all := lw_g (lw_at lw_m1 77 rfl) rfl
theorem q119 : (Jvm.Cond.constantFloat "OrderJudge$Point" (19 : Nat) (1094713344 : UInt32)) ∈ lw_all := lw_g (lw_at lw_m1 78 rfl) rfl
theorem q120 : (Jvm.Cond.fieldLink "OrderJudge$Point" (7 : Nat) "OrderJudge$Point" "number" "I") ∈ lw_all := lw_g (lw_at lw_m1 79 rfl) rfl
theorem q122 : (Jvm.Cond.fieldLink "OrderJudge$Point" (13 : Nat) "OrderJudge$Point" "x" "I") ∈ lw_all := lw_g (lw_at lw_m1 81 rfl) rfl
theorem q128 : (Jvm.Cond.fieldLink "OrderJudge$Point" (16 : Nat) "OrderJudge$Point" "y" "I") ∈ lw_all := lw_g (lw_at lw_m1 87 rfl) rfl
theorem q133 : (Jvm.Cond.fieldLink "OrderJudge$Point" (20 : Nat) "OrderJudge$Point" "fx" "F") ∈ lw_all := lw_g (lw_at lw_m1 92 rfl) rfl
theorem q135 : (Jvm.Cond.fieldLink "OrderJudge$Point" (24 : Nat) "OrderJudge$Point" "fy" "F") ∈ lw_all := lw_g (lw_at lw_m1 94 rfl) rfl
theorem q137 : (Jvm.Cond.laysFinal "OrderJudge$Point" "OrderJudge$Point" "number" "I") ∈ lw_all := lw_g (lw_at lw_m1 96 rfl) rfl
theorem q138 : (Jvm.Cond.soleField "OrderJudge$Point" "number") ∈ lw_all := lw_g (lw_at lw_m1 97 rfl) rfl
theorem q139 : (Jvm.Cond.laysFinal "OrderJudge$Point" "OrderJudge$Point" "x" "I") ∈ lw_all := lw_g (lw_at lw_m1 98 rfl) rfl
theorem q140 : (Jvm.Cond.soleField "OrderJudge$Point" "x") ∈ lw_all := lw_g (lw_at lw_m1 99 rfl) rfl
theorem q141 : (Jvm.Cond.laysFinal "OrderJudge$Point" "OrderJudge$Point" "y" "I") ∈ lw_all := lw_g (lw_at lw_m1 100 rfl) rfl
theorem q142 : (Jvm.Cond.soleField "OrderJudge$Point" "y") ∈ lw_all := lw_g (lw_at lw_m1 101 rfl) rfl
theorem q143 : (Jvm.Cond.laysFinal "OrderJudge$Point" "OrderJudge$Point" "fx" "F") ∈ lw_all := lw_g (lw_at lw_m1 102 rfl) rfl
theorem q144 : (Jvm.Cond.soleField "OrderJudge$Point" "fx") ∈ lw_all := lw_g (lw_at lw_m1 103 rfl) rfl
theorem q145 : (Jvm.Cond.laysFinal "OrderJudge$Point" "OrderJudge$Point" "fy" "F") ∈ lw_all := lw_g (lw_at lw_m1 104 rfl) rfl
theorem q146 : (Jvm.Cond.soleField "OrderJudge$Point" "fy") ∈ lw_all := lw_g (lw_at lw_m1 105 rfl) rfl
theorem q147 : (Jvm.Cond.superclass "OrderJudge$Point" "java/lang/Object") ∈ lw_all := lw_g (lw_at lw_m1 106 rfl) rfl
theorem q161 : (Jvm.Cond.instanceMethod ({ cls := "OrderJudge$Point", name := "isEqual", desc := "(LOrderJudge$Point;)Z" } : Jvm.MethodName)) ∈ lw_all := lw_g (lw_at lw_m1 120 rfl) rfl
theorem q162 : (Jvm.Cond.selects "OrderJudge$Point" ({ cls := "OrderJudge$Point", name := "isEqual", desc := "(LOrderJudge$Point;)Z" } : Jvm.MethodName) ({ cls := "OrderJudge$Point", name := "isEqual", desc := "(LOrderJudge$Point;)Z" } : Jvm.MethodName)) ∈ lw_all := lw_g (lw_at lw_m1 121 rfl) rfl
theorem q163 : (Jvm.Cond.code ({ cls := "OrderJudge$Point", name := "isEqual", desc := "(LOrderJudge$Point;)Z" } : Jvm.MethodName) prog_8_method_2_code (2 : Nat) (Option.some Jvm.ClassFile.FieldType.boolean)) ∈ lw_all := lw_g (lw_at lw_m1 122 rfl) rfl
theorem q168 : (Jvm.Cond.instanceMethod ({ cls := "OrderJudge$Point", name := "size", desc := "()F" } : Jvm.MethodName)) ∈ lw_all := lw_g (lw_at lw_m1 127 rfl) rfl
theorem q169 : (Jvm.Cond.selects "OrderJudge$Point" ({ cls := "OrderJudge$Point", name := "size", desc := "()F" } : Jvm.MethodName) ({ cls := "OrderJudge$Point", name := "size", desc := "()F" } : Jvm.MethodName)) ∈ lw_all := lw_g (lw_at lw_m1 128 rfl) rfl
theorem q170 : (Jvm.Cond.code ({ cls := "OrderJudge$Point", name := "size", desc := "()F" } : Jvm.MethodName) prog_8_method_3_code (1 : Nat) (Option.some Jvm.ClassFile.FieldType.float)) ∈ lw_all := lw_g (lw_at lw_m1 129 rfl) rfl
theorem q171 : (Jvm.Cond.methodLink "OrderJudge$Point" (27 : Nat) ({ cls := "java/lang/Math", name := "abs", desc := "(F)F" } : Jvm.MethodName)) ∈ lw_all := lw_g (lw_at lw_m1 130 rfl) rfl
theorem q181 : (Jvm.Cond.methodLink "OrderJudge$Point" (33 : Nat) ({ cls := "java/lang/Math", name := "max", desc := "(FF)F" } : Jvm.MethodName)) ∈ lw_all := lw_g (lw_at lw_m1 140 rfl) rfl
theorem q232 : (Jvm.Cond.instanceMethod ({ cls := "OrderJudge$Point", name := "along", desc := "(LOrderJudge$Point;LOrderJudge$Point;)J" } : Jvm.MethodName)) ∈ lw_all := lw_g (lw_at lw_m1 191 rfl) rfl
theorem q233 : (Jvm.Cond.selects "OrderJudge$Point" ({ cls := "OrderJudge$Point", name := "along", desc := "(LOrderJudge$Point;LOrderJudge$Point;)J" } : Jvm.MethodName) ({ cls := "OrderJudge$Point", name := "along", desc := "(LOrderJudge$Point;LOrderJudge$Point;)J" } : Jvm.MethodName)) ∈ lw_all := lw_g (lw_at lw_m1 192 rfl) rfl
theorem q234 : (Jvm.Cond.code ({ cls := "OrderJudge$Point", name := "along", desc := "(LOrderJudge$Point;LOrderJudge$Point;)J" } : Jvm.MethodName) prog_8_method_5_code (3 : Nat) (Option.some Jvm.ClassFile.FieldType.long)) ∈ lw_all := lw_g (lw_at lw_m1 193 rfl) rfl
theorem q322 : (Jvm.Cond.instanceMethod ({ cls := "OrderJudge$Point", name := "far", desc := "(LOrderJudge$Point;)J" } : Jvm.MethodName)) ∈ lw_all := lw_g (lw_at lw_m2 41 rfl) rfl
theorem q323 : (Jvm.Cond.selects "OrderJudge$Point" ({ cls := "OrderJudge$Point", name := "far", desc := "(LOrderJudge$Point;)J" } : Jvm.MethodName) ({ cls := "OrderJudge$Point", name := "far", desc := "(LOrderJudge$Point;)J" } : Jvm.MethodName)) ∈ lw_all := lw_g (lw_at lw_m2 42 rfl) rfl
theorem q324 : (Jvm.Cond.code ({ cls := "OrderJudge$Point", name := "far", desc := "(LOrderJudge$Point;)J" } : Jvm.MethodName) prog_8_method_4_code (6 : Nat) (Option.some Jvm.ClassFile.FieldType.long)) ∈ lw_all := lw_g (lw_at lw_m2 43 rfl) rfl
theorem q53 : (Jvm.Cond.initialized "OrderJudge$Filter") ∈ lw_all := lw_g (lw_at lw_m1 12 rfl) rfl
theorem q134 : (Jvm.Cond.fieldLinkNest "OrderJudge$Filter" (23 : Nat) "OrderJudge$Point" "fx" "F" "OrderJudge") ∈ lw_tbl := lw_at lw_m1 93 rfl
theorem q136 : (Jvm.Cond.fieldLinkNest "OrderJudge$Filter" (27 : Nat) "OrderJudge$Point" "fy" "F" "OrderJudge") ∈ lw_tbl := lw_at lw_m1 95 rfl
theorem q165 : (Jvm.Cond.static ({ cls := "OrderJudge$Filter", name := "turn", desc := "(LOrderJudge$Point;LOrderJudge$Point;LOrderJudge$Point;)I" } : Jvm.MethodName)) ∈ lw_all := lw_g (lw_at lw_m1 124 rfl) rfl
theorem q166 : (Jvm.Cond.code ({ cls := "OrderJudge$Filter", name := "turn", desc := "(LOrderJudge$Point;LOrderJudge$Point;LOrderJudge$Point;)I" } : Jvm.MethodName) prog_5_method_3_code (4 : Nat) (Option.some Jvm.ClassFile.FieldType.int)) ∈ lw_all := lw_g (lw_at lw_m1 125 rfl) rfl
theorem q167 : (Jvm.Cond.methodLink "OrderJudge$Filter" (13 : Nat) ({ cls := "OrderJudge$Point", name := "size", desc := "()F" } : Jvm.MethodName)) ∈ lw_all := lw_g (lw_at lw_m1 126 rfl) rfl
theorem q186 : (Jvm.Cond.methodLink "OrderJudge$Filter" (19 : Nat) ({ cls := "java/lang/Math", name := "max", desc := "(FF)F" } : Jvm.MethodName)) ∈ lw_all := lw_g (lw_at lw_m1 145 rfl) rfl
theorem q187 : (Jvm.Cond.constantFloat "OrderJudge$Filter" (32 : Nat) (914358272 : UInt32)) ∈ lw_all := lw_g (lw_at lw_m1 146 rfl) rfl
theorem q188 : (Jvm.Cond.methodLink "OrderJudge$Filter" (33 : Nat) ({ cls := "OrderJudge$Filter", name := "decided", desc := "(FF)I" } : Jvm.MethodName)) ∈ lw_all := lw_g (lw_at lw_m1 147 rfl) rfl
theorem q189 : (Jvm.Cond.static ({ cls := "OrderJudge$Filter", name := "decided", desc := "(FF)I" } : Jvm.MethodName)) ∈ lw_all := lw_g (lw_at lw_m1 148 rfl) rfl
theorem q190 : (Jvm.Cond.code ({ cls := "OrderJudge$Filter", name := "decided", desc := "(FF)I" } : Jvm.MethodName) prog_5_method_2_code (2 : Nat) (Option.some Jvm.ClassFile.FieldType.int)) ∈ lw_all := lw_g (lw_at lw_m1 149 rfl) rfl
theorem q191 : (Jvm.Cond.methodLink "OrderJudge$Filter" (7 : Nat) ({ cls := "java/lang/Math", name := "abs", desc := "(F)F" } : Jvm.MethodName)) ∈ lw_all := lw_g (lw_at lw_m1 150 rfl) rfl
theorem q210 : (Jvm.Cond.static ({ cls := "OrderJudge$Filter", name := "ring", desc := "(LOrderJudge$Point;LOrderJudge$Point;LOrderJudge$Point;LOrderJudge$Point;)I" } : Jvm.MethodName)) ∈ lw_all := lw_g (lw_at lw_m1 169 rfl) rfl
theorem q211 : (Jvm.Cond.code ({ cls := "OrderJudge$Filter", name := "ring", desc := "(LOrderJudge$Point;LOrderJudge$Point;LOrderJudge$Point;LOrderJudge$Point;)I" } : Jvm.MethodName) prog_5_method_4_code (15 : Nat) (Option.some Jvm.ClassFile.FieldType.int)) ∈ lw_all := lw_g (lw_at lw_m1 170 rfl) rfl
theorem q212 : (Jvm.Cond.constantFloat "OrderJudge$Filter" (37 : Nat) (964689920 : UInt32)) ∈ lw_all := lw_g (lw_at lw_m1 171 rfl) rfl
theorem q56 : (Jvm.Cond.initialized "OrderJudge$Edges") ∈ lw_all := lw_g (lw_at lw_m1 15 rfl) rfl
theorem q76 : (Jvm.Cond.fieldLinkNest "OrderJudge$Edges" (13 : Nat) "OrderJudge" "row" "[LOrderJudge$Point;" "OrderJudge") ∈ lw_tbl := lw_at lw_m1 35 rfl
theorem q131 : (Jvm.Cond.fieldLinkNest "OrderJudge$Edges" (39 : Nat) "OrderJudge$Point" "y" "I" "OrderJudge") ∈ lw_tbl := lw_at lw_m1 90 rfl
theorem q285 : (Jvm.Cond.instantiable "OrderJudge$Edges" (4 : Nat)) ∈ lw_all := lw_g (lw_at lw_m2 4 rfl) rfl
theorem q287 : (Jvm.Cond.instanceMethod ({ cls := "OrderJudge$Edges", name := "<init>", desc := "(LOrderJudge;)V" } : Jvm.MethodName)) ∈ lw_all := lw_g (lw_at lw_m2 6 rfl) rfl
theorem q288 : (Jvm.Cond.code ({ cls := "OrderJudge$Edges", name := "<init>", desc := "(LOrderJudge;)V" } : Jvm.MethodName) prog_4_method_1_code (2 : Nat) (Option.none : Option Jvm.ClassFile.FieldType)) ∈ lw_all := lw_g (lw_at lw_m2 7 rfl) rfl
theorem q289 : (Jvm.Cond.methodLink "OrderJudge$Edges" (7 : Nat) ({ cls := "java/lang/Object", name := "<init>", desc := "()V" } : Jvm.MethodName)) ∈ lw_all := lw_g (lw_at lw_m2 8 rfl) rfl
theorem q290 : (Jvm.Cond.fieldLink "OrderJudge$Edges" (35 : Nat) "OrderJudge$Edges" "rises" "I") ∈ lw_all := lw_g (lw_at lw_m2 9 rfl) rfl
theorem q292 : (Jvm.Cond.fieldLink "OrderJudge$Edges" (44 : Nat) "OrderJudge$Edges" "falls" "I") ∈ lw_all := lw_g (lw_at lw_m2 11 rfl) rfl
theorem q294 : (Jvm.Cond.fieldLink "OrderJudge$Edges" (23 : Nat) "OrderJudge$Edges" "isOn" "Z") ∈ lw_all := lw_g (lw_at lw_m2 13 rfl) rfl
theorem q296 : (Jvm.Cond.fieldLink "OrderJudge$Edges" (1 : Nat) "OrderJudge$Edges" "this$0" "LOrderJudge;") ∈ lw_all := lw_g (lw_at lw_m2 15 rfl) rfl
theorem q297 : (Jvm.Cond.lays "OrderJudge$Edges" "OrderJudge$Edges" "rises" "I") ∈ lw_all := lw_g (lw_at lw_m2 16 rfl) rfl
theorem q298 : (Jvm.Cond.soleField "OrderJudge$Edges" "rises") ∈ lw_all := lw_g (lw_at lw_m2 17 rfl) rfl
theorem q299 : (Jvm.Cond.lays "OrderJudge$Edges" "OrderJudge$Edges" "falls" "I") ∈ lw_all := lw_g (lw_at lw_m2 18 rfl) rfl
theorem q300 : (Jvm.Cond.soleField "OrderJudge$Edges" "falls") ∈ lw_all := lw_g (lw_at lw_m2 19 rfl) rfl
theorem q301 : (Jvm.Cond.lays "OrderJudge$Edges" "OrderJudge$Edges" "isOn" "Z") ∈ lw_all := lw_g (lw_at lw_m2 20 rfl) rfl
theorem q302 : (Jvm.Cond.soleField "OrderJudge$Edges" "isOn") ∈ lw_all := lw_g (lw_at lw_m2 21 rfl) rfl
theorem q303 : (Jvm.Cond.laysFinal "OrderJudge$Edges" "OrderJudge$Edges" "this$0" "LOrderJudge;") ∈ lw_all := lw_g (lw_at lw_m2 22 rfl) rfl
theorem q304 : (Jvm.Cond.soleField "OrderJudge$Edges" "this$0") ∈ lw_all := lw_g (lw_at lw_m2 23 rfl) rfl
theorem q305 : (Jvm.Cond.superclass "OrderJudge$Edges" "java/lang/Object") ∈ lw_all := lw_g (lw_at lw_m2 24 rfl) rfl
theorem q307 : (Jvm.Cond.instanceMethod ({ cls := "OrderJudge$Edges", name := "of", desc := "(ILOrderJudge$Point;)LOrderJudge$Edges;" } : Jvm.MethodName)) ∈ lw_all := lw_g (lw_at lw_m2 26 rfl) rfl
theorem q308 : (Jvm.Cond.selects "OrderJudge$Edges" ({ cls := "OrderJudge$Edges", name := "of", desc := "(ILOrderJudge$Point;)LOrderJudge$Edges;" } : Jvm.MethodName) ({ cls := "OrderJudge$Edges", name := "of", desc := "(ILOrderJudge$Point;)LOrderJudge$Edges;" } : Jvm.MethodName)) ∈ lw_all := lw_g (lw_at lw_m2 27 rfl) rfl
theorem q309 : (Jvm.Cond.code ({ cls := "OrderJudge$Edges", name := "of", desc := "(ILOrderJudge$Point;)LOrderJudge$Edges;" } : Jvm.MethodName) prog_4_method_2_code (7 : Nat) (Option.some (Jvm.ClassFile.FieldType.object "OrderJudge$Edges"))) ∈ lw_all := lw_g (lw_at lw_m2 28 rfl) rfl
theorem q310 : (Jvm.Cond.methodLinkNest "OrderJudge$Edges" (19 : Nat) ({ cls := "OrderJudge", name := "next", desc := "(II)LOrderJudge$Point;" } : Jvm.MethodName) "OrderJudge") ∈ lw_tbl := lw_at lw_m2 29 rfl
theorem q311 : (Jvm.Cond.methodLinkNest "OrderJudge$Edges" (27 : Nat) ({ cls := "OrderJudge", name := "isOnWay", desc := "(LOrderJudge$Point;LOrderJudge$Point;LOrderJudge$Point;)Z" } : Jvm.MethodName) "OrderJudge") ∈ lw_tbl := lw_at lw_m2 30 rfl
theorem q312 : (Jvm.Cond.methodLinkNest "OrderJudge$Edges" (31 : Nat) ({ cls := "OrderJudge", name := "turn", desc := "(LOrderJudge$Point;LOrderJudge$Point;LOrderJudge$Point;)I" } : Jvm.MethodName) "OrderJudge") ∈ lw_tbl := lw_at lw_m2 31 rfl
theorem q57 : (Jvm.Cond.initialized "OrderJudge$Round") ∈ lw_all := lw_g (lw_at lw_m1 16 rfl) rfl
theorem q125 : (Jvm.Cond.fieldLinkNest "OrderJudge$Round" (23 : Nat) "OrderJudge$Point" "x" "I" "OrderJudge") ∈ lw_tbl := lw_at lw_m1 84 rfl
theorem q129 : (Jvm.Cond.fieldLinkNest "OrderJudge$Round" (19 : Nat) "OrderJudge$Point" "y" "I" "OrderJudge") ∈ lw_tbl := lw_at lw_m1 88 rfl
theorem q333 : (Jvm.Cond.instantiable "OrderJudge$Round" (1 : Nat)) ∈ lw_all := lw_g (lw_at lw_m2 52 rfl) rfl
theorem q335 : (Jvm.Cond.instanceMethod ({ cls := "OrderJudge$Round", name := "<init>", desc := "(LOrderJudge$Point;)V" } : Jvm.MethodName)) ∈ lw_all := lw_g (lw_at lw_m2 54 rfl) rfl
theorem q336 : (Jvm.Cond.code ({ cls := "OrderJudge$Round", name := "<init>", desc := "(LOrderJudge$Point;)V" } : Jvm.MethodName) prog_9_method_1_code (2 : Nat) (Option.none : Option Jvm.ClassFile.FieldType)) ∈ lw_all := lw_g (lw_at lw_m2 55 rfl) rfl
theorem q337 : (Jvm.Cond.methodLink "OrderJudge$Round" (1 : Nat) ({ cls := "java/lang/Object", name := "<init>", desc := "()V" } : Jvm.MethodName)) ∈ lw_all := lw_g (lw_at lw_m2 56 rfl) rfl
theorem q338 : (Jvm.Cond.fieldLink "OrderJudge$Round" (7 : Nat) "OrderJudge$Round" "centre" "LOrderJudge$Point;") ∈ lw_all := lw_g (lw_at lw_m2 57 rfl) rfl
theorem q339 : (Jvm.Cond.laysFinal "OrderJudge$Round" "OrderJudge$Round" "centre" "LOrderJudge$Point;") ∈ lw_all := lw_g (lw_at lw_m2 58 rfl) rfl
theorem q340 : (Jvm.Cond.soleField "OrderJudge$Round" "centre") ∈ lw_all := lw_g (lw_at lw_m2 59 rfl) rfl
theorem q341 : (Jvm.Cond.superclass "OrderJudge$Round" "java/lang/Object") ∈ lw_all := lw_g (lw_at lw_m2 60 rfl) rfl
theorem q364 : (Jvm.Cond.castable "OrderJudge$Round" "OrderJudge$Order") ∈ lw_tbl := lw_at lw_m2 83 rfl
theorem q365 : (Jvm.Cond.selects "OrderJudge$Round" ({ cls := "OrderJudge$Order", name := "compare", desc := "(LOrderJudge$Point;LOrderJudge$Point;)J" } : Jvm.MethodName) ({ cls := "OrderJudge$Round", name := "compare", desc := "(LOrderJudge$Point;LOrderJudge$Point;)J" } : Jvm.MethodName)) ∈ lw_all := lw_g (lw_at lw_m2 84 rfl) rfl
theorem q366 : (Jvm.Cond.unhidden "OrderJudge$Round" "compare" "(LOrderJudge$Point;LOrderJudge$Point;)J") ∈ lw_tbl := lw_at lw_m2 85 rfl
theorem q367 : (Jvm.Cond.instanceMethod ({ cls := "OrderJudge$Round", name := "compare", desc := "(LOrderJudge$Point;LOrderJudge$Point;)J" } : Jvm.MethodName)) ∈ lw_all := lw_g (lw_at lw_m2 86 rfl) rfl
theorem q368 : (Jvm.Cond.publicMethod ({ cls := "OrderJudge$Round", name := "compare", desc := "(LOrderJudge$Point;LOrderJudge$Point;)J" } : Jvm.MethodName)) ∈ lw_tbl := lw_at lw_m2 87 rfl
theorem q369 : (Jvm.Cond.code ({ cls := "OrderJudge$Round", name := "compare", desc := "(LOrderJudge$Point;LOrderJudge$Point;)J" } : Jvm.MethodName) prog_9_method_3_code (5 : Nat) (Option.some Jvm.ClassFile.FieldType.long)) ∈ lw_all := lw_g (lw_at lw_m2 88 rfl) rfl
theorem q370 : (Jvm.Cond.methodLink "OrderJudge$Round" (26 : Nat) ({ cls := "OrderJudge$Round", name := "half", desc := "(LOrderJudge$Point;)I" } : Jvm.MethodName)) ∈ lw_all := lw_g (lw_at lw_m2 89 rfl) rfl
theorem q371 : (Jvm.Cond.privateMethod ({ cls := "OrderJudge$Round", name := "half", desc := "(LOrderJudge$Point;)I" } : Jvm.MethodName)) ∈ lw_tbl := lw_at lw_m2 90 rfl
theorem q372 : (Jvm.Cond.instanceMethod ({ cls := "OrderJudge$Round", name := "half", desc := "(LOrderJudge$Point;)I" } : Jvm.MethodName)) ∈ lw_all := lw_g (lw_at lw_m2 91 rfl) rfl
theorem q373 : (Jvm.Cond.code ({ cls := "OrderJudge$Round", name := "half", desc := "(LOrderJudge$Point;)I" } : Jvm.MethodName) prog_9_method_2_code (2 : Nat) (Option.some Jvm.ClassFile.FieldType.int)) ∈ lw_all := lw_g (lw_at lw_m2 92 rfl) rfl
theorem q374 : (Jvm.Cond.methodLink "OrderJudge$Round" (13 : Nat) ({ cls := "OrderJudge$Point", name := "isEqual", desc := "(LOrderJudge$Point;)Z" } : Jvm.MethodName)) ∈ lw_all := lw_g (lw_at lw_m2 93 rfl) rfl
theorem q375 : (Jvm.Cond.methodLinkNest "OrderJudge$Round" (30 : Nat) ({ cls := "OrderJudge", name := "turn", desc := "(LOrderJudge$Point;LOrderJudge$Point;LOrderJudge$Point;)I" } : Jvm.MethodName) "OrderJudge") ∈ lw_tbl := lw_at lw_m2 94 rfl
theorem q376 : (Jvm.Cond.methodLink "OrderJudge$Round" (36 : Nat) ({ cls := "OrderJudge$Point", name := "far", desc := "(LOrderJudge$Point;)J" } : Jvm.MethodName)) ∈ lw_all := lw_g (lw_at lw_m2 95 rfl) rfl
theorem q377 : (Jvm.Cond.unhidden "OrderJudge$Round" "isAhead" "(LOrderJudge$Point;ILOrderJudge$Point;I)Z") ∈ lw_tbl := lw_at lw_m2 96 rfl
theorem q58 : (Jvm.Cond.initialized "OrderJudge$Across") ∈ lw_all := lw_g (lw_at lw_m1 17 rfl) rfl
theorem q124 : (Jvm.Cond.fieldLinkNest "OrderJudge$Across" (7 : Nat) "OrderJudge$Point" "x" "I" "OrderJudge") ∈ lw_tbl := lw_at lw_m1 83 rfl
theorem q130 : (Jvm.Cond.fieldLinkNest "OrderJudge$Across" (13 : Nat) "OrderJudge$Point" "y" "I" "OrderJudge") ∈ lw_tbl := lw_at lw_m1 89 rfl
theorem q350 : (Jvm.Cond.castable "OrderJudge$Across" "OrderJudge$Order") ∈ lw_tbl := lw_at lw_m2 69 rfl
theorem q351 : (Jvm.Cond.unhidden "OrderJudge$Across" "isAhead" "(LOrderJudge$Point;ILOrderJudge$Point;I)Z") ∈ lw_tbl := lw_at lw_m2 70 rfl
theorem q359 : (Jvm.Cond.selects "OrderJudge$Across" ({ cls := "OrderJudge$Order", name := "compare", desc := "(LOrderJudge$Point;LOrderJudge$Point;)J" } : Jvm.MethodName) ({ cls := "OrderJudge$Across", name := "compare", desc := "(LOrderJudge$Point;LOrderJudge$Point;)J" } : Jvm.MethodName)) ∈ lw_all := lw_g (lw_at lw_m2 78 rfl) rfl
theorem q360 : (Jvm.Cond.unhidden "OrderJudge$Across" "compare" "(LOrderJudge$Point;LOrderJudge$Point;)J") ∈ lw_tbl := lw_at lw_m2 79 rfl
theorem q361 : (Jvm.Cond.instanceMethod ({ cls := "OrderJudge$Across", name := "compare", desc := "(LOrderJudge$Point;LOrderJudge$Point;)J" } : Jvm.MethodName)) ∈ lw_all := lw_g (lw_at lw_m2 80 rfl) rfl
theorem q362 : (Jvm.Cond.publicMethod ({ cls := "OrderJudge$Across", name := "compare", desc := "(LOrderJudge$Point;LOrderJudge$Point;)J" } : Jvm.MethodName)) ∈ lw_tbl := lw_at lw_m2 81 rfl
theorem q363 : (Jvm.Cond.code ({ cls := "OrderJudge$Across", name := "compare", desc := "(LOrderJudge$Point;LOrderJudge$Point;)J" } : Jvm.MethodName) prog_2_method_2_code (3 : Nat) (Option.some Jvm.ClassFile.FieldType.long)) ∈ lw_all := lw_g (lw_at lw_m2 82 rfl) rfl
theorem q383 : (Jvm.Cond.instantiable "OrderJudge$Across" (0 : Nat)) ∈ lw_all := lw_g (lw_at lw_m2 102 rfl) rfl
theorem q385 : (Jvm.Cond.instanceMethod ({ cls := "OrderJudge$Across", name := "<init>", desc := "()V" } : Jvm.MethodName)) ∈ lw_all := lw_g (lw_at lw_m2 104 rfl) rfl
theorem q386 : (Jvm.Cond.code ({ cls := "OrderJudge$Across", name := "<init>", desc := "()V" } : Jvm.MethodName) prog_2_method_1_code (1 : Nat) (Option.none : Option Jvm.ClassFile.FieldType)) ∈ lw_all := lw_g (lw_at lw_m2 105 rfl) rfl
theorem q387 : (Jvm.Cond.methodLink "OrderJudge$Across" (1 : Nat) ({ cls := "java/lang/Object", name := "<init>", desc := "()V" } : Jvm.MethodName)) ∈ lw_all := lw_g (lw_at lw_m2 106 rfl) rfl
theorem q388 : (Jvm.Cond.superclass "OrderJudge$Across" "java/lang/Object") ∈ lw_all := lw_g (lw_at lw_m2 107 rfl) rfl
theorem q60 : (Jvm.Cond.initialized "OrderJudge$Line") ∈ lw_all := lw_g (lw_at lw_m1 19 rfl) rfl
theorem q123 : (Jvm.Cond.fieldLinkNest "OrderJudge$Line" (19 : Nat) "OrderJudge$Point" "x" "I" "OrderJudge") ∈ lw_tbl := lw_at lw_m1 82 rfl
theorem q127 : (Jvm.Cond.fieldLinkNest "OrderJudge$Line" (7 : Nat) "OrderJudge$Point" "y" "I" "OrderJudge") ∈ lw_tbl := lw_at lw_m1 86 rfl
theorem q393 : (Jvm.Cond.instantiable "OrderJudge$Line" (3 : Nat)) ∈ lw_all := lw_g (lw_at lw_m2 112 rfl) rfl
theorem q395 : (Jvm.Cond.instanceMethod ({ cls := "OrderJudge$Line", name := "<init>", desc := "(LOrderJudge$Point;LOrderJudge$Point;)V" } : Jvm.MethodName)) ∈ lw_all := lw_g (lw_at lw_m2 114 rfl) rfl
theorem q396 : (Jvm.Cond.code ({ cls := "OrderJudge$Line", name := "<init>", desc := "(LOrderJudge$Point;LOrderJudge$Point;)V" } : Jvm.MethodName) prog_6_method_1_code (3 : Nat) (Option.none : Option Jvm.ClassFile.FieldType)) ∈ lw_all := lw_g (lw_at lw_m2 115 rfl) rfl
theorem q397 : (Jvm.Cond.methodLink "OrderJudge$Line" (1 : Nat) ({ cls := "java/lang/Object", name := "<init>", desc := "()V" } : Jvm.MethodName)) ∈ lw_all := lw_g (lw_at lw_m2 116 rfl) rfl
theorem q398 : (Jvm.Cond.fieldLink "OrderJudge$Line" (13 : Nat) "OrderJudge$Line" "a" "J") ∈ lw_all := lw_g (lw_at lw_m2 117 rfl) rfl
theorem q399 : (Jvm.Cond.fieldLink "OrderJudge$Line" (22 : Nat) "OrderJudge$Line" "b" "J") ∈ lw_all := lw_g (lw_at lw_m2 118 rfl) rfl
theorem q400 : (Jvm.Cond.fieldLink "OrderJudge$Line" (25 : Nat) "OrderJudge$Line" "c" "J") ∈ lw_all := lw_g (lw_at lw_m2 119 rfl) rfl
theorem q401 : (Jvm.Cond.laysFinal "OrderJudge$Line" "OrderJudge$Line" "a" "J") ∈ lw_all := lw_g (lw_at lw_m2 120 rfl) rfl
theorem q402 : (Jvm.Cond.soleField "OrderJudge$Line" "a") ∈ lw_all := lw_g (lw_at lw_m2 121 rfl) rfl
theorem q403 : (Jvm.Cond.laysFinal "OrderJudge$Line" "OrderJudge$Line" "b" "J") ∈ lw_all := lw_g (lw_at lw_m2 122 rfl) rfl
theorem q404 : (Jvm.Cond.soleField "OrderJudge$Line" "b") ∈ lw_all := lw_g (lw_at lw_m2 123 rfl) rfl
theorem q405 : (Jvm.Cond.laysFinal "OrderJudge$Line" "OrderJudge$Line" "c" "J") ∈ lw_all := lw_g (lw_at lw_m2 124 rfl) rfl
theorem q406 : (Jvm.Cond.soleField "OrderJudge$Line" "c") ∈ lw_all := lw_g (lw_at lw_m2 125 rfl) rfl
theorem q407 : (Jvm.Cond.superclass "OrderJudge$Line" "java/lang/Object") ∈ lw_all := lw_g (lw_at lw_m2 126 rfl) rfl
theorem q421 : (Jvm.Cond.instanceMethod ({ cls := "OrderJudge$Line", name := "isSame", desc := "(LOrderJudge$Line;)Z" } : Jvm.MethodName)) ∈ lw_all := lw_g (lw_at lw_m2 140 rfl) rfl
theorem q422 : (Jvm.Cond.selects "OrderJudge$Line" ({ cls := "OrderJudge$Line", name := "isSame", desc := "(LOrderJudge$Line;)Z" } : Jvm.MethodName) ({ cls := "OrderJudge$Line", name := "isSame", desc := "(LOrderJudge$Line;)Z" } : Jvm.MethodName)) ∈ lw_all := lw_g (lw_at lw_m2 141 rfl) rfl
theorem q423 : (Jvm.Cond.code ({ cls := "OrderJudge$Line", name := "isSame", desc := "(LOrderJudge$Line;)Z" } : Jvm.MethodName) prog_6_method_3_code (2 : Nat) (Option.some Jvm.ClassFile.FieldType.boolean)) ∈ lw_all := lw_g (lw_at lw_m2 142 rfl) rfl
theorem q424 : (Jvm.Cond.methodLink "OrderJudge$Line" (28 : Nat) ({ cls := "OrderJudge$Line", name := "isParallel", desc := "(LOrderJudge$Line;)Z" } : Jvm.MethodName)) ∈ lw_all := lw_g (lw_at lw_m2 143 rfl) rfl
theorem q425 : (Jvm.Cond.instanceMethod ({ cls := "OrderJudge$Line", name := "isParallel", desc := "(LOrderJudge$Line;)Z" } : Jvm.MethodName)) ∈ lw_all := lw_g (lw_at lw_m2 144 rfl) rfl
theorem q426 : (Jvm.Cond.selects "OrderJudge$Line" ({ cls := "OrderJudge$Line", name := "isParallel", desc := "(LOrderJudge$Line;)Z" } : Jvm.MethodName) ({ cls := "OrderJudge$Line", name := "isParallel", desc := "(LOrderJudge$Line;)Z" } : Jvm.MethodName)) ∈ lw_all := lw_g (lw_at lw_m2 145 rfl) rfl
theorem q427 : (Jvm.Cond.code ({ cls := "OrderJudge$Line", name := "isParallel", desc := "(LOrderJudge$Line;)Z" } : Jvm.MethodName) prog_6_method_2_code (2 : Nat) (Option.some Jvm.ClassFile.FieldType.boolean)) ∈ lw_all := lw_g (lw_at lw_m2 146 rfl) rfl
theorem q438 : (Jvm.Cond.instanceMethod ({ cls := "OrderJudge$Line", name := "goesBy", desc := "(LOrderJudge$Line;LOrderJudge$Line;)Z" } : Jvm.MethodName)) ∈ lw_all := lw_g (lw_at lw_m2 157 rfl) rfl
theorem q439 : (Jvm.Cond.selects "OrderJudge$Line" ({ cls := "OrderJudge$Line", name := "goesBy", desc := "(LOrderJudge$Line;LOrderJudge$Line;)Z" } : Jvm.MethodName) ({ cls := "OrderJudge$Line", name := "goesBy", desc := "(LOrderJudge$Line;LOrderJudge$Line;)Z" } : Jvm.MethodName)) ∈ lw_all := lw_g (lw_at lw_m2 158 rfl) rfl
theorem q440 : (Jvm.Cond.code ({ cls := "OrderJudge$Line", name := "goesBy", desc := "(LOrderJudge$Line;LOrderJudge$Line;)Z" } : Jvm.MethodName) prog_6_method_4_code (3 : Nat) (Option.some Jvm.ClassFile.FieldType.boolean)) ∈ lw_all := lw_g (lw_at lw_m2 159 rfl) rfl
theorem q61 : (Jvm.Cond.initialized "OrderJudge$Arrangement") ∈ lw_all := lw_g (lw_at lw_m1 20 rfl) rfl
theorem q83 : (Jvm.Cond.fieldLinkNest "OrderJudge$Arrangement" (28 : Nat) "OrderJudge" "line" "[LOrderJudge$Line;" "OrderJudge") ∈ lw_tbl := lw_at lw_m1 42 rfl
theorem q414 : (Jvm.Cond.instantiable "OrderJudge$Arrangement" (6 : Nat)) ∈ lw_all := lw_g (lw_at lw_m2 133 rfl) rfl
theorem q416 : (Jvm.Cond.instanceMethod ({ cls := "OrderJudge$Arrangement", name := "<init>", desc := "(LOrderJudge;I)V" } : Jvm.MethodName)) ∈ lw_all := lw_g (lw_at lw_m2 135 rfl) rfl
theorem q417 : (Jvm.Cond.code ({ cls := "OrderJudge$Arrangement", name := "<init>", desc := "(LOrderJudge;I)V" } : Jvm.MethodName) prog_3_method_1_code (6 : Nat) (Option.none : Option Jvm.ClassFile.FieldType)) ∈ lw_all := lw_g (lw_at lw_m2 136 rfl) rfl
theorem q418 : (Jvm.Cond.methodLink "OrderJudge$Arrangement" (9 : Nat) ({ cls := "java/lang/Object", name := "<init>", desc := "()V" } : Jvm.MethodName)) ∈ lw_all := lw_g (lw_at lw_m2 137 rfl) rfl
theorem q419 : (Jvm.Cond.classLink "OrderJudge$Arrangement" (15 : Nat) "OrderJudge$Line") ∈ lw_all := lw_g (lw_at lw_m2 138 rfl) rfl
theorem q420 : (Jvm.Cond.methodLink "OrderJudge$Arrangement" (31 : Nat) ({ cls := "OrderJudge$Line", name := "isSame", desc := "(LOrderJudge$Line;)Z" } : Jvm.MethodName)) ∈ lw_all := lw_g (lw_at lw_m2 139 rfl) rfl
theorem q428 : (Jvm.Cond.methodLink "OrderJudge$Arrangement" (35 : Nat) ({ cls := "OrderJudge$Arrangement", name := "add", desc := "(LOrderJudge$Line;)V" } : Jvm.MethodName)) ∈ lw_all := lw_g (lw_at lw_m2 147 rfl) rfl
theorem q429 : (Jvm.Cond.privateMethod ({ cls := "OrderJudge$Arrangement", name := "add", desc := "(LOrderJudge$Line;)V" } : Jvm.MethodName)) ∈ lw_tbl := lw_at lw_m2 148 rfl
theorem q430 : (Jvm.Cond.instanceMethod ({ cls := "OrderJudge$Arrangement", name := "add", desc := "(LOrderJudge$Line;)V" } : Jvm.MethodName)) ∈ lw_all := lw_g (lw_at lw_m2 149 rfl) rfl
theorem q431 : (Jvm.Cond.code ({ cls := "OrderJudge$Arrangement", name := "add", desc := "(LOrderJudge$Line;)V" } : Jvm.MethodName) prog_3_method_3_code (6 : Nat) (Option.none : Option Jvm.ClassFile.FieldType)) ∈ lw_all := lw_g (lw_at lw_m2 150 rfl) rfl
theorem q432 : (Jvm.Cond.methodLink "OrderJudge$Arrangement" (43 : Nat) ({ cls := "OrderJudge$Line", name := "isParallel", desc := "(LOrderJudge$Line;)Z" } : Jvm.MethodName)) ∈ lw_all := lw_g (lw_at lw_m2 151 rfl) rfl
theorem q433 : (Jvm.Cond.methodLink "OrderJudge$Arrangement" (46 : Nat) ({ cls := "OrderJudge$Arrangement", name := "through", desc := "(LOrderJudge$Line;LOrderJudge$Line;I)I" } : Jvm.MethodName)) ∈ lw_all := lw_g (lw_at lw_m2 152 rfl) rfl
theorem q434 : (Jvm.Cond.privateMethod ({ cls := "OrderJudge$Arrangement", name := "through", desc := "(LOrderJudge$Line;LOrderJudge$Line;I)I" } : Jvm.MethodName)) ∈ lw_tbl := lw_at lw_m2 153 rfl
theorem q435 : (Jvm.Cond.instanceMethod ({ cls := "OrderJudge$Arrangement", name := "through", desc := "(LOrderJudge$Line;LOrderJudge$Line;I)I" } : Jvm.MethodName)) ∈ lw_all := lw_g (lw_at lw_m2 154 rfl) rfl
theorem q436 : (Jvm.Cond.code ({ cls := "OrderJudge$Arrangement", name := "through", desc := "(LOrderJudge$Line;LOrderJudge$Line;I)I" } : Jvm.MethodName) prog_3_method_2_code (6 : Nat) (Option.some Jvm.ClassFile.FieldType.int)) ∈ lw_all := lw_g (lw_at lw_m2 155 rfl) rfl
theorem q437 : (Jvm.Cond.methodLink "OrderJudge$Arrangement" (39 : Nat) ({ cls := "OrderJudge$Line", name := "goesBy", desc := "(LOrderJudge$Line;LOrderJudge$Line;)Z" } : Jvm.MethodName)) ∈ lw_all := lw_g (lw_at lw_m2 156 rfl) rfl
theorem q441 : (Jvm.Cond.methodLink "OrderJudge$Arrangement" (56 : Nat) ({ cls := "java/lang/Math", name := "max", desc := "(II)I" } : Jvm.MethodName)) ∈ lw_all := lw_g (lw_at lw_m2 160 rfl) rfl
theorem q444 : (Jvm.Cond.fieldLink "OrderJudge$Arrangement" (17 : Nat) "OrderJudge$Arrangement" "all" "[LOrderJudge$Line;") ∈ lw_all := lw_g (lw_at lw_m2 163 rfl) rfl
theorem q445 : (Jvm.Cond.fieldLink "OrderJudge$Arrangement" (25 : Nat) "OrderJudge$Arrangement" "different" "I") ∈ lw_all := lw_g (lw_at lw_m2 164 rfl) rfl
theorem q447 : (Jvm.Cond.fieldLink "OrderJudge$Arrangement" (50 : Nat) "OrderJudge$Arrangement" "meets" "I") ∈ lw_all := lw_g (lw_at lw_m2 166 rfl) rfl
theorem q449 : (Jvm.Cond.fieldLink "OrderJudge$Arrangement" (21 : Nat) "OrderJudge$Arrangement" "cells" "I") ∈ lw_all := lw_g (lw_at lw_m2 168 rfl) rfl
theorem q451 : (Jvm.Cond.fieldLink "OrderJudge$Arrangement" (53 : Nat) "OrderJudge$Arrangement" "most" "I") ∈ lw_all := lw_g (lw_at lw_m2 170 rfl) rfl
theorem q453 : (Jvm.Cond.fieldLink "OrderJudge$Arrangement" (3 : Nat) "OrderJudge$Arrangement" "this$0" "LOrderJudge;") ∈ lw_all := lw_g (lw_at lw_m2 172 rfl) rfl
theorem q454 : (Jvm.Cond.laysFinal "OrderJudge$Arrangement" "OrderJudge$Arrangement" "all" "[LOrderJudge$Line;") ∈ lw_all := lw_g (lw_at lw_m2 173 rfl) rfl
theorem q455 : (Jvm.Cond.soleField "OrderJudge$Arrangement" "all") ∈ lw_all := lw_g (lw_at lw_m2 174 rfl) rfl
theorem q456 : (Jvm.Cond.lays "OrderJudge$Arrangement" "OrderJudge$Arrangement" "different" "I") ∈ lw_all := lw_g (lw_at lw_m2 175 rfl) rfl
theorem q457 : (Jvm.Cond.soleField "OrderJudge$Arrangement" "different") ∈ lw_all := lw_g (lw_at lw_m2 176 rfl) rfl
theorem q458 : (Jvm.Cond.lays "OrderJudge$Arrangement" "OrderJudge$Arrangement" "meets" "I") ∈ lw_all := lw_g (lw_at lw_m2 177 rfl) rfl
theorem q459 : (Jvm.Cond.soleField "OrderJudge$Arrangement" "meets") ∈ lw_all := lw_g (lw_at lw_m2 178 rfl) rfl
theorem q460 : (Jvm.Cond.lays "OrderJudge$Arrangement" "OrderJudge$Arrangement" "cells" "I") ∈ lw_all := lw_g (lw_at lw_m2 179 rfl) rfl
theorem q461 : (Jvm.Cond.soleField "OrderJudge$Arrangement" "cells") ∈ lw_all := lw_g (lw_at lw_m2 180 rfl) rfl
theorem q462 : (Jvm.Cond.lays "OrderJudge$Arrangement" "OrderJudge$Arrangement" "most" "I") ∈ lw_all := lw_g (lw_at lw_m2 181 rfl) rfl
theorem q463 : (Jvm.Cond.soleField "OrderJudge$Arrangement" "most") ∈ lw_all := lw_g (lw_at lw_m2 182 rfl) rfl
theorem q464 : (Jvm.Cond.laysFinal "OrderJudge$Arrangement" "OrderJudge$Arrangement" "this$0" "LOrderJudge;") ∈ lw_all := lw_g (lw_at lw_m2 183 rfl) rfl
theorem q465 : (Jvm.Cond.soleField "OrderJudge$Arrangement" "this$0") ∈ lw_all := lw_g (lw_at lw_m2 184 rfl) rfl
theorem q466 : (Jvm.Cond.superclass "OrderJudge$Arrangement" "java/lang/Object") ∈ lw_all := lw_g (lw_at lw_m2 185 rfl) rfl
theorem q468 : (Jvm.Cond.instanceMethod ({ cls := "OrderJudge$Arrangement", name := "pieces", desc := "()I" } : Jvm.MethodName)) ∈ lw_all := lw_g (lw_at lw_m2 187 rfl) rfl
theorem q469 : (Jvm.Cond.selects "OrderJudge$Arrangement" ({ cls := "OrderJudge$Arrangement", name := "pieces", desc := "()I" } : Jvm.MethodName) ({ cls := "OrderJudge$Arrangement", name := "pieces", desc := "()I" } : Jvm.MethodName)) ∈ lw_all := lw_g (lw_at lw_m2 188 rfl) rfl
theorem q470 : (Jvm.Cond.code ({ cls := "OrderJudge$Arrangement", name := "pieces", desc := "()I" } : Jvm.MethodName) prog_3_method_4_code (4 : Nat) (Option.some Jvm.ClassFile.FieldType.int)) ∈ lw_all := lw_g (lw_at lw_m2 189 rfl) rfl
theorem q471 : (Jvm.Cond.methodLink "OrderJudge$Arrangement" (62 : Nat) ({ cls := "OrderJudge$Arrangement", name := "isFirstOn", desc := "(II)Z" } : Jvm.MethodName)) ∈ lw_all := lw_g (lw_at lw_m2 190 rfl) rfl
theorem q472 : (Jvm.Cond.privateMethod ({ cls := "OrderJudge$Arrangement", name := "isFirstOn", desc := "(II)Z" } : Jvm.MethodName)) ∈ lw_tbl := lw_at lw_m2 191 rfl
theorem q473 : (Jvm.Cond.instanceMethod ({ cls := "OrderJudge$Arrangement", name := "isFirstOn", desc := "(II)Z" } : Jvm.MethodName)) ∈ lw_all := lw_g (lw_at lw_m2 192 rfl) rfl
theorem q474 : (Jvm.Cond.code ({ cls := "OrderJudge$Arrangement", name := "isFirstOn", desc := "(II)Z" } : Jvm.MethodName) prog_3_method_5_code (5 : Nat) (Option.some Jvm.ClassFile.FieldType.boolean)) ∈ lw_all := lw_g (lw_at lw_m2 193 rfl) rfl
theorem q55 : (Jvm.Cond.initialized "java/lang/Float") ∈ lw_all := lw_g (lw_at lw_m1 14 rfl) rfl
theorem q175 : (Jvm.Cond.static ({ cls := "java/lang/Float", name := "floatToRawIntBits", desc := "(F)I" } : Jvm.MethodName)) ∈ lw_all := lw_g (lw_at lw_m1 134 rfl) rfl
theorem q176 : (Jvm.Cond.native ({ cls := "java/lang/Float", name := "floatToRawIntBits", desc := "(F)I" } : Jvm.MethodName)) ∈ lw_all := lw_g (lw_at lw_m1 135 rfl) rfl
theorem q179 : (Jvm.Cond.static ({ cls := "java/lang/Float", name := "intBitsToFloat", desc := "(I)F" } : Jvm.MethodName)) ∈ lw_all := lw_g (lw_at lw_m1 138 rfl) rfl
theorem q180 : (Jvm.Cond.native ({ cls := "java/lang/Float", name := "intBitsToFloat", desc := "(I)F" } : Jvm.MethodName)) ∈ lw_all := lw_g (lw_at lw_m1 139 rfl) rfl
theorem q71 : (Jvm.Cond.arrayOver (Jvm.ClassFile.FieldType.object "OrderJudge$Point")) ∈ lw_tbl := lw_at lw_m1 30 rfl
theorem q73 : (Jvm.Cond.arrayOver (Jvm.ClassFile.FieldType.object "OrderJudge$Line")) ∈ lw_tbl := lw_at lw_m1 32 rfl
theorem q562 : (Jvm.Cond.arrayClass Jvm.ClassFile.FieldType.byte) ∈ lw_all := lw_g (lw_at lw_m3 41 rfl) rfl
theorem q703 : (Jvm.Cond.arrayClass Jvm.ClassFile.FieldType.int) ∈ lw_all := lw_g (lw_at lw_m3 182 rfl) rfl
theorem q704 : (Jvm.Cond.arrayClass Jvm.ClassFile.FieldType.long) ∈ lw_all := lw_g (lw_at lw_m3 183 rfl) rfl
theorem in_X1 : ∀ w ∈ wsX10, w ∈ lw_all := lw_in wsX10 [85, 87, 89, 91, 93, 95, 97, 99, 101] (by decide +kernel) (by decide +kernel)
theorem in_X3 : ∀ w ∈ wsX30, w ∈ lw_all := lw_in wsX30 [137, 139, 141, 143, 145] (by decide +kernel) (by decide +kernel)
theorem in_X8 : ∀ w ∈ wsX80, w ∈ lw_all := lw_in wsX80 [401, 403, 405] (by decide +kernel) (by decide +kernel)
theorem in_X5 : ∀ w ∈ wsX50, w ∈ lw_all := lw_in wsX50 [297, 299, 301, 303] (by decide +kernel) (by decide +kernel)
theorem in_X6 : ∀ w ∈ wsX60, w ∈ lw_all := lw_in wsX60 [339] (by decide +kernel) (by decide +kernel)
theorem in_X9 : ∀ w ∈ wsX90, w ∈ lw_all := lw_in wsX90 [454, 456, 458, 460, 462, 464] (by decide +kernel) (by decide +kernel)
theorem in_X2 : ∀ w ∈ wsX20, w ∈ lw_all := lw_in wsX20 [674, 676, 678, 680, 682, 684, 686, 688, 690, 692, 694, 696, 698, 700] (by decide +kernel) (by decide +kernel)
theorem in_X7 : ∀ w ∈ u_ws RX7 TX7 0, w ∈ lw_all := fun w h => by simp [u_ws] at h
