def R_Tree : String := "TripleTrees$Tree"
def F_Tree : u_T := fun k => match k with
  | 0 => ("TripleTrees$Tree", "keys", "[I", true)
  | 1 => ("TripleTrees$Tree", "kids", "[I", true)
  | 2 => ("TripleTrees$Tree", "counts", "[I", true)
  | 3 => ("TripleTrees$Tree", "isLeaf", "[Z", true)
  | 4 => ("TripleTrees$Tree", "nexts", "[I", true)
  | 5 => ("TripleTrees$Tree", "sizes", "[I", true)
  | 6 => ("TripleTrees$Tree", "free", "I", false)
  | 7 => ("TripleTrees$Tree", "root", "I", false)
  | 8 => ("TripleTrees$Tree", "key", "[I", true)
  | 9 => ("TripleTrees$Tree", "up", "[I", true)
  | 10 => ("TripleTrees$Tree", "foundLeaf", "I", false)
  | _ => ("TripleTrees$Tree", "foundPlace", "I", false)
def t_Tree : Nat → FieldType := fun k => match k with
  | 0 => .array .int
  | 1 => .array .int
  | 2 => .array .int
  | 3 => .array .boolean
  | 4 => .array .int
  | 5 => .array .int
  | 6 => .int
  | 7 => .int
  | 8 => .array .int
  | 9 => .array .int
  | 10 => .int
  | _ => .int
theorem n_Tree : ∀ a, a < 12 → ∀ b, b < 12 → a ≠ b → (F_Tree a).2.1 ≠ (F_Tree b).2.1 := by decide +kernel
theorem t_Tree_ok : ∀ k, k < 12 → parseFieldDescriptor (F_Tree k).2.2.1 = some (t_Tree k) := by decide +kernel
theorem i_Tree : ∀ w ∈ u_ws R_Tree F_Tree 12, w ∈ lw_tbl := by decide +kernel
def R_Cur : String := "TripleTrees$Cursor"
def F_Cur : u_T := fun k => match k with
  | 0 => ("TripleTrees$Cursor", "open", "Z", false)
  | 1 => ("TripleTrees$Cursor", "version", "I", false)
  | 2 => ("TripleTrees$Cursor", "order", "I", false)
  | 3 => ("TripleTrees$Cursor", "told", "I", false)
  | 4 => ("TripleTrees$Cursor", "pattern", "[I", true)
  | 5 => ("TripleTrees$Cursor", "leaf", "I", false)
  | 6 => ("TripleTrees$Cursor", "place", "I", false)
  | 7 => ("TripleTrees$Cursor", "has", "Z", false)
  | _ => ("TripleTrees$Cursor", "now", "[I", true)
def t_Cur : Nat → FieldType := fun k => match k with
  | 0 => .boolean
  | 1 => .int
  | 2 => .int
  | 3 => .int
  | 4 => .array .int
  | 5 => .int
  | 6 => .int
  | 7 => .boolean
  | _ => .array .int
theorem n_Cur : ∀ a, a < 9 → ∀ b, b < 9 → a ≠ b → (F_Cur a).2.1 ≠ (F_Cur b).2.1 := by decide +kernel
theorem t_Cur_ok : ∀ k, k < 9 → parseFieldDescriptor (F_Cur k).2.2.1 = some (t_Cur k) := by decide +kernel
theorem i_Cur : ∀ w ∈ u_ws R_Cur F_Cur 9, w ∈ lw_tbl := by decide +kernel
def R_TT : String := "TripleTrees"
def F_TT : u_T := fun k => match k with
  | 0 => ("TripleTrees", "trees", "[LTripleTrees$Tree;", true)
  | 1 => ("TripleTrees", "cursors", "[LTripleTrees$Cursor;", true)
  | 2 => ("TripleTrees", "size", "I", false)
  | 3 => ("TripleTrees", "changes", "I", false)
  | 4 => ("TripleTrees", "met", "[I", true)
  | 5 => ("TripleTrees", "fars", "[I", true)
  | 6 => ("TripleTrees", "metCount", "I", false)
  | 7 => ("TripleTrees", "own", "LTripleTrees$Cursor;", true)
  | _ => ("TripleTrees", "other", "LTripleTrees$Cursor;", true)
def t_TT : Nat → FieldType := fun k => match k with
  | 0 => .array (.object "TripleTrees$Tree")
  | 1 => .array (.object "TripleTrees$Cursor")
  | 2 => .int
  | 3 => .int
  | 4 => .array .int
  | 5 => .array .int
  | 6 => .int
  | 7 => .object "TripleTrees$Cursor"
  | _ => .object "TripleTrees$Cursor"
theorem n_TT : ∀ a, a < 9 → ∀ b, b < 9 → a ≠ b → (F_TT a).2.1 ≠ (F_TT b).2.1 := by decide +kernel
theorem t_TT_ok : ∀ k, k < 9 → parseFieldDescriptor (F_TT k).2.2.1 = some (t_TT k) := by decide +kernel
theorem i_TT : ∀ w ∈ u_ws R_TT F_TT 9, w ∈ lw_tbl := by decide +kernel
def R_Mod : String := "TripleTreesModel"
def F_Mod : u_T := fun k => match k with
  | 0 => ("TripleTreesModel", "rows", "[I", true)
  | 1 => ("TripleTreesModel", "size", "I", false)
  | 2 => ("TripleTreesModel", "changes", "I", false)
  | 3 => ("TripleTreesModel", "isOpen", "[Z", true)
  | 4 => ("TripleTreesModel", "isStale", "[Z", true)
  | 5 => ("TripleTreesModel", "masks", "[I", true)
  | 6 => ("TripleTreesModel", "patterns", "[I", true)
  | 7 => ("TripleTreesModel", "places", "[I", true)
  | 8 => ("TripleTreesModel", "met", "[I", true)
  | 9 => ("TripleTreesModel", "steps", "[I", true)
  | _ => ("TripleTreesModel", "meets", "I", false)
def t_Mod : Nat → FieldType := fun k => match k with
  | 0 => .array .int
  | 1 => .int
  | 2 => .int
  | 3 => .array .boolean
  | 4 => .array .boolean
  | 5 => .array .int
  | 6 => .array .int
  | 7 => .array .int
  | 8 => .array .int
  | 9 => .array .int
  | _ => .int
theorem n_Mod : ∀ a, a < 11 → ∀ b, b < 11 → a ≠ b → (F_Mod a).2.1 ≠ (F_Mod b).2.1 := by decide +kernel
theorem t_Mod_ok : ∀ k, k < 11 → parseFieldDescriptor (F_Mod k).2.2.1 = some (t_Mod k) := by decide +kernel
theorem i_Mod : ∀ w ∈ u_ws R_Mod F_Mod 11, w ∈ lw_tbl := by decide +kernel
def R_law : String := "TripleTreesLaw"
def R_Int : String := "java/lang/Integer"
/-- the classes whose objects the worlds hold -/
abbrev kcl : List vw_C := [(R_Tree, F_Tree, 12), (R_Cur, F_Cur, 9), (R_TT, F_TT, 9), (R_Mod, F_Mod, 11)]
/-- the array classes -/
def tyA (kA : Nat → ClassId) : List (ClassId × FieldType) := [(kA 0, .int), (kA 1, .boolean), (kA 2, .object "TripleTrees$Tree"), (kA 3, .object "TripleTrees$Cursor")]
def y_TT_init : MethodName := ⟨R_TT, "<init>", "()V"⟩
abbrev b_TT_init : ByteArray := prog_1_method_1_code
def y_Cur_init : MethodName := ⟨R_Cur, "<init>", "()V"⟩
abbrev b_Cur_init : ByteArray := prog_2_method_1_code
def y_Tree_init : MethodName := ⟨R_Tree, "<init>", "()V"⟩
abbrev b_Tree_init : ByteArray := prog_3_method_1_code
def y_Tree_make : MethodName := ⟨R_Tree, "make", "(Z)I"⟩
abbrev b_Tree_make : ByteArray := prog_3_method_2_code
def y_TT_add : MethodName := ⟨R_TT, "add", "(III)I"⟩
abbrev b_TT_add : ByteArray := prog_1_method_3_code
def y_TT_tell : MethodName := ⟨R_TT, "tell", "(IIII)LTripleTrees$Tree;"⟩
abbrev b_TT_tell : ByteArray := prog_1_method_2_code
def y_Tree_tell : MethodName := ⟨R_Tree, "tell", "(III)V"⟩
abbrev b_Tree_tell : ByteArray := prog_3_method_5_code
def y_Tree_has : MethodName := ⟨R_Tree, "has", "()Z"⟩
abbrev b_Tree_has : ByteArray := prog_3_method_13_code
def y_Tree_leaf : MethodName := ⟨R_Tree, "leaf", "()I"⟩
abbrev b_Tree_leaf : ByteArray := prog_3_method_12_code
def y_Tree_way : MethodName := ⟨R_Tree, "way", "(I)I"⟩
abbrev b_Tree_way : ByteArray := prog_3_method_10_code
def y_Tree_compare : MethodName := ⟨R_Tree, "compare", "(II)I"⟩
abbrev b_Tree_compare : ByteArray := prog_3_method_7_code
def y_Tree_place : MethodName := ⟨R_Tree, "place", "(II)I"⟩
abbrev b_Tree_place : ByteArray := prog_3_method_4_code
def y_Tree_kid : MethodName := ⟨R_Tree, "kid", "(II)I"⟩
abbrev b_Tree_kid : ByteArray := prog_3_method_11_code
def y_Tree_below : MethodName := ⟨R_Tree, "below", "(I)I"⟩
abbrev b_Tree_below : ByteArray := prog_3_method_9_code
def y_Tree_add : MethodName := ⟨R_Tree, "add", "()V"⟩
abbrev b_Tree_add : ByteArray := prog_3_method_18_code
def y_Tree_addTo : MethodName := ⟨R_Tree, "addTo", "(I)I"⟩
abbrev b_Tree_addTo : ByteArray := prog_3_method_19_code
def y_Tree_open : MethodName := ⟨R_Tree, "open", "(II)V"⟩
abbrev b_Tree_open : ByteArray := prog_3_method_16_code
def y_Tree_copy : MethodName := ⟨R_Tree, "copy", "(IIII)V"⟩
abbrev b_Tree_copy : ByteArray := prog_3_method_8_code
def y_Tree_put : MethodName := ⟨R_Tree, "put", "(II[I)V"⟩
abbrev b_Tree_put : ByteArray := prog_3_method_17_code
def y_Tree_partLeaf : MethodName := ⟨R_Tree, "partLeaf", "(I)I"⟩
abbrev b_Tree_partLeaf : ByteArray := prog_3_method_20_code
def y_Tree_partNode : MethodName := ⟨R_Tree, "partNode", "(I)I"⟩
abbrev b_Tree_partNode : ByteArray := prog_3_method_21_code
def y_Tree_sum : MethodName := ⟨R_Tree, "sum", "(I)I"⟩
abbrev b_Tree_sum : ByteArray := prog_3_method_22_code
def y_TT_remove : MethodName := ⟨R_TT, "remove", "(III)Z"⟩
abbrev b_TT_remove : ByteArray := prog_1_method_4_code
def y_Tree_remove : MethodName := ⟨R_Tree, "remove", "()V"⟩
abbrev b_Tree_remove : ByteArray := prog_3_method_24_code
def y_Tree_removeFrom : MethodName := ⟨R_Tree, "removeFrom", "(I)V"⟩
abbrev b_Tree_removeFrom : ByteArray := prog_3_method_25_code
def y_Tree_shut : MethodName := ⟨R_Tree, "shut", "(II)V"⟩
abbrev b_Tree_shut : ByteArray := prog_3_method_23_code
def y_Tree_mend : MethodName := ⟨R_Tree, "mend", "(II)V"⟩
abbrev b_Tree_mend : ByteArray := prog_3_method_26_code
def y_Tree_join : MethodName := ⟨R_Tree, "join", "(IIII)V"⟩
abbrev b_Tree_join : ByteArray := prog_3_method_27_code
def y_Tree_drop : MethodName := ⟨R_Tree, "drop", "(I)V"⟩
abbrev b_Tree_drop : ByteArray := prog_3_method_3_code
def y_Tree_toRight : MethodName := ⟨R_Tree, "toRight", "(IIII)V"⟩
abbrev b_Tree_toRight : ByteArray := prog_3_method_28_code
def y_Tree_toLeft : MethodName := ⟨R_Tree, "toLeft", "(IIII)V"⟩
abbrev b_Tree_toLeft : ByteArray := prog_3_method_29_code
def y_TT_holds : MethodName := ⟨R_TT, "holds", "(III)Z"⟩
abbrev b_TT_holds : ByteArray := prog_1_method_5_code
def y_TT_removeAll : MethodName := ⟨R_TT, "removeAll", "(IIII)I"⟩
abbrev b_TT_removeAll : ByteArray := prog_1_method_10_code
def y_TT_isMask : MethodName := ⟨R_TT, "isMask", "(I)Z"⟩
abbrev b_TT_isMask : ByteArray := prog_1_method_6_code
def y_TT_begin : MethodName := ⟨R_TT, "begin", "(LTripleTrees$Cursor;IIII)V"⟩
abbrev b_TT_begin : ByteArray := prog_1_method_8_code
def y_TT_orderOf : MethodName := ⟨R_TT, "orderOf", "(I)I"⟩
abbrev b_TT_orderOf : ByteArray := prog_1_method_7_code
def y_Int_bitCount : MethodName := ⟨R_Int, "bitCount", "(I)I"⟩
abbrev b_Int_bitCount : ByteArray := prog_6_method_49_code
def y_TT_step : MethodName := ⟨R_TT, "step", "(LTripleTrees$Cursor;)Z"⟩
abbrev b_TT_step : ByteArray := prog_1_method_9_code
def y_Tree_part : MethodName := ⟨R_Tree, "part", "(III)I"⟩
abbrev b_Tree_part : ByteArray := prog_3_method_6_code
def y_TT_partOf : MethodName := ⟨R_TT, "partOf", "(LTripleTrees$Cursor;I)I"⟩
abbrev b_TT_partOf : ByteArray := prog_1_method_11_code
def y_TT_open : MethodName := ⟨R_TT, "open", "(IIII)I"⟩
abbrev b_TT_open : ByteArray := prog_1_method_12_code
def y_TT_next : MethodName := ⟨R_TT, "next", "(I)I"⟩
abbrev b_TT_next : ByteArray := prog_1_method_15_code
def y_TT_state : MethodName := ⟨R_TT, "state", "(I)I"⟩
abbrev b_TT_state : ByteArray := prog_1_method_14_code
def y_TT_isOpen : MethodName := ⟨R_TT, "isOpen", "(I)Z"⟩
abbrev b_TT_isOpen : ByteArray := prog_1_method_13_code
def y_TT_seek : MethodName := ⟨R_TT, "seek", "(IIII)I"⟩
abbrev b_TT_seek : ByteArray := prog_1_method_16_code
def y_TT_part : MethodName := ⟨R_TT, "part", "(II)I"⟩
abbrev b_TT_part : ByteArray := prog_1_method_17_code
def y_TT_close : MethodName := ⟨R_TT, "close", "(I)Z"⟩
abbrev b_TT_close : ByteArray := prog_1_method_18_code
def y_TT_many : MethodName := ⟨R_TT, "many", "(IIII)I"⟩
abbrev b_TT_many : ByteArray := prog_1_method_19_code
def y_TT_at : MethodName := ⟨R_TT, "at", "(III)I"⟩
abbrev b_TT_at : ByteArray := prog_1_method_20_code
def y_Tree_find : MethodName := ⟨R_Tree, "find", "(I)V"⟩
abbrev b_Tree_find : ByteArray := prog_3_method_15_code
def y_TT_before : MethodName := ⟨R_TT, "before", "(IIII)I"⟩
abbrev b_TT_before : ByteArray := prog_1_method_21_code
def y_Tree_rank : MethodName := ⟨R_Tree, "rank", "()I"⟩
abbrev b_Tree_rank : ByteArray := prog_3_method_14_code
def y_TT_different : MethodName := ⟨R_TT, "different", "(I)I"⟩
abbrev b_TT_different : ByteArray := prog_1_method_22_code
def y_TT_chains : MethodName := ⟨R_TT, "chains", "(II)I"⟩
abbrev b_TT_chains : ByteArray := prog_1_method_23_code
def y_TT_far : MethodName := ⟨R_TT, "far", "(III)I"⟩
abbrev b_TT_far : ByteArray := prog_1_method_26_code
def y_TT_walk : MethodName := ⟨R_TT, "walk", "(II)V"⟩
abbrev b_TT_walk : ByteArray := prog_1_method_24_code
def y_TT_meet : MethodName := ⟨R_TT, "meet", "(II)V"⟩
abbrev b_TT_meet : ByteArray := prog_1_method_25_code
def y_TT_reached : MethodName := ⟨R_TT, "reached", "(II)I"⟩
abbrev b_TT_reached : ByteArray := prog_1_method_27_code
def y_TT_size : MethodName := ⟨R_TT, "size", "()I"⟩
abbrev b_TT_size : ByteArray := prog_1_method_28_code
def y_TT_changes : MethodName := ⟨R_TT, "changes", "()I"⟩
abbrev b_TT_changes : ByteArray := prog_1_method_29_code
def y_Mod_init : MethodName := ⟨R_Mod, "<init>", "()V"⟩
abbrev b_Mod_init : ByteArray := prog_5_method_1_code
def y_Mod_holds : MethodName := ⟨R_Mod, "holds", "(III)Z"⟩
abbrev b_Mod_holds : ByteArray := prog_5_method_8_code
def y_Mod_placeOf : MethodName := ⟨R_Mod, "placeOf", "(IIII)I"⟩
abbrev b_Mod_placeOf : ByteArray := prog_5_method_7_code
def y_Mod_compare : MethodName := ⟨R_Mod, "compare", "(IIIII)I"⟩
abbrev b_Mod_compare : ByteArray := prog_5_method_6_code
def y_Mod_partOf : MethodName := ⟨R_Mod, "partOf", "(II)I"⟩
abbrev b_Mod_partOf : ByteArray := prog_5_method_4_code
def y_Mod_cell : MethodName := ⟨R_Mod, "cell", "(III)I"⟩
abbrev b_Mod_cell : ByteArray := prog_5_method_5_code
def y_Mod_add : MethodName := ⟨R_Mod, "add", "(III)I"⟩
abbrev b_Mod_add : ByteArray := prog_5_method_10_code
def y_Mod_changed : MethodName := ⟨R_Mod, "changed", "()V"⟩
abbrev b_Mod_changed : ByteArray := prog_5_method_9_code
def y_Mod_remove : MethodName := ⟨R_Mod, "remove", "(III)Z"⟩
abbrev b_Mod_remove : ByteArray := prog_5_method_11_code
def y_Mod_removeAll : MethodName := ⟨R_Mod, "removeAll", "(IIII)I"⟩
abbrev b_Mod_removeAll : ByteArray := prog_5_method_14_code
def y_Mod_isMask : MethodName := ⟨R_Mod, "isMask", "(I)Z"⟩
abbrev b_Mod_isMask : ByteArray := prog_5_method_13_code
def y_Mod_matches : MethodName := ⟨R_Mod, "matches", "(IIIIII)Z"⟩
abbrev b_Mod_matches : ByteArray := prog_5_method_12_code
def y_Mod_many : MethodName := ⟨R_Mod, "many", "(IIII)I"⟩
abbrev b_Mod_many : ByteArray := prog_5_method_15_code
def y_Mod_open : MethodName := ⟨R_Mod, "open", "(IIII)I"⟩
abbrev b_Mod_open : ByteArray := prog_5_method_16_code
def y_Mod_next : MethodName := ⟨R_Mod, "next", "(I)I"⟩
abbrev b_Mod_next : ByteArray := prog_5_method_19_code
def y_Mod_goOn : MethodName := ⟨R_Mod, "goOn", "(IZIII)I"⟩
abbrev b_Mod_goOn : ByteArray := prog_5_method_18_code
def y_Mod_isCursor : MethodName := ⟨R_Mod, "isCursor", "(I)Z"⟩
abbrev b_Mod_isCursor : ByteArray := prog_5_method_17_code
def y_Mod_orderOf : MethodName := ⟨R_Mod, "orderOf", "(I)I"⟩
abbrev b_Mod_orderOf : ByteArray := prog_5_method_3_code
def y_Mod_seek : MethodName := ⟨R_Mod, "seek", "(IIII)I"⟩
abbrev b_Mod_seek : ByteArray := prog_5_method_20_code
def y_Mod_part : MethodName := ⟨R_Mod, "part", "(II)I"⟩
abbrev b_Mod_part : ByteArray := prog_5_method_21_code
def y_Mod_close : MethodName := ⟨R_Mod, "close", "(I)Z"⟩
abbrev b_Mod_close : ByteArray := prog_5_method_22_code
def y_Mod_at : MethodName := ⟨R_Mod, "at", "(III)I"⟩
abbrev b_Mod_at : ByteArray := prog_5_method_23_code
def y_Mod_before : MethodName := ⟨R_Mod, "before", "(IIII)I"⟩
abbrev b_Mod_before : ByteArray := prog_5_method_24_code
def y_Mod_different : MethodName := ⟨R_Mod, "different", "(I)I"⟩
abbrev b_Mod_different : ByteArray := prog_5_method_25_code
def y_Mod_chains : MethodName := ⟨R_Mod, "chains", "(II)I"⟩
abbrev b_Mod_chains : ByteArray := prog_5_method_26_code
def y_Mod_far : MethodName := ⟨R_Mod, "far", "(III)I"⟩
abbrev b_Mod_far : ByteArray := prog_5_method_29_code
def y_Mod_go : MethodName := ⟨R_Mod, "go", "(II)V"⟩
abbrev b_Mod_go : ByteArray := prog_5_method_28_code
def y_Mod_find : MethodName := ⟨R_Mod, "find", "(I)I"⟩
abbrev b_Mod_find : ByteArray := prog_5_method_27_code
def y_Mod_reached : MethodName := ⟨R_Mod, "reached", "(II)I"⟩
abbrev b_Mod_reached : ByteArray := prog_5_method_30_code
def y_Mod_size : MethodName := ⟨R_Mod, "size", "()I"⟩
abbrev b_Mod_size : ByteArray := prog_5_method_31_code
def y_Mod_changes : MethodName := ⟨R_Mod, "changes", "()I"⟩
abbrev b_Mod_changes : ByteArray := prog_5_method_32_code
set_option maxRecDepth 20000 in
theorem se_Tree_make : Cond.selects R_Tree y_Tree_make y_Tree_make ∈ lw_tbl := List.mem_of_getElem? (i := 0) rfl
set_option maxRecDepth 20000 in
theorem se_TT_tell : Cond.selects R_TT y_TT_tell y_TT_tell ∈ lw_tbl := List.mem_of_getElem? (i := 1) rfl
set_option maxRecDepth 20000 in
theorem se_Tree_way : Cond.selects R_Tree y_Tree_way y_Tree_way ∈ lw_tbl := List.mem_of_getElem? (i := 2) rfl
set_option maxRecDepth 20000 in
theorem se_Tree_compare : Cond.selects R_Tree y_Tree_compare y_Tree_compare ∈ lw_tbl := List.mem_of_getElem? (i := 3) rfl
set_option maxRecDepth 20000 in
theorem se_Tree_place : Cond.selects R_Tree y_Tree_place y_Tree_place ∈ lw_tbl := List.mem_of_getElem? (i := 4) rfl
set_option maxRecDepth 20000 in
theorem se_Tree_kid : Cond.selects R_Tree y_Tree_kid y_Tree_kid ∈ lw_tbl := List.mem_of_getElem? (i := 5) rfl
set_option maxRecDepth 20000 in
theorem se_Tree_addTo : Cond.selects R_Tree y_Tree_addTo y_Tree_addTo ∈ lw_tbl := List.mem_of_getElem? (i := 6) rfl
set_option maxRecDepth 20000 in
theorem se_Tree_open : Cond.selects R_Tree y_Tree_open y_Tree_open ∈ lw_tbl := List.mem_of_getElem? (i := 7) rfl
set_option maxRecDepth 20000 in
theorem se_Tree_copy : Cond.selects R_Tree y_Tree_copy y_Tree_copy ∈ lw_tbl := List.mem_of_getElem? (i := 8) rfl
set_option maxRecDepth 20000 in
theorem se_Tree_put : Cond.selects R_Tree y_Tree_put y_Tree_put ∈ lw_tbl := List.mem_of_getElem? (i := 9) rfl
set_option maxRecDepth 20000 in
theorem se_Tree_partLeaf : Cond.selects R_Tree y_Tree_partLeaf y_Tree_partLeaf ∈ lw_tbl := List.mem_of_getElem? (i := 10) rfl
set_option maxRecDepth 20000 in
theorem se_Tree_partNode : Cond.selects R_Tree y_Tree_partNode y_Tree_partNode ∈ lw_tbl := List.mem_of_getElem? (i := 11) rfl
set_option maxRecDepth 20000 in
theorem se_Tree_sum : Cond.selects R_Tree y_Tree_sum y_Tree_sum ∈ lw_tbl := List.mem_of_getElem? (i := 12) rfl
set_option maxRecDepth 20000 in
theorem se_Tree_removeFrom : Cond.selects R_Tree y_Tree_removeFrom y_Tree_removeFrom ∈ lw_tbl := List.mem_of_getElem? (i := 13) rfl
set_option maxRecDepth 20000 in
theorem se_Tree_shut : Cond.selects R_Tree y_Tree_shut y_Tree_shut ∈ lw_tbl := List.mem_of_getElem? (i := 14) rfl
set_option maxRecDepth 20000 in
theorem se_Tree_mend : Cond.selects R_Tree y_Tree_mend y_Tree_mend ∈ lw_tbl := List.mem_of_getElem? (i := 15) rfl
set_option maxRecDepth 20000 in
theorem se_Tree_join : Cond.selects R_Tree y_Tree_join y_Tree_join ∈ lw_tbl := List.mem_of_getElem? (i := 16) rfl
set_option maxRecDepth 20000 in
theorem se_Tree_drop : Cond.selects R_Tree y_Tree_drop y_Tree_drop ∈ lw_tbl := List.mem_of_getElem? (i := 17) rfl
set_option maxRecDepth 20000 in
theorem se_Tree_toRight : Cond.selects R_Tree y_Tree_toRight y_Tree_toRight ∈ lw_tbl := List.mem_of_getElem? (i := 18) rfl
set_option maxRecDepth 20000 in
theorem se_Tree_toLeft : Cond.selects R_Tree y_Tree_toLeft y_Tree_toLeft ∈ lw_tbl := List.mem_of_getElem? (i := 19) rfl
set_option maxRecDepth 20000 in
theorem se_TT_begin : Cond.selects R_TT y_TT_begin y_TT_begin ∈ lw_tbl := List.mem_of_getElem? (i := 20) rfl
set_option maxRecDepth 20000 in
theorem se_TT_step : Cond.selects R_TT y_TT_step y_TT_step ∈ lw_tbl := List.mem_of_getElem? (i := 21) rfl
set_option maxRecDepth 20000 in
theorem se_TT_state : Cond.selects R_TT y_TT_state y_TT_state ∈ lw_tbl := List.mem_of_getElem? (i := 22) rfl
set_option maxRecDepth 20000 in
theorem se_TT_isOpen : Cond.selects R_TT y_TT_isOpen y_TT_isOpen ∈ lw_tbl := List.mem_of_getElem? (i := 23) rfl
set_option maxRecDepth 20000 in
theorem se_TT_walk : Cond.selects R_TT y_TT_walk y_TT_walk ∈ lw_tbl := List.mem_of_getElem? (i := 24) rfl
set_option maxRecDepth 20000 in
theorem se_TT_meet : Cond.selects R_TT y_TT_meet y_TT_meet ∈ lw_tbl := List.mem_of_getElem? (i := 25) rfl
set_option maxRecDepth 20000 in
theorem se_Mod_placeOf : Cond.selects R_Mod y_Mod_placeOf y_Mod_placeOf ∈ lw_tbl := List.mem_of_getElem? (i := 26) rfl
set_option maxRecDepth 20000 in
theorem se_Mod_compare : Cond.selects R_Mod y_Mod_compare y_Mod_compare ∈ lw_tbl := List.mem_of_getElem? (i := 27) rfl
set_option maxRecDepth 20000 in
theorem se_Mod_cell : Cond.selects R_Mod y_Mod_cell y_Mod_cell ∈ lw_tbl := List.mem_of_getElem? (i := 28) rfl
set_option maxRecDepth 20000 in
theorem se_Mod_changed : Cond.selects R_Mod y_Mod_changed y_Mod_changed ∈ lw_tbl := List.mem_of_getElem? (i := 29) rfl
set_option maxRecDepth 20000 in
theorem se_Mod_matches : Cond.selects R_Mod y_Mod_matches y_Mod_matches ∈ lw_tbl := List.mem_of_getElem? (i := 30) rfl
set_option maxRecDepth 20000 in
theorem se_Mod_goOn : Cond.selects R_Mod y_Mod_goOn y_Mod_goOn ∈ lw_tbl := List.mem_of_getElem? (i := 31) rfl
set_option maxRecDepth 20000 in
theorem se_Mod_isCursor : Cond.selects R_Mod y_Mod_isCursor y_Mod_isCursor ∈ lw_tbl := List.mem_of_getElem? (i := 32) rfl
set_option maxRecDepth 20000 in
theorem se_Mod_go : Cond.selects R_Mod y_Mod_go y_Mod_go ∈ lw_tbl := List.mem_of_getElem? (i := 33) rfl
set_option maxRecDepth 20000 in
theorem se_Mod_find : Cond.selects R_Mod y_Mod_find y_Mod_find ∈ lw_tbl := List.mem_of_getElem? (i := 34) rfl
set_option maxRecDepth 20000 in
theorem in_law : Cond.initialized R_law ∈ lw_tbl := List.mem_of_getElem? (i := 35) rfl
set_option maxRecDepth 20000 in
theorem in_TT : Cond.initialized R_TT ∈ lw_tbl := List.mem_of_getElem? (i := 36) rfl
set_option maxRecDepth 20000 in
theorem in_Cur : Cond.initialized R_Cur ∈ lw_tbl := List.mem_of_getElem? (i := 37) rfl
set_option maxRecDepth 20000 in
theorem in_Tree : Cond.initialized R_Tree ∈ lw_tbl := List.mem_of_getElem? (i := 38) rfl
set_option maxRecDepth 20000 in
theorem in_Mod : Cond.initialized R_Mod ∈ lw_tbl := List.mem_of_getElem? (i := 39) rfl
set_option maxRecDepth 20000 in
theorem in_Sys : Cond.initialized "java/lang/System" ∈ lw_tbl := List.mem_of_getElem? (i := 40) rfl
set_option maxRecDepth 20000 in
theorem in_Int : Cond.initialized R_Int ∈ lw_tbl := List.mem_of_getElem? (i := 41) rfl
set_option maxRecDepth 20000 in
theorem cl_law_7 : Cond.classLink R_law 7 R_TT ∈ lw_tbl := List.mem_of_getElem? (i := 42) rfl
set_option maxRecDepth 20000 in
theorem it_TT : Cond.instantiable R_TT 9 ∈ lw_tbl := List.mem_of_getElem? (i := 43) rfl
set_option maxRecDepth 20000 in
theorem ml_law_9 : Cond.methodLink R_law 9 y_TT_init ∈ lw_tbl := List.mem_of_getElem? (i := 44) rfl
set_option maxRecDepth 20000 in
theorem im_TT_init : Cond.instanceMethod y_TT_init ∈ lw_tbl := List.mem_of_getElem? (i := 45) rfl
set_option maxRecDepth 20000 in
theorem co_TT_init : Cond.code y_TT_init b_TT_init 2 none ∈ lw_tbl := List.mem_of_getElem? (i := 46) rfl
set_option maxRecDepth 20000 in
theorem ml_TT_1 : Cond.methodLink R_TT 1 objectInit ∈ lw_tbl := List.mem_of_getElem? (i := 47) rfl
set_option maxRecDepth 20000 in
theorem im_Obj_init : Cond.instanceMethod objectInit ∈ lw_tbl := List.mem_of_getElem? (i := 48) rfl
set_option maxRecDepth 20000 in
theorem co_Obj : Cond.code objectInit ⟨#[0xb1]⟩ 1 none ∈ lw_tbl := List.mem_of_getElem? (i := 49) rfl
set_option maxRecDepth 20000 in
theorem cl_TT_7 : Cond.classLink R_TT 7 R_Tree ∈ lw_tbl := List.mem_of_getElem? (i := 50) rfl
set_option maxRecDepth 20000 in
theorem ao_Tree : Cond.arrayOver (.object "TripleTrees$Tree") ∈ lw_tbl := List.mem_of_getElem? (i := 51) rfl
set_option maxRecDepth 20000 in
theorem cl_TT_15 : Cond.classLink R_TT 15 R_Cur ∈ lw_tbl := List.mem_of_getElem? (i := 52) rfl
set_option maxRecDepth 20000 in
theorem ao_Cur : Cond.arrayOver (.object "TripleTrees$Cursor") ∈ lw_tbl := List.mem_of_getElem? (i := 53) rfl
set_option maxRecDepth 20000 in
theorem it_Cur : Cond.instantiable R_Cur 9 ∈ lw_tbl := List.mem_of_getElem? (i := 54) rfl
set_option maxRecDepth 20000 in
theorem ml_TT_28 : Cond.methodLinkNest R_TT 28 y_Cur_init R_TT ∈ lw_tbl := List.mem_of_getElem? (i := 55) rfl
set_option maxRecDepth 20000 in
theorem im_Cur_init : Cond.instanceMethod y_Cur_init ∈ lw_tbl := List.mem_of_getElem? (i := 56) rfl
set_option maxRecDepth 20000 in
theorem co_Cur_init : Cond.code y_Cur_init b_Cur_init 1 none ∈ lw_tbl := List.mem_of_getElem? (i := 57) rfl
set_option maxRecDepth 20000 in
theorem ml_Cur_1 : Cond.methodLink R_Cur 1 objectInit ∈ lw_tbl := List.mem_of_getElem? (i := 58) rfl
set_option maxRecDepth 20000 in
theorem fl_TT_61 : Cond.fieldLink R_TT 61 R_Cur "open" "Z" ∈ lw_tbl := List.mem_of_getElem? (i := 59) rfl
set_option maxRecDepth 20000 in
theorem fl_TT_65 : Cond.fieldLink R_TT 65 R_Cur "version" "I" ∈ lw_tbl := List.mem_of_getElem? (i := 60) rfl
set_option maxRecDepth 20000 in
theorem fl_TT_72 : Cond.fieldLink R_TT 72 R_Cur "order" "I" ∈ lw_tbl := List.mem_of_getElem? (i := 61) rfl
set_option maxRecDepth 20000 in
theorem fl_TT_80 : Cond.fieldLink R_TT 80 R_Cur "told" "I" ∈ lw_tbl := List.mem_of_getElem? (i := 62) rfl
set_option maxRecDepth 20000 in
theorem fl_Cur_7 : Cond.fieldLink R_Cur 7 R_Cur "pattern" "[I" ∈ lw_tbl := List.mem_of_getElem? (i := 63) rfl
set_option maxRecDepth 20000 in
theorem fl_TT_85 : Cond.fieldLink R_TT 85 R_Cur "pattern" "[I" ∈ lw_tbl := List.mem_of_getElem? (i := 64) rfl
set_option maxRecDepth 20000 in
theorem fl_TT_96 : Cond.fieldLink R_TT 96 R_Cur "leaf" "I" ∈ lw_tbl := List.mem_of_getElem? (i := 65) rfl
set_option maxRecDepth 20000 in
theorem fl_TT_101 : Cond.fieldLink R_TT 101 R_Cur "place" "I" ∈ lw_tbl := List.mem_of_getElem? (i := 66) rfl
set_option maxRecDepth 20000 in
theorem fl_TT_83 : Cond.fieldLink R_TT 83 R_Cur "has" "Z" ∈ lw_tbl := List.mem_of_getElem? (i := 67) rfl
set_option maxRecDepth 20000 in
theorem fl_Cur_13 : Cond.fieldLink R_Cur 13 R_Cur "now" "[I" ∈ lw_tbl := List.mem_of_getElem? (i := 68) rfl
set_option maxRecDepth 20000 in
theorem fl_TT_114 : Cond.fieldLink R_TT 114 R_Cur "now" "[I" ∈ lw_tbl := List.mem_of_getElem? (i := 69) rfl
set_option maxRecDepth 20000 in
theorem ac_int : Cond.arrayClass .int ∈ lw_tbl := List.mem_of_getElem? (i := 89) rfl
set_option maxRecDepth 20000 in
theorem it_Tree : Cond.instantiable R_Tree 12 ∈ lw_tbl := List.mem_of_getElem? (i := 90) rfl
set_option maxRecDepth 20000 in
theorem ml_TT_36 : Cond.methodLink R_TT 36 y_Tree_init ∈ lw_tbl := List.mem_of_getElem? (i := 91) rfl
set_option maxRecDepth 20000 in
theorem im_Tree_init : Cond.instanceMethod y_Tree_init ∈ lw_tbl := List.mem_of_getElem? (i := 92) rfl
set_option maxRecDepth 20000 in
theorem co_Tree_init : Cond.code y_Tree_init b_Tree_init 2 none ∈ lw_tbl := List.mem_of_getElem? (i := 93) rfl
set_option maxRecDepth 20000 in
theorem ml_Tree_3 : Cond.methodLink R_Tree 3 objectInit ∈ lw_tbl := List.mem_of_getElem? (i := 94) rfl
set_option maxRecDepth 20000 in
theorem ml_Tree_41 : Cond.methodLink R_Tree 41 y_Tree_make ∈ lw_tbl := List.mem_of_getElem? (i := 95) rfl
set_option maxRecDepth 20000 in
theorem im_Tree_make : Cond.instanceMethod y_Tree_make ∈ lw_tbl := List.mem_of_getElem? (i := 97) rfl
set_option maxRecDepth 20000 in
theorem co_Tree_make : Cond.code y_Tree_make b_Tree_make 3 (some .int) ∈ lw_tbl := List.mem_of_getElem? (i := 98) rfl
set_option maxRecDepth 20000 in
theorem fl_Tree_9 : Cond.fieldLink R_Tree 9 R_Tree "keys" "[I" ∈ lw_tbl := List.mem_of_getElem? (i := 99) rfl
set_option maxRecDepth 20000 in
theorem fl_Tree_15 : Cond.fieldLink R_Tree 15 R_Tree "kids" "[I" ∈ lw_tbl := List.mem_of_getElem? (i := 100) rfl
set_option maxRecDepth 20000 in
theorem fl_Tree_18 : Cond.fieldLink R_Tree 18 R_Tree "counts" "[I" ∈ lw_tbl := List.mem_of_getElem? (i := 101) rfl
set_option maxRecDepth 20000 in
theorem fl_TT_104 : Cond.fieldLink R_TT 104 R_Tree "counts" "[I" ∈ lw_tbl := List.mem_of_getElem? (i := 102) rfl
set_option maxRecDepth 20000 in
theorem fl_Tree_21 : Cond.fieldLink R_Tree 21 R_Tree "isLeaf" "[Z" ∈ lw_tbl := List.mem_of_getElem? (i := 103) rfl
set_option maxRecDepth 20000 in
theorem fl_Tree_25 : Cond.fieldLink R_Tree 25 R_Tree "nexts" "[I" ∈ lw_tbl := List.mem_of_getElem? (i := 104) rfl
set_option maxRecDepth 20000 in
theorem fl_TT_107 : Cond.fieldLink R_TT 107 R_Tree "nexts" "[I" ∈ lw_tbl := List.mem_of_getElem? (i := 105) rfl
set_option maxRecDepth 20000 in
theorem fl_Tree_28 : Cond.fieldLink R_Tree 28 R_Tree "sizes" "[I" ∈ lw_tbl := List.mem_of_getElem? (i := 106) rfl
set_option maxRecDepth 20000 in
theorem fl_Tree_37 : Cond.fieldLink R_Tree 37 R_Tree "free" "I" ∈ lw_tbl := List.mem_of_getElem? (i := 107) rfl
set_option maxRecDepth 20000 in
theorem fl_Tree_45 : Cond.fieldLink R_Tree 45 R_Tree "root" "I" ∈ lw_tbl := List.mem_of_getElem? (i := 108) rfl
set_option maxRecDepth 20000 in
theorem fl_Tree_31 : Cond.fieldLink R_Tree 31 R_Tree "key" "[I" ∈ lw_tbl := List.mem_of_getElem? (i := 109) rfl
set_option maxRecDepth 20000 in
theorem fl_TT_88 : Cond.fieldLinkNest R_TT 88 R_Tree "key" "[I" R_TT ∈ lw_tbl := List.mem_of_getElem? (i := 110) rfl
set_option maxRecDepth 20000 in
theorem fl_Tree_34 : Cond.fieldLink R_Tree 34 R_Tree "up" "[I" ∈ lw_tbl := List.mem_of_getElem? (i := 111) rfl
set_option maxRecDepth 20000 in
theorem fl_Tree_75 : Cond.fieldLink R_Tree 75 R_Tree "foundLeaf" "I" ∈ lw_tbl := List.mem_of_getElem? (i := 112) rfl
set_option maxRecDepth 20000 in
theorem fl_TT_150 : Cond.fieldLink R_TT 150 R_Tree "foundLeaf" "I" ∈ lw_tbl := List.mem_of_getElem? (i := 113) rfl
set_option maxRecDepth 20000 in
theorem fl_Tree_78 : Cond.fieldLink R_Tree 78 R_Tree "foundPlace" "I" ∈ lw_tbl := List.mem_of_getElem? (i := 114) rfl
set_option maxRecDepth 20000 in
theorem fl_TT_153 : Cond.fieldLink R_TT 153 R_Tree "foundPlace" "I" ∈ lw_tbl := List.mem_of_getElem? (i := 115) rfl
set_option maxRecDepth 20000 in
theorem ac_boolean : Cond.arrayClass .boolean ∈ lw_tbl := List.mem_of_getElem? (i := 141) rfl
set_option maxRecDepth 20000 in
theorem fl_TT_9 : Cond.fieldLink R_TT 9 R_TT "trees" "[LTripleTrees$Tree;" ∈ lw_tbl := List.mem_of_getElem? (i := 142) rfl
set_option maxRecDepth 20000 in
theorem fl_TT_17 : Cond.fieldLink R_TT 17 R_TT "cursors" "[LTripleTrees$Cursor;" ∈ lw_tbl := List.mem_of_getElem? (i := 143) rfl
set_option maxRecDepth 20000 in
theorem fl_TT_48 : Cond.fieldLink R_TT 48 R_TT "size" "I" ∈ lw_tbl := List.mem_of_getElem? (i := 144) rfl
set_option maxRecDepth 20000 in
theorem fl_TT_55 : Cond.fieldLink R_TT 55 R_TT "changes" "I" ∈ lw_tbl := List.mem_of_getElem? (i := 145) rfl
set_option maxRecDepth 20000 in
theorem fl_TT_21 : Cond.fieldLink R_TT 21 R_TT "met" "[I" ∈ lw_tbl := List.mem_of_getElem? (i := 146) rfl
set_option maxRecDepth 20000 in
theorem fl_TT_25 : Cond.fieldLink R_TT 25 R_TT "fars" "[I" ∈ lw_tbl := List.mem_of_getElem? (i := 147) rfl
set_option maxRecDepth 20000 in
theorem fl_TT_159 : Cond.fieldLink R_TT 159 R_TT "metCount" "I" ∈ lw_tbl := List.mem_of_getElem? (i := 148) rfl
set_option maxRecDepth 20000 in
theorem fl_TT_29 : Cond.fieldLink R_TT 29 R_TT "own" "LTripleTrees$Cursor;" ∈ lw_tbl := List.mem_of_getElem? (i := 149) rfl
set_option maxRecDepth 20000 in
theorem fl_TT_33 : Cond.fieldLink R_TT 33 R_TT "other" "LTripleTrees$Cursor;" ∈ lw_tbl := List.mem_of_getElem? (i := 150) rfl
set_option maxRecDepth 20000 in
theorem ml_law_13 : Cond.methodLink R_law 13 y_TT_add ∈ lw_tbl := List.mem_of_getElem? (i := 170) rfl
set_option maxRecDepth 20000 in
theorem im_TT_add : Cond.instanceMethod y_TT_add ∈ lw_tbl := List.mem_of_getElem? (i := 171) rfl
set_option maxRecDepth 20000 in
theorem se_TT_add : Cond.selects R_TT y_TT_add y_TT_add ∈ lw_tbl := List.mem_of_getElem? (i := 172) rfl
set_option maxRecDepth 20000 in
theorem co_TT_add : Cond.code y_TT_add b_TT_add 5 (some .int) ∈ lw_tbl := List.mem_of_getElem? (i := 173) rfl
set_option maxRecDepth 20000 in
theorem ml_TT_41 : Cond.methodLink R_TT 41 y_TT_tell ∈ lw_tbl := List.mem_of_getElem? (i := 174) rfl
set_option maxRecDepth 20000 in
theorem im_TT_tell : Cond.instanceMethod y_TT_tell ∈ lw_tbl := List.mem_of_getElem? (i := 176) rfl
set_option maxRecDepth 20000 in
theorem co_TT_tell : Cond.code y_TT_tell b_TT_tell 6 (some (.object "TripleTrees$Tree")) ∈ lw_tbl := List.mem_of_getElem? (i := 177) rfl
set_option maxRecDepth 20000 in
theorem ml_TT_37 : Cond.methodLink R_TT 37 y_Tree_tell ∈ lw_tbl := List.mem_of_getElem? (i := 178) rfl
set_option maxRecDepth 20000 in
theorem im_Tree_tell : Cond.instanceMethod y_Tree_tell ∈ lw_tbl := List.mem_of_getElem? (i := 179) rfl
set_option maxRecDepth 20000 in
theorem se_Tree_tell : Cond.selects R_Tree y_Tree_tell y_Tree_tell ∈ lw_tbl := List.mem_of_getElem? (i := 180) rfl
set_option maxRecDepth 20000 in
theorem co_Tree_tell : Cond.code y_Tree_tell b_Tree_tell 4 none ∈ lw_tbl := List.mem_of_getElem? (i := 181) rfl
set_option maxRecDepth 20000 in
theorem ml_TT_44 : Cond.methodLink R_TT 44 y_Tree_has ∈ lw_tbl := List.mem_of_getElem? (i := 182) rfl
set_option maxRecDepth 20000 in
theorem im_Tree_has : Cond.instanceMethod y_Tree_has ∈ lw_tbl := List.mem_of_getElem? (i := 183) rfl
set_option maxRecDepth 20000 in
theorem se_Tree_has : Cond.selects R_Tree y_Tree_has y_Tree_has ∈ lw_tbl := List.mem_of_getElem? (i := 184) rfl
set_option maxRecDepth 20000 in
theorem co_Tree_has : Cond.code y_Tree_has b_Tree_has 3 (some .boolean) ∈ lw_tbl := List.mem_of_getElem? (i := 185) rfl
set_option maxRecDepth 20000 in
theorem ml_Tree_68 : Cond.methodLink R_Tree 68 y_Tree_leaf ∈ lw_tbl := List.mem_of_getElem? (i := 186) rfl
set_option maxRecDepth 20000 in
theorem im_Tree_leaf : Cond.instanceMethod y_Tree_leaf ∈ lw_tbl := List.mem_of_getElem? (i := 187) rfl
set_option maxRecDepth 20000 in
theorem se_Tree_leaf : Cond.selects R_Tree y_Tree_leaf y_Tree_leaf ∈ lw_tbl := List.mem_of_getElem? (i := 188) rfl
set_option maxRecDepth 20000 in
theorem co_Tree_leaf : Cond.code y_Tree_leaf b_Tree_leaf 2 (some .int) ∈ lw_tbl := List.mem_of_getElem? (i := 189) rfl
set_option maxRecDepth 20000 in
theorem ml_Tree_61 : Cond.methodLink R_Tree 61 y_Tree_way ∈ lw_tbl := List.mem_of_getElem? (i := 190) rfl
set_option maxRecDepth 20000 in
theorem im_Tree_way : Cond.instanceMethod y_Tree_way ∈ lw_tbl := List.mem_of_getElem? (i := 192) rfl
set_option maxRecDepth 20000 in
theorem co_Tree_way : Cond.code y_Tree_way b_Tree_way 3 (some .int) ∈ lw_tbl := List.mem_of_getElem? (i := 193) rfl
set_option maxRecDepth 20000 in
theorem ml_Tree_58 : Cond.methodLink R_Tree 58 y_Tree_compare ∈ lw_tbl := List.mem_of_getElem? (i := 194) rfl
set_option maxRecDepth 20000 in
theorem im_Tree_compare : Cond.instanceMethod y_Tree_compare ∈ lw_tbl := List.mem_of_getElem? (i := 196) rfl
set_option maxRecDepth 20000 in
theorem co_Tree_compare : Cond.code y_Tree_compare b_Tree_compare 5 (some .int) ∈ lw_tbl := List.mem_of_getElem? (i := 197) rfl
set_option maxRecDepth 20000 in
theorem ml_Tree_48 : Cond.methodLink R_Tree 48 y_Tree_place ∈ lw_tbl := List.mem_of_getElem? (i := 198) rfl
set_option maxRecDepth 20000 in
theorem im_Tree_place : Cond.instanceMethod y_Tree_place ∈ lw_tbl := List.mem_of_getElem? (i := 200) rfl
set_option maxRecDepth 20000 in
theorem co_Tree_place : Cond.code y_Tree_place b_Tree_place 3 (some .int) ∈ lw_tbl := List.mem_of_getElem? (i := 201) rfl
set_option maxRecDepth 20000 in
theorem ml_Tree_65 : Cond.methodLink R_Tree 65 y_Tree_kid ∈ lw_tbl := List.mem_of_getElem? (i := 202) rfl
set_option maxRecDepth 20000 in
theorem im_Tree_kid : Cond.instanceMethod y_Tree_kid ∈ lw_tbl := List.mem_of_getElem? (i := 204) rfl
set_option maxRecDepth 20000 in
theorem co_Tree_kid : Cond.code y_Tree_kid b_Tree_kid 3 (some .int) ∈ lw_tbl := List.mem_of_getElem? (i := 205) rfl
set_option maxRecDepth 20000 in
theorem ml_Tree_72 : Cond.methodLink R_Tree 72 y_Tree_below ∈ lw_tbl := List.mem_of_getElem? (i := 206) rfl
set_option maxRecDepth 20000 in
theorem im_Tree_below : Cond.instanceMethod y_Tree_below ∈ lw_tbl := List.mem_of_getElem? (i := 207) rfl
set_option maxRecDepth 20000 in
theorem se_Tree_below : Cond.selects R_Tree y_Tree_below y_Tree_below ∈ lw_tbl := List.mem_of_getElem? (i := 208) rfl
set_option maxRecDepth 20000 in
theorem co_Tree_below : Cond.code y_Tree_below b_Tree_below 3 (some .int) ∈ lw_tbl := List.mem_of_getElem? (i := 209) rfl
set_option maxRecDepth 20000 in
theorem ml_TT_52 : Cond.methodLink R_TT 52 y_Tree_add ∈ lw_tbl := List.mem_of_getElem? (i := 210) rfl
set_option maxRecDepth 20000 in
theorem im_Tree_add : Cond.instanceMethod y_Tree_add ∈ lw_tbl := List.mem_of_getElem? (i := 211) rfl
set_option maxRecDepth 20000 in
theorem se_Tree_add : Cond.selects R_Tree y_Tree_add y_Tree_add ∈ lw_tbl := List.mem_of_getElem? (i := 212) rfl
set_option maxRecDepth 20000 in
theorem co_Tree_add : Cond.code y_Tree_add b_Tree_add 3 none ∈ lw_tbl := List.mem_of_getElem? (i := 213) rfl
set_option maxRecDepth 20000 in
theorem ml_Tree_85 : Cond.methodLink R_Tree 85 y_Tree_addTo ∈ lw_tbl := List.mem_of_getElem? (i := 214) rfl
set_option maxRecDepth 20000 in
theorem im_Tree_addTo : Cond.instanceMethod y_Tree_addTo ∈ lw_tbl := List.mem_of_getElem? (i := 216) rfl
set_option maxRecDepth 20000 in
theorem co_Tree_addTo : Cond.code y_Tree_addTo b_Tree_addTo 4 (some .int) ∈ lw_tbl := List.mem_of_getElem? (i := 217) rfl
set_option maxRecDepth 20000 in
theorem ml_Tree_92 : Cond.methodLink R_Tree 92 y_Tree_open ∈ lw_tbl := List.mem_of_getElem? (i := 218) rfl
set_option maxRecDepth 20000 in
theorem im_Tree_open : Cond.instanceMethod y_Tree_open ∈ lw_tbl := List.mem_of_getElem? (i := 220) rfl
set_option maxRecDepth 20000 in
theorem co_Tree_open : Cond.code y_Tree_open b_Tree_open 4 none ∈ lw_tbl := List.mem_of_getElem? (i := 221) rfl
set_option maxRecDepth 20000 in
theorem ml_Tree_81 : Cond.methodLink R_Tree 81 y_Tree_copy ∈ lw_tbl := List.mem_of_getElem? (i := 222) rfl
set_option maxRecDepth 20000 in
theorem im_Tree_copy : Cond.instanceMethod y_Tree_copy ∈ lw_tbl := List.mem_of_getElem? (i := 224) rfl
set_option maxRecDepth 20000 in
theorem co_Tree_copy : Cond.code y_Tree_copy b_Tree_copy 5 none ∈ lw_tbl := List.mem_of_getElem? (i := 225) rfl
set_option maxRecDepth 20000 in
theorem ml_Tree_52 : Cond.methodLink R_Tree 52 arraycopyName ∈ lw_tbl := List.mem_of_getElem? (i := 226) rfl
set_option maxRecDepth 20000 in
theorem sc_Sys_arraycopy : Cond.static arraycopyName ∈ lw_tbl := List.mem_of_getElem? (i := 227) rfl
set_option maxRecDepth 20000 in
theorem nt_Sys_arraycopy : Cond.native arraycopyName ∈ lw_tbl := List.mem_of_getElem? (i := 228) rfl
set_option maxRecDepth 20000 in
theorem ml_Tree_88 : Cond.methodLink R_Tree 88 y_Tree_put ∈ lw_tbl := List.mem_of_getElem? (i := 229) rfl
set_option maxRecDepth 20000 in
theorem im_Tree_put : Cond.instanceMethod y_Tree_put ∈ lw_tbl := List.mem_of_getElem? (i := 231) rfl
set_option maxRecDepth 20000 in
theorem co_Tree_put : Cond.code y_Tree_put b_Tree_put 4 none ∈ lw_tbl := List.mem_of_getElem? (i := 232) rfl
set_option maxRecDepth 20000 in
theorem ml_Tree_96 : Cond.methodLink R_Tree 96 y_Tree_partLeaf ∈ lw_tbl := List.mem_of_getElem? (i := 233) rfl
set_option maxRecDepth 20000 in
theorem im_Tree_partLeaf : Cond.instanceMethod y_Tree_partLeaf ∈ lw_tbl := List.mem_of_getElem? (i := 235) rfl
set_option maxRecDepth 20000 in
theorem co_Tree_partLeaf : Cond.code y_Tree_partLeaf b_Tree_partLeaf 5 (some .int) ∈ lw_tbl := List.mem_of_getElem? (i := 236) rfl
set_option maxRecDepth 20000 in
theorem ml_Tree_99 : Cond.methodLink R_Tree 99 y_Tree_partNode ∈ lw_tbl := List.mem_of_getElem? (i := 237) rfl
set_option maxRecDepth 20000 in
theorem im_Tree_partNode : Cond.instanceMethod y_Tree_partNode ∈ lw_tbl := List.mem_of_getElem? (i := 239) rfl
set_option maxRecDepth 20000 in
theorem co_Tree_partNode : Cond.code y_Tree_partNode b_Tree_partNode 5 (some .int) ∈ lw_tbl := List.mem_of_getElem? (i := 240) rfl
set_option maxRecDepth 20000 in
theorem ml_Tree_102 : Cond.methodLink R_Tree 102 y_Tree_sum ∈ lw_tbl := List.mem_of_getElem? (i := 241) rfl
set_option maxRecDepth 20000 in
theorem im_Tree_sum : Cond.instanceMethod y_Tree_sum ∈ lw_tbl := List.mem_of_getElem? (i := 243) rfl
set_option maxRecDepth 20000 in
theorem co_Tree_sum : Cond.code y_Tree_sum b_Tree_sum 4 (some .int) ∈ lw_tbl := List.mem_of_getElem? (i := 244) rfl
set_option maxRecDepth 20000 in
theorem ml_law_18 : Cond.methodLink R_law 18 y_TT_remove ∈ lw_tbl := List.mem_of_getElem? (i := 245) rfl
set_option maxRecDepth 20000 in
theorem im_TT_remove : Cond.instanceMethod y_TT_remove ∈ lw_tbl := List.mem_of_getElem? (i := 246) rfl
set_option maxRecDepth 20000 in
theorem se_TT_remove : Cond.selects R_TT y_TT_remove y_TT_remove ∈ lw_tbl := List.mem_of_getElem? (i := 247) rfl
set_option maxRecDepth 20000 in
theorem co_TT_remove : Cond.code y_TT_remove b_TT_remove 5 (some .boolean) ∈ lw_tbl := List.mem_of_getElem? (i := 248) rfl
set_option maxRecDepth 20000 in
theorem ml_TT_58 : Cond.methodLink R_TT 58 y_Tree_remove ∈ lw_tbl := List.mem_of_getElem? (i := 249) rfl
set_option maxRecDepth 20000 in
theorem im_Tree_remove : Cond.instanceMethod y_Tree_remove ∈ lw_tbl := List.mem_of_getElem? (i := 250) rfl
set_option maxRecDepth 20000 in
theorem se_Tree_remove : Cond.selects R_Tree y_Tree_remove y_Tree_remove ∈ lw_tbl := List.mem_of_getElem? (i := 251) rfl
set_option maxRecDepth 20000 in
theorem co_Tree_remove : Cond.code y_Tree_remove b_Tree_remove 2 none ∈ lw_tbl := List.mem_of_getElem? (i := 252) rfl
set_option maxRecDepth 20000 in
theorem ml_Tree_105 : Cond.methodLink R_Tree 105 y_Tree_removeFrom ∈ lw_tbl := List.mem_of_getElem? (i := 253) rfl
set_option maxRecDepth 20000 in
theorem im_Tree_removeFrom : Cond.instanceMethod y_Tree_removeFrom ∈ lw_tbl := List.mem_of_getElem? (i := 255) rfl
set_option maxRecDepth 20000 in
theorem co_Tree_removeFrom : Cond.code y_Tree_removeFrom b_Tree_removeFrom 4 none ∈ lw_tbl := List.mem_of_getElem? (i := 256) rfl
set_option maxRecDepth 20000 in
theorem ml_Tree_112 : Cond.methodLink R_Tree 112 y_Tree_shut ∈ lw_tbl := List.mem_of_getElem? (i := 257) rfl
set_option maxRecDepth 20000 in
theorem im_Tree_shut : Cond.instanceMethod y_Tree_shut ∈ lw_tbl := List.mem_of_getElem? (i := 259) rfl
set_option maxRecDepth 20000 in
theorem co_Tree_shut : Cond.code y_Tree_shut b_Tree_shut 4 none ∈ lw_tbl := List.mem_of_getElem? (i := 260) rfl
set_option maxRecDepth 20000 in
theorem ml_Tree_115 : Cond.methodLink R_Tree 115 y_Tree_mend ∈ lw_tbl := List.mem_of_getElem? (i := 261) rfl
set_option maxRecDepth 20000 in
theorem im_Tree_mend : Cond.instanceMethod y_Tree_mend ∈ lw_tbl := List.mem_of_getElem? (i := 263) rfl
set_option maxRecDepth 20000 in
theorem co_Tree_mend : Cond.code y_Tree_mend b_Tree_mend 6 none ∈ lw_tbl := List.mem_of_getElem? (i := 264) rfl
set_option maxRecDepth 20000 in
theorem ml_Tree_118 : Cond.methodLink R_Tree 118 y_Tree_join ∈ lw_tbl := List.mem_of_getElem? (i := 265) rfl
set_option maxRecDepth 20000 in
theorem im_Tree_join : Cond.instanceMethod y_Tree_join ∈ lw_tbl := List.mem_of_getElem? (i := 267) rfl
set_option maxRecDepth 20000 in
theorem co_Tree_join : Cond.code y_Tree_join b_Tree_join 6 none ∈ lw_tbl := List.mem_of_getElem? (i := 268) rfl
set_option maxRecDepth 20000 in
theorem ml_Tree_109 : Cond.methodLink R_Tree 109 y_Tree_drop ∈ lw_tbl := List.mem_of_getElem? (i := 269) rfl
set_option maxRecDepth 20000 in
theorem im_Tree_drop : Cond.instanceMethod y_Tree_drop ∈ lw_tbl := List.mem_of_getElem? (i := 271) rfl
set_option maxRecDepth 20000 in
theorem co_Tree_drop : Cond.code y_Tree_drop b_Tree_drop 2 none ∈ lw_tbl := List.mem_of_getElem? (i := 272) rfl
set_option maxRecDepth 20000 in
theorem ml_Tree_121 : Cond.methodLink R_Tree 121 y_Tree_toRight ∈ lw_tbl := List.mem_of_getElem? (i := 273) rfl
set_option maxRecDepth 20000 in
theorem im_Tree_toRight : Cond.instanceMethod y_Tree_toRight ∈ lw_tbl := List.mem_of_getElem? (i := 275) rfl
set_option maxRecDepth 20000 in
theorem co_Tree_toRight : Cond.code y_Tree_toRight b_Tree_toRight 7 none ∈ lw_tbl := List.mem_of_getElem? (i := 276) rfl
set_option maxRecDepth 20000 in
theorem ml_Tree_124 : Cond.methodLink R_Tree 124 y_Tree_toLeft ∈ lw_tbl := List.mem_of_getElem? (i := 277) rfl
set_option maxRecDepth 20000 in
theorem im_Tree_toLeft : Cond.instanceMethod y_Tree_toLeft ∈ lw_tbl := List.mem_of_getElem? (i := 279) rfl
set_option maxRecDepth 20000 in
theorem co_Tree_toLeft : Cond.code y_Tree_toLeft b_Tree_toLeft 6 none ∈ lw_tbl := List.mem_of_getElem? (i := 280) rfl
set_option maxRecDepth 20000 in
theorem ml_law_28 : Cond.methodLink R_law 28 y_TT_holds ∈ lw_tbl := List.mem_of_getElem? (i := 281) rfl
set_option maxRecDepth 20000 in
theorem im_TT_holds : Cond.instanceMethod y_TT_holds ∈ lw_tbl := List.mem_of_getElem? (i := 282) rfl
set_option maxRecDepth 20000 in
theorem se_TT_holds : Cond.selects R_TT y_TT_holds y_TT_holds ∈ lw_tbl := List.mem_of_getElem? (i := 283) rfl
set_option maxRecDepth 20000 in
theorem co_TT_holds : Cond.code y_TT_holds b_TT_holds 4 (some .boolean) ∈ lw_tbl := List.mem_of_getElem? (i := 284) rfl
set_option maxRecDepth 20000 in
theorem ml_law_23 : Cond.methodLink R_law 23 y_TT_removeAll ∈ lw_tbl := List.mem_of_getElem? (i := 285) rfl
set_option maxRecDepth 20000 in
theorem im_TT_removeAll : Cond.instanceMethod y_TT_removeAll ∈ lw_tbl := List.mem_of_getElem? (i := 286) rfl
set_option maxRecDepth 20000 in
theorem se_TT_removeAll : Cond.selects R_TT y_TT_removeAll y_TT_removeAll ∈ lw_tbl := List.mem_of_getElem? (i := 287) rfl
set_option maxRecDepth 20000 in
theorem co_TT_removeAll : Cond.code y_TT_removeAll b_TT_removeAll 7 (some .int) ∈ lw_tbl := List.mem_of_getElem? (i := 288) rfl
set_option maxRecDepth 20000 in
theorem ml_TT_117 : Cond.methodLink R_TT 117 y_TT_isMask ∈ lw_tbl := List.mem_of_getElem? (i := 289) rfl
set_option maxRecDepth 20000 in
theorem sc_TT_isMask : Cond.static y_TT_isMask ∈ lw_tbl := List.mem_of_getElem? (i := 290) rfl
set_option maxRecDepth 20000 in
theorem co_TT_isMask : Cond.code y_TT_isMask b_TT_isMask 1 (some .boolean) ∈ lw_tbl := List.mem_of_getElem? (i := 291) rfl
set_option maxRecDepth 20000 in
theorem ml_TT_121 : Cond.methodLink R_TT 121 y_TT_begin ∈ lw_tbl := List.mem_of_getElem? (i := 292) rfl
set_option maxRecDepth 20000 in
theorem im_TT_begin : Cond.instanceMethod y_TT_begin ∈ lw_tbl := List.mem_of_getElem? (i := 294) rfl
set_option maxRecDepth 20000 in
theorem co_TT_begin : Cond.code y_TT_begin b_TT_begin 8 none ∈ lw_tbl := List.mem_of_getElem? (i := 295) rfl
set_option maxRecDepth 20000 in
theorem ml_TT_68 : Cond.methodLink R_TT 68 y_TT_orderOf ∈ lw_tbl := List.mem_of_getElem? (i := 296) rfl
set_option maxRecDepth 20000 in
theorem sc_TT_orderOf : Cond.static y_TT_orderOf ∈ lw_tbl := List.mem_of_getElem? (i := 297) rfl
set_option maxRecDepth 20000 in
theorem co_TT_orderOf : Cond.code y_TT_orderOf b_TT_orderOf 1 (some .int) ∈ lw_tbl := List.mem_of_getElem? (i := 298) rfl
set_option maxRecDepth 20000 in
theorem ml_TT_75 : Cond.methodLink R_TT 75 y_Int_bitCount ∈ lw_tbl := List.mem_of_getElem? (i := 299) rfl
set_option maxRecDepth 20000 in
theorem sc_Int_bitCount : Cond.static y_Int_bitCount ∈ lw_tbl := List.mem_of_getElem? (i := 300) rfl
set_option maxRecDepth 20000 in
theorem co_Int_bitCount : Cond.code y_Int_bitCount b_Int_bitCount 1 (some .int) ∈ lw_tbl := List.mem_of_getElem? (i := 301) rfl
set_option maxRecDepth 20000 in
theorem cn_Int_265 : Cond.constant R_Int 265 (1431655765) ∈ lw_tbl := List.mem_of_getElem? (i := 302) rfl
set_option maxRecDepth 20000 in
theorem cn_Int_266 : Cond.constant R_Int 266 (858993459) ∈ lw_tbl := List.mem_of_getElem? (i := 303) rfl
set_option maxRecDepth 20000 in
theorem cn_Int_267 : Cond.constant R_Int 267 (252645135) ∈ lw_tbl := List.mem_of_getElem? (i := 304) rfl
set_option maxRecDepth 20000 in
theorem cn_TT_91 : Cond.constant R_TT 91 (-2147483648) ∈ lw_tbl := List.mem_of_getElem? (i := 305) rfl
set_option maxRecDepth 20000 in
theorem ml_TT_92 : Cond.methodLink R_TT 92 y_Tree_leaf ∈ lw_tbl := List.mem_of_getElem? (i := 306) rfl
set_option maxRecDepth 20000 in
theorem ml_TT_98 : Cond.methodLink R_TT 98 y_Tree_below ∈ lw_tbl := List.mem_of_getElem? (i := 307) rfl
set_option maxRecDepth 20000 in
theorem ml_TT_125 : Cond.methodLink R_TT 125 y_TT_step ∈ lw_tbl := List.mem_of_getElem? (i := 308) rfl
set_option maxRecDepth 20000 in
theorem im_TT_step : Cond.instanceMethod y_TT_step ∈ lw_tbl := List.mem_of_getElem? (i := 310) rfl
set_option maxRecDepth 20000 in
theorem co_TT_step : Cond.code y_TT_step b_TT_step 5 (some .boolean) ∈ lw_tbl := List.mem_of_getElem? (i := 311) rfl
set_option maxRecDepth 20000 in
theorem ml_TT_110 : Cond.methodLink R_TT 110 y_Tree_part ∈ lw_tbl := List.mem_of_getElem? (i := 312) rfl
set_option maxRecDepth 20000 in
theorem im_Tree_part : Cond.instanceMethod y_Tree_part ∈ lw_tbl := List.mem_of_getElem? (i := 313) rfl
set_option maxRecDepth 20000 in
theorem se_Tree_part : Cond.selects R_Tree y_Tree_part y_Tree_part ∈ lw_tbl := List.mem_of_getElem? (i := 314) rfl
set_option maxRecDepth 20000 in
theorem co_Tree_part : Cond.code y_Tree_part b_Tree_part 4 (some .int) ∈ lw_tbl := List.mem_of_getElem? (i := 315) rfl
set_option maxRecDepth 20000 in
theorem ml_TT_129 : Cond.methodLink R_TT 129 y_TT_partOf ∈ lw_tbl := List.mem_of_getElem? (i := 316) rfl
set_option maxRecDepth 20000 in
theorem sc_TT_partOf : Cond.static y_TT_partOf ∈ lw_tbl := List.mem_of_getElem? (i := 317) rfl
set_option maxRecDepth 20000 in
theorem co_TT_partOf : Cond.code y_TT_partOf b_TT_partOf 2 (some .int) ∈ lw_tbl := List.mem_of_getElem? (i := 318) rfl
set_option maxRecDepth 20000 in
theorem ml_TT_133 : Cond.methodLink R_TT 133 y_TT_remove ∈ lw_tbl := List.mem_of_getElem? (i := 319) rfl
set_option maxRecDepth 20000 in
theorem ml_law_32 : Cond.methodLink R_law 32 y_TT_open ∈ lw_tbl := List.mem_of_getElem? (i := 320) rfl
set_option maxRecDepth 20000 in
theorem im_TT_open : Cond.instanceMethod y_TT_open ∈ lw_tbl := List.mem_of_getElem? (i := 321) rfl
set_option maxRecDepth 20000 in
theorem se_TT_open : Cond.selects R_TT y_TT_open y_TT_open ∈ lw_tbl := List.mem_of_getElem? (i := 322) rfl
set_option maxRecDepth 20000 in
theorem co_TT_open : Cond.code y_TT_open b_TT_open 6 (some .int) ∈ lw_tbl := List.mem_of_getElem? (i := 323) rfl
set_option maxRecDepth 20000 in
theorem ml_law_36 : Cond.methodLink R_law 36 y_TT_next ∈ lw_tbl := List.mem_of_getElem? (i := 324) rfl
set_option maxRecDepth 20000 in
theorem im_TT_next : Cond.instanceMethod y_TT_next ∈ lw_tbl := List.mem_of_getElem? (i := 325) rfl
set_option maxRecDepth 20000 in
theorem se_TT_next : Cond.selects R_TT y_TT_next y_TT_next ∈ lw_tbl := List.mem_of_getElem? (i := 326) rfl
set_option maxRecDepth 20000 in
theorem co_TT_next : Cond.code y_TT_next b_TT_next 3 (some .int) ∈ lw_tbl := List.mem_of_getElem? (i := 327) rfl
set_option maxRecDepth 20000 in
theorem ml_TT_139 : Cond.methodLink R_TT 139 y_TT_state ∈ lw_tbl := List.mem_of_getElem? (i := 328) rfl
set_option maxRecDepth 20000 in
theorem im_TT_state : Cond.instanceMethod y_TT_state ∈ lw_tbl := List.mem_of_getElem? (i := 330) rfl
set_option maxRecDepth 20000 in
theorem co_TT_state : Cond.code y_TT_state b_TT_state 2 (some .int) ∈ lw_tbl := List.mem_of_getElem? (i := 331) rfl
set_option maxRecDepth 20000 in
theorem ml_TT_136 : Cond.methodLink R_TT 136 y_TT_isOpen ∈ lw_tbl := List.mem_of_getElem? (i := 332) rfl
set_option maxRecDepth 20000 in
theorem im_TT_isOpen : Cond.instanceMethod y_TT_isOpen ∈ lw_tbl := List.mem_of_getElem? (i := 334) rfl
set_option maxRecDepth 20000 in
theorem co_TT_isOpen : Cond.code y_TT_isOpen b_TT_isOpen 2 (some .boolean) ∈ lw_tbl := List.mem_of_getElem? (i := 335) rfl
set_option maxRecDepth 20000 in
theorem ml_law_41 : Cond.methodLink R_law 41 y_TT_seek ∈ lw_tbl := List.mem_of_getElem? (i := 336) rfl
set_option maxRecDepth 20000 in
theorem im_TT_seek : Cond.instanceMethod y_TT_seek ∈ lw_tbl := List.mem_of_getElem? (i := 337) rfl
set_option maxRecDepth 20000 in
theorem se_TT_seek : Cond.selects R_TT y_TT_seek y_TT_seek ∈ lw_tbl := List.mem_of_getElem? (i := 338) rfl
set_option maxRecDepth 20000 in
theorem co_TT_seek : Cond.code y_TT_seek b_TT_seek 9 (some .int) ∈ lw_tbl := List.mem_of_getElem? (i := 339) rfl
set_option maxRecDepth 20000 in
theorem ml_TT_142 : Cond.methodLinkNest R_TT 142 y_Tree_compare R_TT ∈ lw_tbl := List.mem_of_getElem? (i := 340) rfl
set_option maxRecDepth 20000 in
theorem ml_law_45 : Cond.methodLink R_law 45 y_TT_part ∈ lw_tbl := List.mem_of_getElem? (i := 341) rfl
set_option maxRecDepth 20000 in
theorem im_TT_part : Cond.instanceMethod y_TT_part ∈ lw_tbl := List.mem_of_getElem? (i := 342) rfl
set_option maxRecDepth 20000 in
theorem se_TT_part : Cond.selects R_TT y_TT_part y_TT_part ∈ lw_tbl := List.mem_of_getElem? (i := 343) rfl
set_option maxRecDepth 20000 in
theorem co_TT_part : Cond.code y_TT_part b_TT_part 3 (some .int) ∈ lw_tbl := List.mem_of_getElem? (i := 344) rfl
set_option maxRecDepth 20000 in
theorem ml_law_50 : Cond.methodLink R_law 50 y_TT_close ∈ lw_tbl := List.mem_of_getElem? (i := 345) rfl
set_option maxRecDepth 20000 in
theorem im_TT_close : Cond.instanceMethod y_TT_close ∈ lw_tbl := List.mem_of_getElem? (i := 346) rfl
set_option maxRecDepth 20000 in
theorem se_TT_close : Cond.selects R_TT y_TT_close y_TT_close ∈ lw_tbl := List.mem_of_getElem? (i := 347) rfl
set_option maxRecDepth 20000 in
theorem co_TT_close : Cond.code y_TT_close b_TT_close 2 (some .boolean) ∈ lw_tbl := List.mem_of_getElem? (i := 348) rfl
set_option maxRecDepth 20000 in
theorem ml_law_55 : Cond.methodLink R_law 55 y_TT_many ∈ lw_tbl := List.mem_of_getElem? (i := 349) rfl
set_option maxRecDepth 20000 in
theorem im_TT_many : Cond.instanceMethod y_TT_many ∈ lw_tbl := List.mem_of_getElem? (i := 350) rfl
set_option maxRecDepth 20000 in
theorem se_TT_many : Cond.selects R_TT y_TT_many y_TT_many ∈ lw_tbl := List.mem_of_getElem? (i := 351) rfl
set_option maxRecDepth 20000 in
theorem co_TT_many : Cond.code y_TT_many b_TT_many 6 (some .int) ∈ lw_tbl := List.mem_of_getElem? (i := 352) rfl
set_option maxRecDepth 20000 in
theorem ml_law_59 : Cond.methodLink R_law 59 y_TT_at ∈ lw_tbl := List.mem_of_getElem? (i := 353) rfl
set_option maxRecDepth 20000 in
theorem im_TT_at : Cond.instanceMethod y_TT_at ∈ lw_tbl := List.mem_of_getElem? (i := 354) rfl
set_option maxRecDepth 20000 in
theorem se_TT_at : Cond.selects R_TT y_TT_at y_TT_at ∈ lw_tbl := List.mem_of_getElem? (i := 355) rfl
set_option maxRecDepth 20000 in
theorem co_TT_at : Cond.code y_TT_at b_TT_at 5 (some .int) ∈ lw_tbl := List.mem_of_getElem? (i := 356) rfl
set_option maxRecDepth 20000 in
theorem ml_TT_146 : Cond.methodLink R_TT 146 y_Tree_find ∈ lw_tbl := List.mem_of_getElem? (i := 357) rfl
set_option maxRecDepth 20000 in
theorem im_Tree_find : Cond.instanceMethod y_Tree_find ∈ lw_tbl := List.mem_of_getElem? (i := 358) rfl
set_option maxRecDepth 20000 in
theorem se_Tree_find : Cond.selects R_Tree y_Tree_find y_Tree_find ∈ lw_tbl := List.mem_of_getElem? (i := 359) rfl
set_option maxRecDepth 20000 in
theorem co_Tree_find : Cond.code y_Tree_find b_Tree_find 5 none ∈ lw_tbl := List.mem_of_getElem? (i := 360) rfl
set_option maxRecDepth 20000 in
theorem ml_law_63 : Cond.methodLink R_law 63 y_TT_before ∈ lw_tbl := List.mem_of_getElem? (i := 361) rfl
set_option maxRecDepth 20000 in
theorem im_TT_before : Cond.instanceMethod y_TT_before ∈ lw_tbl := List.mem_of_getElem? (i := 362) rfl
set_option maxRecDepth 20000 in
theorem se_TT_before : Cond.selects R_TT y_TT_before y_TT_before ∈ lw_tbl := List.mem_of_getElem? (i := 363) rfl
set_option maxRecDepth 20000 in
theorem co_TT_before : Cond.code y_TT_before b_TT_before 5 (some .int) ∈ lw_tbl := List.mem_of_getElem? (i := 364) rfl
set_option maxRecDepth 20000 in
theorem ml_TT_156 : Cond.methodLink R_TT 156 y_Tree_rank ∈ lw_tbl := List.mem_of_getElem? (i := 365) rfl
set_option maxRecDepth 20000 in
theorem im_Tree_rank : Cond.instanceMethod y_Tree_rank ∈ lw_tbl := List.mem_of_getElem? (i := 366) rfl
set_option maxRecDepth 20000 in
theorem se_Tree_rank : Cond.selects R_Tree y_Tree_rank y_Tree_rank ∈ lw_tbl := List.mem_of_getElem? (i := 367) rfl
set_option maxRecDepth 20000 in
theorem co_Tree_rank : Cond.code y_Tree_rank b_Tree_rank 5 (some .int) ∈ lw_tbl := List.mem_of_getElem? (i := 368) rfl
set_option maxRecDepth 20000 in
theorem ml_law_67 : Cond.methodLink R_law 67 y_TT_different ∈ lw_tbl := List.mem_of_getElem? (i := 369) rfl
set_option maxRecDepth 20000 in
theorem im_TT_different : Cond.instanceMethod y_TT_different ∈ lw_tbl := List.mem_of_getElem? (i := 370) rfl
set_option maxRecDepth 20000 in
theorem se_TT_different : Cond.selects R_TT y_TT_different y_TT_different ∈ lw_tbl := List.mem_of_getElem? (i := 371) rfl
set_option maxRecDepth 20000 in
theorem co_TT_different : Cond.code y_TT_different b_TT_different 4 (some .int) ∈ lw_tbl := List.mem_of_getElem? (i := 372) rfl
set_option maxRecDepth 20000 in
theorem ml_law_71 : Cond.methodLink R_law 71 y_TT_chains ∈ lw_tbl := List.mem_of_getElem? (i := 373) rfl
set_option maxRecDepth 20000 in
theorem im_TT_chains : Cond.instanceMethod y_TT_chains ∈ lw_tbl := List.mem_of_getElem? (i := 374) rfl
set_option maxRecDepth 20000 in
theorem se_TT_chains : Cond.selects R_TT y_TT_chains y_TT_chains ∈ lw_tbl := List.mem_of_getElem? (i := 375) rfl
set_option maxRecDepth 20000 in
theorem co_TT_chains : Cond.code y_TT_chains b_TT_chains 4 (some .int) ∈ lw_tbl := List.mem_of_getElem? (i := 376) rfl
set_option maxRecDepth 20000 in
theorem ml_law_75 : Cond.methodLink R_law 75 y_TT_far ∈ lw_tbl := List.mem_of_getElem? (i := 377) rfl
set_option maxRecDepth 20000 in
theorem im_TT_far : Cond.instanceMethod y_TT_far ∈ lw_tbl := List.mem_of_getElem? (i := 378) rfl
set_option maxRecDepth 20000 in
theorem se_TT_far : Cond.selects R_TT y_TT_far y_TT_far ∈ lw_tbl := List.mem_of_getElem? (i := 379) rfl
set_option maxRecDepth 20000 in
theorem co_TT_far : Cond.code y_TT_far b_TT_far 5 (some .int) ∈ lw_tbl := List.mem_of_getElem? (i := 380) rfl
set_option maxRecDepth 20000 in
theorem ml_TT_166 : Cond.methodLink R_TT 166 y_TT_walk ∈ lw_tbl := List.mem_of_getElem? (i := 381) rfl
set_option maxRecDepth 20000 in
theorem im_TT_walk : Cond.instanceMethod y_TT_walk ∈ lw_tbl := List.mem_of_getElem? (i := 383) rfl
set_option maxRecDepth 20000 in
theorem co_TT_walk : Cond.code y_TT_walk b_TT_walk 4 none ∈ lw_tbl := List.mem_of_getElem? (i := 384) rfl
set_option maxRecDepth 20000 in
theorem ml_TT_162 : Cond.methodLink R_TT 162 y_TT_meet ∈ lw_tbl := List.mem_of_getElem? (i := 385) rfl
set_option maxRecDepth 20000 in
theorem im_TT_meet : Cond.instanceMethod y_TT_meet ∈ lw_tbl := List.mem_of_getElem? (i := 387) rfl
set_option maxRecDepth 20000 in
theorem co_TT_meet : Cond.code y_TT_meet b_TT_meet 4 none ∈ lw_tbl := List.mem_of_getElem? (i := 388) rfl
set_option maxRecDepth 20000 in
theorem ml_law_79 : Cond.methodLink R_law 79 y_TT_reached ∈ lw_tbl := List.mem_of_getElem? (i := 389) rfl
set_option maxRecDepth 20000 in
theorem im_TT_reached : Cond.instanceMethod y_TT_reached ∈ lw_tbl := List.mem_of_getElem? (i := 390) rfl
set_option maxRecDepth 20000 in
theorem se_TT_reached : Cond.selects R_TT y_TT_reached y_TT_reached ∈ lw_tbl := List.mem_of_getElem? (i := 391) rfl
set_option maxRecDepth 20000 in
theorem co_TT_reached : Cond.code y_TT_reached b_TT_reached 3 (some .int) ∈ lw_tbl := List.mem_of_getElem? (i := 392) rfl
set_option maxRecDepth 20000 in
theorem ml_law_83 : Cond.methodLink R_law 83 y_TT_size ∈ lw_tbl := List.mem_of_getElem? (i := 393) rfl
set_option maxRecDepth 20000 in
theorem im_TT_size : Cond.instanceMethod y_TT_size ∈ lw_tbl := List.mem_of_getElem? (i := 394) rfl
set_option maxRecDepth 20000 in
theorem se_TT_size : Cond.selects R_TT y_TT_size y_TT_size ∈ lw_tbl := List.mem_of_getElem? (i := 395) rfl
set_option maxRecDepth 20000 in
theorem co_TT_size : Cond.code y_TT_size b_TT_size 1 (some .int) ∈ lw_tbl := List.mem_of_getElem? (i := 396) rfl
set_option maxRecDepth 20000 in
theorem ml_law_88 : Cond.methodLink R_law 88 y_TT_changes ∈ lw_tbl := List.mem_of_getElem? (i := 397) rfl
set_option maxRecDepth 20000 in
theorem im_TT_changes : Cond.instanceMethod y_TT_changes ∈ lw_tbl := List.mem_of_getElem? (i := 398) rfl
set_option maxRecDepth 20000 in
theorem se_TT_changes : Cond.selects R_TT y_TT_changes y_TT_changes ∈ lw_tbl := List.mem_of_getElem? (i := 399) rfl
set_option maxRecDepth 20000 in
theorem co_TT_changes : Cond.code y_TT_changes b_TT_changes 1 (some .int) ∈ lw_tbl := List.mem_of_getElem? (i := 400) rfl
set_option maxRecDepth 20000 in
theorem cl_law_10 : Cond.classLink R_law 10 R_Mod ∈ lw_tbl := List.mem_of_getElem? (i := 401) rfl
set_option maxRecDepth 20000 in
theorem it_Mod : Cond.instantiable R_Mod 11 ∈ lw_tbl := List.mem_of_getElem? (i := 402) rfl
set_option maxRecDepth 20000 in
theorem ml_law_12 : Cond.methodLink R_law 12 y_Mod_init ∈ lw_tbl := List.mem_of_getElem? (i := 403) rfl
set_option maxRecDepth 20000 in
theorem im_Mod_init : Cond.instanceMethod y_Mod_init ∈ lw_tbl := List.mem_of_getElem? (i := 404) rfl
set_option maxRecDepth 20000 in
theorem co_Mod_init : Cond.code y_Mod_init b_Mod_init 1 none ∈ lw_tbl := List.mem_of_getElem? (i := 405) rfl
set_option maxRecDepth 20000 in
theorem ml_Mod_1 : Cond.methodLink R_Mod 1 objectInit ∈ lw_tbl := List.mem_of_getElem? (i := 406) rfl
set_option maxRecDepth 20000 in
theorem fl_Mod_7 : Cond.fieldLink R_Mod 7 R_Mod "rows" "[I" ∈ lw_tbl := List.mem_of_getElem? (i := 407) rfl
set_option maxRecDepth 20000 in
theorem fl_Mod_35 : Cond.fieldLink R_Mod 35 R_Mod "size" "I" ∈ lw_tbl := List.mem_of_getElem? (i := 408) rfl
set_option maxRecDepth 20000 in
theorem fl_Mod_55 : Cond.fieldLink R_Mod 55 R_Mod "changes" "I" ∈ lw_tbl := List.mem_of_getElem? (i := 409) rfl
set_option maxRecDepth 20000 in
theorem fl_Mod_13 : Cond.fieldLink R_Mod 13 R_Mod "isOpen" "[Z" ∈ lw_tbl := List.mem_of_getElem? (i := 410) rfl
set_option maxRecDepth 20000 in
theorem fl_Mod_17 : Cond.fieldLink R_Mod 17 R_Mod "isStale" "[Z" ∈ lw_tbl := List.mem_of_getElem? (i := 411) rfl
set_option maxRecDepth 20000 in
theorem fl_Mod_20 : Cond.fieldLink R_Mod 20 R_Mod "masks" "[I" ∈ lw_tbl := List.mem_of_getElem? (i := 412) rfl
set_option maxRecDepth 20000 in
theorem fl_Mod_23 : Cond.fieldLink R_Mod 23 R_Mod "patterns" "[I" ∈ lw_tbl := List.mem_of_getElem? (i := 413) rfl
set_option maxRecDepth 20000 in
theorem fl_Mod_26 : Cond.fieldLink R_Mod 26 R_Mod "places" "[I" ∈ lw_tbl := List.mem_of_getElem? (i := 414) rfl
set_option maxRecDepth 20000 in
theorem fl_Mod_29 : Cond.fieldLink R_Mod 29 R_Mod "met" "[I" ∈ lw_tbl := List.mem_of_getElem? (i := 415) rfl
set_option maxRecDepth 20000 in
theorem fl_Mod_32 : Cond.fieldLink R_Mod 32 R_Mod "steps" "[I" ∈ lw_tbl := List.mem_of_getElem? (i := 416) rfl
set_option maxRecDepth 20000 in
theorem fl_Mod_87 : Cond.fieldLink R_Mod 87 R_Mod "meets" "I" ∈ lw_tbl := List.mem_of_getElem? (i := 417) rfl
set_option maxRecDepth 20000 in
theorem ml_law_31 : Cond.methodLink R_law 31 y_Mod_holds ∈ lw_tbl := List.mem_of_getElem? (i := 441) rfl
set_option maxRecDepth 20000 in
theorem im_Mod_holds : Cond.instanceMethod y_Mod_holds ∈ lw_tbl := List.mem_of_getElem? (i := 442) rfl
set_option maxRecDepth 20000 in
theorem se_Mod_holds : Cond.selects R_Mod y_Mod_holds y_Mod_holds ∈ lw_tbl := List.mem_of_getElem? (i := 443) rfl
set_option maxRecDepth 20000 in
theorem co_Mod_holds : Cond.code y_Mod_holds b_Mod_holds 5 (some .boolean) ∈ lw_tbl := List.mem_of_getElem? (i := 444) rfl
set_option maxRecDepth 20000 in
theorem ml_Mod_51 : Cond.methodLink R_Mod 51 y_Mod_placeOf ∈ lw_tbl := List.mem_of_getElem? (i := 445) rfl
set_option maxRecDepth 20000 in
theorem im_Mod_placeOf : Cond.instanceMethod y_Mod_placeOf ∈ lw_tbl := List.mem_of_getElem? (i := 447) rfl
set_option maxRecDepth 20000 in
theorem co_Mod_placeOf : Cond.code y_Mod_placeOf b_Mod_placeOf 6 (some .int) ∈ lw_tbl := List.mem_of_getElem? (i := 448) rfl
set_option maxRecDepth 20000 in
theorem ml_Mod_47 : Cond.methodLink R_Mod 47 y_Mod_compare ∈ lw_tbl := List.mem_of_getElem? (i := 449) rfl
set_option maxRecDepth 20000 in
theorem im_Mod_compare : Cond.instanceMethod y_Mod_compare ∈ lw_tbl := List.mem_of_getElem? (i := 451) rfl
set_option maxRecDepth 20000 in
theorem co_Mod_compare : Cond.code y_Mod_compare b_Mod_compare 10 (some .int) ∈ lw_tbl := List.mem_of_getElem? (i := 452) rfl
set_option maxRecDepth 20000 in
theorem ml_Mod_39 : Cond.methodLink R_Mod 39 y_Mod_partOf ∈ lw_tbl := List.mem_of_getElem? (i := 453) rfl
set_option maxRecDepth 20000 in
theorem sc_Mod_partOf : Cond.static y_Mod_partOf ∈ lw_tbl := List.mem_of_getElem? (i := 454) rfl
set_option maxRecDepth 20000 in
theorem co_Mod_partOf : Cond.code y_Mod_partOf b_Mod_partOf 2 (some .int) ∈ lw_tbl := List.mem_of_getElem? (i := 455) rfl
set_option maxRecDepth 20000 in
theorem ml_Mod_43 : Cond.methodLink R_Mod 43 y_Mod_cell ∈ lw_tbl := List.mem_of_getElem? (i := 456) rfl
set_option maxRecDepth 20000 in
theorem im_Mod_cell : Cond.instanceMethod y_Mod_cell ∈ lw_tbl := List.mem_of_getElem? (i := 458) rfl
set_option maxRecDepth 20000 in
theorem co_Mod_cell : Cond.code y_Mod_cell b_Mod_cell 4 (some .int) ∈ lw_tbl := List.mem_of_getElem? (i := 459) rfl
set_option maxRecDepth 20000 in
theorem ml_law_17 : Cond.methodLink R_law 17 y_Mod_add ∈ lw_tbl := List.mem_of_getElem? (i := 460) rfl
set_option maxRecDepth 20000 in
theorem im_Mod_add : Cond.instanceMethod y_Mod_add ∈ lw_tbl := List.mem_of_getElem? (i := 461) rfl
set_option maxRecDepth 20000 in
theorem se_Mod_add : Cond.selects R_Mod y_Mod_add y_Mod_add ∈ lw_tbl := List.mem_of_getElem? (i := 462) rfl
set_option maxRecDepth 20000 in
theorem co_Mod_add : Cond.code y_Mod_add b_Mod_add 8 (some .int) ∈ lw_tbl := List.mem_of_getElem? (i := 463) rfl
set_option maxRecDepth 20000 in
theorem ml_Mod_58 : Cond.methodLink R_Mod 58 y_Mod_holds ∈ lw_tbl := List.mem_of_getElem? (i := 464) rfl
set_option maxRecDepth 20000 in
theorem ml_Mod_62 : Cond.methodLink R_Mod 62 y_Mod_changed ∈ lw_tbl := List.mem_of_getElem? (i := 465) rfl
set_option maxRecDepth 20000 in
theorem im_Mod_changed : Cond.instanceMethod y_Mod_changed ∈ lw_tbl := List.mem_of_getElem? (i := 467) rfl
set_option maxRecDepth 20000 in
theorem co_Mod_changed : Cond.code y_Mod_changed b_Mod_changed 2 none ∈ lw_tbl := List.mem_of_getElem? (i := 468) rfl
set_option maxRecDepth 20000 in
theorem ml_law_22 : Cond.methodLink R_law 22 y_Mod_remove ∈ lw_tbl := List.mem_of_getElem? (i := 469) rfl
set_option maxRecDepth 20000 in
theorem im_Mod_remove : Cond.instanceMethod y_Mod_remove ∈ lw_tbl := List.mem_of_getElem? (i := 470) rfl
set_option maxRecDepth 20000 in
theorem se_Mod_remove : Cond.selects R_Mod y_Mod_remove y_Mod_remove ∈ lw_tbl := List.mem_of_getElem? (i := 471) rfl
set_option maxRecDepth 20000 in
theorem co_Mod_remove : Cond.code y_Mod_remove b_Mod_remove 8 (some .boolean) ∈ lw_tbl := List.mem_of_getElem? (i := 472) rfl
set_option maxRecDepth 20000 in
theorem ml_law_27 : Cond.methodLink R_law 27 y_Mod_removeAll ∈ lw_tbl := List.mem_of_getElem? (i := 473) rfl
set_option maxRecDepth 20000 in
theorem im_Mod_removeAll : Cond.instanceMethod y_Mod_removeAll ∈ lw_tbl := List.mem_of_getElem? (i := 474) rfl
set_option maxRecDepth 20000 in
theorem se_Mod_removeAll : Cond.selects R_Mod y_Mod_removeAll y_Mod_removeAll ∈ lw_tbl := List.mem_of_getElem? (i := 475) rfl
set_option maxRecDepth 20000 in
theorem co_Mod_removeAll : Cond.code y_Mod_removeAll b_Mod_removeAll 7 (some .int) ∈ lw_tbl := List.mem_of_getElem? (i := 476) rfl
set_option maxRecDepth 20000 in
theorem ml_Mod_65 : Cond.methodLink R_Mod 65 y_Mod_isMask ∈ lw_tbl := List.mem_of_getElem? (i := 477) rfl
set_option maxRecDepth 20000 in
theorem sc_Mod_isMask : Cond.static y_Mod_isMask ∈ lw_tbl := List.mem_of_getElem? (i := 478) rfl
set_option maxRecDepth 20000 in
theorem co_Mod_isMask : Cond.code y_Mod_isMask b_Mod_isMask 1 (some .boolean) ∈ lw_tbl := List.mem_of_getElem? (i := 479) rfl
set_option maxRecDepth 20000 in
theorem ml_Mod_69 : Cond.methodLink R_Mod 69 y_Mod_matches ∈ lw_tbl := List.mem_of_getElem? (i := 480) rfl
set_option maxRecDepth 20000 in
theorem im_Mod_matches : Cond.instanceMethod y_Mod_matches ∈ lw_tbl := List.mem_of_getElem? (i := 482) rfl
set_option maxRecDepth 20000 in
theorem co_Mod_matches : Cond.code y_Mod_matches b_Mod_matches 7 (some .boolean) ∈ lw_tbl := List.mem_of_getElem? (i := 483) rfl
set_option maxRecDepth 20000 in
theorem ml_Mod_73 : Cond.methodLink R_Mod 73 y_Mod_remove ∈ lw_tbl := List.mem_of_getElem? (i := 484) rfl
set_option maxRecDepth 20000 in
theorem ml_law_58 : Cond.methodLink R_law 58 y_Mod_many ∈ lw_tbl := List.mem_of_getElem? (i := 485) rfl
set_option maxRecDepth 20000 in
theorem im_Mod_many : Cond.instanceMethod y_Mod_many ∈ lw_tbl := List.mem_of_getElem? (i := 486) rfl
set_option maxRecDepth 20000 in
theorem se_Mod_many : Cond.selects R_Mod y_Mod_many y_Mod_many ∈ lw_tbl := List.mem_of_getElem? (i := 487) rfl
set_option maxRecDepth 20000 in
theorem co_Mod_many : Cond.code y_Mod_many b_Mod_many 7 (some .int) ∈ lw_tbl := List.mem_of_getElem? (i := 488) rfl
set_option maxRecDepth 20000 in
theorem ml_law_35 : Cond.methodLink R_law 35 y_Mod_open ∈ lw_tbl := List.mem_of_getElem? (i := 489) rfl
set_option maxRecDepth 20000 in
theorem im_Mod_open : Cond.instanceMethod y_Mod_open ∈ lw_tbl := List.mem_of_getElem? (i := 490) rfl
set_option maxRecDepth 20000 in
theorem se_Mod_open : Cond.selects R_Mod y_Mod_open y_Mod_open ∈ lw_tbl := List.mem_of_getElem? (i := 491) rfl
set_option maxRecDepth 20000 in
theorem co_Mod_open : Cond.code y_Mod_open b_Mod_open 6 (some .int) ∈ lw_tbl := List.mem_of_getElem? (i := 492) rfl
set_option maxRecDepth 20000 in
theorem ml_law_40 : Cond.methodLink R_law 40 y_Mod_next ∈ lw_tbl := List.mem_of_getElem? (i := 493) rfl
set_option maxRecDepth 20000 in
theorem im_Mod_next : Cond.instanceMethod y_Mod_next ∈ lw_tbl := List.mem_of_getElem? (i := 494) rfl
set_option maxRecDepth 20000 in
theorem se_Mod_next : Cond.selects R_Mod y_Mod_next y_Mod_next ∈ lw_tbl := List.mem_of_getElem? (i := 495) rfl
set_option maxRecDepth 20000 in
theorem co_Mod_next : Cond.code y_Mod_next b_Mod_next 2 (some .int) ∈ lw_tbl := List.mem_of_getElem? (i := 496) rfl
set_option maxRecDepth 20000 in
theorem ml_Mod_83 : Cond.methodLink R_Mod 83 y_Mod_goOn ∈ lw_tbl := List.mem_of_getElem? (i := 497) rfl
set_option maxRecDepth 20000 in
theorem im_Mod_goOn : Cond.instanceMethod y_Mod_goOn ∈ lw_tbl := List.mem_of_getElem? (i := 499) rfl
set_option maxRecDepth 20000 in
theorem co_Mod_goOn : Cond.code y_Mod_goOn b_Mod_goOn 8 (some .int) ∈ lw_tbl := List.mem_of_getElem? (i := 500) rfl
set_option maxRecDepth 20000 in
theorem ml_Mod_76 : Cond.methodLink R_Mod 76 y_Mod_isCursor ∈ lw_tbl := List.mem_of_getElem? (i := 501) rfl
set_option maxRecDepth 20000 in
theorem im_Mod_isCursor : Cond.instanceMethod y_Mod_isCursor ∈ lw_tbl := List.mem_of_getElem? (i := 503) rfl
set_option maxRecDepth 20000 in
theorem co_Mod_isCursor : Cond.code y_Mod_isCursor b_Mod_isCursor 2 (some .boolean) ∈ lw_tbl := List.mem_of_getElem? (i := 504) rfl
set_option maxRecDepth 20000 in
theorem ml_Mod_79 : Cond.methodLink R_Mod 79 y_Mod_orderOf ∈ lw_tbl := List.mem_of_getElem? (i := 505) rfl
set_option maxRecDepth 20000 in
theorem sc_Mod_orderOf : Cond.static y_Mod_orderOf ∈ lw_tbl := List.mem_of_getElem? (i := 506) rfl
set_option maxRecDepth 20000 in
theorem co_Mod_orderOf : Cond.code y_Mod_orderOf b_Mod_orderOf 1 (some .int) ∈ lw_tbl := List.mem_of_getElem? (i := 507) rfl
set_option maxRecDepth 20000 in
theorem ml_law_44 : Cond.methodLink R_law 44 y_Mod_seek ∈ lw_tbl := List.mem_of_getElem? (i := 508) rfl
set_option maxRecDepth 20000 in
theorem im_Mod_seek : Cond.instanceMethod y_Mod_seek ∈ lw_tbl := List.mem_of_getElem? (i := 509) rfl
set_option maxRecDepth 20000 in
theorem se_Mod_seek : Cond.selects R_Mod y_Mod_seek y_Mod_seek ∈ lw_tbl := List.mem_of_getElem? (i := 510) rfl
set_option maxRecDepth 20000 in
theorem co_Mod_seek : Cond.code y_Mod_seek b_Mod_seek 9 (some .int) ∈ lw_tbl := List.mem_of_getElem? (i := 511) rfl
set_option maxRecDepth 20000 in
theorem ml_law_49 : Cond.methodLink R_law 49 y_Mod_part ∈ lw_tbl := List.mem_of_getElem? (i := 512) rfl
set_option maxRecDepth 20000 in
theorem im_Mod_part : Cond.instanceMethod y_Mod_part ∈ lw_tbl := List.mem_of_getElem? (i := 513) rfl
set_option maxRecDepth 20000 in
theorem se_Mod_part : Cond.selects R_Mod y_Mod_part y_Mod_part ∈ lw_tbl := List.mem_of_getElem? (i := 514) rfl
set_option maxRecDepth 20000 in
theorem co_Mod_part : Cond.code y_Mod_part b_Mod_part 3 (some .int) ∈ lw_tbl := List.mem_of_getElem? (i := 515) rfl
set_option maxRecDepth 20000 in
theorem ml_law_54 : Cond.methodLink R_law 54 y_Mod_close ∈ lw_tbl := List.mem_of_getElem? (i := 516) rfl
set_option maxRecDepth 20000 in
theorem im_Mod_close : Cond.instanceMethod y_Mod_close ∈ lw_tbl := List.mem_of_getElem? (i := 517) rfl
set_option maxRecDepth 20000 in
theorem se_Mod_close : Cond.selects R_Mod y_Mod_close y_Mod_close ∈ lw_tbl := List.mem_of_getElem? (i := 518) rfl
set_option maxRecDepth 20000 in
theorem co_Mod_close : Cond.code y_Mod_close b_Mod_close 2 (some .boolean) ∈ lw_tbl := List.mem_of_getElem? (i := 519) rfl
set_option maxRecDepth 20000 in
theorem ml_law_62 : Cond.methodLink R_law 62 y_Mod_at ∈ lw_tbl := List.mem_of_getElem? (i := 520) rfl
set_option maxRecDepth 20000 in
theorem im_Mod_at : Cond.instanceMethod y_Mod_at ∈ lw_tbl := List.mem_of_getElem? (i := 521) rfl
set_option maxRecDepth 20000 in
theorem se_Mod_at : Cond.selects R_Mod y_Mod_at y_Mod_at ∈ lw_tbl := List.mem_of_getElem? (i := 522) rfl
set_option maxRecDepth 20000 in
theorem co_Mod_at : Cond.code y_Mod_at b_Mod_at 4 (some .int) ∈ lw_tbl := List.mem_of_getElem? (i := 523) rfl
set_option maxRecDepth 20000 in
theorem ml_law_66 : Cond.methodLink R_law 66 y_Mod_before ∈ lw_tbl := List.mem_of_getElem? (i := 524) rfl
set_option maxRecDepth 20000 in
theorem im_Mod_before : Cond.instanceMethod y_Mod_before ∈ lw_tbl := List.mem_of_getElem? (i := 525) rfl
set_option maxRecDepth 20000 in
theorem se_Mod_before : Cond.selects R_Mod y_Mod_before y_Mod_before ∈ lw_tbl := List.mem_of_getElem? (i := 526) rfl
set_option maxRecDepth 20000 in
theorem co_Mod_before : Cond.code y_Mod_before b_Mod_before 5 (some .int) ∈ lw_tbl := List.mem_of_getElem? (i := 527) rfl
set_option maxRecDepth 20000 in
theorem ml_law_70 : Cond.methodLink R_law 70 y_Mod_different ∈ lw_tbl := List.mem_of_getElem? (i := 528) rfl
set_option maxRecDepth 20000 in
theorem im_Mod_different : Cond.instanceMethod y_Mod_different ∈ lw_tbl := List.mem_of_getElem? (i := 529) rfl
set_option maxRecDepth 20000 in
theorem se_Mod_different : Cond.selects R_Mod y_Mod_different y_Mod_different ∈ lw_tbl := List.mem_of_getElem? (i := 530) rfl
set_option maxRecDepth 20000 in
theorem co_Mod_different : Cond.code y_Mod_different b_Mod_different 4 (some .int) ∈ lw_tbl := List.mem_of_getElem? (i := 531) rfl
set_option maxRecDepth 20000 in
theorem ml_law_74 : Cond.methodLink R_law 74 y_Mod_chains ∈ lw_tbl := List.mem_of_getElem? (i := 532) rfl
set_option maxRecDepth 20000 in
theorem im_Mod_chains : Cond.instanceMethod y_Mod_chains ∈ lw_tbl := List.mem_of_getElem? (i := 533) rfl
set_option maxRecDepth 20000 in
theorem se_Mod_chains : Cond.selects R_Mod y_Mod_chains y_Mod_chains ∈ lw_tbl := List.mem_of_getElem? (i := 534) rfl
set_option maxRecDepth 20000 in
theorem co_Mod_chains : Cond.code y_Mod_chains b_Mod_chains 6 (some .int) ∈ lw_tbl := List.mem_of_getElem? (i := 535) rfl
set_option maxRecDepth 20000 in
theorem ml_law_78 : Cond.methodLink R_law 78 y_Mod_far ∈ lw_tbl := List.mem_of_getElem? (i := 536) rfl
set_option maxRecDepth 20000 in
theorem im_Mod_far : Cond.instanceMethod y_Mod_far ∈ lw_tbl := List.mem_of_getElem? (i := 537) rfl
set_option maxRecDepth 20000 in
theorem se_Mod_far : Cond.selects R_Mod y_Mod_far y_Mod_far ∈ lw_tbl := List.mem_of_getElem? (i := 538) rfl
set_option maxRecDepth 20000 in
theorem co_Mod_far : Cond.code y_Mod_far b_Mod_far 5 (some .int) ∈ lw_tbl := List.mem_of_getElem? (i := 539) rfl
set_option maxRecDepth 20000 in
theorem ml_Mod_93 : Cond.methodLink R_Mod 93 y_Mod_go ∈ lw_tbl := List.mem_of_getElem? (i := 540) rfl
set_option maxRecDepth 20000 in
theorem im_Mod_go : Cond.instanceMethod y_Mod_go ∈ lw_tbl := List.mem_of_getElem? (i := 542) rfl
set_option maxRecDepth 20000 in
theorem co_Mod_go : Cond.code y_Mod_go b_Mod_go 5 none ∈ lw_tbl := List.mem_of_getElem? (i := 543) rfl
set_option maxRecDepth 20000 in
theorem ml_Mod_90 : Cond.methodLink R_Mod 90 y_Mod_find ∈ lw_tbl := List.mem_of_getElem? (i := 544) rfl
set_option maxRecDepth 20000 in
theorem im_Mod_find : Cond.instanceMethod y_Mod_find ∈ lw_tbl := List.mem_of_getElem? (i := 546) rfl
set_option maxRecDepth 20000 in
theorem co_Mod_find : Cond.code y_Mod_find b_Mod_find 3 (some .int) ∈ lw_tbl := List.mem_of_getElem? (i := 547) rfl
set_option maxRecDepth 20000 in
theorem ml_law_82 : Cond.methodLink R_law 82 y_Mod_reached ∈ lw_tbl := List.mem_of_getElem? (i := 548) rfl
set_option maxRecDepth 20000 in
theorem im_Mod_reached : Cond.instanceMethod y_Mod_reached ∈ lw_tbl := List.mem_of_getElem? (i := 549) rfl
set_option maxRecDepth 20000 in
theorem se_Mod_reached : Cond.selects R_Mod y_Mod_reached y_Mod_reached ∈ lw_tbl := List.mem_of_getElem? (i := 550) rfl
set_option maxRecDepth 20000 in
theorem co_Mod_reached : Cond.code y_Mod_reached b_Mod_reached 3 (some .int) ∈ lw_tbl := List.mem_of_getElem? (i := 551) rfl
set_option maxRecDepth 20000 in
theorem ml_law_87 : Cond.methodLink R_law 87 y_Mod_size ∈ lw_tbl := List.mem_of_getElem? (i := 552) rfl
set_option maxRecDepth 20000 in
theorem im_Mod_size : Cond.instanceMethod y_Mod_size ∈ lw_tbl := List.mem_of_getElem? (i := 553) rfl
set_option maxRecDepth 20000 in
theorem se_Mod_size : Cond.selects R_Mod y_Mod_size y_Mod_size ∈ lw_tbl := List.mem_of_getElem? (i := 554) rfl
set_option maxRecDepth 20000 in
theorem co_Mod_size : Cond.code y_Mod_size b_Mod_size 1 (some .int) ∈ lw_tbl := List.mem_of_getElem? (i := 555) rfl
set_option maxRecDepth 20000 in
theorem ml_law_91 : Cond.methodLink R_law 91 y_Mod_changes ∈ lw_tbl := List.mem_of_getElem? (i := 556) rfl
set_option maxRecDepth 20000 in
theorem im_Mod_changes : Cond.instanceMethod y_Mod_changes ∈ lw_tbl := List.mem_of_getElem? (i := 557) rfl
set_option maxRecDepth 20000 in
theorem se_Mod_changes : Cond.selects R_Mod y_Mod_changes y_Mod_changes ∈ lw_tbl := List.mem_of_getElem? (i := 558) rfl
set_option maxRecDepth 20000 in
theorem co_Mod_changes : Cond.code y_Mod_changes b_Mod_changes 1 (some .int) ∈ lw_tbl := List.mem_of_getElem? (i := 559) rfl
