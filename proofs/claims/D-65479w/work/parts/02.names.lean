-- names of classes, fields, methods; places of the tables' words; printed by wip/D-65479w/gen/names.py
abbrev R_X : String := "StateExplore"
abbrev R_R : String := "StateExplore$Rule"
abbrev R_W : String := "StateExplore$Whole"
abbrev R_M : String := "StateExploreModel"
def F_X : u_T := fun k => match k with
  | 0 => ("StateExplore", "nodes", "I", true)
  | 1 => ("StateExplore", "room", "I", true)
  | 2 => ("StateExplore", "states", "I", false)
  | 3 => ("StateExplore", "kinds", "I", false)
  | 4 => ("StateExplore", "rules", "[LStateExplore$Rule;", true)
  | 5 => ("StateExplore", "size", "I", false)
  | 6 => ("StateExplore", "bad", "[Z", true)
  | 7 => ("StateExplore", "numberings", "[I", true)
  | 8 => ("StateExplore", "ways", "I", false)
  | 9 => ("StateExplore", "forms", "[J", false)
  | 10 => ("StateExplore", "froms", "[I", false)
  | 11 => ("StateExplore", "by", "[I", false)
  | 12 => ("StateExplore", "levels", "[I", false)
  | 13 => ("StateExplore", "steps", "[I", false)
  | 14 => ("StateExplore", "alike", "[I", false)
  | 15 => ("StateExplore", "many", "I", false)
  | 16 => ("StateExplore", "gone", "I", false)
  | 17 => ("StateExplore", "table", "[I", false)
  | 18 => ("StateExplore", "badOne", "I", false)
  | 19 => ("StateExplore", "full", "Z", false)
  | 20 => ("StateExplore", "made", "I", false)
  | 21 => ("StateExplore", "again", "I", false)
  | 22 => ("StateExplore", "here", "LStateExplore$Whole;", true)
  | 23 => ("StateExplore", "next", "LStateExplore$Whole;", true)
  | 24 => ("StateExplore", "other", "LStateExplore$Whole;", true)
  | 25 => ("StateExplore", "names", "[I", true)
  | _ => ("StateExplore", "sameWays", "I", false)
def t_X : Nat → FieldType := fun k => match k with
  | 0 => .int
  | 1 => .int
  | 2 => .int
  | 3 => .int
  | 4 => .array (.object "StateExplore$Rule")
  | 5 => .int
  | 6 => .array .boolean
  | 7 => .array .int
  | 8 => .int
  | 9 => .array .long
  | 10 => .array .int
  | 11 => .array .int
  | 12 => .array .int
  | 13 => .array .int
  | 14 => .array .int
  | 15 => .int
  | 16 => .int
  | 17 => .array .int
  | 18 => .int
  | 19 => .boolean
  | 20 => .int
  | 21 => .int
  | 22 => .object "StateExplore$Whole"
  | 23 => .object "StateExplore$Whole"
  | 24 => .object "StateExplore$Whole"
  | 25 => .array .int
  | _ => .int
abbrev w_X : List Cond := u_ws R_X F_X 27
def F_R : u_T := fun k => match k with
  | 0 => ("StateExplore$Rule", "state", "I", true)
  | 1 => ("StateExplore$Rule", "event", "I", true)
  | 2 => ("StateExplore$Rule", "to", "I", true)
  | 3 => ("StateExplore$Rule", "kinds", "[I", true)
  | 4 => ("StateExplore$Rule", "whom", "[I", true)
  | _ => ("StateExplore$Rule", "size", "I", false)
def t_R : Nat → FieldType := fun k => match k with
  | 0 => .int
  | 1 => .int
  | 2 => .int
  | 3 => .array .int
  | 4 => .array .int
  | _ => .int
abbrev w_R : List Cond := u_ws R_R F_R 6
def F_W : u_T := fun k => match k with
  | 0 => ("StateExplore$Whole", "states", "[I", true)
  | 1 => ("StateExplore$Whole", "codes", "[I", true)
  | _ => ("StateExplore$Whole", "size", "I", false)
def t_W : Nat → FieldType := fun k => match k with
  | 0 => .array .int
  | 1 => .array .int
  | _ => .int
abbrev w_W : List Cond := u_ws R_W F_W 3
def F_M : u_T := fun k => match k with
  | 0 => ("StateExploreModel", "thrown", "I", false)
  | 1 => ("StateExploreModel", "nodes", "I", true)
  | 2 => ("StateExploreModel", "room", "I", true)
  | 3 => ("StateExploreModel", "states", "I", false)
  | 4 => ("StateExploreModel", "kinds", "I", false)
  | 5 => ("StateExploreModel", "rules", "I", false)
  | 6 => ("StateExploreModel", "from", "[I", true)
  | 7 => ("StateExploreModel", "event", "[I", true)
  | 8 => ("StateExploreModel", "to", "[I", true)
  | 9 => ("StateExploreModel", "sentMany", "[I", true)
  | 10 => ("StateExploreModel", "sentKind", "[I", true)
  | 11 => ("StateExploreModel", "sentWhom", "[I", true)
  | 12 => ("StateExploreModel", "bad", "[Z", true)
  | 13 => ("StateExploreModel", "numbering", "[I", true)
  | 14 => ("StateExploreModel", "numberings", "I", false)
  | 15 => ("StateExploreModel", "wholes", "I", false)
  | 16 => ("StateExploreModel", "gone", "I", false)
  | 17 => ("StateExploreModel", "steps", "I", false)
  | 18 => ("StateExploreModel", "old", "I", false)
  | 19 => ("StateExploreModel", "stuck", "I", false)
  | 20 => ("StateExploreModel", "answer", "I", false)
  | 21 => ("StateExploreModel", "badWhole", "I", false)
  | 22 => ("StateExploreModel", "rows", "[I", true)
  | 23 => ("StateExploreModel", "order", "[I", true)
  | 24 => ("StateExploreModel", "level", "[I", true)
  | 25 => ("StateExploreModel", "parent", "[I", true)
  | 26 => ("StateExploreModel", "byRule", "[I", true)
  | 27 => ("StateExploreModel", "stepsOf", "[I", true)
  | 28 => ("StateExploreModel", "alike", "[I", true)
  | 29 => ("StateExploreModel", "next", "[I", true)
  | 30 => ("StateExploreModel", "other", "[I", true)
  | 31 => ("StateExploreModel", "least", "[I", true)
  | 32 => ("StateExploreModel", "same", "I", false)
  | _ => ("StateExploreModel", "at", "I", false)
def t_M : Nat → FieldType := fun k => match k with
  | 0 => .int
  | 1 => .int
  | 2 => .int
  | 3 => .int
  | 4 => .int
  | 5 => .int
  | 6 => .array .int
  | 7 => .array .int
  | 8 => .array .int
  | 9 => .array .int
  | 10 => .array .int
  | 11 => .array .int
  | 12 => .array .boolean
  | 13 => .array .int
  | 14 => .int
  | 15 => .int
  | 16 => .int
  | 17 => .int
  | 18 => .int
  | 19 => .int
  | 20 => .int
  | 21 => .int
  | 22 => .array .int
  | 23 => .array .int
  | 24 => .array .int
  | 25 => .array .int
  | 26 => .array .int
  | 27 => .array .int
  | 28 => .array .int
  | 29 => .array .int
  | 30 => .array .int
  | 31 => .array .int
  | 32 => .int
  | _ => .int
abbrev w_M : List Cond := u_ws R_M F_M 34
abbrev classes : List vw_C := [(R_X, F_X, 27), (R_R, F_R, 6), (R_W, F_W, 3), (R_M, F_M, 34)]
def TT : List Cond := lw_tbl.filter goodWord
theorem TT_good : ∀ w ∈ TT, goodWord w = true := fun w h => (List.mem_filter.mp h).2
theorem TT_1 {w : Cond} (h : w ∈ tables_1_1) (g : goodWord w = true) : w ∈ TT := List.mem_filter.mpr ⟨List.mem_append_right _ (List.mem_append_left _ h), g⟩
theorem TT_2 {w : Cond} (h : w ∈ tables_1_2) (g : goodWord w = true) : w ∈ TT := List.mem_filter.mpr ⟨List.mem_append_right _ (List.mem_append_right _ (List.mem_append_left _ h)), g⟩
theorem TT_3 {w : Cond} (h : w ∈ tables_1_3) (g : goodWord w = true) : w ∈ TT := List.mem_filter.mpr ⟨List.mem_append_right _ (List.mem_append_right _ (List.mem_append_right _ h)), g⟩
theorem TT_s {w : Cond} (h : w ∈ k2_sels lw_privs) (g : goodWord w = true) : w ∈ TT := List.mem_filter.mpr ⟨List.mem_append_left _ h, g⟩
theorem n_X : ∀ a, a < 27 → ∀ b, b < 27 → a ≠ b → (F_X a).2.1 ≠ (F_X b).2.1 := by decide +kernel
theorem t_X_ok : ∀ k, k < 27 → parseFieldDescriptor (F_X k).2.2.1 = some (t_X k) := by decide +kernel
theorem i_X : ∀ w ∈ w_X, w ∈ TT := by decide +kernel
theorem n_R : ∀ a, a < 6 → ∀ b, b < 6 → a ≠ b → (F_R a).2.1 ≠ (F_R b).2.1 := by decide +kernel
theorem t_R_ok : ∀ k, k < 6 → parseFieldDescriptor (F_R k).2.2.1 = some (t_R k) := by decide +kernel
theorem i_R : ∀ w ∈ w_R, w ∈ TT := by decide +kernel
theorem n_W : ∀ a, a < 3 → ∀ b, b < 3 → a ≠ b → (F_W a).2.1 ≠ (F_W b).2.1 := by decide +kernel
theorem t_W_ok : ∀ k, k < 3 → parseFieldDescriptor (F_W k).2.2.1 = some (t_W k) := by decide +kernel
theorem i_W : ∀ w ∈ w_W, w ∈ TT := by decide +kernel
theorem n_M : ∀ a, a < 34 → ∀ b, b < 34 → a ≠ b → (F_M a).2.1 ≠ (F_M b).2.1 := by decide +kernel
theorem t_M_ok : ∀ k, k < 34 → parseFieldDescriptor (F_M k).2.2.1 = some (t_M k) := by decide +kernel
theorem i_M : ∀ w ∈ w_M, w ∈ TT := by decide +kernel
abbrev y_X_init : MethodName := ⟨"StateExplore", "<init>", "(II)V"⟩
abbrev b_X_init : ByteArray := prog_1_method_1_code
abbrev y_Obj_init : MethodName := ⟨"java/lang/Object", "<init>", "()V"⟩
abbrev b_Obj_init : ByteArray := object_method_1_code
abbrev y_W_init : MethodName := ⟨"StateExplore$Whole", "<init>", "()V"⟩
abbrev b_W_init : ByteArray := prog_3_method_1_code
abbrev y_Math_floorMod : MethodName := ⟨"java/lang/Math", "floorMod", "(II)I"⟩
abbrev b_Math_floorMod : ByteArray := prog_10_method_50_code
abbrev y_X_number : MethodName := ⟨"StateExplore", "number", "(II)V"⟩
abbrev b_X_number : ByteArray := prog_1_method_2_code
abbrev y_X_forget : MethodName := ⟨"StateExplore", "forget", "()V"⟩
abbrev b_X_forget : ByteArray := prog_1_method_6_code
abbrev y_X_run : MethodName := ⟨"StateExplore", "run", "()I"⟩
abbrev b_X_run : ByteArray := prog_1_method_26_code
abbrev y_X_begin : MethodName := ⟨"StateExplore", "begin", "()V"⟩
abbrev b_X_begin : ByteArray := prog_1_method_25_code
abbrev y_X_come : MethodName := ⟨"StateExplore", "come", "(LStateExplore$Whole;II)V"⟩
abbrev b_X_come : ByteArray := prog_1_method_19_code
abbrev y_X_form : MethodName := ⟨"StateExplore", "form", "(LStateExplore$Whole;)J"⟩
abbrev b_X_form : ByteArray := prog_1_method_13_code
abbrev y_W_turn : MethodName := ⟨"StateExplore$Whole", "turn", "(LStateExplore$Whole;[I)V"⟩
abbrev b_W_turn : ByteArray := prog_3_method_7_code
abbrev y_W_add : MethodName := ⟨"StateExplore$Whole", "add", "(I)Z"⟩
abbrev b_W_add : ByteArray := prog_3_method_3_code
abbrev y_W_pack : MethodName := ⟨"StateExplore$Whole", "pack", "()J"⟩
abbrev b_W_pack : ByteArray := prog_3_method_5_code
abbrev y_Long_compareUnsigned : MethodName := ⟨"java/lang/Long", "compareUnsigned", "(JJ)I"⟩
abbrev b_Long_compareUnsigned : ByteArray := prog_9_method_43_code
abbrev y_Long_compare : MethodName := ⟨"java/lang/Long", "compare", "(JJ)I"⟩
abbrev b_Long_compare : ByteArray := prog_9_method_42_code
abbrev y_X_find : MethodName := ⟨"StateExplore", "find", "(J)I"⟩
abbrev b_X_find : ByteArray := prog_1_method_15_code
abbrev y_X_slot : MethodName := ⟨"StateExplore", "slot", "(J)I"⟩
abbrev b_X_slot : ByteArray := prog_1_method_14_code
abbrev y_X_grow : MethodName := ⟨"StateExplore", "grow", "()V"⟩
abbrev b_X_grow : ByteArray := prog_1_method_17_code
abbrev y_X_longer : MethodName := ⟨"StateExplore", "longer", "([II)[I"⟩
abbrev b_X_longer : ByteArray := prog_1_method_16_code
abbrev y_X_isBad : MethodName := ⟨"StateExplore", "isBad", "(LStateExplore$Whole;)Z"⟩
abbrev b_X_isBad : ByteArray := prog_1_method_18_code
abbrev y_X_isOver : MethodName := ⟨"StateExplore", "isOver", "()Z"⟩
abbrev b_X_isOver : ByteArray := prog_1_method_21_code
abbrev y_X_goThrough : MethodName := ⟨"StateExplore", "goThrough", "(I)V"⟩
abbrev b_X_goThrough : ByteArray := prog_1_method_24_code
abbrev y_W_unpack : MethodName := ⟨"StateExplore$Whole", "unpack", "(J)V"⟩
abbrev b_W_unpack : ByteArray := prog_3_method_6_code
abbrev y_X_step : MethodName := ⟨"StateExplore", "step", "(IIIII)V"⟩
abbrev b_X_step : ByteArray := prog_1_method_22_code
abbrev y_X_make : MethodName := ⟨"StateExplore", "make", "(LStateExplore$Rule;III)Z"⟩
abbrev b_X_make : ByteArray := prog_1_method_20_code
abbrev y_W_become : MethodName := ⟨"StateExplore$Whole", "become", "(LStateExplore$Whole;)V"⟩
abbrev b_W_become : ByteArray := prog_3_method_2_code
abbrev y_W_drop : MethodName := ⟨"StateExplore$Whole", "drop", "(I)V"⟩
abbrev b_W_drop : ByteArray := prog_3_method_4_code
abbrev y_X_receive : MethodName := ⟨"StateExplore", "receive", "(III)V"⟩
abbrev b_X_receive : ByteArray := prog_1_method_23_code
abbrev y_X_way : MethodName := ⟨"StateExplore", "way", "()I"⟩
abbrev b_X_way : ByteArray := prog_1_method_32_code
abbrev y_X_count : MethodName := ⟨"StateExplore", "count", "(I)I"⟩
abbrev b_X_count : ByteArray := prog_1_method_36_code
abbrev y_X_dead : MethodName := ⟨"StateExplore", "dead", "()I"⟩
abbrev b_X_dead : ByteArray := prog_1_method_34_code
abbrev y_X_sum : MethodName := ⟨"StateExplore", "sum", "()I"⟩
abbrev b_X_sum : ByteArray := prog_1_method_35_code
abbrev y_L_cell : MethodName := ⟨"StateExploreLaw", "cell", "([II)I"⟩
abbrev b_L_cell : ByteArray := method_2_code
abbrev y_L_state : MethodName := ⟨"StateExploreLaw", "state", "(LStateExplore;[J)I"⟩
abbrev b_L_state : ByteArray := method_3_code
abbrev y_X_state : MethodName := ⟨"StateExplore", "state", "()I"⟩
abbrev b_X_state : ByteArray := prog_1_method_7_code
abbrev y_X_allowed : MethodName := ⟨"StateExplore", "allowed", "(Z)V"⟩
abbrev b_X_allowed : ByteArray := prog_1_method_5_code
abbrev y_Thr_init : MethodName := ⟨"java/lang/Throwable", "<init>", "()V"⟩
abbrev b_Thr_init : ByteArray := prog_13_method_1_code
abbrev y_Thr_fill0 : MethodName := ⟨"java/lang/Throwable", "fillInStackTrace", "()Ljava/lang/Throwable;"⟩
abbrev b_Thr_fill0 : ByteArray := prog_13_method_18_code
abbrev y_UOE_init : MethodName := ⟨"java/lang/UnsupportedOperationException", "<init>", "()V"⟩
abbrev b_UOE_init : ByteArray := prog_14_method_1_code
abbrev y_RTE_init : MethodName := ⟨"java/lang/RuntimeException", "<init>", "()V"⟩
abbrev b_RTE_init : ByteArray := prog_11_method_1_code
abbrev y_Exc_init : MethodName := ⟨"java/lang/Exception", "<init>", "()V"⟩
abbrev b_Exc_init : ByteArray := prog_6_method_1_code
abbrev y_L_message : MethodName := ⟨"StateExploreLaw", "message", "(LStateExplore;[J)I"⟩
abbrev b_L_message : ByteArray := method_4_code
abbrev y_X_message : MethodName := ⟨"StateExplore", "message", "()I"⟩
abbrev b_X_message : ByteArray := prog_1_method_8_code
abbrev y_L_rule : MethodName := ⟨"StateExploreLaw", "rule", "(LStateExplore;III[J)I"⟩
abbrev b_L_rule : ByteArray := method_5_code
abbrev y_X_rule : MethodName := ⟨"StateExplore", "rule", "(III)I"⟩
abbrev b_X_rule : ByteArray := prog_1_method_10_code
abbrev y_X_isState : MethodName := ⟨"StateExplore", "isState", "(I)Z"⟩
abbrev b_X_isState : ByteArray := prog_1_method_9_code
abbrev y_X_right : MethodName := ⟨"StateExplore", "right", "(Z)V"⟩
abbrev b_X_right : ByteArray := prog_1_method_3_code
abbrev y_IAE_init : MethodName := ⟨"java/lang/IllegalArgumentException", "<init>", "()V"⟩
abbrev b_IAE_init : ByteArray := prog_7_method_1_code
abbrev y_R_init : MethodName := ⟨"StateExplore$Rule", "<init>", "(III)V"⟩
abbrev b_R_init : ByteArray := prog_2_method_1_code
abbrev y_L_sends : MethodName := ⟨"StateExploreLaw", "sends", "(LStateExplore;III[J)I"⟩
abbrev b_L_sends : ByteArray := method_6_code
abbrev y_X_sends : MethodName := ⟨"StateExplore", "sends", "(III)I"⟩
abbrev b_X_sends : ByteArray := prog_1_method_11_code
abbrev y_L_bad : MethodName := ⟨"StateExploreLaw", "bad", "(LStateExplore;II[J)I"⟩
abbrev b_L_bad : ByteArray := method_7_code
abbrev y_X_bad : MethodName := ⟨"StateExplore", "bad", "(II)Z"⟩
abbrev b_X_bad : ByteArray := prog_1_method_12_code
abbrev y_L_go : MethodName := ⟨"StateExploreLaw", "go", "(LStateExplore;I[J)I"⟩
abbrev b_L_go : ByteArray := method_8_code
abbrev y_X_go : MethodName := ⟨"StateExplore", "go", "(I)I"⟩
abbrev b_X_go : ByteArray := prog_1_method_27_code
abbrev y_L_node : MethodName := ⟨"StateExploreLaw", "node", "(LStateExplore;II[J)I"⟩
abbrev b_L_node : ByteArray := method_9_code
abbrev y_X_node : MethodName := ⟨"StateExplore", "node", "(II)I"⟩
abbrev b_X_node : ByteArray := prog_1_method_29_code
abbrev y_X_isWhole : MethodName := ⟨"StateExplore", "isWhole", "(I)V"⟩
abbrev b_X_isWhole : ByteArray := prog_1_method_28_code
abbrev y_X_there : MethodName := ⟨"StateExplore", "there", "(Z)V"⟩
abbrev b_X_there : ByteArray := prog_1_method_4_code
abbrev y_IOB_init : MethodName := ⟨"java/lang/IndexOutOfBoundsException", "<init>", "()V"⟩
abbrev b_IOB_init : ByteArray := prog_8_method_1_code
abbrev y_L_code : MethodName := ⟨"StateExploreLaw", "code", "(LStateExplore;II[J)I"⟩
abbrev b_L_code : ByteArray := method_10_code
abbrev y_X_code : MethodName := ⟨"StateExplore", "code", "(II)I"⟩
abbrev b_X_code : ByteArray := prog_1_method_30_code
abbrev y_L_whole : MethodName := ⟨"StateExploreLaw", "whole", "(LStateExplore;II[J)I"⟩
abbrev b_L_whole : ByteArray := method_11_code
abbrev y_X_whole : MethodName := ⟨"StateExplore", "whole", "(II)I"⟩
abbrev b_X_whole : ByteArray := prog_1_method_31_code
abbrev y_L_wayAt : MethodName := ⟨"StateExploreLaw", "wayAt", "(LStateExplore;I[J)I"⟩
abbrev b_L_wayAt : ByteArray := method_12_code
abbrev y_X_wayAt : MethodName := ⟨"StateExplore", "wayAt", "(I)I"⟩
abbrev b_X_wayAt : ByteArray := prog_1_method_33_code
abbrev y_M_init : MethodName := ⟨"StateExploreModel", "<init>", "(II)V"⟩
abbrev b_M_init : ByteArray := prog_5_method_1_code
abbrev y_M_thrown : MethodName := ⟨"StateExploreModel", "thrown", "()I"⟩
abbrev b_M_thrown : ByteArray := prog_5_method_2_code
abbrev y_M_state : MethodName := ⟨"StateExploreModel", "state", "()I"⟩
abbrev b_M_state : ByteArray := prog_5_method_6_code
abbrev y_M_throwing : MethodName := ⟨"StateExploreModel", "throwing", "(ZZ)Z"⟩
abbrev b_M_throwing : ByteArray := prog_5_method_3_code
abbrev y_M_forget : MethodName := ⟨"StateExploreModel", "forget", "()V"⟩
abbrev b_M_forget : ByteArray := prog_5_method_5_code
abbrev y_M_message : MethodName := ⟨"StateExploreModel", "message", "()I"⟩
abbrev b_M_message : ByteArray := prog_5_method_7_code
abbrev y_M_rule : MethodName := ⟨"StateExploreModel", "rule", "(III)I"⟩
abbrev b_M_rule : ByteArray := prog_5_method_8_code
abbrev y_M_isOf : MethodName := ⟨"StateExploreModel", "isOf", "(II)Z"⟩
abbrev b_M_isOf : ByteArray := prog_5_method_4_code
abbrev y_M_sends : MethodName := ⟨"StateExploreModel", "sends", "(III)I"⟩
abbrev b_M_sends : ByteArray := prog_5_method_9_code
abbrev y_M_bad : MethodName := ⟨"StateExploreModel", "bad", "(II)Z"⟩
abbrev b_M_bad : ByteArray := prog_5_method_10_code
abbrev y_M_run : MethodName := ⟨"StateExploreModel", "run", "()I"⟩
abbrev b_M_run : ByteArray := prog_5_method_24_code
abbrev y_M_begin : MethodName := ⟨"StateExploreModel", "begin", "()V"⟩
abbrev b_M_begin : ByteArray := prog_5_method_19_code
abbrev y_M_form : MethodName := ⟨"StateExploreModel", "form", "()V"⟩
abbrev b_M_form : ByteArray := prog_5_method_14_code
abbrev y_M_number : MethodName := ⟨"StateExploreModel", "number", "(I)V"⟩
abbrev b_M_number : ByteArray := prog_5_method_13_code
abbrev y_M_add : MethodName := ⟨"StateExploreModel", "add", "([II)V"⟩
abbrev b_M_add : ByteArray := prog_5_method_11_code
abbrev y_M_compare : MethodName := ⟨"StateExploreModel", "compare", "([I[II)I"⟩
abbrev b_M_compare : ByteArray := prog_5_method_12_code
abbrev y_M_come : MethodName := ⟨"StateExploreModel", "come", "(II)V"⟩
abbrev b_M_come : ByteArray := prog_5_method_18_code
abbrev y_M_isBad : MethodName := ⟨"StateExploreModel", "isBad", "()Z"⟩
abbrev b_M_isBad : ByteArray := prog_5_method_17_code
abbrev y_M_goThrough : MethodName := ⟨"StateExploreModel", "goThrough", "()V"⟩
abbrev b_M_goThrough : ByteArray := prog_5_method_23_code
abbrev y_M_allSteps : MethodName := ⟨"StateExploreModel", "allSteps", "(III)I"⟩
abbrev b_M_allSteps : ByteArray := prog_5_method_22_code
abbrev y_M_make : MethodName := ⟨"StateExploreModel", "make", "(IIII)Z"⟩
abbrev b_M_make : ByteArray := prog_5_method_20_code
abbrev y_M_step : MethodName := ⟨"StateExploreModel", "step", "(II)Z"⟩
abbrev b_M_step : ByteArray := prog_5_method_21_code
abbrev y_M_isThere : MethodName := ⟨"StateExploreModel", "isThere", "()Z"⟩
abbrev b_M_isThere : ByteArray := prog_5_method_16_code
abbrev y_M_compareRow : MethodName := ⟨"StateExploreModel", "compareRow", "(I)I"⟩
abbrev b_M_compareRow : ByteArray := prog_5_method_15_code
abbrev y_M_go : MethodName := ⟨"StateExploreModel", "go", "(I)I"⟩
abbrev b_M_go : ByteArray := prog_5_method_25_code
abbrev y_M_node : MethodName := ⟨"StateExploreModel", "node", "(II)I"⟩
abbrev b_M_node : ByteArray := prog_5_method_26_code
abbrev y_M_code : MethodName := ⟨"StateExploreModel", "code", "(II)I"⟩
abbrev b_M_code : ByteArray := prog_5_method_27_code
abbrev y_M_whole : MethodName := ⟨"StateExploreModel", "whole", "(II)I"⟩
abbrev b_M_whole : ByteArray := prog_5_method_28_code
abbrev y_M_way : MethodName := ⟨"StateExploreModel", "way", "()I"⟩
abbrev b_M_way : ByteArray := prog_5_method_29_code
abbrev y_M_wayAt : MethodName := ⟨"StateExploreModel", "wayAt", "(I)I"⟩
abbrev b_M_wayAt : ByteArray := prog_5_method_30_code
abbrev y_M_count : MethodName := ⟨"StateExploreModel", "count", "(I)I"⟩
abbrev b_M_count : ByteArray := prog_5_method_33_code
abbrev y_M_greatestLevel : MethodName := ⟨"StateExploreModel", "greatestLevel", "()I"⟩
abbrev b_M_greatestLevel : ByteArray := prog_5_method_31_code
abbrev y_M_sums : MethodName := ⟨"StateExploreModel", "sums", "()I"⟩
abbrev b_M_sums : ByteArray := prog_5_method_32_code
theorem tm_0 : Jvm.Cond.initialized "StateExploreLaw" ∈ TT := TT_1 (List.mem_of_getElem? (i := 0) (by decide +kernel)) (by decide +kernel)
theorem tm_1 : Jvm.Cond.initialized "StateExplore" ∈ TT := TT_1 (List.mem_of_getElem? (i := 1) (by decide +kernel)) (by decide +kernel)
theorem tm_2 : Jvm.Cond.initialized "StateExplore$Whole" ∈ TT := TT_1 (List.mem_of_getElem? (i := 2) (by decide +kernel)) (by decide +kernel)
theorem tm_3 : Jvm.Cond.initialized "java/lang/Math" ∈ TT := TT_1 (List.mem_of_getElem? (i := 3) (by decide +kernel)) (by decide +kernel)
theorem tm_4 : Jvm.Cond.initialized "StateExploreModel" ∈ TT := TT_1 (List.mem_of_getElem? (i := 4) (by decide +kernel)) (by decide +kernel)
theorem tm_5 : Jvm.Cond.initialized "java/lang/Throwable" ∈ TT := TT_1 (List.mem_of_getElem? (i := 5) (by decide +kernel)) (by decide +kernel)
theorem tm_6 : Jvm.Cond.initialized "java/lang/Exception" ∈ TT := TT_1 (List.mem_of_getElem? (i := 6) (by decide +kernel)) (by decide +kernel)
theorem tm_7 : Jvm.Cond.initialized "java/lang/RuntimeException" ∈ TT := TT_1 (List.mem_of_getElem? (i := 7) (by decide +kernel)) (by decide +kernel)
theorem tm_8 : Jvm.Cond.initialized "java/lang/UnsupportedOperationException" ∈ TT := TT_1 (List.mem_of_getElem? (i := 8) (by decide +kernel)) (by decide +kernel)
theorem tm_9 : Jvm.Cond.initialized "java/lang/IllegalArgumentException" ∈ TT := TT_1 (List.mem_of_getElem? (i := 9) (by decide +kernel)) (by decide +kernel)
theorem tm_10 : Jvm.Cond.initialized "StateExplore$Rule" ∈ TT := TT_1 (List.mem_of_getElem? (i := 10) (by decide +kernel)) (by decide +kernel)
theorem tm_11 : Jvm.Cond.initialized "java/lang/System" ∈ TT := TT_1 (List.mem_of_getElem? (i := 11) (by decide +kernel)) (by decide +kernel)
theorem tm_12 : Jvm.Cond.initialized "java/lang/Long" ∈ TT := TT_1 (List.mem_of_getElem? (i := 12) (by decide +kernel)) (by decide +kernel)
theorem tm_13 : Jvm.Cond.initialized "java/lang/IndexOutOfBoundsException" ∈ TT := TT_1 (List.mem_of_getElem? (i := 13) (by decide +kernel)) (by decide +kernel)
theorem tm_14 : Jvm.Cond.classLink "StateExploreLaw" (8 : Nat) "StateExplore" ∈ TT := TT_1 (List.mem_of_getElem? (i := 14) (by decide +kernel)) (by decide +kernel)
theorem tm_15 : Jvm.Cond.instantiable "StateExplore" (27 : Nat) ∈ TT := TT_1 (List.mem_of_getElem? (i := 15) (by decide +kernel)) (by decide +kernel)
theorem tm_16 : Jvm.Cond.methodLink "StateExploreLaw" (56 : Nat) ({ cls := "StateExplore", name := "<init>", desc := "(II)V" } : Jvm.MethodName) ∈ TT := TT_1 (List.mem_of_getElem? (i := 16) (by decide +kernel)) (by decide +kernel)
theorem tm_17 : Jvm.Cond.instanceMethod ({ cls := "StateExplore", name := "<init>", desc := "(II)V" } : Jvm.MethodName) ∈ TT := TT_1 (List.mem_of_getElem? (i := 17) (by decide +kernel)) (by decide +kernel)
set_option maxRecDepth 20000 in
theorem tm_18 : Jvm.Cond.code ({ cls := "StateExplore", name := "<init>", desc := "(II)V" } : Jvm.MethodName) prog_1_method_1_code (3 : Nat) (Option.none : Option Jvm.ClassFile.FieldType) ∈ TT := TT_1 (List.mem_of_getElem? (i := 18) rfl) rfl
theorem tm_19 : Jvm.Cond.methodLink "StateExplore" (1 : Nat) ({ cls := "java/lang/Object", name := "<init>", desc := "()V" } : Jvm.MethodName) ∈ TT := TT_1 (List.mem_of_getElem? (i := 19) (by decide +kernel)) (by decide +kernel)
theorem tm_20 : Jvm.Cond.instanceMethod ({ cls := "java/lang/Object", name := "<init>", desc := "()V" } : Jvm.MethodName) ∈ TT := TT_1 (List.mem_of_getElem? (i := 20) (by decide +kernel)) (by decide +kernel)
set_option maxRecDepth 20000 in
theorem tm_21 : Jvm.Cond.code ({ cls := "java/lang/Object", name := "<init>", desc := "()V" } : Jvm.MethodName) object_method_1_code (1 : Nat) (Option.none : Option Jvm.ClassFile.FieldType) ∈ TT := TT_1 (List.mem_of_getElem? (i := 21) rfl) rfl
theorem tm_22 : Jvm.Cond.classLink "StateExplore" (13 : Nat) "StateExplore$Rule" ∈ TT := TT_1 (List.mem_of_getElem? (i := 22) (by decide +kernel)) (by decide +kernel)
theorem tm_24 : Jvm.Cond.classLink "StateExplore" (52 : Nat) "StateExplore$Whole" ∈ TT := TT_1 (List.mem_of_getElem? (i := 24) (by decide +kernel)) (by decide +kernel)
theorem tm_25 : Jvm.Cond.instantiable "StateExplore$Whole" (3 : Nat) ∈ TT := TT_1 (List.mem_of_getElem? (i := 25) (by decide +kernel)) (by decide +kernel)
theorem tm_27 : Jvm.Cond.instanceMethod ({ cls := "StateExplore$Whole", name := "<init>", desc := "()V" } : Jvm.MethodName) ∈ TT := TT_1 (List.mem_of_getElem? (i := 27) (by decide +kernel)) (by decide +kernel)
set_option maxRecDepth 20000 in
theorem tm_28 : Jvm.Cond.code ({ cls := "StateExplore$Whole", name := "<init>", desc := "()V" } : Jvm.MethodName) prog_3_method_1_code (1 : Nat) (Option.none : Option Jvm.ClassFile.FieldType) ∈ TT := TT_1 (List.mem_of_getElem? (i := 28) rfl) rfl
theorem tm_29 : Jvm.Cond.methodLink "StateExplore$Whole" (3 : Nat) ({ cls := "java/lang/Object", name := "<init>", desc := "()V" } : Jvm.MethodName) ∈ TT := TT_1 (List.mem_of_getElem? (i := 29) (by decide +kernel)) (by decide +kernel)
theorem tm_30 : Jvm.Cond.fieldLink "StateExplore$Whole" (9 : Nat) "StateExplore$Whole" "states" "[I" ∈ TT := TT_1 (List.mem_of_getElem? (i := 30) (by decide +kernel)) (by decide +kernel)
theorem tm_32 : Jvm.Cond.fieldLink "StateExplore$Whole" (15 : Nat) "StateExplore$Whole" "codes" "[I" ∈ TT := TT_1 (List.mem_of_getElem? (i := 32) (by decide +kernel)) (by decide +kernel)
theorem tm_34 : Jvm.Cond.fieldLink "StateExplore$Whole" (24 : Nat) "StateExplore$Whole" "size" "I" ∈ TT := TT_1 (List.mem_of_getElem? (i := 34) (by decide +kernel)) (by decide +kernel)
theorem tm_43 : Jvm.Cond.arrayClass Jvm.ClassFile.FieldType.boolean ∈ TT := TT_1 (List.mem_of_getElem? (i := 43) (by decide +kernel)) (by decide +kernel)
theorem tm_44 : Jvm.Cond.arrayClass Jvm.ClassFile.FieldType.int ∈ TT := TT_1 (List.mem_of_getElem? (i := 44) (by decide +kernel)) (by decide +kernel)
theorem tm_45 : Jvm.Cond.arrayClass Jvm.ClassFile.FieldType.long ∈ TT := TT_1 (List.mem_of_getElem? (i := 45) (by decide +kernel)) (by decide +kernel)
theorem tm_46 : Jvm.Cond.methodLink "StateExplore" (68 : Nat) ({ cls := "java/lang/Math", name := "floorMod", desc := "(II)I" } : Jvm.MethodName) ∈ TT := TT_1 (List.mem_of_getElem? (i := 46) (by decide +kernel)) (by decide +kernel)
theorem tm_47 : Jvm.Cond.static ({ cls := "java/lang/Math", name := "floorMod", desc := "(II)I" } : Jvm.MethodName) ∈ TT := TT_1 (List.mem_of_getElem? (i := 47) (by decide +kernel)) (by decide +kernel)
set_option maxRecDepth 20000 in
theorem tm_48 : Jvm.Cond.code ({ cls := "java/lang/Math", name := "floorMod", desc := "(II)I" } : Jvm.MethodName) prog_10_method_50_code (3 : Nat) (Option.some Jvm.ClassFile.FieldType.int) ∈ TT := TT_1 (List.mem_of_getElem? (i := 48) rfl) rfl
theorem tm_49 : Jvm.Cond.methodLink "StateExplore" (80 : Nat) ({ cls := "StateExplore", name := "number", desc := "(II)V" } : Jvm.MethodName) ∈ TT := TT_1 (List.mem_of_getElem? (i := 49) (by decide +kernel)) (by decide +kernel)
theorem tm_51 : Jvm.Cond.instanceMethod ({ cls := "StateExplore", name := "number", desc := "(II)V" } : Jvm.MethodName) ∈ TT := TT_1 (List.mem_of_getElem? (i := 51) (by decide +kernel)) (by decide +kernel)
set_option maxRecDepth 20000 in
theorem tm_52 : Jvm.Cond.code ({ cls := "StateExplore", name := "number", desc := "(II)V" } : Jvm.MethodName) prog_1_method_2_code (4 : Nat) (Option.none : Option Jvm.ClassFile.FieldType) ∈ TT := TT_1 (List.mem_of_getElem? (i := 52) rfl) rfl
theorem tm_53 : Jvm.Cond.methodLink "StateExplore" (84 : Nat) ({ cls := "StateExplore", name := "forget", desc := "()V" } : Jvm.MethodName) ∈ TT := TT_1 (List.mem_of_getElem? (i := 53) (by decide +kernel)) (by decide +kernel)
theorem tm_55 : Jvm.Cond.instanceMethod ({ cls := "StateExplore", name := "forget", desc := "()V" } : Jvm.MethodName) ∈ TT := TT_1 (List.mem_of_getElem? (i := 55) (by decide +kernel)) (by decide +kernel)
set_option maxRecDepth 20000 in
theorem tm_56 : Jvm.Cond.code ({ cls := "StateExplore", name := "forget", desc := "()V" } : Jvm.MethodName) prog_1_method_6_code (2 : Nat) (Option.none : Option Jvm.ClassFile.FieldType) ∈ TT := TT_1 (List.mem_of_getElem? (i := 56) rfl) rfl
theorem tm_57 : Jvm.Cond.fieldLink "StateExplore" (74 : Nat) "StateExplore" "nodes" "I" ∈ TT := TT_1 (List.mem_of_getElem? (i := 57) (by decide +kernel)) (by decide +kernel)
theorem tm_58 : Jvm.Cond.fieldLink "StateExplore" (77 : Nat) "StateExplore" "room" "I" ∈ TT := TT_1 (List.mem_of_getElem? (i := 58) (by decide +kernel)) (by decide +kernel)
theorem tm_59 : Jvm.Cond.fieldLink "StateExplore" (7 : Nat) "StateExplore" "states" "I" ∈ TT := TT_1 (List.mem_of_getElem? (i := 59) (by decide +kernel)) (by decide +kernel)
theorem tm_60 : Jvm.Cond.fieldLink "StateExplore" (119 : Nat) "StateExplore" "kinds" "I" ∈ TT := TT_1 (List.mem_of_getElem? (i := 60) (by decide +kernel)) (by decide +kernel)
theorem tm_61 : Jvm.Cond.fieldLink "StateExplore" (15 : Nat) "StateExplore" "rules" "[LStateExplore$Rule;" ∈ TT := TT_1 (List.mem_of_getElem? (i := 61) (by decide +kernel)) (by decide +kernel)
theorem tm_62 : Jvm.Cond.fieldLink "StateExplore" (129 : Nat) "StateExplore" "size" "I" ∈ TT := TT_1 (List.mem_of_getElem? (i := 62) (by decide +kernel)) (by decide +kernel)
theorem tm_63 : Jvm.Cond.fieldLink "StateExplore" (19 : Nat) "StateExplore" "bad" "[Z" ∈ TT := TT_1 (List.mem_of_getElem? (i := 63) (by decide +kernel)) (by decide +kernel)
theorem tm_64 : Jvm.Cond.fieldLink "StateExplore" (23 : Nat) "StateExplore" "numberings" "[I" ∈ TT := TT_1 (List.mem_of_getElem? (i := 64) (by decide +kernel)) (by decide +kernel)
theorem tm_65 : Jvm.Cond.fieldLink "StateExplore" (87 : Nat) "StateExplore" "ways" "I" ∈ TT := TT_1 (List.mem_of_getElem? (i := 65) (by decide +kernel)) (by decide +kernel)
theorem tm_66 : Jvm.Cond.fieldLink "StateExplore" (27 : Nat) "StateExplore" "forms" "[J" ∈ TT := TT_1 (List.mem_of_getElem? (i := 66) (by decide +kernel)) (by decide +kernel)
theorem tm_67 : Jvm.Cond.fieldLink "StateExplore" (31 : Nat) "StateExplore" "froms" "[I" ∈ TT := TT_1 (List.mem_of_getElem? (i := 67) (by decide +kernel)) (by decide +kernel)
theorem tm_68 : Jvm.Cond.fieldLink "StateExplore" (34 : Nat) "StateExplore" "by" "[I" ∈ TT := TT_1 (List.mem_of_getElem? (i := 68) (by decide +kernel)) (by decide +kernel)
theorem tm_69 : Jvm.Cond.fieldLink "StateExplore" (37 : Nat) "StateExplore" "levels" "[I" ∈ TT := TT_1 (List.mem_of_getElem? (i := 69) (by decide +kernel)) (by decide +kernel)
theorem tm_70 : Jvm.Cond.fieldLink "StateExplore" (40 : Nat) "StateExplore" "steps" "[I" ∈ TT := TT_1 (List.mem_of_getElem? (i := 70) (by decide +kernel)) (by decide +kernel)
theorem tm_71 : Jvm.Cond.fieldLink "StateExplore" (43 : Nat) "StateExplore" "alike" "[I" ∈ TT := TT_1 (List.mem_of_getElem? (i := 71) (by decide +kernel)) (by decide +kernel)
theorem tm_72 : Jvm.Cond.fieldLink "StateExplore" (99 : Nat) "StateExplore" "many" "I" ∈ TT := TT_1 (List.mem_of_getElem? (i := 72) (by decide +kernel)) (by decide +kernel)
theorem tm_73 : Jvm.Cond.fieldLink "StateExplore" (102 : Nat) "StateExplore" "gone" "I" ∈ TT := TT_1 (List.mem_of_getElem? (i := 73) (by decide +kernel)) (by decide +kernel)
theorem tm_74 : Jvm.Cond.fieldLink "StateExplore" (46 : Nat) "StateExplore" "table" "[I" ∈ TT := TT_1 (List.mem_of_getElem? (i := 74) (by decide +kernel)) (by decide +kernel)
theorem tm_75 : Jvm.Cond.fieldLink "StateExplore" (49 : Nat) "StateExplore" "badOne" "I" ∈ TT := TT_1 (List.mem_of_getElem? (i := 75) (by decide +kernel)) (by decide +kernel)
theorem tm_76 : Jvm.Cond.fieldLink "StateExplore" (105 : Nat) "StateExplore" "full" "Z" ∈ TT := TT_1 (List.mem_of_getElem? (i := 76) (by decide +kernel)) (by decide +kernel)
theorem tm_77 : Jvm.Cond.fieldLink "StateExplore" (109 : Nat) "StateExplore" "made" "I" ∈ TT := TT_1 (List.mem_of_getElem? (i := 77) (by decide +kernel)) (by decide +kernel)
theorem tm_78 : Jvm.Cond.fieldLink "StateExplore" (112 : Nat) "StateExplore" "again" "I" ∈ TT := TT_1 (List.mem_of_getElem? (i := 78) (by decide +kernel)) (by decide +kernel)
theorem tm_79 : Jvm.Cond.fieldLink "StateExplore" (55 : Nat) "StateExplore" "here" "LStateExplore$Whole;" ∈ TT := TT_1 (List.mem_of_getElem? (i := 79) (by decide +kernel)) (by decide +kernel)
theorem tm_80 : Jvm.Cond.fieldLink "StateExplore" (59 : Nat) "StateExplore" "next" "LStateExplore$Whole;" ∈ TT := TT_1 (List.mem_of_getElem? (i := 80) (by decide +kernel)) (by decide +kernel)
theorem tm_81 : Jvm.Cond.fieldLink "StateExplore" (62 : Nat) "StateExplore" "other" "LStateExplore$Whole;" ∈ TT := TT_1 (List.mem_of_getElem? (i := 81) (by decide +kernel)) (by decide +kernel)
theorem tm_82 : Jvm.Cond.fieldLink "StateExplore" (65 : Nat) "StateExplore" "names" "[I" ∈ TT := TT_1 (List.mem_of_getElem? (i := 82) (by decide +kernel)) (by decide +kernel)
theorem tm_83 : Jvm.Cond.fieldLink "StateExplore" (144 : Nat) "StateExplore" "sameWays" "I" ∈ TT := TT_1 (List.mem_of_getElem? (i := 83) (by decide +kernel)) (by decide +kernel)
theorem tm_139 : Jvm.Cond.methodLink "StateExploreLaw" (83 : Nat) ({ cls := "StateExplore", name := "run", desc := "()I" } : Jvm.MethodName) ∈ TT := TT_1 (List.mem_of_getElem? (i := 139) (by decide +kernel)) (by decide +kernel)
theorem tm_140 : Jvm.Cond.instanceMethod ({ cls := "StateExplore", name := "run", desc := "()I" } : Jvm.MethodName) ∈ TT := TT_1 (List.mem_of_getElem? (i := 140) (by decide +kernel)) (by decide +kernel)
theorem tm_141 : Jvm.Cond.selects "StateExplore" ({ cls := "StateExplore", name := "run", desc := "()I" } : Jvm.MethodName) ({ cls := "StateExplore", name := "run", desc := "()I" } : Jvm.MethodName) ∈ TT := TT_1 (List.mem_of_getElem? (i := 141) (by decide +kernel)) (by decide +kernel)
set_option maxRecDepth 20000 in
theorem tm_142 : Jvm.Cond.code ({ cls := "StateExplore", name := "run", desc := "()I" } : Jvm.MethodName) prog_1_method_26_code (1 : Nat) (Option.some Jvm.ClassFile.FieldType.int) ∈ TT := TT_1 (List.mem_of_getElem? (i := 142) rfl) rfl
theorem tm_143 : Jvm.Cond.methodLink "StateExplore" (237 : Nat) ({ cls := "StateExplore", name := "begin", desc := "()V" } : Jvm.MethodName) ∈ TT := TT_1 (List.mem_of_getElem? (i := 143) (by decide +kernel)) (by decide +kernel)
theorem tm_145 : Jvm.Cond.instanceMethod ({ cls := "StateExplore", name := "begin", desc := "()V" } : Jvm.MethodName) ∈ TT := TT_1 (List.mem_of_getElem? (i := 145) (by decide +kernel)) (by decide +kernel)
set_option maxRecDepth 20000 in
theorem tm_146 : Jvm.Cond.code ({ cls := "StateExplore", name := "begin", desc := "()V" } : Jvm.MethodName) prog_1_method_25_code (2 : Nat) (Option.none : Option Jvm.ClassFile.FieldType) ∈ TT := TT_1 (List.mem_of_getElem? (i := 146) rfl) rfl
theorem tm_147 : Jvm.Cond.methodLink "StateExplore" (215 : Nat) ({ cls := "StateExplore", name := "come", desc := "(LStateExplore$Whole;II)V" } : Jvm.MethodName) ∈ TT := TT_1 (List.mem_of_getElem? (i := 147) (by decide +kernel)) (by decide +kernel)
theorem tm_149 : Jvm.Cond.instanceMethod ({ cls := "StateExplore", name := "come", desc := "(LStateExplore$Whole;II)V" } : Jvm.MethodName) ∈ TT := TT_1 (List.mem_of_getElem? (i := 149) (by decide +kernel)) (by decide +kernel)
set_option maxRecDepth 20000 in
theorem tm_150 : Jvm.Cond.code ({ cls := "StateExplore", name := "come", desc := "(LStateExplore$Whole;II)V" } : Jvm.MethodName) prog_1_method_19_code (7 : Nat) (Option.none : Option Jvm.ClassFile.FieldType) ∈ TT := TT_1 (List.mem_of_getElem? (i := 150) rfl) rfl
theorem tm_151 : Jvm.Cond.methodLink "StateExplore" (182 : Nat) ({ cls := "StateExplore", name := "form", desc := "(LStateExplore$Whole;)J" } : Jvm.MethodName) ∈ TT := TT_1 (List.mem_of_getElem? (i := 151) (by decide +kernel)) (by decide +kernel)
theorem tm_153 : Jvm.Cond.instanceMethod ({ cls := "StateExplore", name := "form", desc := "(LStateExplore$Whole;)J" } : Jvm.MethodName) ∈ TT := TT_1 (List.mem_of_getElem? (i := 153) (by decide +kernel)) (by decide +kernel)
set_option maxRecDepth 20000 in
theorem tm_154 : Jvm.Cond.code ({ cls := "StateExplore", name := "form", desc := "(LStateExplore$Whole;)J" } : Jvm.MethodName) prog_1_method_13_code (8 : Nat) (Option.some Jvm.ClassFile.FieldType.long) ∈ TT := TT_1 (List.mem_of_getElem? (i := 154) rfl) rfl
theorem tm_155 : Jvm.Cond.methodLink "StateExplore" (147 : Nat) ({ cls := "java/lang/System", name := "arraycopy", desc := "(Ljava/lang/Object;ILjava/lang/Object;II)V" } : Jvm.MethodName) ∈ TT := TT_1 (List.mem_of_getElem? (i := 155) (by decide +kernel)) (by decide +kernel)
theorem tm_156 : Jvm.Cond.static ({ cls := "java/lang/System", name := "arraycopy", desc := "(Ljava/lang/Object;ILjava/lang/Object;II)V" } : Jvm.MethodName) ∈ TT := TT_1 (List.mem_of_getElem? (i := 156) (by decide +kernel)) (by decide +kernel)
theorem tm_157 : Jvm.Cond.native ({ cls := "java/lang/System", name := "arraycopy", desc := "(Ljava/lang/Object;ILjava/lang/Object;II)V" } : Jvm.MethodName) ∈ TT := TT_1 (List.mem_of_getElem? (i := 157) (by decide +kernel)) (by decide +kernel)
theorem tm_158 : Jvm.Cond.methodLink "StateExplore" (153 : Nat) ({ cls := "StateExplore$Whole", name := "turn", desc := "(LStateExplore$Whole;[I)V" } : Jvm.MethodName) ∈ TT := TT_1 (List.mem_of_getElem? (i := 158) (by decide +kernel)) (by decide +kernel)
theorem tm_159 : Jvm.Cond.instanceMethod ({ cls := "StateExplore$Whole", name := "turn", desc := "(LStateExplore$Whole;[I)V" } : Jvm.MethodName) ∈ TT := TT_1 (List.mem_of_getElem? (i := 159) (by decide +kernel)) (by decide +kernel)
theorem tm_160 : Jvm.Cond.selects "StateExplore$Whole" ({ cls := "StateExplore$Whole", name := "turn", desc := "(LStateExplore$Whole;[I)V" } : Jvm.MethodName) ({ cls := "StateExplore$Whole", name := "turn", desc := "(LStateExplore$Whole;[I)V" } : Jvm.MethodName) ∈ TT := TT_1 (List.mem_of_getElem? (i := 160) (by decide +kernel)) (by decide +kernel)
set_option maxRecDepth 20000 in
theorem tm_161 : Jvm.Cond.code ({ cls := "StateExplore$Whole", name := "turn", desc := "(LStateExplore$Whole;[I)V" } : Jvm.MethodName) prog_3_method_7_code (5 : Nat) (Option.none : Option Jvm.ClassFile.FieldType) ∈ TT := TT_1 (List.mem_of_getElem? (i := 161) rfl) rfl
theorem tm_162 : Jvm.Cond.methodLink "StateExplore$Whole" (28 : Nat) ({ cls := "StateExplore$Whole", name := "add", desc := "(I)Z" } : Jvm.MethodName) ∈ TT := TT_1 (List.mem_of_getElem? (i := 162) (by decide +kernel)) (by decide +kernel)
theorem tm_163 : Jvm.Cond.instanceMethod ({ cls := "StateExplore$Whole", name := "add", desc := "(I)Z" } : Jvm.MethodName) ∈ TT := TT_1 (List.mem_of_getElem? (i := 163) (by decide +kernel)) (by decide +kernel)
theorem tm_164 : Jvm.Cond.selects "StateExplore$Whole" ({ cls := "StateExplore$Whole", name := "add", desc := "(I)Z" } : Jvm.MethodName) ({ cls := "StateExplore$Whole", name := "add", desc := "(I)Z" } : Jvm.MethodName) ∈ TT := TT_1 (List.mem_of_getElem? (i := 164) (by decide +kernel)) (by decide +kernel)
set_option maxRecDepth 20000 in
theorem tm_165 : Jvm.Cond.code ({ cls := "StateExplore$Whole", name := "add", desc := "(I)Z" } : Jvm.MethodName) prog_3_method_3_code (3 : Nat) (Option.some Jvm.ClassFile.FieldType.boolean) ∈ TT := TT_1 (List.mem_of_getElem? (i := 165) rfl) rfl
theorem tm_166 : Jvm.Cond.methodLink "StateExplore" (157 : Nat) ({ cls := "StateExplore$Whole", name := "pack", desc := "()J" } : Jvm.MethodName) ∈ TT := TT_1 (List.mem_of_getElem? (i := 166) (by decide +kernel)) (by decide +kernel)
theorem tm_167 : Jvm.Cond.instanceMethod ({ cls := "StateExplore$Whole", name := "pack", desc := "()J" } : Jvm.MethodName) ∈ TT := TT_1 (List.mem_of_getElem? (i := 167) (by decide +kernel)) (by decide +kernel)
theorem tm_168 : Jvm.Cond.selects "StateExplore$Whole" ({ cls := "StateExplore$Whole", name := "pack", desc := "()J" } : Jvm.MethodName) ({ cls := "StateExplore$Whole", name := "pack", desc := "()J" } : Jvm.MethodName) ∈ TT := TT_1 (List.mem_of_getElem? (i := 168) (by decide +kernel)) (by decide +kernel)
set_option maxRecDepth 20000 in
theorem tm_169 : Jvm.Cond.code ({ cls := "StateExplore$Whole", name := "pack", desc := "()J" } : Jvm.MethodName) prog_3_method_5_code (4 : Nat) (Option.some Jvm.ClassFile.FieldType.long) ∈ TT := TT_1 (List.mem_of_getElem? (i := 169) rfl) rfl
theorem tm_170 : Jvm.Cond.methodLink "StateExplore" (161 : Nat) ({ cls := "java/lang/Long", name := "compareUnsigned", desc := "(JJ)I" } : Jvm.MethodName) ∈ TT := TT_1 (List.mem_of_getElem? (i := 170) (by decide +kernel)) (by decide +kernel)
theorem tm_171 : Jvm.Cond.static ({ cls := "java/lang/Long", name := "compareUnsigned", desc := "(JJ)I" } : Jvm.MethodName) ∈ TT := TT_1 (List.mem_of_getElem? (i := 171) (by decide +kernel)) (by decide +kernel)
set_option maxRecDepth 20000 in
theorem tm_172 : Jvm.Cond.code ({ cls := "java/lang/Long", name := "compareUnsigned", desc := "(JJ)I" } : Jvm.MethodName) prog_9_method_43_code (4 : Nat) (Option.some Jvm.ClassFile.FieldType.int) ∈ TT := TT_1 (List.mem_of_getElem? (i := 172) rfl) rfl
theorem tm_173 : Jvm.Cond.constantLong "java/lang/Long" (168 : Nat) (-9223372036854775808 : Int64) ∈ TT := TT_1 (List.mem_of_getElem? (i := 173) (by decide +kernel)) (by decide +kernel)
theorem tm_174 : Jvm.Cond.methodLink "java/lang/Long" (302 : Nat) ({ cls := "java/lang/Long", name := "compare", desc := "(JJ)I" } : Jvm.MethodName) ∈ TT := TT_1 (List.mem_of_getElem? (i := 174) (by decide +kernel)) (by decide +kernel)
theorem tm_175 : Jvm.Cond.static ({ cls := "java/lang/Long", name := "compare", desc := "(JJ)I" } : Jvm.MethodName) ∈ TT := TT_1 (List.mem_of_getElem? (i := 175) (by decide +kernel)) (by decide +kernel)
set_option maxRecDepth 20000 in
theorem tm_176 : Jvm.Cond.code ({ cls := "java/lang/Long", name := "compare", desc := "(JJ)I" } : Jvm.MethodName) prog_9_method_42_code (4 : Nat) (Option.some Jvm.ClassFile.FieldType.int) ∈ TT := TT_1 (List.mem_of_getElem? (i := 176) rfl) rfl
theorem tm_177 : Jvm.Cond.methodLink "StateExplore" (177 : Nat) ({ cls := "StateExplore", name := "find", desc := "(J)I" } : Jvm.MethodName) ∈ TT := TT_1 (List.mem_of_getElem? (i := 177) (by decide +kernel)) (by decide +kernel)
theorem tm_179 : Jvm.Cond.instanceMethod ({ cls := "StateExplore", name := "find", desc := "(J)I" } : Jvm.MethodName) ∈ TT := TT_1 (List.mem_of_getElem? (i := 179) (by decide +kernel)) (by decide +kernel)
set_option maxRecDepth 20000 in
theorem tm_180 : Jvm.Cond.code ({ cls := "StateExplore", name := "find", desc := "(J)I" } : Jvm.MethodName) prog_1_method_15_code (4 : Nat) (Option.some Jvm.ClassFile.FieldType.int) ∈ TT := TT_1 (List.mem_of_getElem? (i := 180) rfl) rfl
theorem tm_181 : Jvm.Cond.methodLink "StateExplore" (169 : Nat) ({ cls := "StateExplore", name := "slot", desc := "(J)I" } : Jvm.MethodName) ∈ TT := TT_1 (List.mem_of_getElem? (i := 181) (by decide +kernel)) (by decide +kernel)
theorem tm_183 : Jvm.Cond.instanceMethod ({ cls := "StateExplore", name := "slot", desc := "(J)I" } : Jvm.MethodName) ∈ TT := TT_1 (List.mem_of_getElem? (i := 183) (by decide +kernel)) (by decide +kernel)
set_option maxRecDepth 20000 in
theorem tm_184 : Jvm.Cond.code ({ cls := "StateExplore", name := "slot", desc := "(J)I" } : Jvm.MethodName) prog_1_method_14_code (5 : Nat) (Option.some Jvm.ClassFile.FieldType.int) ∈ TT := TT_1 (List.mem_of_getElem? (i := 184) rfl) rfl
theorem tm_185 : Jvm.Cond.constantLong "StateExplore" (167 : Nat) (-7046029254386353131 : Int64) ∈ TT := TT_1 (List.mem_of_getElem? (i := 185) (by decide +kernel)) (by decide +kernel)
theorem tm_186 : Jvm.Cond.methodLink "StateExplore" (186 : Nat) ({ cls := "StateExplore", name := "grow", desc := "()V" } : Jvm.MethodName) ∈ TT := TT_1 (List.mem_of_getElem? (i := 186) (by decide +kernel)) (by decide +kernel)
theorem tm_188 : Jvm.Cond.instanceMethod ({ cls := "StateExplore", name := "grow", desc := "()V" } : Jvm.MethodName) ∈ TT := TT_1 (List.mem_of_getElem? (i := 188) (by decide +kernel)) (by decide +kernel)
set_option maxRecDepth 20000 in
theorem tm_189 : Jvm.Cond.code ({ cls := "StateExplore", name := "grow", desc := "()V" } : Jvm.MethodName) prog_1_method_17_code (4 : Nat) (Option.none : Option Jvm.ClassFile.FieldType) ∈ TT := TT_1 (List.mem_of_getElem? (i := 189) rfl) rfl
theorem tm_190 : Jvm.Cond.methodLink "StateExplore" (173 : Nat) ({ cls := "StateExplore", name := "longer", desc := "([II)[I" } : Jvm.MethodName) ∈ TT := TT_1 (List.mem_of_getElem? (i := 190) (by decide +kernel)) (by decide +kernel)
theorem tm_191 : Jvm.Cond.static ({ cls := "StateExplore", name := "longer", desc := "([II)[I" } : Jvm.MethodName) ∈ TT := TT_1 (List.mem_of_getElem? (i := 191) (by decide +kernel)) (by decide +kernel)
set_option maxRecDepth 20000 in
theorem tm_192 : Jvm.Cond.code ({ cls := "StateExplore", name := "longer", desc := "([II)[I" } : Jvm.MethodName) prog_1_method_16_code (3 : Nat) (Option.some (Jvm.ClassFile.FieldType.array Jvm.ClassFile.FieldType.int)) ∈ TT := TT_1 (List.mem_of_getElem? (i := 192) rfl) rfl
theorem tm_193 : Jvm.Cond.methodLink "StateExplore" (189 : Nat) ({ cls := "StateExplore", name := "isBad", desc := "(LStateExplore$Whole;)Z" } : Jvm.MethodName) ∈ TT := TT_1 (List.mem_of_getElem? (i := 193) (by decide +kernel)) (by decide +kernel)
theorem tm_195 : Jvm.Cond.instanceMethod ({ cls := "StateExplore", name := "isBad", desc := "(LStateExplore$Whole;)Z" } : Jvm.MethodName) ∈ TT := TT_1 (List.mem_of_getElem? (i := 195) (by decide +kernel)) (by decide +kernel)
set_option maxRecDepth 20000 in
theorem tm_196 : Jvm.Cond.code ({ cls := "StateExplore", name := "isBad", desc := "(LStateExplore$Whole;)Z" } : Jvm.MethodName) prog_1_method_18_code (4 : Nat) (Option.some Jvm.ClassFile.FieldType.boolean) ∈ TT := TT_1 (List.mem_of_getElem? (i := 196) rfl) rfl
theorem tm_197 : Jvm.Cond.methodLink "StateExplore" (207 : Nat) ({ cls := "StateExplore", name := "isOver", desc := "()Z" } : Jvm.MethodName) ∈ TT := TT_1 (List.mem_of_getElem? (i := 197) (by decide +kernel)) (by decide +kernel)
theorem tm_199 : Jvm.Cond.instanceMethod ({ cls := "StateExplore", name := "isOver", desc := "()Z" } : Jvm.MethodName) ∈ TT := TT_1 (List.mem_of_getElem? (i := 199) (by decide +kernel)) (by decide +kernel)
set_option maxRecDepth 20000 in
theorem tm_200 : Jvm.Cond.code ({ cls := "StateExplore", name := "isOver", desc := "()Z" } : Jvm.MethodName) prog_1_method_21_code (1 : Nat) (Option.some Jvm.ClassFile.FieldType.boolean) ∈ TT := TT_1 (List.mem_of_getElem? (i := 200) rfl) rfl
theorem tm_201 : Jvm.Cond.methodLink "StateExplore" (240 : Nat) ({ cls := "StateExplore", name := "goThrough", desc := "(I)V" } : Jvm.MethodName) ∈ TT := TT_1 (List.mem_of_getElem? (i := 201) (by decide +kernel)) (by decide +kernel)
theorem tm_203 : Jvm.Cond.instanceMethod ({ cls := "StateExplore", name := "goThrough", desc := "(I)V" } : Jvm.MethodName) ∈ TT := TT_1 (List.mem_of_getElem? (i := 203) (by decide +kernel)) (by decide +kernel)
set_option maxRecDepth 20000 in
theorem tm_204 : Jvm.Cond.code ({ cls := "StateExplore", name := "goThrough", desc := "(I)V" } : Jvm.MethodName) prog_1_method_24_code (4 : Nat) (Option.none : Option Jvm.ClassFile.FieldType) ∈ TT := TT_1 (List.mem_of_getElem? (i := 204) rfl) rfl
theorem tm_205 : Jvm.Cond.methodLink "StateExplore" (227 : Nat) ({ cls := "StateExplore$Whole", name := "unpack", desc := "(J)V" } : Jvm.MethodName) ∈ TT := TT_1 (List.mem_of_getElem? (i := 205) (by decide +kernel)) (by decide +kernel)
theorem tm_206 : Jvm.Cond.instanceMethod ({ cls := "StateExplore$Whole", name := "unpack", desc := "(J)V" } : Jvm.MethodName) ∈ TT := TT_1 (List.mem_of_getElem? (i := 206) (by decide +kernel)) (by decide +kernel)
theorem tm_207 : Jvm.Cond.selects "StateExplore$Whole" ({ cls := "StateExplore$Whole", name := "unpack", desc := "(J)V" } : Jvm.MethodName) ({ cls := "StateExplore$Whole", name := "unpack", desc := "(J)V" } : Jvm.MethodName) ∈ TT := TT_1 (List.mem_of_getElem? (i := 207) (by decide +kernel)) (by decide +kernel)
set_option maxRecDepth 20000 in
theorem tm_208 : Jvm.Cond.code ({ cls := "StateExplore$Whole", name := "unpack", desc := "(J)V" } : Jvm.MethodName) prog_3_method_6_code (4 : Nat) (Option.none : Option Jvm.ClassFile.FieldType) ∈ TT := TT_1 (List.mem_of_getElem? (i := 208) rfl) rfl
theorem tm_209 : Jvm.Cond.methodLink "StateExplore" (223 : Nat) ({ cls := "StateExplore", name := "step", desc := "(IIIII)V" } : Jvm.MethodName) ∈ TT := TT_1 (List.mem_of_getElem? (i := 209) (by decide +kernel)) (by decide +kernel)
theorem tm_211 : Jvm.Cond.instanceMethod ({ cls := "StateExplore", name := "step", desc := "(IIIII)V" } : Jvm.MethodName) ∈ TT := TT_1 (List.mem_of_getElem? (i := 211) (by decide +kernel)) (by decide +kernel)
set_option maxRecDepth 20000 in
theorem tm_212 : Jvm.Cond.code ({ cls := "StateExplore", name := "step", desc := "(IIIII)V" } : Jvm.MethodName) prog_1_method_22_code (6 : Nat) (Option.none : Option Jvm.ClassFile.FieldType) ∈ TT := TT_1 (List.mem_of_getElem? (i := 212) rfl) rfl
theorem tm_213 : Jvm.Cond.methodLink "StateExplore" (211 : Nat) ({ cls := "StateExplore", name := "make", desc := "(LStateExplore$Rule;III)Z" } : Jvm.MethodName) ∈ TT := TT_1 (List.mem_of_getElem? (i := 213) (by decide +kernel)) (by decide +kernel)
theorem tm_215 : Jvm.Cond.instanceMethod ({ cls := "StateExplore", name := "make", desc := "(LStateExplore$Rule;III)Z" } : Jvm.MethodName) ∈ TT := TT_1 (List.mem_of_getElem? (i := 215) (by decide +kernel)) (by decide +kernel)
set_option maxRecDepth 20000 in
theorem tm_216 : Jvm.Cond.code ({ cls := "StateExplore", name := "make", desc := "(LStateExplore$Rule;III)Z" } : Jvm.MethodName) prog_1_method_20_code (8 : Nat) (Option.some Jvm.ClassFile.FieldType.boolean) ∈ TT := TT_1 (List.mem_of_getElem? (i := 216) rfl) rfl
theorem tm_217 : Jvm.Cond.methodLink "StateExplore" (193 : Nat) ({ cls := "StateExplore$Whole", name := "become", desc := "(LStateExplore$Whole;)V" } : Jvm.MethodName) ∈ TT := TT_1 (List.mem_of_getElem? (i := 217) (by decide +kernel)) (by decide +kernel)
theorem tm_218 : Jvm.Cond.instanceMethod ({ cls := "StateExplore$Whole", name := "become", desc := "(LStateExplore$Whole;)V" } : Jvm.MethodName) ∈ TT := TT_1 (List.mem_of_getElem? (i := 218) (by decide +kernel)) (by decide +kernel)
theorem tm_219 : Jvm.Cond.selects "StateExplore$Whole" ({ cls := "StateExplore$Whole", name := "become", desc := "(LStateExplore$Whole;)V" } : Jvm.MethodName) ({ cls := "StateExplore$Whole", name := "become", desc := "(LStateExplore$Whole;)V" } : Jvm.MethodName) ∈ TT := TT_1 (List.mem_of_getElem? (i := 219) (by decide +kernel)) (by decide +kernel)
set_option maxRecDepth 20000 in
theorem tm_220 : Jvm.Cond.code ({ cls := "StateExplore$Whole", name := "become", desc := "(LStateExplore$Whole;)V" } : Jvm.MethodName) prog_3_method_2_code (2 : Nat) (Option.none : Option Jvm.ClassFile.FieldType) ∈ TT := TT_1 (List.mem_of_getElem? (i := 220) rfl) rfl
theorem tm_221 : Jvm.Cond.methodLink "StateExplore$Whole" (18 : Nat) ({ cls := "java/lang/System", name := "arraycopy", desc := "(Ljava/lang/Object;ILjava/lang/Object;II)V" } : Jvm.MethodName) ∈ TT := TT_1 (List.mem_of_getElem? (i := 221) (by decide +kernel)) (by decide +kernel)
theorem tm_222 : Jvm.Cond.methodLink "StateExplore" (200 : Nat) ({ cls := "StateExplore$Whole", name := "drop", desc := "(I)V" } : Jvm.MethodName) ∈ TT := TT_1 (List.mem_of_getElem? (i := 222) (by decide +kernel)) (by decide +kernel)
theorem tm_223 : Jvm.Cond.instanceMethod ({ cls := "StateExplore$Whole", name := "drop", desc := "(I)V" } : Jvm.MethodName) ∈ TT := TT_1 (List.mem_of_getElem? (i := 223) (by decide +kernel)) (by decide +kernel)
theorem tm_224 : Jvm.Cond.selects "StateExplore$Whole" ({ cls := "StateExplore$Whole", name := "drop", desc := "(I)V" } : Jvm.MethodName) ({ cls := "StateExplore$Whole", name := "drop", desc := "(I)V" } : Jvm.MethodName) ∈ TT := TT_1 (List.mem_of_getElem? (i := 224) (by decide +kernel)) (by decide +kernel)
set_option maxRecDepth 20000 in
theorem tm_225 : Jvm.Cond.code ({ cls := "StateExplore$Whole", name := "drop", desc := "(I)V" } : Jvm.MethodName) prog_3_method_4_code (3 : Nat) (Option.none : Option Jvm.ClassFile.FieldType) ∈ TT := TT_1 (List.mem_of_getElem? (i := 225) rfl) rfl
theorem tm_226 : Jvm.Cond.methodLink "StateExplore" (204 : Nat) ({ cls := "StateExplore$Whole", name := "add", desc := "(I)Z" } : Jvm.MethodName) ∈ TT := TT_1 (List.mem_of_getElem? (i := 226) (by decide +kernel)) (by decide +kernel)
theorem tm_227 : Jvm.Cond.methodLink "StateExplore" (234 : Nat) ({ cls := "StateExplore", name := "receive", desc := "(III)V" } : Jvm.MethodName) ∈ TT := TT_1 (List.mem_of_getElem? (i := 227) (by decide +kernel)) (by decide +kernel)
theorem tm_229 : Jvm.Cond.instanceMethod ({ cls := "StateExplore", name := "receive", desc := "(III)V" } : Jvm.MethodName) ∈ TT := TT_1 (List.mem_of_getElem? (i := 229) (by decide +kernel)) (by decide +kernel)
set_option maxRecDepth 20000 in
theorem tm_230 : Jvm.Cond.code ({ cls := "StateExplore", name := "receive", desc := "(III)V" } : Jvm.MethodName) prog_1_method_23_code (7 : Nat) (Option.none : Option Jvm.ClassFile.FieldType) ∈ TT := TT_1 (List.mem_of_getElem? (i := 230) rfl) rfl
theorem tm_231 : Jvm.Cond.methodLink "StateExploreLaw" (100 : Nat) ({ cls := "StateExplore", name := "way", desc := "()I" } : Jvm.MethodName) ∈ TT := TT_1 (List.mem_of_getElem? (i := 231) (by decide +kernel)) (by decide +kernel)
theorem tm_232 : Jvm.Cond.instanceMethod ({ cls := "StateExplore", name := "way", desc := "()I" } : Jvm.MethodName) ∈ TT := TT_1 (List.mem_of_getElem? (i := 232) (by decide +kernel)) (by decide +kernel)
theorem tm_233 : Jvm.Cond.selects "StateExplore" ({ cls := "StateExplore", name := "way", desc := "()I" } : Jvm.MethodName) ({ cls := "StateExplore", name := "way", desc := "()I" } : Jvm.MethodName) ∈ TT := TT_1 (List.mem_of_getElem? (i := 233) (by decide +kernel)) (by decide +kernel)
set_option maxRecDepth 20000 in
theorem tm_234 : Jvm.Cond.code ({ cls := "StateExplore", name := "way", desc := "()I" } : Jvm.MethodName) prog_1_method_32_code (1 : Nat) (Option.some Jvm.ClassFile.FieldType.int) ∈ TT := TT_1 (List.mem_of_getElem? (i := 234) rfl) rfl
theorem tm_235 : Jvm.Cond.methodLink "StateExploreLaw" (107 : Nat) ({ cls := "StateExplore", name := "count", desc := "(I)I" } : Jvm.MethodName) ∈ TT := TT_1 (List.mem_of_getElem? (i := 235) (by decide +kernel)) (by decide +kernel)
theorem tm_236 : Jvm.Cond.instanceMethod ({ cls := "StateExplore", name := "count", desc := "(I)I" } : Jvm.MethodName) ∈ TT := TT_1 (List.mem_of_getElem? (i := 236) (by decide +kernel)) (by decide +kernel)
theorem tm_237 : Jvm.Cond.selects "StateExplore" ({ cls := "StateExplore", name := "count", desc := "(I)I" } : Jvm.MethodName) ({ cls := "StateExplore", name := "count", desc := "(I)I" } : Jvm.MethodName) ∈ TT := TT_1 (List.mem_of_getElem? (i := 237) (by decide +kernel)) (by decide +kernel)
set_option maxRecDepth 20000 in
theorem tm_238 : Jvm.Cond.code ({ cls := "StateExplore", name := "count", desc := "(I)I" } : Jvm.MethodName) prog_1_method_36_code (2 : Nat) (Option.some Jvm.ClassFile.FieldType.int) ∈ TT := TT_1 (List.mem_of_getElem? (i := 238) rfl) rfl
theorem tm_239 : Jvm.Cond.methodLink "StateExplore" (249 : Nat) ({ cls := "StateExplore", name := "dead", desc := "()I" } : Jvm.MethodName) ∈ TT := TT_1 (List.mem_of_getElem? (i := 239) (by decide +kernel)) (by decide +kernel)
theorem tm_241 : Jvm.Cond.instanceMethod ({ cls := "StateExplore", name := "dead", desc := "()I" } : Jvm.MethodName) ∈ TT := TT_2 (List.mem_of_getElem? (i := 1) (by decide +kernel)) (by decide +kernel)
set_option maxRecDepth 20000 in
theorem tm_242 : Jvm.Cond.code ({ cls := "StateExplore", name := "dead", desc := "()I" } : Jvm.MethodName) prog_1_method_34_code (3 : Nat) (Option.some Jvm.ClassFile.FieldType.int) ∈ TT := TT_2 (List.mem_of_getElem? (i := 2) rfl) rfl
theorem tm_243 : Jvm.Cond.methodLink "StateExplore" (253 : Nat) ({ cls := "StateExplore", name := "sum", desc := "()I" } : Jvm.MethodName) ∈ TT := TT_2 (List.mem_of_getElem? (i := 3) (by decide +kernel)) (by decide +kernel)
theorem tm_245 : Jvm.Cond.instanceMethod ({ cls := "StateExplore", name := "sum", desc := "()I" } : Jvm.MethodName) ∈ TT := TT_2 (List.mem_of_getElem? (i := 5) (by decide +kernel)) (by decide +kernel)
set_option maxRecDepth 20000 in
theorem tm_246 : Jvm.Cond.code ({ cls := "StateExplore", name := "sum", desc := "()I" } : Jvm.MethodName) prog_1_method_35_code (3 : Nat) (Option.some Jvm.ClassFile.FieldType.int) ∈ TT := TT_2 (List.mem_of_getElem? (i := 6) rfl) rfl
theorem tm_247 : Jvm.Cond.methodLink "StateExploreLaw" (50 : Nat) ({ cls := "StateExploreLaw", name := "cell", desc := "([II)I" } : Jvm.MethodName) ∈ TT := TT_2 (List.mem_of_getElem? (i := 7) (by decide +kernel)) (by decide +kernel)
theorem tm_248 : Jvm.Cond.static ({ cls := "StateExploreLaw", name := "cell", desc := "([II)I" } : Jvm.MethodName) ∈ TT := TT_2 (List.mem_of_getElem? (i := 8) (by decide +kernel)) (by decide +kernel)
set_option maxRecDepth 20000 in
theorem tm_249 : Jvm.Cond.code ({ cls := "StateExploreLaw", name := "cell", desc := "([II)I" } : Jvm.MethodName) method_2_code (2 : Nat) (Option.some Jvm.ClassFile.FieldType.int) ∈ TT := TT_2 (List.mem_of_getElem? (i := 9) rfl) rfl
theorem tm_250 : Jvm.Cond.methodLink "StateExploreLaw" (62 : Nat) ({ cls := "StateExploreLaw", name := "state", desc := "(LStateExplore;[J)I" } : Jvm.MethodName) ∈ TT := TT_2 (List.mem_of_getElem? (i := 10) (by decide +kernel)) (by decide +kernel)
theorem tm_251 : Jvm.Cond.static ({ cls := "StateExploreLaw", name := "state", desc := "(LStateExplore;[J)I" } : Jvm.MethodName) ∈ TT := TT_2 (List.mem_of_getElem? (i := 11) (by decide +kernel)) (by decide +kernel)
set_option maxRecDepth 20000 in
theorem tm_252 : Jvm.Cond.codeWith ({ cls := "StateExploreLaw", name := "state", desc := "(LStateExplore;[J)I" } : Jvm.MethodName) method_3_code (3 : Nat) (Option.some Jvm.ClassFile.FieldType.int) [((0 : Nat), (8 : Nat), (11 : Nat), (13 : Nat))] ∈ TT := TT_2 (List.mem_of_getElem? (i := 12) rfl) rfl
theorem tm_253 : Jvm.Cond.classLink "StateExploreLaw" (13 : Nat) "java/lang/UnsupportedOperationException" ∈ TT := TT_2 (List.mem_of_getElem? (i := 13) (by decide +kernel)) (by decide +kernel)
theorem tm_254 : Jvm.Cond.methodLink "StateExploreLaw" (7 : Nat) ({ cls := "StateExplore", name := "state", desc := "()I" } : Jvm.MethodName) ∈ TT := TT_2 (List.mem_of_getElem? (i := 14) (by decide +kernel)) (by decide +kernel)
theorem tm_255 : Jvm.Cond.instanceMethod ({ cls := "StateExplore", name := "state", desc := "()I" } : Jvm.MethodName) ∈ TT := TT_2 (List.mem_of_getElem? (i := 15) (by decide +kernel)) (by decide +kernel)
theorem tm_256 : Jvm.Cond.selects "StateExplore" ({ cls := "StateExplore", name := "state", desc := "()I" } : Jvm.MethodName) ({ cls := "StateExplore", name := "state", desc := "()I" } : Jvm.MethodName) ∈ TT := TT_2 (List.mem_of_getElem? (i := 16) (by decide +kernel)) (by decide +kernel)
set_option maxRecDepth 20000 in
theorem tm_257 : Jvm.Cond.code ({ cls := "StateExplore", name := "state", desc := "()I" } : Jvm.MethodName) prog_1_method_7_code (1 : Nat) (Option.some Jvm.ClassFile.FieldType.int) ∈ TT := TT_2 (List.mem_of_getElem? (i := 17) rfl) rfl
theorem tm_258 : Jvm.Cond.methodLink "StateExplore" (115 : Nat) ({ cls := "StateExplore", name := "allowed", desc := "(Z)V" } : Jvm.MethodName) ∈ TT := TT_2 (List.mem_of_getElem? (i := 18) (by decide +kernel)) (by decide +kernel)
theorem tm_259 : Jvm.Cond.static ({ cls := "StateExplore", name := "allowed", desc := "(Z)V" } : Jvm.MethodName) ∈ TT := TT_2 (List.mem_of_getElem? (i := 19) (by decide +kernel)) (by decide +kernel)
set_option maxRecDepth 20000 in
theorem tm_260 : Jvm.Cond.code ({ cls := "StateExplore", name := "allowed", desc := "(Z)V" } : Jvm.MethodName) prog_1_method_5_code (1 : Nat) (Option.none : Option Jvm.ClassFile.FieldType) ∈ TT := TT_2 (List.mem_of_getElem? (i := 20) rfl) rfl
theorem tm_261 : Jvm.Cond.classLink "StateExplore" (96 : Nat) "java/lang/UnsupportedOperationException" ∈ TT := TT_2 (List.mem_of_getElem? (i := 21) (by decide +kernel)) (by decide +kernel)
theorem tm_262 : Jvm.Cond.instantiable "java/lang/UnsupportedOperationException" (6 : Nat) ∈ TT := TT_2 (List.mem_of_getElem? (i := 22) (by decide +kernel)) (by decide +kernel)
theorem tm_270 : Jvm.Cond.selects "java/lang/UnsupportedOperationException" ({ cls := "java/lang/Throwable", name := "fillInStackTrace", desc := "(I)Ljava/lang/Throwable;" } : Jvm.MethodName) ({ cls := "java/lang/Throwable", name := "fillInStackTrace", desc := "(I)Ljava/lang/Throwable;" } : Jvm.MethodName) ∈ TT := TT_2 (List.mem_of_getElem? (i := 30) (by decide +kernel)) (by decide +kernel)
theorem tm_271 : Jvm.Cond.selects "java/lang/UnsupportedOperationException" ({ cls := "java/lang/Throwable", name := "fillInStackTrace", desc := "()Ljava/lang/Throwable;" } : Jvm.MethodName) ({ cls := "java/lang/Throwable", name := "fillInStackTrace", desc := "()Ljava/lang/Throwable;" } : Jvm.MethodName) ∈ TT := TT_2 (List.mem_of_getElem? (i := 31) (by decide +kernel)) (by decide +kernel)
theorem tm_282 : Jvm.Cond.fieldLink "java/lang/Throwable" (198 : Nat) "java/lang/Throwable" "backtrace" "Ljava/lang/Object;" ∈ TT := TT_2 (List.mem_of_getElem? (i := 42) (by decide +kernel)) (by decide +kernel)
theorem tm_284 : Jvm.Cond.instanceMethod ({ cls := "java/lang/Throwable", name := "<init>", desc := "()V" } : Jvm.MethodName) ∈ TT := TT_2 (List.mem_of_getElem? (i := 44) (by decide +kernel)) (by decide +kernel)
set_option maxRecDepth 20000 in
theorem tm_285 : Jvm.Cond.code ({ cls := "java/lang/Throwable", name := "<init>", desc := "()V" } : Jvm.MethodName) prog_13_method_1_code (1 : Nat) (Option.none : Option Jvm.ClassFile.FieldType) ∈ TT := TT_2 (List.mem_of_getElem? (i := 45) rfl) rfl
theorem tm_286 : Jvm.Cond.methodLink "java/lang/Throwable" (1 : Nat) ({ cls := "java/lang/Object", name := "<init>", desc := "()V" } : Jvm.MethodName) ∈ TT := TT_2 (List.mem_of_getElem? (i := 46) (by decide +kernel)) (by decide +kernel)
theorem tm_287 : Jvm.Cond.fieldLink "java/lang/Throwable" (13 : Nat) "java/lang/Throwable" "UNASSIGNED_STACK" "[Ljava/lang/StackTraceElement;" ∈ TT := TT_2 (List.mem_of_getElem? (i := 47) (by decide +kernel)) (by decide +kernel)
theorem tm_289 : Jvm.Cond.fieldLink "java/lang/Throwable" (20 : Nat) "java/lang/Throwable" "SUPPRESSED_SENTINEL" "Ljava/util/List;" ∈ TT := TT_2 (List.mem_of_getElem? (i := 49) (by decide +kernel)) (by decide +kernel)
theorem tm_291 : Jvm.Cond.methodLink "java/lang/Throwable" (27 : Nat) ({ cls := "java/lang/Throwable", name := "fillInStackTrace", desc := "()Ljava/lang/Throwable;" } : Jvm.MethodName) ∈ TT := TT_2 (List.mem_of_getElem? (i := 51) (by decide +kernel)) (by decide +kernel)
theorem tm_292 : Jvm.Cond.instanceMethod ({ cls := "java/lang/Throwable", name := "fillInStackTrace", desc := "()Ljava/lang/Throwable;" } : Jvm.MethodName) ∈ TT := TT_2 (List.mem_of_getElem? (i := 52) (by decide +kernel)) (by decide +kernel)
theorem tm_294 : Jvm.Cond.selects "java/lang/IllegalArgumentException" ({ cls := "java/lang/Throwable", name := "fillInStackTrace", desc := "()Ljava/lang/Throwable;" } : Jvm.MethodName) ({ cls := "java/lang/Throwable", name := "fillInStackTrace", desc := "()Ljava/lang/Throwable;" } : Jvm.MethodName) ∈ TT := TT_2 (List.mem_of_getElem? (i := 54) (by decide +kernel)) (by decide +kernel)
theorem tm_295 : Jvm.Cond.selects "java/lang/IndexOutOfBoundsException" ({ cls := "java/lang/Throwable", name := "fillInStackTrace", desc := "()Ljava/lang/Throwable;" } : Jvm.MethodName) ({ cls := "java/lang/Throwable", name := "fillInStackTrace", desc := "()Ljava/lang/Throwable;" } : Jvm.MethodName) ∈ TT := TT_2 (List.mem_of_getElem? (i := 55) (by decide +kernel)) (by decide +kernel)
set_option maxRecDepth 20000 in
theorem tm_296 : Jvm.Cond.codeSync ({ cls := "java/lang/Throwable", name := "fillInStackTrace", desc := "()Ljava/lang/Throwable;" } : Jvm.MethodName) prog_13_method_18_code (1 : Nat) (Option.some (Jvm.ClassFile.FieldType.object "java/lang/Throwable")) ∈ TT := TT_2 (List.mem_of_getElem? (i := 56) rfl) rfl
theorem tm_297 : Jvm.Cond.methodLink "java/lang/Throwable" (202 : Nat) ({ cls := "java/lang/Throwable", name := "fillInStackTrace", desc := "(I)Ljava/lang/Throwable;" } : Jvm.MethodName) ∈ TT := TT_2 (List.mem_of_getElem? (i := 57) (by decide +kernel)) (by decide +kernel)
theorem tm_299 : Jvm.Cond.instanceMethod ({ cls := "java/lang/Throwable", name := "fillInStackTrace", desc := "(I)Ljava/lang/Throwable;" } : Jvm.MethodName) ∈ TT := TT_2 (List.mem_of_getElem? (i := 59) (by decide +kernel)) (by decide +kernel)
theorem tm_300 : Jvm.Cond.instantiable "java/lang/Throwable" (6 : Nat) ∈ TT := TT_2 (List.mem_of_getElem? (i := 60) (by decide +kernel)) (by decide +kernel)
theorem tm_301 : Jvm.Cond.native ({ cls := "java/lang/Throwable", name := "fillInStackTrace", desc := "(I)Ljava/lang/Throwable;" } : Jvm.MethodName) ∈ TT := TT_2 (List.mem_of_getElem? (i := 61) (by decide +kernel)) (by decide +kernel)
theorem tm_302 : Jvm.Cond.methodLink "StateExplore" (98 : Nat) ({ cls := "java/lang/UnsupportedOperationException", name := "<init>", desc := "()V" } : Jvm.MethodName) ∈ TT := TT_2 (List.mem_of_getElem? (i := 62) (by decide +kernel)) (by decide +kernel)
theorem tm_303 : Jvm.Cond.instanceMethod ({ cls := "java/lang/UnsupportedOperationException", name := "<init>", desc := "()V" } : Jvm.MethodName) ∈ TT := TT_2 (List.mem_of_getElem? (i := 63) (by decide +kernel)) (by decide +kernel)
set_option maxRecDepth 20000 in
theorem tm_304 : Jvm.Cond.code ({ cls := "java/lang/UnsupportedOperationException", name := "<init>", desc := "()V" } : Jvm.MethodName) prog_14_method_1_code (1 : Nat) (Option.none : Option Jvm.ClassFile.FieldType) ∈ TT := TT_2 (List.mem_of_getElem? (i := 64) rfl) rfl
theorem tm_305 : Jvm.Cond.methodLink "java/lang/UnsupportedOperationException" (1 : Nat) ({ cls := "java/lang/RuntimeException", name := "<init>", desc := "()V" } : Jvm.MethodName) ∈ TT := TT_2 (List.mem_of_getElem? (i := 65) (by decide +kernel)) (by decide +kernel)
theorem tm_306 : Jvm.Cond.instanceMethod ({ cls := "java/lang/RuntimeException", name := "<init>", desc := "()V" } : Jvm.MethodName) ∈ TT := TT_2 (List.mem_of_getElem? (i := 66) (by decide +kernel)) (by decide +kernel)
set_option maxRecDepth 20000 in
theorem tm_307 : Jvm.Cond.code ({ cls := "java/lang/RuntimeException", name := "<init>", desc := "()V" } : Jvm.MethodName) prog_11_method_1_code (1 : Nat) (Option.none : Option Jvm.ClassFile.FieldType) ∈ TT := TT_2 (List.mem_of_getElem? (i := 67) rfl) rfl
theorem tm_308 : Jvm.Cond.methodLink "java/lang/RuntimeException" (1 : Nat) ({ cls := "java/lang/Exception", name := "<init>", desc := "()V" } : Jvm.MethodName) ∈ TT := TT_2 (List.mem_of_getElem? (i := 68) (by decide +kernel)) (by decide +kernel)
theorem tm_309 : Jvm.Cond.instanceMethod ({ cls := "java/lang/Exception", name := "<init>", desc := "()V" } : Jvm.MethodName) ∈ TT := TT_2 (List.mem_of_getElem? (i := 69) (by decide +kernel)) (by decide +kernel)
set_option maxRecDepth 20000 in
theorem tm_310 : Jvm.Cond.code ({ cls := "java/lang/Exception", name := "<init>", desc := "()V" } : Jvm.MethodName) prog_6_method_1_code (1 : Nat) (Option.none : Option Jvm.ClassFile.FieldType) ∈ TT := TT_2 (List.mem_of_getElem? (i := 70) rfl) rfl
theorem tm_311 : Jvm.Cond.methodLink "java/lang/Exception" (1 : Nat) ({ cls := "java/lang/Throwable", name := "<init>", desc := "()V" } : Jvm.MethodName) ∈ TT := TT_2 (List.mem_of_getElem? (i := 71) (by decide +kernel)) (by decide +kernel)
theorem tm_312 : Jvm.Cond.fieldLink "java/lang/Throwable" (198 : Nat) "java/lang/Throwable" "backtrace" "Ljava/lang/Object;" ∈ TT := TT_2 (List.mem_of_getElem? (i := 72) (by decide +kernel)) (by decide +kernel)
theorem tm_313 : Jvm.Cond.fieldLink "java/lang/Throwable" (7 : Nat) "java/lang/Throwable" "cause" "Ljava/lang/Throwable;" ∈ TT := TT_2 (List.mem_of_getElem? (i := 73) (by decide +kernel)) (by decide +kernel)
theorem tm_314 : Jvm.Cond.fieldLink "java/lang/Throwable" (17 : Nat) "java/lang/Throwable" "stackTrace" "[Ljava/lang/StackTraceElement;" ∈ TT := TT_2 (List.mem_of_getElem? (i := 74) (by decide +kernel)) (by decide +kernel)
theorem tm_315 : Jvm.Cond.fieldLink "java/lang/Throwable" (24 : Nat) "java/lang/Throwable" "suppressedExceptions" "Ljava/util/List;" ∈ TT := TT_2 (List.mem_of_getElem? (i := 75) (by decide +kernel)) (by decide +kernel)
theorem tm_324 : Jvm.Cond.methodLink "StateExploreLaw" (69 : Nat) ({ cls := "StateExploreLaw", name := "message", desc := "(LStateExplore;[J)I" } : Jvm.MethodName) ∈ TT := TT_2 (List.mem_of_getElem? (i := 84) (by decide +kernel)) (by decide +kernel)
theorem tm_325 : Jvm.Cond.static ({ cls := "StateExploreLaw", name := "message", desc := "(LStateExplore;[J)I" } : Jvm.MethodName) ∈ TT := TT_2 (List.mem_of_getElem? (i := 85) (by decide +kernel)) (by decide +kernel)
set_option maxRecDepth 20000 in
theorem tm_326 : Jvm.Cond.codeWith ({ cls := "StateExploreLaw", name := "message", desc := "(LStateExplore;[J)I" } : Jvm.MethodName) method_4_code (3 : Nat) (Option.some Jvm.ClassFile.FieldType.int) [((0 : Nat), (8 : Nat), (11 : Nat), (13 : Nat))] ∈ TT := TT_2 (List.mem_of_getElem? (i := 86) rfl) rfl
theorem tm_327 : Jvm.Cond.methodLink "StateExploreLaw" (15 : Nat) ({ cls := "StateExplore", name := "message", desc := "()I" } : Jvm.MethodName) ∈ TT := TT_2 (List.mem_of_getElem? (i := 87) (by decide +kernel)) (by decide +kernel)
theorem tm_328 : Jvm.Cond.instanceMethod ({ cls := "StateExplore", name := "message", desc := "()I" } : Jvm.MethodName) ∈ TT := TT_2 (List.mem_of_getElem? (i := 88) (by decide +kernel)) (by decide +kernel)
theorem tm_329 : Jvm.Cond.selects "StateExplore" ({ cls := "StateExplore", name := "message", desc := "()I" } : Jvm.MethodName) ({ cls := "StateExplore", name := "message", desc := "()I" } : Jvm.MethodName) ∈ TT := TT_2 (List.mem_of_getElem? (i := 89) (by decide +kernel)) (by decide +kernel)
set_option maxRecDepth 20000 in
theorem tm_330 : Jvm.Cond.code ({ cls := "StateExplore", name := "message", desc := "()I" } : Jvm.MethodName) prog_1_method_8_code (1 : Nat) (Option.some Jvm.ClassFile.FieldType.int) ∈ TT := TT_2 (List.mem_of_getElem? (i := 90) rfl) rfl
theorem tm_331 : Jvm.Cond.methodLink "StateExploreLaw" (72 : Nat) ({ cls := "StateExploreLaw", name := "rule", desc := "(LStateExplore;III[J)I" } : Jvm.MethodName) ∈ TT := TT_2 (List.mem_of_getElem? (i := 91) (by decide +kernel)) (by decide +kernel)
theorem tm_332 : Jvm.Cond.static ({ cls := "StateExploreLaw", name := "rule", desc := "(LStateExplore;III[J)I" } : Jvm.MethodName) ∈ TT := TT_2 (List.mem_of_getElem? (i := 92) (by decide +kernel)) (by decide +kernel)
set_option maxRecDepth 20000 in
theorem tm_333 : Jvm.Cond.codeWith ({ cls := "StateExploreLaw", name := "rule", desc := "(LStateExplore;III[J)I" } : Jvm.MethodName) method_5_code (6 : Nat) (Option.some Jvm.ClassFile.FieldType.int) [((0 : Nat), (12 : Nat), (15 : Nat), (22 : Nat)), ((0 : Nat), (12 : Nat), (19 : Nat), (13 : Nat))] ∈ TT := TT_2 (List.mem_of_getElem? (i := 93) rfl) rfl
theorem tm_334 : Jvm.Cond.classLink "StateExploreLaw" (22 : Nat) "java/lang/IllegalArgumentException" ∈ TT := TT_2 (List.mem_of_getElem? (i := 94) (by decide +kernel)) (by decide +kernel)
theorem tm_335 : Jvm.Cond.methodLink "StateExploreLaw" (18 : Nat) ({ cls := "StateExplore", name := "rule", desc := "(III)I" } : Jvm.MethodName) ∈ TT := TT_2 (List.mem_of_getElem? (i := 95) (by decide +kernel)) (by decide +kernel)
theorem tm_336 : Jvm.Cond.instanceMethod ({ cls := "StateExplore", name := "rule", desc := "(III)I" } : Jvm.MethodName) ∈ TT := TT_2 (List.mem_of_getElem? (i := 96) (by decide +kernel)) (by decide +kernel)
theorem tm_337 : Jvm.Cond.selects "StateExplore" ({ cls := "StateExplore", name := "rule", desc := "(III)I" } : Jvm.MethodName) ({ cls := "StateExplore", name := "rule", desc := "(III)I" } : Jvm.MethodName) ∈ TT := TT_2 (List.mem_of_getElem? (i := 97) (by decide +kernel)) (by decide +kernel)
set_option maxRecDepth 20000 in
theorem tm_338 : Jvm.Cond.code ({ cls := "StateExplore", name := "rule", desc := "(III)I" } : Jvm.MethodName) prog_1_method_10_code (4 : Nat) (Option.some Jvm.ClassFile.FieldType.int) ∈ TT := TT_2 (List.mem_of_getElem? (i := 98) rfl) rfl
theorem tm_339 : Jvm.Cond.methodLink "StateExplore" (122 : Nat) ({ cls := "StateExplore", name := "isState", desc := "(I)Z" } : Jvm.MethodName) ∈ TT := TT_2 (List.mem_of_getElem? (i := 99) (by decide +kernel)) (by decide +kernel)
theorem tm_341 : Jvm.Cond.instanceMethod ({ cls := "StateExplore", name := "isState", desc := "(I)Z" } : Jvm.MethodName) ∈ TT := TT_2 (List.mem_of_getElem? (i := 101) (by decide +kernel)) (by decide +kernel)
set_option maxRecDepth 20000 in
theorem tm_342 : Jvm.Cond.code ({ cls := "StateExplore", name := "isState", desc := "(I)Z" } : Jvm.MethodName) prog_1_method_9_code (2 : Nat) (Option.some Jvm.ClassFile.FieldType.boolean) ∈ TT := TT_2 (List.mem_of_getElem? (i := 102) rfl) rfl
theorem tm_343 : Jvm.Cond.methodLink "StateExplore" (126 : Nat) ({ cls := "StateExplore", name := "right", desc := "(Z)V" } : Jvm.MethodName) ∈ TT := TT_2 (List.mem_of_getElem? (i := 103) (by decide +kernel)) (by decide +kernel)
theorem tm_344 : Jvm.Cond.static ({ cls := "StateExplore", name := "right", desc := "(Z)V" } : Jvm.MethodName) ∈ TT := TT_2 (List.mem_of_getElem? (i := 104) (by decide +kernel)) (by decide +kernel)
set_option maxRecDepth 20000 in
theorem tm_345 : Jvm.Cond.code ({ cls := "StateExplore", name := "right", desc := "(Z)V" } : Jvm.MethodName) prog_1_method_3_code (1 : Nat) (Option.none : Option Jvm.ClassFile.FieldType) ∈ TT := TT_2 (List.mem_of_getElem? (i := 105) rfl) rfl
theorem tm_346 : Jvm.Cond.classLink "StateExplore" (90 : Nat) "java/lang/IllegalArgumentException" ∈ TT := TT_2 (List.mem_of_getElem? (i := 106) (by decide +kernel)) (by decide +kernel)
theorem tm_347 : Jvm.Cond.instantiable "java/lang/IllegalArgumentException" (6 : Nat) ∈ TT := TT_2 (List.mem_of_getElem? (i := 107) (by decide +kernel)) (by decide +kernel)
theorem tm_349 : Jvm.Cond.selects "java/lang/IllegalArgumentException" ({ cls := "java/lang/Throwable", name := "fillInStackTrace", desc := "(I)Ljava/lang/Throwable;" } : Jvm.MethodName) ({ cls := "java/lang/Throwable", name := "fillInStackTrace", desc := "(I)Ljava/lang/Throwable;" } : Jvm.MethodName) ∈ TT := TT_2 (List.mem_of_getElem? (i := 109) (by decide +kernel)) (by decide +kernel)
theorem tm_355 : Jvm.Cond.methodLink "StateExplore" (92 : Nat) ({ cls := "java/lang/IllegalArgumentException", name := "<init>", desc := "()V" } : Jvm.MethodName) ∈ TT := TT_2 (List.mem_of_getElem? (i := 115) (by decide +kernel)) (by decide +kernel)
theorem tm_356 : Jvm.Cond.instanceMethod ({ cls := "java/lang/IllegalArgumentException", name := "<init>", desc := "()V" } : Jvm.MethodName) ∈ TT := TT_2 (List.mem_of_getElem? (i := 116) (by decide +kernel)) (by decide +kernel)
set_option maxRecDepth 20000 in
theorem tm_357 : Jvm.Cond.code ({ cls := "java/lang/IllegalArgumentException", name := "<init>", desc := "()V" } : Jvm.MethodName) prog_7_method_1_code (1 : Nat) (Option.none : Option Jvm.ClassFile.FieldType) ∈ TT := TT_2 (List.mem_of_getElem? (i := 117) rfl) rfl
theorem tm_358 : Jvm.Cond.methodLink "java/lang/IllegalArgumentException" (1 : Nat) ({ cls := "java/lang/RuntimeException", name := "<init>", desc := "()V" } : Jvm.MethodName) ∈ TT := TT_2 (List.mem_of_getElem? (i := 118) (by decide +kernel)) (by decide +kernel)
theorem tm_361 : Jvm.Cond.instantiable "StateExplore$Rule" (6 : Nat) ∈ TT := TT_2 (List.mem_of_getElem? (i := 121) (by decide +kernel)) (by decide +kernel)
theorem tm_362 : Jvm.Cond.methodLink "StateExplore" (132 : Nat) ({ cls := "StateExplore$Rule", name := "<init>", desc := "(III)V" } : Jvm.MethodName) ∈ TT := TT_2 (List.mem_of_getElem? (i := 122) (by decide +kernel)) (by decide +kernel)
theorem tm_363 : Jvm.Cond.instanceMethod ({ cls := "StateExplore$Rule", name := "<init>", desc := "(III)V" } : Jvm.MethodName) ∈ TT := TT_2 (List.mem_of_getElem? (i := 123) (by decide +kernel)) (by decide +kernel)
set_option maxRecDepth 20000 in
theorem tm_364 : Jvm.Cond.code ({ cls := "StateExplore$Rule", name := "<init>", desc := "(III)V" } : Jvm.MethodName) prog_2_method_1_code (4 : Nat) (Option.none : Option Jvm.ClassFile.FieldType) ∈ TT := TT_2 (List.mem_of_getElem? (i := 124) rfl) rfl
theorem tm_365 : Jvm.Cond.methodLink "StateExplore$Rule" (3 : Nat) ({ cls := "java/lang/Object", name := "<init>", desc := "()V" } : Jvm.MethodName) ∈ TT := TT_2 (List.mem_of_getElem? (i := 125) (by decide +kernel)) (by decide +kernel)
theorem tm_366 : Jvm.Cond.fieldLink "StateExplore$Rule" (18 : Nat) "StateExplore$Rule" "state" "I" ∈ TT := TT_2 (List.mem_of_getElem? (i := 126) (by decide +kernel)) (by decide +kernel)
theorem tm_368 : Jvm.Cond.fieldLink "StateExplore$Rule" (22 : Nat) "StateExplore$Rule" "event" "I" ∈ TT := TT_2 (List.mem_of_getElem? (i := 128) (by decide +kernel)) (by decide +kernel)
theorem tm_370 : Jvm.Cond.fieldLink "StateExplore$Rule" (25 : Nat) "StateExplore$Rule" "to" "I" ∈ TT := TT_2 (List.mem_of_getElem? (i := 130) (by decide +kernel)) (by decide +kernel)
theorem tm_372 : Jvm.Cond.fieldLink "StateExplore$Rule" (9 : Nat) "StateExplore$Rule" "kinds" "[I" ∈ TT := TT_2 (List.mem_of_getElem? (i := 132) (by decide +kernel)) (by decide +kernel)
theorem tm_374 : Jvm.Cond.fieldLink "StateExplore$Rule" (15 : Nat) "StateExplore$Rule" "whom" "[I" ∈ TT := TT_2 (List.mem_of_getElem? (i := 134) (by decide +kernel)) (by decide +kernel)
theorem tm_390 : Jvm.Cond.methodLink "StateExploreLaw" (76 : Nat) ({ cls := "StateExploreLaw", name := "sends", desc := "(LStateExplore;III[J)I" } : Jvm.MethodName) ∈ TT := TT_2 (List.mem_of_getElem? (i := 150) (by decide +kernel)) (by decide +kernel)
theorem tm_391 : Jvm.Cond.static ({ cls := "StateExploreLaw", name := "sends", desc := "(LStateExplore;III[J)I" } : Jvm.MethodName) ∈ TT := TT_2 (List.mem_of_getElem? (i := 151) (by decide +kernel)) (by decide +kernel)
set_option maxRecDepth 20000 in
theorem tm_392 : Jvm.Cond.codeWith ({ cls := "StateExploreLaw", name := "sends", desc := "(LStateExplore;III[J)I" } : Jvm.MethodName) method_6_code (6 : Nat) (Option.some Jvm.ClassFile.FieldType.int) [((0 : Nat), (12 : Nat), (15 : Nat), (22 : Nat)), ((0 : Nat), (12 : Nat), (19 : Nat), (13 : Nat))] ∈ TT := TT_2 (List.mem_of_getElem? (i := 152) rfl) rfl
theorem tm_393 : Jvm.Cond.methodLink "StateExploreLaw" (24 : Nat) ({ cls := "StateExplore", name := "sends", desc := "(III)I" } : Jvm.MethodName) ∈ TT := TT_2 (List.mem_of_getElem? (i := 153) (by decide +kernel)) (by decide +kernel)
theorem tm_394 : Jvm.Cond.instanceMethod ({ cls := "StateExplore", name := "sends", desc := "(III)I" } : Jvm.MethodName) ∈ TT := TT_2 (List.mem_of_getElem? (i := 154) (by decide +kernel)) (by decide +kernel)
theorem tm_395 : Jvm.Cond.selects "StateExplore" ({ cls := "StateExplore", name := "sends", desc := "(III)I" } : Jvm.MethodName) ({ cls := "StateExplore", name := "sends", desc := "(III)I" } : Jvm.MethodName) ∈ TT := TT_2 (List.mem_of_getElem? (i := 155) (by decide +kernel)) (by decide +kernel)
set_option maxRecDepth 20000 in
theorem tm_396 : Jvm.Cond.code ({ cls := "StateExplore", name := "sends", desc := "(III)I" } : Jvm.MethodName) prog_1_method_11_code (5 : Nat) (Option.some Jvm.ClassFile.FieldType.int) ∈ TT := TT_2 (List.mem_of_getElem? (i := 156) rfl) rfl
theorem tm_397 : Jvm.Cond.methodLink "StateExploreLaw" (79 : Nat) ({ cls := "StateExploreLaw", name := "bad", desc := "(LStateExplore;II[J)I" } : Jvm.MethodName) ∈ TT := TT_2 (List.mem_of_getElem? (i := 157) (by decide +kernel)) (by decide +kernel)
theorem tm_398 : Jvm.Cond.static ({ cls := "StateExploreLaw", name := "bad", desc := "(LStateExplore;II[J)I" } : Jvm.MethodName) ∈ TT := TT_2 (List.mem_of_getElem? (i := 158) (by decide +kernel)) (by decide +kernel)
set_option maxRecDepth 20000 in
theorem tm_399 : Jvm.Cond.codeWith ({ cls := "StateExploreLaw", name := "bad", desc := "(LStateExplore;II[J)I" } : Jvm.MethodName) method_7_code (5 : Nat) (Option.some Jvm.ClassFile.FieldType.int) [((0 : Nat), (17 : Nat), (20 : Nat), (22 : Nat))] ∈ TT := TT_2 (List.mem_of_getElem? (i := 159) rfl) rfl
theorem tm_400 : Jvm.Cond.methodLink "StateExploreLaw" (27 : Nat) ({ cls := "StateExplore", name := "bad", desc := "(II)Z" } : Jvm.MethodName) ∈ TT := TT_2 (List.mem_of_getElem? (i := 160) (by decide +kernel)) (by decide +kernel)
theorem tm_401 : Jvm.Cond.instanceMethod ({ cls := "StateExplore", name := "bad", desc := "(II)Z" } : Jvm.MethodName) ∈ TT := TT_2 (List.mem_of_getElem? (i := 161) (by decide +kernel)) (by decide +kernel)
theorem tm_402 : Jvm.Cond.selects "StateExplore" ({ cls := "StateExplore", name := "bad", desc := "(II)Z" } : Jvm.MethodName) ({ cls := "StateExplore", name := "bad", desc := "(II)Z" } : Jvm.MethodName) ∈ TT := TT_2 (List.mem_of_getElem? (i := 162) (by decide +kernel)) (by decide +kernel)
set_option maxRecDepth 20000 in
theorem tm_403 : Jvm.Cond.code ({ cls := "StateExplore", name := "bad", desc := "(II)Z" } : Jvm.MethodName) prog_1_method_12_code (4 : Nat) (Option.some Jvm.ClassFile.FieldType.boolean) ∈ TT := TT_2 (List.mem_of_getElem? (i := 163) rfl) rfl
theorem tm_404 : Jvm.Cond.methodLink "StateExploreLaw" (87 : Nat) ({ cls := "StateExploreLaw", name := "go", desc := "(LStateExplore;I[J)I" } : Jvm.MethodName) ∈ TT := TT_2 (List.mem_of_getElem? (i := 164) (by decide +kernel)) (by decide +kernel)
theorem tm_405 : Jvm.Cond.static ({ cls := "StateExploreLaw", name := "go", desc := "(LStateExplore;I[J)I" } : Jvm.MethodName) ∈ TT := TT_2 (List.mem_of_getElem? (i := 165) (by decide +kernel)) (by decide +kernel)
set_option maxRecDepth 20000 in
theorem tm_406 : Jvm.Cond.codeWith ({ cls := "StateExploreLaw", name := "go", desc := "(LStateExplore;I[J)I" } : Jvm.MethodName) method_8_code (4 : Nat) (Option.some Jvm.ClassFile.FieldType.int) [((0 : Nat), (9 : Nat), (12 : Nat), (22 : Nat))] ∈ TT := TT_2 (List.mem_of_getElem? (i := 166) rfl) rfl
theorem tm_407 : Jvm.Cond.methodLink "StateExploreLaw" (31 : Nat) ({ cls := "StateExplore", name := "go", desc := "(I)I" } : Jvm.MethodName) ∈ TT := TT_2 (List.mem_of_getElem? (i := 167) (by decide +kernel)) (by decide +kernel)
theorem tm_408 : Jvm.Cond.instanceMethod ({ cls := "StateExplore", name := "go", desc := "(I)I" } : Jvm.MethodName) ∈ TT := TT_2 (List.mem_of_getElem? (i := 168) (by decide +kernel)) (by decide +kernel)
theorem tm_409 : Jvm.Cond.selects "StateExplore" ({ cls := "StateExplore", name := "go", desc := "(I)I" } : Jvm.MethodName) ({ cls := "StateExplore", name := "go", desc := "(I)I" } : Jvm.MethodName) ∈ TT := TT_2 (List.mem_of_getElem? (i := 169) (by decide +kernel)) (by decide +kernel)
set_option maxRecDepth 20000 in
theorem tm_410 : Jvm.Cond.code ({ cls := "StateExplore", name := "go", desc := "(I)I" } : Jvm.MethodName) prog_1_method_27_code (3 : Nat) (Option.some Jvm.ClassFile.FieldType.int) ∈ TT := TT_2 (List.mem_of_getElem? (i := 170) rfl) rfl
theorem tm_411 : Jvm.Cond.methodLink "StateExploreLaw" (91 : Nat) ({ cls := "StateExploreLaw", name := "node", desc := "(LStateExplore;II[J)I" } : Jvm.MethodName) ∈ TT := TT_2 (List.mem_of_getElem? (i := 171) (by decide +kernel)) (by decide +kernel)
theorem tm_412 : Jvm.Cond.static ({ cls := "StateExploreLaw", name := "node", desc := "(LStateExplore;II[J)I" } : Jvm.MethodName) ∈ TT := TT_2 (List.mem_of_getElem? (i := 172) (by decide +kernel)) (by decide +kernel)
set_option maxRecDepth 20000 in
theorem tm_413 : Jvm.Cond.codeWith ({ cls := "StateExploreLaw", name := "node", desc := "(LStateExplore;II[J)I" } : Jvm.MethodName) method_9_code (5 : Nat) (Option.some Jvm.ClassFile.FieldType.int) [((0 : Nat), (10 : Nat), (13 : Nat), (39 : Nat))] ∈ TT := TT_2 (List.mem_of_getElem? (i := 173) rfl) rfl
theorem tm_414 : Jvm.Cond.classLink "StateExploreLaw" (39 : Nat) "java/lang/IndexOutOfBoundsException" ∈ TT := TT_2 (List.mem_of_getElem? (i := 174) (by decide +kernel)) (by decide +kernel)
theorem tm_415 : Jvm.Cond.methodLink "StateExploreLaw" (35 : Nat) ({ cls := "StateExplore", name := "node", desc := "(II)I" } : Jvm.MethodName) ∈ TT := TT_2 (List.mem_of_getElem? (i := 175) (by decide +kernel)) (by decide +kernel)
theorem tm_416 : Jvm.Cond.instanceMethod ({ cls := "StateExplore", name := "node", desc := "(II)I" } : Jvm.MethodName) ∈ TT := TT_2 (List.mem_of_getElem? (i := 176) (by decide +kernel)) (by decide +kernel)
theorem tm_417 : Jvm.Cond.selects "StateExplore" ({ cls := "StateExplore", name := "node", desc := "(II)I" } : Jvm.MethodName) ({ cls := "StateExplore", name := "node", desc := "(II)I" } : Jvm.MethodName) ∈ TT := TT_2 (List.mem_of_getElem? (i := 177) (by decide +kernel)) (by decide +kernel)
set_option maxRecDepth 20000 in
theorem tm_418 : Jvm.Cond.code ({ cls := "StateExplore", name := "node", desc := "(II)I" } : Jvm.MethodName) prog_1_method_29_code (3 : Nat) (Option.some Jvm.ClassFile.FieldType.int) ∈ TT := TT_2 (List.mem_of_getElem? (i := 178) rfl) rfl
theorem tm_419 : Jvm.Cond.methodLink "StateExplore" (246 : Nat) ({ cls := "StateExplore", name := "isWhole", desc := "(I)V" } : Jvm.MethodName) ∈ TT := TT_2 (List.mem_of_getElem? (i := 179) (by decide +kernel)) (by decide +kernel)
theorem tm_421 : Jvm.Cond.instanceMethod ({ cls := "StateExplore", name := "isWhole", desc := "(I)V" } : Jvm.MethodName) ∈ TT := TT_2 (List.mem_of_getElem? (i := 181) (by decide +kernel)) (by decide +kernel)
set_option maxRecDepth 20000 in
theorem tm_422 : Jvm.Cond.code ({ cls := "StateExplore", name := "isWhole", desc := "(I)V" } : Jvm.MethodName) prog_1_method_28_code (2 : Nat) (Option.none : Option Jvm.ClassFile.FieldType) ∈ TT := TT_2 (List.mem_of_getElem? (i := 182) rfl) rfl
theorem tm_423 : Jvm.Cond.methodLink "StateExplore" (243 : Nat) ({ cls := "StateExplore", name := "there", desc := "(Z)V" } : Jvm.MethodName) ∈ TT := TT_2 (List.mem_of_getElem? (i := 183) (by decide +kernel)) (by decide +kernel)
theorem tm_424 : Jvm.Cond.static ({ cls := "StateExplore", name := "there", desc := "(Z)V" } : Jvm.MethodName) ∈ TT := TT_2 (List.mem_of_getElem? (i := 184) (by decide +kernel)) (by decide +kernel)
set_option maxRecDepth 20000 in
theorem tm_425 : Jvm.Cond.code ({ cls := "StateExplore", name := "there", desc := "(Z)V" } : Jvm.MethodName) prog_1_method_4_code (1 : Nat) (Option.none : Option Jvm.ClassFile.FieldType) ∈ TT := TT_2 (List.mem_of_getElem? (i := 185) rfl) rfl
theorem tm_426 : Jvm.Cond.classLink "StateExplore" (93 : Nat) "java/lang/IndexOutOfBoundsException" ∈ TT := TT_2 (List.mem_of_getElem? (i := 186) (by decide +kernel)) (by decide +kernel)
theorem tm_427 : Jvm.Cond.instantiable "java/lang/IndexOutOfBoundsException" (6 : Nat) ∈ TT := TT_2 (List.mem_of_getElem? (i := 187) (by decide +kernel)) (by decide +kernel)
theorem tm_429 : Jvm.Cond.selects "java/lang/IndexOutOfBoundsException" ({ cls := "java/lang/Throwable", name := "fillInStackTrace", desc := "(I)Ljava/lang/Throwable;" } : Jvm.MethodName) ({ cls := "java/lang/Throwable", name := "fillInStackTrace", desc := "(I)Ljava/lang/Throwable;" } : Jvm.MethodName) ∈ TT := TT_2 (List.mem_of_getElem? (i := 189) (by decide +kernel)) (by decide +kernel)
theorem tm_435 : Jvm.Cond.methodLink "StateExplore" (95 : Nat) ({ cls := "java/lang/IndexOutOfBoundsException", name := "<init>", desc := "()V" } : Jvm.MethodName) ∈ TT := TT_2 (List.mem_of_getElem? (i := 195) (by decide +kernel)) (by decide +kernel)
theorem tm_436 : Jvm.Cond.instanceMethod ({ cls := "java/lang/IndexOutOfBoundsException", name := "<init>", desc := "()V" } : Jvm.MethodName) ∈ TT := TT_2 (List.mem_of_getElem? (i := 196) (by decide +kernel)) (by decide +kernel)
set_option maxRecDepth 20000 in
theorem tm_437 : Jvm.Cond.code ({ cls := "java/lang/IndexOutOfBoundsException", name := "<init>", desc := "()V" } : Jvm.MethodName) prog_8_method_1_code (1 : Nat) (Option.none : Option Jvm.ClassFile.FieldType) ∈ TT := TT_2 (List.mem_of_getElem? (i := 197) rfl) rfl
theorem tm_438 : Jvm.Cond.methodLink "java/lang/IndexOutOfBoundsException" (1 : Nat) ({ cls := "java/lang/RuntimeException", name := "<init>", desc := "()V" } : Jvm.MethodName) ∈ TT := TT_2 (List.mem_of_getElem? (i := 198) (by decide +kernel)) (by decide +kernel)
theorem tm_441 : Jvm.Cond.methodLink "StateExploreLaw" (94 : Nat) ({ cls := "StateExploreLaw", name := "code", desc := "(LStateExplore;II[J)I" } : Jvm.MethodName) ∈ TT := TT_2 (List.mem_of_getElem? (i := 201) (by decide +kernel)) (by decide +kernel)
theorem tm_442 : Jvm.Cond.static ({ cls := "StateExploreLaw", name := "code", desc := "(LStateExplore;II[J)I" } : Jvm.MethodName) ∈ TT := TT_2 (List.mem_of_getElem? (i := 202) (by decide +kernel)) (by decide +kernel)
set_option maxRecDepth 20000 in
theorem tm_443 : Jvm.Cond.codeWith ({ cls := "StateExploreLaw", name := "code", desc := "(LStateExplore;II[J)I" } : Jvm.MethodName) method_10_code (5 : Nat) (Option.some Jvm.ClassFile.FieldType.int) [((0 : Nat), (10 : Nat), (13 : Nat), (39 : Nat))] ∈ TT := TT_2 (List.mem_of_getElem? (i := 203) rfl) rfl
theorem tm_444 : Jvm.Cond.methodLink "StateExploreLaw" (41 : Nat) ({ cls := "StateExplore", name := "code", desc := "(II)I" } : Jvm.MethodName) ∈ TT := TT_2 (List.mem_of_getElem? (i := 204) (by decide +kernel)) (by decide +kernel)
theorem tm_445 : Jvm.Cond.instanceMethod ({ cls := "StateExplore", name := "code", desc := "(II)I" } : Jvm.MethodName) ∈ TT := TT_2 (List.mem_of_getElem? (i := 205) (by decide +kernel)) (by decide +kernel)
theorem tm_446 : Jvm.Cond.selects "StateExplore" ({ cls := "StateExplore", name := "code", desc := "(II)I" } : Jvm.MethodName) ({ cls := "StateExplore", name := "code", desc := "(II)I" } : Jvm.MethodName) ∈ TT := TT_2 (List.mem_of_getElem? (i := 206) (by decide +kernel)) (by decide +kernel)
set_option maxRecDepth 20000 in
theorem tm_447 : Jvm.Cond.code ({ cls := "StateExplore", name := "code", desc := "(II)I" } : Jvm.MethodName) prog_1_method_30_code (3 : Nat) (Option.some Jvm.ClassFile.FieldType.int) ∈ TT := TT_2 (List.mem_of_getElem? (i := 207) rfl) rfl
theorem tm_448 : Jvm.Cond.methodLink "StateExploreLaw" (97 : Nat) ({ cls := "StateExploreLaw", name := "whole", desc := "(LStateExplore;II[J)I" } : Jvm.MethodName) ∈ TT := TT_2 (List.mem_of_getElem? (i := 208) (by decide +kernel)) (by decide +kernel)
theorem tm_449 : Jvm.Cond.static ({ cls := "StateExploreLaw", name := "whole", desc := "(LStateExplore;II[J)I" } : Jvm.MethodName) ∈ TT := TT_2 (List.mem_of_getElem? (i := 209) (by decide +kernel)) (by decide +kernel)
set_option maxRecDepth 20000 in
theorem tm_450 : Jvm.Cond.codeWith ({ cls := "StateExploreLaw", name := "whole", desc := "(LStateExplore;II[J)I" } : Jvm.MethodName) method_11_code (5 : Nat) (Option.some Jvm.ClassFile.FieldType.int) [((0 : Nat), (10 : Nat), (13 : Nat), (39 : Nat))] ∈ TT := TT_2 (List.mem_of_getElem? (i := 210) rfl) rfl
theorem tm_451 : Jvm.Cond.methodLink "StateExploreLaw" (44 : Nat) ({ cls := "StateExplore", name := "whole", desc := "(II)I" } : Jvm.MethodName) ∈ TT := TT_2 (List.mem_of_getElem? (i := 211) (by decide +kernel)) (by decide +kernel)
theorem tm_452 : Jvm.Cond.instanceMethod ({ cls := "StateExplore", name := "whole", desc := "(II)I" } : Jvm.MethodName) ∈ TT := TT_2 (List.mem_of_getElem? (i := 212) (by decide +kernel)) (by decide +kernel)
theorem tm_453 : Jvm.Cond.selects "StateExplore" ({ cls := "StateExplore", name := "whole", desc := "(II)I" } : Jvm.MethodName) ({ cls := "StateExplore", name := "whole", desc := "(II)I" } : Jvm.MethodName) ∈ TT := TT_2 (List.mem_of_getElem? (i := 213) (by decide +kernel)) (by decide +kernel)
set_option maxRecDepth 20000 in
theorem tm_454 : Jvm.Cond.code ({ cls := "StateExplore", name := "whole", desc := "(II)I" } : Jvm.MethodName) prog_1_method_31_code (3 : Nat) (Option.some Jvm.ClassFile.FieldType.int) ∈ TT := TT_2 (List.mem_of_getElem? (i := 214) rfl) rfl
theorem tm_455 : Jvm.Cond.methodLink "StateExploreLaw" (104 : Nat) ({ cls := "StateExploreLaw", name := "wayAt", desc := "(LStateExplore;I[J)I" } : Jvm.MethodName) ∈ TT := TT_2 (List.mem_of_getElem? (i := 215) (by decide +kernel)) (by decide +kernel)
theorem tm_456 : Jvm.Cond.static ({ cls := "StateExploreLaw", name := "wayAt", desc := "(LStateExplore;I[J)I" } : Jvm.MethodName) ∈ TT := TT_2 (List.mem_of_getElem? (i := 216) (by decide +kernel)) (by decide +kernel)
set_option maxRecDepth 20000 in
theorem tm_457 : Jvm.Cond.codeWith ({ cls := "StateExploreLaw", name := "wayAt", desc := "(LStateExplore;I[J)I" } : Jvm.MethodName) method_12_code (4 : Nat) (Option.some Jvm.ClassFile.FieldType.int) [((0 : Nat), (9 : Nat), (12 : Nat), (39 : Nat))] ∈ TT := TT_2 (List.mem_of_getElem? (i := 217) rfl) rfl
theorem tm_458 : Jvm.Cond.methodLink "StateExploreLaw" (47 : Nat) ({ cls := "StateExplore", name := "wayAt", desc := "(I)I" } : Jvm.MethodName) ∈ TT := TT_2 (List.mem_of_getElem? (i := 218) (by decide +kernel)) (by decide +kernel)
theorem tm_459 : Jvm.Cond.instanceMethod ({ cls := "StateExplore", name := "wayAt", desc := "(I)I" } : Jvm.MethodName) ∈ TT := TT_2 (List.mem_of_getElem? (i := 219) (by decide +kernel)) (by decide +kernel)
theorem tm_460 : Jvm.Cond.selects "StateExplore" ({ cls := "StateExplore", name := "wayAt", desc := "(I)I" } : Jvm.MethodName) ({ cls := "StateExplore", name := "wayAt", desc := "(I)I" } : Jvm.MethodName) ∈ TT := TT_2 (List.mem_of_getElem? (i := 220) (by decide +kernel)) (by decide +kernel)
set_option maxRecDepth 20000 in
theorem tm_461 : Jvm.Cond.code ({ cls := "StateExplore", name := "wayAt", desc := "(I)I" } : Jvm.MethodName) prog_1_method_33_code (3 : Nat) (Option.some Jvm.ClassFile.FieldType.int) ∈ TT := TT_2 (List.mem_of_getElem? (i := 221) rfl) rfl
theorem tm_462 : Jvm.Cond.classLink "StateExploreLaw" (59 : Nat) "StateExploreModel" ∈ TT := TT_2 (List.mem_of_getElem? (i := 222) (by decide +kernel)) (by decide +kernel)
theorem tm_463 : Jvm.Cond.instantiable "StateExploreModel" (34 : Nat) ∈ TT := TT_2 (List.mem_of_getElem? (i := 223) (by decide +kernel)) (by decide +kernel)
theorem tm_464 : Jvm.Cond.methodLink "StateExploreLaw" (61 : Nat) ({ cls := "StateExploreModel", name := "<init>", desc := "(II)V" } : Jvm.MethodName) ∈ TT := TT_2 (List.mem_of_getElem? (i := 224) (by decide +kernel)) (by decide +kernel)
theorem tm_465 : Jvm.Cond.instanceMethod ({ cls := "StateExploreModel", name := "<init>", desc := "(II)V" } : Jvm.MethodName) ∈ TT := TT_2 (List.mem_of_getElem? (i := 225) (by decide +kernel)) (by decide +kernel)
set_option maxRecDepth 20000 in
theorem tm_466 : Jvm.Cond.code ({ cls := "StateExploreModel", name := "<init>", desc := "(II)V" } : Jvm.MethodName) prog_5_method_1_code (6 : Nat) (Option.none : Option Jvm.ClassFile.FieldType) ∈ TT := TT_2 (List.mem_of_getElem? (i := 226) rfl) rfl
theorem tm_467 : Jvm.Cond.methodLink "StateExploreModel" (1 : Nat) ({ cls := "java/lang/Object", name := "<init>", desc := "()V" } : Jvm.MethodName) ∈ TT := TT_2 (List.mem_of_getElem? (i := 227) (by decide +kernel)) (by decide +kernel)
theorem tm_468 : Jvm.Cond.constant "StateExploreModel" (39 : Nat) (98304 : Int32) ∈ TT := TT_2 (List.mem_of_getElem? (i := 228) (by decide +kernel)) (by decide +kernel)
theorem tm_469 : Jvm.Cond.fieldLink "StateExploreModel" (79 : Nat) "StateExploreModel" "thrown" "I" ∈ TT := TT_2 (List.mem_of_getElem? (i := 229) (by decide +kernel)) (by decide +kernel)
theorem tm_470 : Jvm.Cond.fieldLink "StateExploreModel" (70 : Nat) "StateExploreModel" "nodes" "I" ∈ TT := TT_2 (List.mem_of_getElem? (i := 230) (by decide +kernel)) (by decide +kernel)
theorem tm_471 : Jvm.Cond.fieldLink "StateExploreModel" (73 : Nat) "StateExploreModel" "room" "I" ∈ TT := TT_2 (List.mem_of_getElem? (i := 231) (by decide +kernel)) (by decide +kernel)
theorem tm_472 : Jvm.Cond.fieldLink "StateExploreModel" (7 : Nat) "StateExploreModel" "states" "I" ∈ TT := TT_2 (List.mem_of_getElem? (i := 232) (by decide +kernel)) (by decide +kernel)
theorem tm_473 : Jvm.Cond.fieldLink "StateExploreModel" (110 : Nat) "StateExploreModel" "kinds" "I" ∈ TT := TT_2 (List.mem_of_getElem? (i := 233) (by decide +kernel)) (by decide +kernel)
theorem tm_474 : Jvm.Cond.fieldLink "StateExploreModel" (117 : Nat) "StateExploreModel" "rules" "I" ∈ TT := TT_2 (List.mem_of_getElem? (i := 234) (by decide +kernel)) (by decide +kernel)
theorem tm_475 : Jvm.Cond.fieldLink "StateExploreModel" (13 : Nat) "StateExploreModel" "from" "[I" ∈ TT := TT_2 (List.mem_of_getElem? (i := 235) (by decide +kernel)) (by decide +kernel)
theorem tm_476 : Jvm.Cond.fieldLink "StateExploreModel" (17 : Nat) "StateExploreModel" "event" "[I" ∈ TT := TT_2 (List.mem_of_getElem? (i := 236) (by decide +kernel)) (by decide +kernel)
theorem tm_477 : Jvm.Cond.fieldLink "StateExploreModel" (20 : Nat) "StateExploreModel" "to" "[I" ∈ TT := TT_2 (List.mem_of_getElem? (i := 237) (by decide +kernel)) (by decide +kernel)
theorem tm_478 : Jvm.Cond.fieldLink "StateExploreModel" (23 : Nat) "StateExploreModel" "sentMany" "[I" ∈ TT := TT_2 (List.mem_of_getElem? (i := 238) (by decide +kernel)) (by decide +kernel)
theorem tm_479 : Jvm.Cond.fieldLink "StateExploreModel" (26 : Nat) "StateExploreModel" "sentKind" "[I" ∈ TT := TT_2 (List.mem_of_getElem? (i := 239) (by decide +kernel)) (by decide +kernel)
theorem tm_480 : Jvm.Cond.fieldLink "StateExploreModel" (29 : Nat) "StateExploreModel" "sentWhom" "[I" ∈ TT := TT_3 (List.mem_of_getElem? (i := 0) (by decide +kernel)) (by decide +kernel)
theorem tm_481 : Jvm.Cond.fieldLink "StateExploreModel" (32 : Nat) "StateExploreModel" "bad" "[Z" ∈ TT := TT_3 (List.mem_of_getElem? (i := 1) (by decide +kernel)) (by decide +kernel)
theorem tm_482 : Jvm.Cond.fieldLink "StateExploreModel" (36 : Nat) "StateExploreModel" "numbering" "[I" ∈ TT := TT_3 (List.mem_of_getElem? (i := 2) (by decide +kernel)) (by decide +kernel)
theorem tm_483 : Jvm.Cond.fieldLink "StateExploreModel" (76 : Nat) "StateExploreModel" "numberings" "I" ∈ TT := TT_3 (List.mem_of_getElem? (i := 3) (by decide +kernel)) (by decide +kernel)
theorem tm_484 : Jvm.Cond.fieldLink "StateExploreModel" (82 : Nat) "StateExploreModel" "wholes" "I" ∈ TT := TT_3 (List.mem_of_getElem? (i := 4) (by decide +kernel)) (by decide +kernel)
theorem tm_485 : Jvm.Cond.fieldLink "StateExploreModel" (85 : Nat) "StateExploreModel" "gone" "I" ∈ TT := TT_3 (List.mem_of_getElem? (i := 5) (by decide +kernel)) (by decide +kernel)
theorem tm_486 : Jvm.Cond.fieldLink "StateExploreModel" (88 : Nat) "StateExploreModel" "steps" "I" ∈ TT := TT_3 (List.mem_of_getElem? (i := 6) (by decide +kernel)) (by decide +kernel)
theorem tm_487 : Jvm.Cond.fieldLink "StateExploreModel" (91 : Nat) "StateExploreModel" "old" "I" ∈ TT := TT_3 (List.mem_of_getElem? (i := 7) (by decide +kernel)) (by decide +kernel)
theorem tm_488 : Jvm.Cond.fieldLink "StateExploreModel" (94 : Nat) "StateExploreModel" "stuck" "I" ∈ TT := TT_3 (List.mem_of_getElem? (i := 8) (by decide +kernel)) (by decide +kernel)
theorem tm_489 : Jvm.Cond.fieldLink "StateExploreModel" (97 : Nat) "StateExploreModel" "answer" "I" ∈ TT := TT_3 (List.mem_of_getElem? (i := 9) (by decide +kernel)) (by decide +kernel)
theorem tm_490 : Jvm.Cond.fieldLink "StateExploreModel" (100 : Nat) "StateExploreModel" "badWhole" "I" ∈ TT := TT_3 (List.mem_of_getElem? (i := 10) (by decide +kernel)) (by decide +kernel)
theorem tm_491 : Jvm.Cond.fieldLink "StateExploreModel" (40 : Nat) "StateExploreModel" "rows" "[I" ∈ TT := TT_3 (List.mem_of_getElem? (i := 11) (by decide +kernel)) (by decide +kernel)
theorem tm_492 : Jvm.Cond.fieldLink "StateExploreModel" (43 : Nat) "StateExploreModel" "order" "[I" ∈ TT := TT_3 (List.mem_of_getElem? (i := 12) (by decide +kernel)) (by decide +kernel)
theorem tm_493 : Jvm.Cond.fieldLink "StateExploreModel" (46 : Nat) "StateExploreModel" "level" "[I" ∈ TT := TT_3 (List.mem_of_getElem? (i := 13) (by decide +kernel)) (by decide +kernel)
theorem tm_494 : Jvm.Cond.fieldLink "StateExploreModel" (49 : Nat) "StateExploreModel" "parent" "[I" ∈ TT := TT_3 (List.mem_of_getElem? (i := 14) (by decide +kernel)) (by decide +kernel)
theorem tm_495 : Jvm.Cond.fieldLink "StateExploreModel" (52 : Nat) "StateExploreModel" "byRule" "[I" ∈ TT := TT_3 (List.mem_of_getElem? (i := 15) (by decide +kernel)) (by decide +kernel)
theorem tm_496 : Jvm.Cond.fieldLink "StateExploreModel" (55 : Nat) "StateExploreModel" "stepsOf" "[I" ∈ TT := TT_3 (List.mem_of_getElem? (i := 16) (by decide +kernel)) (by decide +kernel)
theorem tm_497 : Jvm.Cond.fieldLink "StateExploreModel" (58 : Nat) "StateExploreModel" "alike" "[I" ∈ TT := TT_3 (List.mem_of_getElem? (i := 17) (by decide +kernel)) (by decide +kernel)
theorem tm_498 : Jvm.Cond.fieldLink "StateExploreModel" (61 : Nat) "StateExploreModel" "next" "[I" ∈ TT := TT_3 (List.mem_of_getElem? (i := 18) (by decide +kernel)) (by decide +kernel)
theorem tm_499 : Jvm.Cond.fieldLink "StateExploreModel" (64 : Nat) "StateExploreModel" "other" "[I" ∈ TT := TT_3 (List.mem_of_getElem? (i := 19) (by decide +kernel)) (by decide +kernel)
theorem tm_500 : Jvm.Cond.fieldLink "StateExploreModel" (67 : Nat) "StateExploreModel" "least" "[I" ∈ TT := TT_3 (List.mem_of_getElem? (i := 20) (by decide +kernel)) (by decide +kernel)
theorem tm_501 : Jvm.Cond.fieldLink "StateExploreModel" (124 : Nat) "StateExploreModel" "same" "I" ∈ TT := TT_3 (List.mem_of_getElem? (i := 21) (by decide +kernel)) (by decide +kernel)
theorem tm_502 : Jvm.Cond.fieldLink "StateExploreModel" (139 : Nat) "StateExploreModel" "at" "I" ∈ TT := TT_3 (List.mem_of_getElem? (i := 22) (by decide +kernel)) (by decide +kernel)
theorem tm_572 : Jvm.Cond.methodLink "StateExploreLaw" (66 : Nat) ({ cls := "StateExploreModel", name := "thrown", desc := "()I" } : Jvm.MethodName) ∈ TT := TT_3 (List.mem_of_getElem? (i := 92) (by decide +kernel)) (by decide +kernel)
theorem tm_573 : Jvm.Cond.instanceMethod ({ cls := "StateExploreModel", name := "thrown", desc := "()I" } : Jvm.MethodName) ∈ TT := TT_3 (List.mem_of_getElem? (i := 93) (by decide +kernel)) (by decide +kernel)
theorem tm_574 : Jvm.Cond.selects "StateExploreModel" ({ cls := "StateExploreModel", name := "thrown", desc := "()I" } : Jvm.MethodName) ({ cls := "StateExploreModel", name := "thrown", desc := "()I" } : Jvm.MethodName) ∈ TT := TT_3 (List.mem_of_getElem? (i := 94) (by decide +kernel)) (by decide +kernel)
set_option maxRecDepth 20000 in
theorem tm_575 : Jvm.Cond.code ({ cls := "StateExploreModel", name := "thrown", desc := "()I" } : Jvm.MethodName) prog_5_method_2_code (1 : Nat) (Option.some Jvm.ClassFile.FieldType.int) ∈ TT := TT_3 (List.mem_of_getElem? (i := 95) rfl) rfl
theorem tm_576 : Jvm.Cond.methodLink "StateExploreLaw" (65 : Nat) ({ cls := "StateExploreModel", name := "state", desc := "()I" } : Jvm.MethodName) ∈ TT := TT_3 (List.mem_of_getElem? (i := 96) (by decide +kernel)) (by decide +kernel)
theorem tm_577 : Jvm.Cond.instanceMethod ({ cls := "StateExploreModel", name := "state", desc := "()I" } : Jvm.MethodName) ∈ TT := TT_3 (List.mem_of_getElem? (i := 97) (by decide +kernel)) (by decide +kernel)
theorem tm_578 : Jvm.Cond.selects "StateExploreModel" ({ cls := "StateExploreModel", name := "state", desc := "()I" } : Jvm.MethodName) ({ cls := "StateExploreModel", name := "state", desc := "()I" } : Jvm.MethodName) ∈ TT := TT_3 (List.mem_of_getElem? (i := 98) (by decide +kernel)) (by decide +kernel)
set_option maxRecDepth 20000 in
theorem tm_579 : Jvm.Cond.code ({ cls := "StateExploreModel", name := "state", desc := "()I" } : Jvm.MethodName) prog_5_method_6_code (1 : Nat) (Option.some Jvm.ClassFile.FieldType.int) ∈ TT := TT_3 (List.mem_of_getElem? (i := 99) rfl) rfl
theorem tm_580 : Jvm.Cond.methodLink "StateExploreModel" (103 : Nat) ({ cls := "StateExploreModel", name := "throwing", desc := "(ZZ)Z" } : Jvm.MethodName) ∈ TT := TT_3 (List.mem_of_getElem? (i := 100) (by decide +kernel)) (by decide +kernel)
theorem tm_582 : Jvm.Cond.instanceMethod ({ cls := "StateExploreModel", name := "throwing", desc := "(ZZ)Z" } : Jvm.MethodName) ∈ TT := TT_3 (List.mem_of_getElem? (i := 102) (by decide +kernel)) (by decide +kernel)
set_option maxRecDepth 20000 in
theorem tm_583 : Jvm.Cond.code ({ cls := "StateExploreModel", name := "throwing", desc := "(ZZ)Z" } : Jvm.MethodName) prog_5_method_3_code (3 : Nat) (Option.some Jvm.ClassFile.FieldType.boolean) ∈ TT := TT_3 (List.mem_of_getElem? (i := 103) rfl) rfl
theorem tm_584 : Jvm.Cond.methodLink "StateExploreModel" (107 : Nat) ({ cls := "StateExploreModel", name := "forget", desc := "()V" } : Jvm.MethodName) ∈ TT := TT_3 (List.mem_of_getElem? (i := 104) (by decide +kernel)) (by decide +kernel)
theorem tm_586 : Jvm.Cond.instanceMethod ({ cls := "StateExploreModel", name := "forget", desc := "()V" } : Jvm.MethodName) ∈ TT := TT_3 (List.mem_of_getElem? (i := 106) (by decide +kernel)) (by decide +kernel)
set_option maxRecDepth 20000 in
theorem tm_587 : Jvm.Cond.code ({ cls := "StateExploreModel", name := "forget", desc := "()V" } : Jvm.MethodName) prog_5_method_5_code (1 : Nat) (Option.none : Option Jvm.ClassFile.FieldType) ∈ TT := TT_3 (List.mem_of_getElem? (i := 107) rfl) rfl
theorem tm_588 : Jvm.Cond.methodLink "StateExploreLaw" (71 : Nat) ({ cls := "StateExploreModel", name := "message", desc := "()I" } : Jvm.MethodName) ∈ TT := TT_3 (List.mem_of_getElem? (i := 108) (by decide +kernel)) (by decide +kernel)
theorem tm_589 : Jvm.Cond.instanceMethod ({ cls := "StateExploreModel", name := "message", desc := "()I" } : Jvm.MethodName) ∈ TT := TT_3 (List.mem_of_getElem? (i := 109) (by decide +kernel)) (by decide +kernel)
theorem tm_590 : Jvm.Cond.selects "StateExploreModel" ({ cls := "StateExploreModel", name := "message", desc := "()I" } : Jvm.MethodName) ({ cls := "StateExploreModel", name := "message", desc := "()I" } : Jvm.MethodName) ∈ TT := TT_3 (List.mem_of_getElem? (i := 110) (by decide +kernel)) (by decide +kernel)
set_option maxRecDepth 20000 in
theorem tm_591 : Jvm.Cond.code ({ cls := "StateExploreModel", name := "message", desc := "()I" } : Jvm.MethodName) prog_5_method_7_code (1 : Nat) (Option.some Jvm.ClassFile.FieldType.int) ∈ TT := TT_3 (List.mem_of_getElem? (i := 111) rfl) rfl
theorem tm_592 : Jvm.Cond.methodLink "StateExploreLaw" (75 : Nat) ({ cls := "StateExploreModel", name := "rule", desc := "(III)I" } : Jvm.MethodName) ∈ TT := TT_3 (List.mem_of_getElem? (i := 112) (by decide +kernel)) (by decide +kernel)
theorem tm_593 : Jvm.Cond.instanceMethod ({ cls := "StateExploreModel", name := "rule", desc := "(III)I" } : Jvm.MethodName) ∈ TT := TT_3 (List.mem_of_getElem? (i := 113) (by decide +kernel)) (by decide +kernel)
theorem tm_594 : Jvm.Cond.selects "StateExploreModel" ({ cls := "StateExploreModel", name := "rule", desc := "(III)I" } : Jvm.MethodName) ({ cls := "StateExploreModel", name := "rule", desc := "(III)I" } : Jvm.MethodName) ∈ TT := TT_3 (List.mem_of_getElem? (i := 114) (by decide +kernel)) (by decide +kernel)
set_option maxRecDepth 20000 in
theorem tm_595 : Jvm.Cond.code ({ cls := "StateExploreModel", name := "rule", desc := "(III)I" } : Jvm.MethodName) prog_5_method_8_code (4 : Nat) (Option.some Jvm.ClassFile.FieldType.int) ∈ TT := TT_3 (List.mem_of_getElem? (i := 115) rfl) rfl
theorem tm_596 : Jvm.Cond.methodLink "StateExploreModel" (113 : Nat) ({ cls := "StateExploreModel", name := "isOf", desc := "(II)Z" } : Jvm.MethodName) ∈ TT := TT_3 (List.mem_of_getElem? (i := 116) (by decide +kernel)) (by decide +kernel)
theorem tm_597 : Jvm.Cond.static ({ cls := "StateExploreModel", name := "isOf", desc := "(II)Z" } : Jvm.MethodName) ∈ TT := TT_3 (List.mem_of_getElem? (i := 117) (by decide +kernel)) (by decide +kernel)
set_option maxRecDepth 20000 in
theorem tm_598 : Jvm.Cond.code ({ cls := "StateExploreModel", name := "isOf", desc := "(II)Z" } : Jvm.MethodName) prog_5_method_4_code (2 : Nat) (Option.some Jvm.ClassFile.FieldType.boolean) ∈ TT := TT_3 (List.mem_of_getElem? (i := 118) rfl) rfl
theorem tm_599 : Jvm.Cond.methodLink "StateExploreLaw" (78 : Nat) ({ cls := "StateExploreModel", name := "sends", desc := "(III)I" } : Jvm.MethodName) ∈ TT := TT_3 (List.mem_of_getElem? (i := 119) (by decide +kernel)) (by decide +kernel)
theorem tm_600 : Jvm.Cond.instanceMethod ({ cls := "StateExploreModel", name := "sends", desc := "(III)I" } : Jvm.MethodName) ∈ TT := TT_3 (List.mem_of_getElem? (i := 120) (by decide +kernel)) (by decide +kernel)
theorem tm_601 : Jvm.Cond.selects "StateExploreModel" ({ cls := "StateExploreModel", name := "sends", desc := "(III)I" } : Jvm.MethodName) ({ cls := "StateExploreModel", name := "sends", desc := "(III)I" } : Jvm.MethodName) ∈ TT := TT_3 (List.mem_of_getElem? (i := 121) (by decide +kernel)) (by decide +kernel)
set_option maxRecDepth 20000 in
theorem tm_602 : Jvm.Cond.code ({ cls := "StateExploreModel", name := "sends", desc := "(III)I" } : Jvm.MethodName) prog_5_method_9_code (5 : Nat) (Option.some Jvm.ClassFile.FieldType.int) ∈ TT := TT_3 (List.mem_of_getElem? (i := 122) rfl) rfl
theorem tm_603 : Jvm.Cond.methodLink "StateExploreLaw" (82 : Nat) ({ cls := "StateExploreModel", name := "bad", desc := "(II)Z" } : Jvm.MethodName) ∈ TT := TT_3 (List.mem_of_getElem? (i := 123) (by decide +kernel)) (by decide +kernel)
theorem tm_604 : Jvm.Cond.instanceMethod ({ cls := "StateExploreModel", name := "bad", desc := "(II)Z" } : Jvm.MethodName) ∈ TT := TT_3 (List.mem_of_getElem? (i := 124) (by decide +kernel)) (by decide +kernel)
theorem tm_605 : Jvm.Cond.selects "StateExploreModel" ({ cls := "StateExploreModel", name := "bad", desc := "(II)Z" } : Jvm.MethodName) ({ cls := "StateExploreModel", name := "bad", desc := "(II)Z" } : Jvm.MethodName) ∈ TT := TT_3 (List.mem_of_getElem? (i := 125) (by decide +kernel)) (by decide +kernel)
set_option maxRecDepth 20000 in
theorem tm_606 : Jvm.Cond.code ({ cls := "StateExploreModel", name := "bad", desc := "(II)Z" } : Jvm.MethodName) prog_5_method_10_code (3 : Nat) (Option.some Jvm.ClassFile.FieldType.boolean) ∈ TT := TT_3 (List.mem_of_getElem? (i := 126) rfl) rfl
theorem tm_607 : Jvm.Cond.methodLink "StateExploreLaw" (86 : Nat) ({ cls := "StateExploreModel", name := "run", desc := "()I" } : Jvm.MethodName) ∈ TT := TT_3 (List.mem_of_getElem? (i := 127) (by decide +kernel)) (by decide +kernel)
theorem tm_608 : Jvm.Cond.instanceMethod ({ cls := "StateExploreModel", name := "run", desc := "()I" } : Jvm.MethodName) ∈ TT := TT_3 (List.mem_of_getElem? (i := 128) (by decide +kernel)) (by decide +kernel)
theorem tm_609 : Jvm.Cond.selects "StateExploreModel" ({ cls := "StateExploreModel", name := "run", desc := "()I" } : Jvm.MethodName) ({ cls := "StateExploreModel", name := "run", desc := "()I" } : Jvm.MethodName) ∈ TT := TT_3 (List.mem_of_getElem? (i := 129) (by decide +kernel)) (by decide +kernel)
set_option maxRecDepth 20000 in
theorem tm_610 : Jvm.Cond.code ({ cls := "StateExploreModel", name := "run", desc := "()I" } : Jvm.MethodName) prog_5_method_24_code (1 : Nat) (Option.some Jvm.ClassFile.FieldType.int) ∈ TT := TT_3 (List.mem_of_getElem? (i := 130) rfl) rfl
theorem tm_611 : Jvm.Cond.methodLink "StateExploreModel" (167 : Nat) ({ cls := "StateExploreModel", name := "begin", desc := "()V" } : Jvm.MethodName) ∈ TT := TT_3 (List.mem_of_getElem? (i := 131) (by decide +kernel)) (by decide +kernel)
theorem tm_613 : Jvm.Cond.instanceMethod ({ cls := "StateExploreModel", name := "begin", desc := "()V" } : Jvm.MethodName) ∈ TT := TT_3 (List.mem_of_getElem? (i := 133) (by decide +kernel)) (by decide +kernel)
set_option maxRecDepth 20000 in
theorem tm_614 : Jvm.Cond.code ({ cls := "StateExploreModel", name := "begin", desc := "()V" } : Jvm.MethodName) prog_5_method_19_code (2 : Nat) (Option.none : Option Jvm.ClassFile.FieldType) ∈ TT := TT_3 (List.mem_of_getElem? (i := 134) rfl) rfl
theorem tm_615 : Jvm.Cond.methodLink "StateExploreModel" (146 : Nat) ({ cls := "StateExploreModel", name := "form", desc := "()V" } : Jvm.MethodName) ∈ TT := TT_3 (List.mem_of_getElem? (i := 135) (by decide +kernel)) (by decide +kernel)
theorem tm_617 : Jvm.Cond.instanceMethod ({ cls := "StateExploreModel", name := "form", desc := "()V" } : Jvm.MethodName) ∈ TT := TT_3 (List.mem_of_getElem? (i := 137) (by decide +kernel)) (by decide +kernel)
set_option maxRecDepth 20000 in
theorem tm_618 : Jvm.Cond.code ({ cls := "StateExploreModel", name := "form", desc := "()V" } : Jvm.MethodName) prog_5_method_14_code (4 : Nat) (Option.none : Option Jvm.ClassFile.FieldType) ∈ TT := TT_3 (List.mem_of_getElem? (i := 138) rfl) rfl
theorem tm_619 : Jvm.Cond.methodLink "StateExploreModel" (127 : Nat) ({ cls := "StateExploreModel", name := "number", desc := "(I)V" } : Jvm.MethodName) ∈ TT := TT_3 (List.mem_of_getElem? (i := 139) (by decide +kernel)) (by decide +kernel)
theorem tm_621 : Jvm.Cond.instanceMethod ({ cls := "StateExploreModel", name := "number", desc := "(I)V" } : Jvm.MethodName) ∈ TT := TT_3 (List.mem_of_getElem? (i := 141) (by decide +kernel)) (by decide +kernel)
set_option maxRecDepth 20000 in
theorem tm_622 : Jvm.Cond.code ({ cls := "StateExploreModel", name := "number", desc := "(I)V" } : Jvm.MethodName) prog_5_method_13_code (4 : Nat) (Option.none : Option Jvm.ClassFile.FieldType) ∈ TT := TT_3 (List.mem_of_getElem? (i := 142) rfl) rfl
theorem tm_623 : Jvm.Cond.methodLink "StateExploreModel" (120 : Nat) ({ cls := "StateExploreModel", name := "add", desc := "([II)V" } : Jvm.MethodName) ∈ TT := TT_3 (List.mem_of_getElem? (i := 143) (by decide +kernel)) (by decide +kernel)
theorem tm_625 : Jvm.Cond.instanceMethod ({ cls := "StateExploreModel", name := "add", desc := "([II)V" } : Jvm.MethodName) ∈ TT := TT_3 (List.mem_of_getElem? (i := 145) (by decide +kernel)) (by decide +kernel)
set_option maxRecDepth 20000 in
theorem tm_626 : Jvm.Cond.code ({ cls := "StateExploreModel", name := "add", desc := "([II)V" } : Jvm.MethodName) prog_5_method_11_code (5 : Nat) (Option.none : Option Jvm.ClassFile.FieldType) ∈ TT := TT_3 (List.mem_of_getElem? (i := 146) rfl) rfl
theorem tm_627 : Jvm.Cond.methodLink "StateExploreModel" (131 : Nat) ({ cls := "StateExploreModel", name := "compare", desc := "([I[II)I" } : Jvm.MethodName) ∈ TT := TT_3 (List.mem_of_getElem? (i := 147) (by decide +kernel)) (by decide +kernel)
theorem tm_628 : Jvm.Cond.static ({ cls := "StateExploreModel", name := "compare", desc := "([I[II)I" } : Jvm.MethodName) ∈ TT := TT_3 (List.mem_of_getElem? (i := 148) (by decide +kernel)) (by decide +kernel)
set_option maxRecDepth 20000 in
theorem tm_629 : Jvm.Cond.code ({ cls := "StateExploreModel", name := "compare", desc := "([I[II)I" } : Jvm.MethodName) prog_5_method_12_code (4 : Nat) (Option.some Jvm.ClassFile.FieldType.int) ∈ TT := TT_3 (List.mem_of_getElem? (i := 149) rfl) rfl
theorem tm_630 : Jvm.Cond.methodLink "StateExploreModel" (149 : Nat) ({ cls := "StateExploreModel", name := "come", desc := "(II)V" } : Jvm.MethodName) ∈ TT := TT_3 (List.mem_of_getElem? (i := 150) (by decide +kernel)) (by decide +kernel)
theorem tm_632 : Jvm.Cond.instanceMethod ({ cls := "StateExploreModel", name := "come", desc := "(II)V" } : Jvm.MethodName) ∈ TT := TT_3 (List.mem_of_getElem? (i := 152) (by decide +kernel)) (by decide +kernel)
set_option maxRecDepth 20000 in
theorem tm_633 : Jvm.Cond.code ({ cls := "StateExploreModel", name := "come", desc := "(II)V" } : Jvm.MethodName) prog_5_method_18_code (4 : Nat) (Option.none : Option Jvm.ClassFile.FieldType) ∈ TT := TT_3 (List.mem_of_getElem? (i := 153) rfl) rfl
theorem tm_634 : Jvm.Cond.methodLink "StateExploreModel" (142 : Nat) ({ cls := "StateExploreModel", name := "isBad", desc := "()Z" } : Jvm.MethodName) ∈ TT := TT_3 (List.mem_of_getElem? (i := 154) (by decide +kernel)) (by decide +kernel)
theorem tm_636 : Jvm.Cond.instanceMethod ({ cls := "StateExploreModel", name := "isBad", desc := "()Z" } : Jvm.MethodName) ∈ TT := TT_3 (List.mem_of_getElem? (i := 156) (by decide +kernel)) (by decide +kernel)
set_option maxRecDepth 20000 in
theorem tm_637 : Jvm.Cond.code ({ cls := "StateExploreModel", name := "isBad", desc := "()Z" } : Jvm.MethodName) prog_5_method_17_code (4 : Nat) (Option.some Jvm.ClassFile.FieldType.boolean) ∈ TT := TT_3 (List.mem_of_getElem? (i := 157) rfl) rfl
theorem tm_638 : Jvm.Cond.methodLink "StateExploreModel" (170 : Nat) ({ cls := "StateExploreModel", name := "goThrough", desc := "()V" } : Jvm.MethodName) ∈ TT := TT_3 (List.mem_of_getElem? (i := 158) (by decide +kernel)) (by decide +kernel)
theorem tm_640 : Jvm.Cond.instanceMethod ({ cls := "StateExploreModel", name := "goThrough", desc := "()V" } : Jvm.MethodName) ∈ TT := TT_3 (List.mem_of_getElem? (i := 160) (by decide +kernel)) (by decide +kernel)
set_option maxRecDepth 20000 in
theorem tm_641 : Jvm.Cond.code ({ cls := "StateExploreModel", name := "goThrough", desc := "()V" } : Jvm.MethodName) prog_5_method_23_code (6 : Nat) (Option.none : Option Jvm.ClassFile.FieldType) ∈ TT := TT_3 (List.mem_of_getElem? (i := 161) rfl) rfl
theorem tm_642 : Jvm.Cond.methodLink "StateExploreModel" (163 : Nat) ({ cls := "StateExploreModel", name := "allSteps", desc := "(III)I" } : Jvm.MethodName) ∈ TT := TT_3 (List.mem_of_getElem? (i := 162) (by decide +kernel)) (by decide +kernel)
theorem tm_644 : Jvm.Cond.instanceMethod ({ cls := "StateExploreModel", name := "allSteps", desc := "(III)I" } : Jvm.MethodName) ∈ TT := TT_3 (List.mem_of_getElem? (i := 164) (by decide +kernel)) (by decide +kernel)
set_option maxRecDepth 20000 in
theorem tm_645 : Jvm.Cond.code ({ cls := "StateExploreModel", name := "allSteps", desc := "(III)I" } : Jvm.MethodName) prog_5_method_22_code (8 : Nat) (Option.some Jvm.ClassFile.FieldType.int) ∈ TT := TT_3 (List.mem_of_getElem? (i := 165) rfl) rfl
theorem tm_646 : Jvm.Cond.methodLink "StateExploreModel" (156 : Nat) ({ cls := "StateExploreModel", name := "make", desc := "(IIII)Z" } : Jvm.MethodName) ∈ TT := TT_3 (List.mem_of_getElem? (i := 166) (by decide +kernel)) (by decide +kernel)
theorem tm_648 : Jvm.Cond.instanceMethod ({ cls := "StateExploreModel", name := "make", desc := "(IIII)Z" } : Jvm.MethodName) ∈ TT := TT_3 (List.mem_of_getElem? (i := 168) (by decide +kernel)) (by decide +kernel)
set_option maxRecDepth 20000 in
theorem tm_649 : Jvm.Cond.code ({ cls := "StateExploreModel", name := "make", desc := "(IIII)Z" } : Jvm.MethodName) prog_5_method_20_code (10 : Nat) (Option.some Jvm.ClassFile.FieldType.boolean) ∈ TT := TT_3 (List.mem_of_getElem? (i := 169) rfl) rfl
theorem tm_650 : Jvm.Cond.methodLink "StateExploreModel" (160 : Nat) ({ cls := "StateExploreModel", name := "step", desc := "(II)Z" } : Jvm.MethodName) ∈ TT := TT_3 (List.mem_of_getElem? (i := 170) (by decide +kernel)) (by decide +kernel)
theorem tm_652 : Jvm.Cond.instanceMethod ({ cls := "StateExploreModel", name := "step", desc := "(II)Z" } : Jvm.MethodName) ∈ TT := TT_3 (List.mem_of_getElem? (i := 172) (by decide +kernel)) (by decide +kernel)
set_option maxRecDepth 20000 in
theorem tm_653 : Jvm.Cond.code ({ cls := "StateExploreModel", name := "step", desc := "(II)Z" } : Jvm.MethodName) prog_5_method_21_code (3 : Nat) (Option.some Jvm.ClassFile.FieldType.boolean) ∈ TT := TT_3 (List.mem_of_getElem? (i := 173) rfl) rfl
theorem tm_654 : Jvm.Cond.methodLink "StateExploreModel" (153 : Nat) ({ cls := "StateExploreModel", name := "isThere", desc := "()Z" } : Jvm.MethodName) ∈ TT := TT_3 (List.mem_of_getElem? (i := 174) (by decide +kernel)) (by decide +kernel)
theorem tm_656 : Jvm.Cond.instanceMethod ({ cls := "StateExploreModel", name := "isThere", desc := "()Z" } : Jvm.MethodName) ∈ TT := TT_3 (List.mem_of_getElem? (i := 176) (by decide +kernel)) (by decide +kernel)
set_option maxRecDepth 20000 in
theorem tm_657 : Jvm.Cond.code ({ cls := "StateExploreModel", name := "isThere", desc := "()Z" } : Jvm.MethodName) prog_5_method_16_code (4 : Nat) (Option.some Jvm.ClassFile.FieldType.boolean) ∈ TT := TT_3 (List.mem_of_getElem? (i := 177) rfl) rfl
theorem tm_658 : Jvm.Cond.methodLink "StateExploreModel" (135 : Nat) ({ cls := "StateExploreModel", name := "compareRow", desc := "(I)I" } : Jvm.MethodName) ∈ TT := TT_3 (List.mem_of_getElem? (i := 178) (by decide +kernel)) (by decide +kernel)
theorem tm_660 : Jvm.Cond.instanceMethod ({ cls := "StateExploreModel", name := "compareRow", desc := "(I)I" } : Jvm.MethodName) ∈ TT := TT_3 (List.mem_of_getElem? (i := 180) (by decide +kernel)) (by decide +kernel)
set_option maxRecDepth 20000 in
theorem tm_661 : Jvm.Cond.code ({ cls := "StateExploreModel", name := "compareRow", desc := "(I)I" } : Jvm.MethodName) prog_5_method_15_code (3 : Nat) (Option.some Jvm.ClassFile.FieldType.int) ∈ TT := TT_3 (List.mem_of_getElem? (i := 181) rfl) rfl
theorem tm_662 : Jvm.Cond.methodLink "StateExploreLaw" (90 : Nat) ({ cls := "StateExploreModel", name := "go", desc := "(I)I" } : Jvm.MethodName) ∈ TT := TT_3 (List.mem_of_getElem? (i := 182) (by decide +kernel)) (by decide +kernel)
theorem tm_663 : Jvm.Cond.instanceMethod ({ cls := "StateExploreModel", name := "go", desc := "(I)I" } : Jvm.MethodName) ∈ TT := TT_3 (List.mem_of_getElem? (i := 183) (by decide +kernel)) (by decide +kernel)
theorem tm_664 : Jvm.Cond.selects "StateExploreModel" ({ cls := "StateExploreModel", name := "go", desc := "(I)I" } : Jvm.MethodName) ({ cls := "StateExploreModel", name := "go", desc := "(I)I" } : Jvm.MethodName) ∈ TT := TT_3 (List.mem_of_getElem? (i := 184) (by decide +kernel)) (by decide +kernel)
set_option maxRecDepth 20000 in
theorem tm_665 : Jvm.Cond.code ({ cls := "StateExploreModel", name := "go", desc := "(I)I" } : Jvm.MethodName) prog_5_method_25_code (3 : Nat) (Option.some Jvm.ClassFile.FieldType.int) ∈ TT := TT_3 (List.mem_of_getElem? (i := 185) rfl) rfl
theorem tm_666 : Jvm.Cond.methodLink "StateExploreLaw" (93 : Nat) ({ cls := "StateExploreModel", name := "node", desc := "(II)I" } : Jvm.MethodName) ∈ TT := TT_3 (List.mem_of_getElem? (i := 186) (by decide +kernel)) (by decide +kernel)
theorem tm_667 : Jvm.Cond.instanceMethod ({ cls := "StateExploreModel", name := "node", desc := "(II)I" } : Jvm.MethodName) ∈ TT := TT_3 (List.mem_of_getElem? (i := 187) (by decide +kernel)) (by decide +kernel)
theorem tm_668 : Jvm.Cond.selects "StateExploreModel" ({ cls := "StateExploreModel", name := "node", desc := "(II)I" } : Jvm.MethodName) ({ cls := "StateExploreModel", name := "node", desc := "(II)I" } : Jvm.MethodName) ∈ TT := TT_3 (List.mem_of_getElem? (i := 188) (by decide +kernel)) (by decide +kernel)
set_option maxRecDepth 20000 in
theorem tm_669 : Jvm.Cond.code ({ cls := "StateExploreModel", name := "node", desc := "(II)I" } : Jvm.MethodName) prog_5_method_26_code (3 : Nat) (Option.some Jvm.ClassFile.FieldType.int) ∈ TT := TT_3 (List.mem_of_getElem? (i := 189) rfl) rfl
theorem tm_670 : Jvm.Cond.methodLink "StateExploreLaw" (96 : Nat) ({ cls := "StateExploreModel", name := "code", desc := "(II)I" } : Jvm.MethodName) ∈ TT := TT_3 (List.mem_of_getElem? (i := 190) (by decide +kernel)) (by decide +kernel)
theorem tm_671 : Jvm.Cond.instanceMethod ({ cls := "StateExploreModel", name := "code", desc := "(II)I" } : Jvm.MethodName) ∈ TT := TT_3 (List.mem_of_getElem? (i := 191) (by decide +kernel)) (by decide +kernel)
theorem tm_672 : Jvm.Cond.selects "StateExploreModel" ({ cls := "StateExploreModel", name := "code", desc := "(II)I" } : Jvm.MethodName) ({ cls := "StateExploreModel", name := "code", desc := "(II)I" } : Jvm.MethodName) ∈ TT := TT_3 (List.mem_of_getElem? (i := 192) (by decide +kernel)) (by decide +kernel)
set_option maxRecDepth 20000 in
theorem tm_673 : Jvm.Cond.code ({ cls := "StateExploreModel", name := "code", desc := "(II)I" } : Jvm.MethodName) prog_5_method_27_code (3 : Nat) (Option.some Jvm.ClassFile.FieldType.int) ∈ TT := TT_3 (List.mem_of_getElem? (i := 193) rfl) rfl
theorem tm_674 : Jvm.Cond.methodLink "StateExploreLaw" (99 : Nat) ({ cls := "StateExploreModel", name := "whole", desc := "(II)I" } : Jvm.MethodName) ∈ TT := TT_3 (List.mem_of_getElem? (i := 194) (by decide +kernel)) (by decide +kernel)
theorem tm_675 : Jvm.Cond.instanceMethod ({ cls := "StateExploreModel", name := "whole", desc := "(II)I" } : Jvm.MethodName) ∈ TT := TT_3 (List.mem_of_getElem? (i := 195) (by decide +kernel)) (by decide +kernel)
theorem tm_676 : Jvm.Cond.selects "StateExploreModel" ({ cls := "StateExploreModel", name := "whole", desc := "(II)I" } : Jvm.MethodName) ({ cls := "StateExploreModel", name := "whole", desc := "(II)I" } : Jvm.MethodName) ∈ TT := TT_3 (List.mem_of_getElem? (i := 196) (by decide +kernel)) (by decide +kernel)
set_option maxRecDepth 20000 in
theorem tm_677 : Jvm.Cond.code ({ cls := "StateExploreModel", name := "whole", desc := "(II)I" } : Jvm.MethodName) prog_5_method_28_code (3 : Nat) (Option.some Jvm.ClassFile.FieldType.int) ∈ TT := TT_3 (List.mem_of_getElem? (i := 197) rfl) rfl
theorem tm_678 : Jvm.Cond.methodLink "StateExploreLaw" (103 : Nat) ({ cls := "StateExploreModel", name := "way", desc := "()I" } : Jvm.MethodName) ∈ TT := TT_3 (List.mem_of_getElem? (i := 198) (by decide +kernel)) (by decide +kernel)
theorem tm_679 : Jvm.Cond.instanceMethod ({ cls := "StateExploreModel", name := "way", desc := "()I" } : Jvm.MethodName) ∈ TT := TT_3 (List.mem_of_getElem? (i := 199) (by decide +kernel)) (by decide +kernel)
theorem tm_680 : Jvm.Cond.selects "StateExploreModel" ({ cls := "StateExploreModel", name := "way", desc := "()I" } : Jvm.MethodName) ({ cls := "StateExploreModel", name := "way", desc := "()I" } : Jvm.MethodName) ∈ TT := TT_3 (List.mem_of_getElem? (i := 200) (by decide +kernel)) (by decide +kernel)
set_option maxRecDepth 20000 in
theorem tm_681 : Jvm.Cond.code ({ cls := "StateExploreModel", name := "way", desc := "()I" } : Jvm.MethodName) prog_5_method_29_code (1 : Nat) (Option.some Jvm.ClassFile.FieldType.int) ∈ TT := TT_3 (List.mem_of_getElem? (i := 201) rfl) rfl
theorem tm_682 : Jvm.Cond.methodLink "StateExploreLaw" (106 : Nat) ({ cls := "StateExploreModel", name := "wayAt", desc := "(I)I" } : Jvm.MethodName) ∈ TT := TT_3 (List.mem_of_getElem? (i := 202) (by decide +kernel)) (by decide +kernel)
theorem tm_683 : Jvm.Cond.instanceMethod ({ cls := "StateExploreModel", name := "wayAt", desc := "(I)I" } : Jvm.MethodName) ∈ TT := TT_3 (List.mem_of_getElem? (i := 203) (by decide +kernel)) (by decide +kernel)
theorem tm_684 : Jvm.Cond.selects "StateExploreModel" ({ cls := "StateExploreModel", name := "wayAt", desc := "(I)I" } : Jvm.MethodName) ({ cls := "StateExploreModel", name := "wayAt", desc := "(I)I" } : Jvm.MethodName) ∈ TT := TT_3 (List.mem_of_getElem? (i := 204) (by decide +kernel)) (by decide +kernel)
set_option maxRecDepth 20000 in
theorem tm_685 : Jvm.Cond.code ({ cls := "StateExploreModel", name := "wayAt", desc := "(I)I" } : Jvm.MethodName) prog_5_method_30_code (3 : Nat) (Option.some Jvm.ClassFile.FieldType.int) ∈ TT := TT_3 (List.mem_of_getElem? (i := 205) rfl) rfl
theorem tm_686 : Jvm.Cond.methodLink "StateExploreLaw" (110 : Nat) ({ cls := "StateExploreModel", name := "count", desc := "(I)I" } : Jvm.MethodName) ∈ TT := TT_3 (List.mem_of_getElem? (i := 206) (by decide +kernel)) (by decide +kernel)
theorem tm_687 : Jvm.Cond.instanceMethod ({ cls := "StateExploreModel", name := "count", desc := "(I)I" } : Jvm.MethodName) ∈ TT := TT_3 (List.mem_of_getElem? (i := 207) (by decide +kernel)) (by decide +kernel)
theorem tm_688 : Jvm.Cond.selects "StateExploreModel" ({ cls := "StateExploreModel", name := "count", desc := "(I)I" } : Jvm.MethodName) ({ cls := "StateExploreModel", name := "count", desc := "(I)I" } : Jvm.MethodName) ∈ TT := TT_3 (List.mem_of_getElem? (i := 208) (by decide +kernel)) (by decide +kernel)
set_option maxRecDepth 20000 in
theorem tm_689 : Jvm.Cond.code ({ cls := "StateExploreModel", name := "count", desc := "(I)I" } : Jvm.MethodName) prog_5_method_33_code (2 : Nat) (Option.some Jvm.ClassFile.FieldType.int) ∈ TT := TT_3 (List.mem_of_getElem? (i := 209) rfl) rfl
theorem tm_690 : Jvm.Cond.methodLink "StateExploreModel" (173 : Nat) ({ cls := "StateExploreModel", name := "greatestLevel", desc := "()I" } : Jvm.MethodName) ∈ TT := TT_3 (List.mem_of_getElem? (i := 210) (by decide +kernel)) (by decide +kernel)
theorem tm_692 : Jvm.Cond.instanceMethod ({ cls := "StateExploreModel", name := "greatestLevel", desc := "()I" } : Jvm.MethodName) ∈ TT := TT_3 (List.mem_of_getElem? (i := 212) (by decide +kernel)) (by decide +kernel)
set_option maxRecDepth 20000 in
theorem tm_693 : Jvm.Cond.code ({ cls := "StateExploreModel", name := "greatestLevel", desc := "()I" } : Jvm.MethodName) prog_5_method_31_code (3 : Nat) (Option.some Jvm.ClassFile.FieldType.int) ∈ TT := TT_3 (List.mem_of_getElem? (i := 213) rfl) rfl
theorem tm_694 : Jvm.Cond.methodLink "StateExploreModel" (177 : Nat) ({ cls := "StateExploreModel", name := "sums", desc := "()I" } : Jvm.MethodName) ∈ TT := TT_3 (List.mem_of_getElem? (i := 214) (by decide +kernel)) (by decide +kernel)
theorem tm_696 : Jvm.Cond.instanceMethod ({ cls := "StateExploreModel", name := "sums", desc := "()I" } : Jvm.MethodName) ∈ TT := TT_3 (List.mem_of_getElem? (i := 216) (by decide +kernel)) (by decide +kernel)
set_option maxRecDepth 20000 in
theorem tm_697 : Jvm.Cond.code ({ cls := "StateExploreModel", name := "sums", desc := "()I" } : Jvm.MethodName) prog_5_method_32_code (3 : Nat) (Option.some Jvm.ClassFile.FieldType.int) ∈ TT := TT_3 (List.mem_of_getElem? (i := 217) rfl) rfl
theorem ts_0 : Cond.selects "StateExplore" ⟨"StateExplore", "number", "(II)V"⟩ ⟨"StateExplore", "number", "(II)V"⟩ ∈ TT := TT_s (List.mem_of_getElem? (i := 0) (by decide +kernel)) (by decide +kernel)
theorem ts_1 : Cond.selects "StateExplore" ⟨"StateExplore", "forget", "()V"⟩ ⟨"StateExplore", "forget", "()V"⟩ ∈ TT := TT_s (List.mem_of_getElem? (i := 1) (by decide +kernel)) (by decide +kernel)
theorem ts_2 : Cond.selects "StateExplore" ⟨"StateExplore", "begin", "()V"⟩ ⟨"StateExplore", "begin", "()V"⟩ ∈ TT := TT_s (List.mem_of_getElem? (i := 2) (by decide +kernel)) (by decide +kernel)
theorem ts_3 : Cond.selects "StateExplore" ⟨"StateExplore", "come", "(LStateExplore$Whole;II)V"⟩ ⟨"StateExplore", "come", "(LStateExplore$Whole;II)V"⟩ ∈ TT := TT_s (List.mem_of_getElem? (i := 3) (by decide +kernel)) (by decide +kernel)
theorem ts_4 : Cond.selects "StateExplore" ⟨"StateExplore", "form", "(LStateExplore$Whole;)J"⟩ ⟨"StateExplore", "form", "(LStateExplore$Whole;)J"⟩ ∈ TT := TT_s (List.mem_of_getElem? (i := 4) (by decide +kernel)) (by decide +kernel)
theorem ts_5 : Cond.selects "StateExplore" ⟨"StateExplore", "find", "(J)I"⟩ ⟨"StateExplore", "find", "(J)I"⟩ ∈ TT := TT_s (List.mem_of_getElem? (i := 5) (by decide +kernel)) (by decide +kernel)
theorem ts_6 : Cond.selects "StateExplore" ⟨"StateExplore", "slot", "(J)I"⟩ ⟨"StateExplore", "slot", "(J)I"⟩ ∈ TT := TT_s (List.mem_of_getElem? (i := 6) (by decide +kernel)) (by decide +kernel)
theorem ts_7 : Cond.selects "StateExplore" ⟨"StateExplore", "grow", "()V"⟩ ⟨"StateExplore", "grow", "()V"⟩ ∈ TT := TT_s (List.mem_of_getElem? (i := 7) (by decide +kernel)) (by decide +kernel)
theorem ts_8 : Cond.selects "StateExplore" ⟨"StateExplore", "isBad", "(LStateExplore$Whole;)Z"⟩ ⟨"StateExplore", "isBad", "(LStateExplore$Whole;)Z"⟩ ∈ TT := TT_s (List.mem_of_getElem? (i := 8) (by decide +kernel)) (by decide +kernel)
theorem ts_9 : Cond.selects "StateExplore" ⟨"StateExplore", "isOver", "()Z"⟩ ⟨"StateExplore", "isOver", "()Z"⟩ ∈ TT := TT_s (List.mem_of_getElem? (i := 9) (by decide +kernel)) (by decide +kernel)
theorem ts_10 : Cond.selects "StateExplore" ⟨"StateExplore", "goThrough", "(I)V"⟩ ⟨"StateExplore", "goThrough", "(I)V"⟩ ∈ TT := TT_s (List.mem_of_getElem? (i := 10) (by decide +kernel)) (by decide +kernel)
theorem ts_11 : Cond.selects "StateExplore" ⟨"StateExplore", "step", "(IIIII)V"⟩ ⟨"StateExplore", "step", "(IIIII)V"⟩ ∈ TT := TT_s (List.mem_of_getElem? (i := 11) (by decide +kernel)) (by decide +kernel)
theorem ts_12 : Cond.selects "StateExplore" ⟨"StateExplore", "make", "(LStateExplore$Rule;III)Z"⟩ ⟨"StateExplore", "make", "(LStateExplore$Rule;III)Z"⟩ ∈ TT := TT_s (List.mem_of_getElem? (i := 12) (by decide +kernel)) (by decide +kernel)
theorem ts_13 : Cond.selects "StateExplore" ⟨"StateExplore", "receive", "(III)V"⟩ ⟨"StateExplore", "receive", "(III)V"⟩ ∈ TT := TT_s (List.mem_of_getElem? (i := 13) (by decide +kernel)) (by decide +kernel)
theorem ts_14 : Cond.selects "StateExplore" ⟨"StateExplore", "dead", "()I"⟩ ⟨"StateExplore", "dead", "()I"⟩ ∈ TT := TT_s (List.mem_of_getElem? (i := 14) (by decide +kernel)) (by decide +kernel)
theorem ts_15 : Cond.selects "StateExplore" ⟨"StateExplore", "sum", "()I"⟩ ⟨"StateExplore", "sum", "()I"⟩ ∈ TT := TT_s (List.mem_of_getElem? (i := 15) (by decide +kernel)) (by decide +kernel)
theorem ts_16 : Cond.selects "java/lang/Throwable" ⟨"java/lang/Throwable", "fillInStackTrace", "(I)Ljava/lang/Throwable;"⟩ ⟨"java/lang/Throwable", "fillInStackTrace", "(I)Ljava/lang/Throwable;"⟩ ∈ TT := TT_s (List.mem_of_getElem? (i := 16) (by decide +kernel)) (by decide +kernel)
theorem ts_17 : Cond.selects "StateExplore" ⟨"StateExplore", "isState", "(I)Z"⟩ ⟨"StateExplore", "isState", "(I)Z"⟩ ∈ TT := TT_s (List.mem_of_getElem? (i := 17) (by decide +kernel)) (by decide +kernel)
theorem ts_18 : Cond.selects "StateExplore" ⟨"StateExplore", "isWhole", "(I)V"⟩ ⟨"StateExplore", "isWhole", "(I)V"⟩ ∈ TT := TT_s (List.mem_of_getElem? (i := 18) (by decide +kernel)) (by decide +kernel)
theorem ts_19 : Cond.selects "StateExploreModel" ⟨"StateExploreModel", "throwing", "(ZZ)Z"⟩ ⟨"StateExploreModel", "throwing", "(ZZ)Z"⟩ ∈ TT := TT_s (List.mem_of_getElem? (i := 19) (by decide +kernel)) (by decide +kernel)
theorem ts_20 : Cond.selects "StateExploreModel" ⟨"StateExploreModel", "forget", "()V"⟩ ⟨"StateExploreModel", "forget", "()V"⟩ ∈ TT := TT_s (List.mem_of_getElem? (i := 20) (by decide +kernel)) (by decide +kernel)
theorem ts_21 : Cond.selects "StateExploreModel" ⟨"StateExploreModel", "begin", "()V"⟩ ⟨"StateExploreModel", "begin", "()V"⟩ ∈ TT := TT_s (List.mem_of_getElem? (i := 21) (by decide +kernel)) (by decide +kernel)
theorem ts_22 : Cond.selects "StateExploreModel" ⟨"StateExploreModel", "form", "()V"⟩ ⟨"StateExploreModel", "form", "()V"⟩ ∈ TT := TT_s (List.mem_of_getElem? (i := 22) (by decide +kernel)) (by decide +kernel)
theorem ts_23 : Cond.selects "StateExploreModel" ⟨"StateExploreModel", "number", "(I)V"⟩ ⟨"StateExploreModel", "number", "(I)V"⟩ ∈ TT := TT_s (List.mem_of_getElem? (i := 23) (by decide +kernel)) (by decide +kernel)
theorem ts_24 : Cond.selects "StateExploreModel" ⟨"StateExploreModel", "add", "([II)V"⟩ ⟨"StateExploreModel", "add", "([II)V"⟩ ∈ TT := TT_s (List.mem_of_getElem? (i := 24) (by decide +kernel)) (by decide +kernel)
theorem ts_25 : Cond.selects "StateExploreModel" ⟨"StateExploreModel", "come", "(II)V"⟩ ⟨"StateExploreModel", "come", "(II)V"⟩ ∈ TT := TT_s (List.mem_of_getElem? (i := 25) (by decide +kernel)) (by decide +kernel)
theorem ts_26 : Cond.selects "StateExploreModel" ⟨"StateExploreModel", "isBad", "()Z"⟩ ⟨"StateExploreModel", "isBad", "()Z"⟩ ∈ TT := TT_s (List.mem_of_getElem? (i := 26) (by decide +kernel)) (by decide +kernel)
theorem ts_27 : Cond.selects "StateExploreModel" ⟨"StateExploreModel", "goThrough", "()V"⟩ ⟨"StateExploreModel", "goThrough", "()V"⟩ ∈ TT := TT_s (List.mem_of_getElem? (i := 27) (by decide +kernel)) (by decide +kernel)
theorem ts_28 : Cond.selects "StateExploreModel" ⟨"StateExploreModel", "allSteps", "(III)I"⟩ ⟨"StateExploreModel", "allSteps", "(III)I"⟩ ∈ TT := TT_s (List.mem_of_getElem? (i := 28) (by decide +kernel)) (by decide +kernel)
theorem ts_29 : Cond.selects "StateExploreModel" ⟨"StateExploreModel", "make", "(IIII)Z"⟩ ⟨"StateExploreModel", "make", "(IIII)Z"⟩ ∈ TT := TT_s (List.mem_of_getElem? (i := 29) (by decide +kernel)) (by decide +kernel)
theorem ts_30 : Cond.selects "StateExploreModel" ⟨"StateExploreModel", "step", "(II)Z"⟩ ⟨"StateExploreModel", "step", "(II)Z"⟩ ∈ TT := TT_s (List.mem_of_getElem? (i := 30) (by decide +kernel)) (by decide +kernel)
theorem ts_31 : Cond.selects "StateExploreModel" ⟨"StateExploreModel", "isThere", "()Z"⟩ ⟨"StateExploreModel", "isThere", "()Z"⟩ ∈ TT := TT_s (List.mem_of_getElem? (i := 31) (by decide +kernel)) (by decide +kernel)
theorem ts_32 : Cond.selects "StateExploreModel" ⟨"StateExploreModel", "compareRow", "(I)I"⟩ ⟨"StateExploreModel", "compareRow", "(I)I"⟩ ∈ TT := TT_s (List.mem_of_getElem? (i := 32) (by decide +kernel)) (by decide +kernel)
theorem ts_33 : Cond.selects "StateExploreModel" ⟨"StateExploreModel", "greatestLevel", "()I"⟩ ⟨"StateExploreModel", "greatestLevel", "()I"⟩ ∈ TT := TT_s (List.mem_of_getElem? (i := 33) (by decide +kernel)) (by decide +kernel)
theorem ts_34 : Cond.selects "StateExploreModel" ⟨"StateExploreModel", "sums", "()I"⟩ ⟨"StateExploreModel", "sums", "()I"⟩ ∈ TT := TT_s (List.mem_of_getElem? (i := 34) (by decide +kernel)) (by decide +kernel)
