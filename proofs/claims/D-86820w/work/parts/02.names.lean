set_option maxRecDepth 100000
def RJ0 : String := "java/util/AbstractCollection"
abbrev cJ0_init : ByteArray := prog_45_method_1_code
def yJ0_init : MethodName := ⟨RJ0, "<init>", "()V"⟩
def RJ1 : String := "java/util/AbstractList"
abbrev cJ1_init : ByteArray := prog_46_method_1_code
def yJ1_init : MethodName := ⟨RJ1, "<init>", "()V"⟩
def RJ10 : String := "java/lang/Exception"
abbrev cJ10_init : ByteArray := prog_39_method_5_code
def yJ10_init : MethodName := ⟨RJ10, "<init>", "(Ljava/lang/String;Ljava/lang/Throwable;ZZ)V"⟩
def RJ11 : String := "java/lang/Integer"
abbrev cJ11_bitCount : ByteArray := prog_40_method_49_code
def yJ11_bitCount : MethodName := ⟨RJ11, "bitCount", "(I)I"⟩
def RJ12 : String := "java/util/ArrayList$Itr"
def TJ12 : u_T := fun k => match k with
  | 0 => ("java/util/ArrayList$Itr", "cursor", "I", false)
  | 1 => ("java/util/ArrayList$Itr", "lastRet", "I", false)
  | 2 => ("java/util/ArrayList$Itr", "expectedModCount", "I", false)
  | _ => ("java/util/ArrayList$Itr", "this$0", "Ljava/util/ArrayList;", true)
def tyJ12 : Nat → FieldType := fun k => match k with
  | 0 => .int
  | 1 => .int
  | 2 => .int
  | _ => .object "java/util/ArrayList"
abbrev wsJ120 : List Cond := u_ws RJ12 TJ12 4
abbrev cJ12_init : ByteArray := prog_48_method_1_code
def yJ12_init : MethodName := ⟨RJ12, "<init>", "(Ljava/util/ArrayList;)V"⟩
abbrev cJ12_hasNext : ByteArray := prog_48_method_2_code
def yJ12_hasNext : MethodName := ⟨RJ12, "hasNext", "()Z"⟩
abbrev cJ12_next : ByteArray := prog_48_method_3_code
def yJ12_next : MethodName := ⟨RJ12, "next", "()Ljava/lang/Object;"⟩
abbrev cJ12_checkForComodification : ByteArray := prog_48_method_6_code
def yJ12_checkForComodification : MethodName := ⟨RJ12, "checkForComodification", "()V"⟩
def RJ13 : String := "java/lang/Object"
abbrev cJ13_init : ByteArray := object_method_1_code
def yJ13_init : MethodName := ⟨RJ13, "<init>", "()V"⟩
abbrev cJ13_equals : ByteArray := object_method_4_code
def yJ13_equals : MethodName := ⟨RJ13, "equals", "(Ljava/lang/Object;)Z"⟩
def RJ2 : String := "java/util/ArrayList"
def TJ2 : u_T := fun k => match k with
  | 0 => ("java/util/AbstractList", "modCount", "I", false)
  | 1 => ("java/util/ArrayList", "elementData", "[Ljava/lang/Object;", false)
  | _ => ("java/util/ArrayList", "size", "I", false)
def tyJ2 : Nat → FieldType := fun k => match k with
  | 0 => .int
  | 1 => .array (.object "java/lang/Object")
  | _ => .int
abbrev wsJ20 : List Cond := u_ws RJ2 TJ2 3
abbrev cJ2_init : ByteArray := prog_47_method_2_code
def yJ2_init : MethodName := ⟨RJ2, "<init>", "()V"⟩
abbrev cJ2_size : ByteArray := prog_47_method_8_code
def yJ2_size : MethodName := ⟨RJ2, "size", "()I"⟩
abbrev cJ2_add : ByteArray := prog_47_method_25_code
def yJ2_add : MethodName := ⟨RJ2, "add", "(Ljava/lang/Object;)Z"⟩
abbrev cJ2_add_2 : ByteArray := prog_47_method_24_code
def yJ2_add_2 : MethodName := ⟨RJ2, "add", "(Ljava/lang/Object;[Ljava/lang/Object;I)V"⟩
abbrev cJ2_grow : ByteArray := prog_47_method_7_code
def yJ2_grow : MethodName := ⟨RJ2, "grow", "()[Ljava/lang/Object;"⟩
abbrev cJ2_grow_2 : ByteArray := prog_47_method_6_code
def yJ2_grow_2 : MethodName := ⟨RJ2, "grow", "(I)[Ljava/lang/Object;"⟩
abbrev cJ2_get : ByteArray := prog_47_method_20_code
def yJ2_get : MethodName := ⟨RJ2, "get", "(I)Ljava/lang/Object;"⟩
abbrev cJ2_elementData : ByteArray := prog_47_method_18_code
def yJ2_elementData : MethodName := ⟨RJ2, "elementData", "(I)Ljava/lang/Object;"⟩
abbrev cJ2_isEmpty : ByteArray := prog_47_method_9_code
def yJ2_isEmpty : MethodName := ⟨RJ2, "isEmpty", "()Z"⟩
abbrev cJ2_clear : ByteArray := prog_47_method_40_code
def yJ2_clear : MethodName := ⟨RJ2, "clear", "()V"⟩
abbrev cJ2_remove : ByteArray := prog_47_method_38_code
def yJ2_remove : MethodName := ⟨RJ2, "remove", "(Ljava/lang/Object;)Z"⟩
abbrev cJ2_fastRemove : ByteArray := prog_47_method_39_code
def yJ2_fastRemove : MethodName := ⟨RJ2, "fastRemove", "([Ljava/lang/Object;I)V"⟩
abbrev cJ2_iterator : ByteArray := prog_47_method_55_code
def yJ2_iterator : MethodName := ⟨RJ2, "iterator", "()Ljava/util/Iterator;"⟩
def RJ3 : String := "jdk/internal/util/ArraysSupport"
abbrev cJ3_newLength : ByteArray := prog_56_method_27_code
def yJ3_newLength : MethodName := ⟨RJ3, "newLength", "(III)I"⟩
abbrev cJ3_hugeLength : ByteArray := prog_56_method_28_code
def yJ3_hugeLength : MethodName := ⟨RJ3, "hugeLength", "(II)I"⟩
def RJ4 : String := "java/lang/Math"
abbrev cJ4_max : ByteArray := prog_42_method_65_code
def yJ4_max : MethodName := ⟨RJ4, "max", "(II)I"⟩
abbrev cJ4_min : ByteArray := prog_42_method_69_code
def yJ4_min : MethodName := ⟨RJ4, "min", "(II)I"⟩
abbrev cJ4_min_2 : ByteArray := prog_42_method_70_code
def yJ4_min_2 : MethodName := ⟨RJ4, "min", "(JJ)J"⟩
abbrev cJ4_max_2 : ByteArray := prog_42_method_66_code
def yJ4_max_2 : MethodName := ⟨RJ4, "max", "(JJ)J"⟩
def RJ5 : String := "java/util/Arrays"
abbrev cJ5_copyOf : ByteArray := prog_49_method_119_code
def yJ5_copyOf : MethodName := ⟨RJ5, "copyOf", "([Ljava/lang/Object;I)[Ljava/lang/Object;"⟩
abbrev cJ5_copyOf_2 : ByteArray := prog_49_method_120_code
def yJ5_copyOf_2 : MethodName := ⟨RJ5, "copyOf", "([Ljava/lang/Object;ILjava/lang/Class;)[Ljava/lang/Object;"⟩
def RJ6 : String := "java/util/Objects"
abbrev cJ6_checkIndex : ByteArray := prog_53_method_17_code
def yJ6_checkIndex : MethodName := ⟨RJ6, "checkIndex", "(II)I"⟩
def RJ7 : String := "jdk/internal/util/Preconditions"
abbrev cJ7_checkIndex : ByteArray := prog_57_method_11_code
def yJ7_checkIndex : MethodName := ⟨RJ7, "checkIndex", "(IILjava/util/function/BiFunction;)I"⟩
def RJ8 : String := "java/lang/Enum"
abbrev cJ8_equals : ByteArray := prog_38_method_5_code
def yJ8_equals : MethodName := ⟨RJ8, "equals", "(Ljava/lang/Object;)Z"⟩
def RJ9 : String := "java/lang/Throwable"
def TJ9 : u_T := fun k => match k with
  | 0 => ("java/lang/Throwable", "cause", "Ljava/lang/Throwable;", false)
  | 1 => ("java/lang/Throwable", "stackTrace", "[Ljava/lang/StackTraceElement;", false)
  | 2 => ("java/lang/Throwable", "suppressedExceptions", "Ljava/util/List;", false)
  | 3 => ("java/lang/Throwable", "detailMessage", "Ljava/lang/String;", false)
  | _ => ("java/lang/Throwable", "backtrace", "Ljava/lang/Object;", false)
def tyJ9 : Nat → FieldType := fun k => match k with
  | 0 => .object "java/lang/Throwable"
  | 1 => .array (.object "java/lang/StackTraceElement")
  | 2 => .object "java/util/List"
  | 3 => .object "java/lang/String"
  | _ => .object "java/lang/Object"
abbrev wsJ90 : List Cond := u_ws RJ9 TJ9 5
abbrev cJ9_init : ByteArray := prog_44_method_1_code
def yJ9_init : MethodName := ⟨RJ9, "<init>", "()V"⟩
abbrev cJ9_init_2 : ByteArray := prog_44_method_5_code
def yJ9_init_2 : MethodName := ⟨RJ9, "<init>", "(Ljava/lang/String;Ljava/lang/Throwable;ZZ)V"⟩
abbrev cL_law : ByteArray := code
def RX0 : String := "BranchCells"
def TX0 : u_T := fun k => match k with
  | 0 => ("BranchCells", "doers", "[LBranchCells$Doer;", true)
  | 1 => ("BranchCells", "blocks", "Ljava/util/List;", true)
  | 2 => ("BranchCells", "mergers", "Ljava/util/List;", true)
  | 3 => ("BranchCells", "kinds", "[I", true)
  | 4 => ("BranchCells", "isRun", "Z", false)
  | 5 => ("BranchCells", "tasks", "Ljava/util/List;", true)
  | 6 => ("BranchCells", "segments", "Ljava/util/List;", true)
  | 7 => ("BranchCells", "segmentsEver", "I", false)
  | 8 => ("BranchCells", "stepsAll", "I", false)
  | _ => ("BranchCells", "merged", "I", false)
def tyX0 : Nat → FieldType := fun k => match k with
  | 0 => .array (.object "BranchCells$Doer")
  | 1 => .object "java/util/List"
  | 2 => .object "java/util/List"
  | 3 => .array .int
  | 4 => .boolean
  | 5 => .object "java/util/List"
  | 6 => .object "java/util/List"
  | 7 => .int
  | 8 => .int
  | _ => .int
abbrev wsX00 : List Cond := u_ws RX0 TX0 10
abbrev cX0_init : ByteArray := prog_1_method_7_code
def yX0_init : MethodName := ⟨RX0, "<init>", "()V"⟩
abbrev cX0_makesCells : ByteArray := prog_1_method_3_code
def yX0_makesCells : MethodName := ⟨RX0, "makesCells", "()V"⟩
abbrev cX0_makesReckoners : ByteArray := prog_1_method_4_code
def yX0_makesReckoners : MethodName := ⟨RX0, "makesReckoners", "()V"⟩
abbrev cX0_makesWays : ByteArray := prog_1_method_5_code
def yX0_makesWays : MethodName := ⟨RX0, "makesWays", "()V"⟩
abbrev cX0_makesTasks : ByteArray := prog_1_method_6_code
def yX0_makesTasks : MethodName := ⟨RX0, "makesTasks", "()V"⟩
abbrev cX0_block : ByteArray := prog_1_method_13_code
def yX0_block : MethodName := ⟨RX0, "block", "()I"⟩
abbrev cX0_code : ByteArray := prog_1_method_15_code
def yX0_code : MethodName := ⟨RX0, "code", "(III)I"⟩
abbrev cX0_in : ByteArray := prog_1_method_1_code
def yX0_in : MethodName := ⟨RX0, "in", "(JJJ)Z"⟩
abbrev cX0_mayHave : ByteArray := prog_1_method_14_code
def yX0_mayHave : MethodName := ⟨RX0, "mayHave", "(II)Z"⟩
abbrev cX0_merger : ByteArray := prog_1_method_16_code
def yX0_merger : MethodName := ⟨RX0, "merger", "()I"⟩
abbrev cX0_act : ByteArray := prog_1_method_18_code
def yX0_act : MethodName := ⟨RX0, "act", "(III)I"⟩
abbrev cX0_isMerger : ByteArray := prog_1_method_17_code
def yX0_isMerger : MethodName := ⟨RX0, "isMerger", "(I)Z"⟩
abbrev cX0_tells : ByteArray := prog_1_method_19_code
def yX0_tells : MethodName := ⟨RX0, "tells", "(IJJJ)J"⟩
abbrev cX0_isRight : ByteArray := prog_1_method_20_code
def yX0_isRight : MethodName := ⟨RX0, "isRight", "(I)I"⟩
abbrev cX0_kind : ByteArray := prog_1_method_21_code
def yX0_kind : MethodName := ⟨RX0, "kind", "(II)I"⟩
abbrev cX0_start : ByteArray := prog_1_method_23_code
def yX0_start : MethodName := ⟨RX0, "start", "(J)I"⟩
abbrev cX0_clears : ByteArray := prog_1_method_22_code
def yX0_clears : MethodName := ⟨RX0, "clears", "()V"⟩
abbrev cX0_segment : ByteArray := prog_1_method_8_code
def yX0_segment : MethodName := ⟨RX0, "segment", "(LBranchCells$Segment;)LBranchCells$Segment;"⟩
abbrev cX0_begins : ByteArray := prog_1_method_9_code
def yX0_begins : MethodName := ⟨RX0, "begins", "(LBranchCells$Task;IILBranchCells$Segment;LBranchCells$Segment;JLBranchCells$Task;)LBranchCells$Task;"⟩
abbrev cX0_stop : ByteArray := prog_1_method_24_code
def yX0_stop : MethodName := ⟨RX0, "stop", "()I"⟩
abbrev cX0_step : ByteArray := prog_1_method_27_code
def yX0_step : MethodName := ⟨RX0, "step", "(II)I"⟩
abbrev cX0_task : ByteArray := prog_1_method_26_code
def yX0_task : MethodName := ⟨RX0, "task", "(I)LBranchCells$Task;"⟩
abbrev cX0_does : ByteArray := prog_1_method_25_code
def yX0_does : MethodName := ⟨RX0, "does", "(LBranchCells$Task;)V"⟩
abbrev cX0_forks : ByteArray := prog_1_method_10_code
def yX0_forks : MethodName := ⟨RX0, "forks", "(LBranchCells$Task;IJLBranchCells$Task;)LBranchCells$Task;"⟩
abbrev cX0_joins : ByteArray := prog_1_method_12_code
def yX0_joins : MethodName := ⟨RX0, "joins", "(LBranchCells$Task;LBranchCells$Task;)V"⟩
abbrev cX0_mergedValue : ByteArray := prog_1_method_11_code
def yX0_mergedValue : MethodName := ⟨RX0, "mergedValue", "(IJJJ)J"⟩
abbrev cX0_cell : ByteArray := prog_1_method_2_code
def yX0_cell : MethodName := ⟨RX0, "cell", "(J)I"⟩
abbrev cX0_ready : ByteArray := prog_1_method_28_code
def yX0_ready : MethodName := ⟨RX0, "ready", "(I)I"⟩
abbrev cX0_deep : ByteArray := prog_1_method_30_code
def yX0_deep : MethodName := ⟨RX0, "deep", "(I)I"⟩
abbrev cX0_readyMany : ByteArray := prog_1_method_29_code
def yX0_readyMany : MethodName := ⟨RX0, "readyMany", "()I"⟩
abbrev cX0_drawn : ByteArray := prog_1_method_31_code
def yX0_drawn : MethodName := ⟨RX0, "drawn", "(II)I"⟩
abbrev cX0_about : ByteArray := prog_1_method_34_code
def yX0_about : MethodName := ⟨RX0, "about", "(II)I"⟩
abbrev cX0_aboutOf : ByteArray := prog_1_method_33_code
def yX0_aboutOf : MethodName := ⟨RX0, "aboutOf", "(LBranchCells$Task;I)I"⟩
abbrev cX0_numberOf : ByteArray := prog_1_method_32_code
def yX0_numberOf : MethodName := ⟨RX0, "numberOf", "(LBranchCells$Task;)I"⟩
abbrev cX0_result : ByteArray := prog_1_method_35_code
def yX0_result : MethodName := ⟨RX0, "result", "(I)J"⟩
abbrev cX0_out : ByteArray := prog_1_method_36_code
def yX0_out : MethodName := ⟨RX0, "out", "(II)J"⟩
abbrev cX0_read : ByteArray := prog_1_method_37_code
def yX0_read : MethodName := ⟨RX0, "read", "(II)J"⟩
abbrev cX0_mark : ByteArray := prog_1_method_38_code
def yX0_mark : MethodName := ⟨RX0, "mark", "(I)J"⟩
abbrev cX0_gather : ByteArray := prog_1_method_42_code
def yX0_gather : MethodName := ⟨RX0, "gather", "()I"⟩
abbrev cX0_versions : ByteArray := prog_1_method_40_code
def yX0_versions : MethodName := ⟨RX0, "versions", "()I"⟩
abbrev cX0_looks : ByteArray := prog_1_method_39_code
def yX0_looks : MethodName := ⟨RX0, "looks", "()V"⟩
abbrev cX0_first : ByteArray := prog_1_method_41_code
def yX0_first : MethodName := ⟨RX0, "first", "()LBranchCells$Segment;"⟩
abbrev cX0_version : ByteArray := prog_1_method_44_code
def yX0_version : MethodName := ⟨RX0, "version", "(II)J"⟩
abbrev cX0_held : ByteArray := prog_1_method_43_code
def yX0_held : MethodName := ⟨RX0, "held", "(I)LBranchCells$Segment;"⟩
abbrev cX0_below : ByteArray := prog_1_method_45_code
def yX0_below : MethodName := ⟨RX0, "below", "(I)I"⟩
abbrev cX0_count : ByteArray := prog_1_method_46_code
def yX0_count : MethodName := ⟨RX0, "count", "(I)I"⟩
abbrev cX0_digest : ByteArray := prog_1_method_47_code
def yX0_digest : MethodName := ⟨RX0, "digest", "()J"⟩
def RX1 : String := "BranchCells$Doer"
abbrev cX1_init : ByteArray := prog_25_method_1_code
def yX1_init : MethodName := ⟨RX1, "<init>", "(LBranchCells;I)V"⟩
abbrev cX1_takes : ByteArray := prog_25_method_2_code
def yX1_takes : MethodName := ⟨RX1, "takes", "()I"⟩
def RX10 : String := "BranchCells$8"
def TX10 : u_T := fun k => match k with
  | 0 => ("BranchCells$Reckoner", "this$0", "LBranchCells;", true)
  | 1 => ("BranchCells$Doer", "takes", "I", true)
  | 2 => ("BranchCells$Doer", "this$0", "LBranchCells;", true)
  | _ => ("BranchCells$8", "this$0", "LBranchCells;", true)
def tyX10 : Nat → FieldType := fun k => match k with
  | 0 => .object "BranchCells"
  | 1 => .int
  | 2 => .object "BranchCells"
  | _ => .object "BranchCells"
abbrev wsX100 : List Cond := u_ws RX10 TX10 4
abbrev cX10_init : ByteArray := prog_22_method_1_code
def yX10_init : MethodName := ⟨RX10, "<init>", "(LBranchCells;)V"⟩
abbrev cX10_of : ByteArray := prog_22_method_2_code
def yX10_of : MethodName := ⟨RX10, "of", "(JJ)J"⟩
def RX11 : String := "BranchCells$9"
def TX11 : u_T := fun k => match k with
  | 0 => ("BranchCells$Reckoner", "this$0", "LBranchCells;", true)
  | 1 => ("BranchCells$Doer", "takes", "I", true)
  | 2 => ("BranchCells$Doer", "this$0", "LBranchCells;", true)
  | _ => ("BranchCells$9", "this$0", "LBranchCells;", true)
def tyX11 : Nat → FieldType := fun k => match k with
  | 0 => .object "BranchCells"
  | 1 => .int
  | 2 => .object "BranchCells"
  | _ => .object "BranchCells"
abbrev wsX110 : List Cond := u_ws RX11 TX11 4
abbrev cX11_init : ByteArray := prog_23_method_1_code
def yX11_init : MethodName := ⟨RX11, "<init>", "(LBranchCells;)V"⟩
abbrev cX11_of : ByteArray := prog_23_method_2_code
def yX11_of : MethodName := ⟨RX11, "of", "(JJ)J"⟩
def RX12 : String := "BranchCells$10"
def TX12 : u_T := fun k => match k with
  | 0 => ("BranchCells$Reckoner", "this$0", "LBranchCells;", true)
  | 1 => ("BranchCells$Doer", "takes", "I", true)
  | 2 => ("BranchCells$Doer", "this$0", "LBranchCells;", true)
  | _ => ("BranchCells$10", "this$0", "LBranchCells;", true)
def tyX12 : Nat → FieldType := fun k => match k with
  | 0 => .object "BranchCells"
  | 1 => .int
  | 2 => .object "BranchCells"
  | _ => .object "BranchCells"
abbrev wsX120 : List Cond := u_ws RX12 TX12 4
abbrev cX12_init : ByteArray := prog_3_method_1_code
def yX12_init : MethodName := ⟨RX12, "<init>", "(LBranchCells;)V"⟩
abbrev cX12_of : ByteArray := prog_3_method_2_code
def yX12_of : MethodName := ⟨RX12, "of", "(JJ)J"⟩
def RX13 : String := "BranchCells$11"
def TX13 : u_T := fun k => match k with
  | 0 => ("BranchCells$Reckoner", "this$0", "LBranchCells;", true)
  | 1 => ("BranchCells$Doer", "takes", "I", true)
  | 2 => ("BranchCells$Doer", "this$0", "LBranchCells;", true)
  | _ => ("BranchCells$11", "this$0", "LBranchCells;", true)
def tyX13 : Nat → FieldType := fun k => match k with
  | 0 => .object "BranchCells"
  | 1 => .int
  | 2 => .object "BranchCells"
  | _ => .object "BranchCells"
abbrev wsX130 : List Cond := u_ws RX13 TX13 4
abbrev cX13_init : ByteArray := prog_4_method_1_code
def yX13_init : MethodName := ⟨RX13, "<init>", "(LBranchCells;)V"⟩
abbrev cX13_of : ByteArray := prog_4_method_2_code
def yX13_of : MethodName := ⟨RX13, "of", "(JJ)J"⟩
def RX14 : String := "BranchCells$12"
def TX14 : u_T := fun k => match k with
  | 0 => ("BranchCells$Reckoner", "this$0", "LBranchCells;", true)
  | 1 => ("BranchCells$Doer", "takes", "I", true)
  | 2 => ("BranchCells$Doer", "this$0", "LBranchCells;", true)
  | _ => ("BranchCells$12", "this$0", "LBranchCells;", true)
def tyX14 : Nat → FieldType := fun k => match k with
  | 0 => .object "BranchCells"
  | 1 => .int
  | 2 => .object "BranchCells"
  | _ => .object "BranchCells"
abbrev wsX140 : List Cond := u_ws RX14 TX14 4
abbrev cX14_init : ByteArray := prog_5_method_1_code
def yX14_init : MethodName := ⟨RX14, "<init>", "(LBranchCells;)V"⟩
abbrev cX14_of : ByteArray := prog_5_method_2_code
def yX14_of : MethodName := ⟨RX14, "of", "(JJ)J"⟩
def RX15 : String := "BranchCells$13"
def TX15 : u_T := fun k => match k with
  | 0 => ("BranchCells$Doer", "takes", "I", true)
  | 1 => ("BranchCells$Doer", "this$0", "LBranchCells;", true)
  | _ => ("BranchCells$13", "this$0", "LBranchCells;", true)
def tyX15 : Nat → FieldType := fun k => match k with
  | 0 => .int
  | 1 => .object "BranchCells"
  | _ => .object "BranchCells"
abbrev wsX150 : List Cond := u_ws RX15 TX15 3
abbrev cX15_init : ByteArray := prog_6_method_1_code
def yX15_init : MethodName := ⟨RX15, "<init>", "(LBranchCells;I)V"⟩
abbrev cX15_does : ByteArray := prog_6_method_2_code
def yX15_does : MethodName := ⟨RX15, "does", "(LBranchCells$Task;I)V"⟩
def RX16 : String := "BranchCells$14"
def TX16 : u_T := fun k => match k with
  | 0 => ("BranchCells$Doer", "takes", "I", true)
  | 1 => ("BranchCells$Doer", "this$0", "LBranchCells;", true)
  | _ => ("BranchCells$14", "this$0", "LBranchCells;", true)
def tyX16 : Nat → FieldType := fun k => match k with
  | 0 => .int
  | 1 => .object "BranchCells"
  | _ => .object "BranchCells"
abbrev wsX160 : List Cond := u_ws RX16 TX16 3
abbrev cX16_init : ByteArray := prog_7_method_1_code
def yX16_init : MethodName := ⟨RX16, "<init>", "(LBranchCells;I)V"⟩
abbrev cX16_does : ByteArray := prog_7_method_2_code
def yX16_does : MethodName := ⟨RX16, "does", "(LBranchCells$Task;I)V"⟩
def RX17 : String := "BranchCells$15"
def TX17 : u_T := fun k => match k with
  | 0 => ("BranchCells$Doer", "takes", "I", true)
  | 1 => ("BranchCells$Doer", "this$0", "LBranchCells;", true)
  | _ => ("BranchCells$15", "this$0", "LBranchCells;", true)
def tyX17 : Nat → FieldType := fun k => match k with
  | 0 => .int
  | 1 => .object "BranchCells"
  | _ => .object "BranchCells"
abbrev wsX170 : List Cond := u_ws RX17 TX17 3
abbrev cX17_init : ByteArray := prog_8_method_1_code
def yX17_init : MethodName := ⟨RX17, "<init>", "(LBranchCells;I)V"⟩
abbrev cX17_does : ByteArray := prog_8_method_2_code
def yX17_does : MethodName := ⟨RX17, "does", "(LBranchCells$Task;I)V"⟩
def RX18 : String := "BranchCells$16"
def TX18 : u_T := fun k => match k with
  | 0 => ("BranchCells$Doer", "takes", "I", true)
  | 1 => ("BranchCells$Doer", "this$0", "LBranchCells;", true)
  | _ => ("BranchCells$16", "this$0", "LBranchCells;", true)
def tyX18 : Nat → FieldType := fun k => match k with
  | 0 => .int
  | 1 => .object "BranchCells"
  | _ => .object "BranchCells"
abbrev wsX180 : List Cond := u_ws RX18 TX18 3
abbrev cX18_init : ByteArray := prog_9_method_1_code
def yX18_init : MethodName := ⟨RX18, "<init>", "(LBranchCells;I)V"⟩
abbrev cX18_does : ByteArray := prog_9_method_2_code
def yX18_does : MethodName := ⟨RX18, "does", "(LBranchCells$Task;I)V"⟩
def RX19 : String := "BranchCells$17"
def TX19 : u_T := fun k => match k with
  | 0 => ("BranchCells$Doer", "takes", "I", true)
  | 1 => ("BranchCells$Doer", "this$0", "LBranchCells;", true)
  | _ => ("BranchCells$17", "this$0", "LBranchCells;", true)
def tyX19 : Nat → FieldType := fun k => match k with
  | 0 => .int
  | 1 => .object "BranchCells"
  | _ => .object "BranchCells"
abbrev wsX190 : List Cond := u_ws RX19 TX19 3
abbrev cX19_init : ByteArray := prog_10_method_1_code
def yX19_init : MethodName := ⟨RX19, "<init>", "(LBranchCells;I)V"⟩
abbrev cX19_does : ByteArray := prog_10_method_2_code
def yX19_does : MethodName := ⟨RX19, "does", "(LBranchCells$Task;I)V"⟩
def RX2 : String := "BranchCells$1"
def TX2 : u_T := fun k => match k with
  | 0 => ("BranchCells$Doer", "takes", "I", true)
  | 1 => ("BranchCells$Doer", "this$0", "LBranchCells;", true)
  | _ => ("BranchCells$1", "this$0", "LBranchCells;", true)
def tyX2 : Nat → FieldType := fun k => match k with
  | 0 => .int
  | 1 => .object "BranchCells"
  | _ => .object "BranchCells"
abbrev wsX20 : List Cond := u_ws RX2 TX2 3
abbrev cX2_init : ByteArray := prog_2_method_1_code
def yX2_init : MethodName := ⟨RX2, "<init>", "(LBranchCells;I)V"⟩
abbrev cX2_does : ByteArray := prog_2_method_2_code
def yX2_does : MethodName := ⟨RX2, "does", "(LBranchCells$Task;I)V"⟩
def RX20 : String := "BranchCells$18"
def TX20 : u_T := fun k => match k with
  | 0 => ("BranchCells$Doer", "takes", "I", true)
  | 1 => ("BranchCells$Doer", "this$0", "LBranchCells;", true)
  | _ => ("BranchCells$18", "this$0", "LBranchCells;", true)
def tyX20 : Nat → FieldType := fun k => match k with
  | 0 => .int
  | 1 => .object "BranchCells"
  | _ => .object "BranchCells"
abbrev wsX200 : List Cond := u_ws RX20 TX20 3
abbrev cX20_init : ByteArray := prog_11_method_1_code
def yX20_init : MethodName := ⟨RX20, "<init>", "(LBranchCells;I)V"⟩
abbrev cX20_does : ByteArray := prog_11_method_2_code
def yX20_does : MethodName := ⟨RX20, "does", "(LBranchCells$Task;I)V"⟩
def RX21 : String := "BranchCells$19"
def TX21 : u_T := fun k => match k with
  | 0 => ("BranchCells$Doer", "takes", "I", true)
  | 1 => ("BranchCells$Doer", "this$0", "LBranchCells;", true)
  | _ => ("BranchCells$19", "this$0", "LBranchCells;", true)
def tyX21 : Nat → FieldType := fun k => match k with
  | 0 => .int
  | 1 => .object "BranchCells"
  | _ => .object "BranchCells"
abbrev wsX210 : List Cond := u_ws RX21 TX21 3
abbrev cX21_init : ByteArray := prog_12_method_1_code
def yX21_init : MethodName := ⟨RX21, "<init>", "(LBranchCells;I)V"⟩
abbrev cX21_does : ByteArray := prog_12_method_2_code
def yX21_does : MethodName := ⟨RX21, "does", "(LBranchCells$Task;I)V"⟩
def RX22 : String := "BranchCells$20"
def TX22 : u_T := fun k => match k with
  | 0 => ("BranchCells$Doer", "takes", "I", true)
  | 1 => ("BranchCells$Doer", "this$0", "LBranchCells;", true)
  | _ => ("BranchCells$20", "this$0", "LBranchCells;", true)
def tyX22 : Nat → FieldType := fun k => match k with
  | 0 => .int
  | 1 => .object "BranchCells"
  | _ => .object "BranchCells"
abbrev wsX220 : List Cond := u_ws RX22 TX22 3
abbrev cX22_init : ByteArray := prog_14_method_1_code
def yX22_init : MethodName := ⟨RX22, "<init>", "(LBranchCells;I)V"⟩
abbrev cX22_does : ByteArray := prog_14_method_2_code
def yX22_does : MethodName := ⟨RX22, "does", "(LBranchCells$Task;I)V"⟩
def RX23 : String := "BranchCells$21"
def TX23 : u_T := fun k => match k with
  | 0 => ("BranchCells$Doer", "takes", "I", true)
  | 1 => ("BranchCells$Doer", "this$0", "LBranchCells;", true)
  | _ => ("BranchCells$21", "this$0", "LBranchCells;", true)
def tyX23 : Nat → FieldType := fun k => match k with
  | 0 => .int
  | 1 => .object "BranchCells"
  | _ => .object "BranchCells"
abbrev wsX230 : List Cond := u_ws RX23 TX23 3
abbrev cX23_init : ByteArray := prog_15_method_1_code
def yX23_init : MethodName := ⟨RX23, "<init>", "(LBranchCells;I)V"⟩
abbrev cX23_does : ByteArray := prog_15_method_2_code
def yX23_does : MethodName := ⟨RX23, "does", "(LBranchCells$Task;I)V"⟩
def RX24 : String := "BranchCells$22"
def TX24 : u_T := fun k => match k with
  | 0 => ("BranchCells$Doer", "takes", "I", true)
  | 1 => ("BranchCells$Doer", "this$0", "LBranchCells;", true)
  | _ => ("BranchCells$22", "this$0", "LBranchCells;", true)
def tyX24 : Nat → FieldType := fun k => match k with
  | 0 => .int
  | 1 => .object "BranchCells"
  | _ => .object "BranchCells"
abbrev wsX240 : List Cond := u_ws RX24 TX24 3
abbrev cX24_init : ByteArray := prog_16_method_1_code
def yX24_init : MethodName := ⟨RX24, "<init>", "(LBranchCells;I)V"⟩
abbrev cX24_does : ByteArray := prog_16_method_2_code
def yX24_does : MethodName := ⟨RX24, "does", "(LBranchCells$Task;I)V"⟩
def RX25 : String := "BranchCellsModel"
def TX25 : u_T := fun k => match k with
  | 0 => ("BranchCellsModel", "blocks", "I", false)
  | 1 => ("BranchCellsModel", "codeMany", "[I", true)
  | 2 => ("BranchCellsModel", "codeOp", "[I", true)
  | 3 => ("BranchCellsModel", "codeA", "[I", true)
  | 4 => ("BranchCellsModel", "mergers", "I", false)
  | 5 => ("BranchCellsModel", "actMany", "[I", true)
  | 6 => ("BranchCellsModel", "actOp", "[I", true)
  | 7 => ("BranchCellsModel", "actA", "[I", true)
  | 8 => ("BranchCellsModel", "kinds", "[I", true)
  | 9 => ("BranchCellsModel", "merge", "[J", true)
  | 10 => ("BranchCellsModel", "runs", "Z", false)
  | 11 => ("BranchCellsModel", "tasks", "I", false)
  | 12 => ("BranchCellsModel", "block", "[I", true)
  | 13 => ("BranchCellsModel", "place", "[I", true)
  | 14 => ("BranchCellsModel", "state", "[I", true)
  | 15 => ("BranchCellsModel", "why", "[I", true)
  | 16 => ("BranchCellsModel", "steps", "[I", true)
  | 17 => ("BranchCellsModel", "forks", "[I", true)
  | 18 => ("BranchCellsModel", "level", "[I", true)
  | 19 => ("BranchCellsModel", "parent", "[I", true)
  | 20 => ("BranchCellsModel", "nth", "[I", true)
  | 21 => ("BranchCellsModel", "present", "[I", true)
  | 22 => ("BranchCellsModel", "root", "[I", true)
  | 23 => ("BranchCellsModel", "mark", "[J", true)
  | 24 => ("BranchCellsModel", "hasResult", "[Z", true)
  | 25 => ("BranchCellsModel", "result", "[J", true)
  | 26 => ("BranchCellsModel", "resultIsHandle", "[Z", true)
  | 27 => ("BranchCellsModel", "slot", "[J", true)
  | 28 => ("BranchCellsModel", "slotIsHandle", "[Z", true)
  | 29 => ("BranchCellsModel", "pile", "[J", true)
  | 30 => ("BranchCellsModel", "pileIsHandle", "[Z", true)
  | 31 => ("BranchCellsModel", "piled", "[I", true)
  | 32 => ("BranchCellsModel", "out", "[J", true)
  | 33 => ("BranchCellsModel", "outs", "[I", true)
  | 34 => ("BranchCellsModel", "allSteps", "I", false)
  | 35 => ("BranchCellsModel", "merged", "I", false)
  | 36 => ("BranchCellsModel", "segments", "I", false)
  | 37 => ("BranchCellsModel", "under", "[I", true)
  | 38 => ("BranchCellsModel", "hasVersion", "[Z", true)
  | 39 => ("BranchCellsModel", "version", "[J", true)
  | _ => ("BranchCellsModel", "held", "[Z", true)
def tyX25 : Nat → FieldType := fun k => match k with
  | 0 => .int
  | 1 => .array .int
  | 2 => .array .int
  | 3 => .array .int
  | 4 => .int
  | 5 => .array .int
  | 6 => .array .int
  | 7 => .array .int
  | 8 => .array .int
  | 9 => .array .long
  | 10 => .boolean
  | 11 => .int
  | 12 => .array .int
  | 13 => .array .int
  | 14 => .array .int
  | 15 => .array .int
  | 16 => .array .int
  | 17 => .array .int
  | 18 => .array .int
  | 19 => .array .int
  | 20 => .array .int
  | 21 => .array .int
  | 22 => .array .int
  | 23 => .array .long
  | 24 => .array .boolean
  | 25 => .array .long
  | 26 => .array .boolean
  | 27 => .array .long
  | 28 => .array .boolean
  | 29 => .array .long
  | 30 => .array .boolean
  | 31 => .array .int
  | 32 => .array .long
  | 33 => .array .int
  | 34 => .int
  | 35 => .int
  | 36 => .int
  | 37 => .array .int
  | 38 => .array .boolean
  | 39 => .array .long
  | _ => .array .boolean
abbrev wsX250 : List Cond := u_ws RX25 TX25 41
abbrev cX25_init : ByteArray := prog_35_method_1_code
def yX25_init : MethodName := ⟨RX25, "<init>", "()V"⟩
abbrev cX25_block : ByteArray := prog_35_method_4_code
def yX25_block : MethodName := ⟨RX25, "block", "()I"⟩
abbrev cX25_code : ByteArray := prog_35_method_5_code
def yX25_code : MethodName := ⟨RX25, "code", "(III)I"⟩
abbrev cX25_in : ByteArray := prog_35_method_3_code
def yX25_in : MethodName := ⟨RX25, "in", "(JJJ)Z"⟩
abbrev cX25_merger : ByteArray := prog_35_method_6_code
def yX25_merger : MethodName := ⟨RX25, "merger", "()I"⟩
abbrev cX25_act : ByteArray := prog_35_method_7_code
def yX25_act : MethodName := ⟨RX25, "act", "(III)I"⟩
abbrev cX25_isRight : ByteArray := prog_35_method_9_code
def yX25_isRight : MethodName := ⟨RX25, "isRight", "(I)I"⟩
abbrev cX25_right : ByteArray := prog_35_method_8_code
def yX25_right : MethodName := ⟨RX25, "right", "(I)Z"⟩
abbrev cX25_tells : ByteArray := prog_35_method_12_code
def yX25_tells : MethodName := ⟨RX25, "tells", "(IJJJ)J"⟩
abbrev cX25_told : ByteArray := prog_35_method_11_code
def yX25_told : MethodName := ⟨RX25, "told", "(IJJJ)J"⟩
abbrev cX25_ofTwo : ByteArray := prog_35_method_10_code
def yX25_ofTwo : MethodName := ⟨RX25, "ofTwo", "(IJJ)J"⟩
abbrev cX25_kind : ByteArray := prog_35_method_13_code
def yX25_kind : MethodName := ⟨RX25, "kind", "(II)I"⟩
abbrev cX25_start : ByteArray := prog_35_method_20_code
def yX25_start : MethodName := ⟨RX25, "start", "(J)I"⟩
abbrev cX25_newSegment : ByteArray := prog_35_method_14_code
def yX25_newSegment : MethodName := ⟨RX25, "newSegment", "(I)I"⟩
abbrev cX25_newTask : ByteArray := prog_35_method_17_code
def yX25_newTask : MethodName := ⟨RX25, "newTask", "(IIJZII)V"⟩
abbrev cX25_endsBehind : ByteArray := prog_35_method_19_code
def yX25_endsBehind : MethodName := ⟨RX25, "endsBehind", "(I)V"⟩
abbrev cX25_ends : ByteArray := prog_35_method_18_code
def yX25_ends : MethodName := ⟨RX25, "ends", "(IJZ)V"⟩
abbrev cX25_stop : ByteArray := prog_35_method_21_code
def yX25_stop : MethodName := ⟨RX25, "stop", "()I"⟩
abbrev cX25_step : ByteArray := prog_35_method_35_code
def yX25_step : MethodName := ⟨RX25, "step", "(II)I"⟩
abbrev cX25_isTask : ByteArray := prog_35_method_34_code
def yX25_isTask : MethodName := ⟨RX25, "isTask", "(I)Z"⟩
abbrev cX25_standing : ByteArray := prog_35_method_23_code
def yX25_standing : MethodName := ⟨RX25, "standing", "(I)I"⟩
abbrev cX25_waitsFor : ByteArray := prog_35_method_22_code
def yX25_waitsFor : MethodName := ⟨RX25, "waitsFor", "(I)I"⟩
abbrev cX25_oneStep : ByteArray := prog_35_method_27_code
def yX25_oneStep : MethodName := ⟨RX25, "oneStep", "(I)V"⟩
abbrev cX25_fails : ByteArray := prog_35_method_24_code
def yX25_fails : MethodName := ⟨RX25, "fails", "(II)V"⟩
abbrev cX25_taken : ByteArray := prog_35_method_26_code
def yX25_taken : MethodName := ⟨RX25, "taken", "(I)I"⟩
abbrev cX25_faultOf : ByteArray := prog_35_method_28_code
def yX25_faultOf : MethodName := ⟨RX25, "faultOf", "(IIIJJ)I"⟩
abbrev cX25_does : ByteArray := prog_35_method_29_code
def yX25_does : MethodName := ⟨RX25, "does", "(IIIJZJ)V"⟩
abbrev cX25_push : ByteArray := prog_35_method_25_code
def yX25_push : MethodName := ⟨RX25, "push", "(IJZ)V"⟩
abbrev cX25_readFrom : ByteArray := prog_35_method_15_code
def yX25_readFrom : MethodName := ⟨RX25, "readFrom", "(II)J"⟩
abbrev cX25_write : ByteArray := prog_35_method_16_code
def yX25_write : MethodName := ⟨RX25, "write", "(IIJ)V"⟩
abbrev cX25_forkAt : ByteArray := prog_35_method_31_code
def yX25_forkAt : MethodName := ⟨RX25, "forkAt", "(IIJZ)V"⟩
abbrev cX25_joins : ByteArray := prog_35_method_32_code
def yX25_joins : MethodName := ⟨RX25, "joins", "(II)V"⟩
abbrev cX25_tellOut : ByteArray := prog_35_method_30_code
def yX25_tellOut : MethodName := ⟨RX25, "tellOut", "(IJ)V"⟩
abbrev cX25_mergedOf : ByteArray := prog_35_method_33_code
def yX25_mergedOf : MethodName := ⟨RX25, "mergedOf", "(IJJJ)J"⟩
abbrev cX25_ready : ByteArray := prog_35_method_36_code
def yX25_ready : MethodName := ⟨RX25, "ready", "(I)I"⟩
abbrev cX25_deep : ByteArray := prog_35_method_38_code
def yX25_deep : MethodName := ⟨RX25, "deep", "(I)I"⟩
abbrev cX25_readyMany : ByteArray := prog_35_method_37_code
def yX25_readyMany : MethodName := ⟨RX25, "readyMany", "()I"⟩
abbrev cX25_drawn : ByteArray := prog_35_method_39_code
def yX25_drawn : MethodName := ⟨RX25, "drawn", "(II)I"⟩
abbrev cX25_about : ByteArray := prog_35_method_40_code
def yX25_about : MethodName := ⟨RX25, "about", "(II)I"⟩
abbrev cX25_result : ByteArray := prog_35_method_41_code
def yX25_result : MethodName := ⟨RX25, "result", "(I)J"⟩
abbrev cX25_out : ByteArray := prog_35_method_42_code
def yX25_out : MethodName := ⟨RX25, "out", "(II)J"⟩
abbrev cX25_read : ByteArray := prog_35_method_43_code
def yX25_read : MethodName := ⟨RX25, "read", "(II)J"⟩
abbrev cX25_mark : ByteArray := prog_35_method_44_code
def yX25_mark : MethodName := ⟨RX25, "mark", "(I)J"⟩
abbrev cX25_gather : ByteArray := prog_35_method_48_code
def yX25_gather : MethodName := ⟨RX25, "gather", "()I"⟩
abbrev cX25_versions : ByteArray := prog_35_method_46_code
def yX25_versions : MethodName := ⟨RX25, "versions", "()I"⟩
abbrev cX25_hold : ByteArray := prog_35_method_45_code
def yX25_hold : MethodName := ⟨RX25, "hold", "()V"⟩
abbrev cX25_goesTo : ByteArray := prog_35_method_47_code
def yX25_goesTo : MethodName := ⟨RX25, "goesTo", "(I)I"⟩
abbrev cX25_version : ByteArray := prog_35_method_50_code
def yX25_version : MethodName := ⟨RX25, "version", "(II)J"⟩
abbrev cX25_isHeld : ByteArray := prog_35_method_49_code
def yX25_isHeld : MethodName := ⟨RX25, "isHeld", "(I)Z"⟩
abbrev cX25_below : ByteArray := prog_35_method_51_code
def yX25_below : MethodName := ⟨RX25, "below", "(I)I"⟩
abbrev cX25_count : ByteArray := prog_35_method_52_code
def yX25_count : MethodName := ⟨RX25, "count", "(I)I"⟩
abbrev cX25_digest : ByteArray := prog_35_method_53_code
def yX25_digest : MethodName := ⟨RX25, "digest", "()J"⟩
def RX26 : String := "BranchCells$Block"
def TX26 : u_T := fun k => match k with
  | 0 => ("BranchCells$Block", "ops", "[I", true)
  | 1 => ("BranchCells$Block", "as", "[I", true)
  | _ => ("BranchCells$Block", "size", "I", false)
def tyX26 : Nat → FieldType := fun k => match k with
  | 0 => .array .int
  | 1 => .array .int
  | _ => .int
abbrev wsX260 : List Cond := u_ws RX26 TX26 3
abbrev cX26_init : ByteArray := prog_24_method_1_code
def yX26_init : MethodName := ⟨RX26, "<init>", "()V"⟩
def RX27 : String := "BranchCells$Merger"
def TX27 : u_T := fun k => match k with
  | 0 => ("BranchCells$Merger", "ops", "[I", true)
  | 1 => ("BranchCells$Merger", "as", "[I", true)
  | 2 => ("BranchCells$Merger", "size", "I", false)
  | _ => ("BranchCells$Merger", "pile", "[J", true)
def tyX27 : Nat → FieldType := fun k => match k with
  | 0 => .array .int
  | 1 => .array .int
  | 2 => .int
  | _ => .array .long
abbrev wsX270 : List Cond := u_ws RX27 TX27 4
abbrev cX27_init : ByteArray := prog_27_method_1_code
def yX27_init : MethodName := ⟨RX27, "<init>", "()V"⟩
abbrev cX27_isRight : ByteArray := prog_27_method_2_code
def yX27_isRight : MethodName := ⟨RX27, "isRight", "()Z"⟩
abbrev cX27_tells : ByteArray := prog_27_method_3_code
def yX27_tells : MethodName := ⟨RX27, "tells", "(JJJ)J"⟩
abbrev cX27_worked : ByteArray := prog_27_method_4_code
def yX27_worked : MethodName := ⟨RX27, "worked", "(IJJ)J"⟩
def RX28 : String := "BranchCells$Segment"
def TX28 : u_T := fun k => match k with
  | 0 => ("BranchCells$Segment", "number", "I", true)
  | 1 => ("BranchCells$Segment", "below", "LBranchCells$Segment;", false)
  | 2 => ("BranchCells$Segment", "values", "[J", true)
  | 3 => ("BranchCells$Segment", "has", "I", false)
  | 4 => ("BranchCells$Segment", "held", "Z", false)
  | 5 => ("BranchCells$Segment", "present", "Z", false)
  | 6 => ("BranchCells$Segment", "root", "Z", false)
  | 7 => ("BranchCells$Segment", "above", "I", false)
  | _ => ("BranchCells$Segment", "upper", "LBranchCells$Segment;", false)
def tyX28 : Nat → FieldType := fun k => match k with
  | 0 => .int
  | 1 => .object "BranchCells$Segment"
  | 2 => .array .long
  | 3 => .int
  | 4 => .boolean
  | 5 => .boolean
  | 6 => .boolean
  | 7 => .int
  | _ => .object "BranchCells$Segment"
abbrev wsX280 : List Cond := u_ws RX28 TX28 9
abbrev cX28_init : ByteArray := prog_30_method_1_code
def yX28_init : MethodName := ⟨RX28, "<init>", "(ILBranchCells$Segment;)V"⟩
abbrev cX28_read : ByteArray := prog_30_method_4_code
def yX28_read : MethodName := ⟨RX28, "read", "(LBranchCells$Segment;I)J"⟩
abbrev cX28_has : ByteArray := prog_30_method_2_code
def yX28_has : MethodName := ⟨RX28, "has", "(I)Z"⟩
abbrev cX28_write : ByteArray := prog_30_method_3_code
def yX28_write : MethodName := ⟨RX28, "write", "(IJ)V"⟩
abbrev cX28_forgets : ByteArray := prog_30_method_6_code
def yX28_forgets : MethodName := ⟨RX28, "forgets", "()V"⟩
abbrev cX28_many : ByteArray := prog_30_method_5_code
def yX28_many : MethodName := ⟨RX28, "many", "()I"⟩
def RX29 : String := "BranchCells$Task"
def TX29 : u_T := fun k => match k with
  | 0 => ("BranchCells$Task", "number", "I", true)
  | 1 => ("BranchCells$Task", "by", "LBranchCells$Task;", true)
  | 2 => ("BranchCells$Task", "ordinal", "I", true)
  | 3 => ("BranchCells$Task", "depth", "I", true)
  | 4 => ("BranchCells$Task", "blockNumber", "I", true)
  | 5 => ("BranchCells$Task", "block", "LBranchCells$Block;", true)
  | 6 => ("BranchCells$Task", "place", "I", false)
  | 7 => ("BranchCells$Task", "steps", "I", false)
  | 8 => ("BranchCells$Task", "forks", "I", false)
  | 9 => ("BranchCells$Task", "failedBy", "I", false)
  | 10 => ("BranchCells$Task", "state", "LBranchCells$State;", false)
  | 11 => ("BranchCells$Task", "isGone", "Z", false)
  | 12 => ("BranchCells$Task", "result", "LBranchCells$Values;", true)
  | 13 => ("BranchCells$Task", "mark", "J", false)
  | 14 => ("BranchCells$Task", "slots", "LBranchCells$Values;", true)
  | 15 => ("BranchCells$Task", "pile", "LBranchCells$Pile;", true)
  | 16 => ("BranchCells$Task", "out", "[J", true)
  | 17 => ("BranchCells$Task", "outs", "I", false)
  | 18 => ("BranchCells$Task", "present", "LBranchCells$Segment;", false)
  | _ => ("BranchCells$Task", "root", "LBranchCells$Segment;", true)
def tyX29 : Nat → FieldType := fun k => match k with
  | 0 => .int
  | 1 => .object "BranchCells$Task"
  | 2 => .int
  | 3 => .int
  | 4 => .int
  | 5 => .object "BranchCells$Block"
  | 6 => .int
  | 7 => .int
  | 8 => .int
  | 9 => .int
  | 10 => .object "BranchCells$State"
  | 11 => .boolean
  | 12 => .object "BranchCells$Values"
  | 13 => .long
  | 14 => .object "BranchCells$Values"
  | 15 => .object "BranchCells$Pile"
  | 16 => .array .long
  | 17 => .int
  | 18 => .object "BranchCells$Segment"
  | _ => .object "BranchCells$Segment"
abbrev wsX290 : List Cond := u_ws RX29 TX29 20
abbrev cX29_init : ByteArray := prog_32_method_1_code
def yX29_init : MethodName := ⟨RX29, "<init>", "(ILBranchCells$Task;IILBranchCells$Block;LBranchCells$Segment;LBranchCells$Segment;)V"⟩
abbrev cX29_comes : ByteArray := prog_32_method_10_code
def yX29_comes : MethodName := ⟨RX29, "comes", "()V"⟩
abbrev cX29_ends : ByteArray := prog_32_method_9_code
def yX29_ends : MethodName := ⟨RX29, "ends", "(JLBranchCells$Task;)V"⟩
abbrev cX29_isReady : ByteArray := prog_32_method_4_code
def yX29_isReady : MethodName := ⟨RX29, "isReady", "()Z"⟩
abbrev cX29_isOver : ByteArray := prog_32_method_2_code
def yX29_isOver : MethodName := ⟨RX29, "isOver", "()Z"⟩
abbrev cX29_waitsFor : ByteArray := prog_32_method_3_code
def yX29_waitsFor : MethodName := ⟨RX29, "waitsFor", "()LBranchCells$Task;"⟩
abbrev cX29_put : ByteArray := prog_32_method_7_code
def yX29_put : MethodName := ⟨RX29, "put", "(J)V"⟩
abbrev cX29_number : ByteArray := prog_32_method_6_code
def yX29_number : MethodName := ⟨RX29, "number", "()J"⟩
abbrev cX29_tells : ByteArray := prog_32_method_8_code
def yX29_tells : MethodName := ⟨RX29, "tells", "(J)V"⟩
abbrev cX29_told : ByteArray := prog_32_method_5_code
def yX29_told : MethodName := ⟨RX29, "told", "()I"⟩
def RX3 : String := "BranchCells$2"
def TX3 : u_T := fun k => match k with
  | 0 => ("BranchCells$Doer", "takes", "I", true)
  | 1 => ("BranchCells$Doer", "this$0", "LBranchCells;", true)
  | _ => ("BranchCells$2", "this$0", "LBranchCells;", true)
def tyX3 : Nat → FieldType := fun k => match k with
  | 0 => .int
  | 1 => .object "BranchCells"
  | _ => .object "BranchCells"
abbrev wsX30 : List Cond := u_ws RX3 TX3 3
abbrev cX3_init : ByteArray := prog_13_method_1_code
def yX3_init : MethodName := ⟨RX3, "<init>", "(LBranchCells;I)V"⟩
abbrev cX3_does : ByteArray := prog_13_method_2_code
def yX3_does : MethodName := ⟨RX3, "does", "(LBranchCells$Task;I)V"⟩
def RX30 : String := "BranchCells$Values"
def TX30 : u_T := fun k => match k with
  | 0 => ("BranchCells$Values", "numbers", "[J", true)
  | _ => ("BranchCells$Values", "handles", "[LBranchCells$Task;", true)
def tyX30 : Nat → FieldType := fun k => match k with
  | 0 => .array .long
  | _ => .array (.object "BranchCells$Task")
abbrev wsX300 : List Cond := u_ws RX30 TX30 2
abbrev cX30_init : ByteArray := prog_33_method_1_code
def yX30_init : MethodName := ⟨RX30, "<init>", "(I)V"⟩
abbrev cX30_put : ByteArray := prog_33_method_2_code
def yX30_put : MethodName := ⟨RX30, "put", "(IJLBranchCells$Task;)V"⟩
abbrev cX30_number : ByteArray := prog_33_method_3_code
def yX30_number : MethodName := ⟨RX30, "number", "(I)J"⟩
abbrev cX30_task : ByteArray := prog_33_method_4_code
def yX30_task : MethodName := ⟨RX30, "task", "(I)LBranchCells$Task;"⟩
def RX31 : String := "BranchCells$Pile"
def TX31 : u_T := fun k => match k with
  | 0 => ("BranchCells$Values", "numbers", "[J", true)
  | 1 => ("BranchCells$Values", "handles", "[LBranchCells$Task;", true)
  | _ => ("BranchCells$Pile", "size", "I", false)
def tyX31 : Nat → FieldType := fun k => match k with
  | 0 => .array .long
  | 1 => .array (.object "BranchCells$Task")
  | _ => .int
abbrev wsX310 : List Cond := u_ws RX31 TX31 3
abbrev cX31_init : ByteArray := prog_28_method_1_code
def yX31_init : MethodName := ⟨RX31, "<init>", "()V"⟩
abbrev cX31_top : ByteArray := prog_28_method_4_code
def yX31_top : MethodName := ⟨RX31, "top", "()LBranchCells$Task;"⟩
abbrev cX31_put : ByteArray := prog_28_method_3_code
def yX31_put : MethodName := ⟨RX31, "put", "(JLBranchCells$Task;)V"⟩
abbrev cX31_take : ByteArray := prog_28_method_2_code
def yX31_take : MethodName := ⟨RX31, "take", "()I"⟩
def RX32 : String := "BranchCells$Failing"
def TX32 : u_T := fun k => match k with
  | 0 => ("java/lang/Throwable", "cause", "Ljava/lang/Throwable;", false)
  | 1 => ("java/lang/Throwable", "stackTrace", "[Ljava/lang/StackTraceElement;", false)
  | 2 => ("java/lang/Throwable", "suppressedExceptions", "Ljava/util/List;", false)
  | 3 => ("java/lang/Throwable", "detailMessage", "Ljava/lang/String;", false)
  | 4 => ("java/lang/Throwable", "backtrace", "Ljava/lang/Object;", false)
  | 5 => ("java/lang/Throwable", "depth", "I", false)
  | _ => ("BranchCells$Failing", "by", "I", true)
def tyX32 : Nat → FieldType := fun k => match k with
  | 0 => .object "java/lang/Throwable"
  | 1 => .array (.object "java/lang/StackTraceElement")
  | 2 => .object "java/util/List"
  | 3 => .object "java/lang/String"
  | 4 => .object "java/lang/Object"
  | 5 => .int
  | _ => .int
abbrev wsX320 : List Cond := u_ws RX32 TX32 7
abbrev cX32_init : ByteArray := prog_26_method_1_code
def yX32_init : MethodName := ⟨RX32, "<init>", "(I)V"⟩
def RX4 : String := "BranchCells$3"
def TX4 : u_T := fun k => match k with
  | 0 => ("BranchCells$Doer", "takes", "I", true)
  | 1 => ("BranchCells$Doer", "this$0", "LBranchCells;", true)
  | _ => ("BranchCells$3", "this$0", "LBranchCells;", true)
def tyX4 : Nat → FieldType := fun k => match k with
  | 0 => .int
  | 1 => .object "BranchCells"
  | _ => .object "BranchCells"
abbrev wsX40 : List Cond := u_ws RX4 TX4 3
abbrev cX4_init : ByteArray := prog_17_method_1_code
def yX4_init : MethodName := ⟨RX4, "<init>", "(LBranchCells;I)V"⟩
abbrev cX4_does : ByteArray := prog_17_method_2_code
def yX4_does : MethodName := ⟨RX4, "does", "(LBranchCells$Task;I)V"⟩
def RX5 : String := "BranchCells$4"
def TX5 : u_T := fun k => match k with
  | 0 => ("BranchCells$Doer", "takes", "I", true)
  | 1 => ("BranchCells$Doer", "this$0", "LBranchCells;", true)
  | _ => ("BranchCells$4", "this$0", "LBranchCells;", true)
def tyX5 : Nat → FieldType := fun k => match k with
  | 0 => .int
  | 1 => .object "BranchCells"
  | _ => .object "BranchCells"
abbrev wsX50 : List Cond := u_ws RX5 TX5 3
abbrev cX5_init : ByteArray := prog_18_method_1_code
def yX5_init : MethodName := ⟨RX5, "<init>", "(LBranchCells;I)V"⟩
abbrev cX5_does : ByteArray := prog_18_method_2_code
def yX5_does : MethodName := ⟨RX5, "does", "(LBranchCells$Task;I)V"⟩
def RX6 : String := "BranchCells$5"
def TX6 : u_T := fun k => match k with
  | 0 => ("BranchCells$Doer", "takes", "I", true)
  | 1 => ("BranchCells$Doer", "this$0", "LBranchCells;", true)
  | _ => ("BranchCells$5", "this$0", "LBranchCells;", true)
def tyX6 : Nat → FieldType := fun k => match k with
  | 0 => .int
  | 1 => .object "BranchCells"
  | _ => .object "BranchCells"
abbrev wsX60 : List Cond := u_ws RX6 TX6 3
abbrev cX6_init : ByteArray := prog_19_method_1_code
def yX6_init : MethodName := ⟨RX6, "<init>", "(LBranchCells;I)V"⟩
abbrev cX6_does : ByteArray := prog_19_method_2_code
def yX6_does : MethodName := ⟨RX6, "does", "(LBranchCells$Task;I)V"⟩
def RX7 : String := "BranchCells$Reckoner"
abbrev cX7_init : ByteArray := prog_29_method_1_code
def yX7_init : MethodName := ⟨RX7, "<init>", "(LBranchCells;)V"⟩
abbrev cX7_does : ByteArray := prog_29_method_2_code
def yX7_does : MethodName := ⟨RX7, "does", "(LBranchCells$Task;I)V"⟩
def RX8 : String := "BranchCells$6"
def TX8 : u_T := fun k => match k with
  | 0 => ("BranchCells$Reckoner", "this$0", "LBranchCells;", true)
  | 1 => ("BranchCells$Doer", "takes", "I", true)
  | 2 => ("BranchCells$Doer", "this$0", "LBranchCells;", true)
  | _ => ("BranchCells$6", "this$0", "LBranchCells;", true)
def tyX8 : Nat → FieldType := fun k => match k with
  | 0 => .object "BranchCells"
  | 1 => .int
  | 2 => .object "BranchCells"
  | _ => .object "BranchCells"
abbrev wsX80 : List Cond := u_ws RX8 TX8 4
abbrev cX8_init : ByteArray := prog_20_method_1_code
def yX8_init : MethodName := ⟨RX8, "<init>", "(LBranchCells;)V"⟩
abbrev cX8_of : ByteArray := prog_20_method_2_code
def yX8_of : MethodName := ⟨RX8, "of", "(JJ)J"⟩
def RX9 : String := "BranchCells$7"
def TX9 : u_T := fun k => match k with
  | 0 => ("BranchCells$Reckoner", "this$0", "LBranchCells;", true)
  | 1 => ("BranchCells$Doer", "takes", "I", true)
  | 2 => ("BranchCells$Doer", "this$0", "LBranchCells;", true)
  | _ => ("BranchCells$7", "this$0", "LBranchCells;", true)
def tyX9 : Nat → FieldType := fun k => match k with
  | 0 => .object "BranchCells"
  | 1 => .int
  | 2 => .object "BranchCells"
  | _ => .object "BranchCells"
abbrev wsX90 : List Cond := u_ws RX9 TX9 4
abbrev cX9_init : ByteArray := prog_21_method_1_code
def yX9_init : MethodName := ⟨RX9, "<init>", "(LBranchCells;)V"⟩
abbrev cX9_of : ByteArray := prog_21_method_2_code
def yX9_of : MethodName := ⟨RX9, "of", "(JJ)J"⟩
theorem q51 : (Jvm.Cond.initialized "java/util/AbstractCollection") ∈ lw_all := lw_g (lw_at lw_m1 2 rfl) rfl
theorem q117 : (Jvm.Cond.instanceMethod ({ cls := "java/util/AbstractCollection", name := "<init>", desc := "()V" } : Jvm.MethodName)) ∈ lw_all := lw_g (lw_at lw_m1 68 rfl) rfl
theorem q118 : (Jvm.Cond.code ({ cls := "java/util/AbstractCollection", name := "<init>", desc := "()V" } : Jvm.MethodName) prog_45_method_1_code (1 : Nat) (Option.none : Option Jvm.ClassFile.FieldType)) ∈ lw_all := lw_g (lw_at lw_m1 69 rfl) rfl
theorem q119 : (Jvm.Cond.methodLink "java/util/AbstractCollection" (1 : Nat) ({ cls := "java/lang/Object", name := "<init>", desc := "()V" } : Jvm.MethodName)) ∈ lw_all := lw_g (lw_at lw_m1 70 rfl) rfl
theorem q52 : (Jvm.Cond.initialized "java/util/AbstractList") ∈ lw_all := lw_g (lw_at lw_m1 3 rfl) rfl
theorem q114 : (Jvm.Cond.instanceMethod ({ cls := "java/util/AbstractList", name := "<init>", desc := "()V" } : Jvm.MethodName)) ∈ lw_all := lw_g (lw_at lw_m1 65 rfl) rfl
theorem q115 : (Jvm.Cond.code ({ cls := "java/util/AbstractList", name := "<init>", desc := "()V" } : Jvm.MethodName) prog_46_method_1_code (1 : Nat) (Option.none : Option Jvm.ClassFile.FieldType)) ∈ lw_all := lw_g (lw_at lw_m1 66 rfl) rfl
theorem q116 : (Jvm.Cond.methodLink "java/util/AbstractList" (1 : Nat) ({ cls := "java/util/AbstractCollection", name := "<init>", desc := "()V" } : Jvm.MethodName)) ∈ lw_all := lw_g (lw_at lw_m1 67 rfl) rfl
theorem q126 : (Jvm.Cond.fieldLink "java/util/AbstractList" (7 : Nat) "java/util/AbstractList" "modCount" "I") ∈ lw_all := lw_g (lw_at lw_m1 77 rfl) rfl
theorem q135 : (Jvm.Cond.soleField "java/util/AbstractList" "modCount") ∈ lw_all := lw_g (lw_at lw_m1 86 rfl) rfl
theorem q94 : (Jvm.Cond.initialized "java/lang/Exception") ∈ lw_all := lw_g (lw_at lw_m1 45 rfl) rfl
theorem q965 : (Jvm.Cond.declares ({ cls := "java/lang/Exception", name := "<init>", desc := "()V" } : Jvm.MethodName)) ∈ lw_tbl := lw_at lw_m4 196 rfl
theorem q966 : (Jvm.Cond.declares ({ cls := "java/lang/Exception", name := "<init>", desc := "(Ljava/lang/String;)V" } : Jvm.MethodName)) ∈ lw_tbl := lw_at lw_m4 197 rfl
theorem q1003 : (Jvm.Cond.instanceMethod ({ cls := "java/lang/Exception", name := "<init>", desc := "(Ljava/lang/String;Ljava/lang/Throwable;ZZ)V" } : Jvm.MethodName)) ∈ lw_all := lw_g (lw_at lw_m4 234 rfl) rfl
theorem q1004 : (Jvm.Cond.code ({ cls := "java/lang/Exception", name := "<init>", desc := "(Ljava/lang/String;Ljava/lang/Throwable;ZZ)V" } : Jvm.MethodName) prog_39_method_5_code (5 : Nat) (Option.none : Option Jvm.ClassFile.FieldType)) ∈ lw_all := lw_g (lw_at lw_m4 235 rfl) rfl
theorem q1005 : (Jvm.Cond.methodLink "java/lang/Exception" (16 : Nat) ({ cls := "java/lang/Throwable", name := "<init>", desc := "(Ljava/lang/String;Ljava/lang/Throwable;ZZ)V" } : Jvm.MethodName)) ∈ lw_all := lw_g (lw_at lw_m4 236 rfl) rfl
theorem q96 : (Jvm.Cond.initialized "java/lang/Integer") ∈ lw_all := lw_g (lw_at lw_m1 47 rfl) rfl
theorem q1309 : (Jvm.Cond.static ({ cls := "java/lang/Integer", name := "bitCount", desc := "(I)I" } : Jvm.MethodName)) ∈ lw_all := lw_g (lw_at lw_m6 60 rfl) rfl
theorem q1310 : (Jvm.Cond.code ({ cls := "java/lang/Integer", name := "bitCount", desc := "(I)I" } : Jvm.MethodName) prog_40_method_49_code (1 : Nat) (Option.some Jvm.ClassFile.FieldType.int)) ∈ lw_all := lw_g (lw_at lw_m6 61 rfl) rfl
theorem q1311 : (Jvm.Cond.constant "java/lang/Integer" (265 : Nat) (1431655765 : Int32)) ∈ lw_all := lw_g (lw_at lw_m6 62 rfl) rfl
theorem q1312 : (Jvm.Cond.constant "java/lang/Integer" (266 : Nat) (858993459 : Int32)) ∈ lw_all := lw_g (lw_at lw_m6 63 rfl) rfl
theorem q1313 : (Jvm.Cond.constant "java/lang/Integer" (267 : Nat) (252645135 : Int32)) ∈ lw_all := lw_g (lw_at lw_m6 64 rfl) rfl
theorem nmJ12 : ∀ a, a < 4 → ∀ b, b < 4 → a ≠ b → (TJ12 a).2.1 ≠ (TJ12 b).2.1 := by decide +kernel
theorem tyJ12_ok : ∀ k, k < 4 → parseFieldDescriptor (TJ12 k).2.2.1 = some (tyJ12 k) := by decide +kernel
theorem q97 : (Jvm.Cond.initialized "java/util/ArrayList$Itr") ∈ lw_all := lw_g (lw_at lw_m1 48 rfl) rfl
theorem q123 : (Jvm.Cond.fieldLink "java/util/ArrayList$Itr" (37 : Nat) "java/util/ArrayList" "elementData" "[Ljava/lang/Object;") ∈ lw_all := lw_g (lw_at lw_m1 74 rfl) rfl
theorem q124 : (Jvm.Cond.fieldLinkNest "java/util/ArrayList$Itr" (28 : Nat) "java/util/ArrayList" "size" "I" "java/util/ArrayList") ∈ lw_tbl := lw_at lw_m1 75 rfl
theorem q127 : (Jvm.Cond.fieldLink "java/util/ArrayList$Itr" (17 : Nat) "java/util/ArrayList" "modCount" "I") ∈ lw_all := lw_g (lw_at lw_m1 78 rfl) rfl
theorem q572 : (Jvm.Cond.selects "java/util/ArrayList$Itr" ({ cls := "java/lang/Object", name := "getClass", desc := "()Ljava/lang/Class;" } : Jvm.MethodName) ({ cls := "java/lang/Object", name := "getClass", desc := "()Ljava/lang/Class;" } : Jvm.MethodName)) ∈ lw_all := lw_g (lw_at lw_m3 43 rfl) rfl
theorem q1398 : (Jvm.Cond.instantiable "java/util/ArrayList$Itr" (4 : Nat)) ∈ lw_all := lw_g (lw_at lw_m6 149 rfl) rfl
theorem q1400 : (Jvm.Cond.instanceMethod ({ cls := "java/util/ArrayList$Itr", name := "<init>", desc := "(Ljava/util/ArrayList;)V" } : Jvm.MethodName)) ∈ lw_all := lw_g (lw_at lw_m6 151 rfl) rfl
theorem q1401 : (Jvm.Cond.code ({ cls := "java/util/ArrayList$Itr", name := "<init>", desc := "(Ljava/util/ArrayList;)V" } : Jvm.MethodName) prog_48_method_1_code (2 : Nat) (Option.none : Option Jvm.ClassFile.FieldType)) ∈ lw_all := lw_g (lw_at lw_m6 152 rfl) rfl
theorem q1402 : (Jvm.Cond.methodLink "java/util/ArrayList$Itr" (7 : Nat) ({ cls := "java/lang/Object", name := "<init>", desc := "()V" } : Jvm.MethodName)) ∈ lw_all := lw_g (lw_at lw_m6 153 rfl) rfl
theorem q1403 : (Jvm.Cond.fieldLink "java/util/ArrayList$Itr" (25 : Nat) "java/util/ArrayList$Itr" "cursor" "I") ∈ lw_all := lw_g (lw_at lw_m6 154 rfl) rfl
theorem q1404 : (Jvm.Cond.fieldLink "java/util/ArrayList$Itr" (13 : Nat) "java/util/ArrayList$Itr" "lastRet" "I") ∈ lw_all := lw_g (lw_at lw_m6 155 rfl) rfl
theorem q1405 : (Jvm.Cond.fieldLink "java/util/ArrayList$Itr" (22 : Nat) "java/util/ArrayList$Itr" "expectedModCount" "I") ∈ lw_all := lw_g (lw_at lw_m6 156 rfl) rfl
theorem q1406 : (Jvm.Cond.fieldLink "java/util/ArrayList$Itr" (1 : Nat) "java/util/ArrayList$Itr" "this$0" "Ljava/util/ArrayList;") ∈ lw_all := lw_g (lw_at lw_m6 157 rfl) rfl
theorem q1407 : (Jvm.Cond.lays "java/util/ArrayList$Itr" "java/util/ArrayList$Itr" "cursor" "I") ∈ lw_all := lw_g (lw_at lw_m6 158 rfl) rfl
theorem q1408 : (Jvm.Cond.soleField "java/util/ArrayList$Itr" "cursor") ∈ lw_all := lw_g (lw_at lw_m6 159 rfl) rfl
theorem q1409 : (Jvm.Cond.lays "java/util/ArrayList$Itr" "java/util/ArrayList$Itr" "lastRet" "I") ∈ lw_all := lw_g (lw_at lw_m6 160 rfl) rfl
theorem q1410 : (Jvm.Cond.soleField "java/util/ArrayList$Itr" "lastRet") ∈ lw_all := lw_g (lw_at lw_m6 161 rfl) rfl
theorem q1411 : (Jvm.Cond.lays "java/util/ArrayList$Itr" "java/util/ArrayList$Itr" "expectedModCount" "I") ∈ lw_all := lw_g (lw_at lw_m6 162 rfl) rfl
theorem q1412 : (Jvm.Cond.soleField "java/util/ArrayList$Itr" "expectedModCount") ∈ lw_all := lw_g (lw_at lw_m6 163 rfl) rfl
theorem q1413 : (Jvm.Cond.laysFinal "java/util/ArrayList$Itr" "java/util/ArrayList$Itr" "this$0" "Ljava/util/ArrayList;") ∈ lw_all := lw_g (lw_at lw_m6 164 rfl) rfl
theorem q1414 : (Jvm.Cond.soleField "java/util/ArrayList$Itr" "this$0") ∈ lw_all := lw_g (lw_at lw_m6 165 rfl) rfl
theorem q1415 : (Jvm.Cond.superclass "java/util/ArrayList$Itr" "java/lang/Object") ∈ lw_all := lw_g (lw_at lw_m6 166 rfl) rfl
theorem q1420 : (Jvm.Cond.castable "java/util/ArrayList$Itr" "java/util/Iterator") ∈ lw_tbl := lw_at lw_m6 171 rfl
theorem q1421 : (Jvm.Cond.selects "java/util/ArrayList$Itr" ({ cls := "java/util/Iterator", name := "hasNext", desc := "()Z" } : Jvm.MethodName) ({ cls := "java/util/ArrayList$Itr", name := "hasNext", desc := "()Z" } : Jvm.MethodName)) ∈ lw_all := lw_g (lw_at lw_m6 172 rfl) rfl
theorem q1422 : (Jvm.Cond.unhidden "java/util/ArrayList$Itr" "hasNext" "()Z") ∈ lw_tbl := lw_at lw_m6 173 rfl
theorem q1423 : (Jvm.Cond.instanceMethod ({ cls := "java/util/ArrayList$Itr", name := "hasNext", desc := "()Z" } : Jvm.MethodName)) ∈ lw_all := lw_g (lw_at lw_m6 174 rfl) rfl
theorem q1424 : (Jvm.Cond.publicMethod ({ cls := "java/util/ArrayList$Itr", name := "hasNext", desc := "()Z" } : Jvm.MethodName)) ∈ lw_tbl := lw_at lw_m6 175 rfl
theorem q1425 : (Jvm.Cond.code ({ cls := "java/util/ArrayList$Itr", name := "hasNext", desc := "()Z" } : Jvm.MethodName) prog_48_method_2_code (1 : Nat) (Option.some Jvm.ClassFile.FieldType.boolean)) ∈ lw_all := lw_g (lw_at lw_m6 176 rfl) rfl
theorem q1430 : (Jvm.Cond.selects "java/util/ArrayList$Itr" ({ cls := "java/util/Iterator", name := "next", desc := "()Ljava/lang/Object;" } : Jvm.MethodName) ({ cls := "java/util/ArrayList$Itr", name := "next", desc := "()Ljava/lang/Object;" } : Jvm.MethodName)) ∈ lw_all := lw_g (lw_at lw_m6 181 rfl) rfl
theorem q1431 : (Jvm.Cond.unhidden "java/util/ArrayList$Itr" "next" "()Ljava/lang/Object;") ∈ lw_tbl := lw_at lw_m6 182 rfl
theorem q1432 : (Jvm.Cond.instanceMethod ({ cls := "java/util/ArrayList$Itr", name := "next", desc := "()Ljava/lang/Object;" } : Jvm.MethodName)) ∈ lw_all := lw_g (lw_at lw_m6 183 rfl) rfl
theorem q1433 : (Jvm.Cond.publicMethod ({ cls := "java/util/ArrayList$Itr", name := "next", desc := "()Ljava/lang/Object;" } : Jvm.MethodName)) ∈ lw_tbl := lw_at lw_m6 184 rfl
theorem q1434 : (Jvm.Cond.code ({ cls := "java/util/ArrayList$Itr", name := "next", desc := "()Ljava/lang/Object;" } : Jvm.MethodName) prog_48_method_3_code (3 : Nat) (Option.some (Jvm.ClassFile.FieldType.object "java/lang/Object"))) ∈ lw_all := lw_g (lw_at lw_m6 185 rfl) rfl
theorem q1435 : (Jvm.Cond.methodLink "java/util/ArrayList$Itr" (31 : Nat) ({ cls := "java/util/ArrayList$Itr", name := "checkForComodification", desc := "()V" } : Jvm.MethodName)) ∈ lw_all := lw_g (lw_at lw_m6 186 rfl) rfl
theorem q1436 : (Jvm.Cond.instanceMethod ({ cls := "java/util/ArrayList$Itr", name := "checkForComodification", desc := "()V" } : Jvm.MethodName)) ∈ lw_all := lw_g (lw_at lw_m6 187 rfl) rfl
theorem q1437 : (Jvm.Cond.selects "java/util/ArrayList$Itr" ({ cls := "java/util/ArrayList$Itr", name := "checkForComodification", desc := "()V" } : Jvm.MethodName) ({ cls := "java/util/ArrayList$Itr", name := "checkForComodification", desc := "()V" } : Jvm.MethodName)) ∈ lw_all := lw_g (lw_at lw_m6 188 rfl) rfl
theorem q1438 : (Jvm.Cond.code ({ cls := "java/util/ArrayList$Itr", name := "checkForComodification", desc := "()V" } : Jvm.MethodName) prog_48_method_6_code (1 : Nat) (Option.none : Option Jvm.ClassFile.FieldType)) ∈ lw_all := lw_g (lw_at lw_m6 189 rfl) rfl
theorem q1841 : (Jvm.Cond.castable "java/util/ArrayList$Itr" "java/lang/Object") ∈ lw_tbl := lw_at lw_m8 112 rfl
theorem in_J12 : ∀ w ∈ wsJ120, w ∈ lw_all := lw_in wsJ120 [1407, 1409, 1411, 1413] (by decide +kernel) (by decide +kernel)
theorem q104 : (Jvm.Cond.instanceMethod ({ cls := "java/lang/Object", name := "<init>", desc := "()V" } : Jvm.MethodName)) ∈ lw_all := lw_g (lw_at lw_m1 55 rfl) rfl
theorem q105 : (Jvm.Cond.code ({ cls := "java/lang/Object", name := "<init>", desc := "()V" } : Jvm.MethodName) object_method_1_code (1 : Nat) (Option.none : Option Jvm.ClassFile.FieldType)) ∈ lw_all := lw_g (lw_at lw_m1 56 rfl) rfl
theorem q537 : (Jvm.Cond.instanceMethod ({ cls := "java/lang/Object", name := "getClass", desc := "()Ljava/lang/Class;" } : Jvm.MethodName)) ∈ lw_all := lw_g (lw_at lw_m3 8 rfl) rfl
theorem q538 : (Jvm.Cond.sameMethod "java/lang/Object" "java/lang/Object" "getClass" "()Ljava/lang/Class;") ∈ lw_all := lw_g (lw_at lw_m3 9 rfl) rfl
theorem q573 : (Jvm.Cond.native ({ cls := "java/lang/Object", name := "getClass", desc := "()Ljava/lang/Class;" } : Jvm.MethodName)) ∈ lw_all := lw_g (lw_at lw_m3 44 rfl) rfl
theorem q1328 : (Jvm.Cond.declares ({ cls := "java/lang/Object", name := "equals", desc := "(Ljava/lang/Object;)Z" } : Jvm.MethodName)) ∈ lw_tbl := lw_at lw_m6 79 rfl
theorem q1330 : (Jvm.Cond.instanceMethod ({ cls := "java/lang/Object", name := "equals", desc := "(Ljava/lang/Object;)Z" } : Jvm.MethodName)) ∈ lw_all := lw_g (lw_at lw_m6 81 rfl) rfl
theorem q1331 : (Jvm.Cond.sameMethod "java/lang/Object" "java/lang/Object" "equals" "(Ljava/lang/Object;)Z") ∈ lw_all := lw_g (lw_at lw_m6 82 rfl) rfl
theorem q1366 : (Jvm.Cond.code ({ cls := "java/lang/Object", name := "equals", desc := "(Ljava/lang/Object;)Z" } : Jvm.MethodName) object_method_4_code (2 : Nat) (Option.some Jvm.ClassFile.FieldType.boolean)) ∈ lw_all := lw_g (lw_at lw_m6 117 rfl) rfl
theorem q1806 : (Jvm.Cond.initialized "java/lang/Object") ∈ lw_all := lw_g (lw_at lw_m8 77 rfl) rfl
theorem q1867 : (Jvm.Cond.declares ({ cls := "java/lang/Object", name := "getClass", desc := "()Ljava/lang/Class;" } : Jvm.MethodName)) ∈ lw_tbl := lw_at lw_m8 138 rfl
theorem nmJ2 : ∀ a, a < 3 → ∀ b, b < 3 → a ≠ b → (TJ2 a).2.1 ≠ (TJ2 b).2.1 := by decide +kernel
theorem tyJ2_ok : ∀ k, k < 3 → parseFieldDescriptor (TJ2 k).2.2.1 = some (tyJ2 k) := by decide +kernel
theorem q53 : (Jvm.Cond.initialized "java/util/ArrayList") ∈ lw_all := lw_g (lw_at lw_m1 4 rfl) rfl
theorem q109 : (Jvm.Cond.instantiable "java/util/ArrayList" (3 : Nat)) ∈ lw_all := lw_g (lw_at lw_m1 60 rfl) rfl
theorem q111 : (Jvm.Cond.instanceMethod ({ cls := "java/util/ArrayList", name := "<init>", desc := "()V" } : Jvm.MethodName)) ∈ lw_all := lw_g (lw_at lw_m1 62 rfl) rfl
theorem q112 : (Jvm.Cond.code ({ cls := "java/util/ArrayList", name := "<init>", desc := "()V" } : Jvm.MethodName) prog_47_method_2_code (1 : Nat) (Option.none : Option Jvm.ClassFile.FieldType)) ∈ lw_all := lw_g (lw_at lw_m1 63 rfl) rfl
theorem q113 : (Jvm.Cond.methodLink "java/util/ArrayList" (1 : Nat) ({ cls := "java/util/AbstractList", name := "<init>", desc := "()V" } : Jvm.MethodName)) ∈ lw_all := lw_g (lw_at lw_m1 64 rfl) rfl
theorem q120 : (Jvm.Cond.fieldLink "java/util/ArrayList" (39 : Nat) "java/util/ArrayList" "DEFAULTCAPACITY_EMPTY_ELEMENTDATA" "[Ljava/lang/Object;") ∈ lw_all := lw_g (lw_at lw_m1 71 rfl) rfl
theorem q121 : (Jvm.Cond.laysStatic "java/util/ArrayList" "DEFAULTCAPACITY_EMPTY_ELEMENTDATA" "[Ljava/lang/Object;") ∈ lw_tbl := lw_at lw_m1 72 rfl
theorem q122 : (Jvm.Cond.fieldLink "java/util/ArrayList" (9 : Nat) "java/util/ArrayList" "elementData" "[Ljava/lang/Object;") ∈ lw_all := lw_g (lw_at lw_m1 73 rfl) rfl
theorem q125 : (Jvm.Cond.fieldLink "java/util/ArrayList" (48 : Nat) "java/util/ArrayList" "size" "I") ∈ lw_all := lw_g (lw_at lw_m1 76 rfl) rfl
theorem q128 : (Jvm.Cond.sameField "java/util/ArrayList" "java/util/AbstractList" "modCount" "I") ∈ lw_all := lw_g (lw_at lw_m1 79 rfl) rfl
theorem q129 : (Jvm.Cond.fieldLink "java/util/ArrayList" (63 : Nat) "java/util/ArrayList" "modCount" "I") ∈ lw_all := lw_g (lw_at lw_m1 80 rfl) rfl
theorem q130 : (Jvm.Cond.lays "java/util/ArrayList" "java/util/ArrayList" "elementData" "[Ljava/lang/Object;") ∈ lw_all := lw_g (lw_at lw_m1 81 rfl) rfl
theorem q131 : (Jvm.Cond.soleField "java/util/ArrayList" "elementData") ∈ lw_all := lw_g (lw_at lw_m1 82 rfl) rfl
theorem q132 : (Jvm.Cond.lays "java/util/ArrayList" "java/util/ArrayList" "size" "I") ∈ lw_all := lw_g (lw_at lw_m1 83 rfl) rfl
theorem q133 : (Jvm.Cond.soleField "java/util/ArrayList" "size") ∈ lw_all := lw_g (lw_at lw_m1 84 rfl) rfl
theorem q134 : (Jvm.Cond.lays "java/util/ArrayList" "java/util/AbstractList" "modCount" "I") ∈ lw_all := lw_g (lw_at lw_m1 85 rfl) rfl
theorem q136 : (Jvm.Cond.superclass "java/util/ArrayList" "java/util/AbstractList") ∈ lw_all := lw_g (lw_at lw_m1 87 rfl) rfl
theorem q476 : (Jvm.Cond.castable "java/util/ArrayList" "java/util/List") ∈ lw_tbl := lw_at lw_m2 187 rfl
theorem q477 : (Jvm.Cond.selects "java/util/ArrayList" ({ cls := "java/util/List", name := "size", desc := "()I" } : Jvm.MethodName) ({ cls := "java/util/ArrayList", name := "size", desc := "()I" } : Jvm.MethodName)) ∈ lw_all := lw_g (lw_at lw_m2 188 rfl) rfl
theorem q478 : (Jvm.Cond.unhidden "java/util/ArrayList" "size" "()I") ∈ lw_tbl := lw_at lw_m2 189 rfl
theorem q479 : (Jvm.Cond.instanceMethod ({ cls := "java/util/ArrayList", name := "size", desc := "()I" } : Jvm.MethodName)) ∈ lw_all := lw_g (lw_at lw_m2 190 rfl) rfl
theorem q480 : (Jvm.Cond.publicMethod ({ cls := "java/util/ArrayList", name := "size", desc := "()I" } : Jvm.MethodName)) ∈ lw_tbl := lw_at lw_m2 191 rfl
theorem q481 : (Jvm.Cond.code ({ cls := "java/util/ArrayList", name := "size", desc := "()I" } : Jvm.MethodName) prog_47_method_8_code (1 : Nat) (Option.some Jvm.ClassFile.FieldType.int)) ∈ lw_all := lw_g (lw_at lw_m2 192 rfl) rfl
theorem q506 : (Jvm.Cond.selects "java/util/ArrayList" ({ cls := "java/util/List", name := "add", desc := "(Ljava/lang/Object;)Z" } : Jvm.MethodName) ({ cls := "java/util/ArrayList", name := "add", desc := "(Ljava/lang/Object;)Z" } : Jvm.MethodName)) ∈ lw_all := lw_g (lw_at lw_m2 217 rfl) rfl
theorem q507 : (Jvm.Cond.unhidden "java/util/ArrayList" "add" "(Ljava/lang/Object;)Z") ∈ lw_tbl := lw_at lw_m2 218 rfl
theorem q508 : (Jvm.Cond.instanceMethod ({ cls := "java/util/ArrayList", name := "add", desc := "(Ljava/lang/Object;)Z" } : Jvm.MethodName)) ∈ lw_all := lw_g (lw_at lw_m2 219 rfl) rfl
theorem q509 : (Jvm.Cond.publicMethod ({ cls := "java/util/ArrayList", name := "add", desc := "(Ljava/lang/Object;)Z" } : Jvm.MethodName)) ∈ lw_tbl := lw_at lw_m2 220 rfl
theorem q510 : (Jvm.Cond.code ({ cls := "java/util/ArrayList", name := "add", desc := "(Ljava/lang/Object;)Z" } : Jvm.MethodName) prog_47_method_25_code (2 : Nat) (Option.some Jvm.ClassFile.FieldType.boolean)) ∈ lw_all := lw_g (lw_at lw_m2 221 rfl) rfl
theorem q511 : (Jvm.Cond.methodLink "java/util/ArrayList" (131 : Nat) ({ cls := "java/util/ArrayList", name := "add", desc := "(Ljava/lang/Object;[Ljava/lang/Object;I)V" } : Jvm.MethodName)) ∈ lw_all := lw_g (lw_at lw_m2 222 rfl) rfl
theorem q512 : (Jvm.Cond.privateMethod ({ cls := "java/util/ArrayList", name := "add", desc := "(Ljava/lang/Object;[Ljava/lang/Object;I)V" } : Jvm.MethodName)) ∈ lw_tbl := lw_at lw_m2 223 rfl
theorem q513 : (Jvm.Cond.instanceMethod ({ cls := "java/util/ArrayList", name := "add", desc := "(Ljava/lang/Object;[Ljava/lang/Object;I)V" } : Jvm.MethodName)) ∈ lw_all := lw_g (lw_at lw_m2 224 rfl) rfl
theorem q514 : (Jvm.Cond.code ({ cls := "java/util/ArrayList", name := "add", desc := "(Ljava/lang/Object;[Ljava/lang/Object;I)V" } : Jvm.MethodName) prog_47_method_24_code (4 : Nat) (Option.none : Option Jvm.ClassFile.FieldType)) ∈ lw_all := lw_g (lw_at lw_m2 225 rfl) rfl
theorem q515 : (Jvm.Cond.methodLink "java/util/ArrayList" (129 : Nat) ({ cls := "java/util/ArrayList", name := "grow", desc := "()[Ljava/lang/Object;" } : Jvm.MethodName)) ∈ lw_all := lw_g (lw_at lw_m2 226 rfl) rfl
theorem q516 : (Jvm.Cond.privateMethod ({ cls := "java/util/ArrayList", name := "grow", desc := "()[Ljava/lang/Object;" } : Jvm.MethodName)) ∈ lw_tbl := lw_at lw_m2 227 rfl
theorem q517 : (Jvm.Cond.instanceMethod ({ cls := "java/util/ArrayList", name := "grow", desc := "()[Ljava/lang/Object;" } : Jvm.MethodName)) ∈ lw_all := lw_g (lw_at lw_m2 228 rfl) rfl
theorem q518 : (Jvm.Cond.code ({ cls := "java/util/ArrayList", name := "grow", desc := "()[Ljava/lang/Object;" } : Jvm.MethodName) prog_47_method_7_code (1 : Nat) (Option.some (Jvm.ClassFile.FieldType.array (Jvm.ClassFile.FieldType.object "java/lang/Object")))) ∈ lw_all := lw_g (lw_at lw_m2 229 rfl) rfl
theorem q519 : (Jvm.Cond.methodLink "java/util/ArrayList" (69 : Nat) ({ cls := "java/util/ArrayList", name := "grow", desc := "(I)[Ljava/lang/Object;" } : Jvm.MethodName)) ∈ lw_all := lw_g (lw_at lw_m2 230 rfl) rfl
theorem q520 : (Jvm.Cond.privateMethod ({ cls := "java/util/ArrayList", name := "grow", desc := "(I)[Ljava/lang/Object;" } : Jvm.MethodName)) ∈ lw_tbl := lw_at lw_m2 231 rfl
theorem q521 : (Jvm.Cond.instanceMethod ({ cls := "java/util/ArrayList", name := "grow", desc := "(I)[Ljava/lang/Object;" } : Jvm.MethodName)) ∈ lw_all := lw_g (lw_at lw_m2 232 rfl) rfl
theorem q522 : (Jvm.Cond.code ({ cls := "java/util/ArrayList", name := "grow", desc := "(I)[Ljava/lang/Object;" } : Jvm.MethodName) prog_47_method_6_code (4 : Nat) (Option.some (Jvm.ClassFile.FieldType.array (Jvm.ClassFile.FieldType.object "java/lang/Object")))) ∈ lw_all := lw_g (lw_at lw_m2 233 rfl) rfl
theorem q523 : (Jvm.Cond.methodLink "java/util/ArrayList" (73 : Nat) ({ cls := "jdk/internal/util/ArraysSupport", name := "newLength", desc := "(III)I" } : Jvm.MethodName)) ∈ lw_all := lw_g (lw_at lw_m2 234 rfl) rfl
theorem q533 : (Jvm.Cond.methodLink "java/util/ArrayList" (66 : Nat) ({ cls := "java/util/Arrays", name := "copyOf", desc := "([Ljava/lang/Object;I)[Ljava/lang/Object;" } : Jvm.MethodName)) ∈ lw_all := lw_g (lw_at lw_m3 4 rfl) rfl
theorem q571 : (Jvm.Cond.selects "java/util/ArrayList" ({ cls := "java/lang/Object", name := "getClass", desc := "()Ljava/lang/Class;" } : Jvm.MethodName) ({ cls := "java/lang/Object", name := "getClass", desc := "()Ljava/lang/Class;" } : Jvm.MethodName)) ∈ lw_all := lw_g (lw_at lw_m3 42 rfl) rfl
theorem q586 : (Jvm.Cond.methodLink "java/util/ArrayList" (79 : Nat) ({ cls := "java/lang/Math", name := "max", desc := "(II)I" } : Jvm.MethodName)) ∈ lw_all := lw_g (lw_at lw_m3 57 rfl) rfl
theorem q587 : (Jvm.Cond.classLink "java/util/ArrayList" (7 : Nat) "java/lang/Object") ∈ lw_all := lw_g (lw_at lw_m3 58 rfl) rfl
theorem q606 : (Jvm.Cond.selects "java/util/ArrayList" ({ cls := "java/util/List", name := "get", desc := "(I)Ljava/lang/Object;" } : Jvm.MethodName) ({ cls := "java/util/ArrayList", name := "get", desc := "(I)Ljava/lang/Object;" } : Jvm.MethodName)) ∈ lw_all := lw_g (lw_at lw_m3 77 rfl) rfl
theorem q607 : (Jvm.Cond.unhidden "java/util/ArrayList" "get" "(I)Ljava/lang/Object;") ∈ lw_tbl := lw_at lw_m3 78 rfl
theorem q608 : (Jvm.Cond.instanceMethod ({ cls := "java/util/ArrayList", name := "get", desc := "(I)Ljava/lang/Object;" } : Jvm.MethodName)) ∈ lw_all := lw_g (lw_at lw_m3 79 rfl) rfl
theorem q609 : (Jvm.Cond.publicMethod ({ cls := "java/util/ArrayList", name := "get", desc := "(I)Ljava/lang/Object;" } : Jvm.MethodName)) ∈ lw_tbl := lw_at lw_m3 80 rfl
theorem q610 : (Jvm.Cond.code ({ cls := "java/util/ArrayList", name := "get", desc := "(I)Ljava/lang/Object;" } : Jvm.MethodName) prog_47_method_20_code (2 : Nat) (Option.some (Jvm.ClassFile.FieldType.object "java/lang/Object"))) ∈ lw_all := lw_g (lw_at lw_m3 81 rfl) rfl
theorem q611 : (Jvm.Cond.methodLink "java/util/ArrayList" (118 : Nat) ({ cls := "java/util/Objects", name := "checkIndex", desc := "(II)I" } : Jvm.MethodName)) ∈ lw_all := lw_g (lw_at lw_m3 82 rfl) rfl
theorem q617 : (Jvm.Cond.methodLink "java/util/ArrayList" (123 : Nat) ({ cls := "java/util/ArrayList", name := "elementData", desc := "(I)Ljava/lang/Object;" } : Jvm.MethodName)) ∈ lw_all := lw_g (lw_at lw_m3 88 rfl) rfl
theorem q618 : (Jvm.Cond.instanceMethod ({ cls := "java/util/ArrayList", name := "elementData", desc := "(I)Ljava/lang/Object;" } : Jvm.MethodName)) ∈ lw_all := lw_g (lw_at lw_m3 89 rfl) rfl
theorem q619 : (Jvm.Cond.selects "java/util/ArrayList" ({ cls := "java/util/ArrayList", name := "elementData", desc := "(I)Ljava/lang/Object;" } : Jvm.MethodName) ({ cls := "java/util/ArrayList", name := "elementData", desc := "(I)Ljava/lang/Object;" } : Jvm.MethodName)) ∈ lw_all := lw_g (lw_at lw_m3 90 rfl) rfl
theorem q620 : (Jvm.Cond.code ({ cls := "java/util/ArrayList", name := "elementData", desc := "(I)Ljava/lang/Object;" } : Jvm.MethodName) prog_47_method_18_code (2 : Nat) (Option.some (Jvm.ClassFile.FieldType.object "java/lang/Object"))) ∈ lw_all := lw_g (lw_at lw_m3 91 rfl) rfl
theorem q697 : (Jvm.Cond.selects "java/util/ArrayList" ({ cls := "java/util/List", name := "isEmpty", desc := "()Z" } : Jvm.MethodName) ({ cls := "java/util/ArrayList", name := "isEmpty", desc := "()Z" } : Jvm.MethodName)) ∈ lw_all := lw_g (lw_at lw_m3 168 rfl) rfl
theorem q698 : (Jvm.Cond.unhidden "java/util/ArrayList" "isEmpty" "()Z") ∈ lw_tbl := lw_at lw_m3 169 rfl
theorem q699 : (Jvm.Cond.instanceMethod ({ cls := "java/util/ArrayList", name := "isEmpty", desc := "()Z" } : Jvm.MethodName)) ∈ lw_all := lw_g (lw_at lw_m3 170 rfl) rfl
theorem q700 : (Jvm.Cond.publicMethod ({ cls := "java/util/ArrayList", name := "isEmpty", desc := "()Z" } : Jvm.MethodName)) ∈ lw_tbl := lw_at lw_m3 171 rfl
theorem q701 : (Jvm.Cond.code ({ cls := "java/util/ArrayList", name := "isEmpty", desc := "()Z" } : Jvm.MethodName) prog_47_method_9_code (1 : Nat) (Option.some Jvm.ClassFile.FieldType.boolean)) ∈ lw_all := lw_g (lw_at lw_m3 172 rfl) rfl
theorem q710 : (Jvm.Cond.selects "java/util/ArrayList" ({ cls := "java/util/List", name := "clear", desc := "()V" } : Jvm.MethodName) ({ cls := "java/util/ArrayList", name := "clear", desc := "()V" } : Jvm.MethodName)) ∈ lw_all := lw_g (lw_at lw_m3 181 rfl) rfl
theorem q711 : (Jvm.Cond.unhidden "java/util/ArrayList" "clear" "()V") ∈ lw_tbl := lw_at lw_m3 182 rfl
theorem q712 : (Jvm.Cond.instanceMethod ({ cls := "java/util/ArrayList", name := "clear", desc := "()V" } : Jvm.MethodName)) ∈ lw_all := lw_g (lw_at lw_m3 183 rfl) rfl
theorem q713 : (Jvm.Cond.publicMethod ({ cls := "java/util/ArrayList", name := "clear", desc := "()V" } : Jvm.MethodName)) ∈ lw_tbl := lw_at lw_m3 184 rfl
theorem q714 : (Jvm.Cond.code ({ cls := "java/util/ArrayList", name := "clear", desc := "()V" } : Jvm.MethodName) prog_47_method_40_code (4 : Nat) (Option.none : Option Jvm.ClassFile.FieldType)) ∈ lw_all := lw_g (lw_at lw_m3 185 rfl) rfl
theorem q1323 : (Jvm.Cond.selects "java/util/ArrayList" ({ cls := "java/util/List", name := "remove", desc := "(Ljava/lang/Object;)Z" } : Jvm.MethodName) ({ cls := "java/util/ArrayList", name := "remove", desc := "(Ljava/lang/Object;)Z" } : Jvm.MethodName)) ∈ lw_all := lw_g (lw_at lw_m6 74 rfl) rfl
theorem q1324 : (Jvm.Cond.unhidden "java/util/ArrayList" "remove" "(Ljava/lang/Object;)Z") ∈ lw_tbl := lw_at lw_m6 75 rfl
theorem q1325 : (Jvm.Cond.instanceMethod ({ cls := "java/util/ArrayList", name := "remove", desc := "(Ljava/lang/Object;)Z" } : Jvm.MethodName)) ∈ lw_all := lw_g (lw_at lw_m6 76 rfl) rfl
theorem q1326 : (Jvm.Cond.publicMethod ({ cls := "java/util/ArrayList", name := "remove", desc := "(Ljava/lang/Object;)Z" } : Jvm.MethodName)) ∈ lw_tbl := lw_at lw_m6 77 rfl
theorem q1327 : (Jvm.Cond.code ({ cls := "java/util/ArrayList", name := "remove", desc := "(Ljava/lang/Object;)Z" } : Jvm.MethodName) prog_47_method_38_code (5 : Nat) (Option.some Jvm.ClassFile.FieldType.boolean)) ∈ lw_all := lw_g (lw_at lw_m6 78 rfl) rfl
theorem q1329 : (Jvm.Cond.methodLink "java/util/ArrayList" (93 : Nat) ({ cls := "java/lang/Object", name := "equals", desc := "(Ljava/lang/Object;)Z" } : Jvm.MethodName)) ∈ lw_all := lw_g (lw_at lw_m6 80 rfl) rfl
theorem q1367 : (Jvm.Cond.methodLink "java/util/ArrayList" (144 : Nat) ({ cls := "java/util/ArrayList", name := "fastRemove", desc := "([Ljava/lang/Object;I)V" } : Jvm.MethodName)) ∈ lw_all := lw_g (lw_at lw_m6 118 rfl) rfl
theorem q1368 : (Jvm.Cond.privateMethod ({ cls := "java/util/ArrayList", name := "fastRemove", desc := "([Ljava/lang/Object;I)V" } : Jvm.MethodName)) ∈ lw_tbl := lw_at lw_m6 119 rfl
theorem q1369 : (Jvm.Cond.instanceMethod ({ cls := "java/util/ArrayList", name := "fastRemove", desc := "([Ljava/lang/Object;I)V" } : Jvm.MethodName)) ∈ lw_all := lw_g (lw_at lw_m6 120 rfl) rfl
theorem q1370 : (Jvm.Cond.code ({ cls := "java/util/ArrayList", name := "fastRemove", desc := "([Ljava/lang/Object;I)V" } : Jvm.MethodName) prog_47_method_39_code (4 : Nat) (Option.none : Option Jvm.ClassFile.FieldType)) ∈ lw_all := lw_g (lw_at lw_m6 121 rfl) rfl
theorem q1371 : (Jvm.Cond.methodLink "java/util/ArrayList" (112 : Nat) ({ cls := "java/lang/System", name := "arraycopy", desc := "(Ljava/lang/Object;ILjava/lang/Object;II)V" } : Jvm.MethodName)) ∈ lw_all := lw_g (lw_at lw_m6 122 rfl) rfl
theorem q1392 : (Jvm.Cond.selects "java/util/ArrayList" ({ cls := "java/util/List", name := "iterator", desc := "()Ljava/util/Iterator;" } : Jvm.MethodName) ({ cls := "java/util/ArrayList", name := "iterator", desc := "()Ljava/util/Iterator;" } : Jvm.MethodName)) ∈ lw_all := lw_g (lw_at lw_m6 143 rfl) rfl
theorem q1393 : (Jvm.Cond.unhidden "java/util/ArrayList" "iterator" "()Ljava/util/Iterator;") ∈ lw_tbl := lw_at lw_m6 144 rfl
theorem q1394 : (Jvm.Cond.instanceMethod ({ cls := "java/util/ArrayList", name := "iterator", desc := "()Ljava/util/Iterator;" } : Jvm.MethodName)) ∈ lw_all := lw_g (lw_at lw_m6 145 rfl) rfl
theorem q1395 : (Jvm.Cond.publicMethod ({ cls := "java/util/ArrayList", name := "iterator", desc := "()Ljava/util/Iterator;" } : Jvm.MethodName)) ∈ lw_tbl := lw_at lw_m6 146 rfl
theorem q1396 : (Jvm.Cond.code ({ cls := "java/util/ArrayList", name := "iterator", desc := "()Ljava/util/Iterator;" } : Jvm.MethodName) prog_47_method_55_code (1 : Nat) (Option.some (Jvm.ClassFile.FieldType.object "java/util/Iterator"))) ∈ lw_all := lw_g (lw_at lw_m6 147 rfl) rfl
theorem q1397 : (Jvm.Cond.classLink "java/util/ArrayList" (267 : Nat) "java/util/ArrayList$Itr") ∈ lw_all := lw_g (lw_at lw_m6 148 rfl) rfl
theorem q1399 : (Jvm.Cond.methodLink "java/util/ArrayList" (269 : Nat) ({ cls := "java/util/ArrayList$Itr", name := "<init>", desc := "(Ljava/util/ArrayList;)V" } : Jvm.MethodName)) ∈ lw_all := lw_g (lw_at lw_m6 150 rfl) rfl
theorem q1810 : (Jvm.Cond.castable "java/util/ArrayList" "java/lang/Object") ∈ lw_tbl := lw_at lw_m8 81 rfl
theorem in_J2 : ∀ w ∈ wsJ20, w ∈ lw_all := lw_in wsJ20 [134, 130, 132] (by decide +kernel) (by decide +kernel)
theorem q80 : (Jvm.Cond.initialized "jdk/internal/util/ArraysSupport") ∈ lw_all := lw_g (lw_at lw_m1 31 rfl) rfl
theorem q524 : (Jvm.Cond.static ({ cls := "jdk/internal/util/ArraysSupport", name := "newLength", desc := "(III)I" } : Jvm.MethodName)) ∈ lw_all := lw_g (lw_at lw_m2 235 rfl) rfl
theorem q525 : (Jvm.Cond.code ({ cls := "jdk/internal/util/ArraysSupport", name := "newLength", desc := "(III)I" } : Jvm.MethodName) prog_56_method_27_code (4 : Nat) (Option.some Jvm.ClassFile.FieldType.int)) ∈ lw_all := lw_g (lw_at lw_m2 236 rfl) rfl
theorem q526 : (Jvm.Cond.methodLink "jdk/internal/util/ArraysSupport" (194 : Nat) ({ cls := "java/lang/Math", name := "max", desc := "(II)I" } : Jvm.MethodName)) ∈ lw_all := lw_g (lw_at lw_m2 237 rfl) rfl
theorem q529 : (Jvm.Cond.constant "jdk/internal/util/ArraysSupport" (200 : Nat) (2147483639 : Int32)) ∈ lw_all := lw_g (lw_at lw_m3 0 rfl) rfl
theorem q530 : (Jvm.Cond.methodLink "jdk/internal/util/ArraysSupport" (201 : Nat) ({ cls := "jdk/internal/util/ArraysSupport", name := "hugeLength", desc := "(II)I" } : Jvm.MethodName)) ∈ lw_all := lw_g (lw_at lw_m3 1 rfl) rfl
theorem q531 : (Jvm.Cond.static ({ cls := "jdk/internal/util/ArraysSupport", name := "hugeLength", desc := "(II)I" } : Jvm.MethodName)) ∈ lw_all := lw_g (lw_at lw_m3 2 rfl) rfl
theorem q532 : (Jvm.Cond.code ({ cls := "jdk/internal/util/ArraysSupport", name := "hugeLength", desc := "(II)I" } : Jvm.MethodName) prog_56_method_28_code (3 : Nat) (Option.some Jvm.ClassFile.FieldType.int)) ∈ lw_all := lw_g (lw_at lw_m3 3 rfl) rfl
theorem q81 : (Jvm.Cond.initialized "java/lang/Math") ∈ lw_all := lw_g (lw_at lw_m1 32 rfl) rfl
theorem q527 : (Jvm.Cond.static ({ cls := "java/lang/Math", name := "max", desc := "(II)I" } : Jvm.MethodName)) ∈ lw_all := lw_g (lw_at lw_m2 238 rfl) rfl
theorem q528 : (Jvm.Cond.code ({ cls := "java/lang/Math", name := "max", desc := "(II)I" } : Jvm.MethodName) prog_42_method_65_code (2 : Nat) (Option.some Jvm.ClassFile.FieldType.int)) ∈ lw_all := lw_g (lw_at lw_m2 239 rfl) rfl
theorem q581 : (Jvm.Cond.static ({ cls := "java/lang/Math", name := "min", desc := "(II)I" } : Jvm.MethodName)) ∈ lw_all := lw_g (lw_at lw_m3 52 rfl) rfl
theorem q582 : (Jvm.Cond.code ({ cls := "java/lang/Math", name := "min", desc := "(II)I" } : Jvm.MethodName) prog_42_method_69_code (2 : Nat) (Option.some Jvm.ClassFile.FieldType.int)) ∈ lw_all := lw_g (lw_at lw_m3 53 rfl) rfl
theorem q674 : (Jvm.Cond.static ({ cls := "java/lang/Math", name := "min", desc := "(JJ)J" } : Jvm.MethodName)) ∈ lw_all := lw_g (lw_at lw_m3 145 rfl) rfl
theorem q675 : (Jvm.Cond.code ({ cls := "java/lang/Math", name := "min", desc := "(JJ)J" } : Jvm.MethodName) prog_42_method_70_code (4 : Nat) (Option.some Jvm.ClassFile.FieldType.long)) ∈ lw_all := lw_g (lw_at lw_m3 146 rfl) rfl
theorem q677 : (Jvm.Cond.static ({ cls := "java/lang/Math", name := "max", desc := "(JJ)J" } : Jvm.MethodName)) ∈ lw_all := lw_g (lw_at lw_m3 148 rfl) rfl
theorem q678 : (Jvm.Cond.code ({ cls := "java/lang/Math", name := "max", desc := "(JJ)J" } : Jvm.MethodName) prog_42_method_66_code (4 : Nat) (Option.some Jvm.ClassFile.FieldType.long)) ∈ lw_all := lw_g (lw_at lw_m3 149 rfl) rfl
theorem q82 : (Jvm.Cond.initialized "java/util/Arrays") ∈ lw_all := lw_g (lw_at lw_m1 33 rfl) rfl
theorem q534 : (Jvm.Cond.static ({ cls := "java/util/Arrays", name := "copyOf", desc := "([Ljava/lang/Object;I)[Ljava/lang/Object;" } : Jvm.MethodName)) ∈ lw_all := lw_g (lw_at lw_m3 5 rfl) rfl
theorem q535 : (Jvm.Cond.code ({ cls := "java/util/Arrays", name := "copyOf", desc := "([Ljava/lang/Object;I)[Ljava/lang/Object;" } : Jvm.MethodName) prog_49_method_119_code (2 : Nat) (Option.some (Jvm.ClassFile.FieldType.array (Jvm.ClassFile.FieldType.object "java/lang/Object")))) ∈ lw_all := lw_g (lw_at lw_m3 6 rfl) rfl
theorem q536 : (Jvm.Cond.methodLink "java/util/Arrays" (86 : Nat) ({ cls := "java/lang/Object", name := "getClass", desc := "()Ljava/lang/Class;" } : Jvm.MethodName)) ∈ lw_all := lw_g (lw_at lw_m3 7 rfl) rfl
theorem q574 : (Jvm.Cond.methodLink "java/util/Arrays" (300 : Nat) ({ cls := "java/util/Arrays", name := "copyOf", desc := "([Ljava/lang/Object;ILjava/lang/Class;)[Ljava/lang/Object;" } : Jvm.MethodName)) ∈ lw_all := lw_g (lw_at lw_m3 45 rfl) rfl
theorem q575 : (Jvm.Cond.static ({ cls := "java/util/Arrays", name := "copyOf", desc := "([Ljava/lang/Object;ILjava/lang/Class;)[Ljava/lang/Object;" } : Jvm.MethodName)) ∈ lw_all := lw_g (lw_at lw_m3 46 rfl) rfl
theorem q576 : (Jvm.Cond.code ({ cls := "java/util/Arrays", name := "copyOf", desc := "([Ljava/lang/Object;ILjava/lang/Class;)[Ljava/lang/Object;" } : Jvm.MethodName) prog_49_method_120_code (4 : Nat) (Option.some (Jvm.ClassFile.FieldType.array (Jvm.ClassFile.FieldType.object "java/lang/Object")))) ∈ lw_all := lw_g (lw_at lw_m3 47 rfl) rfl
theorem q577 : (Jvm.Cond.classLink "java/util/Arrays" (110 : Nat) "[Ljava/lang/Object;") ∈ lw_all := lw_g (lw_at lw_m3 48 rfl) rfl
theorem q579 : (Jvm.Cond.classLink "java/util/Arrays" (2 : Nat) "java/lang/Object") ∈ lw_all := lw_g (lw_at lw_m3 50 rfl) rfl
theorem q580 : (Jvm.Cond.methodLink "java/util/Arrays" (304 : Nat) ({ cls := "java/lang/Math", name := "min", desc := "(II)I" } : Jvm.MethodName)) ∈ lw_all := lw_g (lw_at lw_m3 51 rfl) rfl
theorem q583 : (Jvm.Cond.methodLink "java/util/Arrays" (150 : Nat) ({ cls := "java/lang/System", name := "arraycopy", desc := "(Ljava/lang/Object;ILjava/lang/Object;II)V" } : Jvm.MethodName)) ∈ lw_all := lw_g (lw_at lw_m3 54 rfl) rfl
theorem q84 : (Jvm.Cond.initialized "java/util/Objects") ∈ lw_all := lw_g (lw_at lw_m1 35 rfl) rfl
theorem q612 : (Jvm.Cond.static ({ cls := "java/util/Objects", name := "checkIndex", desc := "(II)I" } : Jvm.MethodName)) ∈ lw_all := lw_g (lw_at lw_m3 83 rfl) rfl
theorem q613 : (Jvm.Cond.code ({ cls := "java/util/Objects", name := "checkIndex", desc := "(II)I" } : Jvm.MethodName) prog_53_method_17_code (2 : Nat) (Option.some Jvm.ClassFile.FieldType.int)) ∈ lw_all := lw_g (lw_at lw_m3 84 rfl) rfl
theorem q614 : (Jvm.Cond.methodLink "java/util/Objects" (105 : Nat) ({ cls := "jdk/internal/util/Preconditions", name := "checkIndex", desc := "(IILjava/util/function/BiFunction;)I" } : Jvm.MethodName)) ∈ lw_all := lw_g (lw_at lw_m3 85 rfl) rfl
theorem q85 : (Jvm.Cond.initialized "jdk/internal/util/Preconditions") ∈ lw_all := lw_g (lw_at lw_m1 36 rfl) rfl
theorem q615 : (Jvm.Cond.static ({ cls := "jdk/internal/util/Preconditions", name := "checkIndex", desc := "(IILjava/util/function/BiFunction;)I" } : Jvm.MethodName)) ∈ lw_all := lw_g (lw_at lw_m3 86 rfl) rfl
theorem q616 : (Jvm.Cond.code ({ cls := "jdk/internal/util/Preconditions", name := "checkIndex", desc := "(IILjava/util/function/BiFunction;)I" } : Jvm.MethodName) prog_57_method_11_code (3 : Nat) (Option.some Jvm.ClassFile.FieldType.int)) ∈ lw_all := lw_g (lw_at lw_m3 87 rfl) rfl
theorem q89 : (Jvm.Cond.initialized "java/lang/Enum") ∈ lw_all := lw_g (lw_at lw_m1 40 rfl) rfl
theorem q1361 : (Jvm.Cond.instanceMethod ({ cls := "java/lang/Enum", name := "equals", desc := "(Ljava/lang/Object;)Z" } : Jvm.MethodName)) ∈ lw_all := lw_g (lw_at lw_m6 112 rfl) rfl
theorem q1362 : (Jvm.Cond.code ({ cls := "java/lang/Enum", name := "equals", desc := "(Ljava/lang/Object;)Z" } : Jvm.MethodName) prog_38_method_5_code (2 : Nat) (Option.some Jvm.ClassFile.FieldType.boolean)) ∈ lw_all := lw_g (lw_at lw_m6 113 rfl) rfl
theorem nmJ9 : ∀ a, a < 5 → ∀ b, b < 5 → a ≠ b → (TJ9 a).2.1 ≠ (TJ9 b).2.1 := by decide +kernel
theorem tyJ9_ok : ∀ k, k < 5 → parseFieldDescriptor (TJ9 k).2.2.1 = some (tyJ9 k) := by decide +kernel
theorem q93 : (Jvm.Cond.initialized "java/lang/Throwable") ∈ lw_all := lw_g (lw_at lw_m1 44 rfl) rfl
theorem q967 : (Jvm.Cond.declares ({ cls := "java/lang/Throwable", name := "<init>", desc := "()V" } : Jvm.MethodName)) ∈ lw_tbl := lw_at lw_m4 198 rfl
theorem q968 : (Jvm.Cond.declares ({ cls := "java/lang/Throwable", name := "<init>", desc := "(Ljava/lang/String;)V" } : Jvm.MethodName)) ∈ lw_tbl := lw_at lw_m4 199 rfl
theorem q972 : (Jvm.Cond.lays "java/lang/Throwable" "java/lang/Throwable" "cause" "Ljava/lang/Throwable;") ∈ lw_all := lw_g (lw_at lw_m4 203 rfl) rfl
theorem q974 : (Jvm.Cond.lays "java/lang/Throwable" "java/lang/Throwable" "stackTrace" "[Ljava/lang/StackTraceElement;") ∈ lw_all := lw_g (lw_at lw_m4 205 rfl) rfl
theorem q976 : (Jvm.Cond.lays "java/lang/Throwable" "java/lang/Throwable" "suppressedExceptions" "Ljava/util/List;") ∈ lw_all := lw_g (lw_at lw_m4 207 rfl) rfl
theorem q978 : (Jvm.Cond.lays "java/lang/Throwable" "java/lang/Throwable" "detailMessage" "Ljava/lang/String;") ∈ lw_all := lw_g (lw_at lw_m4 209 rfl) rfl
theorem q980 : (Jvm.Cond.lays "java/lang/Throwable" "java/lang/Throwable" "backtrace" "Ljava/lang/Object;") ∈ lw_all := lw_g (lw_at lw_m4 211 rfl) rfl
theorem q981 : (Jvm.Cond.fieldLink "java/lang/Throwable" (198 : Nat) "java/lang/Throwable" "backtrace" "Ljava/lang/Object;") ∈ lw_all := lw_g (lw_at lw_m4 212 rfl) rfl
theorem q982 : (Jvm.Cond.superclass "java/lang/Throwable" "java/lang/Object") ∈ lw_all := lw_g (lw_at lw_m4 213 rfl) rfl
theorem q983 : (Jvm.Cond.instanceMethod ({ cls := "java/lang/Throwable", name := "<init>", desc := "()V" } : Jvm.MethodName)) ∈ lw_all := lw_g (lw_at lw_m4 214 rfl) rfl
theorem q984 : (Jvm.Cond.code ({ cls := "java/lang/Throwable", name := "<init>", desc := "()V" } : Jvm.MethodName) prog_44_method_1_code (1 : Nat) (Option.none : Option Jvm.ClassFile.FieldType)) ∈ lw_all := lw_g (lw_at lw_m4 215 rfl) rfl
theorem q985 : (Jvm.Cond.methodLink "java/lang/Throwable" (1 : Nat) ({ cls := "java/lang/Object", name := "<init>", desc := "()V" } : Jvm.MethodName)) ∈ lw_all := lw_g (lw_at lw_m4 216 rfl) rfl
theorem q986 : (Jvm.Cond.fieldLink "java/lang/Throwable" (13 : Nat) "java/lang/Throwable" "UNASSIGNED_STACK" "[Ljava/lang/StackTraceElement;") ∈ lw_all := lw_g (lw_at lw_m4 217 rfl) rfl
theorem q987 : (Jvm.Cond.laysStatic "java/lang/Throwable" "UNASSIGNED_STACK" "[Ljava/lang/StackTraceElement;") ∈ lw_tbl := lw_at lw_m4 218 rfl
theorem q988 : (Jvm.Cond.fieldLink "java/lang/Throwable" (20 : Nat) "java/lang/Throwable" "SUPPRESSED_SENTINEL" "Ljava/util/List;") ∈ lw_all := lw_g (lw_at lw_m4 219 rfl) rfl
theorem q989 : (Jvm.Cond.laysStatic "java/lang/Throwable" "SUPPRESSED_SENTINEL" "Ljava/util/List;") ∈ lw_tbl := lw_at lw_m4 220 rfl
theorem q990 : (Jvm.Cond.methodLink "java/lang/Throwable" (27 : Nat) ({ cls := "java/lang/Throwable", name := "fillInStackTrace", desc := "()Ljava/lang/Throwable;" } : Jvm.MethodName)) ∈ lw_all := lw_g (lw_at lw_m4 221 rfl) rfl
theorem q991 : (Jvm.Cond.instanceMethod ({ cls := "java/lang/Throwable", name := "fillInStackTrace", desc := "()Ljava/lang/Throwable;" } : Jvm.MethodName)) ∈ lw_all := lw_g (lw_at lw_m4 222 rfl) rfl
theorem q992 : (Jvm.Cond.sameMethod "java/lang/Throwable" "java/lang/Throwable" "fillInStackTrace" "()Ljava/lang/Throwable;") ∈ lw_all := lw_g (lw_at lw_m4 223 rfl) rfl
theorem q993 : (Jvm.Cond.codeSync ({ cls := "java/lang/Throwable", name := "fillInStackTrace", desc := "()Ljava/lang/Throwable;" } : Jvm.MethodName) prog_44_method_18_code (1 : Nat) (Option.some (Jvm.ClassFile.FieldType.object "java/lang/Throwable"))) ∈ lw_all := lw_g (lw_at lw_m4 224 rfl) rfl
theorem q994 : (Jvm.Cond.methodLink "java/lang/Throwable" (202 : Nat) ({ cls := "java/lang/Throwable", name := "fillInStackTrace", desc := "(I)Ljava/lang/Throwable;" } : Jvm.MethodName)) ∈ lw_all := lw_g (lw_at lw_m4 225 rfl) rfl
theorem q995 : (Jvm.Cond.privateMethod ({ cls := "java/lang/Throwable", name := "fillInStackTrace", desc := "(I)Ljava/lang/Throwable;" } : Jvm.MethodName)) ∈ lw_tbl := lw_at lw_m4 226 rfl
theorem q996 : (Jvm.Cond.instanceMethod ({ cls := "java/lang/Throwable", name := "fillInStackTrace", desc := "(I)Ljava/lang/Throwable;" } : Jvm.MethodName)) ∈ lw_all := lw_g (lw_at lw_m4 227 rfl) rfl
theorem q997 : (Jvm.Cond.instantiable "java/lang/Throwable" (6 : Nat)) ∈ lw_all := lw_g (lw_at lw_m4 228 rfl) rfl
theorem q998 : (Jvm.Cond.native ({ cls := "java/lang/Throwable", name := "fillInStackTrace", desc := "(I)Ljava/lang/Throwable;" } : Jvm.MethodName)) ∈ lw_all := lw_g (lw_at lw_m4 229 rfl) rfl
theorem q1006 : (Jvm.Cond.instanceMethod ({ cls := "java/lang/Throwable", name := "<init>", desc := "(Ljava/lang/String;Ljava/lang/Throwable;ZZ)V" } : Jvm.MethodName)) ∈ lw_all := lw_g (lw_at lw_m4 237 rfl) rfl
theorem q1007 : (Jvm.Cond.code ({ cls := "java/lang/Throwable", name := "<init>", desc := "(Ljava/lang/String;Ljava/lang/Throwable;ZZ)V" } : Jvm.MethodName) prog_44_method_5_code (5 : Nat) (Option.none : Option Jvm.ClassFile.FieldType)) ∈ lw_all := lw_g (lw_at lw_m4 238 rfl) rfl
theorem q1010 : (Jvm.Cond.fieldLink "java/lang/Throwable" (198 : Nat) "java/lang/Throwable" "backtrace" "Ljava/lang/Object;") ∈ lw_all := lw_g (lw_at lw_m5 1 rfl) rfl
theorem q1011 : (Jvm.Cond.fieldLink "java/lang/Throwable" (31 : Nat) "java/lang/Throwable" "detailMessage" "Ljava/lang/String;") ∈ lw_all := lw_g (lw_at lw_m5 2 rfl) rfl
theorem q1012 : (Jvm.Cond.fieldLink "java/lang/Throwable" (7 : Nat) "java/lang/Throwable" "cause" "Ljava/lang/Throwable;") ∈ lw_all := lw_g (lw_at lw_m5 3 rfl) rfl
theorem q1013 : (Jvm.Cond.fieldLink "java/lang/Throwable" (17 : Nat) "java/lang/Throwable" "stackTrace" "[Ljava/lang/StackTraceElement;") ∈ lw_all := lw_g (lw_at lw_m5 4 rfl) rfl
theorem q1014 : (Jvm.Cond.fieldLink "java/lang/Throwable" (24 : Nat) "java/lang/Throwable" "suppressedExceptions" "Ljava/util/List;") ∈ lw_all := lw_g (lw_at lw_m5 5 rfl) rfl
theorem q1017 : (Jvm.Cond.soleField "java/lang/Throwable" "backtrace") ∈ lw_all := lw_g (lw_at lw_m5 8 rfl) rfl
theorem q1018 : (Jvm.Cond.soleField "java/lang/Throwable" "detailMessage") ∈ lw_all := lw_g (lw_at lw_m5 9 rfl) rfl
theorem q1019 : (Jvm.Cond.soleField "java/lang/Throwable" "cause") ∈ lw_all := lw_g (lw_at lw_m5 10 rfl) rfl
theorem q1020 : (Jvm.Cond.soleField "java/lang/Throwable" "stackTrace") ∈ lw_all := lw_g (lw_at lw_m5 11 rfl) rfl
theorem q1022 : (Jvm.Cond.soleField "java/lang/Throwable" "depth") ∈ lw_all := lw_g (lw_at lw_m5 13 rfl) rfl
theorem q1023 : (Jvm.Cond.soleField "java/lang/Throwable" "suppressedExceptions") ∈ lw_all := lw_g (lw_at lw_m5 14 rfl) rfl
theorem q1805 : (Jvm.Cond.sameMethod "java/lang/Throwable" "java/lang/Throwable" "fillInStackTrace" "(I)Ljava/lang/Throwable;") ∈ lw_all := lw_g (lw_at lw_m8 76 rfl) rfl
theorem q1842 : (Jvm.Cond.castable "java/lang/Throwable" "java/lang/Object") ∈ lw_tbl := lw_at lw_m8 113 rfl
theorem in_J9 : ∀ w ∈ wsJ90, w ∈ lw_all := lw_in wsJ90 [972, 974, 976, 978, 980] (by decide +kernel) (by decide +kernel)
theorem nmX0 : ∀ a, a < 10 → ∀ b, b < 10 → a ≠ b → (TX0 a).2.1 ≠ (TX0 b).2.1 := by decide +kernel
theorem tyX0_ok : ∀ k, k < 10 → parseFieldDescriptor (TX0 k).2.2.1 = some (tyX0 k) := by decide +kernel
theorem q50 : (Jvm.Cond.initialized "BranchCells") ∈ lw_all := lw_g (lw_at lw_m1 1 rfl) rfl
theorem q99 : (Jvm.Cond.instantiable "BranchCells" (10 : Nat)) ∈ lw_all := lw_g (lw_at lw_m1 50 rfl) rfl
theorem q101 : (Jvm.Cond.instanceMethod ({ cls := "BranchCells", name := "<init>", desc := "()V" } : Jvm.MethodName)) ∈ lw_all := lw_g (lw_at lw_m1 52 rfl) rfl
theorem q102 : (Jvm.Cond.code ({ cls := "BranchCells", name := "<init>", desc := "()V" } : Jvm.MethodName) prog_1_method_7_code (1 : Nat) (Option.none : Option Jvm.ClassFile.FieldType)) ∈ lw_all := lw_g (lw_at lw_m1 53 rfl) rfl
theorem q103 : (Jvm.Cond.methodLink "BranchCells" (89 : Nat) ({ cls := "java/lang/Object", name := "<init>", desc := "()V" } : Jvm.MethodName)) ∈ lw_all := lw_g (lw_at lw_m1 54 rfl) rfl
theorem q106 : (Jvm.Cond.classLink "BranchCells" (94 : Nat) "BranchCells$Doer") ∈ lw_all := lw_g (lw_at lw_m1 57 rfl) rfl
theorem q108 : (Jvm.Cond.classLink "BranchCells" (96 : Nat) "java/util/ArrayList") ∈ lw_all := lw_g (lw_at lw_m1 59 rfl) rfl
theorem q110 : (Jvm.Cond.methodLink "BranchCells" (98 : Nat) ({ cls := "java/util/ArrayList", name := "<init>", desc := "()V" } : Jvm.MethodName)) ∈ lw_all := lw_g (lw_at lw_m1 61 rfl) rfl
theorem q137 : (Jvm.Cond.methodLink "BranchCells" (116 : Nat) ({ cls := "BranchCells", name := "makesCells", desc := "()V" } : Jvm.MethodName)) ∈ lw_all := lw_g (lw_at lw_m1 88 rfl) rfl
theorem q138 : (Jvm.Cond.privateMethod ({ cls := "BranchCells", name := "makesCells", desc := "()V" } : Jvm.MethodName)) ∈ lw_tbl := lw_at lw_m1 89 rfl
theorem q139 : (Jvm.Cond.instanceMethod ({ cls := "BranchCells", name := "makesCells", desc := "()V" } : Jvm.MethodName)) ∈ lw_all := lw_g (lw_at lw_m1 90 rfl) rfl
theorem q140 : (Jvm.Cond.code ({ cls := "BranchCells", name := "makesCells", desc := "()V" } : Jvm.MethodName) prog_1_method_3_code (1 : Nat) (Option.none : Option Jvm.ClassFile.FieldType)) ∈ lw_all := lw_g (lw_at lw_m1 91 rfl) rfl
theorem q141 : (Jvm.Cond.classLink "BranchCells" (19 : Nat) "BranchCells$1") ∈ lw_all := lw_g (lw_at lw_m1 92 rfl) rfl
theorem q143 : (Jvm.Cond.methodLink "BranchCells" (21 : Nat) ({ cls := "BranchCells$1", name := "<init>", desc := "(LBranchCells;I)V" } : Jvm.MethodName)) ∈ lw_all := lw_g (lw_at lw_m1 94 rfl) rfl
theorem q161 : (Jvm.Cond.classLink "BranchCells" (24 : Nat) "BranchCells$2") ∈ lw_all := lw_g (lw_at lw_m1 112 rfl) rfl
theorem q163 : (Jvm.Cond.methodLink "BranchCells" (26 : Nat) ({ cls := "BranchCells$2", name := "<init>", desc := "(LBranchCells;I)V" } : Jvm.MethodName)) ∈ lw_all := lw_g (lw_at lw_m1 114 rfl) rfl
theorem q173 : (Jvm.Cond.classLink "BranchCells" (27 : Nat) "BranchCells$3") ∈ lw_all := lw_g (lw_at lw_m1 124 rfl) rfl
theorem q175 : (Jvm.Cond.methodLink "BranchCells" (29 : Nat) ({ cls := "BranchCells$3", name := "<init>", desc := "(LBranchCells;I)V" } : Jvm.MethodName)) ∈ lw_all := lw_g (lw_at lw_m1 126 rfl) rfl
theorem q185 : (Jvm.Cond.classLink "BranchCells" (30 : Nat) "BranchCells$4") ∈ lw_all := lw_g (lw_at lw_m1 136 rfl) rfl
theorem q187 : (Jvm.Cond.methodLink "BranchCells" (32 : Nat) ({ cls := "BranchCells$4", name := "<init>", desc := "(LBranchCells;I)V" } : Jvm.MethodName)) ∈ lw_all := lw_g (lw_at lw_m1 138 rfl) rfl
theorem q197 : (Jvm.Cond.classLink "BranchCells" (33 : Nat) "BranchCells$5") ∈ lw_all := lw_g (lw_at lw_m1 148 rfl) rfl
theorem q199 : (Jvm.Cond.methodLink "BranchCells" (35 : Nat) ({ cls := "BranchCells$5", name := "<init>", desc := "(LBranchCells;I)V" } : Jvm.MethodName)) ∈ lw_all := lw_g (lw_at lw_m1 150 rfl) rfl
theorem q209 : (Jvm.Cond.methodLink "BranchCells" (119 : Nat) ({ cls := "BranchCells", name := "makesReckoners", desc := "()V" } : Jvm.MethodName)) ∈ lw_all := lw_g (lw_at lw_m1 160 rfl) rfl
theorem q210 : (Jvm.Cond.privateMethod ({ cls := "BranchCells", name := "makesReckoners", desc := "()V" } : Jvm.MethodName)) ∈ lw_tbl := lw_at lw_m1 161 rfl
theorem q211 : (Jvm.Cond.instanceMethod ({ cls := "BranchCells", name := "makesReckoners", desc := "()V" } : Jvm.MethodName)) ∈ lw_all := lw_g (lw_at lw_m1 162 rfl) rfl
theorem q212 : (Jvm.Cond.code ({ cls := "BranchCells", name := "makesReckoners", desc := "()V" } : Jvm.MethodName) prog_1_method_4_code (1 : Nat) (Option.none : Option Jvm.ClassFile.FieldType)) ∈ lw_all := lw_g (lw_at lw_m1 163 rfl) rfl
theorem q213 : (Jvm.Cond.classLink "BranchCells" (36 : Nat) "BranchCells$6") ∈ lw_all := lw_g (lw_at lw_m1 164 rfl) rfl
theorem q215 : (Jvm.Cond.methodLink "BranchCells" (38 : Nat) ({ cls := "BranchCells$6", name := "<init>", desc := "(LBranchCells;)V" } : Jvm.MethodName)) ∈ lw_all := lw_g (lw_at lw_m1 166 rfl) rfl
theorem q231 : (Jvm.Cond.classLink "BranchCells" (41 : Nat) "BranchCells$7") ∈ lw_all := lw_g (lw_at lw_m1 182 rfl) rfl
theorem q233 : (Jvm.Cond.methodLink "BranchCells" (43 : Nat) ({ cls := "BranchCells$7", name := "<init>", desc := "(LBranchCells;)V" } : Jvm.MethodName)) ∈ lw_all := lw_g (lw_at lw_m1 184 rfl) rfl
theorem q244 : (Jvm.Cond.classLink "BranchCells" (44 : Nat) "BranchCells$8") ∈ lw_all := lw_g (lw_at lw_m1 195 rfl) rfl
theorem q246 : (Jvm.Cond.methodLink "BranchCells" (46 : Nat) ({ cls := "BranchCells$8", name := "<init>", desc := "(LBranchCells;)V" } : Jvm.MethodName)) ∈ lw_all := lw_g (lw_at lw_m1 197 rfl) rfl
theorem q257 : (Jvm.Cond.classLink "BranchCells" (47 : Nat) "BranchCells$9") ∈ lw_all := lw_g (lw_at lw_m1 208 rfl) rfl
theorem q259 : (Jvm.Cond.methodLink "BranchCells" (49 : Nat) ({ cls := "BranchCells$9", name := "<init>", desc := "(LBranchCells;)V" } : Jvm.MethodName)) ∈ lw_all := lw_g (lw_at lw_m1 210 rfl) rfl
theorem q270 : (Jvm.Cond.classLink "BranchCells" (50 : Nat) "BranchCells$10") ∈ lw_all := lw_g (lw_at lw_m1 221 rfl) rfl
theorem q272 : (Jvm.Cond.methodLink "BranchCells" (52 : Nat) ({ cls := "BranchCells$10", name := "<init>", desc := "(LBranchCells;)V" } : Jvm.MethodName)) ∈ lw_all := lw_g (lw_at lw_m1 223 rfl) rfl
theorem q283 : (Jvm.Cond.classLink "BranchCells" (53 : Nat) "BranchCells$11") ∈ lw_all := lw_g (lw_at lw_m1 234 rfl) rfl
theorem q285 : (Jvm.Cond.methodLink "BranchCells" (55 : Nat) ({ cls := "BranchCells$11", name := "<init>", desc := "(LBranchCells;)V" } : Jvm.MethodName)) ∈ lw_all := lw_g (lw_at lw_m1 236 rfl) rfl
theorem q296 : (Jvm.Cond.classLink "BranchCells" (56 : Nat) "BranchCells$12") ∈ lw_all := lw_g (lw_at lw_m2 7 rfl) rfl
theorem q298 : (Jvm.Cond.methodLink "BranchCells" (58 : Nat) ({ cls := "BranchCells$12", name := "<init>", desc := "(LBranchCells;)V" } : Jvm.MethodName)) ∈ lw_all := lw_g (lw_at lw_m2 9 rfl) rfl
theorem q309 : (Jvm.Cond.methodLink "BranchCells" (122 : Nat) ({ cls := "BranchCells", name := "makesWays", desc := "()V" } : Jvm.MethodName)) ∈ lw_all := lw_g (lw_at lw_m2 20 rfl) rfl
theorem q310 : (Jvm.Cond.privateMethod ({ cls := "BranchCells", name := "makesWays", desc := "()V" } : Jvm.MethodName)) ∈ lw_tbl := lw_at lw_m2 21 rfl
theorem q311 : (Jvm.Cond.instanceMethod ({ cls := "BranchCells", name := "makesWays", desc := "()V" } : Jvm.MethodName)) ∈ lw_all := lw_g (lw_at lw_m2 22 rfl) rfl
theorem q312 : (Jvm.Cond.code ({ cls := "BranchCells", name := "makesWays", desc := "()V" } : Jvm.MethodName) prog_1_method_5_code (1 : Nat) (Option.none : Option Jvm.ClassFile.FieldType)) ∈ lw_all := lw_g (lw_at lw_m2 23 rfl) rfl
theorem q313 : (Jvm.Cond.classLink "BranchCells" (59 : Nat) "BranchCells$13") ∈ lw_all := lw_g (lw_at lw_m2 24 rfl) rfl
theorem q315 : (Jvm.Cond.methodLink "BranchCells" (61 : Nat) ({ cls := "BranchCells$13", name := "<init>", desc := "(LBranchCells;I)V" } : Jvm.MethodName)) ∈ lw_all := lw_g (lw_at lw_m2 26 rfl) rfl
theorem q325 : (Jvm.Cond.classLink "BranchCells" (62 : Nat) "BranchCells$14") ∈ lw_all := lw_g (lw_at lw_m2 36 rfl) rfl
theorem q327 : (Jvm.Cond.methodLink "BranchCells" (64 : Nat) ({ cls := "BranchCells$14", name := "<init>", desc := "(LBranchCells;I)V" } : Jvm.MethodName)) ∈ lw_all := lw_g (lw_at lw_m2 38 rfl) rfl
theorem q337 : (Jvm.Cond.classLink "BranchCells" (65 : Nat) "BranchCells$15") ∈ lw_all := lw_g (lw_at lw_m2 48 rfl) rfl
theorem q339 : (Jvm.Cond.methodLink "BranchCells" (67 : Nat) ({ cls := "BranchCells$15", name := "<init>", desc := "(LBranchCells;I)V" } : Jvm.MethodName)) ∈ lw_all := lw_g (lw_at lw_m2 50 rfl) rfl
theorem q349 : (Jvm.Cond.classLink "BranchCells" (68 : Nat) "BranchCells$16") ∈ lw_all := lw_g (lw_at lw_m2 60 rfl) rfl
theorem q351 : (Jvm.Cond.methodLink "BranchCells" (70 : Nat) ({ cls := "BranchCells$16", name := "<init>", desc := "(LBranchCells;I)V" } : Jvm.MethodName)) ∈ lw_all := lw_g (lw_at lw_m2 62 rfl) rfl
theorem q361 : (Jvm.Cond.classLink "BranchCells" (71 : Nat) "BranchCells$17") ∈ lw_all := lw_g (lw_at lw_m2 72 rfl) rfl
theorem q363 : (Jvm.Cond.methodLink "BranchCells" (73 : Nat) ({ cls := "BranchCells$17", name := "<init>", desc := "(LBranchCells;I)V" } : Jvm.MethodName)) ∈ lw_all := lw_g (lw_at lw_m2 74 rfl) rfl
theorem q373 : (Jvm.Cond.methodLink "BranchCells" (125 : Nat) ({ cls := "BranchCells", name := "makesTasks", desc := "()V" } : Jvm.MethodName)) ∈ lw_all := lw_g (lw_at lw_m2 84 rfl) rfl
theorem q374 : (Jvm.Cond.privateMethod ({ cls := "BranchCells", name := "makesTasks", desc := "()V" } : Jvm.MethodName)) ∈ lw_tbl := lw_at lw_m2 85 rfl
theorem q375 : (Jvm.Cond.instanceMethod ({ cls := "BranchCells", name := "makesTasks", desc := "()V" } : Jvm.MethodName)) ∈ lw_all := lw_g (lw_at lw_m2 86 rfl) rfl
theorem q376 : (Jvm.Cond.code ({ cls := "BranchCells", name := "makesTasks", desc := "()V" } : Jvm.MethodName) prog_1_method_6_code (1 : Nat) (Option.none : Option Jvm.ClassFile.FieldType)) ∈ lw_all := lw_g (lw_at lw_m2 87 rfl) rfl
theorem q377 : (Jvm.Cond.classLink "BranchCells" (74 : Nat) "BranchCells$18") ∈ lw_all := lw_g (lw_at lw_m2 88 rfl) rfl
theorem q379 : (Jvm.Cond.methodLink "BranchCells" (76 : Nat) ({ cls := "BranchCells$18", name := "<init>", desc := "(LBranchCells;I)V" } : Jvm.MethodName)) ∈ lw_all := lw_g (lw_at lw_m2 90 rfl) rfl
theorem q389 : (Jvm.Cond.classLink "BranchCells" (77 : Nat) "BranchCells$19") ∈ lw_all := lw_g (lw_at lw_m2 100 rfl) rfl
theorem q391 : (Jvm.Cond.methodLink "BranchCells" (79 : Nat) ({ cls := "BranchCells$19", name := "<init>", desc := "(LBranchCells;I)V" } : Jvm.MethodName)) ∈ lw_all := lw_g (lw_at lw_m2 102 rfl) rfl
theorem q401 : (Jvm.Cond.classLink "BranchCells" (80 : Nat) "BranchCells$20") ∈ lw_all := lw_g (lw_at lw_m2 112 rfl) rfl
theorem q403 : (Jvm.Cond.methodLink "BranchCells" (82 : Nat) ({ cls := "BranchCells$20", name := "<init>", desc := "(LBranchCells;I)V" } : Jvm.MethodName)) ∈ lw_all := lw_g (lw_at lw_m2 114 rfl) rfl
theorem q413 : (Jvm.Cond.classLink "BranchCells" (83 : Nat) "BranchCells$21") ∈ lw_all := lw_g (lw_at lw_m2 124 rfl) rfl
theorem q415 : (Jvm.Cond.methodLink "BranchCells" (85 : Nat) ({ cls := "BranchCells$21", name := "<init>", desc := "(LBranchCells;I)V" } : Jvm.MethodName)) ∈ lw_all := lw_g (lw_at lw_m2 126 rfl) rfl
theorem q425 : (Jvm.Cond.classLink "BranchCells" (86 : Nat) "BranchCells$22") ∈ lw_all := lw_g (lw_at lw_m2 136 rfl) rfl
theorem q427 : (Jvm.Cond.methodLink "BranchCells" (88 : Nat) ({ cls := "BranchCells$22", name := "<init>", desc := "(LBranchCells;I)V" } : Jvm.MethodName)) ∈ lw_all := lw_g (lw_at lw_m2 138 rfl) rfl
theorem q437 : (Jvm.Cond.fieldLink "BranchCells" (15 : Nat) "BranchCells" "doers" "[LBranchCells$Doer;") ∈ lw_all := lw_g (lw_at lw_m2 148 rfl) rfl
theorem q438 : (Jvm.Cond.fieldLink "BranchCells" (99 : Nat) "BranchCells" "blocks" "Ljava/util/List;") ∈ lw_all := lw_g (lw_at lw_m2 149 rfl) rfl
theorem q439 : (Jvm.Cond.fieldLink "BranchCells" (103 : Nat) "BranchCells" "mergers" "Ljava/util/List;") ∈ lw_all := lw_g (lw_at lw_m2 150 rfl) rfl
theorem q440 : (Jvm.Cond.fieldLink "BranchCells" (106 : Nat) "BranchCells" "kinds" "[I") ∈ lw_all := lw_g (lw_at lw_m2 151 rfl) rfl
theorem q441 : (Jvm.Cond.fieldLink "BranchCells" (283 : Nat) "BranchCells" "isRun" "Z") ∈ lw_all := lw_g (lw_at lw_m2 152 rfl) rfl
theorem q442 : (Jvm.Cond.fieldLink "BranchCells" (110 : Nat) "BranchCells" "tasks" "Ljava/util/List;") ∈ lw_all := lw_g (lw_at lw_m2 153 rfl) rfl
theorem q443 : (Jvm.Cond.fieldLink "BranchCells" (113 : Nat) "BranchCells" "segments" "Ljava/util/List;") ∈ lw_all := lw_g (lw_at lw_m2 154 rfl) rfl
theorem q444 : (Jvm.Cond.fieldLink "BranchCells" (130 : Nat) "BranchCells" "segmentsEver" "I") ∈ lw_all := lw_g (lw_at lw_m2 155 rfl) rfl
theorem q445 : (Jvm.Cond.fieldLink "BranchCells" (315 : Nat) "BranchCells" "stepsAll" "I") ∈ lw_all := lw_g (lw_at lw_m2 156 rfl) rfl
theorem q446 : (Jvm.Cond.fieldLink "BranchCells" (250 : Nat) "BranchCells" "merged" "I") ∈ lw_all := lw_g (lw_at lw_m2 157 rfl) rfl
theorem q447 : (Jvm.Cond.laysFinal "BranchCells" "BranchCells" "doers" "[LBranchCells$Doer;") ∈ lw_all := lw_g (lw_at lw_m2 158 rfl) rfl
theorem q448 : (Jvm.Cond.soleField "BranchCells" "doers") ∈ lw_all := lw_g (lw_at lw_m2 159 rfl) rfl
theorem q449 : (Jvm.Cond.laysFinal "BranchCells" "BranchCells" "blocks" "Ljava/util/List;") ∈ lw_all := lw_g (lw_at lw_m2 160 rfl) rfl
theorem q450 : (Jvm.Cond.soleField "BranchCells" "blocks") ∈ lw_all := lw_g (lw_at lw_m2 161 rfl) rfl
theorem q451 : (Jvm.Cond.laysFinal "BranchCells" "BranchCells" "mergers" "Ljava/util/List;") ∈ lw_all := lw_g (lw_at lw_m2 162 rfl) rfl
theorem q452 : (Jvm.Cond.soleField "BranchCells" "mergers") ∈ lw_all := lw_g (lw_at lw_m2 163 rfl) rfl
theorem q453 : (Jvm.Cond.laysFinal "BranchCells" "BranchCells" "kinds" "[I") ∈ lw_all := lw_g (lw_at lw_m2 164 rfl) rfl
theorem q454 : (Jvm.Cond.soleField "BranchCells" "kinds") ∈ lw_all := lw_g (lw_at lw_m2 165 rfl) rfl
theorem q455 : (Jvm.Cond.lays "BranchCells" "BranchCells" "isRun" "Z") ∈ lw_all := lw_g (lw_at lw_m2 166 rfl) rfl
theorem q456 : (Jvm.Cond.soleField "BranchCells" "isRun") ∈ lw_all := lw_g (lw_at lw_m2 167 rfl) rfl
theorem q457 : (Jvm.Cond.laysFinal "BranchCells" "BranchCells" "tasks" "Ljava/util/List;") ∈ lw_all := lw_g (lw_at lw_m2 168 rfl) rfl
theorem q458 : (Jvm.Cond.soleField "BranchCells" "tasks") ∈ lw_all := lw_g (lw_at lw_m2 169 rfl) rfl
theorem q459 : (Jvm.Cond.laysFinal "BranchCells" "BranchCells" "segments" "Ljava/util/List;") ∈ lw_all := lw_g (lw_at lw_m2 170 rfl) rfl
theorem q460 : (Jvm.Cond.soleField "BranchCells" "segments") ∈ lw_all := lw_g (lw_at lw_m2 171 rfl) rfl
theorem q461 : (Jvm.Cond.lays "BranchCells" "BranchCells" "segmentsEver" "I") ∈ lw_all := lw_g (lw_at lw_m2 172 rfl) rfl
theorem q462 : (Jvm.Cond.soleField "BranchCells" "segmentsEver") ∈ lw_all := lw_g (lw_at lw_m2 173 rfl) rfl
theorem q463 : (Jvm.Cond.lays "BranchCells" "BranchCells" "stepsAll" "I") ∈ lw_all := lw_g (lw_at lw_m2 174 rfl) rfl
theorem q464 : (Jvm.Cond.soleField "BranchCells" "stepsAll") ∈ lw_all := lw_g (lw_at lw_m2 175 rfl) rfl
theorem q465 : (Jvm.Cond.lays "BranchCells" "BranchCells" "merged" "I") ∈ lw_all := lw_g (lw_at lw_m2 176 rfl) rfl
theorem q466 : (Jvm.Cond.soleField "BranchCells" "merged") ∈ lw_all := lw_g (lw_at lw_m2 177 rfl) rfl
theorem q467 : (Jvm.Cond.superclass "BranchCells" "java/lang/Object") ∈ lw_all := lw_g (lw_at lw_m2 178 rfl) rfl
theorem q469 : (Jvm.Cond.instanceMethod ({ cls := "BranchCells", name := "block", desc := "()I" } : Jvm.MethodName)) ∈ lw_all := lw_g (lw_at lw_m2 180 rfl) rfl
theorem q470 : (Jvm.Cond.selects "BranchCells" ({ cls := "BranchCells", name := "block", desc := "()I" } : Jvm.MethodName) ({ cls := "BranchCells", name := "block", desc := "()I" } : Jvm.MethodName)) ∈ lw_all := lw_g (lw_at lw_m2 181 rfl) rfl
theorem q471 : (Jvm.Cond.code ({ cls := "BranchCells", name := "block", desc := "()I" } : Jvm.MethodName) prog_1_method_13_code (1 : Nat) (Option.some Jvm.ClassFile.FieldType.int)) ∈ lw_all := lw_g (lw_at lw_m2 182 rfl) rfl
theorem q472 : (Jvm.Cond.interfaceEntry "BranchCells" (145 : Nat)) ∈ lw_tbl := lw_at lw_m2 183 rfl
theorem q473 : (Jvm.Cond.methodLink "BranchCells" (145 : Nat) ({ cls := "java/util/List", name := "size", desc := "()I" } : Jvm.MethodName)) ∈ lw_all := lw_g (lw_at lw_m2 184 rfl) rfl
theorem q482 : (Jvm.Cond.classLink "BranchCells" (153 : Nat) "BranchCells$Block") ∈ lw_all := lw_g (lw_at lw_m2 193 rfl) rfl
theorem q484 : (Jvm.Cond.methodLinkNest "BranchCells" (272 : Nat) ({ cls := "BranchCells$Block", name := "<init>", desc := "()V" } : Jvm.MethodName) "BranchCells") ∈ lw_tbl := lw_at lw_m2 195 rfl
theorem q490 : (Jvm.Cond.fieldLinkNest "BranchCells" (288 : Nat) "BranchCells$Block" "ops" "[I" "BranchCells") ∈ lw_tbl := lw_at lw_m2 201 rfl
theorem q492 : (Jvm.Cond.fieldLinkNest "BranchCells" (291 : Nat) "BranchCells$Block" "as" "[I" "BranchCells") ∈ lw_tbl := lw_at lw_m2 203 rfl
theorem q494 : (Jvm.Cond.fieldLinkNest "BranchCells" (286 : Nat) "BranchCells$Block" "size" "I" "BranchCells") ∈ lw_tbl := lw_at lw_m2 205 rfl
theorem q502 : (Jvm.Cond.interfaceEntry "BranchCells" (137 : Nat)) ∈ lw_tbl := lw_at lw_m2 213 rfl
theorem q503 : (Jvm.Cond.methodLink "BranchCells" (137 : Nat) ({ cls := "java/util/List", name := "add", desc := "(Ljava/lang/Object;)Z" } : Jvm.MethodName)) ∈ lw_all := lw_g (lw_at lw_m2 214 rfl) rfl
theorem q539 : (Jvm.Cond.selects "BranchCells" ({ cls := "java/lang/Object", name := "getClass", desc := "()Ljava/lang/Class;" } : Jvm.MethodName) ({ cls := "java/lang/Object", name := "getClass", desc := "()Ljava/lang/Class;" } : Jvm.MethodName)) ∈ lw_all := lw_g (lw_at lw_m3 10 rfl) rfl
theorem q589 : (Jvm.Cond.instanceMethod ({ cls := "BranchCells", name := "code", desc := "(III)I" } : Jvm.MethodName)) ∈ lw_all := lw_g (lw_at lw_m3 60 rfl) rfl
theorem q590 : (Jvm.Cond.selects "BranchCells" ({ cls := "BranchCells", name := "code", desc := "(III)I" } : Jvm.MethodName) ({ cls := "BranchCells", name := "code", desc := "(III)I" } : Jvm.MethodName)) ∈ lw_all := lw_g (lw_at lw_m3 61 rfl) rfl
theorem q591 : (Jvm.Cond.code ({ cls := "BranchCells", name := "code", desc := "(III)I" } : Jvm.MethodName) prog_1_method_15_code (5 : Nat) (Option.some Jvm.ClassFile.FieldType.int)) ∈ lw_all := lw_g (lw_at lw_m3 62 rfl) rfl
theorem q592 : (Jvm.Cond.methodLink "BranchCells" (5 : Nat) ({ cls := "BranchCells", name := "in", desc := "(JJJ)Z" } : Jvm.MethodName)) ∈ lw_all := lw_g (lw_at lw_m3 63 rfl) rfl
theorem q593 : (Jvm.Cond.static ({ cls := "BranchCells", name := "in", desc := "(JJJ)Z" } : Jvm.MethodName)) ∈ lw_all := lw_g (lw_at lw_m3 64 rfl) rfl
theorem q594 : (Jvm.Cond.code ({ cls := "BranchCells", name := "in", desc := "(JJJ)Z" } : Jvm.MethodName) prog_1_method_1_code (6 : Nat) (Option.some Jvm.ClassFile.FieldType.boolean)) ∈ lw_all := lw_g (lw_at lw_m3 65 rfl) rfl
theorem q595 : (Jvm.Cond.methodLink "BranchCells" (279 : Nat) ({ cls := "BranchCells", name := "mayHave", desc := "(II)Z" } : Jvm.MethodName)) ∈ lw_all := lw_g (lw_at lw_m3 66 rfl) rfl
theorem q596 : (Jvm.Cond.static ({ cls := "BranchCells", name := "mayHave", desc := "(II)Z" } : Jvm.MethodName)) ∈ lw_all := lw_g (lw_at lw_m3 67 rfl) rfl
theorem q597 : (Jvm.Cond.code ({ cls := "BranchCells", name := "mayHave", desc := "(II)Z" } : Jvm.MethodName) prog_1_method_14_code (2 : Nat) (Option.some Jvm.ClassFile.FieldType.boolean)) ∈ lw_all := lw_g (lw_at lw_m3 68 rfl) rfl
theorem q598 : (Jvm.Cond.constantLong "BranchCells" (3 : Nat) (15 : Int64)) ∈ lw_all := lw_g (lw_at lw_m3 69 rfl) rfl
theorem q599 : (Jvm.Cond.constantLong "BranchCells" (273 : Nat) (40 : Int64)) ∈ lw_all := lw_g (lw_at lw_m3 70 rfl) rfl
theorem q600 : (Jvm.Cond.constantLong "BranchCells" (275 : Nat) (7 : Int64)) ∈ lw_all := lw_g (lw_at lw_m3 71 rfl) rfl
theorem q601 : (Jvm.Cond.constantLong "BranchCells" (277 : Nat) (21 : Int64)) ∈ lw_all := lw_g (lw_at lw_m3 72 rfl) rfl
theorem q602 : (Jvm.Cond.interfaceEntry "BranchCells" (149 : Nat)) ∈ lw_tbl := lw_at lw_m3 73 rfl
theorem q603 : (Jvm.Cond.methodLink "BranchCells" (149 : Nat) ({ cls := "java/util/List", name := "get", desc := "(I)Ljava/lang/Object;" } : Jvm.MethodName)) ∈ lw_all := lw_g (lw_at lw_m3 74 rfl) rfl
theorem q622 : (Jvm.Cond.instanceMethod ({ cls := "BranchCells", name := "merger", desc := "()I" } : Jvm.MethodName)) ∈ lw_all := lw_g (lw_at lw_m3 93 rfl) rfl
theorem q623 : (Jvm.Cond.selects "BranchCells" ({ cls := "BranchCells", name := "merger", desc := "()I" } : Jvm.MethodName) ({ cls := "BranchCells", name := "merger", desc := "()I" } : Jvm.MethodName)) ∈ lw_all := lw_g (lw_at lw_m3 94 rfl) rfl
theorem q624 : (Jvm.Cond.code ({ cls := "BranchCells", name := "merger", desc := "()I" } : Jvm.MethodName) prog_1_method_16_code (1 : Nat) (Option.some Jvm.ClassFile.FieldType.int)) ∈ lw_all := lw_g (lw_at lw_m3 95 rfl) rfl
theorem q625 : (Jvm.Cond.classLink "BranchCells" (191 : Nat) "BranchCells$Merger") ∈ lw_all := lw_g (lw_at lw_m3 96 rfl) rfl
theorem q627 : (Jvm.Cond.methodLinkNest "BranchCells" (294 : Nat) ({ cls := "BranchCells$Merger", name := "<init>", desc := "()V" } : Jvm.MethodName) "BranchCells") ∈ lw_tbl := lw_at lw_m3 98 rfl
theorem q632 : (Jvm.Cond.fieldLinkNest "BranchCells" (302 : Nat) "BranchCells$Merger" "ops" "[I" "BranchCells") ∈ lw_tbl := lw_at lw_m3 103 rfl
theorem q634 : (Jvm.Cond.fieldLinkNest "BranchCells" (303 : Nat) "BranchCells$Merger" "as" "[I" "BranchCells") ∈ lw_tbl := lw_at lw_m3 105 rfl
theorem q636 : (Jvm.Cond.fieldLinkNest "BranchCells" (301 : Nat) "BranchCells$Merger" "size" "I" "BranchCells") ∈ lw_tbl := lw_at lw_m3 107 rfl
theorem q649 : (Jvm.Cond.instanceMethod ({ cls := "BranchCells", name := "act", desc := "(III)I" } : Jvm.MethodName)) ∈ lw_all := lw_g (lw_at lw_m3 120 rfl) rfl
theorem q650 : (Jvm.Cond.selects "BranchCells" ({ cls := "BranchCells", name := "act", desc := "(III)I" } : Jvm.MethodName) ({ cls := "BranchCells", name := "act", desc := "(III)I" } : Jvm.MethodName)) ∈ lw_all := lw_g (lw_at lw_m3 121 rfl) rfl
theorem q651 : (Jvm.Cond.code ({ cls := "BranchCells", name := "act", desc := "(III)I" } : Jvm.MethodName) prog_1_method_18_code (5 : Nat) (Option.some Jvm.ClassFile.FieldType.int)) ∈ lw_all := lw_g (lw_at lw_m3 122 rfl) rfl
theorem q652 : (Jvm.Cond.methodLink "BranchCells" (295 : Nat) ({ cls := "BranchCells", name := "isMerger", desc := "(I)Z" } : Jvm.MethodName)) ∈ lw_all := lw_g (lw_at lw_m3 123 rfl) rfl
theorem q653 : (Jvm.Cond.privateMethod ({ cls := "BranchCells", name := "isMerger", desc := "(I)Z" } : Jvm.MethodName)) ∈ lw_tbl := lw_at lw_m3 124 rfl
theorem q654 : (Jvm.Cond.instanceMethod ({ cls := "BranchCells", name := "isMerger", desc := "(I)Z" } : Jvm.MethodName)) ∈ lw_all := lw_g (lw_at lw_m3 125 rfl) rfl
theorem q655 : (Jvm.Cond.code ({ cls := "BranchCells", name := "isMerger", desc := "(I)Z" } : Jvm.MethodName) prog_1_method_17_code (2 : Nat) (Option.some Jvm.ClassFile.FieldType.boolean)) ∈ lw_all := lw_g (lw_at lw_m3 126 rfl) rfl
theorem q656 : (Jvm.Cond.constantLong "BranchCells" (299 : Nat) (10 : Int64)) ∈ lw_all := lw_g (lw_at lw_m3 127 rfl) rfl
theorem q658 : (Jvm.Cond.instanceMethod ({ cls := "BranchCells", name := "tells", desc := "(IJJJ)J" } : Jvm.MethodName)) ∈ lw_all := lw_g (lw_at lw_m3 129 rfl) rfl
theorem q659 : (Jvm.Cond.selects "BranchCells" ({ cls := "BranchCells", name := "tells", desc := "(IJJJ)J" } : Jvm.MethodName) ({ cls := "BranchCells", name := "tells", desc := "(IJJJ)J" } : Jvm.MethodName)) ∈ lw_all := lw_g (lw_at lw_m3 130 rfl) rfl
theorem q660 : (Jvm.Cond.code ({ cls := "BranchCells", name := "tells", desc := "(IJJJ)J" } : Jvm.MethodName) prog_1_method_19_code (9 : Nat) (Option.some Jvm.ClassFile.FieldType.long)) ∈ lw_all := lw_g (lw_at lw_m3 131 rfl) rfl
theorem q661 : (Jvm.Cond.constantLong "BranchCells" (189 : Nat) (-1 : Int64)) ∈ lw_all := lw_g (lw_at lw_m3 132 rfl) rfl
theorem q662 : (Jvm.Cond.methodLink "BranchCells" (304 : Nat) ({ cls := "BranchCells$Merger", name := "isRight", desc := "()Z" } : Jvm.MethodName)) ∈ lw_all := lw_g (lw_at lw_m3 133 rfl) rfl
theorem q666 : (Jvm.Cond.methodLink "BranchCells" (193 : Nat) ({ cls := "BranchCells$Merger", name := "tells", desc := "(JJJ)J" } : Jvm.MethodName)) ∈ lw_all := lw_g (lw_at lw_m3 137 rfl) rfl
theorem q679 : (Jvm.Cond.constantLong "BranchCells" (308 : Nat) (-4 : Int64)) ∈ lw_all := lw_g (lw_at lw_m3 150 rfl) rfl
theorem q681 : (Jvm.Cond.instanceMethod ({ cls := "BranchCells", name := "isRight", desc := "(I)I" } : Jvm.MethodName)) ∈ lw_all := lw_g (lw_at lw_m3 152 rfl) rfl
theorem q682 : (Jvm.Cond.selects "BranchCells" ({ cls := "BranchCells", name := "isRight", desc := "(I)I" } : Jvm.MethodName) ({ cls := "BranchCells", name := "isRight", desc := "(I)I" } : Jvm.MethodName)) ∈ lw_all := lw_g (lw_at lw_m3 153 rfl) rfl
theorem q683 : (Jvm.Cond.code ({ cls := "BranchCells", name := "isRight", desc := "(I)I" } : Jvm.MethodName) prog_1_method_20_code (2 : Nat) (Option.some Jvm.ClassFile.FieldType.int)) ∈ lw_all := lw_g (lw_at lw_m3 154 rfl) rfl
theorem q685 : (Jvm.Cond.instanceMethod ({ cls := "BranchCells", name := "kind", desc := "(II)I" } : Jvm.MethodName)) ∈ lw_all := lw_g (lw_at lw_m3 156 rfl) rfl
theorem q686 : (Jvm.Cond.selects "BranchCells" ({ cls := "BranchCells", name := "kind", desc := "(II)I" } : Jvm.MethodName) ({ cls := "BranchCells", name := "kind", desc := "(II)I" } : Jvm.MethodName)) ∈ lw_all := lw_g (lw_at lw_m3 157 rfl) rfl
theorem q687 : (Jvm.Cond.code ({ cls := "BranchCells", name := "kind", desc := "(II)I" } : Jvm.MethodName) prog_1_method_21_code (4 : Nat) (Option.some Jvm.ClassFile.FieldType.int)) ∈ lw_all := lw_g (lw_at lw_m3 158 rfl) rfl
theorem q688 : (Jvm.Cond.constantLong "BranchCells" (310 : Nat) (6 : Int64)) ∈ lw_all := lw_g (lw_at lw_m3 159 rfl) rfl
theorem q690 : (Jvm.Cond.instanceMethod ({ cls := "BranchCells", name := "start", desc := "(J)I" } : Jvm.MethodName)) ∈ lw_all := lw_g (lw_at lw_m3 161 rfl) rfl
theorem q691 : (Jvm.Cond.selects "BranchCells" ({ cls := "BranchCells", name := "start", desc := "(J)I" } : Jvm.MethodName) ({ cls := "BranchCells", name := "start", desc := "(J)I" } : Jvm.MethodName)) ∈ lw_all := lw_g (lw_at lw_m3 162 rfl) rfl
theorem q692 : (Jvm.Cond.code ({ cls := "BranchCells", name := "start", desc := "(J)I" } : Jvm.MethodName) prog_1_method_23_code (5 : Nat) (Option.some Jvm.ClassFile.FieldType.int)) ∈ lw_all := lw_g (lw_at lw_m3 163 rfl) rfl
theorem q693 : (Jvm.Cond.interfaceEntry "BranchCells" (318 : Nat)) ∈ lw_tbl := lw_at lw_m3 164 rfl
theorem q694 : (Jvm.Cond.methodLink "BranchCells" (318 : Nat) ({ cls := "java/util/List", name := "isEmpty", desc := "()Z" } : Jvm.MethodName)) ∈ lw_all := lw_g (lw_at lw_m3 165 rfl) rfl
theorem q702 : (Jvm.Cond.methodLink "BranchCells" (321 : Nat) ({ cls := "BranchCells", name := "clears", desc := "()V" } : Jvm.MethodName)) ∈ lw_all := lw_g (lw_at lw_m3 173 rfl) rfl
theorem q703 : (Jvm.Cond.privateMethod ({ cls := "BranchCells", name := "clears", desc := "()V" } : Jvm.MethodName)) ∈ lw_tbl := lw_at lw_m3 174 rfl
theorem q704 : (Jvm.Cond.instanceMethod ({ cls := "BranchCells", name := "clears", desc := "()V" } : Jvm.MethodName)) ∈ lw_all := lw_g (lw_at lw_m3 175 rfl) rfl
theorem q705 : (Jvm.Cond.code ({ cls := "BranchCells", name := "clears", desc := "()V" } : Jvm.MethodName) prog_1_method_22_code (1 : Nat) (Option.none : Option Jvm.ClassFile.FieldType)) ∈ lw_all := lw_g (lw_at lw_m3 176 rfl) rfl
theorem q706 : (Jvm.Cond.interfaceEntry "BranchCells" (312 : Nat)) ∈ lw_tbl := lw_at lw_m3 177 rfl
theorem q707 : (Jvm.Cond.methodLink "BranchCells" (312 : Nat) ({ cls := "java/util/List", name := "clear", desc := "()V" } : Jvm.MethodName)) ∈ lw_all := lw_g (lw_at lw_m3 178 rfl) rfl
theorem q715 : (Jvm.Cond.methodLink "BranchCells" (181 : Nat) ({ cls := "BranchCells", name := "segment", desc := "(LBranchCells$Segment;)LBranchCells$Segment;" } : Jvm.MethodName)) ∈ lw_all := lw_g (lw_at lw_m3 186 rfl) rfl
theorem q716 : (Jvm.Cond.privateMethod ({ cls := "BranchCells", name := "segment", desc := "(LBranchCells$Segment;)LBranchCells$Segment;" } : Jvm.MethodName)) ∈ lw_tbl := lw_at lw_m3 187 rfl
theorem q717 : (Jvm.Cond.instanceMethod ({ cls := "BranchCells", name := "segment", desc := "(LBranchCells$Segment;)LBranchCells$Segment;" } : Jvm.MethodName)) ∈ lw_all := lw_g (lw_at lw_m3 188 rfl) rfl
theorem q718 : (Jvm.Cond.code ({ cls := "BranchCells", name := "segment", desc := "(LBranchCells$Segment;)LBranchCells$Segment;" } : Jvm.MethodName) prog_1_method_8_code (3 : Nat) (Option.some (Jvm.ClassFile.FieldType.object "BranchCells$Segment"))) ∈ lw_all := lw_g (lw_at lw_m3 189 rfl) rfl
theorem q719 : (Jvm.Cond.classLink "BranchCells" (128 : Nat) "BranchCells$Segment") ∈ lw_all := lw_g (lw_at lw_m3 190 rfl) rfl
theorem q721 : (Jvm.Cond.methodLink "BranchCells" (134 : Nat) ({ cls := "BranchCells$Segment", name := "<init>", desc := "(ILBranchCells$Segment;)V" } : Jvm.MethodName)) ∈ lw_all := lw_g (lw_at lw_m3 192 rfl) rfl
theorem q726 : (Jvm.Cond.fieldLinkNest "BranchCells" (394 : Nat) "BranchCells$Segment" "number" "I" "BranchCells") ∈ lw_tbl := lw_at lw_m3 197 rfl
theorem q728 : (Jvm.Cond.fieldLinkNest "BranchCells" (235 : Nat) "BranchCells$Segment" "below" "LBranchCells$Segment;" "BranchCells") ∈ lw_tbl := lw_at lw_m3 199 rfl
theorem q730 : (Jvm.Cond.fieldLinkNest "BranchCells" (432 : Nat) "BranchCells$Segment" "values" "[J" "BranchCells") ∈ lw_tbl := lw_at lw_m3 201 rfl
theorem q732 : (Jvm.Cond.fieldLinkNest "BranchCells" (232 : Nat) "BranchCells$Segment" "has" "I" "BranchCells") ∈ lw_tbl := lw_at lw_m3 203 rfl
theorem q734 : (Jvm.Cond.fieldLinkNest "BranchCells" (408 : Nat) "BranchCells$Segment" "held" "Z" "BranchCells") ∈ lw_tbl := lw_at lw_m3 205 rfl
theorem q736 : (Jvm.Cond.fieldLinkNest "BranchCells" (404 : Nat) "BranchCells$Segment" "present" "Z" "BranchCells") ∈ lw_tbl := lw_at lw_m3 207 rfl
theorem q738 : (Jvm.Cond.fieldLinkNest "BranchCells" (406 : Nat) "BranchCells$Segment" "root" "Z" "BranchCells") ∈ lw_tbl := lw_at lw_m3 209 rfl
theorem q740 : (Jvm.Cond.fieldLinkNest "BranchCells" (411 : Nat) "BranchCells$Segment" "above" "I" "BranchCells") ∈ lw_tbl := lw_at lw_m3 211 rfl
theorem q742 : (Jvm.Cond.fieldLinkNest "BranchCells" (414 : Nat) "BranchCells$Segment" "upper" "LBranchCells$Segment;" "BranchCells") ∈ lw_tbl := lw_at lw_m3 213 rfl
theorem q762 : (Jvm.Cond.methodLink "BranchCells" (185 : Nat) ({ cls := "BranchCells", name := "begins", desc := "(LBranchCells$Task;IILBranchCells$Segment;LBranchCells$Segment;JLBranchCells$Task;)LBranchCells$Task;" } : Jvm.MethodName)) ∈ lw_all := lw_g (lw_at lw_m3 233 rfl) rfl
theorem q763 : (Jvm.Cond.privateMethod ({ cls := "BranchCells", name := "begins", desc := "(LBranchCells$Task;IILBranchCells$Segment;LBranchCells$Segment;JLBranchCells$Task;)LBranchCells$Task;" } : Jvm.MethodName)) ∈ lw_tbl := lw_at lw_m3 234 rfl
theorem q764 : (Jvm.Cond.instanceMethod ({ cls := "BranchCells", name := "begins", desc := "(LBranchCells$Task;IILBranchCells$Segment;LBranchCells$Segment;JLBranchCells$Task;)LBranchCells$Task;" } : Jvm.MethodName)) ∈ lw_all := lw_g (lw_at lw_m3 235 rfl) rfl
theorem q765 : (Jvm.Cond.code ({ cls := "BranchCells", name := "begins", desc := "(LBranchCells$Task;IILBranchCells$Segment;LBranchCells$Segment;JLBranchCells$Task;)LBranchCells$Task;" } : Jvm.MethodName) prog_1_method_9_code (10 : Nat) (Option.some (Jvm.ClassFile.FieldType.object "BranchCells$Task"))) ∈ lw_all := lw_g (lw_at lw_m3 236 rfl) rfl
theorem q766 : (Jvm.Cond.classLink "BranchCells" (143 : Nat) "BranchCells$Task") ∈ lw_all := lw_g (lw_at lw_m3 237 rfl) rfl
theorem q768 : (Jvm.Cond.methodLink "BranchCells" (155 : Nat) ({ cls := "BranchCells$Task", name := "<init>", desc := "(ILBranchCells$Task;IILBranchCells$Block;LBranchCells$Segment;LBranchCells$Segment;)V" } : Jvm.MethodName)) ∈ lw_all := lw_g (lw_at lw_m3 239 rfl) rfl
theorem q788 : (Jvm.Cond.fieldLink "BranchCells" (260 : Nat) "BranchCells$Values" "numbers" "[J") ∈ lw_all := lw_g (lw_at lw_m4 19 rfl) rfl
theorem q796 : (Jvm.Cond.fieldLink "BranchCells" (263 : Nat) "BranchCells$Values" "handles" "[LBranchCells$Task;") ∈ lw_all := lw_g (lw_at lw_m4 27 rfl) rfl
theorem q810 : (Jvm.Cond.fieldLinkNest "BranchCells" (334 : Nat) "BranchCells$Pile" "size" "I" "BranchCells") ∈ lw_tbl := lw_at lw_m4 41 rfl
theorem q817 : (Jvm.Cond.fieldLinkNest "BranchCells" (374 : Nat) "BranchCells$Task" "number" "I" "BranchCells") ∈ lw_tbl := lw_at lw_m4 48 rfl
theorem q819 : (Jvm.Cond.fieldLinkNest "BranchCells" (377 : Nat) "BranchCells$Task" "by" "LBranchCells$Task;" "BranchCells") ∈ lw_tbl := lw_at lw_m4 50 rfl
theorem q821 : (Jvm.Cond.fieldLinkNest "BranchCells" (384 : Nat) "BranchCells$Task" "ordinal" "I" "BranchCells") ∈ lw_tbl := lw_at lw_m4 52 rfl
theorem q823 : (Jvm.Cond.fieldLinkNest "BranchCells" (171 : Nat) "BranchCells$Task" "depth" "I" "BranchCells") ∈ lw_tbl := lw_at lw_m4 54 rfl
theorem q825 : (Jvm.Cond.fieldLinkNest "BranchCells" (387 : Nat) "BranchCells$Task" "blockNumber" "I" "BranchCells") ∈ lw_tbl := lw_at lw_m4 56 rfl
theorem q827 : (Jvm.Cond.fieldLinkNest "BranchCells" (324 : Nat) "BranchCells$Task" "block" "LBranchCells$Block;" "BranchCells") ∈ lw_tbl := lw_at lw_m4 58 rfl
theorem q831 : (Jvm.Cond.fieldLinkNest "BranchCells" (328 : Nat) "BranchCells$Task" "place" "I" "BranchCells") ∈ lw_tbl := lw_at lw_m4 62 rfl
theorem q833 : (Jvm.Cond.fieldLinkNest "BranchCells" (331 : Nat) "BranchCells$Task" "steps" "I" "BranchCells") ∈ lw_tbl := lw_at lw_m4 64 rfl
theorem q834 : (Jvm.Cond.fieldLinkNest "BranchCells" (174 : Nat) "BranchCells$Task" "forks" "I" "BranchCells") ∈ lw_tbl := lw_at lw_m4 65 rfl
theorem q835 : (Jvm.Cond.fieldLinkNest "BranchCells" (226 : Nat) "BranchCells$Task" "failedBy" "I" "BranchCells") ∈ lw_tbl := lw_at lw_m4 66 rfl
theorem q837 : (Jvm.Cond.fieldLinkNest "BranchCells" (217 : Nat) "BranchCells$Task" "state" "LBranchCells$State;" "BranchCells") ∈ lw_tbl := lw_at lw_m4 68 rfl
theorem q839 : (Jvm.Cond.fieldLinkNest "BranchCells" (197 : Nat) "BranchCells$Task" "isGone" "Z" "BranchCells") ∈ lw_tbl := lw_at lw_m4 70 rfl
theorem q841 : (Jvm.Cond.fieldLinkNest "BranchCells" (257 : Nat) "BranchCells$Task" "result" "LBranchCells$Values;" "BranchCells") ∈ lw_tbl := lw_at lw_m4 72 rfl
theorem q843 : (Jvm.Cond.fieldLinkNest "BranchCells" (213 : Nat) "BranchCells$Task" "mark" "J" "BranchCells") ∈ lw_tbl := lw_at lw_m4 74 rfl
theorem q847 : (Jvm.Cond.fieldLinkNest "BranchCells" (158 : Nat) "BranchCells$Task" "slots" "LBranchCells$Values;" "BranchCells") ∈ lw_tbl := lw_at lw_m4 78 rfl
theorem q857 : (Jvm.Cond.fieldLinkNest "BranchCells" (253 : Nat) "BranchCells$Task" "pile" "LBranchCells$Pile;" "BranchCells") ∈ lw_tbl := lw_at lw_m4 88 rfl
theorem q859 : (Jvm.Cond.fieldLinkNest "BranchCells" (204 : Nat) "BranchCells$Task" "out" "[J" "BranchCells") ∈ lw_tbl := lw_at lw_m4 90 rfl
theorem q861 : (Jvm.Cond.fieldLinkNest "BranchCells" (201 : Nat) "BranchCells$Task" "outs" "I" "BranchCells") ∈ lw_tbl := lw_at lw_m4 92 rfl
theorem q867 : (Jvm.Cond.fieldLinkNest "BranchCells" (177 : Nat) "BranchCells$Task" "present" "LBranchCells$Segment;" "BranchCells") ∈ lw_tbl := lw_at lw_m4 98 rfl
theorem q869 : (Jvm.Cond.fieldLinkNest "BranchCells" (229 : Nat) "BranchCells$Task" "root" "LBranchCells$Segment;" "BranchCells") ∈ lw_tbl := lw_at lw_m4 100 rfl
theorem q911 : (Jvm.Cond.methodLink "BranchCells" (162 : Nat) ({ cls := "BranchCells$Values", name := "put", desc := "(IJLBranchCells$Task;)V" } : Jvm.MethodName)) ∈ lw_all := lw_g (lw_at lw_m4 142 rfl) rfl
theorem q917 : (Jvm.Cond.methodLink "BranchCells" (168 : Nat) ({ cls := "BranchCells$Task", name := "comes", desc := "()V" } : Jvm.MethodName)) ∈ lw_all := lw_g (lw_at lw_m4 148 rfl) rfl
theorem q929 : (Jvm.Cond.instanceMethod ({ cls := "BranchCells", name := "stop", desc := "()I" } : Jvm.MethodName)) ∈ lw_all := lw_g (lw_at lw_m4 160 rfl) rfl
theorem q930 : (Jvm.Cond.selects "BranchCells" ({ cls := "BranchCells", name := "stop", desc := "()I" } : Jvm.MethodName) ({ cls := "BranchCells", name := "stop", desc := "()I" } : Jvm.MethodName)) ∈ lw_all := lw_g (lw_at lw_m4 161 rfl) rfl
theorem q931 : (Jvm.Cond.code ({ cls := "BranchCells", name := "stop", desc := "()I" } : Jvm.MethodName) prog_1_method_24_code (2 : Nat) (Option.some Jvm.ClassFile.FieldType.int)) ∈ lw_all := lw_g (lw_at lw_m4 162 rfl) rfl
theorem q933 : (Jvm.Cond.instanceMethod ({ cls := "BranchCells", name := "step", desc := "(II)I" } : Jvm.MethodName)) ∈ lw_all := lw_g (lw_at lw_m4 164 rfl) rfl
theorem q934 : (Jvm.Cond.selects "BranchCells" ({ cls := "BranchCells", name := "step", desc := "(II)I" } : Jvm.MethodName) ({ cls := "BranchCells", name := "step", desc := "(II)I" } : Jvm.MethodName)) ∈ lw_all := lw_g (lw_at lw_m4 165 rfl) rfl
theorem q935 : (Jvm.Cond.code ({ cls := "BranchCells", name := "step", desc := "(II)I" } : Jvm.MethodName) prog_1_method_27_code (5 : Nat) (Option.some Jvm.ClassFile.FieldType.int)) ∈ lw_all := lw_g (lw_at lw_m4 166 rfl) rfl
theorem q936 : (Jvm.Cond.methodLink "BranchCells" (345 : Nat) ({ cls := "BranchCells", name := "task", desc := "(I)LBranchCells$Task;" } : Jvm.MethodName)) ∈ lw_all := lw_g (lw_at lw_m4 167 rfl) rfl
theorem q937 : (Jvm.Cond.privateMethod ({ cls := "BranchCells", name := "task", desc := "(I)LBranchCells$Task;" } : Jvm.MethodName)) ∈ lw_tbl := lw_at lw_m4 168 rfl
theorem q938 : (Jvm.Cond.instanceMethod ({ cls := "BranchCells", name := "task", desc := "(I)LBranchCells$Task;" } : Jvm.MethodName)) ∈ lw_all := lw_g (lw_at lw_m4 169 rfl) rfl
theorem q939 : (Jvm.Cond.code ({ cls := "BranchCells", name := "task", desc := "(I)LBranchCells$Task;" } : Jvm.MethodName) prog_1_method_26_code (2 : Nat) (Option.some (Jvm.ClassFile.FieldType.object "BranchCells$Task"))) ∈ lw_all := lw_g (lw_at lw_m4 170 rfl) rfl
theorem q940 : (Jvm.Cond.constantLong "BranchCells" (349 : Nat) (300 : Int64)) ∈ lw_all := lw_g (lw_at lw_m4 171 rfl) rfl
theorem q941 : (Jvm.Cond.methodLink "BranchCells" (351 : Nat) ({ cls := "BranchCells$Task", name := "isReady", desc := "()Z" } : Jvm.MethodName)) ∈ lw_all := lw_g (lw_at lw_m4 172 rfl) rfl
theorem q957 : (Jvm.Cond.methodLink "BranchCells" (354 : Nat) ({ cls := "BranchCells", name := "does", desc := "(LBranchCells$Task;)V" } : Jvm.MethodName)) ∈ lw_all := lw_g (lw_at lw_m4 188 rfl) rfl
theorem q958 : (Jvm.Cond.privateMethod ({ cls := "BranchCells", name := "does", desc := "(LBranchCells$Task;)V" } : Jvm.MethodName)) ∈ lw_tbl := lw_at lw_m4 189 rfl
theorem q959 : (Jvm.Cond.instanceMethod ({ cls := "BranchCells", name := "does", desc := "(LBranchCells$Task;)V" } : Jvm.MethodName)) ∈ lw_all := lw_g (lw_at lw_m4 190 rfl) rfl
theorem q960 : (Jvm.Cond.codeWith ({ cls := "BranchCells", name := "does", desc := "(LBranchCells$Task;)V" } : Jvm.MethodName) prog_1_method_25_code (6 : Nat) (Option.none : Option Jvm.ClassFile.FieldType) [((67 : Nat), (137 : Nat), (140 : Nat), (9 : Nat))]) ∈ lw_all := lw_g (lw_at lw_m4 191 rfl) rfl
theorem q961 : (Jvm.Cond.classLink "BranchCells" (9 : Nat) "BranchCells$Failing") ∈ lw_all := lw_g (lw_at lw_m4 192 rfl) rfl
theorem q962 : (Jvm.Cond.constantLong "BranchCells" (211 : Nat) (31 : Int64)) ∈ lw_all := lw_g (lw_at lw_m4 193 rfl) rfl
theorem q999 : (Jvm.Cond.methodLink "BranchCells" (11 : Nat) ({ cls := "BranchCells$Failing", name := "<init>", desc := "(I)V" } : Jvm.MethodName)) ∈ lw_all := lw_g (lw_at lw_m4 230 rfl) rfl
theorem q1009 : (Jvm.Cond.fieldLinkNest "BranchCells" (342 : Nat) "BranchCells$Failing" "by" "I" "BranchCells") ∈ lw_tbl := lw_at lw_m5 0 rfl
theorem q1025 : (Jvm.Cond.methodLink "BranchCells" (335 : Nat) ({ cls := "BranchCells$Doer", name := "takes", desc := "()I" } : Jvm.MethodName)) ∈ lw_all := lw_g (lw_at lw_m5 16 rfl) rfl
theorem q1051 : (Jvm.Cond.methodLink "BranchCells" (338 : Nat) ({ cls := "BranchCells$Doer", name := "does", desc := "(LBranchCells$Task;I)V" } : Jvm.MethodName)) ∈ lw_all := lw_g (lw_at lw_m5 42 rfl) rfl
theorem q1146 : (Jvm.Cond.privateMethod ({ cls := "BranchCells", name := "forks", desc := "(LBranchCells$Task;IJLBranchCells$Task;)LBranchCells$Task;" } : Jvm.MethodName)) ∈ lw_tbl := lw_at lw_m5 137 rfl
theorem q1147 : (Jvm.Cond.instanceMethod ({ cls := "BranchCells", name := "forks", desc := "(LBranchCells$Task;IJLBranchCells$Task;)LBranchCells$Task;" } : Jvm.MethodName)) ∈ lw_all := lw_g (lw_at lw_m5 138 rfl) rfl
theorem q1148 : (Jvm.Cond.code ({ cls := "BranchCells", name := "forks", desc := "(LBranchCells$Task;IJLBranchCells$Task;)LBranchCells$Task;" } : Jvm.MethodName) prog_1_method_10_code (7 : Nat) (Option.some (Jvm.ClassFile.FieldType.object "BranchCells$Task"))) ∈ lw_all := lw_g (lw_at lw_m5 139 rfl) rfl
theorem q1161 : (Jvm.Cond.privateMethod ({ cls := "BranchCells", name := "joins", desc := "(LBranchCells$Task;LBranchCells$Task;)V" } : Jvm.MethodName)) ∈ lw_tbl := lw_at lw_m5 152 rfl
theorem q1162 : (Jvm.Cond.instanceMethod ({ cls := "BranchCells", name := "joins", desc := "(LBranchCells$Task;LBranchCells$Task;)V" } : Jvm.MethodName)) ∈ lw_all := lw_g (lw_at lw_m5 153 rfl) rfl
theorem q1163 : (Jvm.Cond.code ({ cls := "BranchCells", name := "joins", desc := "(LBranchCells$Task;LBranchCells$Task;)V" } : Jvm.MethodName) prog_1_method_12_code (5 : Nat) (Option.none : Option Jvm.ClassFile.FieldType)) ∈ lw_all := lw_g (lw_at lw_m5 154 rfl) rfl
theorem q1164 : (Jvm.Cond.methodLink "BranchCells" (208 : Nat) ({ cls := "BranchCells$Task", name := "tells", desc := "(J)V" } : Jvm.MethodName)) ∈ lw_all := lw_g (lw_at lw_m5 155 rfl) rfl
theorem q1168 : (Jvm.Cond.fieldLink "BranchCells" (221 : Nat) "BranchCells$State" "FAILED" "LBranchCells$State;") ∈ lw_all := lw_g (lw_at lw_m5 159 rfl) rfl
theorem q1170 : (Jvm.Cond.methodLink "BranchCells" (238 : Nat) ({ cls := "BranchCells$Segment", name := "read", desc := "(LBranchCells$Segment;I)J" } : Jvm.MethodName)) ∈ lw_all := lw_g (lw_at lw_m5 161 rfl) rfl
theorem q1177 : (Jvm.Cond.methodLink "BranchCells" (242 : Nat) ({ cls := "BranchCells", name := "mergedValue", desc := "(IJJJ)J" } : Jvm.MethodName)) ∈ lw_all := lw_g (lw_at lw_m5 168 rfl) rfl
theorem q1178 : (Jvm.Cond.privateMethod ({ cls := "BranchCells", name := "mergedValue", desc := "(IJJJ)J" } : Jvm.MethodName)) ∈ lw_tbl := lw_at lw_m5 169 rfl
theorem q1179 : (Jvm.Cond.instanceMethod ({ cls := "BranchCells", name := "mergedValue", desc := "(IJJJ)J" } : Jvm.MethodName)) ∈ lw_all := lw_g (lw_at lw_m5 170 rfl) rfl
theorem q1180 : (Jvm.Cond.code ({ cls := "BranchCells", name := "mergedValue", desc := "(IJJJ)J" } : Jvm.MethodName) prog_1_method_11_code (8 : Nat) (Option.some Jvm.ClassFile.FieldType.long)) ∈ lw_all := lw_g (lw_at lw_m5 171 rfl) rfl
theorem q1181 : (Jvm.Cond.methodLink "BranchCells" (246 : Nat) ({ cls := "BranchCells$Segment", name := "write", desc := "(IJ)V" } : Jvm.MethodName)) ∈ lw_all := lw_g (lw_at lw_m5 172 rfl) rfl
theorem q1185 : (Jvm.Cond.methodLink "BranchCells" (267 : Nat) ({ cls := "BranchCells$Pile", name := "put", desc := "(JLBranchCells$Task;)V" } : Jvm.MethodName)) ∈ lw_all := lw_g (lw_at lw_m5 176 rfl) rfl
theorem q1218 : (Jvm.Cond.static ({ cls := "BranchCells", name := "cell", desc := "(J)I" } : Jvm.MethodName)) ∈ lw_all := lw_g (lw_at lw_m5 209 rfl) rfl
theorem q1219 : (Jvm.Cond.code ({ cls := "BranchCells", name := "cell", desc := "(J)I" } : Jvm.MethodName) prog_1_method_2_code (2 : Nat) (Option.some Jvm.ClassFile.FieldType.int)) ∈ lw_all := lw_g (lw_at lw_m5 210 rfl) rfl
theorem q1233 : (Jvm.Cond.methodLink "BranchCells" (357 : Nat) ({ cls := "BranchCells$Task", name := "told", desc := "()I" } : Jvm.MethodName)) ∈ lw_all := lw_g (lw_at lw_m5 224 rfl) rfl
theorem q1239 : (Jvm.Cond.instanceMethod ({ cls := "BranchCells", name := "ready", desc := "(I)I" } : Jvm.MethodName)) ∈ lw_all := lw_g (lw_at lw_m5 230 rfl) rfl
theorem q1240 : (Jvm.Cond.selects "BranchCells" ({ cls := "BranchCells", name := "ready", desc := "(I)I" } : Jvm.MethodName) ({ cls := "BranchCells", name := "ready", desc := "(I)I" } : Jvm.MethodName)) ∈ lw_all := lw_g (lw_at lw_m5 231 rfl) rfl
theorem q1241 : (Jvm.Cond.code ({ cls := "BranchCells", name := "ready", desc := "(I)I" } : Jvm.MethodName) prog_1_method_28_code (4 : Nat) (Option.some Jvm.ClassFile.FieldType.int)) ∈ lw_all := lw_g (lw_at lw_m5 232 rfl) rfl
theorem q1243 : (Jvm.Cond.instanceMethod ({ cls := "BranchCells", name := "deep", desc := "(I)I" } : Jvm.MethodName)) ∈ lw_all := lw_g (lw_at lw_m5 234 rfl) rfl
theorem q1244 : (Jvm.Cond.selects "BranchCells" ({ cls := "BranchCells", name := "deep", desc := "(I)I" } : Jvm.MethodName) ({ cls := "BranchCells", name := "deep", desc := "(I)I" } : Jvm.MethodName)) ∈ lw_all := lw_g (lw_at lw_m5 235 rfl) rfl
theorem q1245 : (Jvm.Cond.code ({ cls := "BranchCells", name := "deep", desc := "(I)I" } : Jvm.MethodName) prog_1_method_30_code (4 : Nat) (Option.some Jvm.ClassFile.FieldType.int)) ∈ lw_all := lw_g (lw_at lw_m5 236 rfl) rfl
theorem q1246 : (Jvm.Cond.constantLong "BranchCells" (360 : Nat) (2000 : Int64)) ∈ lw_all := lw_g (lw_at lw_m5 237 rfl) rfl
theorem q1247 : (Jvm.Cond.methodLink "BranchCells" (362 : Nat) ({ cls := "BranchCells", name := "readyMany", desc := "()I" } : Jvm.MethodName)) ∈ lw_all := lw_g (lw_at lw_m5 238 rfl) rfl
theorem q1248 : (Jvm.Cond.privateMethod ({ cls := "BranchCells", name := "readyMany", desc := "()I" } : Jvm.MethodName)) ∈ lw_tbl := lw_at lw_m5 239 rfl
theorem q1249 : (Jvm.Cond.instanceMethod ({ cls := "BranchCells", name := "readyMany", desc := "()I" } : Jvm.MethodName)) ∈ lw_all := lw_g (lw_at lw_m6 0 rfl) rfl
theorem q1250 : (Jvm.Cond.code ({ cls := "BranchCells", name := "readyMany", desc := "()I" } : Jvm.MethodName) prog_1_method_29_code (3 : Nat) (Option.some Jvm.ClassFile.FieldType.int)) ∈ lw_all := lw_g (lw_at lw_m6 1 rfl) rfl
theorem q1251 : (Jvm.Cond.methodLink "BranchCells" (365 : Nat) ({ cls := "BranchCells", name := "ready", desc := "(I)I" } : Jvm.MethodName)) ∈ lw_all := lw_g (lw_at lw_m6 2 rfl) rfl
theorem q1253 : (Jvm.Cond.instanceMethod ({ cls := "BranchCells", name := "drawn", desc := "(II)I" } : Jvm.MethodName)) ∈ lw_all := lw_g (lw_at lw_m6 4 rfl) rfl
theorem q1254 : (Jvm.Cond.selects "BranchCells" ({ cls := "BranchCells", name := "drawn", desc := "(II)I" } : Jvm.MethodName) ({ cls := "BranchCells", name := "drawn", desc := "(II)I" } : Jvm.MethodName)) ∈ lw_all := lw_g (lw_at lw_m6 5 rfl) rfl
theorem q1255 : (Jvm.Cond.code ({ cls := "BranchCells", name := "drawn", desc := "(II)I" } : Jvm.MethodName) prog_1_method_31_code (6 : Nat) (Option.some Jvm.ClassFile.FieldType.int)) ∈ lw_all := lw_g (lw_at lw_m6 6 rfl) rfl
theorem q1256 : (Jvm.Cond.constant "BranchCells" (369 : Nat) (1103515245 : Int32)) ∈ lw_all := lw_g (lw_at lw_m6 7 rfl) rfl
theorem q1257 : (Jvm.Cond.constant "BranchCells" (372 : Nat) (2147483647 : Int32)) ∈ lw_all := lw_g (lw_at lw_m6 8 rfl) rfl
theorem q1258 : (Jvm.Cond.constant "BranchCells" (373 : Nat) (65536 : Int32)) ∈ lw_all := lw_g (lw_at lw_m6 9 rfl) rfl
theorem q1260 : (Jvm.Cond.instanceMethod ({ cls := "BranchCells", name := "about", desc := "(II)I" } : Jvm.MethodName)) ∈ lw_all := lw_g (lw_at lw_m6 11 rfl) rfl
theorem q1261 : (Jvm.Cond.selects "BranchCells" ({ cls := "BranchCells", name := "about", desc := "(II)I" } : Jvm.MethodName) ({ cls := "BranchCells", name := "about", desc := "(II)I" } : Jvm.MethodName)) ∈ lw_all := lw_g (lw_at lw_m6 12 rfl) rfl
theorem q1262 : (Jvm.Cond.code ({ cls := "BranchCells", name := "about", desc := "(II)I" } : Jvm.MethodName) prog_1_method_34_code (4 : Nat) (Option.some Jvm.ClassFile.FieldType.int)) ∈ lw_all := lw_g (lw_at lw_m6 13 rfl) rfl
theorem q1263 : (Jvm.Cond.constantLong "BranchCells" (395 : Nat) (13 : Int64)) ∈ lw_all := lw_g (lw_at lw_m6 14 rfl) rfl
theorem q1264 : (Jvm.Cond.methodLink "BranchCells" (397 : Nat) ({ cls := "BranchCells", name := "aboutOf", desc := "(LBranchCells$Task;I)I" } : Jvm.MethodName)) ∈ lw_all := lw_g (lw_at lw_m6 15 rfl) rfl
theorem q1265 : (Jvm.Cond.privateMethod ({ cls := "BranchCells", name := "aboutOf", desc := "(LBranchCells$Task;I)I" } : Jvm.MethodName)) ∈ lw_tbl := lw_at lw_m6 16 rfl
theorem q1266 : (Jvm.Cond.instanceMethod ({ cls := "BranchCells", name := "aboutOf", desc := "(LBranchCells$Task;I)I" } : Jvm.MethodName)) ∈ lw_all := lw_g (lw_at lw_m6 17 rfl) rfl
theorem q1267 : (Jvm.Cond.code ({ cls := "BranchCells", name := "aboutOf", desc := "(LBranchCells$Task;I)I" } : Jvm.MethodName) prog_1_method_33_code (3 : Nat) (Option.some Jvm.ClassFile.FieldType.int)) ∈ lw_all := lw_g (lw_at lw_m6 18 rfl) rfl
theorem q1268 : (Jvm.Cond.methodLink "BranchCells" (380 : Nat) ({ cls := "BranchCells", name := "numberOf", desc := "(LBranchCells$Task;)I" } : Jvm.MethodName)) ∈ lw_all := lw_g (lw_at lw_m6 19 rfl) rfl
theorem q1269 : (Jvm.Cond.static ({ cls := "BranchCells", name := "numberOf", desc := "(LBranchCells$Task;)I" } : Jvm.MethodName)) ∈ lw_all := lw_g (lw_at lw_m6 20 rfl) rfl
theorem q1270 : (Jvm.Cond.code ({ cls := "BranchCells", name := "numberOf", desc := "(LBranchCells$Task;)I" } : Jvm.MethodName) prog_1_method_32_code (1 : Nat) (Option.some Jvm.ClassFile.FieldType.int)) ∈ lw_all := lw_g (lw_at lw_m6 21 rfl) rfl
theorem q1271 : (Jvm.Cond.methodLink "BranchCells" (390 : Nat) ({ cls := "BranchCells$Task", name := "waitsFor", desc := "()LBranchCells$Task;" } : Jvm.MethodName)) ∈ lw_all := lw_g (lw_at lw_m6 22 rfl) rfl
theorem q1273 : (Jvm.Cond.instanceMethod ({ cls := "BranchCells", name := "result", desc := "(I)J" } : Jvm.MethodName)) ∈ lw_all := lw_g (lw_at lw_m6 24 rfl) rfl
theorem q1274 : (Jvm.Cond.selects "BranchCells" ({ cls := "BranchCells", name := "result", desc := "(I)J" } : Jvm.MethodName) ({ cls := "BranchCells", name := "result", desc := "(I)J" } : Jvm.MethodName)) ∈ lw_all := lw_g (lw_at lw_m6 25 rfl) rfl
theorem q1275 : (Jvm.Cond.code ({ cls := "BranchCells", name := "result", desc := "(I)J" } : Jvm.MethodName) prog_1_method_35_code (3 : Nat) (Option.some Jvm.ClassFile.FieldType.long)) ∈ lw_all := lw_g (lw_at lw_m6 26 rfl) rfl
theorem q1277 : (Jvm.Cond.instanceMethod ({ cls := "BranchCells", name := "out", desc := "(II)J" } : Jvm.MethodName)) ∈ lw_all := lw_g (lw_at lw_m6 28 rfl) rfl
theorem q1278 : (Jvm.Cond.selects "BranchCells" ({ cls := "BranchCells", name := "out", desc := "(II)J" } : Jvm.MethodName) ({ cls := "BranchCells", name := "out", desc := "(II)J" } : Jvm.MethodName)) ∈ lw_all := lw_g (lw_at lw_m6 29 rfl) rfl
theorem q1279 : (Jvm.Cond.code ({ cls := "BranchCells", name := "out", desc := "(II)J" } : Jvm.MethodName) prog_1_method_36_code (4 : Nat) (Option.some Jvm.ClassFile.FieldType.long)) ∈ lw_all := lw_g (lw_at lw_m6 30 rfl) rfl
theorem q1281 : (Jvm.Cond.instanceMethod ({ cls := "BranchCells", name := "read", desc := "(II)J" } : Jvm.MethodName)) ∈ lw_all := lw_g (lw_at lw_m6 32 rfl) rfl
theorem q1282 : (Jvm.Cond.selects "BranchCells" ({ cls := "BranchCells", name := "read", desc := "(II)J" } : Jvm.MethodName) ({ cls := "BranchCells", name := "read", desc := "(II)J" } : Jvm.MethodName)) ∈ lw_all := lw_g (lw_at lw_m6 33 rfl) rfl
theorem q1283 : (Jvm.Cond.code ({ cls := "BranchCells", name := "read", desc := "(II)J" } : Jvm.MethodName) prog_1_method_37_code (4 : Nat) (Option.some Jvm.ClassFile.FieldType.long)) ∈ lw_all := lw_g (lw_at lw_m6 34 rfl) rfl
theorem q1285 : (Jvm.Cond.instanceMethod ({ cls := "BranchCells", name := "mark", desc := "(I)J" } : Jvm.MethodName)) ∈ lw_all := lw_g (lw_at lw_m6 36 rfl) rfl
theorem q1286 : (Jvm.Cond.selects "BranchCells" ({ cls := "BranchCells", name := "mark", desc := "(I)J" } : Jvm.MethodName) ({ cls := "BranchCells", name := "mark", desc := "(I)J" } : Jvm.MethodName)) ∈ lw_all := lw_g (lw_at lw_m6 37 rfl) rfl
theorem q1287 : (Jvm.Cond.code ({ cls := "BranchCells", name := "mark", desc := "(I)J" } : Jvm.MethodName) prog_1_method_38_code (3 : Nat) (Option.some Jvm.ClassFile.FieldType.long)) ∈ lw_all := lw_g (lw_at lw_m6 38 rfl) rfl
theorem q1289 : (Jvm.Cond.instanceMethod ({ cls := "BranchCells", name := "gather", desc := "()I" } : Jvm.MethodName)) ∈ lw_all := lw_g (lw_at lw_m6 40 rfl) rfl
theorem q1290 : (Jvm.Cond.selects "BranchCells" ({ cls := "BranchCells", name := "gather", desc := "()I" } : Jvm.MethodName) ({ cls := "BranchCells", name := "gather", desc := "()I" } : Jvm.MethodName)) ∈ lw_all := lw_g (lw_at lw_m6 41 rfl) rfl
theorem q1291 : (Jvm.Cond.code ({ cls := "BranchCells", name := "gather", desc := "()I" } : Jvm.MethodName) prog_1_method_42_code (6 : Nat) (Option.some Jvm.ClassFile.FieldType.int)) ∈ lw_all := lw_g (lw_at lw_m6 42 rfl) rfl
theorem q1292 : (Jvm.Cond.methodLink "BranchCells" (423 : Nat) ({ cls := "BranchCells", name := "versions", desc := "()I" } : Jvm.MethodName)) ∈ lw_all := lw_g (lw_at lw_m6 43 rfl) rfl
theorem q1293 : (Jvm.Cond.privateMethod ({ cls := "BranchCells", name := "versions", desc := "()I" } : Jvm.MethodName)) ∈ lw_tbl := lw_at lw_m6 44 rfl
theorem q1294 : (Jvm.Cond.instanceMethod ({ cls := "BranchCells", name := "versions", desc := "()I" } : Jvm.MethodName)) ∈ lw_all := lw_g (lw_at lw_m6 45 rfl) rfl
theorem q1295 : (Jvm.Cond.code ({ cls := "BranchCells", name := "versions", desc := "()I" } : Jvm.MethodName) prog_1_method_40_code (3 : Nat) (Option.some Jvm.ClassFile.FieldType.int)) ∈ lw_all := lw_g (lw_at lw_m6 46 rfl) rfl
theorem q1296 : (Jvm.Cond.methodLink "BranchCells" (417 : Nat) ({ cls := "BranchCells", name := "looks", desc := "()V" } : Jvm.MethodName)) ∈ lw_all := lw_g (lw_at lw_m6 47 rfl) rfl
theorem q1297 : (Jvm.Cond.privateMethod ({ cls := "BranchCells", name := "looks", desc := "()V" } : Jvm.MethodName)) ∈ lw_tbl := lw_at lw_m6 48 rfl
theorem q1298 : (Jvm.Cond.instanceMethod ({ cls := "BranchCells", name := "looks", desc := "()V" } : Jvm.MethodName)) ∈ lw_all := lw_g (lw_at lw_m6 49 rfl) rfl
theorem q1299 : (Jvm.Cond.code ({ cls := "BranchCells", name := "looks", desc := "()V" } : Jvm.MethodName) prog_1_method_39_code (4 : Nat) (Option.none : Option Jvm.ClassFile.FieldType)) ∈ lw_all := lw_g (lw_at lw_m6 50 rfl) rfl
theorem q1300 : (Jvm.Cond.methodLink "BranchCells" (401 : Nat) ({ cls := "BranchCells$Segment", name := "forgets", desc := "()V" } : Jvm.MethodName)) ∈ lw_all := lw_g (lw_at lw_m6 51 rfl) rfl
theorem q1304 : (Jvm.Cond.methodLink "BranchCells" (420 : Nat) ({ cls := "BranchCells$Segment", name := "many", desc := "()I" } : Jvm.MethodName)) ∈ lw_all := lw_g (lw_at lw_m6 55 rfl) rfl
theorem q1314 : (Jvm.Cond.methodLink "BranchCells" (426 : Nat) ({ cls := "BranchCells", name := "first", desc := "()LBranchCells$Segment;" } : Jvm.MethodName)) ∈ lw_all := lw_g (lw_at lw_m6 65 rfl) rfl
theorem q1315 : (Jvm.Cond.privateMethod ({ cls := "BranchCells", name := "first", desc := "()LBranchCells$Segment;" } : Jvm.MethodName)) ∈ lw_tbl := lw_at lw_m6 66 rfl
theorem q1316 : (Jvm.Cond.instanceMethod ({ cls := "BranchCells", name := "first", desc := "()LBranchCells$Segment;" } : Jvm.MethodName)) ∈ lw_all := lw_g (lw_at lw_m6 67 rfl) rfl
theorem q1317 : (Jvm.Cond.code ({ cls := "BranchCells", name := "first", desc := "()LBranchCells$Segment;" } : Jvm.MethodName) prog_1_method_41_code (3 : Nat) (Option.some (Jvm.ClassFile.FieldType.object "BranchCells$Segment"))) ∈ lw_all := lw_g (lw_at lw_m6 68 rfl) rfl
theorem q1318 : (Jvm.Cond.methodLink "BranchCells" (430 : Nat) ({ cls := "BranchCells$Segment", name := "has", desc := "(I)Z" } : Jvm.MethodName)) ∈ lw_all := lw_g (lw_at lw_m6 69 rfl) rfl
theorem q1319 : (Jvm.Cond.interfaceEntry "BranchCells" (435 : Nat)) ∈ lw_tbl := lw_at lw_m6 70 rfl
theorem q1320 : (Jvm.Cond.methodLink "BranchCells" (435 : Nat) ({ cls := "java/util/List", name := "remove", desc := "(Ljava/lang/Object;)Z" } : Jvm.MethodName)) ∈ lw_all := lw_g (lw_at lw_m6 71 rfl) rfl
theorem q1332 : (Jvm.Cond.selects "BranchCells" ({ cls := "java/lang/Object", name := "equals", desc := "(Ljava/lang/Object;)Z" } : Jvm.MethodName) ({ cls := "java/lang/Object", name := "equals", desc := "(Ljava/lang/Object;)Z" } : Jvm.MethodName)) ∈ lw_all := lw_g (lw_at lw_m6 83 rfl) rfl
theorem q1373 : (Jvm.Cond.instanceMethod ({ cls := "BranchCells", name := "version", desc := "(II)J" } : Jvm.MethodName)) ∈ lw_all := lw_g (lw_at lw_m6 124 rfl) rfl
theorem q1374 : (Jvm.Cond.selects "BranchCells" ({ cls := "BranchCells", name := "version", desc := "(II)J" } : Jvm.MethodName) ({ cls := "BranchCells", name := "version", desc := "(II)J" } : Jvm.MethodName)) ∈ lw_all := lw_g (lw_at lw_m6 125 rfl) rfl
theorem q1375 : (Jvm.Cond.code ({ cls := "BranchCells", name := "version", desc := "(II)J" } : Jvm.MethodName) prog_1_method_44_code (4 : Nat) (Option.some Jvm.ClassFile.FieldType.long)) ∈ lw_all := lw_g (lw_at lw_m6 126 rfl) rfl
theorem q1376 : (Jvm.Cond.methodLink "BranchCells" (438 : Nat) ({ cls := "BranchCells", name := "held", desc := "(I)LBranchCells$Segment;" } : Jvm.MethodName)) ∈ lw_all := lw_g (lw_at lw_m6 127 rfl) rfl
theorem q1377 : (Jvm.Cond.privateMethod ({ cls := "BranchCells", name := "held", desc := "(I)LBranchCells$Segment;" } : Jvm.MethodName)) ∈ lw_tbl := lw_at lw_m6 128 rfl
theorem q1378 : (Jvm.Cond.instanceMethod ({ cls := "BranchCells", name := "held", desc := "(I)LBranchCells$Segment;" } : Jvm.MethodName)) ∈ lw_all := lw_g (lw_at lw_m6 129 rfl) rfl
theorem q1379 : (Jvm.Cond.code ({ cls := "BranchCells", name := "held", desc := "(I)LBranchCells$Segment;" } : Jvm.MethodName) prog_1_method_43_code (3 : Nat) (Option.some (Jvm.ClassFile.FieldType.object "BranchCells$Segment"))) ∈ lw_all := lw_g (lw_at lw_m6 130 rfl) rfl
theorem q1381 : (Jvm.Cond.instanceMethod ({ cls := "BranchCells", name := "below", desc := "(I)I" } : Jvm.MethodName)) ∈ lw_all := lw_g (lw_at lw_m6 132 rfl) rfl
theorem q1382 : (Jvm.Cond.selects "BranchCells" ({ cls := "BranchCells", name := "below", desc := "(I)I" } : Jvm.MethodName) ({ cls := "BranchCells", name := "below", desc := "(I)I" } : Jvm.MethodName)) ∈ lw_all := lw_g (lw_at lw_m6 133 rfl) rfl
theorem q1383 : (Jvm.Cond.code ({ cls := "BranchCells", name := "below", desc := "(I)I" } : Jvm.MethodName) prog_1_method_45_code (3 : Nat) (Option.some Jvm.ClassFile.FieldType.int)) ∈ lw_all := lw_g (lw_at lw_m6 134 rfl) rfl
theorem q1385 : (Jvm.Cond.instanceMethod ({ cls := "BranchCells", name := "count", desc := "(I)I" } : Jvm.MethodName)) ∈ lw_all := lw_g (lw_at lw_m6 136 rfl) rfl
theorem q1386 : (Jvm.Cond.selects "BranchCells" ({ cls := "BranchCells", name := "count", desc := "(I)I" } : Jvm.MethodName) ({ cls := "BranchCells", name := "count", desc := "(I)I" } : Jvm.MethodName)) ∈ lw_all := lw_g (lw_at lw_m6 137 rfl) rfl
theorem q1387 : (Jvm.Cond.code ({ cls := "BranchCells", name := "count", desc := "(I)I" } : Jvm.MethodName) prog_1_method_46_code (5 : Nat) (Option.some Jvm.ClassFile.FieldType.int)) ∈ lw_all := lw_g (lw_at lw_m6 138 rfl) rfl
theorem q1388 : (Jvm.Cond.interfaceEntry "BranchCells" (441 : Nat)) ∈ lw_tbl := lw_at lw_m6 139 rfl
theorem q1389 : (Jvm.Cond.methodLink "BranchCells" (441 : Nat) ({ cls := "java/util/List", name := "iterator", desc := "()Ljava/util/Iterator;" } : Jvm.MethodName)) ∈ lw_all := lw_g (lw_at lw_m6 140 rfl) rfl
theorem q1416 : (Jvm.Cond.interfaceEntry "BranchCells" (445 : Nat)) ∈ lw_tbl := lw_at lw_m6 167 rfl
theorem q1417 : (Jvm.Cond.methodLink "BranchCells" (445 : Nat) ({ cls := "java/util/Iterator", name := "hasNext", desc := "()Z" } : Jvm.MethodName)) ∈ lw_all := lw_g (lw_at lw_m6 168 rfl) rfl
theorem q1426 : (Jvm.Cond.interfaceEntry "BranchCells" (450 : Nat)) ∈ lw_tbl := lw_at lw_m6 177 rfl
theorem q1427 : (Jvm.Cond.methodLink "BranchCells" (450 : Nat) ({ cls := "java/util/Iterator", name := "next", desc := "()Ljava/lang/Object;" } : Jvm.MethodName)) ∈ lw_all := lw_g (lw_at lw_m6 178 rfl) rfl
theorem q1439 : (Jvm.Cond.methodLink "BranchCells" (454 : Nat) ({ cls := "BranchCells$Task", name := "isOver", desc := "()Z" } : Jvm.MethodName)) ∈ lw_all := lw_g (lw_at lw_m6 190 rfl) rfl
theorem q1441 : (Jvm.Cond.instanceMethod ({ cls := "BranchCells", name := "digest", desc := "()J" } : Jvm.MethodName)) ∈ lw_all := lw_g (lw_at lw_m6 192 rfl) rfl
theorem q1442 : (Jvm.Cond.selects "BranchCells" ({ cls := "BranchCells", name := "digest", desc := "()J" } : Jvm.MethodName) ({ cls := "BranchCells", name := "digest", desc := "()J" } : Jvm.MethodName)) ∈ lw_all := lw_g (lw_at lw_m6 193 rfl) rfl
theorem q1443 : (Jvm.Cond.code ({ cls := "BranchCells", name := "digest", desc := "()J" } : Jvm.MethodName) prog_1_method_47_code (5 : Nat) (Option.some Jvm.ClassFile.FieldType.long)) ∈ lw_all := lw_g (lw_at lw_m6 194 rfl) rfl
theorem q1444 : (Jvm.Cond.methodLink "BranchCells" (457 : Nat) ({ cls := "BranchCells", name := "count", desc := "(I)I" } : Jvm.MethodName)) ∈ lw_all := lw_g (lw_at lw_m6 195 rfl) rfl
theorem q1445 : (Jvm.Cond.methodLink "BranchCells" (460 : Nat) ({ cls := "BranchCells", name := "result", desc := "(I)J" } : Jvm.MethodName)) ∈ lw_all := lw_g (lw_at lw_m6 196 rfl) rfl
theorem q1446 : (Jvm.Cond.methodLink "BranchCells" (463 : Nat) ({ cls := "BranchCells", name := "mark", desc := "(I)J" } : Jvm.MethodName)) ∈ lw_all := lw_g (lw_at lw_m6 197 rfl) rfl
theorem q1447 : (Jvm.Cond.methodLink "BranchCells" (465 : Nat) ({ cls := "BranchCells", name := "out", desc := "(II)J" } : Jvm.MethodName)) ∈ lw_all := lw_g (lw_at lw_m6 198 rfl) rfl
theorem q1448 : (Jvm.Cond.methodLink "BranchCells" (468 : Nat) ({ cls := "BranchCells", name := "read", desc := "(II)J" } : Jvm.MethodName)) ∈ lw_all := lw_g (lw_at lw_m6 199 rfl) rfl
theorem q1809 : (Jvm.Cond.castable "BranchCells" "java/lang/Object") ∈ lw_tbl := lw_at lw_m8 80 rfl
theorem in_X0 : ∀ w ∈ wsX00, w ∈ lw_all := lw_in wsX00 [447, 449, 451, 453, 455, 457, 459, 461, 463, 465] (by decide +kernel) (by decide +kernel)
theorem q54 : (Jvm.Cond.initialized "BranchCells$Doer") ∈ lw_all := lw_g (lw_at lw_m1 5 rfl) rfl
theorem q147 : (Jvm.Cond.instanceMethod ({ cls := "BranchCells$Doer", name := "<init>", desc := "(LBranchCells;I)V" } : Jvm.MethodName)) ∈ lw_all := lw_g (lw_at lw_m1 98 rfl) rfl
theorem q148 : (Jvm.Cond.code ({ cls := "BranchCells$Doer", name := "<init>", desc := "(LBranchCells;I)V" } : Jvm.MethodName) prog_25_method_1_code (3 : Nat) (Option.none : Option Jvm.ClassFile.FieldType)) ∈ lw_all := lw_g (lw_at lw_m1 99 rfl) rfl
theorem q149 : (Jvm.Cond.methodLink "BranchCells$Doer" (7 : Nat) ({ cls := "java/lang/Object", name := "<init>", desc := "()V" } : Jvm.MethodName)) ∈ lw_all := lw_g (lw_at lw_m1 100 rfl) rfl
theorem q151 : (Jvm.Cond.fieldLink "BranchCells$Doer" (13 : Nat) "BranchCells$Doer" "takes" "I") ∈ lw_all := lw_g (lw_at lw_m1 102 rfl) rfl
theorem q152 : (Jvm.Cond.fieldLink "BranchCells$Doer" (1 : Nat) "BranchCells$Doer" "this$0" "LBranchCells;") ∈ lw_all := lw_g (lw_at lw_m1 103 rfl) rfl
theorem q156 : (Jvm.Cond.soleField "BranchCells$Doer" "takes") ∈ lw_all := lw_g (lw_at lw_m1 107 rfl) rfl
theorem q158 : (Jvm.Cond.soleField "BranchCells$Doer" "this$0") ∈ lw_all := lw_g (lw_at lw_m1 109 rfl) rfl
theorem q1026 : (Jvm.Cond.instanceMethod ({ cls := "BranchCells$Doer", name := "takes", desc := "()I" } : Jvm.MethodName)) ∈ lw_all := lw_g (lw_at lw_m5 17 rfl) rfl
theorem q1027 : (Jvm.Cond.sameMethod "BranchCells$Doer" "BranchCells$Doer" "takes" "()I") ∈ lw_all := lw_g (lw_at lw_m5 18 rfl) rfl
theorem q1050 : (Jvm.Cond.code ({ cls := "BranchCells$Doer", name := "takes", desc := "()I" } : Jvm.MethodName) prog_25_method_2_code (1 : Nat) (Option.some Jvm.ClassFile.FieldType.int)) ∈ lw_all := lw_g (lw_at lw_m5 41 rfl) rfl
theorem q1052 : (Jvm.Cond.declares ({ cls := "BranchCells$Doer", name := "does", desc := "(LBranchCells$Task;I)V" } : Jvm.MethodName)) ∈ lw_tbl := lw_at lw_m5 43 rfl
theorem q1053 : (Jvm.Cond.sameMethod "BranchCells$Doer" "BranchCells$Doer" "does" "(LBranchCells$Task;I)V") ∈ lw_all := lw_g (lw_at lw_m5 44 rfl) rfl
theorem q1807 : (Jvm.Cond.castable "BranchCells$Doer" "java/lang/Object") ∈ lw_tbl := lw_at lw_m8 78 rfl
theorem tyX10_ok : ∀ k, k < 4 → parseFieldDescriptor (TX10 k).2.2.1 = some (tyX10 k) := by decide +kernel
theorem q63 : (Jvm.Cond.initialized "BranchCells$8") ∈ lw_all := lw_g (lw_at lw_m1 14 rfl) rfl
theorem q245 : (Jvm.Cond.instantiable "BranchCells$8" (4 : Nat)) ∈ lw_all := lw_g (lw_at lw_m1 196 rfl) rfl
theorem q247 : (Jvm.Cond.instanceMethod ({ cls := "BranchCells$8", name := "<init>", desc := "(LBranchCells;)V" } : Jvm.MethodName)) ∈ lw_all := lw_g (lw_at lw_m1 198 rfl) rfl
theorem q248 : (Jvm.Cond.code ({ cls := "BranchCells$8", name := "<init>", desc := "(LBranchCells;)V" } : Jvm.MethodName) prog_22_method_1_code (2 : Nat) (Option.none : Option Jvm.ClassFile.FieldType)) ∈ lw_all := lw_g (lw_at lw_m1 199 rfl) rfl
theorem q249 : (Jvm.Cond.methodLinkNest "BranchCells$8" (7 : Nat) ({ cls := "BranchCells$Reckoner", name := "<init>", desc := "(LBranchCells;)V" } : Jvm.MethodName) "BranchCells") ∈ lw_tbl := lw_at lw_m1 200 rfl
theorem q250 : (Jvm.Cond.fieldLink "BranchCells$8" (1 : Nat) "BranchCells$8" "this$0" "LBranchCells;") ∈ lw_all := lw_g (lw_at lw_m1 201 rfl) rfl
theorem q251 : (Jvm.Cond.laysFinal "BranchCells$8" "BranchCells$8" "this$0" "LBranchCells;") ∈ lw_all := lw_g (lw_at lw_m1 202 rfl) rfl
theorem q252 : (Jvm.Cond.soleField "BranchCells$8" "this$0") ∈ lw_all := lw_g (lw_at lw_m1 203 rfl) rfl
theorem q253 : (Jvm.Cond.laysFinal "BranchCells$8" "BranchCells$Reckoner" "this$0" "LBranchCells;") ∈ lw_all := lw_g (lw_at lw_m1 204 rfl) rfl
theorem q254 : (Jvm.Cond.laysFinal "BranchCells$8" "BranchCells$Doer" "takes" "I") ∈ lw_all := lw_g (lw_at lw_m1 205 rfl) rfl
theorem q255 : (Jvm.Cond.laysFinal "BranchCells$8" "BranchCells$Doer" "this$0" "LBranchCells;") ∈ lw_all := lw_g (lw_at lw_m1 206 rfl) rfl
theorem q256 : (Jvm.Cond.superclass "BranchCells$8" "BranchCells$Reckoner") ∈ lw_all := lw_g (lw_at lw_m1 207 rfl) rfl
theorem q560 : (Jvm.Cond.selects "BranchCells$8" ({ cls := "java/lang/Object", name := "getClass", desc := "()Ljava/lang/Class;" } : Jvm.MethodName) ({ cls := "java/lang/Object", name := "getClass", desc := "()Ljava/lang/Class;" } : Jvm.MethodName)) ∈ lw_all := lw_g (lw_at lw_m3 31 rfl) rfl
theorem q1048 : (Jvm.Cond.selects "BranchCells$8" ({ cls := "BranchCells$Doer", name := "takes", desc := "()I" } : Jvm.MethodName) ({ cls := "BranchCells$Doer", name := "takes", desc := "()I" } : Jvm.MethodName)) ∈ lw_all := lw_g (lw_at lw_m5 39 rfl) rfl
theorem q1104 : (Jvm.Cond.selects "BranchCells$8" ({ cls := "BranchCells$Reckoner", name := "of", desc := "(JJ)J" } : Jvm.MethodName) ({ cls := "BranchCells$8", name := "of", desc := "(JJ)J" } : Jvm.MethodName)) ∈ lw_all := lw_g (lw_at lw_m5 95 rfl) rfl
theorem q1105 : (Jvm.Cond.instanceMethod ({ cls := "BranchCells$8", name := "of", desc := "(JJ)J" } : Jvm.MethodName)) ∈ lw_all := lw_g (lw_at lw_m5 96 rfl) rfl
theorem q1106 : (Jvm.Cond.code ({ cls := "BranchCells$8", name := "of", desc := "(JJ)J" } : Jvm.MethodName) prog_22_method_2_code (5 : Nat) (Option.some Jvm.ClassFile.FieldType.long)) ∈ lw_all := lw_g (lw_at lw_m5 97 rfl) rfl
theorem q1231 : (Jvm.Cond.selects "BranchCells$8" ({ cls := "BranchCells$Doer", name := "does", desc := "(LBranchCells$Task;I)V" } : Jvm.MethodName) ({ cls := "BranchCells$Reckoner", name := "does", desc := "(LBranchCells$Task;I)V" } : Jvm.MethodName)) ∈ lw_all := lw_g (lw_at lw_m5 222 rfl) rfl
theorem q1353 : (Jvm.Cond.selects "BranchCells$8" ({ cls := "java/lang/Object", name := "equals", desc := "(Ljava/lang/Object;)Z" } : Jvm.MethodName) ({ cls := "java/lang/Object", name := "equals", desc := "(Ljava/lang/Object;)Z" } : Jvm.MethodName)) ∈ lw_all := lw_g (lw_at lw_m6 104 rfl) rfl
theorem q1818 : (Jvm.Cond.castable "BranchCells$8" "java/lang/Object") ∈ lw_tbl := lw_at lw_m8 89 rfl
theorem q1850 : (Jvm.Cond.castable "BranchCells$8" "BranchCells$Doer") ∈ lw_tbl := lw_at lw_m8 121 rfl
theorem in_X10 : ∀ w ∈ wsX100, w ∈ lw_all := lw_in wsX100 [253, 254, 255, 251] (by decide +kernel) (by decide +kernel)
theorem tyX11_ok : ∀ k, k < 4 → parseFieldDescriptor (TX11 k).2.2.1 = some (tyX11 k) := by decide +kernel
theorem q64 : (Jvm.Cond.initialized "BranchCells$9") ∈ lw_all := lw_g (lw_at lw_m1 15 rfl) rfl
theorem q258 : (Jvm.Cond.instantiable "BranchCells$9" (4 : Nat)) ∈ lw_all := lw_g (lw_at lw_m1 209 rfl) rfl
theorem q260 : (Jvm.Cond.instanceMethod ({ cls := "BranchCells$9", name := "<init>", desc := "(LBranchCells;)V" } : Jvm.MethodName)) ∈ lw_all := lw_g (lw_at lw_m1 211 rfl) rfl
theorem q261 : (Jvm.Cond.code ({ cls := "BranchCells$9", name := "<init>", desc := "(LBranchCells;)V" } : Jvm.MethodName) prog_23_method_1_code (2 : Nat) (Option.none : Option Jvm.ClassFile.FieldType)) ∈ lw_all := lw_g (lw_at lw_m1 212 rfl) rfl
theorem q262 : (Jvm.Cond.methodLinkNest "BranchCells$9" (9 : Nat) ({ cls := "BranchCells$Reckoner", name := "<init>", desc := "(LBranchCells;)V" } : Jvm.MethodName) "BranchCells") ∈ lw_tbl := lw_at lw_m1 213 rfl
theorem q263 : (Jvm.Cond.fieldLink "BranchCells$9" (3 : Nat) "BranchCells$9" "this$0" "LBranchCells;") ∈ lw_all := lw_g (lw_at lw_m1 214 rfl) rfl
theorem q264 : (Jvm.Cond.laysFinal "BranchCells$9" "BranchCells$9" "this$0" "LBranchCells;") ∈ lw_all := lw_g (lw_at lw_m1 215 rfl) rfl
theorem q265 : (Jvm.Cond.soleField "BranchCells$9" "this$0") ∈ lw_all := lw_g (lw_at lw_m1 216 rfl) rfl
theorem q266 : (Jvm.Cond.laysFinal "BranchCells$9" "BranchCells$Reckoner" "this$0" "LBranchCells;") ∈ lw_all := lw_g (lw_at lw_m1 217 rfl) rfl
theorem q267 : (Jvm.Cond.laysFinal "BranchCells$9" "BranchCells$Doer" "takes" "I") ∈ lw_all := lw_g (lw_at lw_m1 218 rfl) rfl
theorem q268 : (Jvm.Cond.laysFinal "BranchCells$9" "BranchCells$Doer" "this$0" "LBranchCells;") ∈ lw_all := lw_g (lw_at lw_m1 219 rfl) rfl
theorem q269 : (Jvm.Cond.superclass "BranchCells$9" "BranchCells$Reckoner") ∈ lw_all := lw_g (lw_at lw_m1 220 rfl) rfl
theorem q561 : (Jvm.Cond.selects "BranchCells$9" ({ cls := "java/lang/Object", name := "getClass", desc := "()Ljava/lang/Class;" } : Jvm.MethodName) ({ cls := "java/lang/Object", name := "getClass", desc := "()Ljava/lang/Class;" } : Jvm.MethodName)) ∈ lw_all := lw_g (lw_at lw_m3 32 rfl) rfl
theorem q1049 : (Jvm.Cond.selects "BranchCells$9" ({ cls := "BranchCells$Doer", name := "takes", desc := "()I" } : Jvm.MethodName) ({ cls := "BranchCells$Doer", name := "takes", desc := "()I" } : Jvm.MethodName)) ∈ lw_all := lw_g (lw_at lw_m5 40 rfl) rfl
theorem q1107 : (Jvm.Cond.selects "BranchCells$9" ({ cls := "BranchCells$Reckoner", name := "of", desc := "(JJ)J" } : Jvm.MethodName) ({ cls := "BranchCells$9", name := "of", desc := "(JJ)J" } : Jvm.MethodName)) ∈ lw_all := lw_g (lw_at lw_m5 98 rfl) rfl
theorem q1108 : (Jvm.Cond.instanceMethod ({ cls := "BranchCells$9", name := "of", desc := "(JJ)J" } : Jvm.MethodName)) ∈ lw_all := lw_g (lw_at lw_m5 99 rfl) rfl
theorem q1109 : (Jvm.Cond.code ({ cls := "BranchCells$9", name := "of", desc := "(JJ)J" } : Jvm.MethodName) prog_23_method_2_code (5 : Nat) (Option.some Jvm.ClassFile.FieldType.long)) ∈ lw_all := lw_g (lw_at lw_m5 100 rfl) rfl
theorem q1110 : (Jvm.Cond.classLink "BranchCells$9" (15 : Nat) "BranchCells$Failing") ∈ lw_all := lw_g (lw_at lw_m5 101 rfl) rfl
theorem q1111 : (Jvm.Cond.methodLink "BranchCells$9" (17 : Nat) ({ cls := "BranchCells$Failing", name := "<init>", desc := "(I)V" } : Jvm.MethodName)) ∈ lw_all := lw_g (lw_at lw_m5 102 rfl) rfl
theorem q1232 : (Jvm.Cond.selects "BranchCells$9" ({ cls := "BranchCells$Doer", name := "does", desc := "(LBranchCells$Task;I)V" } : Jvm.MethodName) ({ cls := "BranchCells$Reckoner", name := "does", desc := "(LBranchCells$Task;I)V" } : Jvm.MethodName)) ∈ lw_all := lw_g (lw_at lw_m5 223 rfl) rfl
theorem q1354 : (Jvm.Cond.selects "BranchCells$9" ({ cls := "java/lang/Object", name := "equals", desc := "(Ljava/lang/Object;)Z" } : Jvm.MethodName) ({ cls := "java/lang/Object", name := "equals", desc := "(Ljava/lang/Object;)Z" } : Jvm.MethodName)) ∈ lw_all := lw_g (lw_at lw_m6 105 rfl) rfl
theorem q1819 : (Jvm.Cond.castable "BranchCells$9" "java/lang/Object") ∈ lw_tbl := lw_at lw_m8 90 rfl
theorem q1851 : (Jvm.Cond.castable "BranchCells$9" "BranchCells$Doer") ∈ lw_tbl := lw_at lw_m8 122 rfl
theorem in_X11 : ∀ w ∈ wsX110, w ∈ lw_all := lw_in wsX110 [266, 267, 268, 264] (by decide +kernel) (by decide +kernel)
theorem tyX12_ok : ∀ k, k < 4 → parseFieldDescriptor (TX12 k).2.2.1 = some (tyX12 k) := by decide +kernel
theorem q65 : (Jvm.Cond.initialized "BranchCells$10") ∈ lw_all := lw_g (lw_at lw_m1 16 rfl) rfl
theorem q271 : (Jvm.Cond.instantiable "BranchCells$10" (4 : Nat)) ∈ lw_all := lw_g (lw_at lw_m1 222 rfl) rfl
theorem q273 : (Jvm.Cond.instanceMethod ({ cls := "BranchCells$10", name := "<init>", desc := "(LBranchCells;)V" } : Jvm.MethodName)) ∈ lw_all := lw_g (lw_at lw_m1 224 rfl) rfl
theorem q274 : (Jvm.Cond.code ({ cls := "BranchCells$10", name := "<init>", desc := "(LBranchCells;)V" } : Jvm.MethodName) prog_3_method_1_code (2 : Nat) (Option.none : Option Jvm.ClassFile.FieldType)) ∈ lw_all := lw_g (lw_at lw_m1 225 rfl) rfl
theorem q275 : (Jvm.Cond.methodLinkNest "BranchCells$10" (7 : Nat) ({ cls := "BranchCells$Reckoner", name := "<init>", desc := "(LBranchCells;)V" } : Jvm.MethodName) "BranchCells") ∈ lw_tbl := lw_at lw_m1 226 rfl
theorem q276 : (Jvm.Cond.fieldLink "BranchCells$10" (1 : Nat) "BranchCells$10" "this$0" "LBranchCells;") ∈ lw_all := lw_g (lw_at lw_m1 227 rfl) rfl
theorem q277 : (Jvm.Cond.laysFinal "BranchCells$10" "BranchCells$10" "this$0" "LBranchCells;") ∈ lw_all := lw_g (lw_at lw_m1 228 rfl) rfl
theorem q278 : (Jvm.Cond.soleField "BranchCells$10" "this$0") ∈ lw_all := lw_g (lw_at lw_m1 229 rfl) rfl
theorem q279 : (Jvm.Cond.laysFinal "BranchCells$10" "BranchCells$Reckoner" "this$0" "LBranchCells;") ∈ lw_all := lw_g (lw_at lw_m1 230 rfl) rfl
theorem q280 : (Jvm.Cond.laysFinal "BranchCells$10" "BranchCells$Doer" "takes" "I") ∈ lw_all := lw_g (lw_at lw_m1 231 rfl) rfl
theorem q281 : (Jvm.Cond.laysFinal "BranchCells$10" "BranchCells$Doer" "this$0" "LBranchCells;") ∈ lw_all := lw_g (lw_at lw_m1 232 rfl) rfl
theorem q282 : (Jvm.Cond.superclass "BranchCells$10" "BranchCells$Reckoner") ∈ lw_all := lw_g (lw_at lw_m1 233 rfl) rfl
theorem q541 : (Jvm.Cond.selects "BranchCells$10" ({ cls := "java/lang/Object", name := "getClass", desc := "()Ljava/lang/Class;" } : Jvm.MethodName) ({ cls := "java/lang/Object", name := "getClass", desc := "()Ljava/lang/Class;" } : Jvm.MethodName)) ∈ lw_all := lw_g (lw_at lw_m3 12 rfl) rfl
theorem q1029 : (Jvm.Cond.selects "BranchCells$10" ({ cls := "BranchCells$Doer", name := "takes", desc := "()I" } : Jvm.MethodName) ({ cls := "BranchCells$Doer", name := "takes", desc := "()I" } : Jvm.MethodName)) ∈ lw_all := lw_g (lw_at lw_m5 20 rfl) rfl
theorem q1071 : (Jvm.Cond.selects "BranchCells$10" ({ cls := "BranchCells$Doer", name := "does", desc := "(LBranchCells$Task;I)V" } : Jvm.MethodName) ({ cls := "BranchCells$Reckoner", name := "does", desc := "(LBranchCells$Task;I)V" } : Jvm.MethodName)) ∈ lw_all := lw_g (lw_at lw_m5 62 rfl) rfl
theorem q1089 : (Jvm.Cond.selects "BranchCells$10" ({ cls := "BranchCells$Reckoner", name := "of", desc := "(JJ)J" } : Jvm.MethodName) ({ cls := "BranchCells$10", name := "of", desc := "(JJ)J" } : Jvm.MethodName)) ∈ lw_all := lw_g (lw_at lw_m5 80 rfl) rfl
theorem q1090 : (Jvm.Cond.instanceMethod ({ cls := "BranchCells$10", name := "of", desc := "(JJ)J" } : Jvm.MethodName)) ∈ lw_all := lw_g (lw_at lw_m5 81 rfl) rfl
theorem q1091 : (Jvm.Cond.code ({ cls := "BranchCells$10", name := "of", desc := "(JJ)J" } : Jvm.MethodName) prog_3_method_2_code (5 : Nat) (Option.some Jvm.ClassFile.FieldType.long)) ∈ lw_all := lw_g (lw_at lw_m5 82 rfl) rfl
theorem q1334 : (Jvm.Cond.selects "BranchCells$10" ({ cls := "java/lang/Object", name := "equals", desc := "(Ljava/lang/Object;)Z" } : Jvm.MethodName) ({ cls := "java/lang/Object", name := "equals", desc := "(Ljava/lang/Object;)Z" } : Jvm.MethodName)) ∈ lw_all := lw_g (lw_at lw_m6 85 rfl) rfl
theorem q1820 : (Jvm.Cond.castable "BranchCells$10" "java/lang/Object") ∈ lw_tbl := lw_at lw_m8 91 rfl
theorem q1852 : (Jvm.Cond.castable "BranchCells$10" "BranchCells$Doer") ∈ lw_tbl := lw_at lw_m8 123 rfl
theorem in_X12 : ∀ w ∈ wsX120, w ∈ lw_all := lw_in wsX120 [279, 280, 281, 277] (by decide +kernel) (by decide +kernel)
theorem tyX13_ok : ∀ k, k < 4 → parseFieldDescriptor (TX13 k).2.2.1 = some (tyX13 k) := by decide +kernel
theorem q66 : (Jvm.Cond.initialized "BranchCells$11") ∈ lw_all := lw_g (lw_at lw_m1 17 rfl) rfl
theorem q284 : (Jvm.Cond.instantiable "BranchCells$11" (4 : Nat)) ∈ lw_all := lw_g (lw_at lw_m1 235 rfl) rfl
theorem q286 : (Jvm.Cond.instanceMethod ({ cls := "BranchCells$11", name := "<init>", desc := "(LBranchCells;)V" } : Jvm.MethodName)) ∈ lw_all := lw_g (lw_at lw_m1 237 rfl) rfl
theorem q287 : (Jvm.Cond.code ({ cls := "BranchCells$11", name := "<init>", desc := "(LBranchCells;)V" } : Jvm.MethodName) prog_4_method_1_code (2 : Nat) (Option.none : Option Jvm.ClassFile.FieldType)) ∈ lw_all := lw_g (lw_at lw_m1 238 rfl) rfl
theorem q288 : (Jvm.Cond.methodLinkNest "BranchCells$11" (7 : Nat) ({ cls := "BranchCells$Reckoner", name := "<init>", desc := "(LBranchCells;)V" } : Jvm.MethodName) "BranchCells") ∈ lw_tbl := lw_at lw_m1 239 rfl
theorem q289 : (Jvm.Cond.fieldLink "BranchCells$11" (1 : Nat) "BranchCells$11" "this$0" "LBranchCells;") ∈ lw_all := lw_g (lw_at lw_m2 0 rfl) rfl
theorem q290 : (Jvm.Cond.laysFinal "BranchCells$11" "BranchCells$11" "this$0" "LBranchCells;") ∈ lw_all := lw_g (lw_at lw_m2 1 rfl) rfl
theorem q291 : (Jvm.Cond.soleField "BranchCells$11" "this$0") ∈ lw_all := lw_g (lw_at lw_m2 2 rfl) rfl
theorem q292 : (Jvm.Cond.laysFinal "BranchCells$11" "BranchCells$Reckoner" "this$0" "LBranchCells;") ∈ lw_all := lw_g (lw_at lw_m2 3 rfl) rfl
theorem q293 : (Jvm.Cond.laysFinal "BranchCells$11" "BranchCells$Doer" "takes" "I") ∈ lw_all := lw_g (lw_at lw_m2 4 rfl) rfl
theorem q294 : (Jvm.Cond.laysFinal "BranchCells$11" "BranchCells$Doer" "this$0" "LBranchCells;") ∈ lw_all := lw_g (lw_at lw_m2 5 rfl) rfl
theorem q295 : (Jvm.Cond.superclass "BranchCells$11" "BranchCells$Reckoner") ∈ lw_all := lw_g (lw_at lw_m2 6 rfl) rfl
theorem q542 : (Jvm.Cond.selects "BranchCells$11" ({ cls := "java/lang/Object", name := "getClass", desc := "()Ljava/lang/Class;" } : Jvm.MethodName) ({ cls := "java/lang/Object", name := "getClass", desc := "()Ljava/lang/Class;" } : Jvm.MethodName)) ∈ lw_all := lw_g (lw_at lw_m3 13 rfl) rfl
theorem q1030 : (Jvm.Cond.selects "BranchCells$11" ({ cls := "BranchCells$Doer", name := "takes", desc := "()I" } : Jvm.MethodName) ({ cls := "BranchCells$Doer", name := "takes", desc := "()I" } : Jvm.MethodName)) ∈ lw_all := lw_g (lw_at lw_m5 21 rfl) rfl
theorem q1092 : (Jvm.Cond.selects "BranchCells$11" ({ cls := "BranchCells$Reckoner", name := "of", desc := "(JJ)J" } : Jvm.MethodName) ({ cls := "BranchCells$11", name := "of", desc := "(JJ)J" } : Jvm.MethodName)) ∈ lw_all := lw_g (lw_at lw_m5 83 rfl) rfl
theorem q1093 : (Jvm.Cond.instanceMethod ({ cls := "BranchCells$11", name := "of", desc := "(JJ)J" } : Jvm.MethodName)) ∈ lw_all := lw_g (lw_at lw_m5 84 rfl) rfl
theorem q1094 : (Jvm.Cond.code ({ cls := "BranchCells$11", name := "of", desc := "(JJ)J" } : Jvm.MethodName) prog_4_method_2_code (5 : Nat) (Option.some Jvm.ClassFile.FieldType.long)) ∈ lw_all := lw_g (lw_at lw_m5 85 rfl) rfl
theorem q1113 : (Jvm.Cond.selects "BranchCells$11" ({ cls := "BranchCells$Doer", name := "does", desc := "(LBranchCells$Task;I)V" } : Jvm.MethodName) ({ cls := "BranchCells$Reckoner", name := "does", desc := "(LBranchCells$Task;I)V" } : Jvm.MethodName)) ∈ lw_all := lw_g (lw_at lw_m5 104 rfl) rfl
theorem q1335 : (Jvm.Cond.selects "BranchCells$11" ({ cls := "java/lang/Object", name := "equals", desc := "(Ljava/lang/Object;)Z" } : Jvm.MethodName) ({ cls := "java/lang/Object", name := "equals", desc := "(Ljava/lang/Object;)Z" } : Jvm.MethodName)) ∈ lw_all := lw_g (lw_at lw_m6 86 rfl) rfl
theorem q1821 : (Jvm.Cond.castable "BranchCells$11" "java/lang/Object") ∈ lw_tbl := lw_at lw_m8 92 rfl
theorem q1853 : (Jvm.Cond.castable "BranchCells$11" "BranchCells$Doer") ∈ lw_tbl := lw_at lw_m8 124 rfl
theorem in_X13 : ∀ w ∈ wsX130, w ∈ lw_all := lw_in wsX130 [292, 293, 294, 290] (by decide +kernel) (by decide +kernel)
theorem tyX14_ok : ∀ k, k < 4 → parseFieldDescriptor (TX14 k).2.2.1 = some (tyX14 k) := by decide +kernel
theorem q67 : (Jvm.Cond.initialized "BranchCells$12") ∈ lw_all := lw_g (lw_at lw_m1 18 rfl) rfl
theorem q297 : (Jvm.Cond.instantiable "BranchCells$12" (4 : Nat)) ∈ lw_all := lw_g (lw_at lw_m2 8 rfl) rfl
theorem q299 : (Jvm.Cond.instanceMethod ({ cls := "BranchCells$12", name := "<init>", desc := "(LBranchCells;)V" } : Jvm.MethodName)) ∈ lw_all := lw_g (lw_at lw_m2 10 rfl) rfl
theorem q300 : (Jvm.Cond.code ({ cls := "BranchCells$12", name := "<init>", desc := "(LBranchCells;)V" } : Jvm.MethodName) prog_5_method_1_code (2 : Nat) (Option.none : Option Jvm.ClassFile.FieldType)) ∈ lw_all := lw_g (lw_at lw_m2 11 rfl) rfl
theorem q301 : (Jvm.Cond.methodLinkNest "BranchCells$12" (7 : Nat) ({ cls := "BranchCells$Reckoner", name := "<init>", desc := "(LBranchCells;)V" } : Jvm.MethodName) "BranchCells") ∈ lw_tbl := lw_at lw_m2 12 rfl
theorem q302 : (Jvm.Cond.fieldLink "BranchCells$12" (1 : Nat) "BranchCells$12" "this$0" "LBranchCells;") ∈ lw_all := lw_g (lw_at lw_m2 13 rfl) rfl
theorem q303 : (Jvm.Cond.laysFinal "BranchCells$12" "BranchCells$12" "this$0" "LBranchCells;") ∈ lw_all := lw_g (lw_at lw_m2 14 rfl) rfl
theorem q304 : (Jvm.Cond.soleField "BranchCells$12" "this$0") ∈ lw_all := lw_g (lw_at lw_m2 15 rfl) rfl
theorem q305 : (Jvm.Cond.laysFinal "BranchCells$12" "BranchCells$Reckoner" "this$0" "LBranchCells;") ∈ lw_all := lw_g (lw_at lw_m2 16 rfl) rfl
theorem q306 : (Jvm.Cond.laysFinal "BranchCells$12" "BranchCells$Doer" "takes" "I") ∈ lw_all := lw_g (lw_at lw_m2 17 rfl) rfl
theorem q307 : (Jvm.Cond.laysFinal "BranchCells$12" "BranchCells$Doer" "this$0" "LBranchCells;") ∈ lw_all := lw_g (lw_at lw_m2 18 rfl) rfl
theorem q308 : (Jvm.Cond.superclass "BranchCells$12" "BranchCells$Reckoner") ∈ lw_all := lw_g (lw_at lw_m2 19 rfl) rfl
theorem q543 : (Jvm.Cond.selects "BranchCells$12" ({ cls := "java/lang/Object", name := "getClass", desc := "()Ljava/lang/Class;" } : Jvm.MethodName) ({ cls := "java/lang/Object", name := "getClass", desc := "()Ljava/lang/Class;" } : Jvm.MethodName)) ∈ lw_all := lw_g (lw_at lw_m3 14 rfl) rfl
theorem q1031 : (Jvm.Cond.selects "BranchCells$12" ({ cls := "BranchCells$Doer", name := "takes", desc := "()I" } : Jvm.MethodName) ({ cls := "BranchCells$Doer", name := "takes", desc := "()I" } : Jvm.MethodName)) ∈ lw_all := lw_g (lw_at lw_m5 22 rfl) rfl
theorem q1095 : (Jvm.Cond.selects "BranchCells$12" ({ cls := "BranchCells$Reckoner", name := "of", desc := "(JJ)J" } : Jvm.MethodName) ({ cls := "BranchCells$12", name := "of", desc := "(JJ)J" } : Jvm.MethodName)) ∈ lw_all := lw_g (lw_at lw_m5 86 rfl) rfl
theorem q1096 : (Jvm.Cond.instanceMethod ({ cls := "BranchCells$12", name := "of", desc := "(JJ)J" } : Jvm.MethodName)) ∈ lw_all := lw_g (lw_at lw_m5 87 rfl) rfl
theorem q1097 : (Jvm.Cond.code ({ cls := "BranchCells$12", name := "of", desc := "(JJ)J" } : Jvm.MethodName) prog_5_method_2_code (5 : Nat) (Option.some Jvm.ClassFile.FieldType.long)) ∈ lw_all := lw_g (lw_at lw_m5 88 rfl) rfl
theorem q1114 : (Jvm.Cond.selects "BranchCells$12" ({ cls := "BranchCells$Doer", name := "does", desc := "(LBranchCells$Task;I)V" } : Jvm.MethodName) ({ cls := "BranchCells$Reckoner", name := "does", desc := "(LBranchCells$Task;I)V" } : Jvm.MethodName)) ∈ lw_all := lw_g (lw_at lw_m5 105 rfl) rfl
theorem q1336 : (Jvm.Cond.selects "BranchCells$12" ({ cls := "java/lang/Object", name := "equals", desc := "(Ljava/lang/Object;)Z" } : Jvm.MethodName) ({ cls := "java/lang/Object", name := "equals", desc := "(Ljava/lang/Object;)Z" } : Jvm.MethodName)) ∈ lw_all := lw_g (lw_at lw_m6 87 rfl) rfl
theorem q1822 : (Jvm.Cond.castable "BranchCells$12" "java/lang/Object") ∈ lw_tbl := lw_at lw_m8 93 rfl
theorem q1854 : (Jvm.Cond.castable "BranchCells$12" "BranchCells$Doer") ∈ lw_tbl := lw_at lw_m8 125 rfl
theorem in_X14 : ∀ w ∈ wsX140, w ∈ lw_all := lw_in wsX140 [305, 306, 307, 303] (by decide +kernel) (by decide +kernel)
theorem tyX15_ok : ∀ k, k < 3 → parseFieldDescriptor (TX15 k).2.2.1 = some (tyX15 k) := by decide +kernel
theorem q68 : (Jvm.Cond.initialized "BranchCells$13") ∈ lw_all := lw_g (lw_at lw_m1 19 rfl) rfl
theorem q314 : (Jvm.Cond.instantiable "BranchCells$13" (3 : Nat)) ∈ lw_all := lw_g (lw_at lw_m2 25 rfl) rfl
theorem q316 : (Jvm.Cond.instanceMethod ({ cls := "BranchCells$13", name := "<init>", desc := "(LBranchCells;I)V" } : Jvm.MethodName)) ∈ lw_all := lw_g (lw_at lw_m2 27 rfl) rfl
theorem q317 : (Jvm.Cond.code ({ cls := "BranchCells$13", name := "<init>", desc := "(LBranchCells;I)V" } : Jvm.MethodName) prog_6_method_1_code (3 : Nat) (Option.none : Option Jvm.ClassFile.FieldType)) ∈ lw_all := lw_g (lw_at lw_m2 28 rfl) rfl
theorem q318 : (Jvm.Cond.methodLink "BranchCells$13" (7 : Nat) ({ cls := "BranchCells$Doer", name := "<init>", desc := "(LBranchCells;I)V" } : Jvm.MethodName)) ∈ lw_all := lw_g (lw_at lw_m2 29 rfl) rfl
theorem q319 : (Jvm.Cond.fieldLink "BranchCells$13" (1 : Nat) "BranchCells$13" "this$0" "LBranchCells;") ∈ lw_all := lw_g (lw_at lw_m2 30 rfl) rfl
theorem q320 : (Jvm.Cond.laysFinal "BranchCells$13" "BranchCells$13" "this$0" "LBranchCells;") ∈ lw_all := lw_g (lw_at lw_m2 31 rfl) rfl
theorem q321 : (Jvm.Cond.soleField "BranchCells$13" "this$0") ∈ lw_all := lw_g (lw_at lw_m2 32 rfl) rfl
theorem q322 : (Jvm.Cond.laysFinal "BranchCells$13" "BranchCells$Doer" "takes" "I") ∈ lw_all := lw_g (lw_at lw_m2 33 rfl) rfl
theorem q323 : (Jvm.Cond.laysFinal "BranchCells$13" "BranchCells$Doer" "this$0" "LBranchCells;") ∈ lw_all := lw_g (lw_at lw_m2 34 rfl) rfl
theorem q324 : (Jvm.Cond.superclass "BranchCells$13" "BranchCells$Doer") ∈ lw_all := lw_g (lw_at lw_m2 35 rfl) rfl
theorem q544 : (Jvm.Cond.selects "BranchCells$13" ({ cls := "java/lang/Object", name := "getClass", desc := "()Ljava/lang/Class;" } : Jvm.MethodName) ({ cls := "java/lang/Object", name := "getClass", desc := "()Ljava/lang/Class;" } : Jvm.MethodName)) ∈ lw_all := lw_g (lw_at lw_m3 15 rfl) rfl
theorem q828 : (Jvm.Cond.fieldLinkNest "BranchCells$13" (13 : Nat) "BranchCells$Task" "place" "I" "BranchCells") ∈ lw_tbl := lw_at lw_m4 59 rfl
theorem q1032 : (Jvm.Cond.selects "BranchCells$13" ({ cls := "BranchCells$Doer", name := "takes", desc := "()I" } : Jvm.MethodName) ({ cls := "BranchCells$Doer", name := "takes", desc := "()I" } : Jvm.MethodName)) ∈ lw_all := lw_g (lw_at lw_m5 23 rfl) rfl
theorem q1115 : (Jvm.Cond.selects "BranchCells$13" ({ cls := "BranchCells$Doer", name := "does", desc := "(LBranchCells$Task;I)V" } : Jvm.MethodName) ({ cls := "BranchCells$13", name := "does", desc := "(LBranchCells$Task;I)V" } : Jvm.MethodName)) ∈ lw_all := lw_g (lw_at lw_m5 106 rfl) rfl
theorem q1116 : (Jvm.Cond.instanceMethod ({ cls := "BranchCells$13", name := "does", desc := "(LBranchCells$Task;I)V" } : Jvm.MethodName)) ∈ lw_all := lw_g (lw_at lw_m5 107 rfl) rfl
theorem q1117 : (Jvm.Cond.code ({ cls := "BranchCells$13", name := "does", desc := "(LBranchCells$Task;I)V" } : Jvm.MethodName) prog_6_method_2_code (3 : Nat) (Option.none : Option Jvm.ClassFile.FieldType)) ∈ lw_all := lw_g (lw_at lw_m5 108 rfl) rfl
theorem q1337 : (Jvm.Cond.selects "BranchCells$13" ({ cls := "java/lang/Object", name := "equals", desc := "(Ljava/lang/Object;)Z" } : Jvm.MethodName) ({ cls := "java/lang/Object", name := "equals", desc := "(Ljava/lang/Object;)Z" } : Jvm.MethodName)) ∈ lw_all := lw_g (lw_at lw_m6 88 rfl) rfl
theorem q1823 : (Jvm.Cond.castable "BranchCells$13" "java/lang/Object") ∈ lw_tbl := lw_at lw_m8 94 rfl
theorem q1855 : (Jvm.Cond.castable "BranchCells$13" "BranchCells$Doer") ∈ lw_tbl := lw_at lw_m8 126 rfl
theorem in_X15 : ∀ w ∈ wsX150, w ∈ lw_all := lw_in wsX150 [322, 323, 320] (by decide +kernel) (by decide +kernel)
theorem tyX16_ok : ∀ k, k < 3 → parseFieldDescriptor (TX16 k).2.2.1 = some (tyX16 k) := by decide +kernel
theorem q69 : (Jvm.Cond.initialized "BranchCells$14") ∈ lw_all := lw_g (lw_at lw_m1 20 rfl) rfl
theorem q326 : (Jvm.Cond.instantiable "BranchCells$14" (3 : Nat)) ∈ lw_all := lw_g (lw_at lw_m2 37 rfl) rfl
theorem q328 : (Jvm.Cond.instanceMethod ({ cls := "BranchCells$14", name := "<init>", desc := "(LBranchCells;I)V" } : Jvm.MethodName)) ∈ lw_all := lw_g (lw_at lw_m2 39 rfl) rfl
theorem q329 : (Jvm.Cond.code ({ cls := "BranchCells$14", name := "<init>", desc := "(LBranchCells;I)V" } : Jvm.MethodName) prog_7_method_1_code (3 : Nat) (Option.none : Option Jvm.ClassFile.FieldType)) ∈ lw_all := lw_g (lw_at lw_m2 40 rfl) rfl
theorem q330 : (Jvm.Cond.methodLink "BranchCells$14" (7 : Nat) ({ cls := "BranchCells$Doer", name := "<init>", desc := "(LBranchCells;I)V" } : Jvm.MethodName)) ∈ lw_all := lw_g (lw_at lw_m2 41 rfl) rfl
theorem q331 : (Jvm.Cond.fieldLink "BranchCells$14" (1 : Nat) "BranchCells$14" "this$0" "LBranchCells;") ∈ lw_all := lw_g (lw_at lw_m2 42 rfl) rfl
theorem q332 : (Jvm.Cond.laysFinal "BranchCells$14" "BranchCells$14" "this$0" "LBranchCells;") ∈ lw_all := lw_g (lw_at lw_m2 43 rfl) rfl
theorem q333 : (Jvm.Cond.soleField "BranchCells$14" "this$0") ∈ lw_all := lw_g (lw_at lw_m2 44 rfl) rfl
theorem q334 : (Jvm.Cond.laysFinal "BranchCells$14" "BranchCells$Doer" "takes" "I") ∈ lw_all := lw_g (lw_at lw_m2 45 rfl) rfl
theorem q335 : (Jvm.Cond.laysFinal "BranchCells$14" "BranchCells$Doer" "this$0" "LBranchCells;") ∈ lw_all := lw_g (lw_at lw_m2 46 rfl) rfl
theorem q336 : (Jvm.Cond.superclass "BranchCells$14" "BranchCells$Doer") ∈ lw_all := lw_g (lw_at lw_m2 47 rfl) rfl
theorem q545 : (Jvm.Cond.selects "BranchCells$14" ({ cls := "java/lang/Object", name := "getClass", desc := "()Ljava/lang/Class;" } : Jvm.MethodName) ({ cls := "java/lang/Object", name := "getClass", desc := "()Ljava/lang/Class;" } : Jvm.MethodName)) ∈ lw_all := lw_g (lw_at lw_m3 16 rfl) rfl
theorem q829 : (Jvm.Cond.fieldLinkNest "BranchCells$14" (19 : Nat) "BranchCells$Task" "place" "I" "BranchCells") ∈ lw_tbl := lw_at lw_m4 60 rfl
theorem q1033 : (Jvm.Cond.selects "BranchCells$14" ({ cls := "BranchCells$Doer", name := "takes", desc := "()I" } : Jvm.MethodName) ({ cls := "BranchCells$Doer", name := "takes", desc := "()I" } : Jvm.MethodName)) ∈ lw_all := lw_g (lw_at lw_m5 24 rfl) rfl
theorem q1118 : (Jvm.Cond.selects "BranchCells$14" ({ cls := "BranchCells$Doer", name := "does", desc := "(LBranchCells$Task;I)V" } : Jvm.MethodName) ({ cls := "BranchCells$14", name := "does", desc := "(LBranchCells$Task;I)V" } : Jvm.MethodName)) ∈ lw_all := lw_g (lw_at lw_m5 109 rfl) rfl
theorem q1119 : (Jvm.Cond.instanceMethod ({ cls := "BranchCells$14", name := "does", desc := "(LBranchCells$Task;I)V" } : Jvm.MethodName)) ∈ lw_all := lw_g (lw_at lw_m5 110 rfl) rfl
theorem q1120 : (Jvm.Cond.code ({ cls := "BranchCells$14", name := "does", desc := "(LBranchCells$Task;I)V" } : Jvm.MethodName) prog_7_method_2_code (3 : Nat) (Option.none : Option Jvm.ClassFile.FieldType)) ∈ lw_all := lw_g (lw_at lw_m5 111 rfl) rfl
theorem q1121 : (Jvm.Cond.methodLink "BranchCells$14" (13 : Nat) ({ cls := "BranchCells$Task", name := "number", desc := "()J" } : Jvm.MethodName)) ∈ lw_all := lw_g (lw_at lw_m5 112 rfl) rfl
theorem q1338 : (Jvm.Cond.selects "BranchCells$14" ({ cls := "java/lang/Object", name := "equals", desc := "(Ljava/lang/Object;)Z" } : Jvm.MethodName) ({ cls := "java/lang/Object", name := "equals", desc := "(Ljava/lang/Object;)Z" } : Jvm.MethodName)) ∈ lw_all := lw_g (lw_at lw_m6 89 rfl) rfl
theorem q1824 : (Jvm.Cond.castable "BranchCells$14" "java/lang/Object") ∈ lw_tbl := lw_at lw_m8 95 rfl
theorem q1856 : (Jvm.Cond.castable "BranchCells$14" "BranchCells$Doer") ∈ lw_tbl := lw_at lw_m8 127 rfl
theorem in_X16 : ∀ w ∈ wsX160, w ∈ lw_all := lw_in wsX160 [334, 335, 332] (by decide +kernel) (by decide +kernel)
theorem tyX17_ok : ∀ k, k < 3 → parseFieldDescriptor (TX17 k).2.2.1 = some (tyX17 k) := by decide +kernel
theorem q70 : (Jvm.Cond.initialized "BranchCells$15") ∈ lw_all := lw_g (lw_at lw_m1 21 rfl) rfl
theorem q338 : (Jvm.Cond.instantiable "BranchCells$15" (3 : Nat)) ∈ lw_all := lw_g (lw_at lw_m2 49 rfl) rfl
theorem q340 : (Jvm.Cond.instanceMethod ({ cls := "BranchCells$15", name := "<init>", desc := "(LBranchCells;I)V" } : Jvm.MethodName)) ∈ lw_all := lw_g (lw_at lw_m2 51 rfl) rfl
theorem q341 : (Jvm.Cond.code ({ cls := "BranchCells$15", name := "<init>", desc := "(LBranchCells;I)V" } : Jvm.MethodName) prog_8_method_1_code (3 : Nat) (Option.none : Option Jvm.ClassFile.FieldType)) ∈ lw_all := lw_g (lw_at lw_m2 52 rfl) rfl
theorem q342 : (Jvm.Cond.methodLink "BranchCells$15" (7 : Nat) ({ cls := "BranchCells$Doer", name := "<init>", desc := "(LBranchCells;I)V" } : Jvm.MethodName)) ∈ lw_all := lw_g (lw_at lw_m2 53 rfl) rfl
theorem q343 : (Jvm.Cond.fieldLink "BranchCells$15" (1 : Nat) "BranchCells$15" "this$0" "LBranchCells;") ∈ lw_all := lw_g (lw_at lw_m2 54 rfl) rfl
theorem q344 : (Jvm.Cond.laysFinal "BranchCells$15" "BranchCells$15" "this$0" "LBranchCells;") ∈ lw_all := lw_g (lw_at lw_m2 55 rfl) rfl
theorem q345 : (Jvm.Cond.soleField "BranchCells$15" "this$0") ∈ lw_all := lw_g (lw_at lw_m2 56 rfl) rfl
theorem q346 : (Jvm.Cond.laysFinal "BranchCells$15" "BranchCells$Doer" "takes" "I") ∈ lw_all := lw_g (lw_at lw_m2 57 rfl) rfl
theorem q347 : (Jvm.Cond.laysFinal "BranchCells$15" "BranchCells$Doer" "this$0" "LBranchCells;") ∈ lw_all := lw_g (lw_at lw_m2 58 rfl) rfl
theorem q348 : (Jvm.Cond.superclass "BranchCells$15" "BranchCells$Doer") ∈ lw_all := lw_g (lw_at lw_m2 59 rfl) rfl
theorem q546 : (Jvm.Cond.selects "BranchCells$15" ({ cls := "java/lang/Object", name := "getClass", desc := "()Ljava/lang/Class;" } : Jvm.MethodName) ({ cls := "java/lang/Object", name := "getClass", desc := "()Ljava/lang/Class;" } : Jvm.MethodName)) ∈ lw_all := lw_g (lw_at lw_m3 17 rfl) rfl
theorem q783 : (Jvm.Cond.fieldLink "BranchCells$15" (23 : Nat) "BranchCells$Values" "numbers" "[J") ∈ lw_all := lw_g (lw_at lw_m4 14 rfl) rfl
theorem q790 : (Jvm.Cond.fieldLink "BranchCells$15" (29 : Nat) "BranchCells$Values" "handles" "[LBranchCells$Task;") ∈ lw_all := lw_g (lw_at lw_m4 21 rfl) rfl
theorem q845 : (Jvm.Cond.fieldLinkNest "BranchCells$15" (19 : Nat) "BranchCells$Task" "slots" "LBranchCells$Values;" "BranchCells") ∈ lw_tbl := lw_at lw_m4 76 rfl
theorem q850 : (Jvm.Cond.fieldLinkNest "BranchCells$15" (13 : Nat) "BranchCells$Task" "pile" "LBranchCells$Pile;" "BranchCells") ∈ lw_tbl := lw_at lw_m4 81 rfl
theorem q1034 : (Jvm.Cond.selects "BranchCells$15" ({ cls := "BranchCells$Doer", name := "takes", desc := "()I" } : Jvm.MethodName) ({ cls := "BranchCells$Doer", name := "takes", desc := "()I" } : Jvm.MethodName)) ∈ lw_all := lw_g (lw_at lw_m5 25 rfl) rfl
theorem q1127 : (Jvm.Cond.selects "BranchCells$15" ({ cls := "BranchCells$Doer", name := "does", desc := "(LBranchCells$Task;I)V" } : Jvm.MethodName) ({ cls := "BranchCells$15", name := "does", desc := "(LBranchCells$Task;I)V" } : Jvm.MethodName)) ∈ lw_all := lw_g (lw_at lw_m5 118 rfl) rfl
theorem q1128 : (Jvm.Cond.instanceMethod ({ cls := "BranchCells$15", name := "does", desc := "(LBranchCells$Task;I)V" } : Jvm.MethodName)) ∈ lw_all := lw_g (lw_at lw_m5 119 rfl) rfl
theorem q1129 : (Jvm.Cond.code ({ cls := "BranchCells$15", name := "does", desc := "(LBranchCells$Task;I)V" } : Jvm.MethodName) prog_8_method_2_code (3 : Nat) (Option.none : Option Jvm.ClassFile.FieldType)) ∈ lw_all := lw_g (lw_at lw_m5 120 rfl) rfl
theorem q1130 : (Jvm.Cond.methodLink "BranchCells$15" (33 : Nat) ({ cls := "BranchCells$Pile", name := "put", desc := "(JLBranchCells$Task;)V" } : Jvm.MethodName)) ∈ lw_all := lw_g (lw_at lw_m5 121 rfl) rfl
theorem q1131 : (Jvm.Cond.methodLink "BranchCells$15" (39 : Nat) ({ cls := "BranchCells$Values", name := "put", desc := "(IJLBranchCells$Task;)V" } : Jvm.MethodName)) ∈ lw_all := lw_g (lw_at lw_m5 122 rfl) rfl
theorem q1339 : (Jvm.Cond.selects "BranchCells$15" ({ cls := "java/lang/Object", name := "equals", desc := "(Ljava/lang/Object;)Z" } : Jvm.MethodName) ({ cls := "java/lang/Object", name := "equals", desc := "(Ljava/lang/Object;)Z" } : Jvm.MethodName)) ∈ lw_all := lw_g (lw_at lw_m6 90 rfl) rfl
theorem q1825 : (Jvm.Cond.castable "BranchCells$15" "java/lang/Object") ∈ lw_tbl := lw_at lw_m8 96 rfl
theorem q1857 : (Jvm.Cond.castable "BranchCells$15" "BranchCells$Doer") ∈ lw_tbl := lw_at lw_m8 128 rfl
theorem in_X17 : ∀ w ∈ wsX170, w ∈ lw_all := lw_in wsX170 [346, 347, 344] (by decide +kernel) (by decide +kernel)
theorem tyX18_ok : ∀ k, k < 3 → parseFieldDescriptor (TX18 k).2.2.1 = some (tyX18 k) := by decide +kernel
theorem q71 : (Jvm.Cond.initialized "BranchCells$16") ∈ lw_all := lw_g (lw_at lw_m1 22 rfl) rfl
theorem q350 : (Jvm.Cond.instantiable "BranchCells$16" (3 : Nat)) ∈ lw_all := lw_g (lw_at lw_m2 61 rfl) rfl
theorem q352 : (Jvm.Cond.instanceMethod ({ cls := "BranchCells$16", name := "<init>", desc := "(LBranchCells;I)V" } : Jvm.MethodName)) ∈ lw_all := lw_g (lw_at lw_m2 63 rfl) rfl
theorem q353 : (Jvm.Cond.code ({ cls := "BranchCells$16", name := "<init>", desc := "(LBranchCells;I)V" } : Jvm.MethodName) prog_9_method_1_code (3 : Nat) (Option.none : Option Jvm.ClassFile.FieldType)) ∈ lw_all := lw_g (lw_at lw_m2 64 rfl) rfl
theorem q354 : (Jvm.Cond.methodLink "BranchCells$16" (7 : Nat) ({ cls := "BranchCells$Doer", name := "<init>", desc := "(LBranchCells;I)V" } : Jvm.MethodName)) ∈ lw_all := lw_g (lw_at lw_m2 65 rfl) rfl
theorem q355 : (Jvm.Cond.fieldLink "BranchCells$16" (1 : Nat) "BranchCells$16" "this$0" "LBranchCells;") ∈ lw_all := lw_g (lw_at lw_m2 66 rfl) rfl
theorem q356 : (Jvm.Cond.laysFinal "BranchCells$16" "BranchCells$16" "this$0" "LBranchCells;") ∈ lw_all := lw_g (lw_at lw_m2 67 rfl) rfl
theorem q357 : (Jvm.Cond.soleField "BranchCells$16" "this$0") ∈ lw_all := lw_g (lw_at lw_m2 68 rfl) rfl
theorem q358 : (Jvm.Cond.laysFinal "BranchCells$16" "BranchCells$Doer" "takes" "I") ∈ lw_all := lw_g (lw_at lw_m2 69 rfl) rfl
theorem q359 : (Jvm.Cond.laysFinal "BranchCells$16" "BranchCells$Doer" "this$0" "LBranchCells;") ∈ lw_all := lw_g (lw_at lw_m2 70 rfl) rfl
theorem q360 : (Jvm.Cond.superclass "BranchCells$16" "BranchCells$Doer") ∈ lw_all := lw_g (lw_at lw_m2 71 rfl) rfl
theorem q547 : (Jvm.Cond.selects "BranchCells$16" ({ cls := "java/lang/Object", name := "getClass", desc := "()Ljava/lang/Class;" } : Jvm.MethodName) ({ cls := "java/lang/Object", name := "getClass", desc := "()Ljava/lang/Class;" } : Jvm.MethodName)) ∈ lw_all := lw_g (lw_at lw_m3 18 rfl) rfl
theorem q787 : (Jvm.Cond.fieldLink "BranchCells$16" (29 : Nat) "BranchCells$Pile" "numbers" "[J") ∈ lw_all := lw_g (lw_at lw_m4 18 rfl) rfl
theorem q794 : (Jvm.Cond.fieldLink "BranchCells$16" (33 : Nat) "BranchCells$Pile" "handles" "[LBranchCells$Task;") ∈ lw_all := lw_g (lw_at lw_m4 25 rfl) rfl
theorem q846 : (Jvm.Cond.fieldLinkNest "BranchCells$16" (25 : Nat) "BranchCells$Task" "slots" "LBranchCells$Values;" "BranchCells") ∈ lw_tbl := lw_at lw_m4 77 rfl
theorem q851 : (Jvm.Cond.fieldLinkNest "BranchCells$16" (13 : Nat) "BranchCells$Task" "pile" "LBranchCells$Pile;" "BranchCells") ∈ lw_tbl := lw_at lw_m4 82 rfl
theorem q1035 : (Jvm.Cond.selects "BranchCells$16" ({ cls := "BranchCells$Doer", name := "takes", desc := "()I" } : Jvm.MethodName) ({ cls := "BranchCells$Doer", name := "takes", desc := "()I" } : Jvm.MethodName)) ∈ lw_all := lw_g (lw_at lw_m5 26 rfl) rfl
theorem q1132 : (Jvm.Cond.selects "BranchCells$16" ({ cls := "BranchCells$Doer", name := "does", desc := "(LBranchCells$Task;I)V" } : Jvm.MethodName) ({ cls := "BranchCells$16", name := "does", desc := "(LBranchCells$Task;I)V" } : Jvm.MethodName)) ∈ lw_all := lw_g (lw_at lw_m5 123 rfl) rfl
theorem q1133 : (Jvm.Cond.instanceMethod ({ cls := "BranchCells$16", name := "does", desc := "(LBranchCells$Task;I)V" } : Jvm.MethodName)) ∈ lw_all := lw_g (lw_at lw_m5 124 rfl) rfl
theorem q1134 : (Jvm.Cond.code ({ cls := "BranchCells$16", name := "does", desc := "(LBranchCells$Task;I)V" } : Jvm.MethodName) prog_9_method_2_code (4 : Nat) (Option.none : Option Jvm.ClassFile.FieldType)) ∈ lw_all := lw_g (lw_at lw_m5 125 rfl) rfl
theorem q1135 : (Jvm.Cond.methodLink "BranchCells$16" (19 : Nat) ({ cls := "BranchCells$Pile", name := "take", desc := "()I" } : Jvm.MethodName)) ∈ lw_all := lw_g (lw_at lw_m5 126 rfl) rfl
theorem q1136 : (Jvm.Cond.methodLink "BranchCells$16" (37 : Nat) ({ cls := "BranchCells$Values", name := "put", desc := "(IJLBranchCells$Task;)V" } : Jvm.MethodName)) ∈ lw_all := lw_g (lw_at lw_m5 127 rfl) rfl
theorem q1340 : (Jvm.Cond.selects "BranchCells$16" ({ cls := "java/lang/Object", name := "equals", desc := "(Ljava/lang/Object;)Z" } : Jvm.MethodName) ({ cls := "java/lang/Object", name := "equals", desc := "(Ljava/lang/Object;)Z" } : Jvm.MethodName)) ∈ lw_all := lw_g (lw_at lw_m6 91 rfl) rfl
theorem q1826 : (Jvm.Cond.castable "BranchCells$16" "java/lang/Object") ∈ lw_tbl := lw_at lw_m8 97 rfl
theorem q1858 : (Jvm.Cond.castable "BranchCells$16" "BranchCells$Doer") ∈ lw_tbl := lw_at lw_m8 129 rfl
theorem in_X18 : ∀ w ∈ wsX180, w ∈ lw_all := lw_in wsX180 [358, 359, 356] (by decide +kernel) (by decide +kernel)
theorem tyX19_ok : ∀ k, k < 3 → parseFieldDescriptor (TX19 k).2.2.1 = some (tyX19 k) := by decide +kernel
theorem q72 : (Jvm.Cond.initialized "BranchCells$17") ∈ lw_all := lw_g (lw_at lw_m1 23 rfl) rfl
theorem q362 : (Jvm.Cond.instantiable "BranchCells$17" (3 : Nat)) ∈ lw_all := lw_g (lw_at lw_m2 73 rfl) rfl
theorem q364 : (Jvm.Cond.instanceMethod ({ cls := "BranchCells$17", name := "<init>", desc := "(LBranchCells;I)V" } : Jvm.MethodName)) ∈ lw_all := lw_g (lw_at lw_m2 75 rfl) rfl
theorem q365 : (Jvm.Cond.code ({ cls := "BranchCells$17", name := "<init>", desc := "(LBranchCells;I)V" } : Jvm.MethodName) prog_10_method_1_code (3 : Nat) (Option.none : Option Jvm.ClassFile.FieldType)) ∈ lw_all := lw_g (lw_at lw_m2 76 rfl) rfl
theorem q366 : (Jvm.Cond.methodLink "BranchCells$17" (7 : Nat) ({ cls := "BranchCells$Doer", name := "<init>", desc := "(LBranchCells;I)V" } : Jvm.MethodName)) ∈ lw_all := lw_g (lw_at lw_m2 77 rfl) rfl
theorem q367 : (Jvm.Cond.fieldLink "BranchCells$17" (1 : Nat) "BranchCells$17" "this$0" "LBranchCells;") ∈ lw_all := lw_g (lw_at lw_m2 78 rfl) rfl
theorem q368 : (Jvm.Cond.laysFinal "BranchCells$17" "BranchCells$17" "this$0" "LBranchCells;") ∈ lw_all := lw_g (lw_at lw_m2 79 rfl) rfl
theorem q369 : (Jvm.Cond.soleField "BranchCells$17" "this$0") ∈ lw_all := lw_g (lw_at lw_m2 80 rfl) rfl
theorem q370 : (Jvm.Cond.laysFinal "BranchCells$17" "BranchCells$Doer" "takes" "I") ∈ lw_all := lw_g (lw_at lw_m2 81 rfl) rfl
theorem q371 : (Jvm.Cond.laysFinal "BranchCells$17" "BranchCells$Doer" "this$0" "LBranchCells;") ∈ lw_all := lw_g (lw_at lw_m2 82 rfl) rfl
theorem q372 : (Jvm.Cond.superclass "BranchCells$17" "BranchCells$Doer") ∈ lw_all := lw_g (lw_at lw_m2 83 rfl) rfl
theorem q548 : (Jvm.Cond.selects "BranchCells$17" ({ cls := "java/lang/Object", name := "getClass", desc := "()Ljava/lang/Class;" } : Jvm.MethodName) ({ cls := "java/lang/Object", name := "getClass", desc := "()Ljava/lang/Class;" } : Jvm.MethodName)) ∈ lw_all := lw_g (lw_at lw_m3 19 rfl) rfl
theorem q852 : (Jvm.Cond.fieldLinkNest "BranchCells$17" (13 : Nat) "BranchCells$Task" "pile" "LBranchCells$Pile;" "BranchCells") ∈ lw_tbl := lw_at lw_m4 83 rfl
theorem q1036 : (Jvm.Cond.selects "BranchCells$17" ({ cls := "BranchCells$Doer", name := "takes", desc := "()I" } : Jvm.MethodName) ({ cls := "BranchCells$Doer", name := "takes", desc := "()I" } : Jvm.MethodName)) ∈ lw_all := lw_g (lw_at lw_m5 27 rfl) rfl
theorem q1137 : (Jvm.Cond.selects "BranchCells$17" ({ cls := "BranchCells$Doer", name := "does", desc := "(LBranchCells$Task;I)V" } : Jvm.MethodName) ({ cls := "BranchCells$17", name := "does", desc := "(LBranchCells$Task;I)V" } : Jvm.MethodName)) ∈ lw_all := lw_g (lw_at lw_m5 128 rfl) rfl
theorem q1138 : (Jvm.Cond.instanceMethod ({ cls := "BranchCells$17", name := "does", desc := "(LBranchCells$Task;I)V" } : Jvm.MethodName)) ∈ lw_all := lw_g (lw_at lw_m5 129 rfl) rfl
theorem q1139 : (Jvm.Cond.code ({ cls := "BranchCells$17", name := "does", desc := "(LBranchCells$Task;I)V" } : Jvm.MethodName) prog_10_method_2_code (3 : Nat) (Option.none : Option Jvm.ClassFile.FieldType)) ∈ lw_all := lw_g (lw_at lw_m5 130 rfl) rfl
theorem q1140 : (Jvm.Cond.methodLink "BranchCells$17" (19 : Nat) ({ cls := "BranchCells$Pile", name := "take", desc := "()I" } : Jvm.MethodName)) ∈ lw_all := lw_g (lw_at lw_m5 131 rfl) rfl
theorem q1341 : (Jvm.Cond.selects "BranchCells$17" ({ cls := "java/lang/Object", name := "equals", desc := "(Ljava/lang/Object;)Z" } : Jvm.MethodName) ({ cls := "java/lang/Object", name := "equals", desc := "(Ljava/lang/Object;)Z" } : Jvm.MethodName)) ∈ lw_all := lw_g (lw_at lw_m6 92 rfl) rfl
theorem q1827 : (Jvm.Cond.castable "BranchCells$17" "java/lang/Object") ∈ lw_tbl := lw_at lw_m8 98 rfl
theorem q1859 : (Jvm.Cond.castable "BranchCells$17" "BranchCells$Doer") ∈ lw_tbl := lw_at lw_m8 130 rfl
theorem in_X19 : ∀ w ∈ wsX190, w ∈ lw_all := lw_in wsX190 [370, 371, 368] (by decide +kernel) (by decide +kernel)
theorem tyX2_ok : ∀ k, k < 3 → parseFieldDescriptor (TX2 k).2.2.1 = some (tyX2 k) := by decide +kernel
theorem q55 : (Jvm.Cond.initialized "BranchCells$1") ∈ lw_all := lw_g (lw_at lw_m1 6 rfl) rfl
theorem q142 : (Jvm.Cond.instantiable "BranchCells$1" (3 : Nat)) ∈ lw_all := lw_g (lw_at lw_m1 93 rfl) rfl
theorem q144 : (Jvm.Cond.instanceMethod ({ cls := "BranchCells$1", name := "<init>", desc := "(LBranchCells;I)V" } : Jvm.MethodName)) ∈ lw_all := lw_g (lw_at lw_m1 95 rfl) rfl
theorem q145 : (Jvm.Cond.code ({ cls := "BranchCells$1", name := "<init>", desc := "(LBranchCells;I)V" } : Jvm.MethodName) prog_2_method_1_code (3 : Nat) (Option.none : Option Jvm.ClassFile.FieldType)) ∈ lw_all := lw_g (lw_at lw_m1 96 rfl) rfl
theorem q146 : (Jvm.Cond.methodLink "BranchCells$1" (7 : Nat) ({ cls := "BranchCells$Doer", name := "<init>", desc := "(LBranchCells;I)V" } : Jvm.MethodName)) ∈ lw_all := lw_g (lw_at lw_m1 97 rfl) rfl
theorem q150 : (Jvm.Cond.fieldLink "BranchCells$1" (1 : Nat) "BranchCells$1" "this$0" "LBranchCells;") ∈ lw_all := lw_g (lw_at lw_m1 101 rfl) rfl
theorem q153 : (Jvm.Cond.laysFinal "BranchCells$1" "BranchCells$1" "this$0" "LBranchCells;") ∈ lw_all := lw_g (lw_at lw_m1 104 rfl) rfl
theorem q154 : (Jvm.Cond.soleField "BranchCells$1" "this$0") ∈ lw_all := lw_g (lw_at lw_m1 105 rfl) rfl
theorem q155 : (Jvm.Cond.laysFinal "BranchCells$1" "BranchCells$Doer" "takes" "I") ∈ lw_all := lw_g (lw_at lw_m1 106 rfl) rfl
theorem q157 : (Jvm.Cond.laysFinal "BranchCells$1" "BranchCells$Doer" "this$0" "LBranchCells;") ∈ lw_all := lw_g (lw_at lw_m1 108 rfl) rfl
theorem q159 : (Jvm.Cond.superclass "BranchCells$1" "BranchCells$Doer") ∈ lw_all := lw_g (lw_at lw_m1 110 rfl) rfl
theorem q540 : (Jvm.Cond.selects "BranchCells$1" ({ cls := "java/lang/Object", name := "getClass", desc := "()Ljava/lang/Class;" } : Jvm.MethodName) ({ cls := "java/lang/Object", name := "getClass", desc := "()Ljava/lang/Class;" } : Jvm.MethodName)) ∈ lw_all := lw_g (lw_at lw_m3 11 rfl) rfl
theorem q1028 : (Jvm.Cond.selects "BranchCells$1" ({ cls := "BranchCells$Doer", name := "takes", desc := "()I" } : Jvm.MethodName) ({ cls := "BranchCells$Doer", name := "takes", desc := "()I" } : Jvm.MethodName)) ∈ lw_all := lw_g (lw_at lw_m5 19 rfl) rfl
theorem q1054 : (Jvm.Cond.selects "BranchCells$1" ({ cls := "BranchCells$Doer", name := "does", desc := "(LBranchCells$Task;I)V" } : Jvm.MethodName) ({ cls := "BranchCells$1", name := "does", desc := "(LBranchCells$Task;I)V" } : Jvm.MethodName)) ∈ lw_all := lw_g (lw_at lw_m5 45 rfl) rfl
theorem q1055 : (Jvm.Cond.instanceMethod ({ cls := "BranchCells$1", name := "does", desc := "(LBranchCells$Task;I)V" } : Jvm.MethodName)) ∈ lw_all := lw_g (lw_at lw_m5 46 rfl) rfl
theorem q1056 : (Jvm.Cond.code ({ cls := "BranchCells$1", name := "does", desc := "(LBranchCells$Task;I)V" } : Jvm.MethodName) prog_2_method_2_code (3 : Nat) (Option.none : Option Jvm.ClassFile.FieldType)) ∈ lw_all := lw_g (lw_at lw_m5 47 rfl) rfl
theorem q1057 : (Jvm.Cond.methodLink "BranchCells$1" (13 : Nat) ({ cls := "BranchCells$Task", name := "put", desc := "(J)V" } : Jvm.MethodName)) ∈ lw_all := lw_g (lw_at lw_m5 48 rfl) rfl
theorem q1333 : (Jvm.Cond.selects "BranchCells$1" ({ cls := "java/lang/Object", name := "equals", desc := "(Ljava/lang/Object;)Z" } : Jvm.MethodName) ({ cls := "java/lang/Object", name := "equals", desc := "(Ljava/lang/Object;)Z" } : Jvm.MethodName)) ∈ lw_all := lw_g (lw_at lw_m6 84 rfl) rfl
theorem q1811 : (Jvm.Cond.castable "BranchCells$1" "java/lang/Object") ∈ lw_tbl := lw_at lw_m8 82 rfl
theorem q1843 : (Jvm.Cond.castable "BranchCells$1" "BranchCells$Doer") ∈ lw_tbl := lw_at lw_m8 114 rfl
theorem in_X2 : ∀ w ∈ wsX20, w ∈ lw_all := lw_in wsX20 [155, 157, 153] (by decide +kernel) (by decide +kernel)
theorem tyX20_ok : ∀ k, k < 3 → parseFieldDescriptor (TX20 k).2.2.1 = some (tyX20 k) := by decide +kernel
theorem q73 : (Jvm.Cond.initialized "BranchCells$18") ∈ lw_all := lw_g (lw_at lw_m1 24 rfl) rfl
theorem q378 : (Jvm.Cond.instantiable "BranchCells$18" (3 : Nat)) ∈ lw_all := lw_g (lw_at lw_m2 89 rfl) rfl
theorem q380 : (Jvm.Cond.instanceMethod ({ cls := "BranchCells$18", name := "<init>", desc := "(LBranchCells;I)V" } : Jvm.MethodName)) ∈ lw_all := lw_g (lw_at lw_m2 91 rfl) rfl
theorem q381 : (Jvm.Cond.code ({ cls := "BranchCells$18", name := "<init>", desc := "(LBranchCells;I)V" } : Jvm.MethodName) prog_11_method_1_code (3 : Nat) (Option.none : Option Jvm.ClassFile.FieldType)) ∈ lw_all := lw_g (lw_at lw_m2 92 rfl) rfl
theorem q382 : (Jvm.Cond.methodLink "BranchCells$18" (7 : Nat) ({ cls := "BranchCells$Doer", name := "<init>", desc := "(LBranchCells;I)V" } : Jvm.MethodName)) ∈ lw_all := lw_g (lw_at lw_m2 93 rfl) rfl
theorem q383 : (Jvm.Cond.fieldLink "BranchCells$18" (1 : Nat) "BranchCells$18" "this$0" "LBranchCells;") ∈ lw_all := lw_g (lw_at lw_m2 94 rfl) rfl
theorem q384 : (Jvm.Cond.laysFinal "BranchCells$18" "BranchCells$18" "this$0" "LBranchCells;") ∈ lw_all := lw_g (lw_at lw_m2 95 rfl) rfl
theorem q385 : (Jvm.Cond.soleField "BranchCells$18" "this$0") ∈ lw_all := lw_g (lw_at lw_m2 96 rfl) rfl
theorem q386 : (Jvm.Cond.laysFinal "BranchCells$18" "BranchCells$Doer" "takes" "I") ∈ lw_all := lw_g (lw_at lw_m2 97 rfl) rfl
theorem q387 : (Jvm.Cond.laysFinal "BranchCells$18" "BranchCells$Doer" "this$0" "LBranchCells;") ∈ lw_all := lw_g (lw_at lw_m2 98 rfl) rfl
theorem q388 : (Jvm.Cond.superclass "BranchCells$18" "BranchCells$Doer") ∈ lw_all := lw_g (lw_at lw_m2 99 rfl) rfl
theorem q549 : (Jvm.Cond.selects "BranchCells$18" ({ cls := "java/lang/Object", name := "getClass", desc := "()Ljava/lang/Class;" } : Jvm.MethodName) ({ cls := "java/lang/Object", name := "getClass", desc := "()Ljava/lang/Class;" } : Jvm.MethodName)) ∈ lw_all := lw_g (lw_at lw_m3 20 rfl) rfl
theorem q784 : (Jvm.Cond.fieldLink "BranchCells$18" (25 : Nat) "BranchCells$Pile" "numbers" "[J") ∈ lw_all := lw_g (lw_at lw_m4 15 rfl) rfl
theorem q793 : (Jvm.Cond.fieldLink "BranchCells$18" (29 : Nat) "BranchCells$Pile" "handles" "[LBranchCells$Task;") ∈ lw_all := lw_g (lw_at lw_m4 24 rfl) rfl
theorem q853 : (Jvm.Cond.fieldLinkNest "BranchCells$18" (13 : Nat) "BranchCells$Task" "pile" "LBranchCells$Pile;" "BranchCells") ∈ lw_tbl := lw_at lw_m4 84 rfl
theorem q1037 : (Jvm.Cond.selects "BranchCells$18" ({ cls := "BranchCells$Doer", name := "takes", desc := "()I" } : Jvm.MethodName) ({ cls := "BranchCells$Doer", name := "takes", desc := "()I" } : Jvm.MethodName)) ∈ lw_all := lw_g (lw_at lw_m5 28 rfl) rfl
theorem q1141 : (Jvm.Cond.selects "BranchCells$18" ({ cls := "BranchCells$Doer", name := "does", desc := "(LBranchCells$Task;I)V" } : Jvm.MethodName) ({ cls := "BranchCells$18", name := "does", desc := "(LBranchCells$Task;I)V" } : Jvm.MethodName)) ∈ lw_all := lw_g (lw_at lw_m5 132 rfl) rfl
theorem q1142 : (Jvm.Cond.instanceMethod ({ cls := "BranchCells$18", name := "does", desc := "(LBranchCells$Task;I)V" } : Jvm.MethodName)) ∈ lw_all := lw_g (lw_at lw_m5 133 rfl) rfl
theorem q1143 : (Jvm.Cond.code ({ cls := "BranchCells$18", name := "does", desc := "(LBranchCells$Task;I)V" } : Jvm.MethodName) prog_11_method_2_code (7 : Nat) (Option.none : Option Jvm.ClassFile.FieldType)) ∈ lw_all := lw_g (lw_at lw_m5 134 rfl) rfl
theorem q1144 : (Jvm.Cond.methodLink "BranchCells$18" (19 : Nat) ({ cls := "BranchCells$Pile", name := "take", desc := "()I" } : Jvm.MethodName)) ∈ lw_all := lw_g (lw_at lw_m5 135 rfl) rfl
theorem q1145 : (Jvm.Cond.methodLinkNest "BranchCells$18" (33 : Nat) ({ cls := "BranchCells", name := "forks", desc := "(LBranchCells$Task;IJLBranchCells$Task;)LBranchCells$Task;" } : Jvm.MethodName) "BranchCells") ∈ lw_tbl := lw_at lw_m5 136 rfl
theorem q1149 : (Jvm.Cond.methodLink "BranchCells$18" (39 : Nat) ({ cls := "BranchCells$Pile", name := "put", desc := "(JLBranchCells$Task;)V" } : Jvm.MethodName)) ∈ lw_all := lw_g (lw_at lw_m5 140 rfl) rfl
theorem q1342 : (Jvm.Cond.selects "BranchCells$18" ({ cls := "java/lang/Object", name := "equals", desc := "(Ljava/lang/Object;)Z" } : Jvm.MethodName) ({ cls := "java/lang/Object", name := "equals", desc := "(Ljava/lang/Object;)Z" } : Jvm.MethodName)) ∈ lw_all := lw_g (lw_at lw_m6 93 rfl) rfl
theorem q1828 : (Jvm.Cond.castable "BranchCells$18" "java/lang/Object") ∈ lw_tbl := lw_at lw_m8 99 rfl
theorem q1860 : (Jvm.Cond.castable "BranchCells$18" "BranchCells$Doer") ∈ lw_tbl := lw_at lw_m8 131 rfl
theorem in_X20 : ∀ w ∈ wsX200, w ∈ lw_all := lw_in wsX200 [386, 387, 384] (by decide +kernel) (by decide +kernel)
theorem tyX21_ok : ∀ k, k < 3 → parseFieldDescriptor (TX21 k).2.2.1 = some (tyX21 k) := by decide +kernel
theorem q74 : (Jvm.Cond.initialized "BranchCells$19") ∈ lw_all := lw_g (lw_at lw_m1 25 rfl) rfl
theorem q390 : (Jvm.Cond.instantiable "BranchCells$19" (3 : Nat)) ∈ lw_all := lw_g (lw_at lw_m2 101 rfl) rfl
theorem q392 : (Jvm.Cond.instanceMethod ({ cls := "BranchCells$19", name := "<init>", desc := "(LBranchCells;I)V" } : Jvm.MethodName)) ∈ lw_all := lw_g (lw_at lw_m2 103 rfl) rfl
theorem q393 : (Jvm.Cond.code ({ cls := "BranchCells$19", name := "<init>", desc := "(LBranchCells;I)V" } : Jvm.MethodName) prog_12_method_1_code (3 : Nat) (Option.none : Option Jvm.ClassFile.FieldType)) ∈ lw_all := lw_g (lw_at lw_m2 104 rfl) rfl
theorem q394 : (Jvm.Cond.methodLink "BranchCells$19" (7 : Nat) ({ cls := "BranchCells$Doer", name := "<init>", desc := "(LBranchCells;I)V" } : Jvm.MethodName)) ∈ lw_all := lw_g (lw_at lw_m2 105 rfl) rfl
theorem q395 : (Jvm.Cond.fieldLink "BranchCells$19" (1 : Nat) "BranchCells$19" "this$0" "LBranchCells;") ∈ lw_all := lw_g (lw_at lw_m2 106 rfl) rfl
theorem q396 : (Jvm.Cond.laysFinal "BranchCells$19" "BranchCells$19" "this$0" "LBranchCells;") ∈ lw_all := lw_g (lw_at lw_m2 107 rfl) rfl
theorem q397 : (Jvm.Cond.soleField "BranchCells$19" "this$0") ∈ lw_all := lw_g (lw_at lw_m2 108 rfl) rfl
theorem q398 : (Jvm.Cond.laysFinal "BranchCells$19" "BranchCells$Doer" "takes" "I") ∈ lw_all := lw_g (lw_at lw_m2 109 rfl) rfl
theorem q399 : (Jvm.Cond.laysFinal "BranchCells$19" "BranchCells$Doer" "this$0" "LBranchCells;") ∈ lw_all := lw_g (lw_at lw_m2 110 rfl) rfl
theorem q400 : (Jvm.Cond.superclass "BranchCells$19" "BranchCells$Doer") ∈ lw_all := lw_g (lw_at lw_m2 111 rfl) rfl
theorem q550 : (Jvm.Cond.selects "BranchCells$19" ({ cls := "java/lang/Object", name := "getClass", desc := "()Ljava/lang/Class;" } : Jvm.MethodName) ({ cls := "java/lang/Object", name := "getClass", desc := "()Ljava/lang/Class;" } : Jvm.MethodName)) ∈ lw_all := lw_g (lw_at lw_m3 21 rfl) rfl
theorem q856 : (Jvm.Cond.fieldLinkNest "BranchCells$19" (13 : Nat) "BranchCells$Task" "pile" "LBranchCells$Pile;" "BranchCells") ∈ lw_tbl := lw_at lw_m4 87 rfl
theorem q1038 : (Jvm.Cond.selects "BranchCells$19" ({ cls := "BranchCells$Doer", name := "takes", desc := "()I" } : Jvm.MethodName) ({ cls := "BranchCells$Doer", name := "takes", desc := "()I" } : Jvm.MethodName)) ∈ lw_all := lw_g (lw_at lw_m5 29 rfl) rfl
theorem q1150 : (Jvm.Cond.selects "BranchCells$19" ({ cls := "BranchCells$Doer", name := "does", desc := "(LBranchCells$Task;I)V" } : Jvm.MethodName) ({ cls := "BranchCells$19", name := "does", desc := "(LBranchCells$Task;I)V" } : Jvm.MethodName)) ∈ lw_all := lw_g (lw_at lw_m5 141 rfl) rfl
theorem q1151 : (Jvm.Cond.instanceMethod ({ cls := "BranchCells$19", name := "does", desc := "(LBranchCells$Task;I)V" } : Jvm.MethodName)) ∈ lw_all := lw_g (lw_at lw_m5 142 rfl) rfl
theorem q1152 : (Jvm.Cond.code ({ cls := "BranchCells$19", name := "does", desc := "(LBranchCells$Task;I)V" } : Jvm.MethodName) prog_12_method_2_code (3 : Nat) (Option.none : Option Jvm.ClassFile.FieldType)) ∈ lw_all := lw_g (lw_at lw_m5 143 rfl) rfl
theorem q1153 : (Jvm.Cond.methodLink "BranchCells$19" (19 : Nat) ({ cls := "BranchCells$Pile", name := "take", desc := "()I" } : Jvm.MethodName)) ∈ lw_all := lw_g (lw_at lw_m5 144 rfl) rfl
theorem q1154 : (Jvm.Cond.methodLink "BranchCells$19" (25 : Nat) ({ cls := "BranchCells$Pile", name := "task", desc := "(I)LBranchCells$Task;" } : Jvm.MethodName)) ∈ lw_all := lw_g (lw_at lw_m5 145 rfl) rfl
theorem q1160 : (Jvm.Cond.methodLinkNest "BranchCells$19" (29 : Nat) ({ cls := "BranchCells", name := "joins", desc := "(LBranchCells$Task;LBranchCells$Task;)V" } : Jvm.MethodName) "BranchCells") ∈ lw_tbl := lw_at lw_m5 151 rfl
theorem q1343 : (Jvm.Cond.selects "BranchCells$19" ({ cls := "java/lang/Object", name := "equals", desc := "(Ljava/lang/Object;)Z" } : Jvm.MethodName) ({ cls := "java/lang/Object", name := "equals", desc := "(Ljava/lang/Object;)Z" } : Jvm.MethodName)) ∈ lw_all := lw_g (lw_at lw_m6 94 rfl) rfl
theorem q1829 : (Jvm.Cond.castable "BranchCells$19" "java/lang/Object") ∈ lw_tbl := lw_at lw_m8 100 rfl
theorem q1861 : (Jvm.Cond.castable "BranchCells$19" "BranchCells$Doer") ∈ lw_tbl := lw_at lw_m8 132 rfl
theorem in_X21 : ∀ w ∈ wsX210, w ∈ lw_all := lw_in wsX210 [398, 399, 396] (by decide +kernel) (by decide +kernel)
theorem tyX22_ok : ∀ k, k < 3 → parseFieldDescriptor (TX22 k).2.2.1 = some (tyX22 k) := by decide +kernel
theorem q75 : (Jvm.Cond.initialized "BranchCells$20") ∈ lw_all := lw_g (lw_at lw_m1 26 rfl) rfl
theorem q402 : (Jvm.Cond.instantiable "BranchCells$20" (3 : Nat)) ∈ lw_all := lw_g (lw_at lw_m2 113 rfl) rfl
theorem q404 : (Jvm.Cond.instanceMethod ({ cls := "BranchCells$20", name := "<init>", desc := "(LBranchCells;I)V" } : Jvm.MethodName)) ∈ lw_all := lw_g (lw_at lw_m2 115 rfl) rfl
theorem q405 : (Jvm.Cond.code ({ cls := "BranchCells$20", name := "<init>", desc := "(LBranchCells;I)V" } : Jvm.MethodName) prog_14_method_1_code (3 : Nat) (Option.none : Option Jvm.ClassFile.FieldType)) ∈ lw_all := lw_g (lw_at lw_m2 116 rfl) rfl
theorem q406 : (Jvm.Cond.methodLink "BranchCells$20" (7 : Nat) ({ cls := "BranchCells$Doer", name := "<init>", desc := "(LBranchCells;I)V" } : Jvm.MethodName)) ∈ lw_all := lw_g (lw_at lw_m2 117 rfl) rfl
theorem q407 : (Jvm.Cond.fieldLink "BranchCells$20" (1 : Nat) "BranchCells$20" "this$0" "LBranchCells;") ∈ lw_all := lw_g (lw_at lw_m2 118 rfl) rfl
theorem q408 : (Jvm.Cond.laysFinal "BranchCells$20" "BranchCells$20" "this$0" "LBranchCells;") ∈ lw_all := lw_g (lw_at lw_m2 119 rfl) rfl
theorem q409 : (Jvm.Cond.soleField "BranchCells$20" "this$0") ∈ lw_all := lw_g (lw_at lw_m2 120 rfl) rfl
theorem q410 : (Jvm.Cond.laysFinal "BranchCells$20" "BranchCells$Doer" "takes" "I") ∈ lw_all := lw_g (lw_at lw_m2 121 rfl) rfl
theorem q411 : (Jvm.Cond.laysFinal "BranchCells$20" "BranchCells$Doer" "this$0" "LBranchCells;") ∈ lw_all := lw_g (lw_at lw_m2 122 rfl) rfl
theorem q412 : (Jvm.Cond.superclass "BranchCells$20" "BranchCells$Doer") ∈ lw_all := lw_g (lw_at lw_m2 123 rfl) rfl
theorem q552 : (Jvm.Cond.selects "BranchCells$20" ({ cls := "java/lang/Object", name := "getClass", desc := "()Ljava/lang/Class;" } : Jvm.MethodName) ({ cls := "java/lang/Object", name := "getClass", desc := "()Ljava/lang/Class;" } : Jvm.MethodName)) ∈ lw_all := lw_g (lw_at lw_m3 23 rfl) rfl
theorem q1040 : (Jvm.Cond.selects "BranchCells$20" ({ cls := "BranchCells$Doer", name := "takes", desc := "()I" } : Jvm.MethodName) ({ cls := "BranchCells$Doer", name := "takes", desc := "()I" } : Jvm.MethodName)) ∈ lw_all := lw_g (lw_at lw_m5 31 rfl) rfl
theorem q1191 : (Jvm.Cond.selects "BranchCells$20" ({ cls := "BranchCells$Doer", name := "does", desc := "(LBranchCells$Task;I)V" } : Jvm.MethodName) ({ cls := "BranchCells$20", name := "does", desc := "(LBranchCells$Task;I)V" } : Jvm.MethodName)) ∈ lw_all := lw_g (lw_at lw_m5 182 rfl) rfl
theorem q1192 : (Jvm.Cond.instanceMethod ({ cls := "BranchCells$20", name := "does", desc := "(LBranchCells$Task;I)V" } : Jvm.MethodName)) ∈ lw_all := lw_g (lw_at lw_m5 183 rfl) rfl
theorem q1193 : (Jvm.Cond.code ({ cls := "BranchCells$20", name := "does", desc := "(LBranchCells$Task;I)V" } : Jvm.MethodName) prog_14_method_2_code (3 : Nat) (Option.none : Option Jvm.ClassFile.FieldType)) ∈ lw_all := lw_g (lw_at lw_m5 184 rfl) rfl
theorem q1194 : (Jvm.Cond.methodLink "BranchCells$20" (13 : Nat) ({ cls := "BranchCells$Task", name := "number", desc := "()J" } : Jvm.MethodName)) ∈ lw_all := lw_g (lw_at lw_m5 185 rfl) rfl
theorem q1195 : (Jvm.Cond.methodLink "BranchCells$20" (19 : Nat) ({ cls := "BranchCells$Task", name := "tells", desc := "(J)V" } : Jvm.MethodName)) ∈ lw_all := lw_g (lw_at lw_m5 186 rfl) rfl
theorem q1345 : (Jvm.Cond.selects "BranchCells$20" ({ cls := "java/lang/Object", name := "equals", desc := "(Ljava/lang/Object;)Z" } : Jvm.MethodName) ({ cls := "java/lang/Object", name := "equals", desc := "(Ljava/lang/Object;)Z" } : Jvm.MethodName)) ∈ lw_all := lw_g (lw_at lw_m6 96 rfl) rfl
theorem q1830 : (Jvm.Cond.castable "BranchCells$20" "java/lang/Object") ∈ lw_tbl := lw_at lw_m8 101 rfl
theorem q1862 : (Jvm.Cond.castable "BranchCells$20" "BranchCells$Doer") ∈ lw_tbl := lw_at lw_m8 133 rfl
theorem in_X22 : ∀ w ∈ wsX220, w ∈ lw_all := lw_in wsX220 [410, 411, 408] (by decide +kernel) (by decide +kernel)
theorem tyX23_ok : ∀ k, k < 3 → parseFieldDescriptor (TX23 k).2.2.1 = some (tyX23 k) := by decide +kernel
theorem q76 : (Jvm.Cond.initialized "BranchCells$21") ∈ lw_all := lw_g (lw_at lw_m1 27 rfl) rfl
theorem q414 : (Jvm.Cond.instantiable "BranchCells$21" (3 : Nat)) ∈ lw_all := lw_g (lw_at lw_m2 125 rfl) rfl
theorem q416 : (Jvm.Cond.instanceMethod ({ cls := "BranchCells$21", name := "<init>", desc := "(LBranchCells;I)V" } : Jvm.MethodName)) ∈ lw_all := lw_g (lw_at lw_m2 127 rfl) rfl
theorem q417 : (Jvm.Cond.code ({ cls := "BranchCells$21", name := "<init>", desc := "(LBranchCells;I)V" } : Jvm.MethodName) prog_15_method_1_code (3 : Nat) (Option.none : Option Jvm.ClassFile.FieldType)) ∈ lw_all := lw_g (lw_at lw_m2 128 rfl) rfl
theorem q418 : (Jvm.Cond.methodLink "BranchCells$21" (7 : Nat) ({ cls := "BranchCells$Doer", name := "<init>", desc := "(LBranchCells;I)V" } : Jvm.MethodName)) ∈ lw_all := lw_g (lw_at lw_m2 129 rfl) rfl
theorem q419 : (Jvm.Cond.fieldLink "BranchCells$21" (1 : Nat) "BranchCells$21" "this$0" "LBranchCells;") ∈ lw_all := lw_g (lw_at lw_m2 130 rfl) rfl
theorem q420 : (Jvm.Cond.laysFinal "BranchCells$21" "BranchCells$21" "this$0" "LBranchCells;") ∈ lw_all := lw_g (lw_at lw_m2 131 rfl) rfl
theorem q421 : (Jvm.Cond.soleField "BranchCells$21" "this$0") ∈ lw_all := lw_g (lw_at lw_m2 132 rfl) rfl
theorem q422 : (Jvm.Cond.laysFinal "BranchCells$21" "BranchCells$Doer" "takes" "I") ∈ lw_all := lw_g (lw_at lw_m2 133 rfl) rfl
theorem q423 : (Jvm.Cond.laysFinal "BranchCells$21" "BranchCells$Doer" "this$0" "LBranchCells;") ∈ lw_all := lw_g (lw_at lw_m2 134 rfl) rfl
theorem q424 : (Jvm.Cond.superclass "BranchCells$21" "BranchCells$Doer") ∈ lw_all := lw_g (lw_at lw_m2 135 rfl) rfl
theorem q553 : (Jvm.Cond.selects "BranchCells$21" ({ cls := "java/lang/Object", name := "getClass", desc := "()Ljava/lang/Class;" } : Jvm.MethodName) ({ cls := "java/lang/Object", name := "getClass", desc := "()Ljava/lang/Class;" } : Jvm.MethodName)) ∈ lw_all := lw_g (lw_at lw_m3 24 rfl) rfl
theorem q786 : (Jvm.Cond.fieldLink "BranchCells$21" (25 : Nat) "BranchCells$Pile" "numbers" "[J") ∈ lw_all := lw_g (lw_at lw_m4 17 rfl) rfl
theorem q791 : (Jvm.Cond.fieldLink "BranchCells$21" (29 : Nat) "BranchCells$Pile" "handles" "[LBranchCells$Task;") ∈ lw_all := lw_g (lw_at lw_m4 22 rfl) rfl
theorem q854 : (Jvm.Cond.fieldLinkNest "BranchCells$21" (13 : Nat) "BranchCells$Task" "pile" "LBranchCells$Pile;" "BranchCells") ∈ lw_tbl := lw_at lw_m4 85 rfl
theorem q1041 : (Jvm.Cond.selects "BranchCells$21" ({ cls := "BranchCells$Doer", name := "takes", desc := "()I" } : Jvm.MethodName) ({ cls := "BranchCells$Doer", name := "takes", desc := "()I" } : Jvm.MethodName)) ∈ lw_all := lw_g (lw_at lw_m5 32 rfl) rfl
theorem q1196 : (Jvm.Cond.selects "BranchCells$21" ({ cls := "BranchCells$Doer", name := "does", desc := "(LBranchCells$Task;I)V" } : Jvm.MethodName) ({ cls := "BranchCells$21", name := "does", desc := "(LBranchCells$Task;I)V" } : Jvm.MethodName)) ∈ lw_all := lw_g (lw_at lw_m5 187 rfl) rfl
theorem q1197 : (Jvm.Cond.instanceMethod ({ cls := "BranchCells$21", name := "does", desc := "(LBranchCells$Task;I)V" } : Jvm.MethodName)) ∈ lw_all := lw_g (lw_at lw_m5 188 rfl) rfl
theorem q1198 : (Jvm.Cond.code ({ cls := "BranchCells$21", name := "does", desc := "(LBranchCells$Task;I)V" } : Jvm.MethodName) prog_15_method_2_code (4 : Nat) (Option.none : Option Jvm.ClassFile.FieldType)) ∈ lw_all := lw_g (lw_at lw_m5 189 rfl) rfl
theorem q1199 : (Jvm.Cond.methodLink "BranchCells$21" (19 : Nat) ({ cls := "BranchCells$Pile", name := "take", desc := "()I" } : Jvm.MethodName)) ∈ lw_all := lw_g (lw_at lw_m5 190 rfl) rfl
theorem q1200 : (Jvm.Cond.methodLink "BranchCells$21" (33 : Nat) ({ cls := "BranchCells$Task", name := "ends", desc := "(JLBranchCells$Task;)V" } : Jvm.MethodName)) ∈ lw_all := lw_g (lw_at lw_m5 191 rfl) rfl
theorem q1346 : (Jvm.Cond.selects "BranchCells$21" ({ cls := "java/lang/Object", name := "equals", desc := "(Ljava/lang/Object;)Z" } : Jvm.MethodName) ({ cls := "java/lang/Object", name := "equals", desc := "(Ljava/lang/Object;)Z" } : Jvm.MethodName)) ∈ lw_all := lw_g (lw_at lw_m6 97 rfl) rfl
theorem q1831 : (Jvm.Cond.castable "BranchCells$21" "java/lang/Object") ∈ lw_tbl := lw_at lw_m8 102 rfl
theorem q1863 : (Jvm.Cond.castable "BranchCells$21" "BranchCells$Doer") ∈ lw_tbl := lw_at lw_m8 134 rfl
theorem in_X23 : ∀ w ∈ wsX230, w ∈ lw_all := lw_in wsX230 [422, 423, 420] (by decide +kernel) (by decide +kernel)
theorem tyX24_ok : ∀ k, k < 3 → parseFieldDescriptor (TX24 k).2.2.1 = some (tyX24 k) := by decide +kernel
theorem q77 : (Jvm.Cond.initialized "BranchCells$22") ∈ lw_all := lw_g (lw_at lw_m1 28 rfl) rfl
theorem q426 : (Jvm.Cond.instantiable "BranchCells$22" (3 : Nat)) ∈ lw_all := lw_g (lw_at lw_m2 137 rfl) rfl
theorem q428 : (Jvm.Cond.instanceMethod ({ cls := "BranchCells$22", name := "<init>", desc := "(LBranchCells;I)V" } : Jvm.MethodName)) ∈ lw_all := lw_g (lw_at lw_m2 139 rfl) rfl
theorem q429 : (Jvm.Cond.code ({ cls := "BranchCells$22", name := "<init>", desc := "(LBranchCells;I)V" } : Jvm.MethodName) prog_16_method_1_code (3 : Nat) (Option.none : Option Jvm.ClassFile.FieldType)) ∈ lw_all := lw_g (lw_at lw_m2 140 rfl) rfl
theorem q430 : (Jvm.Cond.methodLink "BranchCells$22" (9 : Nat) ({ cls := "BranchCells$Doer", name := "<init>", desc := "(LBranchCells;I)V" } : Jvm.MethodName)) ∈ lw_all := lw_g (lw_at lw_m2 141 rfl) rfl
theorem q431 : (Jvm.Cond.fieldLink "BranchCells$22" (3 : Nat) "BranchCells$22" "this$0" "LBranchCells;") ∈ lw_all := lw_g (lw_at lw_m2 142 rfl) rfl
theorem q432 : (Jvm.Cond.laysFinal "BranchCells$22" "BranchCells$22" "this$0" "LBranchCells;") ∈ lw_all := lw_g (lw_at lw_m2 143 rfl) rfl
theorem q433 : (Jvm.Cond.soleField "BranchCells$22" "this$0") ∈ lw_all := lw_g (lw_at lw_m2 144 rfl) rfl
theorem q434 : (Jvm.Cond.laysFinal "BranchCells$22" "BranchCells$Doer" "takes" "I") ∈ lw_all := lw_g (lw_at lw_m2 145 rfl) rfl
theorem q435 : (Jvm.Cond.laysFinal "BranchCells$22" "BranchCells$Doer" "this$0" "LBranchCells;") ∈ lw_all := lw_g (lw_at lw_m2 146 rfl) rfl
theorem q436 : (Jvm.Cond.superclass "BranchCells$22" "BranchCells$Doer") ∈ lw_all := lw_g (lw_at lw_m2 147 rfl) rfl
theorem q554 : (Jvm.Cond.selects "BranchCells$22" ({ cls := "java/lang/Object", name := "getClass", desc := "()Ljava/lang/Class;" } : Jvm.MethodName) ({ cls := "java/lang/Object", name := "getClass", desc := "()Ljava/lang/Class;" } : Jvm.MethodName)) ∈ lw_all := lw_g (lw_at lw_m3 25 rfl) rfl
theorem q1042 : (Jvm.Cond.selects "BranchCells$22" ({ cls := "BranchCells$Doer", name := "takes", desc := "()I" } : Jvm.MethodName) ({ cls := "BranchCells$Doer", name := "takes", desc := "()I" } : Jvm.MethodName)) ∈ lw_all := lw_g (lw_at lw_m5 33 rfl) rfl
theorem q1201 : (Jvm.Cond.selects "BranchCells$22" ({ cls := "BranchCells$Doer", name := "does", desc := "(LBranchCells$Task;I)V" } : Jvm.MethodName) ({ cls := "BranchCells$22", name := "does", desc := "(LBranchCells$Task;I)V" } : Jvm.MethodName)) ∈ lw_all := lw_g (lw_at lw_m5 192 rfl) rfl
theorem q1202 : (Jvm.Cond.instanceMethod ({ cls := "BranchCells$22", name := "does", desc := "(LBranchCells$Task;I)V" } : Jvm.MethodName)) ∈ lw_all := lw_g (lw_at lw_m5 193 rfl) rfl
theorem q1203 : (Jvm.Cond.code ({ cls := "BranchCells$22", name := "does", desc := "(LBranchCells$Task;I)V" } : Jvm.MethodName) prog_16_method_2_code (3 : Nat) (Option.none : Option Jvm.ClassFile.FieldType)) ∈ lw_all := lw_g (lw_at lw_m5 194 rfl) rfl
theorem q1204 : (Jvm.Cond.classLink "BranchCells$22" (15 : Nat) "BranchCells$Failing") ∈ lw_all := lw_g (lw_at lw_m5 195 rfl) rfl
theorem q1205 : (Jvm.Cond.methodLink "BranchCells$22" (17 : Nat) ({ cls := "BranchCells$Task", name := "number", desc := "()J" } : Jvm.MethodName)) ∈ lw_all := lw_g (lw_at lw_m5 196 rfl) rfl
theorem q1206 : (Jvm.Cond.constantLong "BranchCells$22" (23 : Nat) (63 : Int64)) ∈ lw_all := lw_g (lw_at lw_m5 197 rfl) rfl
theorem q1207 : (Jvm.Cond.methodLink "BranchCells$22" (25 : Nat) ({ cls := "BranchCells$Failing", name := "<init>", desc := "(I)V" } : Jvm.MethodName)) ∈ lw_all := lw_g (lw_at lw_m5 198 rfl) rfl
theorem q1347 : (Jvm.Cond.selects "BranchCells$22" ({ cls := "java/lang/Object", name := "equals", desc := "(Ljava/lang/Object;)Z" } : Jvm.MethodName) ({ cls := "java/lang/Object", name := "equals", desc := "(Ljava/lang/Object;)Z" } : Jvm.MethodName)) ∈ lw_all := lw_g (lw_at lw_m6 98 rfl) rfl
theorem q1832 : (Jvm.Cond.castable "BranchCells$22" "java/lang/Object") ∈ lw_tbl := lw_at lw_m8 103 rfl
theorem q1864 : (Jvm.Cond.castable "BranchCells$22" "BranchCells$Doer") ∈ lw_tbl := lw_at lw_m8 135 rfl
theorem in_X24 : ∀ w ∈ wsX240, w ∈ lw_all := lw_in wsX240 [434, 435, 432] (by decide +kernel) (by decide +kernel)
theorem nmX25 : ∀ a, a < 41 → ∀ b, b < 41 → a ≠ b → (TX25 a).2.1 ≠ (TX25 b).2.1 := by decide +kernel
theorem tyX25_ok : ∀ k, k < 41 → parseFieldDescriptor (TX25 k).2.2.1 = some (tyX25 k) := by decide +kernel
theorem q78 : (Jvm.Cond.initialized "BranchCellsModel") ∈ lw_all := lw_g (lw_at lw_m1 29 rfl) rfl
theorem q570 : (Jvm.Cond.selects "BranchCellsModel" ({ cls := "java/lang/Object", name := "getClass", desc := "()Ljava/lang/Class;" } : Jvm.MethodName) ({ cls := "java/lang/Object", name := "getClass", desc := "()Ljava/lang/Class;" } : Jvm.MethodName)) ∈ lw_all := lw_g (lw_at lw_m3 41 rfl) rfl
theorem q1365 : (Jvm.Cond.selects "BranchCellsModel" ({ cls := "java/lang/Object", name := "equals", desc := "(Ljava/lang/Object;)Z" } : Jvm.MethodName) ({ cls := "java/lang/Object", name := "equals", desc := "(Ljava/lang/Object;)Z" } : Jvm.MethodName)) ∈ lw_all := lw_g (lw_at lw_m6 116 rfl) rfl
theorem q1450 : (Jvm.Cond.instantiable "BranchCellsModel" (41 : Nat)) ∈ lw_all := lw_g (lw_at lw_m6 201 rfl) rfl
theorem q1452 : (Jvm.Cond.instanceMethod ({ cls := "BranchCellsModel", name := "<init>", desc := "()V" } : Jvm.MethodName)) ∈ lw_all := lw_g (lw_at lw_m6 203 rfl) rfl
theorem q1453 : (Jvm.Cond.code ({ cls := "BranchCellsModel", name := "<init>", desc := "()V" } : Jvm.MethodName) prog_35_method_1_code (1 : Nat) (Option.none : Option Jvm.ClassFile.FieldType)) ∈ lw_all := lw_g (lw_at lw_m6 204 rfl) rfl
theorem q1454 : (Jvm.Cond.methodLink "BranchCellsModel" (1 : Nat) ({ cls := "java/lang/Object", name := "<init>", desc := "()V" } : Jvm.MethodName)) ∈ lw_all := lw_g (lw_at lw_m6 205 rfl) rfl
theorem q1455 : (Jvm.Cond.fieldLink "BranchCellsModel" (114 : Nat) "BranchCellsModel" "blocks" "I") ∈ lw_all := lw_g (lw_at lw_m6 206 rfl) rfl
theorem q1456 : (Jvm.Cond.fieldLink "BranchCellsModel" (7 : Nat) "BranchCellsModel" "codeMany" "[I") ∈ lw_all := lw_g (lw_at lw_m6 207 rfl) rfl
theorem q1457 : (Jvm.Cond.fieldLink "BranchCellsModel" (13 : Nat) "BranchCellsModel" "codeOp" "[I") ∈ lw_all := lw_g (lw_at lw_m6 208 rfl) rfl
theorem q1458 : (Jvm.Cond.fieldLink "BranchCellsModel" (16 : Nat) "BranchCellsModel" "codeA" "[I") ∈ lw_all := lw_g (lw_at lw_m6 209 rfl) rfl
theorem q1459 : (Jvm.Cond.fieldLink "BranchCellsModel" (134 : Nat) "BranchCellsModel" "mergers" "I") ∈ lw_all := lw_g (lw_at lw_m6 210 rfl) rfl
theorem q1460 : (Jvm.Cond.fieldLink "BranchCellsModel" (19 : Nat) "BranchCellsModel" "actMany" "[I") ∈ lw_all := lw_g (lw_at lw_m6 211 rfl) rfl
theorem q1461 : (Jvm.Cond.fieldLink "BranchCellsModel" (22 : Nat) "BranchCellsModel" "actOp" "[I") ∈ lw_all := lw_g (lw_at lw_m6 212 rfl) rfl
theorem q1462 : (Jvm.Cond.fieldLink "BranchCellsModel" (25 : Nat) "BranchCellsModel" "actA" "[I") ∈ lw_all := lw_g (lw_at lw_m6 213 rfl) rfl
theorem q1463 : (Jvm.Cond.fieldLink "BranchCellsModel" (28 : Nat) "BranchCellsModel" "kinds" "[I") ∈ lw_all := lw_g (lw_at lw_m6 214 rfl) rfl
theorem q1464 : (Jvm.Cond.fieldLink "BranchCellsModel" (31 : Nat) "BranchCellsModel" "merge" "[J") ∈ lw_all := lw_g (lw_at lw_m6 215 rfl) rfl
theorem q1465 : (Jvm.Cond.fieldLink "BranchCellsModel" (130 : Nat) "BranchCellsModel" "runs" "Z") ∈ lw_all := lw_g (lw_at lw_m6 216 rfl) rfl
theorem q1466 : (Jvm.Cond.fieldLink "BranchCellsModel" (160 : Nat) "BranchCellsModel" "tasks" "I") ∈ lw_all := lw_g (lw_at lw_m6 217 rfl) rfl
theorem q1467 : (Jvm.Cond.fieldLink "BranchCellsModel" (35 : Nat) "BranchCellsModel" "block" "[I") ∈ lw_all := lw_g (lw_at lw_m6 218 rfl) rfl
theorem q1468 : (Jvm.Cond.fieldLink "BranchCellsModel" (38 : Nat) "BranchCellsModel" "place" "[I") ∈ lw_all := lw_g (lw_at lw_m6 219 rfl) rfl
theorem q1469 : (Jvm.Cond.fieldLink "BranchCellsModel" (41 : Nat) "BranchCellsModel" "state" "[I") ∈ lw_all := lw_g (lw_at lw_m6 220 rfl) rfl
theorem q1470 : (Jvm.Cond.fieldLink "BranchCellsModel" (44 : Nat) "BranchCellsModel" "why" "[I") ∈ lw_all := lw_g (lw_at lw_m6 221 rfl) rfl
theorem q1471 : (Jvm.Cond.fieldLink "BranchCellsModel" (47 : Nat) "BranchCellsModel" "steps" "[I") ∈ lw_all := lw_g (lw_at lw_m6 222 rfl) rfl
theorem q1472 : (Jvm.Cond.fieldLink "BranchCellsModel" (50 : Nat) "BranchCellsModel" "forks" "[I") ∈ lw_all := lw_g (lw_at lw_m6 223 rfl) rfl
theorem q1473 : (Jvm.Cond.fieldLink "BranchCellsModel" (53 : Nat) "BranchCellsModel" "level" "[I") ∈ lw_all := lw_g (lw_at lw_m6 224 rfl) rfl
theorem q1474 : (Jvm.Cond.fieldLink "BranchCellsModel" (56 : Nat) "BranchCellsModel" "parent" "[I") ∈ lw_all := lw_g (lw_at lw_m6 225 rfl) rfl
theorem q1475 : (Jvm.Cond.fieldLink "BranchCellsModel" (59 : Nat) "BranchCellsModel" "nth" "[I") ∈ lw_all := lw_g (lw_at lw_m6 226 rfl) rfl
theorem q1476 : (Jvm.Cond.fieldLink "BranchCellsModel" (62 : Nat) "BranchCellsModel" "present" "[I") ∈ lw_all := lw_g (lw_at lw_m6 227 rfl) rfl
theorem q1477 : (Jvm.Cond.fieldLink "BranchCellsModel" (65 : Nat) "BranchCellsModel" "root" "[I") ∈ lw_all := lw_g (lw_at lw_m6 228 rfl) rfl
theorem q1478 : (Jvm.Cond.fieldLink "BranchCellsModel" (68 : Nat) "BranchCellsModel" "mark" "[J") ∈ lw_all := lw_g (lw_at lw_m6 229 rfl) rfl
theorem q1479 : (Jvm.Cond.fieldLink "BranchCellsModel" (71 : Nat) "BranchCellsModel" "hasResult" "[Z") ∈ lw_all := lw_g (lw_at lw_m6 230 rfl) rfl
theorem q1480 : (Jvm.Cond.fieldLink "BranchCellsModel" (75 : Nat) "BranchCellsModel" "result" "[J") ∈ lw_all := lw_g (lw_at lw_m6 231 rfl) rfl
theorem q1481 : (Jvm.Cond.fieldLink "BranchCellsModel" (78 : Nat) "BranchCellsModel" "resultIsHandle" "[Z") ∈ lw_all := lw_g (lw_at lw_m6 232 rfl) rfl
theorem q1482 : (Jvm.Cond.fieldLink "BranchCellsModel" (81 : Nat) "BranchCellsModel" "slot" "[J") ∈ lw_all := lw_g (lw_at lw_m6 233 rfl) rfl
theorem q1483 : (Jvm.Cond.fieldLink "BranchCellsModel" (84 : Nat) "BranchCellsModel" "slotIsHandle" "[Z") ∈ lw_all := lw_g (lw_at lw_m6 234 rfl) rfl
theorem q1484 : (Jvm.Cond.fieldLink "BranchCellsModel" (87 : Nat) "BranchCellsModel" "pile" "[J") ∈ lw_all := lw_g (lw_at lw_m6 235 rfl) rfl
theorem q1485 : (Jvm.Cond.fieldLink "BranchCellsModel" (90 : Nat) "BranchCellsModel" "pileIsHandle" "[Z") ∈ lw_all := lw_g (lw_at lw_m6 236 rfl) rfl
theorem q1486 : (Jvm.Cond.fieldLink "BranchCellsModel" (93 : Nat) "BranchCellsModel" "piled" "[I") ∈ lw_all := lw_g (lw_at lw_m6 237 rfl) rfl
theorem q1487 : (Jvm.Cond.fieldLink "BranchCellsModel" (96 : Nat) "BranchCellsModel" "out" "[J") ∈ lw_all := lw_g (lw_at lw_m6 238 rfl) rfl
theorem q1488 : (Jvm.Cond.fieldLink "BranchCellsModel" (99 : Nat) "BranchCellsModel" "outs" "[I") ∈ lw_all := lw_g (lw_at lw_m6 239 rfl) rfl
theorem q1489 : (Jvm.Cond.fieldLink "BranchCellsModel" (173 : Nat) "BranchCellsModel" "allSteps" "I") ∈ lw_all := lw_g (lw_at lw_m7 0 rfl) rfl
theorem q1490 : (Jvm.Cond.fieldLink "BranchCellsModel" (176 : Nat) "BranchCellsModel" "merged" "I") ∈ lw_all := lw_g (lw_at lw_m7 1 rfl) rfl
theorem q1491 : (Jvm.Cond.fieldLink "BranchCellsModel" (157 : Nat) "BranchCellsModel" "segments" "I") ∈ lw_all := lw_g (lw_at lw_m7 2 rfl) rfl
theorem q1492 : (Jvm.Cond.fieldLink "BranchCellsModel" (102 : Nat) "BranchCellsModel" "under" "[I") ∈ lw_all := lw_g (lw_at lw_m7 3 rfl) rfl
theorem q1493 : (Jvm.Cond.fieldLink "BranchCellsModel" (105 : Nat) "BranchCellsModel" "hasVersion" "[Z") ∈ lw_all := lw_g (lw_at lw_m7 4 rfl) rfl
theorem q1494 : (Jvm.Cond.fieldLink "BranchCellsModel" (108 : Nat) "BranchCellsModel" "version" "[J") ∈ lw_all := lw_g (lw_at lw_m7 5 rfl) rfl
theorem q1495 : (Jvm.Cond.fieldLink "BranchCellsModel" (111 : Nat) "BranchCellsModel" "held" "[Z") ∈ lw_all := lw_g (lw_at lw_m7 6 rfl) rfl
theorem q1496 : (Jvm.Cond.lays "BranchCellsModel" "BranchCellsModel" "blocks" "I") ∈ lw_all := lw_g (lw_at lw_m7 7 rfl) rfl
theorem q1497 : (Jvm.Cond.soleField "BranchCellsModel" "blocks") ∈ lw_all := lw_g (lw_at lw_m7 8 rfl) rfl
theorem q1498 : (Jvm.Cond.laysFinal "BranchCellsModel" "BranchCellsModel" "codeMany" "[I") ∈ lw_all := lw_g (lw_at lw_m7 9 rfl) rfl
theorem q1499 : (Jvm.Cond.soleField "BranchCellsModel" "codeMany") ∈ lw_all := lw_g (lw_at lw_m7 10 rfl) rfl
theorem q1500 : (Jvm.Cond.laysFinal "BranchCellsModel" "BranchCellsModel" "codeOp" "[I") ∈ lw_all := lw_g (lw_at lw_m7 11 rfl) rfl
theorem q1501 : (Jvm.Cond.soleField "BranchCellsModel" "codeOp") ∈ lw_all := lw_g (lw_at lw_m7 12 rfl) rfl
theorem q1502 : (Jvm.Cond.laysFinal "BranchCellsModel" "BranchCellsModel" "codeA" "[I") ∈ lw_all := lw_g (lw_at lw_m7 13 rfl) rfl
theorem q1503 : (Jvm.Cond.soleField "BranchCellsModel" "codeA") ∈ lw_all := lw_g (lw_at lw_m7 14 rfl) rfl
theorem q1504 : (Jvm.Cond.lays "BranchCellsModel" "BranchCellsModel" "mergers" "I") ∈ lw_all := lw_g (lw_at lw_m7 15 rfl) rfl
theorem q1505 : (Jvm.Cond.soleField "BranchCellsModel" "mergers") ∈ lw_all := lw_g (lw_at lw_m7 16 rfl) rfl
theorem q1506 : (Jvm.Cond.laysFinal "BranchCellsModel" "BranchCellsModel" "actMany" "[I") ∈ lw_all := lw_g (lw_at lw_m7 17 rfl) rfl
theorem q1507 : (Jvm.Cond.soleField "BranchCellsModel" "actMany") ∈ lw_all := lw_g (lw_at lw_m7 18 rfl) rfl
theorem q1508 : (Jvm.Cond.laysFinal "BranchCellsModel" "BranchCellsModel" "actOp" "[I") ∈ lw_all := lw_g (lw_at lw_m7 19 rfl) rfl
theorem q1509 : (Jvm.Cond.soleField "BranchCellsModel" "actOp") ∈ lw_all := lw_g (lw_at lw_m7 20 rfl) rfl
theorem q1510 : (Jvm.Cond.laysFinal "BranchCellsModel" "BranchCellsModel" "actA" "[I") ∈ lw_all := lw_g (lw_at lw_m7 21 rfl) rfl
theorem q1511 : (Jvm.Cond.soleField "BranchCellsModel" "actA") ∈ lw_all := lw_g (lw_at lw_m7 22 rfl) rfl
theorem q1512 : (Jvm.Cond.laysFinal "BranchCellsModel" "BranchCellsModel" "kinds" "[I") ∈ lw_all := lw_g (lw_at lw_m7 23 rfl) rfl
theorem q1513 : (Jvm.Cond.soleField "BranchCellsModel" "kinds") ∈ lw_all := lw_g (lw_at lw_m7 24 rfl) rfl
theorem q1514 : (Jvm.Cond.laysFinal "BranchCellsModel" "BranchCellsModel" "merge" "[J") ∈ lw_all := lw_g (lw_at lw_m7 25 rfl) rfl
theorem q1515 : (Jvm.Cond.soleField "BranchCellsModel" "merge") ∈ lw_all := lw_g (lw_at lw_m7 26 rfl) rfl
theorem q1516 : (Jvm.Cond.lays "BranchCellsModel" "BranchCellsModel" "runs" "Z") ∈ lw_all := lw_g (lw_at lw_m7 27 rfl) rfl
theorem q1517 : (Jvm.Cond.soleField "BranchCellsModel" "runs") ∈ lw_all := lw_g (lw_at lw_m7 28 rfl) rfl
theorem q1518 : (Jvm.Cond.lays "BranchCellsModel" "BranchCellsModel" "tasks" "I") ∈ lw_all := lw_g (lw_at lw_m7 29 rfl) rfl
theorem q1519 : (Jvm.Cond.soleField "BranchCellsModel" "tasks") ∈ lw_all := lw_g (lw_at lw_m7 30 rfl) rfl
theorem q1520 : (Jvm.Cond.laysFinal "BranchCellsModel" "BranchCellsModel" "block" "[I") ∈ lw_all := lw_g (lw_at lw_m7 31 rfl) rfl
theorem q1521 : (Jvm.Cond.soleField "BranchCellsModel" "block") ∈ lw_all := lw_g (lw_at lw_m7 32 rfl) rfl
theorem q1522 : (Jvm.Cond.laysFinal "BranchCellsModel" "BranchCellsModel" "place" "[I") ∈ lw_all := lw_g (lw_at lw_m7 33 rfl) rfl
theorem q1523 : (Jvm.Cond.soleField "BranchCellsModel" "place") ∈ lw_all := lw_g (lw_at lw_m7 34 rfl) rfl
theorem q1524 : (Jvm.Cond.laysFinal "BranchCellsModel" "BranchCellsModel" "state" "[I") ∈ lw_all := lw_g (lw_at lw_m7 35 rfl) rfl
theorem q1525 : (Jvm.Cond.soleField "BranchCellsModel" "state") ∈ lw_all := lw_g (lw_at lw_m7 36 rfl) rfl
theorem q1526 : (Jvm.Cond.laysFinal "BranchCellsModel" "BranchCellsModel" "why" "[I") ∈ lw_all := lw_g (lw_at lw_m7 37 rfl) rfl
theorem q1527 : (Jvm.Cond.soleField "BranchCellsModel" "why") ∈ lw_all := lw_g (lw_at lw_m7 38 rfl) rfl
theorem q1528 : (Jvm.Cond.laysFinal "BranchCellsModel" "BranchCellsModel" "steps" "[I") ∈ lw_all := lw_g (lw_at lw_m7 39 rfl) rfl
theorem q1529 : (Jvm.Cond.soleField "BranchCellsModel" "steps") ∈ lw_all := lw_g (lw_at lw_m7 40 rfl) rfl
theorem q1530 : (Jvm.Cond.laysFinal "BranchCellsModel" "BranchCellsModel" "forks" "[I") ∈ lw_all := lw_g (lw_at lw_m7 41 rfl) rfl
theorem q1531 : (Jvm.Cond.soleField "BranchCellsModel" "forks") ∈ lw_all := lw_g (lw_at lw_m7 42 rfl) rfl
theorem q1532 : (Jvm.Cond.laysFinal "BranchCellsModel" "BranchCellsModel" "level" "[I") ∈ lw_all := lw_g (lw_at lw_m7 43 rfl) rfl
theorem q1533 : (Jvm.Cond.soleField "BranchCellsModel" "level") ∈ lw_all := lw_g (lw_at lw_m7 44 rfl) rfl
theorem q1534 : (Jvm.Cond.laysFinal "BranchCellsModel" "BranchCellsModel" "parent" "[I") ∈ lw_all := lw_g (lw_at lw_m7 45 rfl) rfl
theorem q1535 : (Jvm.Cond.soleField "BranchCellsModel" "parent") ∈ lw_all := lw_g (lw_at lw_m7 46 rfl) rfl
theorem q1536 : (Jvm.Cond.laysFinal "BranchCellsModel" "BranchCellsModel" "nth" "[I") ∈ lw_all := lw_g (lw_at lw_m7 47 rfl) rfl
theorem q1537 : (Jvm.Cond.soleField "BranchCellsModel" "nth") ∈ lw_all := lw_g (lw_at lw_m7 48 rfl) rfl
theorem q1538 : (Jvm.Cond.laysFinal "BranchCellsModel" "BranchCellsModel" "present" "[I") ∈ lw_all := lw_g (lw_at lw_m7 49 rfl) rfl
theorem q1539 : (Jvm.Cond.soleField "BranchCellsModel" "present") ∈ lw_all := lw_g (lw_at lw_m7 50 rfl) rfl
theorem q1540 : (Jvm.Cond.laysFinal "BranchCellsModel" "BranchCellsModel" "root" "[I") ∈ lw_all := lw_g (lw_at lw_m7 51 rfl) rfl
theorem q1541 : (Jvm.Cond.soleField "BranchCellsModel" "root") ∈ lw_all := lw_g (lw_at lw_m7 52 rfl) rfl
theorem q1542 : (Jvm.Cond.laysFinal "BranchCellsModel" "BranchCellsModel" "mark" "[J") ∈ lw_all := lw_g (lw_at lw_m7 53 rfl) rfl
theorem q1543 : (Jvm.Cond.soleField "BranchCellsModel" "mark") ∈ lw_all := lw_g (lw_at lw_m7 54 rfl) rfl
theorem q1544 : (Jvm.Cond.laysFinal "BranchCellsModel" "BranchCellsModel" "hasResult" "[Z") ∈ lw_all := lw_g (lw_at lw_m7 55 rfl) rfl
theorem q1545 : (Jvm.Cond.soleField "BranchCellsModel" "hasResult") ∈ lw_all := lw_g (lw_at lw_m7 56 rfl) rfl
theorem q1546 : (Jvm.Cond.laysFinal "BranchCellsModel" "BranchCellsModel" "result" "[J") ∈ lw_all := lw_g (lw_at lw_m7 57 rfl) rfl
theorem q1547 : (Jvm.Cond.soleField "BranchCellsModel" "result") ∈ lw_all := lw_g (lw_at lw_m7 58 rfl) rfl
theorem q1548 : (Jvm.Cond.laysFinal "BranchCellsModel" "BranchCellsModel" "resultIsHandle" "[Z") ∈ lw_all := lw_g (lw_at lw_m7 59 rfl) rfl
theorem q1549 : (Jvm.Cond.soleField "BranchCellsModel" "resultIsHandle") ∈ lw_all := lw_g (lw_at lw_m7 60 rfl) rfl
theorem q1550 : (Jvm.Cond.laysFinal "BranchCellsModel" "BranchCellsModel" "slot" "[J") ∈ lw_all := lw_g (lw_at lw_m7 61 rfl) rfl
theorem q1551 : (Jvm.Cond.soleField "BranchCellsModel" "slot") ∈ lw_all := lw_g (lw_at lw_m7 62 rfl) rfl
theorem q1552 : (Jvm.Cond.laysFinal "BranchCellsModel" "BranchCellsModel" "slotIsHandle" "[Z") ∈ lw_all := lw_g (lw_at lw_m7 63 rfl) rfl
theorem q1553 : (Jvm.Cond.soleField "BranchCellsModel" "slotIsHandle") ∈ lw_all := lw_g (lw_at lw_m7 64 rfl) rfl
theorem q1554 : (Jvm.Cond.laysFinal "BranchCellsModel" "BranchCellsModel" "pile" "[J") ∈ lw_all := lw_g (lw_at lw_m7 65 rfl) rfl
theorem q1555 : (Jvm.Cond.soleField "BranchCellsModel" "pile") ∈ lw_all := lw_g (lw_at lw_m7 66 rfl) rfl
theorem q1556 : (Jvm.Cond.laysFinal "BranchCellsModel" "BranchCellsModel" "pileIsHandle" "[Z") ∈ lw_all := lw_g (lw_at lw_m7 67 rfl) rfl
theorem q1557 : (Jvm.Cond.soleField "BranchCellsModel" "pileIsHandle") ∈ lw_all := lw_g (lw_at lw_m7 68 rfl) rfl
theorem q1558 : (Jvm.Cond.laysFinal "BranchCellsModel" "BranchCellsModel" "piled" "[I") ∈ lw_all := lw_g (lw_at lw_m7 69 rfl) rfl
theorem q1559 : (Jvm.Cond.soleField "BranchCellsModel" "piled") ∈ lw_all := lw_g (lw_at lw_m7 70 rfl) rfl
theorem q1560 : (Jvm.Cond.laysFinal "BranchCellsModel" "BranchCellsModel" "out" "[J") ∈ lw_all := lw_g (lw_at lw_m7 71 rfl) rfl
theorem q1561 : (Jvm.Cond.soleField "BranchCellsModel" "out") ∈ lw_all := lw_g (lw_at lw_m7 72 rfl) rfl
theorem q1562 : (Jvm.Cond.laysFinal "BranchCellsModel" "BranchCellsModel" "outs" "[I") ∈ lw_all := lw_g (lw_at lw_m7 73 rfl) rfl
theorem q1563 : (Jvm.Cond.soleField "BranchCellsModel" "outs") ∈ lw_all := lw_g (lw_at lw_m7 74 rfl) rfl
theorem q1564 : (Jvm.Cond.lays "BranchCellsModel" "BranchCellsModel" "allSteps" "I") ∈ lw_all := lw_g (lw_at lw_m7 75 rfl) rfl
theorem q1565 : (Jvm.Cond.soleField "BranchCellsModel" "allSteps") ∈ lw_all := lw_g (lw_at lw_m7 76 rfl) rfl
theorem q1566 : (Jvm.Cond.lays "BranchCellsModel" "BranchCellsModel" "merged" "I") ∈ lw_all := lw_g (lw_at lw_m7 77 rfl) rfl
theorem q1567 : (Jvm.Cond.soleField "BranchCellsModel" "merged") ∈ lw_all := lw_g (lw_at lw_m7 78 rfl) rfl
theorem q1568 : (Jvm.Cond.lays "BranchCellsModel" "BranchCellsModel" "segments" "I") ∈ lw_all := lw_g (lw_at lw_m7 79 rfl) rfl
theorem q1569 : (Jvm.Cond.soleField "BranchCellsModel" "segments") ∈ lw_all := lw_g (lw_at lw_m7 80 rfl) rfl
theorem q1570 : (Jvm.Cond.laysFinal "BranchCellsModel" "BranchCellsModel" "under" "[I") ∈ lw_all := lw_g (lw_at lw_m7 81 rfl) rfl
theorem q1571 : (Jvm.Cond.soleField "BranchCellsModel" "under") ∈ lw_all := lw_g (lw_at lw_m7 82 rfl) rfl
theorem q1572 : (Jvm.Cond.laysFinal "BranchCellsModel" "BranchCellsModel" "hasVersion" "[Z") ∈ lw_all := lw_g (lw_at lw_m7 83 rfl) rfl
theorem q1573 : (Jvm.Cond.soleField "BranchCellsModel" "hasVersion") ∈ lw_all := lw_g (lw_at lw_m7 84 rfl) rfl
theorem q1574 : (Jvm.Cond.laysFinal "BranchCellsModel" "BranchCellsModel" "version" "[J") ∈ lw_all := lw_g (lw_at lw_m7 85 rfl) rfl
theorem q1575 : (Jvm.Cond.soleField "BranchCellsModel" "version") ∈ lw_all := lw_g (lw_at lw_m7 86 rfl) rfl
theorem q1576 : (Jvm.Cond.laysFinal "BranchCellsModel" "BranchCellsModel" "held" "[Z") ∈ lw_all := lw_g (lw_at lw_m7 87 rfl) rfl
theorem q1577 : (Jvm.Cond.soleField "BranchCellsModel" "held") ∈ lw_all := lw_g (lw_at lw_m7 88 rfl) rfl
theorem q1578 : (Jvm.Cond.superclass "BranchCellsModel" "java/lang/Object") ∈ lw_all := lw_g (lw_at lw_m7 89 rfl) rfl
theorem q1581 : (Jvm.Cond.instanceMethod ({ cls := "BranchCellsModel", name := "block", desc := "()I" } : Jvm.MethodName)) ∈ lw_all := lw_g (lw_at lw_m7 92 rfl) rfl
theorem q1582 : (Jvm.Cond.selects "BranchCellsModel" ({ cls := "BranchCellsModel", name := "block", desc := "()I" } : Jvm.MethodName) ({ cls := "BranchCellsModel", name := "block", desc := "()I" } : Jvm.MethodName)) ∈ lw_all := lw_g (lw_at lw_m7 93 rfl) rfl
theorem q1583 : (Jvm.Cond.code ({ cls := "BranchCellsModel", name := "block", desc := "()I" } : Jvm.MethodName) prog_35_method_4_code (1 : Nat) (Option.some Jvm.ClassFile.FieldType.int)) ∈ lw_all := lw_g (lw_at lw_m7 94 rfl) rfl
theorem q1585 : (Jvm.Cond.instanceMethod ({ cls := "BranchCellsModel", name := "code", desc := "(III)I" } : Jvm.MethodName)) ∈ lw_all := lw_g (lw_at lw_m7 96 rfl) rfl
theorem q1586 : (Jvm.Cond.selects "BranchCellsModel" ({ cls := "BranchCellsModel", name := "code", desc := "(III)I" } : Jvm.MethodName) ({ cls := "BranchCellsModel", name := "code", desc := "(III)I" } : Jvm.MethodName)) ∈ lw_all := lw_g (lw_at lw_m7 97 rfl) rfl
theorem q1587 : (Jvm.Cond.code ({ cls := "BranchCellsModel", name := "code", desc := "(III)I" } : Jvm.MethodName) prog_35_method_5_code (5 : Nat) (Option.some Jvm.ClassFile.FieldType.int)) ∈ lw_all := lw_g (lw_at lw_m7 98 rfl) rfl
theorem q1588 : (Jvm.Cond.methodLink "BranchCellsModel" (118 : Nat) ({ cls := "BranchCellsModel", name := "in", desc := "(JJJ)Z" } : Jvm.MethodName)) ∈ lw_all := lw_g (lw_at lw_m7 99 rfl) rfl
theorem q1589 : (Jvm.Cond.static ({ cls := "BranchCellsModel", name := "in", desc := "(JJJ)Z" } : Jvm.MethodName)) ∈ lw_all := lw_g (lw_at lw_m7 100 rfl) rfl
theorem q1590 : (Jvm.Cond.code ({ cls := "BranchCellsModel", name := "in", desc := "(JJJ)Z" } : Jvm.MethodName) prog_35_method_3_code (6 : Nat) (Option.some Jvm.ClassFile.FieldType.boolean)) ∈ lw_all := lw_g (lw_at lw_m7 101 rfl) rfl
theorem q1591 : (Jvm.Cond.constantLong "BranchCellsModel" (122 : Nat) (21 : Int64)) ∈ lw_all := lw_g (lw_at lw_m7 102 rfl) rfl
theorem q1592 : (Jvm.Cond.constantLong "BranchCellsModel" (124 : Nat) (15 : Int64)) ∈ lw_all := lw_g (lw_at lw_m7 103 rfl) rfl
theorem q1593 : (Jvm.Cond.constantLong "BranchCellsModel" (126 : Nat) (40 : Int64)) ∈ lw_all := lw_g (lw_at lw_m7 104 rfl) rfl
theorem q1594 : (Jvm.Cond.constantLong "BranchCellsModel" (128 : Nat) (7 : Int64)) ∈ lw_all := lw_g (lw_at lw_m7 105 rfl) rfl
theorem q1596 : (Jvm.Cond.instanceMethod ({ cls := "BranchCellsModel", name := "merger", desc := "()I" } : Jvm.MethodName)) ∈ lw_all := lw_g (lw_at lw_m7 107 rfl) rfl
theorem q1597 : (Jvm.Cond.selects "BranchCellsModel" ({ cls := "BranchCellsModel", name := "merger", desc := "()I" } : Jvm.MethodName) ({ cls := "BranchCellsModel", name := "merger", desc := "()I" } : Jvm.MethodName)) ∈ lw_all := lw_g (lw_at lw_m7 108 rfl) rfl
theorem q1598 : (Jvm.Cond.code ({ cls := "BranchCellsModel", name := "merger", desc := "()I" } : Jvm.MethodName) prog_35_method_6_code (1 : Nat) (Option.some Jvm.ClassFile.FieldType.int)) ∈ lw_all := lw_g (lw_at lw_m7 109 rfl) rfl
theorem q1600 : (Jvm.Cond.instanceMethod ({ cls := "BranchCellsModel", name := "act", desc := "(III)I" } : Jvm.MethodName)) ∈ lw_all := lw_g (lw_at lw_m7 111 rfl) rfl
theorem q1601 : (Jvm.Cond.selects "BranchCellsModel" ({ cls := "BranchCellsModel", name := "act", desc := "(III)I" } : Jvm.MethodName) ({ cls := "BranchCellsModel", name := "act", desc := "(III)I" } : Jvm.MethodName)) ∈ lw_all := lw_g (lw_at lw_m7 112 rfl) rfl
theorem q1602 : (Jvm.Cond.code ({ cls := "BranchCellsModel", name := "act", desc := "(III)I" } : Jvm.MethodName) prog_35_method_7_code (4 : Nat) (Option.some Jvm.ClassFile.FieldType.int)) ∈ lw_all := lw_g (lw_at lw_m7 113 rfl) rfl
theorem q1603 : (Jvm.Cond.constantLong "BranchCellsModel" (137 : Nat) (10 : Int64)) ∈ lw_all := lw_g (lw_at lw_m7 114 rfl) rfl
theorem q1605 : (Jvm.Cond.instanceMethod ({ cls := "BranchCellsModel", name := "isRight", desc := "(I)I" } : Jvm.MethodName)) ∈ lw_all := lw_g (lw_at lw_m7 116 rfl) rfl
theorem q1606 : (Jvm.Cond.selects "BranchCellsModel" ({ cls := "BranchCellsModel", name := "isRight", desc := "(I)I" } : Jvm.MethodName) ({ cls := "BranchCellsModel", name := "isRight", desc := "(I)I" } : Jvm.MethodName)) ∈ lw_all := lw_g (lw_at lw_m7 117 rfl) rfl
theorem q1607 : (Jvm.Cond.code ({ cls := "BranchCellsModel", name := "isRight", desc := "(I)I" } : Jvm.MethodName) prog_35_method_9_code (2 : Nat) (Option.some Jvm.ClassFile.FieldType.int)) ∈ lw_all := lw_g (lw_at lw_m7 118 rfl) rfl
theorem q1608 : (Jvm.Cond.methodLink "BranchCellsModel" (139 : Nat) ({ cls := "BranchCellsModel", name := "right", desc := "(I)Z" } : Jvm.MethodName)) ∈ lw_all := lw_g (lw_at lw_m7 119 rfl) rfl
theorem q1609 : (Jvm.Cond.privateMethod ({ cls := "BranchCellsModel", name := "right", desc := "(I)Z" } : Jvm.MethodName)) ∈ lw_tbl := lw_at lw_m7 120 rfl
theorem q1610 : (Jvm.Cond.instanceMethod ({ cls := "BranchCellsModel", name := "right", desc := "(I)Z" } : Jvm.MethodName)) ∈ lw_all := lw_g (lw_at lw_m7 121 rfl) rfl
theorem q1611 : (Jvm.Cond.code ({ cls := "BranchCellsModel", name := "right", desc := "(I)Z" } : Jvm.MethodName) prog_35_method_8_code (4 : Nat) (Option.some Jvm.ClassFile.FieldType.boolean)) ∈ lw_all := lw_g (lw_at lw_m7 122 rfl) rfl
theorem q1613 : (Jvm.Cond.instanceMethod ({ cls := "BranchCellsModel", name := "tells", desc := "(IJJJ)J" } : Jvm.MethodName)) ∈ lw_all := lw_g (lw_at lw_m7 124 rfl) rfl
theorem q1614 : (Jvm.Cond.selects "BranchCellsModel" ({ cls := "BranchCellsModel", name := "tells", desc := "(IJJJ)J" } : Jvm.MethodName) ({ cls := "BranchCellsModel", name := "tells", desc := "(IJJJ)J" } : Jvm.MethodName)) ∈ lw_all := lw_g (lw_at lw_m7 125 rfl) rfl
theorem q1615 : (Jvm.Cond.code ({ cls := "BranchCellsModel", name := "tells", desc := "(IJJJ)J" } : Jvm.MethodName) prog_35_method_12_code (8 : Nat) (Option.some Jvm.ClassFile.FieldType.long)) ∈ lw_all := lw_g (lw_at lw_m7 126 rfl) rfl
theorem q1616 : (Jvm.Cond.constantLong "BranchCellsModel" (147 : Nat) (-1 : Int64)) ∈ lw_all := lw_g (lw_at lw_m7 127 rfl) rfl
theorem q1617 : (Jvm.Cond.methodLink "BranchCellsModel" (149 : Nat) ({ cls := "BranchCellsModel", name := "told", desc := "(IJJJ)J" } : Jvm.MethodName)) ∈ lw_all := lw_g (lw_at lw_m7 128 rfl) rfl
theorem q1618 : (Jvm.Cond.privateMethod ({ cls := "BranchCellsModel", name := "told", desc := "(IJJJ)J" } : Jvm.MethodName)) ∈ lw_tbl := lw_at lw_m7 129 rfl
theorem q1619 : (Jvm.Cond.instanceMethod ({ cls := "BranchCellsModel", name := "told", desc := "(IJJJ)J" } : Jvm.MethodName)) ∈ lw_all := lw_g (lw_at lw_m7 130 rfl) rfl
theorem q1620 : (Jvm.Cond.code ({ cls := "BranchCellsModel", name := "told", desc := "(IJJJ)J" } : Jvm.MethodName) prog_35_method_11_code (11 : Nat) (Option.some Jvm.ClassFile.FieldType.long)) ∈ lw_all := lw_g (lw_at lw_m7 131 rfl) rfl
theorem q1621 : (Jvm.Cond.methodLink "BranchCellsModel" (143 : Nat) ({ cls := "BranchCellsModel", name := "ofTwo", desc := "(IJJ)J" } : Jvm.MethodName)) ∈ lw_all := lw_g (lw_at lw_m7 132 rfl) rfl
theorem q1622 : (Jvm.Cond.static ({ cls := "BranchCellsModel", name := "ofTwo", desc := "(IJJ)J" } : Jvm.MethodName)) ∈ lw_all := lw_g (lw_at lw_m7 133 rfl) rfl
theorem q1623 : (Jvm.Cond.code ({ cls := "BranchCellsModel", name := "ofTwo", desc := "(IJJ)J" } : Jvm.MethodName) prog_35_method_10_code (5 : Nat) (Option.some Jvm.ClassFile.FieldType.long)) ∈ lw_all := lw_g (lw_at lw_m7 134 rfl) rfl
theorem q1624 : (Jvm.Cond.constantLong "BranchCellsModel" (153 : Nat) (-4 : Int64)) ∈ lw_all := lw_g (lw_at lw_m7 135 rfl) rfl
theorem q1626 : (Jvm.Cond.instanceMethod ({ cls := "BranchCellsModel", name := "kind", desc := "(II)I" } : Jvm.MethodName)) ∈ lw_all := lw_g (lw_at lw_m7 137 rfl) rfl
theorem q1627 : (Jvm.Cond.selects "BranchCellsModel" ({ cls := "BranchCellsModel", name := "kind", desc := "(II)I" } : Jvm.MethodName) ({ cls := "BranchCellsModel", name := "kind", desc := "(II)I" } : Jvm.MethodName)) ∈ lw_all := lw_g (lw_at lw_m7 138 rfl) rfl
theorem q1628 : (Jvm.Cond.code ({ cls := "BranchCellsModel", name := "kind", desc := "(II)I" } : Jvm.MethodName) prog_35_method_13_code (4 : Nat) (Option.some Jvm.ClassFile.FieldType.int)) ∈ lw_all := lw_g (lw_at lw_m7 139 rfl) rfl
theorem q1629 : (Jvm.Cond.constantLong "BranchCellsModel" (155 : Nat) (6 : Int64)) ∈ lw_all := lw_g (lw_at lw_m7 140 rfl) rfl
theorem q1631 : (Jvm.Cond.instanceMethod ({ cls := "BranchCellsModel", name := "start", desc := "(J)I" } : Jvm.MethodName)) ∈ lw_all := lw_g (lw_at lw_m7 142 rfl) rfl
theorem q1632 : (Jvm.Cond.selects "BranchCellsModel" ({ cls := "BranchCellsModel", name := "start", desc := "(J)I" } : Jvm.MethodName) ({ cls := "BranchCellsModel", name := "start", desc := "(J)I" } : Jvm.MethodName)) ∈ lw_all := lw_g (lw_at lw_m7 143 rfl) rfl
theorem q1633 : (Jvm.Cond.code ({ cls := "BranchCellsModel", name := "start", desc := "(J)I" } : Jvm.MethodName) prog_35_method_20_code (5 : Nat) (Option.some Jvm.ClassFile.FieldType.int)) ∈ lw_all := lw_g (lw_at lw_m7 144 rfl) rfl
theorem q1634 : (Jvm.Cond.methodLink "BranchCellsModel" (179 : Nat) ({ cls := "BranchCellsModel", name := "newSegment", desc := "(I)I" } : Jvm.MethodName)) ∈ lw_all := lw_g (lw_at lw_m7 145 rfl) rfl
theorem q1635 : (Jvm.Cond.privateMethod ({ cls := "BranchCellsModel", name := "newSegment", desc := "(I)I" } : Jvm.MethodName)) ∈ lw_tbl := lw_at lw_m7 146 rfl
theorem q1636 : (Jvm.Cond.instanceMethod ({ cls := "BranchCellsModel", name := "newSegment", desc := "(I)I" } : Jvm.MethodName)) ∈ lw_all := lw_g (lw_at lw_m7 147 rfl) rfl
theorem q1637 : (Jvm.Cond.code ({ cls := "BranchCellsModel", name := "newSegment", desc := "(I)I" } : Jvm.MethodName) prog_35_method_14_code (3 : Nat) (Option.some Jvm.ClassFile.FieldType.int)) ∈ lw_all := lw_g (lw_at lw_m7 148 rfl) rfl
theorem q1638 : (Jvm.Cond.methodLink "BranchCellsModel" (183 : Nat) ({ cls := "BranchCellsModel", name := "newTask", desc := "(IIJZII)V" } : Jvm.MethodName)) ∈ lw_all := lw_g (lw_at lw_m7 149 rfl) rfl
theorem q1639 : (Jvm.Cond.privateMethod ({ cls := "BranchCellsModel", name := "newTask", desc := "(IIJZII)V" } : Jvm.MethodName)) ∈ lw_tbl := lw_at lw_m7 150 rfl
theorem q1640 : (Jvm.Cond.instanceMethod ({ cls := "BranchCellsModel", name := "newTask", desc := "(IIJZII)V" } : Jvm.MethodName)) ∈ lw_all := lw_g (lw_at lw_m7 151 rfl) rfl
theorem q1641 : (Jvm.Cond.code ({ cls := "BranchCellsModel", name := "newTask", desc := "(IIJZII)V" } : Jvm.MethodName) prog_35_method_17_code (10 : Nat) (Option.none : Option Jvm.ClassFile.FieldType)) ∈ lw_all := lw_g (lw_at lw_m7 152 rfl) rfl
theorem q1642 : (Jvm.Cond.constantLong "BranchCellsModel" (163 : Nat) (17 : Int64)) ∈ lw_all := lw_g (lw_at lw_m7 153 rfl) rfl
theorem q1643 : (Jvm.Cond.methodLink "BranchCellsModel" (165 : Nat) ({ cls := "BranchCellsModel", name := "endsBehind", desc := "(I)V" } : Jvm.MethodName)) ∈ lw_all := lw_g (lw_at lw_m7 154 rfl) rfl
theorem q1644 : (Jvm.Cond.privateMethod ({ cls := "BranchCellsModel", name := "endsBehind", desc := "(I)V" } : Jvm.MethodName)) ∈ lw_tbl := lw_at lw_m7 155 rfl
theorem q1645 : (Jvm.Cond.instanceMethod ({ cls := "BranchCellsModel", name := "endsBehind", desc := "(I)V" } : Jvm.MethodName)) ∈ lw_all := lw_g (lw_at lw_m7 156 rfl) rfl
theorem q1646 : (Jvm.Cond.code ({ cls := "BranchCellsModel", name := "endsBehind", desc := "(I)V" } : Jvm.MethodName) prog_35_method_19_code (2 : Nat) (Option.none : Option Jvm.ClassFile.FieldType)) ∈ lw_all := lw_g (lw_at lw_m7 157 rfl) rfl
theorem q1647 : (Jvm.Cond.methodLink "BranchCellsModel" (169 : Nat) ({ cls := "BranchCellsModel", name := "ends", desc := "(IJZ)V" } : Jvm.MethodName)) ∈ lw_all := lw_g (lw_at lw_m7 158 rfl) rfl
theorem q1648 : (Jvm.Cond.privateMethod ({ cls := "BranchCellsModel", name := "ends", desc := "(IJZ)V" } : Jvm.MethodName)) ∈ lw_tbl := lw_at lw_m7 159 rfl
theorem q1649 : (Jvm.Cond.instanceMethod ({ cls := "BranchCellsModel", name := "ends", desc := "(IJZ)V" } : Jvm.MethodName)) ∈ lw_all := lw_g (lw_at lw_m7 160 rfl) rfl
theorem q1650 : (Jvm.Cond.code ({ cls := "BranchCellsModel", name := "ends", desc := "(IJZ)V" } : Jvm.MethodName) prog_35_method_18_code (5 : Nat) (Option.none : Option Jvm.ClassFile.FieldType)) ∈ lw_all := lw_g (lw_at lw_m7 161 rfl) rfl
theorem q1652 : (Jvm.Cond.instanceMethod ({ cls := "BranchCellsModel", name := "stop", desc := "()I" } : Jvm.MethodName)) ∈ lw_all := lw_g (lw_at lw_m7 163 rfl) rfl
theorem q1653 : (Jvm.Cond.selects "BranchCellsModel" ({ cls := "BranchCellsModel", name := "stop", desc := "()I" } : Jvm.MethodName) ({ cls := "BranchCellsModel", name := "stop", desc := "()I" } : Jvm.MethodName)) ∈ lw_all := lw_g (lw_at lw_m7 164 rfl) rfl
theorem q1654 : (Jvm.Cond.code ({ cls := "BranchCellsModel", name := "stop", desc := "()I" } : Jvm.MethodName) prog_35_method_21_code (2 : Nat) (Option.some Jvm.ClassFile.FieldType.int)) ∈ lw_all := lw_g (lw_at lw_m7 165 rfl) rfl
theorem q1656 : (Jvm.Cond.instanceMethod ({ cls := "BranchCellsModel", name := "step", desc := "(II)I" } : Jvm.MethodName)) ∈ lw_all := lw_g (lw_at lw_m7 167 rfl) rfl
theorem q1657 : (Jvm.Cond.selects "BranchCellsModel" ({ cls := "BranchCellsModel", name := "step", desc := "(II)I" } : Jvm.MethodName) ({ cls := "BranchCellsModel", name := "step", desc := "(II)I" } : Jvm.MethodName)) ∈ lw_all := lw_g (lw_at lw_m7 168 rfl) rfl
theorem q1658 : (Jvm.Cond.code ({ cls := "BranchCellsModel", name := "step", desc := "(II)I" } : Jvm.MethodName) prog_35_method_35_code (4 : Nat) (Option.some Jvm.ClassFile.FieldType.int)) ∈ lw_all := lw_g (lw_at lw_m7 169 rfl) rfl
theorem q1659 : (Jvm.Cond.methodLink "BranchCellsModel" (234 : Nat) ({ cls := "BranchCellsModel", name := "isTask", desc := "(I)Z" } : Jvm.MethodName)) ∈ lw_all := lw_g (lw_at lw_m7 170 rfl) rfl
theorem q1660 : (Jvm.Cond.privateMethod ({ cls := "BranchCellsModel", name := "isTask", desc := "(I)Z" } : Jvm.MethodName)) ∈ lw_tbl := lw_at lw_m7 171 rfl
theorem q1661 : (Jvm.Cond.instanceMethod ({ cls := "BranchCellsModel", name := "isTask", desc := "(I)Z" } : Jvm.MethodName)) ∈ lw_all := lw_g (lw_at lw_m7 172 rfl) rfl
theorem q1662 : (Jvm.Cond.code ({ cls := "BranchCellsModel", name := "isTask", desc := "(I)Z" } : Jvm.MethodName) prog_35_method_34_code (2 : Nat) (Option.some Jvm.ClassFile.FieldType.boolean)) ∈ lw_all := lw_g (lw_at lw_m7 173 rfl) rfl
theorem q1663 : (Jvm.Cond.constantLong "BranchCellsModel" (237 : Nat) (300 : Int64)) ∈ lw_all := lw_g (lw_at lw_m7 174 rfl) rfl
theorem q1664 : (Jvm.Cond.methodLink "BranchCellsModel" (239 : Nat) ({ cls := "BranchCellsModel", name := "standing", desc := "(I)I" } : Jvm.MethodName)) ∈ lw_all := lw_g (lw_at lw_m7 175 rfl) rfl
theorem q1665 : (Jvm.Cond.privateMethod ({ cls := "BranchCellsModel", name := "standing", desc := "(I)I" } : Jvm.MethodName)) ∈ lw_tbl := lw_at lw_m7 176 rfl
theorem q1666 : (Jvm.Cond.instanceMethod ({ cls := "BranchCellsModel", name := "standing", desc := "(I)I" } : Jvm.MethodName)) ∈ lw_all := lw_g (lw_at lw_m7 177 rfl) rfl
theorem q1667 : (Jvm.Cond.code ({ cls := "BranchCellsModel", name := "standing", desc := "(I)I" } : Jvm.MethodName) prog_35_method_23_code (2 : Nat) (Option.some Jvm.ClassFile.FieldType.int)) ∈ lw_all := lw_g (lw_at lw_m7 178 rfl) rfl
theorem q1668 : (Jvm.Cond.methodLink "BranchCellsModel" (187 : Nat) ({ cls := "BranchCellsModel", name := "waitsFor", desc := "(I)I" } : Jvm.MethodName)) ∈ lw_all := lw_g (lw_at lw_m7 179 rfl) rfl
theorem q1669 : (Jvm.Cond.privateMethod ({ cls := "BranchCellsModel", name := "waitsFor", desc := "(I)I" } : Jvm.MethodName)) ∈ lw_tbl := lw_at lw_m7 180 rfl
theorem q1670 : (Jvm.Cond.instanceMethod ({ cls := "BranchCellsModel", name := "waitsFor", desc := "(I)I" } : Jvm.MethodName)) ∈ lw_all := lw_g (lw_at lw_m7 181 rfl) rfl
theorem q1671 : (Jvm.Cond.code ({ cls := "BranchCellsModel", name := "waitsFor", desc := "(I)I" } : Jvm.MethodName) prog_35_method_22_code (4 : Nat) (Option.some Jvm.ClassFile.FieldType.int)) ∈ lw_all := lw_g (lw_at lw_m7 182 rfl) rfl
theorem q1672 : (Jvm.Cond.methodLink "BranchCellsModel" (242 : Nat) ({ cls := "BranchCellsModel", name := "oneStep", desc := "(I)V" } : Jvm.MethodName)) ∈ lw_all := lw_g (lw_at lw_m7 183 rfl) rfl
theorem q1673 : (Jvm.Cond.privateMethod ({ cls := "BranchCellsModel", name := "oneStep", desc := "(I)V" } : Jvm.MethodName)) ∈ lw_tbl := lw_at lw_m7 184 rfl
theorem q1674 : (Jvm.Cond.instanceMethod ({ cls := "BranchCellsModel", name := "oneStep", desc := "(I)V" } : Jvm.MethodName)) ∈ lw_all := lw_g (lw_at lw_m7 185 rfl) rfl
theorem q1675 : (Jvm.Cond.code ({ cls := "BranchCellsModel", name := "oneStep", desc := "(I)V" } : Jvm.MethodName) prog_35_method_27_code (15 : Nat) (Option.none : Option Jvm.ClassFile.FieldType)) ∈ lw_all := lw_g (lw_at lw_m7 186 rfl) rfl
theorem q1676 : (Jvm.Cond.constantLong "BranchCellsModel" (190 : Nat) (31 : Int64)) ∈ lw_all := lw_g (lw_at lw_m7 187 rfl) rfl
theorem q1677 : (Jvm.Cond.methodLink "BranchCellsModel" (192 : Nat) ({ cls := "BranchCellsModel", name := "fails", desc := "(II)V" } : Jvm.MethodName)) ∈ lw_all := lw_g (lw_at lw_m7 188 rfl) rfl
theorem q1678 : (Jvm.Cond.privateMethod ({ cls := "BranchCellsModel", name := "fails", desc := "(II)V" } : Jvm.MethodName)) ∈ lw_tbl := lw_at lw_m7 189 rfl
theorem q1679 : (Jvm.Cond.instanceMethod ({ cls := "BranchCellsModel", name := "fails", desc := "(II)V" } : Jvm.MethodName)) ∈ lw_all := lw_g (lw_at lw_m7 190 rfl) rfl
theorem q1680 : (Jvm.Cond.code ({ cls := "BranchCellsModel", name := "fails", desc := "(II)V" } : Jvm.MethodName) prog_35_method_24_code (3 : Nat) (Option.none : Option Jvm.ClassFile.FieldType)) ∈ lw_all := lw_g (lw_at lw_m7 191 rfl) rfl
theorem q1681 : (Jvm.Cond.methodLink "BranchCellsModel" (196 : Nat) ({ cls := "BranchCellsModel", name := "taken", desc := "(I)I" } : Jvm.MethodName)) ∈ lw_all := lw_g (lw_at lw_m7 192 rfl) rfl
theorem q1682 : (Jvm.Cond.static ({ cls := "BranchCellsModel", name := "taken", desc := "(I)I" } : Jvm.MethodName)) ∈ lw_all := lw_g (lw_at lw_m7 193 rfl) rfl
theorem q1683 : (Jvm.Cond.code ({ cls := "BranchCellsModel", name := "taken", desc := "(I)I" } : Jvm.MethodName) prog_35_method_26_code (1 : Nat) (Option.some Jvm.ClassFile.FieldType.int)) ∈ lw_all := lw_g (lw_at lw_m7 194 rfl) rfl
theorem q1684 : (Jvm.Cond.methodLink "BranchCellsModel" (199 : Nat) ({ cls := "BranchCellsModel", name := "faultOf", desc := "(IIIJJ)I" } : Jvm.MethodName)) ∈ lw_all := lw_g (lw_at lw_m7 195 rfl) rfl
theorem q1685 : (Jvm.Cond.privateMethod ({ cls := "BranchCellsModel", name := "faultOf", desc := "(IIIJJ)I" } : Jvm.MethodName)) ∈ lw_tbl := lw_at lw_m7 196 rfl
theorem q1686 : (Jvm.Cond.instanceMethod ({ cls := "BranchCellsModel", name := "faultOf", desc := "(IIIJJ)I" } : Jvm.MethodName)) ∈ lw_all := lw_g (lw_at lw_m7 197 rfl) rfl
theorem q1687 : (Jvm.Cond.code ({ cls := "BranchCellsModel", name := "faultOf", desc := "(IIIJJ)I" } : Jvm.MethodName) prog_35_method_28_code (8 : Nat) (Option.some Jvm.ClassFile.FieldType.int)) ∈ lw_all := lw_g (lw_at lw_m7 198 rfl) rfl
theorem q1688 : (Jvm.Cond.constantLong "BranchCellsModel" (207 : Nat) (63 : Int64)) ∈ lw_all := lw_g (lw_at lw_m7 199 rfl) rfl
theorem q1689 : (Jvm.Cond.methodLink "BranchCellsModel" (203 : Nat) ({ cls := "BranchCellsModel", name := "does", desc := "(IIIJZJ)V" } : Jvm.MethodName)) ∈ lw_all := lw_g (lw_at lw_m7 200 rfl) rfl
theorem q1690 : (Jvm.Cond.privateMethod ({ cls := "BranchCellsModel", name := "does", desc := "(IIIJZJ)V" } : Jvm.MethodName)) ∈ lw_tbl := lw_at lw_m7 201 rfl
theorem q1691 : (Jvm.Cond.instanceMethod ({ cls := "BranchCellsModel", name := "does", desc := "(IIIJZJ)V" } : Jvm.MethodName)) ∈ lw_all := lw_g (lw_at lw_m7 202 rfl) rfl
theorem q1692 : (Jvm.Cond.code ({ cls := "BranchCellsModel", name := "does", desc := "(IIIJZJ)V" } : Jvm.MethodName) prog_35_method_29_code (10 : Nat) (Option.none : Option Jvm.ClassFile.FieldType)) ∈ lw_all := lw_g (lw_at lw_m7 203 rfl) rfl
theorem q1693 : (Jvm.Cond.methodLink "BranchCellsModel" (209 : Nat) ({ cls := "BranchCellsModel", name := "push", desc := "(IJZ)V" } : Jvm.MethodName)) ∈ lw_all := lw_g (lw_at lw_m7 204 rfl) rfl
theorem q1694 : (Jvm.Cond.privateMethod ({ cls := "BranchCellsModel", name := "push", desc := "(IJZ)V" } : Jvm.MethodName)) ∈ lw_tbl := lw_at lw_m7 205 rfl
theorem q1695 : (Jvm.Cond.instanceMethod ({ cls := "BranchCellsModel", name := "push", desc := "(IJZ)V" } : Jvm.MethodName)) ∈ lw_all := lw_g (lw_at lw_m7 206 rfl) rfl
theorem q1696 : (Jvm.Cond.code ({ cls := "BranchCellsModel", name := "push", desc := "(IJZ)V" } : Jvm.MethodName) prog_35_method_25_code (5 : Nat) (Option.none : Option Jvm.ClassFile.FieldType)) ∈ lw_all := lw_g (lw_at lw_m7 207 rfl) rfl
theorem q1697 : (Jvm.Cond.methodLink "BranchCellsModel" (212 : Nat) ({ cls := "BranchCellsModel", name := "readFrom", desc := "(II)J" } : Jvm.MethodName)) ∈ lw_all := lw_g (lw_at lw_m7 208 rfl) rfl
theorem q1698 : (Jvm.Cond.privateMethod ({ cls := "BranchCellsModel", name := "readFrom", desc := "(II)J" } : Jvm.MethodName)) ∈ lw_tbl := lw_at lw_m7 209 rfl
theorem q1699 : (Jvm.Cond.instanceMethod ({ cls := "BranchCellsModel", name := "readFrom", desc := "(II)J" } : Jvm.MethodName)) ∈ lw_all := lw_g (lw_at lw_m7 210 rfl) rfl
theorem q1700 : (Jvm.Cond.code ({ cls := "BranchCellsModel", name := "readFrom", desc := "(II)J" } : Jvm.MethodName) prog_35_method_15_code (4 : Nat) (Option.some Jvm.ClassFile.FieldType.long)) ∈ lw_all := lw_g (lw_at lw_m7 211 rfl) rfl
theorem q1701 : (Jvm.Cond.methodLink "BranchCellsModel" (216 : Nat) ({ cls := "BranchCellsModel", name := "write", desc := "(IIJ)V" } : Jvm.MethodName)) ∈ lw_all := lw_g (lw_at lw_m7 212 rfl) rfl
theorem q1702 : (Jvm.Cond.privateMethod ({ cls := "BranchCellsModel", name := "write", desc := "(IIJ)V" } : Jvm.MethodName)) ∈ lw_tbl := lw_at lw_m7 213 rfl
theorem q1703 : (Jvm.Cond.instanceMethod ({ cls := "BranchCellsModel", name := "write", desc := "(IIJ)V" } : Jvm.MethodName)) ∈ lw_all := lw_g (lw_at lw_m7 214 rfl) rfl
theorem q1704 : (Jvm.Cond.code ({ cls := "BranchCellsModel", name := "write", desc := "(IIJ)V" } : Jvm.MethodName) prog_35_method_16_code (5 : Nat) (Option.none : Option Jvm.ClassFile.FieldType)) ∈ lw_all := lw_g (lw_at lw_m7 215 rfl) rfl
theorem q1705 : (Jvm.Cond.methodLink "BranchCellsModel" (220 : Nat) ({ cls := "BranchCellsModel", name := "forkAt", desc := "(IIJZ)V" } : Jvm.MethodName)) ∈ lw_all := lw_g (lw_at lw_m7 216 rfl) rfl
theorem q1706 : (Jvm.Cond.privateMethod ({ cls := "BranchCellsModel", name := "forkAt", desc := "(IIJZ)V" } : Jvm.MethodName)) ∈ lw_tbl := lw_at lw_m7 217 rfl
theorem q1707 : (Jvm.Cond.instanceMethod ({ cls := "BranchCellsModel", name := "forkAt", desc := "(IIJZ)V" } : Jvm.MethodName)) ∈ lw_all := lw_g (lw_at lw_m7 218 rfl) rfl
theorem q1708 : (Jvm.Cond.code ({ cls := "BranchCellsModel", name := "forkAt", desc := "(IIJZ)V" } : Jvm.MethodName) prog_35_method_31_code (9 : Nat) (Option.none : Option Jvm.ClassFile.FieldType)) ∈ lw_all := lw_g (lw_at lw_m7 219 rfl) rfl
theorem q1709 : (Jvm.Cond.methodLink "BranchCellsModel" (224 : Nat) ({ cls := "BranchCellsModel", name := "joins", desc := "(II)V" } : Jvm.MethodName)) ∈ lw_all := lw_g (lw_at lw_m7 220 rfl) rfl
theorem q1710 : (Jvm.Cond.privateMethod ({ cls := "BranchCellsModel", name := "joins", desc := "(II)V" } : Jvm.MethodName)) ∈ lw_tbl := lw_at lw_m7 221 rfl
theorem q1711 : (Jvm.Cond.instanceMethod ({ cls := "BranchCellsModel", name := "joins", desc := "(II)V" } : Jvm.MethodName)) ∈ lw_all := lw_g (lw_at lw_m7 222 rfl) rfl
theorem q1712 : (Jvm.Cond.code ({ cls := "BranchCellsModel", name := "joins", desc := "(II)V" } : Jvm.MethodName) prog_35_method_32_code (12 : Nat) (Option.none : Option Jvm.ClassFile.FieldType)) ∈ lw_all := lw_g (lw_at lw_m7 223 rfl) rfl
theorem q1713 : (Jvm.Cond.methodLink "BranchCellsModel" (227 : Nat) ({ cls := "BranchCellsModel", name := "tellOut", desc := "(IJ)V" } : Jvm.MethodName)) ∈ lw_all := lw_g (lw_at lw_m7 224 rfl) rfl
theorem q1714 : (Jvm.Cond.privateMethod ({ cls := "BranchCellsModel", name := "tellOut", desc := "(IJ)V" } : Jvm.MethodName)) ∈ lw_tbl := lw_at lw_m7 225 rfl
theorem q1715 : (Jvm.Cond.instanceMethod ({ cls := "BranchCellsModel", name := "tellOut", desc := "(IJ)V" } : Jvm.MethodName)) ∈ lw_all := lw_g (lw_at lw_m7 226 rfl) rfl
theorem q1716 : (Jvm.Cond.code ({ cls := "BranchCellsModel", name := "tellOut", desc := "(IJ)V" } : Jvm.MethodName) prog_35_method_30_code (4 : Nat) (Option.none : Option Jvm.ClassFile.FieldType)) ∈ lw_all := lw_g (lw_at lw_m7 227 rfl) rfl
theorem q1717 : (Jvm.Cond.methodLink "BranchCellsModel" (231 : Nat) ({ cls := "BranchCellsModel", name := "mergedOf", desc := "(IJJJ)J" } : Jvm.MethodName)) ∈ lw_all := lw_g (lw_at lw_m7 228 rfl) rfl
theorem q1718 : (Jvm.Cond.privateMethod ({ cls := "BranchCellsModel", name := "mergedOf", desc := "(IJJJ)J" } : Jvm.MethodName)) ∈ lw_tbl := lw_at lw_m7 229 rfl
theorem q1719 : (Jvm.Cond.instanceMethod ({ cls := "BranchCellsModel", name := "mergedOf", desc := "(IJJJ)J" } : Jvm.MethodName)) ∈ lw_all := lw_g (lw_at lw_m7 230 rfl) rfl
theorem q1720 : (Jvm.Cond.code ({ cls := "BranchCellsModel", name := "mergedOf", desc := "(IJJJ)J" } : Jvm.MethodName) prog_35_method_33_code (8 : Nat) (Option.some Jvm.ClassFile.FieldType.long)) ∈ lw_all := lw_g (lw_at lw_m7 231 rfl) rfl
theorem q1722 : (Jvm.Cond.instanceMethod ({ cls := "BranchCellsModel", name := "ready", desc := "(I)I" } : Jvm.MethodName)) ∈ lw_all := lw_g (lw_at lw_m7 233 rfl) rfl
theorem q1723 : (Jvm.Cond.selects "BranchCellsModel" ({ cls := "BranchCellsModel", name := "ready", desc := "(I)I" } : Jvm.MethodName) ({ cls := "BranchCellsModel", name := "ready", desc := "(I)I" } : Jvm.MethodName)) ∈ lw_all := lw_g (lw_at lw_m7 234 rfl) rfl
theorem q1724 : (Jvm.Cond.code ({ cls := "BranchCellsModel", name := "ready", desc := "(I)I" } : Jvm.MethodName) prog_35_method_36_code (4 : Nat) (Option.some Jvm.ClassFile.FieldType.int)) ∈ lw_all := lw_g (lw_at lw_m7 235 rfl) rfl
theorem q1726 : (Jvm.Cond.instanceMethod ({ cls := "BranchCellsModel", name := "deep", desc := "(I)I" } : Jvm.MethodName)) ∈ lw_all := lw_g (lw_at lw_m7 237 rfl) rfl
theorem q1727 : (Jvm.Cond.selects "BranchCellsModel" ({ cls := "BranchCellsModel", name := "deep", desc := "(I)I" } : Jvm.MethodName) ({ cls := "BranchCellsModel", name := "deep", desc := "(I)I" } : Jvm.MethodName)) ∈ lw_all := lw_g (lw_at lw_m7 238 rfl) rfl
theorem q1728 : (Jvm.Cond.code ({ cls := "BranchCellsModel", name := "deep", desc := "(I)I" } : Jvm.MethodName) prog_35_method_38_code (4 : Nat) (Option.some Jvm.ClassFile.FieldType.int)) ∈ lw_all := lw_g (lw_at lw_m7 239 rfl) rfl
theorem q1729 : (Jvm.Cond.constantLong "BranchCellsModel" (245 : Nat) (2000 : Int64)) ∈ lw_all := lw_g (lw_at lw_m8 0 rfl) rfl
theorem q1730 : (Jvm.Cond.methodLink "BranchCellsModel" (247 : Nat) ({ cls := "BranchCellsModel", name := "readyMany", desc := "()I" } : Jvm.MethodName)) ∈ lw_all := lw_g (lw_at lw_m8 1 rfl) rfl
theorem q1731 : (Jvm.Cond.privateMethod ({ cls := "BranchCellsModel", name := "readyMany", desc := "()I" } : Jvm.MethodName)) ∈ lw_tbl := lw_at lw_m8 2 rfl
theorem q1732 : (Jvm.Cond.instanceMethod ({ cls := "BranchCellsModel", name := "readyMany", desc := "()I" } : Jvm.MethodName)) ∈ lw_all := lw_g (lw_at lw_m8 3 rfl) rfl
theorem q1733 : (Jvm.Cond.code ({ cls := "BranchCellsModel", name := "readyMany", desc := "()I" } : Jvm.MethodName) prog_35_method_37_code (3 : Nat) (Option.some Jvm.ClassFile.FieldType.int)) ∈ lw_all := lw_g (lw_at lw_m8 4 rfl) rfl
theorem q1734 : (Jvm.Cond.methodLink "BranchCellsModel" (251 : Nat) ({ cls := "BranchCellsModel", name := "ready", desc := "(I)I" } : Jvm.MethodName)) ∈ lw_all := lw_g (lw_at lw_m8 5 rfl) rfl
theorem q1736 : (Jvm.Cond.instanceMethod ({ cls := "BranchCellsModel", name := "drawn", desc := "(II)I" } : Jvm.MethodName)) ∈ lw_all := lw_g (lw_at lw_m8 7 rfl) rfl
theorem q1737 : (Jvm.Cond.selects "BranchCellsModel" ({ cls := "BranchCellsModel", name := "drawn", desc := "(II)I" } : Jvm.MethodName) ({ cls := "BranchCellsModel", name := "drawn", desc := "(II)I" } : Jvm.MethodName)) ∈ lw_all := lw_g (lw_at lw_m8 8 rfl) rfl
theorem q1738 : (Jvm.Cond.code ({ cls := "BranchCellsModel", name := "drawn", desc := "(II)I" } : Jvm.MethodName) prog_35_method_39_code (7 : Nat) (Option.some Jvm.ClassFile.FieldType.int)) ∈ lw_all := lw_g (lw_at lw_m8 9 rfl) rfl
theorem q1739 : (Jvm.Cond.constantLong "BranchCellsModel" (254 : Nat) (1103515245 : Int64)) ∈ lw_all := lw_g (lw_at lw_m8 10 rfl) rfl
theorem q1740 : (Jvm.Cond.constantLong "BranchCellsModel" (256 : Nat) (12345 : Int64)) ∈ lw_all := lw_g (lw_at lw_m8 11 rfl) rfl
theorem q1741 : (Jvm.Cond.constantLong "BranchCellsModel" (258 : Nat) (2147483647 : Int64)) ∈ lw_all := lw_g (lw_at lw_m8 12 rfl) rfl
theorem q1742 : (Jvm.Cond.constantLong "BranchCellsModel" (260 : Nat) (65536 : Int64)) ∈ lw_all := lw_g (lw_at lw_m8 13 rfl) rfl
theorem q1744 : (Jvm.Cond.instanceMethod ({ cls := "BranchCellsModel", name := "about", desc := "(II)I" } : Jvm.MethodName)) ∈ lw_all := lw_g (lw_at lw_m8 15 rfl) rfl
theorem q1745 : (Jvm.Cond.selects "BranchCellsModel" ({ cls := "BranchCellsModel", name := "about", desc := "(II)I" } : Jvm.MethodName) ({ cls := "BranchCellsModel", name := "about", desc := "(II)I" } : Jvm.MethodName)) ∈ lw_all := lw_g (lw_at lw_m8 16 rfl) rfl
theorem q1746 : (Jvm.Cond.code ({ cls := "BranchCellsModel", name := "about", desc := "(II)I" } : Jvm.MethodName) prog_35_method_40_code (3 : Nat) (Option.some Jvm.ClassFile.FieldType.int)) ∈ lw_all := lw_g (lw_at lw_m8 17 rfl) rfl
theorem q1748 : (Jvm.Cond.instanceMethod ({ cls := "BranchCellsModel", name := "result", desc := "(I)J" } : Jvm.MethodName)) ∈ lw_all := lw_g (lw_at lw_m8 19 rfl) rfl
theorem q1749 : (Jvm.Cond.selects "BranchCellsModel" ({ cls := "BranchCellsModel", name := "result", desc := "(I)J" } : Jvm.MethodName) ({ cls := "BranchCellsModel", name := "result", desc := "(I)J" } : Jvm.MethodName)) ∈ lw_all := lw_g (lw_at lw_m8 20 rfl) rfl
theorem q1750 : (Jvm.Cond.code ({ cls := "BranchCellsModel", name := "result", desc := "(I)J" } : Jvm.MethodName) prog_35_method_41_code (2 : Nat) (Option.some Jvm.ClassFile.FieldType.long)) ∈ lw_all := lw_g (lw_at lw_m8 21 rfl) rfl
theorem q1752 : (Jvm.Cond.instanceMethod ({ cls := "BranchCellsModel", name := "out", desc := "(II)J" } : Jvm.MethodName)) ∈ lw_all := lw_g (lw_at lw_m8 23 rfl) rfl
theorem q1753 : (Jvm.Cond.selects "BranchCellsModel" ({ cls := "BranchCellsModel", name := "out", desc := "(II)J" } : Jvm.MethodName) ({ cls := "BranchCellsModel", name := "out", desc := "(II)J" } : Jvm.MethodName)) ∈ lw_all := lw_g (lw_at lw_m8 24 rfl) rfl
theorem q1754 : (Jvm.Cond.code ({ cls := "BranchCellsModel", name := "out", desc := "(II)J" } : Jvm.MethodName) prog_35_method_42_code (3 : Nat) (Option.some Jvm.ClassFile.FieldType.long)) ∈ lw_all := lw_g (lw_at lw_m8 25 rfl) rfl
theorem q1756 : (Jvm.Cond.instanceMethod ({ cls := "BranchCellsModel", name := "read", desc := "(II)J" } : Jvm.MethodName)) ∈ lw_all := lw_g (lw_at lw_m8 27 rfl) rfl
theorem q1757 : (Jvm.Cond.selects "BranchCellsModel" ({ cls := "BranchCellsModel", name := "read", desc := "(II)J" } : Jvm.MethodName) ({ cls := "BranchCellsModel", name := "read", desc := "(II)J" } : Jvm.MethodName)) ∈ lw_all := lw_g (lw_at lw_m8 28 rfl) rfl
theorem q1758 : (Jvm.Cond.code ({ cls := "BranchCellsModel", name := "read", desc := "(II)J" } : Jvm.MethodName) prog_35_method_43_code (3 : Nat) (Option.some Jvm.ClassFile.FieldType.long)) ∈ lw_all := lw_g (lw_at lw_m8 29 rfl) rfl
theorem q1760 : (Jvm.Cond.instanceMethod ({ cls := "BranchCellsModel", name := "mark", desc := "(I)J" } : Jvm.MethodName)) ∈ lw_all := lw_g (lw_at lw_m8 31 rfl) rfl
theorem q1761 : (Jvm.Cond.selects "BranchCellsModel" ({ cls := "BranchCellsModel", name := "mark", desc := "(I)J" } : Jvm.MethodName) ({ cls := "BranchCellsModel", name := "mark", desc := "(I)J" } : Jvm.MethodName)) ∈ lw_all := lw_g (lw_at lw_m8 32 rfl) rfl
theorem q1762 : (Jvm.Cond.code ({ cls := "BranchCellsModel", name := "mark", desc := "(I)J" } : Jvm.MethodName) prog_35_method_44_code (2 : Nat) (Option.some Jvm.ClassFile.FieldType.long)) ∈ lw_all := lw_g (lw_at lw_m8 33 rfl) rfl
theorem q1764 : (Jvm.Cond.instanceMethod ({ cls := "BranchCellsModel", name := "gather", desc := "()I" } : Jvm.MethodName)) ∈ lw_all := lw_g (lw_at lw_m8 35 rfl) rfl
theorem q1765 : (Jvm.Cond.selects "BranchCellsModel" ({ cls := "BranchCellsModel", name := "gather", desc := "()I" } : Jvm.MethodName) ({ cls := "BranchCellsModel", name := "gather", desc := "()I" } : Jvm.MethodName)) ∈ lw_all := lw_g (lw_at lw_m8 36 rfl) rfl
theorem q1766 : (Jvm.Cond.code ({ cls := "BranchCellsModel", name := "gather", desc := "()I" } : Jvm.MethodName) prog_35_method_48_code (5 : Nat) (Option.some Jvm.ClassFile.FieldType.int)) ∈ lw_all := lw_g (lw_at lw_m8 37 rfl) rfl
theorem q1767 : (Jvm.Cond.methodLink "BranchCellsModel" (265 : Nat) ({ cls := "BranchCellsModel", name := "versions", desc := "()I" } : Jvm.MethodName)) ∈ lw_all := lw_g (lw_at lw_m8 38 rfl) rfl
theorem q1768 : (Jvm.Cond.privateMethod ({ cls := "BranchCellsModel", name := "versions", desc := "()I" } : Jvm.MethodName)) ∈ lw_tbl := lw_at lw_m8 39 rfl
theorem q1769 : (Jvm.Cond.instanceMethod ({ cls := "BranchCellsModel", name := "versions", desc := "()I" } : Jvm.MethodName)) ∈ lw_all := lw_g (lw_at lw_m8 40 rfl) rfl
theorem q1770 : (Jvm.Cond.code ({ cls := "BranchCellsModel", name := "versions", desc := "()I" } : Jvm.MethodName) prog_35_method_46_code (3 : Nat) (Option.some Jvm.ClassFile.FieldType.int)) ∈ lw_all := lw_g (lw_at lw_m8 41 rfl) rfl
theorem q1771 : (Jvm.Cond.methodLink "BranchCellsModel" (262 : Nat) ({ cls := "BranchCellsModel", name := "hold", desc := "()V" } : Jvm.MethodName)) ∈ lw_all := lw_g (lw_at lw_m8 42 rfl) rfl
theorem q1772 : (Jvm.Cond.privateMethod ({ cls := "BranchCellsModel", name := "hold", desc := "()V" } : Jvm.MethodName)) ∈ lw_tbl := lw_at lw_m8 43 rfl
theorem q1773 : (Jvm.Cond.instanceMethod ({ cls := "BranchCellsModel", name := "hold", desc := "()V" } : Jvm.MethodName)) ∈ lw_all := lw_g (lw_at lw_m8 44 rfl) rfl
theorem q1774 : (Jvm.Cond.code ({ cls := "BranchCellsModel", name := "hold", desc := "()V" } : Jvm.MethodName) prog_35_method_45_code (3 : Nat) (Option.none : Option Jvm.ClassFile.FieldType)) ∈ lw_all := lw_g (lw_at lw_m8 45 rfl) rfl
theorem q1775 : (Jvm.Cond.methodLink "BranchCellsModel" (268 : Nat) ({ cls := "BranchCellsModel", name := "goesTo", desc := "(I)I" } : Jvm.MethodName)) ∈ lw_all := lw_g (lw_at lw_m8 46 rfl) rfl
theorem q1776 : (Jvm.Cond.privateMethod ({ cls := "BranchCellsModel", name := "goesTo", desc := "(I)I" } : Jvm.MethodName)) ∈ lw_tbl := lw_at lw_m8 47 rfl
theorem q1777 : (Jvm.Cond.instanceMethod ({ cls := "BranchCellsModel", name := "goesTo", desc := "(I)I" } : Jvm.MethodName)) ∈ lw_all := lw_g (lw_at lw_m8 48 rfl) rfl
theorem q1778 : (Jvm.Cond.code ({ cls := "BranchCellsModel", name := "goesTo", desc := "(I)I" } : Jvm.MethodName) prog_35_method_47_code (4 : Nat) (Option.some Jvm.ClassFile.FieldType.int)) ∈ lw_all := lw_g (lw_at lw_m8 49 rfl) rfl
theorem q1780 : (Jvm.Cond.instanceMethod ({ cls := "BranchCellsModel", name := "version", desc := "(II)J" } : Jvm.MethodName)) ∈ lw_all := lw_g (lw_at lw_m8 51 rfl) rfl
theorem q1781 : (Jvm.Cond.selects "BranchCellsModel" ({ cls := "BranchCellsModel", name := "version", desc := "(II)J" } : Jvm.MethodName) ({ cls := "BranchCellsModel", name := "version", desc := "(II)J" } : Jvm.MethodName)) ∈ lw_all := lw_g (lw_at lw_m8 52 rfl) rfl
theorem q1782 : (Jvm.Cond.code ({ cls := "BranchCellsModel", name := "version", desc := "(II)J" } : Jvm.MethodName) prog_35_method_50_code (3 : Nat) (Option.some Jvm.ClassFile.FieldType.long)) ∈ lw_all := lw_g (lw_at lw_m8 53 rfl) rfl
theorem q1783 : (Jvm.Cond.methodLink "BranchCellsModel" (271 : Nat) ({ cls := "BranchCellsModel", name := "isHeld", desc := "(I)Z" } : Jvm.MethodName)) ∈ lw_all := lw_g (lw_at lw_m8 54 rfl) rfl
theorem q1784 : (Jvm.Cond.privateMethod ({ cls := "BranchCellsModel", name := "isHeld", desc := "(I)Z" } : Jvm.MethodName)) ∈ lw_tbl := lw_at lw_m8 55 rfl
theorem q1785 : (Jvm.Cond.instanceMethod ({ cls := "BranchCellsModel", name := "isHeld", desc := "(I)Z" } : Jvm.MethodName)) ∈ lw_all := lw_g (lw_at lw_m8 56 rfl) rfl
theorem q1786 : (Jvm.Cond.code ({ cls := "BranchCellsModel", name := "isHeld", desc := "(I)Z" } : Jvm.MethodName) prog_35_method_49_code (2 : Nat) (Option.some Jvm.ClassFile.FieldType.boolean)) ∈ lw_all := lw_g (lw_at lw_m8 57 rfl) rfl
theorem q1788 : (Jvm.Cond.instanceMethod ({ cls := "BranchCellsModel", name := "below", desc := "(I)I" } : Jvm.MethodName)) ∈ lw_all := lw_g (lw_at lw_m8 59 rfl) rfl
theorem q1789 : (Jvm.Cond.selects "BranchCellsModel" ({ cls := "BranchCellsModel", name := "below", desc := "(I)I" } : Jvm.MethodName) ({ cls := "BranchCellsModel", name := "below", desc := "(I)I" } : Jvm.MethodName)) ∈ lw_all := lw_g (lw_at lw_m8 60 rfl) rfl
theorem q1790 : (Jvm.Cond.code ({ cls := "BranchCellsModel", name := "below", desc := "(I)I" } : Jvm.MethodName) prog_35_method_51_code (2 : Nat) (Option.some Jvm.ClassFile.FieldType.int)) ∈ lw_all := lw_g (lw_at lw_m8 61 rfl) rfl
theorem q1792 : (Jvm.Cond.instanceMethod ({ cls := "BranchCellsModel", name := "count", desc := "(I)I" } : Jvm.MethodName)) ∈ lw_all := lw_g (lw_at lw_m8 63 rfl) rfl
theorem q1793 : (Jvm.Cond.selects "BranchCellsModel" ({ cls := "BranchCellsModel", name := "count", desc := "(I)I" } : Jvm.MethodName) ({ cls := "BranchCellsModel", name := "count", desc := "(I)I" } : Jvm.MethodName)) ∈ lw_all := lw_g (lw_at lw_m8 64 rfl) rfl
theorem q1794 : (Jvm.Cond.code ({ cls := "BranchCellsModel", name := "count", desc := "(I)I" } : Jvm.MethodName) prog_35_method_52_code (4 : Nat) (Option.some Jvm.ClassFile.FieldType.int)) ∈ lw_all := lw_g (lw_at lw_m8 65 rfl) rfl
theorem q1796 : (Jvm.Cond.instanceMethod ({ cls := "BranchCellsModel", name := "digest", desc := "()J" } : Jvm.MethodName)) ∈ lw_all := lw_g (lw_at lw_m8 67 rfl) rfl
theorem q1797 : (Jvm.Cond.selects "BranchCellsModel" ({ cls := "BranchCellsModel", name := "digest", desc := "()J" } : Jvm.MethodName) ({ cls := "BranchCellsModel", name := "digest", desc := "()J" } : Jvm.MethodName)) ∈ lw_all := lw_g (lw_at lw_m8 68 rfl) rfl
theorem q1798 : (Jvm.Cond.code ({ cls := "BranchCellsModel", name := "digest", desc := "()J" } : Jvm.MethodName) prog_35_method_53_code (5 : Nat) (Option.some Jvm.ClassFile.FieldType.long)) ∈ lw_all := lw_g (lw_at lw_m8 69 rfl) rfl
theorem q1799 : (Jvm.Cond.constantLong "BranchCellsModel" (274 : Nat) (13 : Int64)) ∈ lw_all := lw_g (lw_at lw_m8 70 rfl) rfl
theorem q1800 : (Jvm.Cond.methodLink "BranchCellsModel" (276 : Nat) ({ cls := "BranchCellsModel", name := "count", desc := "(I)I" } : Jvm.MethodName)) ∈ lw_all := lw_g (lw_at lw_m8 71 rfl) rfl
theorem q1801 : (Jvm.Cond.methodLink "BranchCellsModel" (279 : Nat) ({ cls := "BranchCellsModel", name := "about", desc := "(II)I" } : Jvm.MethodName)) ∈ lw_all := lw_g (lw_at lw_m8 72 rfl) rfl
theorem q1802 : (Jvm.Cond.methodLink "BranchCellsModel" (283 : Nat) ({ cls := "BranchCellsModel", name := "result", desc := "(I)J" } : Jvm.MethodName)) ∈ lw_all := lw_g (lw_at lw_m8 73 rfl) rfl
theorem q1803 : (Jvm.Cond.methodLink "BranchCellsModel" (286 : Nat) ({ cls := "BranchCellsModel", name := "read", desc := "(II)J" } : Jvm.MethodName)) ∈ lw_all := lw_g (lw_at lw_m8 74 rfl) rfl
theorem q1833 : (Jvm.Cond.castable "BranchCellsModel" "java/lang/Object") ∈ lw_tbl := lw_at lw_m8 104 rfl
theorem in_X25 : ∀ w ∈ wsX250, w ∈ lw_all := lw_in wsX250 [1496, 1498, 1500, 1502, 1504, 1506, 1508, 1510, 1512, 1514, 1516, 1518, 1520, 1522, 1524, 1526, 1528, 1530, 1532, 1534, 1536, 1538, 1540, 1542, 1544, 1546, 1548, 1550, 1552, 1554, 1556, 1558, 1560, 1562, 1564, 1566, 1568, 1570, 1572, 1574, 1576] (by decide +kernel) (by decide +kernel)
theorem nmX26 : ∀ a, a < 3 → ∀ b, b < 3 → a ≠ b → (TX26 a).2.1 ≠ (TX26 b).2.1 := by decide +kernel
theorem tyX26_ok : ∀ k, k < 3 → parseFieldDescriptor (TX26 k).2.2.1 = some (tyX26 k) := by decide +kernel
theorem q79 : (Jvm.Cond.initialized "BranchCells$Block") ∈ lw_all := lw_g (lw_at lw_m1 30 rfl) rfl
theorem q483 : (Jvm.Cond.instantiable "BranchCells$Block" (3 : Nat)) ∈ lw_all := lw_g (lw_at lw_m2 194 rfl) rfl
theorem q485 : (Jvm.Cond.instanceMethod ({ cls := "BranchCells$Block", name := "<init>", desc := "()V" } : Jvm.MethodName)) ∈ lw_all := lw_g (lw_at lw_m2 196 rfl) rfl
theorem q486 : (Jvm.Cond.code ({ cls := "BranchCells$Block", name := "<init>", desc := "()V" } : Jvm.MethodName) prog_24_method_1_code (1 : Nat) (Option.none : Option Jvm.ClassFile.FieldType)) ∈ lw_all := lw_g (lw_at lw_m2 197 rfl) rfl
theorem q487 : (Jvm.Cond.methodLink "BranchCells$Block" (3 : Nat) ({ cls := "java/lang/Object", name := "<init>", desc := "()V" } : Jvm.MethodName)) ∈ lw_all := lw_g (lw_at lw_m2 198 rfl) rfl
theorem q488 : (Jvm.Cond.fieldLink "BranchCells$Block" (9 : Nat) "BranchCells$Block" "ops" "[I") ∈ lw_all := lw_g (lw_at lw_m2 199 rfl) rfl
theorem q491 : (Jvm.Cond.fieldLink "BranchCells$Block" (15 : Nat) "BranchCells$Block" "as" "[I") ∈ lw_all := lw_g (lw_at lw_m2 202 rfl) rfl
theorem q495 : (Jvm.Cond.laysFinal "BranchCells$Block" "BranchCells$Block" "ops" "[I") ∈ lw_all := lw_g (lw_at lw_m2 206 rfl) rfl
theorem q496 : (Jvm.Cond.soleField "BranchCells$Block" "ops") ∈ lw_all := lw_g (lw_at lw_m2 207 rfl) rfl
theorem q497 : (Jvm.Cond.laysFinal "BranchCells$Block" "BranchCells$Block" "as" "[I") ∈ lw_all := lw_g (lw_at lw_m2 208 rfl) rfl
theorem q498 : (Jvm.Cond.soleField "BranchCells$Block" "as") ∈ lw_all := lw_g (lw_at lw_m2 209 rfl) rfl
theorem q499 : (Jvm.Cond.lays "BranchCells$Block" "BranchCells$Block" "size" "I") ∈ lw_all := lw_g (lw_at lw_m2 210 rfl) rfl
theorem q500 : (Jvm.Cond.soleField "BranchCells$Block" "size") ∈ lw_all := lw_g (lw_at lw_m2 211 rfl) rfl
theorem q501 : (Jvm.Cond.superclass "BranchCells$Block" "java/lang/Object") ∈ lw_all := lw_g (lw_at lw_m2 212 rfl) rfl
theorem q562 : (Jvm.Cond.selects "BranchCells$Block" ({ cls := "java/lang/Object", name := "getClass", desc := "()Ljava/lang/Class;" } : Jvm.MethodName) ({ cls := "java/lang/Object", name := "getClass", desc := "()Ljava/lang/Class;" } : Jvm.MethodName)) ∈ lw_all := lw_g (lw_at lw_m3 33 rfl) rfl
theorem q1355 : (Jvm.Cond.selects "BranchCells$Block" ({ cls := "java/lang/Object", name := "equals", desc := "(Ljava/lang/Object;)Z" } : Jvm.MethodName) ({ cls := "java/lang/Object", name := "equals", desc := "(Ljava/lang/Object;)Z" } : Jvm.MethodName)) ∈ lw_all := lw_g (lw_at lw_m6 106 rfl) rfl
theorem q1834 : (Jvm.Cond.castable "BranchCells$Block" "java/lang/Object") ∈ lw_tbl := lw_at lw_m8 105 rfl
theorem in_X26 : ∀ w ∈ wsX260, w ∈ lw_all := lw_in wsX260 [495, 497, 499] (by decide +kernel) (by decide +kernel)
theorem nmX27 : ∀ a, a < 4 → ∀ b, b < 4 → a ≠ b → (TX27 a).2.1 ≠ (TX27 b).2.1 := by decide +kernel
theorem tyX27_ok : ∀ k, k < 4 → parseFieldDescriptor (TX27 k).2.2.1 = some (tyX27 k) := by decide +kernel
theorem q86 : (Jvm.Cond.initialized "BranchCells$Merger") ∈ lw_all := lw_g (lw_at lw_m1 37 rfl) rfl
theorem q564 : (Jvm.Cond.selects "BranchCells$Merger" ({ cls := "java/lang/Object", name := "getClass", desc := "()Ljava/lang/Class;" } : Jvm.MethodName) ({ cls := "java/lang/Object", name := "getClass", desc := "()Ljava/lang/Class;" } : Jvm.MethodName)) ∈ lw_all := lw_g (lw_at lw_m3 35 rfl) rfl
theorem q626 : (Jvm.Cond.instantiable "BranchCells$Merger" (4 : Nat)) ∈ lw_all := lw_g (lw_at lw_m3 97 rfl) rfl
theorem q628 : (Jvm.Cond.instanceMethod ({ cls := "BranchCells$Merger", name := "<init>", desc := "()V" } : Jvm.MethodName)) ∈ lw_all := lw_g (lw_at lw_m3 99 rfl) rfl
theorem q629 : (Jvm.Cond.code ({ cls := "BranchCells$Merger", name := "<init>", desc := "()V" } : Jvm.MethodName) prog_27_method_1_code (1 : Nat) (Option.none : Option Jvm.ClassFile.FieldType)) ∈ lw_all := lw_g (lw_at lw_m3 100 rfl) rfl
theorem q630 : (Jvm.Cond.methodLink "BranchCells$Merger" (3 : Nat) ({ cls := "java/lang/Object", name := "<init>", desc := "()V" } : Jvm.MethodName)) ∈ lw_all := lw_g (lw_at lw_m3 101 rfl) rfl
theorem q631 : (Jvm.Cond.fieldLink "BranchCells$Merger" (9 : Nat) "BranchCells$Merger" "ops" "[I") ∈ lw_all := lw_g (lw_at lw_m3 102 rfl) rfl
theorem q633 : (Jvm.Cond.fieldLink "BranchCells$Merger" (15 : Nat) "BranchCells$Merger" "as" "[I") ∈ lw_all := lw_g (lw_at lw_m3 104 rfl) rfl
theorem q635 : (Jvm.Cond.fieldLink "BranchCells$Merger" (22 : Nat) "BranchCells$Merger" "size" "I") ∈ lw_all := lw_g (lw_at lw_m3 106 rfl) rfl
theorem q637 : (Jvm.Cond.fieldLink "BranchCells$Merger" (18 : Nat) "BranchCells$Merger" "pile" "[J") ∈ lw_all := lw_g (lw_at lw_m3 108 rfl) rfl
theorem q638 : (Jvm.Cond.laysFinal "BranchCells$Merger" "BranchCells$Merger" "ops" "[I") ∈ lw_all := lw_g (lw_at lw_m3 109 rfl) rfl
theorem q639 : (Jvm.Cond.soleField "BranchCells$Merger" "ops") ∈ lw_all := lw_g (lw_at lw_m3 110 rfl) rfl
theorem q640 : (Jvm.Cond.laysFinal "BranchCells$Merger" "BranchCells$Merger" "as" "[I") ∈ lw_all := lw_g (lw_at lw_m3 111 rfl) rfl
theorem q641 : (Jvm.Cond.soleField "BranchCells$Merger" "as") ∈ lw_all := lw_g (lw_at lw_m3 112 rfl) rfl
theorem q642 : (Jvm.Cond.lays "BranchCells$Merger" "BranchCells$Merger" "size" "I") ∈ lw_all := lw_g (lw_at lw_m3 113 rfl) rfl
theorem q643 : (Jvm.Cond.soleField "BranchCells$Merger" "size") ∈ lw_all := lw_g (lw_at lw_m3 114 rfl) rfl
theorem q644 : (Jvm.Cond.laysFinal "BranchCells$Merger" "BranchCells$Merger" "pile" "[J") ∈ lw_all := lw_g (lw_at lw_m3 115 rfl) rfl
theorem q645 : (Jvm.Cond.soleField "BranchCells$Merger" "pile") ∈ lw_all := lw_g (lw_at lw_m3 116 rfl) rfl
theorem q646 : (Jvm.Cond.superclass "BranchCells$Merger" "java/lang/Object") ∈ lw_all := lw_g (lw_at lw_m3 117 rfl) rfl
theorem q663 : (Jvm.Cond.instanceMethod ({ cls := "BranchCells$Merger", name := "isRight", desc := "()Z" } : Jvm.MethodName)) ∈ lw_all := lw_g (lw_at lw_m3 134 rfl) rfl
theorem q664 : (Jvm.Cond.selects "BranchCells$Merger" ({ cls := "BranchCells$Merger", name := "isRight", desc := "()Z" } : Jvm.MethodName) ({ cls := "BranchCells$Merger", name := "isRight", desc := "()Z" } : Jvm.MethodName)) ∈ lw_all := lw_g (lw_at lw_m3 135 rfl) rfl
theorem q665 : (Jvm.Cond.code ({ cls := "BranchCells$Merger", name := "isRight", desc := "()Z" } : Jvm.MethodName) prog_27_method_2_code (3 : Nat) (Option.some Jvm.ClassFile.FieldType.boolean)) ∈ lw_all := lw_g (lw_at lw_m3 136 rfl) rfl
theorem q667 : (Jvm.Cond.instanceMethod ({ cls := "BranchCells$Merger", name := "tells", desc := "(JJJ)J" } : Jvm.MethodName)) ∈ lw_all := lw_g (lw_at lw_m3 138 rfl) rfl
theorem q668 : (Jvm.Cond.selects "BranchCells$Merger" ({ cls := "BranchCells$Merger", name := "tells", desc := "(JJJ)J" } : Jvm.MethodName) ({ cls := "BranchCells$Merger", name := "tells", desc := "(JJJ)J" } : Jvm.MethodName)) ∈ lw_all := lw_g (lw_at lw_m3 139 rfl) rfl
theorem q669 : (Jvm.Cond.code ({ cls := "BranchCells$Merger", name := "tells", desc := "(JJJ)J" } : Jvm.MethodName) prog_27_method_3_code (9 : Nat) (Option.some Jvm.ClassFile.FieldType.long)) ∈ lw_all := lw_g (lw_at lw_m3 140 rfl) rfl
theorem q670 : (Jvm.Cond.methodLink "BranchCells$Merger" (26 : Nat) ({ cls := "BranchCells$Merger", name := "worked", desc := "(IJJ)J" } : Jvm.MethodName)) ∈ lw_all := lw_g (lw_at lw_m3 141 rfl) rfl
theorem q671 : (Jvm.Cond.static ({ cls := "BranchCells$Merger", name := "worked", desc := "(IJJ)J" } : Jvm.MethodName)) ∈ lw_all := lw_g (lw_at lw_m3 142 rfl) rfl
theorem q672 : (Jvm.Cond.code ({ cls := "BranchCells$Merger", name := "worked", desc := "(IJJ)J" } : Jvm.MethodName) prog_27_method_4_code (5 : Nat) (Option.some Jvm.ClassFile.FieldType.long)) ∈ lw_all := lw_g (lw_at lw_m3 143 rfl) rfl
theorem q673 : (Jvm.Cond.methodLink "BranchCells$Merger" (30 : Nat) ({ cls := "java/lang/Math", name := "min", desc := "(JJ)J" } : Jvm.MethodName)) ∈ lw_all := lw_g (lw_at lw_m3 144 rfl) rfl
theorem q676 : (Jvm.Cond.methodLink "BranchCells$Merger" (36 : Nat) ({ cls := "java/lang/Math", name := "max", desc := "(JJ)J" } : Jvm.MethodName)) ∈ lw_all := lw_g (lw_at lw_m3 147 rfl) rfl
theorem q1357 : (Jvm.Cond.selects "BranchCells$Merger" ({ cls := "java/lang/Object", name := "equals", desc := "(Ljava/lang/Object;)Z" } : Jvm.MethodName) ({ cls := "java/lang/Object", name := "equals", desc := "(Ljava/lang/Object;)Z" } : Jvm.MethodName)) ∈ lw_all := lw_g (lw_at lw_m6 108 rfl) rfl
theorem q1835 : (Jvm.Cond.castable "BranchCells$Merger" "java/lang/Object") ∈ lw_tbl := lw_at lw_m8 106 rfl
theorem in_X27 : ∀ w ∈ wsX270, w ∈ lw_all := lw_in wsX270 [638, 640, 642, 644] (by decide +kernel) (by decide +kernel)
theorem nmX28 : ∀ a, a < 9 → ∀ b, b < 9 → a ≠ b → (TX28 a).2.1 ≠ (TX28 b).2.1 := by decide +kernel
theorem tyX28_ok : ∀ k, k < 9 → parseFieldDescriptor (TX28 k).2.2.1 = some (tyX28 k) := by decide +kernel
theorem q87 : (Jvm.Cond.initialized "BranchCells$Segment") ∈ lw_all := lw_g (lw_at lw_m1 38 rfl) rfl
theorem q566 : (Jvm.Cond.selects "BranchCells$Segment" ({ cls := "java/lang/Object", name := "getClass", desc := "()Ljava/lang/Class;" } : Jvm.MethodName) ({ cls := "java/lang/Object", name := "getClass", desc := "()Ljava/lang/Class;" } : Jvm.MethodName)) ∈ lw_all := lw_g (lw_at lw_m3 37 rfl) rfl
theorem q720 : (Jvm.Cond.instantiable "BranchCells$Segment" (9 : Nat)) ∈ lw_all := lw_g (lw_at lw_m3 191 rfl) rfl
theorem q722 : (Jvm.Cond.instanceMethod ({ cls := "BranchCells$Segment", name := "<init>", desc := "(ILBranchCells$Segment;)V" } : Jvm.MethodName)) ∈ lw_all := lw_g (lw_at lw_m3 193 rfl) rfl
theorem q723 : (Jvm.Cond.code ({ cls := "BranchCells$Segment", name := "<init>", desc := "(ILBranchCells$Segment;)V" } : Jvm.MethodName) prog_30_method_1_code (3 : Nat) (Option.none : Option Jvm.ClassFile.FieldType)) ∈ lw_all := lw_g (lw_at lw_m3 194 rfl) rfl
theorem q724 : (Jvm.Cond.methodLink "BranchCells$Segment" (3 : Nat) ({ cls := "java/lang/Object", name := "<init>", desc := "()V" } : Jvm.MethodName)) ∈ lw_all := lw_g (lw_at lw_m3 195 rfl) rfl
theorem q725 : (Jvm.Cond.fieldLink "BranchCells$Segment" (15 : Nat) "BranchCells$Segment" "number" "I") ∈ lw_all := lw_g (lw_at lw_m3 196 rfl) rfl
theorem q727 : (Jvm.Cond.fieldLink "BranchCells$Segment" (19 : Nat) "BranchCells$Segment" "below" "LBranchCells$Segment;") ∈ lw_all := lw_g (lw_at lw_m3 198 rfl) rfl
theorem q729 : (Jvm.Cond.fieldLink "BranchCells$Segment" (9 : Nat) "BranchCells$Segment" "values" "[J") ∈ lw_all := lw_g (lw_at lw_m3 200 rfl) rfl
theorem q731 : (Jvm.Cond.fieldLink "BranchCells$Segment" (23 : Nat) "BranchCells$Segment" "has" "I") ∈ lw_all := lw_g (lw_at lw_m3 202 rfl) rfl
theorem q733 : (Jvm.Cond.fieldLink "BranchCells$Segment" (35 : Nat) "BranchCells$Segment" "held" "Z") ∈ lw_all := lw_g (lw_at lw_m3 204 rfl) rfl
theorem q735 : (Jvm.Cond.fieldLink "BranchCells$Segment" (39 : Nat) "BranchCells$Segment" "present" "Z") ∈ lw_all := lw_g (lw_at lw_m3 206 rfl) rfl
theorem q737 : (Jvm.Cond.fieldLink "BranchCells$Segment" (42 : Nat) "BranchCells$Segment" "root" "Z") ∈ lw_all := lw_g (lw_at lw_m3 208 rfl) rfl
theorem q739 : (Jvm.Cond.fieldLink "BranchCells$Segment" (45 : Nat) "BranchCells$Segment" "above" "I") ∈ lw_all := lw_g (lw_at lw_m3 210 rfl) rfl
theorem q741 : (Jvm.Cond.fieldLink "BranchCells$Segment" (48 : Nat) "BranchCells$Segment" "upper" "LBranchCells$Segment;") ∈ lw_all := lw_g (lw_at lw_m3 212 rfl) rfl
theorem q743 : (Jvm.Cond.laysFinal "BranchCells$Segment" "BranchCells$Segment" "number" "I") ∈ lw_all := lw_g (lw_at lw_m3 214 rfl) rfl
theorem q744 : (Jvm.Cond.soleField "BranchCells$Segment" "number") ∈ lw_all := lw_g (lw_at lw_m3 215 rfl) rfl
theorem q745 : (Jvm.Cond.lays "BranchCells$Segment" "BranchCells$Segment" "below" "LBranchCells$Segment;") ∈ lw_all := lw_g (lw_at lw_m3 216 rfl) rfl
theorem q746 : (Jvm.Cond.soleField "BranchCells$Segment" "below") ∈ lw_all := lw_g (lw_at lw_m3 217 rfl) rfl
theorem q747 : (Jvm.Cond.laysFinal "BranchCells$Segment" "BranchCells$Segment" "values" "[J") ∈ lw_all := lw_g (lw_at lw_m3 218 rfl) rfl
theorem q748 : (Jvm.Cond.soleField "BranchCells$Segment" "values") ∈ lw_all := lw_g (lw_at lw_m3 219 rfl) rfl
theorem q749 : (Jvm.Cond.lays "BranchCells$Segment" "BranchCells$Segment" "has" "I") ∈ lw_all := lw_g (lw_at lw_m3 220 rfl) rfl
theorem q750 : (Jvm.Cond.soleField "BranchCells$Segment" "has") ∈ lw_all := lw_g (lw_at lw_m3 221 rfl) rfl
theorem q751 : (Jvm.Cond.lays "BranchCells$Segment" "BranchCells$Segment" "held" "Z") ∈ lw_all := lw_g (lw_at lw_m3 222 rfl) rfl
theorem q752 : (Jvm.Cond.soleField "BranchCells$Segment" "held") ∈ lw_all := lw_g (lw_at lw_m3 223 rfl) rfl
theorem q753 : (Jvm.Cond.lays "BranchCells$Segment" "BranchCells$Segment" "present" "Z") ∈ lw_all := lw_g (lw_at lw_m3 224 rfl) rfl
theorem q754 : (Jvm.Cond.soleField "BranchCells$Segment" "present") ∈ lw_all := lw_g (lw_at lw_m3 225 rfl) rfl
theorem q755 : (Jvm.Cond.lays "BranchCells$Segment" "BranchCells$Segment" "root" "Z") ∈ lw_all := lw_g (lw_at lw_m3 226 rfl) rfl
theorem q756 : (Jvm.Cond.soleField "BranchCells$Segment" "root") ∈ lw_all := lw_g (lw_at lw_m3 227 rfl) rfl
theorem q757 : (Jvm.Cond.lays "BranchCells$Segment" "BranchCells$Segment" "above" "I") ∈ lw_all := lw_g (lw_at lw_m3 228 rfl) rfl
theorem q758 : (Jvm.Cond.soleField "BranchCells$Segment" "above") ∈ lw_all := lw_g (lw_at lw_m3 229 rfl) rfl
theorem q759 : (Jvm.Cond.lays "BranchCells$Segment" "BranchCells$Segment" "upper" "LBranchCells$Segment;") ∈ lw_all := lw_g (lw_at lw_m3 230 rfl) rfl
theorem q760 : (Jvm.Cond.soleField "BranchCells$Segment" "upper") ∈ lw_all := lw_g (lw_at lw_m3 231 rfl) rfl
theorem q761 : (Jvm.Cond.superclass "BranchCells$Segment" "java/lang/Object") ∈ lw_all := lw_g (lw_at lw_m3 232 rfl) rfl
theorem q1171 : (Jvm.Cond.static ({ cls := "BranchCells$Segment", name := "read", desc := "(LBranchCells$Segment;I)J" } : Jvm.MethodName)) ∈ lw_all := lw_g (lw_at lw_m5 162 rfl) rfl
theorem q1172 : (Jvm.Cond.code ({ cls := "BranchCells$Segment", name := "read", desc := "(LBranchCells$Segment;I)J" } : Jvm.MethodName) prog_30_method_4_code (3 : Nat) (Option.some Jvm.ClassFile.FieldType.long)) ∈ lw_all := lw_g (lw_at lw_m5 163 rfl) rfl
theorem q1173 : (Jvm.Cond.methodLink "BranchCells$Segment" (26 : Nat) ({ cls := "BranchCells$Segment", name := "has", desc := "(I)Z" } : Jvm.MethodName)) ∈ lw_all := lw_g (lw_at lw_m5 164 rfl) rfl
theorem q1174 : (Jvm.Cond.instanceMethod ({ cls := "BranchCells$Segment", name := "has", desc := "(I)Z" } : Jvm.MethodName)) ∈ lw_all := lw_g (lw_at lw_m5 165 rfl) rfl
theorem q1175 : (Jvm.Cond.selects "BranchCells$Segment" ({ cls := "BranchCells$Segment", name := "has", desc := "(I)Z" } : Jvm.MethodName) ({ cls := "BranchCells$Segment", name := "has", desc := "(I)Z" } : Jvm.MethodName)) ∈ lw_all := lw_g (lw_at lw_m5 166 rfl) rfl
theorem q1176 : (Jvm.Cond.code ({ cls := "BranchCells$Segment", name := "has", desc := "(I)Z" } : Jvm.MethodName) prog_30_method_2_code (2 : Nat) (Option.some Jvm.ClassFile.FieldType.boolean)) ∈ lw_all := lw_g (lw_at lw_m5 167 rfl) rfl
theorem q1182 : (Jvm.Cond.instanceMethod ({ cls := "BranchCells$Segment", name := "write", desc := "(IJ)V" } : Jvm.MethodName)) ∈ lw_all := lw_g (lw_at lw_m5 173 rfl) rfl
theorem q1183 : (Jvm.Cond.selects "BranchCells$Segment" ({ cls := "BranchCells$Segment", name := "write", desc := "(IJ)V" } : Jvm.MethodName) ({ cls := "BranchCells$Segment", name := "write", desc := "(IJ)V" } : Jvm.MethodName)) ∈ lw_all := lw_g (lw_at lw_m5 174 rfl) rfl
theorem q1184 : (Jvm.Cond.code ({ cls := "BranchCells$Segment", name := "write", desc := "(IJ)V" } : Jvm.MethodName) prog_30_method_3_code (4 : Nat) (Option.none : Option Jvm.ClassFile.FieldType)) ∈ lw_all := lw_g (lw_at lw_m5 175 rfl) rfl
theorem q1301 : (Jvm.Cond.instanceMethod ({ cls := "BranchCells$Segment", name := "forgets", desc := "()V" } : Jvm.MethodName)) ∈ lw_all := lw_g (lw_at lw_m6 52 rfl) rfl
theorem q1302 : (Jvm.Cond.selects "BranchCells$Segment" ({ cls := "BranchCells$Segment", name := "forgets", desc := "()V" } : Jvm.MethodName) ({ cls := "BranchCells$Segment", name := "forgets", desc := "()V" } : Jvm.MethodName)) ∈ lw_all := lw_g (lw_at lw_m6 53 rfl) rfl
theorem q1303 : (Jvm.Cond.code ({ cls := "BranchCells$Segment", name := "forgets", desc := "()V" } : Jvm.MethodName) prog_30_method_6_code (1 : Nat) (Option.none : Option Jvm.ClassFile.FieldType)) ∈ lw_all := lw_g (lw_at lw_m6 54 rfl) rfl
theorem q1305 : (Jvm.Cond.instanceMethod ({ cls := "BranchCells$Segment", name := "many", desc := "()I" } : Jvm.MethodName)) ∈ lw_all := lw_g (lw_at lw_m6 56 rfl) rfl
theorem q1306 : (Jvm.Cond.selects "BranchCells$Segment" ({ cls := "BranchCells$Segment", name := "many", desc := "()I" } : Jvm.MethodName) ({ cls := "BranchCells$Segment", name := "many", desc := "()I" } : Jvm.MethodName)) ∈ lw_all := lw_g (lw_at lw_m6 57 rfl) rfl
theorem q1307 : (Jvm.Cond.code ({ cls := "BranchCells$Segment", name := "many", desc := "()I" } : Jvm.MethodName) prog_30_method_5_code (1 : Nat) (Option.some Jvm.ClassFile.FieldType.int)) ∈ lw_all := lw_g (lw_at lw_m6 58 rfl) rfl
theorem q1308 : (Jvm.Cond.methodLink "BranchCells$Segment" (29 : Nat) ({ cls := "java/lang/Integer", name := "bitCount", desc := "(I)I" } : Jvm.MethodName)) ∈ lw_all := lw_g (lw_at lw_m6 59 rfl) rfl
theorem q1359 : (Jvm.Cond.selects "BranchCells$Segment" ({ cls := "java/lang/Object", name := "equals", desc := "(Ljava/lang/Object;)Z" } : Jvm.MethodName) ({ cls := "java/lang/Object", name := "equals", desc := "(Ljava/lang/Object;)Z" } : Jvm.MethodName)) ∈ lw_all := lw_g (lw_at lw_m6 110 rfl) rfl
theorem q1836 : (Jvm.Cond.castable "BranchCells$Segment" "java/lang/Object") ∈ lw_tbl := lw_at lw_m8 107 rfl
theorem in_X28 : ∀ w ∈ wsX280, w ∈ lw_all := lw_in wsX280 [743, 745, 747, 749, 751, 753, 755, 757, 759] (by decide +kernel) (by decide +kernel)
theorem nmX29 : ∀ a, a < 20 → ∀ b, b < 20 → a ≠ b → (TX29 a).2.1 ≠ (TX29 b).2.1 := by decide +kernel
theorem tyX29_ok : ∀ k, k < 20 → parseFieldDescriptor (TX29 k).2.2.1 = some (tyX29 k) := by decide +kernel
theorem q88 : (Jvm.Cond.initialized "BranchCells$Task") ∈ lw_all := lw_g (lw_at lw_m1 39 rfl) rfl
theorem q489 : (Jvm.Cond.fieldLinkNest "BranchCells$Task" (81 : Nat) "BranchCells$Block" "ops" "[I" "BranchCells") ∈ lw_tbl := lw_at lw_m2 200 rfl
theorem q493 : (Jvm.Cond.fieldLinkNest "BranchCells$Task" (127 : Nat) "BranchCells$Block" "size" "I" "BranchCells") ∈ lw_tbl := lw_at lw_m2 204 rfl
theorem q568 : (Jvm.Cond.selects "BranchCells$Task" ({ cls := "java/lang/Object", name := "getClass", desc := "()Ljava/lang/Class;" } : Jvm.MethodName) ({ cls := "java/lang/Object", name := "getClass", desc := "()Ljava/lang/Class;" } : Jvm.MethodName)) ∈ lw_all := lw_g (lw_at lw_m3 39 rfl) rfl
theorem q767 : (Jvm.Cond.instantiable "BranchCells$Task" (20 : Nat)) ∈ lw_all := lw_g (lw_at lw_m3 238 rfl) rfl
theorem q769 : (Jvm.Cond.instanceMethod ({ cls := "BranchCells$Task", name := "<init>", desc := "(ILBranchCells$Task;IILBranchCells$Block;LBranchCells$Segment;LBranchCells$Segment;)V" } : Jvm.MethodName)) ∈ lw_all := lw_g (lw_at lw_m4 0 rfl) rfl
theorem q770 : (Jvm.Cond.code ({ cls := "BranchCells$Task", name := "<init>", desc := "(ILBranchCells$Task;IILBranchCells$Block;LBranchCells$Segment;LBranchCells$Segment;)V" } : Jvm.MethodName) prog_32_method_1_code (8 : Nat) (Option.none : Option Jvm.ClassFile.FieldType)) ∈ lw_all := lw_g (lw_at lw_m4 1 rfl) rfl
theorem q771 : (Jvm.Cond.methodLink "BranchCells$Task" (3 : Nat) ({ cls := "java/lang/Object", name := "<init>", desc := "()V" } : Jvm.MethodName)) ∈ lw_all := lw_g (lw_at lw_m4 2 rfl) rfl
theorem q772 : (Jvm.Cond.fieldLink "BranchCells$Task" (9 : Nat) "BranchCells$State" "RUNS" "LBranchCells$State;") ∈ lw_all := lw_g (lw_at lw_m4 3 rfl) rfl
theorem q774 : (Jvm.Cond.classLink "BranchCells$Task" (20 : Nat) "BranchCells$Values") ∈ lw_all := lw_g (lw_at lw_m4 5 rfl) rfl
theorem q776 : (Jvm.Cond.methodLink "BranchCells$Task" (22 : Nat) ({ cls := "BranchCells$Values", name := "<init>", desc := "(I)V" } : Jvm.MethodName)) ∈ lw_all := lw_g (lw_at lw_m4 7 rfl) rfl
theorem q802 : (Jvm.Cond.constantLong "BranchCells$Task" (29 : Nat) (17 : Int64)) ∈ lw_all := lw_g (lw_at lw_m4 33 rfl) rfl
theorem q803 : (Jvm.Cond.classLink "BranchCells$Task" (38 : Nat) "BranchCells$Pile") ∈ lw_all := lw_g (lw_at lw_m4 34 rfl) rfl
theorem q805 : (Jvm.Cond.methodLink "BranchCells$Task" (40 : Nat) ({ cls := "BranchCells$Pile", name := "<init>", desc := "()V" } : Jvm.MethodName)) ∈ lw_all := lw_g (lw_at lw_m4 36 rfl) rfl
theorem q816 : (Jvm.Cond.fieldLink "BranchCells$Task" (49 : Nat) "BranchCells$Task" "number" "I") ∈ lw_all := lw_g (lw_at lw_m4 47 rfl) rfl
theorem q818 : (Jvm.Cond.fieldLink "BranchCells$Task" (53 : Nat) "BranchCells$Task" "by" "LBranchCells$Task;") ∈ lw_all := lw_g (lw_at lw_m4 49 rfl) rfl
theorem q820 : (Jvm.Cond.fieldLink "BranchCells$Task" (57 : Nat) "BranchCells$Task" "ordinal" "I") ∈ lw_all := lw_g (lw_at lw_m4 51 rfl) rfl
theorem q822 : (Jvm.Cond.fieldLink "BranchCells$Task" (60 : Nat) "BranchCells$Task" "depth" "I") ∈ lw_all := lw_g (lw_at lw_m4 53 rfl) rfl
theorem q824 : (Jvm.Cond.fieldLink "BranchCells$Task" (63 : Nat) "BranchCells$Task" "blockNumber" "I") ∈ lw_all := lw_g (lw_at lw_m4 55 rfl) rfl
theorem q826 : (Jvm.Cond.fieldLink "BranchCells$Task" (66 : Nat) "BranchCells$Task" "block" "LBranchCells$Block;") ∈ lw_all := lw_g (lw_at lw_m4 57 rfl) rfl
theorem q830 : (Jvm.Cond.fieldLink "BranchCells$Task" (87 : Nat) "BranchCells$Task" "place" "I") ∈ lw_all := lw_g (lw_at lw_m4 61 rfl) rfl
theorem q832 : (Jvm.Cond.fieldLink "BranchCells$Task" (90 : Nat) "BranchCells$Task" "steps" "I") ∈ lw_all := lw_g (lw_at lw_m4 63 rfl) rfl
theorem q836 : (Jvm.Cond.fieldLink "BranchCells$Task" (15 : Nat) "BranchCells$Task" "state" "LBranchCells$State;") ∈ lw_all := lw_g (lw_at lw_m4 67 rfl) rfl
theorem q838 : (Jvm.Cond.fieldLink "BranchCells$Task" (100 : Nat) "BranchCells$Task" "isGone" "Z") ∈ lw_all := lw_g (lw_at lw_m4 69 rfl) rfl
theorem q840 : (Jvm.Cond.fieldLink "BranchCells$Task" (25 : Nat) "BranchCells$Task" "result" "LBranchCells$Values;") ∈ lw_all := lw_g (lw_at lw_m4 71 rfl) rfl
theorem q842 : (Jvm.Cond.fieldLink "BranchCells$Task" (31 : Nat) "BranchCells$Task" "mark" "J") ∈ lw_all := lw_g (lw_at lw_m4 73 rfl) rfl
theorem q844 : (Jvm.Cond.fieldLink "BranchCells$Task" (35 : Nat) "BranchCells$Task" "slots" "LBranchCells$Values;") ∈ lw_all := lw_g (lw_at lw_m4 75 rfl) rfl
theorem q848 : (Jvm.Cond.fieldLink "BranchCells$Task" (41 : Nat) "BranchCells$Task" "pile" "LBranchCells$Pile;") ∈ lw_all := lw_g (lw_at lw_m4 79 rfl) rfl
theorem q858 : (Jvm.Cond.fieldLink "BranchCells$Task" (45 : Nat) "BranchCells$Task" "out" "[J") ∈ lw_all := lw_g (lw_at lw_m4 89 rfl) rfl
theorem q860 : (Jvm.Cond.fieldLink "BranchCells$Task" (121 : Nat) "BranchCells$Task" "outs" "I") ∈ lw_all := lw_g (lw_at lw_m4 91 rfl) rfl
theorem q862 : (Jvm.Cond.fieldLink "BranchCells$Task" (70 : Nat) "BranchCells$Task" "present" "LBranchCells$Segment;") ∈ lw_all := lw_g (lw_at lw_m4 93 rfl) rfl
theorem q868 : (Jvm.Cond.fieldLink "BranchCells$Task" (74 : Nat) "BranchCells$Task" "root" "LBranchCells$Segment;") ∈ lw_all := lw_g (lw_at lw_m4 99 rfl) rfl
theorem q870 : (Jvm.Cond.laysFinal "BranchCells$Task" "BranchCells$Task" "number" "I") ∈ lw_all := lw_g (lw_at lw_m4 101 rfl) rfl
theorem q871 : (Jvm.Cond.soleField "BranchCells$Task" "number") ∈ lw_all := lw_g (lw_at lw_m4 102 rfl) rfl
theorem q872 : (Jvm.Cond.laysFinal "BranchCells$Task" "BranchCells$Task" "by" "LBranchCells$Task;") ∈ lw_all := lw_g (lw_at lw_m4 103 rfl) rfl
theorem q873 : (Jvm.Cond.soleField "BranchCells$Task" "by") ∈ lw_all := lw_g (lw_at lw_m4 104 rfl) rfl
theorem q874 : (Jvm.Cond.laysFinal "BranchCells$Task" "BranchCells$Task" "ordinal" "I") ∈ lw_all := lw_g (lw_at lw_m4 105 rfl) rfl
theorem q875 : (Jvm.Cond.soleField "BranchCells$Task" "ordinal") ∈ lw_all := lw_g (lw_at lw_m4 106 rfl) rfl
theorem q876 : (Jvm.Cond.laysFinal "BranchCells$Task" "BranchCells$Task" "depth" "I") ∈ lw_all := lw_g (lw_at lw_m4 107 rfl) rfl
theorem q877 : (Jvm.Cond.soleField "BranchCells$Task" "depth") ∈ lw_all := lw_g (lw_at lw_m4 108 rfl) rfl
theorem q878 : (Jvm.Cond.laysFinal "BranchCells$Task" "BranchCells$Task" "blockNumber" "I") ∈ lw_all := lw_g (lw_at lw_m4 109 rfl) rfl
theorem q879 : (Jvm.Cond.soleField "BranchCells$Task" "blockNumber") ∈ lw_all := lw_g (lw_at lw_m4 110 rfl) rfl
theorem q880 : (Jvm.Cond.laysFinal "BranchCells$Task" "BranchCells$Task" "block" "LBranchCells$Block;") ∈ lw_all := lw_g (lw_at lw_m4 111 rfl) rfl
theorem q881 : (Jvm.Cond.soleField "BranchCells$Task" "block") ∈ lw_all := lw_g (lw_at lw_m4 112 rfl) rfl
theorem q882 : (Jvm.Cond.lays "BranchCells$Task" "BranchCells$Task" "place" "I") ∈ lw_all := lw_g (lw_at lw_m4 113 rfl) rfl
theorem q883 : (Jvm.Cond.soleField "BranchCells$Task" "place") ∈ lw_all := lw_g (lw_at lw_m4 114 rfl) rfl
theorem q884 : (Jvm.Cond.lays "BranchCells$Task" "BranchCells$Task" "steps" "I") ∈ lw_all := lw_g (lw_at lw_m4 115 rfl) rfl
theorem q885 : (Jvm.Cond.soleField "BranchCells$Task" "steps") ∈ lw_all := lw_g (lw_at lw_m4 116 rfl) rfl
theorem q886 : (Jvm.Cond.lays "BranchCells$Task" "BranchCells$Task" "forks" "I") ∈ lw_all := lw_g (lw_at lw_m4 117 rfl) rfl
theorem q887 : (Jvm.Cond.soleField "BranchCells$Task" "forks") ∈ lw_all := lw_g (lw_at lw_m4 118 rfl) rfl
theorem q888 : (Jvm.Cond.lays "BranchCells$Task" "BranchCells$Task" "failedBy" "I") ∈ lw_all := lw_g (lw_at lw_m4 119 rfl) rfl
theorem q889 : (Jvm.Cond.soleField "BranchCells$Task" "failedBy") ∈ lw_all := lw_g (lw_at lw_m4 120 rfl) rfl
theorem q890 : (Jvm.Cond.lays "BranchCells$Task" "BranchCells$Task" "state" "LBranchCells$State;") ∈ lw_all := lw_g (lw_at lw_m4 121 rfl) rfl
theorem q891 : (Jvm.Cond.soleField "BranchCells$Task" "state") ∈ lw_all := lw_g (lw_at lw_m4 122 rfl) rfl
theorem q892 : (Jvm.Cond.lays "BranchCells$Task" "BranchCells$Task" "isGone" "Z") ∈ lw_all := lw_g (lw_at lw_m4 123 rfl) rfl
theorem q893 : (Jvm.Cond.soleField "BranchCells$Task" "isGone") ∈ lw_all := lw_g (lw_at lw_m4 124 rfl) rfl
theorem q894 : (Jvm.Cond.laysFinal "BranchCells$Task" "BranchCells$Task" "result" "LBranchCells$Values;") ∈ lw_all := lw_g (lw_at lw_m4 125 rfl) rfl
theorem q895 : (Jvm.Cond.soleField "BranchCells$Task" "result") ∈ lw_all := lw_g (lw_at lw_m4 126 rfl) rfl
theorem q896 : (Jvm.Cond.lays "BranchCells$Task" "BranchCells$Task" "mark" "J") ∈ lw_all := lw_g (lw_at lw_m4 127 rfl) rfl
theorem q897 : (Jvm.Cond.soleField "BranchCells$Task" "mark") ∈ lw_all := lw_g (lw_at lw_m4 128 rfl) rfl
theorem q898 : (Jvm.Cond.laysFinal "BranchCells$Task" "BranchCells$Task" "slots" "LBranchCells$Values;") ∈ lw_all := lw_g (lw_at lw_m4 129 rfl) rfl
theorem q899 : (Jvm.Cond.soleField "BranchCells$Task" "slots") ∈ lw_all := lw_g (lw_at lw_m4 130 rfl) rfl
theorem q900 : (Jvm.Cond.laysFinal "BranchCells$Task" "BranchCells$Task" "pile" "LBranchCells$Pile;") ∈ lw_all := lw_g (lw_at lw_m4 131 rfl) rfl
theorem q901 : (Jvm.Cond.soleField "BranchCells$Task" "pile") ∈ lw_all := lw_g (lw_at lw_m4 132 rfl) rfl
theorem q902 : (Jvm.Cond.laysFinal "BranchCells$Task" "BranchCells$Task" "out" "[J") ∈ lw_all := lw_g (lw_at lw_m4 133 rfl) rfl
theorem q903 : (Jvm.Cond.soleField "BranchCells$Task" "out") ∈ lw_all := lw_g (lw_at lw_m4 134 rfl) rfl
theorem q904 : (Jvm.Cond.lays "BranchCells$Task" "BranchCells$Task" "outs" "I") ∈ lw_all := lw_g (lw_at lw_m4 135 rfl) rfl
theorem q905 : (Jvm.Cond.soleField "BranchCells$Task" "outs") ∈ lw_all := lw_g (lw_at lw_m4 136 rfl) rfl
theorem q906 : (Jvm.Cond.lays "BranchCells$Task" "BranchCells$Task" "present" "LBranchCells$Segment;") ∈ lw_all := lw_g (lw_at lw_m4 137 rfl) rfl
theorem q907 : (Jvm.Cond.soleField "BranchCells$Task" "present") ∈ lw_all := lw_g (lw_at lw_m4 138 rfl) rfl
theorem q908 : (Jvm.Cond.laysFinal "BranchCells$Task" "BranchCells$Task" "root" "LBranchCells$Segment;") ∈ lw_all := lw_g (lw_at lw_m4 139 rfl) rfl
theorem q909 : (Jvm.Cond.soleField "BranchCells$Task" "root") ∈ lw_all := lw_g (lw_at lw_m4 140 rfl) rfl
theorem q910 : (Jvm.Cond.superclass "BranchCells$Task" "java/lang/Object") ∈ lw_all := lw_g (lw_at lw_m4 141 rfl) rfl
theorem q918 : (Jvm.Cond.instanceMethod ({ cls := "BranchCells$Task", name := "comes", desc := "()V" } : Jvm.MethodName)) ∈ lw_all := lw_g (lw_at lw_m4 149 rfl) rfl
theorem q919 : (Jvm.Cond.selects "BranchCells$Task" ({ cls := "BranchCells$Task", name := "comes", desc := "()V" } : Jvm.MethodName) ({ cls := "BranchCells$Task", name := "comes", desc := "()V" } : Jvm.MethodName)) ∈ lw_all := lw_g (lw_at lw_m4 150 rfl) rfl
theorem q920 : (Jvm.Cond.code ({ cls := "BranchCells$Task", name := "comes", desc := "()V" } : Jvm.MethodName) prog_32_method_10_code (1 : Nat) (Option.none : Option Jvm.ClassFile.FieldType)) ∈ lw_all := lw_g (lw_at lw_m4 151 rfl) rfl
theorem q921 : (Jvm.Cond.methodLink "BranchCells$Task" (130 : Nat) ({ cls := "BranchCells$Task", name := "ends", desc := "(JLBranchCells$Task;)V" } : Jvm.MethodName)) ∈ lw_all := lw_g (lw_at lw_m4 152 rfl) rfl
theorem q922 : (Jvm.Cond.instanceMethod ({ cls := "BranchCells$Task", name := "ends", desc := "(JLBranchCells$Task;)V" } : Jvm.MethodName)) ∈ lw_all := lw_g (lw_at lw_m4 153 rfl) rfl
theorem q923 : (Jvm.Cond.selects "BranchCells$Task" ({ cls := "BranchCells$Task", name := "ends", desc := "(JLBranchCells$Task;)V" } : Jvm.MethodName) ({ cls := "BranchCells$Task", name := "ends", desc := "(JLBranchCells$Task;)V" } : Jvm.MethodName)) ∈ lw_all := lw_g (lw_at lw_m4 154 rfl) rfl
theorem q924 : (Jvm.Cond.code ({ cls := "BranchCells$Task", name := "ends", desc := "(JLBranchCells$Task;)V" } : Jvm.MethodName) prog_32_method_9_code (4 : Nat) (Option.none : Option Jvm.ClassFile.FieldType)) ∈ lw_all := lw_g (lw_at lw_m4 155 rfl) rfl
theorem q925 : (Jvm.Cond.methodLink "BranchCells$Task" (124 : Nat) ({ cls := "BranchCells$Values", name := "put", desc := "(IJLBranchCells$Task;)V" } : Jvm.MethodName)) ∈ lw_all := lw_g (lw_at lw_m4 156 rfl) rfl
theorem q926 : (Jvm.Cond.fieldLink "BranchCells$Task" (104 : Nat) "BranchCells$State" "ENDED" "LBranchCells$State;") ∈ lw_all := lw_g (lw_at lw_m4 157 rfl) rfl
theorem q942 : (Jvm.Cond.instanceMethod ({ cls := "BranchCells$Task", name := "isReady", desc := "()Z" } : Jvm.MethodName)) ∈ lw_all := lw_g (lw_at lw_m4 173 rfl) rfl
theorem q943 : (Jvm.Cond.selects "BranchCells$Task" ({ cls := "BranchCells$Task", name := "isReady", desc := "()Z" } : Jvm.MethodName) ({ cls := "BranchCells$Task", name := "isReady", desc := "()Z" } : Jvm.MethodName)) ∈ lw_all := lw_g (lw_at lw_m4 174 rfl) rfl
theorem q944 : (Jvm.Cond.code ({ cls := "BranchCells$Task", name := "isReady", desc := "()Z" } : Jvm.MethodName) prog_32_method_4_code (1 : Nat) (Option.some Jvm.ClassFile.FieldType.boolean)) ∈ lw_all := lw_g (lw_at lw_m4 175 rfl) rfl
theorem q945 : (Jvm.Cond.methodLink "BranchCells$Task" (77 : Nat) ({ cls := "BranchCells$Task", name := "isOver", desc := "()Z" } : Jvm.MethodName)) ∈ lw_all := lw_g (lw_at lw_m4 176 rfl) rfl
theorem q946 : (Jvm.Cond.instanceMethod ({ cls := "BranchCells$Task", name := "isOver", desc := "()Z" } : Jvm.MethodName)) ∈ lw_all := lw_g (lw_at lw_m4 177 rfl) rfl
theorem q947 : (Jvm.Cond.selects "BranchCells$Task" ({ cls := "BranchCells$Task", name := "isOver", desc := "()Z" } : Jvm.MethodName) ({ cls := "BranchCells$Task", name := "isOver", desc := "()Z" } : Jvm.MethodName)) ∈ lw_all := lw_g (lw_at lw_m4 178 rfl) rfl
theorem q948 : (Jvm.Cond.code ({ cls := "BranchCells$Task", name := "isOver", desc := "()Z" } : Jvm.MethodName) prog_32_method_2_code (1 : Nat) (Option.some Jvm.ClassFile.FieldType.boolean)) ∈ lw_all := lw_g (lw_at lw_m4 179 rfl) rfl
theorem q949 : (Jvm.Cond.methodLink "BranchCells$Task" (97 : Nat) ({ cls := "BranchCells$Task", name := "waitsFor", desc := "()LBranchCells$Task;" } : Jvm.MethodName)) ∈ lw_all := lw_g (lw_at lw_m4 180 rfl) rfl
theorem q950 : (Jvm.Cond.instanceMethod ({ cls := "BranchCells$Task", name := "waitsFor", desc := "()LBranchCells$Task;" } : Jvm.MethodName)) ∈ lw_all := lw_g (lw_at lw_m4 181 rfl) rfl
theorem q951 : (Jvm.Cond.selects "BranchCells$Task" ({ cls := "BranchCells$Task", name := "waitsFor", desc := "()LBranchCells$Task;" } : Jvm.MethodName) ({ cls := "BranchCells$Task", name := "waitsFor", desc := "()LBranchCells$Task;" } : Jvm.MethodName)) ∈ lw_all := lw_g (lw_at lw_m4 182 rfl) rfl
theorem q952 : (Jvm.Cond.code ({ cls := "BranchCells$Task", name := "waitsFor", desc := "()LBranchCells$Task;" } : Jvm.MethodName) prog_32_method_3_code (2 : Nat) (Option.some (Jvm.ClassFile.FieldType.object "BranchCells$Task"))) ∈ lw_all := lw_g (lw_at lw_m4 183 rfl) rfl
theorem q953 : (Jvm.Cond.methodLink "BranchCells$Task" (93 : Nat) ({ cls := "BranchCells$Pile", name := "top", desc := "()LBranchCells$Task;" } : Jvm.MethodName)) ∈ lw_all := lw_g (lw_at lw_m4 184 rfl) rfl
theorem q1058 : (Jvm.Cond.instanceMethod ({ cls := "BranchCells$Task", name := "put", desc := "(J)V" } : Jvm.MethodName)) ∈ lw_all := lw_g (lw_at lw_m5 49 rfl) rfl
theorem q1059 : (Jvm.Cond.selects "BranchCells$Task" ({ cls := "BranchCells$Task", name := "put", desc := "(J)V" } : Jvm.MethodName) ({ cls := "BranchCells$Task", name := "put", desc := "(J)V" } : Jvm.MethodName)) ∈ lw_all := lw_g (lw_at lw_m5 50 rfl) rfl
theorem q1060 : (Jvm.Cond.code ({ cls := "BranchCells$Task", name := "put", desc := "(J)V" } : Jvm.MethodName) prog_32_method_7_code (3 : Nat) (Option.none : Option Jvm.ClassFile.FieldType)) ∈ lw_all := lw_g (lw_at lw_m5 51 rfl) rfl
theorem q1061 : (Jvm.Cond.methodLink "BranchCells$Task" (117 : Nat) ({ cls := "BranchCells$Pile", name := "put", desc := "(JLBranchCells$Task;)V" } : Jvm.MethodName)) ∈ lw_all := lw_g (lw_at lw_m5 52 rfl) rfl
theorem q1122 : (Jvm.Cond.instanceMethod ({ cls := "BranchCells$Task", name := "number", desc := "()J" } : Jvm.MethodName)) ∈ lw_all := lw_g (lw_at lw_m5 113 rfl) rfl
theorem q1123 : (Jvm.Cond.selects "BranchCells$Task" ({ cls := "BranchCells$Task", name := "number", desc := "()J" } : Jvm.MethodName) ({ cls := "BranchCells$Task", name := "number", desc := "()J" } : Jvm.MethodName)) ∈ lw_all := lw_g (lw_at lw_m5 114 rfl) rfl
theorem q1124 : (Jvm.Cond.code ({ cls := "BranchCells$Task", name := "number", desc := "()J" } : Jvm.MethodName) prog_32_method_6_code (1 : Nat) (Option.some Jvm.ClassFile.FieldType.long)) ∈ lw_all := lw_g (lw_at lw_m5 115 rfl) rfl
theorem q1125 : (Jvm.Cond.methodLink "BranchCells$Task" (110 : Nat) ({ cls := "BranchCells$Pile", name := "take", desc := "()I" } : Jvm.MethodName)) ∈ lw_all := lw_g (lw_at lw_m5 116 rfl) rfl
theorem q1126 : (Jvm.Cond.methodLink "BranchCells$Task" (114 : Nat) ({ cls := "BranchCells$Pile", name := "number", desc := "(I)J" } : Jvm.MethodName)) ∈ lw_all := lw_g (lw_at lw_m5 117 rfl) rfl
theorem q1165 : (Jvm.Cond.instanceMethod ({ cls := "BranchCells$Task", name := "tells", desc := "(J)V" } : Jvm.MethodName)) ∈ lw_all := lw_g (lw_at lw_m5 156 rfl) rfl
theorem q1166 : (Jvm.Cond.selects "BranchCells$Task" ({ cls := "BranchCells$Task", name := "tells", desc := "(J)V" } : Jvm.MethodName) ({ cls := "BranchCells$Task", name := "tells", desc := "(J)V" } : Jvm.MethodName)) ∈ lw_all := lw_g (lw_at lw_m5 157 rfl) rfl
theorem q1167 : (Jvm.Cond.code ({ cls := "BranchCells$Task", name := "tells", desc := "(J)V" } : Jvm.MethodName) prog_32_method_8_code (3 : Nat) (Option.none : Option Jvm.ClassFile.FieldType)) ∈ lw_all := lw_g (lw_at lw_m5 158 rfl) rfl
theorem q1234 : (Jvm.Cond.instanceMethod ({ cls := "BranchCells$Task", name := "told", desc := "()I" } : Jvm.MethodName)) ∈ lw_all := lw_g (lw_at lw_m5 225 rfl) rfl
theorem q1235 : (Jvm.Cond.selects "BranchCells$Task" ({ cls := "BranchCells$Task", name := "told", desc := "()I" } : Jvm.MethodName) ({ cls := "BranchCells$Task", name := "told", desc := "()I" } : Jvm.MethodName)) ∈ lw_all := lw_g (lw_at lw_m5 226 rfl) rfl
theorem q1236 : (Jvm.Cond.code ({ cls := "BranchCells$Task", name := "told", desc := "()I" } : Jvm.MethodName) prog_32_method_5_code (1 : Nat) (Option.some Jvm.ClassFile.FieldType.int)) ∈ lw_all := lw_g (lw_at lw_m5 227 rfl) rfl
theorem q1237 : (Jvm.Cond.fieldLink "BranchCells$Task" (107 : Nat) "BranchCells$State" "FAILED" "LBranchCells$State;") ∈ lw_all := lw_g (lw_at lw_m5 228 rfl) rfl
theorem q1363 : (Jvm.Cond.selects "BranchCells$Task" ({ cls := "java/lang/Object", name := "equals", desc := "(Ljava/lang/Object;)Z" } : Jvm.MethodName) ({ cls := "java/lang/Object", name := "equals", desc := "(Ljava/lang/Object;)Z" } : Jvm.MethodName)) ∈ lw_all := lw_g (lw_at lw_m6 114 rfl) rfl
theorem q1808 : (Jvm.Cond.castable "BranchCells$Task" "java/lang/Object") ∈ lw_tbl := lw_at lw_m8 79 rfl
theorem in_X29 : ∀ w ∈ wsX290, w ∈ lw_all := lw_in wsX290 [870, 872, 874, 876, 878, 880, 882, 884, 886, 888, 890, 892, 894, 896, 898, 900, 902, 904, 906, 908] (by decide +kernel) (by decide +kernel)
theorem tyX3_ok : ∀ k, k < 3 → parseFieldDescriptor (TX3 k).2.2.1 = some (tyX3 k) := by decide +kernel
theorem q56 : (Jvm.Cond.initialized "BranchCells$2") ∈ lw_all := lw_g (lw_at lw_m1 7 rfl) rfl
theorem q162 : (Jvm.Cond.instantiable "BranchCells$2" (3 : Nat)) ∈ lw_all := lw_g (lw_at lw_m1 113 rfl) rfl
theorem q164 : (Jvm.Cond.instanceMethod ({ cls := "BranchCells$2", name := "<init>", desc := "(LBranchCells;I)V" } : Jvm.MethodName)) ∈ lw_all := lw_g (lw_at lw_m1 115 rfl) rfl
theorem q165 : (Jvm.Cond.code ({ cls := "BranchCells$2", name := "<init>", desc := "(LBranchCells;I)V" } : Jvm.MethodName) prog_13_method_1_code (3 : Nat) (Option.none : Option Jvm.ClassFile.FieldType)) ∈ lw_all := lw_g (lw_at lw_m1 116 rfl) rfl
theorem q166 : (Jvm.Cond.methodLink "BranchCells$2" (7 : Nat) ({ cls := "BranchCells$Doer", name := "<init>", desc := "(LBranchCells;I)V" } : Jvm.MethodName)) ∈ lw_all := lw_g (lw_at lw_m1 117 rfl) rfl
theorem q167 : (Jvm.Cond.fieldLink "BranchCells$2" (1 : Nat) "BranchCells$2" "this$0" "LBranchCells;") ∈ lw_all := lw_g (lw_at lw_m1 118 rfl) rfl
theorem q168 : (Jvm.Cond.laysFinal "BranchCells$2" "BranchCells$2" "this$0" "LBranchCells;") ∈ lw_all := lw_g (lw_at lw_m1 119 rfl) rfl
theorem q169 : (Jvm.Cond.soleField "BranchCells$2" "this$0") ∈ lw_all := lw_g (lw_at lw_m1 120 rfl) rfl
theorem q170 : (Jvm.Cond.laysFinal "BranchCells$2" "BranchCells$Doer" "takes" "I") ∈ lw_all := lw_g (lw_at lw_m1 121 rfl) rfl
theorem q171 : (Jvm.Cond.laysFinal "BranchCells$2" "BranchCells$Doer" "this$0" "LBranchCells;") ∈ lw_all := lw_g (lw_at lw_m1 122 rfl) rfl
theorem q172 : (Jvm.Cond.superclass "BranchCells$2" "BranchCells$Doer") ∈ lw_all := lw_g (lw_at lw_m1 123 rfl) rfl
theorem q551 : (Jvm.Cond.selects "BranchCells$2" ({ cls := "java/lang/Object", name := "getClass", desc := "()Ljava/lang/Class;" } : Jvm.MethodName) ({ cls := "java/lang/Object", name := "getClass", desc := "()Ljava/lang/Class;" } : Jvm.MethodName)) ∈ lw_all := lw_g (lw_at lw_m3 22 rfl) rfl
theorem q864 : (Jvm.Cond.fieldLinkNest "BranchCells$2" (13 : Nat) "BranchCells$Task" "present" "LBranchCells$Segment;" "BranchCells") ∈ lw_tbl := lw_at lw_m4 95 rfl
theorem q1039 : (Jvm.Cond.selects "BranchCells$2" ({ cls := "BranchCells$Doer", name := "takes", desc := "()I" } : Jvm.MethodName) ({ cls := "BranchCells$Doer", name := "takes", desc := "()I" } : Jvm.MethodName)) ∈ lw_all := lw_g (lw_at lw_m5 30 rfl) rfl
theorem q1186 : (Jvm.Cond.selects "BranchCells$2" ({ cls := "BranchCells$Doer", name := "does", desc := "(LBranchCells$Task;I)V" } : Jvm.MethodName) ({ cls := "BranchCells$2", name := "does", desc := "(LBranchCells$Task;I)V" } : Jvm.MethodName)) ∈ lw_all := lw_g (lw_at lw_m5 177 rfl) rfl
theorem q1187 : (Jvm.Cond.instanceMethod ({ cls := "BranchCells$2", name := "does", desc := "(LBranchCells$Task;I)V" } : Jvm.MethodName)) ∈ lw_all := lw_g (lw_at lw_m5 178 rfl) rfl
theorem q1188 : (Jvm.Cond.code ({ cls := "BranchCells$2", name := "does", desc := "(LBranchCells$Task;I)V" } : Jvm.MethodName) prog_13_method_2_code (3 : Nat) (Option.none : Option Jvm.ClassFile.FieldType)) ∈ lw_all := lw_g (lw_at lw_m5 179 rfl) rfl
theorem q1189 : (Jvm.Cond.methodLink "BranchCells$2" (19 : Nat) ({ cls := "BranchCells$Segment", name := "read", desc := "(LBranchCells$Segment;I)J" } : Jvm.MethodName)) ∈ lw_all := lw_g (lw_at lw_m5 180 rfl) rfl
theorem q1190 : (Jvm.Cond.methodLink "BranchCells$2" (25 : Nat) ({ cls := "BranchCells$Task", name := "put", desc := "(J)V" } : Jvm.MethodName)) ∈ lw_all := lw_g (lw_at lw_m5 181 rfl) rfl
theorem q1344 : (Jvm.Cond.selects "BranchCells$2" ({ cls := "java/lang/Object", name := "equals", desc := "(Ljava/lang/Object;)Z" } : Jvm.MethodName) ({ cls := "java/lang/Object", name := "equals", desc := "(Ljava/lang/Object;)Z" } : Jvm.MethodName)) ∈ lw_all := lw_g (lw_at lw_m6 95 rfl) rfl
theorem q1812 : (Jvm.Cond.castable "BranchCells$2" "java/lang/Object") ∈ lw_tbl := lw_at lw_m8 83 rfl
theorem q1844 : (Jvm.Cond.castable "BranchCells$2" "BranchCells$Doer") ∈ lw_tbl := lw_at lw_m8 115 rfl
theorem in_X3 : ∀ w ∈ wsX30, w ∈ lw_all := lw_in wsX30 [170, 171, 168] (by decide +kernel) (by decide +kernel)
theorem nmX30 : ∀ a, a < 2 → ∀ b, b < 2 → a ≠ b → (TX30 a).2.1 ≠ (TX30 b).2.1 := by decide +kernel
theorem tyX30_ok : ∀ k, k < 2 → parseFieldDescriptor (TX30 k).2.2.1 = some (tyX30 k) := by decide +kernel
theorem q91 : (Jvm.Cond.initialized "BranchCells$Values") ∈ lw_all := lw_g (lw_at lw_m1 42 rfl) rfl
theorem q569 : (Jvm.Cond.selects "BranchCells$Values" ({ cls := "java/lang/Object", name := "getClass", desc := "()Ljava/lang/Class;" } : Jvm.MethodName) ({ cls := "java/lang/Object", name := "getClass", desc := "()Ljava/lang/Class;" } : Jvm.MethodName)) ∈ lw_all := lw_g (lw_at lw_m3 40 rfl) rfl
theorem q775 : (Jvm.Cond.instantiable "BranchCells$Values" (2 : Nat)) ∈ lw_all := lw_g (lw_at lw_m4 6 rfl) rfl
theorem q777 : (Jvm.Cond.instanceMethod ({ cls := "BranchCells$Values", name := "<init>", desc := "(I)V" } : Jvm.MethodName)) ∈ lw_all := lw_g (lw_at lw_m4 8 rfl) rfl
theorem q778 : (Jvm.Cond.code ({ cls := "BranchCells$Values", name := "<init>", desc := "(I)V" } : Jvm.MethodName) prog_33_method_1_code (2 : Nat) (Option.none : Option Jvm.ClassFile.FieldType)) ∈ lw_all := lw_g (lw_at lw_m4 9 rfl) rfl
theorem q779 : (Jvm.Cond.methodLink "BranchCells$Values" (3 : Nat) ({ cls := "java/lang/Object", name := "<init>", desc := "()V" } : Jvm.MethodName)) ∈ lw_all := lw_g (lw_at lw_m4 10 rfl) rfl
theorem q780 : (Jvm.Cond.classLink "BranchCells$Values" (15 : Nat) "BranchCells$Task") ∈ lw_all := lw_g (lw_at lw_m4 11 rfl) rfl
theorem q782 : (Jvm.Cond.fieldLink "BranchCells$Values" (9 : Nat) "BranchCells$Values" "numbers" "[J") ∈ lw_all := lw_g (lw_at lw_m4 13 rfl) rfl
theorem q789 : (Jvm.Cond.fieldLink "BranchCells$Values" (17 : Nat) "BranchCells$Values" "handles" "[LBranchCells$Task;") ∈ lw_all := lw_g (lw_at lw_m4 20 rfl) rfl
theorem q797 : (Jvm.Cond.laysFinal "BranchCells$Values" "BranchCells$Values" "numbers" "[J") ∈ lw_all := lw_g (lw_at lw_m4 28 rfl) rfl
theorem q798 : (Jvm.Cond.soleField "BranchCells$Values" "numbers") ∈ lw_all := lw_g (lw_at lw_m4 29 rfl) rfl
theorem q799 : (Jvm.Cond.laysFinal "BranchCells$Values" "BranchCells$Values" "handles" "[LBranchCells$Task;") ∈ lw_all := lw_g (lw_at lw_m4 30 rfl) rfl
theorem q800 : (Jvm.Cond.soleField "BranchCells$Values" "handles") ∈ lw_all := lw_g (lw_at lw_m4 31 rfl) rfl
theorem q801 : (Jvm.Cond.superclass "BranchCells$Values" "java/lang/Object") ∈ lw_all := lw_g (lw_at lw_m4 32 rfl) rfl
theorem q912 : (Jvm.Cond.instanceMethod ({ cls := "BranchCells$Values", name := "put", desc := "(IJLBranchCells$Task;)V" } : Jvm.MethodName)) ∈ lw_all := lw_g (lw_at lw_m4 143 rfl) rfl
theorem q913 : (Jvm.Cond.selects "BranchCells$Values" ({ cls := "BranchCells$Values", name := "put", desc := "(IJLBranchCells$Task;)V" } : Jvm.MethodName) ({ cls := "BranchCells$Values", name := "put", desc := "(IJLBranchCells$Task;)V" } : Jvm.MethodName)) ∈ lw_all := lw_g (lw_at lw_m4 144 rfl) rfl
theorem q914 : (Jvm.Cond.sameMethod "BranchCells$Values" "BranchCells$Values" "put" "(IJLBranchCells$Task;)V") ∈ lw_all := lw_g (lw_at lw_m4 145 rfl) rfl
theorem q916 : (Jvm.Cond.code ({ cls := "BranchCells$Values", name := "put", desc := "(IJLBranchCells$Task;)V" } : Jvm.MethodName) prog_33_method_2_code (5 : Nat) (Option.none : Option Jvm.ClassFile.FieldType)) ∈ lw_all := lw_g (lw_at lw_m4 147 rfl) rfl
theorem q1069 : (Jvm.Cond.declares ({ cls := "BranchCells$Values", name := "put", desc := "(IJLBranchCells$Task;)V" } : Jvm.MethodName)) ∈ lw_tbl := lw_at lw_m5 60 rfl
theorem q1080 : (Jvm.Cond.declares ({ cls := "BranchCells$Values", name := "number", desc := "(I)J" } : Jvm.MethodName)) ∈ lw_tbl := lw_at lw_m5 71 rfl
theorem q1082 : (Jvm.Cond.instanceMethod ({ cls := "BranchCells$Values", name := "number", desc := "(I)J" } : Jvm.MethodName)) ∈ lw_all := lw_g (lw_at lw_m5 73 rfl) rfl
theorem q1083 : (Jvm.Cond.code ({ cls := "BranchCells$Values", name := "number", desc := "(I)J" } : Jvm.MethodName) prog_33_method_3_code (2 : Nat) (Option.some Jvm.ClassFile.FieldType.long)) ∈ lw_all := lw_g (lw_at lw_m5 74 rfl) rfl
theorem q1084 : (Jvm.Cond.classLink "BranchCells$Values" (21 : Nat) "BranchCells$Failing") ∈ lw_all := lw_g (lw_at lw_m5 75 rfl) rfl
theorem q1085 : (Jvm.Cond.methodLink "BranchCells$Values" (23 : Nat) ({ cls := "BranchCells$Failing", name := "<init>", desc := "(I)V" } : Jvm.MethodName)) ∈ lw_all := lw_g (lw_at lw_m5 76 rfl) rfl
theorem q1156 : (Jvm.Cond.declares ({ cls := "BranchCells$Values", name := "task", desc := "(I)LBranchCells$Task;" } : Jvm.MethodName)) ∈ lw_tbl := lw_at lw_m5 147 rfl
theorem q1158 : (Jvm.Cond.instanceMethod ({ cls := "BranchCells$Values", name := "task", desc := "(I)LBranchCells$Task;" } : Jvm.MethodName)) ∈ lw_all := lw_g (lw_at lw_m5 149 rfl) rfl
theorem q1159 : (Jvm.Cond.code ({ cls := "BranchCells$Values", name := "task", desc := "(I)LBranchCells$Task;" } : Jvm.MethodName) prog_33_method_4_code (2 : Nat) (Option.some (Jvm.ClassFile.FieldType.object "BranchCells$Task"))) ∈ lw_all := lw_g (lw_at lw_m5 150 rfl) rfl
theorem q1364 : (Jvm.Cond.selects "BranchCells$Values" ({ cls := "java/lang/Object", name := "equals", desc := "(Ljava/lang/Object;)Z" } : Jvm.MethodName) ({ cls := "java/lang/Object", name := "equals", desc := "(Ljava/lang/Object;)Z" } : Jvm.MethodName)) ∈ lw_all := lw_g (lw_at lw_m6 115 rfl) rfl
theorem q1838 : (Jvm.Cond.castable "BranchCells$Values" "java/lang/Object") ∈ lw_tbl := lw_at lw_m8 109 rfl
theorem in_X30 : ∀ w ∈ wsX300, w ∈ lw_all := lw_in wsX300 [797, 799] (by decide +kernel) (by decide +kernel)
theorem nmX31 : ∀ a, a < 3 → ∀ b, b < 3 → a ≠ b → (TX31 a).2.1 ≠ (TX31 b).2.1 := by decide +kernel
theorem tyX31_ok : ∀ k, k < 3 → parseFieldDescriptor (TX31 k).2.2.1 = some (tyX31 k) := by decide +kernel
theorem q92 : (Jvm.Cond.initialized "BranchCells$Pile") ∈ lw_all := lw_g (lw_at lw_m1 43 rfl) rfl
theorem q565 : (Jvm.Cond.selects "BranchCells$Pile" ({ cls := "java/lang/Object", name := "getClass", desc := "()Ljava/lang/Class;" } : Jvm.MethodName) ({ cls := "java/lang/Object", name := "getClass", desc := "()Ljava/lang/Class;" } : Jvm.MethodName)) ∈ lw_all := lw_g (lw_at lw_m3 36 rfl) rfl
theorem q785 : (Jvm.Cond.sameField "BranchCells$Pile" "BranchCells$Values" "numbers" "[J") ∈ lw_all := lw_g (lw_at lw_m4 16 rfl) rfl
theorem q792 : (Jvm.Cond.sameField "BranchCells$Pile" "BranchCells$Values" "handles" "[LBranchCells$Task;") ∈ lw_all := lw_g (lw_at lw_m4 23 rfl) rfl
theorem q795 : (Jvm.Cond.fieldLink "BranchCells$Pile" (22 : Nat) "BranchCells$Pile" "handles" "[LBranchCells$Task;") ∈ lw_all := lw_g (lw_at lw_m4 26 rfl) rfl
theorem q804 : (Jvm.Cond.instantiable "BranchCells$Pile" (3 : Nat)) ∈ lw_all := lw_g (lw_at lw_m4 35 rfl) rfl
theorem q806 : (Jvm.Cond.instanceMethod ({ cls := "BranchCells$Pile", name := "<init>", desc := "()V" } : Jvm.MethodName)) ∈ lw_all := lw_g (lw_at lw_m4 37 rfl) rfl
theorem q807 : (Jvm.Cond.code ({ cls := "BranchCells$Pile", name := "<init>", desc := "()V" } : Jvm.MethodName) prog_28_method_1_code (1 : Nat) (Option.none : Option Jvm.ClassFile.FieldType)) ∈ lw_all := lw_g (lw_at lw_m4 38 rfl) rfl
theorem q808 : (Jvm.Cond.methodLink "BranchCells$Pile" (3 : Nat) ({ cls := "BranchCells$Values", name := "<init>", desc := "(I)V" } : Jvm.MethodName)) ∈ lw_all := lw_g (lw_at lw_m4 39 rfl) rfl
theorem q809 : (Jvm.Cond.fieldLink "BranchCells$Pile" (9 : Nat) "BranchCells$Pile" "size" "I") ∈ lw_all := lw_g (lw_at lw_m4 40 rfl) rfl
theorem q811 : (Jvm.Cond.lays "BranchCells$Pile" "BranchCells$Pile" "size" "I") ∈ lw_all := lw_g (lw_at lw_m4 42 rfl) rfl
theorem q812 : (Jvm.Cond.soleField "BranchCells$Pile" "size") ∈ lw_all := lw_g (lw_at lw_m4 43 rfl) rfl
theorem q813 : (Jvm.Cond.laysFinal "BranchCells$Pile" "BranchCells$Values" "numbers" "[J") ∈ lw_all := lw_g (lw_at lw_m4 44 rfl) rfl
theorem q814 : (Jvm.Cond.laysFinal "BranchCells$Pile" "BranchCells$Values" "handles" "[LBranchCells$Task;") ∈ lw_all := lw_g (lw_at lw_m4 45 rfl) rfl
theorem q815 : (Jvm.Cond.superclass "BranchCells$Pile" "BranchCells$Values") ∈ lw_all := lw_g (lw_at lw_m4 46 rfl) rfl
theorem q915 : (Jvm.Cond.selects "BranchCells$Pile" ({ cls := "BranchCells$Values", name := "put", desc := "(IJLBranchCells$Task;)V" } : Jvm.MethodName) ({ cls := "BranchCells$Values", name := "put", desc := "(IJLBranchCells$Task;)V" } : Jvm.MethodName)) ∈ lw_all := lw_g (lw_at lw_m4 146 rfl) rfl
theorem q954 : (Jvm.Cond.instanceMethod ({ cls := "BranchCells$Pile", name := "top", desc := "()LBranchCells$Task;" } : Jvm.MethodName)) ∈ lw_all := lw_g (lw_at lw_m4 185 rfl) rfl
theorem q955 : (Jvm.Cond.selects "BranchCells$Pile" ({ cls := "BranchCells$Pile", name := "top", desc := "()LBranchCells$Task;" } : Jvm.MethodName) ({ cls := "BranchCells$Pile", name := "top", desc := "()LBranchCells$Task;" } : Jvm.MethodName)) ∈ lw_all := lw_g (lw_at lw_m4 186 rfl) rfl
theorem q956 : (Jvm.Cond.code ({ cls := "BranchCells$Pile", name := "top", desc := "()LBranchCells$Task;" } : Jvm.MethodName) prog_28_method_4_code (1 : Nat) (Option.some (Jvm.ClassFile.FieldType.object "BranchCells$Task"))) ∈ lw_all := lw_g (lw_at lw_m4 187 rfl) rfl
theorem q1062 : (Jvm.Cond.instanceMethod ({ cls := "BranchCells$Pile", name := "put", desc := "(JLBranchCells$Task;)V" } : Jvm.MethodName)) ∈ lw_all := lw_g (lw_at lw_m5 53 rfl) rfl
theorem q1063 : (Jvm.Cond.selects "BranchCells$Pile" ({ cls := "BranchCells$Pile", name := "put", desc := "(JLBranchCells$Task;)V" } : Jvm.MethodName) ({ cls := "BranchCells$Pile", name := "put", desc := "(JLBranchCells$Task;)V" } : Jvm.MethodName)) ∈ lw_all := lw_g (lw_at lw_m5 54 rfl) rfl
theorem q1064 : (Jvm.Cond.code ({ cls := "BranchCells$Pile", name := "put", desc := "(JLBranchCells$Task;)V" } : Jvm.MethodName) prog_28_method_3_code (4 : Nat) (Option.none : Option Jvm.ClassFile.FieldType)) ∈ lw_all := lw_g (lw_at lw_m5 55 rfl) rfl
theorem q1065 : (Jvm.Cond.classLink "BranchCells$Pile" (15 : Nat) "BranchCells$Failing") ∈ lw_all := lw_g (lw_at lw_m5 56 rfl) rfl
theorem q1066 : (Jvm.Cond.methodLink "BranchCells$Pile" (17 : Nat) ({ cls := "BranchCells$Failing", name := "<init>", desc := "(I)V" } : Jvm.MethodName)) ∈ lw_all := lw_g (lw_at lw_m5 57 rfl) rfl
theorem q1067 : (Jvm.Cond.methodLink "BranchCells$Pile" (18 : Nat) ({ cls := "BranchCells$Pile", name := "put", desc := "(IJLBranchCells$Task;)V" } : Jvm.MethodName)) ∈ lw_all := lw_g (lw_at lw_m5 58 rfl) rfl
theorem q1068 : (Jvm.Cond.sameMethod "BranchCells$Pile" "BranchCells$Values" "put" "(IJLBranchCells$Task;)V") ∈ lw_all := lw_g (lw_at lw_m5 59 rfl) rfl
theorem q1070 : (Jvm.Cond.selects "BranchCells$Pile" ({ cls := "BranchCells$Pile", name := "put", desc := "(IJLBranchCells$Task;)V" } : Jvm.MethodName) ({ cls := "BranchCells$Values", name := "put", desc := "(IJLBranchCells$Task;)V" } : Jvm.MethodName)) ∈ lw_all := lw_g (lw_at lw_m5 61 rfl) rfl
theorem q1075 : (Jvm.Cond.instanceMethod ({ cls := "BranchCells$Pile", name := "take", desc := "()I" } : Jvm.MethodName)) ∈ lw_all := lw_g (lw_at lw_m5 66 rfl) rfl
theorem q1076 : (Jvm.Cond.selects "BranchCells$Pile" ({ cls := "BranchCells$Pile", name := "take", desc := "()I" } : Jvm.MethodName) ({ cls := "BranchCells$Pile", name := "take", desc := "()I" } : Jvm.MethodName)) ∈ lw_all := lw_g (lw_at lw_m5 67 rfl) rfl
theorem q1077 : (Jvm.Cond.code ({ cls := "BranchCells$Pile", name := "take", desc := "()I" } : Jvm.MethodName) prog_28_method_2_code (1 : Nat) (Option.some Jvm.ClassFile.FieldType.int)) ∈ lw_all := lw_g (lw_at lw_m5 68 rfl) rfl
theorem q1079 : (Jvm.Cond.sameMethod "BranchCells$Pile" "BranchCells$Values" "number" "(I)J") ∈ lw_all := lw_g (lw_at lw_m5 70 rfl) rfl
theorem q1081 : (Jvm.Cond.selects "BranchCells$Pile" ({ cls := "BranchCells$Pile", name := "number", desc := "(I)J" } : Jvm.MethodName) ({ cls := "BranchCells$Values", name := "number", desc := "(I)J" } : Jvm.MethodName)) ∈ lw_all := lw_g (lw_at lw_m5 72 rfl) rfl
theorem q1155 : (Jvm.Cond.sameMethod "BranchCells$Pile" "BranchCells$Values" "task" "(I)LBranchCells$Task;") ∈ lw_all := lw_g (lw_at lw_m5 146 rfl) rfl
theorem q1157 : (Jvm.Cond.selects "BranchCells$Pile" ({ cls := "BranchCells$Pile", name := "task", desc := "(I)LBranchCells$Task;" } : Jvm.MethodName) ({ cls := "BranchCells$Values", name := "task", desc := "(I)LBranchCells$Task;" } : Jvm.MethodName)) ∈ lw_all := lw_g (lw_at lw_m5 148 rfl) rfl
theorem q1358 : (Jvm.Cond.selects "BranchCells$Pile" ({ cls := "java/lang/Object", name := "equals", desc := "(Ljava/lang/Object;)Z" } : Jvm.MethodName) ({ cls := "java/lang/Object", name := "equals", desc := "(Ljava/lang/Object;)Z" } : Jvm.MethodName)) ∈ lw_all := lw_g (lw_at lw_m6 109 rfl) rfl
theorem q1839 : (Jvm.Cond.castable "BranchCells$Pile" "java/lang/Object") ∈ lw_tbl := lw_at lw_m8 110 rfl
theorem in_X31 : ∀ w ∈ wsX310, w ∈ lw_all := lw_in wsX310 [813, 814, 811] (by decide +kernel) (by decide +kernel)
theorem nmX32 : ∀ a, a < 7 → ∀ b, b < 7 → a ≠ b → (TX32 a).2.1 ≠ (TX32 b).2.1 := by decide +kernel
theorem tyX32_ok : ∀ k, k < 7 → parseFieldDescriptor (TX32 k).2.2.1 = some (tyX32 k) := by decide +kernel
theorem q95 : (Jvm.Cond.initialized "BranchCells$Failing") ∈ lw_all := lw_g (lw_at lw_m1 46 rfl) rfl
theorem q563 : (Jvm.Cond.selects "BranchCells$Failing" ({ cls := "java/lang/Object", name := "getClass", desc := "()Ljava/lang/Class;" } : Jvm.MethodName) ({ cls := "java/lang/Object", name := "getClass", desc := "()Ljava/lang/Class;" } : Jvm.MethodName)) ∈ lw_all := lw_g (lw_at lw_m3 34 rfl) rfl
theorem q963 : (Jvm.Cond.instantiable "BranchCells$Failing" (7 : Nat)) ∈ lw_all := lw_g (lw_at lw_m4 194 rfl) rfl
theorem q964 : (Jvm.Cond.castable "BranchCells$Failing" "BranchCells$Failing") ∈ lw_tbl := lw_at lw_m4 195 rfl
theorem q969 : (Jvm.Cond.selects "BranchCells$Failing" ({ cls := "java/lang/Throwable", name := "fillInStackTrace", desc := "(I)Ljava/lang/Throwable;" } : Jvm.MethodName) ({ cls := "java/lang/Throwable", name := "fillInStackTrace", desc := "(I)Ljava/lang/Throwable;" } : Jvm.MethodName)) ∈ lw_all := lw_g (lw_at lw_m4 200 rfl) rfl
theorem q970 : (Jvm.Cond.selects "BranchCells$Failing" ({ cls := "java/lang/Throwable", name := "fillInStackTrace", desc := "()Ljava/lang/Throwable;" } : Jvm.MethodName) ({ cls := "java/lang/Throwable", name := "fillInStackTrace", desc := "()Ljava/lang/Throwable;" } : Jvm.MethodName)) ∈ lw_all := lw_g (lw_at lw_m4 201 rfl) rfl
theorem q971 : (Jvm.Cond.lays "BranchCells$Failing" "java/lang/Throwable" "cause" "Ljava/lang/Throwable;") ∈ lw_all := lw_g (lw_at lw_m4 202 rfl) rfl
theorem q973 : (Jvm.Cond.lays "BranchCells$Failing" "java/lang/Throwable" "stackTrace" "[Ljava/lang/StackTraceElement;") ∈ lw_all := lw_g (lw_at lw_m4 204 rfl) rfl
theorem q975 : (Jvm.Cond.lays "BranchCells$Failing" "java/lang/Throwable" "suppressedExceptions" "Ljava/util/List;") ∈ lw_all := lw_g (lw_at lw_m4 206 rfl) rfl
theorem q977 : (Jvm.Cond.lays "BranchCells$Failing" "java/lang/Throwable" "detailMessage" "Ljava/lang/String;") ∈ lw_all := lw_g (lw_at lw_m4 208 rfl) rfl
theorem q979 : (Jvm.Cond.lays "BranchCells$Failing" "java/lang/Throwable" "backtrace" "Ljava/lang/Object;") ∈ lw_all := lw_g (lw_at lw_m4 210 rfl) rfl
theorem q1000 : (Jvm.Cond.instanceMethod ({ cls := "BranchCells$Failing", name := "<init>", desc := "(I)V" } : Jvm.MethodName)) ∈ lw_all := lw_g (lw_at lw_m4 231 rfl) rfl
theorem q1001 : (Jvm.Cond.code ({ cls := "BranchCells$Failing", name := "<init>", desc := "(I)V" } : Jvm.MethodName) prog_26_method_1_code (2 : Nat) (Option.none : Option Jvm.ClassFile.FieldType)) ∈ lw_all := lw_g (lw_at lw_m4 232 rfl) rfl
theorem q1002 : (Jvm.Cond.methodLink "BranchCells$Failing" (1 : Nat) ({ cls := "java/lang/Exception", name := "<init>", desc := "(Ljava/lang/String;Ljava/lang/Throwable;ZZ)V" } : Jvm.MethodName)) ∈ lw_all := lw_g (lw_at lw_m4 233 rfl) rfl
theorem q1008 : (Jvm.Cond.fieldLink "BranchCells$Failing" (7 : Nat) "BranchCells$Failing" "by" "I") ∈ lw_all := lw_g (lw_at lw_m4 239 rfl) rfl
theorem q1015 : (Jvm.Cond.laysFinal "BranchCells$Failing" "BranchCells$Failing" "by" "I") ∈ lw_all := lw_g (lw_at lw_m5 6 rfl) rfl
theorem q1016 : (Jvm.Cond.soleField "BranchCells$Failing" "by") ∈ lw_all := lw_g (lw_at lw_m5 7 rfl) rfl
theorem q1021 : (Jvm.Cond.lays "BranchCells$Failing" "java/lang/Throwable" "depth" "I") ∈ lw_all := lw_g (lw_at lw_m5 12 rfl) rfl
theorem q1024 : (Jvm.Cond.superclass "BranchCells$Failing" "java/lang/Exception") ∈ lw_all := lw_g (lw_at lw_m5 15 rfl) rfl
theorem q1356 : (Jvm.Cond.selects "BranchCells$Failing" ({ cls := "java/lang/Object", name := "equals", desc := "(Ljava/lang/Object;)Z" } : Jvm.MethodName) ({ cls := "java/lang/Object", name := "equals", desc := "(Ljava/lang/Object;)Z" } : Jvm.MethodName)) ∈ lw_all := lw_g (lw_at lw_m6 107 rfl) rfl
theorem q1840 : (Jvm.Cond.castable "BranchCells$Failing" "java/lang/Object") ∈ lw_tbl := lw_at lw_m8 111 rfl
theorem in_X32 : ∀ w ∈ wsX320, w ∈ lw_all := lw_in wsX320 [971, 973, 975, 977, 979, 1021, 1015] (by decide +kernel) (by decide +kernel)
theorem tyX4_ok : ∀ k, k < 3 → parseFieldDescriptor (TX4 k).2.2.1 = some (tyX4 k) := by decide +kernel
theorem q57 : (Jvm.Cond.initialized "BranchCells$3") ∈ lw_all := lw_g (lw_at lw_m1 8 rfl) rfl
theorem q174 : (Jvm.Cond.instantiable "BranchCells$3" (3 : Nat)) ∈ lw_all := lw_g (lw_at lw_m1 125 rfl) rfl
theorem q176 : (Jvm.Cond.instanceMethod ({ cls := "BranchCells$3", name := "<init>", desc := "(LBranchCells;I)V" } : Jvm.MethodName)) ∈ lw_all := lw_g (lw_at lw_m1 127 rfl) rfl
theorem q177 : (Jvm.Cond.code ({ cls := "BranchCells$3", name := "<init>", desc := "(LBranchCells;I)V" } : Jvm.MethodName) prog_17_method_1_code (3 : Nat) (Option.none : Option Jvm.ClassFile.FieldType)) ∈ lw_all := lw_g (lw_at lw_m1 128 rfl) rfl
theorem q178 : (Jvm.Cond.methodLink "BranchCells$3" (7 : Nat) ({ cls := "BranchCells$Doer", name := "<init>", desc := "(LBranchCells;I)V" } : Jvm.MethodName)) ∈ lw_all := lw_g (lw_at lw_m1 129 rfl) rfl
theorem q179 : (Jvm.Cond.fieldLink "BranchCells$3" (1 : Nat) "BranchCells$3" "this$0" "LBranchCells;") ∈ lw_all := lw_g (lw_at lw_m1 130 rfl) rfl
theorem q180 : (Jvm.Cond.laysFinal "BranchCells$3" "BranchCells$3" "this$0" "LBranchCells;") ∈ lw_all := lw_g (lw_at lw_m1 131 rfl) rfl
theorem q181 : (Jvm.Cond.soleField "BranchCells$3" "this$0") ∈ lw_all := lw_g (lw_at lw_m1 132 rfl) rfl
theorem q182 : (Jvm.Cond.laysFinal "BranchCells$3" "BranchCells$Doer" "takes" "I") ∈ lw_all := lw_g (lw_at lw_m1 133 rfl) rfl
theorem q183 : (Jvm.Cond.laysFinal "BranchCells$3" "BranchCells$Doer" "this$0" "LBranchCells;") ∈ lw_all := lw_g (lw_at lw_m1 134 rfl) rfl
theorem q184 : (Jvm.Cond.superclass "BranchCells$3" "BranchCells$Doer") ∈ lw_all := lw_g (lw_at lw_m1 135 rfl) rfl
theorem q555 : (Jvm.Cond.selects "BranchCells$3" ({ cls := "java/lang/Object", name := "getClass", desc := "()Ljava/lang/Class;" } : Jvm.MethodName) ({ cls := "java/lang/Object", name := "getClass", desc := "()Ljava/lang/Class;" } : Jvm.MethodName)) ∈ lw_all := lw_g (lw_at lw_m3 26 rfl) rfl
theorem q863 : (Jvm.Cond.fieldLinkNest "BranchCells$3" (13 : Nat) "BranchCells$Task" "present" "LBranchCells$Segment;" "BranchCells") ∈ lw_tbl := lw_at lw_m4 94 rfl
theorem q1043 : (Jvm.Cond.selects "BranchCells$3" ({ cls := "BranchCells$Doer", name := "takes", desc := "()I" } : Jvm.MethodName) ({ cls := "BranchCells$Doer", name := "takes", desc := "()I" } : Jvm.MethodName)) ∈ lw_all := lw_g (lw_at lw_m5 34 rfl) rfl
theorem q1208 : (Jvm.Cond.selects "BranchCells$3" ({ cls := "BranchCells$Doer", name := "does", desc := "(LBranchCells$Task;I)V" } : Jvm.MethodName) ({ cls := "BranchCells$3", name := "does", desc := "(LBranchCells$Task;I)V" } : Jvm.MethodName)) ∈ lw_all := lw_g (lw_at lw_m5 199 rfl) rfl
theorem q1209 : (Jvm.Cond.instanceMethod ({ cls := "BranchCells$3", name := "does", desc := "(LBranchCells$Task;I)V" } : Jvm.MethodName)) ∈ lw_all := lw_g (lw_at lw_m5 200 rfl) rfl
theorem q1210 : (Jvm.Cond.code ({ cls := "BranchCells$3", name := "does", desc := "(LBranchCells$Task;I)V" } : Jvm.MethodName) prog_17_method_2_code (3 : Nat) (Option.none : Option Jvm.ClassFile.FieldType)) ∈ lw_all := lw_g (lw_at lw_m5 201 rfl) rfl
theorem q1211 : (Jvm.Cond.methodLink "BranchCells$3" (19 : Nat) ({ cls := "BranchCells$Task", name := "number", desc := "()J" } : Jvm.MethodName)) ∈ lw_all := lw_g (lw_at lw_m5 202 rfl) rfl
theorem q1212 : (Jvm.Cond.methodLink "BranchCells$3" (23 : Nat) ({ cls := "BranchCells$Segment", name := "write", desc := "(IJ)V" } : Jvm.MethodName)) ∈ lw_all := lw_g (lw_at lw_m5 203 rfl) rfl
theorem q1348 : (Jvm.Cond.selects "BranchCells$3" ({ cls := "java/lang/Object", name := "equals", desc := "(Ljava/lang/Object;)Z" } : Jvm.MethodName) ({ cls := "java/lang/Object", name := "equals", desc := "(Ljava/lang/Object;)Z" } : Jvm.MethodName)) ∈ lw_all := lw_g (lw_at lw_m6 99 rfl) rfl
theorem q1813 : (Jvm.Cond.castable "BranchCells$3" "java/lang/Object") ∈ lw_tbl := lw_at lw_m8 84 rfl
theorem q1845 : (Jvm.Cond.castable "BranchCells$3" "BranchCells$Doer") ∈ lw_tbl := lw_at lw_m8 116 rfl
theorem in_X4 : ∀ w ∈ wsX40, w ∈ lw_all := lw_in wsX40 [182, 183, 180] (by decide +kernel) (by decide +kernel)
theorem tyX5_ok : ∀ k, k < 3 → parseFieldDescriptor (TX5 k).2.2.1 = some (tyX5 k) := by decide +kernel
theorem q58 : (Jvm.Cond.initialized "BranchCells$4") ∈ lw_all := lw_g (lw_at lw_m1 9 rfl) rfl
theorem q186 : (Jvm.Cond.instantiable "BranchCells$4" (3 : Nat)) ∈ lw_all := lw_g (lw_at lw_m1 137 rfl) rfl
theorem q188 : (Jvm.Cond.instanceMethod ({ cls := "BranchCells$4", name := "<init>", desc := "(LBranchCells;I)V" } : Jvm.MethodName)) ∈ lw_all := lw_g (lw_at lw_m1 139 rfl) rfl
theorem q189 : (Jvm.Cond.code ({ cls := "BranchCells$4", name := "<init>", desc := "(LBranchCells;I)V" } : Jvm.MethodName) prog_18_method_1_code (3 : Nat) (Option.none : Option Jvm.ClassFile.FieldType)) ∈ lw_all := lw_g (lw_at lw_m1 140 rfl) rfl
theorem q190 : (Jvm.Cond.methodLink "BranchCells$4" (7 : Nat) ({ cls := "BranchCells$Doer", name := "<init>", desc := "(LBranchCells;I)V" } : Jvm.MethodName)) ∈ lw_all := lw_g (lw_at lw_m1 141 rfl) rfl
theorem q191 : (Jvm.Cond.fieldLink "BranchCells$4" (1 : Nat) "BranchCells$4" "this$0" "LBranchCells;") ∈ lw_all := lw_g (lw_at lw_m1 142 rfl) rfl
theorem q192 : (Jvm.Cond.laysFinal "BranchCells$4" "BranchCells$4" "this$0" "LBranchCells;") ∈ lw_all := lw_g (lw_at lw_m1 143 rfl) rfl
theorem q193 : (Jvm.Cond.soleField "BranchCells$4" "this$0") ∈ lw_all := lw_g (lw_at lw_m1 144 rfl) rfl
theorem q194 : (Jvm.Cond.laysFinal "BranchCells$4" "BranchCells$Doer" "takes" "I") ∈ lw_all := lw_g (lw_at lw_m1 145 rfl) rfl
theorem q195 : (Jvm.Cond.laysFinal "BranchCells$4" "BranchCells$Doer" "this$0" "LBranchCells;") ∈ lw_all := lw_g (lw_at lw_m1 146 rfl) rfl
theorem q196 : (Jvm.Cond.superclass "BranchCells$4" "BranchCells$Doer") ∈ lw_all := lw_g (lw_at lw_m1 147 rfl) rfl
theorem q556 : (Jvm.Cond.selects "BranchCells$4" ({ cls := "java/lang/Object", name := "getClass", desc := "()Ljava/lang/Class;" } : Jvm.MethodName) ({ cls := "java/lang/Object", name := "getClass", desc := "()Ljava/lang/Class;" } : Jvm.MethodName)) ∈ lw_all := lw_g (lw_at lw_m3 27 rfl) rfl
theorem q865 : (Jvm.Cond.fieldLinkNest "BranchCells$4" (13 : Nat) "BranchCells$Task" "present" "LBranchCells$Segment;" "BranchCells") ∈ lw_tbl := lw_at lw_m4 96 rfl
theorem q1044 : (Jvm.Cond.selects "BranchCells$4" ({ cls := "BranchCells$Doer", name := "takes", desc := "()I" } : Jvm.MethodName) ({ cls := "BranchCells$Doer", name := "takes", desc := "()I" } : Jvm.MethodName)) ∈ lw_all := lw_g (lw_at lw_m5 35 rfl) rfl
theorem q1213 : (Jvm.Cond.selects "BranchCells$4" ({ cls := "BranchCells$Doer", name := "does", desc := "(LBranchCells$Task;I)V" } : Jvm.MethodName) ({ cls := "BranchCells$4", name := "does", desc := "(LBranchCells$Task;I)V" } : Jvm.MethodName)) ∈ lw_all := lw_g (lw_at lw_m5 204 rfl) rfl
theorem q1214 : (Jvm.Cond.instanceMethod ({ cls := "BranchCells$4", name := "does", desc := "(LBranchCells$Task;I)V" } : Jvm.MethodName)) ∈ lw_all := lw_g (lw_at lw_m5 205 rfl) rfl
theorem q1215 : (Jvm.Cond.code ({ cls := "BranchCells$4", name := "does", desc := "(LBranchCells$Task;I)V" } : Jvm.MethodName) prog_18_method_2_code (3 : Nat) (Option.none : Option Jvm.ClassFile.FieldType)) ∈ lw_all := lw_g (lw_at lw_m5 206 rfl) rfl
theorem q1216 : (Jvm.Cond.methodLink "BranchCells$4" (19 : Nat) ({ cls := "BranchCells$Task", name := "number", desc := "()J" } : Jvm.MethodName)) ∈ lw_all := lw_g (lw_at lw_m5 207 rfl) rfl
theorem q1217 : (Jvm.Cond.methodLinkNest "BranchCells$4" (23 : Nat) ({ cls := "BranchCells", name := "cell", desc := "(J)I" } : Jvm.MethodName) "BranchCells") ∈ lw_tbl := lw_at lw_m5 208 rfl
theorem q1220 : (Jvm.Cond.methodLink "BranchCells$4" (29 : Nat) ({ cls := "BranchCells$Segment", name := "read", desc := "(LBranchCells$Segment;I)J" } : Jvm.MethodName)) ∈ lw_all := lw_g (lw_at lw_m5 211 rfl) rfl
theorem q1221 : (Jvm.Cond.methodLink "BranchCells$4" (35 : Nat) ({ cls := "BranchCells$Task", name := "put", desc := "(J)V" } : Jvm.MethodName)) ∈ lw_all := lw_g (lw_at lw_m5 212 rfl) rfl
theorem q1349 : (Jvm.Cond.selects "BranchCells$4" ({ cls := "java/lang/Object", name := "equals", desc := "(Ljava/lang/Object;)Z" } : Jvm.MethodName) ({ cls := "java/lang/Object", name := "equals", desc := "(Ljava/lang/Object;)Z" } : Jvm.MethodName)) ∈ lw_all := lw_g (lw_at lw_m6 100 rfl) rfl
theorem q1814 : (Jvm.Cond.castable "BranchCells$4" "java/lang/Object") ∈ lw_tbl := lw_at lw_m8 85 rfl
theorem q1846 : (Jvm.Cond.castable "BranchCells$4" "BranchCells$Doer") ∈ lw_tbl := lw_at lw_m8 117 rfl
theorem in_X5 : ∀ w ∈ wsX50, w ∈ lw_all := lw_in wsX50 [194, 195, 192] (by decide +kernel) (by decide +kernel)
theorem tyX6_ok : ∀ k, k < 3 → parseFieldDescriptor (TX6 k).2.2.1 = some (tyX6 k) := by decide +kernel
theorem q59 : (Jvm.Cond.initialized "BranchCells$5") ∈ lw_all := lw_g (lw_at lw_m1 10 rfl) rfl
theorem q198 : (Jvm.Cond.instantiable "BranchCells$5" (3 : Nat)) ∈ lw_all := lw_g (lw_at lw_m1 149 rfl) rfl
theorem q200 : (Jvm.Cond.instanceMethod ({ cls := "BranchCells$5", name := "<init>", desc := "(LBranchCells;I)V" } : Jvm.MethodName)) ∈ lw_all := lw_g (lw_at lw_m1 151 rfl) rfl
theorem q201 : (Jvm.Cond.code ({ cls := "BranchCells$5", name := "<init>", desc := "(LBranchCells;I)V" } : Jvm.MethodName) prog_19_method_1_code (3 : Nat) (Option.none : Option Jvm.ClassFile.FieldType)) ∈ lw_all := lw_g (lw_at lw_m1 152 rfl) rfl
theorem q202 : (Jvm.Cond.methodLink "BranchCells$5" (7 : Nat) ({ cls := "BranchCells$Doer", name := "<init>", desc := "(LBranchCells;I)V" } : Jvm.MethodName)) ∈ lw_all := lw_g (lw_at lw_m1 153 rfl) rfl
theorem q203 : (Jvm.Cond.fieldLink "BranchCells$5" (1 : Nat) "BranchCells$5" "this$0" "LBranchCells;") ∈ lw_all := lw_g (lw_at lw_m1 154 rfl) rfl
theorem q204 : (Jvm.Cond.laysFinal "BranchCells$5" "BranchCells$5" "this$0" "LBranchCells;") ∈ lw_all := lw_g (lw_at lw_m1 155 rfl) rfl
theorem q205 : (Jvm.Cond.soleField "BranchCells$5" "this$0") ∈ lw_all := lw_g (lw_at lw_m1 156 rfl) rfl
theorem q206 : (Jvm.Cond.laysFinal "BranchCells$5" "BranchCells$Doer" "takes" "I") ∈ lw_all := lw_g (lw_at lw_m1 157 rfl) rfl
theorem q207 : (Jvm.Cond.laysFinal "BranchCells$5" "BranchCells$Doer" "this$0" "LBranchCells;") ∈ lw_all := lw_g (lw_at lw_m1 158 rfl) rfl
theorem q208 : (Jvm.Cond.superclass "BranchCells$5" "BranchCells$Doer") ∈ lw_all := lw_g (lw_at lw_m1 159 rfl) rfl
theorem q557 : (Jvm.Cond.selects "BranchCells$5" ({ cls := "java/lang/Object", name := "getClass", desc := "()Ljava/lang/Class;" } : Jvm.MethodName) ({ cls := "java/lang/Object", name := "getClass", desc := "()Ljava/lang/Class;" } : Jvm.MethodName)) ∈ lw_all := lw_g (lw_at lw_m3 28 rfl) rfl
theorem q855 : (Jvm.Cond.fieldLinkNest "BranchCells$5" (13 : Nat) "BranchCells$Task" "pile" "LBranchCells$Pile;" "BranchCells") ∈ lw_tbl := lw_at lw_m4 86 rfl
theorem q866 : (Jvm.Cond.fieldLinkNest "BranchCells$5" (29 : Nat) "BranchCells$Task" "present" "LBranchCells$Segment;" "BranchCells") ∈ lw_tbl := lw_at lw_m4 97 rfl
theorem q1045 : (Jvm.Cond.selects "BranchCells$5" ({ cls := "BranchCells$Doer", name := "takes", desc := "()I" } : Jvm.MethodName) ({ cls := "BranchCells$Doer", name := "takes", desc := "()I" } : Jvm.MethodName)) ∈ lw_all := lw_g (lw_at lw_m5 36 rfl) rfl
theorem q1222 : (Jvm.Cond.selects "BranchCells$5" ({ cls := "BranchCells$Doer", name := "does", desc := "(LBranchCells$Task;I)V" } : Jvm.MethodName) ({ cls := "BranchCells$5", name := "does", desc := "(LBranchCells$Task;I)V" } : Jvm.MethodName)) ∈ lw_all := lw_g (lw_at lw_m5 213 rfl) rfl
theorem q1223 : (Jvm.Cond.instanceMethod ({ cls := "BranchCells$5", name := "does", desc := "(LBranchCells$Task;I)V" } : Jvm.MethodName)) ∈ lw_all := lw_g (lw_at lw_m5 214 rfl) rfl
theorem q1224 : (Jvm.Cond.code ({ cls := "BranchCells$5", name := "does", desc := "(LBranchCells$Task;I)V" } : Jvm.MethodName) prog_19_method_2_code (7 : Nat) (Option.none : Option Jvm.ClassFile.FieldType)) ∈ lw_all := lw_g (lw_at lw_m5 215 rfl) rfl
theorem q1225 : (Jvm.Cond.methodLink "BranchCells$5" (19 : Nat) ({ cls := "BranchCells$Pile", name := "take", desc := "()I" } : Jvm.MethodName)) ∈ lw_all := lw_g (lw_at lw_m5 216 rfl) rfl
theorem q1226 : (Jvm.Cond.methodLink "BranchCells$5" (25 : Nat) ({ cls := "BranchCells$Pile", name := "number", desc := "(I)J" } : Jvm.MethodName)) ∈ lw_all := lw_g (lw_at lw_m5 217 rfl) rfl
theorem q1227 : (Jvm.Cond.methodLinkNest "BranchCells$5" (33 : Nat) ({ cls := "BranchCells", name := "cell", desc := "(J)I" } : Jvm.MethodName) "BranchCells") ∈ lw_tbl := lw_at lw_m5 218 rfl
theorem q1228 : (Jvm.Cond.methodLink "BranchCells$5" (39 : Nat) ({ cls := "BranchCells$Segment", name := "write", desc := "(IJ)V" } : Jvm.MethodName)) ∈ lw_all := lw_g (lw_at lw_m5 219 rfl) rfl
theorem q1350 : (Jvm.Cond.selects "BranchCells$5" ({ cls := "java/lang/Object", name := "equals", desc := "(Ljava/lang/Object;)Z" } : Jvm.MethodName) ({ cls := "java/lang/Object", name := "equals", desc := "(Ljava/lang/Object;)Z" } : Jvm.MethodName)) ∈ lw_all := lw_g (lw_at lw_m6 101 rfl) rfl
theorem q1815 : (Jvm.Cond.castable "BranchCells$5" "java/lang/Object") ∈ lw_tbl := lw_at lw_m8 86 rfl
theorem q1847 : (Jvm.Cond.castable "BranchCells$5" "BranchCells$Doer") ∈ lw_tbl := lw_at lw_m8 118 rfl
theorem in_X6 : ∀ w ∈ wsX60, w ∈ lw_all := lw_in wsX60 [206, 207, 204] (by decide +kernel) (by decide +kernel)
theorem q60 : (Jvm.Cond.initialized "BranchCells$Reckoner") ∈ lw_all := lw_g (lw_at lw_m1 11 rfl) rfl
theorem q219 : (Jvm.Cond.instanceMethod ({ cls := "BranchCells$Reckoner", name := "<init>", desc := "(LBranchCells;)V" } : Jvm.MethodName)) ∈ lw_all := lw_g (lw_at lw_m1 170 rfl) rfl
theorem q220 : (Jvm.Cond.code ({ cls := "BranchCells$Reckoner", name := "<init>", desc := "(LBranchCells;)V" } : Jvm.MethodName) prog_29_method_1_code (2 : Nat) (Option.none : Option Jvm.ClassFile.FieldType)) ∈ lw_all := lw_g (lw_at lw_m1 171 rfl) rfl
theorem q221 : (Jvm.Cond.methodLink "BranchCells$Reckoner" (7 : Nat) ({ cls := "BranchCells$Doer", name := "<init>", desc := "(LBranchCells;I)V" } : Jvm.MethodName)) ∈ lw_all := lw_g (lw_at lw_m1 172 rfl) rfl
theorem q223 : (Jvm.Cond.fieldLink "BranchCells$Reckoner" (1 : Nat) "BranchCells$Reckoner" "this$0" "LBranchCells;") ∈ lw_all := lw_g (lw_at lw_m1 174 rfl) rfl
theorem q227 : (Jvm.Cond.soleField "BranchCells$Reckoner" "this$0") ∈ lw_all := lw_g (lw_at lw_m1 178 rfl) rfl
theorem q849 : (Jvm.Cond.fieldLinkNest "BranchCells$Reckoner" (13 : Nat) "BranchCells$Task" "pile" "LBranchCells$Pile;" "BranchCells") ∈ lw_tbl := lw_at lw_m4 80 rfl
theorem q1072 : (Jvm.Cond.instanceMethod ({ cls := "BranchCells$Reckoner", name := "does", desc := "(LBranchCells$Task;I)V" } : Jvm.MethodName)) ∈ lw_all := lw_g (lw_at lw_m5 63 rfl) rfl
theorem q1073 : (Jvm.Cond.code ({ cls := "BranchCells$Reckoner", name := "does", desc := "(LBranchCells$Task;I)V" } : Jvm.MethodName) prog_29_method_2_code (7 : Nat) (Option.none : Option Jvm.ClassFile.FieldType)) ∈ lw_all := lw_g (lw_at lw_m5 64 rfl) rfl
theorem q1074 : (Jvm.Cond.methodLink "BranchCells$Reckoner" (19 : Nat) ({ cls := "BranchCells$Pile", name := "take", desc := "()I" } : Jvm.MethodName)) ∈ lw_all := lw_g (lw_at lw_m5 65 rfl) rfl
theorem q1078 : (Jvm.Cond.methodLink "BranchCells$Reckoner" (25 : Nat) ({ cls := "BranchCells$Pile", name := "number", desc := "(I)J" } : Jvm.MethodName)) ∈ lw_all := lw_g (lw_at lw_m5 69 rfl) rfl
theorem q1086 : (Jvm.Cond.methodLink "BranchCells$Reckoner" (29 : Nat) ({ cls := "BranchCells$Reckoner", name := "of", desc := "(JJ)J" } : Jvm.MethodName)) ∈ lw_all := lw_g (lw_at lw_m5 77 rfl) rfl
theorem q1087 : (Jvm.Cond.declares ({ cls := "BranchCells$Reckoner", name := "of", desc := "(JJ)J" } : Jvm.MethodName)) ∈ lw_tbl := lw_at lw_m5 78 rfl
theorem q1088 : (Jvm.Cond.sameMethod "BranchCells$Reckoner" "BranchCells$Reckoner" "of" "(JJ)J") ∈ lw_all := lw_g (lw_at lw_m5 79 rfl) rfl
theorem q1112 : (Jvm.Cond.methodLink "BranchCells$Reckoner" (33 : Nat) ({ cls := "BranchCells$Task", name := "put", desc := "(J)V" } : Jvm.MethodName)) ∈ lw_all := lw_g (lw_at lw_m5 103 rfl) rfl
theorem tyX8_ok : ∀ k, k < 4 → parseFieldDescriptor (TX8 k).2.2.1 = some (tyX8 k) := by decide +kernel
theorem q61 : (Jvm.Cond.initialized "BranchCells$6") ∈ lw_all := lw_g (lw_at lw_m1 12 rfl) rfl
theorem q214 : (Jvm.Cond.instantiable "BranchCells$6" (4 : Nat)) ∈ lw_all := lw_g (lw_at lw_m1 165 rfl) rfl
theorem q216 : (Jvm.Cond.instanceMethod ({ cls := "BranchCells$6", name := "<init>", desc := "(LBranchCells;)V" } : Jvm.MethodName)) ∈ lw_all := lw_g (lw_at lw_m1 167 rfl) rfl
theorem q217 : (Jvm.Cond.code ({ cls := "BranchCells$6", name := "<init>", desc := "(LBranchCells;)V" } : Jvm.MethodName) prog_20_method_1_code (2 : Nat) (Option.none : Option Jvm.ClassFile.FieldType)) ∈ lw_all := lw_g (lw_at lw_m1 168 rfl) rfl
theorem q218 : (Jvm.Cond.methodLinkNest "BranchCells$6" (7 : Nat) ({ cls := "BranchCells$Reckoner", name := "<init>", desc := "(LBranchCells;)V" } : Jvm.MethodName) "BranchCells") ∈ lw_tbl := lw_at lw_m1 169 rfl
theorem q222 : (Jvm.Cond.fieldLink "BranchCells$6" (1 : Nat) "BranchCells$6" "this$0" "LBranchCells;") ∈ lw_all := lw_g (lw_at lw_m1 173 rfl) rfl
theorem q224 : (Jvm.Cond.laysFinal "BranchCells$6" "BranchCells$6" "this$0" "LBranchCells;") ∈ lw_all := lw_g (lw_at lw_m1 175 rfl) rfl
theorem q225 : (Jvm.Cond.soleField "BranchCells$6" "this$0") ∈ lw_all := lw_g (lw_at lw_m1 176 rfl) rfl
theorem q226 : (Jvm.Cond.laysFinal "BranchCells$6" "BranchCells$Reckoner" "this$0" "LBranchCells;") ∈ lw_all := lw_g (lw_at lw_m1 177 rfl) rfl
theorem q228 : (Jvm.Cond.laysFinal "BranchCells$6" "BranchCells$Doer" "takes" "I") ∈ lw_all := lw_g (lw_at lw_m1 179 rfl) rfl
theorem q229 : (Jvm.Cond.laysFinal "BranchCells$6" "BranchCells$Doer" "this$0" "LBranchCells;") ∈ lw_all := lw_g (lw_at lw_m1 180 rfl) rfl
theorem q230 : (Jvm.Cond.superclass "BranchCells$6" "BranchCells$Reckoner") ∈ lw_all := lw_g (lw_at lw_m1 181 rfl) rfl
theorem q558 : (Jvm.Cond.selects "BranchCells$6" ({ cls := "java/lang/Object", name := "getClass", desc := "()Ljava/lang/Class;" } : Jvm.MethodName) ({ cls := "java/lang/Object", name := "getClass", desc := "()Ljava/lang/Class;" } : Jvm.MethodName)) ∈ lw_all := lw_g (lw_at lw_m3 29 rfl) rfl
theorem q1046 : (Jvm.Cond.selects "BranchCells$6" ({ cls := "BranchCells$Doer", name := "takes", desc := "()I" } : Jvm.MethodName) ({ cls := "BranchCells$Doer", name := "takes", desc := "()I" } : Jvm.MethodName)) ∈ lw_all := lw_g (lw_at lw_m5 37 rfl) rfl
theorem q1098 : (Jvm.Cond.selects "BranchCells$6" ({ cls := "BranchCells$Reckoner", name := "of", desc := "(JJ)J" } : Jvm.MethodName) ({ cls := "BranchCells$6", name := "of", desc := "(JJ)J" } : Jvm.MethodName)) ∈ lw_all := lw_g (lw_at lw_m5 89 rfl) rfl
theorem q1099 : (Jvm.Cond.instanceMethod ({ cls := "BranchCells$6", name := "of", desc := "(JJ)J" } : Jvm.MethodName)) ∈ lw_all := lw_g (lw_at lw_m5 90 rfl) rfl
theorem q1100 : (Jvm.Cond.code ({ cls := "BranchCells$6", name := "of", desc := "(JJ)J" } : Jvm.MethodName) prog_20_method_2_code (5 : Nat) (Option.some Jvm.ClassFile.FieldType.long)) ∈ lw_all := lw_g (lw_at lw_m5 91 rfl) rfl
theorem q1229 : (Jvm.Cond.selects "BranchCells$6" ({ cls := "BranchCells$Doer", name := "does", desc := "(LBranchCells$Task;I)V" } : Jvm.MethodName) ({ cls := "BranchCells$Reckoner", name := "does", desc := "(LBranchCells$Task;I)V" } : Jvm.MethodName)) ∈ lw_all := lw_g (lw_at lw_m5 220 rfl) rfl
theorem q1351 : (Jvm.Cond.selects "BranchCells$6" ({ cls := "java/lang/Object", name := "equals", desc := "(Ljava/lang/Object;)Z" } : Jvm.MethodName) ({ cls := "java/lang/Object", name := "equals", desc := "(Ljava/lang/Object;)Z" } : Jvm.MethodName)) ∈ lw_all := lw_g (lw_at lw_m6 102 rfl) rfl
theorem q1816 : (Jvm.Cond.castable "BranchCells$6" "java/lang/Object") ∈ lw_tbl := lw_at lw_m8 87 rfl
theorem q1848 : (Jvm.Cond.castable "BranchCells$6" "BranchCells$Doer") ∈ lw_tbl := lw_at lw_m8 119 rfl
theorem in_X8 : ∀ w ∈ wsX80, w ∈ lw_all := lw_in wsX80 [226, 228, 229, 224] (by decide +kernel) (by decide +kernel)
theorem tyX9_ok : ∀ k, k < 4 → parseFieldDescriptor (TX9 k).2.2.1 = some (tyX9 k) := by decide +kernel
theorem q62 : (Jvm.Cond.initialized "BranchCells$7") ∈ lw_all := lw_g (lw_at lw_m1 13 rfl) rfl
theorem q232 : (Jvm.Cond.instantiable "BranchCells$7" (4 : Nat)) ∈ lw_all := lw_g (lw_at lw_m1 183 rfl) rfl
theorem q234 : (Jvm.Cond.instanceMethod ({ cls := "BranchCells$7", name := "<init>", desc := "(LBranchCells;)V" } : Jvm.MethodName)) ∈ lw_all := lw_g (lw_at lw_m1 185 rfl) rfl
theorem q235 : (Jvm.Cond.code ({ cls := "BranchCells$7", name := "<init>", desc := "(LBranchCells;)V" } : Jvm.MethodName) prog_21_method_1_code (2 : Nat) (Option.none : Option Jvm.ClassFile.FieldType)) ∈ lw_all := lw_g (lw_at lw_m1 186 rfl) rfl
theorem q236 : (Jvm.Cond.methodLinkNest "BranchCells$7" (7 : Nat) ({ cls := "BranchCells$Reckoner", name := "<init>", desc := "(LBranchCells;)V" } : Jvm.MethodName) "BranchCells") ∈ lw_tbl := lw_at lw_m1 187 rfl
theorem q237 : (Jvm.Cond.fieldLink "BranchCells$7" (1 : Nat) "BranchCells$7" "this$0" "LBranchCells;") ∈ lw_all := lw_g (lw_at lw_m1 188 rfl) rfl
theorem q238 : (Jvm.Cond.laysFinal "BranchCells$7" "BranchCells$7" "this$0" "LBranchCells;") ∈ lw_all := lw_g (lw_at lw_m1 189 rfl) rfl
theorem q239 : (Jvm.Cond.soleField "BranchCells$7" "this$0") ∈ lw_all := lw_g (lw_at lw_m1 190 rfl) rfl
theorem q240 : (Jvm.Cond.laysFinal "BranchCells$7" "BranchCells$Reckoner" "this$0" "LBranchCells;") ∈ lw_all := lw_g (lw_at lw_m1 191 rfl) rfl
theorem q241 : (Jvm.Cond.laysFinal "BranchCells$7" "BranchCells$Doer" "takes" "I") ∈ lw_all := lw_g (lw_at lw_m1 192 rfl) rfl
theorem q242 : (Jvm.Cond.laysFinal "BranchCells$7" "BranchCells$Doer" "this$0" "LBranchCells;") ∈ lw_all := lw_g (lw_at lw_m1 193 rfl) rfl
theorem q243 : (Jvm.Cond.superclass "BranchCells$7" "BranchCells$Reckoner") ∈ lw_all := lw_g (lw_at lw_m1 194 rfl) rfl
theorem q559 : (Jvm.Cond.selects "BranchCells$7" ({ cls := "java/lang/Object", name := "getClass", desc := "()Ljava/lang/Class;" } : Jvm.MethodName) ({ cls := "java/lang/Object", name := "getClass", desc := "()Ljava/lang/Class;" } : Jvm.MethodName)) ∈ lw_all := lw_g (lw_at lw_m3 30 rfl) rfl
theorem q1047 : (Jvm.Cond.selects "BranchCells$7" ({ cls := "BranchCells$Doer", name := "takes", desc := "()I" } : Jvm.MethodName) ({ cls := "BranchCells$Doer", name := "takes", desc := "()I" } : Jvm.MethodName)) ∈ lw_all := lw_g (lw_at lw_m5 38 rfl) rfl
theorem q1101 : (Jvm.Cond.selects "BranchCells$7" ({ cls := "BranchCells$Reckoner", name := "of", desc := "(JJ)J" } : Jvm.MethodName) ({ cls := "BranchCells$7", name := "of", desc := "(JJ)J" } : Jvm.MethodName)) ∈ lw_all := lw_g (lw_at lw_m5 92 rfl) rfl
theorem q1102 : (Jvm.Cond.instanceMethod ({ cls := "BranchCells$7", name := "of", desc := "(JJ)J" } : Jvm.MethodName)) ∈ lw_all := lw_g (lw_at lw_m5 93 rfl) rfl
theorem q1103 : (Jvm.Cond.code ({ cls := "BranchCells$7", name := "of", desc := "(JJ)J" } : Jvm.MethodName) prog_21_method_2_code (5 : Nat) (Option.some Jvm.ClassFile.FieldType.long)) ∈ lw_all := lw_g (lw_at lw_m5 94 rfl) rfl
theorem q1230 : (Jvm.Cond.selects "BranchCells$7" ({ cls := "BranchCells$Doer", name := "does", desc := "(LBranchCells$Task;I)V" } : Jvm.MethodName) ({ cls := "BranchCells$Reckoner", name := "does", desc := "(LBranchCells$Task;I)V" } : Jvm.MethodName)) ∈ lw_all := lw_g (lw_at lw_m5 221 rfl) rfl
theorem q1352 : (Jvm.Cond.selects "BranchCells$7" ({ cls := "java/lang/Object", name := "equals", desc := "(Ljava/lang/Object;)Z" } : Jvm.MethodName) ({ cls := "java/lang/Object", name := "equals", desc := "(Ljava/lang/Object;)Z" } : Jvm.MethodName)) ∈ lw_all := lw_g (lw_at lw_m6 103 rfl) rfl
theorem q1817 : (Jvm.Cond.castable "BranchCells$7" "java/lang/Object") ∈ lw_tbl := lw_at lw_m8 88 rfl
theorem q1849 : (Jvm.Cond.castable "BranchCells$7" "BranchCells$Doer") ∈ lw_tbl := lw_at lw_m8 120 rfl
theorem in_X9 : ∀ w ∈ wsX90, w ∈ lw_all := lw_in wsX90 [240, 241, 242, 238] (by decide +kernel) (by decide +kernel)
theorem q49 : (Jvm.Cond.initialized "BranchCellsLaw") ∈ lw_all := lw_g (lw_at lw_m1 0 rfl) rfl
theorem q98 : (Jvm.Cond.classLink "BranchCellsLaw" (7 : Nat) "BranchCells") ∈ lw_all := lw_g (lw_at lw_m1 49 rfl) rfl
theorem q100 : (Jvm.Cond.methodLink "BranchCellsLaw" (9 : Nat) ({ cls := "BranchCells", name := "<init>", desc := "()V" } : Jvm.MethodName)) ∈ lw_all := lw_g (lw_at lw_m1 51 rfl) rfl
theorem q468 : (Jvm.Cond.methodLink "BranchCellsLaw" (13 : Nat) ({ cls := "BranchCells", name := "block", desc := "()I" } : Jvm.MethodName)) ∈ lw_all := lw_g (lw_at lw_m2 179 rfl) rfl
theorem q588 : (Jvm.Cond.methodLink "BranchCellsLaw" (18 : Nat) ({ cls := "BranchCells", name := "code", desc := "(III)I" } : Jvm.MethodName)) ∈ lw_all := lw_g (lw_at lw_m3 59 rfl) rfl
theorem q621 : (Jvm.Cond.methodLink "BranchCellsLaw" (23 : Nat) ({ cls := "BranchCells", name := "merger", desc := "()I" } : Jvm.MethodName)) ∈ lw_all := lw_g (lw_at lw_m3 92 rfl) rfl
theorem q648 : (Jvm.Cond.methodLink "BranchCellsLaw" (27 : Nat) ({ cls := "BranchCells", name := "act", desc := "(III)I" } : Jvm.MethodName)) ∈ lw_all := lw_g (lw_at lw_m3 119 rfl) rfl
theorem q657 : (Jvm.Cond.methodLink "BranchCellsLaw" (33 : Nat) ({ cls := "BranchCells", name := "tells", desc := "(IJJJ)J" } : Jvm.MethodName)) ∈ lw_all := lw_g (lw_at lw_m3 128 rfl) rfl
theorem q680 : (Jvm.Cond.methodLink "BranchCellsLaw" (38 : Nat) ({ cls := "BranchCells", name := "isRight", desc := "(I)I" } : Jvm.MethodName)) ∈ lw_all := lw_g (lw_at lw_m3 151 rfl) rfl
theorem q684 : (Jvm.Cond.methodLink "BranchCellsLaw" (43 : Nat) ({ cls := "BranchCells", name := "kind", desc := "(II)I" } : Jvm.MethodName)) ∈ lw_all := lw_g (lw_at lw_m3 155 rfl) rfl
theorem q689 : (Jvm.Cond.methodLink "BranchCellsLaw" (48 : Nat) ({ cls := "BranchCells", name := "start", desc := "(J)I" } : Jvm.MethodName)) ∈ lw_all := lw_g (lw_at lw_m3 160 rfl) rfl
theorem q928 : (Jvm.Cond.methodLink "BranchCellsLaw" (53 : Nat) ({ cls := "BranchCells", name := "stop", desc := "()I" } : Jvm.MethodName)) ∈ lw_all := lw_g (lw_at lw_m4 159 rfl) rfl
theorem q932 : (Jvm.Cond.methodLink "BranchCellsLaw" (57 : Nat) ({ cls := "BranchCells", name := "step", desc := "(II)I" } : Jvm.MethodName)) ∈ lw_all := lw_g (lw_at lw_m4 163 rfl) rfl
theorem q1238 : (Jvm.Cond.methodLink "BranchCellsLaw" (61 : Nat) ({ cls := "BranchCells", name := "ready", desc := "(I)I" } : Jvm.MethodName)) ∈ lw_all := lw_g (lw_at lw_m5 229 rfl) rfl
theorem q1242 : (Jvm.Cond.methodLink "BranchCellsLaw" (65 : Nat) ({ cls := "BranchCells", name := "deep", desc := "(I)I" } : Jvm.MethodName)) ∈ lw_all := lw_g (lw_at lw_m5 233 rfl) rfl
theorem q1252 : (Jvm.Cond.methodLink "BranchCellsLaw" (69 : Nat) ({ cls := "BranchCells", name := "drawn", desc := "(II)I" } : Jvm.MethodName)) ∈ lw_all := lw_g (lw_at lw_m6 3 rfl) rfl
theorem q1259 : (Jvm.Cond.methodLink "BranchCellsLaw" (73 : Nat) ({ cls := "BranchCells", name := "about", desc := "(II)I" } : Jvm.MethodName)) ∈ lw_all := lw_g (lw_at lw_m6 10 rfl) rfl
theorem q1272 : (Jvm.Cond.methodLink "BranchCellsLaw" (77 : Nat) ({ cls := "BranchCells", name := "result", desc := "(I)J" } : Jvm.MethodName)) ∈ lw_all := lw_g (lw_at lw_m6 23 rfl) rfl
theorem q1276 : (Jvm.Cond.methodLink "BranchCellsLaw" (82 : Nat) ({ cls := "BranchCells", name := "out", desc := "(II)J" } : Jvm.MethodName)) ∈ lw_all := lw_g (lw_at lw_m6 27 rfl) rfl
theorem q1280 : (Jvm.Cond.methodLink "BranchCellsLaw" (87 : Nat) ({ cls := "BranchCells", name := "read", desc := "(II)J" } : Jvm.MethodName)) ∈ lw_all := lw_g (lw_at lw_m6 31 rfl) rfl
theorem q1284 : (Jvm.Cond.methodLink "BranchCellsLaw" (91 : Nat) ({ cls := "BranchCells", name := "mark", desc := "(I)J" } : Jvm.MethodName)) ∈ lw_all := lw_g (lw_at lw_m6 35 rfl) rfl
theorem q1288 : (Jvm.Cond.methodLink "BranchCellsLaw" (95 : Nat) ({ cls := "BranchCells", name := "gather", desc := "()I" } : Jvm.MethodName)) ∈ lw_all := lw_g (lw_at lw_m6 39 rfl) rfl
theorem q1372 : (Jvm.Cond.methodLink "BranchCellsLaw" (99 : Nat) ({ cls := "BranchCells", name := "version", desc := "(II)J" } : Jvm.MethodName)) ∈ lw_all := lw_g (lw_at lw_m6 123 rfl) rfl
theorem q1380 : (Jvm.Cond.methodLink "BranchCellsLaw" (103 : Nat) ({ cls := "BranchCells", name := "below", desc := "(I)I" } : Jvm.MethodName)) ∈ lw_all := lw_g (lw_at lw_m6 131 rfl) rfl
theorem q1384 : (Jvm.Cond.methodLink "BranchCellsLaw" (107 : Nat) ({ cls := "BranchCells", name := "count", desc := "(I)I" } : Jvm.MethodName)) ∈ lw_all := lw_g (lw_at lw_m6 135 rfl) rfl
theorem q1440 : (Jvm.Cond.methodLink "BranchCellsLaw" (111 : Nat) ({ cls := "BranchCells", name := "digest", desc := "()J" } : Jvm.MethodName)) ∈ lw_all := lw_g (lw_at lw_m6 191 rfl) rfl
theorem q1449 : (Jvm.Cond.classLink "BranchCellsLaw" (10 : Nat) "BranchCellsModel") ∈ lw_all := lw_g (lw_at lw_m6 200 rfl) rfl
theorem q1451 : (Jvm.Cond.methodLink "BranchCellsLaw" (12 : Nat) ({ cls := "BranchCellsModel", name := "<init>", desc := "()V" } : Jvm.MethodName)) ∈ lw_all := lw_g (lw_at lw_m6 202 rfl) rfl
theorem q1580 : (Jvm.Cond.methodLink "BranchCellsLaw" (17 : Nat) ({ cls := "BranchCellsModel", name := "block", desc := "()I" } : Jvm.MethodName)) ∈ lw_all := lw_g (lw_at lw_m7 91 rfl) rfl
theorem q1584 : (Jvm.Cond.methodLink "BranchCellsLaw" (22 : Nat) ({ cls := "BranchCellsModel", name := "code", desc := "(III)I" } : Jvm.MethodName)) ∈ lw_all := lw_g (lw_at lw_m7 95 rfl) rfl
theorem q1595 : (Jvm.Cond.methodLink "BranchCellsLaw" (26 : Nat) ({ cls := "BranchCellsModel", name := "merger", desc := "()I" } : Jvm.MethodName)) ∈ lw_all := lw_g (lw_at lw_m7 106 rfl) rfl
theorem q1599 : (Jvm.Cond.methodLink "BranchCellsLaw" (30 : Nat) ({ cls := "BranchCellsModel", name := "act", desc := "(III)I" } : Jvm.MethodName)) ∈ lw_all := lw_g (lw_at lw_m7 110 rfl) rfl
theorem q1604 : (Jvm.Cond.methodLink "BranchCellsLaw" (42 : Nat) ({ cls := "BranchCellsModel", name := "isRight", desc := "(I)I" } : Jvm.MethodName)) ∈ lw_all := lw_g (lw_at lw_m7 115 rfl) rfl
theorem q1612 : (Jvm.Cond.methodLink "BranchCellsLaw" (37 : Nat) ({ cls := "BranchCellsModel", name := "tells", desc := "(IJJJ)J" } : Jvm.MethodName)) ∈ lw_all := lw_g (lw_at lw_m7 123 rfl) rfl
theorem q1625 : (Jvm.Cond.methodLink "BranchCellsLaw" (47 : Nat) ({ cls := "BranchCellsModel", name := "kind", desc := "(II)I" } : Jvm.MethodName)) ∈ lw_all := lw_g (lw_at lw_m7 136 rfl) rfl
theorem q1630 : (Jvm.Cond.methodLink "BranchCellsLaw" (52 : Nat) ({ cls := "BranchCellsModel", name := "start", desc := "(J)I" } : Jvm.MethodName)) ∈ lw_all := lw_g (lw_at lw_m7 141 rfl) rfl
theorem q1651 : (Jvm.Cond.methodLink "BranchCellsLaw" (56 : Nat) ({ cls := "BranchCellsModel", name := "stop", desc := "()I" } : Jvm.MethodName)) ∈ lw_all := lw_g (lw_at lw_m7 162 rfl) rfl
theorem q1655 : (Jvm.Cond.methodLink "BranchCellsLaw" (60 : Nat) ({ cls := "BranchCellsModel", name := "step", desc := "(II)I" } : Jvm.MethodName)) ∈ lw_all := lw_g (lw_at lw_m7 166 rfl) rfl
theorem q1721 : (Jvm.Cond.methodLink "BranchCellsLaw" (64 : Nat) ({ cls := "BranchCellsModel", name := "ready", desc := "(I)I" } : Jvm.MethodName)) ∈ lw_all := lw_g (lw_at lw_m7 232 rfl) rfl
theorem q1725 : (Jvm.Cond.methodLink "BranchCellsLaw" (68 : Nat) ({ cls := "BranchCellsModel", name := "deep", desc := "(I)I" } : Jvm.MethodName)) ∈ lw_all := lw_g (lw_at lw_m7 236 rfl) rfl
theorem q1735 : (Jvm.Cond.methodLink "BranchCellsLaw" (72 : Nat) ({ cls := "BranchCellsModel", name := "drawn", desc := "(II)I" } : Jvm.MethodName)) ∈ lw_all := lw_g (lw_at lw_m8 6 rfl) rfl
theorem q1743 : (Jvm.Cond.methodLink "BranchCellsLaw" (76 : Nat) ({ cls := "BranchCellsModel", name := "about", desc := "(II)I" } : Jvm.MethodName)) ∈ lw_all := lw_g (lw_at lw_m8 14 rfl) rfl
theorem q1747 : (Jvm.Cond.methodLink "BranchCellsLaw" (81 : Nat) ({ cls := "BranchCellsModel", name := "result", desc := "(I)J" } : Jvm.MethodName)) ∈ lw_all := lw_g (lw_at lw_m8 18 rfl) rfl
theorem q1751 : (Jvm.Cond.methodLink "BranchCellsLaw" (86 : Nat) ({ cls := "BranchCellsModel", name := "out", desc := "(II)J" } : Jvm.MethodName)) ∈ lw_all := lw_g (lw_at lw_m8 22 rfl) rfl
theorem q1755 : (Jvm.Cond.methodLink "BranchCellsLaw" (90 : Nat) ({ cls := "BranchCellsModel", name := "read", desc := "(II)J" } : Jvm.MethodName)) ∈ lw_all := lw_g (lw_at lw_m8 26 rfl) rfl
theorem q1759 : (Jvm.Cond.methodLink "BranchCellsLaw" (94 : Nat) ({ cls := "BranchCellsModel", name := "mark", desc := "(I)J" } : Jvm.MethodName)) ∈ lw_all := lw_g (lw_at lw_m8 30 rfl) rfl
theorem q1763 : (Jvm.Cond.methodLink "BranchCellsLaw" (98 : Nat) ({ cls := "BranchCellsModel", name := "gather", desc := "()I" } : Jvm.MethodName)) ∈ lw_all := lw_g (lw_at lw_m8 34 rfl) rfl
theorem q1779 : (Jvm.Cond.methodLink "BranchCellsLaw" (102 : Nat) ({ cls := "BranchCellsModel", name := "version", desc := "(II)J" } : Jvm.MethodName)) ∈ lw_all := lw_g (lw_at lw_m8 50 rfl) rfl
theorem q1787 : (Jvm.Cond.methodLink "BranchCellsLaw" (106 : Nat) ({ cls := "BranchCellsModel", name := "below", desc := "(I)I" } : Jvm.MethodName)) ∈ lw_all := lw_g (lw_at lw_m8 58 rfl) rfl
theorem q1791 : (Jvm.Cond.methodLink "BranchCellsLaw" (110 : Nat) ({ cls := "BranchCellsModel", name := "count", desc := "(I)I" } : Jvm.MethodName)) ∈ lw_all := lw_g (lw_at lw_m8 62 rfl) rfl
theorem q1795 : (Jvm.Cond.methodLink "BranchCellsLaw" (115 : Nat) ({ cls := "BranchCellsModel", name := "digest", desc := "()J" } : Jvm.MethodName)) ∈ lw_all := lw_g (lw_at lw_m8 66 rfl) rfl
theorem q1804 : (Jvm.Cond.constantLong "BranchCellsLaw" (31 : Nat) (4294967295 : Int64)) ∈ lw_all := lw_g (lw_at lw_m8 75 rfl) rfl
theorem q90 : (Jvm.Cond.initialized "BranchCells$State") ∈ lw_all := lw_g (lw_at lw_m1 41 rfl) rfl
theorem q567 : (Jvm.Cond.selects "BranchCells$State" ({ cls := "java/lang/Object", name := "getClass", desc := "()Ljava/lang/Class;" } : Jvm.MethodName) ({ cls := "java/lang/Object", name := "getClass", desc := "()Ljava/lang/Class;" } : Jvm.MethodName)) ∈ lw_all := lw_g (lw_at lw_m3 38 rfl) rfl
theorem q773 : (Jvm.Cond.laysStatic "BranchCells$State" "RUNS" "LBranchCells$State;") ∈ lw_tbl := lw_at lw_m4 4 rfl
theorem q927 : (Jvm.Cond.laysStatic "BranchCells$State" "ENDED" "LBranchCells$State;") ∈ lw_tbl := lw_at lw_m4 158 rfl
theorem q1169 : (Jvm.Cond.laysStatic "BranchCells$State" "FAILED" "LBranchCells$State;") ∈ lw_tbl := lw_at lw_m5 160 rfl
theorem q1360 : (Jvm.Cond.selects "BranchCells$State" ({ cls := "java/lang/Object", name := "equals", desc := "(Ljava/lang/Object;)Z" } : Jvm.MethodName) ({ cls := "java/lang/Enum", name := "equals", desc := "(Ljava/lang/Object;)Z" } : Jvm.MethodName)) ∈ lw_all := lw_g (lw_at lw_m6 111 rfl) rfl
theorem q1837 : (Jvm.Cond.castable "BranchCells$State" "java/lang/Object") ∈ lw_tbl := lw_at lw_m8 108 rfl
theorem q1869 : (Jvm.Cond.castable "[I" "java/lang/Object") ∈ lw_tbl := lw_at lw_m8 140 rfl
theorem q1871 : (Jvm.Cond.castable "[J" "java/lang/Object") ∈ lw_tbl := lw_at lw_m8 142 rfl
theorem q1868 : (Jvm.Cond.castable "[LBranchCells$Doer;" "java/lang/Object") ∈ lw_tbl := lw_at lw_m8 139 rfl
theorem q1872 : (Jvm.Cond.castable "[LBranchCells$Task;" "java/lang/Object") ∈ lw_tbl := lw_at lw_m8 143 rfl
theorem q1865 : (Jvm.Cond.sameMethod "[Ljava/lang/Object;" "java/lang/Object" "getClass" "()Ljava/lang/Class;") ∈ lw_all := lw_g (lw_at lw_m8 136 rfl) rfl
theorem q1866 : (Jvm.Cond.selects "[Ljava/lang/Object;" ({ cls := "java/lang/Object", name := "getClass", desc := "()Ljava/lang/Class;" } : Jvm.MethodName) ({ cls := "java/lang/Object", name := "getClass", desc := "()Ljava/lang/Class;" } : Jvm.MethodName)) ∈ lw_all := lw_g (lw_at lw_m8 137 rfl) rfl
theorem q1870 : (Jvm.Cond.castable "[Ljava/lang/Object;" "java/lang/Object") ∈ lw_tbl := lw_at lw_m8 141 rfl
theorem q1873 : (Jvm.Cond.castable "[Z" "java/lang/Object") ∈ lw_tbl := lw_at lw_m8 144 rfl
theorem q83 : (Jvm.Cond.initialized "java/lang/System") ∈ lw_all := lw_g (lw_at lw_m1 34 rfl) rfl
theorem q584 : (Jvm.Cond.static ({ cls := "java/lang/System", name := "arraycopy", desc := "(Ljava/lang/Object;ILjava/lang/Object;II)V" } : Jvm.MethodName)) ∈ lw_all := lw_g (lw_at lw_m3 55 rfl) rfl
theorem q585 : (Jvm.Cond.native ({ cls := "java/lang/System", name := "arraycopy", desc := "(Ljava/lang/Object;ILjava/lang/Object;II)V" } : Jvm.MethodName)) ∈ lw_all := lw_g (lw_at lw_m3 56 rfl) rfl
theorem q1418 : (Jvm.Cond.interfaceMethod "java/util/Iterator" "java/util/Iterator" "hasNext" "()Z") ∈ lw_tbl := lw_at lw_m6 169 rfl
theorem q1419 : (Jvm.Cond.declares ({ cls := "java/util/Iterator", name := "hasNext", desc := "()Z" } : Jvm.MethodName)) ∈ lw_tbl := lw_at lw_m6 170 rfl
theorem q1428 : (Jvm.Cond.interfaceMethod "java/util/Iterator" "java/util/Iterator" "next" "()Ljava/lang/Object;") ∈ lw_tbl := lw_at lw_m6 179 rfl
theorem q1429 : (Jvm.Cond.declares ({ cls := "java/util/Iterator", name := "next", desc := "()Ljava/lang/Object;" } : Jvm.MethodName)) ∈ lw_tbl := lw_at lw_m6 180 rfl
theorem q474 : (Jvm.Cond.interfaceMethod "java/util/List" "java/util/List" "size" "()I") ∈ lw_tbl := lw_at lw_m2 185 rfl
theorem q475 : (Jvm.Cond.declares ({ cls := "java/util/List", name := "size", desc := "()I" } : Jvm.MethodName)) ∈ lw_tbl := lw_at lw_m2 186 rfl
theorem q504 : (Jvm.Cond.interfaceMethod "java/util/List" "java/util/List" "add" "(Ljava/lang/Object;)Z") ∈ lw_tbl := lw_at lw_m2 215 rfl
theorem q505 : (Jvm.Cond.declares ({ cls := "java/util/List", name := "add", desc := "(Ljava/lang/Object;)Z" } : Jvm.MethodName)) ∈ lw_tbl := lw_at lw_m2 216 rfl
theorem q604 : (Jvm.Cond.interfaceMethod "java/util/List" "java/util/List" "get" "(I)Ljava/lang/Object;") ∈ lw_tbl := lw_at lw_m3 75 rfl
theorem q605 : (Jvm.Cond.declares ({ cls := "java/util/List", name := "get", desc := "(I)Ljava/lang/Object;" } : Jvm.MethodName)) ∈ lw_tbl := lw_at lw_m3 76 rfl
theorem q695 : (Jvm.Cond.interfaceMethod "java/util/List" "java/util/List" "isEmpty" "()Z") ∈ lw_tbl := lw_at lw_m3 166 rfl
theorem q696 : (Jvm.Cond.declares ({ cls := "java/util/List", name := "isEmpty", desc := "()Z" } : Jvm.MethodName)) ∈ lw_tbl := lw_at lw_m3 167 rfl
theorem q708 : (Jvm.Cond.interfaceMethod "java/util/List" "java/util/List" "clear" "()V") ∈ lw_tbl := lw_at lw_m3 179 rfl
theorem q709 : (Jvm.Cond.declares ({ cls := "java/util/List", name := "clear", desc := "()V" } : Jvm.MethodName)) ∈ lw_tbl := lw_at lw_m3 180 rfl
theorem q1321 : (Jvm.Cond.interfaceMethod "java/util/List" "java/util/List" "remove" "(Ljava/lang/Object;)Z") ∈ lw_tbl := lw_at lw_m6 72 rfl
theorem q1322 : (Jvm.Cond.declares ({ cls := "java/util/List", name := "remove", desc := "(Ljava/lang/Object;)Z" } : Jvm.MethodName)) ∈ lw_tbl := lw_at lw_m6 73 rfl
theorem q1390 : (Jvm.Cond.interfaceMethod "java/util/List" "java/util/List" "iterator" "()Ljava/util/Iterator;") ∈ lw_tbl := lw_at lw_m6 141 rfl
theorem q1391 : (Jvm.Cond.declares ({ cls := "java/util/List", name := "iterator", desc := "()Ljava/util/Iterator;" } : Jvm.MethodName)) ∈ lw_tbl := lw_at lw_m6 142 rfl
theorem q107 : (Jvm.Cond.arrayOver (Jvm.ClassFile.FieldType.object "BranchCells$Doer")) ∈ lw_tbl := lw_at lw_m1 58 rfl
theorem q160 : (Jvm.Cond.arrayClass Jvm.ClassFile.FieldType.int) ∈ lw_all := lw_g (lw_at lw_m1 111 rfl) rfl
theorem q578 : (Jvm.Cond.arrayOver (Jvm.ClassFile.FieldType.object "java/lang/Object")) ∈ lw_tbl := lw_at lw_m3 49 rfl
theorem q647 : (Jvm.Cond.arrayClass Jvm.ClassFile.FieldType.long) ∈ lw_all := lw_g (lw_at lw_m3 118 rfl) rfl
theorem q781 : (Jvm.Cond.arrayOver (Jvm.ClassFile.FieldType.object "BranchCells$Task")) ∈ lw_tbl := lw_at lw_m4 12 rfl
theorem q1579 : (Jvm.Cond.arrayClass Jvm.ClassFile.FieldType.boolean) ∈ lw_all := lw_g (lw_at lw_m7 90 rfl) rfl
