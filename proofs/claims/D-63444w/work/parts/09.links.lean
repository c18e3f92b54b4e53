theorem lay_Atom : ∀ w ∈ u_ws R_Atom F_Atom 10, w ∈ lw_tbl := by
  show ∀ w ∈ [Cond.laysFinal "MetricLogMonitor$Atom" "MetricLogMonitor$Formula" "left" "LMetricLogMonitor$Formula;", Cond.laysFinal "MetricLogMonitor$Atom" "MetricLogMonitor$Formula" "right" "LMetricLogMonitor$Formula;", Cond.laysFinal "MetricLogMonitor$Atom" "MetricLogMonitor$Formula" "free" "I", Cond.lays "MetricLogMonitor$Atom" "MetricLogMonitor$Formula" "ranged" "I", Cond.lays "MetricLogMonitor$Atom" "MetricLogMonitor$Formula" "closed" "Z", Cond.laysFinal "MetricLogMonitor$Atom" "MetricLogMonitor$Formula" "sets" "[J", Cond.lays "MetricLogMonitor$Atom" "MetricLogMonitor$Formula" "ready" "I", Cond.laysFinal "MetricLogMonitor$Atom" "MetricLogMonitor$Atom" "relation" "I", Cond.laysFinal "MetricLogMonitor$Atom" "MetricLogMonitor$Atom" "a" "I", Cond.laysFinal "MetricLogMonitor$Atom" "MetricLogMonitor$Atom" "b" "I"], w ∈ lw_tbl
  exact List.forall_mem_cons.mpr ⟨kw_235, List.forall_mem_cons.mpr ⟨kw_237, List.forall_mem_cons.mpr ⟨kw_239, List.forall_mem_cons.mpr ⟨kw_241, List.forall_mem_cons.mpr ⟨kw_243, List.forall_mem_cons.mpr ⟨kw_245, List.forall_mem_cons.mpr ⟨kw_247, List.forall_mem_cons.mpr ⟨kw_229, List.forall_mem_cons.mpr ⟨kw_231, List.forall_mem_cons.mpr ⟨kw_233, fun _ h => absurd h List.not_mem_nil⟩⟩⟩⟩⟩⟩⟩⟩⟩⟩
theorem lay_Compare : ∀ w ∈ u_ws R_Compare F_Compare 8, w ∈ lw_tbl := by
  show ∀ w ∈ [Cond.laysFinal "MetricLogMonitor$Compare" "MetricLogMonitor$Formula" "left" "LMetricLogMonitor$Formula;", Cond.laysFinal "MetricLogMonitor$Compare" "MetricLogMonitor$Formula" "right" "LMetricLogMonitor$Formula;", Cond.laysFinal "MetricLogMonitor$Compare" "MetricLogMonitor$Formula" "free" "I", Cond.lays "MetricLogMonitor$Compare" "MetricLogMonitor$Formula" "ranged" "I", Cond.lays "MetricLogMonitor$Compare" "MetricLogMonitor$Formula" "closed" "Z", Cond.laysFinal "MetricLogMonitor$Compare" "MetricLogMonitor$Formula" "sets" "[J", Cond.lays "MetricLogMonitor$Compare" "MetricLogMonitor$Formula" "ready" "I", Cond.laysFinal "MetricLogMonitor$Compare" "MetricLogMonitor$Compare" "set" "J"], w ∈ lw_tbl
  exact List.forall_mem_cons.mpr ⟨kw_336, List.forall_mem_cons.mpr ⟨kw_337, List.forall_mem_cons.mpr ⟨kw_338, List.forall_mem_cons.mpr ⟨kw_339, List.forall_mem_cons.mpr ⟨kw_340, List.forall_mem_cons.mpr ⟨kw_341, List.forall_mem_cons.mpr ⟨kw_342, List.forall_mem_cons.mpr ⟨kw_334, fun _ h => absurd h List.not_mem_nil⟩⟩⟩⟩⟩⟩⟩⟩
theorem lay_Not : ∀ w ∈ u_ws R_Not F_Not 7, w ∈ lw_tbl := by
  show ∀ w ∈ [Cond.laysFinal "MetricLogMonitor$Not" "MetricLogMonitor$Formula" "left" "LMetricLogMonitor$Formula;", Cond.laysFinal "MetricLogMonitor$Not" "MetricLogMonitor$Formula" "right" "LMetricLogMonitor$Formula;", Cond.laysFinal "MetricLogMonitor$Not" "MetricLogMonitor$Formula" "free" "I", Cond.lays "MetricLogMonitor$Not" "MetricLogMonitor$Formula" "ranged" "I", Cond.lays "MetricLogMonitor$Not" "MetricLogMonitor$Formula" "closed" "Z", Cond.laysFinal "MetricLogMonitor$Not" "MetricLogMonitor$Formula" "sets" "[J", Cond.lays "MetricLogMonitor$Not" "MetricLogMonitor$Formula" "ready" "I"], w ∈ lw_tbl
  exact List.forall_mem_cons.mpr ⟨kw_373, List.forall_mem_cons.mpr ⟨kw_374, List.forall_mem_cons.mpr ⟨kw_375, List.forall_mem_cons.mpr ⟨kw_376, List.forall_mem_cons.mpr ⟨kw_377, List.forall_mem_cons.mpr ⟨kw_378, List.forall_mem_cons.mpr ⟨kw_379, fun _ h => absurd h List.not_mem_nil⟩⟩⟩⟩⟩⟩⟩
theorem lay_Join : ∀ w ∈ u_ws R_Join F_Join 8, w ∈ lw_tbl := by
  show ∀ w ∈ [Cond.laysFinal "MetricLogMonitor$Join" "MetricLogMonitor$Formula" "left" "LMetricLogMonitor$Formula;", Cond.laysFinal "MetricLogMonitor$Join" "MetricLogMonitor$Formula" "right" "LMetricLogMonitor$Formula;", Cond.laysFinal "MetricLogMonitor$Join" "MetricLogMonitor$Formula" "free" "I", Cond.lays "MetricLogMonitor$Join" "MetricLogMonitor$Formula" "ranged" "I", Cond.lays "MetricLogMonitor$Join" "MetricLogMonitor$Formula" "closed" "Z", Cond.laysFinal "MetricLogMonitor$Join" "MetricLogMonitor$Formula" "sets" "[J", Cond.lays "MetricLogMonitor$Join" "MetricLogMonitor$Formula" "ready" "I", Cond.laysFinal "MetricLogMonitor$Join" "MetricLogMonitor$Join" "and" "Z"], w ∈ lw_tbl
  exact List.forall_mem_cons.mpr ⟨kw_394, List.forall_mem_cons.mpr ⟨kw_395, List.forall_mem_cons.mpr ⟨kw_396, List.forall_mem_cons.mpr ⟨kw_397, List.forall_mem_cons.mpr ⟨kw_398, List.forall_mem_cons.mpr ⟨kw_399, List.forall_mem_cons.mpr ⟨kw_400, List.forall_mem_cons.mpr ⟨kw_392, fun _ h => absurd h List.not_mem_nil⟩⟩⟩⟩⟩⟩⟩⟩
theorem lay_Exists : ∀ w ∈ u_ws R_Exists F_Exists 8, w ∈ lw_tbl := by
  show ∀ w ∈ [Cond.laysFinal "MetricLogMonitor$Exists" "MetricLogMonitor$Formula" "left" "LMetricLogMonitor$Formula;", Cond.laysFinal "MetricLogMonitor$Exists" "MetricLogMonitor$Formula" "right" "LMetricLogMonitor$Formula;", Cond.laysFinal "MetricLogMonitor$Exists" "MetricLogMonitor$Formula" "free" "I", Cond.lays "MetricLogMonitor$Exists" "MetricLogMonitor$Formula" "ranged" "I", Cond.lays "MetricLogMonitor$Exists" "MetricLogMonitor$Formula" "closed" "Z", Cond.laysFinal "MetricLogMonitor$Exists" "MetricLogMonitor$Formula" "sets" "[J", Cond.lays "MetricLogMonitor$Exists" "MetricLogMonitor$Formula" "ready" "I", Cond.laysFinal "MetricLogMonitor$Exists" "MetricLogMonitor$Exists" "variable" "I"], w ∈ lw_tbl
  exact List.forall_mem_cons.mpr ⟨kw_415, List.forall_mem_cons.mpr ⟨kw_416, List.forall_mem_cons.mpr ⟨kw_417, List.forall_mem_cons.mpr ⟨kw_418, List.forall_mem_cons.mpr ⟨kw_419, List.forall_mem_cons.mpr ⟨kw_420, List.forall_mem_cons.mpr ⟨kw_421, List.forall_mem_cons.mpr ⟨kw_413, fun _ h => absurd h List.not_mem_nil⟩⟩⟩⟩⟩⟩⟩⟩
theorem lay_Previous : ∀ w ∈ u_ws R_Previous F_Previous 8, w ∈ lw_tbl := by
  show ∀ w ∈ [Cond.laysFinal "MetricLogMonitor$Previous" "MetricLogMonitor$Formula" "left" "LMetricLogMonitor$Formula;", Cond.laysFinal "MetricLogMonitor$Previous" "MetricLogMonitor$Formula" "right" "LMetricLogMonitor$Formula;", Cond.laysFinal "MetricLogMonitor$Previous" "MetricLogMonitor$Formula" "free" "I", Cond.lays "MetricLogMonitor$Previous" "MetricLogMonitor$Formula" "ranged" "I", Cond.lays "MetricLogMonitor$Previous" "MetricLogMonitor$Formula" "closed" "Z", Cond.laysFinal "MetricLogMonitor$Previous" "MetricLogMonitor$Formula" "sets" "[J", Cond.lays "MetricLogMonitor$Previous" "MetricLogMonitor$Formula" "ready" "I", Cond.laysFinal "MetricLogMonitor$Previous" "MetricLogMonitor$Previous" "interval" "LMetricLogMonitor$Interval;"], w ∈ lw_tbl
  exact List.forall_mem_cons.mpr ⟨kw_457, List.forall_mem_cons.mpr ⟨kw_458, List.forall_mem_cons.mpr ⟨kw_459, List.forall_mem_cons.mpr ⟨kw_460, List.forall_mem_cons.mpr ⟨kw_461, List.forall_mem_cons.mpr ⟨kw_462, List.forall_mem_cons.mpr ⟨kw_463, List.forall_mem_cons.mpr ⟨kw_455, fun _ h => absurd h List.not_mem_nil⟩⟩⟩⟩⟩⟩⟩⟩
theorem lay_Since : ∀ w ∈ u_ws R_Since F_Since 10, w ∈ lw_tbl := by
  show ∀ w ∈ [Cond.laysFinal "MetricLogMonitor$Since" "MetricLogMonitor$Formula" "left" "LMetricLogMonitor$Formula;", Cond.laysFinal "MetricLogMonitor$Since" "MetricLogMonitor$Formula" "right" "LMetricLogMonitor$Formula;", Cond.laysFinal "MetricLogMonitor$Since" "MetricLogMonitor$Formula" "free" "I", Cond.lays "MetricLogMonitor$Since" "MetricLogMonitor$Formula" "ranged" "I", Cond.lays "MetricLogMonitor$Since" "MetricLogMonitor$Formula" "closed" "Z", Cond.laysFinal "MetricLogMonitor$Since" "MetricLogMonitor$Formula" "sets" "[J", Cond.lays "MetricLogMonitor$Since" "MetricLogMonitor$Formula" "ready" "I", Cond.laysFinal "MetricLogMonitor$Since" "MetricLogMonitor$Since" "interval" "LMetricLogMonitor$Interval;", Cond.laysFinal "MetricLogMonitor$Since" "MetricLogMonitor$Since" "held" "[J", Cond.lays "MetricLogMonitor$Since" "MetricLogMonitor$Since" "head" "I"], w ∈ lw_tbl
  exact List.forall_mem_cons.mpr ⟨kw_484, List.forall_mem_cons.mpr ⟨kw_485, List.forall_mem_cons.mpr ⟨kw_486, List.forall_mem_cons.mpr ⟨kw_487, List.forall_mem_cons.mpr ⟨kw_488, List.forall_mem_cons.mpr ⟨kw_489, List.forall_mem_cons.mpr ⟨kw_490, List.forall_mem_cons.mpr ⟨kw_478, List.forall_mem_cons.mpr ⟨kw_480, List.forall_mem_cons.mpr ⟨kw_482, fun _ h => absurd h List.not_mem_nil⟩⟩⟩⟩⟩⟩⟩⟩⟩⟩
theorem lay_Until : ∀ w ∈ u_ws R_Until F_Until 10, w ∈ lw_tbl := by
  show ∀ w ∈ [Cond.laysFinal "MetricLogMonitor$Until" "MetricLogMonitor$Formula" "left" "LMetricLogMonitor$Formula;", Cond.laysFinal "MetricLogMonitor$Until" "MetricLogMonitor$Formula" "right" "LMetricLogMonitor$Formula;", Cond.laysFinal "MetricLogMonitor$Until" "MetricLogMonitor$Formula" "free" "I", Cond.lays "MetricLogMonitor$Until" "MetricLogMonitor$Formula" "ranged" "I", Cond.lays "MetricLogMonitor$Until" "MetricLogMonitor$Formula" "closed" "Z", Cond.laysFinal "MetricLogMonitor$Until" "MetricLogMonitor$Formula" "sets" "[J", Cond.lays "MetricLogMonitor$Until" "MetricLogMonitor$Formula" "ready" "I", Cond.laysFinal "MetricLogMonitor$Until" "MetricLogMonitor$Until" "interval" "LMetricLogMonitor$Interval;", Cond.laysFinal "MetricLogMonitor$Until" "MetricLogMonitor$Until" "alive" "[J", Cond.lays "MetricLogMonitor$Until" "MetricLogMonitor$Until" "seen" "I"], w ∈ lw_tbl
  exact List.forall_mem_cons.mpr ⟨kw_511, List.forall_mem_cons.mpr ⟨kw_512, List.forall_mem_cons.mpr ⟨kw_513, List.forall_mem_cons.mpr ⟨kw_514, List.forall_mem_cons.mpr ⟨kw_515, List.forall_mem_cons.mpr ⟨kw_516, List.forall_mem_cons.mpr ⟨kw_517, List.forall_mem_cons.mpr ⟨kw_505, List.forall_mem_cons.mpr ⟨kw_507, List.forall_mem_cons.mpr ⟨kw_509, fun _ h => absurd h List.not_mem_nil⟩⟩⟩⟩⟩⟩⟩⟩⟩⟩
theorem lay_Interval : ∀ w ∈ u_ws R_Interval F_Interval 2, w ∈ lw_tbl := by
  show ∀ w ∈ [Cond.laysFinal "MetricLogMonitor$Interval" "MetricLogMonitor$Interval" "lo" "I", Cond.laysFinal "MetricLogMonitor$Interval" "MetricLogMonitor$Interval" "hi" "I"], w ∈ lw_tbl
  exact List.forall_mem_cons.mpr ⟨kw_438, List.forall_mem_cons.mpr ⟨kw_440, fun _ h => absurd h List.not_mem_nil⟩⟩
theorem lay_Log : ∀ w ∈ u_ws R_Log F_Log 3, w ∈ lw_tbl := by
  show ∀ w ∈ [Cond.laysFinal "MetricLogMonitor$Log" "MetricLogMonitor$Log" "times" "[I", Cond.lays "MetricLogMonitor$Log" "MetricLogMonitor$Log" "places" "I", Cond.laysFinal "MetricLogMonitor$Log" "MetricLogMonitor$Log" "pairs" "[C"], w ∈ lw_tbl
  exact List.forall_mem_cons.mpr ⟨kw_79, List.forall_mem_cons.mpr ⟨kw_81, List.forall_mem_cons.mpr ⟨kw_83, fun _ h => absurd h List.not_mem_nil⟩⟩⟩
theorem lay_Mon : ∀ w ∈ u_ws R_Mon F_Mon 3, w ∈ lw_tbl := by
  show ∀ w ∈ [Cond.laysFinal "MetricLogMonitor" "MetricLogMonitor" "formulas" "Ljava/util/ArrayList;", Cond.laysFinal "MetricLogMonitor" "MetricLogMonitor" "log" "LMetricLogMonitor$Log;", Cond.lays "MetricLogMonitor" "MetricLogMonitor" "watches" "Z"], w ∈ lw_tbl
  exact List.forall_mem_cons.mpr ⟨kw_91, List.forall_mem_cons.mpr ⟨kw_93, List.forall_mem_cons.mpr ⟨kw_95, fun _ h => absurd h List.not_mem_nil⟩⟩⟩
theorem lay_AL : ∀ w ∈ u_ws R_AL F_AL 3, w ∈ lw_tbl := by
  show ∀ w ∈ [Cond.lays "java/util/ArrayList" "java/util/ArrayList" "elementData" "[Ljava/lang/Object;", Cond.lays "java/util/ArrayList" "java/util/ArrayList" "size" "I", Cond.lays "java/util/ArrayList" "java/util/AbstractList" "modCount" "I"], w ∈ lw_tbl
  exact List.forall_mem_cons.mpr ⟨kw_57, List.forall_mem_cons.mpr ⟨kw_59, List.forall_mem_cons.mpr ⟨kw_61, fun _ h => absurd h List.not_mem_nil⟩⟩⟩
theorem lay_Itr : ∀ w ∈ u_ws R_Itr F_Itr 4, w ∈ lw_tbl := by
  show ∀ w ∈ [Cond.lays "java/util/ArrayList$Itr" "java/util/ArrayList$Itr" "cursor" "I", Cond.lays "java/util/ArrayList$Itr" "java/util/ArrayList$Itr" "lastRet" "I", Cond.lays "java/util/ArrayList$Itr" "java/util/ArrayList$Itr" "expectedModCount" "I", Cond.laysFinal "java/util/ArrayList$Itr" "java/util/ArrayList$Itr" "this$0" "Ljava/util/ArrayList;"], w ∈ lw_tbl
  exact List.forall_mem_cons.mpr ⟨kw_590, List.forall_mem_cons.mpr ⟨kw_592, List.forall_mem_cons.mpr ⟨kw_594, List.forall_mem_cons.mpr ⟨kw_596, fun _ h => absurd h List.not_mem_nil⟩⟩⟩⟩
theorem lay_Mod : ∀ w ∈ u_ws R_Mod F_Mod 17, w ∈ lw_tbl := by
  show ∀ w ∈ [Cond.lays "MetricLogMonitorModel" "MetricLogMonitorModel" "formulas" "I", Cond.lays "MetricLogMonitorModel" "MetricLogMonitorModel" "kind" "[I", Cond.lays "MetricLogMonitorModel" "MetricLogMonitorModel" "which" "[I", Cond.lays "MetricLogMonitorModel" "MetricLogMonitorModel" "first" "[I", Cond.lays "MetricLogMonitorModel" "MetricLogMonitorModel" "second" "[I", Cond.lays "MetricLogMonitorModel" "MetricLogMonitorModel" "low" "[I", Cond.lays "MetricLogMonitorModel" "MetricLogMonitorModel" "high" "[I", Cond.lays "MetricLogMonitorModel" "MetricLogMonitorModel" "watching" "Z", Cond.lays "MetricLogMonitorModel" "MetricLogMonitorModel" "places" "I", Cond.lays "MetricLogMonitorModel" "MetricLogMonitorModel" "time" "[I", Cond.lays "MetricLogMonitorModel" "MetricLogMonitorModel" "pairs" "[I", Cond.lays "MetricLogMonitorModel" "MetricLogMonitorModel" "gathered" "[I", Cond.lays "MetricLogMonitorModel" "MetricLogMonitorModel" "holds" "[J", Cond.lays "MetricLogMonitorModel" "MetricLogMonitorModel" "part" "[Z", Cond.lays "MetricLogMonitorModel" "MetricLogMonitorModel" "freeSet" "[I", Cond.lays "MetricLogMonitorModel" "MetricLogMonitorModel" "rangedSet" "[I", Cond.lays "MetricLogMonitorModel" "MetricLogMonitorModel" "reach" "[I"], w ∈ lw_tbl
  exact List.forall_mem_cons.mpr ⟨kw_748, List.forall_mem_cons.mpr ⟨kw_750, List.forall_mem_cons.mpr ⟨kw_752, List.forall_mem_cons.mpr ⟨kw_754, List.forall_mem_cons.mpr ⟨kw_756, List.forall_mem_cons.mpr ⟨kw_758, List.forall_mem_cons.mpr ⟨kw_760, List.forall_mem_cons.mpr ⟨kw_762, List.forall_mem_cons.mpr ⟨kw_764, List.forall_mem_cons.mpr ⟨kw_766, List.forall_mem_cons.mpr ⟨kw_768, List.forall_mem_cons.mpr ⟨kw_770, List.forall_mem_cons.mpr ⟨kw_772, List.forall_mem_cons.mpr ⟨kw_774, List.forall_mem_cons.mpr ⟨kw_776, List.forall_mem_cons.mpr ⟨kw_778, List.forall_mem_cons.mpr ⟨kw_780, fun _ h => absurd h List.not_mem_nil⟩⟩⟩⟩⟩⟩⟩⟩⟩⟩⟩⟩⟩⟩⟩⟩⟩
theorem ln_Mon_15 : mm_LN "MetricLogMonitor" 15 11 3 [.null, .int 0, .int 0] := ⟨R_AL, F_AL, t_AL, rfl, lay_AL, t_AL_ok, kw_35, kw_36, kw_4, fun j h => match j, h with | 0, _ => rfl | 1, _ => rfl | 2, _ => rfl⟩
theorem lk_Mon_17 : mm_LI "MetricLogMonitor" 17 y_AL_init b_AL_init 1 0 := ⟨⟨kw_39, kw_4, by decide, by decide, by decide +kernel⟩, kw_37, kw_38, rfl⟩
theorem lp_Mon_18 : mm_LP "MetricLogMonitor" 18 10 0 (.object "java/util/ArrayList") true := ⟨R_Mon, F_Mon, 3, "MetricLogMonitor", t_Mon, rfl, lay_Mon, by decide, Or.inl kw_88, Or.inl rfl, t_Mon_ok, n_Mon, rfl, by decide +kernel, fun _ => rfl⟩
theorem ln_Mon_22 : mm_LN "MetricLogMonitor" 22 9 3 [.null, .int 0, .null] := ⟨R_Log, F_Log, t_Log, rfl, lay_Log, t_Log_ok, kw_64, kw_65, kw_5, fun j h => match j, h with | 0, _ => rfl | 1, _ => rfl | 2, _ => rfl⟩
theorem lk_Mon_24 : mm_LIN "MetricLogMonitor" 24 "MetricLogMonitor" y_Log_init b_Log_init 1 0 := ⟨⟨kw_68, kw_5, by decide, by decide, by decide +kernel⟩, kw_66, kw_67, rfl⟩
theorem lp_Mon_25 : mm_LP "MetricLogMonitor" 25 10 1 (.object "MetricLogMonitor$Log") true := ⟨R_Mon, F_Mon, 3, "MetricLogMonitor", t_Mon, rfl, lay_Mon, by decide, Or.inl kw_89, Or.inl rfl, t_Mon_ok, n_Mon, rfl, by decide +kernel, fun _ => rfl⟩
theorem lk_AL_1 : mm_LI "java/util/ArrayList" 1 y_AbL_init b_AbL_init 1 0 := ⟨⟨kw_42, kw_3, by decide, by decide, by decide +kernel⟩, kw_40, kw_41, rfl⟩
theorem lp_AL_9 : mm_LP "java/util/ArrayList" 9 11 0 (.array (.object "java/lang/Object")) false := ⟨R_AL, F_AL, 3, "java/util/ArrayList", t_AL, rfl, lay_AL, by decide, Or.inl kw_49, Or.inl rfl, t_AL_ok, n_AL, rfl, by decide +kernel, fun h => by cases h⟩
theorem lk_AbL_1 : mm_LI "java/util/AbstractList" 1 y_AbC_init b_AbC_init 1 0 := ⟨⟨kw_45, kw_2, by decide, by decide, by decide +kernel⟩, kw_43, kw_44, rfl⟩
theorem lp_AbL_7 : mm_LP "java/util/AbstractList" 7 11 2 .int false := ⟨R_AL, F_AL, 3, "java/util/AbstractList", t_AL, rfl, lay_AL, by decide, Or.inl kw_53, Or.inl rfl, t_AL_ok, n_AL, rfl, by decide +kernel, fun h => by cases h⟩
theorem lp_Log_7 : mm_LP "MetricLogMonitor$Log" 7 9 0 (.array .int) true := ⟨R_Log, F_Log, 3, "MetricLogMonitor$Log", t_Log, rfl, lay_Log, by decide, Or.inl kw_70, Or.inl rfl, t_Log_ok, n_Log, rfl, by decide +kernel, fun _ => rfl⟩
theorem lp_Log_13 : mm_LP "MetricLogMonitor$Log" 13 9 2 (.array .char) true := ⟨R_Log, F_Log, 3, "MetricLogMonitor$Log", t_Log, rfl, lay_Log, by decide, Or.inl kw_76, Or.inl rfl, t_Log_ok, n_Log, rfl, by decide +kernel, fun _ => rfl⟩
theorem lk_Mon_47 : mm_LV "MetricLogMonitor" 47 "MetricLogMonitor" y_Mon_isFull b_Mon_isFull 1 (some .boolean) 0 := ⟨⟨kw_105, kw_1, by decide, by decide, by decide +kernel⟩, kw_102, kw_104, kp_0, rfl⟩
theorem lk_Mon_51 : mm_LS "MetricLogMonitor" 51 y_Mon_isTerm b_Mon_isTerm 1 (some .boolean) 1 := ⟨⟨kw_112, kw_1, by decide, by decide, by decide +kernel⟩, kw_110, kw_111⟩
theorem ln_Mon_55 : mm_LN "MetricLogMonitor" 55 0 10 [.null, .null, .int 0, .int 0, .int 0, .null, .int 0, .int 0, .int 0, .int 0] := ⟨R_Atom, F_Atom, t_Atom, rfl, lay_Atom, t_Atom_ok, kw_113, kw_114, kw_8, fun j h => match j, h with | 0, _ => rfl | 1, _ => rfl | 2, _ => rfl | 3, _ => rfl | 4, _ => rfl | 5, _ => rfl | 6, _ => rfl | 7, _ => rfl | 8, _ => rfl | 9, _ => rfl⟩
theorem lk_Mon_57 : mm_LI "MetricLogMonitor" 57 y_Atom_init b_Atom_init 4 3 := ⟨⟨kw_117, kw_8, by decide, by decide, by decide +kernel⟩, kw_115, kw_116, rfl⟩
theorem lk_Mon_60 : mm_LV "MetricLogMonitor" 60 "MetricLogMonitor" y_Mon_made b_Mon_made 2 (some .int) 1 := ⟨⟨kw_254, kw_1, by decide, by decide, by decide +kernel⟩, kw_251, kw_253, kp_1, rfl⟩
theorem lg_Mon_39 : mm_LG "MetricLogMonitor" 39 10 2 := ⟨R_Mon, F_Mon, 3, "MetricLogMonitor", rfl, lay_Mon, by decide, Or.inl kw_90, Or.inl rfl⟩
theorem lg_Mon_18 : mm_LG "MetricLogMonitor" 18 10 0 := ⟨R_Mon, F_Mon, 3, "MetricLogMonitor", rfl, lay_Mon, by decide, Or.inl kw_88, Or.inl rfl⟩
theorem lk_Mon_29 : mm_LV "MetricLogMonitor" 29 "java/util/ArrayList" y_AL_size b_AL_size 1 (some .int) 0 := ⟨⟨kw_109, kw_4, by decide, by decide, by decide +kernel⟩, kw_106, kw_107, kw_108, rfl⟩
theorem lg_AL_48 : mm_LG "java/util/ArrayList" 48 11 1 := ⟨R_AL, F_AL, 3, "java/util/ArrayList", rfl, lay_AL, by decide, Or.inl kw_52, Or.inl rfl⟩
theorem lk_Atom_1 : mm_LSN "MetricLogMonitor$Atom" 1 "MetricLogMonitor" y_Mon_variables b_Mon_variables 1 (some .int) 1 := ⟨⟨kw_120, kw_1, by decide, by decide, by decide +kernel⟩, kw_118, kw_119⟩
theorem lk_Atom_7 : mm_LI "MetricLogMonitor$Atom" 7 y_Formula_init b_Formula_init 4 3 := ⟨⟨kw_123, kw_7, by decide, by decide, by decide +kernel⟩, kw_121, kw_122, rfl⟩
theorem lp_Atom_13 : mm_LP "MetricLogMonitor$Atom" 13 0 7 .int true := ⟨R_Atom, F_Atom, 10, "MetricLogMonitor$Atom", t_Atom, rfl, lay_Atom, by decide, Or.inl kw_125, Or.inl rfl, t_Atom_ok, n_Atom, rfl, by decide +kernel, fun _ => rfl⟩
theorem lp_Atom_19 : mm_LP "MetricLogMonitor$Atom" 19 0 8 .int true := ⟨R_Atom, F_Atom, 10, "MetricLogMonitor$Atom", t_Atom, rfl, lay_Atom, by decide, Or.inl kw_126, Or.inl rfl, t_Atom_ok, n_Atom, rfl, by decide +kernel, fun _ => rfl⟩
theorem lp_Atom_22 : mm_LP "MetricLogMonitor$Atom" 22 0 9 .int true := ⟨R_Atom, F_Atom, 10, "MetricLogMonitor$Atom", t_Atom, rfl, lay_Atom, by decide, Or.inl kw_127, Or.inl rfl, t_Atom_ok, n_Atom, rfl, by decide +kernel, fun _ => rfl⟩
theorem lg_Atom_25 : mm_LG "MetricLogMonitor$Atom" 25 0 2 := ⟨R_Atom, F_Atom, 10, "MetricLogMonitor$Atom", rfl, lay_Atom, by decide, Or.inl kw_155, Or.inr kw_156⟩
theorem lp_Atom_28 : mm_LP "MetricLogMonitor$Atom" 28 0 3 .int false := ⟨R_Atom, F_Atom, 10, "MetricLogMonitor$Atom", t_Atom, rfl, lay_Atom, by decide, Or.inl kw_173, Or.inr kw_174, t_Atom_ok, n_Atom, rfl, by decide +kernel, fun h => by cases h⟩
theorem lp_Formula_7_0 : mm_LP "MetricLogMonitor$Formula" 7 0 4 .boolean false := ⟨R_Atom, F_Atom, 10, "MetricLogMonitor$Formula", t_Atom, rfl, lay_Atom, by decide, Or.inl kw_180, Or.inl rfl, t_Atom_ok, n_Atom, rfl, by decide +kernel, fun h => by cases h⟩
theorem lp_Formula_7_1 : mm_LP "MetricLogMonitor$Formula" 7 1 4 .boolean false := ⟨R_Compare, F_Compare, 8, "MetricLogMonitor$Formula", t_Compare, rfl, lay_Compare, by decide, Or.inl kw_180, Or.inl rfl, t_Compare_ok, n_Compare, rfl, by decide +kernel, fun h => by cases h⟩
theorem lp_Formula_7_2 : mm_LP "MetricLogMonitor$Formula" 7 2 4 .boolean false := ⟨R_Not, F_Not, 7, "MetricLogMonitor$Formula", t_Not, rfl, lay_Not, by decide, Or.inl kw_180, Or.inl rfl, t_Not_ok, n_Not, rfl, by decide +kernel, fun h => by cases h⟩
theorem lp_Formula_7_3 : mm_LP "MetricLogMonitor$Formula" 7 3 4 .boolean false := ⟨R_Join, F_Join, 8, "MetricLogMonitor$Formula", t_Join, rfl, lay_Join, by decide, Or.inl kw_180, Or.inl rfl, t_Join_ok, n_Join, rfl, by decide +kernel, fun h => by cases h⟩
theorem lp_Formula_7_4 : mm_LP "MetricLogMonitor$Formula" 7 4 4 .boolean false := ⟨R_Exists, F_Exists, 8, "MetricLogMonitor$Formula", t_Exists, rfl, lay_Exists, by decide, Or.inl kw_180, Or.inl rfl, t_Exists_ok, n_Exists, rfl, by decide +kernel, fun h => by cases h⟩
theorem lp_Formula_7_5 : mm_LP "MetricLogMonitor$Formula" 7 5 4 .boolean false := ⟨R_Previous, F_Previous, 8, "MetricLogMonitor$Formula", t_Previous, rfl, lay_Previous, by decide, Or.inl kw_180, Or.inl rfl, t_Previous_ok, n_Previous, rfl, by decide +kernel, fun h => by cases h⟩
theorem lp_Formula_7_6 : mm_LP "MetricLogMonitor$Formula" 7 6 4 .boolean false := ⟨R_Since, F_Since, 10, "MetricLogMonitor$Formula", t_Since, rfl, lay_Since, by decide, Or.inl kw_180, Or.inl rfl, t_Since_ok, n_Since, rfl, by decide +kernel, fun h => by cases h⟩
theorem lp_Formula_7_7 : mm_LP "MetricLogMonitor$Formula" 7 7 4 .boolean false := ⟨R_Until, F_Until, 10, "MetricLogMonitor$Formula", t_Until, rfl, lay_Until, by decide, Or.inl kw_180, Or.inl rfl, t_Until_ok, n_Until, rfl, by decide +kernel, fun h => by cases h⟩
theorem lp_Formula_7 : ∀ ci, ci < 8 → mm_LP "MetricLogMonitor$Formula" 7 ci 4 .boolean false := by
  intro ci h
  match ci, h with
  | 0, _ => exact lp_Formula_7_0
  | 1, _ => exact lp_Formula_7_1
  | 2, _ => exact lp_Formula_7_2
  | 3, _ => exact lp_Formula_7_3
  | 4, _ => exact lp_Formula_7_4
  | 5, _ => exact lp_Formula_7_5
  | 6, _ => exact lp_Formula_7_6
  | 7, _ => exact lp_Formula_7_7
theorem lp_Formula_13_0 : mm_LP "MetricLogMonitor$Formula" 13 0 5 (.array .long) true := ⟨R_Atom, F_Atom, 10, "MetricLogMonitor$Formula", t_Atom, rfl, lay_Atom, by decide, Or.inl kw_184, Or.inl rfl, t_Atom_ok, n_Atom, rfl, by decide +kernel, fun _ => rfl⟩
theorem lp_Formula_13_1 : mm_LP "MetricLogMonitor$Formula" 13 1 5 (.array .long) true := ⟨R_Compare, F_Compare, 8, "MetricLogMonitor$Formula", t_Compare, rfl, lay_Compare, by decide, Or.inl kw_184, Or.inl rfl, t_Compare_ok, n_Compare, rfl, by decide +kernel, fun _ => rfl⟩
theorem lp_Formula_13_2 : mm_LP "MetricLogMonitor$Formula" 13 2 5 (.array .long) true := ⟨R_Not, F_Not, 7, "MetricLogMonitor$Formula", t_Not, rfl, lay_Not, by decide, Or.inl kw_184, Or.inl rfl, t_Not_ok, n_Not, rfl, by decide +kernel, fun _ => rfl⟩
theorem lp_Formula_13_3 : mm_LP "MetricLogMonitor$Formula" 13 3 5 (.array .long) true := ⟨R_Join, F_Join, 8, "MetricLogMonitor$Formula", t_Join, rfl, lay_Join, by decide, Or.inl kw_184, Or.inl rfl, t_Join_ok, n_Join, rfl, by decide +kernel, fun _ => rfl⟩
theorem lp_Formula_13_4 : mm_LP "MetricLogMonitor$Formula" 13 4 5 (.array .long) true := ⟨R_Exists, F_Exists, 8, "MetricLogMonitor$Formula", t_Exists, rfl, lay_Exists, by decide, Or.inl kw_184, Or.inl rfl, t_Exists_ok, n_Exists, rfl, by decide +kernel, fun _ => rfl⟩
theorem lp_Formula_13_5 : mm_LP "MetricLogMonitor$Formula" 13 5 5 (.array .long) true := ⟨R_Previous, F_Previous, 8, "MetricLogMonitor$Formula", t_Previous, rfl, lay_Previous, by decide, Or.inl kw_184, Or.inl rfl, t_Previous_ok, n_Previous, rfl, by decide +kernel, fun _ => rfl⟩
theorem lp_Formula_13_6 : mm_LP "MetricLogMonitor$Formula" 13 6 5 (.array .long) true := ⟨R_Since, F_Since, 10, "MetricLogMonitor$Formula", t_Since, rfl, lay_Since, by decide, Or.inl kw_184, Or.inl rfl, t_Since_ok, n_Since, rfl, by decide +kernel, fun _ => rfl⟩
theorem lp_Formula_13_7 : mm_LP "MetricLogMonitor$Formula" 13 7 5 (.array .long) true := ⟨R_Until, F_Until, 10, "MetricLogMonitor$Formula", t_Until, rfl, lay_Until, by decide, Or.inl kw_184, Or.inl rfl, t_Until_ok, n_Until, rfl, by decide +kernel, fun _ => rfl⟩
theorem lp_Formula_13 : ∀ ci, ci < 8 → mm_LP "MetricLogMonitor$Formula" 13 ci 5 (.array .long) true := by
  intro ci h
  match ci, h with
  | 0, _ => exact lp_Formula_13_0
  | 1, _ => exact lp_Formula_13_1
  | 2, _ => exact lp_Formula_13_2
  | 3, _ => exact lp_Formula_13_3
  | 4, _ => exact lp_Formula_13_4
  | 5, _ => exact lp_Formula_13_5
  | 6, _ => exact lp_Formula_13_6
  | 7, _ => exact lp_Formula_13_7
theorem lp_Formula_17_0 : mm_LP "MetricLogMonitor$Formula" 17 0 0 (.object "MetricLogMonitor$Formula") true := ⟨R_Atom, F_Atom, 10, "MetricLogMonitor$Formula", t_Atom, rfl, lay_Atom, by decide, Or.inl kw_128, Or.inl rfl, t_Atom_ok, n_Atom, rfl, by decide +kernel, fun _ => rfl⟩
theorem lp_Formula_17_1 : mm_LP "MetricLogMonitor$Formula" 17 1 0 (.object "MetricLogMonitor$Formula") true := ⟨R_Compare, F_Compare, 8, "MetricLogMonitor$Formula", t_Compare, rfl, lay_Compare, by decide, Or.inl kw_128, Or.inl rfl, t_Compare_ok, n_Compare, rfl, by decide +kernel, fun _ => rfl⟩
theorem lp_Formula_17_2 : mm_LP "MetricLogMonitor$Formula" 17 2 0 (.object "MetricLogMonitor$Formula") true := ⟨R_Not, F_Not, 7, "MetricLogMonitor$Formula", t_Not, rfl, lay_Not, by decide, Or.inl kw_128, Or.inl rfl, t_Not_ok, n_Not, rfl, by decide +kernel, fun _ => rfl⟩
theorem lp_Formula_17_3 : mm_LP "MetricLogMonitor$Formula" 17 3 0 (.object "MetricLogMonitor$Formula") true := ⟨R_Join, F_Join, 8, "MetricLogMonitor$Formula", t_Join, rfl, lay_Join, by decide, Or.inl kw_128, Or.inl rfl, t_Join_ok, n_Join, rfl, by decide +kernel, fun _ => rfl⟩
theorem lp_Formula_17_4 : mm_LP "MetricLogMonitor$Formula" 17 4 0 (.object "MetricLogMonitor$Formula") true := ⟨R_Exists, F_Exists, 8, "MetricLogMonitor$Formula", t_Exists, rfl, lay_Exists, by decide, Or.inl kw_128, Or.inl rfl, t_Exists_ok, n_Exists, rfl, by decide +kernel, fun _ => rfl⟩
theorem lp_Formula_17_5 : mm_LP "MetricLogMonitor$Formula" 17 5 0 (.object "MetricLogMonitor$Formula") true := ⟨R_Previous, F_Previous, 8, "MetricLogMonitor$Formula", t_Previous, rfl, lay_Previous, by decide, Or.inl kw_128, Or.inl rfl, t_Previous_ok, n_Previous, rfl, by decide +kernel, fun _ => rfl⟩
theorem lp_Formula_17_6 : mm_LP "MetricLogMonitor$Formula" 17 6 0 (.object "MetricLogMonitor$Formula") true := ⟨R_Since, F_Since, 10, "MetricLogMonitor$Formula", t_Since, rfl, lay_Since, by decide, Or.inl kw_128, Or.inl rfl, t_Since_ok, n_Since, rfl, by decide +kernel, fun _ => rfl⟩
theorem lp_Formula_17_7 : mm_LP "MetricLogMonitor$Formula" 17 7 0 (.object "MetricLogMonitor$Formula") true := ⟨R_Until, F_Until, 10, "MetricLogMonitor$Formula", t_Until, rfl, lay_Until, by decide, Or.inl kw_128, Or.inl rfl, t_Until_ok, n_Until, rfl, by decide +kernel, fun _ => rfl⟩
theorem lp_Formula_17 : ∀ ci, ci < 8 → mm_LP "MetricLogMonitor$Formula" 17 ci 0 (.object "MetricLogMonitor$Formula") true := by
  intro ci h
  match ci, h with
  | 0, _ => exact lp_Formula_17_0
  | 1, _ => exact lp_Formula_17_1
  | 2, _ => exact lp_Formula_17_2
  | 3, _ => exact lp_Formula_17_3
  | 4, _ => exact lp_Formula_17_4
  | 5, _ => exact lp_Formula_17_5
  | 6, _ => exact lp_Formula_17_6
  | 7, _ => exact lp_Formula_17_7
theorem lp_Formula_21_0 : mm_LP "MetricLogMonitor$Formula" 21 0 1 (.object "MetricLogMonitor$Formula") true := ⟨R_Atom, F_Atom, 10, "MetricLogMonitor$Formula", t_Atom, rfl, lay_Atom, by decide, Or.inl kw_141, Or.inl rfl, t_Atom_ok, n_Atom, rfl, by decide +kernel, fun _ => rfl⟩
theorem lp_Formula_21_1 : mm_LP "MetricLogMonitor$Formula" 21 1 1 (.object "MetricLogMonitor$Formula") true := ⟨R_Compare, F_Compare, 8, "MetricLogMonitor$Formula", t_Compare, rfl, lay_Compare, by decide, Or.inl kw_141, Or.inl rfl, t_Compare_ok, n_Compare, rfl, by decide +kernel, fun _ => rfl⟩
theorem lp_Formula_21_2 : mm_LP "MetricLogMonitor$Formula" 21 2 1 (.object "MetricLogMonitor$Formula") true := ⟨R_Not, F_Not, 7, "MetricLogMonitor$Formula", t_Not, rfl, lay_Not, by decide, Or.inl kw_141, Or.inl rfl, t_Not_ok, n_Not, rfl, by decide +kernel, fun _ => rfl⟩
theorem lp_Formula_21_3 : mm_LP "MetricLogMonitor$Formula" 21 3 1 (.object "MetricLogMonitor$Formula") true := ⟨R_Join, F_Join, 8, "MetricLogMonitor$Formula", t_Join, rfl, lay_Join, by decide, Or.inl kw_141, Or.inl rfl, t_Join_ok, n_Join, rfl, by decide +kernel, fun _ => rfl⟩
theorem lp_Formula_21_4 : mm_LP "MetricLogMonitor$Formula" 21 4 1 (.object "MetricLogMonitor$Formula") true := ⟨R_Exists, F_Exists, 8, "MetricLogMonitor$Formula", t_Exists, rfl, lay_Exists, by decide, Or.inl kw_141, Or.inl rfl, t_Exists_ok, n_Exists, rfl, by decide +kernel, fun _ => rfl⟩
theorem lp_Formula_21_5 : mm_LP "MetricLogMonitor$Formula" 21 5 1 (.object "MetricLogMonitor$Formula") true := ⟨R_Previous, F_Previous, 8, "MetricLogMonitor$Formula", t_Previous, rfl, lay_Previous, by decide, Or.inl kw_141, Or.inl rfl, t_Previous_ok, n_Previous, rfl, by decide +kernel, fun _ => rfl⟩
theorem lp_Formula_21_6 : mm_LP "MetricLogMonitor$Formula" 21 6 1 (.object "MetricLogMonitor$Formula") true := ⟨R_Since, F_Since, 10, "MetricLogMonitor$Formula", t_Since, rfl, lay_Since, by decide, Or.inl kw_141, Or.inl rfl, t_Since_ok, n_Since, rfl, by decide +kernel, fun _ => rfl⟩
theorem lp_Formula_21_7 : mm_LP "MetricLogMonitor$Formula" 21 7 1 (.object "MetricLogMonitor$Formula") true := ⟨R_Until, F_Until, 10, "MetricLogMonitor$Formula", t_Until, rfl, lay_Until, by decide, Or.inl kw_141, Or.inl rfl, t_Until_ok, n_Until, rfl, by decide +kernel, fun _ => rfl⟩
theorem lp_Formula_21 : ∀ ci, ci < 8 → mm_LP "MetricLogMonitor$Formula" 21 ci 1 (.object "MetricLogMonitor$Formula") true := by
  intro ci h
  match ci, h with
  | 0, _ => exact lp_Formula_21_0
  | 1, _ => exact lp_Formula_21_1
  | 2, _ => exact lp_Formula_21_2
  | 3, _ => exact lp_Formula_21_3
  | 4, _ => exact lp_Formula_21_4
  | 5, _ => exact lp_Formula_21_5
  | 6, _ => exact lp_Formula_21_6
  | 7, _ => exact lp_Formula_21_7
theorem lp_Formula_24_0 : mm_LP "MetricLogMonitor$Formula" 24 0 2 .int true := ⟨R_Atom, F_Atom, 10, "MetricLogMonitor$Formula", t_Atom, rfl, lay_Atom, by decide, Or.inl kw_154, Or.inl rfl, t_Atom_ok, n_Atom, rfl, by decide +kernel, fun _ => rfl⟩
theorem lp_Formula_24_1 : mm_LP "MetricLogMonitor$Formula" 24 1 2 .int true := ⟨R_Compare, F_Compare, 8, "MetricLogMonitor$Formula", t_Compare, rfl, lay_Compare, by decide, Or.inl kw_154, Or.inl rfl, t_Compare_ok, n_Compare, rfl, by decide +kernel, fun _ => rfl⟩
theorem lp_Formula_24_2 : mm_LP "MetricLogMonitor$Formula" 24 2 2 .int true := ⟨R_Not, F_Not, 7, "MetricLogMonitor$Formula", t_Not, rfl, lay_Not, by decide, Or.inl kw_154, Or.inl rfl, t_Not_ok, n_Not, rfl, by decide +kernel, fun _ => rfl⟩
theorem lp_Formula_24_3 : mm_LP "MetricLogMonitor$Formula" 24 3 2 .int true := ⟨R_Join, F_Join, 8, "MetricLogMonitor$Formula", t_Join, rfl, lay_Join, by decide, Or.inl kw_154, Or.inl rfl, t_Join_ok, n_Join, rfl, by decide +kernel, fun _ => rfl⟩
theorem lp_Formula_24_4 : mm_LP "MetricLogMonitor$Formula" 24 4 2 .int true := ⟨R_Exists, F_Exists, 8, "MetricLogMonitor$Formula", t_Exists, rfl, lay_Exists, by decide, Or.inl kw_154, Or.inl rfl, t_Exists_ok, n_Exists, rfl, by decide +kernel, fun _ => rfl⟩
theorem lp_Formula_24_5 : mm_LP "MetricLogMonitor$Formula" 24 5 2 .int true := ⟨R_Previous, F_Previous, 8, "MetricLogMonitor$Formula", t_Previous, rfl, lay_Previous, by decide, Or.inl kw_154, Or.inl rfl, t_Previous_ok, n_Previous, rfl, by decide +kernel, fun _ => rfl⟩
theorem lp_Formula_24_6 : mm_LP "MetricLogMonitor$Formula" 24 6 2 .int true := ⟨R_Since, F_Since, 10, "MetricLogMonitor$Formula", t_Since, rfl, lay_Since, by decide, Or.inl kw_154, Or.inl rfl, t_Since_ok, n_Since, rfl, by decide +kernel, fun _ => rfl⟩
theorem lp_Formula_24_7 : mm_LP "MetricLogMonitor$Formula" 24 7 2 .int true := ⟨R_Until, F_Until, 10, "MetricLogMonitor$Formula", t_Until, rfl, lay_Until, by decide, Or.inl kw_154, Or.inl rfl, t_Until_ok, n_Until, rfl, by decide +kernel, fun _ => rfl⟩
theorem lp_Formula_24 : ∀ ci, ci < 8 → mm_LP "MetricLogMonitor$Formula" 24 ci 2 .int true := by
  intro ci h
  match ci, h with
  | 0, _ => exact lp_Formula_24_0
  | 1, _ => exact lp_Formula_24_1
  | 2, _ => exact lp_Formula_24_2
  | 3, _ => exact lp_Formula_24_3
  | 4, _ => exact lp_Formula_24_4
  | 5, _ => exact lp_Formula_24_5
  | 6, _ => exact lp_Formula_24_6
  | 7, _ => exact lp_Formula_24_7
theorem lg_Formula_7_0 : mm_LG "MetricLogMonitor$Formula" 7 0 4 := ⟨R_Atom, F_Atom, 10, "MetricLogMonitor$Formula", rfl, lay_Atom, by decide, Or.inl kw_180, Or.inl rfl⟩
theorem lg_Formula_7_1 : mm_LG "MetricLogMonitor$Formula" 7 1 4 := ⟨R_Compare, F_Compare, 8, "MetricLogMonitor$Formula", rfl, lay_Compare, by decide, Or.inl kw_180, Or.inl rfl⟩
theorem lg_Formula_7_2 : mm_LG "MetricLogMonitor$Formula" 7 2 4 := ⟨R_Not, F_Not, 7, "MetricLogMonitor$Formula", rfl, lay_Not, by decide, Or.inl kw_180, Or.inl rfl⟩
theorem lg_Formula_7_3 : mm_LG "MetricLogMonitor$Formula" 7 3 4 := ⟨R_Join, F_Join, 8, "MetricLogMonitor$Formula", rfl, lay_Join, by decide, Or.inl kw_180, Or.inl rfl⟩
theorem lg_Formula_7_4 : mm_LG "MetricLogMonitor$Formula" 7 4 4 := ⟨R_Exists, F_Exists, 8, "MetricLogMonitor$Formula", rfl, lay_Exists, by decide, Or.inl kw_180, Or.inl rfl⟩
theorem lg_Formula_7_5 : mm_LG "MetricLogMonitor$Formula" 7 5 4 := ⟨R_Previous, F_Previous, 8, "MetricLogMonitor$Formula", rfl, lay_Previous, by decide, Or.inl kw_180, Or.inl rfl⟩
theorem lg_Formula_7_6 : mm_LG "MetricLogMonitor$Formula" 7 6 4 := ⟨R_Since, F_Since, 10, "MetricLogMonitor$Formula", rfl, lay_Since, by decide, Or.inl kw_180, Or.inl rfl⟩
theorem lg_Formula_7_7 : mm_LG "MetricLogMonitor$Formula" 7 7 4 := ⟨R_Until, F_Until, 10, "MetricLogMonitor$Formula", rfl, lay_Until, by decide, Or.inl kw_180, Or.inl rfl⟩
theorem lg_Formula_7 : ∀ ci, ci < 8 → mm_LG "MetricLogMonitor$Formula" 7 ci 4 := by
  intro ci h
  match ci, h with
  | 0, _ => exact lg_Formula_7_0
  | 1, _ => exact lg_Formula_7_1
  | 2, _ => exact lg_Formula_7_2
  | 3, _ => exact lg_Formula_7_3
  | 4, _ => exact lg_Formula_7_4
  | 5, _ => exact lg_Formula_7_5
  | 6, _ => exact lg_Formula_7_6
  | 7, _ => exact lg_Formula_7_7
theorem lk_Mon_43 : mm_LV "MetricLogMonitor" 43 "java/util/ArrayList" y_AL_add1 b_AL_add1 2 (some .boolean) 1 := ⟨⟨kw_258, kw_4, by decide, by decide, by decide +kernel⟩, kw_255, kw_256, kw_257, rfl⟩
theorem lg_AL_63 : mm_LG "java/util/ArrayList" 63 11 2 := ⟨R_AL, F_AL, 3, "java/util/ArrayList", rfl, lay_AL, by decide, Or.inl kw_56, Or.inr kw_55⟩
theorem lp_AL_63 : mm_LP "java/util/ArrayList" 63 11 2 .int false := ⟨R_AL, F_AL, 3, "java/util/ArrayList", t_AL, rfl, lay_AL, by decide, Or.inl kw_56, Or.inr kw_55, t_AL_ok, n_AL, rfl, by decide +kernel, fun h => by cases h⟩
theorem lg_AL_9 : mm_LG "java/util/ArrayList" 9 11 0 := ⟨R_AL, F_AL, 3, "java/util/ArrayList", rfl, lay_AL, by decide, Or.inl kw_49, Or.inl rfl⟩
theorem lk_AL_131 : mm_LV "java/util/ArrayList" 131 "java/util/ArrayList" y_AL_add2 b_AL_add2 4 none 3 := ⟨⟨kw_262, kw_4, by decide, by decide, by decide +kernel⟩, kw_259, kw_261, kp_2, rfl⟩
theorem lk_AL_129 : mm_LV "java/util/ArrayList" 129 "java/util/ArrayList" y_AL_grow1 b_AL_grow1 1 (some (.array (.object "java/lang/Object"))) 0 := ⟨⟨kw_266, kw_4, by decide, by decide, by decide +kernel⟩, kw_263, kw_265, kp_3, rfl⟩
theorem lp_AL_48 : mm_LP "java/util/ArrayList" 48 11 1 .int false := ⟨R_AL, F_AL, 3, "java/util/ArrayList", t_AL, rfl, lay_AL, by decide, Or.inl kw_52, Or.inl rfl, t_AL_ok, n_AL, rfl, by decide +kernel, fun h => by cases h⟩
theorem lk_AL_69 : mm_LV "java/util/ArrayList" 69 "java/util/ArrayList" y_AL_grow2 b_AL_grow2 4 (some (.array (.object "java/lang/Object"))) 1 := ⟨⟨kw_270, kw_4, by decide, by decide, by decide +kernel⟩, kw_267, kw_269, kp_4, rfl⟩
theorem lk_AL_73 : mm_LS "java/util/ArrayList" 73 y_ASup_newLength b_ASup_newLength 4 (some .int) 3 := ⟨⟨kw_273, kw_9, by decide, by decide, by decide +kernel⟩, kw_271, kw_272⟩
theorem lk_AL_66 : mm_LS "java/util/ArrayList" 66 y_Arr_copyOf1 b_Arr_copyOf1 2 (some (.array (.object "java/lang/Object"))) 2 := ⟨⟨kw_283, kw_11, by decide, by decide, by decide +kernel⟩, kw_281, kw_282⟩
theorem lk_AL_79 : mm_LS "java/util/ArrayList" 79 y_Math_max b_Math_max 2 (some .int) 2 := ⟨⟨kw_276, kw_10, by decide, by decide, by decide +kernel⟩, kw_314, kw_275⟩
theorem lk_ASup_194 : mm_LS "jdk/internal/util/ArraysSupport" 194 y_Math_max b_Math_max 2 (some .int) 2 := ⟨⟨kw_276, kw_10, by decide, by decide, by decide +kernel⟩, kw_274, kw_275⟩
theorem lk_ASup_201 : mm_LS "jdk/internal/util/ArraysSupport" 201 y_ASup_hugeLength b_ASup_hugeLength 3 (some .int) 2 := ⟨⟨kw_280, kw_9, by decide, by decide, by decide +kernel⟩, kw_278, kw_279⟩
theorem lk_Arr_300 : mm_LS "java/util/Arrays" 300 y_Arr_copyOf2 b_Arr_copyOf2 4 (some (.array (.object "java/lang/Object"))) 3 := ⟨⟨kw_304, kw_11, by decide, by decide, by decide +kernel⟩, kw_302, kw_303⟩
theorem lk_Arr_304 : mm_LS "java/util/Arrays" 304 y_Math_min b_Math_min 2 (some .int) 2 := ⟨⟨kw_310, kw_10, by decide, by decide, by decide +kernel⟩, kw_308, kw_309⟩
theorem ln_Mon_64 : mm_LN "MetricLogMonitor" 64 1 8 [.null, .null, .int 0, .int 0, .int 0, .null, .int 0, .long 0] := ⟨R_Compare, F_Compare, t_Compare, rfl, lay_Compare, t_Compare_ok, kw_320, kw_321, kw_13, fun j h => match j, h with | 0, _ => rfl | 1, _ => rfl | 2, _ => rfl | 3, _ => rfl | 4, _ => rfl | 5, _ => rfl | 6, _ => rfl | 7, _ => rfl⟩
theorem lk_Mon_66 : mm_LI "MetricLogMonitor" 66 y_Compare_init b_Compare_init 9 3 := ⟨⟨kw_324, kw_13, by decide, by decide, by decide +kernel⟩, kw_322, kw_323, rfl⟩
theorem lk_Compare_1 : mm_LSN "MetricLogMonitor$Compare" 1 "MetricLogMonitor" y_Mon_variables b_Mon_variables 1 (some .int) 1 := ⟨⟨kw_120, kw_1, by decide, by decide, by decide +kernel⟩, kw_325, kw_119⟩
theorem lk_Compare_7 : mm_LI "MetricLogMonitor$Compare" 7 y_Formula_init b_Formula_init 4 3 := ⟨⟨kw_123, kw_7, by decide, by decide, by decide +kernel⟩, kw_326, kw_122, rfl⟩
theorem lk_Compare_13 : mm_LSN "MetricLogMonitor$Compare" 13 "MetricLogMonitor" y_Mon_where b_Mon_where 2 (some .long) 2 := ⟨⟨kw_329, kw_1, by decide, by decide, by decide +kernel⟩, kw_327, kw_328⟩
theorem lp_Compare_17 : mm_LP "MetricLogMonitor$Compare" 17 1 7 .long true := ⟨R_Compare, F_Compare, 8, "MetricLogMonitor$Compare", t_Compare, rfl, lay_Compare, by decide, Or.inl kw_333, Or.inl rfl, t_Compare_ok, n_Compare, rfl, by decide +kernel, fun _ => rfl⟩
theorem lg_Compare_23 : mm_LG "MetricLogMonitor$Compare" 23 1 2 := ⟨R_Compare, F_Compare, 8, "MetricLogMonitor$Compare", rfl, lay_Compare, by decide, Or.inl kw_157, Or.inr kw_158⟩
theorem lp_Compare_27 : mm_LP "MetricLogMonitor$Compare" 27 1 3 .int false := ⟨R_Compare, F_Compare, 8, "MetricLogMonitor$Compare", t_Compare, rfl, lay_Compare, by decide, Or.inl kw_177, Or.inr kw_178, t_Compare_ok, n_Compare, rfl, by decide +kernel, fun h => by cases h⟩
theorem lk_Mon_69 : mm_LV "MetricLogMonitor" 69 "MetricLogMonitor" y_Mon_formula b_Mon_formula 2 (some (.object "MetricLogMonitor$Formula")) 1 := ⟨⟨kw_351, kw_1, by decide, by decide, by decide +kernel⟩, kw_348, kw_350, kp_5, rfl⟩
theorem ln_Mon_73 : mm_LN "MetricLogMonitor" 73 2 7 [.null, .null, .int 0, .int 0, .int 0, .null, .int 0] := ⟨R_Not, F_Not, t_Not, rfl, lay_Not, t_Not_ok, kw_367, kw_368, kw_16, fun j h => match j, h with | 0, _ => rfl | 1, _ => rfl | 2, _ => rfl | 3, _ => rfl | 4, _ => rfl | 5, _ => rfl | 6, _ => rfl⟩
theorem lk_Mon_75 : mm_LI "MetricLogMonitor" 75 y_Not_init b_Not_init 2 1 := ⟨⟨kw_371, kw_16, by decide, by decide, by decide +kernel⟩, kw_369, kw_370, rfl⟩
theorem lk_Mon_33 : mm_LV "MetricLogMonitor" 33 "java/util/ArrayList" y_AL_get b_AL_get 2 (some (.object "java/lang/Object")) 1 := ⟨⟨kw_355, kw_4, by decide, by decide, by decide +kernel⟩, kw_352, kw_353, kw_354, rfl⟩
theorem lk_AL_118 : mm_LS "java/util/ArrayList" 118 y_Objs_checkIndex b_Objs_checkIndex 2 (some .int) 2 := ⟨⟨kw_358, kw_14, by decide, by decide, by decide +kernel⟩, kw_356, kw_357⟩
theorem lk_AL_123 : mm_LV "java/util/ArrayList" 123 "java/util/ArrayList" y_AL_elementData b_AL_elementData 2 (some (.object "java/lang/Object")) 1 := ⟨⟨kw_365, kw_4, by decide, by decide, by decide +kernel⟩, kw_362, kw_363, kw_364, rfl⟩
theorem lk_Objs_105 : mm_LS "java/util/Objects" 105 y_Pre_checkIndex b_Pre_checkIndex 3 (some .int) 3 := ⟨⟨kw_361, kw_15, by decide, by decide, by decide +kernel⟩, kw_359, kw_360⟩
theorem lg_Not_1_0 : mm_LG "MetricLogMonitor$Not" 1 0 2 := ⟨R_Atom, F_Atom, 10, "MetricLogMonitor$Formula", rfl, lay_Atom, by decide, Or.inl kw_148, Or.inl rfl⟩
theorem lg_Not_1_1 : mm_LG "MetricLogMonitor$Not" 1 1 2 := ⟨R_Compare, F_Compare, 8, "MetricLogMonitor$Formula", rfl, lay_Compare, by decide, Or.inl kw_148, Or.inl rfl⟩
theorem lg_Not_1_2 : mm_LG "MetricLogMonitor$Not" 1 2 2 := ⟨R_Not, F_Not, 7, "MetricLogMonitor$Formula", rfl, lay_Not, by decide, Or.inl kw_148, Or.inl rfl⟩
theorem lg_Not_1_3 : mm_LG "MetricLogMonitor$Not" 1 3 2 := ⟨R_Join, F_Join, 8, "MetricLogMonitor$Formula", rfl, lay_Join, by decide, Or.inl kw_148, Or.inl rfl⟩
theorem lg_Not_1_4 : mm_LG "MetricLogMonitor$Not" 1 4 2 := ⟨R_Exists, F_Exists, 8, "MetricLogMonitor$Formula", rfl, lay_Exists, by decide, Or.inl kw_148, Or.inl rfl⟩
theorem lg_Not_1_5 : mm_LG "MetricLogMonitor$Not" 1 5 2 := ⟨R_Previous, F_Previous, 8, "MetricLogMonitor$Formula", rfl, lay_Previous, by decide, Or.inl kw_148, Or.inl rfl⟩
theorem lg_Not_1_6 : mm_LG "MetricLogMonitor$Not" 1 6 2 := ⟨R_Since, F_Since, 10, "MetricLogMonitor$Formula", rfl, lay_Since, by decide, Or.inl kw_148, Or.inl rfl⟩
theorem lg_Not_1_7 : mm_LG "MetricLogMonitor$Not" 1 7 2 := ⟨R_Until, F_Until, 10, "MetricLogMonitor$Formula", rfl, lay_Until, by decide, Or.inl kw_148, Or.inl rfl⟩
theorem lg_Not_1 : ∀ ci, ci < 8 → mm_LG "MetricLogMonitor$Not" 1 ci 2 := by
  intro ci h
  match ci, h with
  | 0, _ => exact lg_Not_1_0
  | 1, _ => exact lg_Not_1_1
  | 2, _ => exact lg_Not_1_2
  | 3, _ => exact lg_Not_1_3
  | 4, _ => exact lg_Not_1_4
  | 5, _ => exact lg_Not_1_5
  | 6, _ => exact lg_Not_1_6
  | 7, _ => exact lg_Not_1_7
theorem lk_Not_7 : mm_LI "MetricLogMonitor$Not" 7 y_Formula_init b_Formula_init 4 3 := ⟨⟨kw_123, kw_7, by decide, by decide, by decide +kernel⟩, kw_372, kw_122, rfl⟩
theorem ln_Mon_78 : mm_LN "MetricLogMonitor" 78 3 8 [.null, .null, .int 0, .int 0, .int 0, .null, .int 0, .int 0] := ⟨R_Join, F_Join, t_Join, rfl, lay_Join, t_Join_ok, kw_385, kw_386, kw_17, fun j h => match j, h with | 0, _ => rfl | 1, _ => rfl | 2, _ => rfl | 3, _ => rfl | 4, _ => rfl | 5, _ => rfl | 6, _ => rfl | 7, _ => rfl⟩
theorem lk_Mon_80 : mm_LI "MetricLogMonitor" 80 y_Join_init b_Join_init 4 3 := ⟨⟨kw_389, kw_17, by decide, by decide, by decide +kernel⟩, kw_387, kw_388, rfl⟩
theorem lg_Join_1_0 : mm_LG "MetricLogMonitor$Join" 1 0 2 := ⟨R_Atom, F_Atom, 10, "MetricLogMonitor$Formula", rfl, lay_Atom, by decide, Or.inl kw_149, Or.inl rfl⟩
theorem lg_Join_1_1 : mm_LG "MetricLogMonitor$Join" 1 1 2 := ⟨R_Compare, F_Compare, 8, "MetricLogMonitor$Formula", rfl, lay_Compare, by decide, Or.inl kw_149, Or.inl rfl⟩
theorem lg_Join_1_2 : mm_LG "MetricLogMonitor$Join" 1 2 2 := ⟨R_Not, F_Not, 7, "MetricLogMonitor$Formula", rfl, lay_Not, by decide, Or.inl kw_149, Or.inl rfl⟩
theorem lg_Join_1_3 : mm_LG "MetricLogMonitor$Join" 1 3 2 := ⟨R_Join, F_Join, 8, "MetricLogMonitor$Formula", rfl, lay_Join, by decide, Or.inl kw_149, Or.inl rfl⟩
theorem lg_Join_1_4 : mm_LG "MetricLogMonitor$Join" 1 4 2 := ⟨R_Exists, F_Exists, 8, "MetricLogMonitor$Formula", rfl, lay_Exists, by decide, Or.inl kw_149, Or.inl rfl⟩
theorem lg_Join_1_5 : mm_LG "MetricLogMonitor$Join" 1 5 2 := ⟨R_Previous, F_Previous, 8, "MetricLogMonitor$Formula", rfl, lay_Previous, by decide, Or.inl kw_149, Or.inl rfl⟩
theorem lg_Join_1_6 : mm_LG "MetricLogMonitor$Join" 1 6 2 := ⟨R_Since, F_Since, 10, "MetricLogMonitor$Formula", rfl, lay_Since, by decide, Or.inl kw_149, Or.inl rfl⟩
theorem lg_Join_1_7 : mm_LG "MetricLogMonitor$Join" 1 7 2 := ⟨R_Until, F_Until, 10, "MetricLogMonitor$Formula", rfl, lay_Until, by decide, Or.inl kw_149, Or.inl rfl⟩
theorem lg_Join_1 : ∀ ci, ci < 8 → mm_LG "MetricLogMonitor$Join" 1 ci 2 := by
  intro ci h
  match ci, h with
  | 0, _ => exact lg_Join_1_0
  | 1, _ => exact lg_Join_1_1
  | 2, _ => exact lg_Join_1_2
  | 3, _ => exact lg_Join_1_3
  | 4, _ => exact lg_Join_1_4
  | 5, _ => exact lg_Join_1_5
  | 6, _ => exact lg_Join_1_6
  | 7, _ => exact lg_Join_1_7
theorem lk_Join_7 : mm_LI "MetricLogMonitor$Join" 7 y_Formula_init b_Formula_init 4 3 := ⟨⟨kw_123, kw_7, by decide, by decide, by decide +kernel⟩, kw_390, kw_122, rfl⟩
theorem lp_Join_11 : mm_LP "MetricLogMonitor$Join" 11 3 7 .boolean true := ⟨R_Join, F_Join, 8, "MetricLogMonitor$Join", t_Join, rfl, lay_Join, by decide, Or.inl kw_391, Or.inl rfl, t_Join_ok, n_Join, rfl, by decide +kernel, fun _ => rfl⟩
theorem lg_Join_17_0 : mm_LG "MetricLogMonitor$Join" 17 0 3 := ⟨R_Atom, F_Atom, 10, "MetricLogMonitor$Formula", rfl, lay_Atom, by decide, Or.inl kw_164, Or.inl rfl⟩
theorem lg_Join_17_1 : mm_LG "MetricLogMonitor$Join" 17 1 3 := ⟨R_Compare, F_Compare, 8, "MetricLogMonitor$Formula", rfl, lay_Compare, by decide, Or.inl kw_164, Or.inl rfl⟩
theorem lg_Join_17_2 : mm_LG "MetricLogMonitor$Join" 17 2 3 := ⟨R_Not, F_Not, 7, "MetricLogMonitor$Formula", rfl, lay_Not, by decide, Or.inl kw_164, Or.inl rfl⟩
theorem lg_Join_17_3 : mm_LG "MetricLogMonitor$Join" 17 3 3 := ⟨R_Join, F_Join, 8, "MetricLogMonitor$Formula", rfl, lay_Join, by decide, Or.inl kw_164, Or.inl rfl⟩
theorem lg_Join_17_4 : mm_LG "MetricLogMonitor$Join" 17 4 3 := ⟨R_Exists, F_Exists, 8, "MetricLogMonitor$Formula", rfl, lay_Exists, by decide, Or.inl kw_164, Or.inl rfl⟩
theorem lg_Join_17_5 : mm_LG "MetricLogMonitor$Join" 17 5 3 := ⟨R_Previous, F_Previous, 8, "MetricLogMonitor$Formula", rfl, lay_Previous, by decide, Or.inl kw_164, Or.inl rfl⟩
theorem lg_Join_17_6 : mm_LG "MetricLogMonitor$Join" 17 6 3 := ⟨R_Since, F_Since, 10, "MetricLogMonitor$Formula", rfl, lay_Since, by decide, Or.inl kw_164, Or.inl rfl⟩
theorem lg_Join_17_7 : mm_LG "MetricLogMonitor$Join" 17 7 3 := ⟨R_Until, F_Until, 10, "MetricLogMonitor$Formula", rfl, lay_Until, by decide, Or.inl kw_164, Or.inl rfl⟩
theorem lg_Join_17 : ∀ ci, ci < 8 → mm_LG "MetricLogMonitor$Join" 17 ci 3 := by
  intro ci h
  match ci, h with
  | 0, _ => exact lg_Join_17_0
  | 1, _ => exact lg_Join_17_1
  | 2, _ => exact lg_Join_17_2
  | 3, _ => exact lg_Join_17_3
  | 4, _ => exact lg_Join_17_4
  | 5, _ => exact lg_Join_17_5
  | 6, _ => exact lg_Join_17_6
  | 7, _ => exact lg_Join_17_7
theorem lp_Join_20 : mm_LP "MetricLogMonitor$Join" 20 3 3 .int false := ⟨R_Join, F_Join, 8, "MetricLogMonitor$Join", t_Join, rfl, lay_Join, by decide, Or.inl kw_175, Or.inr kw_176, t_Join_ok, n_Join, rfl, by decide +kernel, fun h => by cases h⟩
theorem ln_Mon_83 : mm_LN "MetricLogMonitor" 83 4 8 [.null, .null, .int 0, .int 0, .int 0, .null, .int 0, .int 0] := ⟨R_Exists, F_Exists, t_Exists, rfl, lay_Exists, t_Exists_ok, kw_406, kw_407, kw_18, fun j h => match j, h with | 0, _ => rfl | 1, _ => rfl | 2, _ => rfl | 3, _ => rfl | 4, _ => rfl | 5, _ => rfl | 6, _ => rfl | 7, _ => rfl⟩
theorem lk_Mon_85 : mm_LI "MetricLogMonitor" 85 y_Exists_init b_Exists_init 3 2 := ⟨⟨kw_410, kw_18, by decide, by decide, by decide +kernel⟩, kw_408, kw_409, rfl⟩
theorem lg_Exists_1_0 : mm_LG "MetricLogMonitor$Exists" 1 0 2 := ⟨R_Atom, F_Atom, 10, "MetricLogMonitor$Formula", rfl, lay_Atom, by decide, Or.inl kw_150, Or.inl rfl⟩
theorem lg_Exists_1_1 : mm_LG "MetricLogMonitor$Exists" 1 1 2 := ⟨R_Compare, F_Compare, 8, "MetricLogMonitor$Formula", rfl, lay_Compare, by decide, Or.inl kw_150, Or.inl rfl⟩
theorem lg_Exists_1_2 : mm_LG "MetricLogMonitor$Exists" 1 2 2 := ⟨R_Not, F_Not, 7, "MetricLogMonitor$Formula", rfl, lay_Not, by decide, Or.inl kw_150, Or.inl rfl⟩
theorem lg_Exists_1_3 : mm_LG "MetricLogMonitor$Exists" 1 3 2 := ⟨R_Join, F_Join, 8, "MetricLogMonitor$Formula", rfl, lay_Join, by decide, Or.inl kw_150, Or.inl rfl⟩
theorem lg_Exists_1_4 : mm_LG "MetricLogMonitor$Exists" 1 4 2 := ⟨R_Exists, F_Exists, 8, "MetricLogMonitor$Formula", rfl, lay_Exists, by decide, Or.inl kw_150, Or.inl rfl⟩
theorem lg_Exists_1_5 : mm_LG "MetricLogMonitor$Exists" 1 5 2 := ⟨R_Previous, F_Previous, 8, "MetricLogMonitor$Formula", rfl, lay_Previous, by decide, Or.inl kw_150, Or.inl rfl⟩
theorem lg_Exists_1_6 : mm_LG "MetricLogMonitor$Exists" 1 6 2 := ⟨R_Since, F_Since, 10, "MetricLogMonitor$Formula", rfl, lay_Since, by decide, Or.inl kw_150, Or.inl rfl⟩
theorem lg_Exists_1_7 : mm_LG "MetricLogMonitor$Exists" 1 7 2 := ⟨R_Until, F_Until, 10, "MetricLogMonitor$Formula", rfl, lay_Until, by decide, Or.inl kw_150, Or.inl rfl⟩
theorem lg_Exists_1 : ∀ ci, ci < 8 → mm_LG "MetricLogMonitor$Exists" 1 ci 2 := by
  intro ci h
  match ci, h with
  | 0, _ => exact lg_Exists_1_0
  | 1, _ => exact lg_Exists_1_1
  | 2, _ => exact lg_Exists_1_2
  | 3, _ => exact lg_Exists_1_3
  | 4, _ => exact lg_Exists_1_4
  | 5, _ => exact lg_Exists_1_5
  | 6, _ => exact lg_Exists_1_6
  | 7, _ => exact lg_Exists_1_7
theorem lk_Exists_7 : mm_LI "MetricLogMonitor$Exists" 7 y_Formula_init b_Formula_init 4 3 := ⟨⟨kw_123, kw_7, by decide, by decide, by decide +kernel⟩, kw_411, kw_122, rfl⟩
theorem lp_Exists_11 : mm_LP "MetricLogMonitor$Exists" 11 4 7 .int true := ⟨R_Exists, F_Exists, 8, "MetricLogMonitor$Exists", t_Exists, rfl, lay_Exists, by decide, Or.inl kw_412, Or.inl rfl, t_Exists_ok, n_Exists, rfl, by decide +kernel, fun _ => rfl⟩
theorem lg_Exists_16_0 : mm_LG "MetricLogMonitor$Exists" 16 0 3 := ⟨R_Atom, F_Atom, 10, "MetricLogMonitor$Formula", rfl, lay_Atom, by decide, Or.inl kw_163, Or.inl rfl⟩
theorem lg_Exists_16_1 : mm_LG "MetricLogMonitor$Exists" 16 1 3 := ⟨R_Compare, F_Compare, 8, "MetricLogMonitor$Formula", rfl, lay_Compare, by decide, Or.inl kw_163, Or.inl rfl⟩
theorem lg_Exists_16_2 : mm_LG "MetricLogMonitor$Exists" 16 2 3 := ⟨R_Not, F_Not, 7, "MetricLogMonitor$Formula", rfl, lay_Not, by decide, Or.inl kw_163, Or.inl rfl⟩
theorem lg_Exists_16_3 : mm_LG "MetricLogMonitor$Exists" 16 3 3 := ⟨R_Join, F_Join, 8, "MetricLogMonitor$Formula", rfl, lay_Join, by decide, Or.inl kw_163, Or.inl rfl⟩
theorem lg_Exists_16_4 : mm_LG "MetricLogMonitor$Exists" 16 4 3 := ⟨R_Exists, F_Exists, 8, "MetricLogMonitor$Formula", rfl, lay_Exists, by decide, Or.inl kw_163, Or.inl rfl⟩
theorem lg_Exists_16_5 : mm_LG "MetricLogMonitor$Exists" 16 5 3 := ⟨R_Previous, F_Previous, 8, "MetricLogMonitor$Formula", rfl, lay_Previous, by decide, Or.inl kw_163, Or.inl rfl⟩
theorem lg_Exists_16_6 : mm_LG "MetricLogMonitor$Exists" 16 6 3 := ⟨R_Since, F_Since, 10, "MetricLogMonitor$Formula", rfl, lay_Since, by decide, Or.inl kw_163, Or.inl rfl⟩
theorem lg_Exists_16_7 : mm_LG "MetricLogMonitor$Exists" 16 7 3 := ⟨R_Until, F_Until, 10, "MetricLogMonitor$Formula", rfl, lay_Until, by decide, Or.inl kw_163, Or.inl rfl⟩
theorem lg_Exists_16 : ∀ ci, ci < 8 → mm_LG "MetricLogMonitor$Exists" 16 ci 3 := by
  intro ci h
  match ci, h with
  | 0, _ => exact lg_Exists_16_0
  | 1, _ => exact lg_Exists_16_1
  | 2, _ => exact lg_Exists_16_2
  | 3, _ => exact lg_Exists_16_3
  | 4, _ => exact lg_Exists_16_4
  | 5, _ => exact lg_Exists_16_5
  | 6, _ => exact lg_Exists_16_6
  | 7, _ => exact lg_Exists_16_7
theorem lp_Exists_19 : mm_LP "MetricLogMonitor$Exists" 19 4 3 .int false := ⟨R_Exists, F_Exists, 8, "MetricLogMonitor$Exists", t_Exists, rfl, lay_Exists, by decide, Or.inl kw_167, Or.inr kw_168, t_Exists_ok, n_Exists, rfl, by decide +kernel, fun h => by cases h⟩
theorem lg_Exists_20 : mm_LG "MetricLogMonitor$Exists" 20 4 4 := ⟨R_Exists, F_Exists, 8, "MetricLogMonitor$Exists", rfl, lay_Exists, by decide, Or.inl kw_181, Or.inr kw_182⟩
theorem lp_Exists_20 : mm_LP "MetricLogMonitor$Exists" 20 4 4 .boolean false := ⟨R_Exists, F_Exists, 8, "MetricLogMonitor$Exists", t_Exists, rfl, lay_Exists, by decide, Or.inl kw_181, Or.inr kw_182, t_Exists_ok, n_Exists, rfl, by decide +kernel, fun h => by cases h⟩
theorem ln_Mon_88 : mm_LN "MetricLogMonitor" 88 8 2 [.int 0, .int 0] := ⟨R_Interval, F_Interval, t_Interval, rfl, lay_Interval, t_Interval_ok, kw_427, kw_428, kw_20, fun j h => match j, h with | 0, _ => rfl | 1, _ => rfl⟩
theorem lk_Mon_90 : mm_LIN "MetricLogMonitor" 90 "MetricLogMonitor" y_Interval_init b_Interval_init 3 2 := ⟨⟨kw_431, kw_20, by decide, by decide, by decide +kernel⟩, kw_429, kw_430, rfl⟩
theorem lk_Mon_93 : mm_LV "MetricLogMonitor" 93 "MetricLogMonitor$Interval" y_Interval_isGood b_Interval_isGood 2 (some .boolean) 1 := ⟨⟨kw_446, kw_20, by decide, by decide, by decide +kernel⟩, kw_443, kw_444, kw_445, rfl⟩
theorem ln_Mon_97 : mm_LN "MetricLogMonitor" 97 5 8 [.null, .null, .int 0, .int 0, .int 0, .null, .int 0, .null] := ⟨R_Previous, F_Previous, t_Previous, rfl, lay_Previous, t_Previous_ok, kw_448, kw_449, kw_21, fun j h => match j, h with | 0, _ => rfl | 1, _ => rfl | 2, _ => rfl | 3, _ => rfl | 4, _ => rfl | 5, _ => rfl | 6, _ => rfl | 7, _ => rfl⟩
theorem lk_Mon_99 : mm_LI "MetricLogMonitor" 99 y_Previous_init b_Previous_init 3 2 := ⟨⟨kw_452, kw_21, by decide, by decide, by decide +kernel⟩, kw_450, kw_451, rfl⟩
theorem lk_Interval_3 : mm_LI "MetricLogMonitor$Interval" 3 y_Rec_init b_Rec_init 1 0 := ⟨⟨kw_434, kw_19, by decide, by decide, by decide +kernel⟩, kw_432, kw_433, rfl⟩
theorem lp_Interval_9 : mm_LP "MetricLogMonitor$Interval" 9 8 0 .int true := ⟨R_Interval, F_Interval, 2, "MetricLogMonitor$Interval", t_Interval, rfl, lay_Interval, by decide, Or.inl kw_436, Or.inl rfl, t_Interval_ok, n_Interval, rfl, by decide +kernel, fun _ => rfl⟩
theorem lp_Interval_15 : mm_LP "MetricLogMonitor$Interval" 15 8 1 .int true := ⟨R_Interval, F_Interval, 2, "MetricLogMonitor$Interval", t_Interval, rfl, lay_Interval, by decide, Or.inl kw_437, Or.inl rfl, t_Interval_ok, n_Interval, rfl, by decide +kernel, fun _ => rfl⟩
theorem lg_Interval_9 : mm_LG "MetricLogMonitor$Interval" 9 8 0 := ⟨R_Interval, F_Interval, 2, "MetricLogMonitor$Interval", rfl, lay_Interval, by decide, Or.inl kw_436, Or.inl rfl⟩
theorem lg_Interval_15 : mm_LG "MetricLogMonitor$Interval" 15 8 1 := ⟨R_Interval, F_Interval, 2, "MetricLogMonitor$Interval", rfl, lay_Interval, by decide, Or.inl kw_437, Or.inl rfl⟩
theorem lg_Previous_1_0 : mm_LG "MetricLogMonitor$Previous" 1 0 2 := ⟨R_Atom, F_Atom, 10, "MetricLogMonitor$Formula", rfl, lay_Atom, by decide, Or.inl kw_151, Or.inl rfl⟩
theorem lg_Previous_1_1 : mm_LG "MetricLogMonitor$Previous" 1 1 2 := ⟨R_Compare, F_Compare, 8, "MetricLogMonitor$Formula", rfl, lay_Compare, by decide, Or.inl kw_151, Or.inl rfl⟩
theorem lg_Previous_1_2 : mm_LG "MetricLogMonitor$Previous" 1 2 2 := ⟨R_Not, F_Not, 7, "MetricLogMonitor$Formula", rfl, lay_Not, by decide, Or.inl kw_151, Or.inl rfl⟩
theorem lg_Previous_1_3 : mm_LG "MetricLogMonitor$Previous" 1 3 2 := ⟨R_Join, F_Join, 8, "MetricLogMonitor$Formula", rfl, lay_Join, by decide, Or.inl kw_151, Or.inl rfl⟩
theorem lg_Previous_1_4 : mm_LG "MetricLogMonitor$Previous" 1 4 2 := ⟨R_Exists, F_Exists, 8, "MetricLogMonitor$Formula", rfl, lay_Exists, by decide, Or.inl kw_151, Or.inl rfl⟩
theorem lg_Previous_1_5 : mm_LG "MetricLogMonitor$Previous" 1 5 2 := ⟨R_Previous, F_Previous, 8, "MetricLogMonitor$Formula", rfl, lay_Previous, by decide, Or.inl kw_151, Or.inl rfl⟩
theorem lg_Previous_1_6 : mm_LG "MetricLogMonitor$Previous" 1 6 2 := ⟨R_Since, F_Since, 10, "MetricLogMonitor$Formula", rfl, lay_Since, by decide, Or.inl kw_151, Or.inl rfl⟩
theorem lg_Previous_1_7 : mm_LG "MetricLogMonitor$Previous" 1 7 2 := ⟨R_Until, F_Until, 10, "MetricLogMonitor$Formula", rfl, lay_Until, by decide, Or.inl kw_151, Or.inl rfl⟩
theorem lg_Previous_1 : ∀ ci, ci < 8 → mm_LG "MetricLogMonitor$Previous" 1 ci 2 := by
  intro ci h
  match ci, h with
  | 0, _ => exact lg_Previous_1_0
  | 1, _ => exact lg_Previous_1_1
  | 2, _ => exact lg_Previous_1_2
  | 3, _ => exact lg_Previous_1_3
  | 4, _ => exact lg_Previous_1_4
  | 5, _ => exact lg_Previous_1_5
  | 6, _ => exact lg_Previous_1_6
  | 7, _ => exact lg_Previous_1_7
theorem lk_Previous_7 : mm_LI "MetricLogMonitor$Previous" 7 y_Formula_init b_Formula_init 4 3 := ⟨⟨kw_123, kw_7, by decide, by decide, by decide +kernel⟩, kw_453, kw_122, rfl⟩
theorem lp_Previous_11 : mm_LP "MetricLogMonitor$Previous" 11 5 7 (.object "MetricLogMonitor$Interval") true := ⟨R_Previous, F_Previous, 8, "MetricLogMonitor$Previous", t_Previous, rfl, lay_Previous, by decide, Or.inl kw_454, Or.inl rfl, t_Previous_ok, n_Previous, rfl, by decide +kernel, fun _ => rfl⟩
theorem lg_Previous_17_0 : mm_LG "MetricLogMonitor$Previous" 17 0 3 := ⟨R_Atom, F_Atom, 10, "MetricLogMonitor$Formula", rfl, lay_Atom, by decide, Or.inl kw_160, Or.inl rfl⟩
theorem lg_Previous_17_1 : mm_LG "MetricLogMonitor$Previous" 17 1 3 := ⟨R_Compare, F_Compare, 8, "MetricLogMonitor$Formula", rfl, lay_Compare, by decide, Or.inl kw_160, Or.inl rfl⟩
theorem lg_Previous_17_2 : mm_LG "MetricLogMonitor$Previous" 17 2 3 := ⟨R_Not, F_Not, 7, "MetricLogMonitor$Formula", rfl, lay_Not, by decide, Or.inl kw_160, Or.inl rfl⟩
theorem lg_Previous_17_3 : mm_LG "MetricLogMonitor$Previous" 17 3 3 := ⟨R_Join, F_Join, 8, "MetricLogMonitor$Formula", rfl, lay_Join, by decide, Or.inl kw_160, Or.inl rfl⟩
theorem lg_Previous_17_4 : mm_LG "MetricLogMonitor$Previous" 17 4 3 := ⟨R_Exists, F_Exists, 8, "MetricLogMonitor$Formula", rfl, lay_Exists, by decide, Or.inl kw_160, Or.inl rfl⟩
theorem lg_Previous_17_5 : mm_LG "MetricLogMonitor$Previous" 17 5 3 := ⟨R_Previous, F_Previous, 8, "MetricLogMonitor$Formula", rfl, lay_Previous, by decide, Or.inl kw_160, Or.inl rfl⟩
theorem lg_Previous_17_6 : mm_LG "MetricLogMonitor$Previous" 17 6 3 := ⟨R_Since, F_Since, 10, "MetricLogMonitor$Formula", rfl, lay_Since, by decide, Or.inl kw_160, Or.inl rfl⟩
theorem lg_Previous_17_7 : mm_LG "MetricLogMonitor$Previous" 17 7 3 := ⟨R_Until, F_Until, 10, "MetricLogMonitor$Formula", rfl, lay_Until, by decide, Or.inl kw_160, Or.inl rfl⟩
theorem lg_Previous_17 : ∀ ci, ci < 8 → mm_LG "MetricLogMonitor$Previous" 17 ci 3 := by
  intro ci h
  match ci, h with
  | 0, _ => exact lg_Previous_17_0
  | 1, _ => exact lg_Previous_17_1
  | 2, _ => exact lg_Previous_17_2
  | 3, _ => exact lg_Previous_17_3
  | 4, _ => exact lg_Previous_17_4
  | 5, _ => exact lg_Previous_17_5
  | 6, _ => exact lg_Previous_17_6
  | 7, _ => exact lg_Previous_17_7
theorem lp_Previous_20 : mm_LP "MetricLogMonitor$Previous" 20 5 3 .int false := ⟨R_Previous, F_Previous, 8, "MetricLogMonitor$Previous", t_Previous, rfl, lay_Previous, by decide, Or.inl kw_161, Or.inr kw_162, t_Previous_ok, n_Previous, rfl, by decide +kernel, fun h => by cases h⟩
theorem ln_Mon_102 : mm_LN "MetricLogMonitor" 102 6 10 [.null, .null, .int 0, .int 0, .int 0, .null, .int 0, .null, .null, .int 0] := ⟨R_Since, F_Since, t_Since, rfl, lay_Since, t_Since_ok, kw_469, kw_470, kw_22, fun j h => match j, h with | 0, _ => rfl | 1, _ => rfl | 2, _ => rfl | 3, _ => rfl | 4, _ => rfl | 5, _ => rfl | 6, _ => rfl | 7, _ => rfl | 8, _ => rfl | 9, _ => rfl⟩
theorem lk_Mon_104 : mm_LI "MetricLogMonitor" 104 y_Since_init b_Since_init 4 3 := ⟨⟨kw_473, kw_22, by decide, by decide, by decide +kernel⟩, kw_471, kw_472, rfl⟩
theorem lg_Since_3_0 : mm_LG "MetricLogMonitor$Since" 3 0 2 := ⟨R_Atom, F_Atom, 10, "MetricLogMonitor$Formula", rfl, lay_Atom, by decide, Or.inl kw_152, Or.inl rfl⟩
theorem lg_Since_3_1 : mm_LG "MetricLogMonitor$Since" 3 1 2 := ⟨R_Compare, F_Compare, 8, "MetricLogMonitor$Formula", rfl, lay_Compare, by decide, Or.inl kw_152, Or.inl rfl⟩
theorem lg_Since_3_2 : mm_LG "MetricLogMonitor$Since" 3 2 2 := ⟨R_Not, F_Not, 7, "MetricLogMonitor$Formula", rfl, lay_Not, by decide, Or.inl kw_152, Or.inl rfl⟩
theorem lg_Since_3_3 : mm_LG "MetricLogMonitor$Since" 3 3 2 := ⟨R_Join, F_Join, 8, "MetricLogMonitor$Formula", rfl, lay_Join, by decide, Or.inl kw_152, Or.inl rfl⟩
theorem lg_Since_3_4 : mm_LG "MetricLogMonitor$Since" 3 4 2 := ⟨R_Exists, F_Exists, 8, "MetricLogMonitor$Formula", rfl, lay_Exists, by decide, Or.inl kw_152, Or.inl rfl⟩
theorem lg_Since_3_5 : mm_LG "MetricLogMonitor$Since" 3 5 2 := ⟨R_Previous, F_Previous, 8, "MetricLogMonitor$Formula", rfl, lay_Previous, by decide, Or.inl kw_152, Or.inl rfl⟩
theorem lg_Since_3_6 : mm_LG "MetricLogMonitor$Since" 3 6 2 := ⟨R_Since, F_Since, 10, "MetricLogMonitor$Formula", rfl, lay_Since, by decide, Or.inl kw_152, Or.inl rfl⟩
theorem lg_Since_3_7 : mm_LG "MetricLogMonitor$Since" 3 7 2 := ⟨R_Until, F_Until, 10, "MetricLogMonitor$Formula", rfl, lay_Until, by decide, Or.inl kw_152, Or.inl rfl⟩
theorem lg_Since_3 : ∀ ci, ci < 8 → mm_LG "MetricLogMonitor$Since" 3 ci 2 := by
  intro ci h
  match ci, h with
  | 0, _ => exact lg_Since_3_0
  | 1, _ => exact lg_Since_3_1
  | 2, _ => exact lg_Since_3_2
  | 3, _ => exact lg_Since_3_3
  | 4, _ => exact lg_Since_3_4
  | 5, _ => exact lg_Since_3_5
  | 6, _ => exact lg_Since_3_6
  | 7, _ => exact lg_Since_3_7
theorem lk_Since_9 : mm_LI "MetricLogMonitor$Since" 9 y_Formula_init b_Formula_init 4 3 := ⟨⟨kw_123, kw_7, by decide, by decide, by decide +kernel⟩, kw_474, kw_122, rfl⟩
theorem lp_Since_13 : mm_LP "MetricLogMonitor$Since" 13 6 8 (.array .long) true := ⟨R_Since, F_Since, 10, "MetricLogMonitor$Since", t_Since, rfl, lay_Since, by decide, Or.inl kw_476, Or.inl rfl, t_Since_ok, n_Since, rfl, by decide +kernel, fun _ => rfl⟩
theorem lp_Since_19 : mm_LP "MetricLogMonitor$Since" 19 6 7 (.object "MetricLogMonitor$Interval") true := ⟨R_Since, F_Since, 10, "MetricLogMonitor$Since", t_Since, rfl, lay_Since, by decide, Or.inl kw_475, Or.inl rfl, t_Since_ok, n_Since, rfl, by decide +kernel, fun _ => rfl⟩
theorem lg_Since_23_0 : mm_LG "MetricLogMonitor$Since" 23 0 3 := ⟨R_Atom, F_Atom, 10, "MetricLogMonitor$Formula", rfl, lay_Atom, by decide, Or.inl kw_165, Or.inl rfl⟩
theorem lg_Since_23_1 : mm_LG "MetricLogMonitor$Since" 23 1 3 := ⟨R_Compare, F_Compare, 8, "MetricLogMonitor$Formula", rfl, lay_Compare, by decide, Or.inl kw_165, Or.inl rfl⟩
theorem lg_Since_23_2 : mm_LG "MetricLogMonitor$Since" 23 2 3 := ⟨R_Not, F_Not, 7, "MetricLogMonitor$Formula", rfl, lay_Not, by decide, Or.inl kw_165, Or.inl rfl⟩
theorem lg_Since_23_3 : mm_LG "MetricLogMonitor$Since" 23 3 3 := ⟨R_Join, F_Join, 8, "MetricLogMonitor$Formula", rfl, lay_Join, by decide, Or.inl kw_165, Or.inl rfl⟩
theorem lg_Since_23_4 : mm_LG "MetricLogMonitor$Since" 23 4 3 := ⟨R_Exists, F_Exists, 8, "MetricLogMonitor$Formula", rfl, lay_Exists, by decide, Or.inl kw_165, Or.inl rfl⟩
theorem lg_Since_23_5 : mm_LG "MetricLogMonitor$Since" 23 5 3 := ⟨R_Previous, F_Previous, 8, "MetricLogMonitor$Formula", rfl, lay_Previous, by decide, Or.inl kw_165, Or.inl rfl⟩
theorem lg_Since_23_6 : mm_LG "MetricLogMonitor$Since" 23 6 3 := ⟨R_Since, F_Since, 10, "MetricLogMonitor$Formula", rfl, lay_Since, by decide, Or.inl kw_165, Or.inl rfl⟩
theorem lg_Since_23_7 : mm_LG "MetricLogMonitor$Since" 23 7 3 := ⟨R_Until, F_Until, 10, "MetricLogMonitor$Formula", rfl, lay_Until, by decide, Or.inl kw_165, Or.inl rfl⟩
theorem lg_Since_23 : ∀ ci, ci < 8 → mm_LG "MetricLogMonitor$Since" 23 ci 3 := by
  intro ci h
  match ci, h with
  | 0, _ => exact lg_Since_23_0
  | 1, _ => exact lg_Since_23_1
  | 2, _ => exact lg_Since_23_2
  | 3, _ => exact lg_Since_23_3
  | 4, _ => exact lg_Since_23_4
  | 5, _ => exact lg_Since_23_5
  | 6, _ => exact lg_Since_23_6
  | 7, _ => exact lg_Since_23_7
theorem lp_Since_26 : mm_LP "MetricLogMonitor$Since" 26 6 3 .int false := ⟨R_Since, F_Since, 10, "MetricLogMonitor$Since", t_Since, rfl, lay_Since, by decide, Or.inl kw_169, Or.inr kw_170, t_Since_ok, n_Since, rfl, by decide +kernel, fun h => by cases h⟩
theorem ln_Mon_107 : mm_LN "MetricLogMonitor" 107 7 10 [.null, .null, .int 0, .int 0, .int 0, .null, .int 0, .null, .null, .int 0] := ⟨R_Until, F_Until, t_Until, rfl, lay_Until, t_Until_ok, kw_496, kw_497, kw_23, fun j h => match j, h with | 0, _ => rfl | 1, _ => rfl | 2, _ => rfl | 3, _ => rfl | 4, _ => rfl | 5, _ => rfl | 6, _ => rfl | 7, _ => rfl | 8, _ => rfl | 9, _ => rfl⟩
theorem lk_Mon_109 : mm_LI "MetricLogMonitor" 109 y_Until_init b_Until_init 4 3 := ⟨⟨kw_500, kw_23, by decide, by decide, by decide +kernel⟩, kw_498, kw_499, rfl⟩
theorem lg_Until_1_0 : mm_LG "MetricLogMonitor$Until" 1 0 2 := ⟨R_Atom, F_Atom, 10, "MetricLogMonitor$Formula", rfl, lay_Atom, by decide, Or.inl kw_153, Or.inl rfl⟩
theorem lg_Until_1_1 : mm_LG "MetricLogMonitor$Until" 1 1 2 := ⟨R_Compare, F_Compare, 8, "MetricLogMonitor$Formula", rfl, lay_Compare, by decide, Or.inl kw_153, Or.inl rfl⟩
theorem lg_Until_1_2 : mm_LG "MetricLogMonitor$Until" 1 2 2 := ⟨R_Not, F_Not, 7, "MetricLogMonitor$Formula", rfl, lay_Not, by decide, Or.inl kw_153, Or.inl rfl⟩
theorem lg_Until_1_3 : mm_LG "MetricLogMonitor$Until" 1 3 2 := ⟨R_Join, F_Join, 8, "MetricLogMonitor$Formula", rfl, lay_Join, by decide, Or.inl kw_153, Or.inl rfl⟩
theorem lg_Until_1_4 : mm_LG "MetricLogMonitor$Until" 1 4 2 := ⟨R_Exists, F_Exists, 8, "MetricLogMonitor$Formula", rfl, lay_Exists, by decide, Or.inl kw_153, Or.inl rfl⟩
theorem lg_Until_1_5 : mm_LG "MetricLogMonitor$Until" 1 5 2 := ⟨R_Previous, F_Previous, 8, "MetricLogMonitor$Formula", rfl, lay_Previous, by decide, Or.inl kw_153, Or.inl rfl⟩
theorem lg_Until_1_6 : mm_LG "MetricLogMonitor$Until" 1 6 2 := ⟨R_Since, F_Since, 10, "MetricLogMonitor$Formula", rfl, lay_Since, by decide, Or.inl kw_153, Or.inl rfl⟩
theorem lg_Until_1_7 : mm_LG "MetricLogMonitor$Until" 1 7 2 := ⟨R_Until, F_Until, 10, "MetricLogMonitor$Formula", rfl, lay_Until, by decide, Or.inl kw_153, Or.inl rfl⟩
theorem lg_Until_1 : ∀ ci, ci < 8 → mm_LG "MetricLogMonitor$Until" 1 ci 2 := by
  intro ci h
  match ci, h with
  | 0, _ => exact lg_Until_1_0
  | 1, _ => exact lg_Until_1_1
  | 2, _ => exact lg_Until_1_2
  | 3, _ => exact lg_Until_1_3
  | 4, _ => exact lg_Until_1_4
  | 5, _ => exact lg_Until_1_5
  | 6, _ => exact lg_Until_1_6
  | 7, _ => exact lg_Until_1_7
theorem lk_Until_7 : mm_LI "MetricLogMonitor$Until" 7 y_Formula_init b_Formula_init 4 3 := ⟨⟨kw_123, kw_7, by decide, by decide, by decide +kernel⟩, kw_501, kw_122, rfl⟩
theorem lp_Until_11 : mm_LP "MetricLogMonitor$Until" 11 7 8 (.array .long) true := ⟨R_Until, F_Until, 10, "MetricLogMonitor$Until", t_Until, rfl, lay_Until, by decide, Or.inl kw_503, Or.inl rfl, t_Until_ok, n_Until, rfl, by decide +kernel, fun _ => rfl⟩
theorem lp_Until_17 : mm_LP "MetricLogMonitor$Until" 17 7 7 (.object "MetricLogMonitor$Interval") true := ⟨R_Until, F_Until, 10, "MetricLogMonitor$Until", t_Until, rfl, lay_Until, by decide, Or.inl kw_502, Or.inl rfl, t_Until_ok, n_Until, rfl, by decide +kernel, fun _ => rfl⟩
theorem lg_Until_21_0 : mm_LG "MetricLogMonitor$Until" 21 0 3 := ⟨R_Atom, F_Atom, 10, "MetricLogMonitor$Formula", rfl, lay_Atom, by decide, Or.inl kw_166, Or.inl rfl⟩
theorem lg_Until_21_1 : mm_LG "MetricLogMonitor$Until" 21 1 3 := ⟨R_Compare, F_Compare, 8, "MetricLogMonitor$Formula", rfl, lay_Compare, by decide, Or.inl kw_166, Or.inl rfl⟩
theorem lg_Until_21_2 : mm_LG "MetricLogMonitor$Until" 21 2 3 := ⟨R_Not, F_Not, 7, "MetricLogMonitor$Formula", rfl, lay_Not, by decide, Or.inl kw_166, Or.inl rfl⟩
theorem lg_Until_21_3 : mm_LG "MetricLogMonitor$Until" 21 3 3 := ⟨R_Join, F_Join, 8, "MetricLogMonitor$Formula", rfl, lay_Join, by decide, Or.inl kw_166, Or.inl rfl⟩
theorem lg_Until_21_4 : mm_LG "MetricLogMonitor$Until" 21 4 3 := ⟨R_Exists, F_Exists, 8, "MetricLogMonitor$Formula", rfl, lay_Exists, by decide, Or.inl kw_166, Or.inl rfl⟩
theorem lg_Until_21_5 : mm_LG "MetricLogMonitor$Until" 21 5 3 := ⟨R_Previous, F_Previous, 8, "MetricLogMonitor$Formula", rfl, lay_Previous, by decide, Or.inl kw_166, Or.inl rfl⟩
theorem lg_Until_21_6 : mm_LG "MetricLogMonitor$Until" 21 6 3 := ⟨R_Since, F_Since, 10, "MetricLogMonitor$Formula", rfl, lay_Since, by decide, Or.inl kw_166, Or.inl rfl⟩
theorem lg_Until_21_7 : mm_LG "MetricLogMonitor$Until" 21 7 3 := ⟨R_Until, F_Until, 10, "MetricLogMonitor$Formula", rfl, lay_Until, by decide, Or.inl kw_166, Or.inl rfl⟩
theorem lg_Until_21 : ∀ ci, ci < 8 → mm_LG "MetricLogMonitor$Until" 21 ci 3 := by
  intro ci h
  match ci, h with
  | 0, _ => exact lg_Until_21_0
  | 1, _ => exact lg_Until_21_1
  | 2, _ => exact lg_Until_21_2
  | 3, _ => exact lg_Until_21_3
  | 4, _ => exact lg_Until_21_4
  | 5, _ => exact lg_Until_21_5
  | 6, _ => exact lg_Until_21_6
  | 7, _ => exact lg_Until_21_7
theorem lp_Until_24 : mm_LP "MetricLogMonitor$Until" 24 7 3 .int false := ⟨R_Until, F_Until, 10, "MetricLogMonitor$Until", t_Until, rfl, lay_Until, by decide, Or.inl kw_171, Or.inr kw_172, t_Until_ok, n_Until, rfl, by decide +kernel, fun h => by cases h⟩
theorem lg_Mon_110_0 : mm_LG "MetricLogMonitor" 110 0 2 := ⟨R_Atom, F_Atom, 10, "MetricLogMonitor$Formula", rfl, lay_Atom, by decide, Or.inl kw_159, Or.inl rfl⟩
theorem lg_Mon_110_1 : mm_LG "MetricLogMonitor" 110 1 2 := ⟨R_Compare, F_Compare, 8, "MetricLogMonitor$Formula", rfl, lay_Compare, by decide, Or.inl kw_159, Or.inl rfl⟩
theorem lg_Mon_110_2 : mm_LG "MetricLogMonitor" 110 2 2 := ⟨R_Not, F_Not, 7, "MetricLogMonitor$Formula", rfl, lay_Not, by decide, Or.inl kw_159, Or.inl rfl⟩
theorem lg_Mon_110_3 : mm_LG "MetricLogMonitor" 110 3 2 := ⟨R_Join, F_Join, 8, "MetricLogMonitor$Formula", rfl, lay_Join, by decide, Or.inl kw_159, Or.inl rfl⟩
theorem lg_Mon_110_4 : mm_LG "MetricLogMonitor" 110 4 2 := ⟨R_Exists, F_Exists, 8, "MetricLogMonitor$Formula", rfl, lay_Exists, by decide, Or.inl kw_159, Or.inl rfl⟩
theorem lg_Mon_110_5 : mm_LG "MetricLogMonitor" 110 5 2 := ⟨R_Previous, F_Previous, 8, "MetricLogMonitor$Formula", rfl, lay_Previous, by decide, Or.inl kw_159, Or.inl rfl⟩
theorem lg_Mon_110_6 : mm_LG "MetricLogMonitor" 110 6 2 := ⟨R_Since, F_Since, 10, "MetricLogMonitor$Formula", rfl, lay_Since, by decide, Or.inl kw_159, Or.inl rfl⟩
theorem lg_Mon_110_7 : mm_LG "MetricLogMonitor" 110 7 2 := ⟨R_Until, F_Until, 10, "MetricLogMonitor$Formula", rfl, lay_Until, by decide, Or.inl kw_159, Or.inl rfl⟩
theorem lg_Mon_110 : ∀ ci, ci < 8 → mm_LG "MetricLogMonitor" 110 ci 2 := by
  intro ci h
  match ci, h with
  | 0, _ => exact lg_Mon_110_0
  | 1, _ => exact lg_Mon_110_1
  | 2, _ => exact lg_Mon_110_2
  | 3, _ => exact lg_Mon_110_3
  | 4, _ => exact lg_Mon_110_4
  | 5, _ => exact lg_Mon_110_5
  | 6, _ => exact lg_Mon_110_6
  | 7, _ => exact lg_Mon_110_7
theorem lg_Mon_114_0 : mm_LG "MetricLogMonitor" 114 0 3 := ⟨R_Atom, F_Atom, 10, "MetricLogMonitor$Formula", rfl, lay_Atom, by decide, Or.inl kw_179, Or.inl rfl⟩
theorem lg_Mon_114_1 : mm_LG "MetricLogMonitor" 114 1 3 := ⟨R_Compare, F_Compare, 8, "MetricLogMonitor$Formula", rfl, lay_Compare, by decide, Or.inl kw_179, Or.inl rfl⟩
theorem lg_Mon_114_2 : mm_LG "MetricLogMonitor" 114 2 3 := ⟨R_Not, F_Not, 7, "MetricLogMonitor$Formula", rfl, lay_Not, by decide, Or.inl kw_179, Or.inl rfl⟩
theorem lg_Mon_114_3 : mm_LG "MetricLogMonitor" 114 3 3 := ⟨R_Join, F_Join, 8, "MetricLogMonitor$Formula", rfl, lay_Join, by decide, Or.inl kw_179, Or.inl rfl⟩
theorem lg_Mon_114_4 : mm_LG "MetricLogMonitor" 114 4 3 := ⟨R_Exists, F_Exists, 8, "MetricLogMonitor$Formula", rfl, lay_Exists, by decide, Or.inl kw_179, Or.inl rfl⟩
theorem lg_Mon_114_5 : mm_LG "MetricLogMonitor" 114 5 3 := ⟨R_Previous, F_Previous, 8, "MetricLogMonitor$Formula", rfl, lay_Previous, by decide, Or.inl kw_179, Or.inl rfl⟩
theorem lg_Mon_114_6 : mm_LG "MetricLogMonitor" 114 6 3 := ⟨R_Since, F_Since, 10, "MetricLogMonitor$Formula", rfl, lay_Since, by decide, Or.inl kw_179, Or.inl rfl⟩
theorem lg_Mon_114_7 : mm_LG "MetricLogMonitor" 114 7 3 := ⟨R_Until, F_Until, 10, "MetricLogMonitor$Formula", rfl, lay_Until, by decide, Or.inl kw_179, Or.inl rfl⟩
theorem lg_Mon_114 : ∀ ci, ci < 8 → mm_LG "MetricLogMonitor" 114 ci 3 := by
  intro ci h
  match ci, h with
  | 0, _ => exact lg_Mon_114_0
  | 1, _ => exact lg_Mon_114_1
  | 2, _ => exact lg_Mon_114_2
  | 3, _ => exact lg_Mon_114_3
  | 4, _ => exact lg_Mon_114_4
  | 5, _ => exact lg_Mon_114_5
  | 6, _ => exact lg_Mon_114_6
  | 7, _ => exact lg_Mon_114_7
theorem lg_Mon_117_0 : mm_LG "MetricLogMonitor" 117 0 4 := ⟨R_Atom, F_Atom, 10, "MetricLogMonitor$Formula", rfl, lay_Atom, by decide, Or.inl kw_183, Or.inl rfl⟩
theorem lg_Mon_117_1 : mm_LG "MetricLogMonitor" 117 1 4 := ⟨R_Compare, F_Compare, 8, "MetricLogMonitor$Formula", rfl, lay_Compare, by decide, Or.inl kw_183, Or.inl rfl⟩
theorem lg_Mon_117_2 : mm_LG "MetricLogMonitor" 117 2 4 := ⟨R_Not, F_Not, 7, "MetricLogMonitor$Formula", rfl, lay_Not, by decide, Or.inl kw_183, Or.inl rfl⟩
theorem lg_Mon_117_3 : mm_LG "MetricLogMonitor" 117 3 4 := ⟨R_Join, F_Join, 8, "MetricLogMonitor$Formula", rfl, lay_Join, by decide, Or.inl kw_183, Or.inl rfl⟩
theorem lg_Mon_117_4 : mm_LG "MetricLogMonitor" 117 4 4 := ⟨R_Exists, F_Exists, 8, "MetricLogMonitor$Formula", rfl, lay_Exists, by decide, Or.inl kw_183, Or.inl rfl⟩
theorem lg_Mon_117_5 : mm_LG "MetricLogMonitor" 117 5 4 := ⟨R_Previous, F_Previous, 8, "MetricLogMonitor$Formula", rfl, lay_Previous, by decide, Or.inl kw_183, Or.inl rfl⟩
theorem lg_Mon_117_6 : mm_LG "MetricLogMonitor" 117 6 4 := ⟨R_Since, F_Since, 10, "MetricLogMonitor$Formula", rfl, lay_Since, by decide, Or.inl kw_183, Or.inl rfl⟩
theorem lg_Mon_117_7 : mm_LG "MetricLogMonitor" 117 7 4 := ⟨R_Until, F_Until, 10, "MetricLogMonitor$Formula", rfl, lay_Until, by decide, Or.inl kw_183, Or.inl rfl⟩
theorem lg_Mon_117 : ∀ ci, ci < 8 → mm_LG "MetricLogMonitor" 117 ci 4 := by
  intro ci h
  match ci, h with
  | 0, _ => exact lg_Mon_117_0
  | 1, _ => exact lg_Mon_117_1
  | 2, _ => exact lg_Mon_117_2
  | 3, _ => exact lg_Mon_117_3
  | 4, _ => exact lg_Mon_117_4
  | 5, _ => exact lg_Mon_117_5
  | 6, _ => exact lg_Mon_117_6
  | 7, _ => exact lg_Mon_117_7
theorem lk_Mon_126 : mm_LV "MetricLogMonitor" 126 "java/util/ArrayList" y_AL_isEmpty b_AL_isEmpty 1 (some .boolean) 0 := ⟨⟨kw_538, kw_4, by decide, by decide, by decide +kernel⟩, kw_535, kw_536, kw_537, rfl⟩
theorem lk_Mon_129 : mm_LV "MetricLogMonitor" 129 "MetricLogMonitor" y_Mon_begin b_Mon_begin 2 none 0 := ⟨⟨kw_542, kw_1, by decide, by decide, by decide +kernel⟩, kw_539, kw_541, kp_6, rfl⟩
theorem lp_Mon_39 : mm_LP "MetricLogMonitor" 39 10 2 .boolean false := ⟨R_Mon, F_Mon, 3, "MetricLogMonitor", t_Mon, rfl, lay_Mon, by decide, Or.inl kw_90, Or.inl rfl, t_Mon_ok, n_Mon, rfl, by decide +kernel, fun h => by cases h⟩
theorem lg_Mon_25 : mm_LG "MetricLogMonitor" 25 10 1 := ⟨R_Mon, F_Mon, 3, "MetricLogMonitor", rfl, lay_Mon, by decide, Or.inl kw_89, Or.inl rfl⟩
theorem lk_Mon_120 : mm_LV "MetricLogMonitor" 120 "MetricLogMonitor$Log" y_Log_empty b_Log_empty 1 none 0 := ⟨⟨kw_546, kw_5, by decide, by decide, by decide +kernel⟩, kw_543, kw_544, kw_545, rfl⟩
theorem lk_Mon_123_Atom : mm_LU "MetricLogMonitor" 123 "MetricLogMonitor$Atom" "MetricLogMonitor$Formula" ⟨"MetricLogMonitor$Formula", "reset", "()V"⟩ y_Formula_reset b_Formula_reset 1 none 0 := ⟨kw_566, kw_7, ⟨by decide, by decide⟩, by decide +kernel, kw_551, kw_553, Or.inr ⟨kw_552, _, _, _, kw_566⟩, kw_554, kw_552⟩
theorem lk_Mon_123_Compare : mm_LU "MetricLogMonitor" 123 "MetricLogMonitor$Compare" "MetricLogMonitor$Formula" ⟨"MetricLogMonitor$Formula", "reset", "()V"⟩ y_Formula_reset b_Formula_reset 1 none 0 := ⟨kw_566, kw_7, ⟨by decide, by decide⟩, by decide +kernel, kw_551, kw_553, Or.inr ⟨kw_552, _, _, _, kw_566⟩, kw_555, kw_552⟩
theorem lk_Mon_123_Exists : mm_LU "MetricLogMonitor" 123 "MetricLogMonitor$Exists" "MetricLogMonitor$Formula" ⟨"MetricLogMonitor$Formula", "reset", "()V"⟩ y_Formula_reset b_Formula_reset 1 none 0 := ⟨kw_566, kw_7, ⟨by decide, by decide⟩, by decide +kernel, kw_551, kw_553, Or.inr ⟨kw_552, _, _, _, kw_566⟩, kw_556, kw_552⟩
theorem lk_Mon_123_Join : mm_LU "MetricLogMonitor" 123 "MetricLogMonitor$Join" "MetricLogMonitor$Formula" ⟨"MetricLogMonitor$Formula", "reset", "()V"⟩ y_Formula_reset b_Formula_reset 1 none 0 := ⟨kw_566, kw_7, ⟨by decide, by decide⟩, by decide +kernel, kw_551, kw_553, Or.inr ⟨kw_552, _, _, _, kw_566⟩, kw_557, kw_552⟩
theorem lk_Mon_123_Not : mm_LU "MetricLogMonitor" 123 "MetricLogMonitor$Not" "MetricLogMonitor$Formula" ⟨"MetricLogMonitor$Formula", "reset", "()V"⟩ y_Formula_reset b_Formula_reset 1 none 0 := ⟨kw_566, kw_7, ⟨by decide, by decide⟩, by decide +kernel, kw_551, kw_553, Or.inr ⟨kw_552, _, _, _, kw_566⟩, kw_558, kw_552⟩
theorem lk_Mon_123_Previous : mm_LU "MetricLogMonitor" 123 "MetricLogMonitor$Previous" "MetricLogMonitor$Formula" ⟨"MetricLogMonitor$Formula", "reset", "()V"⟩ y_Formula_reset b_Formula_reset 1 none 0 := ⟨kw_566, kw_7, ⟨by decide, by decide⟩, by decide +kernel, kw_551, kw_553, Or.inr ⟨kw_552, _, _, _, kw_566⟩, kw_559, kw_552⟩
theorem lk_Mon_123_Since : mm_LU "MetricLogMonitor" 123 "MetricLogMonitor$Since" "MetricLogMonitor$Formula" ⟨"MetricLogMonitor$Formula", "reset", "()V"⟩ y_Since_reset b_Since_reset 1 none 0 := ⟨kw_562, kw_22, ⟨by decide, by decide⟩, by decide +kernel, kw_551, kw_553, Or.inr ⟨kw_552, _, _, _, kw_566⟩, kw_560, kw_561⟩
theorem lk_Mon_123_Until : mm_LU "MetricLogMonitor" 123 "MetricLogMonitor$Until" "MetricLogMonitor$Formula" ⟨"MetricLogMonitor$Formula", "reset", "()V"⟩ y_Until_reset b_Until_reset 1 none 0 := ⟨kw_565, kw_23, ⟨by decide, by decide⟩, by decide +kernel, kw_551, kw_553, Or.inr ⟨kw_552, _, _, _, kw_566⟩, kw_563, kw_564⟩
theorem lp_Log_17 : mm_LP "MetricLogMonitor$Log" 17 9 1 .int false := ⟨R_Log, F_Log, 3, "MetricLogMonitor$Log", t_Log, rfl, lay_Log, by decide, Or.inl kw_72, Or.inl rfl, t_Log_ok, n_Log, rfl, by decide +kernel, fun h => by cases h⟩
theorem lk_Log_21 : mm_LV "MetricLogMonitor$Log" 21 "MetricLogMonitor$Log" y_Log_forget b_Log_forget 2 none 0 := ⟨⟨kw_550, kw_5, by decide, by decide, by decide +kernel⟩, kw_547, kw_548, kw_549, rfl⟩
theorem lg_Log_13 : mm_LG "MetricLogMonitor$Log" 13 9 2 := ⟨R_Log, F_Log, 3, "MetricLogMonitor$Log", rfl, lay_Log, by decide, Or.inl kw_76, Or.inl rfl⟩
theorem lp_Since_27 : mm_LP "MetricLogMonitor$Since" 27 6 6 .int false := ⟨R_Since, F_Since, 10, "MetricLogMonitor$Since", t_Since, rfl, lay_Since, by decide, Or.inl kw_213, Or.inr kw_214, t_Since_ok, n_Since, rfl, by decide +kernel, fun h => by cases h⟩
theorem lp_Since_30 : mm_LP "MetricLogMonitor$Since" 30 6 9 .int false := ⟨R_Since, F_Since, 10, "MetricLogMonitor$Since", t_Since, rfl, lay_Since, by decide, Or.inl kw_477, Or.inl rfl, t_Since_ok, n_Since, rfl, by decide +kernel, fun h => by cases h⟩
theorem lp_Until_25 : mm_LP "MetricLogMonitor$Until" 25 7 6 .int false := ⟨R_Until, F_Until, 10, "MetricLogMonitor$Until", t_Until, rfl, lay_Until, by decide, Or.inl kw_215, Or.inr kw_216, t_Until_ok, n_Until, rfl, by decide +kernel, fun h => by cases h⟩
theorem lp_Until_28 : mm_LP "MetricLogMonitor$Until" 28 7 9 .int false := ⟨R_Until, F_Until, 10, "MetricLogMonitor$Until", t_Until, rfl, lay_Until, by decide, Or.inl kw_504, Or.inl rfl, t_Until_ok, n_Until, rfl, by decide +kernel, fun h => by cases h⟩
theorem lp_Formula_28_0 : mm_LP "MetricLogMonitor$Formula" 28 0 6 .int false := ⟨R_Atom, F_Atom, 10, "MetricLogMonitor$Formula", t_Atom, rfl, lay_Atom, by decide, Or.inl kw_212, Or.inl rfl, t_Atom_ok, n_Atom, rfl, by decide +kernel, fun h => by cases h⟩
theorem lp_Formula_28_1 : mm_LP "MetricLogMonitor$Formula" 28 1 6 .int false := ⟨R_Compare, F_Compare, 8, "MetricLogMonitor$Formula", t_Compare, rfl, lay_Compare, by decide, Or.inl kw_212, Or.inl rfl, t_Compare_ok, n_Compare, rfl, by decide +kernel, fun h => by cases h⟩
theorem lp_Formula_28_2 : mm_LP "MetricLogMonitor$Formula" 28 2 6 .int false := ⟨R_Not, F_Not, 7, "MetricLogMonitor$Formula", t_Not, rfl, lay_Not, by decide, Or.inl kw_212, Or.inl rfl, t_Not_ok, n_Not, rfl, by decide +kernel, fun h => by cases h⟩
theorem lp_Formula_28_3 : mm_LP "MetricLogMonitor$Formula" 28 3 6 .int false := ⟨R_Join, F_Join, 8, "MetricLogMonitor$Formula", t_Join, rfl, lay_Join, by decide, Or.inl kw_212, Or.inl rfl, t_Join_ok, n_Join, rfl, by decide +kernel, fun h => by cases h⟩
theorem lp_Formula_28_4 : mm_LP "MetricLogMonitor$Formula" 28 4 6 .int false := ⟨R_Exists, F_Exists, 8, "MetricLogMonitor$Formula", t_Exists, rfl, lay_Exists, by decide, Or.inl kw_212, Or.inl rfl, t_Exists_ok, n_Exists, rfl, by decide +kernel, fun h => by cases h⟩
theorem lp_Formula_28_5 : mm_LP "MetricLogMonitor$Formula" 28 5 6 .int false := ⟨R_Previous, F_Previous, 8, "MetricLogMonitor$Formula", t_Previous, rfl, lay_Previous, by decide, Or.inl kw_212, Or.inl rfl, t_Previous_ok, n_Previous, rfl, by decide +kernel, fun h => by cases h⟩
theorem lp_Formula_28_6 : mm_LP "MetricLogMonitor$Formula" 28 6 6 .int false := ⟨R_Since, F_Since, 10, "MetricLogMonitor$Formula", t_Since, rfl, lay_Since, by decide, Or.inl kw_212, Or.inl rfl, t_Since_ok, n_Since, rfl, by decide +kernel, fun h => by cases h⟩
theorem lp_Formula_28_7 : mm_LP "MetricLogMonitor$Formula" 28 7 6 .int false := ⟨R_Until, F_Until, 10, "MetricLogMonitor$Formula", t_Until, rfl, lay_Until, by decide, Or.inl kw_212, Or.inl rfl, t_Until_ok, n_Until, rfl, by decide +kernel, fun h => by cases h⟩
theorem lp_Formula_28 : ∀ ci, ci < 8 → mm_LP "MetricLogMonitor$Formula" 28 ci 6 .int false := by
  intro ci h
  match ci, h with
  | 0, _ => exact lp_Formula_28_0
  | 1, _ => exact lp_Formula_28_1
  | 2, _ => exact lp_Formula_28_2
  | 3, _ => exact lp_Formula_28_3
  | 4, _ => exact lp_Formula_28_4
  | 5, _ => exact lp_Formula_28_5
  | 6, _ => exact lp_Formula_28_6
  | 7, _ => exact lp_Formula_28_7
theorem lg_Mon_132 : mm_LG "MetricLogMonitor" 132 9 2 := ⟨R_Log, F_Log, 3, "MetricLogMonitor$Log", rfl, lay_Log, by decide, Or.inr ⟨_, kw_78⟩, Or.inl rfl⟩
theorem lg_Mon_136 : mm_LG "MetricLogMonitor" 136 9 1 := ⟨R_Log, F_Log, 3, "MetricLogMonitor$Log", rfl, lay_Log, by decide, Or.inr ⟨_, kw_75⟩, Or.inl rfl⟩
theorem lg_Mon_140 : mm_LG "MetricLogMonitor" 140 9 0 := ⟨R_Log, F_Log, 3, "MetricLogMonitor$Log", rfl, lay_Log, by decide, Or.inr ⟨_, kw_71⟩, Or.inl rfl⟩
theorem lp_Mon_136 : mm_LP "MetricLogMonitor" 136 9 1 .int false := ⟨R_Log, F_Log, 3, "MetricLogMonitor$Log", t_Log, rfl, lay_Log, by decide, Or.inr ⟨rfl, _, kw_75⟩, Or.inl rfl, t_Log_ok, n_Log, rfl, by decide +kernel, fun h => by cases h⟩
theorem lk_Mon_144 : mm_LV "MetricLogMonitor" 144 "java/util/ArrayList" y_AL_iterator b_AL_iterator 1 (some (.object "java/util/Iterator")) 0 := ⟨⟨kw_579, kw_4, by decide, by decide, by decide +kernel⟩, kw_576, kw_577, kw_578, rfl⟩
theorem lk_Mon_157_Atom : mm_LU "MetricLogMonitor" 157 "MetricLogMonitor$Atom" "MetricLogMonitor$Formula" ⟨"MetricLogMonitor$Formula", "advance", "(LMetricLogMonitor$Log;)V"⟩ y_Atom_advance b_Atom_advance 5 none 1 := ⟨kw_627, kw_8, ⟨by decide, by decide⟩, by decide +kernel, kw_622, kw_624, Or.inl kw_623, kw_625, kw_626⟩
theorem lk_Mon_157_Compare : mm_LU "MetricLogMonitor" 157 "MetricLogMonitor$Compare" "MetricLogMonitor$Formula" ⟨"MetricLogMonitor$Formula", "advance", "(LMetricLogMonitor$Log;)V"⟩ y_Compare_advance b_Compare_advance 2 none 1 := ⟨kw_631, kw_13, ⟨by decide, by decide⟩, by decide +kernel, kw_622, kw_624, Or.inl kw_623, kw_629, kw_630⟩
theorem lk_Mon_157_Exists : mm_LU "MetricLogMonitor" 157 "MetricLogMonitor$Exists" "MetricLogMonitor$Formula" ⟨"MetricLogMonitor$Formula", "advance", "(LMetricLogMonitor$Log;)V"⟩ y_Exists_advance b_Exists_advance 2 none 1 := ⟨kw_634, kw_18, ⟨by decide, by decide⟩, by decide +kernel, kw_622, kw_624, Or.inl kw_623, kw_632, kw_633⟩
theorem lk_Mon_157_Join : mm_LU "MetricLogMonitor" 157 "MetricLogMonitor$Join" "MetricLogMonitor$Formula" ⟨"MetricLogMonitor$Formula", "advance", "(LMetricLogMonitor$Log;)V"⟩ y_Join_advance b_Join_advance 7 none 1 := ⟨kw_642, kw_17, ⟨by decide, by decide⟩, by decide +kernel, kw_622, kw_624, Or.inl kw_623, kw_640, kw_641⟩
theorem lk_Mon_157_Not : mm_LU "MetricLogMonitor" 157 "MetricLogMonitor$Not" "MetricLogMonitor$Formula" ⟨"MetricLogMonitor$Formula", "advance", "(LMetricLogMonitor$Log;)V"⟩ y_Not_advance b_Not_advance 2 none 1 := ⟨kw_652, kw_16, ⟨by decide, by decide⟩, by decide +kernel, kw_622, kw_624, Or.inl kw_623, kw_650, kw_651⟩
theorem lk_Mon_157_Previous : mm_LU "MetricLogMonitor" 157 "MetricLogMonitor$Previous" "MetricLogMonitor$Formula" ⟨"MetricLogMonitor$Formula", "advance", "(LMetricLogMonitor$Log;)V"⟩ y_Previous_advance b_Previous_advance 3 none 1 := ⟨kw_656, kw_21, ⟨by decide, by decide⟩, by decide +kernel, kw_622, kw_624, Or.inl kw_623, kw_654, kw_655⟩
theorem lk_Mon_157_Since : mm_LU "MetricLogMonitor" 157 "MetricLogMonitor$Since" "MetricLogMonitor$Formula" ⟨"MetricLogMonitor$Formula", "advance", "(LMetricLogMonitor$Log;)V"⟩ y_Since_advance b_Since_advance 6 none 1 := ⟨kw_667, kw_22, ⟨by decide, by decide⟩, by decide +kernel, kw_622, kw_624, Or.inl kw_623, kw_665, kw_666⟩
theorem lk_Mon_157_Until : mm_LU "MetricLogMonitor" 157 "MetricLogMonitor$Until" "MetricLogMonitor$Formula" ⟨"MetricLogMonitor$Formula", "advance", "(LMetricLogMonitor$Log;)V"⟩ y_Until_advance b_Until_advance 3 none 1 := ⟨kw_680, kw_23, ⟨by decide, by decide⟩, by decide +kernel, kw_622, kw_624, Or.inl kw_623, kw_678, kw_679⟩
theorem lk_Mon_161 : mm_LV "MetricLogMonitor" 161 "MetricLogMonitor$Log" y_Log_forget b_Log_forget 2 none 0 := ⟨⟨kw_550, kw_5, by decide, by decide, by decide +kernel⟩, kw_692, kw_548, kw_549, rfl⟩
theorem ln_AL_267 : mm_LN "java/util/ArrayList" 267 12 4 [.int 0, .int 0, .int 0, .null] := ⟨R_Itr, F_Itr, t_Itr, rfl, lay_Itr, t_Itr_ok, kw_580, kw_581, kw_24, fun j h => match j, h with | 0, _ => rfl | 1, _ => rfl | 2, _ => rfl | 3, _ => rfl⟩
theorem lk_AL_269 : mm_LI "java/util/ArrayList" 269 y_Itr_init b_Itr_init 2 1 := ⟨⟨kw_584, kw_24, by decide, by decide, by decide +kernel⟩, kw_582, kw_583, rfl⟩
theorem lp_Itr_1 : mm_LP "java/util/ArrayList$Itr" 1 12 3 (.object "java/util/ArrayList") true := ⟨R_Itr, F_Itr, 4, "java/util/ArrayList$Itr", t_Itr, rfl, lay_Itr, by decide, Or.inl kw_589, Or.inl rfl, t_Itr_ok, n_Itr, rfl, by decide +kernel, fun _ => rfl⟩
theorem lp_Itr_13 : mm_LP "java/util/ArrayList$Itr" 13 12 1 .int false := ⟨R_Itr, F_Itr, 4, "java/util/ArrayList$Itr", t_Itr, rfl, lay_Itr, by decide, Or.inl kw_587, Or.inl rfl, t_Itr_ok, n_Itr, rfl, by decide +kernel, fun h => by cases h⟩
theorem lg_Itr_1 : mm_LG "java/util/ArrayList$Itr" 1 12 3 := ⟨R_Itr, F_Itr, 4, "java/util/ArrayList$Itr", rfl, lay_Itr, by decide, Or.inl kw_589, Or.inl rfl⟩
theorem lg_Itr_17 : mm_LG "java/util/ArrayList$Itr" 17 11 2 := ⟨R_AL, F_AL, 3, "java/util/ArrayList", rfl, lay_AL, by decide, Or.inl kw_54, Or.inr kw_55⟩
theorem lp_Itr_22 : mm_LP "java/util/ArrayList$Itr" 22 12 2 .int false := ⟨R_Itr, F_Itr, 4, "java/util/ArrayList$Itr", t_Itr, rfl, lay_Itr, by decide, Or.inl kw_588, Or.inl rfl, t_Itr_ok, n_Itr, rfl, by decide +kernel, fun h => by cases h⟩
theorem lg_Itr_25 : mm_LG "java/util/ArrayList$Itr" 25 12 0 := ⟨R_Itr, F_Itr, 4, "java/util/ArrayList$Itr", rfl, lay_Itr, by decide, Or.inl kw_586, Or.inl rfl⟩
theorem lg_Itr_28 : mm_LG "java/util/ArrayList$Itr" 28 11 1 := ⟨R_AL, F_AL, 3, "java/util/ArrayList", rfl, lay_AL, by decide, Or.inr ⟨_, kw_51⟩, Or.inl rfl⟩
theorem lk_Itr_31 : mm_LV "java/util/ArrayList$Itr" 31 "java/util/ArrayList$Itr" y_Itr_checkForComodification b_Itr_checkForComodification 1 none 0 := ⟨⟨kw_621, kw_24, by decide, by decide, by decide +kernel⟩, kw_618, kw_619, kw_620, rfl⟩
theorem lg_Itr_37 : mm_LG "java/util/ArrayList$Itr" 37 11 0 := ⟨R_AL, F_AL, 3, "java/util/ArrayList", rfl, lay_AL, by decide, Or.inl kw_50, Or.inl rfl⟩
theorem lp_Itr_25 : mm_LP "java/util/ArrayList$Itr" 25 12 0 .int false := ⟨R_Itr, F_Itr, 4, "java/util/ArrayList$Itr", t_Itr, rfl, lay_Itr, by decide, Or.inl kw_586, Or.inl rfl, t_Itr_ok, n_Itr, rfl, by decide +kernel, fun h => by cases h⟩
theorem lg_Itr_22 : mm_LG "java/util/ArrayList$Itr" 22 12 2 := ⟨R_Itr, F_Itr, 4, "java/util/ArrayList$Itr", rfl, lay_Itr, by decide, Or.inl kw_588, Or.inl rfl⟩
theorem lg_Atom_31 : mm_LG "MetricLogMonitor$Atom" 31 9 2 := ⟨R_Log, F_Log, 3, "MetricLogMonitor$Log", rfl, lay_Log, by decide, Or.inr ⟨_, kw_77⟩, Or.inl rfl⟩
theorem lg_Atom_13 : mm_LG "MetricLogMonitor$Atom" 13 0 7 := ⟨R_Atom, F_Atom, 10, "MetricLogMonitor$Atom", rfl, lay_Atom, by decide, Or.inl kw_125, Or.inl rfl⟩
theorem lg_Atom_19 : mm_LG "MetricLogMonitor$Atom" 19 0 8 := ⟨R_Atom, F_Atom, 10, "MetricLogMonitor$Atom", rfl, lay_Atom, by decide, Or.inl kw_126, Or.inl rfl⟩
theorem lk_Atom_37 : mm_LSN "MetricLogMonitor$Atom" 37 "MetricLogMonitor" y_Mon_where b_Mon_where 2 (some .long) 2 := ⟨⟨kw_329, kw_1, by decide, by decide, by decide +kernel⟩, kw_628, kw_328⟩
theorem lg_Atom_22 : mm_LG "MetricLogMonitor$Atom" 22 0 9 := ⟨R_Atom, F_Atom, 10, "MetricLogMonitor$Atom", rfl, lay_Atom, by decide, Or.inl kw_127, Or.inl rfl⟩
theorem lg_Atom_41 : mm_LG "MetricLogMonitor$Atom" 41 0 5 := ⟨R_Atom, F_Atom, 10, "MetricLogMonitor$Atom", rfl, lay_Atom, by decide, Or.inl kw_193, Or.inr kw_194⟩
theorem lg_Atom_45 : mm_LG "MetricLogMonitor$Atom" 45 0 6 := ⟨R_Atom, F_Atom, 10, "MetricLogMonitor$Atom", rfl, lay_Atom, by decide, Or.inl kw_223, Or.inr kw_224⟩
theorem lp_Atom_45 : mm_LP "MetricLogMonitor$Atom" 45 0 6 .int false := ⟨R_Atom, F_Atom, 10, "MetricLogMonitor$Atom", t_Atom, rfl, lay_Atom, by decide, Or.inl kw_223, Or.inr kw_224, t_Atom_ok, n_Atom, rfl, by decide +kernel, fun h => by cases h⟩
theorem lg_Compare_30 : mm_LG "MetricLogMonitor$Compare" 30 1 5 := ⟨R_Compare, F_Compare, 8, "MetricLogMonitor$Compare", rfl, lay_Compare, by decide, Or.inl kw_185, Or.inr kw_186⟩
theorem lg_Compare_34 : mm_LG "MetricLogMonitor$Compare" 34 1 6 := ⟨R_Compare, F_Compare, 8, "MetricLogMonitor$Compare", rfl, lay_Compare, by decide, Or.inl kw_217, Or.inr kw_218⟩
theorem lp_Compare_34 : mm_LP "MetricLogMonitor$Compare" 34 1 6 .int false := ⟨R_Compare, F_Compare, 8, "MetricLogMonitor$Compare", t_Compare, rfl, lay_Compare, by decide, Or.inl kw_217, Or.inr kw_218, t_Compare_ok, n_Compare, rfl, by decide +kernel, fun h => by cases h⟩
theorem lg_Compare_17 : mm_LG "MetricLogMonitor$Compare" 17 1 7 := ⟨R_Compare, F_Compare, 8, "MetricLogMonitor$Compare", rfl, lay_Compare, by decide, Or.inl kw_333, Or.inl rfl⟩
theorem lg_Exists_30 : mm_LG "MetricLogMonitor$Exists" 30 4 6 := ⟨R_Exists, F_Exists, 8, "MetricLogMonitor$Exists", rfl, lay_Exists, by decide, Or.inl kw_225, Or.inr kw_226⟩
theorem lg_Exists_33 : mm_LG "MetricLogMonitor$Exists" 33 4 0 := ⟨R_Exists, F_Exists, 8, "MetricLogMonitor$Exists", rfl, lay_Exists, by decide, Or.inl kw_135, Or.inr kw_136⟩
theorem lg_Exists_37_0 : mm_LG "MetricLogMonitor$Exists" 37 0 6 := ⟨R_Atom, F_Atom, 10, "MetricLogMonitor$Formula", rfl, lay_Atom, by decide, Or.inl kw_227, Or.inl rfl⟩
theorem lg_Exists_37_1 : mm_LG "MetricLogMonitor$Exists" 37 1 6 := ⟨R_Compare, F_Compare, 8, "MetricLogMonitor$Formula", rfl, lay_Compare, by decide, Or.inl kw_227, Or.inl rfl⟩
theorem lg_Exists_37_2 : mm_LG "MetricLogMonitor$Exists" 37 2 6 := ⟨R_Not, F_Not, 7, "MetricLogMonitor$Formula", rfl, lay_Not, by decide, Or.inl kw_227, Or.inl rfl⟩
theorem lg_Exists_37_3 : mm_LG "MetricLogMonitor$Exists" 37 3 6 := ⟨R_Join, F_Join, 8, "MetricLogMonitor$Formula", rfl, lay_Join, by decide, Or.inl kw_227, Or.inl rfl⟩
theorem lg_Exists_37_4 : mm_LG "MetricLogMonitor$Exists" 37 4 6 := ⟨R_Exists, F_Exists, 8, "MetricLogMonitor$Formula", rfl, lay_Exists, by decide, Or.inl kw_227, Or.inl rfl⟩
theorem lg_Exists_37_5 : mm_LG "MetricLogMonitor$Exists" 37 5 6 := ⟨R_Previous, F_Previous, 8, "MetricLogMonitor$Formula", rfl, lay_Previous, by decide, Or.inl kw_227, Or.inl rfl⟩
theorem lg_Exists_37_6 : mm_LG "MetricLogMonitor$Exists" 37 6 6 := ⟨R_Since, F_Since, 10, "MetricLogMonitor$Formula", rfl, lay_Since, by decide, Or.inl kw_227, Or.inl rfl⟩
theorem lg_Exists_37_7 : mm_LG "MetricLogMonitor$Exists" 37 7 6 := ⟨R_Until, F_Until, 10, "MetricLogMonitor$Formula", rfl, lay_Until, by decide, Or.inl kw_227, Or.inl rfl⟩
theorem lg_Exists_37 : ∀ ci, ci < 8 → mm_LG "MetricLogMonitor$Exists" 37 ci 6 := by
  intro ci h
  match ci, h with
  | 0, _ => exact lg_Exists_37_0
  | 1, _ => exact lg_Exists_37_1
  | 2, _ => exact lg_Exists_37_2
  | 3, _ => exact lg_Exists_37_3
  | 4, _ => exact lg_Exists_37_4
  | 5, _ => exact lg_Exists_37_5
  | 6, _ => exact lg_Exists_37_6
  | 7, _ => exact lg_Exists_37_7
theorem lg_Exists_38 : mm_LG "MetricLogMonitor$Exists" 38 4 5 := ⟨R_Exists, F_Exists, 8, "MetricLogMonitor$Exists", rfl, lay_Exists, by decide, Or.inl kw_200, Or.inr kw_201⟩
theorem lg_Exists_41_0 : mm_LG "MetricLogMonitor$Exists" 41 0 5 := ⟨R_Atom, F_Atom, 10, "MetricLogMonitor$Formula", rfl, lay_Atom, by decide, Or.inl kw_203, Or.inl rfl⟩
theorem lg_Exists_41_1 : mm_LG "MetricLogMonitor$Exists" 41 1 5 := ⟨R_Compare, F_Compare, 8, "MetricLogMonitor$Formula", rfl, lay_Compare, by decide, Or.inl kw_203, Or.inl rfl⟩
theorem lg_Exists_41_2 : mm_LG "MetricLogMonitor$Exists" 41 2 5 := ⟨R_Not, F_Not, 7, "MetricLogMonitor$Formula", rfl, lay_Not, by decide, Or.inl kw_203, Or.inl rfl⟩
theorem lg_Exists_41_3 : mm_LG "MetricLogMonitor$Exists" 41 3 5 := ⟨R_Join, F_Join, 8, "MetricLogMonitor$Formula", rfl, lay_Join, by decide, Or.inl kw_203, Or.inl rfl⟩
theorem lg_Exists_41_4 : mm_LG "MetricLogMonitor$Exists" 41 4 5 := ⟨R_Exists, F_Exists, 8, "MetricLogMonitor$Formula", rfl, lay_Exists, by decide, Or.inl kw_203, Or.inl rfl⟩
theorem lg_Exists_41_5 : mm_LG "MetricLogMonitor$Exists" 41 5 5 := ⟨R_Previous, F_Previous, 8, "MetricLogMonitor$Formula", rfl, lay_Previous, by decide, Or.inl kw_203, Or.inl rfl⟩
theorem lg_Exists_41_6 : mm_LG "MetricLogMonitor$Exists" 41 6 5 := ⟨R_Since, F_Since, 10, "MetricLogMonitor$Formula", rfl, lay_Since, by decide, Or.inl kw_203, Or.inl rfl⟩
theorem lg_Exists_41_7 : mm_LG "MetricLogMonitor$Exists" 41 7 5 := ⟨R_Until, F_Until, 10, "MetricLogMonitor$Formula", rfl, lay_Until, by decide, Or.inl kw_203, Or.inl rfl⟩
theorem lg_Exists_41 : ∀ ci, ci < 8 → mm_LG "MetricLogMonitor$Exists" 41 ci 5 := by
  intro ci h
  match ci, h with
  | 0, _ => exact lg_Exists_41_0
  | 1, _ => exact lg_Exists_41_1
  | 2, _ => exact lg_Exists_41_2
  | 3, _ => exact lg_Exists_41_3
  | 4, _ => exact lg_Exists_41_4
  | 5, _ => exact lg_Exists_41_5
  | 6, _ => exact lg_Exists_41_6
  | 7, _ => exact lg_Exists_41_7
theorem lk_Exists_42 : mm_LV "MetricLogMonitor$Exists" 42 "MetricLogMonitor$Exists" y_Exists_any b_Exists_any 6 (some .long) 1 := ⟨⟨kw_638, kw_18, by decide, by decide, by decide +kernel⟩, kw_635, kw_637, kp_7, rfl⟩
theorem lp_Exists_30 : mm_LP "MetricLogMonitor$Exists" 30 4 6 .int false := ⟨R_Exists, F_Exists, 8, "MetricLogMonitor$Exists", t_Exists, rfl, lay_Exists, by decide, Or.inl kw_225, Or.inr kw_226, t_Exists_ok, n_Exists, rfl, by decide +kernel, fun h => by cases h⟩
theorem lg_Exists_11 : mm_LG "MetricLogMonitor$Exists" 11 4 7 := ⟨R_Exists, F_Exists, 8, "MetricLogMonitor$Exists", rfl, lay_Exists, by decide, Or.inl kw_412, Or.inl rfl⟩
theorem lk_Join_21_Join : mm_LU "MetricLogMonitor$Join" 21 "MetricLogMonitor$Join" "MetricLogMonitor$Formula" ⟨"MetricLogMonitor$Join", "both", "()I"⟩ y_Formula_both b_Formula_both 1 (some .int) 0 := ⟨kw_648, kw_7, ⟨by decide, by decide⟩, by decide +kernel, kw_643, kw_644, Or.inl kw_645, kw_646, kw_647⟩
theorem lg_Join_25 : mm_LG "MetricLogMonitor$Join" 25 3 6 := ⟨R_Join, F_Join, 8, "MetricLogMonitor$Join", rfl, lay_Join, by decide, Or.inl kw_219, Or.inr kw_220⟩
theorem lg_Join_28 : mm_LG "MetricLogMonitor$Join" 28 3 0 := ⟨R_Join, F_Join, 8, "MetricLogMonitor$Join", rfl, lay_Join, by decide, Or.inl kw_131, Or.inr kw_132⟩
theorem lg_Join_32_0 : mm_LG "MetricLogMonitor$Join" 32 0 5 := ⟨R_Atom, F_Atom, 10, "MetricLogMonitor$Formula", rfl, lay_Atom, by decide, Or.inl kw_189, Or.inl rfl⟩
theorem lg_Join_32_1 : mm_LG "MetricLogMonitor$Join" 32 1 5 := ⟨R_Compare, F_Compare, 8, "MetricLogMonitor$Formula", rfl, lay_Compare, by decide, Or.inl kw_189, Or.inl rfl⟩
theorem lg_Join_32_2 : mm_LG "MetricLogMonitor$Join" 32 2 5 := ⟨R_Not, F_Not, 7, "MetricLogMonitor$Formula", rfl, lay_Not, by decide, Or.inl kw_189, Or.inl rfl⟩
theorem lg_Join_32_3 : mm_LG "MetricLogMonitor$Join" 32 3 5 := ⟨R_Join, F_Join, 8, "MetricLogMonitor$Formula", rfl, lay_Join, by decide, Or.inl kw_189, Or.inl rfl⟩
theorem lg_Join_32_4 : mm_LG "MetricLogMonitor$Join" 32 4 5 := ⟨R_Exists, F_Exists, 8, "MetricLogMonitor$Formula", rfl, lay_Exists, by decide, Or.inl kw_189, Or.inl rfl⟩
theorem lg_Join_32_5 : mm_LG "MetricLogMonitor$Join" 32 5 5 := ⟨R_Previous, F_Previous, 8, "MetricLogMonitor$Formula", rfl, lay_Previous, by decide, Or.inl kw_189, Or.inl rfl⟩
theorem lg_Join_32_6 : mm_LG "MetricLogMonitor$Join" 32 6 5 := ⟨R_Since, F_Since, 10, "MetricLogMonitor$Formula", rfl, lay_Since, by decide, Or.inl kw_189, Or.inl rfl⟩
theorem lg_Join_32_7 : mm_LG "MetricLogMonitor$Join" 32 7 5 := ⟨R_Until, F_Until, 10, "MetricLogMonitor$Formula", rfl, lay_Until, by decide, Or.inl kw_189, Or.inl rfl⟩
theorem lg_Join_32 : ∀ ci, ci < 8 → mm_LG "MetricLogMonitor$Join" 32 ci 5 := by
  intro ci h
  match ci, h with
  | 0, _ => exact lg_Join_32_0
  | 1, _ => exact lg_Join_32_1
  | 2, _ => exact lg_Join_32_2
  | 3, _ => exact lg_Join_32_3
  | 4, _ => exact lg_Join_32_4
  | 5, _ => exact lg_Join_32_5
  | 6, _ => exact lg_Join_32_6
  | 7, _ => exact lg_Join_32_7
theorem lg_Join_36 : mm_LG "MetricLogMonitor$Join" 36 3 1 := ⟨R_Join, F_Join, 8, "MetricLogMonitor$Join", rfl, lay_Join, by decide, Or.inl kw_142, Or.inr kw_143⟩
theorem lg_Join_39 : mm_LG "MetricLogMonitor$Join" 39 3 5 := ⟨R_Join, F_Join, 8, "MetricLogMonitor$Join", rfl, lay_Join, by decide, Or.inl kw_191, Or.inr kw_192⟩
theorem lg_Join_11 : mm_LG "MetricLogMonitor$Join" 11 3 7 := ⟨R_Join, F_Join, 8, "MetricLogMonitor$Join", rfl, lay_Join, by decide, Or.inl kw_391, Or.inl rfl⟩
theorem lp_Join_25 : mm_LP "MetricLogMonitor$Join" 25 3 6 .int false := ⟨R_Join, F_Join, 8, "MetricLogMonitor$Join", t_Join, rfl, lay_Join, by decide, Or.inl kw_219, Or.inr kw_220, t_Join_ok, n_Join, rfl, by decide +kernel, fun h => by cases h⟩
theorem lg_Formula_17_0 : mm_LG "MetricLogMonitor$Formula" 17 0 0 := ⟨R_Atom, F_Atom, 10, "MetricLogMonitor$Formula", rfl, lay_Atom, by decide, Or.inl kw_128, Or.inl rfl⟩
theorem lg_Formula_17_1 : mm_LG "MetricLogMonitor$Formula" 17 1 0 := ⟨R_Compare, F_Compare, 8, "MetricLogMonitor$Formula", rfl, lay_Compare, by decide, Or.inl kw_128, Or.inl rfl⟩
theorem lg_Formula_17_2 : mm_LG "MetricLogMonitor$Formula" 17 2 0 := ⟨R_Not, F_Not, 7, "MetricLogMonitor$Formula", rfl, lay_Not, by decide, Or.inl kw_128, Or.inl rfl⟩
theorem lg_Formula_17_3 : mm_LG "MetricLogMonitor$Formula" 17 3 0 := ⟨R_Join, F_Join, 8, "MetricLogMonitor$Formula", rfl, lay_Join, by decide, Or.inl kw_128, Or.inl rfl⟩
theorem lg_Formula_17_4 : mm_LG "MetricLogMonitor$Formula" 17 4 0 := ⟨R_Exists, F_Exists, 8, "MetricLogMonitor$Formula", rfl, lay_Exists, by decide, Or.inl kw_128, Or.inl rfl⟩
theorem lg_Formula_17_5 : mm_LG "MetricLogMonitor$Formula" 17 5 0 := ⟨R_Previous, F_Previous, 8, "MetricLogMonitor$Formula", rfl, lay_Previous, by decide, Or.inl kw_128, Or.inl rfl⟩
theorem lg_Formula_17_6 : mm_LG "MetricLogMonitor$Formula" 17 6 0 := ⟨R_Since, F_Since, 10, "MetricLogMonitor$Formula", rfl, lay_Since, by decide, Or.inl kw_128, Or.inl rfl⟩
theorem lg_Formula_17_7 : mm_LG "MetricLogMonitor$Formula" 17 7 0 := ⟨R_Until, F_Until, 10, "MetricLogMonitor$Formula", rfl, lay_Until, by decide, Or.inl kw_128, Or.inl rfl⟩
theorem lg_Formula_17 : ∀ ci, ci < 8 → mm_LG "MetricLogMonitor$Formula" 17 ci 0 := by
  intro ci h
  match ci, h with
  | 0, _ => exact lg_Formula_17_0
  | 1, _ => exact lg_Formula_17_1
  | 2, _ => exact lg_Formula_17_2
  | 3, _ => exact lg_Formula_17_3
  | 4, _ => exact lg_Formula_17_4
  | 5, _ => exact lg_Formula_17_5
  | 6, _ => exact lg_Formula_17_6
  | 7, _ => exact lg_Formula_17_7
theorem lg_Formula_28_0 : mm_LG "MetricLogMonitor$Formula" 28 0 6 := ⟨R_Atom, F_Atom, 10, "MetricLogMonitor$Formula", rfl, lay_Atom, by decide, Or.inl kw_212, Or.inl rfl⟩
theorem lg_Formula_28_1 : mm_LG "MetricLogMonitor$Formula" 28 1 6 := ⟨R_Compare, F_Compare, 8, "MetricLogMonitor$Formula", rfl, lay_Compare, by decide, Or.inl kw_212, Or.inl rfl⟩
theorem lg_Formula_28_2 : mm_LG "MetricLogMonitor$Formula" 28 2 6 := ⟨R_Not, F_Not, 7, "MetricLogMonitor$Formula", rfl, lay_Not, by decide, Or.inl kw_212, Or.inl rfl⟩
theorem lg_Formula_28_3 : mm_LG "MetricLogMonitor$Formula" 28 3 6 := ⟨R_Join, F_Join, 8, "MetricLogMonitor$Formula", rfl, lay_Join, by decide, Or.inl kw_212, Or.inl rfl⟩
theorem lg_Formula_28_4 : mm_LG "MetricLogMonitor$Formula" 28 4 6 := ⟨R_Exists, F_Exists, 8, "MetricLogMonitor$Formula", rfl, lay_Exists, by decide, Or.inl kw_212, Or.inl rfl⟩
theorem lg_Formula_28_5 : mm_LG "MetricLogMonitor$Formula" 28 5 6 := ⟨R_Previous, F_Previous, 8, "MetricLogMonitor$Formula", rfl, lay_Previous, by decide, Or.inl kw_212, Or.inl rfl⟩
theorem lg_Formula_28_6 : mm_LG "MetricLogMonitor$Formula" 28 6 6 := ⟨R_Since, F_Since, 10, "MetricLogMonitor$Formula", rfl, lay_Since, by decide, Or.inl kw_212, Or.inl rfl⟩
theorem lg_Formula_28_7 : mm_LG "MetricLogMonitor$Formula" 28 7 6 := ⟨R_Until, F_Until, 10, "MetricLogMonitor$Formula", rfl, lay_Until, by decide, Or.inl kw_212, Or.inl rfl⟩
theorem lg_Formula_28 : ∀ ci, ci < 8 → mm_LG "MetricLogMonitor$Formula" 28 ci 6 := by
  intro ci h
  match ci, h with
  | 0, _ => exact lg_Formula_28_0
  | 1, _ => exact lg_Formula_28_1
  | 2, _ => exact lg_Formula_28_2
  | 3, _ => exact lg_Formula_28_3
  | 4, _ => exact lg_Formula_28_4
  | 5, _ => exact lg_Formula_28_5
  | 6, _ => exact lg_Formula_28_6
  | 7, _ => exact lg_Formula_28_7
theorem lg_Formula_21_0 : mm_LG "MetricLogMonitor$Formula" 21 0 1 := ⟨R_Atom, F_Atom, 10, "MetricLogMonitor$Formula", rfl, lay_Atom, by decide, Or.inl kw_141, Or.inl rfl⟩
theorem lg_Formula_21_1 : mm_LG "MetricLogMonitor$Formula" 21 1 1 := ⟨R_Compare, F_Compare, 8, "MetricLogMonitor$Formula", rfl, lay_Compare, by decide, Or.inl kw_141, Or.inl rfl⟩
theorem lg_Formula_21_2 : mm_LG "MetricLogMonitor$Formula" 21 2 1 := ⟨R_Not, F_Not, 7, "MetricLogMonitor$Formula", rfl, lay_Not, by decide, Or.inl kw_141, Or.inl rfl⟩
theorem lg_Formula_21_3 : mm_LG "MetricLogMonitor$Formula" 21 3 1 := ⟨R_Join, F_Join, 8, "MetricLogMonitor$Formula", rfl, lay_Join, by decide, Or.inl kw_141, Or.inl rfl⟩
theorem lg_Formula_21_4 : mm_LG "MetricLogMonitor$Formula" 21 4 1 := ⟨R_Exists, F_Exists, 8, "MetricLogMonitor$Formula", rfl, lay_Exists, by decide, Or.inl kw_141, Or.inl rfl⟩
theorem lg_Formula_21_5 : mm_LG "MetricLogMonitor$Formula" 21 5 1 := ⟨R_Previous, F_Previous, 8, "MetricLogMonitor$Formula", rfl, lay_Previous, by decide, Or.inl kw_141, Or.inl rfl⟩
theorem lg_Formula_21_6 : mm_LG "MetricLogMonitor$Formula" 21 6 1 := ⟨R_Since, F_Since, 10, "MetricLogMonitor$Formula", rfl, lay_Since, by decide, Or.inl kw_141, Or.inl rfl⟩
theorem lg_Formula_21_7 : mm_LG "MetricLogMonitor$Formula" 21 7 1 := ⟨R_Until, F_Until, 10, "MetricLogMonitor$Formula", rfl, lay_Until, by decide, Or.inl kw_141, Or.inl rfl⟩
theorem lg_Formula_21 : ∀ ci, ci < 8 → mm_LG "MetricLogMonitor$Formula" 21 ci 1 := by
  intro ci h
  match ci, h with
  | 0, _ => exact lg_Formula_21_0
  | 1, _ => exact lg_Formula_21_1
  | 2, _ => exact lg_Formula_21_2
  | 3, _ => exact lg_Formula_21_3
  | 4, _ => exact lg_Formula_21_4
  | 5, _ => exact lg_Formula_21_5
  | 6, _ => exact lg_Formula_21_6
  | 7, _ => exact lg_Formula_21_7
theorem lk_Formula_31 : mm_LS "MetricLogMonitor$Formula" 31 y_Math_min b_Math_min 2 (some .int) 2 := ⟨⟨kw_310, kw_10, by decide, by decide, by decide +kernel⟩, kw_649, kw_309⟩
theorem lg_Not_11 : mm_LG "MetricLogMonitor$Not" 11 2 6 := ⟨R_Not, F_Not, 7, "MetricLogMonitor$Not", rfl, lay_Not, by decide, Or.inl kw_208, Or.inr kw_209⟩
theorem lg_Not_16 : mm_LG "MetricLogMonitor$Not" 16 2 0 := ⟨R_Not, F_Not, 7, "MetricLogMonitor$Not", rfl, lay_Not, by decide, Or.inl kw_129, Or.inr kw_130⟩
theorem lg_Not_20_0 : mm_LG "MetricLogMonitor$Not" 20 0 6 := ⟨R_Atom, F_Atom, 10, "MetricLogMonitor$Formula", rfl, lay_Atom, by decide, Or.inl kw_221, Or.inl rfl⟩
theorem lg_Not_20_1 : mm_LG "MetricLogMonitor$Not" 20 1 6 := ⟨R_Compare, F_Compare, 8, "MetricLogMonitor$Formula", rfl, lay_Compare, by decide, Or.inl kw_221, Or.inl rfl⟩
theorem lg_Not_20_2 : mm_LG "MetricLogMonitor$Not" 20 2 6 := ⟨R_Not, F_Not, 7, "MetricLogMonitor$Formula", rfl, lay_Not, by decide, Or.inl kw_221, Or.inl rfl⟩
theorem lg_Not_20_3 : mm_LG "MetricLogMonitor$Not" 20 3 6 := ⟨R_Join, F_Join, 8, "MetricLogMonitor$Formula", rfl, lay_Join, by decide, Or.inl kw_221, Or.inl rfl⟩
theorem lg_Not_20_4 : mm_LG "MetricLogMonitor$Not" 20 4 6 := ⟨R_Exists, F_Exists, 8, "MetricLogMonitor$Formula", rfl, lay_Exists, by decide, Or.inl kw_221, Or.inl rfl⟩
theorem lg_Not_20_5 : mm_LG "MetricLogMonitor$Not" 20 5 6 := ⟨R_Previous, F_Previous, 8, "MetricLogMonitor$Formula", rfl, lay_Previous, by decide, Or.inl kw_221, Or.inl rfl⟩
theorem lg_Not_20_6 : mm_LG "MetricLogMonitor$Not" 20 6 6 := ⟨R_Since, F_Since, 10, "MetricLogMonitor$Formula", rfl, lay_Since, by decide, Or.inl kw_221, Or.inl rfl⟩
theorem lg_Not_20_7 : mm_LG "MetricLogMonitor$Not" 20 7 6 := ⟨R_Until, F_Until, 10, "MetricLogMonitor$Formula", rfl, lay_Until, by decide, Or.inl kw_221, Or.inl rfl⟩
theorem lg_Not_20 : ∀ ci, ci < 8 → mm_LG "MetricLogMonitor$Not" 20 ci 6 := by
  intro ci h
  match ci, h with
  | 0, _ => exact lg_Not_20_0
  | 1, _ => exact lg_Not_20_1
  | 2, _ => exact lg_Not_20_2
  | 3, _ => exact lg_Not_20_3
  | 4, _ => exact lg_Not_20_4
  | 5, _ => exact lg_Not_20_5
  | 6, _ => exact lg_Not_20_6
  | 7, _ => exact lg_Not_20_7
theorem lg_Not_21 : mm_LG "MetricLogMonitor$Not" 21 2 5 := ⟨R_Not, F_Not, 7, "MetricLogMonitor$Not", rfl, lay_Not, by decide, Or.inl kw_187, Or.inr kw_188⟩
theorem lg_Not_25_0 : mm_LG "MetricLogMonitor$Not" 25 0 5 := ⟨R_Atom, F_Atom, 10, "MetricLogMonitor$Formula", rfl, lay_Atom, by decide, Or.inl kw_190, Or.inl rfl⟩
theorem lg_Not_25_1 : mm_LG "MetricLogMonitor$Not" 25 1 5 := ⟨R_Compare, F_Compare, 8, "MetricLogMonitor$Formula", rfl, lay_Compare, by decide, Or.inl kw_190, Or.inl rfl⟩
theorem lg_Not_25_2 : mm_LG "MetricLogMonitor$Not" 25 2 5 := ⟨R_Not, F_Not, 7, "MetricLogMonitor$Formula", rfl, lay_Not, by decide, Or.inl kw_190, Or.inl rfl⟩
theorem lg_Not_25_3 : mm_LG "MetricLogMonitor$Not" 25 3 5 := ⟨R_Join, F_Join, 8, "MetricLogMonitor$Formula", rfl, lay_Join, by decide, Or.inl kw_190, Or.inl rfl⟩
theorem lg_Not_25_4 : mm_LG "MetricLogMonitor$Not" 25 4 5 := ⟨R_Exists, F_Exists, 8, "MetricLogMonitor$Formula", rfl, lay_Exists, by decide, Or.inl kw_190, Or.inl rfl⟩
theorem lg_Not_25_5 : mm_LG "MetricLogMonitor$Not" 25 5 5 := ⟨R_Previous, F_Previous, 8, "MetricLogMonitor$Formula", rfl, lay_Previous, by decide, Or.inl kw_190, Or.inl rfl⟩
theorem lg_Not_25_6 : mm_LG "MetricLogMonitor$Not" 25 6 5 := ⟨R_Since, F_Since, 10, "MetricLogMonitor$Formula", rfl, lay_Since, by decide, Or.inl kw_190, Or.inl rfl⟩
theorem lg_Not_25_7 : mm_LG "MetricLogMonitor$Not" 25 7 5 := ⟨R_Until, F_Until, 10, "MetricLogMonitor$Formula", rfl, lay_Until, by decide, Or.inl kw_190, Or.inl rfl⟩
theorem lg_Not_25 : ∀ ci, ci < 8 → mm_LG "MetricLogMonitor$Not" 25 ci 5 := by
  intro ci h
  match ci, h with
  | 0, _ => exact lg_Not_25_0
  | 1, _ => exact lg_Not_25_1
  | 2, _ => exact lg_Not_25_2
  | 3, _ => exact lg_Not_25_3
  | 4, _ => exact lg_Not_25_4
  | 5, _ => exact lg_Not_25_5
  | 6, _ => exact lg_Not_25_6
  | 7, _ => exact lg_Not_25_7
theorem lp_Not_11 : mm_LP "MetricLogMonitor$Not" 11 2 6 .int false := ⟨R_Not, F_Not, 7, "MetricLogMonitor$Not", t_Not, rfl, lay_Not, by decide, Or.inl kw_208, Or.inr kw_209, t_Not_ok, n_Not, rfl, by decide +kernel, fun h => by cases h⟩
theorem lg_Previous_21 : mm_LG "MetricLogMonitor$Previous" 21 5 6 := ⟨R_Previous, F_Previous, 8, "MetricLogMonitor$Previous", rfl, lay_Previous, by decide, Or.inl kw_210, Or.inr kw_211⟩
theorem lg_Previous_24 : mm_LG "MetricLogMonitor$Previous" 24 9 1 := ⟨R_Log, F_Log, 3, "MetricLogMonitor$Log", rfl, lay_Log, by decide, Or.inr ⟨_, kw_73⟩, Or.inl rfl⟩
theorem lg_Previous_29 : mm_LG "MetricLogMonitor$Previous" 29 5 0 := ⟨R_Previous, F_Previous, 8, "MetricLogMonitor$Previous", rfl, lay_Previous, by decide, Or.inl kw_133, Or.inr kw_134⟩
theorem lg_Previous_33_0 : mm_LG "MetricLogMonitor$Previous" 33 0 6 := ⟨R_Atom, F_Atom, 10, "MetricLogMonitor$Formula", rfl, lay_Atom, by decide, Or.inl kw_222, Or.inl rfl⟩
theorem lg_Previous_33_1 : mm_LG "MetricLogMonitor$Previous" 33 1 6 := ⟨R_Compare, F_Compare, 8, "MetricLogMonitor$Formula", rfl, lay_Compare, by decide, Or.inl kw_222, Or.inl rfl⟩
theorem lg_Previous_33_2 : mm_LG "MetricLogMonitor$Previous" 33 2 6 := ⟨R_Not, F_Not, 7, "MetricLogMonitor$Formula", rfl, lay_Not, by decide, Or.inl kw_222, Or.inl rfl⟩
theorem lg_Previous_33_3 : mm_LG "MetricLogMonitor$Previous" 33 3 6 := ⟨R_Join, F_Join, 8, "MetricLogMonitor$Formula", rfl, lay_Join, by decide, Or.inl kw_222, Or.inl rfl⟩
theorem lg_Previous_33_4 : mm_LG "MetricLogMonitor$Previous" 33 4 6 := ⟨R_Exists, F_Exists, 8, "MetricLogMonitor$Formula", rfl, lay_Exists, by decide, Or.inl kw_222, Or.inl rfl⟩
theorem lg_Previous_33_5 : mm_LG "MetricLogMonitor$Previous" 33 5 6 := ⟨R_Previous, F_Previous, 8, "MetricLogMonitor$Formula", rfl, lay_Previous, by decide, Or.inl kw_222, Or.inl rfl⟩
theorem lg_Previous_33_6 : mm_LG "MetricLogMonitor$Previous" 33 6 6 := ⟨R_Since, F_Since, 10, "MetricLogMonitor$Formula", rfl, lay_Since, by decide, Or.inl kw_222, Or.inl rfl⟩
theorem lg_Previous_33_7 : mm_LG "MetricLogMonitor$Previous" 33 7 6 := ⟨R_Until, F_Until, 10, "MetricLogMonitor$Formula", rfl, lay_Until, by decide, Or.inl kw_222, Or.inl rfl⟩
theorem lg_Previous_33 : ∀ ci, ci < 8 → mm_LG "MetricLogMonitor$Previous" 33 ci 6 := by
  intro ci h
  match ci, h with
  | 0, _ => exact lg_Previous_33_0
  | 1, _ => exact lg_Previous_33_1
  | 2, _ => exact lg_Previous_33_2
  | 3, _ => exact lg_Previous_33_3
  | 4, _ => exact lg_Previous_33_4
  | 5, _ => exact lg_Previous_33_5
  | 6, _ => exact lg_Previous_33_6
  | 7, _ => exact lg_Previous_33_7
theorem lg_Previous_11 : mm_LG "MetricLogMonitor$Previous" 11 5 7 := ⟨R_Previous, F_Previous, 8, "MetricLogMonitor$Previous", rfl, lay_Previous, by decide, Or.inl kw_454, Or.inl rfl⟩
theorem lk_Previous_34 : mm_LV "MetricLogMonitor$Previous" 34 "MetricLogMonitor$Log" y_Log_between b_Log_between 3 (some .int) 2 := ⟨⟨kw_660, kw_5, by decide, by decide, by decide +kernel⟩, kw_657, kw_658, kw_659, rfl⟩
theorem lk_Previous_38 : mm_LV "MetricLogMonitor$Previous" 38 "MetricLogMonitor$Interval" y_Interval_has b_Interval_has 2 (some .boolean) 1 := ⟨⟨kw_664, kw_20, by decide, by decide, by decide +kernel⟩, kw_661, kw_662, kw_663, rfl⟩
theorem lg_Previous_44 : mm_LG "MetricLogMonitor$Previous" 44 5 5 := ⟨R_Previous, F_Previous, 8, "MetricLogMonitor$Previous", rfl, lay_Previous, by decide, Or.inl kw_195, Or.inr kw_196⟩
theorem lg_Previous_48_0 : mm_LG "MetricLogMonitor$Previous" 48 0 5 := ⟨R_Atom, F_Atom, 10, "MetricLogMonitor$Formula", rfl, lay_Atom, by decide, Or.inl kw_197, Or.inl rfl⟩
theorem lg_Previous_48_1 : mm_LG "MetricLogMonitor$Previous" 48 1 5 := ⟨R_Compare, F_Compare, 8, "MetricLogMonitor$Formula", rfl, lay_Compare, by decide, Or.inl kw_197, Or.inl rfl⟩
theorem lg_Previous_48_2 : mm_LG "MetricLogMonitor$Previous" 48 2 5 := ⟨R_Not, F_Not, 7, "MetricLogMonitor$Formula", rfl, lay_Not, by decide, Or.inl kw_197, Or.inl rfl⟩
theorem lg_Previous_48_3 : mm_LG "MetricLogMonitor$Previous" 48 3 5 := ⟨R_Join, F_Join, 8, "MetricLogMonitor$Formula", rfl, lay_Join, by decide, Or.inl kw_197, Or.inl rfl⟩
theorem lg_Previous_48_4 : mm_LG "MetricLogMonitor$Previous" 48 4 5 := ⟨R_Exists, F_Exists, 8, "MetricLogMonitor$Formula", rfl, lay_Exists, by decide, Or.inl kw_197, Or.inl rfl⟩
theorem lg_Previous_48_5 : mm_LG "MetricLogMonitor$Previous" 48 5 5 := ⟨R_Previous, F_Previous, 8, "MetricLogMonitor$Formula", rfl, lay_Previous, by decide, Or.inl kw_197, Or.inl rfl⟩
theorem lg_Previous_48_6 : mm_LG "MetricLogMonitor$Previous" 48 6 5 := ⟨R_Since, F_Since, 10, "MetricLogMonitor$Formula", rfl, lay_Since, by decide, Or.inl kw_197, Or.inl rfl⟩
theorem lg_Previous_48_7 : mm_LG "MetricLogMonitor$Previous" 48 7 5 := ⟨R_Until, F_Until, 10, "MetricLogMonitor$Formula", rfl, lay_Until, by decide, Or.inl kw_197, Or.inl rfl⟩
theorem lg_Previous_48 : ∀ ci, ci < 8 → mm_LG "MetricLogMonitor$Previous" 48 ci 5 := by
  intro ci h
  match ci, h with
  | 0, _ => exact lg_Previous_48_0
  | 1, _ => exact lg_Previous_48_1
  | 2, _ => exact lg_Previous_48_2
  | 3, _ => exact lg_Previous_48_3
  | 4, _ => exact lg_Previous_48_4
  | 5, _ => exact lg_Previous_48_5
  | 6, _ => exact lg_Previous_48_6
  | 7, _ => exact lg_Previous_48_7
theorem lp_Previous_21 : mm_LP "MetricLogMonitor$Previous" 21 5 6 .int false := ⟨R_Previous, F_Previous, 8, "MetricLogMonitor$Previous", t_Previous, rfl, lay_Previous, by decide, Or.inl kw_210, Or.inr kw_211, t_Previous_ok, n_Previous, rfl, by decide +kernel, fun h => by cases h⟩
theorem lg_Log_7 : mm_LG "MetricLogMonitor$Log" 7 9 0 := ⟨R_Log, F_Log, 3, "MetricLogMonitor$Log", rfl, lay_Log, by decide, Or.inl kw_70, Or.inl rfl⟩
theorem lk_Since_33_Since : mm_LU "MetricLogMonitor$Since" 33 "MetricLogMonitor$Since" "MetricLogMonitor$Formula" ⟨"MetricLogMonitor$Since", "both", "()I"⟩ y_Formula_both b_Formula_both 1 (some .int) 0 := ⟨kw_648, kw_7, ⟨by decide, by decide⟩, by decide +kernel, kw_668, kw_669, Or.inl kw_645, kw_670, kw_647⟩
theorem lg_Since_27 : mm_LG "MetricLogMonitor$Since" 27 6 6 := ⟨R_Since, F_Since, 10, "MetricLogMonitor$Since", rfl, lay_Since, by decide, Or.inl kw_213, Or.inr kw_214⟩
theorem lg_Since_13 : mm_LG "MetricLogMonitor$Since" 13 6 8 := ⟨R_Since, F_Since, 10, "MetricLogMonitor$Since", rfl, lay_Since, by decide, Or.inl kw_476, Or.inl rfl⟩
theorem lg_Since_37 : mm_LG "MetricLogMonitor$Since" 37 6 1 := ⟨R_Since, F_Since, 10, "MetricLogMonitor$Since", rfl, lay_Since, by decide, Or.inl kw_144, Or.inr kw_145⟩
theorem lg_Since_41_0 : mm_LG "MetricLogMonitor$Since" 41 0 5 := ⟨R_Atom, F_Atom, 10, "MetricLogMonitor$Formula", rfl, lay_Atom, by decide, Or.inl kw_202, Or.inl rfl⟩
theorem lg_Since_41_1 : mm_LG "MetricLogMonitor$Since" 41 1 5 := ⟨R_Compare, F_Compare, 8, "MetricLogMonitor$Formula", rfl, lay_Compare, by decide, Or.inl kw_202, Or.inl rfl⟩
theorem lg_Since_41_2 : mm_LG "MetricLogMonitor$Since" 41 2 5 := ⟨R_Not, F_Not, 7, "MetricLogMonitor$Formula", rfl, lay_Not, by decide, Or.inl kw_202, Or.inl rfl⟩
theorem lg_Since_41_3 : mm_LG "MetricLogMonitor$Since" 41 3 5 := ⟨R_Join, F_Join, 8, "MetricLogMonitor$Formula", rfl, lay_Join, by decide, Or.inl kw_202, Or.inl rfl⟩
theorem lg_Since_41_4 : mm_LG "MetricLogMonitor$Since" 41 4 5 := ⟨R_Exists, F_Exists, 8, "MetricLogMonitor$Formula", rfl, lay_Exists, by decide, Or.inl kw_202, Or.inl rfl⟩
theorem lg_Since_41_5 : mm_LG "MetricLogMonitor$Since" 41 5 5 := ⟨R_Previous, F_Previous, 8, "MetricLogMonitor$Formula", rfl, lay_Previous, by decide, Or.inl kw_202, Or.inl rfl⟩
theorem lg_Since_41_6 : mm_LG "MetricLogMonitor$Since" 41 6 5 := ⟨R_Since, F_Since, 10, "MetricLogMonitor$Formula", rfl, lay_Since, by decide, Or.inl kw_202, Or.inl rfl⟩
theorem lg_Since_41_7 : mm_LG "MetricLogMonitor$Since" 41 7 5 := ⟨R_Until, F_Until, 10, "MetricLogMonitor$Formula", rfl, lay_Until, by decide, Or.inl kw_202, Or.inl rfl⟩
theorem lg_Since_41 : ∀ ci, ci < 8 → mm_LG "MetricLogMonitor$Since" 41 ci 5 := by
  intro ci h
  match ci, h with
  | 0, _ => exact lg_Since_41_0
  | 1, _ => exact lg_Since_41_1
  | 2, _ => exact lg_Since_41_2
  | 3, _ => exact lg_Since_41_3
  | 4, _ => exact lg_Since_41_4
  | 5, _ => exact lg_Since_41_5
  | 6, _ => exact lg_Since_41_6
  | 7, _ => exact lg_Since_41_7
theorem lg_Since_19 : mm_LG "MetricLogMonitor$Since" 19 6 7 := ⟨R_Since, F_Since, 10, "MetricLogMonitor$Since", rfl, lay_Since, by decide, Or.inl kw_475, Or.inl rfl⟩
theorem lk_Since_44 : mm_LV "MetricLogMonitor$Since" 44 "MetricLogMonitor$Interval" y_Interval_hi b_Interval_hi 1 (some .int) 0 := ⟨⟨kw_674, kw_20, by decide, by decide, by decide +kernel⟩, kw_671, kw_672, kw_673, rfl⟩
theorem lg_Since_30 : mm_LG "MetricLogMonitor$Since" 30 6 9 := ⟨R_Since, F_Since, 10, "MetricLogMonitor$Since", rfl, lay_Since, by decide, Or.inl kw_477, Or.inl rfl⟩
theorem lk_Since_49 : mm_LV "MetricLogMonitor$Since" 49 "MetricLogMonitor$Log" y_Log_between b_Log_between 3 (some .int) 2 := ⟨⟨kw_660, kw_5, by decide, by decide, by decide +kernel⟩, kw_675, kw_658, kw_659, rfl⟩
theorem lg_Since_55 : mm_LG "MetricLogMonitor$Since" 55 6 0 := ⟨R_Since, F_Since, 10, "MetricLogMonitor$Since", rfl, lay_Since, by decide, Or.inl kw_139, Or.inr kw_140⟩
theorem lk_Since_60 : mm_LV "MetricLogMonitor$Since" 60 "MetricLogMonitor$Interval" y_Interval_has b_Interval_has 2 (some .boolean) 1 := ⟨⟨kw_664, kw_20, by decide, by decide, by decide +kernel⟩, kw_677, kw_662, kw_663, rfl⟩
theorem lg_Since_64 : mm_LG "MetricLogMonitor$Since" 64 6 5 := ⟨R_Since, F_Since, 10, "MetricLogMonitor$Since", rfl, lay_Since, by decide, Or.inl kw_205, Or.inr kw_206⟩
theorem lk_Until_56_Until : mm_LU "MetricLogMonitor$Until" 56 "MetricLogMonitor$Until" "MetricLogMonitor$Formula" ⟨"MetricLogMonitor$Until", "both", "()I"⟩ y_Formula_both b_Formula_both 1 (some .int) 0 := ⟨kw_648, kw_7, ⟨by decide, by decide⟩, by decide +kernel, kw_681, kw_682, Or.inl kw_645, kw_683, kw_647⟩
theorem lg_Until_28 : mm_LG "MetricLogMonitor$Until" 28 7 9 := ⟨R_Until, F_Until, 10, "MetricLogMonitor$Until", rfl, lay_Until, by decide, Or.inl kw_504, Or.inl rfl⟩
theorem lk_Until_60 : mm_LV "MetricLogMonitor$Until" 60 "MetricLogMonitor$Until" y_Until_see b_Until_see 3 none 1 := ⟨⟨kw_687, kw_23, by decide, by decide, by decide +kernel⟩, kw_684, kw_686, kp_8, rfl⟩
theorem lg_Until_64 : mm_LG "MetricLogMonitor$Until" 64 9 1 := ⟨R_Log, F_Log, 3, "MetricLogMonitor$Log", rfl, lay_Log, by decide, Or.inr ⟨_, kw_74⟩, Or.inl rfl⟩
theorem lg_Until_25 : mm_LG "MetricLogMonitor$Until" 25 7 6 := ⟨R_Until, F_Until, 10, "MetricLogMonitor$Until", rfl, lay_Until, by decide, Or.inl kw_215, Or.inr kw_216⟩
theorem lk_Until_36 : mm_LV "MetricLogMonitor$Until" 36 "MetricLogMonitor$Log" y_Log_between b_Log_between 3 (some .int) 2 := ⟨⟨kw_660, kw_5, by decide, by decide, by decide +kernel⟩, kw_689, kw_658, kw_659, rfl⟩
theorem lg_Until_17 : mm_LG "MetricLogMonitor$Until" 17 7 7 := ⟨R_Until, F_Until, 10, "MetricLogMonitor$Until", rfl, lay_Until, by decide, Or.inl kw_502, Or.inl rfl⟩
theorem lk_Until_67 : mm_LV "MetricLogMonitor$Until" 67 "MetricLogMonitor$Interval" y_Interval_hi b_Interval_hi 1 (some .int) 0 := ⟨⟨kw_674, kw_20, by decide, by decide, by decide +kernel⟩, kw_691, kw_672, kw_673, rfl⟩
theorem lg_Until_11 : mm_LG "MetricLogMonitor$Until" 11 7 8 := ⟨R_Until, F_Until, 10, "MetricLogMonitor$Until", rfl, lay_Until, by decide, Or.inl kw_503, Or.inl rfl⟩
theorem lg_Until_33 : mm_LG "MetricLogMonitor$Until" 33 7 5 := ⟨R_Until, F_Until, 10, "MetricLogMonitor$Until", rfl, lay_Until, by decide, Or.inl kw_198, Or.inr kw_199⟩
theorem lk_Until_42 : mm_LV "MetricLogMonitor$Until" 42 "MetricLogMonitor$Interval" y_Interval_has b_Interval_has 2 (some .boolean) 1 := ⟨⟨kw_664, kw_20, by decide, by decide, by decide +kernel⟩, kw_690, kw_662, kw_663, rfl⟩
theorem lg_Until_48 : mm_LG "MetricLogMonitor$Until" 48 7 1 := ⟨R_Until, F_Until, 10, "MetricLogMonitor$Until", rfl, lay_Until, by decide, Or.inl kw_146, Or.inr kw_147⟩
theorem lg_Until_52_0 : mm_LG "MetricLogMonitor$Until" 52 0 5 := ⟨R_Atom, F_Atom, 10, "MetricLogMonitor$Formula", rfl, lay_Atom, by decide, Or.inl kw_204, Or.inl rfl⟩
theorem lg_Until_52_1 : mm_LG "MetricLogMonitor$Until" 52 1 5 := ⟨R_Compare, F_Compare, 8, "MetricLogMonitor$Formula", rfl, lay_Compare, by decide, Or.inl kw_204, Or.inl rfl⟩
theorem lg_Until_52_2 : mm_LG "MetricLogMonitor$Until" 52 2 5 := ⟨R_Not, F_Not, 7, "MetricLogMonitor$Formula", rfl, lay_Not, by decide, Or.inl kw_204, Or.inl rfl⟩
theorem lg_Until_52_3 : mm_LG "MetricLogMonitor$Until" 52 3 5 := ⟨R_Join, F_Join, 8, "MetricLogMonitor$Formula", rfl, lay_Join, by decide, Or.inl kw_204, Or.inl rfl⟩
theorem lg_Until_52_4 : mm_LG "MetricLogMonitor$Until" 52 4 5 := ⟨R_Exists, F_Exists, 8, "MetricLogMonitor$Formula", rfl, lay_Exists, by decide, Or.inl kw_204, Or.inl rfl⟩
theorem lg_Until_52_5 : mm_LG "MetricLogMonitor$Until" 52 5 5 := ⟨R_Previous, F_Previous, 8, "MetricLogMonitor$Formula", rfl, lay_Previous, by decide, Or.inl kw_204, Or.inl rfl⟩
theorem lg_Until_52_6 : mm_LG "MetricLogMonitor$Until" 52 6 5 := ⟨R_Since, F_Since, 10, "MetricLogMonitor$Formula", rfl, lay_Since, by decide, Or.inl kw_204, Or.inl rfl⟩
theorem lg_Until_52_7 : mm_LG "MetricLogMonitor$Until" 52 7 5 := ⟨R_Until, F_Until, 10, "MetricLogMonitor$Formula", rfl, lay_Until, by decide, Or.inl kw_204, Or.inl rfl⟩
theorem lg_Until_52 : ∀ ci, ci < 8 → mm_LG "MetricLogMonitor$Until" 52 ci 5 := by
  intro ci h
  match ci, h with
  | 0, _ => exact lg_Until_52_0
  | 1, _ => exact lg_Until_52_1
  | 2, _ => exact lg_Until_52_2
  | 3, _ => exact lg_Until_52_3
  | 4, _ => exact lg_Until_52_4
  | 5, _ => exact lg_Until_52_5
  | 6, _ => exact lg_Until_52_6
  | 7, _ => exact lg_Until_52_7
theorem lg_Until_53 : mm_LG "MetricLogMonitor$Until" 53 7 0 := ⟨R_Until, F_Until, 10, "MetricLogMonitor$Until", rfl, lay_Until, by decide, Or.inl kw_137, Or.inr kw_138⟩
theorem lk_Mon_164 : mm_LV "MetricLogMonitor" 164 "java/util/ArrayList" y_AL_clear b_AL_clear 4 none 0 := ⟨⟨kw_700, kw_4, by decide, by decide, by decide +kernel⟩, kw_697, kw_698, kw_699, rfl⟩
theorem lg_Mon_167_0 : mm_LG "MetricLogMonitor" 167 0 6 := ⟨R_Atom, F_Atom, 10, "MetricLogMonitor$Formula", rfl, lay_Atom, by decide, Or.inl kw_228, Or.inl rfl⟩
theorem lg_Mon_167_1 : mm_LG "MetricLogMonitor" 167 1 6 := ⟨R_Compare, F_Compare, 8, "MetricLogMonitor$Formula", rfl, lay_Compare, by decide, Or.inl kw_228, Or.inl rfl⟩
theorem lg_Mon_167_2 : mm_LG "MetricLogMonitor" 167 2 6 := ⟨R_Not, F_Not, 7, "MetricLogMonitor$Formula", rfl, lay_Not, by decide, Or.inl kw_228, Or.inl rfl⟩
theorem lg_Mon_167_3 : mm_LG "MetricLogMonitor" 167 3 6 := ⟨R_Join, F_Join, 8, "MetricLogMonitor$Formula", rfl, lay_Join, by decide, Or.inl kw_228, Or.inl rfl⟩
theorem lg_Mon_167_4 : mm_LG "MetricLogMonitor" 167 4 6 := ⟨R_Exists, F_Exists, 8, "MetricLogMonitor$Formula", rfl, lay_Exists, by decide, Or.inl kw_228, Or.inl rfl⟩
theorem lg_Mon_167_5 : mm_LG "MetricLogMonitor" 167 5 6 := ⟨R_Previous, F_Previous, 8, "MetricLogMonitor$Formula", rfl, lay_Previous, by decide, Or.inl kw_228, Or.inl rfl⟩
theorem lg_Mon_167_6 : mm_LG "MetricLogMonitor" 167 6 6 := ⟨R_Since, F_Since, 10, "MetricLogMonitor$Formula", rfl, lay_Since, by decide, Or.inl kw_228, Or.inl rfl⟩
theorem lg_Mon_167_7 : mm_LG "MetricLogMonitor" 167 7 6 := ⟨R_Until, F_Until, 10, "MetricLogMonitor$Formula", rfl, lay_Until, by decide, Or.inl kw_228, Or.inl rfl⟩
theorem lg_Mon_167 : ∀ ci, ci < 8 → mm_LG "MetricLogMonitor" 167 ci 6 := by
  intro ci h
  match ci, h with
  | 0, _ => exact lg_Mon_167_0
  | 1, _ => exact lg_Mon_167_1
  | 2, _ => exact lg_Mon_167_2
  | 3, _ => exact lg_Mon_167_3
  | 4, _ => exact lg_Mon_167_4
  | 5, _ => exact lg_Mon_167_5
  | 6, _ => exact lg_Mon_167_6
  | 7, _ => exact lg_Mon_167_7
theorem lg_Mon_170_0 : mm_LG "MetricLogMonitor" 170 0 5 := ⟨R_Atom, F_Atom, 10, "MetricLogMonitor$Formula", rfl, lay_Atom, by decide, Or.inl kw_207, Or.inl rfl⟩
theorem lg_Mon_170_1 : mm_LG "MetricLogMonitor" 170 1 5 := ⟨R_Compare, F_Compare, 8, "MetricLogMonitor$Formula", rfl, lay_Compare, by decide, Or.inl kw_207, Or.inl rfl⟩
theorem lg_Mon_170_2 : mm_LG "MetricLogMonitor" 170 2 5 := ⟨R_Not, F_Not, 7, "MetricLogMonitor$Formula", rfl, lay_Not, by decide, Or.inl kw_207, Or.inl rfl⟩
theorem lg_Mon_170_3 : mm_LG "MetricLogMonitor" 170 3 5 := ⟨R_Join, F_Join, 8, "MetricLogMonitor$Formula", rfl, lay_Join, by decide, Or.inl kw_207, Or.inl rfl⟩
theorem lg_Mon_170_4 : mm_LG "MetricLogMonitor" 170 4 5 := ⟨R_Exists, F_Exists, 8, "MetricLogMonitor$Formula", rfl, lay_Exists, by decide, Or.inl kw_207, Or.inl rfl⟩
theorem lg_Mon_170_5 : mm_LG "MetricLogMonitor" 170 5 5 := ⟨R_Previous, F_Previous, 8, "MetricLogMonitor$Formula", rfl, lay_Previous, by decide, Or.inl kw_207, Or.inl rfl⟩
theorem lg_Mon_170_6 : mm_LG "MetricLogMonitor" 170 6 5 := ⟨R_Since, F_Since, 10, "MetricLogMonitor$Formula", rfl, lay_Since, by decide, Or.inl kw_207, Or.inl rfl⟩
theorem lg_Mon_170_7 : mm_LG "MetricLogMonitor" 170 7 5 := ⟨R_Until, F_Until, 10, "MetricLogMonitor$Formula", rfl, lay_Until, by decide, Or.inl kw_207, Or.inl rfl⟩
theorem lg_Mon_170 : ∀ ci, ci < 8 → mm_LG "MetricLogMonitor" 170 ci 5 := by
  intro ci h
  match ci, h with
  | 0, _ => exact lg_Mon_170_0
  | 1, _ => exact lg_Mon_170_1
  | 2, _ => exact lg_Mon_170_2
  | 3, _ => exact lg_Mon_170_3
  | 4, _ => exact lg_Mon_170_4
  | 5, _ => exact lg_Mon_170_5
  | 6, _ => exact lg_Mon_170_6
  | 7, _ => exact lg_Mon_170_7
theorem lk_Mon_173 : mm_LS "MetricLogMonitor" 173 y_Long_bitCount b_Long_bitCount 2 (some .int) 1 := ⟨⟨kw_715, kw_25, by decide, by decide, by decide +kernel⟩, kw_713, kw_714⟩
theorem lk_Mon_179 : mm_LS "MetricLogMonitor" 179 y_Int_bitCount b_Int_bitCount 1 (some .int) 1 := ⟨⟨kw_721, kw_26, by decide, by decide, by decide +kernel⟩, kw_719, kw_720⟩
theorem lp_Mod_7 : mm_LP "MetricLogMonitorModel" 7 13 1 (.array .int) false := ⟨R_Mod, F_Mod, 17, "MetricLogMonitorModel", t_Mod, rfl, lay_Mod, by decide, Or.inl kw_732, Or.inl rfl, t_Mod_ok, n_Mod, rfl, by decide +kernel, fun h => by cases h⟩
theorem lp_Mod_13 : mm_LP "MetricLogMonitorModel" 13 13 2 (.array .int) false := ⟨R_Mod, F_Mod, 17, "MetricLogMonitorModel", t_Mod, rfl, lay_Mod, by decide, Or.inl kw_733, Or.inl rfl, t_Mod_ok, n_Mod, rfl, by decide +kernel, fun h => by cases h⟩
theorem lp_Mod_16 : mm_LP "MetricLogMonitorModel" 16 13 3 (.array .int) false := ⟨R_Mod, F_Mod, 17, "MetricLogMonitorModel", t_Mod, rfl, lay_Mod, by decide, Or.inl kw_734, Or.inl rfl, t_Mod_ok, n_Mod, rfl, by decide +kernel, fun h => by cases h⟩
theorem lp_Mod_19 : mm_LP "MetricLogMonitorModel" 19 13 4 (.array .int) false := ⟨R_Mod, F_Mod, 17, "MetricLogMonitorModel", t_Mod, rfl, lay_Mod, by decide, Or.inl kw_735, Or.inl rfl, t_Mod_ok, n_Mod, rfl, by decide +kernel, fun h => by cases h⟩
theorem lp_Mod_22 : mm_LP "MetricLogMonitorModel" 22 13 5 (.array .int) false := ⟨R_Mod, F_Mod, 17, "MetricLogMonitorModel", t_Mod, rfl, lay_Mod, by decide, Or.inl kw_736, Or.inl rfl, t_Mod_ok, n_Mod, rfl, by decide +kernel, fun h => by cases h⟩
theorem lp_Mod_25 : mm_LP "MetricLogMonitorModel" 25 13 6 (.array .int) false := ⟨R_Mod, F_Mod, 17, "MetricLogMonitorModel", t_Mod, rfl, lay_Mod, by decide, Or.inl kw_737, Or.inl rfl, t_Mod_ok, n_Mod, rfl, by decide +kernel, fun h => by cases h⟩
theorem lp_Mod_28 : mm_LP "MetricLogMonitorModel" 28 13 9 (.array .int) false := ⟨R_Mod, F_Mod, 17, "MetricLogMonitorModel", t_Mod, rfl, lay_Mod, by decide, Or.inl kw_740, Or.inl rfl, t_Mod_ok, n_Mod, rfl, by decide +kernel, fun h => by cases h⟩
theorem lp_Mod_31 : mm_LP "MetricLogMonitorModel" 31 13 10 (.array .int) false := ⟨R_Mod, F_Mod, 17, "MetricLogMonitorModel", t_Mod, rfl, lay_Mod, by decide, Or.inl kw_741, Or.inl rfl, t_Mod_ok, n_Mod, rfl, by decide +kernel, fun h => by cases h⟩
theorem lp_Mod_34 : mm_LP "MetricLogMonitorModel" 34 13 11 (.array .int) false := ⟨R_Mod, F_Mod, 17, "MetricLogMonitorModel", t_Mod, rfl, lay_Mod, by decide, Or.inl kw_742, Or.inl rfl, t_Mod_ok, n_Mod, rfl, by decide +kernel, fun h => by cases h⟩
theorem lp_Mod_37 : mm_LP "MetricLogMonitorModel" 37 13 12 (.array .long) false := ⟨R_Mod, F_Mod, 17, "MetricLogMonitorModel", t_Mod, rfl, lay_Mod, by decide, Or.inl kw_743, Or.inl rfl, t_Mod_ok, n_Mod, rfl, by decide +kernel, fun h => by cases h⟩
theorem lp_Mod_41 : mm_LP "MetricLogMonitorModel" 41 13 13 (.array .boolean) false := ⟨R_Mod, F_Mod, 17, "MetricLogMonitorModel", t_Mod, rfl, lay_Mod, by decide, Or.inl kw_744, Or.inl rfl, t_Mod_ok, n_Mod, rfl, by decide +kernel, fun h => by cases h⟩
theorem lp_Mod_45 : mm_LP "MetricLogMonitorModel" 45 13 14 (.array .int) false := ⟨R_Mod, F_Mod, 17, "MetricLogMonitorModel", t_Mod, rfl, lay_Mod, by decide, Or.inl kw_745, Or.inl rfl, t_Mod_ok, n_Mod, rfl, by decide +kernel, fun h => by cases h⟩
theorem lp_Mod_48 : mm_LP "MetricLogMonitorModel" 48 13 15 (.array .int) false := ⟨R_Mod, F_Mod, 17, "MetricLogMonitorModel", t_Mod, rfl, lay_Mod, by decide, Or.inl kw_746, Or.inl rfl, t_Mod_ok, n_Mod, rfl, by decide +kernel, fun h => by cases h⟩
theorem lp_Mod_51 : mm_LP "MetricLogMonitorModel" 51 13 16 (.array .int) false := ⟨R_Mod, F_Mod, 17, "MetricLogMonitorModel", t_Mod, rfl, lay_Mod, by decide, Or.inl kw_747, Or.inl rfl, t_Mod_ok, n_Mod, rfl, by decide +kernel, fun h => by cases h⟩
theorem lk_Mod_67 : mm_LV "MetricLogMonitorModel" 67 "MetricLogMonitorModel" y_Mod_mayMake b_Mod_mayMake 1 (some .boolean) 0 := ⟨⟨kw_791, kw_6, by decide, by decide, by decide +kernel⟩, kw_788, kw_790, kp_9, rfl⟩
theorem lk_Mod_71 : mm_LS "MetricLogMonitorModel" 71 y_Mod_isTerm b_Mod_isTerm 1 (some .boolean) 1 := ⟨⟨kw_794, kw_6, by decide, by decide, by decide +kernel⟩, kw_792, kw_793⟩
theorem lk_Mod_63 : mm_LV "MetricLogMonitorModel" 63 "MetricLogMonitorModel" y_Mod_make b_Mod_make 5 (some .int) 4 := ⟨⟨kw_798, kw_6, by decide, by decide, by decide +kernel⟩, kw_795, kw_797, kp_10, rfl⟩
theorem lg_Mod_58 : mm_LG "MetricLogMonitorModel" 58 13 7 := ⟨R_Mod, F_Mod, 17, "MetricLogMonitorModel", rfl, lay_Mod, by decide, Or.inl kw_738, Or.inl rfl⟩
theorem lg_Mod_54 : mm_LG "MetricLogMonitorModel" 54 13 0 := ⟨R_Mod, F_Mod, 17, "MetricLogMonitorModel", rfl, lay_Mod, by decide, Or.inl kw_731, Or.inl rfl⟩
theorem lg_Mod_7 : mm_LG "MetricLogMonitorModel" 7 13 1 := ⟨R_Mod, F_Mod, 17, "MetricLogMonitorModel", rfl, lay_Mod, by decide, Or.inl kw_732, Or.inl rfl⟩
theorem lg_Mod_13 : mm_LG "MetricLogMonitorModel" 13 13 2 := ⟨R_Mod, F_Mod, 17, "MetricLogMonitorModel", rfl, lay_Mod, by decide, Or.inl kw_733, Or.inl rfl⟩
theorem lg_Mod_16 : mm_LG "MetricLogMonitorModel" 16 13 3 := ⟨R_Mod, F_Mod, 17, "MetricLogMonitorModel", rfl, lay_Mod, by decide, Or.inl kw_734, Or.inl rfl⟩
theorem lg_Mod_19 : mm_LG "MetricLogMonitorModel" 19 13 4 := ⟨R_Mod, F_Mod, 17, "MetricLogMonitorModel", rfl, lay_Mod, by decide, Or.inl kw_735, Or.inl rfl⟩
theorem lg_Mod_22 : mm_LG "MetricLogMonitorModel" 22 13 5 := ⟨R_Mod, F_Mod, 17, "MetricLogMonitorModel", rfl, lay_Mod, by decide, Or.inl kw_736, Or.inl rfl⟩
theorem lg_Mod_25 : mm_LG "MetricLogMonitorModel" 25 13 6 := ⟨R_Mod, F_Mod, 17, "MetricLogMonitorModel", rfl, lay_Mod, by decide, Or.inl kw_737, Or.inl rfl⟩
theorem lp_Mod_54 : mm_LP "MetricLogMonitorModel" 54 13 0 .int false := ⟨R_Mod, F_Mod, 17, "MetricLogMonitorModel", t_Mod, rfl, lay_Mod, by decide, Or.inl kw_731, Or.inl rfl, t_Mod_ok, n_Mod, rfl, by decide +kernel, fun h => by cases h⟩
theorem lk_Mod_75 : mm_LV "MetricLogMonitorModel" 75 "MetricLogMonitorModel" y_Mod_isFormula b_Mod_isFormula 2 (some .boolean) 1 := ⟨⟨kw_810, kw_6, by decide, by decide, by decide +kernel⟩, kw_807, kw_809, kp_11, rfl⟩
theorem lk_Mod_78 : mm_LS "MetricLogMonitorModel" 78 y_Mod_isInterval b_Mod_isInterval 3 (some .boolean) 3 := ⟨⟨kw_825, kw_6, by decide, by decide, by decide +kernel⟩, kw_823, kw_824⟩
theorem lk_Mod_82 : mm_LV "MetricLogMonitorModel" 82 "MetricLogMonitorModel" y_Mod_makeTimed b_Mod_makeTimed 7 (some .int) 5 := ⟨⟨kw_830, kw_6, by decide, by decide, by decide +kernel⟩, kw_827, kw_829, kp_12, rfl⟩
theorem lk_Mod_90 : mm_LV "MetricLogMonitorModel" 90 "MetricLogMonitorModel" y_Mod_freeOf b_Mod_freeOf 3 (some .int) 1 := ⟨⟨kw_846, kw_6, by decide, by decide, by decide +kernel⟩, kw_843, kw_845, kp_13, rfl⟩
theorem lg_Mod_45 : mm_LG "MetricLogMonitorModel" 45 13 14 := ⟨R_Mod, F_Mod, 17, "MetricLogMonitorModel", rfl, lay_Mod, by decide, Or.inl kw_745, Or.inl rfl⟩
theorem lk_Mod_86 : mm_LS "MetricLogMonitorModel" 86 y_Mod_variable b_Mod_variable 1 (some .int) 1 := ⟨⟨kw_849, kw_6, by decide, by decide, by decide +kernel⟩, kw_847, kw_848⟩
theorem lk_Mod_93 : mm_LV "MetricLogMonitorModel" 93 "MetricLogMonitorModel" y_Mod_rangedOf b_Mod_rangedOf 5 (some .int) 1 := ⟨⟨kw_857, kw_6, by decide, by decide, by decide +kernel⟩, kw_854, kw_856, kp_14, rfl⟩
theorem lg_Mod_48 : mm_LG "MetricLogMonitorModel" 48 13 15 := ⟨R_Mod, F_Mod, 17, "MetricLogMonitorModel", rfl, lay_Mod, by decide, Or.inl kw_746, Or.inl rfl⟩
theorem lg_Mod_41 : mm_LG "MetricLogMonitorModel" 41 13 13 := ⟨R_Mod, F_Mod, 17, "MetricLogMonitorModel", rfl, lay_Mod, by decide, Or.inl kw_744, Or.inl rfl⟩
theorem lk_Mod_99 : mm_LV "MetricLogMonitorModel" 99 "MetricLogMonitorModel" y_Mod_empty b_Mod_empty 2 none 0 := ⟨⟨kw_869, kw_6, by decide, by decide, by decide +kernel⟩, kw_866, kw_868, kp_15, rfl⟩
theorem lp_Mod_58 : mm_LP "MetricLogMonitorModel" 58 13 7 .boolean false := ⟨R_Mod, F_Mod, 17, "MetricLogMonitorModel", t_Mod, rfl, lay_Mod, by decide, Or.inl kw_738, Or.inl rfl, t_Mod_ok, n_Mod, rfl, by decide +kernel, fun h => by cases h⟩
theorem lp_Mod_96 : mm_LP "MetricLogMonitorModel" 96 13 8 .int false := ⟨R_Mod, F_Mod, 17, "MetricLogMonitorModel", t_Mod, rfl, lay_Mod, by decide, Or.inl kw_739, Or.inl rfl, t_Mod_ok, n_Mod, rfl, by decide +kernel, fun h => by cases h⟩
theorem lg_Mod_34 : mm_LG "MetricLogMonitorModel" 34 13 11 := ⟨R_Mod, F_Mod, 17, "MetricLogMonitorModel", rfl, lay_Mod, by decide, Or.inl kw_742, Or.inl rfl⟩
theorem lg_Mod_96 : mm_LG "MetricLogMonitorModel" 96 13 8 := ⟨R_Mod, F_Mod, 17, "MetricLogMonitorModel", rfl, lay_Mod, by decide, Or.inl kw_739, Or.inl rfl⟩
theorem lg_Mod_28 : mm_LG "MetricLogMonitorModel" 28 13 9 := ⟨R_Mod, F_Mod, 17, "MetricLogMonitorModel", rfl, lay_Mod, by decide, Or.inl kw_740, Or.inl rfl⟩
theorem lg_Mod_31 : mm_LG "MetricLogMonitorModel" 31 13 10 := ⟨R_Mod, F_Mod, 17, "MetricLogMonitorModel", rfl, lay_Mod, by decide, Or.inl kw_741, Or.inl rfl⟩
theorem lk_Mod_102 : mm_LV "MetricLogMonitorModel" 102 "MetricLogMonitorModel" y_Mod_look b_Mod_look 6 none 2 := ⟨⟨kw_881, kw_6, by decide, by decide, by decide +kernel⟩, kw_878, kw_880, kp_16, rfl⟩
theorem lk_Mod_127 : mm_LV "MetricLogMonitorModel" 127 "MetricLogMonitorModel" y_Mod_satisfies b_Mod_satisfies 6 (some .boolean) 3 := ⟨⟨kw_885, kw_6, by decide, by decide, by decide +kernel⟩, kw_882, kw_884, kp_17, rfl⟩
theorem lg_Mod_37 : mm_LG "MetricLogMonitorModel" 37 13 12 := ⟨R_Mod, F_Mod, 17, "MetricLogMonitorModel", rfl, lay_Mod, by decide, Or.inl kw_743, Or.inl rfl⟩
theorem lk_Mod_114 : mm_LS "MetricLogMonitorModel" 114 y_Mod_value b_Mod_value 2 (some .int) 2 := ⟨⟨kw_888, kw_6, by decide, by decide, by decide +kernel⟩, kw_886, kw_887⟩
theorem lk_Mod_110 : mm_LV "MetricLogMonitorModel" 110 "MetricLogMonitorModel" y_Mod_at b_Mod_at 4 (some .boolean) 3 := ⟨⟨kw_892, kw_6, by decide, by decide, by decide +kernel⟩, kw_889, kw_891, kp_18, rfl⟩
theorem lk_Mod_118 : mm_LV "MetricLogMonitorModel" 118 "MetricLogMonitorModel" y_Mod_existsAt b_Mod_existsAt 7 (some .boolean) 3 := ⟨⟨kw_896, kw_6, by decide, by decide, by decide +kernel⟩, kw_893, kw_895, kp_19, rfl⟩
theorem lk_Mod_106 : mm_LV "MetricLogMonitorModel" 106 "MetricLogMonitorModel" y_Mod_lies b_Mod_lies 3 (some .boolean) 2 := ⟨⟨kw_900, kw_6, by decide, by decide, by decide +kernel⟩, kw_897, kw_899, kp_20, rfl⟩
theorem lk_Mod_121 : mm_LV "MetricLogMonitorModel" 121 "MetricLogMonitorModel" y_Mod_sinceAt b_Mod_sinceAt 5 (some .boolean) 3 := ⟨⟨kw_904, kw_6, by decide, by decide, by decide +kernel⟩, kw_901, kw_903, kp_21, rfl⟩
theorem lk_Mod_124 : mm_LV "MetricLogMonitorModel" 124 "MetricLogMonitorModel" y_Mod_untilAt b_Mod_untilAt 5 (some .boolean) 3 := ⟨⟨kw_908, kw_6, by decide, by decide, by decide +kernel⟩, kw_905, kw_907, kp_22, rfl⟩
theorem lg_Mod_51 : mm_LG "MetricLogMonitorModel" 51 13 16 := ⟨R_Mod, F_Mod, 17, "MetricLogMonitorModel", rfl, lay_Mod, by decide, Or.inl kw_747, Or.inl rfl⟩
theorem lk_Mod_130 : mm_LV "MetricLogMonitorModel" 130 "MetricLogMonitorModel" y_Mod_lesser b_Mod_lesser 3 (some .int) 2 := ⟨⟨kw_920, kw_6, by decide, by decide, by decide +kernel⟩, kw_917, kw_919, kp_23, rfl⟩
theorem lk_Mod_133 : mm_LV "MetricLogMonitorModel" 133 "MetricLogMonitorModel" y_Mod_decided b_Mod_decided 7 (some .int) 2 := ⟨⟨kw_924, kw_6, by decide, by decide, by decide +kernel⟩, kw_921, kw_923, kp_24, rfl⟩
theorem lk_Mod_139 : mm_LV "MetricLogMonitorModel" 139 "MetricLogMonitorModel" y_Mod_isKnown b_Mod_isKnown 3 (some .boolean) 2 := ⟨⟨kw_932, kw_6, by decide, by decide, by decide +kernel⟩, kw_929, kw_931, kp_25, rfl⟩
theorem lk_Mod_136 : mm_LV "MetricLogMonitorModel" 136 "MetricLogMonitorModel" y_Mod_progress b_Mod_progress 4 (some .int) 1 := ⟨⟨kw_916, kw_6, by decide, by decide, by decide +kernel⟩, kw_933, kw_914, kw_915, rfl⟩
theorem lk_Mod_142 : mm_LV "MetricLogMonitorModel" 142 "MetricLogMonitorModel" y_Mod_free b_Mod_free 2 (some .int) 1 := ⟨⟨kw_842, kw_6, by decide, by decide, by decide +kernel⟩, kw_938, kw_840, kw_841, rfl⟩
theorem lk_Mod_145 : mm_LS "MetricLogMonitorModel" 145 y_Mod_agree b_Mod_agree 5 (some .boolean) 3 := ⟨⟨kw_941, kw_6, by decide, by decide, by decide +kernel⟩, kw_939, kw_940⟩
theorem ln_Law_7 : mm_LN "MetricLogMonitorLaw" 7 10 3 [.null, .null, .int 0] := ⟨R_Mon, F_Mon, t_Mon, rfl, lay_Mon, t_Mon_ok, kw_27, kw_28, kw_1, fun j h => match j, h with | 0, _ => rfl | 1, _ => rfl | 2, _ => rfl⟩
theorem lk_Law_9 : mm_LI "MetricLogMonitorLaw" 9 y_Mon_init b_Mon_init 1 0 := ⟨⟨kw_31, kw_1, by decide, by decide, by decide +kernel⟩, kw_29, kw_30, rfl⟩
theorem ln_Law_10 : mm_LN "MetricLogMonitorLaw" 10 13 17 [.int 0, .null, .null, .null, .null, .null, .null, .int 0, .int 0, .null, .null, .null, .null, .null, .null, .null, .null] := ⟨R_Mod, F_Mod, t_Mod, rfl, lay_Mod, t_Mod_ok, kw_725, kw_726, kw_6, fun j h => match j, h with | 0, _ => rfl | 1, _ => rfl | 2, _ => rfl | 3, _ => rfl | 4, _ => rfl | 5, _ => rfl | 6, _ => rfl | 7, _ => rfl | 8, _ => rfl | 9, _ => rfl | 10, _ => rfl | 11, _ => rfl | 12, _ => rfl | 13, _ => rfl | 14, _ => rfl | 15, _ => rfl | 16, _ => rfl | j + 17, h => absurd h (by omega)⟩
theorem lk_Law_12 : mm_LI "MetricLogMonitorLaw" 12 y_Mod_init b_Mod_init 1 0 := ⟨⟨kw_729, kw_6, by decide, by decide, by decide +kernel⟩, kw_727, kw_728, rfl⟩
theorem lk_Law_13 : mm_LV "MetricLogMonitorLaw" 13 "MetricLogMonitor" y_Mon_atom b_Mon_atom 4 (some .int) 3 := ⟨⟨kw_101, kw_1, by decide, by decide, by decide +kernel⟩, kw_98, kw_99, kw_100, rfl⟩
theorem lk_Law_17 : mm_LV "MetricLogMonitorLaw" 17 "MetricLogMonitorModel" y_Mod_atom b_Mod_atom 4 (some .int) 3 := ⟨⟨kw_787, kw_6, by decide, by decide, by decide +kernel⟩, kw_784, kw_785, kw_786, rfl⟩
theorem lk_Law_18 : mm_LV "MetricLogMonitorLaw" 18 "MetricLogMonitor" y_Mon_compare b_Mon_compare 4 (some .int) 3 := ⟨⟨kw_319, kw_1, by decide, by decide, by decide +kernel⟩, kw_316, kw_317, kw_318, rfl⟩
theorem lk_Law_22 : mm_LV "MetricLogMonitorLaw" 22 "MetricLogMonitorModel" y_Mod_compare b_Mod_compare 4 (some .int) 3 := ⟨⟨kw_802, kw_6, by decide, by decide, by decide +kernel⟩, kw_799, kw_800, kw_801, rfl⟩
theorem lk_Law_23 : mm_LV "MetricLogMonitorLaw" 23 "MetricLogMonitor" y_Mon_not b_Mon_not 3 (some .int) 1 := ⟨⟨kw_347, kw_1, by decide, by decide, by decide +kernel⟩, kw_344, kw_345, kw_346, rfl⟩
theorem lk_Law_27 : mm_LV "MetricLogMonitorLaw" 27 "MetricLogMonitorModel" y_Mod_not b_Mod_not 2 (some .int) 1 := ⟨⟨kw_806, kw_6, by decide, by decide, by decide +kernel⟩, kw_803, kw_804, kw_805, rfl⟩
theorem lk_Law_28 : mm_LV "MetricLogMonitorLaw" 28 "MetricLogMonitor" y_Mon_join b_Mon_join 6 (some .int) 3 := ⟨⟨kw_384, kw_1, by decide, by decide, by decide +kernel⟩, kw_381, kw_382, kw_383, rfl⟩
theorem lk_Law_31 : mm_LV "MetricLogMonitorLaw" 31 "MetricLogMonitorModel" y_Mod_join b_Mod_join 4 (some .int) 3 := ⟨⟨kw_814, kw_6, by decide, by decide, by decide +kernel⟩, kw_811, kw_812, kw_813, rfl⟩
theorem lk_Law_32 : mm_LV "MetricLogMonitorLaw" 32 "MetricLogMonitor" y_Mon_exists b_Mon_exists 4 (some .int) 2 := ⟨⟨kw_405, kw_1, by decide, by decide, by decide +kernel⟩, kw_402, kw_403, kw_404, rfl⟩
theorem lk_Law_36 : mm_LV "MetricLogMonitorLaw" 36 "MetricLogMonitorModel" y_Mod_exists b_Mod_exists 3 (some .int) 2 := ⟨⟨kw_818, kw_6, by decide, by decide, by decide +kernel⟩, kw_815, kw_816, kw_817, rfl⟩
theorem lk_Law_37 : mm_LV "MetricLogMonitorLaw" 37 "MetricLogMonitor" y_Mon_previous b_Mon_previous 6 (some .int) 3 := ⟨⟨kw_426, kw_1, by decide, by decide, by decide +kernel⟩, kw_423, kw_424, kw_425, rfl⟩
theorem lk_Law_40 : mm_LV "MetricLogMonitorLaw" 40 "MetricLogMonitorModel" y_Mod_previous b_Mod_previous 4 (some .int) 3 := ⟨⟨kw_822, kw_6, by decide, by decide, by decide +kernel⟩, kw_819, kw_820, kw_821, rfl⟩
theorem lk_Law_41 : mm_LV "MetricLogMonitorLaw" 41 "MetricLogMonitor" y_Mon_since b_Mon_since 8 (some .int) 4 := ⟨⟨kw_468, kw_1, by decide, by decide, by decide +kernel⟩, kw_465, kw_466, kw_467, rfl⟩
theorem lk_Law_45 : mm_LV "MetricLogMonitorLaw" 45 "MetricLogMonitorModel" y_Mod_since b_Mod_since 5 (some .int) 4 := ⟨⟨kw_834, kw_6, by decide, by decide, by decide +kernel⟩, kw_831, kw_832, kw_833, rfl⟩
theorem lk_Law_46 : mm_LV "MetricLogMonitorLaw" 46 "MetricLogMonitor" y_Mon_until b_Mon_until 8 (some .int) 4 := ⟨⟨kw_495, kw_1, by decide, by decide, by decide +kernel⟩, kw_492, kw_493, kw_494, rfl⟩
theorem lk_Law_49 : mm_LV "MetricLogMonitorLaw" 49 "MetricLogMonitorModel" y_Mod_until b_Mod_until 5 (some .int) 4 := ⟨⟨kw_838, kw_6, by decide, by decide, by decide +kernel⟩, kw_835, kw_836, kw_837, rfl⟩
theorem lk_Law_50 : mm_LV "MetricLogMonitorLaw" 50 "MetricLogMonitor" y_Mon_free b_Mon_free 3 (some .int) 1 := ⟨⟨kw_522, kw_1, by decide, by decide, by decide +kernel⟩, kw_519, kw_520, kw_521, rfl⟩
theorem lk_Law_53 : mm_LV "MetricLogMonitorLaw" 53 "MetricLogMonitorModel" y_Mod_free b_Mod_free 2 (some .int) 1 := ⟨⟨kw_842, kw_6, by decide, by decide, by decide +kernel⟩, kw_839, kw_840, kw_841, rfl⟩
theorem lk_Law_54 : mm_LV "MetricLogMonitorLaw" 54 "MetricLogMonitor" y_Mon_ranged b_Mon_ranged 3 (some .int) 1 := ⟨⟨kw_526, kw_1, by decide, by decide, by decide +kernel⟩, kw_523, kw_524, kw_525, rfl⟩
theorem lk_Law_57 : mm_LV "MetricLogMonitorLaw" 57 "MetricLogMonitorModel" y_Mod_ranged b_Mod_ranged 2 (some .int) 1 := ⟨⟨kw_853, kw_6, by decide, by decide, by decide +kernel⟩, kw_850, kw_851, kw_852, rfl⟩
theorem lk_Law_58 : mm_LV "MetricLogMonitorLaw" 58 "MetricLogMonitor" y_Mon_bounded b_Mon_bounded 3 (some .boolean) 1 := ⟨⟨kw_530, kw_1, by decide, by decide, by decide +kernel⟩, kw_527, kw_528, kw_529, rfl⟩
theorem lk_Law_62 : mm_LV "MetricLogMonitorLaw" 62 "MetricLogMonitorModel" y_Mod_bounded b_Mod_bounded 3 (some .boolean) 1 := ⟨⟨kw_861, kw_6, by decide, by decide, by decide +kernel⟩, kw_858, kw_859, kw_860, rfl⟩
theorem lk_Law_63 : mm_LV "MetricLogMonitorLaw" 63 "MetricLogMonitor" y_Mon_watch b_Mon_watch 1 (some .boolean) 0 := ⟨⟨kw_534, kw_1, by decide, by decide, by decide +kernel⟩, kw_531, kw_532, kw_533, rfl⟩
theorem lk_Law_67 : mm_LV "MetricLogMonitorLaw" 67 "MetricLogMonitorModel" y_Mod_watch b_Mod_watch 1 (some .boolean) 0 := ⟨⟨kw_865, kw_6, by decide, by decide, by decide +kernel⟩, kw_862, kw_863, kw_864, rfl⟩
theorem lk_Law_68 : mm_LV "MetricLogMonitorLaw" 68 "MetricLogMonitor" y_Mon_gather b_Mon_gather 6 (some .boolean) 3 := ⟨⟨kw_570, kw_1, by decide, by decide, by decide +kernel⟩, kw_567, kw_568, kw_569, rfl⟩
theorem lk_Law_72 : mm_LV "MetricLogMonitorLaw" 72 "MetricLogMonitorModel" y_Mod_gather b_Mod_gather 5 (some .boolean) 3 := ⟨⟨kw_873, kw_6, by decide, by decide, by decide +kernel⟩, kw_870, kw_871, kw_872, rfl⟩
theorem lk_Law_73 : mm_LV "MetricLogMonitorLaw" 73 "MetricLogMonitor" y_Mon_place b_Mon_place 5 (some .int) 1 := ⟨⟨kw_574, kw_1, by decide, by decide, by decide +kernel⟩, kw_571, kw_572, kw_573, rfl⟩
theorem lk_Law_76 : mm_LV "MetricLogMonitorLaw" 76 "MetricLogMonitorModel" y_Mod_place b_Mod_place 4 (some .int) 1 := ⟨⟨kw_877, kw_6, by decide, by decide, by decide +kernel⟩, kw_874, kw_875, kw_876, rfl⟩
theorem lk_Law_77 : mm_LV "MetricLogMonitorLaw" 77 "MetricLogMonitor" y_Mon_stop b_Mon_stop 2 none 1 := ⟨⟨kw_696, kw_1, by decide, by decide, by decide +kernel⟩, kw_693, kw_694, kw_695, rfl⟩
theorem lk_Law_81 : mm_LV "MetricLogMonitorLaw" 81 "MetricLogMonitorModel" y_Mod_stop b_Mod_stop 2 none 1 := ⟨⟨kw_912, kw_6, by decide, by decide, by decide +kernel⟩, kw_909, kw_910, kw_911, rfl⟩
theorem lk_Law_82 : mm_LV "MetricLogMonitorLaw" 82 "MetricLogMonitor" y_Mon_progress b_Mon_progress 3 (some .int) 1 := ⟨⟨kw_704, kw_1, by decide, by decide, by decide +kernel⟩, kw_701, kw_702, kw_703, rfl⟩
theorem lk_Law_85 : mm_LV "MetricLogMonitorLaw" 85 "MetricLogMonitorModel" y_Mod_progress b_Mod_progress 4 (some .int) 1 := ⟨⟨kw_916, kw_6, by decide, by decide, by decide +kernel⟩, kw_913, kw_914, kw_915, rfl⟩
theorem lk_Law_86 : mm_LV "MetricLogMonitorLaw" 86 "MetricLogMonitor" y_Mon_satisfied b_Mon_satisfied 4 (some .long) 2 := ⟨⟨kw_708, kw_1, by decide, by decide, by decide +kernel⟩, kw_705, kw_706, kw_707, rfl⟩
theorem lk_Law_90 : mm_LV "MetricLogMonitorLaw" 90 "MetricLogMonitorModel" y_Mod_satisfied b_Mod_satisfied 3 (some .long) 2 := ⟨⟨kw_928, kw_6, by decide, by decide, by decide +kernel⟩, kw_925, kw_926, kw_927, rfl⟩
theorem lk_Law_91 : mm_LV "MetricLogMonitorLaw" 91 "MetricLogMonitor" y_Mon_rows b_Mon_rows 5 (some .int) 2 := ⟨⟨kw_712, kw_1, by decide, by decide, by decide +kernel⟩, kw_709, kw_710, kw_711, rfl⟩
theorem lk_Law_94 : mm_LV "MetricLogMonitorLaw" 94 "MetricLogMonitorModel" y_Mod_rows b_Mod_rows 8 (some .int) 2 := ⟨⟨kw_937, kw_6, by decide, by decide, by decide +kernel⟩, kw_934, kw_935, kw_936, rfl⟩
