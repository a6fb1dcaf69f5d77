set_option maxRecDepth 100000
/-! TwinPanel -/
def RX0 : String := "TwinPanel"
def TX0 : u_T := fun k => match k with
  | 0 => ("TwinPanel", "modules", "[LTwinPanel$Module;", true)
  | 1 => ("TwinPanel", "many", "I", false)
  | 2 => ("TwinPanel", "mode", "I", false)
  | 3 => ("TwinPanel", "rule", "I", false)
  | 4 => ("TwinPanel", "power", "I", false)
  | 5 => ("TwinPanel", "time", "I", false)
  | 6 => ("TwinPanel", "stepsEver", "I", false)
  | 7 => ("TwinPanel", "broken", "I", false)
  | 8 => ("TwinPanel", "stripOf", "[I", true)
  | 9 => ("TwinPanel", "strips", "I", false)
  | 10 => ("TwinPanel", "samples", "[D", true)
  | 11 => ("TwinPanel", "sampled", "[I", true)
  | 12 => ("TwinPanel", "swept", "[J", true)
  | 13 => ("TwinPanel", "sweptMany", "I", false)
  | 14 => ("TwinPanel", "levels", "[I", true)
  | 15 => ("TwinPanel", "reached", "[Z", true)
  | _ => ("TwinPanel", "order", "[I", true)
def tyX0 : Nat → FieldType := fun k => match k with
  | 0 => .array (.object "TwinPanel$Module")
  | 1 => .int
  | 2 => .int
  | 3 => .int
  | 4 => .int
  | 5 => .int
  | 6 => .int
  | 7 => .int
  | 8 => .array .int
  | 9 => .int
  | 10 => .array .double
  | 11 => .array .int
  | 12 => .array .long
  | 13 => .int
  | 14 => .array .int
  | 15 => .array .boolean
  | _ => .array .int
abbrev wsX00 : List Cond := u_ws RX0 TX0 17
set_option maxRecDepth 100000 in
theorem nmX0 : ∀ a, a < 17 → ∀ b, b < 17 → a ≠ b → (TX0 a).2.1 ≠ (TX0 b).2.1 := by decide +kernel
set_option maxRecDepth 100000 in
theorem tyX0_ok : ∀ k, k < 17 → parseFieldDescriptor (TX0 k).2.2.1 = some (tyX0 k) := by decide +kernel
abbrev cX0_init : ByteArray := prog_1_method_3_code
def yX0_init : MethodName := ⟨RX0, "<init>", "()V"⟩
abbrev cX0_module : ByteArray := prog_1_method_8_code
def yX0_module : MethodName := ⟨RX0, "module", "(IJ)I"⟩
abbrev cX0_isIn : ByteArray := prog_1_method_1_code
def yX0_isIn : MethodName := ⟨RX0, "isIn", "(III)Z"⟩
abbrev cX0_isSetting : ByteArray := prog_1_method_7_code
def yX0_isSetting : MethodName := ⟨RX0, "isSetting", "(IJ)Z"⟩
abbrev cX0_isWithin : ByteArray := prog_1_method_6_code
def yX0_isWithin : MethodName := ⟨RX0, "isWithin", "(JDD)Z"⟩
abbrev cX0_isNumber : ByteArray := prog_1_method_5_code
def yX0_isNumber : MethodName := ⟨RX0, "isNumber", "(J)Z"⟩
abbrev cX0_newModule : ByteArray := prog_1_method_2_code
def yX0_newModule : MethodName := ⟨RX0, "newModule", "(ID)LTwinPanel$Module;"⟩
abbrev cX0_cord : ByteArray := prog_1_method_9_code
def yX0_cord : MethodName := ⟨RX0, "cord", "(IIIZ)I"⟩
abbrev cX0_isModule : ByteArray := prog_1_method_4_code
def yX0_isModule : MethodName := ⟨RX0, "isModule", "(I)Z"⟩
abbrev cX0_point : ByteArray := prog_1_method_10_code
def yX0_point : MethodName := ⟨RX0, "point", "(IJJ)I"⟩
abbrev cX0_begin : ByteArray := prog_1_method_11_code
def yX0_begin : MethodName := ⟨RX0, "begin", "(IJ)I"⟩
abbrev cX0_setting : ByteArray := prog_1_method_12_code
def yX0_setting : MethodName := ⟨RX0, "setting", "(IJ)I"⟩
abbrev cX0_rule : ByteArray := prog_1_method_13_code
def yX0_rule : MethodName := ⟨RX0, "rule", "(II)I"⟩
abbrev cX0_check : ByteArray := prog_1_method_18_code
def yX0_check : MethodName := ⟨RX0, "check", "()I"⟩
abbrev cX0_checked : ByteArray := prog_1_method_17_code
def yX0_checked : MethodName := ⟨RX0, "checked", "()I"⟩
abbrev cX0_hasInputs : ByteArray := prog_1_method_14_code
def yX0_hasInputs : MethodName := ⟨RX0, "hasInputs", "(LTwinPanel$Module;)Z"⟩
abbrev cX0_isCircled : ByteArray := prog_1_method_16_code
def yX0_isCircled : MethodName := ⟨RX0, "isCircled", "(I)Z"⟩
abbrev cX0_broken : ByteArray := prog_1_method_19_code
def yX0_broken : MethodName := ⟨RX0, "broken", "()I"⟩
abbrev cX0_level : ByteArray := prog_1_method_20_code
def yX0_level : MethodName := ⟨RX0, "level", "(I)I"⟩
abbrev cX0_findLevels : ByteArray := prog_1_method_15_code
def yX0_findLevels : MethodName := ⟨RX0, "findLevels", "()V"⟩
abbrev cX0_mode : ByteArray := prog_1_method_29_code
def yX0_mode : MethodName := ⟨RX0, "mode", "(I)I"⟩
abbrev cX0_start : ByteArray := prog_1_method_23_code
def yX0_start : MethodName := ⟨RX0, "start", "()V"⟩
abbrev cX0_findOrder : ByteArray := prog_1_method_21_code
def yX0_findOrder : MethodName := ⟨RX0, "findOrder", "()V"⟩
abbrev cX0_read : ByteArray := prog_1_method_22_code
def yX0_read : MethodName := ⟨RX0, "read", "(I)V"⟩
abbrev cX0_sample : ByteArray := prog_1_method_28_code
def yX0_sample : MethodName := ⟨RX0, "sample", "()V"⟩
abbrev cX0_now : ByteArray := prog_1_method_30_code
def yX0_now : MethodName := ⟨RX0, "now", "()I"⟩
abbrev cX0_run : ByteArray := prog_1_method_32_code
def yX0_run : MethodName := ⟨RX0, "run", "(I)I"⟩
abbrev cX0_length : ByteArray := prog_1_method_27_code
def yX0_length : MethodName := ⟨RX0, "length", "(I)D"⟩
abbrev cX0_failing : ByteArray := prog_1_method_31_code
def yX0_failing : MethodName := ⟨RX0, "failing", "(I)I"⟩
abbrev cX0_step : ByteArray := prog_1_method_26_code
def yX0_step : MethodName := ⟨RX0, "step", "(D)V"⟩
abbrev cX0_rates : ByteArray := prog_1_method_24_code
def yX0_rates : MethodName := ⟨RX0, "rates", "(I)V"⟩
abbrev cX0_stage : ByteArray := prog_1_method_25_code
def yX0_stage : MethodName := ⟨RX0, "stage", "(ID)V"⟩
abbrev cX0_fail : ByteArray := prog_1_method_33_code
def yX0_fail : MethodName := ⟨RX0, "fail", "(II)I"⟩
abbrev cX0_time : ByteArray := prog_1_method_34_code
def yX0_time : MethodName := ⟨RX0, "time", "()I"⟩
abbrev cX0_reading : ByteArray := prog_1_method_36_code
def yX0_reading : MethodName := ⟨RX0, "reading", "(I)J"⟩
abbrev cX0_isRead : ByteArray := prog_1_method_35_code
def yX0_isRead : MethodName := ⟨RX0, "isRead", "(I)Z"⟩
abbrev cX0_single : ByteArray := prog_1_method_37_code
def yX0_single : MethodName := ⟨RX0, "single", "(I)I"⟩
abbrev cX0_lamp : ByteArray := prog_1_method_38_code
def yX0_lamp : MethodName := ⟨RX0, "lamp", "(I)I"⟩
abbrev cX0_apart : ByteArray := prog_1_method_39_code
def yX0_apart : MethodName := ⟨RX0, "apart", "(I)J"⟩
abbrev cX0_rate : ByteArray := prog_1_method_40_code
def yX0_rate : MethodName := ⟨RX0, "rate", "(I)J"⟩
abbrev cX0_strip : ByteArray := prog_1_method_41_code
def yX0_strip : MethodName := ⟨RX0, "strip", "(I)I"⟩
abbrev cX0_samples : ByteArray := prog_1_method_43_code
def yX0_samples : MethodName := ⟨RX0, "samples", "(I)I"⟩
abbrev cX0_isStrip : ByteArray := prog_1_method_42_code
def yX0_isStrip : MethodName := ⟨RX0, "isStrip", "(I)Z"⟩
abbrev cX0_sample_2 : ByteArray := prog_1_method_44_code
def yX0_sample_2 : MethodName := ⟨RX0, "sample", "(II)J"⟩
abbrev cX0_crossing : ByteArray := prog_1_method_45_code
def yX0_crossing : MethodName := ⟨RX0, "crossing", "(II)I"⟩
abbrev cX0_peak : ByteArray := prog_1_method_46_code
def yX0_peak : MethodName := ⟨RX0, "peak", "(II)I"⟩
abbrev cX0_sweep : ByteArray := prog_1_method_48_code
def yX0_sweep : MethodName := ⟨RX0, "sweep", "(IJJIII)I"⟩
abbrev cX0_twin : ByteArray := prog_1_method_47_code
def yX0_twin : MethodName := ⟨RX0, "twin", "()LTwinPanel;"⟩
abbrev cX0_swept : ByteArray := prog_1_method_49_code
def yX0_swept : MethodName := ⟨RX0, "swept", "(I)J"⟩
abbrev cX0_halved : ByteArray := prog_1_method_50_code
def yX0_halved : MethodName := ⟨RX0, "halved", "(II)J"⟩
abbrev cX0_about : ByteArray := prog_1_method_51_code
def yX0_about : MethodName := ⟨RX0, "about", "(II)I"⟩
abbrev cX0_count : ByteArray := prog_1_method_55_code
def yX0_count : MethodName := ⟨RX0, "count", "(I)I"⟩
abbrev cX0_cords : ByteArray := prog_1_method_52_code
def yX0_cords : MethodName := ⟨RX0, "cords", "()I"⟩
abbrev cX0_greatest : ByteArray := prog_1_method_54_code
def yX0_greatest : MethodName := ⟨RX0, "greatest", "()I"⟩
abbrev cX0_lit : ByteArray := prog_1_method_53_code
def yX0_lit : MethodName := ⟨RX0, "lit", "()I"⟩
abbrev cX0_digest : ByteArray := prog_1_method_56_code
def yX0_digest : MethodName := ⟨RX0, "digest", "()J"⟩
/-! TwinPanelModel -/
def RX1 : String := "TwinPanelModel"
def TX1 : u_T := fun k => match k with
  | 0 => ("TwinPanelModel", "modules", "I", false)
  | 1 => ("TwinPanelModel", "kinds", "[I", true)
  | 2 => ("TwinPanelModel", "settings", "[D", true)
  | 3 => ("TwinPanelModel", "from", "[I", true)
  | 4 => ("TwinPanelModel", "turned", "[Z", true)
  | 5 => ("TwinPanelModel", "begins", "[D", true)
  | 6 => ("TwinPanelModel", "points", "[I", true)
  | 7 => ("TwinPanelModel", "xs", "[D", true)
  | 8 => ("TwinPanelModel", "ys", "[D", true)
  | 9 => ("TwinPanelModel", "failAt", "[I", true)
  | 10 => ("TwinPanelModel", "levels", "[I", true)
  | 11 => ("TwinPanelModel", "mode", "I", false)
  | 12 => ("TwinPanelModel", "time", "I", false)
  | 13 => ("TwinPanelModel", "rule", "I", false)
  | 14 => ("TwinPanelModel", "halvings", "I", false)
  | 15 => ("TwinPanelModel", "steps", "I", false)
  | 16 => ("TwinPanelModel", "broken", "I", false)
  | 17 => ("TwinPanelModel", "state", "[D", true)
  | 18 => ("TwinPanelModel", "stateF", "[F", true)
  | 19 => ("TwinPanelModel", "reading", "[D", true)
  | 20 => ("TwinPanelModel", "readingF", "[F", true)
  | 21 => ("TwinPanelModel", "row", "[D", true)
  | 22 => ("TwinPanelModel", "rowF", "[F", true)
  | 23 => ("TwinPanelModel", "seeds", "[I", true)
  | 24 => ("TwinPanelModel", "lamps", "[I", true)
  | 25 => ("TwinPanelModel", "apart", "[D", true)
  | 26 => ("TwinPanelModel", "rates", "[D", true)
  | 27 => ("TwinPanelModel", "stateKept", "[D", true)
  | 28 => ("TwinPanelModel", "stateFKept", "[F", true)
  | 29 => ("TwinPanelModel", "readingKept", "[D", true)
  | 30 => ("TwinPanelModel", "readingFKept", "[F", true)
  | 31 => ("TwinPanelModel", "rowKept", "[D", true)
  | 32 => ("TwinPanelModel", "rowFKept", "[F", true)
  | 33 => ("TwinPanelModel", "seedsKept", "[I", true)
  | 34 => ("TwinPanelModel", "lampsKept", "[I", true)
  | 35 => ("TwinPanelModel", "apartKept", "[D", true)
  | 36 => ("TwinPanelModel", "ratesKept", "[D", true)
  | 37 => ("TwinPanelModel", "strips", "I", false)
  | 38 => ("TwinPanelModel", "stripOf", "[I", true)
  | 39 => ("TwinPanelModel", "samples", "[I", true)
  | 40 => ("TwinPanelModel", "sample", "[D", true)
  | 41 => ("TwinPanelModel", "swept", "I", false)
  | 42 => ("TwinPanelModel", "sweptValues", "[D", true)
  | 43 => ("TwinPanelModel", "reached", "[Z", true)
  | 44 => ("TwinPanelModel", "lampTime", "I", false)
  | 45 => ("TwinPanelModel", "length", "D", false)
  | 46 => ("TwinPanelModel", "first", "[D", true)
  | 47 => ("TwinPanelModel", "second", "[D", true)
  | 48 => ("TwinPanelModel", "third", "[D", true)
  | 49 => ("TwinPanelModel", "before", "[D", true)
  | 50 => ("TwinPanelModel", "firstF", "[F", true)
  | 51 => ("TwinPanelModel", "secondF", "[F", true)
  | 52 => ("TwinPanelModel", "thirdF", "[F", true)
  | 53 => ("TwinPanelModel", "beforeF", "[F", true)
  | 54 => ("TwinPanelModel", "next", "[D", true)
  | 55 => ("TwinPanelModel", "nextF", "[F", true)
  | 56 => ("TwinPanelModel", "rate", "[D", true)
  | 57 => ("TwinPanelModel", "rateF", "[F", true)
  | 58 => ("TwinPanelModel", "timeKept", "I", false)
  | 59 => ("TwinPanelModel", "settingKept", "D", false)
  | _ => ("TwinPanelModel", "h", "J", false)
def tyX1 : Nat → FieldType := fun k => match k with
  | 0 => .int
  | 1 => .array .int
  | 2 => .array .double
  | 3 => .array .int
  | 4 => .array .boolean
  | 5 => .array .double
  | 6 => .array .int
  | 7 => .array .double
  | 8 => .array .double
  | 9 => .array .int
  | 10 => .array .int
  | 11 => .int
  | 12 => .int
  | 13 => .int
  | 14 => .int
  | 15 => .int
  | 16 => .int
  | 17 => .array .double
  | 18 => .array .float
  | 19 => .array .double
  | 20 => .array .float
  | 21 => .array .double
  | 22 => .array .float
  | 23 => .array .int
  | 24 => .array .int
  | 25 => .array .double
  | 26 => .array .double
  | 27 => .array .double
  | 28 => .array .float
  | 29 => .array .double
  | 30 => .array .float
  | 31 => .array .double
  | 32 => .array .float
  | 33 => .array .int
  | 34 => .array .int
  | 35 => .array .double
  | 36 => .array .double
  | 37 => .int
  | 38 => .array .int
  | 39 => .array .int
  | 40 => .array .double
  | 41 => .int
  | 42 => .array .double
  | 43 => .array .boolean
  | 44 => .int
  | 45 => .double
  | 46 => .array .double
  | 47 => .array .double
  | 48 => .array .double
  | 49 => .array .double
  | 50 => .array .float
  | 51 => .array .float
  | 52 => .array .float
  | 53 => .array .float
  | 54 => .array .double
  | 55 => .array .float
  | 56 => .array .double
  | 57 => .array .float
  | 58 => .int
  | 59 => .double
  | _ => .long
abbrev wsX10 : List Cond := u_ws RX1 TX1 61
set_option maxRecDepth 100000 in
theorem nmX1 : ∀ a, a < 61 → ∀ b, b < 61 → a ≠ b → (TX1 a).2.1 ≠ (TX1 b).2.1 := by decide +kernel
set_option maxRecDepth 100000 in
theorem tyX1_ok : ∀ k, k < 61 → parseFieldDescriptor (TX1 k).2.2.1 = some (tyX1 k) := by decide +kernel
abbrev cX1_init : ByteArray := prog_19_method_1_code
def yX1_init : MethodName := ⟨RX1, "<init>", "()V"⟩
abbrev cX1_module : ByteArray := prog_19_method_9_code
def yX1_module : MethodName := ⟨RX1, "module", "(IJ)I"⟩
abbrev cX1_in : ByteArray := prog_19_method_3_code
def yX1_in : MethodName := ⟨RX1, "in", "(III)Z"⟩
abbrev cX1_isNumber : ByteArray := prog_19_method_6_code
def yX1_isNumber : MethodName := ⟨RX1, "isNumber", "(J)Z"⟩
abbrev cX1_isSetting : ByteArray := prog_19_method_8_code
def yX1_isSetting : MethodName := ⟨RX1, "isSetting", "(ID)Z"⟩
abbrev cX1_isWithin : ByteArray := prog_19_method_7_code
def yX1_isWithin : MethodName := ⟨RX1, "isWithin", "(DDD)Z"⟩
abbrev cX1_cord : ByteArray := prog_19_method_10_code
def yX1_cord : MethodName := ⟨RX1, "cord", "(IIIZ)I"⟩
abbrev cX1_isModule : ByteArray := prog_19_method_4_code
def yX1_isModule : MethodName := ⟨RX1, "isModule", "(I)Z"⟩
abbrev cX1_point : ByteArray := prog_19_method_12_code
def yX1_point : MethodName := ⟨RX1, "point", "(IJJ)I"⟩
abbrev cX1_isSmall : ByteArray := prog_19_method_11_code
def yX1_isSmall : MethodName := ⟨RX1, "isSmall", "(J)Z"⟩
abbrev cX1_begin : ByteArray := prog_19_method_13_code
def yX1_begin : MethodName := ⟨RX1, "begin", "(IJ)I"⟩
abbrev cX1_remembers : ByteArray := prog_19_method_5_code
def yX1_remembers : MethodName := ⟨RX1, "remembers", "(I)Z"⟩
abbrev cX1_setting : ByteArray := prog_19_method_14_code
def yX1_setting : MethodName := ⟨RX1, "setting", "(IJ)I"⟩
abbrev cX1_rule : ByteArray := prog_19_method_15_code
def yX1_rule : MethodName := ⟨RX1, "rule", "(II)I"⟩
abbrev cX1_check : ByteArray := prog_19_method_19_code
def yX1_check : MethodName := ⟨RX1, "check", "()I"⟩
abbrev cX1_hasInputs : ByteArray := prog_19_method_17_code
def yX1_hasInputs : MethodName := ⟨RX1, "hasInputs", "(I)Z"⟩
abbrev cX1_has : ByteArray := prog_19_method_16_code
def yX1_has : MethodName := ⟨RX1, "has", "(II)Z"⟩
abbrev cX1_isInCircle : ByteArray := prog_19_method_18_code
def yX1_isInCircle : MethodName := ⟨RX1, "isInCircle", "(I)Z"⟩
abbrev cX1_broken : ByteArray := prog_19_method_21_code
def yX1_broken : MethodName := ⟨RX1, "broken", "()I"⟩
abbrev cX1_level : ByteArray := prog_19_method_23_code
def yX1_level : MethodName := ⟨RX1, "level", "(I)I"⟩
abbrev cX1_levelAll : ByteArray := prog_19_method_22_code
def yX1_levelAll : MethodName := ⟨RX1, "levelAll", "()V"⟩
abbrev cX1_mode : ByteArray := prog_19_method_47_code
def yX1_mode : MethodName := ⟨RX1, "mode", "(I)I"⟩
abbrev cX1_wrong : ByteArray := prog_19_method_20_code
def yX1_wrong : MethodName := ⟨RX1, "wrong", "()I"⟩
abbrev cX1_beginAll : ByteArray := prog_19_method_44_code
def yX1_beginAll : MethodName := ⟨RX1, "beginAll", "()V"⟩
abbrev cX1_readAll : ByteArray := prog_19_method_37_code
def yX1_readAll : MethodName := ⟨RX1, "readAll", "()V"⟩
abbrev cX1_made : ByteArray := prog_19_method_33_code
def yX1_made : MethodName := ⟨RX1, "made", "(I)D"⟩
abbrev cX1_input : ByteArray := prog_19_method_27_code
def yX1_input : MethodName := ⟨RX1, "input", "(II)D"⟩
abbrev cX1_sum : ByteArray := prog_19_method_29_code
def yX1_sum : MethodName := ⟨RX1, "sum", "(I)D"⟩
abbrev cX1_light : ByteArray := prog_19_method_24_code
def yX1_light : MethodName := ⟨RX1, "light", "(I)V"⟩
abbrev cX1_root : ByteArray := prog_19_method_31_code
def yX1_root : MethodName := ⟨RX1, "root", "(D)D"⟩
abbrev cX1_scaled : ByteArray := prog_19_method_32_code
def yX1_scaled : MethodName := ⟨RX1, "scaled", "(JI)D"⟩
abbrev cX1_table : ByteArray := prog_19_method_34_code
def yX1_table : MethodName := ⟨RX1, "table", "(ID)D"⟩
abbrev cX1_after : ByteArray := prog_19_method_25_code
def yX1_after : MethodName := ⟨RX1, "after", "(ID)D"⟩
abbrev cX1_madeF : ByteArray := prog_19_method_35_code
def yX1_madeF : MethodName := ⟨RX1, "madeF", "(I)F"⟩
abbrev cX1_inputF : ByteArray := prog_19_method_28_code
def yX1_inputF : MethodName := ⟨RX1, "inputF", "(II)F"⟩
abbrev cX1_sumF : ByteArray := prog_19_method_30_code
def yX1_sumF : MethodName := ⟨RX1, "sumF", "(I)F"⟩
abbrev cX1_tableF : ByteArray := prog_19_method_36_code
def yX1_tableF : MethodName := ⟨RX1, "tableF", "(IF)F"⟩
abbrev cX1_afterF : ByteArray := prog_19_method_26_code
def yX1_afterF : MethodName := ⟨RX1, "afterF", "(IF)F"⟩
abbrev cX1_differ : ByteArray := prog_19_method_43_code
def yX1_differ : MethodName := ⟨RX1, "differ", "(I)V"⟩
abbrev cX1_toStrips : ByteArray := prog_19_method_46_code
def yX1_toStrips : MethodName := ⟨RX1, "toStrips", "()V"⟩
abbrev cX1_now : ByteArray := prog_19_method_48_code
def yX1_now : MethodName := ⟨RX1, "now", "()I"⟩
abbrev cX1_run : ByteArray := prog_19_method_49_code
def yX1_run : MethodName := ⟨RX1, "run", "(I)I"⟩
abbrev cX1_lengthOf : ByteArray := prog_19_method_45_code
def yX1_lengthOf : MethodName := ⟨RX1, "lengthOf", "(I)D"⟩
abbrev cX1_step : ByteArray := prog_19_method_41_code
def yX1_step : MethodName := ⟨RX1, "step", "()V"⟩
abbrev cX1_rateAll : ByteArray := prog_19_method_38_code
def yX1_rateAll : MethodName := ⟨RX1, "rateAll", "()V"⟩
abbrev cX1_keepRates : ByteArray := prog_19_method_40_code
def yX1_keepRates : MethodName := ⟨RX1, "keepRates", "(I)V"⟩
abbrev cX1_stage : ByteArray := prog_19_method_39_code
def yX1_stage : MethodName := ⟨RX1, "stage", "(D)V"⟩
abbrev cX1_others : ByteArray := prog_19_method_42_code
def yX1_others : MethodName := ⟨RX1, "others", "()V"⟩
abbrev cX1_fail : ByteArray := prog_19_method_50_code
def yX1_fail : MethodName := ⟨RX1, "fail", "(II)I"⟩
abbrev cX1_time : ByteArray := prog_19_method_51_code
def yX1_time : MethodName := ⟨RX1, "time", "()I"⟩
abbrev cX1_reading : ByteArray := prog_19_method_52_code
def yX1_reading : MethodName := ⟨RX1, "reading", "(I)J"⟩
abbrev cX1_single : ByteArray := prog_19_method_53_code
def yX1_single : MethodName := ⟨RX1, "single", "(I)I"⟩
abbrev cX1_lamp : ByteArray := prog_19_method_54_code
def yX1_lamp : MethodName := ⟨RX1, "lamp", "(I)I"⟩
abbrev cX1_apart : ByteArray := prog_19_method_55_code
def yX1_apart : MethodName := ⟨RX1, "apart", "(I)J"⟩
abbrev cX1_rate : ByteArray := prog_19_method_56_code
def yX1_rate : MethodName := ⟨RX1, "rate", "(I)J"⟩
abbrev cX1_strip : ByteArray := prog_19_method_57_code
def yX1_strip : MethodName := ⟨RX1, "strip", "(I)I"⟩
abbrev cX1_samples : ByteArray := prog_19_method_59_code
def yX1_samples : MethodName := ⟨RX1, "samples", "(I)I"⟩
abbrev cX1_isStrip : ByteArray := prog_19_method_58_code
def yX1_isStrip : MethodName := ⟨RX1, "isStrip", "(I)Z"⟩
abbrev cX1_sample : ByteArray := prog_19_method_60_code
def yX1_sample : MethodName := ⟨RX1, "sample", "(II)J"⟩
abbrev cX1_crossing : ByteArray := prog_19_method_61_code
def yX1_crossing : MethodName := ⟨RX1, "crossing", "(II)I"⟩
abbrev cX1_peak : ByteArray := prog_19_method_62_code
def yX1_peak : MethodName := ⟨RX1, "peak", "(II)I"⟩
abbrev cX1_sweep : ByteArray := prog_19_method_66_code
def yX1_sweep : MethodName := ⟨RX1, "sweep", "(IJJIII)I"⟩
abbrev cX1_keep : ByteArray := prog_19_method_63_code
def yX1_keep : MethodName := ⟨RX1, "keep", "()V"⟩
abbrev cX1_tried : ByteArray := prog_19_method_65_code
def yX1_tried : MethodName := ⟨RX1, "tried", "(IID)D"⟩
abbrev cX1_back : ByteArray := prog_19_method_64_code
def yX1_back : MethodName := ⟨RX1, "back", "()V"⟩
abbrev cX1_swept : ByteArray := prog_19_method_67_code
def yX1_swept : MethodName := ⟨RX1, "swept", "(I)J"⟩
abbrev cX1_halved : ByteArray := prog_19_method_68_code
def yX1_halved : MethodName := ⟨RX1, "halved", "(II)J"⟩
abbrev cX1_about : ByteArray := prog_19_method_69_code
def yX1_about : MethodName := ⟨RX1, "about", "(II)I"⟩
abbrev cX1_count : ByteArray := prog_19_method_70_code
def yX1_count : MethodName := ⟨RX1, "count", "(I)I"⟩
abbrev cX1_digest : ByteArray := prog_19_method_72_code
def yX1_digest : MethodName := ⟨RX1, "digest", "()J"⟩
abbrev cX1_mix : ByteArray := prog_19_method_71_code
def yX1_mix : MethodName := ⟨RX1, "mix", "(J)V"⟩
/-! TwinPanel$Module -/
def RX2 : String := "TwinPanel$Module"
abbrev cX2_init : ByteArray := prog_7_method_1_code
def yX2_init : MethodName := ⟨RX2, "<init>", "(ID)V"⟩
abbrev cX2_remembers : ByteArray := prog_7_method_2_code
def yX2_remembers : MethodName := ⟨RX2, "remembers", "()Z"⟩
abbrev cX2_needs : ByteArray := prog_7_method_3_code
def yX2_needs : MethodName := ⟨RX2, "needs", "()I"⟩
abbrev cX2_begin : ByteArray := prog_7_method_14_code
def yX2_begin : MethodName := ⟨RX2, "begin", "()V"⟩
abbrev cX2_read : ByteArray := prog_7_method_13_code
def yX2_read : MethodName := ⟨RX2, "read", "(I)V"⟩
abbrev cX2_wideIn : ByteArray := prog_7_method_4_code
def yX2_wideIn : MethodName := ⟨RX2, "wideIn", "(I)D"⟩
abbrev cX2_light : ByteArray := prog_7_method_8_code
def yX2_light : MethodName := ⟨RX2, "light", "(I)V"⟩
abbrev cX2_wideSum : ByteArray := prog_7_method_6_code
def yX2_wideSum : MethodName := ⟨RX2, "wideSum", "()D"⟩
abbrev cX2_afterWide : ByteArray := prog_7_method_9_code
def yX2_afterWide : MethodName := ⟨RX2, "afterWide", "(DI)D"⟩
abbrev cX2_narrowIn : ByteArray := prog_7_method_5_code
def yX2_narrowIn : MethodName := ⟨RX2, "narrowIn", "(I)F"⟩
abbrev cX2_narrowSum : ByteArray := prog_7_method_7_code
def yX2_narrowSum : MethodName := ⟨RX2, "narrowSum", "()F"⟩
abbrev cX2_afterNarrow : ByteArray := prog_7_method_10_code
def yX2_afterNarrow : MethodName := ⟨RX2, "afterNarrow", "(FI)F"⟩
abbrev cX2_compare : ByteArray := prog_7_method_17_code
def yX2_compare : MethodName := ⟨RX2, "compare", "()V"⟩
abbrev cX2_take : ByteArray := prog_7_method_15_code
def yX2_take : MethodName := ⟨RX2, "take", "()V"⟩
abbrev cX2_become : ByteArray := prog_7_method_16_code
def yX2_become : MethodName := ⟨RX2, "become", "()V"⟩
/-! TwinPanel$Sum -/
def RX3 : String := "TwinPanel$Sum"
def TX3 : u_T := fun k => match k with
  | 0 => ("TwinPanel$Module", "kind", "I", true)
  | 1 => ("TwinPanel$Module", "setting", "D", false)
  | 2 => ("TwinPanel$Module", "start", "D", false)
  | 3 => ("TwinPanel$Module", "from", "[LTwinPanel$Module;", true)
  | 4 => ("TwinPanel$Module", "number", "[I", true)
  | 5 => ("TwinPanel$Module", "turned", "[Z", true)
  | 6 => ("TwinPanel$Module", "wide", "D", false)
  | 7 => ("TwinPanel$Module", "narrow", "F", false)
  | 8 => ("TwinPanel$Module", "lamp", "I", false)
  | 9 => ("TwinPanel$Module", "apart", "D", false)
  | _ => ("TwinPanel$Module", "failsAt", "I", false)
def tyX3 : Nat → FieldType := fun k => match k with
  | 0 => .int
  | 1 => .double
  | 2 => .double
  | 3 => .array (.object "TwinPanel$Module")
  | 4 => .array .int
  | 5 => .array .boolean
  | 6 => .double
  | 7 => .float
  | 8 => .int
  | 9 => .double
  | _ => .int
abbrev wsX30 : List Cond := u_ws RX3 TX3 11
theorem nmX3 : ∀ a, a < 11 → ∀ b, b < 11 → a ≠ b → (TX3 a).2.1 ≠ (TX3 b).2.1 := by decide +kernel
theorem tyX3_ok : ∀ k, k < 11 → parseFieldDescriptor (TX3 k).2.2.1 = some (tyX3 k) := by decide +kernel
abbrev cX3_init : ByteArray := prog_14_method_1_code
def yX3_init : MethodName := ⟨RX3, "<init>", "(ID)V"⟩
abbrev cX3_wideOut : ByteArray := prog_14_method_2_code
def yX3_wideOut : MethodName := ⟨RX3, "wideOut", "(I)D"⟩
abbrev cX3_narrowOut : ByteArray := prog_14_method_3_code
def yX3_narrowOut : MethodName := ⟨RX3, "narrowOut", "(I)F"⟩
/-! TwinPanel$Turn -/
def RX4 : String := "TwinPanel$Turn"
def TX4 : u_T := fun k => match k with
  | 0 => ("TwinPanel$Module", "kind", "I", true)
  | 1 => ("TwinPanel$Module", "setting", "D", false)
  | 2 => ("TwinPanel$Module", "start", "D", false)
  | 3 => ("TwinPanel$Module", "from", "[LTwinPanel$Module;", true)
  | 4 => ("TwinPanel$Module", "number", "[I", true)
  | 5 => ("TwinPanel$Module", "turned", "[Z", true)
  | 6 => ("TwinPanel$Module", "wide", "D", false)
  | 7 => ("TwinPanel$Module", "narrow", "F", false)
  | 8 => ("TwinPanel$Module", "lamp", "I", false)
  | 9 => ("TwinPanel$Module", "apart", "D", false)
  | _ => ("TwinPanel$Module", "failsAt", "I", false)
def tyX4 : Nat → FieldType := fun k => match k with
  | 0 => .int
  | 1 => .double
  | 2 => .double
  | 3 => .array (.object "TwinPanel$Module")
  | 4 => .array .int
  | 5 => .array .boolean
  | 6 => .double
  | 7 => .float
  | 8 => .int
  | 9 => .double
  | _ => .int
abbrev wsX40 : List Cond := u_ws RX4 TX4 11
theorem nmX4 : ∀ a, a < 11 → ∀ b, b < 11 → a ≠ b → (TX4 a).2.1 ≠ (TX4 b).2.1 := by decide +kernel
theorem tyX4_ok : ∀ k, k < 11 → parseFieldDescriptor (TX4 k).2.2.1 = some (tyX4 k) := by decide +kernel
abbrev cX4_init : ByteArray := prog_17_method_1_code
def yX4_init : MethodName := ⟨RX4, "<init>", "(ID)V"⟩
abbrev cX4_wideOut : ByteArray := prog_17_method_2_code
def yX4_wideOut : MethodName := ⟨RX4, "wideOut", "(I)D"⟩
abbrev cX4_narrowOut : ByteArray := prog_17_method_3_code
def yX4_narrowOut : MethodName := ⟨RX4, "narrowOut", "(I)F"⟩
/-! TwinPanel$Keeper -/
def RX5 : String := "TwinPanel$Keeper"
abbrev cX5_init : ByteArray := prog_5_method_1_code
def yX5_init : MethodName := ⟨RX5, "<init>", "(ID)V"⟩
abbrev cX5_remembers : ByteArray := prog_5_method_2_code
def yX5_remembers : MethodName := ⟨RX5, "remembers", "()Z"⟩
abbrev cX5_begin : ByteArray := prog_5_method_5_code
def yX5_begin : MethodName := ⟨RX5, "begin", "()V"⟩
abbrev cX5_wideOut : ByteArray := prog_5_method_3_code
def yX5_wideOut : MethodName := ⟨RX5, "wideOut", "(I)D"⟩
abbrev cX5_narrowOut : ByteArray := prog_5_method_4_code
def yX5_narrowOut : MethodName := ⟨RX5, "narrowOut", "(I)F"⟩
/-! TwinPanel$Gather -/
def RX6 : String := "TwinPanel$Gather"
def TX6 : u_T := fun k => match k with
  | 0 => ("TwinPanel$Module", "kind", "I", true)
  | 1 => ("TwinPanel$Module", "setting", "D", false)
  | 2 => ("TwinPanel$Module", "start", "D", false)
  | 3 => ("TwinPanel$Module", "from", "[LTwinPanel$Module;", true)
  | 4 => ("TwinPanel$Module", "number", "[I", true)
  | 5 => ("TwinPanel$Module", "turned", "[Z", true)
  | 6 => ("TwinPanel$Module", "wide", "D", false)
  | 7 => ("TwinPanel$Module", "narrow", "F", false)
  | 8 => ("TwinPanel$Module", "lamp", "I", false)
  | 9 => ("TwinPanel$Module", "apart", "D", false)
  | 10 => ("TwinPanel$Module", "failsAt", "I", false)
  | 11 => ("TwinPanel$Keeper", "wideState", "D", false)
  | 12 => ("TwinPanel$Keeper", "narrowState", "F", false)
  | 13 => ("TwinPanel$Gather", "wideFrom", "D", false)
  | 14 => ("TwinPanel$Gather", "narrowFrom", "F", false)
  | 15 => ("TwinPanel$Gather", "wideRates", "[D", true)
  | 16 => ("TwinPanel$Gather", "narrowRates", "[F", true)
  | _ => ("TwinPanel$Gather", "startRate", "D", false)
def tyX6 : Nat → FieldType := fun k => match k with
  | 0 => .int
  | 1 => .double
  | 2 => .double
  | 3 => .array (.object "TwinPanel$Module")
  | 4 => .array .int
  | 5 => .array .boolean
  | 6 => .double
  | 7 => .float
  | 8 => .int
  | 9 => .double
  | 10 => .int
  | 11 => .double
  | 12 => .float
  | 13 => .double
  | 14 => .float
  | 15 => .array .double
  | 16 => .array .float
  | _ => .double
abbrev wsX60 : List Cond := u_ws RX6 TX6 18
set_option maxRecDepth 100000 in
theorem nmX6 : ∀ a, a < 18 → ∀ b, b < 18 → a ≠ b → (TX6 a).2.1 ≠ (TX6 b).2.1 := by decide +kernel
set_option maxRecDepth 100000 in
theorem tyX6_ok : ∀ k, k < 18 → parseFieldDescriptor (TX6 k).2.2.1 = some (tyX6 k) := by decide +kernel
abbrev cX6_init : ByteArray := prog_4_method_1_code
def yX6_init : MethodName := ⟨RX6, "<init>", "(ID)V"⟩
abbrev cX6_open : ByteArray := prog_4_method_2_code
def yX6_open : MethodName := ⟨RX6, "open", "()V"⟩
abbrev cX6_rate : ByteArray := prog_4_method_3_code
def yX6_rate : MethodName := ⟨RX6, "rate", "(I)V"⟩
abbrev cX6_go : ByteArray := prog_4_method_4_code
def yX6_go : MethodName := ⟨RX6, "go", "(IDI)V"⟩
abbrev cX6_goTwo : ByteArray := prog_4_method_5_code
def yX6_goTwo : MethodName := ⟨RX6, "goTwo", "(DI)V"⟩
abbrev cX6_goFour : ByteArray := prog_4_method_6_code
def yX6_goFour : MethodName := ⟨RX6, "goFour", "(DI)V"⟩
/-! TwinPanel$Track -/
def RX7 : String := "TwinPanel$Track"
def TX7 : u_T := fun k => match k with
  | 0 => ("TwinPanel$Module", "kind", "I", true)
  | 1 => ("TwinPanel$Module", "setting", "D", false)
  | 2 => ("TwinPanel$Module", "start", "D", false)
  | 3 => ("TwinPanel$Module", "from", "[LTwinPanel$Module;", true)
  | 4 => ("TwinPanel$Module", "number", "[I", true)
  | 5 => ("TwinPanel$Module", "turned", "[Z", true)
  | 6 => ("TwinPanel$Module", "wide", "D", false)
  | 7 => ("TwinPanel$Module", "narrow", "F", false)
  | 8 => ("TwinPanel$Module", "lamp", "I", false)
  | 9 => ("TwinPanel$Module", "apart", "D", false)
  | 10 => ("TwinPanel$Module", "failsAt", "I", false)
  | 11 => ("TwinPanel$Keeper", "wideState", "D", false)
  | 12 => ("TwinPanel$Keeper", "narrowState", "F", false)
  | 13 => ("TwinPanel$Track", "wideNext", "D", false)
  | _ => ("TwinPanel$Track", "narrowNext", "F", false)
def tyX7 : Nat → FieldType := fun k => match k with
  | 0 => .int
  | 1 => .double
  | 2 => .double
  | 3 => .array (.object "TwinPanel$Module")
  | 4 => .array .int
  | 5 => .array .boolean
  | 6 => .double
  | 7 => .float
  | 8 => .int
  | 9 => .double
  | 10 => .int
  | 11 => .double
  | 12 => .float
  | 13 => .double
  | _ => .float
abbrev wsX70 : List Cond := u_ws RX7 TX7 15
set_option maxRecDepth 100000 in
theorem nmX7 : ∀ a, a < 15 → ∀ b, b < 15 → a ≠ b → (TX7 a).2.1 ≠ (TX7 b).2.1 := by decide +kernel
set_option maxRecDepth 100000 in
theorem tyX7_ok : ∀ k, k < 15 → parseFieldDescriptor (TX7 k).2.2.1 = some (tyX7 k) := by decide +kernel
abbrev cX7_init : ByteArray := prog_16_method_1_code
def yX7_init : MethodName := ⟨RX7, "<init>", "(ID)V"⟩
abbrev cX7_needs : ByteArray := prog_16_method_2_code
def yX7_needs : MethodName := ⟨RX7, "needs", "()I"⟩
abbrev cX7_take : ByteArray := prog_16_method_3_code
def yX7_take : MethodName := ⟨RX7, "take", "()V"⟩
abbrev cX7_become : ByteArray := prog_16_method_4_code
def yX7_become : MethodName := ⟨RX7, "become", "()V"⟩
/-! TwinPanel$Product -/
def RX8 : String := "TwinPanel$Product"
def TX8 : u_T := fun k => match k with
  | 0 => ("TwinPanel$Module", "kind", "I", true)
  | 1 => ("TwinPanel$Module", "setting", "D", false)
  | 2 => ("TwinPanel$Module", "start", "D", false)
  | 3 => ("TwinPanel$Module", "from", "[LTwinPanel$Module;", true)
  | 4 => ("TwinPanel$Module", "number", "[I", true)
  | 5 => ("TwinPanel$Module", "turned", "[Z", true)
  | 6 => ("TwinPanel$Module", "wide", "D", false)
  | 7 => ("TwinPanel$Module", "narrow", "F", false)
  | 8 => ("TwinPanel$Module", "lamp", "I", false)
  | 9 => ("TwinPanel$Module", "apart", "D", false)
  | _ => ("TwinPanel$Module", "failsAt", "I", false)
def tyX8 : Nat → FieldType := fun k => match k with
  | 0 => .int
  | 1 => .double
  | 2 => .double
  | 3 => .array (.object "TwinPanel$Module")
  | 4 => .array .int
  | 5 => .array .boolean
  | 6 => .double
  | 7 => .float
  | 8 => .int
  | 9 => .double
  | _ => .int
abbrev wsX80 : List Cond := u_ws RX8 TX8 11
theorem nmX8 : ∀ a, a < 11 → ∀ b, b < 11 → a ≠ b → (TX8 a).2.1 ≠ (TX8 b).2.1 := by decide +kernel
theorem tyX8_ok : ∀ k, k < 11 → parseFieldDescriptor (TX8 k).2.2.1 = some (tyX8 k) := by decide +kernel
abbrev cX8_init : ByteArray := prog_10_method_1_code
def yX8_init : MethodName := ⟨RX8, "<init>", "(ID)V"⟩
abbrev cX8_needs : ByteArray := prog_10_method_2_code
def yX8_needs : MethodName := ⟨RX8, "needs", "()I"⟩
abbrev cX8_wideOut : ByteArray := prog_10_method_3_code
def yX8_wideOut : MethodName := ⟨RX8, "wideOut", "(I)D"⟩
abbrev cX8_narrowOut : ByteArray := prog_10_method_4_code
def yX8_narrowOut : MethodName := ⟨RX8, "narrowOut", "(I)F"⟩
/-! TwinPanel$Quotient -/
def RX9 : String := "TwinPanel$Quotient"
def TX9 : u_T := fun k => match k with
  | 0 => ("TwinPanel$Module", "kind", "I", true)
  | 1 => ("TwinPanel$Module", "setting", "D", false)
  | 2 => ("TwinPanel$Module", "start", "D", false)
  | 3 => ("TwinPanel$Module", "from", "[LTwinPanel$Module;", true)
  | 4 => ("TwinPanel$Module", "number", "[I", true)
  | 5 => ("TwinPanel$Module", "turned", "[Z", true)
  | 6 => ("TwinPanel$Module", "wide", "D", false)
  | 7 => ("TwinPanel$Module", "narrow", "F", false)
  | 8 => ("TwinPanel$Module", "lamp", "I", false)
  | 9 => ("TwinPanel$Module", "apart", "D", false)
  | _ => ("TwinPanel$Module", "failsAt", "I", false)
def tyX9 : Nat → FieldType := fun k => match k with
  | 0 => .int
  | 1 => .double
  | 2 => .double
  | 3 => .array (.object "TwinPanel$Module")
  | 4 => .array .int
  | 5 => .array .boolean
  | 6 => .double
  | 7 => .float
  | 8 => .int
  | 9 => .double
  | _ => .int
abbrev wsX90 : List Cond := u_ws RX9 TX9 11
theorem nmX9 : ∀ a, a < 11 → ∀ b, b < 11 → a ≠ b → (TX9 a).2.1 ≠ (TX9 b).2.1 := by decide +kernel
theorem tyX9_ok : ∀ k, k < 11 → parseFieldDescriptor (TX9 k).2.2.1 = some (tyX9 k) := by decide +kernel
abbrev cX9_init : ByteArray := prog_11_method_1_code
def yX9_init : MethodName := ⟨RX9, "<init>", "(ID)V"⟩
abbrev cX9_needs : ByteArray := prog_11_method_2_code
def yX9_needs : MethodName := ⟨RX9, "needs", "()I"⟩
abbrev cX9_wideOut : ByteArray := prog_11_method_3_code
def yX9_wideOut : MethodName := ⟨RX9, "wideOut", "(I)D"⟩
abbrev cX9_narrowOut : ByteArray := prog_11_method_4_code
def yX9_narrowOut : MethodName := ⟨RX9, "narrowOut", "(I)F"⟩
/-! TwinPanel$Root -/
def RX10 : String := "TwinPanel$Root"
def TX10 : u_T := fun k => match k with
  | 0 => ("TwinPanel$Module", "kind", "I", true)
  | 1 => ("TwinPanel$Module", "setting", "D", false)
  | 2 => ("TwinPanel$Module", "start", "D", false)
  | 3 => ("TwinPanel$Module", "from", "[LTwinPanel$Module;", true)
  | 4 => ("TwinPanel$Module", "number", "[I", true)
  | 5 => ("TwinPanel$Module", "turned", "[Z", true)
  | 6 => ("TwinPanel$Module", "wide", "D", false)
  | 7 => ("TwinPanel$Module", "narrow", "F", false)
  | 8 => ("TwinPanel$Module", "lamp", "I", false)
  | 9 => ("TwinPanel$Module", "apart", "D", false)
  | _ => ("TwinPanel$Module", "failsAt", "I", false)
def tyX10 : Nat → FieldType := fun k => match k with
  | 0 => .int
  | 1 => .double
  | 2 => .double
  | 3 => .array (.object "TwinPanel$Module")
  | 4 => .array .int
  | 5 => .array .boolean
  | 6 => .double
  | 7 => .float
  | 8 => .int
  | 9 => .double
  | _ => .int
abbrev wsX100 : List Cond := u_ws RX10 TX10 11
theorem nmX10 : ∀ a, a < 11 → ∀ b, b < 11 → a ≠ b → (TX10 a).2.1 ≠ (TX10 b).2.1 := by decide +kernel
theorem tyX10_ok : ∀ k, k < 11 → parseFieldDescriptor (TX10 k).2.2.1 = some (tyX10 k) := by decide +kernel
abbrev cX10_init : ByteArray := prog_13_method_1_code
def yX10_init : MethodName := ⟨RX10, "<init>", "(ID)V"⟩
abbrev cX10_wideOut : ByteArray := prog_13_method_2_code
def yX10_wideOut : MethodName := ⟨RX10, "wideOut", "(I)D"⟩
abbrev cX10_narrowOut : ByteArray := prog_13_method_3_code
def yX10_narrowOut : MethodName := ⟨RX10, "narrowOut", "(I)F"⟩
/-! TwinPanel$Table -/
def RX11 : String := "TwinPanel$Table"
def TX11 : u_T := fun k => match k with
  | 0 => ("TwinPanel$Module", "kind", "I", true)
  | 1 => ("TwinPanel$Module", "setting", "D", false)
  | 2 => ("TwinPanel$Module", "start", "D", false)
  | 3 => ("TwinPanel$Module", "from", "[LTwinPanel$Module;", true)
  | 4 => ("TwinPanel$Module", "number", "[I", true)
  | 5 => ("TwinPanel$Module", "turned", "[Z", true)
  | 6 => ("TwinPanel$Module", "wide", "D", false)
  | 7 => ("TwinPanel$Module", "narrow", "F", false)
  | 8 => ("TwinPanel$Module", "lamp", "I", false)
  | 9 => ("TwinPanel$Module", "apart", "D", false)
  | 10 => ("TwinPanel$Module", "failsAt", "I", false)
  | 11 => ("TwinPanel$Table", "x", "[D", true)
  | 12 => ("TwinPanel$Table", "y", "[D", true)
  | _ => ("TwinPanel$Table", "many", "I", false)
def tyX11 : Nat → FieldType := fun k => match k with
  | 0 => .int
  | 1 => .double
  | 2 => .double
  | 3 => .array (.object "TwinPanel$Module")
  | 4 => .array .int
  | 5 => .array .boolean
  | 6 => .double
  | 7 => .float
  | 8 => .int
  | 9 => .double
  | 10 => .int
  | 11 => .array .double
  | 12 => .array .double
  | _ => .int
abbrev wsX110 : List Cond := u_ws RX11 TX11 14
set_option maxRecDepth 100000 in
theorem nmX11 : ∀ a, a < 14 → ∀ b, b < 14 → a ≠ b → (TX11 a).2.1 ≠ (TX11 b).2.1 := by decide +kernel
set_option maxRecDepth 100000 in
theorem tyX11_ok : ∀ k, k < 14 → parseFieldDescriptor (TX11 k).2.2.1 = some (tyX11 k) := by decide +kernel
abbrev cX11_init : ByteArray := prog_15_method_1_code
def yX11_init : MethodName := ⟨RX11, "<init>", "(ID)V"⟩
abbrev cX11_wideOut : ByteArray := prog_15_method_2_code
def yX11_wideOut : MethodName := ⟨RX11, "wideOut", "(I)D"⟩
abbrev cX11_narrowOut : ByteArray := prog_15_method_3_code
def yX11_narrowOut : MethodName := ⟨RX11, "narrowOut", "(I)F"⟩
/-! TwinPanel$Compare -/
def RX12 : String := "TwinPanel$Compare"
def TX12 : u_T := fun k => match k with
  | 0 => ("TwinPanel$Module", "kind", "I", true)
  | 1 => ("TwinPanel$Module", "setting", "D", false)
  | 2 => ("TwinPanel$Module", "start", "D", false)
  | 3 => ("TwinPanel$Module", "from", "[LTwinPanel$Module;", true)
  | 4 => ("TwinPanel$Module", "number", "[I", true)
  | 5 => ("TwinPanel$Module", "turned", "[Z", true)
  | 6 => ("TwinPanel$Module", "wide", "D", false)
  | 7 => ("TwinPanel$Module", "narrow", "F", false)
  | 8 => ("TwinPanel$Module", "lamp", "I", false)
  | 9 => ("TwinPanel$Module", "apart", "D", false)
  | _ => ("TwinPanel$Module", "failsAt", "I", false)
def tyX12 : Nat → FieldType := fun k => match k with
  | 0 => .int
  | 1 => .double
  | 2 => .double
  | 3 => .array (.object "TwinPanel$Module")
  | 4 => .array .int
  | 5 => .array .boolean
  | 6 => .double
  | 7 => .float
  | 8 => .int
  | 9 => .double
  | _ => .int
abbrev wsX120 : List Cond := u_ws RX12 TX12 11
theorem nmX12 : ∀ a, a < 11 → ∀ b, b < 11 → a ≠ b → (TX12 a).2.1 ≠ (TX12 b).2.1 := by decide +kernel
theorem tyX12_ok : ∀ k, k < 11 → parseFieldDescriptor (TX12 k).2.2.1 = some (tyX12 k) := by decide +kernel
abbrev cX12_init : ByteArray := prog_2_method_1_code
def yX12_init : MethodName := ⟨RX12, "<init>", "(ID)V"⟩
abbrev cX12_needs : ByteArray := prog_2_method_2_code
def yX12_needs : MethodName := ⟨RX12, "needs", "()I"⟩
abbrev cX12_wideOut : ByteArray := prog_2_method_3_code
def yX12_wideOut : MethodName := ⟨RX12, "wideOut", "(I)D"⟩
abbrev cX12_narrowOut : ByteArray := prog_2_method_4_code
def yX12_narrowOut : MethodName := ⟨RX12, "narrowOut", "(I)F"⟩
/-! TwinPanel$Relay -/
def RX13 : String := "TwinPanel$Relay"
def TX13 : u_T := fun k => match k with
  | 0 => ("TwinPanel$Module", "kind", "I", true)
  | 1 => ("TwinPanel$Module", "setting", "D", false)
  | 2 => ("TwinPanel$Module", "start", "D", false)
  | 3 => ("TwinPanel$Module", "from", "[LTwinPanel$Module;", true)
  | 4 => ("TwinPanel$Module", "number", "[I", true)
  | 5 => ("TwinPanel$Module", "turned", "[Z", true)
  | 6 => ("TwinPanel$Module", "wide", "D", false)
  | 7 => ("TwinPanel$Module", "narrow", "F", false)
  | 8 => ("TwinPanel$Module", "lamp", "I", false)
  | 9 => ("TwinPanel$Module", "apart", "D", false)
  | _ => ("TwinPanel$Module", "failsAt", "I", false)
def tyX13 : Nat → FieldType := fun k => match k with
  | 0 => .int
  | 1 => .double
  | 2 => .double
  | 3 => .array (.object "TwinPanel$Module")
  | 4 => .array .int
  | 5 => .array .boolean
  | 6 => .double
  | 7 => .float
  | 8 => .int
  | 9 => .double
  | _ => .int
abbrev wsX130 : List Cond := u_ws RX13 TX13 11
theorem nmX13 : ∀ a, a < 11 → ∀ b, b < 11 → a ≠ b → (TX13 a).2.1 ≠ (TX13 b).2.1 := by decide +kernel
theorem tyX13_ok : ∀ k, k < 11 → parseFieldDescriptor (TX13 k).2.2.1 = some (tyX13 k) := by decide +kernel
abbrev cX13_init : ByteArray := prog_12_method_1_code
def yX13_init : MethodName := ⟨RX13, "<init>", "(ID)V"⟩
abbrev cX13_needs : ByteArray := prog_12_method_2_code
def yX13_needs : MethodName := ⟨RX13, "needs", "()I"⟩
abbrev cX13_wideOut : ByteArray := prog_12_method_3_code
def yX13_wideOut : MethodName := ⟨RX13, "wideOut", "(I)D"⟩
abbrev cX13_narrowOut : ByteArray := prog_12_method_4_code
def yX13_narrowOut : MethodName := ⟨RX13, "narrowOut", "(I)F"⟩
/-! TwinPanel$Part -/
def RX14 : String := "TwinPanel$Part"
def TX14 : u_T := fun k => match k with
  | 0 => ("TwinPanel$Module", "kind", "I", true)
  | 1 => ("TwinPanel$Module", "setting", "D", false)
  | 2 => ("TwinPanel$Module", "start", "D", false)
  | 3 => ("TwinPanel$Module", "from", "[LTwinPanel$Module;", true)
  | 4 => ("TwinPanel$Module", "number", "[I", true)
  | 5 => ("TwinPanel$Module", "turned", "[Z", true)
  | 6 => ("TwinPanel$Module", "wide", "D", false)
  | 7 => ("TwinPanel$Module", "narrow", "F", false)
  | 8 => ("TwinPanel$Module", "lamp", "I", false)
  | 9 => ("TwinPanel$Module", "apart", "D", false)
  | _ => ("TwinPanel$Module", "failsAt", "I", false)
def tyX14 : Nat → FieldType := fun k => match k with
  | 0 => .int
  | 1 => .double
  | 2 => .double
  | 3 => .array (.object "TwinPanel$Module")
  | 4 => .array .int
  | 5 => .array .boolean
  | 6 => .double
  | 7 => .float
  | 8 => .int
  | 9 => .double
  | _ => .int
abbrev wsX140 : List Cond := u_ws RX14 TX14 11
theorem nmX14 : ∀ a, a < 11 → ∀ b, b < 11 → a ≠ b → (TX14 a).2.1 ≠ (TX14 b).2.1 := by decide +kernel
theorem tyX14_ok : ∀ k, k < 11 → parseFieldDescriptor (TX14 k).2.2.1 = some (tyX14 k) := by decide +kernel
abbrev cX14_init : ByteArray := prog_9_method_1_code
def yX14_init : MethodName := ⟨RX14, "<init>", "(ID)V"⟩
abbrev cX14_wideOut : ByteArray := prog_9_method_2_code
def yX14_wideOut : MethodName := ⟨RX14, "wideOut", "(I)D"⟩
abbrev cX14_narrowOut : ByteArray := prog_9_method_3_code
def yX14_narrowOut : MethodName := ⟨RX14, "narrowOut", "(I)F"⟩
/-! TwinPanel$Delay -/
def RX15 : String := "TwinPanel$Delay"
def TX15 : u_T := fun k => match k with
  | 0 => ("TwinPanel$Module", "kind", "I", true)
  | 1 => ("TwinPanel$Module", "setting", "D", false)
  | 2 => ("TwinPanel$Module", "start", "D", false)
  | 3 => ("TwinPanel$Module", "from", "[LTwinPanel$Module;", true)
  | 4 => ("TwinPanel$Module", "number", "[I", true)
  | 5 => ("TwinPanel$Module", "turned", "[Z", true)
  | 6 => ("TwinPanel$Module", "wide", "D", false)
  | 7 => ("TwinPanel$Module", "narrow", "F", false)
  | 8 => ("TwinPanel$Module", "lamp", "I", false)
  | 9 => ("TwinPanel$Module", "apart", "D", false)
  | 10 => ("TwinPanel$Module", "failsAt", "I", false)
  | 11 => ("TwinPanel$Keeper", "wideState", "D", false)
  | 12 => ("TwinPanel$Keeper", "narrowState", "F", false)
  | 13 => ("TwinPanel$Delay", "wides", "[D", false)
  | 14 => ("TwinPanel$Delay", "narrows", "[F", false)
  | 15 => ("TwinPanel$Delay", "wideNext", "D", false)
  | _ => ("TwinPanel$Delay", "narrowNext", "F", false)
def tyX15 : Nat → FieldType := fun k => match k with
  | 0 => .int
  | 1 => .double
  | 2 => .double
  | 3 => .array (.object "TwinPanel$Module")
  | 4 => .array .int
  | 5 => .array .boolean
  | 6 => .double
  | 7 => .float
  | 8 => .int
  | 9 => .double
  | 10 => .int
  | 11 => .double
  | 12 => .float
  | 13 => .array .double
  | 14 => .array .float
  | 15 => .double
  | _ => .float
abbrev wsX150 : List Cond := u_ws RX15 TX15 17
set_option maxRecDepth 100000 in
theorem nmX15 : ∀ a, a < 17 → ∀ b, b < 17 → a ≠ b → (TX15 a).2.1 ≠ (TX15 b).2.1 := by decide +kernel
set_option maxRecDepth 100000 in
theorem tyX15_ok : ∀ k, k < 17 → parseFieldDescriptor (TX15 k).2.2.1 = some (tyX15 k) := by decide +kernel
abbrev cX15_init : ByteArray := prog_3_method_1_code
def yX15_init : MethodName := ⟨RX15, "<init>", "(ID)V"⟩
abbrev cX15_begin : ByteArray := prog_3_method_2_code
def yX15_begin : MethodName := ⟨RX15, "begin", "()V"⟩
abbrev cX15_take : ByteArray := prog_3_method_3_code
def yX15_take : MethodName := ⟨RX15, "take", "()V"⟩
abbrev cX15_become : ByteArray := prog_3_method_4_code
def yX15_become : MethodName := ⟨RX15, "become", "()V"⟩
/-! TwinPanel$Limit -/
def RX16 : String := "TwinPanel$Limit"
def TX16 : u_T := fun k => match k with
  | 0 => ("TwinPanel$Module", "kind", "I", true)
  | 1 => ("TwinPanel$Module", "setting", "D", false)
  | 2 => ("TwinPanel$Module", "start", "D", false)
  | 3 => ("TwinPanel$Module", "from", "[LTwinPanel$Module;", true)
  | 4 => ("TwinPanel$Module", "number", "[I", true)
  | 5 => ("TwinPanel$Module", "turned", "[Z", true)
  | 6 => ("TwinPanel$Module", "wide", "D", false)
  | 7 => ("TwinPanel$Module", "narrow", "F", false)
  | 8 => ("TwinPanel$Module", "lamp", "I", false)
  | 9 => ("TwinPanel$Module", "apart", "D", false)
  | _ => ("TwinPanel$Module", "failsAt", "I", false)
def tyX16 : Nat → FieldType := fun k => match k with
  | 0 => .int
  | 1 => .double
  | 2 => .double
  | 3 => .array (.object "TwinPanel$Module")
  | 4 => .array .int
  | 5 => .array .boolean
  | 6 => .double
  | 7 => .float
  | 8 => .int
  | 9 => .double
  | _ => .int
abbrev wsX160 : List Cond := u_ws RX16 TX16 11
theorem nmX16 : ∀ a, a < 11 → ∀ b, b < 11 → a ≠ b → (TX16 a).2.1 ≠ (TX16 b).2.1 := by decide +kernel
theorem tyX16_ok : ∀ k, k < 11 → parseFieldDescriptor (TX16 k).2.2.1 = some (tyX16 k) := by decide +kernel
abbrev cX16_init : ByteArray := prog_6_method_1_code
def yX16_init : MethodName := ⟨RX16, "<init>", "(ID)V"⟩
abbrev cX16_wideOut : ByteArray := prog_6_method_2_code
def yX16_wideOut : MethodName := ⟨RX16, "wideOut", "(I)D"⟩
abbrev cX16_narrowOut : ByteArray := prog_6_method_3_code
def yX16_narrowOut : MethodName := ⟨RX16, "narrowOut", "(I)F"⟩
/-! TwinPanel$Noise -/
def RX17 : String := "TwinPanel$Noise"
def TX17 : u_T := fun k => match k with
  | 0 => ("TwinPanel$Module", "kind", "I", true)
  | 1 => ("TwinPanel$Module", "setting", "D", false)
  | 2 => ("TwinPanel$Module", "start", "D", false)
  | 3 => ("TwinPanel$Module", "from", "[LTwinPanel$Module;", true)
  | 4 => ("TwinPanel$Module", "number", "[I", true)
  | 5 => ("TwinPanel$Module", "turned", "[Z", true)
  | 6 => ("TwinPanel$Module", "wide", "D", false)
  | 7 => ("TwinPanel$Module", "narrow", "F", false)
  | 8 => ("TwinPanel$Module", "lamp", "I", false)
  | 9 => ("TwinPanel$Module", "apart", "D", false)
  | 10 => ("TwinPanel$Module", "failsAt", "I", false)
  | 11 => ("TwinPanel$Keeper", "wideState", "D", false)
  | 12 => ("TwinPanel$Keeper", "narrowState", "F", false)
  | _ => ("TwinPanel$Noise", "seed", "I", false)
def tyX17 : Nat → FieldType := fun k => match k with
  | 0 => .int
  | 1 => .double
  | 2 => .double
  | 3 => .array (.object "TwinPanel$Module")
  | 4 => .array .int
  | 5 => .array .boolean
  | 6 => .double
  | 7 => .float
  | 8 => .int
  | 9 => .double
  | 10 => .int
  | 11 => .double
  | 12 => .float
  | _ => .int
abbrev wsX170 : List Cond := u_ws RX17 TX17 14
set_option maxRecDepth 100000 in
theorem nmX17 : ∀ a, a < 14 → ∀ b, b < 14 → a ≠ b → (TX17 a).2.1 ≠ (TX17 b).2.1 := by decide +kernel
set_option maxRecDepth 100000 in
theorem tyX17_ok : ∀ k, k < 14 → parseFieldDescriptor (TX17 k).2.2.1 = some (tyX17 k) := by decide +kernel
abbrev cX17_init : ByteArray := prog_8_method_1_code
def yX17_init : MethodName := ⟨RX17, "<init>", "(ID)V"⟩
abbrev cX17_needs : ByteArray := prog_8_method_2_code
def yX17_needs : MethodName := ⟨RX17, "needs", "()I"⟩
abbrev cX17_begin : ByteArray := prog_8_method_3_code
def yX17_begin : MethodName := ⟨RX17, "begin", "()V"⟩
abbrev cX17_become : ByteArray := prog_8_method_4_code
def yX17_become : MethodName := ⟨RX17, "become", "()V"⟩
/-! java/lang/Double -/
def RJ0 : String := "java/lang/Double"
abbrev cJ0_doubleToLongBits : ByteArray := prog_20_method_23_code
def yJ0_doubleToLongBits : MethodName := ⟨RJ0, "doubleToLongBits", "(D)J"⟩
abbrev cJ0_isNaN : ByteArray := prog_20_method_6_code
def yJ0_isNaN : MethodName := ⟨RJ0, "isNaN", "(D)Z"⟩
/-! java/lang/Math -/
def RJ1 : String := "java/lang/Math"
abbrev cJ1_rint : ByteArray := prog_25_method_18_code
def yJ1_rint : MethodName := ⟨RJ1, "rint", "(D)D"⟩
abbrev cJ1_copySign : ByteArray := prog_25_method_89_code
def yJ1_copySign : MethodName := ⟨RJ1, "copySign", "(DD)D"⟩
abbrev cJ1_abs : ByteArray := prog_25_method_64_code
def yJ1_abs : MethodName := ⟨RJ1, "abs", "(D)D"⟩
abbrev cJ1_max : ByteArray := prog_25_method_65_code
def yJ1_max : MethodName := ⟨RJ1, "max", "(II)I"⟩
abbrev cJ1_sqrt : ByteArray := prog_25_method_13_code
def yJ1_sqrt : MethodName := ⟨RJ1, "sqrt", "(D)D"⟩
abbrev cJ1_max_2 : ByteArray := prog_25_method_68_code
def yJ1_max_2 : MethodName := ⟨RJ1, "max", "(DD)D"⟩
/-! java/lang/StrictMath -/
def RJ2 : String := "java/lang/StrictMath"
abbrev cJ2_rint : ByteArray := prog_27_method_19_code
def yJ2_rint : MethodName := ⟨RJ2, "rint", "(D)D"⟩
abbrev cJ2_sqrt : ByteArray := prog_27_method_13_code
def yJ2_sqrt : MethodName := ⟨RJ2, "sqrt", "(D)D"⟩
/-! java/lang/FdLibm$Sqrt -/
def RJ3 : String := "java/lang/FdLibm$Sqrt"
abbrev cJ3_compute : ByteArray := prog_22_method_2_code
def yJ3_compute : MethodName := ⟨RJ3, "compute", "(D)D"⟩
/-! java/lang/FdLibm -/
def RJ4 : String := "java/lang/FdLibm"
abbrev cJ4___HI : ByteArray := prog_21_method_4_code
def yJ4___HI : MethodName := ⟨RJ4, "__HI", "(D)I"⟩
abbrev cJ4___LO : ByteArray := prog_21_method_2_code
def yJ4___LO : MethodName := ⟨RJ4, "__LO", "(D)I"⟩
abbrev cJ4___HI_LO : ByteArray := prog_21_method_6_code
def yJ4___HI_LO : MethodName := ⟨RJ4, "__HI_LO", "(II)D"⟩
/-! java/lang/Integer -/
def RJ5 : String := "java/lang/Integer"
abbrev cJ5_compareUnsigned : ByteArray := prog_24_method_41_code
def yJ5_compareUnsigned : MethodName := ⟨RJ5, "compareUnsigned", "(II)I"⟩
abbrev cJ5_compare : ByteArray := prog_24_method_40_code
def yJ5_compare : MethodName := ⟨RJ5, "compare", "(II)I"⟩
/-! java/lang/Float -/
def RJ6 : String := "java/lang/Float"
abbrev cJ6_floatToIntBits : ByteArray := prog_23_method_24_code
def yJ6_floatToIntBits : MethodName := ⟨RJ6, "floatToIntBits", "(F)I"⟩
abbrev cJ6_isNaN : ByteArray := prog_23_method_6_code
def yJ6_isNaN : MethodName := ⟨RJ6, "isNaN", "(F)Z"⟩
/-! java/lang/Object -/
def RJ7 : String := "java/lang/Object"
abbrev cJ7_init : ByteArray := object_method_1_code
def yJ7_init : MethodName := ⟨RJ7, "<init>", "()V"⟩
/-! the law's own entry -/
abbrev cL_law : ByteArray := code
theorem q52 : (Jvm.Cond.initialized "TwinPanel") ∈ lw_all := lw_g (lw_at lw_m1 1 rfl) rfl
theorem q80 : (Jvm.Cond.instantiable "TwinPanel" (17 : Nat)) ∈ lw_all := lw_g (lw_at lw_m1 29 rfl) rfl
theorem q82 : (Jvm.Cond.instanceMethod ({ cls := "TwinPanel", name := "<init>", desc := "()V" } : Jvm.MethodName)) ∈ lw_all := lw_g (lw_at lw_m1 31 rfl) rfl
theorem q83 : (Jvm.Cond.code ({ cls := "TwinPanel", name := "<init>", desc := "()V" } : Jvm.MethodName) prog_1_method_3_code (1 : Nat) (Option.none : Option Jvm.ClassFile.FieldType)) ∈ lw_all := lw_g (lw_at lw_m1 32 rfl) rfl
theorem q84 : (Jvm.Cond.methodLink "TwinPanel" (46 : Nat) ({ cls := "java/lang/Object", name := "<init>", desc := "()V" } : Jvm.MethodName)) ∈ lw_all := lw_g (lw_at lw_m1 33 rfl) rfl
theorem q87 : (Jvm.Cond.classLink "TwinPanel" (53 : Nat) "TwinPanel$Module") ∈ lw_all := lw_g (lw_at lw_m1 36 rfl) rfl
theorem q89 : (Jvm.Cond.fieldLink "TwinPanel" (55 : Nat) "TwinPanel" "modules" "[LTwinPanel$Module;") ∈ lw_all := lw_g (lw_at lw_m1 38 rfl) rfl
theorem q90 : (Jvm.Cond.fieldLink "TwinPanel" (91 : Nat) "TwinPanel" "many" "I") ∈ lw_all := lw_g (lw_at lw_m1 39 rfl) rfl
theorem q91 : (Jvm.Cond.fieldLink "TwinPanel" (88 : Nat) "TwinPanel" "mode" "I") ∈ lw_all := lw_g (lw_at lw_m1 40 rfl) rfl
theorem q92 : (Jvm.Cond.fieldLink "TwinPanel" (174 : Nat) "TwinPanel" "rule" "I") ∈ lw_all := lw_g (lw_at lw_m1 41 rfl) rfl
theorem q93 : (Jvm.Cond.fieldLink "TwinPanel" (59 : Nat) "TwinPanel" "power" "I") ∈ lw_all := lw_g (lw_at lw_m1 42 rfl) rfl
theorem q94 : (Jvm.Cond.fieldLink "TwinPanel" (208 : Nat) "TwinPanel" "time" "I") ∈ lw_all := lw_g (lw_at lw_m1 43 rfl) rfl
theorem q95 : (Jvm.Cond.fieldLink "TwinPanel" (282 : Nat) "TwinPanel" "stepsEver" "I") ∈ lw_all := lw_g (lw_at lw_m1 44 rfl) rfl
theorem q96 : (Jvm.Cond.fieldLink "TwinPanel" (185 : Nat) "TwinPanel" "broken" "I") ∈ lw_all := lw_g (lw_at lw_m1 45 rfl) rfl
theorem q97 : (Jvm.Cond.fieldLink "TwinPanel" (63 : Nat) "TwinPanel" "stripOf" "[I") ∈ lw_all := lw_g (lw_at lw_m1 46 rfl) rfl
theorem q98 : (Jvm.Cond.fieldLink "TwinPanel" (249 : Nat) "TwinPanel" "strips" "I") ∈ lw_all := lw_g (lw_at lw_m1 47 rfl) rfl
theorem q99 : (Jvm.Cond.fieldLink "TwinPanel" (67 : Nat) "TwinPanel" "samples" "[D") ∈ lw_all := lw_g (lw_at lw_m1 48 rfl) rfl
theorem q100 : (Jvm.Cond.fieldLink "TwinPanel" (71 : Nat) "TwinPanel" "sampled" "[I") ∈ lw_all := lw_g (lw_at lw_m1 49 rfl) rfl
theorem q101 : (Jvm.Cond.fieldLink "TwinPanel" (74 : Nat) "TwinPanel" "swept" "[J") ∈ lw_all := lw_g (lw_at lw_m1 50 rfl) rfl
theorem q102 : (Jvm.Cond.fieldLink "TwinPanel" (327 : Nat) "TwinPanel" "sweptMany" "I") ∈ lw_all := lw_g (lw_at lw_m1 51 rfl) rfl
theorem q103 : (Jvm.Cond.fieldLink "TwinPanel" (78 : Nat) "TwinPanel" "levels" "[I") ∈ lw_all := lw_g (lw_at lw_m1 52 rfl) rfl
theorem q104 : (Jvm.Cond.fieldLink "TwinPanel" (81 : Nat) "TwinPanel" "reached" "[Z") ∈ lw_all := lw_g (lw_at lw_m1 53 rfl) rfl
theorem q105 : (Jvm.Cond.fieldLink "TwinPanel" (85 : Nat) "TwinPanel" "order" "[I") ∈ lw_all := lw_g (lw_at lw_m1 54 rfl) rfl
theorem q106 : (Jvm.Cond.laysFinal "TwinPanel" "TwinPanel" "modules" "[LTwinPanel$Module;") ∈ lw_all := lw_g (lw_at lw_m1 55 rfl) rfl
theorem q107 : (Jvm.Cond.soleField "TwinPanel" "modules") ∈ lw_all := lw_g (lw_at lw_m1 56 rfl) rfl
theorem q108 : (Jvm.Cond.lays "TwinPanel" "TwinPanel" "many" "I") ∈ lw_all := lw_g (lw_at lw_m1 57 rfl) rfl
theorem q109 : (Jvm.Cond.soleField "TwinPanel" "many") ∈ lw_all := lw_g (lw_at lw_m1 58 rfl) rfl
theorem q110 : (Jvm.Cond.lays "TwinPanel" "TwinPanel" "mode" "I") ∈ lw_all := lw_g (lw_at lw_m1 59 rfl) rfl
theorem q111 : (Jvm.Cond.soleField "TwinPanel" "mode") ∈ lw_all := lw_g (lw_at lw_m1 60 rfl) rfl
theorem q112 : (Jvm.Cond.lays "TwinPanel" "TwinPanel" "rule" "I") ∈ lw_all := lw_g (lw_at lw_m1 61 rfl) rfl
theorem q113 : (Jvm.Cond.soleField "TwinPanel" "rule") ∈ lw_all := lw_g (lw_at lw_m1 62 rfl) rfl
theorem q114 : (Jvm.Cond.lays "TwinPanel" "TwinPanel" "power" "I") ∈ lw_all := lw_g (lw_at lw_m1 63 rfl) rfl
theorem q115 : (Jvm.Cond.soleField "TwinPanel" "power") ∈ lw_all := lw_g (lw_at lw_m1 64 rfl) rfl
theorem q116 : (Jvm.Cond.lays "TwinPanel" "TwinPanel" "time" "I") ∈ lw_all := lw_g (lw_at lw_m1 65 rfl) rfl
theorem q117 : (Jvm.Cond.soleField "TwinPanel" "time") ∈ lw_all := lw_g (lw_at lw_m1 66 rfl) rfl
theorem q118 : (Jvm.Cond.lays "TwinPanel" "TwinPanel" "stepsEver" "I") ∈ lw_all := lw_g (lw_at lw_m1 67 rfl) rfl
theorem q119 : (Jvm.Cond.soleField "TwinPanel" "stepsEver") ∈ lw_all := lw_g (lw_at lw_m1 68 rfl) rfl
theorem q120 : (Jvm.Cond.lays "TwinPanel" "TwinPanel" "broken" "I") ∈ lw_all := lw_g (lw_at lw_m1 69 rfl) rfl
theorem q121 : (Jvm.Cond.soleField "TwinPanel" "broken") ∈ lw_all := lw_g (lw_at lw_m1 70 rfl) rfl
theorem q122 : (Jvm.Cond.laysFinal "TwinPanel" "TwinPanel" "stripOf" "[I") ∈ lw_all := lw_g (lw_at lw_m1 71 rfl) rfl
theorem q123 : (Jvm.Cond.soleField "TwinPanel" "stripOf") ∈ lw_all := lw_g (lw_at lw_m1 72 rfl) rfl
theorem q124 : (Jvm.Cond.lays "TwinPanel" "TwinPanel" "strips" "I") ∈ lw_all := lw_g (lw_at lw_m1 73 rfl) rfl
theorem q125 : (Jvm.Cond.soleField "TwinPanel" "strips") ∈ lw_all := lw_g (lw_at lw_m1 74 rfl) rfl
theorem q126 : (Jvm.Cond.laysFinal "TwinPanel" "TwinPanel" "samples" "[D") ∈ lw_all := lw_g (lw_at lw_m1 75 rfl) rfl
theorem q127 : (Jvm.Cond.soleField "TwinPanel" "samples") ∈ lw_all := lw_g (lw_at lw_m1 76 rfl) rfl
theorem q128 : (Jvm.Cond.laysFinal "TwinPanel" "TwinPanel" "sampled" "[I") ∈ lw_all := lw_g (lw_at lw_m1 77 rfl) rfl
theorem q129 : (Jvm.Cond.soleField "TwinPanel" "sampled") ∈ lw_all := lw_g (lw_at lw_m1 78 rfl) rfl
theorem q130 : (Jvm.Cond.laysFinal "TwinPanel" "TwinPanel" "swept" "[J") ∈ lw_all := lw_g (lw_at lw_m1 79 rfl) rfl
theorem q131 : (Jvm.Cond.soleField "TwinPanel" "swept") ∈ lw_all := lw_g (lw_at lw_m1 80 rfl) rfl
theorem q132 : (Jvm.Cond.lays "TwinPanel" "TwinPanel" "sweptMany" "I") ∈ lw_all := lw_g (lw_at lw_m1 81 rfl) rfl
theorem q133 : (Jvm.Cond.soleField "TwinPanel" "sweptMany") ∈ lw_all := lw_g (lw_at lw_m1 82 rfl) rfl
theorem q134 : (Jvm.Cond.laysFinal "TwinPanel" "TwinPanel" "levels" "[I") ∈ lw_all := lw_g (lw_at lw_m1 83 rfl) rfl
theorem q135 : (Jvm.Cond.soleField "TwinPanel" "levels") ∈ lw_all := lw_g (lw_at lw_m1 84 rfl) rfl
theorem q136 : (Jvm.Cond.laysFinal "TwinPanel" "TwinPanel" "reached" "[Z") ∈ lw_all := lw_g (lw_at lw_m1 85 rfl) rfl
theorem q137 : (Jvm.Cond.soleField "TwinPanel" "reached") ∈ lw_all := lw_g (lw_at lw_m1 86 rfl) rfl
theorem q138 : (Jvm.Cond.laysFinal "TwinPanel" "TwinPanel" "order" "[I") ∈ lw_all := lw_g (lw_at lw_m1 87 rfl) rfl
theorem q139 : (Jvm.Cond.soleField "TwinPanel" "order") ∈ lw_all := lw_g (lw_at lw_m1 88 rfl) rfl
theorem q140 : (Jvm.Cond.superclass "TwinPanel" "java/lang/Object") ∈ lw_all := lw_g (lw_at lw_m1 89 rfl) rfl
theorem q146 : (Jvm.Cond.instanceMethod ({ cls := "TwinPanel", name := "module", desc := "(IJ)I" } : Jvm.MethodName)) ∈ lw_all := lw_g (lw_at lw_m1 95 rfl) rfl
theorem q147 : (Jvm.Cond.selects "TwinPanel" ({ cls := "TwinPanel", name := "module", desc := "(IJ)I" } : Jvm.MethodName) ({ cls := "TwinPanel", name := "module", desc := "(IJ)I" } : Jvm.MethodName)) ∈ lw_all := lw_g (lw_at lw_m1 96 rfl) rfl
theorem q148 : (Jvm.Cond.code ({ cls := "TwinPanel", name := "module", desc := "(IJ)I" } : Jvm.MethodName) prog_1_method_8_code (4 : Nat) (Option.some Jvm.ClassFile.FieldType.int)) ∈ lw_all := lw_g (lw_at lw_m1 97 rfl) rfl
theorem q149 : (Jvm.Cond.methodLink "TwinPanel" (94 : Nat) ({ cls := "TwinPanel", name := "isIn", desc := "(III)Z" } : Jvm.MethodName)) ∈ lw_all := lw_g (lw_at lw_m1 98 rfl) rfl
theorem q150 : (Jvm.Cond.static ({ cls := "TwinPanel", name := "isIn", desc := "(III)Z" } : Jvm.MethodName)) ∈ lw_all := lw_g (lw_at lw_m1 99 rfl) rfl
theorem q151 : (Jvm.Cond.code ({ cls := "TwinPanel", name := "isIn", desc := "(III)Z" } : Jvm.MethodName) prog_1_method_1_code (3 : Nat) (Option.some Jvm.ClassFile.FieldType.boolean)) ∈ lw_all := lw_g (lw_at lw_m1 100 rfl) rfl
theorem q152 : (Jvm.Cond.methodLink "TwinPanel" (130 : Nat) ({ cls := "TwinPanel", name := "isSetting", desc := "(IJ)Z" } : Jvm.MethodName)) ∈ lw_all := lw_g (lw_at lw_m1 101 rfl) rfl
theorem q153 : (Jvm.Cond.static ({ cls := "TwinPanel", name := "isSetting", desc := "(IJ)Z" } : Jvm.MethodName)) ∈ lw_all := lw_g (lw_at lw_m1 102 rfl) rfl
theorem q154 : (Jvm.Cond.code ({ cls := "TwinPanel", name := "isSetting", desc := "(IJ)Z" } : Jvm.MethodName) prog_1_method_7_code (3 : Nat) (Option.some Jvm.ClassFile.FieldType.boolean)) ∈ lw_all := lw_g (lw_at lw_m1 103 rfl) rfl
theorem q155 : (Jvm.Cond.constantDouble "TwinPanel" (112 : Nat) (13830554455654793216 : UInt64)) ∈ lw_all := lw_g (lw_at lw_m1 104 rfl) rfl
theorem q156 : (Jvm.Cond.methodLink "TwinPanel" (114 : Nat) ({ cls := "TwinPanel", name := "isWithin", desc := "(JDD)Z" } : Jvm.MethodName)) ∈ lw_all := lw_g (lw_at lw_m1 105 rfl) rfl
theorem q157 : (Jvm.Cond.static ({ cls := "TwinPanel", name := "isWithin", desc := "(JDD)Z" } : Jvm.MethodName)) ∈ lw_all := lw_g (lw_at lw_m1 106 rfl) rfl
theorem q158 : (Jvm.Cond.code ({ cls := "TwinPanel", name := "isWithin", desc := "(JDD)Z" } : Jvm.MethodName) prog_1_method_6_code (8 : Nat) (Option.some Jvm.ClassFile.FieldType.boolean)) ∈ lw_all := lw_g (lw_at lw_m1 107 rfl) rfl
theorem q159 : (Jvm.Cond.methodLink "TwinPanel" (102 : Nat) ({ cls := "TwinPanel", name := "isNumber", desc := "(J)Z" } : Jvm.MethodName)) ∈ lw_all := lw_g (lw_at lw_m1 108 rfl) rfl
theorem q160 : (Jvm.Cond.static ({ cls := "TwinPanel", name := "isNumber", desc := "(J)Z" } : Jvm.MethodName)) ∈ lw_all := lw_g (lw_at lw_m1 109 rfl) rfl
theorem q161 : (Jvm.Cond.code ({ cls := "TwinPanel", name := "isNumber", desc := "(J)Z" } : Jvm.MethodName) prog_1_method_5_code (2 : Nat) (Option.some Jvm.ClassFile.FieldType.boolean)) ∈ lw_all := lw_g (lw_at lw_m1 110 rfl) rfl
theorem q162 : (Jvm.Cond.constantLong "TwinPanel" (98 : Nat) (9223372036854775807 : Int64)) ∈ lw_all := lw_g (lw_at lw_m1 111 rfl) rfl
theorem q163 : (Jvm.Cond.constantLong "TwinPanel" (100 : Nat) (9218868437227405312 : Int64)) ∈ lw_all := lw_g (lw_at lw_m1 112 rfl) rfl
theorem q164 : (Jvm.Cond.methodLink "TwinPanel" (106 : Nat) ({ cls := "java/lang/Double", name := "longBitsToDouble", desc := "(J)D" } : Jvm.MethodName)) ∈ lw_all := lw_g (lw_at lw_m1 113 rfl) rfl
theorem q167 : (Jvm.Cond.constantDouble "TwinPanel" (118 : Nat) (4625196817309499392 : UInt64)) ∈ lw_all := lw_g (lw_at lw_m1 116 rfl) rfl
theorem q168 : (Jvm.Cond.methodLink "TwinPanel" (120 : Nat) ({ cls := "java/lang/Math", name := "rint", desc := "(D)D" } : Jvm.MethodName)) ∈ lw_all := lw_g (lw_at lw_m1 117 rfl) rfl
theorem q187 : (Jvm.Cond.constantDouble "TwinPanel" (126 : Nat) (4609434218613702656 : UInt64)) ∈ lw_all := lw_g (lw_at lw_m1 136 rfl) rfl
theorem q188 : (Jvm.Cond.constantDouble "TwinPanel" (128 : Nat) (4696837146684686336 : UInt64)) ∈ lw_all := lw_g (lw_at lw_m1 137 rfl) rfl
theorem q189 : (Jvm.Cond.methodLink "TwinPanel" (134 : Nat) ({ cls := "TwinPanel", name := "newModule", desc := "(ID)LTwinPanel$Module;" } : Jvm.MethodName)) ∈ lw_all := lw_g (lw_at lw_m1 138 rfl) rfl
theorem q190 : (Jvm.Cond.static ({ cls := "TwinPanel", name := "newModule", desc := "(ID)LTwinPanel$Module;" } : Jvm.MethodName)) ∈ lw_all := lw_g (lw_at lw_m1 139 rfl) rfl
theorem q191 : (Jvm.Cond.code ({ cls := "TwinPanel", name := "newModule", desc := "(ID)LTwinPanel$Module;" } : Jvm.MethodName) prog_1_method_2_code (3 : Nat) (Option.some (Jvm.ClassFile.FieldType.object "TwinPanel$Module"))) ∈ lw_all := lw_g (lw_at lw_m1 140 rfl) rfl
theorem q192 : (Jvm.Cond.classLink "TwinPanel" (1 : Nat) "TwinPanel$Sum") ∈ lw_all := lw_g (lw_at lw_m1 141 rfl) rfl
theorem q194 : (Jvm.Cond.methodLink "TwinPanel" (3 : Nat) ({ cls := "TwinPanel$Sum", name := "<init>", desc := "(ID)V" } : Jvm.MethodName)) ∈ lw_all := lw_g (lw_at lw_m1 143 rfl) rfl
theorem q203 : (Jvm.Cond.fieldLink "TwinPanel" (151 : Nat) "TwinPanel$Module" "kind" "I") ∈ lw_all := lw_g (lw_at lw_m1 152 rfl) rfl
theorem q213 : (Jvm.Cond.fieldLink "TwinPanel" (171 : Nat) "TwinPanel$Module" "setting" "D") ∈ lw_all := lw_g (lw_at lw_m1 162 rfl) rfl
theorem q218 : (Jvm.Cond.fieldLink "TwinPanel" (167 : Nat) "TwinPanel$Module" "start" "D") ∈ lw_all := lw_g (lw_at lw_m1 167 rfl) rfl
theorem q220 : (Jvm.Cond.fieldLink "TwinPanel" (142 : Nat) "TwinPanel$Module" "from" "[LTwinPanel$Module;") ∈ lw_all := lw_g (lw_at lw_m1 169 rfl) rfl
theorem q222 : (Jvm.Cond.fieldLink "TwinPanel" (145 : Nat) "TwinPanel$Module" "number" "[I") ∈ lw_all := lw_g (lw_at lw_m1 171 rfl) rfl
theorem q224 : (Jvm.Cond.fieldLink "TwinPanel" (148 : Nat) "TwinPanel$Module" "turned" "[Z") ∈ lw_all := lw_g (lw_at lw_m1 173 rfl) rfl
theorem q226 : (Jvm.Cond.fieldLink "TwinPanel" (252 : Nat) "TwinPanel$Module" "wide" "D") ∈ lw_all := lw_g (lw_at lw_m1 175 rfl) rfl
theorem q228 : (Jvm.Cond.fieldLink "TwinPanel" (292 : Nat) "TwinPanel$Module" "narrow" "F") ∈ lw_all := lw_g (lw_at lw_m1 177 rfl) rfl
theorem q230 : (Jvm.Cond.fieldLink "TwinPanel" (302 : Nat) "TwinPanel$Module" "lamp" "I") ∈ lw_all := lw_g (lw_at lw_m1 179 rfl) rfl
theorem q232 : (Jvm.Cond.fieldLink "TwinPanel" (305 : Nat) "TwinPanel$Module" "apart" "D") ∈ lw_all := lw_g (lw_at lw_m1 181 rfl) rfl
theorem q233 : (Jvm.Cond.fieldLink "TwinPanel" (267 : Nat) "TwinPanel$Module" "failsAt" "I") ∈ lw_all := lw_g (lw_at lw_m1 182 rfl) rfl
theorem q257 : (Jvm.Cond.classLink "TwinPanel" (7 : Nat) "TwinPanel$Turn") ∈ lw_all := lw_g (lw_at lw_m1 206 rfl) rfl
theorem q259 : (Jvm.Cond.methodLink "TwinPanel" (9 : Nat) ({ cls := "TwinPanel$Turn", name := "<init>", desc := "(ID)V" } : Jvm.MethodName)) ∈ lw_all := lw_g (lw_at lw_m1 208 rfl) rfl
theorem q275 : (Jvm.Cond.classLink "TwinPanel" (10 : Nat) "TwinPanel$Gather") ∈ lw_all := lw_g (lw_at lw_m1 224 rfl) rfl
theorem q277 : (Jvm.Cond.methodLink "TwinPanel" (12 : Nat) ({ cls := "TwinPanel$Gather", name := "<init>", desc := "(ID)V" } : Jvm.MethodName)) ∈ lw_all := lw_g (lw_at lw_m1 226 rfl) rfl
theorem q288 : (Jvm.Cond.fieldLink "TwinPanel" (261 : Nat) "TwinPanel$Gather" "startRate" "D") ∈ lw_all := lw_g (lw_at lw_m1 237 rfl) rfl
theorem q334 : (Jvm.Cond.classLink "TwinPanel" (13 : Nat) "TwinPanel$Track") ∈ lw_all := lw_g (lw_at lw_m2 43 rfl) rfl
theorem q336 : (Jvm.Cond.methodLink "TwinPanel" (15 : Nat) ({ cls := "TwinPanel$Track", name := "<init>", desc := "(ID)V" } : Jvm.MethodName)) ∈ lw_all := lw_g (lw_at lw_m2 45 rfl) rfl
theorem q360 : (Jvm.Cond.classLink "TwinPanel" (16 : Nat) "TwinPanel$Product") ∈ lw_all := lw_g (lw_at lw_m2 69 rfl) rfl
theorem q362 : (Jvm.Cond.methodLink "TwinPanel" (18 : Nat) ({ cls := "TwinPanel$Product", name := "<init>", desc := "(ID)V" } : Jvm.MethodName)) ∈ lw_all := lw_g (lw_at lw_m2 71 rfl) rfl
theorem q378 : (Jvm.Cond.classLink "TwinPanel" (19 : Nat) "TwinPanel$Quotient") ∈ lw_all := lw_g (lw_at lw_m2 87 rfl) rfl
theorem q380 : (Jvm.Cond.methodLink "TwinPanel" (21 : Nat) ({ cls := "TwinPanel$Quotient", name := "<init>", desc := "(ID)V" } : Jvm.MethodName)) ∈ lw_all := lw_g (lw_at lw_m2 89 rfl) rfl
theorem q396 : (Jvm.Cond.classLink "TwinPanel" (22 : Nat) "TwinPanel$Root") ∈ lw_all := lw_g (lw_at lw_m2 105 rfl) rfl
theorem q398 : (Jvm.Cond.methodLink "TwinPanel" (24 : Nat) ({ cls := "TwinPanel$Root", name := "<init>", desc := "(ID)V" } : Jvm.MethodName)) ∈ lw_all := lw_g (lw_at lw_m2 107 rfl) rfl
theorem q414 : (Jvm.Cond.classLink "TwinPanel" (25 : Nat) "TwinPanel$Table") ∈ lw_all := lw_g (lw_at lw_m2 123 rfl) rfl
theorem q416 : (Jvm.Cond.methodLink "TwinPanel" (27 : Nat) ({ cls := "TwinPanel$Table", name := "<init>", desc := "(ID)V" } : Jvm.MethodName)) ∈ lw_all := lw_g (lw_at lw_m2 125 rfl) rfl
theorem q421 : (Jvm.Cond.fieldLink "TwinPanel" (157 : Nat) "TwinPanel$Table" "x" "[D") ∈ lw_all := lw_g (lw_at lw_m2 130 rfl) rfl
theorem q423 : (Jvm.Cond.fieldLink "TwinPanel" (160 : Nat) "TwinPanel$Table" "y" "[D") ∈ lw_all := lw_g (lw_at lw_m2 132 rfl) rfl
theorem q425 : (Jvm.Cond.fieldLink "TwinPanel" (156 : Nat) "TwinPanel$Table" "many" "I") ∈ lw_all := lw_g (lw_at lw_m2 134 rfl) rfl
theorem q444 : (Jvm.Cond.classLink "TwinPanel" (28 : Nat) "TwinPanel$Compare") ∈ lw_all := lw_g (lw_at lw_m2 153 rfl) rfl
theorem q446 : (Jvm.Cond.methodLink "TwinPanel" (30 : Nat) ({ cls := "TwinPanel$Compare", name := "<init>", desc := "(ID)V" } : Jvm.MethodName)) ∈ lw_all := lw_g (lw_at lw_m2 155 rfl) rfl
theorem q462 : (Jvm.Cond.classLink "TwinPanel" (31 : Nat) "TwinPanel$Relay") ∈ lw_all := lw_g (lw_at lw_m2 171 rfl) rfl
theorem q464 : (Jvm.Cond.methodLink "TwinPanel" (33 : Nat) ({ cls := "TwinPanel$Relay", name := "<init>", desc := "(ID)V" } : Jvm.MethodName)) ∈ lw_all := lw_g (lw_at lw_m2 173 rfl) rfl
theorem q480 : (Jvm.Cond.classLink "TwinPanel" (34 : Nat) "TwinPanel$Part") ∈ lw_all := lw_g (lw_at lw_m2 189 rfl) rfl
theorem q482 : (Jvm.Cond.methodLink "TwinPanel" (36 : Nat) ({ cls := "TwinPanel$Part", name := "<init>", desc := "(ID)V" } : Jvm.MethodName)) ∈ lw_all := lw_g (lw_at lw_m2 191 rfl) rfl
theorem q498 : (Jvm.Cond.classLink "TwinPanel" (37 : Nat) "TwinPanel$Delay") ∈ lw_all := lw_g (lw_at lw_m2 207 rfl) rfl
theorem q500 : (Jvm.Cond.methodLink "TwinPanel" (39 : Nat) ({ cls := "TwinPanel$Delay", name := "<init>", desc := "(ID)V" } : Jvm.MethodName)) ∈ lw_all := lw_g (lw_at lw_m2 209 rfl) rfl
theorem q530 : (Jvm.Cond.classLink "TwinPanel" (40 : Nat) "TwinPanel$Limit") ∈ lw_all := lw_g (lw_at lw_m2 239 rfl) rfl
theorem q532 : (Jvm.Cond.methodLink "TwinPanel" (42 : Nat) ({ cls := "TwinPanel$Limit", name := "<init>", desc := "(ID)V" } : Jvm.MethodName)) ∈ lw_all := lw_g (lw_at lw_m3 1 rfl) rfl
theorem q548 : (Jvm.Cond.classLink "TwinPanel" (43 : Nat) "TwinPanel$Noise") ∈ lw_all := lw_g (lw_at lw_m3 17 rfl) rfl
theorem q550 : (Jvm.Cond.methodLink "TwinPanel" (45 : Nat) ({ cls := "TwinPanel$Noise", name := "<init>", desc := "(ID)V" } : Jvm.MethodName)) ∈ lw_all := lw_g (lw_at lw_m3 19 rfl) rfl
theorem q572 : (Jvm.Cond.instanceMethod ({ cls := "TwinPanel", name := "cord", desc := "(IIIZ)I" } : Jvm.MethodName)) ∈ lw_all := lw_g (lw_at lw_m3 41 rfl) rfl
theorem q573 : (Jvm.Cond.selects "TwinPanel" ({ cls := "TwinPanel", name := "cord", desc := "(IIIZ)I" } : Jvm.MethodName) ({ cls := "TwinPanel", name := "cord", desc := "(IIIZ)I" } : Jvm.MethodName)) ∈ lw_all := lw_g (lw_at lw_m3 42 rfl) rfl
theorem q574 : (Jvm.Cond.code ({ cls := "TwinPanel", name := "cord", desc := "(IIIZ)I" } : Jvm.MethodName) prog_1_method_9_code (6 : Nat) (Option.some Jvm.ClassFile.FieldType.int)) ∈ lw_all := lw_g (lw_at lw_m3 43 rfl) rfl
theorem q575 : (Jvm.Cond.methodLink "TwinPanel" (138 : Nat) ({ cls := "TwinPanel", name := "isModule", desc := "(I)Z" } : Jvm.MethodName)) ∈ lw_all := lw_g (lw_at lw_m3 44 rfl) rfl
theorem q576 : (Jvm.Cond.privateMethod ({ cls := "TwinPanel", name := "isModule", desc := "(I)Z" } : Jvm.MethodName)) ∈ lw_tbl := lw_at lw_m3 45 rfl
theorem q577 : (Jvm.Cond.instanceMethod ({ cls := "TwinPanel", name := "isModule", desc := "(I)Z" } : Jvm.MethodName)) ∈ lw_all := lw_g (lw_at lw_m3 46 rfl) rfl
theorem q578 : (Jvm.Cond.code ({ cls := "TwinPanel", name := "isModule", desc := "(I)Z" } : Jvm.MethodName) prog_1_method_4_code (2 : Nat) (Option.some Jvm.ClassFile.FieldType.boolean)) ∈ lw_all := lw_g (lw_at lw_m3 47 rfl) rfl
theorem q580 : (Jvm.Cond.instanceMethod ({ cls := "TwinPanel", name := "point", desc := "(IJJ)I" } : Jvm.MethodName)) ∈ lw_all := lw_g (lw_at lw_m3 49 rfl) rfl
theorem q581 : (Jvm.Cond.selects "TwinPanel" ({ cls := "TwinPanel", name := "point", desc := "(IJJ)I" } : Jvm.MethodName) ({ cls := "TwinPanel", name := "point", desc := "(IJJ)I" } : Jvm.MethodName)) ∈ lw_all := lw_g (lw_at lw_m3 50 rfl) rfl
theorem q582 : (Jvm.Cond.code ({ cls := "TwinPanel", name := "point", desc := "(IJJ)I" } : Jvm.MethodName) prog_1_method_10_code (9 : Nat) (Option.some Jvm.ClassFile.FieldType.int)) ∈ lw_all := lw_g (lw_at lw_m3 51 rfl) rfl
theorem q583 : (Jvm.Cond.constantDouble "TwinPanel" (154 : Nat) (13832806255468478464 : UInt64)) ∈ lw_all := lw_g (lw_at lw_m3 52 rfl) rfl
theorem q585 : (Jvm.Cond.instanceMethod ({ cls := "TwinPanel", name := "begin", desc := "(IJ)I" } : Jvm.MethodName)) ∈ lw_all := lw_g (lw_at lw_m3 54 rfl) rfl
theorem q586 : (Jvm.Cond.selects "TwinPanel" ({ cls := "TwinPanel", name := "begin", desc := "(IJ)I" } : Jvm.MethodName) ({ cls := "TwinPanel", name := "begin", desc := "(IJ)I" } : Jvm.MethodName)) ∈ lw_all := lw_g (lw_at lw_m3 55 rfl) rfl
theorem q587 : (Jvm.Cond.code ({ cls := "TwinPanel", name := "begin", desc := "(IJ)I" } : Jvm.MethodName) prog_1_method_11_code (4 : Nat) (Option.some Jvm.ClassFile.FieldType.int)) ∈ lw_all := lw_g (lw_at lw_m3 56 rfl) rfl
theorem q588 : (Jvm.Cond.methodLink "TwinPanel" (163 : Nat) ({ cls := "TwinPanel$Module", name := "remembers", desc := "()Z" } : Jvm.MethodName)) ∈ lw_all := lw_g (lw_at lw_m3 57 rfl) rfl
theorem q609 : (Jvm.Cond.instanceMethod ({ cls := "TwinPanel", name := "setting", desc := "(IJ)I" } : Jvm.MethodName)) ∈ lw_all := lw_g (lw_at lw_m3 78 rfl) rfl
theorem q610 : (Jvm.Cond.selects "TwinPanel" ({ cls := "TwinPanel", name := "setting", desc := "(IJ)I" } : Jvm.MethodName) ({ cls := "TwinPanel", name := "setting", desc := "(IJ)I" } : Jvm.MethodName)) ∈ lw_all := lw_g (lw_at lw_m3 79 rfl) rfl
theorem q611 : (Jvm.Cond.code ({ cls := "TwinPanel", name := "setting", desc := "(IJ)I" } : Jvm.MethodName) prog_1_method_12_code (4 : Nat) (Option.some Jvm.ClassFile.FieldType.int)) ∈ lw_all := lw_g (lw_at lw_m3 80 rfl) rfl
theorem q613 : (Jvm.Cond.instanceMethod ({ cls := "TwinPanel", name := "rule", desc := "(II)I" } : Jvm.MethodName)) ∈ lw_all := lw_g (lw_at lw_m3 82 rfl) rfl
theorem q614 : (Jvm.Cond.selects "TwinPanel" ({ cls := "TwinPanel", name := "rule", desc := "(II)I" } : Jvm.MethodName) ({ cls := "TwinPanel", name := "rule", desc := "(II)I" } : Jvm.MethodName)) ∈ lw_all := lw_g (lw_at lw_m3 83 rfl) rfl
theorem q615 : (Jvm.Cond.code ({ cls := "TwinPanel", name := "rule", desc := "(II)I" } : Jvm.MethodName) prog_1_method_13_code (3 : Nat) (Option.some Jvm.ClassFile.FieldType.int)) ∈ lw_all := lw_g (lw_at lw_m3 84 rfl) rfl
theorem q617 : (Jvm.Cond.instanceMethod ({ cls := "TwinPanel", name := "check", desc := "()I" } : Jvm.MethodName)) ∈ lw_all := lw_g (lw_at lw_m3 86 rfl) rfl
theorem q618 : (Jvm.Cond.selects "TwinPanel" ({ cls := "TwinPanel", name := "check", desc := "()I" } : Jvm.MethodName) ({ cls := "TwinPanel", name := "check", desc := "()I" } : Jvm.MethodName)) ∈ lw_all := lw_g (lw_at lw_m3 87 rfl) rfl
theorem q619 : (Jvm.Cond.code ({ cls := "TwinPanel", name := "check", desc := "()I" } : Jvm.MethodName) prog_1_method_18_code (1 : Nat) (Option.some Jvm.ClassFile.FieldType.int)) ∈ lw_all := lw_g (lw_at lw_m3 88 rfl) rfl
theorem q620 : (Jvm.Cond.methodLink "TwinPanel" (195 : Nat) ({ cls := "TwinPanel", name := "checked", desc := "()I" } : Jvm.MethodName)) ∈ lw_all := lw_g (lw_at lw_m3 89 rfl) rfl
theorem q621 : (Jvm.Cond.privateMethod ({ cls := "TwinPanel", name := "checked", desc := "()I" } : Jvm.MethodName)) ∈ lw_tbl := lw_at lw_m3 90 rfl
theorem q622 : (Jvm.Cond.instanceMethod ({ cls := "TwinPanel", name := "checked", desc := "()I" } : Jvm.MethodName)) ∈ lw_all := lw_g (lw_at lw_m3 91 rfl) rfl
theorem q623 : (Jvm.Cond.code ({ cls := "TwinPanel", name := "checked", desc := "()I" } : Jvm.MethodName) prog_1_method_17_code (2 : Nat) (Option.some Jvm.ClassFile.FieldType.int)) ∈ lw_all := lw_g (lw_at lw_m3 92 rfl) rfl
theorem q624 : (Jvm.Cond.methodLink "TwinPanel" (188 : Nat) ({ cls := "TwinPanel", name := "hasInputs", desc := "(LTwinPanel$Module;)Z" } : Jvm.MethodName)) ∈ lw_all := lw_g (lw_at lw_m3 93 rfl) rfl
theorem q625 : (Jvm.Cond.privateMethod ({ cls := "TwinPanel", name := "hasInputs", desc := "(LTwinPanel$Module;)Z" } : Jvm.MethodName)) ∈ lw_tbl := lw_at lw_m3 94 rfl
theorem q626 : (Jvm.Cond.instanceMethod ({ cls := "TwinPanel", name := "hasInputs", desc := "(LTwinPanel$Module;)Z" } : Jvm.MethodName)) ∈ lw_all := lw_g (lw_at lw_m3 95 rfl) rfl
theorem q627 : (Jvm.Cond.code ({ cls := "TwinPanel", name := "hasInputs", desc := "(LTwinPanel$Module;)Z" } : Jvm.MethodName) prog_1_method_14_code (7 : Nat) (Option.some Jvm.ClassFile.FieldType.boolean)) ∈ lw_all := lw_g (lw_at lw_m3 96 rfl) rfl
theorem q628 : (Jvm.Cond.methodLink "TwinPanel" (177 : Nat) ({ cls := "TwinPanel$Module", name := "needs", desc := "()I" } : Jvm.MethodName)) ∈ lw_all := lw_g (lw_at lw_m3 97 rfl) rfl
theorem q658 : (Jvm.Cond.methodLink "TwinPanel" (192 : Nat) ({ cls := "TwinPanel", name := "isCircled", desc := "(I)Z" } : Jvm.MethodName)) ∈ lw_all := lw_g (lw_at lw_m3 127 rfl) rfl
theorem q659 : (Jvm.Cond.privateMethod ({ cls := "TwinPanel", name := "isCircled", desc := "(I)Z" } : Jvm.MethodName)) ∈ lw_tbl := lw_at lw_m3 128 rfl
theorem q660 : (Jvm.Cond.instanceMethod ({ cls := "TwinPanel", name := "isCircled", desc := "(I)Z" } : Jvm.MethodName)) ∈ lw_all := lw_g (lw_at lw_m3 129 rfl) rfl
theorem q661 : (Jvm.Cond.code ({ cls := "TwinPanel", name := "isCircled", desc := "(I)Z" } : Jvm.MethodName) prog_1_method_16_code (8 : Nat) (Option.some Jvm.ClassFile.FieldType.boolean)) ∈ lw_all := lw_g (lw_at lw_m3 130 rfl) rfl
theorem q663 : (Jvm.Cond.instanceMethod ({ cls := "TwinPanel", name := "broken", desc := "()I" } : Jvm.MethodName)) ∈ lw_all := lw_g (lw_at lw_m3 132 rfl) rfl
theorem q664 : (Jvm.Cond.selects "TwinPanel" ({ cls := "TwinPanel", name := "broken", desc := "()I" } : Jvm.MethodName) ({ cls := "TwinPanel", name := "broken", desc := "()I" } : Jvm.MethodName)) ∈ lw_all := lw_g (lw_at lw_m3 133 rfl) rfl
theorem q665 : (Jvm.Cond.code ({ cls := "TwinPanel", name := "broken", desc := "()I" } : Jvm.MethodName) prog_1_method_19_code (1 : Nat) (Option.some Jvm.ClassFile.FieldType.int)) ∈ lw_all := lw_g (lw_at lw_m3 134 rfl) rfl
theorem q667 : (Jvm.Cond.instanceMethod ({ cls := "TwinPanel", name := "level", desc := "(I)I" } : Jvm.MethodName)) ∈ lw_all := lw_g (lw_at lw_m3 136 rfl) rfl
theorem q668 : (Jvm.Cond.selects "TwinPanel" ({ cls := "TwinPanel", name := "level", desc := "(I)I" } : Jvm.MethodName) ({ cls := "TwinPanel", name := "level", desc := "(I)I" } : Jvm.MethodName)) ∈ lw_all := lw_g (lw_at lw_m3 137 rfl) rfl
theorem q669 : (Jvm.Cond.code ({ cls := "TwinPanel", name := "level", desc := "(I)I" } : Jvm.MethodName) prog_1_method_20_code (2 : Nat) (Option.some Jvm.ClassFile.FieldType.int)) ∈ lw_all := lw_g (lw_at lw_m3 138 rfl) rfl
theorem q670 : (Jvm.Cond.methodLink "TwinPanel" (198 : Nat) ({ cls := "TwinPanel", name := "findLevels", desc := "()V" } : Jvm.MethodName)) ∈ lw_all := lw_g (lw_at lw_m3 139 rfl) rfl
theorem q671 : (Jvm.Cond.privateMethod ({ cls := "TwinPanel", name := "findLevels", desc := "()V" } : Jvm.MethodName)) ∈ lw_tbl := lw_at lw_m3 140 rfl
theorem q672 : (Jvm.Cond.instanceMethod ({ cls := "TwinPanel", name := "findLevels", desc := "()V" } : Jvm.MethodName)) ∈ lw_all := lw_g (lw_at lw_m3 141 rfl) rfl
theorem q673 : (Jvm.Cond.code ({ cls := "TwinPanel", name := "findLevels", desc := "()V" } : Jvm.MethodName) prog_1_method_15_code (7 : Nat) (Option.none : Option Jvm.ClassFile.FieldType)) ∈ lw_all := lw_g (lw_at lw_m3 142 rfl) rfl
theorem q674 : (Jvm.Cond.methodLink "TwinPanel" (181 : Nat) ({ cls := "java/lang/Math", name := "max", desc := "(II)I" } : Jvm.MethodName)) ∈ lw_all := lw_g (lw_at lw_m3 143 rfl) rfl
theorem q678 : (Jvm.Cond.instanceMethod ({ cls := "TwinPanel", name := "mode", desc := "(I)I" } : Jvm.MethodName)) ∈ lw_all := lw_g (lw_at lw_m3 147 rfl) rfl
theorem q679 : (Jvm.Cond.selects "TwinPanel" ({ cls := "TwinPanel", name := "mode", desc := "(I)I" } : Jvm.MethodName) ({ cls := "TwinPanel", name := "mode", desc := "(I)I" } : Jvm.MethodName)) ∈ lw_all := lw_g (lw_at lw_m3 148 rfl) rfl
theorem q680 : (Jvm.Cond.code ({ cls := "TwinPanel", name := "mode", desc := "(I)I" } : Jvm.MethodName) prog_1_method_29_code (4 : Nat) (Option.some Jvm.ClassFile.FieldType.int)) ∈ lw_all := lw_g (lw_at lw_m3 149 rfl) rfl
theorem q681 : (Jvm.Cond.methodLink "TwinPanel" (255 : Nat) ({ cls := "TwinPanel", name := "start", desc := "()V" } : Jvm.MethodName)) ∈ lw_all := lw_g (lw_at lw_m3 150 rfl) rfl
theorem q682 : (Jvm.Cond.privateMethod ({ cls := "TwinPanel", name := "start", desc := "()V" } : Jvm.MethodName)) ∈ lw_tbl := lw_at lw_m3 151 rfl
theorem q683 : (Jvm.Cond.instanceMethod ({ cls := "TwinPanel", name := "start", desc := "()V" } : Jvm.MethodName)) ∈ lw_all := lw_g (lw_at lw_m3 152 rfl) rfl
theorem q684 : (Jvm.Cond.code ({ cls := "TwinPanel", name := "start", desc := "()V" } : Jvm.MethodName) prog_1_method_23_code (2 : Nat) (Option.none : Option Jvm.ClassFile.FieldType)) ∈ lw_all := lw_g (lw_at lw_m3 153 rfl) rfl
theorem q685 : (Jvm.Cond.methodLink "TwinPanel" (205 : Nat) ({ cls := "TwinPanel", name := "findOrder", desc := "()V" } : Jvm.MethodName)) ∈ lw_all := lw_g (lw_at lw_m3 154 rfl) rfl
theorem q686 : (Jvm.Cond.privateMethod ({ cls := "TwinPanel", name := "findOrder", desc := "()V" } : Jvm.MethodName)) ∈ lw_tbl := lw_at lw_m3 155 rfl
theorem q687 : (Jvm.Cond.instanceMethod ({ cls := "TwinPanel", name := "findOrder", desc := "()V" } : Jvm.MethodName)) ∈ lw_all := lw_g (lw_at lw_m3 156 rfl) rfl
theorem q688 : (Jvm.Cond.code ({ cls := "TwinPanel", name := "findOrder", desc := "()V" } : Jvm.MethodName) prog_1_method_21_code (4 : Nat) (Option.none : Option Jvm.ClassFile.FieldType)) ∈ lw_all := lw_g (lw_at lw_m3 157 rfl) rfl
theorem q689 : (Jvm.Cond.methodLink "TwinPanel" (211 : Nat) ({ cls := "TwinPanel$Module", name := "begin", desc := "()V" } : Jvm.MethodName)) ∈ lw_all := lw_g (lw_at lw_m3 158 rfl) rfl
theorem q717 : (Jvm.Cond.methodLink "TwinPanel" (214 : Nat) ({ cls := "TwinPanel", name := "read", desc := "(I)V" } : Jvm.MethodName)) ∈ lw_all := lw_g (lw_at lw_m3 186 rfl) rfl
theorem q718 : (Jvm.Cond.privateMethod ({ cls := "TwinPanel", name := "read", desc := "(I)V" } : Jvm.MethodName)) ∈ lw_tbl := lw_at lw_m3 187 rfl
theorem q719 : (Jvm.Cond.instanceMethod ({ cls := "TwinPanel", name := "read", desc := "(I)V" } : Jvm.MethodName)) ∈ lw_all := lw_g (lw_at lw_m3 188 rfl) rfl
theorem q720 : (Jvm.Cond.code ({ cls := "TwinPanel", name := "read", desc := "(I)V" } : Jvm.MethodName) prog_1_method_22_code (3 : Nat) (Option.none : Option Jvm.ClassFile.FieldType)) ∈ lw_all := lw_g (lw_at lw_m3 189 rfl) rfl
theorem q721 : (Jvm.Cond.methodLink "TwinPanel" (201 : Nat) ({ cls := "TwinPanel$Module", name := "read", desc := "(I)V" } : Jvm.MethodName)) ∈ lw_all := lw_g (lw_at lw_m3 190 rfl) rfl
theorem q981 : (Jvm.Cond.methodLink "TwinPanel" (215 : Nat) ({ cls := "TwinPanel$Module", name := "compare", desc := "()V" } : Jvm.MethodName)) ∈ lw_all := lw_g (lw_at lw_m4 210 rfl) rfl
theorem q1005 : (Jvm.Cond.methodLink "TwinPanel" (257 : Nat) ({ cls := "TwinPanel$Module", name := "wideSum", desc := "()D" } : Jvm.MethodName)) ∈ lw_all := lw_g (lw_at lw_m4 234 rfl) rfl
theorem q1006 : (Jvm.Cond.methodLink "TwinPanel" (264 : Nat) ({ cls := "TwinPanel", name := "sample", desc := "()V" } : Jvm.MethodName)) ∈ lw_all := lw_g (lw_at lw_m4 235 rfl) rfl
theorem q1007 : (Jvm.Cond.privateMethod ({ cls := "TwinPanel", name := "sample", desc := "()V" } : Jvm.MethodName)) ∈ lw_tbl := lw_at lw_m4 236 rfl
theorem q1008 : (Jvm.Cond.instanceMethod ({ cls := "TwinPanel", name := "sample", desc := "()V" } : Jvm.MethodName)) ∈ lw_all := lw_g (lw_at lw_m4 237 rfl) rfl
theorem q1009 : (Jvm.Cond.code ({ cls := "TwinPanel", name := "sample", desc := "()V" } : Jvm.MethodName) prog_1_method_28_code (2 : Nat) (Option.none : Option Jvm.ClassFile.FieldType)) ∈ lw_all := lw_g (lw_at lw_m4 238 rfl) rfl
theorem q1011 : (Jvm.Cond.instanceMethod ({ cls := "TwinPanel", name := "now", desc := "()I" } : Jvm.MethodName)) ∈ lw_all := lw_g (lw_at lw_m5 0 rfl) rfl
theorem q1012 : (Jvm.Cond.selects "TwinPanel" ({ cls := "TwinPanel", name := "now", desc := "()I" } : Jvm.MethodName) ({ cls := "TwinPanel", name := "now", desc := "()I" } : Jvm.MethodName)) ∈ lw_all := lw_g (lw_at lw_m5 1 rfl) rfl
theorem q1013 : (Jvm.Cond.code ({ cls := "TwinPanel", name := "now", desc := "()I" } : Jvm.MethodName) prog_1_method_30_code (1 : Nat) (Option.some Jvm.ClassFile.FieldType.int)) ∈ lw_all := lw_g (lw_at lw_m5 2 rfl) rfl
theorem q1015 : (Jvm.Cond.instanceMethod ({ cls := "TwinPanel", name := "run", desc := "(I)I" } : Jvm.MethodName)) ∈ lw_all := lw_g (lw_at lw_m5 4 rfl) rfl
theorem q1016 : (Jvm.Cond.selects "TwinPanel" ({ cls := "TwinPanel", name := "run", desc := "(I)I" } : Jvm.MethodName) ({ cls := "TwinPanel", name := "run", desc := "(I)I" } : Jvm.MethodName)) ∈ lw_all := lw_g (lw_at lw_m5 5 rfl) rfl
theorem q1017 : (Jvm.Cond.code ({ cls := "TwinPanel", name := "run", desc := "(I)I" } : Jvm.MethodName) prog_1_method_32_code (6 : Nat) (Option.some Jvm.ClassFile.FieldType.int)) ∈ lw_all := lw_g (lw_at lw_m5 6 rfl) rfl
theorem q1018 : (Jvm.Cond.methodLink "TwinPanel" (270 : Nat) ({ cls := "TwinPanel", name := "length", desc := "(I)D" } : Jvm.MethodName)) ∈ lw_all := lw_g (lw_at lw_m5 7 rfl) rfl
theorem q1019 : (Jvm.Cond.static ({ cls := "TwinPanel", name := "length", desc := "(I)D" } : Jvm.MethodName)) ∈ lw_all := lw_g (lw_at lw_m5 8 rfl) rfl
theorem q1020 : (Jvm.Cond.code ({ cls := "TwinPanel", name := "length", desc := "(I)D" } : Jvm.MethodName) prog_1_method_27_code (4 : Nat) (Option.some Jvm.ClassFile.FieldType.double)) ∈ lw_all := lw_g (lw_at lw_m5 9 rfl) rfl
theorem q1021 : (Jvm.Cond.constantDouble "TwinPanel" (237 : Nat) (4611686018427387904 : UInt64)) ∈ lw_all := lw_g (lw_at lw_m5 10 rfl) rfl
theorem q1022 : (Jvm.Cond.methodLink "TwinPanel" (274 : Nat) ({ cls := "TwinPanel", name := "failing", desc := "(I)I" } : Jvm.MethodName)) ∈ lw_all := lw_g (lw_at lw_m5 11 rfl) rfl
theorem q1023 : (Jvm.Cond.privateMethod ({ cls := "TwinPanel", name := "failing", desc := "(I)I" } : Jvm.MethodName)) ∈ lw_tbl := lw_at lw_m5 12 rfl
theorem q1024 : (Jvm.Cond.instanceMethod ({ cls := "TwinPanel", name := "failing", desc := "(I)I" } : Jvm.MethodName)) ∈ lw_all := lw_g (lw_at lw_m5 13 rfl) rfl
theorem q1025 : (Jvm.Cond.code ({ cls := "TwinPanel", name := "failing", desc := "(I)I" } : Jvm.MethodName) prog_1_method_31_code (3 : Nat) (Option.some Jvm.ClassFile.FieldType.int)) ∈ lw_all := lw_g (lw_at lw_m5 14 rfl) rfl
theorem q1026 : (Jvm.Cond.methodLink "TwinPanel" (278 : Nat) ({ cls := "TwinPanel", name := "step", desc := "(D)V" } : Jvm.MethodName)) ∈ lw_all := lw_g (lw_at lw_m5 15 rfl) rfl
theorem q1027 : (Jvm.Cond.privateMethod ({ cls := "TwinPanel", name := "step", desc := "(D)V" } : Jvm.MethodName)) ∈ lw_tbl := lw_at lw_m5 16 rfl
theorem q1028 : (Jvm.Cond.instanceMethod ({ cls := "TwinPanel", name := "step", desc := "(D)V" } : Jvm.MethodName)) ∈ lw_all := lw_g (lw_at lw_m5 17 rfl) rfl
theorem q1029 : (Jvm.Cond.code ({ cls := "TwinPanel", name := "step", desc := "(D)V" } : Jvm.MethodName) prog_1_method_26_code (5 : Nat) (Option.none : Option Jvm.ClassFile.FieldType)) ∈ lw_all := lw_g (lw_at lw_m5 18 rfl) rfl
theorem q1030 : (Jvm.Cond.methodLink "TwinPanel" (225 : Nat) ({ cls := "TwinPanel$Module", name := "take", desc := "()V" } : Jvm.MethodName)) ∈ lw_all := lw_g (lw_at lw_m5 19 rfl) rfl
theorem q1064 : (Jvm.Cond.methodLink "TwinPanel" (228 : Nat) ({ cls := "TwinPanel$Gather", name := "open", desc := "()V" } : Jvm.MethodName)) ∈ lw_all := lw_g (lw_at lw_m5 53 rfl) rfl
theorem q1068 : (Jvm.Cond.methodLink "TwinPanel" (231 : Nat) ({ cls := "TwinPanel", name := "rates", desc := "(I)V" } : Jvm.MethodName)) ∈ lw_all := lw_g (lw_at lw_m5 57 rfl) rfl
theorem q1069 : (Jvm.Cond.privateMethod ({ cls := "TwinPanel", name := "rates", desc := "(I)V" } : Jvm.MethodName)) ∈ lw_tbl := lw_at lw_m5 58 rfl
theorem q1070 : (Jvm.Cond.instanceMethod ({ cls := "TwinPanel", name := "rates", desc := "(I)V" } : Jvm.MethodName)) ∈ lw_all := lw_g (lw_at lw_m5 59 rfl) rfl
theorem q1071 : (Jvm.Cond.code ({ cls := "TwinPanel", name := "rates", desc := "(I)V" } : Jvm.MethodName) prog_1_method_24_code (3 : Nat) (Option.none : Option Jvm.ClassFile.FieldType)) ∈ lw_all := lw_g (lw_at lw_m5 60 rfl) rfl
theorem q1072 : (Jvm.Cond.methodLink "TwinPanel" (218 : Nat) ({ cls := "TwinPanel$Gather", name := "rate", desc := "(I)V" } : Jvm.MethodName)) ∈ lw_all := lw_g (lw_at lw_m5 61 rfl) rfl
theorem q1082 : (Jvm.Cond.methodLink "TwinPanel" (234 : Nat) ({ cls := "TwinPanel", name := "stage", desc := "(ID)V" } : Jvm.MethodName)) ∈ lw_all := lw_g (lw_at lw_m5 71 rfl) rfl
theorem q1083 : (Jvm.Cond.privateMethod ({ cls := "TwinPanel", name := "stage", desc := "(ID)V" } : Jvm.MethodName)) ∈ lw_tbl := lw_at lw_m5 72 rfl
theorem q1084 : (Jvm.Cond.instanceMethod ({ cls := "TwinPanel", name := "stage", desc := "(ID)V" } : Jvm.MethodName)) ∈ lw_all := lw_g (lw_at lw_m5 73 rfl) rfl
theorem q1085 : (Jvm.Cond.code ({ cls := "TwinPanel", name := "stage", desc := "(ID)V" } : Jvm.MethodName) prog_1_method_25_code (5 : Nat) (Option.none : Option Jvm.ClassFile.FieldType)) ∈ lw_all := lw_g (lw_at lw_m5 74 rfl) rfl
theorem q1086 : (Jvm.Cond.methodLink "TwinPanel" (221 : Nat) ({ cls := "TwinPanel$Gather", name := "go", desc := "(IDI)V" } : Jvm.MethodName)) ∈ lw_all := lw_g (lw_at lw_m5 75 rfl) rfl
theorem q1098 : (Jvm.Cond.methodLink "TwinPanel" (239 : Nat) ({ cls := "TwinPanel$Gather", name := "goTwo", desc := "(DI)V" } : Jvm.MethodName)) ∈ lw_all := lw_g (lw_at lw_m5 87 rfl) rfl
theorem q1103 : (Jvm.Cond.methodLink "TwinPanel" (243 : Nat) ({ cls := "TwinPanel$Gather", name := "goFour", desc := "(DI)V" } : Jvm.MethodName)) ∈ lw_all := lw_g (lw_at lw_m5 92 rfl) rfl
theorem q1109 : (Jvm.Cond.methodLink "TwinPanel" (246 : Nat) ({ cls := "TwinPanel$Module", name := "become", desc := "()V" } : Jvm.MethodName)) ∈ lw_all := lw_g (lw_at lw_m5 98 rfl) rfl
theorem q1140 : (Jvm.Cond.instanceMethod ({ cls := "TwinPanel", name := "fail", desc := "(II)I" } : Jvm.MethodName)) ∈ lw_all := lw_g (lw_at lw_m5 129 rfl) rfl
theorem q1141 : (Jvm.Cond.selects "TwinPanel" ({ cls := "TwinPanel", name := "fail", desc := "(II)I" } : Jvm.MethodName) ({ cls := "TwinPanel", name := "fail", desc := "(II)I" } : Jvm.MethodName)) ∈ lw_all := lw_g (lw_at lw_m5 130 rfl) rfl
theorem q1142 : (Jvm.Cond.code ({ cls := "TwinPanel", name := "fail", desc := "(II)I" } : Jvm.MethodName) prog_1_method_33_code (3 : Nat) (Option.some Jvm.ClassFile.FieldType.int)) ∈ lw_all := lw_g (lw_at lw_m5 131 rfl) rfl
theorem q1144 : (Jvm.Cond.instanceMethod ({ cls := "TwinPanel", name := "time", desc := "()I" } : Jvm.MethodName)) ∈ lw_all := lw_g (lw_at lw_m5 133 rfl) rfl
theorem q1145 : (Jvm.Cond.selects "TwinPanel" ({ cls := "TwinPanel", name := "time", desc := "()I" } : Jvm.MethodName) ({ cls := "TwinPanel", name := "time", desc := "()I" } : Jvm.MethodName)) ∈ lw_all := lw_g (lw_at lw_m5 134 rfl) rfl
theorem q1146 : (Jvm.Cond.code ({ cls := "TwinPanel", name := "time", desc := "()I" } : Jvm.MethodName) prog_1_method_34_code (1 : Nat) (Option.some Jvm.ClassFile.FieldType.int)) ∈ lw_all := lw_g (lw_at lw_m5 135 rfl) rfl
theorem q1148 : (Jvm.Cond.instanceMethod ({ cls := "TwinPanel", name := "reading", desc := "(I)J" } : Jvm.MethodName)) ∈ lw_all := lw_g (lw_at lw_m5 137 rfl) rfl
theorem q1149 : (Jvm.Cond.selects "TwinPanel" ({ cls := "TwinPanel", name := "reading", desc := "(I)J" } : Jvm.MethodName) ({ cls := "TwinPanel", name := "reading", desc := "(I)J" } : Jvm.MethodName)) ∈ lw_all := lw_g (lw_at lw_m5 138 rfl) rfl
theorem q1150 : (Jvm.Cond.code ({ cls := "TwinPanel", name := "reading", desc := "(I)J" } : Jvm.MethodName) prog_1_method_36_code (2 : Nat) (Option.some Jvm.ClassFile.FieldType.long)) ∈ lw_all := lw_g (lw_at lw_m5 139 rfl) rfl
theorem q1151 : (Jvm.Cond.methodLink "TwinPanel" (285 : Nat) ({ cls := "TwinPanel", name := "isRead", desc := "(I)Z" } : Jvm.MethodName)) ∈ lw_all := lw_g (lw_at lw_m5 140 rfl) rfl
theorem q1152 : (Jvm.Cond.privateMethod ({ cls := "TwinPanel", name := "isRead", desc := "(I)Z" } : Jvm.MethodName)) ∈ lw_tbl := lw_at lw_m5 141 rfl
theorem q1153 : (Jvm.Cond.instanceMethod ({ cls := "TwinPanel", name := "isRead", desc := "(I)Z" } : Jvm.MethodName)) ∈ lw_all := lw_g (lw_at lw_m5 142 rfl) rfl
theorem q1154 : (Jvm.Cond.code ({ cls := "TwinPanel", name := "isRead", desc := "(I)Z" } : Jvm.MethodName) prog_1_method_35_code (2 : Nat) (Option.some Jvm.ClassFile.FieldType.boolean)) ∈ lw_all := lw_g (lw_at lw_m5 143 rfl) rfl
theorem q1155 : (Jvm.Cond.methodLink "TwinPanel" (288 : Nat) ({ cls := "java/lang/Double", name := "doubleToLongBits", desc := "(D)J" } : Jvm.MethodName)) ∈ lw_all := lw_g (lw_at lw_m5 144 rfl) rfl
theorem q1164 : (Jvm.Cond.instanceMethod ({ cls := "TwinPanel", name := "single", desc := "(I)I" } : Jvm.MethodName)) ∈ lw_all := lw_g (lw_at lw_m5 153 rfl) rfl
theorem q1165 : (Jvm.Cond.selects "TwinPanel" ({ cls := "TwinPanel", name := "single", desc := "(I)I" } : Jvm.MethodName) ({ cls := "TwinPanel", name := "single", desc := "(I)I" } : Jvm.MethodName)) ∈ lw_all := lw_g (lw_at lw_m5 154 rfl) rfl
theorem q1166 : (Jvm.Cond.code ({ cls := "TwinPanel", name := "single", desc := "(I)I" } : Jvm.MethodName) prog_1_method_37_code (2 : Nat) (Option.some Jvm.ClassFile.FieldType.int)) ∈ lw_all := lw_g (lw_at lw_m5 155 rfl) rfl
theorem q1167 : (Jvm.Cond.methodLink "TwinPanel" (296 : Nat) ({ cls := "java/lang/Float", name := "floatToIntBits", desc := "(F)I" } : Jvm.MethodName)) ∈ lw_all := lw_g (lw_at lw_m5 156 rfl) rfl
theorem q1178 : (Jvm.Cond.instanceMethod ({ cls := "TwinPanel", name := "lamp", desc := "(I)I" } : Jvm.MethodName)) ∈ lw_all := lw_g (lw_at lw_m5 167 rfl) rfl
theorem q1179 : (Jvm.Cond.selects "TwinPanel" ({ cls := "TwinPanel", name := "lamp", desc := "(I)I" } : Jvm.MethodName) ({ cls := "TwinPanel", name := "lamp", desc := "(I)I" } : Jvm.MethodName)) ∈ lw_all := lw_g (lw_at lw_m5 168 rfl) rfl
theorem q1180 : (Jvm.Cond.code ({ cls := "TwinPanel", name := "lamp", desc := "(I)I" } : Jvm.MethodName) prog_1_method_38_code (2 : Nat) (Option.some Jvm.ClassFile.FieldType.int)) ∈ lw_all := lw_g (lw_at lw_m5 169 rfl) rfl
theorem q1182 : (Jvm.Cond.instanceMethod ({ cls := "TwinPanel", name := "apart", desc := "(I)J" } : Jvm.MethodName)) ∈ lw_all := lw_g (lw_at lw_m5 171 rfl) rfl
theorem q1183 : (Jvm.Cond.selects "TwinPanel" ({ cls := "TwinPanel", name := "apart", desc := "(I)J" } : Jvm.MethodName) ({ cls := "TwinPanel", name := "apart", desc := "(I)J" } : Jvm.MethodName)) ∈ lw_all := lw_g (lw_at lw_m5 172 rfl) rfl
theorem q1184 : (Jvm.Cond.code ({ cls := "TwinPanel", name := "apart", desc := "(I)J" } : Jvm.MethodName) prog_1_method_39_code (2 : Nat) (Option.some Jvm.ClassFile.FieldType.long)) ∈ lw_all := lw_g (lw_at lw_m5 173 rfl) rfl
theorem q1186 : (Jvm.Cond.instanceMethod ({ cls := "TwinPanel", name := "rate", desc := "(I)J" } : Jvm.MethodName)) ∈ lw_all := lw_g (lw_at lw_m5 175 rfl) rfl
theorem q1187 : (Jvm.Cond.selects "TwinPanel" ({ cls := "TwinPanel", name := "rate", desc := "(I)J" } : Jvm.MethodName) ({ cls := "TwinPanel", name := "rate", desc := "(I)J" } : Jvm.MethodName)) ∈ lw_all := lw_g (lw_at lw_m5 176 rfl) rfl
theorem q1188 : (Jvm.Cond.code ({ cls := "TwinPanel", name := "rate", desc := "(I)J" } : Jvm.MethodName) prog_1_method_40_code (2 : Nat) (Option.some Jvm.ClassFile.FieldType.long)) ∈ lw_all := lw_g (lw_at lw_m5 177 rfl) rfl
theorem q1190 : (Jvm.Cond.instanceMethod ({ cls := "TwinPanel", name := "strip", desc := "(I)I" } : Jvm.MethodName)) ∈ lw_all := lw_g (lw_at lw_m5 179 rfl) rfl
theorem q1191 : (Jvm.Cond.selects "TwinPanel" ({ cls := "TwinPanel", name := "strip", desc := "(I)I" } : Jvm.MethodName) ({ cls := "TwinPanel", name := "strip", desc := "(I)I" } : Jvm.MethodName)) ∈ lw_all := lw_g (lw_at lw_m5 180 rfl) rfl
theorem q1192 : (Jvm.Cond.code ({ cls := "TwinPanel", name := "strip", desc := "(I)I" } : Jvm.MethodName) prog_1_method_41_code (2 : Nat) (Option.some Jvm.ClassFile.FieldType.int)) ∈ lw_all := lw_g (lw_at lw_m5 181 rfl) rfl
theorem q1194 : (Jvm.Cond.instanceMethod ({ cls := "TwinPanel", name := "samples", desc := "(I)I" } : Jvm.MethodName)) ∈ lw_all := lw_g (lw_at lw_m5 183 rfl) rfl
theorem q1195 : (Jvm.Cond.selects "TwinPanel" ({ cls := "TwinPanel", name := "samples", desc := "(I)I" } : Jvm.MethodName) ({ cls := "TwinPanel", name := "samples", desc := "(I)I" } : Jvm.MethodName)) ∈ lw_all := lw_g (lw_at lw_m5 184 rfl) rfl
theorem q1196 : (Jvm.Cond.code ({ cls := "TwinPanel", name := "samples", desc := "(I)I" } : Jvm.MethodName) prog_1_method_43_code (2 : Nat) (Option.some Jvm.ClassFile.FieldType.int)) ∈ lw_all := lw_g (lw_at lw_m5 185 rfl) rfl
theorem q1197 : (Jvm.Cond.methodLink "TwinPanel" (308 : Nat) ({ cls := "TwinPanel", name := "isStrip", desc := "(I)Z" } : Jvm.MethodName)) ∈ lw_all := lw_g (lw_at lw_m5 186 rfl) rfl
theorem q1198 : (Jvm.Cond.privateMethod ({ cls := "TwinPanel", name := "isStrip", desc := "(I)Z" } : Jvm.MethodName)) ∈ lw_tbl := lw_at lw_m5 187 rfl
theorem q1199 : (Jvm.Cond.instanceMethod ({ cls := "TwinPanel", name := "isStrip", desc := "(I)Z" } : Jvm.MethodName)) ∈ lw_all := lw_g (lw_at lw_m5 188 rfl) rfl
theorem q1200 : (Jvm.Cond.code ({ cls := "TwinPanel", name := "isStrip", desc := "(I)Z" } : Jvm.MethodName) prog_1_method_42_code (2 : Nat) (Option.some Jvm.ClassFile.FieldType.boolean)) ∈ lw_all := lw_g (lw_at lw_m5 189 rfl) rfl
theorem q1202 : (Jvm.Cond.instanceMethod ({ cls := "TwinPanel", name := "sample", desc := "(II)J" } : Jvm.MethodName)) ∈ lw_all := lw_g (lw_at lw_m5 191 rfl) rfl
theorem q1203 : (Jvm.Cond.selects "TwinPanel" ({ cls := "TwinPanel", name := "sample", desc := "(II)J" } : Jvm.MethodName) ({ cls := "TwinPanel", name := "sample", desc := "(II)J" } : Jvm.MethodName)) ∈ lw_all := lw_g (lw_at lw_m5 192 rfl) rfl
theorem q1204 : (Jvm.Cond.code ({ cls := "TwinPanel", name := "sample", desc := "(II)J" } : Jvm.MethodName) prog_1_method_44_code (3 : Nat) (Option.some Jvm.ClassFile.FieldType.long)) ∈ lw_all := lw_g (lw_at lw_m5 193 rfl) rfl
theorem q1206 : (Jvm.Cond.instanceMethod ({ cls := "TwinPanel", name := "crossing", desc := "(II)I" } : Jvm.MethodName)) ∈ lw_all := lw_g (lw_at lw_m5 195 rfl) rfl
theorem q1207 : (Jvm.Cond.selects "TwinPanel" ({ cls := "TwinPanel", name := "crossing", desc := "(II)I" } : Jvm.MethodName) ({ cls := "TwinPanel", name := "crossing", desc := "(II)I" } : Jvm.MethodName)) ∈ lw_all := lw_g (lw_at lw_m5 196 rfl) rfl
theorem q1208 : (Jvm.Cond.code ({ cls := "TwinPanel", name := "crossing", desc := "(II)I" } : Jvm.MethodName) prog_1_method_45_code (5 : Nat) (Option.some Jvm.ClassFile.FieldType.int)) ∈ lw_all := lw_g (lw_at lw_m5 197 rfl) rfl
theorem q1210 : (Jvm.Cond.instanceMethod ({ cls := "TwinPanel", name := "peak", desc := "(II)I" } : Jvm.MethodName)) ∈ lw_all := lw_g (lw_at lw_m5 199 rfl) rfl
theorem q1211 : (Jvm.Cond.selects "TwinPanel" ({ cls := "TwinPanel", name := "peak", desc := "(II)I" } : Jvm.MethodName) ({ cls := "TwinPanel", name := "peak", desc := "(II)I" } : Jvm.MethodName)) ∈ lw_all := lw_g (lw_at lw_m5 200 rfl) rfl
theorem q1212 : (Jvm.Cond.code ({ cls := "TwinPanel", name := "peak", desc := "(II)I" } : Jvm.MethodName) prog_1_method_46_code (7 : Nat) (Option.some Jvm.ClassFile.FieldType.int)) ∈ lw_all := lw_g (lw_at lw_m5 201 rfl) rfl
theorem q1214 : (Jvm.Cond.instanceMethod ({ cls := "TwinPanel", name := "sweep", desc := "(IJJIII)I" } : Jvm.MethodName)) ∈ lw_all := lw_g (lw_at lw_m5 203 rfl) rfl
theorem q1215 : (Jvm.Cond.selects "TwinPanel" ({ cls := "TwinPanel", name := "sweep", desc := "(IJJIII)I" } : Jvm.MethodName) ({ cls := "TwinPanel", name := "sweep", desc := "(IJJIII)I" } : Jvm.MethodName)) ∈ lw_all := lw_g (lw_at lw_m5 204 rfl) rfl
theorem q1216 : (Jvm.Cond.code ({ cls := "TwinPanel", name := "sweep", desc := "(IJJIII)I" } : Jvm.MethodName) prog_1_method_48_code (18 : Nat) (Option.some Jvm.ClassFile.FieldType.int)) ∈ lw_all := lw_g (lw_at lw_m5 205 rfl) rfl
theorem q1217 : (Jvm.Cond.methodLink "TwinPanel" (318 : Nat) ({ cls := "java/lang/Math", name := "abs", desc := "(D)D" } : Jvm.MethodName)) ∈ lw_all := lw_g (lw_at lw_m5 206 rfl) rfl
theorem q1218 : (Jvm.Cond.constantDouble "TwinPanel" (321 : Nat) (9218868437227405311 : UInt64)) ∈ lw_all := lw_g (lw_at lw_m5 207 rfl) rfl
theorem q1219 : (Jvm.Cond.methodLink "TwinPanel" (323 : Nat) ({ cls := "TwinPanel", name := "twin", desc := "()LTwinPanel;" } : Jvm.MethodName)) ∈ lw_all := lw_g (lw_at lw_m5 208 rfl) rfl
theorem q1220 : (Jvm.Cond.privateMethod ({ cls := "TwinPanel", name := "twin", desc := "()LTwinPanel;" } : Jvm.MethodName)) ∈ lw_tbl := lw_at lw_m5 209 rfl
theorem q1221 : (Jvm.Cond.instanceMethod ({ cls := "TwinPanel", name := "twin", desc := "()LTwinPanel;" } : Jvm.MethodName)) ∈ lw_all := lw_g (lw_at lw_m5 210 rfl) rfl
theorem q1222 : (Jvm.Cond.code ({ cls := "TwinPanel", name := "twin", desc := "()LTwinPanel;" } : Jvm.MethodName) prog_1_method_47_code (7 : Nat) (Option.some (Jvm.ClassFile.FieldType.object "TwinPanel"))) ∈ lw_all := lw_g (lw_at lw_m5 211 rfl) rfl
theorem q1223 : (Jvm.Cond.classLink "TwinPanel" (51 : Nat) "TwinPanel") ∈ lw_all := lw_g (lw_at lw_m5 212 rfl) rfl
theorem q1224 : (Jvm.Cond.methodLink "TwinPanel" (311 : Nat) ({ cls := "TwinPanel", name := "<init>", desc := "()V" } : Jvm.MethodName)) ∈ lw_all := lw_g (lw_at lw_m5 213 rfl) rfl
theorem q1225 : (Jvm.Cond.methodLink "TwinPanel" (312 : Nat) ({ cls := "java/lang/System", name := "arraycopy", desc := "(Ljava/lang/Object;ILjava/lang/Object;II)V" } : Jvm.MethodName)) ∈ lw_all := lw_g (lw_at lw_m5 214 rfl) rfl
theorem q1227 : (Jvm.Cond.instanceMethod ({ cls := "TwinPanel", name := "swept", desc := "(I)J" } : Jvm.MethodName)) ∈ lw_all := lw_g (lw_at lw_m5 216 rfl) rfl
theorem q1228 : (Jvm.Cond.selects "TwinPanel" ({ cls := "TwinPanel", name := "swept", desc := "(I)J" } : Jvm.MethodName) ({ cls := "TwinPanel", name := "swept", desc := "(I)J" } : Jvm.MethodName)) ∈ lw_all := lw_g (lw_at lw_m5 217 rfl) rfl
theorem q1229 : (Jvm.Cond.code ({ cls := "TwinPanel", name := "swept", desc := "(I)J" } : Jvm.MethodName) prog_1_method_49_code (2 : Nat) (Option.some Jvm.ClassFile.FieldType.long)) ∈ lw_all := lw_g (lw_at lw_m5 218 rfl) rfl
theorem q1231 : (Jvm.Cond.instanceMethod ({ cls := "TwinPanel", name := "halved", desc := "(II)J" } : Jvm.MethodName)) ∈ lw_all := lw_g (lw_at lw_m5 220 rfl) rfl
theorem q1232 : (Jvm.Cond.selects "TwinPanel" ({ cls := "TwinPanel", name := "halved", desc := "(II)J" } : Jvm.MethodName) ({ cls := "TwinPanel", name := "halved", desc := "(II)J" } : Jvm.MethodName)) ∈ lw_all := lw_g (lw_at lw_m5 221 rfl) rfl
theorem q1233 : (Jvm.Cond.code ({ cls := "TwinPanel", name := "halved", desc := "(II)J" } : Jvm.MethodName) prog_1_method_50_code (10 : Nat) (Option.some Jvm.ClassFile.FieldType.long)) ∈ lw_all := lw_g (lw_at lw_m5 222 rfl) rfl
theorem q1234 : (Jvm.Cond.methodLink "TwinPanel" (330 : Nat) ({ cls := "java/lang/Math", name := "max", desc := "(DD)D" } : Jvm.MethodName)) ∈ lw_all := lw_g (lw_at lw_m5 223 rfl) rfl
theorem q1236 : (Jvm.Cond.instanceMethod ({ cls := "TwinPanel", name := "about", desc := "(II)I" } : Jvm.MethodName)) ∈ lw_all := lw_g (lw_at lw_m5 225 rfl) rfl
theorem q1237 : (Jvm.Cond.selects "TwinPanel" ({ cls := "TwinPanel", name := "about", desc := "(II)I" } : Jvm.MethodName) ({ cls := "TwinPanel", name := "about", desc := "(II)I" } : Jvm.MethodName)) ∈ lw_all := lw_g (lw_at lw_m5 226 rfl) rfl
theorem q1238 : (Jvm.Cond.code ({ cls := "TwinPanel", name := "about", desc := "(II)I" } : Jvm.MethodName) prog_1_method_51_code (4 : Nat) (Option.some Jvm.ClassFile.FieldType.int)) ∈ lw_all := lw_g (lw_at lw_m5 227 rfl) rfl
theorem q1240 : (Jvm.Cond.instanceMethod ({ cls := "TwinPanel", name := "count", desc := "(I)I" } : Jvm.MethodName)) ∈ lw_all := lw_g (lw_at lw_m5 229 rfl) rfl
theorem q1241 : (Jvm.Cond.selects "TwinPanel" ({ cls := "TwinPanel", name := "count", desc := "(I)I" } : Jvm.MethodName) ({ cls := "TwinPanel", name := "count", desc := "(I)I" } : Jvm.MethodName)) ∈ lw_all := lw_g (lw_at lw_m5 230 rfl) rfl
theorem q1242 : (Jvm.Cond.code ({ cls := "TwinPanel", name := "count", desc := "(I)I" } : Jvm.MethodName) prog_1_method_55_code (2 : Nat) (Option.some Jvm.ClassFile.FieldType.int)) ∈ lw_all := lw_g (lw_at lw_m5 231 rfl) rfl
theorem q1243 : (Jvm.Cond.methodLink "TwinPanel" (333 : Nat) ({ cls := "TwinPanel", name := "cords", desc := "()I" } : Jvm.MethodName)) ∈ lw_all := lw_g (lw_at lw_m5 232 rfl) rfl
theorem q1244 : (Jvm.Cond.privateMethod ({ cls := "TwinPanel", name := "cords", desc := "()I" } : Jvm.MethodName)) ∈ lw_tbl := lw_at lw_m5 233 rfl
theorem q1245 : (Jvm.Cond.instanceMethod ({ cls := "TwinPanel", name := "cords", desc := "()I" } : Jvm.MethodName)) ∈ lw_all := lw_g (lw_at lw_m5 234 rfl) rfl
theorem q1246 : (Jvm.Cond.code ({ cls := "TwinPanel", name := "cords", desc := "()I" } : Jvm.MethodName) prog_1_method_52_code (7 : Nat) (Option.some Jvm.ClassFile.FieldType.int)) ∈ lw_all := lw_g (lw_at lw_m5 235 rfl) rfl
theorem q1247 : (Jvm.Cond.methodLink "TwinPanel" (336 : Nat) ({ cls := "TwinPanel", name := "greatest", desc := "()I" } : Jvm.MethodName)) ∈ lw_all := lw_g (lw_at lw_m5 236 rfl) rfl
theorem q1248 : (Jvm.Cond.privateMethod ({ cls := "TwinPanel", name := "greatest", desc := "()I" } : Jvm.MethodName)) ∈ lw_tbl := lw_at lw_m5 237 rfl
theorem q1249 : (Jvm.Cond.instanceMethod ({ cls := "TwinPanel", name := "greatest", desc := "()I" } : Jvm.MethodName)) ∈ lw_all := lw_g (lw_at lw_m5 238 rfl) rfl
theorem q1250 : (Jvm.Cond.code ({ cls := "TwinPanel", name := "greatest", desc := "()I" } : Jvm.MethodName) prog_1_method_54_code (3 : Nat) (Option.some Jvm.ClassFile.FieldType.int)) ∈ lw_all := lw_g (lw_at lw_m5 239 rfl) rfl
theorem q1251 : (Jvm.Cond.methodLink "TwinPanel" (339 : Nat) ({ cls := "TwinPanel", name := "lit", desc := "()I" } : Jvm.MethodName)) ∈ lw_all := lw_g (lw_at lw_m6 0 rfl) rfl
theorem q1252 : (Jvm.Cond.privateMethod ({ cls := "TwinPanel", name := "lit", desc := "()I" } : Jvm.MethodName)) ∈ lw_tbl := lw_at lw_m6 1 rfl
theorem q1253 : (Jvm.Cond.instanceMethod ({ cls := "TwinPanel", name := "lit", desc := "()I" } : Jvm.MethodName)) ∈ lw_all := lw_g (lw_at lw_m6 2 rfl) rfl
theorem q1254 : (Jvm.Cond.code ({ cls := "TwinPanel", name := "lit", desc := "()I" } : Jvm.MethodName) prog_1_method_53_code (3 : Nat) (Option.some Jvm.ClassFile.FieldType.int)) ∈ lw_all := lw_g (lw_at lw_m6 3 rfl) rfl
theorem q1256 : (Jvm.Cond.instanceMethod ({ cls := "TwinPanel", name := "digest", desc := "()J" } : Jvm.MethodName)) ∈ lw_all := lw_g (lw_at lw_m6 5 rfl) rfl
theorem q1257 : (Jvm.Cond.selects "TwinPanel" ({ cls := "TwinPanel", name := "digest", desc := "()J" } : Jvm.MethodName) ({ cls := "TwinPanel", name := "digest", desc := "()J" } : Jvm.MethodName)) ∈ lw_all := lw_g (lw_at lw_m6 6 rfl) rfl
theorem q1258 : (Jvm.Cond.code ({ cls := "TwinPanel", name := "digest", desc := "()J" } : Jvm.MethodName) prog_1_method_56_code (6 : Nat) (Option.some Jvm.ClassFile.FieldType.long)) ∈ lw_all := lw_g (lw_at lw_m6 7 rfl) rfl
theorem q1259 : (Jvm.Cond.constantLong "TwinPanel" (342 : Nat) (1457 : Int64)) ∈ lw_all := lw_g (lw_at lw_m6 8 rfl) rfl
theorem q1260 : (Jvm.Cond.constantLong "TwinPanel" (344 : Nat) (31 : Int64)) ∈ lw_all := lw_g (lw_at lw_m6 9 rfl) rfl
theorem in_X0 : ∀ w ∈ wsX00, w ∈ lw_all := lw_in wsX00 [106, 108, 110, 112, 114, 116, 118, 120, 122, 124, 126, 128, 130, 132, 134, 136, 138] (by decide +kernel) (by decide +kernel)
theorem q53 : (Jvm.Cond.initialized "TwinPanelModel") ∈ lw_all := lw_g (lw_at lw_m1 2 rfl) rfl
theorem q1262 : (Jvm.Cond.instantiable "TwinPanelModel" (61 : Nat)) ∈ lw_all := lw_g (lw_at lw_m6 11 rfl) rfl
theorem q1264 : (Jvm.Cond.instanceMethod ({ cls := "TwinPanelModel", name := "<init>", desc := "()V" } : Jvm.MethodName)) ∈ lw_all := lw_g (lw_at lw_m6 13 rfl) rfl
theorem q1265 : (Jvm.Cond.code ({ cls := "TwinPanelModel", name := "<init>", desc := "()V" } : Jvm.MethodName) prog_19_method_1_code (2 : Nat) (Option.none : Option Jvm.ClassFile.FieldType)) ∈ lw_all := lw_g (lw_at lw_m6 14 rfl) rfl
theorem q1266 : (Jvm.Cond.methodLink "TwinPanelModel" (1 : Nat) ({ cls := "java/lang/Object", name := "<init>", desc := "()V" } : Jvm.MethodName)) ∈ lw_all := lw_g (lw_at lw_m6 15 rfl) rfl
theorem q1267 : (Jvm.Cond.fieldLink "TwinPanelModel" (158 : Nat) "TwinPanelModel" "modules" "I") ∈ lw_all := lw_g (lw_at lw_m6 16 rfl) rfl
theorem q1268 : (Jvm.Cond.fieldLink "TwinPanelModel" (7 : Nat) "TwinPanelModel" "kinds" "[I") ∈ lw_all := lw_g (lw_at lw_m6 17 rfl) rfl
theorem q1269 : (Jvm.Cond.fieldLink "TwinPanelModel" (13 : Nat) "TwinPanelModel" "settings" "[D") ∈ lw_all := lw_g (lw_at lw_m6 18 rfl) rfl
theorem q1270 : (Jvm.Cond.fieldLink "TwinPanelModel" (17 : Nat) "TwinPanelModel" "from" "[I") ∈ lw_all := lw_g (lw_at lw_m6 19 rfl) rfl
theorem q1271 : (Jvm.Cond.fieldLink "TwinPanelModel" (20 : Nat) "TwinPanelModel" "turned" "[Z") ∈ lw_all := lw_g (lw_at lw_m6 20 rfl) rfl
theorem q1272 : (Jvm.Cond.fieldLink "TwinPanelModel" (24 : Nat) "TwinPanelModel" "begins" "[D") ∈ lw_all := lw_g (lw_at lw_m6 21 rfl) rfl
theorem q1273 : (Jvm.Cond.fieldLink "TwinPanelModel" (27 : Nat) "TwinPanelModel" "points" "[I") ∈ lw_all := lw_g (lw_at lw_m6 22 rfl) rfl
theorem q1274 : (Jvm.Cond.fieldLink "TwinPanelModel" (30 : Nat) "TwinPanelModel" "xs" "[D") ∈ lw_all := lw_g (lw_at lw_m6 23 rfl) rfl
theorem q1275 : (Jvm.Cond.fieldLink "TwinPanelModel" (33 : Nat) "TwinPanelModel" "ys" "[D") ∈ lw_all := lw_g (lw_at lw_m6 24 rfl) rfl
theorem q1276 : (Jvm.Cond.fieldLink "TwinPanelModel" (36 : Nat) "TwinPanelModel" "failAt" "[I") ∈ lw_all := lw_g (lw_at lw_m6 25 rfl) rfl
theorem q1277 : (Jvm.Cond.fieldLink "TwinPanelModel" (39 : Nat) "TwinPanelModel" "levels" "[I") ∈ lw_all := lw_g (lw_at lw_m6 26 rfl) rfl
theorem q1278 : (Jvm.Cond.fieldLink "TwinPanelModel" (195 : Nat) "TwinPanelModel" "mode" "I") ∈ lw_all := lw_g (lw_at lw_m6 27 rfl) rfl
theorem q1279 : (Jvm.Cond.fieldLink "TwinPanelModel" (322 : Nat) "TwinPanelModel" "time" "I") ∈ lw_all := lw_g (lw_at lw_m6 28 rfl) rfl
theorem q1280 : (Jvm.Cond.fieldLink "TwinPanelModel" (210 : Nat) "TwinPanelModel" "rule" "I") ∈ lw_all := lw_g (lw_at lw_m6 29 rfl) rfl
theorem q1281 : (Jvm.Cond.fieldLink "TwinPanelModel" (42 : Nat) "TwinPanelModel" "halvings" "I") ∈ lw_all := lw_g (lw_at lw_m6 30 rfl) rfl
theorem q1282 : (Jvm.Cond.fieldLink "TwinPanelModel" (350 : Nat) "TwinPanelModel" "steps" "I") ∈ lw_all := lw_g (lw_at lw_m6 31 rfl) rfl
theorem q1283 : (Jvm.Cond.fieldLink "TwinPanelModel" (220 : Nat) "TwinPanelModel" "broken" "I") ∈ lw_all := lw_g (lw_at lw_m6 32 rfl) rfl
theorem q1284 : (Jvm.Cond.fieldLink "TwinPanelModel" (46 : Nat) "TwinPanelModel" "state" "[D") ∈ lw_all := lw_g (lw_at lw_m6 33 rfl) rfl
theorem q1285 : (Jvm.Cond.fieldLink "TwinPanelModel" (49 : Nat) "TwinPanelModel" "stateF" "[F") ∈ lw_all := lw_g (lw_at lw_m6 34 rfl) rfl
theorem q1286 : (Jvm.Cond.fieldLink "TwinPanelModel" (53 : Nat) "TwinPanelModel" "reading" "[D") ∈ lw_all := lw_g (lw_at lw_m6 35 rfl) rfl
theorem q1287 : (Jvm.Cond.fieldLink "TwinPanelModel" (56 : Nat) "TwinPanelModel" "readingF" "[F") ∈ lw_all := lw_g (lw_at lw_m6 36 rfl) rfl
theorem q1288 : (Jvm.Cond.fieldLink "TwinPanelModel" (59 : Nat) "TwinPanelModel" "row" "[D") ∈ lw_all := lw_g (lw_at lw_m6 37 rfl) rfl
theorem q1289 : (Jvm.Cond.fieldLink "TwinPanelModel" (62 : Nat) "TwinPanelModel" "rowF" "[F") ∈ lw_all := lw_g (lw_at lw_m6 38 rfl) rfl
theorem q1290 : (Jvm.Cond.fieldLink "TwinPanelModel" (65 : Nat) "TwinPanelModel" "seeds" "[I") ∈ lw_all := lw_g (lw_at lw_m6 39 rfl) rfl
theorem q1291 : (Jvm.Cond.fieldLink "TwinPanelModel" (68 : Nat) "TwinPanelModel" "lamps" "[I") ∈ lw_all := lw_g (lw_at lw_m6 40 rfl) rfl
theorem q1292 : (Jvm.Cond.fieldLink "TwinPanelModel" (71 : Nat) "TwinPanelModel" "apart" "[D") ∈ lw_all := lw_g (lw_at lw_m6 41 rfl) rfl
theorem q1293 : (Jvm.Cond.fieldLink "TwinPanelModel" (74 : Nat) "TwinPanelModel" "rates" "[D") ∈ lw_all := lw_g (lw_at lw_m6 42 rfl) rfl
theorem q1294 : (Jvm.Cond.fieldLink "TwinPanelModel" (77 : Nat) "TwinPanelModel" "stateKept" "[D") ∈ lw_all := lw_g (lw_at lw_m6 43 rfl) rfl
theorem q1295 : (Jvm.Cond.fieldLink "TwinPanelModel" (80 : Nat) "TwinPanelModel" "stateFKept" "[F") ∈ lw_all := lw_g (lw_at lw_m6 44 rfl) rfl
theorem q1296 : (Jvm.Cond.fieldLink "TwinPanelModel" (83 : Nat) "TwinPanelModel" "readingKept" "[D") ∈ lw_all := lw_g (lw_at lw_m6 45 rfl) rfl
theorem q1297 : (Jvm.Cond.fieldLink "TwinPanelModel" (86 : Nat) "TwinPanelModel" "readingFKept" "[F") ∈ lw_all := lw_g (lw_at lw_m6 46 rfl) rfl
theorem q1298 : (Jvm.Cond.fieldLink "TwinPanelModel" (89 : Nat) "TwinPanelModel" "rowKept" "[D") ∈ lw_all := lw_g (lw_at lw_m6 47 rfl) rfl
theorem q1299 : (Jvm.Cond.fieldLink "TwinPanelModel" (92 : Nat) "TwinPanelModel" "rowFKept" "[F") ∈ lw_all := lw_g (lw_at lw_m6 48 rfl) rfl
theorem q1300 : (Jvm.Cond.fieldLink "TwinPanelModel" (95 : Nat) "TwinPanelModel" "seedsKept" "[I") ∈ lw_all := lw_g (lw_at lw_m6 49 rfl) rfl
theorem q1301 : (Jvm.Cond.fieldLink "TwinPanelModel" (98 : Nat) "TwinPanelModel" "lampsKept" "[I") ∈ lw_all := lw_g (lw_at lw_m6 50 rfl) rfl
theorem q1302 : (Jvm.Cond.fieldLink "TwinPanelModel" (101 : Nat) "TwinPanelModel" "apartKept" "[D") ∈ lw_all := lw_g (lw_at lw_m6 51 rfl) rfl
theorem q1303 : (Jvm.Cond.fieldLink "TwinPanelModel" (104 : Nat) "TwinPanelModel" "ratesKept" "[D") ∈ lw_all := lw_g (lw_at lw_m6 52 rfl) rfl
theorem q1304 : (Jvm.Cond.fieldLink "TwinPanelModel" (332 : Nat) "TwinPanelModel" "strips" "I") ∈ lw_all := lw_g (lw_at lw_m6 53 rfl) rfl
theorem q1305 : (Jvm.Cond.fieldLink "TwinPanelModel" (107 : Nat) "TwinPanelModel" "stripOf" "[I") ∈ lw_all := lw_g (lw_at lw_m6 54 rfl) rfl
theorem q1306 : (Jvm.Cond.fieldLink "TwinPanelModel" (110 : Nat) "TwinPanelModel" "samples" "[I") ∈ lw_all := lw_g (lw_at lw_m6 55 rfl) rfl
theorem q1307 : (Jvm.Cond.fieldLink "TwinPanelModel" (113 : Nat) "TwinPanelModel" "sample" "[D") ∈ lw_all := lw_g (lw_at lw_m6 56 rfl) rfl
theorem q1308 : (Jvm.Cond.fieldLink "TwinPanelModel" (378 : Nat) "TwinPanelModel" "swept" "I") ∈ lw_all := lw_g (lw_at lw_m6 57 rfl) rfl
theorem q1309 : (Jvm.Cond.fieldLink "TwinPanelModel" (116 : Nat) "TwinPanelModel" "sweptValues" "[D") ∈ lw_all := lw_g (lw_at lw_m6 58 rfl) rfl
theorem q1310 : (Jvm.Cond.fieldLink "TwinPanelModel" (119 : Nat) "TwinPanelModel" "reached" "[Z") ∈ lw_all := lw_g (lw_at lw_m6 59 rfl) rfl
theorem q1311 : (Jvm.Cond.fieldLink "TwinPanelModel" (233 : Nat) "TwinPanelModel" "lampTime" "I") ∈ lw_all := lw_g (lw_at lw_m6 60 rfl) rfl
theorem q1312 : (Jvm.Cond.fieldLink "TwinPanelModel" (297 : Nat) "TwinPanelModel" "length" "D") ∈ lw_all := lw_g (lw_at lw_m6 61 rfl) rfl
theorem q1313 : (Jvm.Cond.fieldLink "TwinPanelModel" (122 : Nat) "TwinPanelModel" "first" "[D") ∈ lw_all := lw_g (lw_at lw_m6 62 rfl) rfl
theorem q1314 : (Jvm.Cond.fieldLink "TwinPanelModel" (125 : Nat) "TwinPanelModel" "second" "[D") ∈ lw_all := lw_g (lw_at lw_m6 63 rfl) rfl
theorem q1315 : (Jvm.Cond.fieldLink "TwinPanelModel" (128 : Nat) "TwinPanelModel" "third" "[D") ∈ lw_all := lw_g (lw_at lw_m6 64 rfl) rfl
theorem q1316 : (Jvm.Cond.fieldLink "TwinPanelModel" (131 : Nat) "TwinPanelModel" "before" "[D") ∈ lw_all := lw_g (lw_at lw_m6 65 rfl) rfl
theorem q1317 : (Jvm.Cond.fieldLink "TwinPanelModel" (134 : Nat) "TwinPanelModel" "firstF" "[F") ∈ lw_all := lw_g (lw_at lw_m6 66 rfl) rfl
theorem q1318 : (Jvm.Cond.fieldLink "TwinPanelModel" (137 : Nat) "TwinPanelModel" "secondF" "[F") ∈ lw_all := lw_g (lw_at lw_m6 67 rfl) rfl
theorem q1319 : (Jvm.Cond.fieldLink "TwinPanelModel" (140 : Nat) "TwinPanelModel" "thirdF" "[F") ∈ lw_all := lw_g (lw_at lw_m6 68 rfl) rfl
theorem q1320 : (Jvm.Cond.fieldLink "TwinPanelModel" (143 : Nat) "TwinPanelModel" "beforeF" "[F") ∈ lw_all := lw_g (lw_at lw_m6 69 rfl) rfl
theorem q1321 : (Jvm.Cond.fieldLink "TwinPanelModel" (146 : Nat) "TwinPanelModel" "next" "[D") ∈ lw_all := lw_g (lw_at lw_m6 70 rfl) rfl
theorem q1322 : (Jvm.Cond.fieldLink "TwinPanelModel" (149 : Nat) "TwinPanelModel" "nextF" "[F") ∈ lw_all := lw_g (lw_at lw_m6 71 rfl) rfl
theorem q1323 : (Jvm.Cond.fieldLink "TwinPanelModel" (152 : Nat) "TwinPanelModel" "rate" "[D") ∈ lw_all := lw_g (lw_at lw_m6 72 rfl) rfl
theorem q1324 : (Jvm.Cond.fieldLink "TwinPanelModel" (155 : Nat) "TwinPanelModel" "rateF" "[F") ∈ lw_all := lw_g (lw_at lw_m6 73 rfl) rfl
theorem q1325 : (Jvm.Cond.fieldLink "TwinPanelModel" (362 : Nat) "TwinPanelModel" "timeKept" "I") ∈ lw_all := lw_g (lw_at lw_m6 74 rfl) rfl
theorem q1326 : (Jvm.Cond.fieldLink "TwinPanelModel" (368 : Nat) "TwinPanelModel" "settingKept" "D") ∈ lw_all := lw_g (lw_at lw_m6 75 rfl) rfl
theorem q1327 : (Jvm.Cond.fieldLink "TwinPanelModel" (383 : Nat) "TwinPanelModel" "h" "J") ∈ lw_all := lw_g (lw_at lw_m6 76 rfl) rfl
theorem q1328 : (Jvm.Cond.lays "TwinPanelModel" "TwinPanelModel" "modules" "I") ∈ lw_all := lw_g (lw_at lw_m6 77 rfl) rfl
theorem q1329 : (Jvm.Cond.soleField "TwinPanelModel" "modules") ∈ lw_all := lw_g (lw_at lw_m6 78 rfl) rfl
theorem q1330 : (Jvm.Cond.laysFinal "TwinPanelModel" "TwinPanelModel" "kinds" "[I") ∈ lw_all := lw_g (lw_at lw_m6 79 rfl) rfl
theorem q1331 : (Jvm.Cond.soleField "TwinPanelModel" "kinds") ∈ lw_all := lw_g (lw_at lw_m6 80 rfl) rfl
theorem q1332 : (Jvm.Cond.laysFinal "TwinPanelModel" "TwinPanelModel" "settings" "[D") ∈ lw_all := lw_g (lw_at lw_m6 81 rfl) rfl
theorem q1333 : (Jvm.Cond.soleField "TwinPanelModel" "settings") ∈ lw_all := lw_g (lw_at lw_m6 82 rfl) rfl
theorem q1334 : (Jvm.Cond.laysFinal "TwinPanelModel" "TwinPanelModel" "from" "[I") ∈ lw_all := lw_g (lw_at lw_m6 83 rfl) rfl
theorem q1335 : (Jvm.Cond.soleField "TwinPanelModel" "from") ∈ lw_all := lw_g (lw_at lw_m6 84 rfl) rfl
theorem q1336 : (Jvm.Cond.laysFinal "TwinPanelModel" "TwinPanelModel" "turned" "[Z") ∈ lw_all := lw_g (lw_at lw_m6 85 rfl) rfl
theorem q1337 : (Jvm.Cond.soleField "TwinPanelModel" "turned") ∈ lw_all := lw_g (lw_at lw_m6 86 rfl) rfl
theorem q1338 : (Jvm.Cond.laysFinal "TwinPanelModel" "TwinPanelModel" "begins" "[D") ∈ lw_all := lw_g (lw_at lw_m6 87 rfl) rfl
theorem q1339 : (Jvm.Cond.soleField "TwinPanelModel" "begins") ∈ lw_all := lw_g (lw_at lw_m6 88 rfl) rfl
theorem q1340 : (Jvm.Cond.laysFinal "TwinPanelModel" "TwinPanelModel" "points" "[I") ∈ lw_all := lw_g (lw_at lw_m6 89 rfl) rfl
theorem q1341 : (Jvm.Cond.soleField "TwinPanelModel" "points") ∈ lw_all := lw_g (lw_at lw_m6 90 rfl) rfl
theorem q1342 : (Jvm.Cond.laysFinal "TwinPanelModel" "TwinPanelModel" "xs" "[D") ∈ lw_all := lw_g (lw_at lw_m6 91 rfl) rfl
theorem q1343 : (Jvm.Cond.soleField "TwinPanelModel" "xs") ∈ lw_all := lw_g (lw_at lw_m6 92 rfl) rfl
theorem q1344 : (Jvm.Cond.laysFinal "TwinPanelModel" "TwinPanelModel" "ys" "[D") ∈ lw_all := lw_g (lw_at lw_m6 93 rfl) rfl
theorem q1345 : (Jvm.Cond.soleField "TwinPanelModel" "ys") ∈ lw_all := lw_g (lw_at lw_m6 94 rfl) rfl
theorem q1346 : (Jvm.Cond.laysFinal "TwinPanelModel" "TwinPanelModel" "failAt" "[I") ∈ lw_all := lw_g (lw_at lw_m6 95 rfl) rfl
theorem q1347 : (Jvm.Cond.soleField "TwinPanelModel" "failAt") ∈ lw_all := lw_g (lw_at lw_m6 96 rfl) rfl
theorem q1348 : (Jvm.Cond.laysFinal "TwinPanelModel" "TwinPanelModel" "levels" "[I") ∈ lw_all := lw_g (lw_at lw_m6 97 rfl) rfl
theorem q1349 : (Jvm.Cond.soleField "TwinPanelModel" "levels") ∈ lw_all := lw_g (lw_at lw_m6 98 rfl) rfl
theorem q1350 : (Jvm.Cond.lays "TwinPanelModel" "TwinPanelModel" "mode" "I") ∈ lw_all := lw_g (lw_at lw_m6 99 rfl) rfl
theorem q1351 : (Jvm.Cond.soleField "TwinPanelModel" "mode") ∈ lw_all := lw_g (lw_at lw_m6 100 rfl) rfl
theorem q1352 : (Jvm.Cond.lays "TwinPanelModel" "TwinPanelModel" "time" "I") ∈ lw_all := lw_g (lw_at lw_m6 101 rfl) rfl
theorem q1353 : (Jvm.Cond.soleField "TwinPanelModel" "time") ∈ lw_all := lw_g (lw_at lw_m6 102 rfl) rfl
theorem q1354 : (Jvm.Cond.lays "TwinPanelModel" "TwinPanelModel" "rule" "I") ∈ lw_all := lw_g (lw_at lw_m6 103 rfl) rfl
theorem q1355 : (Jvm.Cond.soleField "TwinPanelModel" "rule") ∈ lw_all := lw_g (lw_at lw_m6 104 rfl) rfl
theorem q1356 : (Jvm.Cond.lays "TwinPanelModel" "TwinPanelModel" "halvings" "I") ∈ lw_all := lw_g (lw_at lw_m6 105 rfl) rfl
theorem q1357 : (Jvm.Cond.soleField "TwinPanelModel" "halvings") ∈ lw_all := lw_g (lw_at lw_m6 106 rfl) rfl
theorem q1358 : (Jvm.Cond.lays "TwinPanelModel" "TwinPanelModel" "steps" "I") ∈ lw_all := lw_g (lw_at lw_m6 107 rfl) rfl
theorem q1359 : (Jvm.Cond.soleField "TwinPanelModel" "steps") ∈ lw_all := lw_g (lw_at lw_m6 108 rfl) rfl
theorem q1360 : (Jvm.Cond.lays "TwinPanelModel" "TwinPanelModel" "broken" "I") ∈ lw_all := lw_g (lw_at lw_m6 109 rfl) rfl
theorem q1361 : (Jvm.Cond.soleField "TwinPanelModel" "broken") ∈ lw_all := lw_g (lw_at lw_m6 110 rfl) rfl
theorem q1362 : (Jvm.Cond.laysFinal "TwinPanelModel" "TwinPanelModel" "state" "[D") ∈ lw_all := lw_g (lw_at lw_m6 111 rfl) rfl
theorem q1363 : (Jvm.Cond.soleField "TwinPanelModel" "state") ∈ lw_all := lw_g (lw_at lw_m6 112 rfl) rfl
theorem q1364 : (Jvm.Cond.laysFinal "TwinPanelModel" "TwinPanelModel" "stateF" "[F") ∈ lw_all := lw_g (lw_at lw_m6 113 rfl) rfl
theorem q1365 : (Jvm.Cond.soleField "TwinPanelModel" "stateF") ∈ lw_all := lw_g (lw_at lw_m6 114 rfl) rfl
theorem q1366 : (Jvm.Cond.laysFinal "TwinPanelModel" "TwinPanelModel" "reading" "[D") ∈ lw_all := lw_g (lw_at lw_m6 115 rfl) rfl
theorem q1367 : (Jvm.Cond.soleField "TwinPanelModel" "reading") ∈ lw_all := lw_g (lw_at lw_m6 116 rfl) rfl
theorem q1368 : (Jvm.Cond.laysFinal "TwinPanelModel" "TwinPanelModel" "readingF" "[F") ∈ lw_all := lw_g (lw_at lw_m6 117 rfl) rfl
theorem q1369 : (Jvm.Cond.soleField "TwinPanelModel" "readingF") ∈ lw_all := lw_g (lw_at lw_m6 118 rfl) rfl
theorem q1370 : (Jvm.Cond.laysFinal "TwinPanelModel" "TwinPanelModel" "row" "[D") ∈ lw_all := lw_g (lw_at lw_m6 119 rfl) rfl
theorem q1371 : (Jvm.Cond.soleField "TwinPanelModel" "row") ∈ lw_all := lw_g (lw_at lw_m6 120 rfl) rfl
theorem q1372 : (Jvm.Cond.laysFinal "TwinPanelModel" "TwinPanelModel" "rowF" "[F") ∈ lw_all := lw_g (lw_at lw_m6 121 rfl) rfl
theorem q1373 : (Jvm.Cond.soleField "TwinPanelModel" "rowF") ∈ lw_all := lw_g (lw_at lw_m6 122 rfl) rfl
theorem q1374 : (Jvm.Cond.laysFinal "TwinPanelModel" "TwinPanelModel" "seeds" "[I") ∈ lw_all := lw_g (lw_at lw_m6 123 rfl) rfl
theorem q1375 : (Jvm.Cond.soleField "TwinPanelModel" "seeds") ∈ lw_all := lw_g (lw_at lw_m6 124 rfl) rfl
theorem q1376 : (Jvm.Cond.laysFinal "TwinPanelModel" "TwinPanelModel" "lamps" "[I") ∈ lw_all := lw_g (lw_at lw_m6 125 rfl) rfl
theorem q1377 : (Jvm.Cond.soleField "TwinPanelModel" "lamps") ∈ lw_all := lw_g (lw_at lw_m6 126 rfl) rfl
theorem q1378 : (Jvm.Cond.laysFinal "TwinPanelModel" "TwinPanelModel" "apart" "[D") ∈ lw_all := lw_g (lw_at lw_m6 127 rfl) rfl
theorem q1379 : (Jvm.Cond.soleField "TwinPanelModel" "apart") ∈ lw_all := lw_g (lw_at lw_m6 128 rfl) rfl
theorem q1380 : (Jvm.Cond.laysFinal "TwinPanelModel" "TwinPanelModel" "rates" "[D") ∈ lw_all := lw_g (lw_at lw_m6 129 rfl) rfl
theorem q1381 : (Jvm.Cond.soleField "TwinPanelModel" "rates") ∈ lw_all := lw_g (lw_at lw_m6 130 rfl) rfl
theorem q1382 : (Jvm.Cond.laysFinal "TwinPanelModel" "TwinPanelModel" "stateKept" "[D") ∈ lw_all := lw_g (lw_at lw_m6 131 rfl) rfl
theorem q1383 : (Jvm.Cond.soleField "TwinPanelModel" "stateKept") ∈ lw_all := lw_g (lw_at lw_m6 132 rfl) rfl
theorem q1384 : (Jvm.Cond.laysFinal "TwinPanelModel" "TwinPanelModel" "stateFKept" "[F") ∈ lw_all := lw_g (lw_at lw_m6 133 rfl) rfl
theorem q1385 : (Jvm.Cond.soleField "TwinPanelModel" "stateFKept") ∈ lw_all := lw_g (lw_at lw_m6 134 rfl) rfl
theorem q1386 : (Jvm.Cond.laysFinal "TwinPanelModel" "TwinPanelModel" "readingKept" "[D") ∈ lw_all := lw_g (lw_at lw_m6 135 rfl) rfl
theorem q1387 : (Jvm.Cond.soleField "TwinPanelModel" "readingKept") ∈ lw_all := lw_g (lw_at lw_m6 136 rfl) rfl
theorem q1388 : (Jvm.Cond.laysFinal "TwinPanelModel" "TwinPanelModel" "readingFKept" "[F") ∈ lw_all := lw_g (lw_at lw_m6 137 rfl) rfl
theorem q1389 : (Jvm.Cond.soleField "TwinPanelModel" "readingFKept") ∈ lw_all := lw_g (lw_at lw_m6 138 rfl) rfl
theorem q1390 : (Jvm.Cond.laysFinal "TwinPanelModel" "TwinPanelModel" "rowKept" "[D") ∈ lw_all := lw_g (lw_at lw_m6 139 rfl) rfl
theorem q1391 : (Jvm.Cond.soleField "TwinPanelModel" "rowKept") ∈ lw_all := lw_g (lw_at lw_m6 140 rfl) rfl
theorem q1392 : (Jvm.Cond.laysFinal "TwinPanelModel" "TwinPanelModel" "rowFKept" "[F") ∈ lw_all := lw_g (lw_at lw_m6 141 rfl) rfl
theorem q1393 : (Jvm.Cond.soleField "TwinPanelModel" "rowFKept") ∈ lw_all := lw_g (lw_at lw_m6 142 rfl) rfl
theorem q1394 : (Jvm.Cond.laysFinal "TwinPanelModel" "TwinPanelModel" "seedsKept" "[I") ∈ lw_all := lw_g (lw_at lw_m6 143 rfl) rfl
theorem q1395 : (Jvm.Cond.soleField "TwinPanelModel" "seedsKept") ∈ lw_all := lw_g (lw_at lw_m6 144 rfl) rfl
theorem q1396 : (Jvm.Cond.laysFinal "TwinPanelModel" "TwinPanelModel" "lampsKept" "[I") ∈ lw_all := lw_g (lw_at lw_m6 145 rfl) rfl
theorem q1397 : (Jvm.Cond.soleField "TwinPanelModel" "lampsKept") ∈ lw_all := lw_g (lw_at lw_m6 146 rfl) rfl
theorem q1398 : (Jvm.Cond.laysFinal "TwinPanelModel" "TwinPanelModel" "apartKept" "[D") ∈ lw_all := lw_g (lw_at lw_m6 147 rfl) rfl
theorem q1399 : (Jvm.Cond.soleField "TwinPanelModel" "apartKept") ∈ lw_all := lw_g (lw_at lw_m6 148 rfl) rfl
theorem q1400 : (Jvm.Cond.laysFinal "TwinPanelModel" "TwinPanelModel" "ratesKept" "[D") ∈ lw_all := lw_g (lw_at lw_m6 149 rfl) rfl
theorem q1401 : (Jvm.Cond.soleField "TwinPanelModel" "ratesKept") ∈ lw_all := lw_g (lw_at lw_m6 150 rfl) rfl
theorem q1402 : (Jvm.Cond.lays "TwinPanelModel" "TwinPanelModel" "strips" "I") ∈ lw_all := lw_g (lw_at lw_m6 151 rfl) rfl
theorem q1403 : (Jvm.Cond.soleField "TwinPanelModel" "strips") ∈ lw_all := lw_g (lw_at lw_m6 152 rfl) rfl
theorem q1404 : (Jvm.Cond.laysFinal "TwinPanelModel" "TwinPanelModel" "stripOf" "[I") ∈ lw_all := lw_g (lw_at lw_m6 153 rfl) rfl
theorem q1405 : (Jvm.Cond.soleField "TwinPanelModel" "stripOf") ∈ lw_all := lw_g (lw_at lw_m6 154 rfl) rfl
theorem q1406 : (Jvm.Cond.laysFinal "TwinPanelModel" "TwinPanelModel" "samples" "[I") ∈ lw_all := lw_g (lw_at lw_m6 155 rfl) rfl
theorem q1407 : (Jvm.Cond.soleField "TwinPanelModel" "samples") ∈ lw_all := lw_g (lw_at lw_m6 156 rfl) rfl
theorem q1408 : (Jvm.Cond.laysFinal "TwinPanelModel" "TwinPanelModel" "sample" "[D") ∈ lw_all := lw_g (lw_at lw_m6 157 rfl) rfl
theorem q1409 : (Jvm.Cond.soleField "TwinPanelModel" "sample") ∈ lw_all := lw_g (lw_at lw_m6 158 rfl) rfl
theorem q1410 : (Jvm.Cond.lays "TwinPanelModel" "TwinPanelModel" "swept" "I") ∈ lw_all := lw_g (lw_at lw_m6 159 rfl) rfl
theorem q1411 : (Jvm.Cond.soleField "TwinPanelModel" "swept") ∈ lw_all := lw_g (lw_at lw_m6 160 rfl) rfl
theorem q1412 : (Jvm.Cond.laysFinal "TwinPanelModel" "TwinPanelModel" "sweptValues" "[D") ∈ lw_all := lw_g (lw_at lw_m6 161 rfl) rfl
theorem q1413 : (Jvm.Cond.soleField "TwinPanelModel" "sweptValues") ∈ lw_all := lw_g (lw_at lw_m6 162 rfl) rfl
theorem q1414 : (Jvm.Cond.laysFinal "TwinPanelModel" "TwinPanelModel" "reached" "[Z") ∈ lw_all := lw_g (lw_at lw_m6 163 rfl) rfl
theorem q1415 : (Jvm.Cond.soleField "TwinPanelModel" "reached") ∈ lw_all := lw_g (lw_at lw_m6 164 rfl) rfl
theorem q1416 : (Jvm.Cond.lays "TwinPanelModel" "TwinPanelModel" "lampTime" "I") ∈ lw_all := lw_g (lw_at lw_m6 165 rfl) rfl
theorem q1417 : (Jvm.Cond.soleField "TwinPanelModel" "lampTime") ∈ lw_all := lw_g (lw_at lw_m6 166 rfl) rfl
theorem q1418 : (Jvm.Cond.lays "TwinPanelModel" "TwinPanelModel" "length" "D") ∈ lw_all := lw_g (lw_at lw_m6 167 rfl) rfl
theorem q1419 : (Jvm.Cond.soleField "TwinPanelModel" "length") ∈ lw_all := lw_g (lw_at lw_m6 168 rfl) rfl
theorem q1420 : (Jvm.Cond.laysFinal "TwinPanelModel" "TwinPanelModel" "first" "[D") ∈ lw_all := lw_g (lw_at lw_m6 169 rfl) rfl
theorem q1421 : (Jvm.Cond.soleField "TwinPanelModel" "first") ∈ lw_all := lw_g (lw_at lw_m6 170 rfl) rfl
theorem q1422 : (Jvm.Cond.laysFinal "TwinPanelModel" "TwinPanelModel" "second" "[D") ∈ lw_all := lw_g (lw_at lw_m6 171 rfl) rfl
theorem q1423 : (Jvm.Cond.soleField "TwinPanelModel" "second") ∈ lw_all := lw_g (lw_at lw_m6 172 rfl) rfl
theorem q1424 : (Jvm.Cond.laysFinal "TwinPanelModel" "TwinPanelModel" "third" "[D") ∈ lw_all := lw_g (lw_at lw_m6 173 rfl) rfl
theorem q1425 : (Jvm.Cond.soleField "TwinPanelModel" "third") ∈ lw_all := lw_g (lw_at lw_m6 174 rfl) rfl
theorem q1426 : (Jvm.Cond.laysFinal "TwinPanelModel" "TwinPanelModel" "before" "[D") ∈ lw_all := lw_g (lw_at lw_m6 175 rfl) rfl
theorem q1427 : (Jvm.Cond.soleField "TwinPanelModel" "before") ∈ lw_all := lw_g (lw_at lw_m6 176 rfl) rfl
theorem q1428 : (Jvm.Cond.laysFinal "TwinPanelModel" "TwinPanelModel" "firstF" "[F") ∈ lw_all := lw_g (lw_at lw_m6 177 rfl) rfl
theorem q1429 : (Jvm.Cond.soleField "TwinPanelModel" "firstF") ∈ lw_all := lw_g (lw_at lw_m6 178 rfl) rfl
theorem q1430 : (Jvm.Cond.laysFinal "TwinPanelModel" "TwinPanelModel" "secondF" "[F") ∈ lw_all := lw_g (lw_at lw_m6 179 rfl) rfl
theorem q1431 : (Jvm.Cond.soleField "TwinPanelModel" "secondF") ∈ lw_all := lw_g (lw_at lw_m6 180 rfl) rfl
theorem q1432 : (Jvm.Cond.laysFinal "TwinPanelModel" "TwinPanelModel" "thirdF" "[F") ∈ lw_all := lw_g (lw_at lw_m6 181 rfl) rfl
theorem q1433 : (Jvm.Cond.soleField "TwinPanelModel" "thirdF") ∈ lw_all := lw_g (lw_at lw_m6 182 rfl) rfl
theorem q1434 : (Jvm.Cond.laysFinal "TwinPanelModel" "TwinPanelModel" "beforeF" "[F") ∈ lw_all := lw_g (lw_at lw_m6 183 rfl) rfl
theorem q1435 : (Jvm.Cond.soleField "TwinPanelModel" "beforeF") ∈ lw_all := lw_g (lw_at lw_m6 184 rfl) rfl
theorem q1436 : (Jvm.Cond.laysFinal "TwinPanelModel" "TwinPanelModel" "next" "[D") ∈ lw_all := lw_g (lw_at lw_m6 185 rfl) rfl
theorem q1437 : (Jvm.Cond.soleField "TwinPanelModel" "next") ∈ lw_all := lw_g (lw_at lw_m6 186 rfl) rfl
theorem q1438 : (Jvm.Cond.laysFinal "TwinPanelModel" "TwinPanelModel" "nextF" "[F") ∈ lw_all := lw_g (lw_at lw_m6 187 rfl) rfl
theorem q1439 : (Jvm.Cond.soleField "TwinPanelModel" "nextF") ∈ lw_all := lw_g (lw_at lw_m6 188 rfl) rfl
theorem q1440 : (Jvm.Cond.laysFinal "TwinPanelModel" "TwinPanelModel" "rate" "[D") ∈ lw_all := lw_g (lw_at lw_m6 189 rfl) rfl
theorem q1441 : (Jvm.Cond.soleField "TwinPanelModel" "rate") ∈ lw_all := lw_g (lw_at lw_m6 190 rfl) rfl
theorem q1442 : (Jvm.Cond.laysFinal "TwinPanelModel" "TwinPanelModel" "rateF" "[F") ∈ lw_all := lw_g (lw_at lw_m6 191 rfl) rfl
theorem q1443 : (Jvm.Cond.soleField "TwinPanelModel" "rateF") ∈ lw_all := lw_g (lw_at lw_m6 192 rfl) rfl
theorem q1444 : (Jvm.Cond.lays "TwinPanelModel" "TwinPanelModel" "timeKept" "I") ∈ lw_all := lw_g (lw_at lw_m6 193 rfl) rfl
theorem q1445 : (Jvm.Cond.soleField "TwinPanelModel" "timeKept") ∈ lw_all := lw_g (lw_at lw_m6 194 rfl) rfl
theorem q1446 : (Jvm.Cond.lays "TwinPanelModel" "TwinPanelModel" "settingKept" "D") ∈ lw_all := lw_g (lw_at lw_m6 195 rfl) rfl
theorem q1447 : (Jvm.Cond.soleField "TwinPanelModel" "settingKept") ∈ lw_all := lw_g (lw_at lw_m6 196 rfl) rfl
theorem q1448 : (Jvm.Cond.lays "TwinPanelModel" "TwinPanelModel" "h" "J") ∈ lw_all := lw_g (lw_at lw_m6 197 rfl) rfl
theorem q1449 : (Jvm.Cond.soleField "TwinPanelModel" "h") ∈ lw_all := lw_g (lw_at lw_m6 198 rfl) rfl
theorem q1450 : (Jvm.Cond.superclass "TwinPanelModel" "java/lang/Object") ∈ lw_all := lw_g (lw_at lw_m6 199 rfl) rfl
theorem q1452 : (Jvm.Cond.instanceMethod ({ cls := "TwinPanelModel", name := "module", desc := "(IJ)I" } : Jvm.MethodName)) ∈ lw_all := lw_g (lw_at lw_m6 201 rfl) rfl
theorem q1453 : (Jvm.Cond.selects "TwinPanelModel" ({ cls := "TwinPanelModel", name := "module", desc := "(IJ)I" } : Jvm.MethodName) ({ cls := "TwinPanelModel", name := "module", desc := "(IJ)I" } : Jvm.MethodName)) ∈ lw_all := lw_g (lw_at lw_m6 202 rfl) rfl
theorem q1454 : (Jvm.Cond.code ({ cls := "TwinPanelModel", name := "module", desc := "(IJ)I" } : Jvm.MethodName) prog_19_method_9_code (4 : Nat) (Option.some Jvm.ClassFile.FieldType.int)) ∈ lw_all := lw_g (lw_at lw_m6 203 rfl) rfl
theorem q1455 : (Jvm.Cond.methodLink "TwinPanelModel" (161 : Nat) ({ cls := "TwinPanelModel", name := "in", desc := "(III)Z" } : Jvm.MethodName)) ∈ lw_all := lw_g (lw_at lw_m6 204 rfl) rfl
theorem q1456 : (Jvm.Cond.static ({ cls := "TwinPanelModel", name := "in", desc := "(III)Z" } : Jvm.MethodName)) ∈ lw_all := lw_g (lw_at lw_m6 205 rfl) rfl
theorem q1457 : (Jvm.Cond.code ({ cls := "TwinPanelModel", name := "in", desc := "(III)Z" } : Jvm.MethodName) prog_19_method_3_code (3 : Nat) (Option.some Jvm.ClassFile.FieldType.boolean)) ∈ lw_all := lw_g (lw_at lw_m6 206 rfl) rfl
theorem q1458 : (Jvm.Cond.methodLink "TwinPanelModel" (181 : Nat) ({ cls := "TwinPanelModel", name := "isNumber", desc := "(J)Z" } : Jvm.MethodName)) ∈ lw_all := lw_g (lw_at lw_m6 207 rfl) rfl
theorem q1459 : (Jvm.Cond.static ({ cls := "TwinPanelModel", name := "isNumber", desc := "(J)Z" } : Jvm.MethodName)) ∈ lw_all := lw_g (lw_at lw_m6 208 rfl) rfl
theorem q1460 : (Jvm.Cond.code ({ cls := "TwinPanelModel", name := "isNumber", desc := "(J)Z" } : Jvm.MethodName) prog_19_method_6_code (2 : Nat) (Option.some Jvm.ClassFile.FieldType.boolean)) ∈ lw_all := lw_g (lw_at lw_m6 209 rfl) rfl
theorem q1461 : (Jvm.Cond.constantLong "TwinPanelModel" (165 : Nat) (9223372036854775807 : Int64)) ∈ lw_all := lw_g (lw_at lw_m6 210 rfl) rfl
theorem q1462 : (Jvm.Cond.constantLong "TwinPanelModel" (167 : Nat) (9218868437227405312 : Int64)) ∈ lw_all := lw_g (lw_at lw_m6 211 rfl) rfl
theorem q1463 : (Jvm.Cond.methodLink "TwinPanelModel" (185 : Nat) ({ cls := "java/lang/Double", name := "longBitsToDouble", desc := "(J)D" } : Jvm.MethodName)) ∈ lw_all := lw_g (lw_at lw_m6 212 rfl) rfl
theorem q1464 : (Jvm.Cond.methodLink "TwinPanelModel" (191 : Nat) ({ cls := "TwinPanelModel", name := "isSetting", desc := "(ID)Z" } : Jvm.MethodName)) ∈ lw_all := lw_g (lw_at lw_m6 213 rfl) rfl
theorem q1465 : (Jvm.Cond.static ({ cls := "TwinPanelModel", name := "isSetting", desc := "(ID)Z" } : Jvm.MethodName)) ∈ lw_all := lw_g (lw_at lw_m6 214 rfl) rfl
theorem q1466 : (Jvm.Cond.code ({ cls := "TwinPanelModel", name := "isSetting", desc := "(ID)Z" } : Jvm.MethodName) prog_19_method_8_code (3 : Nat) (Option.some Jvm.ClassFile.FieldType.boolean)) ∈ lw_all := lw_g (lw_at lw_m6 215 rfl) rfl
theorem q1467 : (Jvm.Cond.constantDouble "TwinPanelModel" (169 : Nat) (13830554455654793216 : UInt64)) ∈ lw_all := lw_g (lw_at lw_m6 216 rfl) rfl
theorem q1468 : (Jvm.Cond.methodLink "TwinPanelModel" (171 : Nat) ({ cls := "TwinPanelModel", name := "isWithin", desc := "(DDD)Z" } : Jvm.MethodName)) ∈ lw_all := lw_g (lw_at lw_m6 217 rfl) rfl
theorem q1469 : (Jvm.Cond.static ({ cls := "TwinPanelModel", name := "isWithin", desc := "(DDD)Z" } : Jvm.MethodName)) ∈ lw_all := lw_g (lw_at lw_m6 218 rfl) rfl
theorem q1470 : (Jvm.Cond.code ({ cls := "TwinPanelModel", name := "isWithin", desc := "(DDD)Z" } : Jvm.MethodName) prog_19_method_7_code (6 : Nat) (Option.some Jvm.ClassFile.FieldType.boolean)) ∈ lw_all := lw_g (lw_at lw_m6 219 rfl) rfl
theorem q1471 : (Jvm.Cond.constantDouble "TwinPanelModel" (175 : Nat) (4625196817309499392 : UInt64)) ∈ lw_all := lw_g (lw_at lw_m6 220 rfl) rfl
theorem q1472 : (Jvm.Cond.constantDouble "TwinPanelModel" (177 : Nat) (4609434218613702656 : UInt64)) ∈ lw_all := lw_g (lw_at lw_m6 221 rfl) rfl
theorem q1473 : (Jvm.Cond.constantDouble "TwinPanelModel" (179 : Nat) (4696837146684686336 : UInt64)) ∈ lw_all := lw_g (lw_at lw_m6 222 rfl) rfl
theorem q1475 : (Jvm.Cond.instanceMethod ({ cls := "TwinPanelModel", name := "cord", desc := "(IIIZ)I" } : Jvm.MethodName)) ∈ lw_all := lw_g (lw_at lw_m6 224 rfl) rfl
theorem q1476 : (Jvm.Cond.selects "TwinPanelModel" ({ cls := "TwinPanelModel", name := "cord", desc := "(IIIZ)I" } : Jvm.MethodName) ({ cls := "TwinPanelModel", name := "cord", desc := "(IIIZ)I" } : Jvm.MethodName)) ∈ lw_all := lw_g (lw_at lw_m6 225 rfl) rfl
theorem q1477 : (Jvm.Cond.code ({ cls := "TwinPanelModel", name := "cord", desc := "(IIIZ)I" } : Jvm.MethodName) prog_19_method_10_code (5 : Nat) (Option.some Jvm.ClassFile.FieldType.int)) ∈ lw_all := lw_g (lw_at lw_m6 226 rfl) rfl
theorem q1478 : (Jvm.Cond.methodLink "TwinPanelModel" (198 : Nat) ({ cls := "TwinPanelModel", name := "isModule", desc := "(I)Z" } : Jvm.MethodName)) ∈ lw_all := lw_g (lw_at lw_m6 227 rfl) rfl
theorem q1479 : (Jvm.Cond.privateMethod ({ cls := "TwinPanelModel", name := "isModule", desc := "(I)Z" } : Jvm.MethodName)) ∈ lw_tbl := lw_at lw_m6 228 rfl
theorem q1480 : (Jvm.Cond.instanceMethod ({ cls := "TwinPanelModel", name := "isModule", desc := "(I)Z" } : Jvm.MethodName)) ∈ lw_all := lw_g (lw_at lw_m6 229 rfl) rfl
theorem q1481 : (Jvm.Cond.code ({ cls := "TwinPanelModel", name := "isModule", desc := "(I)Z" } : Jvm.MethodName) prog_19_method_4_code (2 : Nat) (Option.some Jvm.ClassFile.FieldType.boolean)) ∈ lw_all := lw_g (lw_at lw_m6 230 rfl) rfl
theorem q1483 : (Jvm.Cond.instanceMethod ({ cls := "TwinPanelModel", name := "point", desc := "(IJJ)I" } : Jvm.MethodName)) ∈ lw_all := lw_g (lw_at lw_m6 232 rfl) rfl
theorem q1484 : (Jvm.Cond.selects "TwinPanelModel" ({ cls := "TwinPanelModel", name := "point", desc := "(IJJ)I" } : Jvm.MethodName) ({ cls := "TwinPanelModel", name := "point", desc := "(IJJ)I" } : Jvm.MethodName)) ∈ lw_all := lw_g (lw_at lw_m6 233 rfl) rfl
theorem q1485 : (Jvm.Cond.code ({ cls := "TwinPanelModel", name := "point", desc := "(IJJ)I" } : Jvm.MethodName) prog_19_method_12_code (9 : Nat) (Option.some Jvm.ClassFile.FieldType.int)) ∈ lw_all := lw_g (lw_at lw_m6 234 rfl) rfl
theorem q1486 : (Jvm.Cond.methodLink "TwinPanelModel" (204 : Nat) ({ cls := "TwinPanelModel", name := "isSmall", desc := "(J)Z" } : Jvm.MethodName)) ∈ lw_all := lw_g (lw_at lw_m6 235 rfl) rfl
theorem q1487 : (Jvm.Cond.static ({ cls := "TwinPanelModel", name := "isSmall", desc := "(J)Z" } : Jvm.MethodName)) ∈ lw_all := lw_g (lw_at lw_m6 236 rfl) rfl
theorem q1488 : (Jvm.Cond.code ({ cls := "TwinPanelModel", name := "isSmall", desc := "(J)Z" } : Jvm.MethodName) prog_19_method_11_code (2 : Nat) (Option.some Jvm.ClassFile.FieldType.boolean)) ∈ lw_all := lw_g (lw_at lw_m6 237 rfl) rfl
theorem q1489 : (Jvm.Cond.constantDouble "TwinPanelModel" (202 : Nat) (13832806255468478464 : UInt64)) ∈ lw_all := lw_g (lw_at lw_m6 238 rfl) rfl
theorem q1491 : (Jvm.Cond.instanceMethod ({ cls := "TwinPanelModel", name := "begin", desc := "(IJ)I" } : Jvm.MethodName)) ∈ lw_all := lw_g (lw_at lw_m7 0 rfl) rfl
theorem q1492 : (Jvm.Cond.selects "TwinPanelModel" ({ cls := "TwinPanelModel", name := "begin", desc := "(IJ)I" } : Jvm.MethodName) ({ cls := "TwinPanelModel", name := "begin", desc := "(IJ)I" } : Jvm.MethodName)) ∈ lw_all := lw_g (lw_at lw_m7 1 rfl) rfl
theorem q1493 : (Jvm.Cond.code ({ cls := "TwinPanelModel", name := "begin", desc := "(IJ)I" } : Jvm.MethodName) prog_19_method_13_code (4 : Nat) (Option.some Jvm.ClassFile.FieldType.int)) ∈ lw_all := lw_g (lw_at lw_m7 2 rfl) rfl
theorem q1494 : (Jvm.Cond.methodLink "TwinPanelModel" (207 : Nat) ({ cls := "TwinPanelModel", name := "remembers", desc := "(I)Z" } : Jvm.MethodName)) ∈ lw_all := lw_g (lw_at lw_m7 3 rfl) rfl
theorem q1495 : (Jvm.Cond.static ({ cls := "TwinPanelModel", name := "remembers", desc := "(I)Z" } : Jvm.MethodName)) ∈ lw_all := lw_g (lw_at lw_m7 4 rfl) rfl
theorem q1496 : (Jvm.Cond.code ({ cls := "TwinPanelModel", name := "remembers", desc := "(I)Z" } : Jvm.MethodName) prog_19_method_5_code (1 : Nat) (Option.some Jvm.ClassFile.FieldType.boolean)) ∈ lw_all := lw_g (lw_at lw_m7 5 rfl) rfl
theorem q1498 : (Jvm.Cond.instanceMethod ({ cls := "TwinPanelModel", name := "setting", desc := "(IJ)I" } : Jvm.MethodName)) ∈ lw_all := lw_g (lw_at lw_m7 7 rfl) rfl
theorem q1499 : (Jvm.Cond.selects "TwinPanelModel" ({ cls := "TwinPanelModel", name := "setting", desc := "(IJ)I" } : Jvm.MethodName) ({ cls := "TwinPanelModel", name := "setting", desc := "(IJ)I" } : Jvm.MethodName)) ∈ lw_all := lw_g (lw_at lw_m7 8 rfl) rfl
theorem q1500 : (Jvm.Cond.code ({ cls := "TwinPanelModel", name := "setting", desc := "(IJ)I" } : Jvm.MethodName) prog_19_method_14_code (4 : Nat) (Option.some Jvm.ClassFile.FieldType.int)) ∈ lw_all := lw_g (lw_at lw_m7 9 rfl) rfl
theorem q1502 : (Jvm.Cond.instanceMethod ({ cls := "TwinPanelModel", name := "rule", desc := "(II)I" } : Jvm.MethodName)) ∈ lw_all := lw_g (lw_at lw_m7 11 rfl) rfl
theorem q1503 : (Jvm.Cond.selects "TwinPanelModel" ({ cls := "TwinPanelModel", name := "rule", desc := "(II)I" } : Jvm.MethodName) ({ cls := "TwinPanelModel", name := "rule", desc := "(II)I" } : Jvm.MethodName)) ∈ lw_all := lw_g (lw_at lw_m7 12 rfl) rfl
theorem q1504 : (Jvm.Cond.code ({ cls := "TwinPanelModel", name := "rule", desc := "(II)I" } : Jvm.MethodName) prog_19_method_15_code (3 : Nat) (Option.some Jvm.ClassFile.FieldType.int)) ∈ lw_all := lw_g (lw_at lw_m7 13 rfl) rfl
theorem q1506 : (Jvm.Cond.instanceMethod ({ cls := "TwinPanelModel", name := "check", desc := "()I" } : Jvm.MethodName)) ∈ lw_all := lw_g (lw_at lw_m7 15 rfl) rfl
theorem q1507 : (Jvm.Cond.selects "TwinPanelModel" ({ cls := "TwinPanelModel", name := "check", desc := "()I" } : Jvm.MethodName) ({ cls := "TwinPanelModel", name := "check", desc := "()I" } : Jvm.MethodName)) ∈ lw_all := lw_g (lw_at lw_m7 16 rfl) rfl
theorem q1508 : (Jvm.Cond.code ({ cls := "TwinPanelModel", name := "check", desc := "()I" } : Jvm.MethodName) prog_19_method_19_code (2 : Nat) (Option.some Jvm.ClassFile.FieldType.int)) ∈ lw_all := lw_g (lw_at lw_m7 17 rfl) rfl
theorem q1509 : (Jvm.Cond.methodLink "TwinPanelModel" (217 : Nat) ({ cls := "TwinPanelModel", name := "hasInputs", desc := "(I)Z" } : Jvm.MethodName)) ∈ lw_all := lw_g (lw_at lw_m7 18 rfl) rfl
theorem q1510 : (Jvm.Cond.privateMethod ({ cls := "TwinPanelModel", name := "hasInputs", desc := "(I)Z" } : Jvm.MethodName)) ∈ lw_tbl := lw_at lw_m7 19 rfl
theorem q1511 : (Jvm.Cond.instanceMethod ({ cls := "TwinPanelModel", name := "hasInputs", desc := "(I)Z" } : Jvm.MethodName)) ∈ lw_all := lw_g (lw_at lw_m7 20 rfl) rfl
theorem q1512 : (Jvm.Cond.code ({ cls := "TwinPanelModel", name := "hasInputs", desc := "(I)Z" } : Jvm.MethodName) prog_19_method_17_code (4 : Nat) (Option.some Jvm.ClassFile.FieldType.boolean)) ∈ lw_all := lw_g (lw_at lw_m7 21 rfl) rfl
theorem q1513 : (Jvm.Cond.methodLink "TwinPanelModel" (213 : Nat) ({ cls := "TwinPanelModel", name := "has", desc := "(II)Z" } : Jvm.MethodName)) ∈ lw_all := lw_g (lw_at lw_m7 22 rfl) rfl
theorem q1514 : (Jvm.Cond.privateMethod ({ cls := "TwinPanelModel", name := "has", desc := "(II)Z" } : Jvm.MethodName)) ∈ lw_tbl := lw_at lw_m7 23 rfl
theorem q1515 : (Jvm.Cond.instanceMethod ({ cls := "TwinPanelModel", name := "has", desc := "(II)Z" } : Jvm.MethodName)) ∈ lw_all := lw_g (lw_at lw_m7 24 rfl) rfl
theorem q1516 : (Jvm.Cond.code ({ cls := "TwinPanelModel", name := "has", desc := "(II)Z" } : Jvm.MethodName) prog_19_method_16_code (3 : Nat) (Option.some Jvm.ClassFile.FieldType.boolean)) ∈ lw_all := lw_g (lw_at lw_m7 25 rfl) rfl
theorem q1517 : (Jvm.Cond.methodLink "TwinPanelModel" (223 : Nat) ({ cls := "TwinPanelModel", name := "isInCircle", desc := "(I)Z" } : Jvm.MethodName)) ∈ lw_all := lw_g (lw_at lw_m7 26 rfl) rfl
theorem q1518 : (Jvm.Cond.privateMethod ({ cls := "TwinPanelModel", name := "isInCircle", desc := "(I)Z" } : Jvm.MethodName)) ∈ lw_tbl := lw_at lw_m7 27 rfl
theorem q1519 : (Jvm.Cond.instanceMethod ({ cls := "TwinPanelModel", name := "isInCircle", desc := "(I)Z" } : Jvm.MethodName)) ∈ lw_all := lw_g (lw_at lw_m7 28 rfl) rfl
theorem q1520 : (Jvm.Cond.code ({ cls := "TwinPanelModel", name := "isInCircle", desc := "(I)Z" } : Jvm.MethodName) prog_19_method_18_code (5 : Nat) (Option.some Jvm.ClassFile.FieldType.boolean)) ∈ lw_all := lw_g (lw_at lw_m7 29 rfl) rfl
theorem q1522 : (Jvm.Cond.instanceMethod ({ cls := "TwinPanelModel", name := "broken", desc := "()I" } : Jvm.MethodName)) ∈ lw_all := lw_g (lw_at lw_m7 31 rfl) rfl
theorem q1523 : (Jvm.Cond.selects "TwinPanelModel" ({ cls := "TwinPanelModel", name := "broken", desc := "()I" } : Jvm.MethodName) ({ cls := "TwinPanelModel", name := "broken", desc := "()I" } : Jvm.MethodName)) ∈ lw_all := lw_g (lw_at lw_m7 32 rfl) rfl
theorem q1524 : (Jvm.Cond.code ({ cls := "TwinPanelModel", name := "broken", desc := "()I" } : Jvm.MethodName) prog_19_method_21_code (1 : Nat) (Option.some Jvm.ClassFile.FieldType.int)) ∈ lw_all := lw_g (lw_at lw_m7 33 rfl) rfl
theorem q1526 : (Jvm.Cond.instanceMethod ({ cls := "TwinPanelModel", name := "level", desc := "(I)I" } : Jvm.MethodName)) ∈ lw_all := lw_g (lw_at lw_m7 35 rfl) rfl
theorem q1527 : (Jvm.Cond.selects "TwinPanelModel" ({ cls := "TwinPanelModel", name := "level", desc := "(I)I" } : Jvm.MethodName) ({ cls := "TwinPanelModel", name := "level", desc := "(I)I" } : Jvm.MethodName)) ∈ lw_all := lw_g (lw_at lw_m7 36 rfl) rfl
theorem q1528 : (Jvm.Cond.code ({ cls := "TwinPanelModel", name := "level", desc := "(I)I" } : Jvm.MethodName) prog_19_method_23_code (2 : Nat) (Option.some Jvm.ClassFile.FieldType.int)) ∈ lw_all := lw_g (lw_at lw_m7 37 rfl) rfl
theorem q1529 : (Jvm.Cond.methodLink "TwinPanelModel" (230 : Nat) ({ cls := "TwinPanelModel", name := "levelAll", desc := "()V" } : Jvm.MethodName)) ∈ lw_all := lw_g (lw_at lw_m7 38 rfl) rfl
theorem q1530 : (Jvm.Cond.privateMethod ({ cls := "TwinPanelModel", name := "levelAll", desc := "()V" } : Jvm.MethodName)) ∈ lw_tbl := lw_at lw_m7 39 rfl
theorem q1531 : (Jvm.Cond.instanceMethod ({ cls := "TwinPanelModel", name := "levelAll", desc := "()V" } : Jvm.MethodName)) ∈ lw_all := lw_g (lw_at lw_m7 40 rfl) rfl
theorem q1532 : (Jvm.Cond.code ({ cls := "TwinPanelModel", name := "levelAll", desc := "()V" } : Jvm.MethodName) prog_19_method_22_code (7 : Nat) (Option.none : Option Jvm.ClassFile.FieldType)) ∈ lw_all := lw_g (lw_at lw_m7 41 rfl) rfl
theorem q1534 : (Jvm.Cond.instanceMethod ({ cls := "TwinPanelModel", name := "mode", desc := "(I)I" } : Jvm.MethodName)) ∈ lw_all := lw_g (lw_at lw_m7 43 rfl) rfl
theorem q1535 : (Jvm.Cond.selects "TwinPanelModel" ({ cls := "TwinPanelModel", name := "mode", desc := "(I)I" } : Jvm.MethodName) ({ cls := "TwinPanelModel", name := "mode", desc := "(I)I" } : Jvm.MethodName)) ∈ lw_all := lw_g (lw_at lw_m7 44 rfl) rfl
theorem q1536 : (Jvm.Cond.code ({ cls := "TwinPanelModel", name := "mode", desc := "(I)I" } : Jvm.MethodName) prog_19_method_47_code (4 : Nat) (Option.some Jvm.ClassFile.FieldType.int)) ∈ lw_all := lw_g (lw_at lw_m7 45 rfl) rfl
theorem q1537 : (Jvm.Cond.methodLink "TwinPanelModel" (335 : Nat) ({ cls := "TwinPanelModel", name := "wrong", desc := "()I" } : Jvm.MethodName)) ∈ lw_all := lw_g (lw_at lw_m7 46 rfl) rfl
theorem q1538 : (Jvm.Cond.privateMethod ({ cls := "TwinPanelModel", name := "wrong", desc := "()I" } : Jvm.MethodName)) ∈ lw_tbl := lw_at lw_m7 47 rfl
theorem q1539 : (Jvm.Cond.instanceMethod ({ cls := "TwinPanelModel", name := "wrong", desc := "()I" } : Jvm.MethodName)) ∈ lw_all := lw_g (lw_at lw_m7 48 rfl) rfl
theorem q1540 : (Jvm.Cond.code ({ cls := "TwinPanelModel", name := "wrong", desc := "()I" } : Jvm.MethodName) prog_19_method_20_code (3 : Nat) (Option.some Jvm.ClassFile.FieldType.int)) ∈ lw_all := lw_g (lw_at lw_m7 49 rfl) rfl
theorem q1541 : (Jvm.Cond.methodLink "TwinPanelModel" (226 : Nat) ({ cls := "TwinPanelModel", name := "check", desc := "()I" } : Jvm.MethodName)) ∈ lw_all := lw_g (lw_at lw_m7 50 rfl) rfl
theorem q1542 : (Jvm.Cond.methodLink "TwinPanelModel" (338 : Nat) ({ cls := "TwinPanelModel", name := "beginAll", desc := "()V" } : Jvm.MethodName)) ∈ lw_all := lw_g (lw_at lw_m7 51 rfl) rfl
theorem q1543 : (Jvm.Cond.privateMethod ({ cls := "TwinPanelModel", name := "beginAll", desc := "()V" } : Jvm.MethodName)) ∈ lw_tbl := lw_at lw_m7 52 rfl
theorem q1544 : (Jvm.Cond.instanceMethod ({ cls := "TwinPanelModel", name := "beginAll", desc := "()V" } : Jvm.MethodName)) ∈ lw_all := lw_g (lw_at lw_m7 53 rfl) rfl
theorem q1545 : (Jvm.Cond.code ({ cls := "TwinPanelModel", name := "beginAll", desc := "()V" } : Jvm.MethodName) prog_19_method_44_code (3 : Nat) (Option.none : Option Jvm.ClassFile.FieldType)) ∈ lw_all := lw_g (lw_at lw_m7 54 rfl) rfl
theorem q1546 : (Jvm.Cond.methodLink "TwinPanelModel" (311 : Nat) ({ cls := "TwinPanelModel", name := "readAll", desc := "()V" } : Jvm.MethodName)) ∈ lw_all := lw_g (lw_at lw_m7 55 rfl) rfl
theorem q1547 : (Jvm.Cond.privateMethod ({ cls := "TwinPanelModel", name := "readAll", desc := "()V" } : Jvm.MethodName)) ∈ lw_tbl := lw_at lw_m7 56 rfl
theorem q1548 : (Jvm.Cond.instanceMethod ({ cls := "TwinPanelModel", name := "readAll", desc := "()V" } : Jvm.MethodName)) ∈ lw_all := lw_g (lw_at lw_m7 57 rfl) rfl
theorem q1549 : (Jvm.Cond.code ({ cls := "TwinPanelModel", name := "readAll", desc := "()V" } : Jvm.MethodName) prog_19_method_37_code (4 : Nat) (Option.none : Option Jvm.ClassFile.FieldType)) ∈ lw_all := lw_g (lw_at lw_m7 58 rfl) rfl
theorem q1550 : (Jvm.Cond.methodLink "TwinPanelModel" (285 : Nat) ({ cls := "TwinPanelModel", name := "made", desc := "(I)D" } : Jvm.MethodName)) ∈ lw_all := lw_g (lw_at lw_m7 59 rfl) rfl
theorem q1551 : (Jvm.Cond.privateMethod ({ cls := "TwinPanelModel", name := "made", desc := "(I)D" } : Jvm.MethodName)) ∈ lw_tbl := lw_at lw_m7 60 rfl
theorem q1552 : (Jvm.Cond.instanceMethod ({ cls := "TwinPanelModel", name := "made", desc := "(I)D" } : Jvm.MethodName)) ∈ lw_all := lw_g (lw_at lw_m7 61 rfl) rfl
theorem q1553 : (Jvm.Cond.code ({ cls := "TwinPanelModel", name := "made", desc := "(I)D" } : Jvm.MethodName) prog_19_method_33_code (8 : Nat) (Option.some Jvm.ClassFile.FieldType.double)) ∈ lw_all := lw_g (lw_at lw_m7 62 rfl) rfl
theorem q1554 : (Jvm.Cond.methodLink "TwinPanelModel" (242 : Nat) ({ cls := "TwinPanelModel", name := "input", desc := "(II)D" } : Jvm.MethodName)) ∈ lw_all := lw_g (lw_at lw_m7 63 rfl) rfl
theorem q1555 : (Jvm.Cond.privateMethod ({ cls := "TwinPanelModel", name := "input", desc := "(II)D" } : Jvm.MethodName)) ∈ lw_tbl := lw_at lw_m7 64 rfl
theorem q1556 : (Jvm.Cond.instanceMethod ({ cls := "TwinPanelModel", name := "input", desc := "(II)D" } : Jvm.MethodName)) ∈ lw_all := lw_g (lw_at lw_m7 65 rfl) rfl
theorem q1557 : (Jvm.Cond.code ({ cls := "TwinPanelModel", name := "input", desc := "(II)D" } : Jvm.MethodName) prog_19_method_27_code (5 : Nat) (Option.some Jvm.ClassFile.FieldType.double)) ∈ lw_all := lw_g (lw_at lw_m7 66 rfl) rfl
theorem q1558 : (Jvm.Cond.methodLink "TwinPanelModel" (264 : Nat) ({ cls := "TwinPanelModel", name := "sum", desc := "(I)D" } : Jvm.MethodName)) ∈ lw_all := lw_g (lw_at lw_m7 67 rfl) rfl
theorem q1559 : (Jvm.Cond.privateMethod ({ cls := "TwinPanelModel", name := "sum", desc := "(I)D" } : Jvm.MethodName)) ∈ lw_tbl := lw_at lw_m7 68 rfl
theorem q1560 : (Jvm.Cond.instanceMethod ({ cls := "TwinPanelModel", name := "sum", desc := "(I)D" } : Jvm.MethodName)) ∈ lw_all := lw_g (lw_at lw_m7 69 rfl) rfl
theorem q1561 : (Jvm.Cond.code ({ cls := "TwinPanelModel", name := "sum", desc := "(I)D" } : Jvm.MethodName) prog_19_method_29_code (6 : Nat) (Option.some Jvm.ClassFile.FieldType.double)) ∈ lw_all := lw_g (lw_at lw_m7 70 rfl) rfl
theorem q1562 : (Jvm.Cond.methodLink "TwinPanelModel" (236 : Nat) ({ cls := "TwinPanelModel", name := "light", desc := "(I)V" } : Jvm.MethodName)) ∈ lw_all := lw_g (lw_at lw_m7 71 rfl) rfl
theorem q1563 : (Jvm.Cond.privateMethod ({ cls := "TwinPanelModel", name := "light", desc := "(I)V" } : Jvm.MethodName)) ∈ lw_tbl := lw_at lw_m7 72 rfl
theorem q1564 : (Jvm.Cond.instanceMethod ({ cls := "TwinPanelModel", name := "light", desc := "(I)V" } : Jvm.MethodName)) ∈ lw_all := lw_g (lw_at lw_m7 73 rfl) rfl
theorem q1565 : (Jvm.Cond.code ({ cls := "TwinPanelModel", name := "light", desc := "(I)V" } : Jvm.MethodName) prog_19_method_24_code (2 : Nat) (Option.none : Option Jvm.ClassFile.FieldType)) ∈ lw_all := lw_g (lw_at lw_m7 74 rfl) rfl
theorem q1566 : (Jvm.Cond.methodLink "TwinPanelModel" (268 : Nat) ({ cls := "TwinPanelModel", name := "root", desc := "(D)D" } : Jvm.MethodName)) ∈ lw_all := lw_g (lw_at lw_m7 75 rfl) rfl
theorem q1567 : (Jvm.Cond.static ({ cls := "TwinPanelModel", name := "root", desc := "(D)D" } : Jvm.MethodName)) ∈ lw_all := lw_g (lw_at lw_m7 76 rfl) rfl
theorem q1568 : (Jvm.Cond.code ({ cls := "TwinPanelModel", name := "root", desc := "(D)D" } : Jvm.MethodName) prog_19_method_31_code (17 : Nat) (Option.some Jvm.ClassFile.FieldType.double)) ∈ lw_all := lw_g (lw_at lw_m7 77 rfl) rfl
theorem q1569 : (Jvm.Cond.methodLink "TwinPanelModel" (250 : Nat) ({ cls := "java/lang/Double", name := "doubleToLongBits", desc := "(D)J" } : Jvm.MethodName)) ∈ lw_all := lw_g (lw_at lw_m7 78 rfl) rfl
theorem q1570 : (Jvm.Cond.constantLong "TwinPanelModel" (254 : Nat) (4503599627370495 : Int64)) ∈ lw_all := lw_g (lw_at lw_m7 79 rfl) rfl
theorem q1571 : (Jvm.Cond.constantLong "TwinPanelModel" (256 : Nat) (4503599627370496 : Int64)) ∈ lw_all := lw_g (lw_at lw_m7 80 rfl) rfl
theorem q1572 : (Jvm.Cond.constantLong "TwinPanelModel" (258 : Nat) (3 : Int64)) ∈ lw_all := lw_g (lw_at lw_m7 81 rfl) rfl
theorem q1573 : (Jvm.Cond.methodLink "TwinPanelModel" (260 : Nat) ({ cls := "TwinPanelModel", name := "scaled", desc := "(JI)D" } : Jvm.MethodName)) ∈ lw_all := lw_g (lw_at lw_m7 82 rfl) rfl
theorem q1574 : (Jvm.Cond.static ({ cls := "TwinPanelModel", name := "scaled", desc := "(JI)D" } : Jvm.MethodName)) ∈ lw_all := lw_g (lw_at lw_m7 83 rfl) rfl
theorem q1575 : (Jvm.Cond.code ({ cls := "TwinPanelModel", name := "scaled", desc := "(JI)D" } : Jvm.MethodName) prog_19_method_32_code (7 : Nat) (Option.some Jvm.ClassFile.FieldType.double)) ∈ lw_all := lw_g (lw_at lw_m7 84 rfl) rfl
theorem q1576 : (Jvm.Cond.methodLink "TwinPanelModel" (272 : Nat) ({ cls := "TwinPanelModel", name := "table", desc := "(ID)D" } : Jvm.MethodName)) ∈ lw_all := lw_g (lw_at lw_m7 85 rfl) rfl
theorem q1577 : (Jvm.Cond.privateMethod ({ cls := "TwinPanelModel", name := "table", desc := "(ID)D" } : Jvm.MethodName)) ∈ lw_tbl := lw_at lw_m7 86 rfl
theorem q1578 : (Jvm.Cond.instanceMethod ({ cls := "TwinPanelModel", name := "table", desc := "(ID)D" } : Jvm.MethodName)) ∈ lw_all := lw_g (lw_at lw_m7 87 rfl) rfl
theorem q1579 : (Jvm.Cond.code ({ cls := "TwinPanelModel", name := "table", desc := "(ID)D" } : Jvm.MethodName) prog_19_method_34_code (11 : Nat) (Option.some Jvm.ClassFile.FieldType.double)) ∈ lw_all := lw_g (lw_at lw_m7 88 rfl) rfl
theorem q1580 : (Jvm.Cond.methodLink "TwinPanelModel" (288 : Nat) ({ cls := "TwinPanelModel", name := "after", desc := "(ID)D" } : Jvm.MethodName)) ∈ lw_all := lw_g (lw_at lw_m7 89 rfl) rfl
theorem q1581 : (Jvm.Cond.privateMethod ({ cls := "TwinPanelModel", name := "after", desc := "(ID)D" } : Jvm.MethodName)) ∈ lw_tbl := lw_at lw_m7 90 rfl
theorem q1582 : (Jvm.Cond.instanceMethod ({ cls := "TwinPanelModel", name := "after", desc := "(ID)D" } : Jvm.MethodName)) ∈ lw_all := lw_g (lw_at lw_m7 91 rfl) rfl
theorem q1583 : (Jvm.Cond.code ({ cls := "TwinPanelModel", name := "after", desc := "(ID)D" } : Jvm.MethodName) prog_19_method_25_code (4 : Nat) (Option.some Jvm.ClassFile.FieldType.double)) ∈ lw_all := lw_g (lw_at lw_m7 92 rfl) rfl
theorem q1584 : (Jvm.Cond.methodLink "TwinPanelModel" (291 : Nat) ({ cls := "TwinPanelModel", name := "madeF", desc := "(I)F" } : Jvm.MethodName)) ∈ lw_all := lw_g (lw_at lw_m7 93 rfl) rfl
theorem q1585 : (Jvm.Cond.privateMethod ({ cls := "TwinPanelModel", name := "madeF", desc := "(I)F" } : Jvm.MethodName)) ∈ lw_tbl := lw_at lw_m7 94 rfl
theorem q1586 : (Jvm.Cond.instanceMethod ({ cls := "TwinPanelModel", name := "madeF", desc := "(I)F" } : Jvm.MethodName)) ∈ lw_all := lw_g (lw_at lw_m7 95 rfl) rfl
theorem q1587 : (Jvm.Cond.code ({ cls := "TwinPanelModel", name := "madeF", desc := "(I)F" } : Jvm.MethodName) prog_19_method_35_code (5 : Nat) (Option.some Jvm.ClassFile.FieldType.float)) ∈ lw_all := lw_g (lw_at lw_m7 96 rfl) rfl
theorem q1588 : (Jvm.Cond.methodLink "TwinPanelModel" (246 : Nat) ({ cls := "TwinPanelModel", name := "inputF", desc := "(II)F" } : Jvm.MethodName)) ∈ lw_all := lw_g (lw_at lw_m7 97 rfl) rfl
theorem q1589 : (Jvm.Cond.privateMethod ({ cls := "TwinPanelModel", name := "inputF", desc := "(II)F" } : Jvm.MethodName)) ∈ lw_tbl := lw_at lw_m7 98 rfl
theorem q1590 : (Jvm.Cond.instanceMethod ({ cls := "TwinPanelModel", name := "inputF", desc := "(II)F" } : Jvm.MethodName)) ∈ lw_all := lw_g (lw_at lw_m7 99 rfl) rfl
theorem q1591 : (Jvm.Cond.code ({ cls := "TwinPanelModel", name := "inputF", desc := "(II)F" } : Jvm.MethodName) prog_19_method_28_code (4 : Nat) (Option.some Jvm.ClassFile.FieldType.float)) ∈ lw_all := lw_g (lw_at lw_m7 100 rfl) rfl
theorem q1592 : (Jvm.Cond.methodLink "TwinPanelModel" (276 : Nat) ({ cls := "TwinPanelModel", name := "sumF", desc := "(I)F" } : Jvm.MethodName)) ∈ lw_all := lw_g (lw_at lw_m7 101 rfl) rfl
theorem q1593 : (Jvm.Cond.privateMethod ({ cls := "TwinPanelModel", name := "sumF", desc := "(I)F" } : Jvm.MethodName)) ∈ lw_tbl := lw_at lw_m7 102 rfl
theorem q1594 : (Jvm.Cond.instanceMethod ({ cls := "TwinPanelModel", name := "sumF", desc := "(I)F" } : Jvm.MethodName)) ∈ lw_all := lw_g (lw_at lw_m7 103 rfl) rfl
theorem q1595 : (Jvm.Cond.code ({ cls := "TwinPanelModel", name := "sumF", desc := "(I)F" } : Jvm.MethodName) prog_19_method_30_code (5 : Nat) (Option.some Jvm.ClassFile.FieldType.float)) ∈ lw_all := lw_g (lw_at lw_m7 104 rfl) rfl
theorem q1596 : (Jvm.Cond.constantFloat "TwinPanelModel" (240 : Nat) (1069547520 : UInt32)) ∈ lw_all := lw_g (lw_at lw_m7 105 rfl) rfl
theorem q1597 : (Jvm.Cond.constantFloat "TwinPanelModel" (241 : Nat) (3217031168 : UInt32)) ∈ lw_all := lw_g (lw_at lw_m7 106 rfl) rfl
theorem q1598 : (Jvm.Cond.methodLink "TwinPanelModel" (280 : Nat) ({ cls := "TwinPanelModel", name := "tableF", desc := "(IF)F" } : Jvm.MethodName)) ∈ lw_all := lw_g (lw_at lw_m7 107 rfl) rfl
theorem q1599 : (Jvm.Cond.privateMethod ({ cls := "TwinPanelModel", name := "tableF", desc := "(IF)F" } : Jvm.MethodName)) ∈ lw_tbl := lw_at lw_m7 108 rfl
theorem q1600 : (Jvm.Cond.instanceMethod ({ cls := "TwinPanelModel", name := "tableF", desc := "(IF)F" } : Jvm.MethodName)) ∈ lw_all := lw_g (lw_at lw_m7 109 rfl) rfl
theorem q1601 : (Jvm.Cond.code ({ cls := "TwinPanelModel", name := "tableF", desc := "(IF)F" } : Jvm.MethodName) prog_19_method_36_code (10 : Nat) (Option.some Jvm.ClassFile.FieldType.float)) ∈ lw_all := lw_g (lw_at lw_m7 110 rfl) rfl
theorem q1602 : (Jvm.Cond.constantFloat "TwinPanelModel" (284 : Nat) (3212836864 : UInt32)) ∈ lw_all := lw_g (lw_at lw_m7 111 rfl) rfl
theorem q1603 : (Jvm.Cond.methodLink "TwinPanelModel" (294 : Nat) ({ cls := "TwinPanelModel", name := "afterF", desc := "(IF)F" } : Jvm.MethodName)) ∈ lw_all := lw_g (lw_at lw_m7 112 rfl) rfl
theorem q1604 : (Jvm.Cond.privateMethod ({ cls := "TwinPanelModel", name := "afterF", desc := "(IF)F" } : Jvm.MethodName)) ∈ lw_tbl := lw_at lw_m7 113 rfl
theorem q1605 : (Jvm.Cond.instanceMethod ({ cls := "TwinPanelModel", name := "afterF", desc := "(IF)F" } : Jvm.MethodName)) ∈ lw_all := lw_g (lw_at lw_m7 114 rfl) rfl
theorem q1606 : (Jvm.Cond.code ({ cls := "TwinPanelModel", name := "afterF", desc := "(IF)F" } : Jvm.MethodName) prog_19_method_26_code (3 : Nat) (Option.some Jvm.ClassFile.FieldType.float)) ∈ lw_all := lw_g (lw_at lw_m7 115 rfl) rfl
theorem q1607 : (Jvm.Cond.methodLink "TwinPanelModel" (325 : Nat) ({ cls := "TwinPanelModel", name := "differ", desc := "(I)V" } : Jvm.MethodName)) ∈ lw_all := lw_g (lw_at lw_m7 116 rfl) rfl
theorem q1608 : (Jvm.Cond.privateMethod ({ cls := "TwinPanelModel", name := "differ", desc := "(I)V" } : Jvm.MethodName)) ∈ lw_tbl := lw_at lw_m7 117 rfl
theorem q1609 : (Jvm.Cond.instanceMethod ({ cls := "TwinPanelModel", name := "differ", desc := "(I)V" } : Jvm.MethodName)) ∈ lw_all := lw_g (lw_at lw_m7 118 rfl) rfl
theorem q1610 : (Jvm.Cond.code ({ cls := "TwinPanelModel", name := "differ", desc := "(I)V" } : Jvm.MethodName) prog_19_method_43_code (4 : Nat) (Option.none : Option Jvm.ClassFile.FieldType)) ∈ lw_all := lw_g (lw_at lw_m7 119 rfl) rfl
theorem q1611 : (Jvm.Cond.methodLink "TwinPanelModel" (341 : Nat) ({ cls := "TwinPanelModel", name := "toStrips", desc := "()V" } : Jvm.MethodName)) ∈ lw_all := lw_g (lw_at lw_m7 120 rfl) rfl
theorem q1612 : (Jvm.Cond.privateMethod ({ cls := "TwinPanelModel", name := "toStrips", desc := "()V" } : Jvm.MethodName)) ∈ lw_tbl := lw_at lw_m7 121 rfl
theorem q1613 : (Jvm.Cond.instanceMethod ({ cls := "TwinPanelModel", name := "toStrips", desc := "()V" } : Jvm.MethodName)) ∈ lw_all := lw_g (lw_at lw_m7 122 rfl) rfl
theorem q1614 : (Jvm.Cond.code ({ cls := "TwinPanelModel", name := "toStrips", desc := "()V" } : Jvm.MethodName) prog_19_method_46_code (2 : Nat) (Option.none : Option Jvm.ClassFile.FieldType)) ∈ lw_all := lw_g (lw_at lw_m7 123 rfl) rfl
theorem q1616 : (Jvm.Cond.instanceMethod ({ cls := "TwinPanelModel", name := "now", desc := "()I" } : Jvm.MethodName)) ∈ lw_all := lw_g (lw_at lw_m7 125 rfl) rfl
theorem q1617 : (Jvm.Cond.selects "TwinPanelModel" ({ cls := "TwinPanelModel", name := "now", desc := "()I" } : Jvm.MethodName) ({ cls := "TwinPanelModel", name := "now", desc := "()I" } : Jvm.MethodName)) ∈ lw_all := lw_g (lw_at lw_m7 126 rfl) rfl
theorem q1618 : (Jvm.Cond.code ({ cls := "TwinPanelModel", name := "now", desc := "()I" } : Jvm.MethodName) prog_19_method_48_code (1 : Nat) (Option.some Jvm.ClassFile.FieldType.int)) ∈ lw_all := lw_g (lw_at lw_m7 127 rfl) rfl
theorem q1620 : (Jvm.Cond.instanceMethod ({ cls := "TwinPanelModel", name := "run", desc := "(I)I" } : Jvm.MethodName)) ∈ lw_all := lw_g (lw_at lw_m7 129 rfl) rfl
theorem q1621 : (Jvm.Cond.selects "TwinPanelModel" ({ cls := "TwinPanelModel", name := "run", desc := "(I)I" } : Jvm.MethodName) ({ cls := "TwinPanelModel", name := "run", desc := "(I)I" } : Jvm.MethodName)) ∈ lw_all := lw_g (lw_at lw_m7 130 rfl) rfl
theorem q1622 : (Jvm.Cond.code ({ cls := "TwinPanelModel", name := "run", desc := "(I)I" } : Jvm.MethodName) prog_19_method_49_code (4 : Nat) (Option.some Jvm.ClassFile.FieldType.int)) ∈ lw_all := lw_g (lw_at lw_m7 131 rfl) rfl
theorem q1623 : (Jvm.Cond.methodLink "TwinPanelModel" (344 : Nat) ({ cls := "TwinPanelModel", name := "lengthOf", desc := "(I)D" } : Jvm.MethodName)) ∈ lw_all := lw_g (lw_at lw_m7 132 rfl) rfl
theorem q1624 : (Jvm.Cond.privateMethod ({ cls := "TwinPanelModel", name := "lengthOf", desc := "(I)D" } : Jvm.MethodName)) ∈ lw_tbl := lw_at lw_m7 133 rfl
theorem q1625 : (Jvm.Cond.instanceMethod ({ cls := "TwinPanelModel", name := "lengthOf", desc := "(I)D" } : Jvm.MethodName)) ∈ lw_all := lw_g (lw_at lw_m7 134 rfl) rfl
theorem q1626 : (Jvm.Cond.code ({ cls := "TwinPanelModel", name := "lengthOf", desc := "(I)D" } : Jvm.MethodName) prog_19_method_45_code (5 : Nat) (Option.some Jvm.ClassFile.FieldType.double)) ∈ lw_all := lw_g (lw_at lw_m7 135 rfl) rfl
theorem q1627 : (Jvm.Cond.constantDouble "TwinPanelModel" (314 : Nat) (4611686018427387904 : UInt64)) ∈ lw_all := lw_g (lw_at lw_m7 136 rfl) rfl
theorem q1628 : (Jvm.Cond.methodLink "TwinPanelModel" (347 : Nat) ({ cls := "TwinPanelModel", name := "step", desc := "()V" } : Jvm.MethodName)) ∈ lw_all := lw_g (lw_at lw_m7 137 rfl) rfl
theorem q1629 : (Jvm.Cond.privateMethod ({ cls := "TwinPanelModel", name := "step", desc := "()V" } : Jvm.MethodName)) ∈ lw_tbl := lw_at lw_m7 138 rfl
theorem q1630 : (Jvm.Cond.instanceMethod ({ cls := "TwinPanelModel", name := "step", desc := "()V" } : Jvm.MethodName)) ∈ lw_all := lw_g (lw_at lw_m7 139 rfl) rfl
theorem q1631 : (Jvm.Cond.code ({ cls := "TwinPanelModel", name := "step", desc := "()V" } : Jvm.MethodName) prog_19_method_41_code (7 : Nat) (Option.none : Option Jvm.ClassFile.FieldType)) ∈ lw_all := lw_g (lw_at lw_m7 140 rfl) rfl
theorem q1632 : (Jvm.Cond.methodLink "TwinPanelModel" (301 : Nat) ({ cls := "TwinPanelModel", name := "rateAll", desc := "()V" } : Jvm.MethodName)) ∈ lw_all := lw_g (lw_at lw_m7 141 rfl) rfl
theorem q1633 : (Jvm.Cond.privateMethod ({ cls := "TwinPanelModel", name := "rateAll", desc := "()V" } : Jvm.MethodName)) ∈ lw_tbl := lw_at lw_m7 142 rfl
theorem q1634 : (Jvm.Cond.instanceMethod ({ cls := "TwinPanelModel", name := "rateAll", desc := "()V" } : Jvm.MethodName)) ∈ lw_all := lw_g (lw_at lw_m7 143 rfl) rfl
theorem q1635 : (Jvm.Cond.code ({ cls := "TwinPanelModel", name := "rateAll", desc := "()V" } : Jvm.MethodName) prog_19_method_38_code (2 : Nat) (Option.none : Option Jvm.ClassFile.FieldType)) ∈ lw_all := lw_g (lw_at lw_m7 144 rfl) rfl
theorem q1636 : (Jvm.Cond.methodLink "TwinPanelModel" (304 : Nat) ({ cls := "TwinPanelModel", name := "keepRates", desc := "(I)V" } : Jvm.MethodName)) ∈ lw_all := lw_g (lw_at lw_m7 145 rfl) rfl
theorem q1637 : (Jvm.Cond.privateMethod ({ cls := "TwinPanelModel", name := "keepRates", desc := "(I)V" } : Jvm.MethodName)) ∈ lw_tbl := lw_at lw_m7 146 rfl
theorem q1638 : (Jvm.Cond.instanceMethod ({ cls := "TwinPanelModel", name := "keepRates", desc := "(I)V" } : Jvm.MethodName)) ∈ lw_all := lw_g (lw_at lw_m7 147 rfl) rfl
theorem q1639 : (Jvm.Cond.code ({ cls := "TwinPanelModel", name := "keepRates", desc := "(I)V" } : Jvm.MethodName) prog_19_method_40_code (3 : Nat) (Option.none : Option Jvm.ClassFile.FieldType)) ∈ lw_all := lw_g (lw_at lw_m7 148 rfl) rfl
theorem q1640 : (Jvm.Cond.methodLink "TwinPanelModel" (307 : Nat) ({ cls := "TwinPanelModel", name := "stage", desc := "(D)V" } : Jvm.MethodName)) ∈ lw_all := lw_g (lw_at lw_m7 149 rfl) rfl
theorem q1641 : (Jvm.Cond.privateMethod ({ cls := "TwinPanelModel", name := "stage", desc := "(D)V" } : Jvm.MethodName)) ∈ lw_tbl := lw_at lw_m7 150 rfl
theorem q1642 : (Jvm.Cond.instanceMethod ({ cls := "TwinPanelModel", name := "stage", desc := "(D)V" } : Jvm.MethodName)) ∈ lw_all := lw_g (lw_at lw_m7 151 rfl) rfl
theorem q1643 : (Jvm.Cond.code ({ cls := "TwinPanelModel", name := "stage", desc := "(D)V" } : Jvm.MethodName) prog_19_method_39_code (8 : Nat) (Option.none : Option Jvm.ClassFile.FieldType)) ∈ lw_all := lw_g (lw_at lw_m7 152 rfl) rfl
theorem q1644 : (Jvm.Cond.constantDouble "TwinPanelModel" (316 : Nat) (4618441417868443648 : UInt64)) ∈ lw_all := lw_g (lw_at lw_m7 153 rfl) rfl
theorem q1645 : (Jvm.Cond.constantFloat "TwinPanelModel" (318 : Nat) (1086324736 : UInt32)) ∈ lw_all := lw_g (lw_at lw_m7 154 rfl) rfl
theorem q1646 : (Jvm.Cond.methodLink "TwinPanelModel" (319 : Nat) ({ cls := "TwinPanelModel", name := "others", desc := "()V" } : Jvm.MethodName)) ∈ lw_all := lw_g (lw_at lw_m7 155 rfl) rfl
theorem q1647 : (Jvm.Cond.privateMethod ({ cls := "TwinPanelModel", name := "others", desc := "()V" } : Jvm.MethodName)) ∈ lw_tbl := lw_at lw_m7 156 rfl
theorem q1648 : (Jvm.Cond.instanceMethod ({ cls := "TwinPanelModel", name := "others", desc := "()V" } : Jvm.MethodName)) ∈ lw_all := lw_g (lw_at lw_m7 157 rfl) rfl
theorem q1649 : (Jvm.Cond.code ({ cls := "TwinPanelModel", name := "others", desc := "()V" } : Jvm.MethodName) prog_19_method_42_code (4 : Nat) (Option.none : Option Jvm.ClassFile.FieldType)) ∈ lw_all := lw_g (lw_at lw_m7 158 rfl) rfl
theorem q1650 : (Jvm.Cond.constant "TwinPanelModel" (328 : Nat) (1664525 : Int32)) ∈ lw_all := lw_g (lw_at lw_m7 159 rfl) rfl
theorem q1651 : (Jvm.Cond.constant "TwinPanelModel" (329 : Nat) (1013904223 : Int32)) ∈ lw_all := lw_g (lw_at lw_m7 160 rfl) rfl
theorem q1652 : (Jvm.Cond.constantDouble "TwinPanelModel" (330 : Nat) (4746794007248502784 : UInt64)) ∈ lw_all := lw_g (lw_at lw_m7 161 rfl) rfl
theorem q1654 : (Jvm.Cond.instanceMethod ({ cls := "TwinPanelModel", name := "fail", desc := "(II)I" } : Jvm.MethodName)) ∈ lw_all := lw_g (lw_at lw_m7 163 rfl) rfl
theorem q1655 : (Jvm.Cond.selects "TwinPanelModel" ({ cls := "TwinPanelModel", name := "fail", desc := "(II)I" } : Jvm.MethodName) ({ cls := "TwinPanelModel", name := "fail", desc := "(II)I" } : Jvm.MethodName)) ∈ lw_all := lw_g (lw_at lw_m7 164 rfl) rfl
theorem q1656 : (Jvm.Cond.code ({ cls := "TwinPanelModel", name := "fail", desc := "(II)I" } : Jvm.MethodName) prog_19_method_50_code (3 : Nat) (Option.some Jvm.ClassFile.FieldType.int)) ∈ lw_all := lw_g (lw_at lw_m7 165 rfl) rfl
theorem q1658 : (Jvm.Cond.instanceMethod ({ cls := "TwinPanelModel", name := "time", desc := "()I" } : Jvm.MethodName)) ∈ lw_all := lw_g (lw_at lw_m7 167 rfl) rfl
theorem q1659 : (Jvm.Cond.selects "TwinPanelModel" ({ cls := "TwinPanelModel", name := "time", desc := "()I" } : Jvm.MethodName) ({ cls := "TwinPanelModel", name := "time", desc := "()I" } : Jvm.MethodName)) ∈ lw_all := lw_g (lw_at lw_m7 168 rfl) rfl
theorem q1660 : (Jvm.Cond.code ({ cls := "TwinPanelModel", name := "time", desc := "()I" } : Jvm.MethodName) prog_19_method_51_code (1 : Nat) (Option.some Jvm.ClassFile.FieldType.int)) ∈ lw_all := lw_g (lw_at lw_m7 169 rfl) rfl
theorem q1662 : (Jvm.Cond.instanceMethod ({ cls := "TwinPanelModel", name := "reading", desc := "(I)J" } : Jvm.MethodName)) ∈ lw_all := lw_g (lw_at lw_m7 171 rfl) rfl
theorem q1663 : (Jvm.Cond.selects "TwinPanelModel" ({ cls := "TwinPanelModel", name := "reading", desc := "(I)J" } : Jvm.MethodName) ({ cls := "TwinPanelModel", name := "reading", desc := "(I)J" } : Jvm.MethodName)) ∈ lw_all := lw_g (lw_at lw_m7 172 rfl) rfl
theorem q1664 : (Jvm.Cond.code ({ cls := "TwinPanelModel", name := "reading", desc := "(I)J" } : Jvm.MethodName) prog_19_method_52_code (2 : Nat) (Option.some Jvm.ClassFile.FieldType.long)) ∈ lw_all := lw_g (lw_at lw_m7 173 rfl) rfl
theorem q1666 : (Jvm.Cond.instanceMethod ({ cls := "TwinPanelModel", name := "single", desc := "(I)I" } : Jvm.MethodName)) ∈ lw_all := lw_g (lw_at lw_m7 175 rfl) rfl
theorem q1667 : (Jvm.Cond.selects "TwinPanelModel" ({ cls := "TwinPanelModel", name := "single", desc := "(I)I" } : Jvm.MethodName) ({ cls := "TwinPanelModel", name := "single", desc := "(I)I" } : Jvm.MethodName)) ∈ lw_all := lw_g (lw_at lw_m7 176 rfl) rfl
theorem q1668 : (Jvm.Cond.code ({ cls := "TwinPanelModel", name := "single", desc := "(I)I" } : Jvm.MethodName) prog_19_method_53_code (2 : Nat) (Option.some Jvm.ClassFile.FieldType.int)) ∈ lw_all := lw_g (lw_at lw_m7 177 rfl) rfl
theorem q1669 : (Jvm.Cond.methodLink "TwinPanelModel" (353 : Nat) ({ cls := "java/lang/Float", name := "floatToIntBits", desc := "(F)I" } : Jvm.MethodName)) ∈ lw_all := lw_g (lw_at lw_m7 178 rfl) rfl
theorem q1671 : (Jvm.Cond.instanceMethod ({ cls := "TwinPanelModel", name := "lamp", desc := "(I)I" } : Jvm.MethodName)) ∈ lw_all := lw_g (lw_at lw_m7 180 rfl) rfl
theorem q1672 : (Jvm.Cond.selects "TwinPanelModel" ({ cls := "TwinPanelModel", name := "lamp", desc := "(I)I" } : Jvm.MethodName) ({ cls := "TwinPanelModel", name := "lamp", desc := "(I)I" } : Jvm.MethodName)) ∈ lw_all := lw_g (lw_at lw_m7 181 rfl) rfl
theorem q1673 : (Jvm.Cond.code ({ cls := "TwinPanelModel", name := "lamp", desc := "(I)I" } : Jvm.MethodName) prog_19_method_54_code (2 : Nat) (Option.some Jvm.ClassFile.FieldType.int)) ∈ lw_all := lw_g (lw_at lw_m7 182 rfl) rfl
theorem q1675 : (Jvm.Cond.instanceMethod ({ cls := "TwinPanelModel", name := "apart", desc := "(I)J" } : Jvm.MethodName)) ∈ lw_all := lw_g (lw_at lw_m7 184 rfl) rfl
theorem q1676 : (Jvm.Cond.selects "TwinPanelModel" ({ cls := "TwinPanelModel", name := "apart", desc := "(I)J" } : Jvm.MethodName) ({ cls := "TwinPanelModel", name := "apart", desc := "(I)J" } : Jvm.MethodName)) ∈ lw_all := lw_g (lw_at lw_m7 185 rfl) rfl
theorem q1677 : (Jvm.Cond.code ({ cls := "TwinPanelModel", name := "apart", desc := "(I)J" } : Jvm.MethodName) prog_19_method_55_code (2 : Nat) (Option.some Jvm.ClassFile.FieldType.long)) ∈ lw_all := lw_g (lw_at lw_m7 186 rfl) rfl
theorem q1679 : (Jvm.Cond.instanceMethod ({ cls := "TwinPanelModel", name := "rate", desc := "(I)J" } : Jvm.MethodName)) ∈ lw_all := lw_g (lw_at lw_m7 188 rfl) rfl
theorem q1680 : (Jvm.Cond.selects "TwinPanelModel" ({ cls := "TwinPanelModel", name := "rate", desc := "(I)J" } : Jvm.MethodName) ({ cls := "TwinPanelModel", name := "rate", desc := "(I)J" } : Jvm.MethodName)) ∈ lw_all := lw_g (lw_at lw_m7 189 rfl) rfl
theorem q1681 : (Jvm.Cond.code ({ cls := "TwinPanelModel", name := "rate", desc := "(I)J" } : Jvm.MethodName) prog_19_method_56_code (2 : Nat) (Option.some Jvm.ClassFile.FieldType.long)) ∈ lw_all := lw_g (lw_at lw_m7 190 rfl) rfl
theorem q1683 : (Jvm.Cond.instanceMethod ({ cls := "TwinPanelModel", name := "strip", desc := "(I)I" } : Jvm.MethodName)) ∈ lw_all := lw_g (lw_at lw_m7 192 rfl) rfl
theorem q1684 : (Jvm.Cond.selects "TwinPanelModel" ({ cls := "TwinPanelModel", name := "strip", desc := "(I)I" } : Jvm.MethodName) ({ cls := "TwinPanelModel", name := "strip", desc := "(I)I" } : Jvm.MethodName)) ∈ lw_all := lw_g (lw_at lw_m7 193 rfl) rfl
theorem q1685 : (Jvm.Cond.code ({ cls := "TwinPanelModel", name := "strip", desc := "(I)I" } : Jvm.MethodName) prog_19_method_57_code (2 : Nat) (Option.some Jvm.ClassFile.FieldType.int)) ∈ lw_all := lw_g (lw_at lw_m7 194 rfl) rfl
theorem q1687 : (Jvm.Cond.instanceMethod ({ cls := "TwinPanelModel", name := "samples", desc := "(I)I" } : Jvm.MethodName)) ∈ lw_all := lw_g (lw_at lw_m7 196 rfl) rfl
theorem q1688 : (Jvm.Cond.selects "TwinPanelModel" ({ cls := "TwinPanelModel", name := "samples", desc := "(I)I" } : Jvm.MethodName) ({ cls := "TwinPanelModel", name := "samples", desc := "(I)I" } : Jvm.MethodName)) ∈ lw_all := lw_g (lw_at lw_m7 197 rfl) rfl
theorem q1689 : (Jvm.Cond.code ({ cls := "TwinPanelModel", name := "samples", desc := "(I)I" } : Jvm.MethodName) prog_19_method_59_code (2 : Nat) (Option.some Jvm.ClassFile.FieldType.int)) ∈ lw_all := lw_g (lw_at lw_m7 198 rfl) rfl
theorem q1690 : (Jvm.Cond.methodLink "TwinPanelModel" (359 : Nat) ({ cls := "TwinPanelModel", name := "isStrip", desc := "(I)Z" } : Jvm.MethodName)) ∈ lw_all := lw_g (lw_at lw_m7 199 rfl) rfl
theorem q1691 : (Jvm.Cond.privateMethod ({ cls := "TwinPanelModel", name := "isStrip", desc := "(I)Z" } : Jvm.MethodName)) ∈ lw_tbl := lw_at lw_m7 200 rfl
theorem q1692 : (Jvm.Cond.instanceMethod ({ cls := "TwinPanelModel", name := "isStrip", desc := "(I)Z" } : Jvm.MethodName)) ∈ lw_all := lw_g (lw_at lw_m7 201 rfl) rfl
theorem q1693 : (Jvm.Cond.code ({ cls := "TwinPanelModel", name := "isStrip", desc := "(I)Z" } : Jvm.MethodName) prog_19_method_58_code (2 : Nat) (Option.some Jvm.ClassFile.FieldType.boolean)) ∈ lw_all := lw_g (lw_at lw_m7 202 rfl) rfl
theorem q1695 : (Jvm.Cond.instanceMethod ({ cls := "TwinPanelModel", name := "sample", desc := "(II)J" } : Jvm.MethodName)) ∈ lw_all := lw_g (lw_at lw_m7 204 rfl) rfl
theorem q1696 : (Jvm.Cond.selects "TwinPanelModel" ({ cls := "TwinPanelModel", name := "sample", desc := "(II)J" } : Jvm.MethodName) ({ cls := "TwinPanelModel", name := "sample", desc := "(II)J" } : Jvm.MethodName)) ∈ lw_all := lw_g (lw_at lw_m7 205 rfl) rfl
theorem q1697 : (Jvm.Cond.code ({ cls := "TwinPanelModel", name := "sample", desc := "(II)J" } : Jvm.MethodName) prog_19_method_60_code (3 : Nat) (Option.some Jvm.ClassFile.FieldType.long)) ∈ lw_all := lw_g (lw_at lw_m7 206 rfl) rfl
theorem q1699 : (Jvm.Cond.instanceMethod ({ cls := "TwinPanelModel", name := "crossing", desc := "(II)I" } : Jvm.MethodName)) ∈ lw_all := lw_g (lw_at lw_m7 208 rfl) rfl
theorem q1700 : (Jvm.Cond.selects "TwinPanelModel" ({ cls := "TwinPanelModel", name := "crossing", desc := "(II)I" } : Jvm.MethodName) ({ cls := "TwinPanelModel", name := "crossing", desc := "(II)I" } : Jvm.MethodName)) ∈ lw_all := lw_g (lw_at lw_m7 209 rfl) rfl
theorem q1701 : (Jvm.Cond.code ({ cls := "TwinPanelModel", name := "crossing", desc := "(II)I" } : Jvm.MethodName) prog_19_method_61_code (5 : Nat) (Option.some Jvm.ClassFile.FieldType.int)) ∈ lw_all := lw_g (lw_at lw_m7 210 rfl) rfl
theorem q1703 : (Jvm.Cond.instanceMethod ({ cls := "TwinPanelModel", name := "peak", desc := "(II)I" } : Jvm.MethodName)) ∈ lw_all := lw_g (lw_at lw_m7 212 rfl) rfl
theorem q1704 : (Jvm.Cond.selects "TwinPanelModel" ({ cls := "TwinPanelModel", name := "peak", desc := "(II)I" } : Jvm.MethodName) ({ cls := "TwinPanelModel", name := "peak", desc := "(II)I" } : Jvm.MethodName)) ∈ lw_all := lw_g (lw_at lw_m7 213 rfl) rfl
theorem q1705 : (Jvm.Cond.code ({ cls := "TwinPanelModel", name := "peak", desc := "(II)I" } : Jvm.MethodName) prog_19_method_62_code (7 : Nat) (Option.some Jvm.ClassFile.FieldType.int)) ∈ lw_all := lw_g (lw_at lw_m7 214 rfl) rfl
theorem q1707 : (Jvm.Cond.instanceMethod ({ cls := "TwinPanelModel", name := "sweep", desc := "(IJJIII)I" } : Jvm.MethodName)) ∈ lw_all := lw_g (lw_at lw_m7 216 rfl) rfl
theorem q1708 : (Jvm.Cond.selects "TwinPanelModel" ({ cls := "TwinPanelModel", name := "sweep", desc := "(IJJIII)I" } : Jvm.MethodName) ({ cls := "TwinPanelModel", name := "sweep", desc := "(IJJIII)I" } : Jvm.MethodName)) ∈ lw_all := lw_g (lw_at lw_m7 217 rfl) rfl
theorem q1709 : (Jvm.Cond.code ({ cls := "TwinPanelModel", name := "sweep", desc := "(IJJIII)I" } : Jvm.MethodName) prog_19_method_66_code (15 : Nat) (Option.some Jvm.ClassFile.FieldType.int)) ∈ lw_all := lw_g (lw_at lw_m7 218 rfl) rfl
theorem q1710 : (Jvm.Cond.methodLink "TwinPanelModel" (365 : Nat) ({ cls := "TwinPanelModel", name := "keep", desc := "()V" } : Jvm.MethodName)) ∈ lw_all := lw_g (lw_at lw_m7 219 rfl) rfl
theorem q1711 : (Jvm.Cond.privateMethod ({ cls := "TwinPanelModel", name := "keep", desc := "()V" } : Jvm.MethodName)) ∈ lw_tbl := lw_at lw_m7 220 rfl
theorem q1712 : (Jvm.Cond.instanceMethod ({ cls := "TwinPanelModel", name := "keep", desc := "()V" } : Jvm.MethodName)) ∈ lw_all := lw_g (lw_at lw_m7 221 rfl) rfl
theorem q1713 : (Jvm.Cond.code ({ cls := "TwinPanelModel", name := "keep", desc := "()V" } : Jvm.MethodName) prog_19_method_63_code (2 : Nat) (Option.none : Option Jvm.ClassFile.FieldType)) ∈ lw_all := lw_g (lw_at lw_m7 222 rfl) rfl
theorem q1714 : (Jvm.Cond.methodLink "TwinPanelModel" (371 : Nat) ({ cls := "TwinPanelModel", name := "tried", desc := "(IID)D" } : Jvm.MethodName)) ∈ lw_all := lw_g (lw_at lw_m7 223 rfl) rfl
theorem q1715 : (Jvm.Cond.privateMethod ({ cls := "TwinPanelModel", name := "tried", desc := "(IID)D" } : Jvm.MethodName)) ∈ lw_tbl := lw_at lw_m7 224 rfl
theorem q1716 : (Jvm.Cond.instanceMethod ({ cls := "TwinPanelModel", name := "tried", desc := "(IID)D" } : Jvm.MethodName)) ∈ lw_all := lw_g (lw_at lw_m7 225 rfl) rfl
theorem q1717 : (Jvm.Cond.code ({ cls := "TwinPanelModel", name := "tried", desc := "(IID)D" } : Jvm.MethodName) prog_19_method_65_code (6 : Nat) (Option.some Jvm.ClassFile.FieldType.double)) ∈ lw_all := lw_g (lw_at lw_m7 226 rfl) rfl
theorem q1718 : (Jvm.Cond.methodLink "TwinPanelModel" (375 : Nat) ({ cls := "TwinPanelModel", name := "back", desc := "()V" } : Jvm.MethodName)) ∈ lw_all := lw_g (lw_at lw_m7 227 rfl) rfl
theorem q1719 : (Jvm.Cond.privateMethod ({ cls := "TwinPanelModel", name := "back", desc := "()V" } : Jvm.MethodName)) ∈ lw_tbl := lw_at lw_m7 228 rfl
theorem q1720 : (Jvm.Cond.instanceMethod ({ cls := "TwinPanelModel", name := "back", desc := "()V" } : Jvm.MethodName)) ∈ lw_all := lw_g (lw_at lw_m7 229 rfl) rfl
theorem q1721 : (Jvm.Cond.code ({ cls := "TwinPanelModel", name := "back", desc := "()V" } : Jvm.MethodName) prog_19_method_64_code (2 : Nat) (Option.none : Option Jvm.ClassFile.FieldType)) ∈ lw_all := lw_g (lw_at lw_m7 230 rfl) rfl
theorem q1723 : (Jvm.Cond.instanceMethod ({ cls := "TwinPanelModel", name := "swept", desc := "(I)J" } : Jvm.MethodName)) ∈ lw_all := lw_g (lw_at lw_m7 232 rfl) rfl
theorem q1724 : (Jvm.Cond.selects "TwinPanelModel" ({ cls := "TwinPanelModel", name := "swept", desc := "(I)J" } : Jvm.MethodName) ({ cls := "TwinPanelModel", name := "swept", desc := "(I)J" } : Jvm.MethodName)) ∈ lw_all := lw_g (lw_at lw_m7 233 rfl) rfl
theorem q1725 : (Jvm.Cond.code ({ cls := "TwinPanelModel", name := "swept", desc := "(I)J" } : Jvm.MethodName) prog_19_method_67_code (2 : Nat) (Option.some Jvm.ClassFile.FieldType.long)) ∈ lw_all := lw_g (lw_at lw_m7 234 rfl) rfl
theorem q1727 : (Jvm.Cond.instanceMethod ({ cls := "TwinPanelModel", name := "halved", desc := "(II)J" } : Jvm.MethodName)) ∈ lw_all := lw_g (lw_at lw_m7 236 rfl) rfl
theorem q1728 : (Jvm.Cond.selects "TwinPanelModel" ({ cls := "TwinPanelModel", name := "halved", desc := "(II)J" } : Jvm.MethodName) ({ cls := "TwinPanelModel", name := "halved", desc := "(II)J" } : Jvm.MethodName)) ∈ lw_all := lw_g (lw_at lw_m7 237 rfl) rfl
theorem q1729 : (Jvm.Cond.code ({ cls := "TwinPanelModel", name := "halved", desc := "(II)J" } : Jvm.MethodName) prog_19_method_68_code (10 : Nat) (Option.some Jvm.ClassFile.FieldType.long)) ∈ lw_all := lw_g (lw_at lw_m7 238 rfl) rfl
theorem q1731 : (Jvm.Cond.instanceMethod ({ cls := "TwinPanelModel", name := "about", desc := "(II)I" } : Jvm.MethodName)) ∈ lw_all := lw_g (lw_at lw_m8 0 rfl) rfl
theorem q1732 : (Jvm.Cond.selects "TwinPanelModel" ({ cls := "TwinPanelModel", name := "about", desc := "(II)I" } : Jvm.MethodName) ({ cls := "TwinPanelModel", name := "about", desc := "(II)I" } : Jvm.MethodName)) ∈ lw_all := lw_g (lw_at lw_m8 1 rfl) rfl
theorem q1733 : (Jvm.Cond.code ({ cls := "TwinPanelModel", name := "about", desc := "(II)I" } : Jvm.MethodName) prog_19_method_69_code (3 : Nat) (Option.some Jvm.ClassFile.FieldType.int)) ∈ lw_all := lw_g (lw_at lw_m8 2 rfl) rfl
theorem q1735 : (Jvm.Cond.instanceMethod ({ cls := "TwinPanelModel", name := "count", desc := "(I)I" } : Jvm.MethodName)) ∈ lw_all := lw_g (lw_at lw_m8 4 rfl) rfl
theorem q1736 : (Jvm.Cond.selects "TwinPanelModel" ({ cls := "TwinPanelModel", name := "count", desc := "(I)I" } : Jvm.MethodName) ({ cls := "TwinPanelModel", name := "count", desc := "(I)I" } : Jvm.MethodName)) ∈ lw_all := lw_g (lw_at lw_m8 5 rfl) rfl
theorem q1737 : (Jvm.Cond.code ({ cls := "TwinPanelModel", name := "count", desc := "(I)I" } : Jvm.MethodName) prog_19_method_70_code (4 : Nat) (Option.some Jvm.ClassFile.FieldType.int)) ∈ lw_all := lw_g (lw_at lw_m8 6 rfl) rfl
theorem q1739 : (Jvm.Cond.instanceMethod ({ cls := "TwinPanelModel", name := "digest", desc := "()J" } : Jvm.MethodName)) ∈ lw_all := lw_g (lw_at lw_m8 8 rfl) rfl
theorem q1740 : (Jvm.Cond.selects "TwinPanelModel" ({ cls := "TwinPanelModel", name := "digest", desc := "()J" } : Jvm.MethodName) ({ cls := "TwinPanelModel", name := "digest", desc := "()J" } : Jvm.MethodName)) ∈ lw_all := lw_g (lw_at lw_m8 9 rfl) rfl
theorem q1741 : (Jvm.Cond.code ({ cls := "TwinPanelModel", name := "digest", desc := "()J" } : Jvm.MethodName) prog_19_method_72_code (3 : Nat) (Option.some Jvm.ClassFile.FieldType.long)) ∈ lw_all := lw_g (lw_at lw_m8 10 rfl) rfl
theorem q1742 : (Jvm.Cond.constantLong "TwinPanelModel" (387 : Nat) (47 : Int64)) ∈ lw_all := lw_g (lw_at lw_m8 11 rfl) rfl
theorem q1743 : (Jvm.Cond.methodLink "TwinPanelModel" (389 : Nat) ({ cls := "TwinPanelModel", name := "mix", desc := "(J)V" } : Jvm.MethodName)) ∈ lw_all := lw_g (lw_at lw_m8 12 rfl) rfl
theorem q1744 : (Jvm.Cond.privateMethod ({ cls := "TwinPanelModel", name := "mix", desc := "(J)V" } : Jvm.MethodName)) ∈ lw_tbl := lw_at lw_m8 13 rfl
theorem q1745 : (Jvm.Cond.instanceMethod ({ cls := "TwinPanelModel", name := "mix", desc := "(J)V" } : Jvm.MethodName)) ∈ lw_all := lw_g (lw_at lw_m8 14 rfl) rfl
theorem q1746 : (Jvm.Cond.code ({ cls := "TwinPanelModel", name := "mix", desc := "(J)V" } : Jvm.MethodName) prog_19_method_71_code (3 : Nat) (Option.none : Option Jvm.ClassFile.FieldType)) ∈ lw_all := lw_g (lw_at lw_m8 15 rfl) rfl
theorem q1747 : (Jvm.Cond.constantLong "TwinPanelModel" (381 : Nat) (31 : Int64)) ∈ lw_all := lw_g (lw_at lw_m8 16 rfl) rfl
theorem in_X1 : ∀ w ∈ wsX10, w ∈ lw_all := lw_in wsX10 [1328, 1330, 1332, 1334, 1336, 1338, 1340, 1342, 1344, 1346, 1348, 1350, 1352, 1354, 1356, 1358, 1360, 1362, 1364, 1366, 1368, 1370, 1372, 1374, 1376, 1378, 1380, 1382, 1384, 1386, 1388, 1390, 1392, 1394, 1396, 1398, 1400, 1402, 1404, 1406, 1408, 1410, 1412, 1414, 1416, 1418, 1420, 1422, 1424, 1426, 1428, 1430, 1432, 1434, 1436, 1438, 1440, 1442, 1444, 1446, 1448] (by decide +kernel) (by decide +kernel)
theorem q58 : (Jvm.Cond.initialized "TwinPanel$Module") ∈ lw_all := lw_g (lw_at lw_m1 7 rfl) rfl
theorem q198 : (Jvm.Cond.instanceMethod ({ cls := "TwinPanel$Module", name := "<init>", desc := "(ID)V" } : Jvm.MethodName)) ∈ lw_all := lw_g (lw_at lw_m1 147 rfl) rfl
theorem q199 : (Jvm.Cond.code ({ cls := "TwinPanel$Module", name := "<init>", desc := "(ID)V" } : Jvm.MethodName) prog_7_method_1_code (5 : Nat) (Option.none : Option Jvm.ClassFile.FieldType)) ∈ lw_all := lw_g (lw_at lw_m1 148 rfl) rfl
theorem q200 : (Jvm.Cond.methodLink "TwinPanel$Module" (3 : Nat) ({ cls := "java/lang/Object", name := "<init>", desc := "()V" } : Jvm.MethodName)) ∈ lw_all := lw_g (lw_at lw_m1 149 rfl) rfl
theorem q201 : (Jvm.Cond.classLink "TwinPanel$Module" (9 : Nat) "TwinPanel$Module") ∈ lw_all := lw_g (lw_at lw_m1 150 rfl) rfl
theorem q202 : (Jvm.Cond.fieldLink "TwinPanel$Module" (27 : Nat) "TwinPanel$Module" "kind" "I") ∈ lw_all := lw_g (lw_at lw_m1 151 rfl) rfl
theorem q204 : (Jvm.Cond.fieldLink "TwinPanel$Module" (30 : Nat) "TwinPanel$Module" "setting" "D") ∈ lw_all := lw_g (lw_at lw_m1 153 rfl) rfl
theorem q219 : (Jvm.Cond.fieldLink "TwinPanel$Module" (11 : Nat) "TwinPanel$Module" "from" "[LTwinPanel$Module;") ∈ lw_all := lw_g (lw_at lw_m1 168 rfl) rfl
theorem q221 : (Jvm.Cond.fieldLink "TwinPanel$Module" (15 : Nat) "TwinPanel$Module" "number" "[I") ∈ lw_all := lw_g (lw_at lw_m1 170 rfl) rfl
theorem q223 : (Jvm.Cond.fieldLink "TwinPanel$Module" (19 : Nat) "TwinPanel$Module" "turned" "[Z") ∈ lw_all := lw_g (lw_at lw_m1 172 rfl) rfl
theorem q225 : (Jvm.Cond.fieldLink "TwinPanel$Module" (34 : Nat) "TwinPanel$Module" "wide" "D") ∈ lw_all := lw_g (lw_at lw_m1 174 rfl) rfl
theorem q227 : (Jvm.Cond.fieldLink "TwinPanel$Module" (37 : Nat) "TwinPanel$Module" "narrow" "F") ∈ lw_all := lw_g (lw_at lw_m1 176 rfl) rfl
theorem q229 : (Jvm.Cond.fieldLink "TwinPanel$Module" (23 : Nat) "TwinPanel$Module" "lamp" "I") ∈ lw_all := lw_g (lw_at lw_m1 178 rfl) rfl
theorem q231 : (Jvm.Cond.fieldLink "TwinPanel$Module" (73 : Nat) "TwinPanel$Module" "apart" "D") ∈ lw_all := lw_g (lw_at lw_m1 180 rfl) rfl
theorem q235 : (Jvm.Cond.soleField "TwinPanel$Module" "kind") ∈ lw_all := lw_g (lw_at lw_m1 184 rfl) rfl
theorem q237 : (Jvm.Cond.soleField "TwinPanel$Module" "setting") ∈ lw_all := lw_g (lw_at lw_m1 186 rfl) rfl
theorem q239 : (Jvm.Cond.soleField "TwinPanel$Module" "start") ∈ lw_all := lw_g (lw_at lw_m1 188 rfl) rfl
theorem q241 : (Jvm.Cond.soleField "TwinPanel$Module" "from") ∈ lw_all := lw_g (lw_at lw_m1 190 rfl) rfl
theorem q243 : (Jvm.Cond.soleField "TwinPanel$Module" "number") ∈ lw_all := lw_g (lw_at lw_m1 192 rfl) rfl
theorem q245 : (Jvm.Cond.soleField "TwinPanel$Module" "turned") ∈ lw_all := lw_g (lw_at lw_m1 194 rfl) rfl
theorem q247 : (Jvm.Cond.soleField "TwinPanel$Module" "wide") ∈ lw_all := lw_g (lw_at lw_m1 196 rfl) rfl
theorem q249 : (Jvm.Cond.soleField "TwinPanel$Module" "narrow") ∈ lw_all := lw_g (lw_at lw_m1 198 rfl) rfl
theorem q251 : (Jvm.Cond.soleField "TwinPanel$Module" "lamp") ∈ lw_all := lw_g (lw_at lw_m1 200 rfl) rfl
theorem q253 : (Jvm.Cond.soleField "TwinPanel$Module" "apart") ∈ lw_all := lw_g (lw_at lw_m1 202 rfl) rfl
theorem q255 : (Jvm.Cond.soleField "TwinPanel$Module" "failsAt") ∈ lw_all := lw_g (lw_at lw_m1 204 rfl) rfl
theorem q589 : (Jvm.Cond.instanceMethod ({ cls := "TwinPanel$Module", name := "remembers", desc := "()Z" } : Jvm.MethodName)) ∈ lw_all := lw_g (lw_at lw_m3 58 rfl) rfl
theorem q590 : (Jvm.Cond.sameMethod "TwinPanel$Module" "TwinPanel$Module" "remembers" "()Z") ∈ lw_all := lw_g (lw_at lw_m3 59 rfl) rfl
theorem q607 : (Jvm.Cond.code ({ cls := "TwinPanel$Module", name := "remembers", desc := "()Z" } : Jvm.MethodName) prog_7_method_2_code (1 : Nat) (Option.some Jvm.ClassFile.FieldType.boolean)) ∈ lw_all := lw_g (lw_at lw_m3 76 rfl) rfl
theorem q629 : (Jvm.Cond.instanceMethod ({ cls := "TwinPanel$Module", name := "needs", desc := "()I" } : Jvm.MethodName)) ∈ lw_all := lw_g (lw_at lw_m3 98 rfl) rfl
theorem q630 : (Jvm.Cond.sameMethod "TwinPanel$Module" "TwinPanel$Module" "needs" "()I") ∈ lw_all := lw_g (lw_at lw_m3 99 rfl) rfl
theorem q657 : (Jvm.Cond.code ({ cls := "TwinPanel$Module", name := "needs", desc := "()I" } : Jvm.MethodName) prog_7_method_3_code (1 : Nat) (Option.some Jvm.ClassFile.FieldType.int)) ∈ lw_all := lw_g (lw_at lw_m3 126 rfl) rfl
theorem q690 : (Jvm.Cond.instanceMethod ({ cls := "TwinPanel$Module", name := "begin", desc := "()V" } : Jvm.MethodName)) ∈ lw_all := lw_g (lw_at lw_m3 159 rfl) rfl
theorem q691 : (Jvm.Cond.sameMethod "TwinPanel$Module" "TwinPanel$Module" "begin" "()V") ∈ lw_all := lw_g (lw_at lw_m3 160 rfl) rfl
theorem q716 : (Jvm.Cond.code ({ cls := "TwinPanel$Module", name := "begin", desc := "()V" } : Jvm.MethodName) prog_7_method_14_code (1 : Nat) (Option.none : Option Jvm.ClassFile.FieldType)) ∈ lw_all := lw_g (lw_at lw_m3 185 rfl) rfl
theorem q722 : (Jvm.Cond.instanceMethod ({ cls := "TwinPanel$Module", name := "read", desc := "(I)V" } : Jvm.MethodName)) ∈ lw_all := lw_g (lw_at lw_m3 191 rfl) rfl
theorem q723 : (Jvm.Cond.sameMethod "TwinPanel$Module" "TwinPanel$Module" "read" "(I)V") ∈ lw_all := lw_g (lw_at lw_m3 192 rfl) rfl
theorem q738 : (Jvm.Cond.code ({ cls := "TwinPanel$Module", name := "read", desc := "(I)V" } : Jvm.MethodName) prog_7_method_13_code (2 : Nat) (Option.none : Option Jvm.ClassFile.FieldType)) ∈ lw_all := lw_g (lw_at lw_m3 207 rfl) rfl
theorem q739 : (Jvm.Cond.methodLink "TwinPanel$Module" (59 : Nat) ({ cls := "TwinPanel$Module", name := "wideOut", desc := "(I)D" } : Jvm.MethodName)) ∈ lw_all := lw_g (lw_at lw_m3 208 rfl) rfl
theorem q740 : (Jvm.Cond.declares ({ cls := "TwinPanel$Module", name := "wideOut", desc := "(I)D" } : Jvm.MethodName)) ∈ lw_tbl := lw_at lw_m3 209 rfl
theorem q741 : (Jvm.Cond.sameMethod "TwinPanel$Module" "TwinPanel$Module" "wideOut" "(I)D") ∈ lw_all := lw_g (lw_at lw_m3 210 rfl) rfl
theorem q747 : (Jvm.Cond.declares ({ cls := "TwinPanel$Module", name := "wideIn", desc := "(I)D" } : Jvm.MethodName)) ∈ lw_tbl := lw_at lw_m3 216 rfl
theorem q749 : (Jvm.Cond.instanceMethod ({ cls := "TwinPanel$Module", name := "wideIn", desc := "(I)D" } : Jvm.MethodName)) ∈ lw_all := lw_g (lw_at lw_m3 218 rfl) rfl
theorem q750 : (Jvm.Cond.code ({ cls := "TwinPanel$Module", name := "wideIn", desc := "(I)D" } : Jvm.MethodName) prog_7_method_4_code (2 : Nat) (Option.some Jvm.ClassFile.FieldType.double)) ∈ lw_all := lw_g (lw_at lw_m3 219 rfl) rfl
theorem q783 : (Jvm.Cond.declares ({ cls := "TwinPanel$Module", name := "light", desc := "(I)V" } : Jvm.MethodName)) ∈ lw_tbl := lw_at lw_m4 12 rfl
theorem q785 : (Jvm.Cond.instanceMethod ({ cls := "TwinPanel$Module", name := "light", desc := "(I)V" } : Jvm.MethodName)) ∈ lw_all := lw_g (lw_at lw_m4 14 rfl) rfl
theorem q786 : (Jvm.Cond.code ({ cls := "TwinPanel$Module", name := "light", desc := "(I)V" } : Jvm.MethodName) prog_7_method_8_code (2 : Nat) (Option.none : Option Jvm.ClassFile.FieldType)) ∈ lw_all := lw_g (lw_at lw_m4 15 rfl) rfl
theorem q843 : (Jvm.Cond.declares ({ cls := "TwinPanel$Module", name := "wideSum", desc := "()D" } : Jvm.MethodName)) ∈ lw_tbl := lw_at lw_m4 72 rfl
theorem q845 : (Jvm.Cond.instanceMethod ({ cls := "TwinPanel$Module", name := "wideSum", desc := "()D" } : Jvm.MethodName)) ∈ lw_all := lw_g (lw_at lw_m4 74 rfl) rfl
theorem q846 : (Jvm.Cond.code ({ cls := "TwinPanel$Module", name := "wideSum", desc := "()D" } : Jvm.MethodName) prog_7_method_6_code (5 : Nat) (Option.some Jvm.ClassFile.FieldType.double)) ∈ lw_all := lw_g (lw_at lw_m4 75 rfl) rfl
theorem q847 : (Jvm.Cond.methodLink "TwinPanel$Module" (41 : Nat) ({ cls := "TwinPanel$Module", name := "wideIn", desc := "(I)D" } : Jvm.MethodName)) ∈ lw_all := lw_g (lw_at lw_m4 76 rfl) rfl
theorem q861 : (Jvm.Cond.methodLink "TwinPanel$Module" (62 : Nat) ({ cls := "TwinPanel$Module", name := "afterWide", desc := "(DI)D" } : Jvm.MethodName)) ∈ lw_all := lw_g (lw_at lw_m4 90 rfl) rfl
theorem q862 : (Jvm.Cond.instanceMethod ({ cls := "TwinPanel$Module", name := "afterWide", desc := "(DI)D" } : Jvm.MethodName)) ∈ lw_all := lw_g (lw_at lw_m4 91 rfl) rfl
theorem q863 : (Jvm.Cond.sameMethod "TwinPanel$Module" "TwinPanel$Module" "afterWide" "(DI)D") ∈ lw_all := lw_g (lw_at lw_m4 92 rfl) rfl
theorem q878 : (Jvm.Cond.code ({ cls := "TwinPanel$Module", name := "afterWide", desc := "(DI)D" } : Jvm.MethodName) prog_7_method_9_code (4 : Nat) (Option.some Jvm.ClassFile.FieldType.double)) ∈ lw_all := lw_g (lw_at lw_m4 107 rfl) rfl
theorem q879 : (Jvm.Cond.constantDouble "TwinPanel$Module" (49 : Nat) (4609434218613702656 : UInt64)) ∈ lw_all := lw_g (lw_at lw_m4 108 rfl) rfl
theorem q880 : (Jvm.Cond.constantDouble "TwinPanel$Module" (51 : Nat) (13832806255468478464 : UInt64)) ∈ lw_all := lw_g (lw_at lw_m4 109 rfl) rfl
theorem q881 : (Jvm.Cond.methodLink "TwinPanel$Module" (53 : Nat) ({ cls := "TwinPanel$Module", name := "light", desc := "(I)V" } : Jvm.MethodName)) ∈ lw_all := lw_g (lw_at lw_m4 110 rfl) rfl
theorem q882 : (Jvm.Cond.methodLink "TwinPanel$Module" (66 : Nat) ({ cls := "TwinPanel$Module", name := "narrowOut", desc := "(I)F" } : Jvm.MethodName)) ∈ lw_all := lw_g (lw_at lw_m4 111 rfl) rfl
theorem q883 : (Jvm.Cond.declares ({ cls := "TwinPanel$Module", name := "narrowOut", desc := "(I)F" } : Jvm.MethodName)) ∈ lw_tbl := lw_at lw_m4 112 rfl
theorem q884 : (Jvm.Cond.sameMethod "TwinPanel$Module" "TwinPanel$Module" "narrowOut" "(I)F") ∈ lw_all := lw_g (lw_at lw_m4 113 rfl) rfl
theorem q890 : (Jvm.Cond.declares ({ cls := "TwinPanel$Module", name := "narrowIn", desc := "(I)F" } : Jvm.MethodName)) ∈ lw_tbl := lw_at lw_m4 119 rfl
theorem q892 : (Jvm.Cond.instanceMethod ({ cls := "TwinPanel$Module", name := "narrowIn", desc := "(I)F" } : Jvm.MethodName)) ∈ lw_all := lw_g (lw_at lw_m4 121 rfl) rfl
theorem q893 : (Jvm.Cond.code ({ cls := "TwinPanel$Module", name := "narrowIn", desc := "(I)F" } : Jvm.MethodName) prog_7_method_5_code (2 : Nat) (Option.some Jvm.ClassFile.FieldType.float)) ∈ lw_all := lw_g (lw_at lw_m4 122 rfl) rfl
theorem q943 : (Jvm.Cond.declares ({ cls := "TwinPanel$Module", name := "narrowSum", desc := "()F" } : Jvm.MethodName)) ∈ lw_tbl := lw_at lw_m4 172 rfl
theorem q945 : (Jvm.Cond.instanceMethod ({ cls := "TwinPanel$Module", name := "narrowSum", desc := "()F" } : Jvm.MethodName)) ∈ lw_all := lw_g (lw_at lw_m4 174 rfl) rfl
theorem q946 : (Jvm.Cond.code ({ cls := "TwinPanel$Module", name := "narrowSum", desc := "()F" } : Jvm.MethodName) prog_7_method_7_code (4 : Nat) (Option.some Jvm.ClassFile.FieldType.float)) ∈ lw_all := lw_g (lw_at lw_m4 175 rfl) rfl
theorem q947 : (Jvm.Cond.methodLink "TwinPanel$Module" (45 : Nat) ({ cls := "TwinPanel$Module", name := "narrowIn", desc := "(I)F" } : Jvm.MethodName)) ∈ lw_all := lw_g (lw_at lw_m4 176 rfl) rfl
theorem q961 : (Jvm.Cond.methodLink "TwinPanel$Module" (69 : Nat) ({ cls := "TwinPanel$Module", name := "afterNarrow", desc := "(FI)F" } : Jvm.MethodName)) ∈ lw_all := lw_g (lw_at lw_m4 190 rfl) rfl
theorem q962 : (Jvm.Cond.instanceMethod ({ cls := "TwinPanel$Module", name := "afterNarrow", desc := "(FI)F" } : Jvm.MethodName)) ∈ lw_all := lw_g (lw_at lw_m4 191 rfl) rfl
theorem q963 : (Jvm.Cond.sameMethod "TwinPanel$Module" "TwinPanel$Module" "afterNarrow" "(FI)F") ∈ lw_all := lw_g (lw_at lw_m4 192 rfl) rfl
theorem q978 : (Jvm.Cond.code ({ cls := "TwinPanel$Module", name := "afterNarrow", desc := "(FI)F" } : Jvm.MethodName) prog_7_method_10_code (3 : Nat) (Option.some Jvm.ClassFile.FieldType.float)) ∈ lw_all := lw_g (lw_at lw_m4 207 rfl) rfl
theorem q979 : (Jvm.Cond.constantFloat "TwinPanel$Module" (57 : Nat) (1069547520 : UInt32)) ∈ lw_all := lw_g (lw_at lw_m4 208 rfl) rfl
theorem q980 : (Jvm.Cond.constantFloat "TwinPanel$Module" (58 : Nat) (3217031168 : UInt32)) ∈ lw_all := lw_g (lw_at lw_m4 209 rfl) rfl
theorem q982 : (Jvm.Cond.instanceMethod ({ cls := "TwinPanel$Module", name := "compare", desc := "()V" } : Jvm.MethodName)) ∈ lw_all := lw_g (lw_at lw_m4 211 rfl) rfl
theorem q983 : (Jvm.Cond.sameMethod "TwinPanel$Module" "TwinPanel$Module" "compare" "()V") ∈ lw_all := lw_g (lw_at lw_m4 212 rfl) rfl
theorem q998 : (Jvm.Cond.code ({ cls := "TwinPanel$Module", name := "compare", desc := "()V" } : Jvm.MethodName) prog_7_method_17_code (1 : Nat) (Option.none : Option Jvm.ClassFile.FieldType)) ∈ lw_all := lw_g (lw_at lw_m4 227 rfl) rfl
theorem q999 : (Jvm.Cond.methodLink "TwinPanel$Module" (76 : Nat) ({ cls := "java/lang/Math", name := "abs", desc := "(D)D" } : Jvm.MethodName)) ∈ lw_all := lw_g (lw_at lw_m4 228 rfl) rfl
theorem q1000 : (Jvm.Cond.methodLink "TwinPanel$Module" (82 : Nat) ({ cls := "java/lang/Math", name := "max", desc := "(DD)D" } : Jvm.MethodName)) ∈ lw_all := lw_g (lw_at lw_m4 229 rfl) rfl
theorem q1031 : (Jvm.Cond.instanceMethod ({ cls := "TwinPanel$Module", name := "take", desc := "()V" } : Jvm.MethodName)) ∈ lw_all := lw_g (lw_at lw_m5 20 rfl) rfl
theorem q1032 : (Jvm.Cond.sameMethod "TwinPanel$Module" "TwinPanel$Module" "take" "()V") ∈ lw_all := lw_g (lw_at lw_m5 21 rfl) rfl
theorem q1063 : (Jvm.Cond.code ({ cls := "TwinPanel$Module", name := "take", desc := "()V" } : Jvm.MethodName) prog_7_method_15_code (1 : Nat) (Option.none : Option Jvm.ClassFile.FieldType)) ∈ lw_all := lw_g (lw_at lw_m5 52 rfl) rfl
theorem q1092 : (Jvm.Cond.declares ({ cls := "TwinPanel$Module", name := "afterWide", desc := "(DI)D" } : Jvm.MethodName)) ∈ lw_tbl := lw_at lw_m5 81 rfl
theorem q1096 : (Jvm.Cond.declares ({ cls := "TwinPanel$Module", name := "afterNarrow", desc := "(FI)F" } : Jvm.MethodName)) ∈ lw_tbl := lw_at lw_m5 85 rfl
theorem q1110 : (Jvm.Cond.instanceMethod ({ cls := "TwinPanel$Module", name := "become", desc := "()V" } : Jvm.MethodName)) ∈ lw_all := lw_g (lw_at lw_m5 99 rfl) rfl
theorem q1111 : (Jvm.Cond.sameMethod "TwinPanel$Module" "TwinPanel$Module" "become" "()V") ∈ lw_all := lw_g (lw_at lw_m5 100 rfl) rfl
theorem q1138 : (Jvm.Cond.code ({ cls := "TwinPanel$Module", name := "become", desc := "()V" } : Jvm.MethodName) prog_7_method_16_code (1 : Nat) (Option.none : Option Jvm.ClassFile.FieldType)) ∈ lw_all := lw_g (lw_at lw_m5 127 rfl) rfl
theorem q1750 : (Jvm.Cond.sameMethod "TwinPanel$Module" "TwinPanel$Module" "wideIn" "(I)D") ∈ lw_all := lw_g (lw_at lw_m8 19 rfl) rfl
theorem q1765 : (Jvm.Cond.sameMethod "TwinPanel$Module" "TwinPanel$Module" "light" "(I)V") ∈ lw_all := lw_g (lw_at lw_m8 34 rfl) rfl
theorem q1780 : (Jvm.Cond.sameMethod "TwinPanel$Module" "TwinPanel$Module" "narrowIn" "(I)F") ∈ lw_all := lw_g (lw_at lw_m8 49 rfl) rfl
theorem q1795 : (Jvm.Cond.sameMethod "TwinPanel$Module" "TwinPanel$Module" "wideSum" "()D") ∈ lw_all := lw_g (lw_at lw_m8 64 rfl) rfl
theorem q59 : (Jvm.Cond.initialized "TwinPanel$Sum") ∈ lw_all := lw_g (lw_at lw_m1 8 rfl) rfl
theorem q193 : (Jvm.Cond.instantiable "TwinPanel$Sum" (11 : Nat)) ∈ lw_all := lw_g (lw_at lw_m1 142 rfl) rfl
theorem q195 : (Jvm.Cond.instanceMethod ({ cls := "TwinPanel$Sum", name := "<init>", desc := "(ID)V" } : Jvm.MethodName)) ∈ lw_all := lw_g (lw_at lw_m1 144 rfl) rfl
theorem q196 : (Jvm.Cond.code ({ cls := "TwinPanel$Sum", name := "<init>", desc := "(ID)V" } : Jvm.MethodName) prog_14_method_1_code (4 : Nat) (Option.none : Option Jvm.ClassFile.FieldType)) ∈ lw_all := lw_g (lw_at lw_m1 145 rfl) rfl
theorem q197 : (Jvm.Cond.methodLink "TwinPanel$Sum" (1 : Nat) ({ cls := "TwinPanel$Module", name := "<init>", desc := "(ID)V" } : Jvm.MethodName)) ∈ lw_all := lw_g (lw_at lw_m1 146 rfl) rfl
theorem q234 : (Jvm.Cond.laysFinal "TwinPanel$Sum" "TwinPanel$Module" "kind" "I") ∈ lw_all := lw_g (lw_at lw_m1 183 rfl) rfl
theorem q236 : (Jvm.Cond.lays "TwinPanel$Sum" "TwinPanel$Module" "setting" "D") ∈ lw_all := lw_g (lw_at lw_m1 185 rfl) rfl
theorem q238 : (Jvm.Cond.lays "TwinPanel$Sum" "TwinPanel$Module" "start" "D") ∈ lw_all := lw_g (lw_at lw_m1 187 rfl) rfl
theorem q240 : (Jvm.Cond.laysFinal "TwinPanel$Sum" "TwinPanel$Module" "from" "[LTwinPanel$Module;") ∈ lw_all := lw_g (lw_at lw_m1 189 rfl) rfl
theorem q242 : (Jvm.Cond.laysFinal "TwinPanel$Sum" "TwinPanel$Module" "number" "[I") ∈ lw_all := lw_g (lw_at lw_m1 191 rfl) rfl
theorem q244 : (Jvm.Cond.laysFinal "TwinPanel$Sum" "TwinPanel$Module" "turned" "[Z") ∈ lw_all := lw_g (lw_at lw_m1 193 rfl) rfl
theorem q246 : (Jvm.Cond.lays "TwinPanel$Sum" "TwinPanel$Module" "wide" "D") ∈ lw_all := lw_g (lw_at lw_m1 195 rfl) rfl
theorem q248 : (Jvm.Cond.lays "TwinPanel$Sum" "TwinPanel$Module" "narrow" "F") ∈ lw_all := lw_g (lw_at lw_m1 197 rfl) rfl
theorem q250 : (Jvm.Cond.lays "TwinPanel$Sum" "TwinPanel$Module" "lamp" "I") ∈ lw_all := lw_g (lw_at lw_m1 199 rfl) rfl
theorem q252 : (Jvm.Cond.lays "TwinPanel$Sum" "TwinPanel$Module" "apart" "D") ∈ lw_all := lw_g (lw_at lw_m1 201 rfl) rfl
theorem q254 : (Jvm.Cond.lays "TwinPanel$Sum" "TwinPanel$Module" "failsAt" "I") ∈ lw_all := lw_g (lw_at lw_m1 203 rfl) rfl
theorem q256 : (Jvm.Cond.superclass "TwinPanel$Sum" "TwinPanel$Module") ∈ lw_all := lw_g (lw_at lw_m1 205 rfl) rfl
theorem q603 : (Jvm.Cond.selects "TwinPanel$Sum" ({ cls := "TwinPanel$Module", name := "remembers", desc := "()Z" } : Jvm.MethodName) ({ cls := "TwinPanel$Module", name := "remembers", desc := "()Z" } : Jvm.MethodName)) ∈ lw_all := lw_g (lw_at lw_m3 72 rfl) rfl
theorem q651 : (Jvm.Cond.selects "TwinPanel$Sum" ({ cls := "TwinPanel$Module", name := "needs", desc := "()I" } : Jvm.MethodName) ({ cls := "TwinPanel$Module", name := "needs", desc := "()I" } : Jvm.MethodName)) ∈ lw_all := lw_g (lw_at lw_m3 120 rfl) rfl
theorem q712 : (Jvm.Cond.selects "TwinPanel$Sum" ({ cls := "TwinPanel$Module", name := "begin", desc := "()V" } : Jvm.MethodName) ({ cls := "TwinPanel$Module", name := "begin", desc := "()V" } : Jvm.MethodName)) ∈ lw_all := lw_g (lw_at lw_m3 181 rfl) rfl
theorem q734 : (Jvm.Cond.selects "TwinPanel$Sum" ({ cls := "TwinPanel$Module", name := "read", desc := "(I)V" } : Jvm.MethodName) ({ cls := "TwinPanel$Module", name := "read", desc := "(I)V" } : Jvm.MethodName)) ∈ lw_all := lw_g (lw_at lw_m3 203 rfl) rfl
theorem q838 : (Jvm.Cond.selects "TwinPanel$Sum" ({ cls := "TwinPanel$Module", name := "wideOut", desc := "(I)D" } : Jvm.MethodName) ({ cls := "TwinPanel$Sum", name := "wideOut", desc := "(I)D" } : Jvm.MethodName)) ∈ lw_all := lw_g (lw_at lw_m4 67 rfl) rfl
theorem q839 : (Jvm.Cond.instanceMethod ({ cls := "TwinPanel$Sum", name := "wideOut", desc := "(I)D" } : Jvm.MethodName)) ∈ lw_all := lw_g (lw_at lw_m4 68 rfl) rfl
theorem q840 : (Jvm.Cond.code ({ cls := "TwinPanel$Sum", name := "wideOut", desc := "(I)D" } : Jvm.MethodName) prog_14_method_2_code (2 : Nat) (Option.some Jvm.ClassFile.FieldType.double)) ∈ lw_all := lw_g (lw_at lw_m4 69 rfl) rfl
theorem q841 : (Jvm.Cond.methodLink "TwinPanel$Sum" (7 : Nat) ({ cls := "TwinPanel$Sum", name := "wideSum", desc := "()D" } : Jvm.MethodName)) ∈ lw_all := lw_g (lw_at lw_m4 70 rfl) rfl
theorem q842 : (Jvm.Cond.sameMethod "TwinPanel$Sum" "TwinPanel$Module" "wideSum" "()D") ∈ lw_all := lw_g (lw_at lw_m4 71 rfl) rfl
theorem q844 : (Jvm.Cond.selects "TwinPanel$Sum" ({ cls := "TwinPanel$Sum", name := "wideSum", desc := "()D" } : Jvm.MethodName) ({ cls := "TwinPanel$Module", name := "wideSum", desc := "()D" } : Jvm.MethodName)) ∈ lw_all := lw_g (lw_at lw_m4 73 rfl) rfl
theorem q874 : (Jvm.Cond.selects "TwinPanel$Sum" ({ cls := "TwinPanel$Module", name := "afterWide", desc := "(DI)D" } : Jvm.MethodName) ({ cls := "TwinPanel$Module", name := "afterWide", desc := "(DI)D" } : Jvm.MethodName)) ∈ lw_all := lw_g (lw_at lw_m4 103 rfl) rfl
theorem q938 : (Jvm.Cond.selects "TwinPanel$Sum" ({ cls := "TwinPanel$Module", name := "narrowOut", desc := "(I)F" } : Jvm.MethodName) ({ cls := "TwinPanel$Sum", name := "narrowOut", desc := "(I)F" } : Jvm.MethodName)) ∈ lw_all := lw_g (lw_at lw_m4 167 rfl) rfl
theorem q939 : (Jvm.Cond.instanceMethod ({ cls := "TwinPanel$Sum", name := "narrowOut", desc := "(I)F" } : Jvm.MethodName)) ∈ lw_all := lw_g (lw_at lw_m4 168 rfl) rfl
theorem q940 : (Jvm.Cond.code ({ cls := "TwinPanel$Sum", name := "narrowOut", desc := "(I)F" } : Jvm.MethodName) prog_14_method_3_code (2 : Nat) (Option.some Jvm.ClassFile.FieldType.float)) ∈ lw_all := lw_g (lw_at lw_m4 169 rfl) rfl
theorem q941 : (Jvm.Cond.methodLink "TwinPanel$Sum" (13 : Nat) ({ cls := "TwinPanel$Sum", name := "narrowSum", desc := "()F" } : Jvm.MethodName)) ∈ lw_all := lw_g (lw_at lw_m4 170 rfl) rfl
theorem q942 : (Jvm.Cond.sameMethod "TwinPanel$Sum" "TwinPanel$Module" "narrowSum" "()F") ∈ lw_all := lw_g (lw_at lw_m4 171 rfl) rfl
theorem q944 : (Jvm.Cond.selects "TwinPanel$Sum" ({ cls := "TwinPanel$Sum", name := "narrowSum", desc := "()F" } : Jvm.MethodName) ({ cls := "TwinPanel$Module", name := "narrowSum", desc := "()F" } : Jvm.MethodName)) ∈ lw_all := lw_g (lw_at lw_m4 173 rfl) rfl
theorem q974 : (Jvm.Cond.selects "TwinPanel$Sum" ({ cls := "TwinPanel$Module", name := "afterNarrow", desc := "(FI)F" } : Jvm.MethodName) ({ cls := "TwinPanel$Module", name := "afterNarrow", desc := "(FI)F" } : Jvm.MethodName)) ∈ lw_all := lw_g (lw_at lw_m4 203 rfl) rfl
theorem q994 : (Jvm.Cond.selects "TwinPanel$Sum" ({ cls := "TwinPanel$Module", name := "compare", desc := "()V" } : Jvm.MethodName) ({ cls := "TwinPanel$Module", name := "compare", desc := "()V" } : Jvm.MethodName)) ∈ lw_all := lw_g (lw_at lw_m4 223 rfl) rfl
theorem q1051 : (Jvm.Cond.selects "TwinPanel$Sum" ({ cls := "TwinPanel$Module", name := "take", desc := "()V" } : Jvm.MethodName) ({ cls := "TwinPanel$Module", name := "take", desc := "()V" } : Jvm.MethodName)) ∈ lw_all := lw_g (lw_at lw_m5 40 rfl) rfl
theorem q1132 : (Jvm.Cond.selects "TwinPanel$Sum" ({ cls := "TwinPanel$Module", name := "become", desc := "()V" } : Jvm.MethodName) ({ cls := "TwinPanel$Module", name := "become", desc := "()V" } : Jvm.MethodName)) ∈ lw_all := lw_g (lw_at lw_m5 121 rfl) rfl
theorem q1761 : (Jvm.Cond.selects "TwinPanel$Sum" ({ cls := "TwinPanel$Module", name := "wideIn", desc := "(I)D" } : Jvm.MethodName) ({ cls := "TwinPanel$Module", name := "wideIn", desc := "(I)D" } : Jvm.MethodName)) ∈ lw_all := lw_g (lw_at lw_m8 30 rfl) rfl
theorem q1776 : (Jvm.Cond.selects "TwinPanel$Sum" ({ cls := "TwinPanel$Module", name := "light", desc := "(I)V" } : Jvm.MethodName) ({ cls := "TwinPanel$Module", name := "light", desc := "(I)V" } : Jvm.MethodName)) ∈ lw_all := lw_g (lw_at lw_m8 45 rfl) rfl
theorem q1791 : (Jvm.Cond.selects "TwinPanel$Sum" ({ cls := "TwinPanel$Module", name := "narrowIn", desc := "(I)F" } : Jvm.MethodName) ({ cls := "TwinPanel$Module", name := "narrowIn", desc := "(I)F" } : Jvm.MethodName)) ∈ lw_all := lw_g (lw_at lw_m8 60 rfl) rfl
theorem q1806 : (Jvm.Cond.selects "TwinPanel$Sum" ({ cls := "TwinPanel$Module", name := "wideSum", desc := "()D" } : Jvm.MethodName) ({ cls := "TwinPanel$Module", name := "wideSum", desc := "()D" } : Jvm.MethodName)) ∈ lw_all := lw_g (lw_at lw_m8 75 rfl) rfl
theorem q1810 : (Jvm.Cond.castable "TwinPanel$Sum" "TwinPanel$Module") ∈ lw_tbl := lw_at lw_m8 79 rfl
theorem in_X3 : ∀ w ∈ wsX30, w ∈ lw_all := lw_in wsX30 [234, 236, 238, 240, 242, 244, 246, 248, 250, 252, 254] (by decide +kernel) (by decide +kernel)
theorem q60 : (Jvm.Cond.initialized "TwinPanel$Turn") ∈ lw_all := lw_g (lw_at lw_m1 9 rfl) rfl
theorem q258 : (Jvm.Cond.instantiable "TwinPanel$Turn" (11 : Nat)) ∈ lw_all := lw_g (lw_at lw_m1 207 rfl) rfl
theorem q260 : (Jvm.Cond.instanceMethod ({ cls := "TwinPanel$Turn", name := "<init>", desc := "(ID)V" } : Jvm.MethodName)) ∈ lw_all := lw_g (lw_at lw_m1 209 rfl) rfl
theorem q261 : (Jvm.Cond.code ({ cls := "TwinPanel$Turn", name := "<init>", desc := "(ID)V" } : Jvm.MethodName) prog_17_method_1_code (4 : Nat) (Option.none : Option Jvm.ClassFile.FieldType)) ∈ lw_all := lw_g (lw_at lw_m1 210 rfl) rfl
theorem q262 : (Jvm.Cond.methodLink "TwinPanel$Turn" (1 : Nat) ({ cls := "TwinPanel$Module", name := "<init>", desc := "(ID)V" } : Jvm.MethodName)) ∈ lw_all := lw_g (lw_at lw_m1 211 rfl) rfl
theorem q263 : (Jvm.Cond.laysFinal "TwinPanel$Turn" "TwinPanel$Module" "kind" "I") ∈ lw_all := lw_g (lw_at lw_m1 212 rfl) rfl
theorem q264 : (Jvm.Cond.lays "TwinPanel$Turn" "TwinPanel$Module" "setting" "D") ∈ lw_all := lw_g (lw_at lw_m1 213 rfl) rfl
theorem q265 : (Jvm.Cond.lays "TwinPanel$Turn" "TwinPanel$Module" "start" "D") ∈ lw_all := lw_g (lw_at lw_m1 214 rfl) rfl
theorem q266 : (Jvm.Cond.laysFinal "TwinPanel$Turn" "TwinPanel$Module" "from" "[LTwinPanel$Module;") ∈ lw_all := lw_g (lw_at lw_m1 215 rfl) rfl
theorem q267 : (Jvm.Cond.laysFinal "TwinPanel$Turn" "TwinPanel$Module" "number" "[I") ∈ lw_all := lw_g (lw_at lw_m1 216 rfl) rfl
theorem q268 : (Jvm.Cond.laysFinal "TwinPanel$Turn" "TwinPanel$Module" "turned" "[Z") ∈ lw_all := lw_g (lw_at lw_m1 217 rfl) rfl
theorem q269 : (Jvm.Cond.lays "TwinPanel$Turn" "TwinPanel$Module" "wide" "D") ∈ lw_all := lw_g (lw_at lw_m1 218 rfl) rfl
theorem q270 : (Jvm.Cond.lays "TwinPanel$Turn" "TwinPanel$Module" "narrow" "F") ∈ lw_all := lw_g (lw_at lw_m1 219 rfl) rfl
theorem q271 : (Jvm.Cond.lays "TwinPanel$Turn" "TwinPanel$Module" "lamp" "I") ∈ lw_all := lw_g (lw_at lw_m1 220 rfl) rfl
theorem q272 : (Jvm.Cond.lays "TwinPanel$Turn" "TwinPanel$Module" "apart" "D") ∈ lw_all := lw_g (lw_at lw_m1 221 rfl) rfl
theorem q273 : (Jvm.Cond.lays "TwinPanel$Turn" "TwinPanel$Module" "failsAt" "I") ∈ lw_all := lw_g (lw_at lw_m1 222 rfl) rfl
theorem q274 : (Jvm.Cond.superclass "TwinPanel$Turn" "TwinPanel$Module") ∈ lw_all := lw_g (lw_at lw_m1 223 rfl) rfl
theorem q606 : (Jvm.Cond.selects "TwinPanel$Turn" ({ cls := "TwinPanel$Module", name := "remembers", desc := "()Z" } : Jvm.MethodName) ({ cls := "TwinPanel$Module", name := "remembers", desc := "()Z" } : Jvm.MethodName)) ∈ lw_all := lw_g (lw_at lw_m3 75 rfl) rfl
theorem q656 : (Jvm.Cond.selects "TwinPanel$Turn" ({ cls := "TwinPanel$Module", name := "needs", desc := "()I" } : Jvm.MethodName) ({ cls := "TwinPanel$Module", name := "needs", desc := "()I" } : Jvm.MethodName)) ∈ lw_all := lw_g (lw_at lw_m3 125 rfl) rfl
theorem q715 : (Jvm.Cond.selects "TwinPanel$Turn" ({ cls := "TwinPanel$Module", name := "begin", desc := "()V" } : Jvm.MethodName) ({ cls := "TwinPanel$Module", name := "begin", desc := "()V" } : Jvm.MethodName)) ∈ lw_all := lw_g (lw_at lw_m3 184 rfl) rfl
theorem q737 : (Jvm.Cond.selects "TwinPanel$Turn" ({ cls := "TwinPanel$Module", name := "read", desc := "(I)V" } : Jvm.MethodName) ({ cls := "TwinPanel$Module", name := "read", desc := "(I)V" } : Jvm.MethodName)) ∈ lw_all := lw_g (lw_at lw_m3 206 rfl) rfl
theorem q855 : (Jvm.Cond.selects "TwinPanel$Turn" ({ cls := "TwinPanel$Module", name := "wideOut", desc := "(I)D" } : Jvm.MethodName) ({ cls := "TwinPanel$Turn", name := "wideOut", desc := "(I)D" } : Jvm.MethodName)) ∈ lw_all := lw_g (lw_at lw_m4 84 rfl) rfl
theorem q856 : (Jvm.Cond.instanceMethod ({ cls := "TwinPanel$Turn", name := "wideOut", desc := "(I)D" } : Jvm.MethodName)) ∈ lw_all := lw_g (lw_at lw_m4 85 rfl) rfl
theorem q857 : (Jvm.Cond.code ({ cls := "TwinPanel$Turn", name := "wideOut", desc := "(I)D" } : Jvm.MethodName) prog_17_method_2_code (2 : Nat) (Option.some Jvm.ClassFile.FieldType.double)) ∈ lw_all := lw_g (lw_at lw_m4 86 rfl) rfl
theorem q858 : (Jvm.Cond.methodLink "TwinPanel$Turn" (7 : Nat) ({ cls := "TwinPanel$Turn", name := "wideIn", desc := "(I)D" } : Jvm.MethodName)) ∈ lw_all := lw_g (lw_at lw_m4 87 rfl) rfl
theorem q859 : (Jvm.Cond.sameMethod "TwinPanel$Turn" "TwinPanel$Module" "wideIn" "(I)D") ∈ lw_all := lw_g (lw_at lw_m4 88 rfl) rfl
theorem q860 : (Jvm.Cond.selects "TwinPanel$Turn" ({ cls := "TwinPanel$Turn", name := "wideIn", desc := "(I)D" } : Jvm.MethodName) ({ cls := "TwinPanel$Module", name := "wideIn", desc := "(I)D" } : Jvm.MethodName)) ∈ lw_all := lw_g (lw_at lw_m4 89 rfl) rfl
theorem q877 : (Jvm.Cond.selects "TwinPanel$Turn" ({ cls := "TwinPanel$Module", name := "afterWide", desc := "(DI)D" } : Jvm.MethodName) ({ cls := "TwinPanel$Module", name := "afterWide", desc := "(DI)D" } : Jvm.MethodName)) ∈ lw_all := lw_g (lw_at lw_m4 106 rfl) rfl
theorem q955 : (Jvm.Cond.selects "TwinPanel$Turn" ({ cls := "TwinPanel$Module", name := "narrowOut", desc := "(I)F" } : Jvm.MethodName) ({ cls := "TwinPanel$Turn", name := "narrowOut", desc := "(I)F" } : Jvm.MethodName)) ∈ lw_all := lw_g (lw_at lw_m4 184 rfl) rfl
theorem q956 : (Jvm.Cond.instanceMethod ({ cls := "TwinPanel$Turn", name := "narrowOut", desc := "(I)F" } : Jvm.MethodName)) ∈ lw_all := lw_g (lw_at lw_m4 185 rfl) rfl
theorem q957 : (Jvm.Cond.code ({ cls := "TwinPanel$Turn", name := "narrowOut", desc := "(I)F" } : Jvm.MethodName) prog_17_method_3_code (2 : Nat) (Option.some Jvm.ClassFile.FieldType.float)) ∈ lw_all := lw_g (lw_at lw_m4 186 rfl) rfl
theorem q958 : (Jvm.Cond.methodLink "TwinPanel$Turn" (13 : Nat) ({ cls := "TwinPanel$Turn", name := "narrowIn", desc := "(I)F" } : Jvm.MethodName)) ∈ lw_all := lw_g (lw_at lw_m4 187 rfl) rfl
theorem q959 : (Jvm.Cond.sameMethod "TwinPanel$Turn" "TwinPanel$Module" "narrowIn" "(I)F") ∈ lw_all := lw_g (lw_at lw_m4 188 rfl) rfl
theorem q960 : (Jvm.Cond.selects "TwinPanel$Turn" ({ cls := "TwinPanel$Turn", name := "narrowIn", desc := "(I)F" } : Jvm.MethodName) ({ cls := "TwinPanel$Module", name := "narrowIn", desc := "(I)F" } : Jvm.MethodName)) ∈ lw_all := lw_g (lw_at lw_m4 189 rfl) rfl
theorem q977 : (Jvm.Cond.selects "TwinPanel$Turn" ({ cls := "TwinPanel$Module", name := "afterNarrow", desc := "(FI)F" } : Jvm.MethodName) ({ cls := "TwinPanel$Module", name := "afterNarrow", desc := "(FI)F" } : Jvm.MethodName)) ∈ lw_all := lw_g (lw_at lw_m4 206 rfl) rfl
theorem q997 : (Jvm.Cond.selects "TwinPanel$Turn" ({ cls := "TwinPanel$Module", name := "compare", desc := "()V" } : Jvm.MethodName) ({ cls := "TwinPanel$Module", name := "compare", desc := "()V" } : Jvm.MethodName)) ∈ lw_all := lw_g (lw_at lw_m4 226 rfl) rfl
theorem q1062 : (Jvm.Cond.selects "TwinPanel$Turn" ({ cls := "TwinPanel$Module", name := "take", desc := "()V" } : Jvm.MethodName) ({ cls := "TwinPanel$Module", name := "take", desc := "()V" } : Jvm.MethodName)) ∈ lw_all := lw_g (lw_at lw_m5 51 rfl) rfl
theorem q1137 : (Jvm.Cond.selects "TwinPanel$Turn" ({ cls := "TwinPanel$Module", name := "become", desc := "()V" } : Jvm.MethodName) ({ cls := "TwinPanel$Module", name := "become", desc := "()V" } : Jvm.MethodName)) ∈ lw_all := lw_g (lw_at lw_m5 126 rfl) rfl
theorem q1764 : (Jvm.Cond.selects "TwinPanel$Turn" ({ cls := "TwinPanel$Module", name := "wideIn", desc := "(I)D" } : Jvm.MethodName) ({ cls := "TwinPanel$Module", name := "wideIn", desc := "(I)D" } : Jvm.MethodName)) ∈ lw_all := lw_g (lw_at lw_m8 33 rfl) rfl
theorem q1779 : (Jvm.Cond.selects "TwinPanel$Turn" ({ cls := "TwinPanel$Module", name := "light", desc := "(I)V" } : Jvm.MethodName) ({ cls := "TwinPanel$Module", name := "light", desc := "(I)V" } : Jvm.MethodName)) ∈ lw_all := lw_g (lw_at lw_m8 48 rfl) rfl
theorem q1794 : (Jvm.Cond.selects "TwinPanel$Turn" ({ cls := "TwinPanel$Module", name := "narrowIn", desc := "(I)F" } : Jvm.MethodName) ({ cls := "TwinPanel$Module", name := "narrowIn", desc := "(I)F" } : Jvm.MethodName)) ∈ lw_all := lw_g (lw_at lw_m8 63 rfl) rfl
theorem q1809 : (Jvm.Cond.selects "TwinPanel$Turn" ({ cls := "TwinPanel$Module", name := "wideSum", desc := "()D" } : Jvm.MethodName) ({ cls := "TwinPanel$Module", name := "wideSum", desc := "()D" } : Jvm.MethodName)) ∈ lw_all := lw_g (lw_at lw_m8 78 rfl) rfl
theorem q1811 : (Jvm.Cond.castable "TwinPanel$Turn" "TwinPanel$Module") ∈ lw_tbl := lw_at lw_m8 80 rfl
theorem in_X4 : ∀ w ∈ wsX40, w ∈ lw_all := lw_in wsX40 [263, 264, 265, 266, 267, 268, 269, 270, 271, 272, 273] (by decide +kernel) (by decide +kernel)
theorem q61 : (Jvm.Cond.initialized "TwinPanel$Keeper") ∈ lw_all := lw_g (lw_at lw_m1 10 rfl) rfl
theorem q216 : (Jvm.Cond.fieldLink "TwinPanel$Keeper" (21 : Nat) "TwinPanel$Keeper" "start" "D") ∈ lw_all := lw_g (lw_at lw_m1 165 rfl) rfl
theorem q217 : (Jvm.Cond.sameField "TwinPanel$Keeper" "TwinPanel$Module" "start" "D") ∈ lw_all := lw_g (lw_at lw_m1 166 rfl) rfl
theorem q281 : (Jvm.Cond.instanceMethod ({ cls := "TwinPanel$Keeper", name := "<init>", desc := "(ID)V" } : Jvm.MethodName)) ∈ lw_all := lw_g (lw_at lw_m1 230 rfl) rfl
theorem q282 : (Jvm.Cond.code ({ cls := "TwinPanel$Keeper", name := "<init>", desc := "(ID)V" } : Jvm.MethodName) prog_5_method_1_code (4 : Nat) (Option.none : Option Jvm.ClassFile.FieldType)) ∈ lw_all := lw_g (lw_at lw_m1 231 rfl) rfl
theorem q283 : (Jvm.Cond.methodLink "TwinPanel$Keeper" (1 : Nat) ({ cls := "TwinPanel$Module", name := "<init>", desc := "(ID)V" } : Jvm.MethodName)) ∈ lw_all := lw_g (lw_at lw_m1 232 rfl) rfl
theorem q291 : (Jvm.Cond.fieldLink "TwinPanel$Keeper" (7 : Nat) "TwinPanel$Keeper" "wideState" "D") ∈ lw_all := lw_g (lw_at lw_m2 0 rfl) rfl
theorem q302 : (Jvm.Cond.fieldLink "TwinPanel$Keeper" (13 : Nat) "TwinPanel$Keeper" "narrowState" "F") ∈ lw_all := lw_g (lw_at lw_m2 11 rfl) rfl
theorem q318 : (Jvm.Cond.soleField "TwinPanel$Keeper" "wideState") ∈ lw_all := lw_g (lw_at lw_m2 27 rfl) rfl
theorem q320 : (Jvm.Cond.soleField "TwinPanel$Keeper" "narrowState") ∈ lw_all := lw_g (lw_at lw_m2 29 rfl) rfl
theorem q593 : (Jvm.Cond.instanceMethod ({ cls := "TwinPanel$Keeper", name := "remembers", desc := "()Z" } : Jvm.MethodName)) ∈ lw_all := lw_g (lw_at lw_m3 62 rfl) rfl
theorem q594 : (Jvm.Cond.code ({ cls := "TwinPanel$Keeper", name := "remembers", desc := "()Z" } : Jvm.MethodName) prog_5_method_2_code (1 : Nat) (Option.some Jvm.ClassFile.FieldType.boolean)) ∈ lw_all := lw_g (lw_at lw_m3 63 rfl) rfl
theorem q697 : (Jvm.Cond.instanceMethod ({ cls := "TwinPanel$Keeper", name := "begin", desc := "()V" } : Jvm.MethodName)) ∈ lw_all := lw_g (lw_at lw_m3 166 rfl) rfl
theorem q698 : (Jvm.Cond.code ({ cls := "TwinPanel$Keeper", name := "begin", desc := "()V" } : Jvm.MethodName) prog_5_method_5_code (1 : Nat) (Option.none : Option Jvm.ClassFile.FieldType)) ∈ lw_all := lw_g (lw_at lw_m3 167 rfl) rfl
theorem q699 : (Jvm.Cond.methodLink "TwinPanel$Keeper" (17 : Nat) ({ cls := "TwinPanel$Module", name := "begin", desc := "()V" } : Jvm.MethodName)) ∈ lw_all := lw_g (lw_at lw_m3 168 rfl) rfl
theorem q700 : (Jvm.Cond.superclass "TwinPanel$Keeper" "TwinPanel$Module") ∈ lw_all := lw_g (lw_at lw_m3 169 rfl) rfl
theorem q753 : (Jvm.Cond.instanceMethod ({ cls := "TwinPanel$Keeper", name := "wideOut", desc := "(I)D" } : Jvm.MethodName)) ∈ lw_all := lw_g (lw_at lw_m3 222 rfl) rfl
theorem q754 : (Jvm.Cond.code ({ cls := "TwinPanel$Keeper", name := "wideOut", desc := "(I)D" } : Jvm.MethodName) prog_5_method_3_code (2 : Nat) (Option.some Jvm.ClassFile.FieldType.double)) ∈ lw_all := lw_g (lw_at lw_m3 223 rfl) rfl
theorem q896 : (Jvm.Cond.instanceMethod ({ cls := "TwinPanel$Keeper", name := "narrowOut", desc := "(I)F" } : Jvm.MethodName)) ∈ lw_all := lw_g (lw_at lw_m4 125 rfl) rfl
theorem q897 : (Jvm.Cond.code ({ cls := "TwinPanel$Keeper", name := "narrowOut", desc := "(I)F" } : Jvm.MethodName) prog_5_method_4_code (2 : Nat) (Option.some Jvm.ClassFile.FieldType.float)) ∈ lw_all := lw_g (lw_at lw_m4 126 rfl) rfl
theorem q1749 : (Jvm.Cond.sameMethod "TwinPanel$Keeper" "TwinPanel$Keeper" "begin" "()V") ∈ lw_all := lw_g (lw_at lw_m8 18 rfl) rfl
theorem q62 : (Jvm.Cond.initialized "TwinPanel$Gather") ∈ lw_all := lw_g (lw_at lw_m1 11 rfl) rfl
theorem q276 : (Jvm.Cond.instantiable "TwinPanel$Gather" (18 : Nat)) ∈ lw_all := lw_g (lw_at lw_m1 225 rfl) rfl
theorem q278 : (Jvm.Cond.instanceMethod ({ cls := "TwinPanel$Gather", name := "<init>", desc := "(ID)V" } : Jvm.MethodName)) ∈ lw_all := lw_g (lw_at lw_m1 227 rfl) rfl
theorem q279 : (Jvm.Cond.code ({ cls := "TwinPanel$Gather", name := "<init>", desc := "(ID)V" } : Jvm.MethodName) prog_4_method_1_code (4 : Nat) (Option.none : Option Jvm.ClassFile.FieldType)) ∈ lw_all := lw_g (lw_at lw_m1 228 rfl) rfl
theorem q280 : (Jvm.Cond.methodLink "TwinPanel$Gather" (1 : Nat) ({ cls := "TwinPanel$Keeper", name := "<init>", desc := "(ID)V" } : Jvm.MethodName)) ∈ lw_all := lw_g (lw_at lw_m1 229 rfl) rfl
theorem q284 : (Jvm.Cond.fieldLink "TwinPanel$Gather" (21 : Nat) "TwinPanel$Gather" "wideFrom" "D") ∈ lw_all := lw_g (lw_at lw_m1 233 rfl) rfl
theorem q285 : (Jvm.Cond.fieldLink "TwinPanel$Gather" (28 : Nat) "TwinPanel$Gather" "narrowFrom" "F") ∈ lw_all := lw_g (lw_at lw_m1 234 rfl) rfl
theorem q286 : (Jvm.Cond.fieldLink "TwinPanel$Gather" (7 : Nat) "TwinPanel$Gather" "wideRates" "[D") ∈ lw_all := lw_g (lw_at lw_m1 235 rfl) rfl
theorem q287 : (Jvm.Cond.fieldLink "TwinPanel$Gather" (13 : Nat) "TwinPanel$Gather" "narrowRates" "[F") ∈ lw_all := lw_g (lw_at lw_m1 236 rfl) rfl
theorem q289 : (Jvm.Cond.fieldLink "TwinPanel$Gather" (17 : Nat) "TwinPanel$Gather" "wideState" "D") ∈ lw_all := lw_g (lw_at lw_m1 238 rfl) rfl
theorem q290 : (Jvm.Cond.sameField "TwinPanel$Gather" "TwinPanel$Keeper" "wideState" "D") ∈ lw_all := lw_g (lw_at lw_m1 239 rfl) rfl
theorem q298 : (Jvm.Cond.fieldLink "TwinPanel$Gather" (24 : Nat) "TwinPanel$Gather" "narrowState" "F") ∈ lw_all := lw_g (lw_at lw_m2 7 rfl) rfl
theorem q299 : (Jvm.Cond.sameField "TwinPanel$Gather" "TwinPanel$Keeper" "narrowState" "F") ∈ lw_all := lw_g (lw_at lw_m2 8 rfl) rfl
theorem q307 : (Jvm.Cond.lays "TwinPanel$Gather" "TwinPanel$Gather" "wideFrom" "D") ∈ lw_all := lw_g (lw_at lw_m2 16 rfl) rfl
theorem q308 : (Jvm.Cond.soleField "TwinPanel$Gather" "wideFrom") ∈ lw_all := lw_g (lw_at lw_m2 17 rfl) rfl
theorem q309 : (Jvm.Cond.lays "TwinPanel$Gather" "TwinPanel$Gather" "narrowFrom" "F") ∈ lw_all := lw_g (lw_at lw_m2 18 rfl) rfl
theorem q310 : (Jvm.Cond.soleField "TwinPanel$Gather" "narrowFrom") ∈ lw_all := lw_g (lw_at lw_m2 19 rfl) rfl
theorem q311 : (Jvm.Cond.laysFinal "TwinPanel$Gather" "TwinPanel$Gather" "wideRates" "[D") ∈ lw_all := lw_g (lw_at lw_m2 20 rfl) rfl
theorem q312 : (Jvm.Cond.soleField "TwinPanel$Gather" "wideRates") ∈ lw_all := lw_g (lw_at lw_m2 21 rfl) rfl
theorem q313 : (Jvm.Cond.laysFinal "TwinPanel$Gather" "TwinPanel$Gather" "narrowRates" "[F") ∈ lw_all := lw_g (lw_at lw_m2 22 rfl) rfl
theorem q314 : (Jvm.Cond.soleField "TwinPanel$Gather" "narrowRates") ∈ lw_all := lw_g (lw_at lw_m2 23 rfl) rfl
theorem q315 : (Jvm.Cond.lays "TwinPanel$Gather" "TwinPanel$Gather" "startRate" "D") ∈ lw_all := lw_g (lw_at lw_m2 24 rfl) rfl
theorem q316 : (Jvm.Cond.soleField "TwinPanel$Gather" "startRate") ∈ lw_all := lw_g (lw_at lw_m2 25 rfl) rfl
theorem q317 : (Jvm.Cond.lays "TwinPanel$Gather" "TwinPanel$Keeper" "wideState" "D") ∈ lw_all := lw_g (lw_at lw_m2 26 rfl) rfl
theorem q319 : (Jvm.Cond.lays "TwinPanel$Gather" "TwinPanel$Keeper" "narrowState" "F") ∈ lw_all := lw_g (lw_at lw_m2 28 rfl) rfl
theorem q321 : (Jvm.Cond.laysFinal "TwinPanel$Gather" "TwinPanel$Module" "kind" "I") ∈ lw_all := lw_g (lw_at lw_m2 30 rfl) rfl
theorem q322 : (Jvm.Cond.lays "TwinPanel$Gather" "TwinPanel$Module" "setting" "D") ∈ lw_all := lw_g (lw_at lw_m2 31 rfl) rfl
theorem q323 : (Jvm.Cond.lays "TwinPanel$Gather" "TwinPanel$Module" "start" "D") ∈ lw_all := lw_g (lw_at lw_m2 32 rfl) rfl
theorem q324 : (Jvm.Cond.laysFinal "TwinPanel$Gather" "TwinPanel$Module" "from" "[LTwinPanel$Module;") ∈ lw_all := lw_g (lw_at lw_m2 33 rfl) rfl
theorem q325 : (Jvm.Cond.laysFinal "TwinPanel$Gather" "TwinPanel$Module" "number" "[I") ∈ lw_all := lw_g (lw_at lw_m2 34 rfl) rfl
theorem q326 : (Jvm.Cond.laysFinal "TwinPanel$Gather" "TwinPanel$Module" "turned" "[Z") ∈ lw_all := lw_g (lw_at lw_m2 35 rfl) rfl
theorem q327 : (Jvm.Cond.lays "TwinPanel$Gather" "TwinPanel$Module" "wide" "D") ∈ lw_all := lw_g (lw_at lw_m2 36 rfl) rfl
theorem q328 : (Jvm.Cond.lays "TwinPanel$Gather" "TwinPanel$Module" "narrow" "F") ∈ lw_all := lw_g (lw_at lw_m2 37 rfl) rfl
theorem q329 : (Jvm.Cond.lays "TwinPanel$Gather" "TwinPanel$Module" "lamp" "I") ∈ lw_all := lw_g (lw_at lw_m2 38 rfl) rfl
theorem q330 : (Jvm.Cond.lays "TwinPanel$Gather" "TwinPanel$Module" "apart" "D") ∈ lw_all := lw_g (lw_at lw_m2 39 rfl) rfl
theorem q331 : (Jvm.Cond.lays "TwinPanel$Gather" "TwinPanel$Module" "failsAt" "I") ∈ lw_all := lw_g (lw_at lw_m2 40 rfl) rfl
theorem q332 : (Jvm.Cond.superclass "TwinPanel$Gather" "TwinPanel$Keeper") ∈ lw_all := lw_g (lw_at lw_m2 41 rfl) rfl
theorem q595 : (Jvm.Cond.selects "TwinPanel$Gather" ({ cls := "TwinPanel$Module", name := "remembers", desc := "()Z" } : Jvm.MethodName) ({ cls := "TwinPanel$Keeper", name := "remembers", desc := "()Z" } : Jvm.MethodName)) ∈ lw_all := lw_g (lw_at lw_m3 64 rfl) rfl
theorem q635 : (Jvm.Cond.selects "TwinPanel$Gather" ({ cls := "TwinPanel$Module", name := "needs", desc := "()I" } : Jvm.MethodName) ({ cls := "TwinPanel$Module", name := "needs", desc := "()I" } : Jvm.MethodName)) ∈ lw_all := lw_g (lw_at lw_m3 104 rfl) rfl
theorem q701 : (Jvm.Cond.selects "TwinPanel$Gather" ({ cls := "TwinPanel$Module", name := "begin", desc := "()V" } : Jvm.MethodName) ({ cls := "TwinPanel$Keeper", name := "begin", desc := "()V" } : Jvm.MethodName)) ∈ lw_all := lw_g (lw_at lw_m3 170 rfl) rfl
theorem q726 : (Jvm.Cond.selects "TwinPanel$Gather" ({ cls := "TwinPanel$Module", name := "read", desc := "(I)V" } : Jvm.MethodName) ({ cls := "TwinPanel$Module", name := "read", desc := "(I)V" } : Jvm.MethodName)) ∈ lw_all := lw_g (lw_at lw_m3 195 rfl) rfl
theorem q755 : (Jvm.Cond.selects "TwinPanel$Gather" ({ cls := "TwinPanel$Module", name := "wideOut", desc := "(I)D" } : Jvm.MethodName) ({ cls := "TwinPanel$Keeper", name := "wideOut", desc := "(I)D" } : Jvm.MethodName)) ∈ lw_all := lw_g (lw_at lw_m3 224 rfl) rfl
theorem q866 : (Jvm.Cond.selects "TwinPanel$Gather" ({ cls := "TwinPanel$Module", name := "afterWide", desc := "(DI)D" } : Jvm.MethodName) ({ cls := "TwinPanel$Module", name := "afterWide", desc := "(DI)D" } : Jvm.MethodName)) ∈ lw_all := lw_g (lw_at lw_m4 95 rfl) rfl
theorem q898 : (Jvm.Cond.selects "TwinPanel$Gather" ({ cls := "TwinPanel$Module", name := "narrowOut", desc := "(I)F" } : Jvm.MethodName) ({ cls := "TwinPanel$Keeper", name := "narrowOut", desc := "(I)F" } : Jvm.MethodName)) ∈ lw_all := lw_g (lw_at lw_m4 127 rfl) rfl
theorem q966 : (Jvm.Cond.selects "TwinPanel$Gather" ({ cls := "TwinPanel$Module", name := "afterNarrow", desc := "(FI)F" } : Jvm.MethodName) ({ cls := "TwinPanel$Module", name := "afterNarrow", desc := "(FI)F" } : Jvm.MethodName)) ∈ lw_all := lw_g (lw_at lw_m4 195 rfl) rfl
theorem q986 : (Jvm.Cond.selects "TwinPanel$Gather" ({ cls := "TwinPanel$Module", name := "compare", desc := "()V" } : Jvm.MethodName) ({ cls := "TwinPanel$Module", name := "compare", desc := "()V" } : Jvm.MethodName)) ∈ lw_all := lw_g (lw_at lw_m4 215 rfl) rfl
theorem q1043 : (Jvm.Cond.selects "TwinPanel$Gather" ({ cls := "TwinPanel$Module", name := "take", desc := "()V" } : Jvm.MethodName) ({ cls := "TwinPanel$Module", name := "take", desc := "()V" } : Jvm.MethodName)) ∈ lw_all := lw_g (lw_at lw_m5 32 rfl) rfl
theorem q1065 : (Jvm.Cond.instanceMethod ({ cls := "TwinPanel$Gather", name := "open", desc := "()V" } : Jvm.MethodName)) ∈ lw_all := lw_g (lw_at lw_m5 54 rfl) rfl
theorem q1066 : (Jvm.Cond.selects "TwinPanel$Gather" ({ cls := "TwinPanel$Gather", name := "open", desc := "()V" } : Jvm.MethodName) ({ cls := "TwinPanel$Gather", name := "open", desc := "()V" } : Jvm.MethodName)) ∈ lw_all := lw_g (lw_at lw_m5 55 rfl) rfl
theorem q1067 : (Jvm.Cond.code ({ cls := "TwinPanel$Gather", name := "open", desc := "()V" } : Jvm.MethodName) prog_4_method_2_code (1 : Nat) (Option.none : Option Jvm.ClassFile.FieldType)) ∈ lw_all := lw_g (lw_at lw_m5 56 rfl) rfl
theorem q1073 : (Jvm.Cond.instanceMethod ({ cls := "TwinPanel$Gather", name := "rate", desc := "(I)V" } : Jvm.MethodName)) ∈ lw_all := lw_g (lw_at lw_m5 62 rfl) rfl
theorem q1074 : (Jvm.Cond.selects "TwinPanel$Gather" ({ cls := "TwinPanel$Gather", name := "rate", desc := "(I)V" } : Jvm.MethodName) ({ cls := "TwinPanel$Gather", name := "rate", desc := "(I)V" } : Jvm.MethodName)) ∈ lw_all := lw_g (lw_at lw_m5 63 rfl) rfl
theorem q1075 : (Jvm.Cond.code ({ cls := "TwinPanel$Gather", name := "rate", desc := "(I)V" } : Jvm.MethodName) prog_4_method_3_code (2 : Nat) (Option.none : Option Jvm.ClassFile.FieldType)) ∈ lw_all := lw_g (lw_at lw_m5 64 rfl) rfl
theorem q1076 : (Jvm.Cond.methodLink "TwinPanel$Gather" (31 : Nat) ({ cls := "TwinPanel$Gather", name := "wideSum", desc := "()D" } : Jvm.MethodName)) ∈ lw_all := lw_g (lw_at lw_m5 65 rfl) rfl
theorem q1077 : (Jvm.Cond.sameMethod "TwinPanel$Gather" "TwinPanel$Module" "wideSum" "()D") ∈ lw_all := lw_g (lw_at lw_m5 66 rfl) rfl
theorem q1078 : (Jvm.Cond.selects "TwinPanel$Gather" ({ cls := "TwinPanel$Gather", name := "wideSum", desc := "()D" } : Jvm.MethodName) ({ cls := "TwinPanel$Module", name := "wideSum", desc := "()D" } : Jvm.MethodName)) ∈ lw_all := lw_g (lw_at lw_m5 67 rfl) rfl
theorem q1079 : (Jvm.Cond.methodLink "TwinPanel$Gather" (35 : Nat) ({ cls := "TwinPanel$Gather", name := "narrowSum", desc := "()F" } : Jvm.MethodName)) ∈ lw_all := lw_g (lw_at lw_m5 68 rfl) rfl
theorem q1080 : (Jvm.Cond.sameMethod "TwinPanel$Gather" "TwinPanel$Module" "narrowSum" "()F") ∈ lw_all := lw_g (lw_at lw_m5 69 rfl) rfl
theorem q1081 : (Jvm.Cond.selects "TwinPanel$Gather" ({ cls := "TwinPanel$Gather", name := "narrowSum", desc := "()F" } : Jvm.MethodName) ({ cls := "TwinPanel$Module", name := "narrowSum", desc := "()F" } : Jvm.MethodName)) ∈ lw_all := lw_g (lw_at lw_m5 70 rfl) rfl
theorem q1087 : (Jvm.Cond.instanceMethod ({ cls := "TwinPanel$Gather", name := "go", desc := "(IDI)V" } : Jvm.MethodName)) ∈ lw_all := lw_g (lw_at lw_m5 76 rfl) rfl
theorem q1088 : (Jvm.Cond.selects "TwinPanel$Gather" ({ cls := "TwinPanel$Gather", name := "go", desc := "(IDI)V" } : Jvm.MethodName) ({ cls := "TwinPanel$Gather", name := "go", desc := "(IDI)V" } : Jvm.MethodName)) ∈ lw_all := lw_g (lw_at lw_m5 77 rfl) rfl
theorem q1089 : (Jvm.Cond.code ({ cls := "TwinPanel$Gather", name := "go", desc := "(IDI)V" } : Jvm.MethodName) prog_4_method_4_code (5 : Nat) (Option.none : Option Jvm.ClassFile.FieldType)) ∈ lw_all := lw_g (lw_at lw_m5 78 rfl) rfl
theorem q1090 : (Jvm.Cond.methodLink "TwinPanel$Gather" (39 : Nat) ({ cls := "TwinPanel$Gather", name := "afterWide", desc := "(DI)D" } : Jvm.MethodName)) ∈ lw_all := lw_g (lw_at lw_m5 79 rfl) rfl
theorem q1091 : (Jvm.Cond.sameMethod "TwinPanel$Gather" "TwinPanel$Module" "afterWide" "(DI)D") ∈ lw_all := lw_g (lw_at lw_m5 80 rfl) rfl
theorem q1093 : (Jvm.Cond.selects "TwinPanel$Gather" ({ cls := "TwinPanel$Gather", name := "afterWide", desc := "(DI)D" } : Jvm.MethodName) ({ cls := "TwinPanel$Module", name := "afterWide", desc := "(DI)D" } : Jvm.MethodName)) ∈ lw_all := lw_g (lw_at lw_m5 82 rfl) rfl
theorem q1094 : (Jvm.Cond.methodLink "TwinPanel$Gather" (43 : Nat) ({ cls := "TwinPanel$Gather", name := "afterNarrow", desc := "(FI)F" } : Jvm.MethodName)) ∈ lw_all := lw_g (lw_at lw_m5 83 rfl) rfl
theorem q1095 : (Jvm.Cond.sameMethod "TwinPanel$Gather" "TwinPanel$Module" "afterNarrow" "(FI)F") ∈ lw_all := lw_g (lw_at lw_m5 84 rfl) rfl
theorem q1097 : (Jvm.Cond.selects "TwinPanel$Gather" ({ cls := "TwinPanel$Gather", name := "afterNarrow", desc := "(FI)F" } : Jvm.MethodName) ({ cls := "TwinPanel$Module", name := "afterNarrow", desc := "(FI)F" } : Jvm.MethodName)) ∈ lw_all := lw_g (lw_at lw_m5 86 rfl) rfl
theorem q1099 : (Jvm.Cond.instanceMethod ({ cls := "TwinPanel$Gather", name := "goTwo", desc := "(DI)V" } : Jvm.MethodName)) ∈ lw_all := lw_g (lw_at lw_m5 88 rfl) rfl
theorem q1100 : (Jvm.Cond.selects "TwinPanel$Gather" ({ cls := "TwinPanel$Gather", name := "goTwo", desc := "(DI)V" } : Jvm.MethodName) ({ cls := "TwinPanel$Gather", name := "goTwo", desc := "(DI)V" } : Jvm.MethodName)) ∈ lw_all := lw_g (lw_at lw_m5 89 rfl) rfl
theorem q1101 : (Jvm.Cond.code ({ cls := "TwinPanel$Gather", name := "goTwo", desc := "(DI)V" } : Jvm.MethodName) prog_4_method_5_code (4 : Nat) (Option.none : Option Jvm.ClassFile.FieldType)) ∈ lw_all := lw_g (lw_at lw_m5 90 rfl) rfl
theorem q1102 : (Jvm.Cond.constantDouble "TwinPanel$Gather" (47 : Nat) (4611686018427387904 : UInt64)) ∈ lw_all := lw_g (lw_at lw_m5 91 rfl) rfl
theorem q1104 : (Jvm.Cond.instanceMethod ({ cls := "TwinPanel$Gather", name := "goFour", desc := "(DI)V" } : Jvm.MethodName)) ∈ lw_all := lw_g (lw_at lw_m5 93 rfl) rfl
theorem q1105 : (Jvm.Cond.selects "TwinPanel$Gather" ({ cls := "TwinPanel$Gather", name := "goFour", desc := "(DI)V" } : Jvm.MethodName) ({ cls := "TwinPanel$Gather", name := "goFour", desc := "(DI)V" } : Jvm.MethodName)) ∈ lw_all := lw_g (lw_at lw_m5 94 rfl) rfl
theorem q1106 : (Jvm.Cond.code ({ cls := "TwinPanel$Gather", name := "goFour", desc := "(DI)V" } : Jvm.MethodName) prog_4_method_6_code (7 : Nat) (Option.none : Option Jvm.ClassFile.FieldType)) ∈ lw_all := lw_g (lw_at lw_m5 95 rfl) rfl
theorem q1107 : (Jvm.Cond.constantDouble "TwinPanel$Gather" (49 : Nat) (4618441417868443648 : UInt64)) ∈ lw_all := lw_g (lw_at lw_m5 96 rfl) rfl
theorem q1108 : (Jvm.Cond.constantFloat "TwinPanel$Gather" (51 : Nat) (1086324736 : UInt32)) ∈ lw_all := lw_g (lw_at lw_m5 97 rfl) rfl
theorem q1119 : (Jvm.Cond.selects "TwinPanel$Gather" ({ cls := "TwinPanel$Module", name := "become", desc := "()V" } : Jvm.MethodName) ({ cls := "TwinPanel$Module", name := "become", desc := "()V" } : Jvm.MethodName)) ∈ lw_all := lw_g (lw_at lw_m5 108 rfl) rfl
theorem q1753 : (Jvm.Cond.selects "TwinPanel$Gather" ({ cls := "TwinPanel$Module", name := "wideIn", desc := "(I)D" } : Jvm.MethodName) ({ cls := "TwinPanel$Module", name := "wideIn", desc := "(I)D" } : Jvm.MethodName)) ∈ lw_all := lw_g (lw_at lw_m8 22 rfl) rfl
theorem q1768 : (Jvm.Cond.selects "TwinPanel$Gather" ({ cls := "TwinPanel$Module", name := "light", desc := "(I)V" } : Jvm.MethodName) ({ cls := "TwinPanel$Module", name := "light", desc := "(I)V" } : Jvm.MethodName)) ∈ lw_all := lw_g (lw_at lw_m8 37 rfl) rfl
theorem q1783 : (Jvm.Cond.selects "TwinPanel$Gather" ({ cls := "TwinPanel$Module", name := "narrowIn", desc := "(I)F" } : Jvm.MethodName) ({ cls := "TwinPanel$Module", name := "narrowIn", desc := "(I)F" } : Jvm.MethodName)) ∈ lw_all := lw_g (lw_at lw_m8 52 rfl) rfl
theorem q1798 : (Jvm.Cond.selects "TwinPanel$Gather" ({ cls := "TwinPanel$Module", name := "wideSum", desc := "()D" } : Jvm.MethodName) ({ cls := "TwinPanel$Module", name := "wideSum", desc := "()D" } : Jvm.MethodName)) ∈ lw_all := lw_g (lw_at lw_m8 67 rfl) rfl
theorem q1812 : (Jvm.Cond.castable "TwinPanel$Gather" "TwinPanel$Module") ∈ lw_tbl := lw_at lw_m8 81 rfl
theorem in_X6 : ∀ w ∈ wsX60, w ∈ lw_all := lw_in wsX60 [321, 322, 323, 324, 325, 326, 327, 328, 329, 330, 331, 317, 319, 307, 309, 311, 313, 315] (by decide +kernel) (by decide +kernel)
theorem q63 : (Jvm.Cond.initialized "TwinPanel$Track") ∈ lw_all := lw_g (lw_at lw_m1 12 rfl) rfl
theorem q292 : (Jvm.Cond.fieldLink "TwinPanel$Track" (13 : Nat) "TwinPanel$Track" "wideState" "D") ∈ lw_all := lw_g (lw_at lw_m2 1 rfl) rfl
theorem q293 : (Jvm.Cond.sameField "TwinPanel$Track" "TwinPanel$Keeper" "wideState" "D") ∈ lw_all := lw_g (lw_at lw_m2 2 rfl) rfl
theorem q300 : (Jvm.Cond.fieldLink "TwinPanel$Track" (24 : Nat) "TwinPanel$Track" "narrowState" "F") ∈ lw_all := lw_g (lw_at lw_m2 9 rfl) rfl
theorem q301 : (Jvm.Cond.sameField "TwinPanel$Track" "TwinPanel$Keeper" "narrowState" "F") ∈ lw_all := lw_g (lw_at lw_m2 10 rfl) rfl
theorem q335 : (Jvm.Cond.instantiable "TwinPanel$Track" (15 : Nat)) ∈ lw_all := lw_g (lw_at lw_m2 44 rfl) rfl
theorem q337 : (Jvm.Cond.instanceMethod ({ cls := "TwinPanel$Track", name := "<init>", desc := "(ID)V" } : Jvm.MethodName)) ∈ lw_all := lw_g (lw_at lw_m2 46 rfl) rfl
theorem q338 : (Jvm.Cond.code ({ cls := "TwinPanel$Track", name := "<init>", desc := "(ID)V" } : Jvm.MethodName) prog_16_method_1_code (4 : Nat) (Option.none : Option Jvm.ClassFile.FieldType)) ∈ lw_all := lw_g (lw_at lw_m2 47 rfl) rfl
theorem q339 : (Jvm.Cond.methodLink "TwinPanel$Track" (1 : Nat) ({ cls := "TwinPanel$Keeper", name := "<init>", desc := "(ID)V" } : Jvm.MethodName)) ∈ lw_all := lw_g (lw_at lw_m2 48 rfl) rfl
theorem q340 : (Jvm.Cond.fieldLink "TwinPanel$Track" (17 : Nat) "TwinPanel$Track" "wideNext" "D") ∈ lw_all := lw_g (lw_at lw_m2 49 rfl) rfl
theorem q341 : (Jvm.Cond.fieldLink "TwinPanel$Track" (28 : Nat) "TwinPanel$Track" "narrowNext" "F") ∈ lw_all := lw_g (lw_at lw_m2 50 rfl) rfl
theorem q342 : (Jvm.Cond.lays "TwinPanel$Track" "TwinPanel$Track" "wideNext" "D") ∈ lw_all := lw_g (lw_at lw_m2 51 rfl) rfl
theorem q343 : (Jvm.Cond.soleField "TwinPanel$Track" "wideNext") ∈ lw_all := lw_g (lw_at lw_m2 52 rfl) rfl
theorem q344 : (Jvm.Cond.lays "TwinPanel$Track" "TwinPanel$Track" "narrowNext" "F") ∈ lw_all := lw_g (lw_at lw_m2 53 rfl) rfl
theorem q345 : (Jvm.Cond.soleField "TwinPanel$Track" "narrowNext") ∈ lw_all := lw_g (lw_at lw_m2 54 rfl) rfl
theorem q346 : (Jvm.Cond.lays "TwinPanel$Track" "TwinPanel$Keeper" "wideState" "D") ∈ lw_all := lw_g (lw_at lw_m2 55 rfl) rfl
theorem q347 : (Jvm.Cond.lays "TwinPanel$Track" "TwinPanel$Keeper" "narrowState" "F") ∈ lw_all := lw_g (lw_at lw_m2 56 rfl) rfl
theorem q348 : (Jvm.Cond.laysFinal "TwinPanel$Track" "TwinPanel$Module" "kind" "I") ∈ lw_all := lw_g (lw_at lw_m2 57 rfl) rfl
theorem q349 : (Jvm.Cond.lays "TwinPanel$Track" "TwinPanel$Module" "setting" "D") ∈ lw_all := lw_g (lw_at lw_m2 58 rfl) rfl
theorem q350 : (Jvm.Cond.lays "TwinPanel$Track" "TwinPanel$Module" "start" "D") ∈ lw_all := lw_g (lw_at lw_m2 59 rfl) rfl
theorem q351 : (Jvm.Cond.laysFinal "TwinPanel$Track" "TwinPanel$Module" "from" "[LTwinPanel$Module;") ∈ lw_all := lw_g (lw_at lw_m2 60 rfl) rfl
theorem q352 : (Jvm.Cond.laysFinal "TwinPanel$Track" "TwinPanel$Module" "number" "[I") ∈ lw_all := lw_g (lw_at lw_m2 61 rfl) rfl
theorem q353 : (Jvm.Cond.laysFinal "TwinPanel$Track" "TwinPanel$Module" "turned" "[Z") ∈ lw_all := lw_g (lw_at lw_m2 62 rfl) rfl
theorem q354 : (Jvm.Cond.lays "TwinPanel$Track" "TwinPanel$Module" "wide" "D") ∈ lw_all := lw_g (lw_at lw_m2 63 rfl) rfl
theorem q355 : (Jvm.Cond.lays "TwinPanel$Track" "TwinPanel$Module" "narrow" "F") ∈ lw_all := lw_g (lw_at lw_m2 64 rfl) rfl
theorem q356 : (Jvm.Cond.lays "TwinPanel$Track" "TwinPanel$Module" "lamp" "I") ∈ lw_all := lw_g (lw_at lw_m2 65 rfl) rfl
theorem q357 : (Jvm.Cond.lays "TwinPanel$Track" "TwinPanel$Module" "apart" "D") ∈ lw_all := lw_g (lw_at lw_m2 66 rfl) rfl
theorem q358 : (Jvm.Cond.lays "TwinPanel$Track" "TwinPanel$Module" "failsAt" "I") ∈ lw_all := lw_g (lw_at lw_m2 67 rfl) rfl
theorem q359 : (Jvm.Cond.superclass "TwinPanel$Track" "TwinPanel$Keeper") ∈ lw_all := lw_g (lw_at lw_m2 68 rfl) rfl
theorem q605 : (Jvm.Cond.selects "TwinPanel$Track" ({ cls := "TwinPanel$Module", name := "remembers", desc := "()Z" } : Jvm.MethodName) ({ cls := "TwinPanel$Keeper", name := "remembers", desc := "()Z" } : Jvm.MethodName)) ∈ lw_all := lw_g (lw_at lw_m3 74 rfl) rfl
theorem q653 : (Jvm.Cond.selects "TwinPanel$Track" ({ cls := "TwinPanel$Module", name := "needs", desc := "()I" } : Jvm.MethodName) ({ cls := "TwinPanel$Track", name := "needs", desc := "()I" } : Jvm.MethodName)) ∈ lw_all := lw_g (lw_at lw_m3 122 rfl) rfl
theorem q654 : (Jvm.Cond.instanceMethod ({ cls := "TwinPanel$Track", name := "needs", desc := "()I" } : Jvm.MethodName)) ∈ lw_all := lw_g (lw_at lw_m3 123 rfl) rfl
theorem q655 : (Jvm.Cond.code ({ cls := "TwinPanel$Track", name := "needs", desc := "()I" } : Jvm.MethodName) prog_16_method_2_code (1 : Nat) (Option.some Jvm.ClassFile.FieldType.int)) ∈ lw_all := lw_g (lw_at lw_m3 124 rfl) rfl
theorem q714 : (Jvm.Cond.selects "TwinPanel$Track" ({ cls := "TwinPanel$Module", name := "begin", desc := "()V" } : Jvm.MethodName) ({ cls := "TwinPanel$Keeper", name := "begin", desc := "()V" } : Jvm.MethodName)) ∈ lw_all := lw_g (lw_at lw_m3 183 rfl) rfl
theorem q736 : (Jvm.Cond.selects "TwinPanel$Track" ({ cls := "TwinPanel$Module", name := "read", desc := "(I)V" } : Jvm.MethodName) ({ cls := "TwinPanel$Module", name := "read", desc := "(I)V" } : Jvm.MethodName)) ∈ lw_all := lw_g (lw_at lw_m3 205 rfl) rfl
theorem q854 : (Jvm.Cond.selects "TwinPanel$Track" ({ cls := "TwinPanel$Module", name := "wideOut", desc := "(I)D" } : Jvm.MethodName) ({ cls := "TwinPanel$Keeper", name := "wideOut", desc := "(I)D" } : Jvm.MethodName)) ∈ lw_all := lw_g (lw_at lw_m4 83 rfl) rfl
theorem q876 : (Jvm.Cond.selects "TwinPanel$Track" ({ cls := "TwinPanel$Module", name := "afterWide", desc := "(DI)D" } : Jvm.MethodName) ({ cls := "TwinPanel$Module", name := "afterWide", desc := "(DI)D" } : Jvm.MethodName)) ∈ lw_all := lw_g (lw_at lw_m4 105 rfl) rfl
theorem q954 : (Jvm.Cond.selects "TwinPanel$Track" ({ cls := "TwinPanel$Module", name := "narrowOut", desc := "(I)F" } : Jvm.MethodName) ({ cls := "TwinPanel$Keeper", name := "narrowOut", desc := "(I)F" } : Jvm.MethodName)) ∈ lw_all := lw_g (lw_at lw_m4 183 rfl) rfl
theorem q976 : (Jvm.Cond.selects "TwinPanel$Track" ({ cls := "TwinPanel$Module", name := "afterNarrow", desc := "(FI)F" } : Jvm.MethodName) ({ cls := "TwinPanel$Module", name := "afterNarrow", desc := "(FI)F" } : Jvm.MethodName)) ∈ lw_all := lw_g (lw_at lw_m4 205 rfl) rfl
theorem q996 : (Jvm.Cond.selects "TwinPanel$Track" ({ cls := "TwinPanel$Module", name := "compare", desc := "()V" } : Jvm.MethodName) ({ cls := "TwinPanel$Module", name := "compare", desc := "()V" } : Jvm.MethodName)) ∈ lw_all := lw_g (lw_at lw_m4 225 rfl) rfl
theorem q1053 : (Jvm.Cond.selects "TwinPanel$Track" ({ cls := "TwinPanel$Module", name := "take", desc := "()V" } : Jvm.MethodName) ({ cls := "TwinPanel$Track", name := "take", desc := "()V" } : Jvm.MethodName)) ∈ lw_all := lw_g (lw_at lw_m5 42 rfl) rfl
theorem q1054 : (Jvm.Cond.instanceMethod ({ cls := "TwinPanel$Track", name := "take", desc := "()V" } : Jvm.MethodName)) ∈ lw_all := lw_g (lw_at lw_m5 43 rfl) rfl
theorem q1055 : (Jvm.Cond.code ({ cls := "TwinPanel$Track", name := "take", desc := "()V" } : Jvm.MethodName) prog_16_method_3_code (1 : Nat) (Option.none : Option Jvm.ClassFile.FieldType)) ∈ lw_all := lw_g (lw_at lw_m5 44 rfl) rfl
theorem q1056 : (Jvm.Cond.methodLink "TwinPanel$Track" (7 : Nat) ({ cls := "TwinPanel$Track", name := "wideIn", desc := "(I)D" } : Jvm.MethodName)) ∈ lw_all := lw_g (lw_at lw_m5 45 rfl) rfl
theorem q1057 : (Jvm.Cond.sameMethod "TwinPanel$Track" "TwinPanel$Module" "wideIn" "(I)D") ∈ lw_all := lw_g (lw_at lw_m5 46 rfl) rfl
theorem q1058 : (Jvm.Cond.selects "TwinPanel$Track" ({ cls := "TwinPanel$Track", name := "wideIn", desc := "(I)D" } : Jvm.MethodName) ({ cls := "TwinPanel$Module", name := "wideIn", desc := "(I)D" } : Jvm.MethodName)) ∈ lw_all := lw_g (lw_at lw_m5 47 rfl) rfl
theorem q1059 : (Jvm.Cond.methodLink "TwinPanel$Track" (20 : Nat) ({ cls := "TwinPanel$Track", name := "narrowIn", desc := "(I)F" } : Jvm.MethodName)) ∈ lw_all := lw_g (lw_at lw_m5 48 rfl) rfl
theorem q1060 : (Jvm.Cond.sameMethod "TwinPanel$Track" "TwinPanel$Module" "narrowIn" "(I)F") ∈ lw_all := lw_g (lw_at lw_m5 49 rfl) rfl
theorem q1061 : (Jvm.Cond.selects "TwinPanel$Track" ({ cls := "TwinPanel$Track", name := "narrowIn", desc := "(I)F" } : Jvm.MethodName) ({ cls := "TwinPanel$Module", name := "narrowIn", desc := "(I)F" } : Jvm.MethodName)) ∈ lw_all := lw_g (lw_at lw_m5 50 rfl) rfl
theorem q1134 : (Jvm.Cond.selects "TwinPanel$Track" ({ cls := "TwinPanel$Module", name := "become", desc := "()V" } : Jvm.MethodName) ({ cls := "TwinPanel$Track", name := "become", desc := "()V" } : Jvm.MethodName)) ∈ lw_all := lw_g (lw_at lw_m5 123 rfl) rfl
theorem q1135 : (Jvm.Cond.instanceMethod ({ cls := "TwinPanel$Track", name := "become", desc := "()V" } : Jvm.MethodName)) ∈ lw_all := lw_g (lw_at lw_m5 124 rfl) rfl
theorem q1136 : (Jvm.Cond.code ({ cls := "TwinPanel$Track", name := "become", desc := "()V" } : Jvm.MethodName) prog_16_method_4_code (1 : Nat) (Option.none : Option Jvm.ClassFile.FieldType)) ∈ lw_all := lw_g (lw_at lw_m5 125 rfl) rfl
theorem q1763 : (Jvm.Cond.selects "TwinPanel$Track" ({ cls := "TwinPanel$Module", name := "wideIn", desc := "(I)D" } : Jvm.MethodName) ({ cls := "TwinPanel$Module", name := "wideIn", desc := "(I)D" } : Jvm.MethodName)) ∈ lw_all := lw_g (lw_at lw_m8 32 rfl) rfl
theorem q1778 : (Jvm.Cond.selects "TwinPanel$Track" ({ cls := "TwinPanel$Module", name := "light", desc := "(I)V" } : Jvm.MethodName) ({ cls := "TwinPanel$Module", name := "light", desc := "(I)V" } : Jvm.MethodName)) ∈ lw_all := lw_g (lw_at lw_m8 47 rfl) rfl
theorem q1793 : (Jvm.Cond.selects "TwinPanel$Track" ({ cls := "TwinPanel$Module", name := "narrowIn", desc := "(I)F" } : Jvm.MethodName) ({ cls := "TwinPanel$Module", name := "narrowIn", desc := "(I)F" } : Jvm.MethodName)) ∈ lw_all := lw_g (lw_at lw_m8 62 rfl) rfl
theorem q1808 : (Jvm.Cond.selects "TwinPanel$Track" ({ cls := "TwinPanel$Module", name := "wideSum", desc := "()D" } : Jvm.MethodName) ({ cls := "TwinPanel$Module", name := "wideSum", desc := "()D" } : Jvm.MethodName)) ∈ lw_all := lw_g (lw_at lw_m8 77 rfl) rfl
theorem q1813 : (Jvm.Cond.castable "TwinPanel$Track" "TwinPanel$Module") ∈ lw_tbl := lw_at lw_m8 82 rfl
theorem in_X7 : ∀ w ∈ wsX70, w ∈ lw_all := lw_in wsX70 [348, 349, 350, 351, 352, 353, 354, 355, 356, 357, 358, 346, 347, 342, 344] (by decide +kernel) (by decide +kernel)
theorem q64 : (Jvm.Cond.initialized "TwinPanel$Product") ∈ lw_all := lw_g (lw_at lw_m1 13 rfl) rfl
theorem q361 : (Jvm.Cond.instantiable "TwinPanel$Product" (11 : Nat)) ∈ lw_all := lw_g (lw_at lw_m2 70 rfl) rfl
theorem q363 : (Jvm.Cond.instanceMethod ({ cls := "TwinPanel$Product", name := "<init>", desc := "(ID)V" } : Jvm.MethodName)) ∈ lw_all := lw_g (lw_at lw_m2 72 rfl) rfl
theorem q364 : (Jvm.Cond.code ({ cls := "TwinPanel$Product", name := "<init>", desc := "(ID)V" } : Jvm.MethodName) prog_10_method_1_code (4 : Nat) (Option.none : Option Jvm.ClassFile.FieldType)) ∈ lw_all := lw_g (lw_at lw_m2 73 rfl) rfl
theorem q365 : (Jvm.Cond.methodLink "TwinPanel$Product" (1 : Nat) ({ cls := "TwinPanel$Module", name := "<init>", desc := "(ID)V" } : Jvm.MethodName)) ∈ lw_all := lw_g (lw_at lw_m2 74 rfl) rfl
theorem q366 : (Jvm.Cond.laysFinal "TwinPanel$Product" "TwinPanel$Module" "kind" "I") ∈ lw_all := lw_g (lw_at lw_m2 75 rfl) rfl
theorem q367 : (Jvm.Cond.lays "TwinPanel$Product" "TwinPanel$Module" "setting" "D") ∈ lw_all := lw_g (lw_at lw_m2 76 rfl) rfl
theorem q368 : (Jvm.Cond.lays "TwinPanel$Product" "TwinPanel$Module" "start" "D") ∈ lw_all := lw_g (lw_at lw_m2 77 rfl) rfl
theorem q369 : (Jvm.Cond.laysFinal "TwinPanel$Product" "TwinPanel$Module" "from" "[LTwinPanel$Module;") ∈ lw_all := lw_g (lw_at lw_m2 78 rfl) rfl
theorem q370 : (Jvm.Cond.laysFinal "TwinPanel$Product" "TwinPanel$Module" "number" "[I") ∈ lw_all := lw_g (lw_at lw_m2 79 rfl) rfl
theorem q371 : (Jvm.Cond.laysFinal "TwinPanel$Product" "TwinPanel$Module" "turned" "[Z") ∈ lw_all := lw_g (lw_at lw_m2 80 rfl) rfl
theorem q372 : (Jvm.Cond.lays "TwinPanel$Product" "TwinPanel$Module" "wide" "D") ∈ lw_all := lw_g (lw_at lw_m2 81 rfl) rfl
theorem q373 : (Jvm.Cond.lays "TwinPanel$Product" "TwinPanel$Module" "narrow" "F") ∈ lw_all := lw_g (lw_at lw_m2 82 rfl) rfl
theorem q374 : (Jvm.Cond.lays "TwinPanel$Product" "TwinPanel$Module" "lamp" "I") ∈ lw_all := lw_g (lw_at lw_m2 83 rfl) rfl
theorem q375 : (Jvm.Cond.lays "TwinPanel$Product" "TwinPanel$Module" "apart" "D") ∈ lw_all := lw_g (lw_at lw_m2 84 rfl) rfl
theorem q376 : (Jvm.Cond.lays "TwinPanel$Product" "TwinPanel$Module" "failsAt" "I") ∈ lw_all := lw_g (lw_at lw_m2 85 rfl) rfl
theorem q377 : (Jvm.Cond.superclass "TwinPanel$Product" "TwinPanel$Module") ∈ lw_all := lw_g (lw_at lw_m2 86 rfl) rfl
theorem q599 : (Jvm.Cond.selects "TwinPanel$Product" ({ cls := "TwinPanel$Module", name := "remembers", desc := "()Z" } : Jvm.MethodName) ({ cls := "TwinPanel$Module", name := "remembers", desc := "()Z" } : Jvm.MethodName)) ∈ lw_all := lw_g (lw_at lw_m3 68 rfl) rfl
theorem q641 : (Jvm.Cond.selects "TwinPanel$Product" ({ cls := "TwinPanel$Module", name := "needs", desc := "()I" } : Jvm.MethodName) ({ cls := "TwinPanel$Product", name := "needs", desc := "()I" } : Jvm.MethodName)) ∈ lw_all := lw_g (lw_at lw_m3 110 rfl) rfl
theorem q642 : (Jvm.Cond.instanceMethod ({ cls := "TwinPanel$Product", name := "needs", desc := "()I" } : Jvm.MethodName)) ∈ lw_all := lw_g (lw_at lw_m3 111 rfl) rfl
theorem q643 : (Jvm.Cond.code ({ cls := "TwinPanel$Product", name := "needs", desc := "()I" } : Jvm.MethodName) prog_10_method_2_code (1 : Nat) (Option.some Jvm.ClassFile.FieldType.int)) ∈ lw_all := lw_g (lw_at lw_m3 112 rfl) rfl
theorem q708 : (Jvm.Cond.selects "TwinPanel$Product" ({ cls := "TwinPanel$Module", name := "begin", desc := "()V" } : Jvm.MethodName) ({ cls := "TwinPanel$Module", name := "begin", desc := "()V" } : Jvm.MethodName)) ∈ lw_all := lw_g (lw_at lw_m3 177 rfl) rfl
theorem q730 : (Jvm.Cond.selects "TwinPanel$Product" ({ cls := "TwinPanel$Module", name := "read", desc := "(I)V" } : Jvm.MethodName) ({ cls := "TwinPanel$Module", name := "read", desc := "(I)V" } : Jvm.MethodName)) ∈ lw_all := lw_g (lw_at lw_m3 199 rfl) rfl
theorem q769 : (Jvm.Cond.selects "TwinPanel$Product" ({ cls := "TwinPanel$Module", name := "wideOut", desc := "(I)D" } : Jvm.MethodName) ({ cls := "TwinPanel$Product", name := "wideOut", desc := "(I)D" } : Jvm.MethodName)) ∈ lw_all := lw_g (lw_at lw_m3 238 rfl) rfl
theorem q770 : (Jvm.Cond.instanceMethod ({ cls := "TwinPanel$Product", name := "wideOut", desc := "(I)D" } : Jvm.MethodName)) ∈ lw_all := lw_g (lw_at lw_m3 239 rfl) rfl
theorem q771 : (Jvm.Cond.code ({ cls := "TwinPanel$Product", name := "wideOut", desc := "(I)D" } : Jvm.MethodName) prog_10_method_3_code (2 : Nat) (Option.some Jvm.ClassFile.FieldType.double)) ∈ lw_all := lw_g (lw_at lw_m4 0 rfl) rfl
theorem q772 : (Jvm.Cond.methodLink "TwinPanel$Product" (7 : Nat) ({ cls := "TwinPanel$Product", name := "wideIn", desc := "(I)D" } : Jvm.MethodName)) ∈ lw_all := lw_g (lw_at lw_m4 1 rfl) rfl
theorem q773 : (Jvm.Cond.sameMethod "TwinPanel$Product" "TwinPanel$Module" "wideIn" "(I)D") ∈ lw_all := lw_g (lw_at lw_m4 2 rfl) rfl
theorem q774 : (Jvm.Cond.selects "TwinPanel$Product" ({ cls := "TwinPanel$Product", name := "wideIn", desc := "(I)D" } : Jvm.MethodName) ({ cls := "TwinPanel$Module", name := "wideIn", desc := "(I)D" } : Jvm.MethodName)) ∈ lw_all := lw_g (lw_at lw_m4 3 rfl) rfl
theorem q870 : (Jvm.Cond.selects "TwinPanel$Product" ({ cls := "TwinPanel$Module", name := "afterWide", desc := "(DI)D" } : Jvm.MethodName) ({ cls := "TwinPanel$Module", name := "afterWide", desc := "(DI)D" } : Jvm.MethodName)) ∈ lw_all := lw_g (lw_at lw_m4 99 rfl) rfl
theorem q912 : (Jvm.Cond.selects "TwinPanel$Product" ({ cls := "TwinPanel$Module", name := "narrowOut", desc := "(I)F" } : Jvm.MethodName) ({ cls := "TwinPanel$Product", name := "narrowOut", desc := "(I)F" } : Jvm.MethodName)) ∈ lw_all := lw_g (lw_at lw_m4 141 rfl) rfl
theorem q913 : (Jvm.Cond.instanceMethod ({ cls := "TwinPanel$Product", name := "narrowOut", desc := "(I)F" } : Jvm.MethodName)) ∈ lw_all := lw_g (lw_at lw_m4 142 rfl) rfl
theorem q914 : (Jvm.Cond.code ({ cls := "TwinPanel$Product", name := "narrowOut", desc := "(I)F" } : Jvm.MethodName) prog_10_method_4_code (2 : Nat) (Option.some Jvm.ClassFile.FieldType.float)) ∈ lw_all := lw_g (lw_at lw_m4 143 rfl) rfl
theorem q915 : (Jvm.Cond.methodLink "TwinPanel$Product" (13 : Nat) ({ cls := "TwinPanel$Product", name := "narrowIn", desc := "(I)F" } : Jvm.MethodName)) ∈ lw_all := lw_g (lw_at lw_m4 144 rfl) rfl
theorem q916 : (Jvm.Cond.sameMethod "TwinPanel$Product" "TwinPanel$Module" "narrowIn" "(I)F") ∈ lw_all := lw_g (lw_at lw_m4 145 rfl) rfl
theorem q917 : (Jvm.Cond.selects "TwinPanel$Product" ({ cls := "TwinPanel$Product", name := "narrowIn", desc := "(I)F" } : Jvm.MethodName) ({ cls := "TwinPanel$Module", name := "narrowIn", desc := "(I)F" } : Jvm.MethodName)) ∈ lw_all := lw_g (lw_at lw_m4 146 rfl) rfl
theorem q970 : (Jvm.Cond.selects "TwinPanel$Product" ({ cls := "TwinPanel$Module", name := "afterNarrow", desc := "(FI)F" } : Jvm.MethodName) ({ cls := "TwinPanel$Module", name := "afterNarrow", desc := "(FI)F" } : Jvm.MethodName)) ∈ lw_all := lw_g (lw_at lw_m4 199 rfl) rfl
theorem q990 : (Jvm.Cond.selects "TwinPanel$Product" ({ cls := "TwinPanel$Module", name := "compare", desc := "()V" } : Jvm.MethodName) ({ cls := "TwinPanel$Module", name := "compare", desc := "()V" } : Jvm.MethodName)) ∈ lw_all := lw_g (lw_at lw_m4 219 rfl) rfl
theorem q1047 : (Jvm.Cond.selects "TwinPanel$Product" ({ cls := "TwinPanel$Module", name := "take", desc := "()V" } : Jvm.MethodName) ({ cls := "TwinPanel$Module", name := "take", desc := "()V" } : Jvm.MethodName)) ∈ lw_all := lw_g (lw_at lw_m5 36 rfl) rfl
theorem q1128 : (Jvm.Cond.selects "TwinPanel$Product" ({ cls := "TwinPanel$Module", name := "become", desc := "()V" } : Jvm.MethodName) ({ cls := "TwinPanel$Module", name := "become", desc := "()V" } : Jvm.MethodName)) ∈ lw_all := lw_g (lw_at lw_m5 117 rfl) rfl
theorem q1757 : (Jvm.Cond.selects "TwinPanel$Product" ({ cls := "TwinPanel$Module", name := "wideIn", desc := "(I)D" } : Jvm.MethodName) ({ cls := "TwinPanel$Module", name := "wideIn", desc := "(I)D" } : Jvm.MethodName)) ∈ lw_all := lw_g (lw_at lw_m8 26 rfl) rfl
theorem q1772 : (Jvm.Cond.selects "TwinPanel$Product" ({ cls := "TwinPanel$Module", name := "light", desc := "(I)V" } : Jvm.MethodName) ({ cls := "TwinPanel$Module", name := "light", desc := "(I)V" } : Jvm.MethodName)) ∈ lw_all := lw_g (lw_at lw_m8 41 rfl) rfl
theorem q1787 : (Jvm.Cond.selects "TwinPanel$Product" ({ cls := "TwinPanel$Module", name := "narrowIn", desc := "(I)F" } : Jvm.MethodName) ({ cls := "TwinPanel$Module", name := "narrowIn", desc := "(I)F" } : Jvm.MethodName)) ∈ lw_all := lw_g (lw_at lw_m8 56 rfl) rfl
theorem q1802 : (Jvm.Cond.selects "TwinPanel$Product" ({ cls := "TwinPanel$Module", name := "wideSum", desc := "()D" } : Jvm.MethodName) ({ cls := "TwinPanel$Module", name := "wideSum", desc := "()D" } : Jvm.MethodName)) ∈ lw_all := lw_g (lw_at lw_m8 71 rfl) rfl
theorem q1814 : (Jvm.Cond.castable "TwinPanel$Product" "TwinPanel$Module") ∈ lw_tbl := lw_at lw_m8 83 rfl
theorem in_X8 : ∀ w ∈ wsX80, w ∈ lw_all := lw_in wsX80 [366, 367, 368, 369, 370, 371, 372, 373, 374, 375, 376] (by decide +kernel) (by decide +kernel)
theorem q65 : (Jvm.Cond.initialized "TwinPanel$Quotient") ∈ lw_all := lw_g (lw_at lw_m1 14 rfl) rfl
theorem q379 : (Jvm.Cond.instantiable "TwinPanel$Quotient" (11 : Nat)) ∈ lw_all := lw_g (lw_at lw_m2 88 rfl) rfl
theorem q381 : (Jvm.Cond.instanceMethod ({ cls := "TwinPanel$Quotient", name := "<init>", desc := "(ID)V" } : Jvm.MethodName)) ∈ lw_all := lw_g (lw_at lw_m2 90 rfl) rfl
theorem q382 : (Jvm.Cond.code ({ cls := "TwinPanel$Quotient", name := "<init>", desc := "(ID)V" } : Jvm.MethodName) prog_11_method_1_code (4 : Nat) (Option.none : Option Jvm.ClassFile.FieldType)) ∈ lw_all := lw_g (lw_at lw_m2 91 rfl) rfl
theorem q383 : (Jvm.Cond.methodLink "TwinPanel$Quotient" (1 : Nat) ({ cls := "TwinPanel$Module", name := "<init>", desc := "(ID)V" } : Jvm.MethodName)) ∈ lw_all := lw_g (lw_at lw_m2 92 rfl) rfl
theorem q384 : (Jvm.Cond.laysFinal "TwinPanel$Quotient" "TwinPanel$Module" "kind" "I") ∈ lw_all := lw_g (lw_at lw_m2 93 rfl) rfl
theorem q385 : (Jvm.Cond.lays "TwinPanel$Quotient" "TwinPanel$Module" "setting" "D") ∈ lw_all := lw_g (lw_at lw_m2 94 rfl) rfl
theorem q386 : (Jvm.Cond.lays "TwinPanel$Quotient" "TwinPanel$Module" "start" "D") ∈ lw_all := lw_g (lw_at lw_m2 95 rfl) rfl
theorem q387 : (Jvm.Cond.laysFinal "TwinPanel$Quotient" "TwinPanel$Module" "from" "[LTwinPanel$Module;") ∈ lw_all := lw_g (lw_at lw_m2 96 rfl) rfl
theorem q388 : (Jvm.Cond.laysFinal "TwinPanel$Quotient" "TwinPanel$Module" "number" "[I") ∈ lw_all := lw_g (lw_at lw_m2 97 rfl) rfl
theorem q389 : (Jvm.Cond.laysFinal "TwinPanel$Quotient" "TwinPanel$Module" "turned" "[Z") ∈ lw_all := lw_g (lw_at lw_m2 98 rfl) rfl
theorem q390 : (Jvm.Cond.lays "TwinPanel$Quotient" "TwinPanel$Module" "wide" "D") ∈ lw_all := lw_g (lw_at lw_m2 99 rfl) rfl
theorem q391 : (Jvm.Cond.lays "TwinPanel$Quotient" "TwinPanel$Module" "narrow" "F") ∈ lw_all := lw_g (lw_at lw_m2 100 rfl) rfl
theorem q392 : (Jvm.Cond.lays "TwinPanel$Quotient" "TwinPanel$Module" "lamp" "I") ∈ lw_all := lw_g (lw_at lw_m2 101 rfl) rfl
theorem q393 : (Jvm.Cond.lays "TwinPanel$Quotient" "TwinPanel$Module" "apart" "D") ∈ lw_all := lw_g (lw_at lw_m2 102 rfl) rfl
theorem q394 : (Jvm.Cond.lays "TwinPanel$Quotient" "TwinPanel$Module" "failsAt" "I") ∈ lw_all := lw_g (lw_at lw_m2 103 rfl) rfl
theorem q395 : (Jvm.Cond.superclass "TwinPanel$Quotient" "TwinPanel$Module") ∈ lw_all := lw_g (lw_at lw_m2 104 rfl) rfl
theorem q600 : (Jvm.Cond.selects "TwinPanel$Quotient" ({ cls := "TwinPanel$Module", name := "remembers", desc := "()Z" } : Jvm.MethodName) ({ cls := "TwinPanel$Module", name := "remembers", desc := "()Z" } : Jvm.MethodName)) ∈ lw_all := lw_g (lw_at lw_m3 69 rfl) rfl
theorem q644 : (Jvm.Cond.selects "TwinPanel$Quotient" ({ cls := "TwinPanel$Module", name := "needs", desc := "()I" } : Jvm.MethodName) ({ cls := "TwinPanel$Quotient", name := "needs", desc := "()I" } : Jvm.MethodName)) ∈ lw_all := lw_g (lw_at lw_m3 113 rfl) rfl
theorem q645 : (Jvm.Cond.instanceMethod ({ cls := "TwinPanel$Quotient", name := "needs", desc := "()I" } : Jvm.MethodName)) ∈ lw_all := lw_g (lw_at lw_m3 114 rfl) rfl
theorem q646 : (Jvm.Cond.code ({ cls := "TwinPanel$Quotient", name := "needs", desc := "()I" } : Jvm.MethodName) prog_11_method_2_code (1 : Nat) (Option.some Jvm.ClassFile.FieldType.int)) ∈ lw_all := lw_g (lw_at lw_m3 115 rfl) rfl
theorem q709 : (Jvm.Cond.selects "TwinPanel$Quotient" ({ cls := "TwinPanel$Module", name := "begin", desc := "()V" } : Jvm.MethodName) ({ cls := "TwinPanel$Module", name := "begin", desc := "()V" } : Jvm.MethodName)) ∈ lw_all := lw_g (lw_at lw_m3 178 rfl) rfl
theorem q731 : (Jvm.Cond.selects "TwinPanel$Quotient" ({ cls := "TwinPanel$Module", name := "read", desc := "(I)V" } : Jvm.MethodName) ({ cls := "TwinPanel$Module", name := "read", desc := "(I)V" } : Jvm.MethodName)) ∈ lw_all := lw_g (lw_at lw_m3 200 rfl) rfl
theorem q775 : (Jvm.Cond.selects "TwinPanel$Quotient" ({ cls := "TwinPanel$Module", name := "wideOut", desc := "(I)D" } : Jvm.MethodName) ({ cls := "TwinPanel$Quotient", name := "wideOut", desc := "(I)D" } : Jvm.MethodName)) ∈ lw_all := lw_g (lw_at lw_m4 4 rfl) rfl
theorem q776 : (Jvm.Cond.instanceMethod ({ cls := "TwinPanel$Quotient", name := "wideOut", desc := "(I)D" } : Jvm.MethodName)) ∈ lw_all := lw_g (lw_at lw_m4 5 rfl) rfl
theorem q777 : (Jvm.Cond.code ({ cls := "TwinPanel$Quotient", name := "wideOut", desc := "(I)D" } : Jvm.MethodName) prog_11_method_3_code (4 : Nat) (Option.some Jvm.ClassFile.FieldType.double)) ∈ lw_all := lw_g (lw_at lw_m4 6 rfl) rfl
theorem q778 : (Jvm.Cond.methodLink "TwinPanel$Quotient" (7 : Nat) ({ cls := "TwinPanel$Quotient", name := "wideIn", desc := "(I)D" } : Jvm.MethodName)) ∈ lw_all := lw_g (lw_at lw_m4 7 rfl) rfl
theorem q779 : (Jvm.Cond.sameMethod "TwinPanel$Quotient" "TwinPanel$Module" "wideIn" "(I)D") ∈ lw_all := lw_g (lw_at lw_m4 8 rfl) rfl
theorem q780 : (Jvm.Cond.selects "TwinPanel$Quotient" ({ cls := "TwinPanel$Quotient", name := "wideIn", desc := "(I)D" } : Jvm.MethodName) ({ cls := "TwinPanel$Module", name := "wideIn", desc := "(I)D" } : Jvm.MethodName)) ∈ lw_all := lw_g (lw_at lw_m4 9 rfl) rfl
theorem q781 : (Jvm.Cond.methodLink "TwinPanel$Quotient" (13 : Nat) ({ cls := "TwinPanel$Quotient", name := "light", desc := "(I)V" } : Jvm.MethodName)) ∈ lw_all := lw_g (lw_at lw_m4 10 rfl) rfl
theorem q782 : (Jvm.Cond.sameMethod "TwinPanel$Quotient" "TwinPanel$Module" "light" "(I)V") ∈ lw_all := lw_g (lw_at lw_m4 11 rfl) rfl
theorem q784 : (Jvm.Cond.selects "TwinPanel$Quotient" ({ cls := "TwinPanel$Quotient", name := "light", desc := "(I)V" } : Jvm.MethodName) ({ cls := "TwinPanel$Module", name := "light", desc := "(I)V" } : Jvm.MethodName)) ∈ lw_all := lw_g (lw_at lw_m4 13 rfl) rfl
theorem q787 : (Jvm.Cond.constantDouble "TwinPanel$Quotient" (17 : Nat) (4609434218613702656 : UInt64)) ∈ lw_all := lw_g (lw_at lw_m4 16 rfl) rfl
theorem q788 : (Jvm.Cond.constantDouble "TwinPanel$Quotient" (19 : Nat) (13832806255468478464 : UInt64)) ∈ lw_all := lw_g (lw_at lw_m4 17 rfl) rfl
theorem q871 : (Jvm.Cond.selects "TwinPanel$Quotient" ({ cls := "TwinPanel$Module", name := "afterWide", desc := "(DI)D" } : Jvm.MethodName) ({ cls := "TwinPanel$Module", name := "afterWide", desc := "(DI)D" } : Jvm.MethodName)) ∈ lw_all := lw_g (lw_at lw_m4 100 rfl) rfl
theorem q918 : (Jvm.Cond.selects "TwinPanel$Quotient" ({ cls := "TwinPanel$Module", name := "narrowOut", desc := "(I)F" } : Jvm.MethodName) ({ cls := "TwinPanel$Quotient", name := "narrowOut", desc := "(I)F" } : Jvm.MethodName)) ∈ lw_all := lw_g (lw_at lw_m4 147 rfl) rfl
theorem q919 : (Jvm.Cond.instanceMethod ({ cls := "TwinPanel$Quotient", name := "narrowOut", desc := "(I)F" } : Jvm.MethodName)) ∈ lw_all := lw_g (lw_at lw_m4 148 rfl) rfl
theorem q920 : (Jvm.Cond.code ({ cls := "TwinPanel$Quotient", name := "narrowOut", desc := "(I)F" } : Jvm.MethodName) prog_11_method_4_code (3 : Nat) (Option.some Jvm.ClassFile.FieldType.float)) ∈ lw_all := lw_g (lw_at lw_m4 149 rfl) rfl
theorem q921 : (Jvm.Cond.methodLink "TwinPanel$Quotient" (21 : Nat) ({ cls := "TwinPanel$Quotient", name := "narrowIn", desc := "(I)F" } : Jvm.MethodName)) ∈ lw_all := lw_g (lw_at lw_m4 150 rfl) rfl
theorem q922 : (Jvm.Cond.sameMethod "TwinPanel$Quotient" "TwinPanel$Module" "narrowIn" "(I)F") ∈ lw_all := lw_g (lw_at lw_m4 151 rfl) rfl
theorem q923 : (Jvm.Cond.selects "TwinPanel$Quotient" ({ cls := "TwinPanel$Quotient", name := "narrowIn", desc := "(I)F" } : Jvm.MethodName) ({ cls := "TwinPanel$Module", name := "narrowIn", desc := "(I)F" } : Jvm.MethodName)) ∈ lw_all := lw_g (lw_at lw_m4 152 rfl) rfl
theorem q924 : (Jvm.Cond.constantFloat "TwinPanel$Quotient" (25 : Nat) (1069547520 : UInt32)) ∈ lw_all := lw_g (lw_at lw_m4 153 rfl) rfl
theorem q925 : (Jvm.Cond.constantFloat "TwinPanel$Quotient" (26 : Nat) (3217031168 : UInt32)) ∈ lw_all := lw_g (lw_at lw_m4 154 rfl) rfl
theorem q971 : (Jvm.Cond.selects "TwinPanel$Quotient" ({ cls := "TwinPanel$Module", name := "afterNarrow", desc := "(FI)F" } : Jvm.MethodName) ({ cls := "TwinPanel$Module", name := "afterNarrow", desc := "(FI)F" } : Jvm.MethodName)) ∈ lw_all := lw_g (lw_at lw_m4 200 rfl) rfl
theorem q991 : (Jvm.Cond.selects "TwinPanel$Quotient" ({ cls := "TwinPanel$Module", name := "compare", desc := "()V" } : Jvm.MethodName) ({ cls := "TwinPanel$Module", name := "compare", desc := "()V" } : Jvm.MethodName)) ∈ lw_all := lw_g (lw_at lw_m4 220 rfl) rfl
theorem q1048 : (Jvm.Cond.selects "TwinPanel$Quotient" ({ cls := "TwinPanel$Module", name := "take", desc := "()V" } : Jvm.MethodName) ({ cls := "TwinPanel$Module", name := "take", desc := "()V" } : Jvm.MethodName)) ∈ lw_all := lw_g (lw_at lw_m5 37 rfl) rfl
theorem q1129 : (Jvm.Cond.selects "TwinPanel$Quotient" ({ cls := "TwinPanel$Module", name := "become", desc := "()V" } : Jvm.MethodName) ({ cls := "TwinPanel$Module", name := "become", desc := "()V" } : Jvm.MethodName)) ∈ lw_all := lw_g (lw_at lw_m5 118 rfl) rfl
theorem q1758 : (Jvm.Cond.selects "TwinPanel$Quotient" ({ cls := "TwinPanel$Module", name := "wideIn", desc := "(I)D" } : Jvm.MethodName) ({ cls := "TwinPanel$Module", name := "wideIn", desc := "(I)D" } : Jvm.MethodName)) ∈ lw_all := lw_g (lw_at lw_m8 27 rfl) rfl
theorem q1773 : (Jvm.Cond.selects "TwinPanel$Quotient" ({ cls := "TwinPanel$Module", name := "light", desc := "(I)V" } : Jvm.MethodName) ({ cls := "TwinPanel$Module", name := "light", desc := "(I)V" } : Jvm.MethodName)) ∈ lw_all := lw_g (lw_at lw_m8 42 rfl) rfl
theorem q1788 : (Jvm.Cond.selects "TwinPanel$Quotient" ({ cls := "TwinPanel$Module", name := "narrowIn", desc := "(I)F" } : Jvm.MethodName) ({ cls := "TwinPanel$Module", name := "narrowIn", desc := "(I)F" } : Jvm.MethodName)) ∈ lw_all := lw_g (lw_at lw_m8 57 rfl) rfl
theorem q1803 : (Jvm.Cond.selects "TwinPanel$Quotient" ({ cls := "TwinPanel$Module", name := "wideSum", desc := "()D" } : Jvm.MethodName) ({ cls := "TwinPanel$Module", name := "wideSum", desc := "()D" } : Jvm.MethodName)) ∈ lw_all := lw_g (lw_at lw_m8 72 rfl) rfl
theorem q1815 : (Jvm.Cond.castable "TwinPanel$Quotient" "TwinPanel$Module") ∈ lw_tbl := lw_at lw_m8 84 rfl
theorem in_X9 : ∀ w ∈ wsX90, w ∈ lw_all := lw_in wsX90 [384, 385, 386, 387, 388, 389, 390, 391, 392, 393, 394] (by decide +kernel) (by decide +kernel)
theorem q66 : (Jvm.Cond.initialized "TwinPanel$Root") ∈ lw_all := lw_g (lw_at lw_m1 15 rfl) rfl
theorem q397 : (Jvm.Cond.instantiable "TwinPanel$Root" (11 : Nat)) ∈ lw_all := lw_g (lw_at lw_m2 106 rfl) rfl
theorem q399 : (Jvm.Cond.instanceMethod ({ cls := "TwinPanel$Root", name := "<init>", desc := "(ID)V" } : Jvm.MethodName)) ∈ lw_all := lw_g (lw_at lw_m2 108 rfl) rfl
theorem q400 : (Jvm.Cond.code ({ cls := "TwinPanel$Root", name := "<init>", desc := "(ID)V" } : Jvm.MethodName) prog_13_method_1_code (4 : Nat) (Option.none : Option Jvm.ClassFile.FieldType)) ∈ lw_all := lw_g (lw_at lw_m2 109 rfl) rfl
theorem q401 : (Jvm.Cond.methodLink "TwinPanel$Root" (1 : Nat) ({ cls := "TwinPanel$Module", name := "<init>", desc := "(ID)V" } : Jvm.MethodName)) ∈ lw_all := lw_g (lw_at lw_m2 110 rfl) rfl
theorem q402 : (Jvm.Cond.laysFinal "TwinPanel$Root" "TwinPanel$Module" "kind" "I") ∈ lw_all := lw_g (lw_at lw_m2 111 rfl) rfl
theorem q403 : (Jvm.Cond.lays "TwinPanel$Root" "TwinPanel$Module" "setting" "D") ∈ lw_all := lw_g (lw_at lw_m2 112 rfl) rfl
theorem q404 : (Jvm.Cond.lays "TwinPanel$Root" "TwinPanel$Module" "start" "D") ∈ lw_all := lw_g (lw_at lw_m2 113 rfl) rfl
theorem q405 : (Jvm.Cond.laysFinal "TwinPanel$Root" "TwinPanel$Module" "from" "[LTwinPanel$Module;") ∈ lw_all := lw_g (lw_at lw_m2 114 rfl) rfl
theorem q406 : (Jvm.Cond.laysFinal "TwinPanel$Root" "TwinPanel$Module" "number" "[I") ∈ lw_all := lw_g (lw_at lw_m2 115 rfl) rfl
theorem q407 : (Jvm.Cond.laysFinal "TwinPanel$Root" "TwinPanel$Module" "turned" "[Z") ∈ lw_all := lw_g (lw_at lw_m2 116 rfl) rfl
theorem q408 : (Jvm.Cond.lays "TwinPanel$Root" "TwinPanel$Module" "wide" "D") ∈ lw_all := lw_g (lw_at lw_m2 117 rfl) rfl
theorem q409 : (Jvm.Cond.lays "TwinPanel$Root" "TwinPanel$Module" "narrow" "F") ∈ lw_all := lw_g (lw_at lw_m2 118 rfl) rfl
theorem q410 : (Jvm.Cond.lays "TwinPanel$Root" "TwinPanel$Module" "lamp" "I") ∈ lw_all := lw_g (lw_at lw_m2 119 rfl) rfl
theorem q411 : (Jvm.Cond.lays "TwinPanel$Root" "TwinPanel$Module" "apart" "D") ∈ lw_all := lw_g (lw_at lw_m2 120 rfl) rfl
theorem q412 : (Jvm.Cond.lays "TwinPanel$Root" "TwinPanel$Module" "failsAt" "I") ∈ lw_all := lw_g (lw_at lw_m2 121 rfl) rfl
theorem q413 : (Jvm.Cond.superclass "TwinPanel$Root" "TwinPanel$Module") ∈ lw_all := lw_g (lw_at lw_m2 122 rfl) rfl
theorem q602 : (Jvm.Cond.selects "TwinPanel$Root" ({ cls := "TwinPanel$Module", name := "remembers", desc := "()Z" } : Jvm.MethodName) ({ cls := "TwinPanel$Module", name := "remembers", desc := "()Z" } : Jvm.MethodName)) ∈ lw_all := lw_g (lw_at lw_m3 71 rfl) rfl
theorem q650 : (Jvm.Cond.selects "TwinPanel$Root" ({ cls := "TwinPanel$Module", name := "needs", desc := "()I" } : Jvm.MethodName) ({ cls := "TwinPanel$Module", name := "needs", desc := "()I" } : Jvm.MethodName)) ∈ lw_all := lw_g (lw_at lw_m3 119 rfl) rfl
theorem q711 : (Jvm.Cond.selects "TwinPanel$Root" ({ cls := "TwinPanel$Module", name := "begin", desc := "()V" } : Jvm.MethodName) ({ cls := "TwinPanel$Module", name := "begin", desc := "()V" } : Jvm.MethodName)) ∈ lw_all := lw_g (lw_at lw_m3 180 rfl) rfl
theorem q733 : (Jvm.Cond.selects "TwinPanel$Root" ({ cls := "TwinPanel$Module", name := "read", desc := "(I)V" } : Jvm.MethodName) ({ cls := "TwinPanel$Module", name := "read", desc := "(I)V" } : Jvm.MethodName)) ∈ lw_all := lw_g (lw_at lw_m3 202 rfl) rfl
theorem q795 : (Jvm.Cond.selects "TwinPanel$Root" ({ cls := "TwinPanel$Module", name := "wideOut", desc := "(I)D" } : Jvm.MethodName) ({ cls := "TwinPanel$Root", name := "wideOut", desc := "(I)D" } : Jvm.MethodName)) ∈ lw_all := lw_g (lw_at lw_m4 24 rfl) rfl
theorem q796 : (Jvm.Cond.instanceMethod ({ cls := "TwinPanel$Root", name := "wideOut", desc := "(I)D" } : Jvm.MethodName)) ∈ lw_all := lw_g (lw_at lw_m4 25 rfl) rfl
theorem q797 : (Jvm.Cond.code ({ cls := "TwinPanel$Root", name := "wideOut", desc := "(I)D" } : Jvm.MethodName) prog_13_method_2_code (4 : Nat) (Option.some Jvm.ClassFile.FieldType.double)) ∈ lw_all := lw_g (lw_at lw_m4 26 rfl) rfl
theorem q798 : (Jvm.Cond.methodLink "TwinPanel$Root" (7 : Nat) ({ cls := "TwinPanel$Root", name := "wideIn", desc := "(I)D" } : Jvm.MethodName)) ∈ lw_all := lw_g (lw_at lw_m4 27 rfl) rfl
theorem q799 : (Jvm.Cond.sameMethod "TwinPanel$Root" "TwinPanel$Module" "wideIn" "(I)D") ∈ lw_all := lw_g (lw_at lw_m4 28 rfl) rfl
theorem q800 : (Jvm.Cond.selects "TwinPanel$Root" ({ cls := "TwinPanel$Root", name := "wideIn", desc := "(I)D" } : Jvm.MethodName) ({ cls := "TwinPanel$Module", name := "wideIn", desc := "(I)D" } : Jvm.MethodName)) ∈ lw_all := lw_g (lw_at lw_m4 29 rfl) rfl
theorem q801 : (Jvm.Cond.methodLink "TwinPanel$Root" (13 : Nat) ({ cls := "TwinPanel$Root", name := "light", desc := "(I)V" } : Jvm.MethodName)) ∈ lw_all := lw_g (lw_at lw_m4 30 rfl) rfl
theorem q802 : (Jvm.Cond.sameMethod "TwinPanel$Root" "TwinPanel$Module" "light" "(I)V") ∈ lw_all := lw_g (lw_at lw_m4 31 rfl) rfl
theorem q803 : (Jvm.Cond.selects "TwinPanel$Root" ({ cls := "TwinPanel$Root", name := "light", desc := "(I)V" } : Jvm.MethodName) ({ cls := "TwinPanel$Module", name := "light", desc := "(I)V" } : Jvm.MethodName)) ∈ lw_all := lw_g (lw_at lw_m4 32 rfl) rfl
theorem q804 : (Jvm.Cond.methodLink "TwinPanel$Root" (17 : Nat) ({ cls := "java/lang/Math", name := "sqrt", desc := "(D)D" } : Jvm.MethodName)) ∈ lw_all := lw_g (lw_at lw_m4 33 rfl) rfl
theorem q873 : (Jvm.Cond.selects "TwinPanel$Root" ({ cls := "TwinPanel$Module", name := "afterWide", desc := "(DI)D" } : Jvm.MethodName) ({ cls := "TwinPanel$Module", name := "afterWide", desc := "(DI)D" } : Jvm.MethodName)) ∈ lw_all := lw_g (lw_at lw_m4 102 rfl) rfl
theorem q932 : (Jvm.Cond.selects "TwinPanel$Root" ({ cls := "TwinPanel$Module", name := "narrowOut", desc := "(I)F" } : Jvm.MethodName) ({ cls := "TwinPanel$Root", name := "narrowOut", desc := "(I)F" } : Jvm.MethodName)) ∈ lw_all := lw_g (lw_at lw_m4 161 rfl) rfl
theorem q933 : (Jvm.Cond.instanceMethod ({ cls := "TwinPanel$Root", name := "narrowOut", desc := "(I)F" } : Jvm.MethodName)) ∈ lw_all := lw_g (lw_at lw_m4 162 rfl) rfl
theorem q934 : (Jvm.Cond.code ({ cls := "TwinPanel$Root", name := "narrowOut", desc := "(I)F" } : Jvm.MethodName) prog_13_method_3_code (3 : Nat) (Option.some Jvm.ClassFile.FieldType.float)) ∈ lw_all := lw_g (lw_at lw_m4 163 rfl) rfl
theorem q935 : (Jvm.Cond.methodLink "TwinPanel$Root" (23 : Nat) ({ cls := "TwinPanel$Root", name := "narrowIn", desc := "(I)F" } : Jvm.MethodName)) ∈ lw_all := lw_g (lw_at lw_m4 164 rfl) rfl
theorem q936 : (Jvm.Cond.sameMethod "TwinPanel$Root" "TwinPanel$Module" "narrowIn" "(I)F") ∈ lw_all := lw_g (lw_at lw_m4 165 rfl) rfl
theorem q937 : (Jvm.Cond.selects "TwinPanel$Root" ({ cls := "TwinPanel$Root", name := "narrowIn", desc := "(I)F" } : Jvm.MethodName) ({ cls := "TwinPanel$Module", name := "narrowIn", desc := "(I)F" } : Jvm.MethodName)) ∈ lw_all := lw_g (lw_at lw_m4 166 rfl) rfl
theorem q973 : (Jvm.Cond.selects "TwinPanel$Root" ({ cls := "TwinPanel$Module", name := "afterNarrow", desc := "(FI)F" } : Jvm.MethodName) ({ cls := "TwinPanel$Module", name := "afterNarrow", desc := "(FI)F" } : Jvm.MethodName)) ∈ lw_all := lw_g (lw_at lw_m4 202 rfl) rfl
theorem q993 : (Jvm.Cond.selects "TwinPanel$Root" ({ cls := "TwinPanel$Module", name := "compare", desc := "()V" } : Jvm.MethodName) ({ cls := "TwinPanel$Module", name := "compare", desc := "()V" } : Jvm.MethodName)) ∈ lw_all := lw_g (lw_at lw_m4 222 rfl) rfl
theorem q1050 : (Jvm.Cond.selects "TwinPanel$Root" ({ cls := "TwinPanel$Module", name := "take", desc := "()V" } : Jvm.MethodName) ({ cls := "TwinPanel$Module", name := "take", desc := "()V" } : Jvm.MethodName)) ∈ lw_all := lw_g (lw_at lw_m5 39 rfl) rfl
theorem q1131 : (Jvm.Cond.selects "TwinPanel$Root" ({ cls := "TwinPanel$Module", name := "become", desc := "()V" } : Jvm.MethodName) ({ cls := "TwinPanel$Module", name := "become", desc := "()V" } : Jvm.MethodName)) ∈ lw_all := lw_g (lw_at lw_m5 120 rfl) rfl
theorem q1760 : (Jvm.Cond.selects "TwinPanel$Root" ({ cls := "TwinPanel$Module", name := "wideIn", desc := "(I)D" } : Jvm.MethodName) ({ cls := "TwinPanel$Module", name := "wideIn", desc := "(I)D" } : Jvm.MethodName)) ∈ lw_all := lw_g (lw_at lw_m8 29 rfl) rfl
theorem q1775 : (Jvm.Cond.selects "TwinPanel$Root" ({ cls := "TwinPanel$Module", name := "light", desc := "(I)V" } : Jvm.MethodName) ({ cls := "TwinPanel$Module", name := "light", desc := "(I)V" } : Jvm.MethodName)) ∈ lw_all := lw_g (lw_at lw_m8 44 rfl) rfl
theorem q1790 : (Jvm.Cond.selects "TwinPanel$Root" ({ cls := "TwinPanel$Module", name := "narrowIn", desc := "(I)F" } : Jvm.MethodName) ({ cls := "TwinPanel$Module", name := "narrowIn", desc := "(I)F" } : Jvm.MethodName)) ∈ lw_all := lw_g (lw_at lw_m8 59 rfl) rfl
theorem q1805 : (Jvm.Cond.selects "TwinPanel$Root" ({ cls := "TwinPanel$Module", name := "wideSum", desc := "()D" } : Jvm.MethodName) ({ cls := "TwinPanel$Module", name := "wideSum", desc := "()D" } : Jvm.MethodName)) ∈ lw_all := lw_g (lw_at lw_m8 74 rfl) rfl
theorem q1816 : (Jvm.Cond.castable "TwinPanel$Root" "TwinPanel$Module") ∈ lw_tbl := lw_at lw_m8 85 rfl
theorem in_X10 : ∀ w ∈ wsX100, w ∈ lw_all := lw_in wsX100 [402, 403, 404, 405, 406, 407, 408, 409, 410, 411, 412] (by decide +kernel) (by decide +kernel)
theorem q67 : (Jvm.Cond.initialized "TwinPanel$Table") ∈ lw_all := lw_g (lw_at lw_m1 16 rfl) rfl
theorem q415 : (Jvm.Cond.instantiable "TwinPanel$Table" (14 : Nat)) ∈ lw_all := lw_g (lw_at lw_m2 124 rfl) rfl
theorem q417 : (Jvm.Cond.instanceMethod ({ cls := "TwinPanel$Table", name := "<init>", desc := "(ID)V" } : Jvm.MethodName)) ∈ lw_all := lw_g (lw_at lw_m2 126 rfl) rfl
theorem q418 : (Jvm.Cond.code ({ cls := "TwinPanel$Table", name := "<init>", desc := "(ID)V" } : Jvm.MethodName) prog_15_method_1_code (4 : Nat) (Option.none : Option Jvm.ClassFile.FieldType)) ∈ lw_all := lw_g (lw_at lw_m2 127 rfl) rfl
theorem q419 : (Jvm.Cond.methodLink "TwinPanel$Table" (3 : Nat) ({ cls := "TwinPanel$Module", name := "<init>", desc := "(ID)V" } : Jvm.MethodName)) ∈ lw_all := lw_g (lw_at lw_m2 128 rfl) rfl
theorem q420 : (Jvm.Cond.fieldLink "TwinPanel$Table" (9 : Nat) "TwinPanel$Table" "x" "[D") ∈ lw_all := lw_g (lw_at lw_m2 129 rfl) rfl
theorem q422 : (Jvm.Cond.fieldLink "TwinPanel$Table" (15 : Nat) "TwinPanel$Table" "y" "[D") ∈ lw_all := lw_g (lw_at lw_m2 131 rfl) rfl
theorem q424 : (Jvm.Cond.fieldLink "TwinPanel$Table" (22 : Nat) "TwinPanel$Table" "many" "I") ∈ lw_all := lw_g (lw_at lw_m2 133 rfl) rfl
theorem q426 : (Jvm.Cond.laysFinal "TwinPanel$Table" "TwinPanel$Table" "x" "[D") ∈ lw_all := lw_g (lw_at lw_m2 135 rfl) rfl
theorem q427 : (Jvm.Cond.soleField "TwinPanel$Table" "x") ∈ lw_all := lw_g (lw_at lw_m2 136 rfl) rfl
theorem q428 : (Jvm.Cond.laysFinal "TwinPanel$Table" "TwinPanel$Table" "y" "[D") ∈ lw_all := lw_g (lw_at lw_m2 137 rfl) rfl
theorem q429 : (Jvm.Cond.soleField "TwinPanel$Table" "y") ∈ lw_all := lw_g (lw_at lw_m2 138 rfl) rfl
theorem q430 : (Jvm.Cond.lays "TwinPanel$Table" "TwinPanel$Table" "many" "I") ∈ lw_all := lw_g (lw_at lw_m2 139 rfl) rfl
theorem q431 : (Jvm.Cond.soleField "TwinPanel$Table" "many") ∈ lw_all := lw_g (lw_at lw_m2 140 rfl) rfl
theorem q432 : (Jvm.Cond.laysFinal "TwinPanel$Table" "TwinPanel$Module" "kind" "I") ∈ lw_all := lw_g (lw_at lw_m2 141 rfl) rfl
theorem q433 : (Jvm.Cond.lays "TwinPanel$Table" "TwinPanel$Module" "setting" "D") ∈ lw_all := lw_g (lw_at lw_m2 142 rfl) rfl
theorem q434 : (Jvm.Cond.lays "TwinPanel$Table" "TwinPanel$Module" "start" "D") ∈ lw_all := lw_g (lw_at lw_m2 143 rfl) rfl
theorem q435 : (Jvm.Cond.laysFinal "TwinPanel$Table" "TwinPanel$Module" "from" "[LTwinPanel$Module;") ∈ lw_all := lw_g (lw_at lw_m2 144 rfl) rfl
theorem q436 : (Jvm.Cond.laysFinal "TwinPanel$Table" "TwinPanel$Module" "number" "[I") ∈ lw_all := lw_g (lw_at lw_m2 145 rfl) rfl
theorem q437 : (Jvm.Cond.laysFinal "TwinPanel$Table" "TwinPanel$Module" "turned" "[Z") ∈ lw_all := lw_g (lw_at lw_m2 146 rfl) rfl
theorem q438 : (Jvm.Cond.lays "TwinPanel$Table" "TwinPanel$Module" "wide" "D") ∈ lw_all := lw_g (lw_at lw_m2 147 rfl) rfl
theorem q439 : (Jvm.Cond.lays "TwinPanel$Table" "TwinPanel$Module" "narrow" "F") ∈ lw_all := lw_g (lw_at lw_m2 148 rfl) rfl
theorem q440 : (Jvm.Cond.lays "TwinPanel$Table" "TwinPanel$Module" "lamp" "I") ∈ lw_all := lw_g (lw_at lw_m2 149 rfl) rfl
theorem q441 : (Jvm.Cond.lays "TwinPanel$Table" "TwinPanel$Module" "apart" "D") ∈ lw_all := lw_g (lw_at lw_m2 150 rfl) rfl
theorem q442 : (Jvm.Cond.lays "TwinPanel$Table" "TwinPanel$Module" "failsAt" "I") ∈ lw_all := lw_g (lw_at lw_m2 151 rfl) rfl
theorem q443 : (Jvm.Cond.superclass "TwinPanel$Table" "TwinPanel$Module") ∈ lw_all := lw_g (lw_at lw_m2 152 rfl) rfl
theorem q604 : (Jvm.Cond.selects "TwinPanel$Table" ({ cls := "TwinPanel$Module", name := "remembers", desc := "()Z" } : Jvm.MethodName) ({ cls := "TwinPanel$Module", name := "remembers", desc := "()Z" } : Jvm.MethodName)) ∈ lw_all := lw_g (lw_at lw_m3 73 rfl) rfl
theorem q652 : (Jvm.Cond.selects "TwinPanel$Table" ({ cls := "TwinPanel$Module", name := "needs", desc := "()I" } : Jvm.MethodName) ({ cls := "TwinPanel$Module", name := "needs", desc := "()I" } : Jvm.MethodName)) ∈ lw_all := lw_g (lw_at lw_m3 121 rfl) rfl
theorem q713 : (Jvm.Cond.selects "TwinPanel$Table" ({ cls := "TwinPanel$Module", name := "begin", desc := "()V" } : Jvm.MethodName) ({ cls := "TwinPanel$Module", name := "begin", desc := "()V" } : Jvm.MethodName)) ∈ lw_all := lw_g (lw_at lw_m3 182 rfl) rfl
theorem q735 : (Jvm.Cond.selects "TwinPanel$Table" ({ cls := "TwinPanel$Module", name := "read", desc := "(I)V" } : Jvm.MethodName) ({ cls := "TwinPanel$Module", name := "read", desc := "(I)V" } : Jvm.MethodName)) ∈ lw_all := lw_g (lw_at lw_m3 204 rfl) rfl
theorem q848 : (Jvm.Cond.selects "TwinPanel$Table" ({ cls := "TwinPanel$Module", name := "wideOut", desc := "(I)D" } : Jvm.MethodName) ({ cls := "TwinPanel$Table", name := "wideOut", desc := "(I)D" } : Jvm.MethodName)) ∈ lw_all := lw_g (lw_at lw_m4 77 rfl) rfl
theorem q849 : (Jvm.Cond.instanceMethod ({ cls := "TwinPanel$Table", name := "wideOut", desc := "(I)D" } : Jvm.MethodName)) ∈ lw_all := lw_g (lw_at lw_m4 78 rfl) rfl
theorem q850 : (Jvm.Cond.code ({ cls := "TwinPanel$Table", name := "wideOut", desc := "(I)D" } : Jvm.MethodName) prog_15_method_2_code (5 : Nat) (Option.some Jvm.ClassFile.FieldType.double)) ∈ lw_all := lw_g (lw_at lw_m4 79 rfl) rfl
theorem q851 : (Jvm.Cond.methodLink "TwinPanel$Table" (18 : Nat) ({ cls := "TwinPanel$Table", name := "wideIn", desc := "(I)D" } : Jvm.MethodName)) ∈ lw_all := lw_g (lw_at lw_m4 80 rfl) rfl
theorem q852 : (Jvm.Cond.sameMethod "TwinPanel$Table" "TwinPanel$Module" "wideIn" "(I)D") ∈ lw_all := lw_g (lw_at lw_m4 81 rfl) rfl
theorem q853 : (Jvm.Cond.selects "TwinPanel$Table" ({ cls := "TwinPanel$Table", name := "wideIn", desc := "(I)D" } : Jvm.MethodName) ({ cls := "TwinPanel$Module", name := "wideIn", desc := "(I)D" } : Jvm.MethodName)) ∈ lw_all := lw_g (lw_at lw_m4 82 rfl) rfl
theorem q875 : (Jvm.Cond.selects "TwinPanel$Table" ({ cls := "TwinPanel$Module", name := "afterWide", desc := "(DI)D" } : Jvm.MethodName) ({ cls := "TwinPanel$Module", name := "afterWide", desc := "(DI)D" } : Jvm.MethodName)) ∈ lw_all := lw_g (lw_at lw_m4 104 rfl) rfl
theorem q948 : (Jvm.Cond.selects "TwinPanel$Table" ({ cls := "TwinPanel$Module", name := "narrowOut", desc := "(I)F" } : Jvm.MethodName) ({ cls := "TwinPanel$Table", name := "narrowOut", desc := "(I)F" } : Jvm.MethodName)) ∈ lw_all := lw_g (lw_at lw_m4 177 rfl) rfl
theorem q949 : (Jvm.Cond.instanceMethod ({ cls := "TwinPanel$Table", name := "narrowOut", desc := "(I)F" } : Jvm.MethodName)) ∈ lw_all := lw_g (lw_at lw_m4 178 rfl) rfl
theorem q950 : (Jvm.Cond.code ({ cls := "TwinPanel$Table", name := "narrowOut", desc := "(I)F" } : Jvm.MethodName) prog_15_method_3_code (6 : Nat) (Option.some Jvm.ClassFile.FieldType.float)) ∈ lw_all := lw_g (lw_at lw_m4 179 rfl) rfl
theorem q951 : (Jvm.Cond.methodLink "TwinPanel$Table" (26 : Nat) ({ cls := "TwinPanel$Table", name := "narrowIn", desc := "(I)F" } : Jvm.MethodName)) ∈ lw_all := lw_g (lw_at lw_m4 180 rfl) rfl
theorem q952 : (Jvm.Cond.sameMethod "TwinPanel$Table" "TwinPanel$Module" "narrowIn" "(I)F") ∈ lw_all := lw_g (lw_at lw_m4 181 rfl) rfl
theorem q953 : (Jvm.Cond.selects "TwinPanel$Table" ({ cls := "TwinPanel$Table", name := "narrowIn", desc := "(I)F" } : Jvm.MethodName) ({ cls := "TwinPanel$Module", name := "narrowIn", desc := "(I)F" } : Jvm.MethodName)) ∈ lw_all := lw_g (lw_at lw_m4 182 rfl) rfl
theorem q975 : (Jvm.Cond.selects "TwinPanel$Table" ({ cls := "TwinPanel$Module", name := "afterNarrow", desc := "(FI)F" } : Jvm.MethodName) ({ cls := "TwinPanel$Module", name := "afterNarrow", desc := "(FI)F" } : Jvm.MethodName)) ∈ lw_all := lw_g (lw_at lw_m4 204 rfl) rfl
theorem q995 : (Jvm.Cond.selects "TwinPanel$Table" ({ cls := "TwinPanel$Module", name := "compare", desc := "()V" } : Jvm.MethodName) ({ cls := "TwinPanel$Module", name := "compare", desc := "()V" } : Jvm.MethodName)) ∈ lw_all := lw_g (lw_at lw_m4 224 rfl) rfl
theorem q1052 : (Jvm.Cond.selects "TwinPanel$Table" ({ cls := "TwinPanel$Module", name := "take", desc := "()V" } : Jvm.MethodName) ({ cls := "TwinPanel$Module", name := "take", desc := "()V" } : Jvm.MethodName)) ∈ lw_all := lw_g (lw_at lw_m5 41 rfl) rfl
theorem q1133 : (Jvm.Cond.selects "TwinPanel$Table" ({ cls := "TwinPanel$Module", name := "become", desc := "()V" } : Jvm.MethodName) ({ cls := "TwinPanel$Module", name := "become", desc := "()V" } : Jvm.MethodName)) ∈ lw_all := lw_g (lw_at lw_m5 122 rfl) rfl
theorem q1762 : (Jvm.Cond.selects "TwinPanel$Table" ({ cls := "TwinPanel$Module", name := "wideIn", desc := "(I)D" } : Jvm.MethodName) ({ cls := "TwinPanel$Module", name := "wideIn", desc := "(I)D" } : Jvm.MethodName)) ∈ lw_all := lw_g (lw_at lw_m8 31 rfl) rfl
theorem q1777 : (Jvm.Cond.selects "TwinPanel$Table" ({ cls := "TwinPanel$Module", name := "light", desc := "(I)V" } : Jvm.MethodName) ({ cls := "TwinPanel$Module", name := "light", desc := "(I)V" } : Jvm.MethodName)) ∈ lw_all := lw_g (lw_at lw_m8 46 rfl) rfl
theorem q1792 : (Jvm.Cond.selects "TwinPanel$Table" ({ cls := "TwinPanel$Module", name := "narrowIn", desc := "(I)F" } : Jvm.MethodName) ({ cls := "TwinPanel$Module", name := "narrowIn", desc := "(I)F" } : Jvm.MethodName)) ∈ lw_all := lw_g (lw_at lw_m8 61 rfl) rfl
theorem q1807 : (Jvm.Cond.selects "TwinPanel$Table" ({ cls := "TwinPanel$Module", name := "wideSum", desc := "()D" } : Jvm.MethodName) ({ cls := "TwinPanel$Module", name := "wideSum", desc := "()D" } : Jvm.MethodName)) ∈ lw_all := lw_g (lw_at lw_m8 76 rfl) rfl
theorem q1817 : (Jvm.Cond.castable "TwinPanel$Table" "TwinPanel$Module") ∈ lw_tbl := lw_at lw_m8 86 rfl
theorem in_X11 : ∀ w ∈ wsX110, w ∈ lw_all := lw_in wsX110 [432, 433, 434, 435, 436, 437, 438, 439, 440, 441, 442, 426, 428, 430] (by decide +kernel) (by decide +kernel)
theorem q68 : (Jvm.Cond.initialized "TwinPanel$Compare") ∈ lw_all := lw_g (lw_at lw_m1 17 rfl) rfl
theorem q445 : (Jvm.Cond.instantiable "TwinPanel$Compare" (11 : Nat)) ∈ lw_all := lw_g (lw_at lw_m2 154 rfl) rfl
theorem q447 : (Jvm.Cond.instanceMethod ({ cls := "TwinPanel$Compare", name := "<init>", desc := "(ID)V" } : Jvm.MethodName)) ∈ lw_all := lw_g (lw_at lw_m2 156 rfl) rfl
theorem q448 : (Jvm.Cond.code ({ cls := "TwinPanel$Compare", name := "<init>", desc := "(ID)V" } : Jvm.MethodName) prog_2_method_1_code (4 : Nat) (Option.none : Option Jvm.ClassFile.FieldType)) ∈ lw_all := lw_g (lw_at lw_m2 157 rfl) rfl
theorem q449 : (Jvm.Cond.methodLink "TwinPanel$Compare" (1 : Nat) ({ cls := "TwinPanel$Module", name := "<init>", desc := "(ID)V" } : Jvm.MethodName)) ∈ lw_all := lw_g (lw_at lw_m2 158 rfl) rfl
theorem q450 : (Jvm.Cond.laysFinal "TwinPanel$Compare" "TwinPanel$Module" "kind" "I") ∈ lw_all := lw_g (lw_at lw_m2 159 rfl) rfl
theorem q451 : (Jvm.Cond.lays "TwinPanel$Compare" "TwinPanel$Module" "setting" "D") ∈ lw_all := lw_g (lw_at lw_m2 160 rfl) rfl
theorem q452 : (Jvm.Cond.lays "TwinPanel$Compare" "TwinPanel$Module" "start" "D") ∈ lw_all := lw_g (lw_at lw_m2 161 rfl) rfl
theorem q453 : (Jvm.Cond.laysFinal "TwinPanel$Compare" "TwinPanel$Module" "from" "[LTwinPanel$Module;") ∈ lw_all := lw_g (lw_at lw_m2 162 rfl) rfl
theorem q454 : (Jvm.Cond.laysFinal "TwinPanel$Compare" "TwinPanel$Module" "number" "[I") ∈ lw_all := lw_g (lw_at lw_m2 163 rfl) rfl
theorem q455 : (Jvm.Cond.laysFinal "TwinPanel$Compare" "TwinPanel$Module" "turned" "[Z") ∈ lw_all := lw_g (lw_at lw_m2 164 rfl) rfl
theorem q456 : (Jvm.Cond.lays "TwinPanel$Compare" "TwinPanel$Module" "wide" "D") ∈ lw_all := lw_g (lw_at lw_m2 165 rfl) rfl
theorem q457 : (Jvm.Cond.lays "TwinPanel$Compare" "TwinPanel$Module" "narrow" "F") ∈ lw_all := lw_g (lw_at lw_m2 166 rfl) rfl
theorem q458 : (Jvm.Cond.lays "TwinPanel$Compare" "TwinPanel$Module" "lamp" "I") ∈ lw_all := lw_g (lw_at lw_m2 167 rfl) rfl
theorem q459 : (Jvm.Cond.lays "TwinPanel$Compare" "TwinPanel$Module" "apart" "D") ∈ lw_all := lw_g (lw_at lw_m2 168 rfl) rfl
theorem q460 : (Jvm.Cond.lays "TwinPanel$Compare" "TwinPanel$Module" "failsAt" "I") ∈ lw_all := lw_g (lw_at lw_m2 169 rfl) rfl
theorem q461 : (Jvm.Cond.superclass "TwinPanel$Compare" "TwinPanel$Module") ∈ lw_all := lw_g (lw_at lw_m2 170 rfl) rfl
theorem q591 : (Jvm.Cond.selects "TwinPanel$Compare" ({ cls := "TwinPanel$Module", name := "remembers", desc := "()Z" } : Jvm.MethodName) ({ cls := "TwinPanel$Module", name := "remembers", desc := "()Z" } : Jvm.MethodName)) ∈ lw_all := lw_g (lw_at lw_m3 60 rfl) rfl
theorem q631 : (Jvm.Cond.selects "TwinPanel$Compare" ({ cls := "TwinPanel$Module", name := "needs", desc := "()I" } : Jvm.MethodName) ({ cls := "TwinPanel$Compare", name := "needs", desc := "()I" } : Jvm.MethodName)) ∈ lw_all := lw_g (lw_at lw_m3 100 rfl) rfl
theorem q632 : (Jvm.Cond.instanceMethod ({ cls := "TwinPanel$Compare", name := "needs", desc := "()I" } : Jvm.MethodName)) ∈ lw_all := lw_g (lw_at lw_m3 101 rfl) rfl
theorem q633 : (Jvm.Cond.code ({ cls := "TwinPanel$Compare", name := "needs", desc := "()I" } : Jvm.MethodName) prog_2_method_2_code (1 : Nat) (Option.some Jvm.ClassFile.FieldType.int)) ∈ lw_all := lw_g (lw_at lw_m3 102 rfl) rfl
theorem q692 : (Jvm.Cond.selects "TwinPanel$Compare" ({ cls := "TwinPanel$Module", name := "begin", desc := "()V" } : Jvm.MethodName) ({ cls := "TwinPanel$Module", name := "begin", desc := "()V" } : Jvm.MethodName)) ∈ lw_all := lw_g (lw_at lw_m3 161 rfl) rfl
theorem q724 : (Jvm.Cond.selects "TwinPanel$Compare" ({ cls := "TwinPanel$Module", name := "read", desc := "(I)V" } : Jvm.MethodName) ({ cls := "TwinPanel$Module", name := "read", desc := "(I)V" } : Jvm.MethodName)) ∈ lw_all := lw_g (lw_at lw_m3 193 rfl) rfl
theorem q742 : (Jvm.Cond.selects "TwinPanel$Compare" ({ cls := "TwinPanel$Module", name := "wideOut", desc := "(I)D" } : Jvm.MethodName) ({ cls := "TwinPanel$Compare", name := "wideOut", desc := "(I)D" } : Jvm.MethodName)) ∈ lw_all := lw_g (lw_at lw_m3 211 rfl) rfl
theorem q743 : (Jvm.Cond.instanceMethod ({ cls := "TwinPanel$Compare", name := "wideOut", desc := "(I)D" } : Jvm.MethodName)) ∈ lw_all := lw_g (lw_at lw_m3 212 rfl) rfl
theorem q744 : (Jvm.Cond.code ({ cls := "TwinPanel$Compare", name := "wideOut", desc := "(I)D" } : Jvm.MethodName) prog_2_method_3_code (2 : Nat) (Option.some Jvm.ClassFile.FieldType.double)) ∈ lw_all := lw_g (lw_at lw_m3 213 rfl) rfl
theorem q745 : (Jvm.Cond.methodLink "TwinPanel$Compare" (7 : Nat) ({ cls := "TwinPanel$Compare", name := "wideIn", desc := "(I)D" } : Jvm.MethodName)) ∈ lw_all := lw_g (lw_at lw_m3 214 rfl) rfl
theorem q746 : (Jvm.Cond.sameMethod "TwinPanel$Compare" "TwinPanel$Module" "wideIn" "(I)D") ∈ lw_all := lw_g (lw_at lw_m3 215 rfl) rfl
theorem q748 : (Jvm.Cond.selects "TwinPanel$Compare" ({ cls := "TwinPanel$Compare", name := "wideIn", desc := "(I)D" } : Jvm.MethodName) ({ cls := "TwinPanel$Module", name := "wideIn", desc := "(I)D" } : Jvm.MethodName)) ∈ lw_all := lw_g (lw_at lw_m3 217 rfl) rfl
theorem q751 : (Jvm.Cond.constantDouble "TwinPanel$Compare" (13 : Nat) (13830554455654793216 : UInt64)) ∈ lw_all := lw_g (lw_at lw_m3 220 rfl) rfl
theorem q864 : (Jvm.Cond.selects "TwinPanel$Compare" ({ cls := "TwinPanel$Module", name := "afterWide", desc := "(DI)D" } : Jvm.MethodName) ({ cls := "TwinPanel$Module", name := "afterWide", desc := "(DI)D" } : Jvm.MethodName)) ∈ lw_all := lw_g (lw_at lw_m4 93 rfl) rfl
theorem q885 : (Jvm.Cond.selects "TwinPanel$Compare" ({ cls := "TwinPanel$Module", name := "narrowOut", desc := "(I)F" } : Jvm.MethodName) ({ cls := "TwinPanel$Compare", name := "narrowOut", desc := "(I)F" } : Jvm.MethodName)) ∈ lw_all := lw_g (lw_at lw_m4 114 rfl) rfl
theorem q886 : (Jvm.Cond.instanceMethod ({ cls := "TwinPanel$Compare", name := "narrowOut", desc := "(I)F" } : Jvm.MethodName)) ∈ lw_all := lw_g (lw_at lw_m4 115 rfl) rfl
theorem q887 : (Jvm.Cond.code ({ cls := "TwinPanel$Compare", name := "narrowOut", desc := "(I)F" } : Jvm.MethodName) prog_2_method_4_code (2 : Nat) (Option.some Jvm.ClassFile.FieldType.float)) ∈ lw_all := lw_g (lw_at lw_m4 116 rfl) rfl
theorem q888 : (Jvm.Cond.methodLink "TwinPanel$Compare" (15 : Nat) ({ cls := "TwinPanel$Compare", name := "narrowIn", desc := "(I)F" } : Jvm.MethodName)) ∈ lw_all := lw_g (lw_at lw_m4 117 rfl) rfl
theorem q889 : (Jvm.Cond.sameMethod "TwinPanel$Compare" "TwinPanel$Module" "narrowIn" "(I)F") ∈ lw_all := lw_g (lw_at lw_m4 118 rfl) rfl
theorem q891 : (Jvm.Cond.selects "TwinPanel$Compare" ({ cls := "TwinPanel$Compare", name := "narrowIn", desc := "(I)F" } : Jvm.MethodName) ({ cls := "TwinPanel$Module", name := "narrowIn", desc := "(I)F" } : Jvm.MethodName)) ∈ lw_all := lw_g (lw_at lw_m4 120 rfl) rfl
theorem q894 : (Jvm.Cond.constantFloat "TwinPanel$Compare" (19 : Nat) (3212836864 : UInt32)) ∈ lw_all := lw_g (lw_at lw_m4 123 rfl) rfl
theorem q964 : (Jvm.Cond.selects "TwinPanel$Compare" ({ cls := "TwinPanel$Module", name := "afterNarrow", desc := "(FI)F" } : Jvm.MethodName) ({ cls := "TwinPanel$Module", name := "afterNarrow", desc := "(FI)F" } : Jvm.MethodName)) ∈ lw_all := lw_g (lw_at lw_m4 193 rfl) rfl
theorem q984 : (Jvm.Cond.selects "TwinPanel$Compare" ({ cls := "TwinPanel$Module", name := "compare", desc := "()V" } : Jvm.MethodName) ({ cls := "TwinPanel$Module", name := "compare", desc := "()V" } : Jvm.MethodName)) ∈ lw_all := lw_g (lw_at lw_m4 213 rfl) rfl
theorem q1033 : (Jvm.Cond.selects "TwinPanel$Compare" ({ cls := "TwinPanel$Module", name := "take", desc := "()V" } : Jvm.MethodName) ({ cls := "TwinPanel$Module", name := "take", desc := "()V" } : Jvm.MethodName)) ∈ lw_all := lw_g (lw_at lw_m5 22 rfl) rfl
theorem q1112 : (Jvm.Cond.selects "TwinPanel$Compare" ({ cls := "TwinPanel$Module", name := "become", desc := "()V" } : Jvm.MethodName) ({ cls := "TwinPanel$Module", name := "become", desc := "()V" } : Jvm.MethodName)) ∈ lw_all := lw_g (lw_at lw_m5 101 rfl) rfl
theorem q1751 : (Jvm.Cond.selects "TwinPanel$Compare" ({ cls := "TwinPanel$Module", name := "wideIn", desc := "(I)D" } : Jvm.MethodName) ({ cls := "TwinPanel$Module", name := "wideIn", desc := "(I)D" } : Jvm.MethodName)) ∈ lw_all := lw_g (lw_at lw_m8 20 rfl) rfl
theorem q1766 : (Jvm.Cond.selects "TwinPanel$Compare" ({ cls := "TwinPanel$Module", name := "light", desc := "(I)V" } : Jvm.MethodName) ({ cls := "TwinPanel$Module", name := "light", desc := "(I)V" } : Jvm.MethodName)) ∈ lw_all := lw_g (lw_at lw_m8 35 rfl) rfl
theorem q1781 : (Jvm.Cond.selects "TwinPanel$Compare" ({ cls := "TwinPanel$Module", name := "narrowIn", desc := "(I)F" } : Jvm.MethodName) ({ cls := "TwinPanel$Module", name := "narrowIn", desc := "(I)F" } : Jvm.MethodName)) ∈ lw_all := lw_g (lw_at lw_m8 50 rfl) rfl
theorem q1796 : (Jvm.Cond.selects "TwinPanel$Compare" ({ cls := "TwinPanel$Module", name := "wideSum", desc := "()D" } : Jvm.MethodName) ({ cls := "TwinPanel$Module", name := "wideSum", desc := "()D" } : Jvm.MethodName)) ∈ lw_all := lw_g (lw_at lw_m8 65 rfl) rfl
theorem q1818 : (Jvm.Cond.castable "TwinPanel$Compare" "TwinPanel$Module") ∈ lw_tbl := lw_at lw_m8 87 rfl
theorem in_X12 : ∀ w ∈ wsX120, w ∈ lw_all := lw_in wsX120 [450, 451, 452, 453, 454, 455, 456, 457, 458, 459, 460] (by decide +kernel) (by decide +kernel)
theorem q69 : (Jvm.Cond.initialized "TwinPanel$Relay") ∈ lw_all := lw_g (lw_at lw_m1 18 rfl) rfl
theorem q463 : (Jvm.Cond.instantiable "TwinPanel$Relay" (11 : Nat)) ∈ lw_all := lw_g (lw_at lw_m2 172 rfl) rfl
theorem q465 : (Jvm.Cond.instanceMethod ({ cls := "TwinPanel$Relay", name := "<init>", desc := "(ID)V" } : Jvm.MethodName)) ∈ lw_all := lw_g (lw_at lw_m2 174 rfl) rfl
theorem q466 : (Jvm.Cond.code ({ cls := "TwinPanel$Relay", name := "<init>", desc := "(ID)V" } : Jvm.MethodName) prog_12_method_1_code (4 : Nat) (Option.none : Option Jvm.ClassFile.FieldType)) ∈ lw_all := lw_g (lw_at lw_m2 175 rfl) rfl
theorem q467 : (Jvm.Cond.methodLink "TwinPanel$Relay" (1 : Nat) ({ cls := "TwinPanel$Module", name := "<init>", desc := "(ID)V" } : Jvm.MethodName)) ∈ lw_all := lw_g (lw_at lw_m2 176 rfl) rfl
theorem q468 : (Jvm.Cond.laysFinal "TwinPanel$Relay" "TwinPanel$Module" "kind" "I") ∈ lw_all := lw_g (lw_at lw_m2 177 rfl) rfl
theorem q469 : (Jvm.Cond.lays "TwinPanel$Relay" "TwinPanel$Module" "setting" "D") ∈ lw_all := lw_g (lw_at lw_m2 178 rfl) rfl
theorem q470 : (Jvm.Cond.lays "TwinPanel$Relay" "TwinPanel$Module" "start" "D") ∈ lw_all := lw_g (lw_at lw_m2 179 rfl) rfl
theorem q471 : (Jvm.Cond.laysFinal "TwinPanel$Relay" "TwinPanel$Module" "from" "[LTwinPanel$Module;") ∈ lw_all := lw_g (lw_at lw_m2 180 rfl) rfl
theorem q472 : (Jvm.Cond.laysFinal "TwinPanel$Relay" "TwinPanel$Module" "number" "[I") ∈ lw_all := lw_g (lw_at lw_m2 181 rfl) rfl
theorem q473 : (Jvm.Cond.laysFinal "TwinPanel$Relay" "TwinPanel$Module" "turned" "[Z") ∈ lw_all := lw_g (lw_at lw_m2 182 rfl) rfl
theorem q474 : (Jvm.Cond.lays "TwinPanel$Relay" "TwinPanel$Module" "wide" "D") ∈ lw_all := lw_g (lw_at lw_m2 183 rfl) rfl
theorem q475 : (Jvm.Cond.lays "TwinPanel$Relay" "TwinPanel$Module" "narrow" "F") ∈ lw_all := lw_g (lw_at lw_m2 184 rfl) rfl
theorem q476 : (Jvm.Cond.lays "TwinPanel$Relay" "TwinPanel$Module" "lamp" "I") ∈ lw_all := lw_g (lw_at lw_m2 185 rfl) rfl
theorem q477 : (Jvm.Cond.lays "TwinPanel$Relay" "TwinPanel$Module" "apart" "D") ∈ lw_all := lw_g (lw_at lw_m2 186 rfl) rfl
theorem q478 : (Jvm.Cond.lays "TwinPanel$Relay" "TwinPanel$Module" "failsAt" "I") ∈ lw_all := lw_g (lw_at lw_m2 187 rfl) rfl
theorem q479 : (Jvm.Cond.superclass "TwinPanel$Relay" "TwinPanel$Module") ∈ lw_all := lw_g (lw_at lw_m2 188 rfl) rfl
theorem q601 : (Jvm.Cond.selects "TwinPanel$Relay" ({ cls := "TwinPanel$Module", name := "remembers", desc := "()Z" } : Jvm.MethodName) ({ cls := "TwinPanel$Module", name := "remembers", desc := "()Z" } : Jvm.MethodName)) ∈ lw_all := lw_g (lw_at lw_m3 70 rfl) rfl
theorem q647 : (Jvm.Cond.selects "TwinPanel$Relay" ({ cls := "TwinPanel$Module", name := "needs", desc := "()I" } : Jvm.MethodName) ({ cls := "TwinPanel$Relay", name := "needs", desc := "()I" } : Jvm.MethodName)) ∈ lw_all := lw_g (lw_at lw_m3 116 rfl) rfl
theorem q648 : (Jvm.Cond.instanceMethod ({ cls := "TwinPanel$Relay", name := "needs", desc := "()I" } : Jvm.MethodName)) ∈ lw_all := lw_g (lw_at lw_m3 117 rfl) rfl
theorem q649 : (Jvm.Cond.code ({ cls := "TwinPanel$Relay", name := "needs", desc := "()I" } : Jvm.MethodName) prog_12_method_2_code (1 : Nat) (Option.some Jvm.ClassFile.FieldType.int)) ∈ lw_all := lw_g (lw_at lw_m3 118 rfl) rfl
theorem q710 : (Jvm.Cond.selects "TwinPanel$Relay" ({ cls := "TwinPanel$Module", name := "begin", desc := "()V" } : Jvm.MethodName) ({ cls := "TwinPanel$Module", name := "begin", desc := "()V" } : Jvm.MethodName)) ∈ lw_all := lw_g (lw_at lw_m3 179 rfl) rfl
theorem q732 : (Jvm.Cond.selects "TwinPanel$Relay" ({ cls := "TwinPanel$Module", name := "read", desc := "(I)V" } : Jvm.MethodName) ({ cls := "TwinPanel$Module", name := "read", desc := "(I)V" } : Jvm.MethodName)) ∈ lw_all := lw_g (lw_at lw_m3 201 rfl) rfl
theorem q789 : (Jvm.Cond.selects "TwinPanel$Relay" ({ cls := "TwinPanel$Module", name := "wideOut", desc := "(I)D" } : Jvm.MethodName) ({ cls := "TwinPanel$Relay", name := "wideOut", desc := "(I)D" } : Jvm.MethodName)) ∈ lw_all := lw_g (lw_at lw_m4 18 rfl) rfl
theorem q790 : (Jvm.Cond.instanceMethod ({ cls := "TwinPanel$Relay", name := "wideOut", desc := "(I)D" } : Jvm.MethodName)) ∈ lw_all := lw_g (lw_at lw_m4 19 rfl) rfl
theorem q791 : (Jvm.Cond.code ({ cls := "TwinPanel$Relay", name := "wideOut", desc := "(I)D" } : Jvm.MethodName) prog_12_method_3_code (2 : Nat) (Option.some Jvm.ClassFile.FieldType.double)) ∈ lw_all := lw_g (lw_at lw_m4 20 rfl) rfl
theorem q792 : (Jvm.Cond.methodLink "TwinPanel$Relay" (7 : Nat) ({ cls := "TwinPanel$Relay", name := "wideIn", desc := "(I)D" } : Jvm.MethodName)) ∈ lw_all := lw_g (lw_at lw_m4 21 rfl) rfl
theorem q793 : (Jvm.Cond.sameMethod "TwinPanel$Relay" "TwinPanel$Module" "wideIn" "(I)D") ∈ lw_all := lw_g (lw_at lw_m4 22 rfl) rfl
theorem q794 : (Jvm.Cond.selects "TwinPanel$Relay" ({ cls := "TwinPanel$Relay", name := "wideIn", desc := "(I)D" } : Jvm.MethodName) ({ cls := "TwinPanel$Module", name := "wideIn", desc := "(I)D" } : Jvm.MethodName)) ∈ lw_all := lw_g (lw_at lw_m4 23 rfl) rfl
theorem q872 : (Jvm.Cond.selects "TwinPanel$Relay" ({ cls := "TwinPanel$Module", name := "afterWide", desc := "(DI)D" } : Jvm.MethodName) ({ cls := "TwinPanel$Module", name := "afterWide", desc := "(DI)D" } : Jvm.MethodName)) ∈ lw_all := lw_g (lw_at lw_m4 101 rfl) rfl
theorem q926 : (Jvm.Cond.selects "TwinPanel$Relay" ({ cls := "TwinPanel$Module", name := "narrowOut", desc := "(I)F" } : Jvm.MethodName) ({ cls := "TwinPanel$Relay", name := "narrowOut", desc := "(I)F" } : Jvm.MethodName)) ∈ lw_all := lw_g (lw_at lw_m4 155 rfl) rfl
theorem q927 : (Jvm.Cond.instanceMethod ({ cls := "TwinPanel$Relay", name := "narrowOut", desc := "(I)F" } : Jvm.MethodName)) ∈ lw_all := lw_g (lw_at lw_m4 156 rfl) rfl
theorem q928 : (Jvm.Cond.code ({ cls := "TwinPanel$Relay", name := "narrowOut", desc := "(I)F" } : Jvm.MethodName) prog_12_method_4_code (2 : Nat) (Option.some Jvm.ClassFile.FieldType.float)) ∈ lw_all := lw_g (lw_at lw_m4 157 rfl) rfl
theorem q929 : (Jvm.Cond.methodLink "TwinPanel$Relay" (13 : Nat) ({ cls := "TwinPanel$Relay", name := "narrowIn", desc := "(I)F" } : Jvm.MethodName)) ∈ lw_all := lw_g (lw_at lw_m4 158 rfl) rfl
theorem q930 : (Jvm.Cond.sameMethod "TwinPanel$Relay" "TwinPanel$Module" "narrowIn" "(I)F") ∈ lw_all := lw_g (lw_at lw_m4 159 rfl) rfl
theorem q931 : (Jvm.Cond.selects "TwinPanel$Relay" ({ cls := "TwinPanel$Relay", name := "narrowIn", desc := "(I)F" } : Jvm.MethodName) ({ cls := "TwinPanel$Module", name := "narrowIn", desc := "(I)F" } : Jvm.MethodName)) ∈ lw_all := lw_g (lw_at lw_m4 160 rfl) rfl
theorem q972 : (Jvm.Cond.selects "TwinPanel$Relay" ({ cls := "TwinPanel$Module", name := "afterNarrow", desc := "(FI)F" } : Jvm.MethodName) ({ cls := "TwinPanel$Module", name := "afterNarrow", desc := "(FI)F" } : Jvm.MethodName)) ∈ lw_all := lw_g (lw_at lw_m4 201 rfl) rfl
theorem q992 : (Jvm.Cond.selects "TwinPanel$Relay" ({ cls := "TwinPanel$Module", name := "compare", desc := "()V" } : Jvm.MethodName) ({ cls := "TwinPanel$Module", name := "compare", desc := "()V" } : Jvm.MethodName)) ∈ lw_all := lw_g (lw_at lw_m4 221 rfl) rfl
theorem q1049 : (Jvm.Cond.selects "TwinPanel$Relay" ({ cls := "TwinPanel$Module", name := "take", desc := "()V" } : Jvm.MethodName) ({ cls := "TwinPanel$Module", name := "take", desc := "()V" } : Jvm.MethodName)) ∈ lw_all := lw_g (lw_at lw_m5 38 rfl) rfl
theorem q1130 : (Jvm.Cond.selects "TwinPanel$Relay" ({ cls := "TwinPanel$Module", name := "become", desc := "()V" } : Jvm.MethodName) ({ cls := "TwinPanel$Module", name := "become", desc := "()V" } : Jvm.MethodName)) ∈ lw_all := lw_g (lw_at lw_m5 119 rfl) rfl
theorem q1759 : (Jvm.Cond.selects "TwinPanel$Relay" ({ cls := "TwinPanel$Module", name := "wideIn", desc := "(I)D" } : Jvm.MethodName) ({ cls := "TwinPanel$Module", name := "wideIn", desc := "(I)D" } : Jvm.MethodName)) ∈ lw_all := lw_g (lw_at lw_m8 28 rfl) rfl
theorem q1774 : (Jvm.Cond.selects "TwinPanel$Relay" ({ cls := "TwinPanel$Module", name := "light", desc := "(I)V" } : Jvm.MethodName) ({ cls := "TwinPanel$Module", name := "light", desc := "(I)V" } : Jvm.MethodName)) ∈ lw_all := lw_g (lw_at lw_m8 43 rfl) rfl
theorem q1789 : (Jvm.Cond.selects "TwinPanel$Relay" ({ cls := "TwinPanel$Module", name := "narrowIn", desc := "(I)F" } : Jvm.MethodName) ({ cls := "TwinPanel$Module", name := "narrowIn", desc := "(I)F" } : Jvm.MethodName)) ∈ lw_all := lw_g (lw_at lw_m8 58 rfl) rfl
theorem q1804 : (Jvm.Cond.selects "TwinPanel$Relay" ({ cls := "TwinPanel$Module", name := "wideSum", desc := "()D" } : Jvm.MethodName) ({ cls := "TwinPanel$Module", name := "wideSum", desc := "()D" } : Jvm.MethodName)) ∈ lw_all := lw_g (lw_at lw_m8 73 rfl) rfl
theorem q1819 : (Jvm.Cond.castable "TwinPanel$Relay" "TwinPanel$Module") ∈ lw_tbl := lw_at lw_m8 88 rfl
theorem in_X13 : ∀ w ∈ wsX130, w ∈ lw_all := lw_in wsX130 [468, 469, 470, 471, 472, 473, 474, 475, 476, 477, 478] (by decide +kernel) (by decide +kernel)
theorem q70 : (Jvm.Cond.initialized "TwinPanel$Part") ∈ lw_all := lw_g (lw_at lw_m1 19 rfl) rfl
theorem q207 : (Jvm.Cond.fieldLink "TwinPanel$Part" (13 : Nat) "TwinPanel$Part" "setting" "D") ∈ lw_all := lw_g (lw_at lw_m1 156 rfl) rfl
theorem q208 : (Jvm.Cond.sameField "TwinPanel$Part" "TwinPanel$Module" "setting" "D") ∈ lw_all := lw_g (lw_at lw_m1 157 rfl) rfl
theorem q481 : (Jvm.Cond.instantiable "TwinPanel$Part" (11 : Nat)) ∈ lw_all := lw_g (lw_at lw_m2 190 rfl) rfl
theorem q483 : (Jvm.Cond.instanceMethod ({ cls := "TwinPanel$Part", name := "<init>", desc := "(ID)V" } : Jvm.MethodName)) ∈ lw_all := lw_g (lw_at lw_m2 192 rfl) rfl
theorem q484 : (Jvm.Cond.code ({ cls := "TwinPanel$Part", name := "<init>", desc := "(ID)V" } : Jvm.MethodName) prog_9_method_1_code (4 : Nat) (Option.none : Option Jvm.ClassFile.FieldType)) ∈ lw_all := lw_g (lw_at lw_m2 193 rfl) rfl
theorem q485 : (Jvm.Cond.methodLink "TwinPanel$Part" (1 : Nat) ({ cls := "TwinPanel$Module", name := "<init>", desc := "(ID)V" } : Jvm.MethodName)) ∈ lw_all := lw_g (lw_at lw_m2 194 rfl) rfl
theorem q486 : (Jvm.Cond.laysFinal "TwinPanel$Part" "TwinPanel$Module" "kind" "I") ∈ lw_all := lw_g (lw_at lw_m2 195 rfl) rfl
theorem q487 : (Jvm.Cond.lays "TwinPanel$Part" "TwinPanel$Module" "setting" "D") ∈ lw_all := lw_g (lw_at lw_m2 196 rfl) rfl
theorem q488 : (Jvm.Cond.lays "TwinPanel$Part" "TwinPanel$Module" "start" "D") ∈ lw_all := lw_g (lw_at lw_m2 197 rfl) rfl
theorem q489 : (Jvm.Cond.laysFinal "TwinPanel$Part" "TwinPanel$Module" "from" "[LTwinPanel$Module;") ∈ lw_all := lw_g (lw_at lw_m2 198 rfl) rfl
theorem q490 : (Jvm.Cond.laysFinal "TwinPanel$Part" "TwinPanel$Module" "number" "[I") ∈ lw_all := lw_g (lw_at lw_m2 199 rfl) rfl
theorem q491 : (Jvm.Cond.laysFinal "TwinPanel$Part" "TwinPanel$Module" "turned" "[Z") ∈ lw_all := lw_g (lw_at lw_m2 200 rfl) rfl
theorem q492 : (Jvm.Cond.lays "TwinPanel$Part" "TwinPanel$Module" "wide" "D") ∈ lw_all := lw_g (lw_at lw_m2 201 rfl) rfl
theorem q493 : (Jvm.Cond.lays "TwinPanel$Part" "TwinPanel$Module" "narrow" "F") ∈ lw_all := lw_g (lw_at lw_m2 202 rfl) rfl
theorem q494 : (Jvm.Cond.lays "TwinPanel$Part" "TwinPanel$Module" "lamp" "I") ∈ lw_all := lw_g (lw_at lw_m2 203 rfl) rfl
theorem q495 : (Jvm.Cond.lays "TwinPanel$Part" "TwinPanel$Module" "apart" "D") ∈ lw_all := lw_g (lw_at lw_m2 204 rfl) rfl
theorem q496 : (Jvm.Cond.lays "TwinPanel$Part" "TwinPanel$Module" "failsAt" "I") ∈ lw_all := lw_g (lw_at lw_m2 205 rfl) rfl
theorem q497 : (Jvm.Cond.superclass "TwinPanel$Part" "TwinPanel$Module") ∈ lw_all := lw_g (lw_at lw_m2 206 rfl) rfl
theorem q598 : (Jvm.Cond.selects "TwinPanel$Part" ({ cls := "TwinPanel$Module", name := "remembers", desc := "()Z" } : Jvm.MethodName) ({ cls := "TwinPanel$Module", name := "remembers", desc := "()Z" } : Jvm.MethodName)) ∈ lw_all := lw_g (lw_at lw_m3 67 rfl) rfl
theorem q640 : (Jvm.Cond.selects "TwinPanel$Part" ({ cls := "TwinPanel$Module", name := "needs", desc := "()I" } : Jvm.MethodName) ({ cls := "TwinPanel$Module", name := "needs", desc := "()I" } : Jvm.MethodName)) ∈ lw_all := lw_g (lw_at lw_m3 109 rfl) rfl
theorem q707 : (Jvm.Cond.selects "TwinPanel$Part" ({ cls := "TwinPanel$Module", name := "begin", desc := "()V" } : Jvm.MethodName) ({ cls := "TwinPanel$Module", name := "begin", desc := "()V" } : Jvm.MethodName)) ∈ lw_all := lw_g (lw_at lw_m3 176 rfl) rfl
theorem q729 : (Jvm.Cond.selects "TwinPanel$Part" ({ cls := "TwinPanel$Module", name := "read", desc := "(I)V" } : Jvm.MethodName) ({ cls := "TwinPanel$Module", name := "read", desc := "(I)V" } : Jvm.MethodName)) ∈ lw_all := lw_g (lw_at lw_m3 198 rfl) rfl
theorem q763 : (Jvm.Cond.selects "TwinPanel$Part" ({ cls := "TwinPanel$Module", name := "wideOut", desc := "(I)D" } : Jvm.MethodName) ({ cls := "TwinPanel$Part", name := "wideOut", desc := "(I)D" } : Jvm.MethodName)) ∈ lw_all := lw_g (lw_at lw_m3 232 rfl) rfl
theorem q764 : (Jvm.Cond.instanceMethod ({ cls := "TwinPanel$Part", name := "wideOut", desc := "(I)D" } : Jvm.MethodName)) ∈ lw_all := lw_g (lw_at lw_m3 233 rfl) rfl
theorem q765 : (Jvm.Cond.code ({ cls := "TwinPanel$Part", name := "wideOut", desc := "(I)D" } : Jvm.MethodName) prog_9_method_2_code (2 : Nat) (Option.some Jvm.ClassFile.FieldType.double)) ∈ lw_all := lw_g (lw_at lw_m3 234 rfl) rfl
theorem q766 : (Jvm.Cond.methodLink "TwinPanel$Part" (7 : Nat) ({ cls := "TwinPanel$Part", name := "wideIn", desc := "(I)D" } : Jvm.MethodName)) ∈ lw_all := lw_g (lw_at lw_m3 235 rfl) rfl
theorem q767 : (Jvm.Cond.sameMethod "TwinPanel$Part" "TwinPanel$Module" "wideIn" "(I)D") ∈ lw_all := lw_g (lw_at lw_m3 236 rfl) rfl
theorem q768 : (Jvm.Cond.selects "TwinPanel$Part" ({ cls := "TwinPanel$Part", name := "wideIn", desc := "(I)D" } : Jvm.MethodName) ({ cls := "TwinPanel$Module", name := "wideIn", desc := "(I)D" } : Jvm.MethodName)) ∈ lw_all := lw_g (lw_at lw_m3 237 rfl) rfl
theorem q869 : (Jvm.Cond.selects "TwinPanel$Part" ({ cls := "TwinPanel$Module", name := "afterWide", desc := "(DI)D" } : Jvm.MethodName) ({ cls := "TwinPanel$Module", name := "afterWide", desc := "(DI)D" } : Jvm.MethodName)) ∈ lw_all := lw_g (lw_at lw_m4 98 rfl) rfl
theorem q906 : (Jvm.Cond.selects "TwinPanel$Part" ({ cls := "TwinPanel$Module", name := "narrowOut", desc := "(I)F" } : Jvm.MethodName) ({ cls := "TwinPanel$Part", name := "narrowOut", desc := "(I)F" } : Jvm.MethodName)) ∈ lw_all := lw_g (lw_at lw_m4 135 rfl) rfl
theorem q907 : (Jvm.Cond.instanceMethod ({ cls := "TwinPanel$Part", name := "narrowOut", desc := "(I)F" } : Jvm.MethodName)) ∈ lw_all := lw_g (lw_at lw_m4 136 rfl) rfl
theorem q908 : (Jvm.Cond.code ({ cls := "TwinPanel$Part", name := "narrowOut", desc := "(I)F" } : Jvm.MethodName) prog_9_method_3_code (2 : Nat) (Option.some Jvm.ClassFile.FieldType.float)) ∈ lw_all := lw_g (lw_at lw_m4 137 rfl) rfl
theorem q909 : (Jvm.Cond.methodLink "TwinPanel$Part" (17 : Nat) ({ cls := "TwinPanel$Part", name := "narrowIn", desc := "(I)F" } : Jvm.MethodName)) ∈ lw_all := lw_g (lw_at lw_m4 138 rfl) rfl
theorem q910 : (Jvm.Cond.sameMethod "TwinPanel$Part" "TwinPanel$Module" "narrowIn" "(I)F") ∈ lw_all := lw_g (lw_at lw_m4 139 rfl) rfl
theorem q911 : (Jvm.Cond.selects "TwinPanel$Part" ({ cls := "TwinPanel$Part", name := "narrowIn", desc := "(I)F" } : Jvm.MethodName) ({ cls := "TwinPanel$Module", name := "narrowIn", desc := "(I)F" } : Jvm.MethodName)) ∈ lw_all := lw_g (lw_at lw_m4 140 rfl) rfl
theorem q969 : (Jvm.Cond.selects "TwinPanel$Part" ({ cls := "TwinPanel$Module", name := "afterNarrow", desc := "(FI)F" } : Jvm.MethodName) ({ cls := "TwinPanel$Module", name := "afterNarrow", desc := "(FI)F" } : Jvm.MethodName)) ∈ lw_all := lw_g (lw_at lw_m4 198 rfl) rfl
theorem q989 : (Jvm.Cond.selects "TwinPanel$Part" ({ cls := "TwinPanel$Module", name := "compare", desc := "()V" } : Jvm.MethodName) ({ cls := "TwinPanel$Module", name := "compare", desc := "()V" } : Jvm.MethodName)) ∈ lw_all := lw_g (lw_at lw_m4 218 rfl) rfl
theorem q1046 : (Jvm.Cond.selects "TwinPanel$Part" ({ cls := "TwinPanel$Module", name := "take", desc := "()V" } : Jvm.MethodName) ({ cls := "TwinPanel$Module", name := "take", desc := "()V" } : Jvm.MethodName)) ∈ lw_all := lw_g (lw_at lw_m5 35 rfl) rfl
theorem q1127 : (Jvm.Cond.selects "TwinPanel$Part" ({ cls := "TwinPanel$Module", name := "become", desc := "()V" } : Jvm.MethodName) ({ cls := "TwinPanel$Module", name := "become", desc := "()V" } : Jvm.MethodName)) ∈ lw_all := lw_g (lw_at lw_m5 116 rfl) rfl
theorem q1756 : (Jvm.Cond.selects "TwinPanel$Part" ({ cls := "TwinPanel$Module", name := "wideIn", desc := "(I)D" } : Jvm.MethodName) ({ cls := "TwinPanel$Module", name := "wideIn", desc := "(I)D" } : Jvm.MethodName)) ∈ lw_all := lw_g (lw_at lw_m8 25 rfl) rfl
theorem q1771 : (Jvm.Cond.selects "TwinPanel$Part" ({ cls := "TwinPanel$Module", name := "light", desc := "(I)V" } : Jvm.MethodName) ({ cls := "TwinPanel$Module", name := "light", desc := "(I)V" } : Jvm.MethodName)) ∈ lw_all := lw_g (lw_at lw_m8 40 rfl) rfl
theorem q1786 : (Jvm.Cond.selects "TwinPanel$Part" ({ cls := "TwinPanel$Module", name := "narrowIn", desc := "(I)F" } : Jvm.MethodName) ({ cls := "TwinPanel$Module", name := "narrowIn", desc := "(I)F" } : Jvm.MethodName)) ∈ lw_all := lw_g (lw_at lw_m8 55 rfl) rfl
theorem q1801 : (Jvm.Cond.selects "TwinPanel$Part" ({ cls := "TwinPanel$Module", name := "wideSum", desc := "()D" } : Jvm.MethodName) ({ cls := "TwinPanel$Module", name := "wideSum", desc := "()D" } : Jvm.MethodName)) ∈ lw_all := lw_g (lw_at lw_m8 70 rfl) rfl
theorem q1820 : (Jvm.Cond.castable "TwinPanel$Part" "TwinPanel$Module") ∈ lw_tbl := lw_at lw_m8 89 rfl
theorem in_X14 : ∀ w ∈ wsX140, w ∈ lw_all := lw_in wsX140 [486, 487, 488, 489, 490, 491, 492, 493, 494, 495, 496] (by decide +kernel) (by decide +kernel)
theorem q71 : (Jvm.Cond.initialized "TwinPanel$Delay") ∈ lw_all := lw_g (lw_at lw_m1 20 rfl) rfl
theorem q205 : (Jvm.Cond.fieldLink "TwinPanel$Delay" (11 : Nat) "TwinPanel$Delay" "setting" "D") ∈ lw_all := lw_g (lw_at lw_m1 154 rfl) rfl
theorem q206 : (Jvm.Cond.sameField "TwinPanel$Delay" "TwinPanel$Module" "setting" "D") ∈ lw_all := lw_g (lw_at lw_m1 155 rfl) rfl
theorem q214 : (Jvm.Cond.fieldLink "TwinPanel$Delay" (25 : Nat) "TwinPanel$Delay" "start" "D") ∈ lw_all := lw_g (lw_at lw_m1 163 rfl) rfl
theorem q215 : (Jvm.Cond.sameField "TwinPanel$Delay" "TwinPanel$Module" "start" "D") ∈ lw_all := lw_g (lw_at lw_m1 164 rfl) rfl
theorem q296 : (Jvm.Cond.fieldLink "TwinPanel$Delay" (49 : Nat) "TwinPanel$Delay" "wideState" "D") ∈ lw_all := lw_g (lw_at lw_m2 5 rfl) rfl
theorem q297 : (Jvm.Cond.sameField "TwinPanel$Delay" "TwinPanel$Keeper" "wideState" "D") ∈ lw_all := lw_g (lw_at lw_m2 6 rfl) rfl
theorem q305 : (Jvm.Cond.fieldLink "TwinPanel$Delay" (52 : Nat) "TwinPanel$Delay" "narrowState" "F") ∈ lw_all := lw_g (lw_at lw_m2 14 rfl) rfl
theorem q306 : (Jvm.Cond.sameField "TwinPanel$Delay" "TwinPanel$Keeper" "narrowState" "F") ∈ lw_all := lw_g (lw_at lw_m2 15 rfl) rfl
theorem q499 : (Jvm.Cond.instantiable "TwinPanel$Delay" (17 : Nat)) ∈ lw_all := lw_g (lw_at lw_m2 208 rfl) rfl
theorem q501 : (Jvm.Cond.instanceMethod ({ cls := "TwinPanel$Delay", name := "<init>", desc := "(ID)V" } : Jvm.MethodName)) ∈ lw_all := lw_g (lw_at lw_m2 210 rfl) rfl
theorem q502 : (Jvm.Cond.code ({ cls := "TwinPanel$Delay", name := "<init>", desc := "(ID)V" } : Jvm.MethodName) prog_3_method_1_code (4 : Nat) (Option.none : Option Jvm.ClassFile.FieldType)) ∈ lw_all := lw_g (lw_at lw_m2 211 rfl) rfl
theorem q503 : (Jvm.Cond.methodLink "TwinPanel$Delay" (1 : Nat) ({ cls := "TwinPanel$Keeper", name := "<init>", desc := "(ID)V" } : Jvm.MethodName)) ∈ lw_all := lw_g (lw_at lw_m2 212 rfl) rfl
theorem q504 : (Jvm.Cond.fieldLink "TwinPanel$Delay" (17 : Nat) "TwinPanel$Delay" "wides" "[D") ∈ lw_all := lw_g (lw_at lw_m2 213 rfl) rfl
theorem q505 : (Jvm.Cond.fieldLink "TwinPanel$Delay" (21 : Nat) "TwinPanel$Delay" "narrows" "[F") ∈ lw_all := lw_g (lw_at lw_m2 214 rfl) rfl
theorem q506 : (Jvm.Cond.fieldLink "TwinPanel$Delay" (32 : Nat) "TwinPanel$Delay" "wideNext" "D") ∈ lw_all := lw_g (lw_at lw_m2 215 rfl) rfl
theorem q507 : (Jvm.Cond.fieldLink "TwinPanel$Delay" (39 : Nat) "TwinPanel$Delay" "narrowNext" "F") ∈ lw_all := lw_g (lw_at lw_m2 216 rfl) rfl
theorem q508 : (Jvm.Cond.lays "TwinPanel$Delay" "TwinPanel$Delay" "wides" "[D") ∈ lw_all := lw_g (lw_at lw_m2 217 rfl) rfl
theorem q509 : (Jvm.Cond.soleField "TwinPanel$Delay" "wides") ∈ lw_all := lw_g (lw_at lw_m2 218 rfl) rfl
theorem q510 : (Jvm.Cond.lays "TwinPanel$Delay" "TwinPanel$Delay" "narrows" "[F") ∈ lw_all := lw_g (lw_at lw_m2 219 rfl) rfl
theorem q511 : (Jvm.Cond.soleField "TwinPanel$Delay" "narrows") ∈ lw_all := lw_g (lw_at lw_m2 220 rfl) rfl
theorem q512 : (Jvm.Cond.lays "TwinPanel$Delay" "TwinPanel$Delay" "wideNext" "D") ∈ lw_all := lw_g (lw_at lw_m2 221 rfl) rfl
theorem q513 : (Jvm.Cond.soleField "TwinPanel$Delay" "wideNext") ∈ lw_all := lw_g (lw_at lw_m2 222 rfl) rfl
theorem q514 : (Jvm.Cond.lays "TwinPanel$Delay" "TwinPanel$Delay" "narrowNext" "F") ∈ lw_all := lw_g (lw_at lw_m2 223 rfl) rfl
theorem q515 : (Jvm.Cond.soleField "TwinPanel$Delay" "narrowNext") ∈ lw_all := lw_g (lw_at lw_m2 224 rfl) rfl
theorem q516 : (Jvm.Cond.lays "TwinPanel$Delay" "TwinPanel$Keeper" "wideState" "D") ∈ lw_all := lw_g (lw_at lw_m2 225 rfl) rfl
theorem q517 : (Jvm.Cond.lays "TwinPanel$Delay" "TwinPanel$Keeper" "narrowState" "F") ∈ lw_all := lw_g (lw_at lw_m2 226 rfl) rfl
theorem q518 : (Jvm.Cond.laysFinal "TwinPanel$Delay" "TwinPanel$Module" "kind" "I") ∈ lw_all := lw_g (lw_at lw_m2 227 rfl) rfl
theorem q519 : (Jvm.Cond.lays "TwinPanel$Delay" "TwinPanel$Module" "setting" "D") ∈ lw_all := lw_g (lw_at lw_m2 228 rfl) rfl
theorem q520 : (Jvm.Cond.lays "TwinPanel$Delay" "TwinPanel$Module" "start" "D") ∈ lw_all := lw_g (lw_at lw_m2 229 rfl) rfl
theorem q521 : (Jvm.Cond.laysFinal "TwinPanel$Delay" "TwinPanel$Module" "from" "[LTwinPanel$Module;") ∈ lw_all := lw_g (lw_at lw_m2 230 rfl) rfl
theorem q522 : (Jvm.Cond.laysFinal "TwinPanel$Delay" "TwinPanel$Module" "number" "[I") ∈ lw_all := lw_g (lw_at lw_m2 231 rfl) rfl
theorem q523 : (Jvm.Cond.laysFinal "TwinPanel$Delay" "TwinPanel$Module" "turned" "[Z") ∈ lw_all := lw_g (lw_at lw_m2 232 rfl) rfl
theorem q524 : (Jvm.Cond.lays "TwinPanel$Delay" "TwinPanel$Module" "wide" "D") ∈ lw_all := lw_g (lw_at lw_m2 233 rfl) rfl
theorem q525 : (Jvm.Cond.lays "TwinPanel$Delay" "TwinPanel$Module" "narrow" "F") ∈ lw_all := lw_g (lw_at lw_m2 234 rfl) rfl
theorem q526 : (Jvm.Cond.lays "TwinPanel$Delay" "TwinPanel$Module" "lamp" "I") ∈ lw_all := lw_g (lw_at lw_m2 235 rfl) rfl
theorem q527 : (Jvm.Cond.lays "TwinPanel$Delay" "TwinPanel$Module" "apart" "D") ∈ lw_all := lw_g (lw_at lw_m2 236 rfl) rfl
theorem q528 : (Jvm.Cond.lays "TwinPanel$Delay" "TwinPanel$Module" "failsAt" "I") ∈ lw_all := lw_g (lw_at lw_m2 237 rfl) rfl
theorem q529 : (Jvm.Cond.superclass "TwinPanel$Delay" "TwinPanel$Keeper") ∈ lw_all := lw_g (lw_at lw_m2 238 rfl) rfl
theorem q592 : (Jvm.Cond.selects "TwinPanel$Delay" ({ cls := "TwinPanel$Module", name := "remembers", desc := "()Z" } : Jvm.MethodName) ({ cls := "TwinPanel$Keeper", name := "remembers", desc := "()Z" } : Jvm.MethodName)) ∈ lw_all := lw_g (lw_at lw_m3 61 rfl) rfl
theorem q634 : (Jvm.Cond.selects "TwinPanel$Delay" ({ cls := "TwinPanel$Module", name := "needs", desc := "()I" } : Jvm.MethodName) ({ cls := "TwinPanel$Module", name := "needs", desc := "()I" } : Jvm.MethodName)) ∈ lw_all := lw_g (lw_at lw_m3 103 rfl) rfl
theorem q693 : (Jvm.Cond.selects "TwinPanel$Delay" ({ cls := "TwinPanel$Module", name := "begin", desc := "()V" } : Jvm.MethodName) ({ cls := "TwinPanel$Delay", name := "begin", desc := "()V" } : Jvm.MethodName)) ∈ lw_all := lw_g (lw_at lw_m3 162 rfl) rfl
theorem q694 : (Jvm.Cond.instanceMethod ({ cls := "TwinPanel$Delay", name := "begin", desc := "()V" } : Jvm.MethodName)) ∈ lw_all := lw_g (lw_at lw_m3 163 rfl) rfl
theorem q695 : (Jvm.Cond.code ({ cls := "TwinPanel$Delay", name := "begin", desc := "()V" } : Jvm.MethodName) prog_3_method_2_code (3 : Nat) (Option.none : Option Jvm.ClassFile.FieldType)) ∈ lw_all := lw_g (lw_at lw_m3 164 rfl) rfl
theorem q696 : (Jvm.Cond.methodLink "TwinPanel$Delay" (7 : Nat) ({ cls := "TwinPanel$Keeper", name := "begin", desc := "()V" } : Jvm.MethodName)) ∈ lw_all := lw_g (lw_at lw_m3 165 rfl) rfl
theorem q725 : (Jvm.Cond.selects "TwinPanel$Delay" ({ cls := "TwinPanel$Module", name := "read", desc := "(I)V" } : Jvm.MethodName) ({ cls := "TwinPanel$Module", name := "read", desc := "(I)V" } : Jvm.MethodName)) ∈ lw_all := lw_g (lw_at lw_m3 194 rfl) rfl
theorem q752 : (Jvm.Cond.selects "TwinPanel$Delay" ({ cls := "TwinPanel$Module", name := "wideOut", desc := "(I)D" } : Jvm.MethodName) ({ cls := "TwinPanel$Keeper", name := "wideOut", desc := "(I)D" } : Jvm.MethodName)) ∈ lw_all := lw_g (lw_at lw_m3 221 rfl) rfl
theorem q865 : (Jvm.Cond.selects "TwinPanel$Delay" ({ cls := "TwinPanel$Module", name := "afterWide", desc := "(DI)D" } : Jvm.MethodName) ({ cls := "TwinPanel$Module", name := "afterWide", desc := "(DI)D" } : Jvm.MethodName)) ∈ lw_all := lw_g (lw_at lw_m4 94 rfl) rfl
theorem q895 : (Jvm.Cond.selects "TwinPanel$Delay" ({ cls := "TwinPanel$Module", name := "narrowOut", desc := "(I)F" } : Jvm.MethodName) ({ cls := "TwinPanel$Keeper", name := "narrowOut", desc := "(I)F" } : Jvm.MethodName)) ∈ lw_all := lw_g (lw_at lw_m4 124 rfl) rfl
theorem q965 : (Jvm.Cond.selects "TwinPanel$Delay" ({ cls := "TwinPanel$Module", name := "afterNarrow", desc := "(FI)F" } : Jvm.MethodName) ({ cls := "TwinPanel$Module", name := "afterNarrow", desc := "(FI)F" } : Jvm.MethodName)) ∈ lw_all := lw_g (lw_at lw_m4 194 rfl) rfl
theorem q985 : (Jvm.Cond.selects "TwinPanel$Delay" ({ cls := "TwinPanel$Module", name := "compare", desc := "()V" } : Jvm.MethodName) ({ cls := "TwinPanel$Module", name := "compare", desc := "()V" } : Jvm.MethodName)) ∈ lw_all := lw_g (lw_at lw_m4 214 rfl) rfl
theorem q1034 : (Jvm.Cond.selects "TwinPanel$Delay" ({ cls := "TwinPanel$Module", name := "take", desc := "()V" } : Jvm.MethodName) ({ cls := "TwinPanel$Delay", name := "take", desc := "()V" } : Jvm.MethodName)) ∈ lw_all := lw_g (lw_at lw_m5 23 rfl) rfl
theorem q1035 : (Jvm.Cond.instanceMethod ({ cls := "TwinPanel$Delay", name := "take", desc := "()V" } : Jvm.MethodName)) ∈ lw_all := lw_g (lw_at lw_m5 24 rfl) rfl
theorem q1036 : (Jvm.Cond.code ({ cls := "TwinPanel$Delay", name := "take", desc := "()V" } : Jvm.MethodName) prog_3_method_3_code (1 : Nat) (Option.none : Option Jvm.ClassFile.FieldType)) ∈ lw_all := lw_g (lw_at lw_m5 25 rfl) rfl
theorem q1037 : (Jvm.Cond.methodLink "TwinPanel$Delay" (28 : Nat) ({ cls := "TwinPanel$Delay", name := "wideIn", desc := "(I)D" } : Jvm.MethodName)) ∈ lw_all := lw_g (lw_at lw_m5 26 rfl) rfl
theorem q1038 : (Jvm.Cond.sameMethod "TwinPanel$Delay" "TwinPanel$Module" "wideIn" "(I)D") ∈ lw_all := lw_g (lw_at lw_m5 27 rfl) rfl
theorem q1039 : (Jvm.Cond.selects "TwinPanel$Delay" ({ cls := "TwinPanel$Delay", name := "wideIn", desc := "(I)D" } : Jvm.MethodName) ({ cls := "TwinPanel$Module", name := "wideIn", desc := "(I)D" } : Jvm.MethodName)) ∈ lw_all := lw_g (lw_at lw_m5 28 rfl) rfl
theorem q1040 : (Jvm.Cond.methodLink "TwinPanel$Delay" (35 : Nat) ({ cls := "TwinPanel$Delay", name := "narrowIn", desc := "(I)F" } : Jvm.MethodName)) ∈ lw_all := lw_g (lw_at lw_m5 29 rfl) rfl
theorem q1041 : (Jvm.Cond.sameMethod "TwinPanel$Delay" "TwinPanel$Module" "narrowIn" "(I)F") ∈ lw_all := lw_g (lw_at lw_m5 30 rfl) rfl
theorem q1042 : (Jvm.Cond.selects "TwinPanel$Delay" ({ cls := "TwinPanel$Delay", name := "narrowIn", desc := "(I)F" } : Jvm.MethodName) ({ cls := "TwinPanel$Module", name := "narrowIn", desc := "(I)F" } : Jvm.MethodName)) ∈ lw_all := lw_g (lw_at lw_m5 31 rfl) rfl
theorem q1113 : (Jvm.Cond.selects "TwinPanel$Delay" ({ cls := "TwinPanel$Module", name := "become", desc := "()V" } : Jvm.MethodName) ({ cls := "TwinPanel$Delay", name := "become", desc := "()V" } : Jvm.MethodName)) ∈ lw_all := lw_g (lw_at lw_m5 102 rfl) rfl
theorem q1114 : (Jvm.Cond.instanceMethod ({ cls := "TwinPanel$Delay", name := "become", desc := "()V" } : Jvm.MethodName)) ∈ lw_all := lw_g (lw_at lw_m5 103 rfl) rfl
theorem q1115 : (Jvm.Cond.code ({ cls := "TwinPanel$Delay", name := "become", desc := "()V" } : Jvm.MethodName) prog_3_method_4_code (2 : Nat) (Option.none : Option Jvm.ClassFile.FieldType)) ∈ lw_all := lw_g (lw_at lw_m5 104 rfl) rfl
theorem q1116 : (Jvm.Cond.methodLink "TwinPanel$Delay" (43 : Nat) ({ cls := "java/lang/System", name := "arraycopy", desc := "(Ljava/lang/Object;ILjava/lang/Object;II)V" } : Jvm.MethodName)) ∈ lw_all := lw_g (lw_at lw_m5 105 rfl) rfl
theorem q1752 : (Jvm.Cond.selects "TwinPanel$Delay" ({ cls := "TwinPanel$Module", name := "wideIn", desc := "(I)D" } : Jvm.MethodName) ({ cls := "TwinPanel$Module", name := "wideIn", desc := "(I)D" } : Jvm.MethodName)) ∈ lw_all := lw_g (lw_at lw_m8 21 rfl) rfl
theorem q1767 : (Jvm.Cond.selects "TwinPanel$Delay" ({ cls := "TwinPanel$Module", name := "light", desc := "(I)V" } : Jvm.MethodName) ({ cls := "TwinPanel$Module", name := "light", desc := "(I)V" } : Jvm.MethodName)) ∈ lw_all := lw_g (lw_at lw_m8 36 rfl) rfl
theorem q1782 : (Jvm.Cond.selects "TwinPanel$Delay" ({ cls := "TwinPanel$Module", name := "narrowIn", desc := "(I)F" } : Jvm.MethodName) ({ cls := "TwinPanel$Module", name := "narrowIn", desc := "(I)F" } : Jvm.MethodName)) ∈ lw_all := lw_g (lw_at lw_m8 51 rfl) rfl
theorem q1797 : (Jvm.Cond.selects "TwinPanel$Delay" ({ cls := "TwinPanel$Module", name := "wideSum", desc := "()D" } : Jvm.MethodName) ({ cls := "TwinPanel$Module", name := "wideSum", desc := "()D" } : Jvm.MethodName)) ∈ lw_all := lw_g (lw_at lw_m8 66 rfl) rfl
theorem q1821 : (Jvm.Cond.castable "TwinPanel$Delay" "TwinPanel$Module") ∈ lw_tbl := lw_at lw_m8 90 rfl
theorem in_X15 : ∀ w ∈ wsX150, w ∈ lw_all := lw_in wsX150 [518, 519, 520, 521, 522, 523, 524, 525, 526, 527, 528, 516, 517, 508, 510, 512, 514] (by decide +kernel) (by decide +kernel)
theorem q72 : (Jvm.Cond.initialized "TwinPanel$Limit") ∈ lw_all := lw_g (lw_at lw_m1 21 rfl) rfl
theorem q209 : (Jvm.Cond.fieldLink "TwinPanel$Limit" (13 : Nat) "TwinPanel$Limit" "setting" "D") ∈ lw_all := lw_g (lw_at lw_m1 158 rfl) rfl
theorem q210 : (Jvm.Cond.sameField "TwinPanel$Limit" "TwinPanel$Module" "setting" "D") ∈ lw_all := lw_g (lw_at lw_m1 159 rfl) rfl
theorem q531 : (Jvm.Cond.instantiable "TwinPanel$Limit" (11 : Nat)) ∈ lw_all := lw_g (lw_at lw_m3 0 rfl) rfl
theorem q533 : (Jvm.Cond.instanceMethod ({ cls := "TwinPanel$Limit", name := "<init>", desc := "(ID)V" } : Jvm.MethodName)) ∈ lw_all := lw_g (lw_at lw_m3 2 rfl) rfl
theorem q534 : (Jvm.Cond.code ({ cls := "TwinPanel$Limit", name := "<init>", desc := "(ID)V" } : Jvm.MethodName) prog_6_method_1_code (4 : Nat) (Option.none : Option Jvm.ClassFile.FieldType)) ∈ lw_all := lw_g (lw_at lw_m3 3 rfl) rfl
theorem q535 : (Jvm.Cond.methodLink "TwinPanel$Limit" (1 : Nat) ({ cls := "TwinPanel$Module", name := "<init>", desc := "(ID)V" } : Jvm.MethodName)) ∈ lw_all := lw_g (lw_at lw_m3 4 rfl) rfl
theorem q536 : (Jvm.Cond.laysFinal "TwinPanel$Limit" "TwinPanel$Module" "kind" "I") ∈ lw_all := lw_g (lw_at lw_m3 5 rfl) rfl
theorem q537 : (Jvm.Cond.lays "TwinPanel$Limit" "TwinPanel$Module" "setting" "D") ∈ lw_all := lw_g (lw_at lw_m3 6 rfl) rfl
theorem q538 : (Jvm.Cond.lays "TwinPanel$Limit" "TwinPanel$Module" "start" "D") ∈ lw_all := lw_g (lw_at lw_m3 7 rfl) rfl
theorem q539 : (Jvm.Cond.laysFinal "TwinPanel$Limit" "TwinPanel$Module" "from" "[LTwinPanel$Module;") ∈ lw_all := lw_g (lw_at lw_m3 8 rfl) rfl
theorem q540 : (Jvm.Cond.laysFinal "TwinPanel$Limit" "TwinPanel$Module" "number" "[I") ∈ lw_all := lw_g (lw_at lw_m3 9 rfl) rfl
theorem q541 : (Jvm.Cond.laysFinal "TwinPanel$Limit" "TwinPanel$Module" "turned" "[Z") ∈ lw_all := lw_g (lw_at lw_m3 10 rfl) rfl
theorem q542 : (Jvm.Cond.lays "TwinPanel$Limit" "TwinPanel$Module" "wide" "D") ∈ lw_all := lw_g (lw_at lw_m3 11 rfl) rfl
theorem q543 : (Jvm.Cond.lays "TwinPanel$Limit" "TwinPanel$Module" "narrow" "F") ∈ lw_all := lw_g (lw_at lw_m3 12 rfl) rfl
theorem q544 : (Jvm.Cond.lays "TwinPanel$Limit" "TwinPanel$Module" "lamp" "I") ∈ lw_all := lw_g (lw_at lw_m3 13 rfl) rfl
theorem q545 : (Jvm.Cond.lays "TwinPanel$Limit" "TwinPanel$Module" "apart" "D") ∈ lw_all := lw_g (lw_at lw_m3 14 rfl) rfl
theorem q546 : (Jvm.Cond.lays "TwinPanel$Limit" "TwinPanel$Module" "failsAt" "I") ∈ lw_all := lw_g (lw_at lw_m3 15 rfl) rfl
theorem q547 : (Jvm.Cond.superclass "TwinPanel$Limit" "TwinPanel$Module") ∈ lw_all := lw_g (lw_at lw_m3 16 rfl) rfl
theorem q596 : (Jvm.Cond.selects "TwinPanel$Limit" ({ cls := "TwinPanel$Module", name := "remembers", desc := "()Z" } : Jvm.MethodName) ({ cls := "TwinPanel$Module", name := "remembers", desc := "()Z" } : Jvm.MethodName)) ∈ lw_all := lw_g (lw_at lw_m3 65 rfl) rfl
theorem q636 : (Jvm.Cond.selects "TwinPanel$Limit" ({ cls := "TwinPanel$Module", name := "needs", desc := "()I" } : Jvm.MethodName) ({ cls := "TwinPanel$Module", name := "needs", desc := "()I" } : Jvm.MethodName)) ∈ lw_all := lw_g (lw_at lw_m3 105 rfl) rfl
theorem q702 : (Jvm.Cond.selects "TwinPanel$Limit" ({ cls := "TwinPanel$Module", name := "begin", desc := "()V" } : Jvm.MethodName) ({ cls := "TwinPanel$Module", name := "begin", desc := "()V" } : Jvm.MethodName)) ∈ lw_all := lw_g (lw_at lw_m3 171 rfl) rfl
theorem q727 : (Jvm.Cond.selects "TwinPanel$Limit" ({ cls := "TwinPanel$Module", name := "read", desc := "(I)V" } : Jvm.MethodName) ({ cls := "TwinPanel$Module", name := "read", desc := "(I)V" } : Jvm.MethodName)) ∈ lw_all := lw_g (lw_at lw_m3 196 rfl) rfl
theorem q756 : (Jvm.Cond.selects "TwinPanel$Limit" ({ cls := "TwinPanel$Module", name := "wideOut", desc := "(I)D" } : Jvm.MethodName) ({ cls := "TwinPanel$Limit", name := "wideOut", desc := "(I)D" } : Jvm.MethodName)) ∈ lw_all := lw_g (lw_at lw_m3 225 rfl) rfl
theorem q757 : (Jvm.Cond.instanceMethod ({ cls := "TwinPanel$Limit", name := "wideOut", desc := "(I)D" } : Jvm.MethodName)) ∈ lw_all := lw_g (lw_at lw_m3 226 rfl) rfl
theorem q758 : (Jvm.Cond.code ({ cls := "TwinPanel$Limit", name := "wideOut", desc := "(I)D" } : Jvm.MethodName) prog_6_method_2_code (4 : Nat) (Option.some Jvm.ClassFile.FieldType.double)) ∈ lw_all := lw_g (lw_at lw_m3 227 rfl) rfl
theorem q759 : (Jvm.Cond.methodLink "TwinPanel$Limit" (7 : Nat) ({ cls := "TwinPanel$Limit", name := "wideIn", desc := "(I)D" } : Jvm.MethodName)) ∈ lw_all := lw_g (lw_at lw_m3 228 rfl) rfl
theorem q760 : (Jvm.Cond.sameMethod "TwinPanel$Limit" "TwinPanel$Module" "wideIn" "(I)D") ∈ lw_all := lw_g (lw_at lw_m3 229 rfl) rfl
theorem q761 : (Jvm.Cond.selects "TwinPanel$Limit" ({ cls := "TwinPanel$Limit", name := "wideIn", desc := "(I)D" } : Jvm.MethodName) ({ cls := "TwinPanel$Module", name := "wideIn", desc := "(I)D" } : Jvm.MethodName)) ∈ lw_all := lw_g (lw_at lw_m3 230 rfl) rfl
theorem q867 : (Jvm.Cond.selects "TwinPanel$Limit" ({ cls := "TwinPanel$Module", name := "afterWide", desc := "(DI)D" } : Jvm.MethodName) ({ cls := "TwinPanel$Module", name := "afterWide", desc := "(DI)D" } : Jvm.MethodName)) ∈ lw_all := lw_g (lw_at lw_m4 96 rfl) rfl
theorem q899 : (Jvm.Cond.selects "TwinPanel$Limit" ({ cls := "TwinPanel$Module", name := "narrowOut", desc := "(I)F" } : Jvm.MethodName) ({ cls := "TwinPanel$Limit", name := "narrowOut", desc := "(I)F" } : Jvm.MethodName)) ∈ lw_all := lw_g (lw_at lw_m4 128 rfl) rfl
theorem q900 : (Jvm.Cond.instanceMethod ({ cls := "TwinPanel$Limit", name := "narrowOut", desc := "(I)F" } : Jvm.MethodName)) ∈ lw_all := lw_g (lw_at lw_m4 129 rfl) rfl
theorem q901 : (Jvm.Cond.code ({ cls := "TwinPanel$Limit", name := "narrowOut", desc := "(I)F" } : Jvm.MethodName) prog_6_method_3_code (4 : Nat) (Option.some Jvm.ClassFile.FieldType.float)) ∈ lw_all := lw_g (lw_at lw_m4 130 rfl) rfl
theorem q902 : (Jvm.Cond.methodLink "TwinPanel$Limit" (17 : Nat) ({ cls := "TwinPanel$Limit", name := "narrowIn", desc := "(I)F" } : Jvm.MethodName)) ∈ lw_all := lw_g (lw_at lw_m4 131 rfl) rfl
theorem q903 : (Jvm.Cond.sameMethod "TwinPanel$Limit" "TwinPanel$Module" "narrowIn" "(I)F") ∈ lw_all := lw_g (lw_at lw_m4 132 rfl) rfl
theorem q904 : (Jvm.Cond.selects "TwinPanel$Limit" ({ cls := "TwinPanel$Limit", name := "narrowIn", desc := "(I)F" } : Jvm.MethodName) ({ cls := "TwinPanel$Module", name := "narrowIn", desc := "(I)F" } : Jvm.MethodName)) ∈ lw_all := lw_g (lw_at lw_m4 133 rfl) rfl
theorem q967 : (Jvm.Cond.selects "TwinPanel$Limit" ({ cls := "TwinPanel$Module", name := "afterNarrow", desc := "(FI)F" } : Jvm.MethodName) ({ cls := "TwinPanel$Module", name := "afterNarrow", desc := "(FI)F" } : Jvm.MethodName)) ∈ lw_all := lw_g (lw_at lw_m4 196 rfl) rfl
theorem q987 : (Jvm.Cond.selects "TwinPanel$Limit" ({ cls := "TwinPanel$Module", name := "compare", desc := "()V" } : Jvm.MethodName) ({ cls := "TwinPanel$Module", name := "compare", desc := "()V" } : Jvm.MethodName)) ∈ lw_all := lw_g (lw_at lw_m4 216 rfl) rfl
theorem q1044 : (Jvm.Cond.selects "TwinPanel$Limit" ({ cls := "TwinPanel$Module", name := "take", desc := "()V" } : Jvm.MethodName) ({ cls := "TwinPanel$Module", name := "take", desc := "()V" } : Jvm.MethodName)) ∈ lw_all := lw_g (lw_at lw_m5 33 rfl) rfl
theorem q1120 : (Jvm.Cond.selects "TwinPanel$Limit" ({ cls := "TwinPanel$Module", name := "become", desc := "()V" } : Jvm.MethodName) ({ cls := "TwinPanel$Module", name := "become", desc := "()V" } : Jvm.MethodName)) ∈ lw_all := lw_g (lw_at lw_m5 109 rfl) rfl
theorem q1754 : (Jvm.Cond.selects "TwinPanel$Limit" ({ cls := "TwinPanel$Module", name := "wideIn", desc := "(I)D" } : Jvm.MethodName) ({ cls := "TwinPanel$Module", name := "wideIn", desc := "(I)D" } : Jvm.MethodName)) ∈ lw_all := lw_g (lw_at lw_m8 23 rfl) rfl
theorem q1769 : (Jvm.Cond.selects "TwinPanel$Limit" ({ cls := "TwinPanel$Module", name := "light", desc := "(I)V" } : Jvm.MethodName) ({ cls := "TwinPanel$Module", name := "light", desc := "(I)V" } : Jvm.MethodName)) ∈ lw_all := lw_g (lw_at lw_m8 38 rfl) rfl
theorem q1784 : (Jvm.Cond.selects "TwinPanel$Limit" ({ cls := "TwinPanel$Module", name := "narrowIn", desc := "(I)F" } : Jvm.MethodName) ({ cls := "TwinPanel$Module", name := "narrowIn", desc := "(I)F" } : Jvm.MethodName)) ∈ lw_all := lw_g (lw_at lw_m8 53 rfl) rfl
theorem q1799 : (Jvm.Cond.selects "TwinPanel$Limit" ({ cls := "TwinPanel$Module", name := "wideSum", desc := "()D" } : Jvm.MethodName) ({ cls := "TwinPanel$Module", name := "wideSum", desc := "()D" } : Jvm.MethodName)) ∈ lw_all := lw_g (lw_at lw_m8 68 rfl) rfl
theorem q1822 : (Jvm.Cond.castable "TwinPanel$Limit" "TwinPanel$Module") ∈ lw_tbl := lw_at lw_m8 91 rfl
theorem in_X16 : ∀ w ∈ wsX160, w ∈ lw_all := lw_in wsX160 [536, 537, 538, 539, 540, 541, 542, 543, 544, 545, 546] (by decide +kernel) (by decide +kernel)
theorem q73 : (Jvm.Cond.initialized "TwinPanel$Noise") ∈ lw_all := lw_g (lw_at lw_m1 22 rfl) rfl
theorem q211 : (Jvm.Cond.fieldLink "TwinPanel$Noise" (11 : Nat) "TwinPanel$Noise" "setting" "D") ∈ lw_all := lw_g (lw_at lw_m1 160 rfl) rfl
theorem q212 : (Jvm.Cond.sameField "TwinPanel$Noise" "TwinPanel$Module" "setting" "D") ∈ lw_all := lw_g (lw_at lw_m1 161 rfl) rfl
theorem q294 : (Jvm.Cond.fieldLink "TwinPanel$Noise" (25 : Nat) "TwinPanel$Noise" "wideState" "D") ∈ lw_all := lw_g (lw_at lw_m2 3 rfl) rfl
theorem q295 : (Jvm.Cond.sameField "TwinPanel$Noise" "TwinPanel$Keeper" "wideState" "D") ∈ lw_all := lw_g (lw_at lw_m2 4 rfl) rfl
theorem q303 : (Jvm.Cond.fieldLink "TwinPanel$Noise" (28 : Nat) "TwinPanel$Noise" "narrowState" "F") ∈ lw_all := lw_g (lw_at lw_m2 12 rfl) rfl
theorem q304 : (Jvm.Cond.sameField "TwinPanel$Noise" "TwinPanel$Keeper" "narrowState" "F") ∈ lw_all := lw_g (lw_at lw_m2 13 rfl) rfl
theorem q549 : (Jvm.Cond.instantiable "TwinPanel$Noise" (14 : Nat)) ∈ lw_all := lw_g (lw_at lw_m3 18 rfl) rfl
theorem q551 : (Jvm.Cond.instanceMethod ({ cls := "TwinPanel$Noise", name := "<init>", desc := "(ID)V" } : Jvm.MethodName)) ∈ lw_all := lw_g (lw_at lw_m3 20 rfl) rfl
theorem q552 : (Jvm.Cond.code ({ cls := "TwinPanel$Noise", name := "<init>", desc := "(ID)V" } : Jvm.MethodName) prog_8_method_1_code (4 : Nat) (Option.none : Option Jvm.ClassFile.FieldType)) ∈ lw_all := lw_g (lw_at lw_m3 21 rfl) rfl
theorem q553 : (Jvm.Cond.methodLink "TwinPanel$Noise" (1 : Nat) ({ cls := "TwinPanel$Keeper", name := "<init>", desc := "(ID)V" } : Jvm.MethodName)) ∈ lw_all := lw_g (lw_at lw_m3 22 rfl) rfl
theorem q554 : (Jvm.Cond.fieldLink "TwinPanel$Noise" (17 : Nat) "TwinPanel$Noise" "seed" "I") ∈ lw_all := lw_g (lw_at lw_m3 23 rfl) rfl
theorem q555 : (Jvm.Cond.lays "TwinPanel$Noise" "TwinPanel$Noise" "seed" "I") ∈ lw_all := lw_g (lw_at lw_m3 24 rfl) rfl
theorem q556 : (Jvm.Cond.soleField "TwinPanel$Noise" "seed") ∈ lw_all := lw_g (lw_at lw_m3 25 rfl) rfl
theorem q557 : (Jvm.Cond.lays "TwinPanel$Noise" "TwinPanel$Keeper" "wideState" "D") ∈ lw_all := lw_g (lw_at lw_m3 26 rfl) rfl
theorem q558 : (Jvm.Cond.lays "TwinPanel$Noise" "TwinPanel$Keeper" "narrowState" "F") ∈ lw_all := lw_g (lw_at lw_m3 27 rfl) rfl
theorem q559 : (Jvm.Cond.laysFinal "TwinPanel$Noise" "TwinPanel$Module" "kind" "I") ∈ lw_all := lw_g (lw_at lw_m3 28 rfl) rfl
theorem q560 : (Jvm.Cond.lays "TwinPanel$Noise" "TwinPanel$Module" "setting" "D") ∈ lw_all := lw_g (lw_at lw_m3 29 rfl) rfl
theorem q561 : (Jvm.Cond.lays "TwinPanel$Noise" "TwinPanel$Module" "start" "D") ∈ lw_all := lw_g (lw_at lw_m3 30 rfl) rfl
theorem q562 : (Jvm.Cond.laysFinal "TwinPanel$Noise" "TwinPanel$Module" "from" "[LTwinPanel$Module;") ∈ lw_all := lw_g (lw_at lw_m3 31 rfl) rfl
theorem q563 : (Jvm.Cond.laysFinal "TwinPanel$Noise" "TwinPanel$Module" "number" "[I") ∈ lw_all := lw_g (lw_at lw_m3 32 rfl) rfl
theorem q564 : (Jvm.Cond.laysFinal "TwinPanel$Noise" "TwinPanel$Module" "turned" "[Z") ∈ lw_all := lw_g (lw_at lw_m3 33 rfl) rfl
theorem q565 : (Jvm.Cond.lays "TwinPanel$Noise" "TwinPanel$Module" "wide" "D") ∈ lw_all := lw_g (lw_at lw_m3 34 rfl) rfl
theorem q566 : (Jvm.Cond.lays "TwinPanel$Noise" "TwinPanel$Module" "narrow" "F") ∈ lw_all := lw_g (lw_at lw_m3 35 rfl) rfl
theorem q567 : (Jvm.Cond.lays "TwinPanel$Noise" "TwinPanel$Module" "lamp" "I") ∈ lw_all := lw_g (lw_at lw_m3 36 rfl) rfl
theorem q568 : (Jvm.Cond.lays "TwinPanel$Noise" "TwinPanel$Module" "apart" "D") ∈ lw_all := lw_g (lw_at lw_m3 37 rfl) rfl
theorem q569 : (Jvm.Cond.lays "TwinPanel$Noise" "TwinPanel$Module" "failsAt" "I") ∈ lw_all := lw_g (lw_at lw_m3 38 rfl) rfl
theorem q570 : (Jvm.Cond.superclass "TwinPanel$Noise" "TwinPanel$Keeper") ∈ lw_all := lw_g (lw_at lw_m3 39 rfl) rfl
theorem q597 : (Jvm.Cond.selects "TwinPanel$Noise" ({ cls := "TwinPanel$Module", name := "remembers", desc := "()Z" } : Jvm.MethodName) ({ cls := "TwinPanel$Keeper", name := "remembers", desc := "()Z" } : Jvm.MethodName)) ∈ lw_all := lw_g (lw_at lw_m3 66 rfl) rfl
theorem q637 : (Jvm.Cond.selects "TwinPanel$Noise" ({ cls := "TwinPanel$Module", name := "needs", desc := "()I" } : Jvm.MethodName) ({ cls := "TwinPanel$Noise", name := "needs", desc := "()I" } : Jvm.MethodName)) ∈ lw_all := lw_g (lw_at lw_m3 106 rfl) rfl
theorem q638 : (Jvm.Cond.instanceMethod ({ cls := "TwinPanel$Noise", name := "needs", desc := "()I" } : Jvm.MethodName)) ∈ lw_all := lw_g (lw_at lw_m3 107 rfl) rfl
theorem q639 : (Jvm.Cond.code ({ cls := "TwinPanel$Noise", name := "needs", desc := "()I" } : Jvm.MethodName) prog_8_method_2_code (1 : Nat) (Option.some Jvm.ClassFile.FieldType.int)) ∈ lw_all := lw_g (lw_at lw_m3 108 rfl) rfl
theorem q703 : (Jvm.Cond.selects "TwinPanel$Noise" ({ cls := "TwinPanel$Module", name := "begin", desc := "()V" } : Jvm.MethodName) ({ cls := "TwinPanel$Noise", name := "begin", desc := "()V" } : Jvm.MethodName)) ∈ lw_all := lw_g (lw_at lw_m3 172 rfl) rfl
theorem q704 : (Jvm.Cond.instanceMethod ({ cls := "TwinPanel$Noise", name := "begin", desc := "()V" } : Jvm.MethodName)) ∈ lw_all := lw_g (lw_at lw_m3 173 rfl) rfl
theorem q705 : (Jvm.Cond.code ({ cls := "TwinPanel$Noise", name := "begin", desc := "()V" } : Jvm.MethodName) prog_8_method_3_code (1 : Nat) (Option.none : Option Jvm.ClassFile.FieldType)) ∈ lw_all := lw_g (lw_at lw_m3 174 rfl) rfl
theorem q706 : (Jvm.Cond.methodLink "TwinPanel$Noise" (7 : Nat) ({ cls := "TwinPanel$Keeper", name := "begin", desc := "()V" } : Jvm.MethodName)) ∈ lw_all := lw_g (lw_at lw_m3 175 rfl) rfl
theorem q728 : (Jvm.Cond.selects "TwinPanel$Noise" ({ cls := "TwinPanel$Module", name := "read", desc := "(I)V" } : Jvm.MethodName) ({ cls := "TwinPanel$Module", name := "read", desc := "(I)V" } : Jvm.MethodName)) ∈ lw_all := lw_g (lw_at lw_m3 197 rfl) rfl
theorem q762 : (Jvm.Cond.selects "TwinPanel$Noise" ({ cls := "TwinPanel$Module", name := "wideOut", desc := "(I)D" } : Jvm.MethodName) ({ cls := "TwinPanel$Keeper", name := "wideOut", desc := "(I)D" } : Jvm.MethodName)) ∈ lw_all := lw_g (lw_at lw_m3 231 rfl) rfl
theorem q868 : (Jvm.Cond.selects "TwinPanel$Noise" ({ cls := "TwinPanel$Module", name := "afterWide", desc := "(DI)D" } : Jvm.MethodName) ({ cls := "TwinPanel$Module", name := "afterWide", desc := "(DI)D" } : Jvm.MethodName)) ∈ lw_all := lw_g (lw_at lw_m4 97 rfl) rfl
theorem q905 : (Jvm.Cond.selects "TwinPanel$Noise" ({ cls := "TwinPanel$Module", name := "narrowOut", desc := "(I)F" } : Jvm.MethodName) ({ cls := "TwinPanel$Keeper", name := "narrowOut", desc := "(I)F" } : Jvm.MethodName)) ∈ lw_all := lw_g (lw_at lw_m4 134 rfl) rfl
theorem q968 : (Jvm.Cond.selects "TwinPanel$Noise" ({ cls := "TwinPanel$Module", name := "afterNarrow", desc := "(FI)F" } : Jvm.MethodName) ({ cls := "TwinPanel$Module", name := "afterNarrow", desc := "(FI)F" } : Jvm.MethodName)) ∈ lw_all := lw_g (lw_at lw_m4 197 rfl) rfl
theorem q988 : (Jvm.Cond.selects "TwinPanel$Noise" ({ cls := "TwinPanel$Module", name := "compare", desc := "()V" } : Jvm.MethodName) ({ cls := "TwinPanel$Module", name := "compare", desc := "()V" } : Jvm.MethodName)) ∈ lw_all := lw_g (lw_at lw_m4 217 rfl) rfl
theorem q1045 : (Jvm.Cond.selects "TwinPanel$Noise" ({ cls := "TwinPanel$Module", name := "take", desc := "()V" } : Jvm.MethodName) ({ cls := "TwinPanel$Module", name := "take", desc := "()V" } : Jvm.MethodName)) ∈ lw_all := lw_g (lw_at lw_m5 34 rfl) rfl
theorem q1121 : (Jvm.Cond.selects "TwinPanel$Noise" ({ cls := "TwinPanel$Module", name := "become", desc := "()V" } : Jvm.MethodName) ({ cls := "TwinPanel$Noise", name := "become", desc := "()V" } : Jvm.MethodName)) ∈ lw_all := lw_g (lw_at lw_m5 110 rfl) rfl
theorem q1122 : (Jvm.Cond.instanceMethod ({ cls := "TwinPanel$Noise", name := "become", desc := "()V" } : Jvm.MethodName)) ∈ lw_all := lw_g (lw_at lw_m5 111 rfl) rfl
theorem q1123 : (Jvm.Cond.code ({ cls := "TwinPanel$Noise", name := "become", desc := "()V" } : Jvm.MethodName) prog_8_method_4_code (1 : Nat) (Option.none : Option Jvm.ClassFile.FieldType)) ∈ lw_all := lw_g (lw_at lw_m5 112 rfl) rfl
theorem q1124 : (Jvm.Cond.constant "TwinPanel$Noise" (21 : Nat) (1664525 : Int32)) ∈ lw_all := lw_g (lw_at lw_m5 113 rfl) rfl
theorem q1125 : (Jvm.Cond.constant "TwinPanel$Noise" (22 : Nat) (1013904223 : Int32)) ∈ lw_all := lw_g (lw_at lw_m5 114 rfl) rfl
theorem q1126 : (Jvm.Cond.constantDouble "TwinPanel$Noise" (23 : Nat) (4746794007248502784 : UInt64)) ∈ lw_all := lw_g (lw_at lw_m5 115 rfl) rfl
theorem q1755 : (Jvm.Cond.selects "TwinPanel$Noise" ({ cls := "TwinPanel$Module", name := "wideIn", desc := "(I)D" } : Jvm.MethodName) ({ cls := "TwinPanel$Module", name := "wideIn", desc := "(I)D" } : Jvm.MethodName)) ∈ lw_all := lw_g (lw_at lw_m8 24 rfl) rfl
theorem q1770 : (Jvm.Cond.selects "TwinPanel$Noise" ({ cls := "TwinPanel$Module", name := "light", desc := "(I)V" } : Jvm.MethodName) ({ cls := "TwinPanel$Module", name := "light", desc := "(I)V" } : Jvm.MethodName)) ∈ lw_all := lw_g (lw_at lw_m8 39 rfl) rfl
theorem q1785 : (Jvm.Cond.selects "TwinPanel$Noise" ({ cls := "TwinPanel$Module", name := "narrowIn", desc := "(I)F" } : Jvm.MethodName) ({ cls := "TwinPanel$Module", name := "narrowIn", desc := "(I)F" } : Jvm.MethodName)) ∈ lw_all := lw_g (lw_at lw_m8 54 rfl) rfl
theorem q1800 : (Jvm.Cond.selects "TwinPanel$Noise" ({ cls := "TwinPanel$Module", name := "wideSum", desc := "()D" } : Jvm.MethodName) ({ cls := "TwinPanel$Module", name := "wideSum", desc := "()D" } : Jvm.MethodName)) ∈ lw_all := lw_g (lw_at lw_m8 69 rfl) rfl
theorem q1823 : (Jvm.Cond.castable "TwinPanel$Noise" "TwinPanel$Module") ∈ lw_tbl := lw_at lw_m8 92 rfl
theorem in_X17 : ∀ w ∈ wsX170, w ∈ lw_all := lw_in wsX170 [559, 560, 561, 562, 563, 564, 565, 566, 567, 568, 569, 557, 558, 555] (by decide +kernel) (by decide +kernel)
theorem q55 : (Jvm.Cond.initialized "java/lang/Double") ∈ lw_all := lw_g (lw_at lw_m1 4 rfl) rfl
theorem q165 : (Jvm.Cond.static ({ cls := "java/lang/Double", name := "longBitsToDouble", desc := "(J)D" } : Jvm.MethodName)) ∈ lw_all := lw_g (lw_at lw_m1 114 rfl) rfl
theorem q166 : (Jvm.Cond.native ({ cls := "java/lang/Double", name := "longBitsToDouble", desc := "(J)D" } : Jvm.MethodName)) ∈ lw_all := lw_g (lw_at lw_m1 115 rfl) rfl
theorem q179 : (Jvm.Cond.static ({ cls := "java/lang/Double", name := "doubleToRawLongBits", desc := "(D)J" } : Jvm.MethodName)) ∈ lw_all := lw_g (lw_at lw_m1 128 rfl) rfl
theorem q180 : (Jvm.Cond.native ({ cls := "java/lang/Double", name := "doubleToRawLongBits", desc := "(D)J" } : Jvm.MethodName)) ∈ lw_all := lw_g (lw_at lw_m1 129 rfl) rfl
theorem q1156 : (Jvm.Cond.static ({ cls := "java/lang/Double", name := "doubleToLongBits", desc := "(D)J" } : Jvm.MethodName)) ∈ lw_all := lw_g (lw_at lw_m5 145 rfl) rfl
theorem q1157 : (Jvm.Cond.code ({ cls := "java/lang/Double", name := "doubleToLongBits", desc := "(D)J" } : Jvm.MethodName) prog_20_method_23_code (2 : Nat) (Option.some Jvm.ClassFile.FieldType.long)) ∈ lw_all := lw_g (lw_at lw_m5 146 rfl) rfl
theorem q1158 : (Jvm.Cond.methodLink "java/lang/Double" (122 : Nat) ({ cls := "java/lang/Double", name := "isNaN", desc := "(D)Z" } : Jvm.MethodName)) ∈ lw_all := lw_g (lw_at lw_m5 147 rfl) rfl
theorem q1159 : (Jvm.Cond.static ({ cls := "java/lang/Double", name := "isNaN", desc := "(D)Z" } : Jvm.MethodName)) ∈ lw_all := lw_g (lw_at lw_m5 148 rfl) rfl
theorem q1160 : (Jvm.Cond.code ({ cls := "java/lang/Double", name := "isNaN", desc := "(D)Z" } : Jvm.MethodName) prog_20_method_6_code (2 : Nat) (Option.some Jvm.ClassFile.FieldType.boolean)) ∈ lw_all := lw_g (lw_at lw_m5 149 rfl) rfl
theorem q1161 : (Jvm.Cond.methodLink "java/lang/Double" (134 : Nat) ({ cls := "java/lang/Double", name := "doubleToRawLongBits", desc := "(D)J" } : Jvm.MethodName)) ∈ lw_all := lw_g (lw_at lw_m5 150 rfl) rfl
theorem q1162 : (Jvm.Cond.constantLong "java/lang/Double" (137 : Nat) (9221120237041090560 : Int64)) ∈ lw_all := lw_g (lw_at lw_m5 151 rfl) rfl
theorem q56 : (Jvm.Cond.initialized "java/lang/Math") ∈ lw_all := lw_g (lw_at lw_m1 5 rfl) rfl
theorem q169 : (Jvm.Cond.static ({ cls := "java/lang/Math", name := "rint", desc := "(D)D" } : Jvm.MethodName)) ∈ lw_all := lw_g (lw_at lw_m1 118 rfl) rfl
theorem q170 : (Jvm.Cond.code ({ cls := "java/lang/Math", name := "rint", desc := "(D)D" } : Jvm.MethodName) prog_25_method_18_code (2 : Nat) (Option.some Jvm.ClassFile.FieldType.double)) ∈ lw_all := lw_g (lw_at lw_m1 119 rfl) rfl
theorem q171 : (Jvm.Cond.methodLink "java/lang/Math" (59 : Nat) ({ cls := "java/lang/StrictMath", name := "rint", desc := "(D)D" } : Jvm.MethodName)) ∈ lw_all := lw_g (lw_at lw_m1 120 rfl) rfl
theorem q176 : (Jvm.Cond.static ({ cls := "java/lang/Math", name := "copySign", desc := "(DD)D" } : Jvm.MethodName)) ∈ lw_all := lw_g (lw_at lw_m1 125 rfl) rfl
theorem q177 : (Jvm.Cond.code ({ cls := "java/lang/Math", name := "copySign", desc := "(DD)D" } : Jvm.MethodName) prog_25_method_89_code (4 : Nat) (Option.some Jvm.ClassFile.FieldType.double)) ∈ lw_all := lw_g (lw_at lw_m1 126 rfl) rfl
theorem q178 : (Jvm.Cond.methodLink "java/lang/Math" (79 : Nat) ({ cls := "java/lang/Double", name := "doubleToRawLongBits", desc := "(D)J" } : Jvm.MethodName)) ∈ lw_all := lw_g (lw_at lw_m1 127 rfl) rfl
theorem q181 : (Jvm.Cond.constantLong "java/lang/Math" (128 : Nat) (-9223372036854775808 : Int64)) ∈ lw_all := lw_g (lw_at lw_m1 130 rfl) rfl
theorem q182 : (Jvm.Cond.constantLong "java/lang/Math" (135 : Nat) (9223372036854775807 : Int64)) ∈ lw_all := lw_g (lw_at lw_m1 131 rfl) rfl
theorem q183 : (Jvm.Cond.methodLink "java/lang/Math" (166 : Nat) ({ cls := "java/lang/Double", name := "longBitsToDouble", desc := "(J)D" } : Jvm.MethodName)) ∈ lw_all := lw_g (lw_at lw_m1 132 rfl) rfl
theorem q185 : (Jvm.Cond.static ({ cls := "java/lang/Math", name := "abs", desc := "(D)D" } : Jvm.MethodName)) ∈ lw_all := lw_g (lw_at lw_m1 134 rfl) rfl
theorem q186 : (Jvm.Cond.code ({ cls := "java/lang/Math", name := "abs", desc := "(D)D" } : Jvm.MethodName) prog_25_method_64_code (2 : Nat) (Option.some Jvm.ClassFile.FieldType.double)) ∈ lw_all := lw_g (lw_at lw_m1 135 rfl) rfl
theorem q675 : (Jvm.Cond.static ({ cls := "java/lang/Math", name := "max", desc := "(II)I" } : Jvm.MethodName)) ∈ lw_all := lw_g (lw_at lw_m3 144 rfl) rfl
theorem q676 : (Jvm.Cond.code ({ cls := "java/lang/Math", name := "max", desc := "(II)I" } : Jvm.MethodName) prog_25_method_65_code (2 : Nat) (Option.some Jvm.ClassFile.FieldType.int)) ∈ lw_all := lw_g (lw_at lw_m3 145 rfl) rfl
theorem q805 : (Jvm.Cond.static ({ cls := "java/lang/Math", name := "sqrt", desc := "(D)D" } : Jvm.MethodName)) ∈ lw_all := lw_g (lw_at lw_m4 34 rfl) rfl
theorem q806 : (Jvm.Cond.code ({ cls := "java/lang/Math", name := "sqrt", desc := "(D)D" } : Jvm.MethodName) prog_25_method_13_code (2 : Nat) (Option.some Jvm.ClassFile.FieldType.double)) ∈ lw_all := lw_g (lw_at lw_m4 35 rfl) rfl
theorem q807 : (Jvm.Cond.methodLink "java/lang/Math" (43 : Nat) ({ cls := "java/lang/StrictMath", name := "sqrt", desc := "(D)D" } : Jvm.MethodName)) ∈ lw_all := lw_g (lw_at lw_m4 36 rfl) rfl
theorem q1001 : (Jvm.Cond.static ({ cls := "java/lang/Math", name := "max", desc := "(DD)D" } : Jvm.MethodName)) ∈ lw_all := lw_g (lw_at lw_m4 230 rfl) rfl
theorem q1002 : (Jvm.Cond.code ({ cls := "java/lang/Math", name := "max", desc := "(DD)D" } : Jvm.MethodName) prog_25_method_68_code (4 : Nat) (Option.some Jvm.ClassFile.FieldType.double)) ∈ lw_all := lw_g (lw_at lw_m4 231 rfl) rfl
theorem q1003 : (Jvm.Cond.fieldLink "java/lang/Math" (174 : Nat) "java/lang/Math" "negativeZeroDoubleBits" "J") ∈ lw_all := lw_g (lw_at lw_m4 232 rfl) rfl
theorem q1004 : (Jvm.Cond.laysStatic "java/lang/Math" "negativeZeroDoubleBits" "J") ∈ lw_tbl := lw_at lw_m4 233 rfl
theorem q57 : (Jvm.Cond.initialized "java/lang/StrictMath") ∈ lw_all := lw_g (lw_at lw_m1 6 rfl) rfl
theorem q172 : (Jvm.Cond.static ({ cls := "java/lang/StrictMath", name := "rint", desc := "(D)D" } : Jvm.MethodName)) ∈ lw_all := lw_g (lw_at lw_m1 121 rfl) rfl
theorem q173 : (Jvm.Cond.code ({ cls := "java/lang/StrictMath", name := "rint", desc := "(D)D" } : Jvm.MethodName) prog_27_method_19_code (6 : Nat) (Option.some Jvm.ClassFile.FieldType.double)) ∈ lw_all := lw_g (lw_at lw_m1 122 rfl) rfl
theorem q174 : (Jvm.Cond.constantDouble "java/lang/StrictMath" (93 : Nat) (4841369599423283200 : UInt64)) ∈ lw_all := lw_g (lw_at lw_m1 123 rfl) rfl
theorem q175 : (Jvm.Cond.methodLink "java/lang/StrictMath" (95 : Nat) ({ cls := "java/lang/Math", name := "copySign", desc := "(DD)D" } : Jvm.MethodName)) ∈ lw_all := lw_g (lw_at lw_m1 124 rfl) rfl
theorem q184 : (Jvm.Cond.methodLink "java/lang/StrictMath" (98 : Nat) ({ cls := "java/lang/Math", name := "abs", desc := "(D)D" } : Jvm.MethodName)) ∈ lw_all := lw_g (lw_at lw_m1 133 rfl) rfl
theorem q808 : (Jvm.Cond.static ({ cls := "java/lang/StrictMath", name := "sqrt", desc := "(D)D" } : Jvm.MethodName)) ∈ lw_all := lw_g (lw_at lw_m4 37 rfl) rfl
theorem q809 : (Jvm.Cond.code ({ cls := "java/lang/StrictMath", name := "sqrt", desc := "(D)D" } : Jvm.MethodName) prog_27_method_13_code (2 : Nat) (Option.some Jvm.ClassFile.FieldType.double)) ∈ lw_all := lw_g (lw_at lw_m4 38 rfl) rfl
theorem q810 : (Jvm.Cond.methodLink "java/lang/StrictMath" (47 : Nat) ({ cls := "java/lang/FdLibm$Sqrt", name := "compute", desc := "(D)D" } : Jvm.MethodName)) ∈ lw_all := lw_g (lw_at lw_m4 39 rfl) rfl
theorem q74 : (Jvm.Cond.initialized "java/lang/FdLibm$Sqrt") ∈ lw_all := lw_g (lw_at lw_m1 23 rfl) rfl
theorem q811 : (Jvm.Cond.static ({ cls := "java/lang/FdLibm$Sqrt", name := "compute", desc := "(D)D" } : Jvm.MethodName)) ∈ lw_all := lw_g (lw_at lw_m4 40 rfl) rfl
theorem q812 : (Jvm.Cond.code ({ cls := "java/lang/FdLibm$Sqrt", name := "compute", desc := "(D)D" } : Jvm.MethodName) prog_22_method_2_code (16 : Nat) (Option.some Jvm.ClassFile.FieldType.double)) ∈ lw_all := lw_g (lw_at lw_m4 41 rfl) rfl
theorem q813 : (Jvm.Cond.constant "java/lang/FdLibm$Sqrt" (12 : Nat) (-2147483648 : Int32)) ∈ lw_all := lw_g (lw_at lw_m4 42 rfl) rfl
theorem q814 : (Jvm.Cond.methodLinkNest "java/lang/FdLibm$Sqrt" (13 : Nat) ({ cls := "java/lang/FdLibm", name := "__HI", desc := "(D)I" } : Jvm.MethodName) "java/lang/FdLibm") ∈ lw_tbl := lw_at lw_m4 43 rfl
theorem q818 : (Jvm.Cond.methodLinkNest "java/lang/FdLibm$Sqrt" (17 : Nat) ({ cls := "java/lang/FdLibm", name := "__LO", desc := "(D)I" } : Jvm.MethodName) "java/lang/FdLibm") ∈ lw_tbl := lw_at lw_m4 47 rfl
theorem q821 : (Jvm.Cond.constant "java/lang/FdLibm$Sqrt" (20 : Nat) (2146435072 : Int32)) ∈ lw_all := lw_g (lw_at lw_m4 50 rfl) rfl
theorem q822 : (Jvm.Cond.constant "java/lang/FdLibm$Sqrt" (21 : Nat) (1048576 : Int32)) ∈ lw_all := lw_g (lw_at lw_m4 51 rfl) rfl
theorem q823 : (Jvm.Cond.constant "java/lang/FdLibm$Sqrt" (22 : Nat) (1048575 : Int32)) ∈ lw_all := lw_g (lw_at lw_m4 52 rfl) rfl
theorem q824 : (Jvm.Cond.constant "java/lang/FdLibm$Sqrt" (23 : Nat) (2097152 : Int32)) ∈ lw_all := lw_g (lw_at lw_m4 53 rfl) rfl
theorem q825 : (Jvm.Cond.methodLink "java/lang/FdLibm$Sqrt" (24 : Nat) ({ cls := "java/lang/Integer", name := "compareUnsigned", desc := "(II)I" } : Jvm.MethodName)) ∈ lw_all := lw_g (lw_at lw_m4 54 rfl) rfl
theorem q832 : (Jvm.Cond.constant "java/lang/FdLibm$Sqrt" (32 : Nat) (1071644672 : Int32)) ∈ lw_all := lw_g (lw_at lw_m4 61 rfl) rfl
theorem q833 : (Jvm.Cond.methodLinkNest "java/lang/FdLibm$Sqrt" (33 : Nat) ({ cls := "java/lang/FdLibm", name := "__HI_LO", desc := "(II)D" } : Jvm.MethodName) "java/lang/FdLibm") ∈ lw_tbl := lw_at lw_m4 62 rfl
theorem q75 : (Jvm.Cond.initialized "java/lang/FdLibm") ∈ lw_all := lw_g (lw_at lw_m1 24 rfl) rfl
theorem q815 : (Jvm.Cond.static ({ cls := "java/lang/FdLibm", name := "__HI", desc := "(D)I" } : Jvm.MethodName)) ∈ lw_all := lw_g (lw_at lw_m4 44 rfl) rfl
theorem q816 : (Jvm.Cond.code ({ cls := "java/lang/FdLibm", name := "__HI", desc := "(D)I" } : Jvm.MethodName) prog_21_method_4_code (4 : Nat) (Option.some Jvm.ClassFile.FieldType.int)) ∈ lw_all := lw_g (lw_at lw_m4 45 rfl) rfl
theorem q817 : (Jvm.Cond.methodLink "java/lang/FdLibm" (16 : Nat) ({ cls := "java/lang/Double", name := "doubleToRawLongBits", desc := "(D)J" } : Jvm.MethodName)) ∈ lw_all := lw_g (lw_at lw_m4 46 rfl) rfl
theorem q819 : (Jvm.Cond.static ({ cls := "java/lang/FdLibm", name := "__LO", desc := "(D)I" } : Jvm.MethodName)) ∈ lw_all := lw_g (lw_at lw_m4 48 rfl) rfl
theorem q820 : (Jvm.Cond.code ({ cls := "java/lang/FdLibm", name := "__LO", desc := "(D)I" } : Jvm.MethodName) prog_21_method_2_code (4 : Nat) (Option.some Jvm.ClassFile.FieldType.int)) ∈ lw_all := lw_g (lw_at lw_m4 49 rfl) rfl
theorem q834 : (Jvm.Cond.static ({ cls := "java/lang/FdLibm", name := "__HI_LO", desc := "(II)D" } : Jvm.MethodName)) ∈ lw_all := lw_g (lw_at lw_m4 63 rfl) rfl
theorem q835 : (Jvm.Cond.code ({ cls := "java/lang/FdLibm", name := "__HI_LO", desc := "(II)D" } : Jvm.MethodName) prog_21_method_6_code (2 : Nat) (Option.some Jvm.ClassFile.FieldType.double)) ∈ lw_all := lw_g (lw_at lw_m4 64 rfl) rfl
theorem q836 : (Jvm.Cond.constantLong "java/lang/FdLibm" (22 : Nat) (4294967295 : Int64)) ∈ lw_all := lw_g (lw_at lw_m4 65 rfl) rfl
theorem q837 : (Jvm.Cond.methodLink "java/lang/FdLibm" (24 : Nat) ({ cls := "java/lang/Double", name := "longBitsToDouble", desc := "(J)D" } : Jvm.MethodName)) ∈ lw_all := lw_g (lw_at lw_m4 66 rfl) rfl
theorem q76 : (Jvm.Cond.initialized "java/lang/Integer") ∈ lw_all := lw_g (lw_at lw_m1 25 rfl) rfl
theorem q826 : (Jvm.Cond.static ({ cls := "java/lang/Integer", name := "compareUnsigned", desc := "(II)I" } : Jvm.MethodName)) ∈ lw_all := lw_g (lw_at lw_m4 55 rfl) rfl
theorem q827 : (Jvm.Cond.code ({ cls := "java/lang/Integer", name := "compareUnsigned", desc := "(II)I" } : Jvm.MethodName) prog_24_method_41_code (2 : Nat) (Option.some Jvm.ClassFile.FieldType.int)) ∈ lw_all := lw_g (lw_at lw_m4 56 rfl) rfl
theorem q828 : (Jvm.Cond.constant "java/lang/Integer" (127 : Nat) (-2147483648 : Int32)) ∈ lw_all := lw_g (lw_at lw_m4 57 rfl) rfl
theorem q829 : (Jvm.Cond.methodLink "java/lang/Integer" (259 : Nat) ({ cls := "java/lang/Integer", name := "compare", desc := "(II)I" } : Jvm.MethodName)) ∈ lw_all := lw_g (lw_at lw_m4 58 rfl) rfl
theorem q830 : (Jvm.Cond.static ({ cls := "java/lang/Integer", name := "compare", desc := "(II)I" } : Jvm.MethodName)) ∈ lw_all := lw_g (lw_at lw_m4 59 rfl) rfl
theorem q831 : (Jvm.Cond.code ({ cls := "java/lang/Integer", name := "compare", desc := "(II)I" } : Jvm.MethodName) prog_24_method_40_code (2 : Nat) (Option.some Jvm.ClassFile.FieldType.int)) ∈ lw_all := lw_g (lw_at lw_m4 60 rfl) rfl
theorem q78 : (Jvm.Cond.initialized "java/lang/Float") ∈ lw_all := lw_g (lw_at lw_m1 27 rfl) rfl
theorem q1168 : (Jvm.Cond.static ({ cls := "java/lang/Float", name := "floatToIntBits", desc := "(F)I" } : Jvm.MethodName)) ∈ lw_all := lw_g (lw_at lw_m5 157 rfl) rfl
theorem q1169 : (Jvm.Cond.code ({ cls := "java/lang/Float", name := "floatToIntBits", desc := "(F)I" } : Jvm.MethodName) prog_23_method_24_code (1 : Nat) (Option.some Jvm.ClassFile.FieldType.int)) ∈ lw_all := lw_g (lw_at lw_m5 158 rfl) rfl
theorem q1170 : (Jvm.Cond.methodLink "java/lang/Float" (59 : Nat) ({ cls := "java/lang/Float", name := "isNaN", desc := "(F)Z" } : Jvm.MethodName)) ∈ lw_all := lw_g (lw_at lw_m5 159 rfl) rfl
theorem q1171 : (Jvm.Cond.static ({ cls := "java/lang/Float", name := "isNaN", desc := "(F)Z" } : Jvm.MethodName)) ∈ lw_all := lw_g (lw_at lw_m5 160 rfl) rfl
theorem q1172 : (Jvm.Cond.code ({ cls := "java/lang/Float", name := "isNaN", desc := "(F)Z" } : Jvm.MethodName) prog_23_method_6_code (1 : Nat) (Option.some Jvm.ClassFile.FieldType.boolean)) ∈ lw_all := lw_g (lw_at lw_m5 161 rfl) rfl
theorem q1173 : (Jvm.Cond.methodLink "java/lang/Float" (74 : Nat) ({ cls := "java/lang/Float", name := "floatToRawIntBits", desc := "(F)I" } : Jvm.MethodName)) ∈ lw_all := lw_g (lw_at lw_m5 162 rfl) rfl
theorem q1174 : (Jvm.Cond.static ({ cls := "java/lang/Float", name := "floatToRawIntBits", desc := "(F)I" } : Jvm.MethodName)) ∈ lw_all := lw_g (lw_at lw_m5 163 rfl) rfl
theorem q1175 : (Jvm.Cond.native ({ cls := "java/lang/Float", name := "floatToRawIntBits", desc := "(F)I" } : Jvm.MethodName)) ∈ lw_all := lw_g (lw_at lw_m5 164 rfl) rfl
theorem q1176 : (Jvm.Cond.constant "java/lang/Float" (77 : Nat) (2143289344 : Int32)) ∈ lw_all := lw_g (lw_at lw_m5 165 rfl) rfl
theorem q85 : (Jvm.Cond.instanceMethod ({ cls := "java/lang/Object", name := "<init>", desc := "()V" } : Jvm.MethodName)) ∈ lw_all := lw_g (lw_at lw_m1 34 rfl) rfl
theorem q86 : (Jvm.Cond.code ({ cls := "java/lang/Object", name := "<init>", desc := "()V" } : Jvm.MethodName) object_method_1_code (1 : Nat) (Option.none : Option Jvm.ClassFile.FieldType)) ∈ lw_all := lw_g (lw_at lw_m1 35 rfl) rfl
theorem q51 : (Jvm.Cond.initialized "TwinPanelLaw") ∈ lw_all := lw_g (lw_at lw_m1 0 rfl) rfl
theorem q79 : (Jvm.Cond.classLink "TwinPanelLaw" (7 : Nat) "TwinPanel") ∈ lw_all := lw_g (lw_at lw_m1 28 rfl) rfl
theorem q81 : (Jvm.Cond.methodLink "TwinPanelLaw" (9 : Nat) ({ cls := "TwinPanel", name := "<init>", desc := "()V" } : Jvm.MethodName)) ∈ lw_all := lw_g (lw_at lw_m1 30 rfl) rfl
theorem q145 : (Jvm.Cond.methodLink "TwinPanelLaw" (15 : Nat) ({ cls := "TwinPanel", name := "module", desc := "(IJ)I" } : Jvm.MethodName)) ∈ lw_all := lw_g (lw_at lw_m1 94 rfl) rfl
theorem q571 : (Jvm.Cond.methodLink "TwinPanelLaw" (20 : Nat) ({ cls := "TwinPanel", name := "cord", desc := "(IIIZ)I" } : Jvm.MethodName)) ∈ lw_all := lw_g (lw_at lw_m3 40 rfl) rfl
theorem q579 : (Jvm.Cond.methodLink "TwinPanelLaw" (25 : Nat) ({ cls := "TwinPanel", name := "point", desc := "(IJJ)I" } : Jvm.MethodName)) ∈ lw_all := lw_g (lw_at lw_m3 48 rfl) rfl
theorem q584 : (Jvm.Cond.methodLink "TwinPanelLaw" (30 : Nat) ({ cls := "TwinPanel", name := "begin", desc := "(IJ)I" } : Jvm.MethodName)) ∈ lw_all := lw_g (lw_at lw_m3 53 rfl) rfl
theorem q608 : (Jvm.Cond.methodLink "TwinPanelLaw" (34 : Nat) ({ cls := "TwinPanel", name := "setting", desc := "(IJ)I" } : Jvm.MethodName)) ∈ lw_all := lw_g (lw_at lw_m3 77 rfl) rfl
theorem q612 : (Jvm.Cond.methodLink "TwinPanelLaw" (38 : Nat) ({ cls := "TwinPanel", name := "rule", desc := "(II)I" } : Jvm.MethodName)) ∈ lw_all := lw_g (lw_at lw_m3 81 rfl) rfl
theorem q616 : (Jvm.Cond.methodLink "TwinPanelLaw" (43 : Nat) ({ cls := "TwinPanel", name := "check", desc := "()I" } : Jvm.MethodName)) ∈ lw_all := lw_g (lw_at lw_m3 85 rfl) rfl
theorem q662 : (Jvm.Cond.methodLink "TwinPanelLaw" (48 : Nat) ({ cls := "TwinPanel", name := "broken", desc := "()I" } : Jvm.MethodName)) ∈ lw_all := lw_g (lw_at lw_m3 131 rfl) rfl
theorem q666 : (Jvm.Cond.methodLink "TwinPanelLaw" (52 : Nat) ({ cls := "TwinPanel", name := "level", desc := "(I)I" } : Jvm.MethodName)) ∈ lw_all := lw_g (lw_at lw_m3 135 rfl) rfl
theorem q677 : (Jvm.Cond.methodLink "TwinPanelLaw" (57 : Nat) ({ cls := "TwinPanel", name := "mode", desc := "(I)I" } : Jvm.MethodName)) ∈ lw_all := lw_g (lw_at lw_m3 146 rfl) rfl
theorem q1010 : (Jvm.Cond.methodLink "TwinPanelLaw" (61 : Nat) ({ cls := "TwinPanel", name := "now", desc := "()I" } : Jvm.MethodName)) ∈ lw_all := lw_g (lw_at lw_m4 239 rfl) rfl
theorem q1014 : (Jvm.Cond.methodLink "TwinPanelLaw" (65 : Nat) ({ cls := "TwinPanel", name := "run", desc := "(I)I" } : Jvm.MethodName)) ∈ lw_all := lw_g (lw_at lw_m5 3 rfl) rfl
theorem q1139 : (Jvm.Cond.methodLink "TwinPanelLaw" (69 : Nat) ({ cls := "TwinPanel", name := "fail", desc := "(II)I" } : Jvm.MethodName)) ∈ lw_all := lw_g (lw_at lw_m5 128 rfl) rfl
theorem q1143 : (Jvm.Cond.methodLink "TwinPanelLaw" (73 : Nat) ({ cls := "TwinPanel", name := "time", desc := "()I" } : Jvm.MethodName)) ∈ lw_all := lw_g (lw_at lw_m5 132 rfl) rfl
theorem q1147 : (Jvm.Cond.methodLink "TwinPanelLaw" (77 : Nat) ({ cls := "TwinPanel", name := "reading", desc := "(I)J" } : Jvm.MethodName)) ∈ lw_all := lw_g (lw_at lw_m5 136 rfl) rfl
theorem q1163 : (Jvm.Cond.methodLink "TwinPanelLaw" (82 : Nat) ({ cls := "TwinPanel", name := "single", desc := "(I)I" } : Jvm.MethodName)) ∈ lw_all := lw_g (lw_at lw_m5 152 rfl) rfl
theorem q1177 : (Jvm.Cond.methodLink "TwinPanelLaw" (86 : Nat) ({ cls := "TwinPanel", name := "lamp", desc := "(I)I" } : Jvm.MethodName)) ∈ lw_all := lw_g (lw_at lw_m5 166 rfl) rfl
theorem q1181 : (Jvm.Cond.methodLink "TwinPanelLaw" (90 : Nat) ({ cls := "TwinPanel", name := "apart", desc := "(I)J" } : Jvm.MethodName)) ∈ lw_all := lw_g (lw_at lw_m5 170 rfl) rfl
theorem q1185 : (Jvm.Cond.methodLink "TwinPanelLaw" (94 : Nat) ({ cls := "TwinPanel", name := "rate", desc := "(I)J" } : Jvm.MethodName)) ∈ lw_all := lw_g (lw_at lw_m5 174 rfl) rfl
theorem q1189 : (Jvm.Cond.methodLink "TwinPanelLaw" (98 : Nat) ({ cls := "TwinPanel", name := "strip", desc := "(I)I" } : Jvm.MethodName)) ∈ lw_all := lw_g (lw_at lw_m5 178 rfl) rfl
theorem q1193 : (Jvm.Cond.methodLink "TwinPanelLaw" (102 : Nat) ({ cls := "TwinPanel", name := "samples", desc := "(I)I" } : Jvm.MethodName)) ∈ lw_all := lw_g (lw_at lw_m5 182 rfl) rfl
theorem q1201 : (Jvm.Cond.methodLink "TwinPanelLaw" (106 : Nat) ({ cls := "TwinPanel", name := "sample", desc := "(II)J" } : Jvm.MethodName)) ∈ lw_all := lw_g (lw_at lw_m5 190 rfl) rfl
theorem q1205 : (Jvm.Cond.methodLink "TwinPanelLaw" (111 : Nat) ({ cls := "TwinPanel", name := "crossing", desc := "(II)I" } : Jvm.MethodName)) ∈ lw_all := lw_g (lw_at lw_m5 194 rfl) rfl
theorem q1209 : (Jvm.Cond.methodLink "TwinPanelLaw" (115 : Nat) ({ cls := "TwinPanel", name := "peak", desc := "(II)I" } : Jvm.MethodName)) ∈ lw_all := lw_g (lw_at lw_m5 198 rfl) rfl
theorem q1213 : (Jvm.Cond.methodLink "TwinPanelLaw" (119 : Nat) ({ cls := "TwinPanel", name := "sweep", desc := "(IJJIII)I" } : Jvm.MethodName)) ∈ lw_all := lw_g (lw_at lw_m5 202 rfl) rfl
theorem q1226 : (Jvm.Cond.methodLink "TwinPanelLaw" (124 : Nat) ({ cls := "TwinPanel", name := "swept", desc := "(I)J" } : Jvm.MethodName)) ∈ lw_all := lw_g (lw_at lw_m5 215 rfl) rfl
theorem q1230 : (Jvm.Cond.methodLink "TwinPanelLaw" (128 : Nat) ({ cls := "TwinPanel", name := "halved", desc := "(II)J" } : Jvm.MethodName)) ∈ lw_all := lw_g (lw_at lw_m5 219 rfl) rfl
theorem q1235 : (Jvm.Cond.methodLink "TwinPanelLaw" (132 : Nat) ({ cls := "TwinPanel", name := "about", desc := "(II)I" } : Jvm.MethodName)) ∈ lw_all := lw_g (lw_at lw_m5 224 rfl) rfl
theorem q1239 : (Jvm.Cond.methodLink "TwinPanelLaw" (136 : Nat) ({ cls := "TwinPanel", name := "count", desc := "(I)I" } : Jvm.MethodName)) ∈ lw_all := lw_g (lw_at lw_m5 228 rfl) rfl
theorem q1255 : (Jvm.Cond.methodLink "TwinPanelLaw" (140 : Nat) ({ cls := "TwinPanel", name := "digest", desc := "()J" } : Jvm.MethodName)) ∈ lw_all := lw_g (lw_at lw_m6 4 rfl) rfl
theorem q1261 : (Jvm.Cond.classLink "TwinPanelLaw" (10 : Nat) "TwinPanelModel") ∈ lw_all := lw_g (lw_at lw_m6 10 rfl) rfl
theorem q1263 : (Jvm.Cond.methodLink "TwinPanelLaw" (12 : Nat) ({ cls := "TwinPanelModel", name := "<init>", desc := "()V" } : Jvm.MethodName)) ∈ lw_all := lw_g (lw_at lw_m6 12 rfl) rfl
theorem q1451 : (Jvm.Cond.methodLink "TwinPanelLaw" (19 : Nat) ({ cls := "TwinPanelModel", name := "module", desc := "(IJ)I" } : Jvm.MethodName)) ∈ lw_all := lw_g (lw_at lw_m6 200 rfl) rfl
theorem q1474 : (Jvm.Cond.methodLink "TwinPanelLaw" (24 : Nat) ({ cls := "TwinPanelModel", name := "cord", desc := "(IIIZ)I" } : Jvm.MethodName)) ∈ lw_all := lw_g (lw_at lw_m6 223 rfl) rfl
theorem q1482 : (Jvm.Cond.methodLink "TwinPanelLaw" (29 : Nat) ({ cls := "TwinPanelModel", name := "point", desc := "(IJJ)I" } : Jvm.MethodName)) ∈ lw_all := lw_g (lw_at lw_m6 231 rfl) rfl
theorem q1490 : (Jvm.Cond.methodLink "TwinPanelLaw" (33 : Nat) ({ cls := "TwinPanelModel", name := "begin", desc := "(IJ)I" } : Jvm.MethodName)) ∈ lw_all := lw_g (lw_at lw_m6 239 rfl) rfl
theorem q1497 : (Jvm.Cond.methodLink "TwinPanelLaw" (37 : Nat) ({ cls := "TwinPanelModel", name := "setting", desc := "(IJ)I" } : Jvm.MethodName)) ∈ lw_all := lw_g (lw_at lw_m7 6 rfl) rfl
theorem q1501 : (Jvm.Cond.methodLink "TwinPanelLaw" (42 : Nat) ({ cls := "TwinPanelModel", name := "rule", desc := "(II)I" } : Jvm.MethodName)) ∈ lw_all := lw_g (lw_at lw_m7 10 rfl) rfl
theorem q1505 : (Jvm.Cond.methodLink "TwinPanelLaw" (47 : Nat) ({ cls := "TwinPanelModel", name := "check", desc := "()I" } : Jvm.MethodName)) ∈ lw_all := lw_g (lw_at lw_m7 14 rfl) rfl
theorem q1521 : (Jvm.Cond.methodLink "TwinPanelLaw" (51 : Nat) ({ cls := "TwinPanelModel", name := "broken", desc := "()I" } : Jvm.MethodName)) ∈ lw_all := lw_g (lw_at lw_m7 30 rfl) rfl
theorem q1525 : (Jvm.Cond.methodLink "TwinPanelLaw" (56 : Nat) ({ cls := "TwinPanelModel", name := "level", desc := "(I)I" } : Jvm.MethodName)) ∈ lw_all := lw_g (lw_at lw_m7 34 rfl) rfl
theorem q1533 : (Jvm.Cond.methodLink "TwinPanelLaw" (60 : Nat) ({ cls := "TwinPanelModel", name := "mode", desc := "(I)I" } : Jvm.MethodName)) ∈ lw_all := lw_g (lw_at lw_m7 42 rfl) rfl
theorem q1615 : (Jvm.Cond.methodLink "TwinPanelLaw" (64 : Nat) ({ cls := "TwinPanelModel", name := "now", desc := "()I" } : Jvm.MethodName)) ∈ lw_all := lw_g (lw_at lw_m7 124 rfl) rfl
theorem q1619 : (Jvm.Cond.methodLink "TwinPanelLaw" (68 : Nat) ({ cls := "TwinPanelModel", name := "run", desc := "(I)I" } : Jvm.MethodName)) ∈ lw_all := lw_g (lw_at lw_m7 128 rfl) rfl
theorem q1653 : (Jvm.Cond.methodLink "TwinPanelLaw" (72 : Nat) ({ cls := "TwinPanelModel", name := "fail", desc := "(II)I" } : Jvm.MethodName)) ∈ lw_all := lw_g (lw_at lw_m7 162 rfl) rfl
theorem q1657 : (Jvm.Cond.methodLink "TwinPanelLaw" (76 : Nat) ({ cls := "TwinPanelModel", name := "time", desc := "()I" } : Jvm.MethodName)) ∈ lw_all := lw_g (lw_at lw_m7 166 rfl) rfl
theorem q1661 : (Jvm.Cond.methodLink "TwinPanelLaw" (81 : Nat) ({ cls := "TwinPanelModel", name := "reading", desc := "(I)J" } : Jvm.MethodName)) ∈ lw_all := lw_g (lw_at lw_m7 170 rfl) rfl
theorem q1665 : (Jvm.Cond.methodLink "TwinPanelLaw" (85 : Nat) ({ cls := "TwinPanelModel", name := "single", desc := "(I)I" } : Jvm.MethodName)) ∈ lw_all := lw_g (lw_at lw_m7 174 rfl) rfl
theorem q1670 : (Jvm.Cond.methodLink "TwinPanelLaw" (89 : Nat) ({ cls := "TwinPanelModel", name := "lamp", desc := "(I)I" } : Jvm.MethodName)) ∈ lw_all := lw_g (lw_at lw_m7 179 rfl) rfl
theorem q1674 : (Jvm.Cond.methodLink "TwinPanelLaw" (93 : Nat) ({ cls := "TwinPanelModel", name := "apart", desc := "(I)J" } : Jvm.MethodName)) ∈ lw_all := lw_g (lw_at lw_m7 183 rfl) rfl
theorem q1678 : (Jvm.Cond.methodLink "TwinPanelLaw" (97 : Nat) ({ cls := "TwinPanelModel", name := "rate", desc := "(I)J" } : Jvm.MethodName)) ∈ lw_all := lw_g (lw_at lw_m7 187 rfl) rfl
theorem q1682 : (Jvm.Cond.methodLink "TwinPanelLaw" (101 : Nat) ({ cls := "TwinPanelModel", name := "strip", desc := "(I)I" } : Jvm.MethodName)) ∈ lw_all := lw_g (lw_at lw_m7 191 rfl) rfl
theorem q1686 : (Jvm.Cond.methodLink "TwinPanelLaw" (105 : Nat) ({ cls := "TwinPanelModel", name := "samples", desc := "(I)I" } : Jvm.MethodName)) ∈ lw_all := lw_g (lw_at lw_m7 195 rfl) rfl
theorem q1694 : (Jvm.Cond.methodLink "TwinPanelLaw" (110 : Nat) ({ cls := "TwinPanelModel", name := "sample", desc := "(II)J" } : Jvm.MethodName)) ∈ lw_all := lw_g (lw_at lw_m7 203 rfl) rfl
theorem q1698 : (Jvm.Cond.methodLink "TwinPanelLaw" (114 : Nat) ({ cls := "TwinPanelModel", name := "crossing", desc := "(II)I" } : Jvm.MethodName)) ∈ lw_all := lw_g (lw_at lw_m7 207 rfl) rfl
theorem q1702 : (Jvm.Cond.methodLink "TwinPanelLaw" (118 : Nat) ({ cls := "TwinPanelModel", name := "peak", desc := "(II)I" } : Jvm.MethodName)) ∈ lw_all := lw_g (lw_at lw_m7 211 rfl) rfl
theorem q1706 : (Jvm.Cond.methodLink "TwinPanelLaw" (123 : Nat) ({ cls := "TwinPanelModel", name := "sweep", desc := "(IJJIII)I" } : Jvm.MethodName)) ∈ lw_all := lw_g (lw_at lw_m7 215 rfl) rfl
theorem q1722 : (Jvm.Cond.methodLink "TwinPanelLaw" (127 : Nat) ({ cls := "TwinPanelModel", name := "swept", desc := "(I)J" } : Jvm.MethodName)) ∈ lw_all := lw_g (lw_at lw_m7 231 rfl) rfl
theorem q1726 : (Jvm.Cond.methodLink "TwinPanelLaw" (131 : Nat) ({ cls := "TwinPanelModel", name := "halved", desc := "(II)J" } : Jvm.MethodName)) ∈ lw_all := lw_g (lw_at lw_m7 235 rfl) rfl
theorem q1730 : (Jvm.Cond.methodLink "TwinPanelLaw" (135 : Nat) ({ cls := "TwinPanelModel", name := "about", desc := "(II)I" } : Jvm.MethodName)) ∈ lw_all := lw_g (lw_at lw_m7 239 rfl) rfl
theorem q1734 : (Jvm.Cond.methodLink "TwinPanelLaw" (139 : Nat) ({ cls := "TwinPanelModel", name := "count", desc := "(I)I" } : Jvm.MethodName)) ∈ lw_all := lw_g (lw_at lw_m8 3 rfl) rfl
theorem q1738 : (Jvm.Cond.methodLink "TwinPanelLaw" (144 : Nat) ({ cls := "TwinPanelModel", name := "digest", desc := "()J" } : Jvm.MethodName)) ∈ lw_all := lw_g (lw_at lw_m8 7 rfl) rfl
theorem q1748 : (Jvm.Cond.constantLong "TwinPanelLaw" (13 : Nat) (4294967295 : Int64)) ∈ lw_all := lw_g (lw_at lw_m8 17 rfl) rfl
theorem q54 : (Jvm.Cond.initialized "java/lang/Number") ∈ lw_all := lw_g (lw_at lw_m1 3 rfl) rfl
theorem q77 : (Jvm.Cond.initialized "java/lang/System") ∈ lw_all := lw_g (lw_at lw_m1 26 rfl) rfl
theorem q1117 : (Jvm.Cond.static ({ cls := "java/lang/System", name := "arraycopy", desc := "(Ljava/lang/Object;ILjava/lang/Object;II)V" } : Jvm.MethodName)) ∈ lw_all := lw_g (lw_at lw_m5 106 rfl) rfl
theorem q1118 : (Jvm.Cond.native ({ cls := "java/lang/System", name := "arraycopy", desc := "(Ljava/lang/Object;ILjava/lang/Object;II)V" } : Jvm.MethodName)) ∈ lw_all := lw_g (lw_at lw_m5 107 rfl) rfl
theorem q88 : (Jvm.Cond.arrayOver (Jvm.ClassFile.FieldType.object "TwinPanel$Module")) ∈ lw_tbl := lw_at lw_m1 37 rfl
theorem q141 : (Jvm.Cond.arrayClass Jvm.ClassFile.FieldType.int) ∈ lw_all := lw_g (lw_at lw_m1 90 rfl) rfl
theorem q142 : (Jvm.Cond.arrayClass Jvm.ClassFile.FieldType.double) ∈ lw_all := lw_g (lw_at lw_m1 91 rfl) rfl
theorem q143 : (Jvm.Cond.arrayClass Jvm.ClassFile.FieldType.long) ∈ lw_all := lw_g (lw_at lw_m1 92 rfl) rfl
theorem q144 : (Jvm.Cond.arrayClass Jvm.ClassFile.FieldType.boolean) ∈ lw_all := lw_g (lw_at lw_m1 93 rfl) rfl
theorem q333 : (Jvm.Cond.arrayClass Jvm.ClassFile.FieldType.float) ∈ lw_all := lw_g (lw_at lw_m2 42 rfl) rfl
