set_option maxRecDepth 100000
/-! BeeYard -/
def RX0 : String := "BeeYard"
def TX0 : u_T := fun k => match k with
  | 0 => ("BeeYard", "trays", "[LBeeYard$Tray;", true)
  | 1 => ("BeeYard", "tape", "[B", true)
  | 2 => ("BeeYard", "taped", "I", false)
  | 3 => ("BeeYard", "faultKind", "I", false)
  | 4 => ("BeeYard", "faultAt", "I", false)
  | 5 => ("BeeYard", "bad", "LBeeYard$Bad;", true)
  | 6 => ("BeeYard", "refused", "LBeeYard$Refused;", true)
  | 7 => ("BeeYard", "status", "I", false)
  | 8 => ("BeeYard", "above", "J", false)
  | 9 => ("BeeYard", "under", "J", false)
  | 10 => ("BeeYard", "now", "LBeeYard$House;", true)
  | 11 => ("BeeYard", "marks", "[LBeeYard$House;", true)
  | 12 => ("BeeYard", "markMany", "I", false)
  | 13 => ("BeeYard", "aside", "LBeeYard$Yard;", true)
  | 14 => ("BeeYard", "last", "[I", true)
  | _ => ("BeeYard", "hasLived", "Z", false)
def tyX0 : Nat → FieldType := fun k => match k with
  | 0 => .array (.object "BeeYard$Tray")
  | 1 => .array .byte
  | 2 => .int
  | 3 => .int
  | 4 => .int
  | 5 => .object "BeeYard$Bad"
  | 6 => .object "BeeYard$Refused"
  | 7 => .int
  | 8 => .long
  | 9 => .long
  | 10 => .object "BeeYard$House"
  | 11 => .array (.object "BeeYard$House")
  | 12 => .int
  | 13 => .object "BeeYard$Yard"
  | 14 => .array .int
  | _ => .boolean
abbrev wsX00 : List Cond := u_ws RX0 TX0 16
theorem nmX0 : ∀ a, a < 16 → ∀ b, b < 16 → a ≠ b → (TX0 a).2.1 ≠ (TX0 b).2.1 := by decide +kernel
theorem tyX0_ok : ∀ k, k < 16 → parseFieldDescriptor (TX0 k).2.2.1 = some (tyX0 k) := by decide +kernel
abbrev cX0_init : ByteArray := prog_1_method_6_code
def yX0_init : MethodName := ⟨RX0, "<init>", "()V"⟩
abbrev cX0_status : ByteArray := prog_1_method_7_code
def yX0_status : MethodName := ⟨RX0, "status", "()I"⟩
abbrev cX0_top : ByteArray := prog_1_method_8_code
def yX0_top : MethodName := ⟨RX0, "top", "()J"⟩
abbrev cX0_bottom : ByteArray := prog_1_method_9_code
def yX0_bottom : MethodName := ⟨RX0, "bottom", "()J"⟩
abbrev cX0_tray : ByteArray := prog_1_method_15_code
def yX0_tray : MethodName := ⟨RX0, "tray", "(III)Z"⟩
abbrev cX0_want : ByteArray := prog_1_method_10_code
def yX0_want : MethodName := ⟨RX0, "want", "(ZI)V"⟩
abbrev cX0_row : ByteArray := prog_1_method_1_code
def yX0_row : MethodName := ⟨RX0, "row", "(II)Ljava/lang/Object;"⟩
abbrev cX0_no : ByteArray := prog_1_method_12_code
def yX0_no : MethodName := ⟨RX0, "no", "(LBeeYard$Refused;)Z"⟩
abbrev cX0_write : ByteArray := prog_1_method_16_code
def yX0_write : MethodName := ⟨RX0, "write", "(IIJ)Z"⟩
abbrev cX0_on : ByteArray := prog_1_method_14_code
def yX0_on : MethodName := ⟨RX0, "on", "(I)Ljava/lang/Object;"⟩
abbrev cX0_put : ByteArray := prog_1_method_5_code
def yX0_put : MethodName := ⟨RX0, "put", "(Ljava/lang/Object;IJ)V"⟩
abbrev cX0_read : ByteArray := prog_1_method_17_code
def yX0_read : MethodName := ⟨RX0, "read", "(II)J"⟩
abbrev cX0_number : ByteArray := prog_1_method_4_code
def yX0_number : MethodName := ⟨RX0, "number", "(Ljava/lang/Object;I)J"⟩
abbrev cX0_none : ByteArray := prog_1_method_11_code
def yX0_none : MethodName := ⟨RX0, "none", "(LBeeYard$Refused;)I"⟩
abbrev cX0_pour : ByteArray := prog_1_method_18_code
def yX0_pour : MethodName := ⟨RX0, "pour", "(IIIII)Z"⟩
abbrev cX0_sortOf : ByteArray := prog_1_method_2_code
def yX0_sortOf : MethodName := ⟨RX0, "sortOf", "(Ljava/lang/Object;)I"⟩
abbrev cX0_feed : ByteArray := prog_1_method_28_code
def yX0_feed : MethodName := ⟨RX0, "feed", "(IIIII)I"⟩
abbrev cX0_lay : ByteArray := prog_1_method_29_code
def yX0_lay : MethodName := ⟨RX0, "lay", "(I)V"⟩
abbrev cX0_yard : ByteArray := prog_1_method_32_code
def yX0_yard : MethodName := ⟨RX0, "yard", "(I)I"⟩
abbrev cX0_opens : ByteArray := prog_1_method_30_code
def yX0_opens : MethodName := ⟨RX0, "opens", "(II)Z"⟩
abbrev cX0_faulty : ByteArray := prog_1_method_31_code
def yX0_faulty : MethodName := ⟨RX0, "faulty", "(LBeeYard$Bad;)I"⟩
abbrev cX0_season : ByteArray := prog_1_method_33_code
def yX0_season : MethodName := ⟨RX0, "season", "(I)I"⟩
abbrev cX0_yard_2 : ByteArray := prog_1_method_20_code
def yX0_yard_2 : MethodName := ⟨RX0, "yard", "()LBeeYard$Yard;"⟩
abbrev cX0_fault : ByteArray := prog_1_method_34_code
def yX0_fault : MethodName := ⟨RX0, "fault", "(I)I"⟩
abbrev cX0_told : ByteArray := prog_1_method_35_code
def yX0_told : MethodName := ⟨RX0, "told", "(I)I"⟩
abbrev cX0_isIn : ByteArray := prog_1_method_19_code
def yX0_isIn : MethodName := ⟨RX0, "isIn", "(JJJ)Z"⟩
abbrev cX0_lines : ByteArray := prog_1_method_22_code
def yX0_lines : MethodName := ⟨RX0, "lines", "()LBeeYard$Lines;"⟩
abbrev cX0_hive : ByteArray := prog_1_method_36_code
def yX0_hive : MethodName := ⟨RX0, "hive", "(II)I"⟩
abbrev cX0_isHive : ByteArray := prog_1_method_23_code
def yX0_isHive : MethodName := ⟨RX0, "isHive", "(I)Z"⟩
abbrev cX0_at : ByteArray := prog_1_method_21_code
def yX0_at : MethodName := ⟨RX0, "at", "(I)LBeeYard$Hive;"⟩
abbrev cX0_answer : ByteArray := prog_1_method_27_code
def yX0_answer : MethodName := ⟨RX0, "answer", "(I)I"⟩
abbrev cX0_line : ByteArray := prog_1_method_37_code
def yX0_line : MethodName := ⟨RX0, "line", "(II)I"⟩
abbrev cX0_fieldAt : ByteArray := prog_1_method_38_code
def yX0_fieldAt : MethodName := ⟨RX0, "fieldAt", "(III)I"⟩
abbrev cX0_isFrame : ByteArray := prog_1_method_24_code
def yX0_isFrame : MethodName := ⟨RX0, "isFrame", "(II)Z"⟩
abbrev cX0_order : ByteArray := prog_1_method_39_code
def yX0_order : MethodName := ⟨RX0, "order", "(II)I"⟩
abbrev cX0_copyOut : ByteArray := prog_1_method_40_code
def yX0_copyOut : MethodName := ⟨RX0, "copyOut", "(III)I"⟩
abbrev cX0_sizeOf : ByteArray := prog_1_method_3_code
def yX0_sizeOf : MethodName := ⟨RX0, "sizeOf", "(Ljava/lang/Object;)I"⟩
abbrev cX0_copyIn : ByteArray := prog_1_method_41_code
def yX0_copyIn : MethodName := ⟨RX0, "copyIn", "(III)I"⟩
abbrev cX0_days : ByteArray := prog_1_method_42_code
def yX0_days : MethodName := ⟨RX0, "days", "(I)I"⟩
abbrev cX0_bring : ByteArray := prog_1_method_43_code
def yX0_bring : MethodName := ⟨RX0, "bring", "(II)I"⟩
abbrev cX0_harvest : ByteArray := prog_1_method_44_code
def yX0_harvest : MethodName := ⟨RX0, "harvest", "(II)I"⟩
abbrev cX0_move : ByteArray := prog_1_method_45_code
def yX0_move : MethodName := ⟨RX0, "move", "(IIII)Z"⟩
abbrev cX0_split : ByteArray := prog_1_method_46_code
def yX0_split : MethodName := ⟨RX0, "split", "(II)I"⟩
abbrev cX0_areTwo : ByteArray := prog_1_method_25_code
def yX0_areTwo : MethodName := ⟨RX0, "areTwo", "(II)Z"⟩
abbrev cX0_join : ByteArray := prog_1_method_47_code
def yX0_join : MethodName := ⟨RX0, "join", "(II)I"⟩
abbrev cX0_seat : ByteArray := prog_1_method_48_code
def yX0_seat : MethodName := ⟨RX0, "seat", "(II)Z"⟩
abbrev cX0_isQueen : ByteArray := prog_1_method_26_code
def yX0_isQueen : MethodName := ⟨RX0, "isQueen", "(I)Z"⟩
abbrev cX0_crowded : ByteArray := prog_1_method_49_code
def yX0_crowded : MethodName := ⟨RX0, "crowded", "(I)I"⟩
abbrev cX0_swarm : ByteArray := prog_1_method_50_code
def yX0_swarm : MethodName := ⟨RX0, "swarm", "(I)I"⟩
abbrev cX0_swarmOut : ByteArray := prog_1_method_51_code
def yX0_swarmOut : MethodName := ⟨RX0, "swarmOut", "(I)I"⟩
abbrev cX0_take : ByteArray := prog_1_method_52_code
def yX0_take : MethodName := ⟨RX0, "take", "(I)I"⟩
abbrev cX0_kin : ByteArray := prog_1_method_53_code
def yX0_kin : MethodName := ⟨RX0, "kin", "(II)Z"⟩
abbrev cX0_fraction : ByteArray := prog_1_method_13_code
def yX0_fraction : MethodName := ⟨RX0, "fraction", "(JJ)I"⟩
abbrev cX0_inbred : ByteArray := prog_1_method_54_code
def yX0_inbred : MethodName := ⟨RX0, "inbred", "(I)Z"⟩
abbrev cX0_suitor : ByteArray := prog_1_method_55_code
def yX0_suitor : MethodName := ⟨RX0, "suitor", "(I)I"⟩
abbrev cX0_mothers : ByteArray := prog_1_method_56_code
def yX0_mothers : MethodName := ⟨RX0, "mothers", "(I)I"⟩
abbrev cX0_nearest : ByteArray := prog_1_method_58_code
def yX0_nearest : MethodName := ⟨RX0, "nearest", "(II)I"⟩
abbrev cX0_isInLine : ByteArray := prog_1_method_57_code
def yX0_isInLine : MethodName := ⟨RX0, "isInLine", "(II)Z"⟩
abbrev cX0_sisters : ByteArray := prog_1_method_59_code
def yX0_sisters : MethodName := ⟨RX0, "sisters", "(I)I"⟩
abbrev cX0_room : ByteArray := prog_1_method_60_code
def yX0_room : MethodName := ⟨RX0, "room", "(I)I"⟩
abbrev cX0_richest : ByteArray := prog_1_method_61_code
def yX0_richest : MethodName := ⟨RX0, "richest", "(I)I"⟩
abbrev cX0_age : ByteArray := prog_1_method_62_code
def yX0_age : MethodName := ⟨RX0, "age", "(II)I"⟩
abbrev cX0_coming : ByteArray := prog_1_method_63_code
def yX0_coming : MethodName := ⟨RX0, "coming", "(II)I"⟩
abbrev cX0_hungry : ByteArray := prog_1_method_64_code
def yX0_hungry : MethodName := ⟨RX0, "hungry", "(I)I"⟩
abbrev cX0_lasts : ByteArray := prog_1_method_65_code
def yX0_lasts : MethodName := ⟨RX0, "lasts", "(I)I"⟩
abbrev cX0_between : ByteArray := prog_1_method_66_code
def yX0_between : MethodName := ⟨RX0, "between", "(III)I"⟩
abbrev cX0_strongest : ByteArray := prog_1_method_67_code
def yX0_strongest : MethodName := ⟨RX0, "strongest", "()I"⟩
abbrev cX0_frame : ByteArray := prog_1_method_68_code
def yX0_frame : MethodName := ⟨RX0, "frame", "(III)I"⟩
abbrev cX0_even : ByteArray := prog_1_method_69_code
def yX0_even : MethodName := ⟨RX0, "even", "()I"⟩
abbrev cX0_sample : ByteArray := prog_1_method_70_code
def yX0_sample : MethodName := ⟨RX0, "sample", "(III)I"⟩
abbrev cX0_share : ByteArray := prog_1_method_71_code
def yX0_share : MethodName := ⟨RX0, "share", "(I)Z"⟩
abbrev cX0_worst : ByteArray := prog_1_method_72_code
def yX0_worst : MethodName := ⟨RX0, "worst", "()I"⟩
abbrev cX0_treat : ByteArray := prog_1_method_73_code
def yX0_treat : MethodName := ⟨RX0, "treat", "(I)Z"⟩
abbrev cX0_forecast : ByteArray := prog_1_method_75_code
def yX0_forecast : MethodName := ⟨RX0, "forecast", "(III)I"⟩
abbrev cX0_starve : ByteArray := prog_1_method_74_code
def yX0_starve : MethodName := ⟨RX0, "starve", "(LBeeYard$Hive;I)I"⟩
abbrev cX0_soonest : ByteArray := prog_1_method_76_code
def yX0_soonest : MethodName := ⟨RX0, "soonest", "(II)I"⟩
abbrev cX0_need : ByteArray := prog_1_method_77_code
def yX0_need : MethodName := ⟨RX0, "need", "(II)I"⟩
abbrev cX0_live : ByteArray := prog_1_method_78_code
def yX0_live : MethodName := ⟨RX0, "live", "(I)I"⟩
abbrev cX0_lived : ByteArray := prog_1_method_79_code
def yX0_lived : MethodName := ⟨RX0, "lived", "(I)I"⟩
abbrev cX0_odds : ByteArray := prog_1_method_80_code
def yX0_odds : MethodName := ⟨RX0, "odds", "(IIII)Z"⟩
abbrev cX0_mark : ByteArray := prog_1_method_81_code
def yX0_mark : MethodName := ⟨RX0, "mark", "()I"⟩
abbrev cX0_back : ByteArray := prog_1_method_82_code
def yX0_back : MethodName := ⟨RX0, "back", "()I"⟩
theorem q116 : (Jvm.Cond.initialized "BeeYard") ∈ lw_all := lw_g (lw_at lw_m1 1 rfl) rfl
theorem q146 : (Jvm.Cond.instantiable "BeeYard" (16 : Nat)) ∈ lw_all := lw_g (lw_at lw_m1 31 rfl) rfl
theorem q148 : (Jvm.Cond.instanceMethod ({ cls := "BeeYard", name := "<init>", desc := "()V" } : Jvm.MethodName)) ∈ lw_all := lw_g (lw_at lw_m1 33 rfl) rfl
theorem q149 : (Jvm.Cond.code ({ cls := "BeeYard", name := "<init>", desc := "()V" } : Jvm.MethodName) prog_1_method_6_code (1 : Nat) (Option.none : Option Jvm.ClassFile.FieldType)) ∈ lw_all := lw_g (lw_at lw_m1 34 rfl) rfl
theorem q150 : (Jvm.Cond.methodLink "BeeYard" (9 : Nat) ({ cls := "java/lang/Object", name := "<init>", desc := "()V" } : Jvm.MethodName)) ∈ lw_all := lw_g (lw_at lw_m1 35 rfl) rfl
theorem q153 : (Jvm.Cond.classLink "BeeYard" (15 : Nat) "BeeYard$Tray") ∈ lw_all := lw_g (lw_at lw_m1 38 rfl) rfl
theorem q156 : (Jvm.Cond.methodLinkNest "BeeYard" (17 : Nat) ({ cls := "BeeYard$Tray", name := "<init>", desc := "()V" } : Jvm.MethodName) "BeeYard") ∈ lw_tbl := lw_at lw_m1 41 rfl
theorem q160 : (Jvm.Cond.fieldLinkNest "BeeYard" (102 : Nat) "BeeYard$Tray" "row" "Ljava/lang/Object;" "BeeYard") ∈ lw_tbl := lw_at lw_m1 45 rfl
theorem q164 : (Jvm.Cond.classLink "BeeYard" (34 : Nat) "BeeYard$Bad") ∈ lw_all := lw_g (lw_at lw_m1 49 rfl) rfl
theorem q204 : (Jvm.Cond.methodLink "BeeYard" (36 : Nat) ({ cls := "BeeYard$Bad", name := "<init>", desc := "()V" } : Jvm.MethodName)) ∈ lw_all := lw_g (lw_at lw_m1 89 rfl) rfl
theorem q214 : (Jvm.Cond.fieldLinkNest "BeeYard" (197 : Nat) "BeeYard$Bad" "kind" "I" "BeeYard") ∈ lw_tbl := lw_at lw_m1 99 rfl
theorem q216 : (Jvm.Cond.fieldLinkNest "BeeYard" (200 : Nat) "BeeYard$Bad" "place" "I" "BeeYard") ∈ lw_tbl := lw_at lw_m1 101 rfl
theorem q235 : (Jvm.Cond.classLink "BeeYard" (41 : Nat) "BeeYard$Refused") ∈ lw_all := lw_g (lw_at lw_m1 120 rfl) rfl
theorem q244 : (Jvm.Cond.methodLink "BeeYard" (43 : Nat) ({ cls := "BeeYard$Refused", name := "<init>", desc := "()V" } : Jvm.MethodName)) ∈ lw_all := lw_g (lw_at lw_m1 129 rfl) rfl
theorem q249 : (Jvm.Cond.fieldLinkNest "BeeYard" (83 : Nat) "BeeYard$Refused" "why" "I" "BeeYard") ∈ lw_tbl := lw_at lw_m1 134 rfl
theorem q254 : (Jvm.Cond.classLink "BeeYard" (52 : Nat) "BeeYard$House") ∈ lw_all := lw_g (lw_at lw_m1 139 rfl) rfl
theorem q256 : (Jvm.Cond.methodLinkNest "BeeYard" (54 : Nat) ({ cls := "BeeYard$House", name := "<init>", desc := "()V" } : Jvm.MethodName) "BeeYard") ∈ lw_tbl := lw_at lw_m1 141 rfl
theorem q274 : (Jvm.Cond.fieldLinkNest "BeeYard" (295 : Nat) "BeeYard$Lines" "mother" "[I" "BeeYard") ∈ lw_tbl := lw_at lw_m1 159 rfl
theorem q276 : (Jvm.Cond.fieldLinkNest "BeeYard" (298 : Nat) "BeeYard$Lines" "father" "[I" "BeeYard") ∈ lw_tbl := lw_at lw_m1 161 rfl
theorem q284 : (Jvm.Cond.fieldLinkNest "BeeYard" (185 : Nat) "BeeYard$Lines" "queens" "I" "BeeYard") ∈ lw_tbl := lw_at lw_m1 169 rfl
theorem q287 : (Jvm.Cond.fieldLinkNest "BeeYard" (238 : Nat) "BeeYard$Lines" "drones" "I" "BeeYard") ∈ lw_tbl := lw_at lw_m1 172 rfl
theorem q311 : (Jvm.Cond.fieldLinkNest "BeeYard" (154 : Nat) "BeeYard$Yard" "lines" "LBeeYard$Lines;" "BeeYard") ∈ lw_tbl := lw_at lw_m1 196 rfl
theorem q316 : (Jvm.Cond.fieldLinkNest "BeeYard" (150 : Nat) "BeeYard$Yard" "hives" "[LBeeYard$Hive;" "BeeYard") ∈ lw_tbl := lw_at lw_m1 201 rfl
theorem q320 : (Jvm.Cond.fieldLinkNest "BeeYard" (161 : Nat) "BeeYard$Yard" "many" "I" "BeeYard") ∈ lw_tbl := lw_at lw_m1 205 rfl
theorem q322 : (Jvm.Cond.fieldLinkNest "BeeYard" (241 : Nat) "BeeYard$Yard" "day" "I" "BeeYard") ∈ lw_tbl := lw_at lw_m1 207 rfl
theorem q324 : (Jvm.Cond.fieldLinkNest "BeeYard" (247 : Nat) "BeeYard$Yard" "harvested" "I" "BeeYard") ∈ lw_tbl := lw_at lw_m1 209 rfl
theorem q326 : (Jvm.Cond.fieldLinkNest "BeeYard" (250 : Nat) "BeeYard$Yard" "eaten" "I" "BeeYard") ∈ lw_tbl := lw_at lw_m1 211 rfl
theorem q328 : (Jvm.Cond.fieldLinkNest "BeeYard" (253 : Nat) "BeeYard$Yard" "spilt" "I" "BeeYard") ∈ lw_tbl := lw_at lw_m1 213 rfl
theorem q330 : (Jvm.Cond.fieldLinkNest "BeeYard" (256 : Nat) "BeeYard$Yard" "starved" "I" "BeeYard") ∈ lw_tbl := lw_at lw_m1 215 rfl
theorem q332 : (Jvm.Cond.fieldLinkNest "BeeYard" (259 : Nat) "BeeYard$Yard" "came" "I" "BeeYard") ∈ lw_tbl := lw_at lw_m1 217 rfl
theorem q335 : (Jvm.Cond.fieldLinkNest "BeeYard" (244 : Nat) "BeeYard$Yard" "brought" "I" "BeeYard") ∈ lw_tbl := lw_at lw_m1 220 rfl
theorem q337 : (Jvm.Cond.fieldLinkNest "BeeYard" (370 : Nat) "BeeYard$Yard" "swarmBees" "I" "BeeYard") ∈ lw_tbl := lw_at lw_m1 222 rfl
theorem q339 : (Jvm.Cond.fieldLinkNest "BeeYard" (367 : Nat) "BeeYard$Yard" "swarmQueen" "I" "BeeYard") ∈ lw_tbl := lw_at lw_m1 224 rfl
theorem q366 : (Jvm.Cond.fieldLinkNest "BeeYard" (147 : Nat) "BeeYard$House" "yard" "LBeeYard$Yard;" "BeeYard") ∈ lw_tbl := lw_at lw_m2 11 rfl
theorem q368 : (Jvm.Cond.fieldLinkNest "BeeYard" (218 : Nat) "BeeYard$House" "season" "LBeeYard$Loop;" "BeeYard") ∈ lw_tbl := lw_at lw_m2 13 rfl
theorem q375 : (Jvm.Cond.classLink "BeeYard" (63 : Nat) "BeeYard$Yard") ∈ lw_all := lw_g (lw_at lw_m2 20 rfl) rfl
theorem q376 : (Jvm.Cond.methodLinkNest "BeeYard" (65 : Nat) ({ cls := "BeeYard$Yard", name := "<init>", desc := "()V" } : Jvm.MethodName) "BeeYard") ∈ lw_tbl := lw_at lw_m2 21 rfl
theorem q377 : (Jvm.Cond.fieldLink "BeeYard" (18 : Nat) "BeeYard" "trays" "[LBeeYard$Tray;") ∈ lw_all := lw_g (lw_at lw_m2 22 rfl) rfl
theorem q379 : (Jvm.Cond.fieldLink "BeeYard" (24 : Nat) "BeeYard" "tape" "[B") ∈ lw_all := lw_g (lw_at lw_m2 24 rfl) rfl
theorem q380 : (Jvm.Cond.fieldLink "BeeYard" (190 : Nat) "BeeYard" "taped" "I") ∈ lw_all := lw_g (lw_at lw_m2 25 rfl) rfl
theorem q381 : (Jvm.Cond.fieldLink "BeeYard" (27 : Nat) "BeeYard" "faultKind" "I") ∈ lw_all := lw_g (lw_at lw_m2 26 rfl) rfl
theorem q382 : (Jvm.Cond.fieldLink "BeeYard" (31 : Nat) "BeeYard" "faultAt" "I") ∈ lw_all := lw_g (lw_at lw_m2 27 rfl) rfl
theorem q383 : (Jvm.Cond.fieldLink "BeeYard" (37 : Nat) "BeeYard" "bad" "LBeeYard$Bad;") ∈ lw_all := lw_g (lw_at lw_m2 28 rfl) rfl
theorem q385 : (Jvm.Cond.fieldLink "BeeYard" (44 : Nat) "BeeYard" "refused" "LBeeYard$Refused;") ∈ lw_all := lw_g (lw_at lw_m2 30 rfl) rfl
theorem q386 : (Jvm.Cond.fieldLink "BeeYard" (73 : Nat) "BeeYard" "status" "I") ∈ lw_all := lw_g (lw_at lw_m2 31 rfl) rfl
theorem q387 : (Jvm.Cond.fieldLink "BeeYard" (76 : Nat) "BeeYard" "above" "J") ∈ lw_all := lw_g (lw_at lw_m2 32 rfl) rfl
theorem q388 : (Jvm.Cond.fieldLink "BeeYard" (48 : Nat) "BeeYard" "under" "J") ∈ lw_all := lw_g (lw_at lw_m2 33 rfl) rfl
theorem q389 : (Jvm.Cond.fieldLink "BeeYard" (55 : Nat) "BeeYard" "now" "LBeeYard$House;") ∈ lw_all := lw_g (lw_at lw_m2 34 rfl) rfl
theorem q390 : (Jvm.Cond.fieldLink "BeeYard" (59 : Nat) "BeeYard" "marks" "[LBeeYard$House;") ∈ lw_all := lw_g (lw_at lw_m2 35 rfl) rfl
theorem q391 : (Jvm.Cond.fieldLink "BeeYard" (450 : Nat) "BeeYard" "markMany" "I") ∈ lw_all := lw_g (lw_at lw_m2 36 rfl) rfl
theorem q392 : (Jvm.Cond.fieldLink "BeeYard" (66 : Nat) "BeeYard" "aside" "LBeeYard$Yard;") ∈ lw_all := lw_g (lw_at lw_m2 37 rfl) rfl
theorem q393 : (Jvm.Cond.fieldLink "BeeYard" (70 : Nat) "BeeYard" "last" "[I") ∈ lw_all := lw_g (lw_at lw_m2 38 rfl) rfl
theorem q394 : (Jvm.Cond.fieldLink "BeeYard" (442 : Nat) "BeeYard" "hasLived" "Z") ∈ lw_all := lw_g (lw_at lw_m2 39 rfl) rfl
theorem q395 : (Jvm.Cond.laysFinal "BeeYard" "BeeYard" "trays" "[LBeeYard$Tray;") ∈ lw_all := lw_g (lw_at lw_m2 40 rfl) rfl
theorem q396 : (Jvm.Cond.soleField "BeeYard" "trays") ∈ lw_all := lw_g (lw_at lw_m2 41 rfl) rfl
theorem q397 : (Jvm.Cond.laysFinal "BeeYard" "BeeYard" "tape" "[B") ∈ lw_all := lw_g (lw_at lw_m2 42 rfl) rfl
theorem q398 : (Jvm.Cond.soleField "BeeYard" "tape") ∈ lw_all := lw_g (lw_at lw_m2 43 rfl) rfl
theorem q399 : (Jvm.Cond.lays "BeeYard" "BeeYard" "taped" "I") ∈ lw_all := lw_g (lw_at lw_m2 44 rfl) rfl
theorem q400 : (Jvm.Cond.soleField "BeeYard" "taped") ∈ lw_all := lw_g (lw_at lw_m2 45 rfl) rfl
theorem q401 : (Jvm.Cond.lays "BeeYard" "BeeYard" "faultKind" "I") ∈ lw_all := lw_g (lw_at lw_m2 46 rfl) rfl
theorem q402 : (Jvm.Cond.soleField "BeeYard" "faultKind") ∈ lw_all := lw_g (lw_at lw_m2 47 rfl) rfl
theorem q403 : (Jvm.Cond.lays "BeeYard" "BeeYard" "faultAt" "I") ∈ lw_all := lw_g (lw_at lw_m2 48 rfl) rfl
theorem q404 : (Jvm.Cond.soleField "BeeYard" "faultAt") ∈ lw_all := lw_g (lw_at lw_m2 49 rfl) rfl
theorem q405 : (Jvm.Cond.laysFinal "BeeYard" "BeeYard" "bad" "LBeeYard$Bad;") ∈ lw_all := lw_g (lw_at lw_m2 50 rfl) rfl
theorem q406 : (Jvm.Cond.soleField "BeeYard" "bad") ∈ lw_all := lw_g (lw_at lw_m2 51 rfl) rfl
theorem q407 : (Jvm.Cond.laysFinal "BeeYard" "BeeYard" "refused" "LBeeYard$Refused;") ∈ lw_all := lw_g (lw_at lw_m2 52 rfl) rfl
theorem q408 : (Jvm.Cond.soleField "BeeYard" "refused") ∈ lw_all := lw_g (lw_at lw_m2 53 rfl) rfl
theorem q409 : (Jvm.Cond.lays "BeeYard" "BeeYard" "status" "I") ∈ lw_all := lw_g (lw_at lw_m2 54 rfl) rfl
theorem q410 : (Jvm.Cond.soleField "BeeYard" "status") ∈ lw_all := lw_g (lw_at lw_m2 55 rfl) rfl
theorem q411 : (Jvm.Cond.lays "BeeYard" "BeeYard" "above" "J") ∈ lw_all := lw_g (lw_at lw_m2 56 rfl) rfl
theorem q412 : (Jvm.Cond.soleField "BeeYard" "above") ∈ lw_all := lw_g (lw_at lw_m2 57 rfl) rfl
theorem q413 : (Jvm.Cond.lays "BeeYard" "BeeYard" "under" "J") ∈ lw_all := lw_g (lw_at lw_m2 58 rfl) rfl
theorem q414 : (Jvm.Cond.soleField "BeeYard" "under") ∈ lw_all := lw_g (lw_at lw_m2 59 rfl) rfl
theorem q415 : (Jvm.Cond.laysFinal "BeeYard" "BeeYard" "now" "LBeeYard$House;") ∈ lw_all := lw_g (lw_at lw_m2 60 rfl) rfl
theorem q416 : (Jvm.Cond.soleField "BeeYard" "now") ∈ lw_all := lw_g (lw_at lw_m2 61 rfl) rfl
theorem q417 : (Jvm.Cond.laysFinal "BeeYard" "BeeYard" "marks" "[LBeeYard$House;") ∈ lw_all := lw_g (lw_at lw_m2 62 rfl) rfl
theorem q418 : (Jvm.Cond.soleField "BeeYard" "marks") ∈ lw_all := lw_g (lw_at lw_m2 63 rfl) rfl
theorem q419 : (Jvm.Cond.lays "BeeYard" "BeeYard" "markMany" "I") ∈ lw_all := lw_g (lw_at lw_m2 64 rfl) rfl
theorem q420 : (Jvm.Cond.soleField "BeeYard" "markMany") ∈ lw_all := lw_g (lw_at lw_m2 65 rfl) rfl
theorem q421 : (Jvm.Cond.laysFinal "BeeYard" "BeeYard" "aside" "LBeeYard$Yard;") ∈ lw_all := lw_g (lw_at lw_m2 66 rfl) rfl
theorem q422 : (Jvm.Cond.soleField "BeeYard" "aside") ∈ lw_all := lw_g (lw_at lw_m2 67 rfl) rfl
theorem q423 : (Jvm.Cond.laysFinal "BeeYard" "BeeYard" "last" "[I") ∈ lw_all := lw_g (lw_at lw_m2 68 rfl) rfl
theorem q424 : (Jvm.Cond.soleField "BeeYard" "last") ∈ lw_all := lw_g (lw_at lw_m2 69 rfl) rfl
theorem q425 : (Jvm.Cond.lays "BeeYard" "BeeYard" "hasLived" "Z") ∈ lw_all := lw_g (lw_at lw_m2 70 rfl) rfl
theorem q426 : (Jvm.Cond.soleField "BeeYard" "hasLived") ∈ lw_all := lw_g (lw_at lw_m2 71 rfl) rfl
theorem q427 : (Jvm.Cond.superclass "BeeYard" "java/lang/Object") ∈ lw_all := lw_g (lw_at lw_m2 72 rfl) rfl
theorem q429 : (Jvm.Cond.instanceMethod ({ cls := "BeeYard", name := "status", desc := "()I" } : Jvm.MethodName)) ∈ lw_all := lw_g (lw_at lw_m2 74 rfl) rfl
theorem q430 : (Jvm.Cond.selects "BeeYard" ({ cls := "BeeYard", name := "status", desc := "()I" } : Jvm.MethodName) ({ cls := "BeeYard", name := "status", desc := "()I" } : Jvm.MethodName)) ∈ lw_all := lw_g (lw_at lw_m2 75 rfl) rfl
theorem q431 : (Jvm.Cond.code ({ cls := "BeeYard", name := "status", desc := "()I" } : Jvm.MethodName) prog_1_method_7_code (1 : Nat) (Option.some Jvm.ClassFile.FieldType.int)) ∈ lw_all := lw_g (lw_at lw_m2 76 rfl) rfl
theorem q433 : (Jvm.Cond.instanceMethod ({ cls := "BeeYard", name := "top", desc := "()J" } : Jvm.MethodName)) ∈ lw_all := lw_g (lw_at lw_m2 78 rfl) rfl
theorem q434 : (Jvm.Cond.selects "BeeYard" ({ cls := "BeeYard", name := "top", desc := "()J" } : Jvm.MethodName) ({ cls := "BeeYard", name := "top", desc := "()J" } : Jvm.MethodName)) ∈ lw_all := lw_g (lw_at lw_m2 79 rfl) rfl
theorem q435 : (Jvm.Cond.code ({ cls := "BeeYard", name := "top", desc := "()J" } : Jvm.MethodName) prog_1_method_8_code (1 : Nat) (Option.some Jvm.ClassFile.FieldType.long)) ∈ lw_all := lw_g (lw_at lw_m2 80 rfl) rfl
theorem q437 : (Jvm.Cond.instanceMethod ({ cls := "BeeYard", name := "bottom", desc := "()J" } : Jvm.MethodName)) ∈ lw_all := lw_g (lw_at lw_m2 82 rfl) rfl
theorem q438 : (Jvm.Cond.selects "BeeYard" ({ cls := "BeeYard", name := "bottom", desc := "()J" } : Jvm.MethodName) ({ cls := "BeeYard", name := "bottom", desc := "()J" } : Jvm.MethodName)) ∈ lw_all := lw_g (lw_at lw_m2 83 rfl) rfl
theorem q439 : (Jvm.Cond.code ({ cls := "BeeYard", name := "bottom", desc := "()J" } : Jvm.MethodName) prog_1_method_9_code (1 : Nat) (Option.some Jvm.ClassFile.FieldType.long)) ∈ lw_all := lw_g (lw_at lw_m2 84 rfl) rfl
theorem q441 : (Jvm.Cond.instanceMethod ({ cls := "BeeYard", name := "tray", desc := "(III)Z" } : Jvm.MethodName)) ∈ lw_all := lw_g (lw_at lw_m2 86 rfl) rfl
theorem q442 : (Jvm.Cond.selects "BeeYard" ({ cls := "BeeYard", name := "tray", desc := "(III)Z" } : Jvm.MethodName) ({ cls := "BeeYard", name := "tray", desc := "(III)Z" } : Jvm.MethodName)) ∈ lw_all := lw_g (lw_at lw_m2 87 rfl) rfl
theorem q443 : (Jvm.Cond.codeWith ({ cls := "BeeYard", name := "tray", desc := "(III)Z" } : Jvm.MethodName) prog_1_method_15_code (5 : Nat) (Option.some Jvm.ClassFile.FieldType.boolean) [((5 : Nat), (54 : Nat), (55 : Nat), (109 : Nat)), ((5 : Nat), (54 : Nat), (64 : Nat), (41 : Nat))]) ∈ lw_all := lw_g (lw_at lw_m2 88 rfl) rfl
theorem q444 : (Jvm.Cond.classLink "BeeYard" (109 : Nat) "java/lang/NegativeArraySizeException") ∈ lw_all := lw_g (lw_at lw_m2 89 rfl) rfl
theorem q473 : (Jvm.Cond.methodLink "BeeYard" (98 : Nat) ({ cls := "BeeYard", name := "want", desc := "(ZI)V" } : Jvm.MethodName)) ∈ lw_all := lw_g (lw_at lw_m2 118 rfl) rfl
theorem q474 : (Jvm.Cond.privateMethod ({ cls := "BeeYard", name := "want", desc := "(ZI)V" } : Jvm.MethodName)) ∈ lw_tbl := lw_at lw_m2 119 rfl
theorem q475 : (Jvm.Cond.instanceMethod ({ cls := "BeeYard", name := "want", desc := "(ZI)V" } : Jvm.MethodName)) ∈ lw_all := lw_g (lw_at lw_m2 120 rfl) rfl
theorem q476 : (Jvm.Cond.code ({ cls := "BeeYard", name := "want", desc := "(ZI)V" } : Jvm.MethodName) prog_1_method_10_code (3 : Nat) (Option.none : Option Jvm.ClassFile.FieldType)) ∈ lw_all := lw_g (lw_at lw_m2 121 rfl) rfl
theorem q477 : (Jvm.Cond.methodLink "BeeYard" (79 : Nat) ({ cls := "BeeYard$Refused", name := "by", desc := "(I)LBeeYard$Refused;" } : Jvm.MethodName)) ∈ lw_all := lw_g (lw_at lw_m2 122 rfl) rfl
theorem q481 : (Jvm.Cond.methodLink "BeeYard" (106 : Nat) ({ cls := "BeeYard", name := "row", desc := "(II)Ljava/lang/Object;" } : Jvm.MethodName)) ∈ lw_all := lw_g (lw_at lw_m2 126 rfl) rfl
theorem q482 : (Jvm.Cond.static ({ cls := "BeeYard", name := "row", desc := "(II)Ljava/lang/Object;" } : Jvm.MethodName)) ∈ lw_all := lw_g (lw_at lw_m2 127 rfl) rfl
theorem q483 : (Jvm.Cond.code ({ cls := "BeeYard", name := "row", desc := "(II)Ljava/lang/Object;" } : Jvm.MethodName) prog_1_method_1_code (2 : Nat) (Option.some (Jvm.ClassFile.FieldType.object "java/lang/Object"))) ∈ lw_all := lw_g (lw_at lw_m2 128 rfl) rfl
theorem q484 : (Jvm.Cond.methodLink "BeeYard" (111 : Nat) ({ cls := "BeeYard", name := "no", desc := "(LBeeYard$Refused;)Z" } : Jvm.MethodName)) ∈ lw_all := lw_g (lw_at lw_m2 129 rfl) rfl
theorem q485 : (Jvm.Cond.privateMethod ({ cls := "BeeYard", name := "no", desc := "(LBeeYard$Refused;)Z" } : Jvm.MethodName)) ∈ lw_tbl := lw_at lw_m2 130 rfl
theorem q486 : (Jvm.Cond.instanceMethod ({ cls := "BeeYard", name := "no", desc := "(LBeeYard$Refused;)Z" } : Jvm.MethodName)) ∈ lw_all := lw_g (lw_at lw_m2 131 rfl) rfl
theorem q487 : (Jvm.Cond.code ({ cls := "BeeYard", name := "no", desc := "(LBeeYard$Refused;)Z" } : Jvm.MethodName) prog_1_method_12_code (2 : Nat) (Option.some Jvm.ClassFile.FieldType.boolean)) ∈ lw_all := lw_g (lw_at lw_m2 132 rfl) rfl
theorem q490 : (Jvm.Cond.instanceMethod ({ cls := "BeeYard", name := "write", desc := "(IIJ)Z" } : Jvm.MethodName)) ∈ lw_all := lw_g (lw_at lw_m2 135 rfl) rfl
theorem q491 : (Jvm.Cond.selects "BeeYard" ({ cls := "BeeYard", name := "write", desc := "(IIJ)Z" } : Jvm.MethodName) ({ cls := "BeeYard", name := "write", desc := "(IIJ)Z" } : Jvm.MethodName)) ∈ lw_all := lw_g (lw_at lw_m2 136 rfl) rfl
theorem q492 : (Jvm.Cond.codeWith ({ cls := "BeeYard", name := "write", desc := "(IIJ)Z" } : Jvm.MethodName) prog_1_method_16_code (6 : Nat) (Option.some Jvm.ClassFile.FieldType.boolean) [((5 : Nat), (16 : Nat), (17 : Nat), (123 : Nat)), ((5 : Nat), (16 : Nat), (26 : Nat), (41 : Nat))]) ∈ lw_all := lw_g (lw_at lw_m2 137 rfl) rfl
theorem q493 : (Jvm.Cond.classLink "BeeYard" (123 : Nat) "java/lang/ArrayIndexOutOfBoundsException") ∈ lw_all := lw_g (lw_at lw_m2 138 rfl) rfl
theorem q512 : (Jvm.Cond.methodLink "BeeYard" (115 : Nat) ({ cls := "BeeYard", name := "on", desc := "(I)Ljava/lang/Object;" } : Jvm.MethodName)) ∈ lw_all := lw_g (lw_at lw_m2 157 rfl) rfl
theorem q513 : (Jvm.Cond.privateMethod ({ cls := "BeeYard", name := "on", desc := "(I)Ljava/lang/Object;" } : Jvm.MethodName)) ∈ lw_tbl := lw_at lw_m2 158 rfl
theorem q514 : (Jvm.Cond.instanceMethod ({ cls := "BeeYard", name := "on", desc := "(I)Ljava/lang/Object;" } : Jvm.MethodName)) ∈ lw_all := lw_g (lw_at lw_m2 159 rfl) rfl
theorem q515 : (Jvm.Cond.code ({ cls := "BeeYard", name := "on", desc := "(I)Ljava/lang/Object;" } : Jvm.MethodName) prog_1_method_14_code (2 : Nat) (Option.some (Jvm.ClassFile.FieldType.object "java/lang/Object"))) ∈ lw_all := lw_g (lw_at lw_m2 160 rfl) rfl
theorem q516 : (Jvm.Cond.methodLink "BeeYard" (119 : Nat) ({ cls := "BeeYard", name := "put", desc := "(Ljava/lang/Object;IJ)V" } : Jvm.MethodName)) ∈ lw_all := lw_g (lw_at lw_m2 161 rfl) rfl
theorem q517 : (Jvm.Cond.static ({ cls := "BeeYard", name := "put", desc := "(Ljava/lang/Object;IJ)V" } : Jvm.MethodName)) ∈ lw_all := lw_g (lw_at lw_m2 162 rfl) rfl
theorem q518 : (Jvm.Cond.code ({ cls := "BeeYard", name := "put", desc := "(Ljava/lang/Object;IJ)V" } : Jvm.MethodName) prog_1_method_5_code (7 : Nat) (Option.none : Option Jvm.ClassFile.FieldType)) ∈ lw_all := lw_g (lw_at lw_m2 163 rfl) rfl
theorem q519 : (Jvm.Cond.classLink "BeeYard" (1 : Nat) "[B") ∈ lw_all := lw_g (lw_at lw_m2 164 rfl) rfl
theorem q520 : (Jvm.Cond.classLink "BeeYard" (3 : Nat) "[S") ∈ lw_all := lw_g (lw_at lw_m2 165 rfl) rfl
theorem q521 : (Jvm.Cond.classLink "BeeYard" (5 : Nat) "[I") ∈ lw_all := lw_g (lw_at lw_m2 166 rfl) rfl
theorem q522 : (Jvm.Cond.classLink "BeeYard" (7 : Nat) "[J") ∈ lw_all := lw_g (lw_at lw_m2 167 rfl) rfl
theorem q524 : (Jvm.Cond.instanceMethod ({ cls := "BeeYard", name := "read", desc := "(II)J" } : Jvm.MethodName)) ∈ lw_all := lw_g (lw_at lw_m2 169 rfl) rfl
theorem q525 : (Jvm.Cond.selects "BeeYard" ({ cls := "BeeYard", name := "read", desc := "(II)J" } : Jvm.MethodName) ({ cls := "BeeYard", name := "read", desc := "(II)J" } : Jvm.MethodName)) ∈ lw_all := lw_g (lw_at lw_m2 170 rfl) rfl
theorem q526 : (Jvm.Cond.codeWith ({ cls := "BeeYard", name := "read", desc := "(II)J" } : Jvm.MethodName) prog_1_method_17_code (4 : Nat) (Option.some Jvm.ClassFile.FieldType.long) [((5 : Nat), (14 : Nat), (15 : Nat), (123 : Nat)), ((5 : Nat), (14 : Nat), (25 : Nat), (41 : Nat))]) ∈ lw_all := lw_g (lw_at lw_m2 171 rfl) rfl
theorem q527 : (Jvm.Cond.methodLink "BeeYard" (125 : Nat) ({ cls := "BeeYard", name := "number", desc := "(Ljava/lang/Object;I)J" } : Jvm.MethodName)) ∈ lw_all := lw_g (lw_at lw_m2 172 rfl) rfl
theorem q528 : (Jvm.Cond.static ({ cls := "BeeYard", name := "number", desc := "(Ljava/lang/Object;I)J" } : Jvm.MethodName)) ∈ lw_all := lw_g (lw_at lw_m2 173 rfl) rfl
theorem q529 : (Jvm.Cond.code ({ cls := "BeeYard", name := "number", desc := "(Ljava/lang/Object;I)J" } : Jvm.MethodName) prog_1_method_4_code (3 : Nat) (Option.some Jvm.ClassFile.FieldType.long)) ∈ lw_all := lw_g (lw_at lw_m2 174 rfl) rfl
theorem q530 : (Jvm.Cond.constantLong "BeeYard" (129 : Nat) (-1 : Int64)) ∈ lw_all := lw_g (lw_at lw_m2 175 rfl) rfl
theorem q531 : (Jvm.Cond.methodLink "BeeYard" (131 : Nat) ({ cls := "BeeYard", name := "none", desc := "(LBeeYard$Refused;)I" } : Jvm.MethodName)) ∈ lw_all := lw_g (lw_at lw_m2 176 rfl) rfl
theorem q532 : (Jvm.Cond.privateMethod ({ cls := "BeeYard", name := "none", desc := "(LBeeYard$Refused;)I" } : Jvm.MethodName)) ∈ lw_tbl := lw_at lw_m2 177 rfl
theorem q533 : (Jvm.Cond.instanceMethod ({ cls := "BeeYard", name := "none", desc := "(LBeeYard$Refused;)I" } : Jvm.MethodName)) ∈ lw_all := lw_g (lw_at lw_m2 178 rfl) rfl
theorem q534 : (Jvm.Cond.code ({ cls := "BeeYard", name := "none", desc := "(LBeeYard$Refused;)I" } : Jvm.MethodName) prog_1_method_11_code (2 : Nat) (Option.some Jvm.ClassFile.FieldType.int)) ∈ lw_all := lw_g (lw_at lw_m2 179 rfl) rfl
theorem q536 : (Jvm.Cond.instanceMethod ({ cls := "BeeYard", name := "pour", desc := "(IIIII)Z" } : Jvm.MethodName)) ∈ lw_all := lw_g (lw_at lw_m2 181 rfl) rfl
theorem q537 : (Jvm.Cond.selects "BeeYard" ({ cls := "BeeYard", name := "pour", desc := "(IIIII)Z" } : Jvm.MethodName) ({ cls := "BeeYard", name := "pour", desc := "(IIIII)Z" } : Jvm.MethodName)) ∈ lw_all := lw_g (lw_at lw_m2 182 rfl) rfl
theorem q538 : (Jvm.Cond.codeWith ({ cls := "BeeYard", name := "pour", desc := "(IIIII)Z" } : Jvm.MethodName) prog_1_method_18_code (9 : Nat) (Option.some Jvm.ClassFile.FieldType.boolean) [((85 : Nat), (97 : Nat), (100 : Nat), (145 : Nat)), ((5 : Nat), (112 : Nat), (113 : Nat), (41 : Nat))]) ∈ lw_all := lw_g (lw_at lw_m2 183 rfl) rfl
theorem q539 : (Jvm.Cond.classLink "BeeYard" (145 : Nat) "java/lang/IndexOutOfBoundsException") ∈ lw_all := lw_g (lw_at lw_m2 184 rfl) rfl
theorem q540 : (Jvm.Cond.methodLink "BeeYard" (135 : Nat) ({ cls := "BeeYard", name := "sortOf", desc := "(Ljava/lang/Object;)I" } : Jvm.MethodName)) ∈ lw_all := lw_g (lw_at lw_m2 185 rfl) rfl
theorem q541 : (Jvm.Cond.static ({ cls := "BeeYard", name := "sortOf", desc := "(Ljava/lang/Object;)I" } : Jvm.MethodName)) ∈ lw_all := lw_g (lw_at lw_m2 186 rfl) rfl
theorem q542 : (Jvm.Cond.code ({ cls := "BeeYard", name := "sortOf", desc := "(Ljava/lang/Object;)I" } : Jvm.MethodName) prog_1_method_2_code (1 : Nat) (Option.some Jvm.ClassFile.FieldType.int)) ∈ lw_all := lw_g (lw_at lw_m2 187 rfl) rfl
theorem q543 : (Jvm.Cond.methodLink "BeeYard" (139 : Nat) ({ cls := "java/lang/System", name := "arraycopy", desc := "(Ljava/lang/Object;ILjava/lang/Object;II)V" } : Jvm.MethodName)) ∈ lw_all := lw_g (lw_at lw_m2 188 rfl) rfl
theorem q547 : (Jvm.Cond.instanceMethod ({ cls := "BeeYard", name := "feed", desc := "(IIIII)I" } : Jvm.MethodName)) ∈ lw_all := lw_g (lw_at lw_m2 192 rfl) rfl
theorem q548 : (Jvm.Cond.selects "BeeYard" ({ cls := "BeeYard", name := "feed", desc := "(IIIII)I" } : Jvm.MethodName) ({ cls := "BeeYard", name := "feed", desc := "(IIIII)I" } : Jvm.MethodName)) ∈ lw_all := lw_g (lw_at lw_m2 193 rfl) rfl
theorem q549 : (Jvm.Cond.code ({ cls := "BeeYard", name := "feed", desc := "(IIIII)I" } : Jvm.MethodName) prog_1_method_28_code (6 : Nat) (Option.some Jvm.ClassFile.FieldType.int)) ∈ lw_all := lw_g (lw_at lw_m2 194 rfl) rfl
theorem q550 : (Jvm.Cond.methodLink "BeeYard" (193 : Nat) ({ cls := "BeeYard", name := "lay", desc := "(I)V" } : Jvm.MethodName)) ∈ lw_all := lw_g (lw_at lw_m2 195 rfl) rfl
theorem q551 : (Jvm.Cond.privateMethod ({ cls := "BeeYard", name := "lay", desc := "(I)V" } : Jvm.MethodName)) ∈ lw_tbl := lw_at lw_m2 196 rfl
theorem q552 : (Jvm.Cond.instanceMethod ({ cls := "BeeYard", name := "lay", desc := "(I)V" } : Jvm.MethodName)) ∈ lw_all := lw_g (lw_at lw_m2 197 rfl) rfl
theorem q553 : (Jvm.Cond.code ({ cls := "BeeYard", name := "lay", desc := "(I)V" } : Jvm.MethodName) prog_1_method_29_code (3 : Nat) (Option.none : Option Jvm.ClassFile.FieldType)) ∈ lw_all := lw_g (lw_at lw_m2 198 rfl) rfl
theorem q555 : (Jvm.Cond.instanceMethod ({ cls := "BeeYard", name := "yard", desc := "(I)I" } : Jvm.MethodName)) ∈ lw_all := lw_g (lw_at lw_m2 200 rfl) rfl
theorem q556 : (Jvm.Cond.selects "BeeYard" ({ cls := "BeeYard", name := "yard", desc := "(I)I" } : Jvm.MethodName) ({ cls := "BeeYard", name := "yard", desc := "(I)I" } : Jvm.MethodName)) ∈ lw_all := lw_g (lw_at lw_m2 201 rfl) rfl
theorem q557 : (Jvm.Cond.codeWith ({ cls := "BeeYard", name := "yard", desc := "(I)I" } : Jvm.MethodName) prog_1_method_32_code (3 : Nat) (Option.some Jvm.ClassFile.FieldType.int) [((13 : Nat), (57 : Nat), (58 : Nat), (34 : Nat))]) ∈ lw_all := lw_g (lw_at lw_m2 202 rfl) rfl
theorem q558 : (Jvm.Cond.methodLink "BeeYard" (203 : Nat) ({ cls := "BeeYard", name := "opens", desc := "(II)Z" } : Jvm.MethodName)) ∈ lw_all := lw_g (lw_at lw_m2 203 rfl) rfl
theorem q559 : (Jvm.Cond.privateMethod ({ cls := "BeeYard", name := "opens", desc := "(II)Z" } : Jvm.MethodName)) ∈ lw_tbl := lw_at lw_m2 204 rfl
theorem q560 : (Jvm.Cond.instanceMethod ({ cls := "BeeYard", name := "opens", desc := "(II)Z" } : Jvm.MethodName)) ∈ lw_all := lw_g (lw_at lw_m2 205 rfl) rfl
theorem q561 : (Jvm.Cond.code ({ cls := "BeeYard", name := "opens", desc := "(II)Z" } : Jvm.MethodName) prog_1_method_30_code (3 : Nat) (Option.some Jvm.ClassFile.FieldType.boolean)) ∈ lw_all := lw_g (lw_at lw_m2 206 rfl) rfl
theorem q562 : (Jvm.Cond.classLink "BeeYard" (207 : Nat) "BeeYard$Reader") ∈ lw_all := lw_g (lw_at lw_m2 207 rfl) rfl
theorem q564 : (Jvm.Cond.methodLink "BeeYard" (209 : Nat) ({ cls := "BeeYard$Reader", name := "<init>", desc := "(LBeeYard;I)V" } : Jvm.MethodName)) ∈ lw_all := lw_g (lw_at lw_m2 209 rfl) rfl
theorem q586 : (Jvm.Cond.fieldLinkNest "BeeYard" (233 : Nat) "BeeYard$Reader" "steps" "I" "BeeYard") ∈ lw_tbl := lw_at lw_m2 231 rfl
theorem q603 : (Jvm.Cond.methodLink "BeeYard" (212 : Nat) ({ cls := "BeeYard$Reader", name := "yard", desc := "(LBeeYard$Yard;)V" } : Jvm.MethodName)) ∈ lw_all := lw_g (lw_at lw_m3 8 rfl) rfl
theorem q748 : (Jvm.Cond.fieldLinkNest "BeeYard" (176 : Nat) "BeeYard$Hive" "frames" "[[S" "BeeYard") ∈ lw_tbl := lw_at lw_m3 153 rfl
theorem q751 : (Jvm.Cond.fieldLinkNest "BeeYard" (306 : Nat) "BeeYard$Hive" "order" "[I" "BeeYard") ∈ lw_tbl := lw_at lw_m3 156 rfl
theorem q756 : (Jvm.Cond.fieldLinkNest "BeeYard" (264 : Nat) "BeeYard$Hive" "bees" "I" "BeeYard") ∈ lw_tbl := lw_at lw_m3 161 rfl
theorem q758 : (Jvm.Cond.fieldLinkNest "BeeYard" (277 : Nat) "BeeYard$Hive" "hunger" "I" "BeeYard") ∈ lw_tbl := lw_at lw_m3 163 rfl
theorem q763 : (Jvm.Cond.fieldLinkNest "BeeYard" (280 : Nat) "BeeYard$Hive" "queen" "I" "BeeYard") ∈ lw_tbl := lw_at lw_m3 168 rfl
theorem q765 : (Jvm.Cond.fieldLinkNest "BeeYard" (408 : Nat) "BeeYard$Hive" "washed" "I" "BeeYard") ∈ lw_tbl := lw_at lw_m3 170 rfl
theorem q767 : (Jvm.Cond.fieldLinkNest "BeeYard" (411 : Nat) "BeeYard$Hive" "mites" "I" "BeeYard") ∈ lw_tbl := lw_at lw_m3 172 rfl
theorem q774 : (Jvm.Cond.fieldLinkNest "BeeYard" (403 : Nat) "BeeYard$Hive" "starved" "I" "BeeYard") ∈ lw_tbl := lw_at lw_m3 179 rfl
theorem q861 : (Jvm.Cond.methodLink "BeeYard" (215 : Nat) ({ cls := "BeeYard$Yard", name := "be", desc := "(LBeeYard$Yard;)V" } : Jvm.MethodName)) ∈ lw_all := lw_g (lw_at lw_m4 26 rfl) rfl
theorem q877 : (Jvm.Cond.methodLink "BeeYard" (222 : Nat) ({ cls := "BeeYard", name := "faulty", desc := "(LBeeYard$Bad;)I" } : Jvm.MethodName)) ∈ lw_all := lw_g (lw_at lw_m4 42 rfl) rfl
theorem q878 : (Jvm.Cond.privateMethod ({ cls := "BeeYard", name := "faulty", desc := "(LBeeYard$Bad;)I" } : Jvm.MethodName)) ∈ lw_tbl := lw_at lw_m4 43 rfl
theorem q879 : (Jvm.Cond.instanceMethod ({ cls := "BeeYard", name := "faulty", desc := "(LBeeYard$Bad;)I" } : Jvm.MethodName)) ∈ lw_all := lw_g (lw_at lw_m4 44 rfl) rfl
theorem q880 : (Jvm.Cond.code ({ cls := "BeeYard", name := "faulty", desc := "(LBeeYard$Bad;)I" } : Jvm.MethodName) prog_1_method_31_code (2 : Nat) (Option.some Jvm.ClassFile.FieldType.int)) ∈ lw_all := lw_g (lw_at lw_m4 45 rfl) rfl
theorem q882 : (Jvm.Cond.instanceMethod ({ cls := "BeeYard", name := "season", desc := "(I)I" } : Jvm.MethodName)) ∈ lw_all := lw_g (lw_at lw_m4 47 rfl) rfl
theorem q883 : (Jvm.Cond.selects "BeeYard" ({ cls := "BeeYard", name := "season", desc := "(I)I" } : Jvm.MethodName) ({ cls := "BeeYard", name := "season", desc := "(I)I" } : Jvm.MethodName)) ∈ lw_all := lw_g (lw_at lw_m4 48 rfl) rfl
theorem q884 : (Jvm.Cond.codeWith ({ cls := "BeeYard", name := "season", desc := "(I)I" } : Jvm.MethodName) prog_1_method_33_code (4 : Nat) (Option.some Jvm.ClassFile.FieldType.int) [((13 : Nat), (53 : Nat), (54 : Nat), (34 : Nat))]) ∈ lw_all := lw_g (lw_at lw_m4 49 rfl) rfl
theorem q885 : (Jvm.Cond.classLink "BeeYard" (226 : Nat) "BeeYard$Loop") ∈ lw_all := lw_g (lw_at lw_m4 50 rfl) rfl
theorem q887 : (Jvm.Cond.methodLink "BeeYard" (228 : Nat) ({ cls := "BeeYard$Loop", name := "<init>", desc := "(I)V" } : Jvm.MethodName)) ∈ lw_all := lw_g (lw_at lw_m4 52 rfl) rfl
theorem q909 : (Jvm.Cond.methodLink "BeeYard" (158 : Nat) ({ cls := "BeeYard", name := "yard", desc := "()LBeeYard$Yard;" } : Jvm.MethodName)) ∈ lw_all := lw_g (lw_at lw_m4 74 rfl) rfl
theorem q910 : (Jvm.Cond.privateMethod ({ cls := "BeeYard", name := "yard", desc := "()LBeeYard$Yard;" } : Jvm.MethodName)) ∈ lw_tbl := lw_at lw_m4 75 rfl
theorem q911 : (Jvm.Cond.instanceMethod ({ cls := "BeeYard", name := "yard", desc := "()LBeeYard$Yard;" } : Jvm.MethodName)) ∈ lw_all := lw_g (lw_at lw_m4 76 rfl) rfl
theorem q912 : (Jvm.Cond.code ({ cls := "BeeYard", name := "yard", desc := "()LBeeYard$Yard;" } : Jvm.MethodName) prog_1_method_20_code (1 : Nat) (Option.some (Jvm.ClassFile.FieldType.object "BeeYard$Yard"))) ∈ lw_all := lw_g (lw_at lw_m4 77 rfl) rfl
theorem q913 : (Jvm.Cond.methodLink "BeeYard" (230 : Nat) ({ cls := "BeeYard$Reader", name := "season", desc := "(LBeeYard$Yard;LBeeYard$Block;)V" } : Jvm.MethodName)) ∈ lw_all := lw_g (lw_at lw_m4 78 rfl) rfl
theorem q990 : (Jvm.Cond.instanceMethod ({ cls := "BeeYard", name := "fault", desc := "(I)I" } : Jvm.MethodName)) ∈ lw_all := lw_g (lw_at lw_m4 155 rfl) rfl
theorem q991 : (Jvm.Cond.selects "BeeYard" ({ cls := "BeeYard", name := "fault", desc := "(I)I" } : Jvm.MethodName) ({ cls := "BeeYard", name := "fault", desc := "(I)I" } : Jvm.MethodName)) ∈ lw_all := lw_g (lw_at lw_m4 156 rfl) rfl
theorem q992 : (Jvm.Cond.code ({ cls := "BeeYard", name := "fault", desc := "(I)I" } : Jvm.MethodName) prog_1_method_34_code (2 : Nat) (Option.some Jvm.ClassFile.FieldType.int)) ∈ lw_all := lw_g (lw_at lw_m4 157 rfl) rfl
theorem q994 : (Jvm.Cond.instanceMethod ({ cls := "BeeYard", name := "told", desc := "(I)I" } : Jvm.MethodName)) ∈ lw_all := lw_g (lw_at lw_m4 159 rfl) rfl
theorem q995 : (Jvm.Cond.selects "BeeYard" ({ cls := "BeeYard", name := "told", desc := "(I)I" } : Jvm.MethodName) ({ cls := "BeeYard", name := "told", desc := "(I)I" } : Jvm.MethodName)) ∈ lw_all := lw_g (lw_at lw_m4 160 rfl) rfl
theorem q996 : (Jvm.Cond.code ({ cls := "BeeYard", name := "told", desc := "(I)I" } : Jvm.MethodName) prog_1_method_35_code (2 : Nat) (Option.some Jvm.ClassFile.FieldType.int)) ∈ lw_all := lw_g (lw_at lw_m4 161 rfl) rfl
theorem q997 : (Jvm.Cond.constantLong "BeeYard" (236 : Nat) (9 : Int64)) ∈ lw_all := lw_g (lw_at lw_m4 162 rfl) rfl
theorem q998 : (Jvm.Cond.methodLink "BeeYard" (164 : Nat) ({ cls := "BeeYard", name := "isIn", desc := "(JJJ)Z" } : Jvm.MethodName)) ∈ lw_all := lw_g (lw_at lw_m4 163 rfl) rfl
theorem q999 : (Jvm.Cond.static ({ cls := "BeeYard", name := "isIn", desc := "(JJJ)Z" } : Jvm.MethodName)) ∈ lw_all := lw_g (lw_at lw_m4 164 rfl) rfl
theorem q1000 : (Jvm.Cond.code ({ cls := "BeeYard", name := "isIn", desc := "(JJJ)Z" } : Jvm.MethodName) prog_1_method_19_code (6 : Nat) (Option.some Jvm.ClassFile.FieldType.boolean)) ∈ lw_all := lw_g (lw_at lw_m4 165 rfl) rfl
theorem q1001 : (Jvm.Cond.methodLink "BeeYard" (182 : Nat) ({ cls := "BeeYard", name := "lines", desc := "()LBeeYard$Lines;" } : Jvm.MethodName)) ∈ lw_all := lw_g (lw_at lw_m4 166 rfl) rfl
theorem q1002 : (Jvm.Cond.privateMethod ({ cls := "BeeYard", name := "lines", desc := "()LBeeYard$Lines;" } : Jvm.MethodName)) ∈ lw_tbl := lw_at lw_m4 167 rfl
theorem q1003 : (Jvm.Cond.instanceMethod ({ cls := "BeeYard", name := "lines", desc := "()LBeeYard$Lines;" } : Jvm.MethodName)) ∈ lw_all := lw_g (lw_at lw_m4 168 rfl) rfl
theorem q1004 : (Jvm.Cond.code ({ cls := "BeeYard", name := "lines", desc := "()LBeeYard$Lines;" } : Jvm.MethodName) prog_1_method_22_code (1 : Nat) (Option.some (Jvm.ClassFile.FieldType.object "BeeYard$Lines"))) ∈ lw_all := lw_g (lw_at lw_m4 169 rfl) rfl
theorem q1006 : (Jvm.Cond.instanceMethod ({ cls := "BeeYard", name := "hive", desc := "(II)I" } : Jvm.MethodName)) ∈ lw_all := lw_g (lw_at lw_m4 171 rfl) rfl
theorem q1007 : (Jvm.Cond.selects "BeeYard" ({ cls := "BeeYard", name := "hive", desc := "(II)I" } : Jvm.MethodName) ({ cls := "BeeYard", name := "hive", desc := "(II)I" } : Jvm.MethodName)) ∈ lw_all := lw_g (lw_at lw_m4 172 rfl) rfl
theorem q1008 : (Jvm.Cond.code ({ cls := "BeeYard", name := "hive", desc := "(II)I" } : Jvm.MethodName) prog_1_method_36_code (4 : Nat) (Option.some Jvm.ClassFile.FieldType.int)) ∈ lw_all := lw_g (lw_at lw_m4 173 rfl) rfl
theorem q1009 : (Jvm.Cond.methodLink "BeeYard" (168 : Nat) ({ cls := "BeeYard", name := "isHive", desc := "(I)Z" } : Jvm.MethodName)) ∈ lw_all := lw_g (lw_at lw_m4 174 rfl) rfl
theorem q1010 : (Jvm.Cond.privateMethod ({ cls := "BeeYard", name := "isHive", desc := "(I)Z" } : Jvm.MethodName)) ∈ lw_tbl := lw_at lw_m4 175 rfl
theorem q1011 : (Jvm.Cond.instanceMethod ({ cls := "BeeYard", name := "isHive", desc := "(I)Z" } : Jvm.MethodName)) ∈ lw_all := lw_g (lw_at lw_m4 176 rfl) rfl
theorem q1012 : (Jvm.Cond.code ({ cls := "BeeYard", name := "isHive", desc := "(I)Z" } : Jvm.MethodName) prog_1_method_23_code (2 : Nat) (Option.some Jvm.ClassFile.FieldType.boolean)) ∈ lw_all := lw_g (lw_at lw_m4 177 rfl) rfl
theorem q1013 : (Jvm.Cond.constantLong "BeeYard" (262 : Nat) (6 : Int64)) ∈ lw_all := lw_g (lw_at lw_m4 178 rfl) rfl
theorem q1014 : (Jvm.Cond.methodLink "BeeYard" (172 : Nat) ({ cls := "BeeYard", name := "at", desc := "(I)LBeeYard$Hive;" } : Jvm.MethodName)) ∈ lw_all := lw_g (lw_at lw_m4 179 rfl) rfl
theorem q1015 : (Jvm.Cond.privateMethod ({ cls := "BeeYard", name := "at", desc := "(I)LBeeYard$Hive;" } : Jvm.MethodName)) ∈ lw_tbl := lw_at lw_m4 180 rfl
theorem q1016 : (Jvm.Cond.instanceMethod ({ cls := "BeeYard", name := "at", desc := "(I)LBeeYard$Hive;" } : Jvm.MethodName)) ∈ lw_all := lw_g (lw_at lw_m4 181 rfl) rfl
theorem q1017 : (Jvm.Cond.code ({ cls := "BeeYard", name := "at", desc := "(I)LBeeYard$Hive;" } : Jvm.MethodName) prog_1_method_21_code (2 : Nat) (Option.some (Jvm.ClassFile.FieldType.object "BeeYard$Hive"))) ∈ lw_all := lw_g (lw_at lw_m4 182 rfl) rfl
theorem q1018 : (Jvm.Cond.methodLink "BeeYard" (267 : Nat) ({ cls := "BeeYard$Hive", name := "honey", desc := "()I" } : Jvm.MethodName)) ∈ lw_all := lw_g (lw_at lw_m4 183 rfl) rfl
theorem q1019 : (Jvm.Cond.methodLink "BeeYard" (271 : Nat) ({ cls := "BeeYard$Hive", name := "brood", desc := "()I" } : Jvm.MethodName)) ∈ lw_all := lw_g (lw_at lw_m4 184 rfl) rfl
theorem q1023 : (Jvm.Cond.methodLink "BeeYard" (274 : Nat) ({ cls := "BeeYard$Hive", name := "empty", desc := "()I" } : Jvm.MethodName)) ∈ lw_all := lw_g (lw_at lw_m4 188 rfl) rfl
theorem q1027 : (Jvm.Cond.methodLink "BeeYard" (283 : Nat) ({ cls := "BeeYard", name := "answer", desc := "(I)I" } : Jvm.MethodName)) ∈ lw_all := lw_g (lw_at lw_m4 192 rfl) rfl
theorem q1028 : (Jvm.Cond.privateMethod ({ cls := "BeeYard", name := "answer", desc := "(I)I" } : Jvm.MethodName)) ∈ lw_tbl := lw_at lw_m4 193 rfl
theorem q1029 : (Jvm.Cond.instanceMethod ({ cls := "BeeYard", name := "answer", desc := "(I)I" } : Jvm.MethodName)) ∈ lw_all := lw_g (lw_at lw_m4 194 rfl) rfl
theorem q1030 : (Jvm.Cond.code ({ cls := "BeeYard", name := "answer", desc := "(I)I" } : Jvm.MethodName) prog_1_method_27_code (2 : Nat) (Option.some Jvm.ClassFile.FieldType.int)) ∈ lw_all := lw_g (lw_at lw_m4 195 rfl) rfl
theorem q1032 : (Jvm.Cond.instanceMethod ({ cls := "BeeYard", name := "line", desc := "(II)I" } : Jvm.MethodName)) ∈ lw_all := lw_g (lw_at lw_m4 197 rfl) rfl
theorem q1033 : (Jvm.Cond.selects "BeeYard" ({ cls := "BeeYard", name := "line", desc := "(II)I" } : Jvm.MethodName) ({ cls := "BeeYard", name := "line", desc := "(II)I" } : Jvm.MethodName)) ∈ lw_all := lw_g (lw_at lw_m4 198 rfl) rfl
theorem q1034 : (Jvm.Cond.code ({ cls := "BeeYard", name := "line", desc := "(II)I" } : Jvm.MethodName) prog_1_method_37_code (3 : Nat) (Option.some Jvm.ClassFile.FieldType.int)) ∈ lw_all := lw_g (lw_at lw_m4 199 rfl) rfl
theorem q1035 : (Jvm.Cond.methodLink "BeeYard" (287 : Nat) ({ cls := "BeeYard$Lines", name := "isThere", desc := "(I)Z" } : Jvm.MethodName)) ∈ lw_all := lw_g (lw_at lw_m4 200 rfl) rfl
theorem q1039 : (Jvm.Cond.constantLong "BeeYard" (290 : Nat) (2 : Int64)) ∈ lw_all := lw_g (lw_at lw_m4 204 rfl) rfl
theorem q1040 : (Jvm.Cond.methodLink "BeeYard" (292 : Nat) ({ cls := "BeeYard$Yard", name := "homeOf", desc := "(I)I" } : Jvm.MethodName)) ∈ lw_all := lw_g (lw_at lw_m4 205 rfl) rfl
theorem q1045 : (Jvm.Cond.instanceMethod ({ cls := "BeeYard", name := "fieldAt", desc := "(III)I" } : Jvm.MethodName)) ∈ lw_all := lw_g (lw_at lw_m4 210 rfl) rfl
theorem q1046 : (Jvm.Cond.selects "BeeYard" ({ cls := "BeeYard", name := "fieldAt", desc := "(III)I" } : Jvm.MethodName) ({ cls := "BeeYard", name := "fieldAt", desc := "(III)I" } : Jvm.MethodName)) ∈ lw_all := lw_g (lw_at lw_m4 211 rfl) rfl
theorem q1047 : (Jvm.Cond.code ({ cls := "BeeYard", name := "fieldAt", desc := "(III)I" } : Jvm.MethodName) prog_1_method_38_code (4 : Nat) (Option.some Jvm.ClassFile.FieldType.int)) ∈ lw_all := lw_g (lw_at lw_m4 212 rfl) rfl
theorem q1048 : (Jvm.Cond.methodLink "BeeYard" (301 : Nat) ({ cls := "BeeYard", name := "isFrame", desc := "(II)Z" } : Jvm.MethodName)) ∈ lw_all := lw_g (lw_at lw_m4 213 rfl) rfl
theorem q1049 : (Jvm.Cond.privateMethod ({ cls := "BeeYard", name := "isFrame", desc := "(II)Z" } : Jvm.MethodName)) ∈ lw_tbl := lw_at lw_m4 214 rfl
theorem q1050 : (Jvm.Cond.instanceMethod ({ cls := "BeeYard", name := "isFrame", desc := "(II)Z" } : Jvm.MethodName)) ∈ lw_all := lw_g (lw_at lw_m4 215 rfl) rfl
theorem q1051 : (Jvm.Cond.code ({ cls := "BeeYard", name := "isFrame", desc := "(II)Z" } : Jvm.MethodName) prog_1_method_24_code (3 : Nat) (Option.some Jvm.ClassFile.FieldType.boolean)) ∈ lw_all := lw_g (lw_at lw_m4 216 rfl) rfl
theorem q1052 : (Jvm.Cond.constantLong "BeeYard" (304 : Nat) (15 : Int64)) ∈ lw_all := lw_g (lw_at lw_m4 217 rfl) rfl
theorem q1054 : (Jvm.Cond.instanceMethod ({ cls := "BeeYard", name := "order", desc := "(II)I" } : Jvm.MethodName)) ∈ lw_all := lw_g (lw_at lw_m4 219 rfl) rfl
theorem q1055 : (Jvm.Cond.selects "BeeYard" ({ cls := "BeeYard", name := "order", desc := "(II)I" } : Jvm.MethodName) ({ cls := "BeeYard", name := "order", desc := "(II)I" } : Jvm.MethodName)) ∈ lw_all := lw_g (lw_at lw_m4 220 rfl) rfl
theorem q1056 : (Jvm.Cond.code ({ cls := "BeeYard", name := "order", desc := "(II)I" } : Jvm.MethodName) prog_1_method_39_code (3 : Nat) (Option.some Jvm.ClassFile.FieldType.int)) ∈ lw_all := lw_g (lw_at lw_m4 221 rfl) rfl
theorem q1058 : (Jvm.Cond.instanceMethod ({ cls := "BeeYard", name := "copyOut", desc := "(III)I" } : Jvm.MethodName)) ∈ lw_all := lw_g (lw_at lw_m4 223 rfl) rfl
theorem q1059 : (Jvm.Cond.selects "BeeYard" ({ cls := "BeeYard", name := "copyOut", desc := "(III)I" } : Jvm.MethodName) ({ cls := "BeeYard", name := "copyOut", desc := "(III)I" } : Jvm.MethodName)) ∈ lw_all := lw_g (lw_at lw_m4 224 rfl) rfl
theorem q1060 : (Jvm.Cond.codeWith ({ cls := "BeeYard", name := "copyOut", desc := "(III)I" } : Jvm.MethodName) prog_1_method_40_code (5 : Nat) (Option.some Jvm.ClassFile.FieldType.int) [((39 : Nat), (102 : Nat), (103 : Nat), (41 : Nat))]) ∈ lw_all := lw_g (lw_at lw_m4 225 rfl) rfl
theorem q1061 : (Jvm.Cond.constantLong "BeeYard" (309 : Nat) (3 : Int64)) ∈ lw_all := lw_g (lw_at lw_m4 226 rfl) rfl
theorem q1062 : (Jvm.Cond.methodLink "BeeYard" (311 : Nat) ({ cls := "BeeYard", name := "sizeOf", desc := "(Ljava/lang/Object;)I" } : Jvm.MethodName)) ∈ lw_all := lw_g (lw_at lw_m4 227 rfl) rfl
theorem q1063 : (Jvm.Cond.static ({ cls := "BeeYard", name := "sizeOf", desc := "(Ljava/lang/Object;)I" } : Jvm.MethodName)) ∈ lw_all := lw_g (lw_at lw_m4 228 rfl) rfl
theorem q1064 : (Jvm.Cond.code ({ cls := "BeeYard", name := "sizeOf", desc := "(Ljava/lang/Object;)I" } : Jvm.MethodName) prog_1_method_3_code (2 : Nat) (Option.some Jvm.ClassFile.FieldType.int)) ∈ lw_all := lw_g (lw_at lw_m4 229 rfl) rfl
theorem q1065 : (Jvm.Cond.methodLink "BeeYard" (314 : Nat) ({ cls := "BeeYard", name := "write", desc := "(IIJ)Z" } : Jvm.MethodName)) ∈ lw_all := lw_g (lw_at lw_m4 230 rfl) rfl
theorem q1067 : (Jvm.Cond.instanceMethod ({ cls := "BeeYard", name := "copyIn", desc := "(III)I" } : Jvm.MethodName)) ∈ lw_all := lw_g (lw_at lw_m4 232 rfl) rfl
theorem q1068 : (Jvm.Cond.selects "BeeYard" ({ cls := "BeeYard", name := "copyIn", desc := "(III)I" } : Jvm.MethodName) ({ cls := "BeeYard", name := "copyIn", desc := "(III)I" } : Jvm.MethodName)) ∈ lw_all := lw_g (lw_at lw_m4 233 rfl) rfl
theorem q1069 : (Jvm.Cond.codeWith ({ cls := "BeeYard", name := "copyIn", desc := "(III)I" } : Jvm.MethodName) prog_1_method_41_code (7 : Nat) (Option.some Jvm.ClassFile.FieldType.int) [((39 : Nat), (178 : Nat), (179 : Nat), (41 : Nat))]) ∈ lw_all := lw_g (lw_at lw_m4 234 rfl) rfl
theorem q1070 : (Jvm.Cond.constantLong "BeeYard" (318 : Nat) (121 : Int64)) ∈ lw_all := lw_g (lw_at lw_m4 235 rfl) rfl
theorem q1072 : (Jvm.Cond.instanceMethod ({ cls := "BeeYard", name := "days", desc := "(I)I" } : Jvm.MethodName)) ∈ lw_all := lw_g (lw_at lw_m4 237 rfl) rfl
theorem q1073 : (Jvm.Cond.selects "BeeYard" ({ cls := "BeeYard", name := "days", desc := "(I)I" } : Jvm.MethodName) ({ cls := "BeeYard", name := "days", desc := "(I)I" } : Jvm.MethodName)) ∈ lw_all := lw_g (lw_at lw_m4 238 rfl) rfl
theorem q1074 : (Jvm.Cond.code ({ cls := "BeeYard", name := "days", desc := "(I)I" } : Jvm.MethodName) prog_1_method_42_code (2 : Nat) (Option.some Jvm.ClassFile.FieldType.int)) ∈ lw_all := lw_g (lw_at lw_m4 239 rfl) rfl
theorem q1075 : (Jvm.Cond.constantLong "BeeYard" (320 : Nat) (60 : Int64)) ∈ lw_all := lw_g (lw_at lw_m5 0 rfl) rfl
theorem q1076 : (Jvm.Cond.methodLink "BeeYard" (322 : Nat) ({ cls := "BeeYard$Yard", name := "canPass", desc := "(I)Z" } : Jvm.MethodName)) ∈ lw_all := lw_g (lw_at lw_m5 1 rfl) rfl
theorem q1080 : (Jvm.Cond.methodLink "BeeYard" (325 : Nat) ({ cls := "BeeYard$Yard", name := "passes", desc := "(I)V" } : Jvm.MethodName)) ∈ lw_all := lw_g (lw_at lw_m5 5 rfl) rfl
theorem q1097 : (Jvm.Cond.instanceMethod ({ cls := "BeeYard", name := "bring", desc := "(II)I" } : Jvm.MethodName)) ∈ lw_all := lw_g (lw_at lw_m5 22 rfl) rfl
theorem q1098 : (Jvm.Cond.selects "BeeYard" ({ cls := "BeeYard", name := "bring", desc := "(II)I" } : Jvm.MethodName) ({ cls := "BeeYard", name := "bring", desc := "(II)I" } : Jvm.MethodName)) ∈ lw_all := lw_g (lw_at lw_m5 23 rfl) rfl
theorem q1099 : (Jvm.Cond.code ({ cls := "BeeYard", name := "bring", desc := "(II)I" } : Jvm.MethodName) prog_1_method_43_code (3 : Nat) (Option.some Jvm.ClassFile.FieldType.int)) ∈ lw_all := lw_g (lw_at lw_m5 24 rfl) rfl
theorem q1100 : (Jvm.Cond.constantLong "BeeYard" (328 : Nat) (9999 : Int64)) ∈ lw_all := lw_g (lw_at lw_m5 25 rfl) rfl
theorem q1101 : (Jvm.Cond.methodLink "BeeYard" (330 : Nat) ({ cls := "BeeYard$Yard", name := "brings", desc := "(II)I" } : Jvm.MethodName)) ∈ lw_all := lw_g (lw_at lw_m5 26 rfl) rfl
theorem q1107 : (Jvm.Cond.instanceMethod ({ cls := "BeeYard", name := "harvest", desc := "(II)I" } : Jvm.MethodName)) ∈ lw_all := lw_g (lw_at lw_m5 32 rfl) rfl
theorem q1108 : (Jvm.Cond.selects "BeeYard" ({ cls := "BeeYard", name := "harvest", desc := "(II)I" } : Jvm.MethodName) ({ cls := "BeeYard", name := "harvest", desc := "(II)I" } : Jvm.MethodName)) ∈ lw_all := lw_g (lw_at lw_m5 33 rfl) rfl
theorem q1109 : (Jvm.Cond.code ({ cls := "BeeYard", name := "harvest", desc := "(II)I" } : Jvm.MethodName) prog_1_method_44_code (3 : Nat) (Option.some Jvm.ClassFile.FieldType.int)) ∈ lw_all := lw_g (lw_at lw_m5 34 rfl) rfl
theorem q1110 : (Jvm.Cond.methodLink "BeeYard" (334 : Nat) ({ cls := "BeeYard$Yard", name := "harvests", desc := "(II)I" } : Jvm.MethodName)) ∈ lw_all := lw_g (lw_at lw_m5 35 rfl) rfl
theorem q1119 : (Jvm.Cond.instanceMethod ({ cls := "BeeYard", name := "move", desc := "(IIII)Z" } : Jvm.MethodName)) ∈ lw_all := lw_g (lw_at lw_m5 44 rfl) rfl
theorem q1120 : (Jvm.Cond.selects "BeeYard" ({ cls := "BeeYard", name := "move", desc := "(IIII)Z" } : Jvm.MethodName) ({ cls := "BeeYard", name := "move", desc := "(IIII)Z" } : Jvm.MethodName)) ∈ lw_all := lw_g (lw_at lw_m5 45 rfl) rfl
theorem q1121 : (Jvm.Cond.code ({ cls := "BeeYard", name := "move", desc := "(IIII)Z" } : Jvm.MethodName) prog_1_method_45_code (5 : Nat) (Option.some Jvm.ClassFile.FieldType.boolean)) ∈ lw_all := lw_g (lw_at lw_m5 46 rfl) rfl
theorem q1122 : (Jvm.Cond.methodLink "BeeYard" (337 : Nat) ({ cls := "BeeYard$Hive", name := "swaps", desc := "(LBeeYard$Hive;ILBeeYard$Hive;I)V" } : Jvm.MethodName)) ∈ lw_all := lw_g (lw_at lw_m5 47 rfl) rfl
theorem q1126 : (Jvm.Cond.instanceMethod ({ cls := "BeeYard", name := "split", desc := "(II)I" } : Jvm.MethodName)) ∈ lw_all := lw_g (lw_at lw_m5 51 rfl) rfl
theorem q1127 : (Jvm.Cond.selects "BeeYard" ({ cls := "BeeYard", name := "split", desc := "(II)I" } : Jvm.MethodName) ({ cls := "BeeYard", name := "split", desc := "(II)I" } : Jvm.MethodName)) ∈ lw_all := lw_g (lw_at lw_m5 52 rfl) rfl
theorem q1128 : (Jvm.Cond.code ({ cls := "BeeYard", name := "split", desc := "(II)I" } : Jvm.MethodName) prog_1_method_46_code (4 : Nat) (Option.some Jvm.ClassFile.FieldType.int)) ∈ lw_all := lw_g (lw_at lw_m5 53 rfl) rfl
theorem q1129 : (Jvm.Cond.methodLink "BeeYard" (341 : Nat) ({ cls := "BeeYard", name := "areTwo", desc := "(II)Z" } : Jvm.MethodName)) ∈ lw_all := lw_g (lw_at lw_m5 54 rfl) rfl
theorem q1130 : (Jvm.Cond.privateMethod ({ cls := "BeeYard", name := "areTwo", desc := "(II)Z" } : Jvm.MethodName)) ∈ lw_tbl := lw_at lw_m5 55 rfl
theorem q1131 : (Jvm.Cond.instanceMethod ({ cls := "BeeYard", name := "areTwo", desc := "(II)Z" } : Jvm.MethodName)) ∈ lw_all := lw_g (lw_at lw_m5 56 rfl) rfl
theorem q1132 : (Jvm.Cond.code ({ cls := "BeeYard", name := "areTwo", desc := "(II)Z" } : Jvm.MethodName) prog_1_method_25_code (3 : Nat) (Option.some Jvm.ClassFile.FieldType.boolean)) ∈ lw_all := lw_g (lw_at lw_m5 57 rfl) rfl
theorem q1133 : (Jvm.Cond.methodLink "BeeYard" (344 : Nat) ({ cls := "BeeYard$Hive", name := "fields", desc := "()I" } : Jvm.MethodName)) ∈ lw_all := lw_g (lw_at lw_m5 58 rfl) rfl
theorem q1134 : (Jvm.Cond.methodLink "BeeYard" (347 : Nat) ({ cls := "java/lang/Math", name := "min", desc := "(II)I" } : Jvm.MethodName)) ∈ lw_all := lw_g (lw_at lw_m5 59 rfl) rfl
theorem q1136 : (Jvm.Cond.instanceMethod ({ cls := "BeeYard", name := "join", desc := "(II)I" } : Jvm.MethodName)) ∈ lw_all := lw_g (lw_at lw_m5 61 rfl) rfl
theorem q1137 : (Jvm.Cond.selects "BeeYard" ({ cls := "BeeYard", name := "join", desc := "(II)I" } : Jvm.MethodName) ({ cls := "BeeYard", name := "join", desc := "(II)I" } : Jvm.MethodName)) ∈ lw_all := lw_g (lw_at lw_m5 62 rfl) rfl
theorem q1138 : (Jvm.Cond.code ({ cls := "BeeYard", name := "join", desc := "(II)I" } : Jvm.MethodName) prog_1_method_47_code (4 : Nat) (Option.some Jvm.ClassFile.FieldType.int)) ∈ lw_all := lw_g (lw_at lw_m5 63 rfl) rfl
theorem q1139 : (Jvm.Cond.constant "BeeYard" (350 : Nat) (99999 : Int32)) ∈ lw_all := lw_g (lw_at lw_m5 64 rfl) rfl
theorem q1140 : (Jvm.Cond.methodLink "BeeYard" (351 : Nat) ({ cls := "BeeYard$Hive", name := "stores", desc := "(I)I" } : Jvm.MethodName)) ∈ lw_all := lw_g (lw_at lw_m5 65 rfl) rfl
theorem q1141 : (Jvm.Cond.methodLink "BeeYard" (354 : Nat) ({ cls := "BeeYard$Hive", name := "clears", desc := "()V" } : Jvm.MethodName)) ∈ lw_all := lw_g (lw_at lw_m5 66 rfl) rfl
theorem q1146 : (Jvm.Cond.instanceMethod ({ cls := "BeeYard", name := "seat", desc := "(II)Z" } : Jvm.MethodName)) ∈ lw_all := lw_g (lw_at lw_m5 71 rfl) rfl
theorem q1147 : (Jvm.Cond.selects "BeeYard" ({ cls := "BeeYard", name := "seat", desc := "(II)Z" } : Jvm.MethodName) ({ cls := "BeeYard", name := "seat", desc := "(II)Z" } : Jvm.MethodName)) ∈ lw_all := lw_g (lw_at lw_m5 72 rfl) rfl
theorem q1148 : (Jvm.Cond.code ({ cls := "BeeYard", name := "seat", desc := "(II)Z" } : Jvm.MethodName) prog_1_method_48_code (3 : Nat) (Option.some Jvm.ClassFile.FieldType.boolean)) ∈ lw_all := lw_g (lw_at lw_m5 73 rfl) rfl
theorem q1149 : (Jvm.Cond.methodLink "BeeYard" (357 : Nat) ({ cls := "BeeYard", name := "isQueen", desc := "(I)Z" } : Jvm.MethodName)) ∈ lw_all := lw_g (lw_at lw_m5 74 rfl) rfl
theorem q1150 : (Jvm.Cond.privateMethod ({ cls := "BeeYard", name := "isQueen", desc := "(I)Z" } : Jvm.MethodName)) ∈ lw_tbl := lw_at lw_m5 75 rfl
theorem q1151 : (Jvm.Cond.instanceMethod ({ cls := "BeeYard", name := "isQueen", desc := "(I)Z" } : Jvm.MethodName)) ∈ lw_all := lw_g (lw_at lw_m5 76 rfl) rfl
theorem q1152 : (Jvm.Cond.code ({ cls := "BeeYard", name := "isQueen", desc := "(I)Z" } : Jvm.MethodName) prog_1_method_26_code (2 : Nat) (Option.some Jvm.ClassFile.FieldType.boolean)) ∈ lw_all := lw_g (lw_at lw_m5 77 rfl) rfl
theorem q1153 : (Jvm.Cond.methodLink "BeeYard" (360 : Nat) ({ cls := "BeeYard$Yard", name := "canSeat", desc := "(II)Z" } : Jvm.MethodName)) ∈ lw_all := lw_g (lw_at lw_m5 78 rfl) rfl
theorem q1159 : (Jvm.Cond.instanceMethod ({ cls := "BeeYard", name := "crowded", desc := "(I)I" } : Jvm.MethodName)) ∈ lw_all := lw_g (lw_at lw_m5 84 rfl) rfl
theorem q1160 : (Jvm.Cond.selects "BeeYard" ({ cls := "BeeYard", name := "crowded", desc := "(I)I" } : Jvm.MethodName) ({ cls := "BeeYard", name := "crowded", desc := "(I)I" } : Jvm.MethodName)) ∈ lw_all := lw_g (lw_at lw_m5 85 rfl) rfl
theorem q1161 : (Jvm.Cond.code ({ cls := "BeeYard", name := "crowded", desc := "(I)I" } : Jvm.MethodName) prog_1_method_49_code (2 : Nat) (Option.some Jvm.ClassFile.FieldType.int)) ∈ lw_all := lw_g (lw_at lw_m5 86 rfl) rfl
theorem q1162 : (Jvm.Cond.methodLink "BeeYard" (363 : Nat) ({ cls := "BeeYard$Hive", name := "isCrowded", desc := "()Z" } : Jvm.MethodName)) ∈ lw_all := lw_g (lw_at lw_m5 87 rfl) rfl
theorem q1168 : (Jvm.Cond.instanceMethod ({ cls := "BeeYard", name := "swarm", desc := "(I)I" } : Jvm.MethodName)) ∈ lw_all := lw_g (lw_at lw_m5 93 rfl) rfl
theorem q1169 : (Jvm.Cond.selects "BeeYard" ({ cls := "BeeYard", name := "swarm", desc := "(I)I" } : Jvm.MethodName) ({ cls := "BeeYard", name := "swarm", desc := "(I)I" } : Jvm.MethodName)) ∈ lw_all := lw_g (lw_at lw_m5 94 rfl) rfl
theorem q1170 : (Jvm.Cond.code ({ cls := "BeeYard", name := "swarm", desc := "(I)I" } : Jvm.MethodName) prog_1_method_50_code (2 : Nat) (Option.some Jvm.ClassFile.FieldType.int)) ∈ lw_all := lw_g (lw_at lw_m5 95 rfl) rfl
theorem q1172 : (Jvm.Cond.instanceMethod ({ cls := "BeeYard", name := "swarmOut", desc := "(I)I" } : Jvm.MethodName)) ∈ lw_all := lw_g (lw_at lw_m5 97 rfl) rfl
theorem q1173 : (Jvm.Cond.selects "BeeYard" ({ cls := "BeeYard", name := "swarmOut", desc := "(I)I" } : Jvm.MethodName) ({ cls := "BeeYard", name := "swarmOut", desc := "(I)I" } : Jvm.MethodName)) ∈ lw_all := lw_g (lw_at lw_m5 98 rfl) rfl
theorem q1174 : (Jvm.Cond.code ({ cls := "BeeYard", name := "swarmOut", desc := "(I)I" } : Jvm.MethodName) prog_1_method_51_code (2 : Nat) (Option.some Jvm.ClassFile.FieldType.int)) ∈ lw_all := lw_g (lw_at lw_m5 99 rfl) rfl
theorem q1176 : (Jvm.Cond.instanceMethod ({ cls := "BeeYard", name := "take", desc := "(I)I" } : Jvm.MethodName)) ∈ lw_all := lw_g (lw_at lw_m5 101 rfl) rfl
theorem q1177 : (Jvm.Cond.selects "BeeYard" ({ cls := "BeeYard", name := "take", desc := "(I)I" } : Jvm.MethodName) ({ cls := "BeeYard", name := "take", desc := "(I)I" } : Jvm.MethodName)) ∈ lw_all := lw_g (lw_at lw_m5 102 rfl) rfl
theorem q1178 : (Jvm.Cond.code ({ cls := "BeeYard", name := "take", desc := "(I)I" } : Jvm.MethodName) prog_1_method_52_code (2 : Nat) (Option.some Jvm.ClassFile.FieldType.int)) ∈ lw_all := lw_g (lw_at lw_m5 103 rfl) rfl
theorem q1180 : (Jvm.Cond.instanceMethod ({ cls := "BeeYard", name := "kin", desc := "(II)Z" } : Jvm.MethodName)) ∈ lw_all := lw_g (lw_at lw_m5 105 rfl) rfl
theorem q1181 : (Jvm.Cond.selects "BeeYard" ({ cls := "BeeYard", name := "kin", desc := "(II)Z" } : Jvm.MethodName) ({ cls := "BeeYard", name := "kin", desc := "(II)Z" } : Jvm.MethodName)) ∈ lw_all := lw_g (lw_at lw_m5 106 rfl) rfl
theorem q1182 : (Jvm.Cond.code ({ cls := "BeeYard", name := "kin", desc := "(II)Z" } : Jvm.MethodName) prog_1_method_53_code (3 : Nat) (Option.some Jvm.ClassFile.FieldType.boolean)) ∈ lw_all := lw_g (lw_at lw_m5 107 rfl) rfl
theorem q1183 : (Jvm.Cond.methodLink "BeeYard" (373 : Nat) ({ cls := "BeeYard$Lines", name := "kin", desc := "(II)I" } : Jvm.MethodName)) ∈ lw_all := lw_g (lw_at lw_m5 108 rfl) rfl
theorem q1194 : (Jvm.Cond.constantLong "BeeYard" (376 : Nat) (65536 : Int64)) ∈ lw_all := lw_g (lw_at lw_m5 119 rfl) rfl
theorem q1195 : (Jvm.Cond.methodLink "BeeYard" (378 : Nat) ({ cls := "BeeYard", name := "fraction", desc := "(JJ)I" } : Jvm.MethodName)) ∈ lw_all := lw_g (lw_at lw_m5 120 rfl) rfl
theorem q1196 : (Jvm.Cond.privateMethod ({ cls := "BeeYard", name := "fraction", desc := "(JJ)I" } : Jvm.MethodName)) ∈ lw_tbl := lw_at lw_m5 121 rfl
theorem q1197 : (Jvm.Cond.instanceMethod ({ cls := "BeeYard", name := "fraction", desc := "(JJ)I" } : Jvm.MethodName)) ∈ lw_all := lw_g (lw_at lw_m5 122 rfl) rfl
theorem q1198 : (Jvm.Cond.code ({ cls := "BeeYard", name := "fraction", desc := "(JJ)I" } : Jvm.MethodName) prog_1_method_13_code (11 : Nat) (Option.some Jvm.ClassFile.FieldType.int)) ∈ lw_all := lw_g (lw_at lw_m5 123 rfl) rfl
theorem q1199 : (Jvm.Cond.methodLink "BeeYard" (86 : Nat) ({ cls := "java/lang/Math", name := "abs", desc := "(J)J" } : Jvm.MethodName)) ∈ lw_all := lw_g (lw_at lw_m5 124 rfl) rfl
theorem q1202 : (Jvm.Cond.methodLink "BeeYard" (92 : Nat) ({ cls := "java/lang/Long", name := "signum", desc := "(J)I" } : Jvm.MethodName)) ∈ lw_all := lw_g (lw_at lw_m5 127 rfl) rfl
theorem q1206 : (Jvm.Cond.instanceMethod ({ cls := "BeeYard", name := "inbred", desc := "(I)Z" } : Jvm.MethodName)) ∈ lw_all := lw_g (lw_at lw_m5 131 rfl) rfl
theorem q1207 : (Jvm.Cond.selects "BeeYard" ({ cls := "BeeYard", name := "inbred", desc := "(I)Z" } : Jvm.MethodName) ({ cls := "BeeYard", name := "inbred", desc := "(I)Z" } : Jvm.MethodName)) ∈ lw_all := lw_g (lw_at lw_m5 132 rfl) rfl
theorem q1208 : (Jvm.Cond.code ({ cls := "BeeYard", name := "inbred", desc := "(I)Z" } : Jvm.MethodName) prog_1_method_54_code (2 : Nat) (Option.some Jvm.ClassFile.FieldType.boolean)) ∈ lw_all := lw_g (lw_at lw_m5 133 rfl) rfl
theorem q1210 : (Jvm.Cond.instanceMethod ({ cls := "BeeYard", name := "suitor", desc := "(I)I" } : Jvm.MethodName)) ∈ lw_all := lw_g (lw_at lw_m5 135 rfl) rfl
theorem q1211 : (Jvm.Cond.selects "BeeYard" ({ cls := "BeeYard", name := "suitor", desc := "(I)I" } : Jvm.MethodName) ({ cls := "BeeYard", name := "suitor", desc := "(I)I" } : Jvm.MethodName)) ∈ lw_all := lw_g (lw_at lw_m5 136 rfl) rfl
theorem q1212 : (Jvm.Cond.code ({ cls := "BeeYard", name := "suitor", desc := "(I)I" } : Jvm.MethodName) prog_1_method_55_code (4 : Nat) (Option.some Jvm.ClassFile.FieldType.int)) ∈ lw_all := lw_g (lw_at lw_m5 137 rfl) rfl
theorem q1214 : (Jvm.Cond.instanceMethod ({ cls := "BeeYard", name := "mothers", desc := "(I)I" } : Jvm.MethodName)) ∈ lw_all := lw_g (lw_at lw_m5 139 rfl) rfl
theorem q1215 : (Jvm.Cond.selects "BeeYard" ({ cls := "BeeYard", name := "mothers", desc := "(I)I" } : Jvm.MethodName) ({ cls := "BeeYard", name := "mothers", desc := "(I)I" } : Jvm.MethodName)) ∈ lw_all := lw_g (lw_at lw_m5 140 rfl) rfl
theorem q1216 : (Jvm.Cond.code ({ cls := "BeeYard", name := "mothers", desc := "(I)I" } : Jvm.MethodName) prog_1_method_56_code (4 : Nat) (Option.some Jvm.ClassFile.FieldType.int)) ∈ lw_all := lw_g (lw_at lw_m5 141 rfl) rfl
theorem q1218 : (Jvm.Cond.instanceMethod ({ cls := "BeeYard", name := "nearest", desc := "(II)I" } : Jvm.MethodName)) ∈ lw_all := lw_g (lw_at lw_m5 143 rfl) rfl
theorem q1219 : (Jvm.Cond.selects "BeeYard" ({ cls := "BeeYard", name := "nearest", desc := "(II)I" } : Jvm.MethodName) ({ cls := "BeeYard", name := "nearest", desc := "(II)I" } : Jvm.MethodName)) ∈ lw_all := lw_g (lw_at lw_m5 144 rfl) rfl
theorem q1220 : (Jvm.Cond.code ({ cls := "BeeYard", name := "nearest", desc := "(II)I" } : Jvm.MethodName) prog_1_method_58_code (4 : Nat) (Option.some Jvm.ClassFile.FieldType.int)) ∈ lw_all := lw_g (lw_at lw_m5 145 rfl) rfl
theorem q1221 : (Jvm.Cond.methodLink "BeeYard" (382 : Nat) ({ cls := "BeeYard", name := "isInLine", desc := "(II)Z" } : Jvm.MethodName)) ∈ lw_all := lw_g (lw_at lw_m5 146 rfl) rfl
theorem q1222 : (Jvm.Cond.privateMethod ({ cls := "BeeYard", name := "isInLine", desc := "(II)Z" } : Jvm.MethodName)) ∈ lw_tbl := lw_at lw_m5 147 rfl
theorem q1223 : (Jvm.Cond.instanceMethod ({ cls := "BeeYard", name := "isInLine", desc := "(II)Z" } : Jvm.MethodName)) ∈ lw_all := lw_g (lw_at lw_m5 148 rfl) rfl
theorem q1224 : (Jvm.Cond.code ({ cls := "BeeYard", name := "isInLine", desc := "(II)Z" } : Jvm.MethodName) prog_1_method_57_code (4 : Nat) (Option.some Jvm.ClassFile.FieldType.boolean)) ∈ lw_all := lw_g (lw_at lw_m5 149 rfl) rfl
theorem q1226 : (Jvm.Cond.instanceMethod ({ cls := "BeeYard", name := "sisters", desc := "(I)I" } : Jvm.MethodName)) ∈ lw_all := lw_g (lw_at lw_m5 151 rfl) rfl
theorem q1227 : (Jvm.Cond.selects "BeeYard" ({ cls := "BeeYard", name := "sisters", desc := "(I)I" } : Jvm.MethodName) ({ cls := "BeeYard", name := "sisters", desc := "(I)I" } : Jvm.MethodName)) ∈ lw_all := lw_g (lw_at lw_m5 152 rfl) rfl
theorem q1228 : (Jvm.Cond.code ({ cls := "BeeYard", name := "sisters", desc := "(I)I" } : Jvm.MethodName) prog_1_method_59_code (4 : Nat) (Option.some Jvm.ClassFile.FieldType.int)) ∈ lw_all := lw_g (lw_at lw_m5 153 rfl) rfl
theorem q1230 : (Jvm.Cond.instanceMethod ({ cls := "BeeYard", name := "room", desc := "(I)I" } : Jvm.MethodName)) ∈ lw_all := lw_g (lw_at lw_m5 155 rfl) rfl
theorem q1231 : (Jvm.Cond.selects "BeeYard" ({ cls := "BeeYard", name := "room", desc := "(I)I" } : Jvm.MethodName) ({ cls := "BeeYard", name := "room", desc := "(I)I" } : Jvm.MethodName)) ∈ lw_all := lw_g (lw_at lw_m5 156 rfl) rfl
theorem q1232 : (Jvm.Cond.code ({ cls := "BeeYard", name := "room", desc := "(I)I" } : Jvm.MethodName) prog_1_method_60_code (4 : Nat) (Option.some Jvm.ClassFile.FieldType.int)) ∈ lw_all := lw_g (lw_at lw_m5 157 rfl) rfl
theorem q1233 : (Jvm.Cond.methodLink "BeeYard" (385 : Nat) ({ cls := "BeeYard$Hive", name := "at", desc := "(I)I" } : Jvm.MethodName)) ∈ lw_all := lw_g (lw_at lw_m5 158 rfl) rfl
theorem q1234 : (Jvm.Cond.methodLink "BeeYard" (387 : Nat) ({ cls := "java/lang/Math", name := "max", desc := "(II)I" } : Jvm.MethodName)) ∈ lw_all := lw_g (lw_at lw_m5 159 rfl) rfl
theorem q1238 : (Jvm.Cond.instanceMethod ({ cls := "BeeYard", name := "richest", desc := "(I)I" } : Jvm.MethodName)) ∈ lw_all := lw_g (lw_at lw_m5 163 rfl) rfl
theorem q1239 : (Jvm.Cond.selects "BeeYard" ({ cls := "BeeYard", name := "richest", desc := "(I)I" } : Jvm.MethodName) ({ cls := "BeeYard", name := "richest", desc := "(I)I" } : Jvm.MethodName)) ∈ lw_all := lw_g (lw_at lw_m5 164 rfl) rfl
theorem q1240 : (Jvm.Cond.code ({ cls := "BeeYard", name := "richest", desc := "(I)I" } : Jvm.MethodName) prog_1_method_61_code (7 : Nat) (Option.some Jvm.ClassFile.FieldType.int)) ∈ lw_all := lw_g (lw_at lw_m5 165 rfl) rfl
theorem q1241 : (Jvm.Cond.methodLink "BeeYard" (390 : Nat) ({ cls := "BeeYard$Hive", name := "isHoney", desc := "(I)Z" } : Jvm.MethodName)) ∈ lw_all := lw_g (lw_at lw_m5 166 rfl) rfl
theorem q1243 : (Jvm.Cond.instanceMethod ({ cls := "BeeYard", name := "age", desc := "(II)I" } : Jvm.MethodName)) ∈ lw_all := lw_g (lw_at lw_m5 168 rfl) rfl
theorem q1244 : (Jvm.Cond.selects "BeeYard" ({ cls := "BeeYard", name := "age", desc := "(II)I" } : Jvm.MethodName) ({ cls := "BeeYard", name := "age", desc := "(II)I" } : Jvm.MethodName)) ∈ lw_all := lw_g (lw_at lw_m5 169 rfl) rfl
theorem q1245 : (Jvm.Cond.code ({ cls := "BeeYard", name := "age", desc := "(II)I" } : Jvm.MethodName) prog_1_method_62_code (6 : Nat) (Option.some Jvm.ClassFile.FieldType.int)) ∈ lw_all := lw_g (lw_at lw_m5 170 rfl) rfl
theorem q1247 : (Jvm.Cond.instanceMethod ({ cls := "BeeYard", name := "coming", desc := "(II)I" } : Jvm.MethodName)) ∈ lw_all := lw_g (lw_at lw_m5 172 rfl) rfl
theorem q1248 : (Jvm.Cond.selects "BeeYard" ({ cls := "BeeYard", name := "coming", desc := "(II)I" } : Jvm.MethodName) ({ cls := "BeeYard", name := "coming", desc := "(II)I" } : Jvm.MethodName)) ∈ lw_all := lw_g (lw_at lw_m5 173 rfl) rfl
theorem q1249 : (Jvm.Cond.code ({ cls := "BeeYard", name := "coming", desc := "(II)I" } : Jvm.MethodName) prog_1_method_63_code (5 : Nat) (Option.some Jvm.ClassFile.FieldType.int)) ∈ lw_all := lw_g (lw_at lw_m5 174 rfl) rfl
theorem q1251 : (Jvm.Cond.instanceMethod ({ cls := "BeeYard", name := "hungry", desc := "(I)I" } : Jvm.MethodName)) ∈ lw_all := lw_g (lw_at lw_m5 176 rfl) rfl
theorem q1252 : (Jvm.Cond.selects "BeeYard" ({ cls := "BeeYard", name := "hungry", desc := "(I)I" } : Jvm.MethodName) ({ cls := "BeeYard", name := "hungry", desc := "(I)I" } : Jvm.MethodName)) ∈ lw_all := lw_g (lw_at lw_m5 177 rfl) rfl
theorem q1253 : (Jvm.Cond.code ({ cls := "BeeYard", name := "hungry", desc := "(I)I" } : Jvm.MethodName) prog_1_method_64_code (4 : Nat) (Option.some Jvm.ClassFile.FieldType.int)) ∈ lw_all := lw_g (lw_at lw_m5 178 rfl) rfl
theorem q1254 : (Jvm.Cond.methodLink "BeeYard" (393 : Nat) ({ cls := "BeeYard$Hive", name := "copy", desc := "()LBeeYard$Hive;" } : Jvm.MethodName)) ∈ lw_all := lw_g (lw_at lw_m5 179 rfl) rfl
theorem q1255 : (Jvm.Cond.methodLink "BeeYard" (397 : Nat) ({ cls := "BeeYard$Yard", name := "laysIn", desc := "(LBeeYard$Hive;)I" } : Jvm.MethodName)) ∈ lw_all := lw_g (lw_at lw_m5 180 rfl) rfl
theorem q1256 : (Jvm.Cond.methodLink "BeeYard" (401 : Nat) ({ cls := "BeeYard$Hive", name := "day", desc := "(I)V" } : Jvm.MethodName)) ∈ lw_all := lw_g (lw_at lw_m5 181 rfl) rfl
theorem q1258 : (Jvm.Cond.instanceMethod ({ cls := "BeeYard", name := "lasts", desc := "(I)I" } : Jvm.MethodName)) ∈ lw_all := lw_g (lw_at lw_m5 183 rfl) rfl
theorem q1259 : (Jvm.Cond.selects "BeeYard" ({ cls := "BeeYard", name := "lasts", desc := "(I)I" } : Jvm.MethodName) ({ cls := "BeeYard", name := "lasts", desc := "(I)I" } : Jvm.MethodName)) ∈ lw_all := lw_g (lw_at lw_m5 184 rfl) rfl
theorem q1260 : (Jvm.Cond.code ({ cls := "BeeYard", name := "lasts", desc := "(I)I" } : Jvm.MethodName) prog_1_method_65_code (2 : Nat) (Option.some Jvm.ClassFile.FieldType.int)) ∈ lw_all := lw_g (lw_at lw_m5 185 rfl) rfl
theorem q1262 : (Jvm.Cond.instanceMethod ({ cls := "BeeYard", name := "between", desc := "(III)I" } : Jvm.MethodName)) ∈ lw_all := lw_g (lw_at lw_m5 187 rfl) rfl
theorem q1263 : (Jvm.Cond.selects "BeeYard" ({ cls := "BeeYard", name := "between", desc := "(III)I" } : Jvm.MethodName) ({ cls := "BeeYard", name := "between", desc := "(III)I" } : Jvm.MethodName)) ∈ lw_all := lw_g (lw_at lw_m5 188 rfl) rfl
theorem q1264 : (Jvm.Cond.code ({ cls := "BeeYard", name := "between", desc := "(III)I" } : Jvm.MethodName) prog_1_method_66_code (6 : Nat) (Option.some Jvm.ClassFile.FieldType.int)) ∈ lw_all := lw_g (lw_at lw_m5 189 rfl) rfl
theorem q1265 : (Jvm.Cond.constantLong "BeeYard" (404 : Nat) (20 : Int64)) ∈ lw_all := lw_g (lw_at lw_m5 190 rfl) rfl
theorem q1267 : (Jvm.Cond.instanceMethod ({ cls := "BeeYard", name := "strongest", desc := "()I" } : Jvm.MethodName)) ∈ lw_all := lw_g (lw_at lw_m5 192 rfl) rfl
theorem q1268 : (Jvm.Cond.selects "BeeYard" ({ cls := "BeeYard", name := "strongest", desc := "()I" } : Jvm.MethodName) ({ cls := "BeeYard", name := "strongest", desc := "()I" } : Jvm.MethodName)) ∈ lw_all := lw_g (lw_at lw_m5 193 rfl) rfl
theorem q1269 : (Jvm.Cond.code ({ cls := "BeeYard", name := "strongest", desc := "()I" } : Jvm.MethodName) prog_1_method_67_code (3 : Nat) (Option.some Jvm.ClassFile.FieldType.int)) ∈ lw_all := lw_g (lw_at lw_m5 194 rfl) rfl
theorem q1271 : (Jvm.Cond.instanceMethod ({ cls := "BeeYard", name := "frame", desc := "(III)I" } : Jvm.MethodName)) ∈ lw_all := lw_g (lw_at lw_m5 196 rfl) rfl
theorem q1272 : (Jvm.Cond.selects "BeeYard" ({ cls := "BeeYard", name := "frame", desc := "(III)I" } : Jvm.MethodName) ({ cls := "BeeYard", name := "frame", desc := "(III)I" } : Jvm.MethodName)) ∈ lw_all := lw_g (lw_at lw_m5 197 rfl) rfl
theorem q1273 : (Jvm.Cond.code ({ cls := "BeeYard", name := "frame", desc := "(III)I" } : Jvm.MethodName) prog_1_method_68_code (7 : Nat) (Option.some Jvm.ClassFile.FieldType.int)) ∈ lw_all := lw_g (lw_at lw_m5 198 rfl) rfl
theorem q1275 : (Jvm.Cond.instanceMethod ({ cls := "BeeYard", name := "even", desc := "()I" } : Jvm.MethodName)) ∈ lw_all := lw_g (lw_at lw_m5 200 rfl) rfl
theorem q1276 : (Jvm.Cond.selects "BeeYard" ({ cls := "BeeYard", name := "even", desc := "()I" } : Jvm.MethodName) ({ cls := "BeeYard", name := "even", desc := "()I" } : Jvm.MethodName)) ∈ lw_all := lw_g (lw_at lw_m5 201 rfl) rfl
theorem q1277 : (Jvm.Cond.code ({ cls := "BeeYard", name := "even", desc := "()I" } : Jvm.MethodName) prog_1_method_69_code (6 : Nat) (Option.some Jvm.ClassFile.FieldType.int)) ∈ lw_all := lw_g (lw_at lw_m5 202 rfl) rfl
theorem q1279 : (Jvm.Cond.instanceMethod ({ cls := "BeeYard", name := "sample", desc := "(III)I" } : Jvm.MethodName)) ∈ lw_all := lw_g (lw_at lw_m5 204 rfl) rfl
theorem q1280 : (Jvm.Cond.selects "BeeYard" ({ cls := "BeeYard", name := "sample", desc := "(III)I" } : Jvm.MethodName) ({ cls := "BeeYard", name := "sample", desc := "(III)I" } : Jvm.MethodName)) ∈ lw_all := lw_g (lw_at lw_m5 205 rfl) rfl
theorem q1281 : (Jvm.Cond.code ({ cls := "BeeYard", name := "sample", desc := "(III)I" } : Jvm.MethodName) prog_1_method_70_code (4 : Nat) (Option.some Jvm.ClassFile.FieldType.int)) ∈ lw_all := lw_g (lw_at lw_m5 206 rfl) rfl
theorem q1282 : (Jvm.Cond.constantLong "BeeYard" (406 : Nat) (999 : Int64)) ∈ lw_all := lw_g (lw_at lw_m5 207 rfl) rfl
theorem q1284 : (Jvm.Cond.instanceMethod ({ cls := "BeeYard", name := "share", desc := "(I)Z" } : Jvm.MethodName)) ∈ lw_all := lw_g (lw_at lw_m5 209 rfl) rfl
theorem q1285 : (Jvm.Cond.selects "BeeYard" ({ cls := "BeeYard", name := "share", desc := "(I)Z" } : Jvm.MethodName) ({ cls := "BeeYard", name := "share", desc := "(I)Z" } : Jvm.MethodName)) ∈ lw_all := lw_g (lw_at lw_m5 210 rfl) rfl
theorem q1286 : (Jvm.Cond.code ({ cls := "BeeYard", name := "share", desc := "(I)Z" } : Jvm.MethodName) prog_1_method_71_code (7 : Nat) (Option.some Jvm.ClassFile.FieldType.boolean)) ∈ lw_all := lw_g (lw_at lw_m5 211 rfl) rfl
theorem q1288 : (Jvm.Cond.instanceMethod ({ cls := "BeeYard", name := "worst", desc := "()I" } : Jvm.MethodName)) ∈ lw_all := lw_g (lw_at lw_m5 213 rfl) rfl
theorem q1289 : (Jvm.Cond.selects "BeeYard" ({ cls := "BeeYard", name := "worst", desc := "()I" } : Jvm.MethodName) ({ cls := "BeeYard", name := "worst", desc := "()I" } : Jvm.MethodName)) ∈ lw_all := lw_g (lw_at lw_m5 214 rfl) rfl
theorem q1290 : (Jvm.Cond.code ({ cls := "BeeYard", name := "worst", desc := "()I" } : Jvm.MethodName) prog_1_method_72_code (3 : Nat) (Option.some Jvm.ClassFile.FieldType.int)) ∈ lw_all := lw_g (lw_at lw_m5 215 rfl) rfl
theorem q1292 : (Jvm.Cond.instanceMethod ({ cls := "BeeYard", name := "treat", desc := "(I)Z" } : Jvm.MethodName)) ∈ lw_all := lw_g (lw_at lw_m5 217 rfl) rfl
theorem q1293 : (Jvm.Cond.selects "BeeYard" ({ cls := "BeeYard", name := "treat", desc := "(I)Z" } : Jvm.MethodName) ({ cls := "BeeYard", name := "treat", desc := "(I)Z" } : Jvm.MethodName)) ∈ lw_all := lw_g (lw_at lw_m5 218 rfl) rfl
theorem q1294 : (Jvm.Cond.code ({ cls := "BeeYard", name := "treat", desc := "(I)Z" } : Jvm.MethodName) prog_1_method_73_code (2 : Nat) (Option.some Jvm.ClassFile.FieldType.boolean)) ∈ lw_all := lw_g (lw_at lw_m5 219 rfl) rfl
theorem q1296 : (Jvm.Cond.instanceMethod ({ cls := "BeeYard", name := "forecast", desc := "(III)I" } : Jvm.MethodName)) ∈ lw_all := lw_g (lw_at lw_m5 221 rfl) rfl
theorem q1297 : (Jvm.Cond.selects "BeeYard" ({ cls := "BeeYard", name := "forecast", desc := "(III)I" } : Jvm.MethodName) ({ cls := "BeeYard", name := "forecast", desc := "(III)I" } : Jvm.MethodName)) ∈ lw_all := lw_g (lw_at lw_m5 222 rfl) rfl
theorem q1298 : (Jvm.Cond.code ({ cls := "BeeYard", name := "forecast", desc := "(III)I" } : Jvm.MethodName) prog_1_method_75_code (6 : Nat) (Option.some Jvm.ClassFile.FieldType.int)) ∈ lw_all := lw_g (lw_at lw_m5 223 rfl) rfl
theorem q1299 : (Jvm.Cond.methodLink "BeeYard" (414 : Nat) ({ cls := "BeeYard", name := "starve", desc := "(LBeeYard$Hive;I)I" } : Jvm.MethodName)) ∈ lw_all := lw_g (lw_at lw_m5 224 rfl) rfl
theorem q1300 : (Jvm.Cond.privateMethod ({ cls := "BeeYard", name := "starve", desc := "(LBeeYard$Hive;I)I" } : Jvm.MethodName)) ∈ lw_tbl := lw_at lw_m5 225 rfl
theorem q1301 : (Jvm.Cond.instanceMethod ({ cls := "BeeYard", name := "starve", desc := "(LBeeYard$Hive;I)I" } : Jvm.MethodName)) ∈ lw_all := lw_g (lw_at lw_m5 226 rfl) rfl
theorem q1302 : (Jvm.Cond.code ({ cls := "BeeYard", name := "starve", desc := "(LBeeYard$Hive;I)I" } : Jvm.MethodName) prog_1_method_74_code (5 : Nat) (Option.some Jvm.ClassFile.FieldType.int)) ∈ lw_all := lw_g (lw_at lw_m5 227 rfl) rfl
theorem q1304 : (Jvm.Cond.instanceMethod ({ cls := "BeeYard", name := "soonest", desc := "(II)I" } : Jvm.MethodName)) ∈ lw_all := lw_g (lw_at lw_m5 229 rfl) rfl
theorem q1305 : (Jvm.Cond.selects "BeeYard" ({ cls := "BeeYard", name := "soonest", desc := "(II)I" } : Jvm.MethodName) ({ cls := "BeeYard", name := "soonest", desc := "(II)I" } : Jvm.MethodName)) ∈ lw_all := lw_g (lw_at lw_m5 230 rfl) rfl
theorem q1306 : (Jvm.Cond.code ({ cls := "BeeYard", name := "soonest", desc := "(II)I" } : Jvm.MethodName) prog_1_method_76_code (5 : Nat) (Option.some Jvm.ClassFile.FieldType.int)) ∈ lw_all := lw_g (lw_at lw_m5 231 rfl) rfl
theorem q1308 : (Jvm.Cond.instanceMethod ({ cls := "BeeYard", name := "need", desc := "(II)I" } : Jvm.MethodName)) ∈ lw_all := lw_g (lw_at lw_m5 233 rfl) rfl
theorem q1309 : (Jvm.Cond.selects "BeeYard" ({ cls := "BeeYard", name := "need", desc := "(II)I" } : Jvm.MethodName) ({ cls := "BeeYard", name := "need", desc := "(II)I" } : Jvm.MethodName)) ∈ lw_all := lw_g (lw_at lw_m5 234 rfl) rfl
theorem q1310 : (Jvm.Cond.code ({ cls := "BeeYard", name := "need", desc := "(II)I" } : Jvm.MethodName) prog_1_method_77_code (5 : Nat) (Option.some Jvm.ClassFile.FieldType.int)) ∈ lw_all := lw_g (lw_at lw_m5 235 rfl) rfl
theorem q1311 : (Jvm.Cond.constantLong "BeeYard" (418 : Nat) (30 : Int64)) ∈ lw_all := lw_g (lw_at lw_m5 236 rfl) rfl
theorem q1312 : (Jvm.Cond.methodLink "BeeYard" (420 : Nat) ({ cls := "BeeYard$Hive", name := "be", desc := "(LBeeYard$Hive;)V" } : Jvm.MethodName)) ∈ lw_all := lw_g (lw_at lw_m5 237 rfl) rfl
theorem q1314 : (Jvm.Cond.instanceMethod ({ cls := "BeeYard", name := "live", desc := "(I)I" } : Jvm.MethodName)) ∈ lw_all := lw_g (lw_at lw_m5 239 rfl) rfl
theorem q1315 : (Jvm.Cond.selects "BeeYard" ({ cls := "BeeYard", name := "live", desc := "(I)I" } : Jvm.MethodName) ({ cls := "BeeYard", name := "live", desc := "(I)I" } : Jvm.MethodName)) ∈ lw_all := lw_g (lw_at lw_m6 0 rfl) rfl
theorem q1316 : (Jvm.Cond.code ({ cls := "BeeYard", name := "live", desc := "(I)I" } : Jvm.MethodName) prog_1_method_78_code (3 : Nat) (Option.some Jvm.ClassFile.FieldType.int)) ∈ lw_all := lw_g (lw_at lw_m6 1 rfl) rfl
theorem q1317 : (Jvm.Cond.classLink "BeeYard" (423 : Nat) "BeeYard$Living") ∈ lw_all := lw_g (lw_at lw_m6 2 rfl) rfl
theorem q1319 : (Jvm.Cond.methodLink "BeeYard" (425 : Nat) ({ cls := "BeeYard$Living", name := "<init>", desc := "(LBeeYard$Yard;I)V" } : Jvm.MethodName)) ∈ lw_all := lw_g (lw_at lw_m6 4 rfl) rfl
theorem q1328 : (Jvm.Cond.fieldLinkNest "BeeYard" (445 : Nat) "BeeYard$Living" "done" "I" "BeeYard") ∈ lw_tbl := lw_at lw_m6 13 rfl
theorem q1330 : (Jvm.Cond.fieldLinkNest "BeeYard" (432 : Nat) "BeeYard$Living" "missed" "I" "BeeYard") ∈ lw_tbl := lw_at lw_m6 15 rfl
theorem q1332 : (Jvm.Cond.fieldLinkNest "BeeYard" (435 : Nat) "BeeYard$Living" "bloomed" "I" "BeeYard") ∈ lw_tbl := lw_at lw_m6 17 rfl
theorem q1338 : (Jvm.Cond.fieldLinkNest "BeeYard" (438 : Nat) "BeeYard$Living" "isLeft" "Z" "BeeYard") ∈ lw_tbl := lw_at lw_m6 23 rfl
theorem q1354 : (Jvm.Cond.methodLink "BeeYard" (428 : Nat) ({ cls := "BeeYard$Loop", name := "all", desc := "(LBeeYard$Living;)V" } : Jvm.MethodName)) ∈ lw_all := lw_g (lw_at lw_m6 39 rfl) rfl
theorem q1406 : (Jvm.Cond.instanceMethod ({ cls := "BeeYard", name := "lived", desc := "(I)I" } : Jvm.MethodName)) ∈ lw_all := lw_g (lw_at lw_m6 91 rfl) rfl
theorem q1407 : (Jvm.Cond.selects "BeeYard" ({ cls := "BeeYard", name := "lived", desc := "(I)I" } : Jvm.MethodName) ({ cls := "BeeYard", name := "lived", desc := "(I)I" } : Jvm.MethodName)) ∈ lw_all := lw_g (lw_at lw_m6 92 rfl) rfl
theorem q1408 : (Jvm.Cond.code ({ cls := "BeeYard", name := "lived", desc := "(I)I" } : Jvm.MethodName) prog_1_method_79_code (2 : Nat) (Option.some Jvm.ClassFile.FieldType.int)) ∈ lw_all := lw_g (lw_at lw_m6 93 rfl) rfl
theorem q1410 : (Jvm.Cond.instanceMethod ({ cls := "BeeYard", name := "odds", desc := "(IIII)Z" } : Jvm.MethodName)) ∈ lw_all := lw_g (lw_at lw_m6 95 rfl) rfl
theorem q1411 : (Jvm.Cond.selects "BeeYard" ({ cls := "BeeYard", name := "odds", desc := "(IIII)Z" } : Jvm.MethodName) ({ cls := "BeeYard", name := "odds", desc := "(IIII)Z" } : Jvm.MethodName)) ∈ lw_all := lw_g (lw_at lw_m6 96 rfl) rfl
theorem q1412 : (Jvm.Cond.code ({ cls := "BeeYard", name := "odds", desc := "(IIII)Z" } : Jvm.MethodName) prog_1_method_80_code (7 : Nat) (Option.some Jvm.ClassFile.FieldType.boolean)) ∈ lw_all := lw_g (lw_at lw_m6 97 rfl) rfl
theorem q1413 : (Jvm.Cond.constantLong "BeeYard" (448 : Nat) (5 : Int64)) ∈ lw_all := lw_g (lw_at lw_m6 98 rfl) rfl
theorem q1415 : (Jvm.Cond.instanceMethod ({ cls := "BeeYard", name := "mark", desc := "()I" } : Jvm.MethodName)) ∈ lw_all := lw_g (lw_at lw_m6 100 rfl) rfl
theorem q1416 : (Jvm.Cond.selects "BeeYard" ({ cls := "BeeYard", name := "mark", desc := "()I" } : Jvm.MethodName) ({ cls := "BeeYard", name := "mark", desc := "()I" } : Jvm.MethodName)) ∈ lw_all := lw_g (lw_at lw_m6 101 rfl) rfl
theorem q1417 : (Jvm.Cond.code ({ cls := "BeeYard", name := "mark", desc := "()I" } : Jvm.MethodName) prog_1_method_81_code (1 : Nat) (Option.some Jvm.ClassFile.FieldType.int)) ∈ lw_all := lw_g (lw_at lw_m6 102 rfl) rfl
theorem q1418 : (Jvm.Cond.methodLink "BeeYard" (453 : Nat) ({ cls := "BeeYard$House", name := "be", desc := "(LBeeYard$House;)V" } : Jvm.MethodName)) ∈ lw_all := lw_g (lw_at lw_m6 103 rfl) rfl
theorem q1424 : (Jvm.Cond.instanceMethod ({ cls := "BeeYard", name := "back", desc := "()I" } : Jvm.MethodName)) ∈ lw_all := lw_g (lw_at lw_m6 109 rfl) rfl
theorem q1425 : (Jvm.Cond.selects "BeeYard" ({ cls := "BeeYard", name := "back", desc := "()I" } : Jvm.MethodName) ({ cls := "BeeYard", name := "back", desc := "()I" } : Jvm.MethodName)) ∈ lw_all := lw_g (lw_at lw_m6 110 rfl) rfl
theorem q1426 : (Jvm.Cond.code ({ cls := "BeeYard", name := "back", desc := "()I" } : Jvm.MethodName) prog_1_method_82_code (1 : Nat) (Option.some Jvm.ClassFile.FieldType.int)) ∈ lw_all := lw_g (lw_at lw_m6 111 rfl) rfl
theorem in_X0 : ∀ w ∈ wsX00, w ∈ lw_all := lw_in wsX00 [395, 397, 399, 401, 403, 405, 407, 409, 411, 413, 415, 417, 419, 421, 423, 425] (by decide +kernel) (by decide +kernel)

/-! BeeYard$Tray -/
def RX1 : String := "BeeYard$Tray"
def TX1 : u_T := fun k => match k with
  | _ => ("BeeYard$Tray", "row", "Ljava/lang/Object;", false)
def tyX1 : Nat → FieldType := fun k => match k with
  | _ => .object "java/lang/Object"
abbrev wsX10 : List Cond := u_ws RX1 TX1 1
theorem nmX1 : ∀ a, a < 1 → ∀ b, b < 1 → a ≠ b → (TX1 a).2.1 ≠ (TX1 b).2.1 := by decide +kernel
theorem tyX1_ok : ∀ k, k < 1 → parseFieldDescriptor (TX1 k).2.2.1 = some (tyX1 k) := by decide +kernel
abbrev cX1_init : ByteArray := prog_13_method_1_code
def yX1_init : MethodName := ⟨RX1, "<init>", "()V"⟩
theorem q117 : (Jvm.Cond.initialized "BeeYard$Tray") ∈ lw_all := lw_g (lw_at lw_m1 2 rfl) rfl
theorem q155 : (Jvm.Cond.instantiable "BeeYard$Tray" (1 : Nat)) ∈ lw_all := lw_g (lw_at lw_m1 40 rfl) rfl
theorem q157 : (Jvm.Cond.instanceMethod ({ cls := "BeeYard$Tray", name := "<init>", desc := "()V" } : Jvm.MethodName)) ∈ lw_all := lw_g (lw_at lw_m1 42 rfl) rfl
theorem q158 : (Jvm.Cond.code ({ cls := "BeeYard$Tray", name := "<init>", desc := "()V" } : Jvm.MethodName) prog_13_method_1_code (1 : Nat) (Option.none : Option Jvm.ClassFile.FieldType)) ∈ lw_all := lw_g (lw_at lw_m1 43 rfl) rfl
theorem q159 : (Jvm.Cond.methodLink "BeeYard$Tray" (1 : Nat) ({ cls := "java/lang/Object", name := "<init>", desc := "()V" } : Jvm.MethodName)) ∈ lw_all := lw_g (lw_at lw_m1 44 rfl) rfl
theorem q161 : (Jvm.Cond.lays "BeeYard$Tray" "BeeYard$Tray" "row" "Ljava/lang/Object;") ∈ lw_all := lw_g (lw_at lw_m1 46 rfl) rfl
theorem q162 : (Jvm.Cond.soleField "BeeYard$Tray" "row") ∈ lw_all := lw_g (lw_at lw_m1 47 rfl) rfl
theorem q163 : (Jvm.Cond.superclass "BeeYard$Tray" "java/lang/Object") ∈ lw_all := lw_g (lw_at lw_m1 48 rfl) rfl
theorem in_X1 : ∀ w ∈ wsX10, w ∈ lw_all := lw_in wsX10 [161] (by decide +kernel) (by decide +kernel)

/-! java/lang/Throwable -/
def RJ0 : String := "java/lang/Throwable"
def TJ0 : u_T := fun k => match k with
  | 0 => ("java/lang/Throwable", "cause", "Ljava/lang/Throwable;", false)
  | 1 => ("java/lang/Throwable", "stackTrace", "[Ljava/lang/StackTraceElement;", false)
  | 2 => ("java/lang/Throwable", "suppressedExceptions", "Ljava/util/List;", false)
  | 3 => ("java/lang/Throwable", "detailMessage", "Ljava/lang/String;", false)
  | _ => ("java/lang/Throwable", "backtrace", "Ljava/lang/Object;", false)
def tyJ0 : Nat → FieldType := fun k => match k with
  | 0 => .object "java/lang/Throwable"
  | 1 => .array (.object "java/lang/StackTraceElement")
  | 2 => .object "java/util/List"
  | 3 => .object "java/lang/String"
  | _ => .object "java/lang/Object"
abbrev wsJ00 : List Cond := u_ws RJ0 TJ0 5
theorem nmJ0 : ∀ a, a < 5 → ∀ b, b < 5 → a ≠ b → (TJ0 a).2.1 ≠ (TJ0 b).2.1 := by decide +kernel
theorem tyJ0_ok : ∀ k, k < 5 → parseFieldDescriptor (TJ0 k).2.2.1 = some (tyJ0 k) := by decide +kernel
abbrev cJ0_init : ByteArray := prog_29_method_1_code
def yJ0_init : MethodName := ⟨RJ0, "<init>", "()V"⟩
abbrev cJ0_init_2 : ByteArray := prog_29_method_5_code
def yJ0_init_2 : MethodName := ⟨RJ0, "<init>", "(Ljava/lang/String;Ljava/lang/Throwable;ZZ)V"⟩
abbrev cJ0_init_3 : ByteArray := prog_29_method_2_code
def yJ0_init_3 : MethodName := ⟨RJ0, "<init>", "(Ljava/lang/String;)V"⟩
theorem q118 : (Jvm.Cond.initialized "java/lang/Throwable") ∈ lw_all := lw_g (lw_at lw_m1 3 rfl) rfl
theorem q169 : (Jvm.Cond.declares ({ cls := "java/lang/Throwable", name := "<init>", desc := "()V" } : Jvm.MethodName)) ∈ lw_tbl := lw_at lw_m1 54 rfl
theorem q170 : (Jvm.Cond.declares ({ cls := "java/lang/Throwable", name := "<init>", desc := "(Ljava/lang/String;)V" } : Jvm.MethodName)) ∈ lw_tbl := lw_at lw_m1 55 rfl
theorem q174 : (Jvm.Cond.lays "java/lang/Throwable" "java/lang/Throwable" "cause" "Ljava/lang/Throwable;") ∈ lw_all := lw_g (lw_at lw_m1 59 rfl) rfl
theorem q176 : (Jvm.Cond.lays "java/lang/Throwable" "java/lang/Throwable" "stackTrace" "[Ljava/lang/StackTraceElement;") ∈ lw_all := lw_g (lw_at lw_m1 61 rfl) rfl
theorem q178 : (Jvm.Cond.lays "java/lang/Throwable" "java/lang/Throwable" "suppressedExceptions" "Ljava/util/List;") ∈ lw_all := lw_g (lw_at lw_m1 63 rfl) rfl
theorem q180 : (Jvm.Cond.lays "java/lang/Throwable" "java/lang/Throwable" "detailMessage" "Ljava/lang/String;") ∈ lw_all := lw_g (lw_at lw_m1 65 rfl) rfl
theorem q182 : (Jvm.Cond.lays "java/lang/Throwable" "java/lang/Throwable" "backtrace" "Ljava/lang/Object;") ∈ lw_all := lw_g (lw_at lw_m1 67 rfl) rfl
theorem q183 : (Jvm.Cond.fieldLink "java/lang/Throwable" (198 : Nat) "java/lang/Throwable" "backtrace" "Ljava/lang/Object;") ∈ lw_all := lw_g (lw_at lw_m1 68 rfl) rfl
theorem q184 : (Jvm.Cond.superclass "java/lang/Throwable" "java/lang/Object") ∈ lw_all := lw_g (lw_at lw_m1 69 rfl) rfl
theorem q185 : (Jvm.Cond.instanceMethod ({ cls := "java/lang/Throwable", name := "<init>", desc := "()V" } : Jvm.MethodName)) ∈ lw_all := lw_g (lw_at lw_m1 70 rfl) rfl
theorem q186 : (Jvm.Cond.code ({ cls := "java/lang/Throwable", name := "<init>", desc := "()V" } : Jvm.MethodName) prog_29_method_1_code (1 : Nat) (Option.none : Option Jvm.ClassFile.FieldType)) ∈ lw_all := lw_g (lw_at lw_m1 71 rfl) rfl
theorem q187 : (Jvm.Cond.methodLink "java/lang/Throwable" (1 : Nat) ({ cls := "java/lang/Object", name := "<init>", desc := "()V" } : Jvm.MethodName)) ∈ lw_all := lw_g (lw_at lw_m1 72 rfl) rfl
theorem q188 : (Jvm.Cond.fieldLink "java/lang/Throwable" (13 : Nat) "java/lang/Throwable" "UNASSIGNED_STACK" "[Ljava/lang/StackTraceElement;") ∈ lw_all := lw_g (lw_at lw_m1 73 rfl) rfl
theorem q189 : (Jvm.Cond.laysStatic "java/lang/Throwable" "UNASSIGNED_STACK" "[Ljava/lang/StackTraceElement;") ∈ lw_tbl := lw_at lw_m1 74 rfl
theorem q190 : (Jvm.Cond.fieldLink "java/lang/Throwable" (20 : Nat) "java/lang/Throwable" "SUPPRESSED_SENTINEL" "Ljava/util/List;") ∈ lw_all := lw_g (lw_at lw_m1 75 rfl) rfl
theorem q191 : (Jvm.Cond.laysStatic "java/lang/Throwable" "SUPPRESSED_SENTINEL" "Ljava/util/List;") ∈ lw_tbl := lw_at lw_m1 76 rfl
theorem q192 : (Jvm.Cond.methodLink "java/lang/Throwable" (27 : Nat) ({ cls := "java/lang/Throwable", name := "fillInStackTrace", desc := "()Ljava/lang/Throwable;" } : Jvm.MethodName)) ∈ lw_all := lw_g (lw_at lw_m1 77 rfl) rfl
theorem q193 : (Jvm.Cond.instanceMethod ({ cls := "java/lang/Throwable", name := "fillInStackTrace", desc := "()Ljava/lang/Throwable;" } : Jvm.MethodName)) ∈ lw_all := lw_g (lw_at lw_m1 78 rfl) rfl
theorem q194 : (Jvm.Cond.sameMethod "java/lang/Throwable" "java/lang/Throwable" "fillInStackTrace" "()Ljava/lang/Throwable;") ∈ lw_all := lw_g (lw_at lw_m1 79 rfl) rfl
theorem q198 : (Jvm.Cond.codeSync ({ cls := "java/lang/Throwable", name := "fillInStackTrace", desc := "()Ljava/lang/Throwable;" } : Jvm.MethodName) prog_29_method_18_code (1 : Nat) (Option.some (Jvm.ClassFile.FieldType.object "java/lang/Throwable"))) ∈ lw_all := lw_g (lw_at lw_m1 83 rfl) rfl
theorem q199 : (Jvm.Cond.methodLink "java/lang/Throwable" (202 : Nat) ({ cls := "java/lang/Throwable", name := "fillInStackTrace", desc := "(I)Ljava/lang/Throwable;" } : Jvm.MethodName)) ∈ lw_all := lw_g (lw_at lw_m1 84 rfl) rfl
theorem q200 : (Jvm.Cond.privateMethod ({ cls := "java/lang/Throwable", name := "fillInStackTrace", desc := "(I)Ljava/lang/Throwable;" } : Jvm.MethodName)) ∈ lw_tbl := lw_at lw_m1 85 rfl
theorem q201 : (Jvm.Cond.instanceMethod ({ cls := "java/lang/Throwable", name := "fillInStackTrace", desc := "(I)Ljava/lang/Throwable;" } : Jvm.MethodName)) ∈ lw_all := lw_g (lw_at lw_m1 86 rfl) rfl
theorem q202 : (Jvm.Cond.instantiable "java/lang/Throwable" (6 : Nat)) ∈ lw_all := lw_g (lw_at lw_m1 87 rfl) rfl
theorem q203 : (Jvm.Cond.native ({ cls := "java/lang/Throwable", name := "fillInStackTrace", desc := "(I)Ljava/lang/Throwable;" } : Jvm.MethodName)) ∈ lw_all := lw_g (lw_at lw_m1 88 rfl) rfl
theorem q211 : (Jvm.Cond.instanceMethod ({ cls := "java/lang/Throwable", name := "<init>", desc := "(Ljava/lang/String;Ljava/lang/Throwable;ZZ)V" } : Jvm.MethodName)) ∈ lw_all := lw_g (lw_at lw_m1 96 rfl) rfl
theorem q212 : (Jvm.Cond.code ({ cls := "java/lang/Throwable", name := "<init>", desc := "(Ljava/lang/String;Ljava/lang/Throwable;ZZ)V" } : Jvm.MethodName) prog_29_method_5_code (5 : Nat) (Option.none : Option Jvm.ClassFile.FieldType)) ∈ lw_all := lw_g (lw_at lw_m1 97 rfl) rfl
theorem q217 : (Jvm.Cond.fieldLink "java/lang/Throwable" (198 : Nat) "java/lang/Throwable" "backtrace" "Ljava/lang/Object;") ∈ lw_all := lw_g (lw_at lw_m1 102 rfl) rfl
theorem q218 : (Jvm.Cond.fieldLink "java/lang/Throwable" (31 : Nat) "java/lang/Throwable" "detailMessage" "Ljava/lang/String;") ∈ lw_all := lw_g (lw_at lw_m1 103 rfl) rfl
theorem q219 : (Jvm.Cond.fieldLink "java/lang/Throwable" (7 : Nat) "java/lang/Throwable" "cause" "Ljava/lang/Throwable;") ∈ lw_all := lw_g (lw_at lw_m1 104 rfl) rfl
theorem q220 : (Jvm.Cond.fieldLink "java/lang/Throwable" (17 : Nat) "java/lang/Throwable" "stackTrace" "[Ljava/lang/StackTraceElement;") ∈ lw_all := lw_g (lw_at lw_m1 105 rfl) rfl
theorem q221 : (Jvm.Cond.fieldLink "java/lang/Throwable" (24 : Nat) "java/lang/Throwable" "suppressedExceptions" "Ljava/util/List;") ∈ lw_all := lw_g (lw_at lw_m1 106 rfl) rfl
theorem q226 : (Jvm.Cond.soleField "java/lang/Throwable" "backtrace") ∈ lw_all := lw_g (lw_at lw_m1 111 rfl) rfl
theorem q227 : (Jvm.Cond.soleField "java/lang/Throwable" "detailMessage") ∈ lw_all := lw_g (lw_at lw_m1 112 rfl) rfl
theorem q228 : (Jvm.Cond.soleField "java/lang/Throwable" "cause") ∈ lw_all := lw_g (lw_at lw_m1 113 rfl) rfl
theorem q229 : (Jvm.Cond.soleField "java/lang/Throwable" "stackTrace") ∈ lw_all := lw_g (lw_at lw_m1 114 rfl) rfl
theorem q231 : (Jvm.Cond.soleField "java/lang/Throwable" "depth") ∈ lw_all := lw_g (lw_at lw_m1 116 rfl) rfl
theorem q232 : (Jvm.Cond.soleField "java/lang/Throwable" "suppressedExceptions") ∈ lw_all := lw_g (lw_at lw_m1 117 rfl) rfl
theorem q455 : (Jvm.Cond.instanceMethod ({ cls := "java/lang/Throwable", name := "<init>", desc := "(Ljava/lang/String;)V" } : Jvm.MethodName)) ∈ lw_all := lw_g (lw_at lw_m2 100 rfl) rfl
theorem q456 : (Jvm.Cond.code ({ cls := "java/lang/Throwable", name := "<init>", desc := "(Ljava/lang/String;)V" } : Jvm.MethodName) prog_29_method_2_code (2 : Nat) (Option.none : Option Jvm.ClassFile.FieldType)) ∈ lw_all := lw_g (lw_at lw_m2 101 rfl) rfl
theorem q2078 : (Jvm.Cond.sameMethod "java/lang/Throwable" "java/lang/Throwable" "fillInStackTrace" "(I)Ljava/lang/Throwable;") ∈ lw_all := lw_g (lw_at lw_m9 43 rfl) rfl
theorem in_J0 : ∀ w ∈ wsJ00, w ∈ lw_all := lw_in wsJ00 [174, 176, 178, 180, 182] (by decide +kernel) (by decide +kernel)

/-! java/lang/Exception -/
def RJ1 : String := "java/lang/Exception"
abbrev cJ1_init : ByteArray := prog_19_method_5_code
def yJ1_init : MethodName := ⟨RJ1, "<init>", "(Ljava/lang/String;Ljava/lang/Throwable;ZZ)V"⟩
abbrev cJ1_init_2 : ByteArray := prog_19_method_2_code
def yJ1_init_2 : MethodName := ⟨RJ1, "<init>", "(Ljava/lang/String;)V"⟩
theorem q119 : (Jvm.Cond.initialized "java/lang/Exception") ∈ lw_all := lw_g (lw_at lw_m1 4 rfl) rfl
theorem q167 : (Jvm.Cond.declares ({ cls := "java/lang/Exception", name := "<init>", desc := "()V" } : Jvm.MethodName)) ∈ lw_tbl := lw_at lw_m1 52 rfl
theorem q168 : (Jvm.Cond.declares ({ cls := "java/lang/Exception", name := "<init>", desc := "(Ljava/lang/String;)V" } : Jvm.MethodName)) ∈ lw_tbl := lw_at lw_m1 53 rfl
theorem q208 : (Jvm.Cond.instanceMethod ({ cls := "java/lang/Exception", name := "<init>", desc := "(Ljava/lang/String;Ljava/lang/Throwable;ZZ)V" } : Jvm.MethodName)) ∈ lw_all := lw_g (lw_at lw_m1 93 rfl) rfl
theorem q209 : (Jvm.Cond.code ({ cls := "java/lang/Exception", name := "<init>", desc := "(Ljava/lang/String;Ljava/lang/Throwable;ZZ)V" } : Jvm.MethodName) prog_19_method_5_code (5 : Nat) (Option.none : Option Jvm.ClassFile.FieldType)) ∈ lw_all := lw_g (lw_at lw_m1 94 rfl) rfl
theorem q210 : (Jvm.Cond.methodLink "java/lang/Exception" (16 : Nat) ({ cls := "java/lang/Throwable", name := "<init>", desc := "(Ljava/lang/String;Ljava/lang/Throwable;ZZ)V" } : Jvm.MethodName)) ∈ lw_all := lw_g (lw_at lw_m1 95 rfl) rfl
theorem q452 : (Jvm.Cond.instanceMethod ({ cls := "java/lang/Exception", name := "<init>", desc := "(Ljava/lang/String;)V" } : Jvm.MethodName)) ∈ lw_all := lw_g (lw_at lw_m2 97 rfl) rfl
theorem q453 : (Jvm.Cond.code ({ cls := "java/lang/Exception", name := "<init>", desc := "(Ljava/lang/String;)V" } : Jvm.MethodName) prog_19_method_2_code (2 : Nat) (Option.none : Option Jvm.ClassFile.FieldType)) ∈ lw_all := lw_g (lw_at lw_m2 98 rfl) rfl
theorem q454 : (Jvm.Cond.methodLink "java/lang/Exception" (7 : Nat) ({ cls := "java/lang/Throwable", name := "<init>", desc := "(Ljava/lang/String;)V" } : Jvm.MethodName)) ∈ lw_all := lw_g (lw_at lw_m2 99 rfl) rfl

/-! BeeYard$Bad -/
def RX2 : String := "BeeYard$Bad"
def TX2 : u_T := fun k => match k with
  | 0 => ("java/lang/Throwable", "cause", "Ljava/lang/Throwable;", false)
  | 1 => ("java/lang/Throwable", "stackTrace", "[Ljava/lang/StackTraceElement;", false)
  | 2 => ("java/lang/Throwable", "suppressedExceptions", "Ljava/util/List;", false)
  | 3 => ("java/lang/Throwable", "detailMessage", "Ljava/lang/String;", false)
  | 4 => ("java/lang/Throwable", "backtrace", "Ljava/lang/Object;", false)
  | 5 => ("java/lang/Throwable", "depth", "I", false)
  | 6 => ("BeeYard$Bad", "kind", "I", false)
  | _ => ("BeeYard$Bad", "place", "I", false)
def tyX2 : Nat → FieldType := fun k => match k with
  | 0 => .object "java/lang/Throwable"
  | 1 => .array (.object "java/lang/StackTraceElement")
  | 2 => .object "java/util/List"
  | 3 => .object "java/lang/String"
  | 4 => .object "java/lang/Object"
  | 5 => .int
  | 6 => .int
  | _ => .int
abbrev wsX20 : List Cond := u_ws RX2 TX2 8
theorem nmX2 : ∀ a, a < 8 → ∀ b, b < 8 → a ≠ b → (TX2 a).2.1 ≠ (TX2 b).2.1 := by decide +kernel
theorem tyX2_ok : ∀ k, k < 8 → parseFieldDescriptor (TX2 k).2.2.1 = some (tyX2 k) := by decide +kernel
abbrev cX2_init : ByteArray := prog_3_method_1_code
def yX2_init : MethodName := ⟨RX2, "<init>", "()V"⟩
abbrev cX2_at : ByteArray := prog_3_method_2_code
def yX2_at : MethodName := ⟨RX2, "at", "(II)LBeeYard$Bad;"⟩
theorem q120 : (Jvm.Cond.initialized "BeeYard$Bad") ∈ lw_all := lw_g (lw_at lw_m1 5 rfl) rfl
theorem q165 : (Jvm.Cond.instantiable "BeeYard$Bad" (8 : Nat)) ∈ lw_all := lw_g (lw_at lw_m1 50 rfl) rfl
theorem q166 : (Jvm.Cond.castable "BeeYard$Bad" "BeeYard$Bad") ∈ lw_tbl := lw_at lw_m1 51 rfl
theorem q171 : (Jvm.Cond.selects "BeeYard$Bad" ({ cls := "java/lang/Throwable", name := "fillInStackTrace", desc := "(I)Ljava/lang/Throwable;" } : Jvm.MethodName) ({ cls := "java/lang/Throwable", name := "fillInStackTrace", desc := "(I)Ljava/lang/Throwable;" } : Jvm.MethodName)) ∈ lw_all := lw_g (lw_at lw_m1 56 rfl) rfl
theorem q172 : (Jvm.Cond.selects "BeeYard$Bad" ({ cls := "java/lang/Throwable", name := "fillInStackTrace", desc := "()Ljava/lang/Throwable;" } : Jvm.MethodName) ({ cls := "java/lang/Throwable", name := "fillInStackTrace", desc := "()Ljava/lang/Throwable;" } : Jvm.MethodName)) ∈ lw_all := lw_g (lw_at lw_m1 57 rfl) rfl
theorem q173 : (Jvm.Cond.lays "BeeYard$Bad" "java/lang/Throwable" "cause" "Ljava/lang/Throwable;") ∈ lw_all := lw_g (lw_at lw_m1 58 rfl) rfl
theorem q175 : (Jvm.Cond.lays "BeeYard$Bad" "java/lang/Throwable" "stackTrace" "[Ljava/lang/StackTraceElement;") ∈ lw_all := lw_g (lw_at lw_m1 60 rfl) rfl
theorem q177 : (Jvm.Cond.lays "BeeYard$Bad" "java/lang/Throwable" "suppressedExceptions" "Ljava/util/List;") ∈ lw_all := lw_g (lw_at lw_m1 62 rfl) rfl
theorem q179 : (Jvm.Cond.lays "BeeYard$Bad" "java/lang/Throwable" "detailMessage" "Ljava/lang/String;") ∈ lw_all := lw_g (lw_at lw_m1 64 rfl) rfl
theorem q181 : (Jvm.Cond.lays "BeeYard$Bad" "java/lang/Throwable" "backtrace" "Ljava/lang/Object;") ∈ lw_all := lw_g (lw_at lw_m1 66 rfl) rfl
theorem q205 : (Jvm.Cond.instanceMethod ({ cls := "BeeYard$Bad", name := "<init>", desc := "()V" } : Jvm.MethodName)) ∈ lw_all := lw_g (lw_at lw_m1 90 rfl) rfl
theorem q206 : (Jvm.Cond.code ({ cls := "BeeYard$Bad", name := "<init>", desc := "()V" } : Jvm.MethodName) prog_3_method_1_code (1 : Nat) (Option.none : Option Jvm.ClassFile.FieldType)) ∈ lw_all := lw_g (lw_at lw_m1 91 rfl) rfl
theorem q207 : (Jvm.Cond.methodLink "BeeYard$Bad" (1 : Nat) ({ cls := "java/lang/Exception", name := "<init>", desc := "(Ljava/lang/String;Ljava/lang/Throwable;ZZ)V" } : Jvm.MethodName)) ∈ lw_all := lw_g (lw_at lw_m1 92 rfl) rfl
theorem q213 : (Jvm.Cond.fieldLink "BeeYard$Bad" (7 : Nat) "BeeYard$Bad" "kind" "I") ∈ lw_all := lw_g (lw_at lw_m1 98 rfl) rfl
theorem q215 : (Jvm.Cond.fieldLink "BeeYard$Bad" (13 : Nat) "BeeYard$Bad" "place" "I") ∈ lw_all := lw_g (lw_at lw_m1 100 rfl) rfl
theorem q222 : (Jvm.Cond.lays "BeeYard$Bad" "BeeYard$Bad" "kind" "I") ∈ lw_all := lw_g (lw_at lw_m1 107 rfl) rfl
theorem q223 : (Jvm.Cond.soleField "BeeYard$Bad" "kind") ∈ lw_all := lw_g (lw_at lw_m1 108 rfl) rfl
theorem q224 : (Jvm.Cond.lays "BeeYard$Bad" "BeeYard$Bad" "place" "I") ∈ lw_all := lw_g (lw_at lw_m1 109 rfl) rfl
theorem q225 : (Jvm.Cond.soleField "BeeYard$Bad" "place") ∈ lw_all := lw_g (lw_at lw_m1 110 rfl) rfl
theorem q230 : (Jvm.Cond.lays "BeeYard$Bad" "java/lang/Throwable" "depth" "I") ∈ lw_all := lw_g (lw_at lw_m1 115 rfl) rfl
theorem q233 : (Jvm.Cond.superclass "BeeYard$Bad" "java/lang/Exception") ∈ lw_all := lw_g (lw_at lw_m1 118 rfl) rfl
theorem q665 : (Jvm.Cond.instanceMethod ({ cls := "BeeYard$Bad", name := "at", desc := "(II)LBeeYard$Bad;" } : Jvm.MethodName)) ∈ lw_all := lw_g (lw_at lw_m3 70 rfl) rfl
theorem q666 : (Jvm.Cond.selects "BeeYard$Bad" ({ cls := "BeeYard$Bad", name := "at", desc := "(II)LBeeYard$Bad;" } : Jvm.MethodName) ({ cls := "BeeYard$Bad", name := "at", desc := "(II)LBeeYard$Bad;" } : Jvm.MethodName)) ∈ lw_all := lw_g (lw_at lw_m3 71 rfl) rfl
theorem q667 : (Jvm.Cond.code ({ cls := "BeeYard$Bad", name := "at", desc := "(II)LBeeYard$Bad;" } : Jvm.MethodName) prog_3_method_2_code (3 : Nat) (Option.some (Jvm.ClassFile.FieldType.object "BeeYard$Bad"))) ∈ lw_all := lw_g (lw_at lw_m3 72 rfl) rfl
theorem in_X2 : ∀ w ∈ wsX20, w ∈ lw_all := lw_in wsX20 [173, 175, 177, 179, 181, 230, 222, 224] (by decide +kernel) (by decide +kernel)

/-! BeeYard$Refused -/
def RX3 : String := "BeeYard$Refused"
def TX3 : u_T := fun k => match k with
  | 0 => ("java/lang/Throwable", "cause", "Ljava/lang/Throwable;", false)
  | 1 => ("java/lang/Throwable", "stackTrace", "[Ljava/lang/StackTraceElement;", false)
  | 2 => ("java/lang/Throwable", "suppressedExceptions", "Ljava/util/List;", false)
  | 3 => ("java/lang/Throwable", "detailMessage", "Ljava/lang/String;", false)
  | 4 => ("java/lang/Throwable", "backtrace", "Ljava/lang/Object;", false)
  | 5 => ("java/lang/Throwable", "depth", "I", false)
  | _ => ("BeeYard$Refused", "why", "I", false)
def tyX3 : Nat → FieldType := fun k => match k with
  | 0 => .object "java/lang/Throwable"
  | 1 => .array (.object "java/lang/StackTraceElement")
  | 2 => .object "java/util/List"
  | 3 => .object "java/lang/String"
  | 4 => .object "java/lang/Object"
  | 5 => .int
  | _ => .int
abbrev wsX30 : List Cond := u_ws RX3 TX3 7
theorem nmX3 : ∀ a, a < 7 → ∀ b, b < 7 → a ≠ b → (TX3 a).2.1 ≠ (TX3 b).2.1 := by decide +kernel
theorem tyX3_ok : ∀ k, k < 7 → parseFieldDescriptor (TX3 k).2.2.1 = some (tyX3 k) := by decide +kernel
abbrev cX3_init : ByteArray := prog_11_method_1_code
def yX3_init : MethodName := ⟨RX3, "<init>", "()V"⟩
abbrev cX3_by : ByteArray := prog_11_method_2_code
def yX3_by : MethodName := ⟨RX3, "by", "(I)LBeeYard$Refused;"⟩
theorem q121 : (Jvm.Cond.initialized "BeeYard$Refused") ∈ lw_all := lw_g (lw_at lw_m1 6 rfl) rfl
theorem q195 : (Jvm.Cond.selects "BeeYard$Refused" ({ cls := "java/lang/Throwable", name := "fillInStackTrace", desc := "()Ljava/lang/Throwable;" } : Jvm.MethodName) ({ cls := "java/lang/Throwable", name := "fillInStackTrace", desc := "()Ljava/lang/Throwable;" } : Jvm.MethodName)) ∈ lw_all := lw_g (lw_at lw_m1 80 rfl) rfl
theorem q236 : (Jvm.Cond.instantiable "BeeYard$Refused" (7 : Nat)) ∈ lw_all := lw_g (lw_at lw_m1 121 rfl) rfl
theorem q237 : (Jvm.Cond.castable "BeeYard$Refused" "BeeYard$Refused") ∈ lw_tbl := lw_at lw_m1 122 rfl
theorem q238 : (Jvm.Cond.selects "BeeYard$Refused" ({ cls := "java/lang/Throwable", name := "fillInStackTrace", desc := "(I)Ljava/lang/Throwable;" } : Jvm.MethodName) ({ cls := "java/lang/Throwable", name := "fillInStackTrace", desc := "(I)Ljava/lang/Throwable;" } : Jvm.MethodName)) ∈ lw_all := lw_g (lw_at lw_m1 123 rfl) rfl
theorem q239 : (Jvm.Cond.lays "BeeYard$Refused" "java/lang/Throwable" "cause" "Ljava/lang/Throwable;") ∈ lw_all := lw_g (lw_at lw_m1 124 rfl) rfl
theorem q240 : (Jvm.Cond.lays "BeeYard$Refused" "java/lang/Throwable" "stackTrace" "[Ljava/lang/StackTraceElement;") ∈ lw_all := lw_g (lw_at lw_m1 125 rfl) rfl
theorem q241 : (Jvm.Cond.lays "BeeYard$Refused" "java/lang/Throwable" "suppressedExceptions" "Ljava/util/List;") ∈ lw_all := lw_g (lw_at lw_m1 126 rfl) rfl
theorem q242 : (Jvm.Cond.lays "BeeYard$Refused" "java/lang/Throwable" "detailMessage" "Ljava/lang/String;") ∈ lw_all := lw_g (lw_at lw_m1 127 rfl) rfl
theorem q243 : (Jvm.Cond.lays "BeeYard$Refused" "java/lang/Throwable" "backtrace" "Ljava/lang/Object;") ∈ lw_all := lw_g (lw_at lw_m1 128 rfl) rfl
theorem q245 : (Jvm.Cond.instanceMethod ({ cls := "BeeYard$Refused", name := "<init>", desc := "()V" } : Jvm.MethodName)) ∈ lw_all := lw_g (lw_at lw_m1 130 rfl) rfl
theorem q246 : (Jvm.Cond.code ({ cls := "BeeYard$Refused", name := "<init>", desc := "()V" } : Jvm.MethodName) prog_11_method_1_code (1 : Nat) (Option.none : Option Jvm.ClassFile.FieldType)) ∈ lw_all := lw_g (lw_at lw_m1 131 rfl) rfl
theorem q247 : (Jvm.Cond.methodLink "BeeYard$Refused" (1 : Nat) ({ cls := "java/lang/Exception", name := "<init>", desc := "(Ljava/lang/String;Ljava/lang/Throwable;ZZ)V" } : Jvm.MethodName)) ∈ lw_all := lw_g (lw_at lw_m1 132 rfl) rfl
theorem q248 : (Jvm.Cond.fieldLink "BeeYard$Refused" (7 : Nat) "BeeYard$Refused" "why" "I") ∈ lw_all := lw_g (lw_at lw_m1 133 rfl) rfl
theorem q250 : (Jvm.Cond.lays "BeeYard$Refused" "BeeYard$Refused" "why" "I") ∈ lw_all := lw_g (lw_at lw_m1 135 rfl) rfl
theorem q251 : (Jvm.Cond.soleField "BeeYard$Refused" "why") ∈ lw_all := lw_g (lw_at lw_m1 136 rfl) rfl
theorem q252 : (Jvm.Cond.lays "BeeYard$Refused" "java/lang/Throwable" "depth" "I") ∈ lw_all := lw_g (lw_at lw_m1 137 rfl) rfl
theorem q253 : (Jvm.Cond.superclass "BeeYard$Refused" "java/lang/Exception") ∈ lw_all := lw_g (lw_at lw_m1 138 rfl) rfl
theorem q478 : (Jvm.Cond.instanceMethod ({ cls := "BeeYard$Refused", name := "by", desc := "(I)LBeeYard$Refused;" } : Jvm.MethodName)) ∈ lw_all := lw_g (lw_at lw_m2 123 rfl) rfl
theorem q479 : (Jvm.Cond.selects "BeeYard$Refused" ({ cls := "BeeYard$Refused", name := "by", desc := "(I)LBeeYard$Refused;" } : Jvm.MethodName) ({ cls := "BeeYard$Refused", name := "by", desc := "(I)LBeeYard$Refused;" } : Jvm.MethodName)) ∈ lw_all := lw_g (lw_at lw_m2 124 rfl) rfl
theorem q480 : (Jvm.Cond.code ({ cls := "BeeYard$Refused", name := "by", desc := "(I)LBeeYard$Refused;" } : Jvm.MethodName) prog_11_method_2_code (2 : Nat) (Option.some (Jvm.ClassFile.FieldType.object "BeeYard$Refused"))) ∈ lw_all := lw_g (lw_at lw_m2 125 rfl) rfl
theorem in_X3 : ∀ w ∈ wsX30, w ∈ lw_all := lw_in wsX30 [239, 240, 241, 242, 243, 252, 250] (by decide +kernel) (by decide +kernel)

/-! BeeYard$House -/
def RX4 : String := "BeeYard$House"
def TX4 : u_T := fun k => match k with
  | 0 => ("BeeYard$House", "yard", "LBeeYard$Yard;", true)
  | _ => ("BeeYard$House", "season", "LBeeYard$Loop;", false)
def tyX4 : Nat → FieldType := fun k => match k with
  | 0 => .object "BeeYard$Yard"
  | _ => .object "BeeYard$Loop"
abbrev wsX40 : List Cond := u_ws RX4 TX4 2
theorem nmX4 : ∀ a, a < 2 → ∀ b, b < 2 → a ≠ b → (TX4 a).2.1 ≠ (TX4 b).2.1 := by decide +kernel
theorem tyX4_ok : ∀ k, k < 2 → parseFieldDescriptor (TX4 k).2.2.1 = some (tyX4 k) := by decide +kernel
abbrev cX4_init : ByteArray := prog_6_method_1_code
def yX4_init : MethodName := ⟨RX4, "<init>", "()V"⟩
abbrev cX4_be : ByteArray := prog_6_method_2_code
def yX4_be : MethodName := ⟨RX4, "be", "(LBeeYard$House;)V"⟩
theorem q122 : (Jvm.Cond.initialized "BeeYard$House") ∈ lw_all := lw_g (lw_at lw_m1 7 rfl) rfl
theorem q255 : (Jvm.Cond.instantiable "BeeYard$House" (2 : Nat)) ∈ lw_all := lw_g (lw_at lw_m1 140 rfl) rfl
theorem q257 : (Jvm.Cond.instanceMethod ({ cls := "BeeYard$House", name := "<init>", desc := "()V" } : Jvm.MethodName)) ∈ lw_all := lw_g (lw_at lw_m1 142 rfl) rfl
theorem q258 : (Jvm.Cond.code ({ cls := "BeeYard$House", name := "<init>", desc := "()V" } : Jvm.MethodName) prog_6_method_1_code (1 : Nat) (Option.none : Option Jvm.ClassFile.FieldType)) ∈ lw_all := lw_g (lw_at lw_m1 143 rfl) rfl
theorem q259 : (Jvm.Cond.methodLink "BeeYard$House" (1 : Nat) ({ cls := "java/lang/Object", name := "<init>", desc := "()V" } : Jvm.MethodName)) ∈ lw_all := lw_g (lw_at lw_m1 144 rfl) rfl
theorem q260 : (Jvm.Cond.classLink "BeeYard$House" (7 : Nat) "BeeYard$Yard") ∈ lw_all := lw_g (lw_at lw_m1 145 rfl) rfl
theorem q262 : (Jvm.Cond.methodLinkNest "BeeYard$House" (9 : Nat) ({ cls := "BeeYard$Yard", name := "<init>", desc := "()V" } : Jvm.MethodName) "BeeYard") ∈ lw_tbl := lw_at lw_m1 147 rfl
theorem q365 : (Jvm.Cond.fieldLink "BeeYard$House" (10 : Nat) "BeeYard$House" "yard" "LBeeYard$Yard;") ∈ lw_all := lw_g (lw_at lw_m2 10 rfl) rfl
theorem q367 : (Jvm.Cond.fieldLink "BeeYard$House" (20 : Nat) "BeeYard$House" "season" "LBeeYard$Loop;") ∈ lw_all := lw_g (lw_at lw_m2 12 rfl) rfl
theorem q369 : (Jvm.Cond.laysFinal "BeeYard$House" "BeeYard$House" "yard" "LBeeYard$Yard;") ∈ lw_all := lw_g (lw_at lw_m2 14 rfl) rfl
theorem q370 : (Jvm.Cond.soleField "BeeYard$House" "yard") ∈ lw_all := lw_g (lw_at lw_m2 15 rfl) rfl
theorem q371 : (Jvm.Cond.lays "BeeYard$House" "BeeYard$House" "season" "LBeeYard$Loop;") ∈ lw_all := lw_g (lw_at lw_m2 16 rfl) rfl
theorem q372 : (Jvm.Cond.soleField "BeeYard$House" "season") ∈ lw_all := lw_g (lw_at lw_m2 17 rfl) rfl
theorem q373 : (Jvm.Cond.superclass "BeeYard$House" "java/lang/Object") ∈ lw_all := lw_g (lw_at lw_m2 18 rfl) rfl
theorem q1419 : (Jvm.Cond.instanceMethod ({ cls := "BeeYard$House", name := "be", desc := "(LBeeYard$House;)V" } : Jvm.MethodName)) ∈ lw_all := lw_g (lw_at lw_m6 104 rfl) rfl
theorem q1420 : (Jvm.Cond.selects "BeeYard$House" ({ cls := "BeeYard$House", name := "be", desc := "(LBeeYard$House;)V" } : Jvm.MethodName) ({ cls := "BeeYard$House", name := "be", desc := "(LBeeYard$House;)V" } : Jvm.MethodName)) ∈ lw_all := lw_g (lw_at lw_m6 105 rfl) rfl
theorem q1421 : (Jvm.Cond.code ({ cls := "BeeYard$House", name := "be", desc := "(LBeeYard$House;)V" } : Jvm.MethodName) prog_6_method_2_code (2 : Nat) (Option.none : Option Jvm.ClassFile.FieldType)) ∈ lw_all := lw_g (lw_at lw_m6 106 rfl) rfl
theorem q1422 : (Jvm.Cond.methodLink "BeeYard$House" (16 : Nat) ({ cls := "BeeYard$Yard", name := "be", desc := "(LBeeYard$Yard;)V" } : Jvm.MethodName)) ∈ lw_all := lw_g (lw_at lw_m6 107 rfl) rfl
theorem in_X4 : ∀ w ∈ wsX40, w ∈ lw_all := lw_in wsX40 [369, 371] (by decide +kernel) (by decide +kernel)

/-! BeeYard$Yard -/
def RX5 : String := "BeeYard$Yard"
def TX5 : u_T := fun k => match k with
  | 0 => ("BeeYard$Yard", "lines", "LBeeYard$Lines;", false)
  | 1 => ("BeeYard$Yard", "hives", "[LBeeYard$Hive;", true)
  | 2 => ("BeeYard$Yard", "many", "I", false)
  | 3 => ("BeeYard$Yard", "day", "I", false)
  | 4 => ("BeeYard$Yard", "harvested", "I", false)
  | 5 => ("BeeYard$Yard", "eaten", "I", false)
  | 6 => ("BeeYard$Yard", "spilt", "I", false)
  | 7 => ("BeeYard$Yard", "starved", "I", false)
  | 8 => ("BeeYard$Yard", "came", "I", false)
  | 9 => ("BeeYard$Yard", "brought", "I", false)
  | 10 => ("BeeYard$Yard", "swarmBees", "I", false)
  | _ => ("BeeYard$Yard", "swarmQueen", "I", false)
def tyX5 : Nat → FieldType := fun k => match k with
  | 0 => .object "BeeYard$Lines"
  | 1 => .array (.object "BeeYard$Hive")
  | 2 => .int
  | 3 => .int
  | 4 => .int
  | 5 => .int
  | 6 => .int
  | 7 => .int
  | 8 => .int
  | 9 => .int
  | 10 => .int
  | _ => .int
abbrev wsX50 : List Cond := u_ws RX5 TX5 12
theorem nmX5 : ∀ a, a < 12 → ∀ b, b < 12 → a ≠ b → (TX5 a).2.1 ≠ (TX5 b).2.1 := by decide +kernel
theorem tyX5_ok : ∀ k, k < 12 → parseFieldDescriptor (TX5 k).2.2.1 = some (tyX5 k) := by decide +kernel
abbrev cX5_init : ByteArray := prog_15_method_1_code
def yX5_init : MethodName := ⟨RX5, "<init>", "()V"⟩
abbrev cX5_hiveNamed : ByteArray := prog_15_method_3_code
def yX5_hiveNamed : MethodName := ⟨RX5, "hiveNamed", "(J)I"⟩
abbrev cX5_be : ByteArray := prog_15_method_2_code
def yX5_be : MethodName := ⟨RX5, "be", "(LBeeYard$Yard;)V"⟩
abbrev cX5_homeOf : ByteArray := prog_15_method_9_code
def yX5_homeOf : MethodName := ⟨RX5, "homeOf", "(I)I"⟩
abbrev cX5_canPass : ByteArray := prog_15_method_5_code
def yX5_canPass : MethodName := ⟨RX5, "canPass", "(I)Z"⟩
abbrev cX5_passes : ByteArray := prog_15_method_6_code
def yX5_passes : MethodName := ⟨RX5, "passes", "(I)V"⟩
abbrev cX5_laysIn : ByteArray := prog_15_method_4_code
def yX5_laysIn : MethodName := ⟨RX5, "laysIn", "(LBeeYard$Hive;)I"⟩
abbrev cX5_brings : ByteArray := prog_15_method_7_code
def yX5_brings : MethodName := ⟨RX5, "brings", "(II)I"⟩
abbrev cX5_harvests : ByteArray := prog_15_method_8_code
def yX5_harvests : MethodName := ⟨RX5, "harvests", "(II)I"⟩
abbrev cX5_canSeat : ByteArray := prog_15_method_10_code
def yX5_canSeat : MethodName := ⟨RX5, "canSeat", "(II)Z"⟩
theorem q123 : (Jvm.Cond.initialized "BeeYard$Yard") ∈ lw_all := lw_g (lw_at lw_m1 8 rfl) rfl
theorem q261 : (Jvm.Cond.instantiable "BeeYard$Yard" (12 : Nat)) ∈ lw_all := lw_g (lw_at lw_m1 146 rfl) rfl
theorem q263 : (Jvm.Cond.instanceMethod ({ cls := "BeeYard$Yard", name := "<init>", desc := "()V" } : Jvm.MethodName)) ∈ lw_all := lw_g (lw_at lw_m1 148 rfl) rfl
theorem q264 : (Jvm.Cond.code ({ cls := "BeeYard$Yard", name := "<init>", desc := "()V" } : Jvm.MethodName) prog_15_method_1_code (1 : Nat) (Option.none : Option Jvm.ClassFile.FieldType)) ∈ lw_all := lw_g (lw_at lw_m1 149 rfl) rfl
theorem q265 : (Jvm.Cond.methodLink "BeeYard$Yard" (3 : Nat) ({ cls := "java/lang/Object", name := "<init>", desc := "()V" } : Jvm.MethodName)) ∈ lw_all := lw_g (lw_at lw_m1 150 rfl) rfl
theorem q266 : (Jvm.Cond.classLink "BeeYard$Yard" (9 : Nat) "BeeYard$Lines") ∈ lw_all := lw_g (lw_at lw_m1 151 rfl) rfl
theorem q268 : (Jvm.Cond.methodLinkNest "BeeYard$Yard" (11 : Nat) ({ cls := "BeeYard$Lines", name := "<init>", desc := "()V" } : Jvm.MethodName) "BeeYard") ∈ lw_tbl := lw_at lw_m1 153 rfl
theorem q279 : (Jvm.Cond.fieldLinkNest "BeeYard$Yard" (74 : Nat) "BeeYard$Lines" "lays" "[I" "BeeYard") ∈ lw_tbl := lw_at lw_m1 164 rfl
theorem q307 : (Jvm.Cond.classLink "BeeYard$Yard" (18 : Nat) "BeeYard$Hive") ∈ lw_all := lw_g (lw_at lw_m1 192 rfl) rfl
theorem q309 : (Jvm.Cond.fieldLink "BeeYard$Yard" (12 : Nat) "BeeYard$Yard" "lines" "LBeeYard$Lines;") ∈ lw_all := lw_g (lw_at lw_m1 194 rfl) rfl
theorem q312 : (Jvm.Cond.fieldLink "BeeYard$Yard" (20 : Nat) "BeeYard$Yard" "hives" "[LBeeYard$Hive;") ∈ lw_all := lw_g (lw_at lw_m1 197 rfl) rfl
theorem q317 : (Jvm.Cond.fieldLink "BeeYard$Yard" (28 : Nat) "BeeYard$Yard" "many" "I") ∈ lw_all := lw_g (lw_at lw_m1 202 rfl) rfl
theorem q321 : (Jvm.Cond.fieldLink "BeeYard$Yard" (47 : Nat) "BeeYard$Yard" "day" "I") ∈ lw_all := lw_g (lw_at lw_m1 206 rfl) rfl
theorem q323 : (Jvm.Cond.fieldLink "BeeYard$Yard" (50 : Nat) "BeeYard$Yard" "harvested" "I") ∈ lw_all := lw_g (lw_at lw_m1 208 rfl) rfl
theorem q325 : (Jvm.Cond.fieldLink "BeeYard$Yard" (53 : Nat) "BeeYard$Yard" "eaten" "I") ∈ lw_all := lw_g (lw_at lw_m1 210 rfl) rfl
theorem q327 : (Jvm.Cond.fieldLink "BeeYard$Yard" (56 : Nat) "BeeYard$Yard" "spilt" "I") ∈ lw_all := lw_g (lw_at lw_m1 212 rfl) rfl
theorem q329 : (Jvm.Cond.fieldLink "BeeYard$Yard" (59 : Nat) "BeeYard$Yard" "starved" "I") ∈ lw_all := lw_g (lw_at lw_m1 214 rfl) rfl
theorem q331 : (Jvm.Cond.fieldLink "BeeYard$Yard" (62 : Nat) "BeeYard$Yard" "came" "I") ∈ lw_all := lw_g (lw_at lw_m1 216 rfl) rfl
theorem q333 : (Jvm.Cond.fieldLink "BeeYard$Yard" (65 : Nat) "BeeYard$Yard" "brought" "I") ∈ lw_all := lw_g (lw_at lw_m1 218 rfl) rfl
theorem q336 : (Jvm.Cond.fieldLink "BeeYard$Yard" (68 : Nat) "BeeYard$Yard" "swarmBees" "I") ∈ lw_all := lw_g (lw_at lw_m1 221 rfl) rfl
theorem q338 : (Jvm.Cond.fieldLink "BeeYard$Yard" (24 : Nat) "BeeYard$Yard" "swarmQueen" "I") ∈ lw_all := lw_g (lw_at lw_m1 223 rfl) rfl
theorem q340 : (Jvm.Cond.lays "BeeYard$Yard" "BeeYard$Yard" "lines" "LBeeYard$Lines;") ∈ lw_all := lw_g (lw_at lw_m1 225 rfl) rfl
theorem q341 : (Jvm.Cond.soleField "BeeYard$Yard" "lines") ∈ lw_all := lw_g (lw_at lw_m1 226 rfl) rfl
theorem q342 : (Jvm.Cond.laysFinal "BeeYard$Yard" "BeeYard$Yard" "hives" "[LBeeYard$Hive;") ∈ lw_all := lw_g (lw_at lw_m1 227 rfl) rfl
theorem q343 : (Jvm.Cond.soleField "BeeYard$Yard" "hives") ∈ lw_all := lw_g (lw_at lw_m1 228 rfl) rfl
theorem q344 : (Jvm.Cond.lays "BeeYard$Yard" "BeeYard$Yard" "many" "I") ∈ lw_all := lw_g (lw_at lw_m1 229 rfl) rfl
theorem q345 : (Jvm.Cond.soleField "BeeYard$Yard" "many") ∈ lw_all := lw_g (lw_at lw_m1 230 rfl) rfl
theorem q346 : (Jvm.Cond.lays "BeeYard$Yard" "BeeYard$Yard" "day" "I") ∈ lw_all := lw_g (lw_at lw_m1 231 rfl) rfl
theorem q347 : (Jvm.Cond.soleField "BeeYard$Yard" "day") ∈ lw_all := lw_g (lw_at lw_m1 232 rfl) rfl
theorem q348 : (Jvm.Cond.lays "BeeYard$Yard" "BeeYard$Yard" "harvested" "I") ∈ lw_all := lw_g (lw_at lw_m1 233 rfl) rfl
theorem q349 : (Jvm.Cond.soleField "BeeYard$Yard" "harvested") ∈ lw_all := lw_g (lw_at lw_m1 234 rfl) rfl
theorem q350 : (Jvm.Cond.lays "BeeYard$Yard" "BeeYard$Yard" "eaten" "I") ∈ lw_all := lw_g (lw_at lw_m1 235 rfl) rfl
theorem q351 : (Jvm.Cond.soleField "BeeYard$Yard" "eaten") ∈ lw_all := lw_g (lw_at lw_m1 236 rfl) rfl
theorem q352 : (Jvm.Cond.lays "BeeYard$Yard" "BeeYard$Yard" "spilt" "I") ∈ lw_all := lw_g (lw_at lw_m1 237 rfl) rfl
theorem q353 : (Jvm.Cond.soleField "BeeYard$Yard" "spilt") ∈ lw_all := lw_g (lw_at lw_m1 238 rfl) rfl
theorem q354 : (Jvm.Cond.lays "BeeYard$Yard" "BeeYard$Yard" "starved" "I") ∈ lw_all := lw_g (lw_at lw_m1 239 rfl) rfl
theorem q355 : (Jvm.Cond.soleField "BeeYard$Yard" "starved") ∈ lw_all := lw_g (lw_at lw_m2 0 rfl) rfl
theorem q356 : (Jvm.Cond.lays "BeeYard$Yard" "BeeYard$Yard" "came" "I") ∈ lw_all := lw_g (lw_at lw_m2 1 rfl) rfl
theorem q357 : (Jvm.Cond.soleField "BeeYard$Yard" "came") ∈ lw_all := lw_g (lw_at lw_m2 2 rfl) rfl
theorem q358 : (Jvm.Cond.lays "BeeYard$Yard" "BeeYard$Yard" "brought" "I") ∈ lw_all := lw_g (lw_at lw_m2 3 rfl) rfl
theorem q359 : (Jvm.Cond.soleField "BeeYard$Yard" "brought") ∈ lw_all := lw_g (lw_at lw_m2 4 rfl) rfl
theorem q360 : (Jvm.Cond.lays "BeeYard$Yard" "BeeYard$Yard" "swarmBees" "I") ∈ lw_all := lw_g (lw_at lw_m2 5 rfl) rfl
theorem q361 : (Jvm.Cond.soleField "BeeYard$Yard" "swarmBees") ∈ lw_all := lw_g (lw_at lw_m2 6 rfl) rfl
theorem q362 : (Jvm.Cond.lays "BeeYard$Yard" "BeeYard$Yard" "swarmQueen" "I") ∈ lw_all := lw_g (lw_at lw_m2 7 rfl) rfl
theorem q363 : (Jvm.Cond.soleField "BeeYard$Yard" "swarmQueen") ∈ lw_all := lw_g (lw_at lw_m2 8 rfl) rfl
theorem q364 : (Jvm.Cond.superclass "BeeYard$Yard" "java/lang/Object") ∈ lw_all := lw_g (lw_at lw_m2 9 rfl) rfl
theorem q717 : (Jvm.Cond.instanceMethod ({ cls := "BeeYard$Yard", name := "hiveNamed", desc := "(J)I" } : Jvm.MethodName)) ∈ lw_all := lw_g (lw_at lw_m3 122 rfl) rfl
theorem q718 : (Jvm.Cond.selects "BeeYard$Yard" ({ cls := "BeeYard$Yard", name := "hiveNamed", desc := "(J)I" } : Jvm.MethodName) ({ cls := "BeeYard$Yard", name := "hiveNamed", desc := "(J)I" } : Jvm.MethodName)) ∈ lw_all := lw_g (lw_at lw_m3 123 rfl) rfl
theorem q719 : (Jvm.Cond.code ({ cls := "BeeYard$Yard", name := "hiveNamed", desc := "(J)I" } : Jvm.MethodName) prog_15_method_3_code (4 : Nat) (Option.some Jvm.ClassFile.FieldType.int)) ∈ lw_all := lw_g (lw_at lw_m3 124 rfl) rfl
theorem q745 : (Jvm.Cond.fieldLinkNest "BeeYard$Yard" (31 : Nat) "BeeYard$Hive" "name" "J" "BeeYard") ∈ lw_tbl := lw_at lw_m3 150 rfl
theorem q747 : (Jvm.Cond.fieldLinkNest "BeeYard$Yard" (35 : Nat) "BeeYard$Hive" "frames" "[[S" "BeeYard") ∈ lw_tbl := lw_at lw_m3 152 rfl
theorem q761 : (Jvm.Cond.fieldLinkNest "BeeYard$Yard" (71 : Nat) "BeeYard$Hive" "queen" "I" "BeeYard") ∈ lw_tbl := lw_at lw_m3 166 rfl
theorem q768 : (Jvm.Cond.fieldLinkNest "BeeYard$Yard" (89 : Nat) "BeeYard$Hive" "came" "I" "BeeYard") ∈ lw_tbl := lw_at lw_m3 173 rfl
theorem q770 : (Jvm.Cond.fieldLinkNest "BeeYard$Yard" (85 : Nat) "BeeYard$Hive" "ate" "I" "BeeYard") ∈ lw_tbl := lw_at lw_m3 175 rfl
theorem q772 : (Jvm.Cond.fieldLinkNest "BeeYard$Yard" (88 : Nat) "BeeYard$Hive" "starved" "I" "BeeYard") ∈ lw_tbl := lw_at lw_m3 177 rfl
theorem q862 : (Jvm.Cond.instanceMethod ({ cls := "BeeYard$Yard", name := "be", desc := "(LBeeYard$Yard;)V" } : Jvm.MethodName)) ∈ lw_all := lw_g (lw_at lw_m4 27 rfl) rfl
theorem q863 : (Jvm.Cond.selects "BeeYard$Yard" ({ cls := "BeeYard$Yard", name := "be", desc := "(LBeeYard$Yard;)V" } : Jvm.MethodName) ({ cls := "BeeYard$Yard", name := "be", desc := "(LBeeYard$Yard;)V" } : Jvm.MethodName)) ∈ lw_all := lw_g (lw_at lw_m4 28 rfl) rfl
theorem q864 : (Jvm.Cond.code ({ cls := "BeeYard$Yard", name := "be", desc := "(LBeeYard$Yard;)V" } : Jvm.MethodName) prog_15_method_2_code (3 : Nat) (Option.none : Option Jvm.ClassFile.FieldType)) ∈ lw_all := lw_g (lw_at lw_m4 29 rfl) rfl
theorem q865 : (Jvm.Cond.methodLink "BeeYard$Yard" (39 : Nat) ({ cls := "BeeYard$Hive", name := "copy", desc := "()LBeeYard$Hive;" } : Jvm.MethodName)) ∈ lw_all := lw_g (lw_at lw_m4 30 rfl) rfl
theorem q876 : (Jvm.Cond.methodLink "BeeYard$Yard" (43 : Nat) ({ cls := "BeeYard$Hive", name := "be", desc := "(LBeeYard$Hive;)V" } : Jvm.MethodName)) ∈ lw_all := lw_g (lw_at lw_m4 41 rfl) rfl
theorem q1041 : (Jvm.Cond.instanceMethod ({ cls := "BeeYard$Yard", name := "homeOf", desc := "(I)I" } : Jvm.MethodName)) ∈ lw_all := lw_g (lw_at lw_m4 206 rfl) rfl
theorem q1042 : (Jvm.Cond.selects "BeeYard$Yard" ({ cls := "BeeYard$Yard", name := "homeOf", desc := "(I)I" } : Jvm.MethodName) ({ cls := "BeeYard$Yard", name := "homeOf", desc := "(I)I" } : Jvm.MethodName)) ∈ lw_all := lw_g (lw_at lw_m4 207 rfl) rfl
theorem q1043 : (Jvm.Cond.code ({ cls := "BeeYard$Yard", name := "homeOf", desc := "(I)I" } : Jvm.MethodName) prog_15_method_9_code (3 : Nat) (Option.some Jvm.ClassFile.FieldType.int)) ∈ lw_all := lw_g (lw_at lw_m4 208 rfl) rfl
theorem q1077 : (Jvm.Cond.instanceMethod ({ cls := "BeeYard$Yard", name := "canPass", desc := "(I)Z" } : Jvm.MethodName)) ∈ lw_all := lw_g (lw_at lw_m5 2 rfl) rfl
theorem q1078 : (Jvm.Cond.selects "BeeYard$Yard" ({ cls := "BeeYard$Yard", name := "canPass", desc := "(I)Z" } : Jvm.MethodName) ({ cls := "BeeYard$Yard", name := "canPass", desc := "(I)Z" } : Jvm.MethodName)) ∈ lw_all := lw_g (lw_at lw_m5 3 rfl) rfl
theorem q1079 : (Jvm.Cond.code ({ cls := "BeeYard$Yard", name := "canPass", desc := "(I)Z" } : Jvm.MethodName) prog_15_method_5_code (2 : Nat) (Option.some Jvm.ClassFile.FieldType.boolean)) ∈ lw_all := lw_g (lw_at lw_m5 4 rfl) rfl
theorem q1081 : (Jvm.Cond.instanceMethod ({ cls := "BeeYard$Yard", name := "passes", desc := "(I)V" } : Jvm.MethodName)) ∈ lw_all := lw_g (lw_at lw_m5 6 rfl) rfl
theorem q1082 : (Jvm.Cond.selects "BeeYard$Yard" ({ cls := "BeeYard$Yard", name := "passes", desc := "(I)V" } : Jvm.MethodName) ({ cls := "BeeYard$Yard", name := "passes", desc := "(I)V" } : Jvm.MethodName)) ∈ lw_all := lw_g (lw_at lw_m5 7 rfl) rfl
theorem q1083 : (Jvm.Cond.code ({ cls := "BeeYard$Yard", name := "passes", desc := "(I)V" } : Jvm.MethodName) prog_15_method_6_code (4 : Nat) (Option.none : Option Jvm.ClassFile.FieldType)) ∈ lw_all := lw_g (lw_at lw_m5 8 rfl) rfl
theorem q1084 : (Jvm.Cond.methodLink "BeeYard$Yard" (78 : Nat) ({ cls := "BeeYard$Yard", name := "laysIn", desc := "(LBeeYard$Hive;)I" } : Jvm.MethodName)) ∈ lw_all := lw_g (lw_at lw_m5 9 rfl) rfl
theorem q1085 : (Jvm.Cond.instanceMethod ({ cls := "BeeYard$Yard", name := "laysIn", desc := "(LBeeYard$Hive;)I" } : Jvm.MethodName)) ∈ lw_all := lw_g (lw_at lw_m5 10 rfl) rfl
theorem q1086 : (Jvm.Cond.selects "BeeYard$Yard" ({ cls := "BeeYard$Yard", name := "laysIn", desc := "(LBeeYard$Hive;)I" } : Jvm.MethodName) ({ cls := "BeeYard$Yard", name := "laysIn", desc := "(LBeeYard$Hive;)I" } : Jvm.MethodName)) ∈ lw_all := lw_g (lw_at lw_m5 11 rfl) rfl
theorem q1087 : (Jvm.Cond.code ({ cls := "BeeYard$Yard", name := "laysIn", desc := "(LBeeYard$Hive;)I" } : Jvm.MethodName) prog_15_method_4_code (2 : Nat) (Option.some Jvm.ClassFile.FieldType.int)) ∈ lw_all := lw_g (lw_at lw_m5 12 rfl) rfl
theorem q1088 : (Jvm.Cond.methodLink "BeeYard$Yard" (82 : Nat) ({ cls := "BeeYard$Hive", name := "day", desc := "(I)V" } : Jvm.MethodName)) ∈ lw_all := lw_g (lw_at lw_m5 13 rfl) rfl
theorem q1102 : (Jvm.Cond.instanceMethod ({ cls := "BeeYard$Yard", name := "brings", desc := "(II)I" } : Jvm.MethodName)) ∈ lw_all := lw_g (lw_at lw_m5 27 rfl) rfl
theorem q1103 : (Jvm.Cond.selects "BeeYard$Yard" ({ cls := "BeeYard$Yard", name := "brings", desc := "(II)I" } : Jvm.MethodName) ({ cls := "BeeYard$Yard", name := "brings", desc := "(II)I" } : Jvm.MethodName)) ∈ lw_all := lw_g (lw_at lw_m5 28 rfl) rfl
theorem q1104 : (Jvm.Cond.code ({ cls := "BeeYard$Yard", name := "brings", desc := "(II)I" } : Jvm.MethodName) prog_15_method_7_code (4 : Nat) (Option.some Jvm.ClassFile.FieldType.int)) ∈ lw_all := lw_g (lw_at lw_m5 29 rfl) rfl
theorem q1105 : (Jvm.Cond.methodLink "BeeYard$Yard" (90 : Nat) ({ cls := "BeeYard$Hive", name := "stores", desc := "(I)I" } : Jvm.MethodName)) ∈ lw_all := lw_g (lw_at lw_m5 30 rfl) rfl
theorem q1111 : (Jvm.Cond.instanceMethod ({ cls := "BeeYard$Yard", name := "harvests", desc := "(II)I" } : Jvm.MethodName)) ∈ lw_all := lw_g (lw_at lw_m5 36 rfl) rfl
theorem q1112 : (Jvm.Cond.selects "BeeYard$Yard" ({ cls := "BeeYard$Yard", name := "harvests", desc := "(II)I" } : Jvm.MethodName) ({ cls := "BeeYard$Yard", name := "harvests", desc := "(II)I" } : Jvm.MethodName)) ∈ lw_all := lw_g (lw_at lw_m5 37 rfl) rfl
theorem q1113 : (Jvm.Cond.code ({ cls := "BeeYard$Yard", name := "harvests", desc := "(II)I" } : Jvm.MethodName) prog_15_method_8_code (4 : Nat) (Option.some Jvm.ClassFile.FieldType.int)) ∈ lw_all := lw_g (lw_at lw_m5 38 rfl) rfl
theorem q1114 : (Jvm.Cond.methodLink "BeeYard$Yard" (94 : Nat) ({ cls := "BeeYard$Hive", name := "harvests", desc := "(I)I" } : Jvm.MethodName)) ∈ lw_all := lw_g (lw_at lw_m5 39 rfl) rfl
theorem q1154 : (Jvm.Cond.instanceMethod ({ cls := "BeeYard$Yard", name := "canSeat", desc := "(II)Z" } : Jvm.MethodName)) ∈ lw_all := lw_g (lw_at lw_m5 79 rfl) rfl
theorem q1155 : (Jvm.Cond.selects "BeeYard$Yard" ({ cls := "BeeYard$Yard", name := "canSeat", desc := "(II)Z" } : Jvm.MethodName) ({ cls := "BeeYard$Yard", name := "canSeat", desc := "(II)Z" } : Jvm.MethodName)) ∈ lw_all := lw_g (lw_at lw_m5 80 rfl) rfl
theorem q1156 : (Jvm.Cond.code ({ cls := "BeeYard$Yard", name := "canSeat", desc := "(II)Z" } : Jvm.MethodName) prog_15_method_10_code (3 : Nat) (Option.some Jvm.ClassFile.FieldType.boolean)) ∈ lw_all := lw_g (lw_at lw_m5 81 rfl) rfl
theorem q1157 : (Jvm.Cond.methodLink "BeeYard$Yard" (97 : Nat) ({ cls := "BeeYard$Yard", name := "homeOf", desc := "(I)I" } : Jvm.MethodName)) ∈ lw_all := lw_g (lw_at lw_m5 82 rfl) rfl
theorem in_X5 : ∀ w ∈ wsX50, w ∈ lw_all := lw_in wsX50 [340, 342, 344, 346, 348, 350, 352, 354, 356, 358, 360, 362] (by decide +kernel) (by decide +kernel)

/-! BeeYard$Lines -/
def RX6 : String := "BeeYard$Lines"
def TX6 : u_T := fun k => match k with
  | 0 => ("BeeYard$Lines", "names", "[J", true)
  | 1 => ("BeeYard$Lines", "mother", "[I", true)
  | 2 => ("BeeYard$Lines", "father", "[I", true)
  | 3 => ("BeeYard$Lines", "told", "[I", true)
  | 4 => ("BeeYard$Lines", "lays", "[I", true)
  | 5 => ("BeeYard$Lines", "who", "[I", true)
  | 6 => ("BeeYard$Lines", "queens", "I", false)
  | _ => ("BeeYard$Lines", "drones", "I", false)
def tyX6 : Nat → FieldType := fun k => match k with
  | 0 => .array .long
  | 1 => .array .int
  | 2 => .array .int
  | 3 => .array .int
  | 4 => .array .int
  | 5 => .array .int
  | 6 => .int
  | _ => .int
abbrev wsX60 : List Cond := u_ws RX6 TX6 8
theorem nmX6 : ∀ a, a < 8 → ∀ b, b < 8 → a ≠ b → (TX6 a).2.1 ≠ (TX6 b).2.1 := by decide +kernel
theorem tyX6_ok : ∀ k, k < 8 → parseFieldDescriptor (TX6 k).2.2.1 = some (tyX6 k) := by decide +kernel
abbrev cX6_init : ByteArray := prog_7_method_1_code
def yX6_init : MethodName := ⟨RX6, "<init>", "()V"⟩
abbrev cX6_queenNamed : ByteArray := prog_7_method_3_code
def yX6_queenNamed : MethodName := ⟨RX6, "queenNamed", "(J)I"⟩
abbrev cX6_droneNamed : ByteArray := prog_7_method_4_code
def yX6_droneNamed : MethodName := ⟨RX6, "droneNamed", "(J)I"⟩
abbrev cX6_adds : ByteArray := prog_7_method_6_code
def yX6_adds : MethodName := ⟨RX6, "adds", "(IJII)V"⟩
abbrev cX6_many : ByteArray := prog_7_method_2_code
def yX6_many : MethodName := ⟨RX6, "many", "()I"⟩
abbrev cX6_isThere : ByteArray := prog_7_method_5_code
def yX6_isThere : MethodName := ⟨RX6, "isThere", "(I)Z"⟩
abbrev cX6_kin : ByteArray := prog_7_method_8_code
def yX6_kin : MethodName := ⟨RX6, "kin", "(II)I"⟩
abbrev cX6_kinOrNone : ByteArray := prog_7_method_7_code
def yX6_kinOrNone : MethodName := ⟨RX6, "kinOrNone", "(II)I"⟩
theorem q124 : (Jvm.Cond.initialized "BeeYard$Lines") ∈ lw_all := lw_g (lw_at lw_m1 9 rfl) rfl
theorem q267 : (Jvm.Cond.instantiable "BeeYard$Lines" (8 : Nat)) ∈ lw_all := lw_g (lw_at lw_m1 152 rfl) rfl
theorem q269 : (Jvm.Cond.instanceMethod ({ cls := "BeeYard$Lines", name := "<init>", desc := "()V" } : Jvm.MethodName)) ∈ lw_all := lw_g (lw_at lw_m1 154 rfl) rfl
theorem q270 : (Jvm.Cond.code ({ cls := "BeeYard$Lines", name := "<init>", desc := "()V" } : Jvm.MethodName) prog_7_method_1_code (1 : Nat) (Option.none : Option Jvm.ClassFile.FieldType)) ∈ lw_all := lw_g (lw_at lw_m1 155 rfl) rfl
theorem q271 : (Jvm.Cond.methodLink "BeeYard$Lines" (3 : Nat) ({ cls := "java/lang/Object", name := "<init>", desc := "()V" } : Jvm.MethodName)) ∈ lw_all := lw_g (lw_at lw_m1 156 rfl) rfl
theorem q272 : (Jvm.Cond.fieldLink "BeeYard$Lines" (9 : Nat) "BeeYard$Lines" "names" "[J") ∈ lw_all := lw_g (lw_at lw_m1 157 rfl) rfl
theorem q273 : (Jvm.Cond.fieldLink "BeeYard$Lines" (15 : Nat) "BeeYard$Lines" "mother" "[I") ∈ lw_all := lw_g (lw_at lw_m1 158 rfl) rfl
theorem q275 : (Jvm.Cond.fieldLink "BeeYard$Lines" (19 : Nat) "BeeYard$Lines" "father" "[I") ∈ lw_all := lw_g (lw_at lw_m1 160 rfl) rfl
theorem q277 : (Jvm.Cond.fieldLink "BeeYard$Lines" (22 : Nat) "BeeYard$Lines" "told" "[I") ∈ lw_all := lw_g (lw_at lw_m1 162 rfl) rfl
theorem q278 : (Jvm.Cond.fieldLink "BeeYard$Lines" (25 : Nat) "BeeYard$Lines" "lays" "[I") ∈ lw_all := lw_g (lw_at lw_m1 163 rfl) rfl
theorem q281 : (Jvm.Cond.fieldLink "BeeYard$Lines" (28 : Nat) "BeeYard$Lines" "who" "[I") ∈ lw_all := lw_g (lw_at lw_m1 166 rfl) rfl
theorem q282 : (Jvm.Cond.fieldLink "BeeYard$Lines" (31 : Nat) "BeeYard$Lines" "queens" "I") ∈ lw_all := lw_g (lw_at lw_m1 167 rfl) rfl
theorem q285 : (Jvm.Cond.fieldLink "BeeYard$Lines" (35 : Nat) "BeeYard$Lines" "drones" "I") ∈ lw_all := lw_g (lw_at lw_m1 170 rfl) rfl
theorem q288 : (Jvm.Cond.laysFinal "BeeYard$Lines" "BeeYard$Lines" "names" "[J") ∈ lw_all := lw_g (lw_at lw_m1 173 rfl) rfl
theorem q289 : (Jvm.Cond.soleField "BeeYard$Lines" "names") ∈ lw_all := lw_g (lw_at lw_m1 174 rfl) rfl
theorem q290 : (Jvm.Cond.laysFinal "BeeYard$Lines" "BeeYard$Lines" "mother" "[I") ∈ lw_all := lw_g (lw_at lw_m1 175 rfl) rfl
theorem q291 : (Jvm.Cond.soleField "BeeYard$Lines" "mother") ∈ lw_all := lw_g (lw_at lw_m1 176 rfl) rfl
theorem q292 : (Jvm.Cond.laysFinal "BeeYard$Lines" "BeeYard$Lines" "father" "[I") ∈ lw_all := lw_g (lw_at lw_m1 177 rfl) rfl
theorem q293 : (Jvm.Cond.soleField "BeeYard$Lines" "father") ∈ lw_all := lw_g (lw_at lw_m1 178 rfl) rfl
theorem q294 : (Jvm.Cond.laysFinal "BeeYard$Lines" "BeeYard$Lines" "told" "[I") ∈ lw_all := lw_g (lw_at lw_m1 179 rfl) rfl
theorem q295 : (Jvm.Cond.soleField "BeeYard$Lines" "told") ∈ lw_all := lw_g (lw_at lw_m1 180 rfl) rfl
theorem q296 : (Jvm.Cond.laysFinal "BeeYard$Lines" "BeeYard$Lines" "lays" "[I") ∈ lw_all := lw_g (lw_at lw_m1 181 rfl) rfl
theorem q297 : (Jvm.Cond.soleField "BeeYard$Lines" "lays") ∈ lw_all := lw_g (lw_at lw_m1 182 rfl) rfl
theorem q298 : (Jvm.Cond.laysFinal "BeeYard$Lines" "BeeYard$Lines" "who" "[I") ∈ lw_all := lw_g (lw_at lw_m1 183 rfl) rfl
theorem q299 : (Jvm.Cond.soleField "BeeYard$Lines" "who") ∈ lw_all := lw_g (lw_at lw_m1 184 rfl) rfl
theorem q300 : (Jvm.Cond.lays "BeeYard$Lines" "BeeYard$Lines" "queens" "I") ∈ lw_all := lw_g (lw_at lw_m1 185 rfl) rfl
theorem q301 : (Jvm.Cond.soleField "BeeYard$Lines" "queens") ∈ lw_all := lw_g (lw_at lw_m1 186 rfl) rfl
theorem q302 : (Jvm.Cond.lays "BeeYard$Lines" "BeeYard$Lines" "drones" "I") ∈ lw_all := lw_g (lw_at lw_m1 187 rfl) rfl
theorem q303 : (Jvm.Cond.soleField "BeeYard$Lines" "drones") ∈ lw_all := lw_g (lw_at lw_m1 188 rfl) rfl
theorem q304 : (Jvm.Cond.superclass "BeeYard$Lines" "java/lang/Object") ∈ lw_all := lw_g (lw_at lw_m1 189 rfl) rfl
theorem q721 : (Jvm.Cond.instanceMethod ({ cls := "BeeYard$Lines", name := "queenNamed", desc := "(J)I" } : Jvm.MethodName)) ∈ lw_all := lw_g (lw_at lw_m3 126 rfl) rfl
theorem q722 : (Jvm.Cond.selects "BeeYard$Lines" ({ cls := "BeeYard$Lines", name := "queenNamed", desc := "(J)I" } : Jvm.MethodName) ({ cls := "BeeYard$Lines", name := "queenNamed", desc := "(J)I" } : Jvm.MethodName)) ∈ lw_all := lw_g (lw_at lw_m3 127 rfl) rfl
theorem q723 : (Jvm.Cond.code ({ cls := "BeeYard$Lines", name := "queenNamed", desc := "(J)I" } : Jvm.MethodName) prog_7_method_3_code (4 : Nat) (Option.some Jvm.ClassFile.FieldType.int)) ∈ lw_all := lw_g (lw_at lw_m3 128 rfl) rfl
theorem q725 : (Jvm.Cond.instanceMethod ({ cls := "BeeYard$Lines", name := "droneNamed", desc := "(J)I" } : Jvm.MethodName)) ∈ lw_all := lw_g (lw_at lw_m3 130 rfl) rfl
theorem q726 : (Jvm.Cond.selects "BeeYard$Lines" ({ cls := "BeeYard$Lines", name := "droneNamed", desc := "(J)I" } : Jvm.MethodName) ({ cls := "BeeYard$Lines", name := "droneNamed", desc := "(J)I" } : Jvm.MethodName)) ∈ lw_all := lw_g (lw_at lw_m3 131 rfl) rfl
theorem q727 : (Jvm.Cond.code ({ cls := "BeeYard$Lines", name := "droneNamed", desc := "(J)I" } : Jvm.MethodName) prog_7_method_4_code (4 : Nat) (Option.some Jvm.ClassFile.FieldType.int)) ∈ lw_all := lw_g (lw_at lw_m3 132 rfl) rfl
theorem q835 : (Jvm.Cond.instanceMethod ({ cls := "BeeYard$Lines", name := "adds", desc := "(IJII)V" } : Jvm.MethodName)) ∈ lw_all := lw_g (lw_at lw_m4 0 rfl) rfl
theorem q836 : (Jvm.Cond.selects "BeeYard$Lines" ({ cls := "BeeYard$Lines", name := "adds", desc := "(IJII)V" } : Jvm.MethodName) ({ cls := "BeeYard$Lines", name := "adds", desc := "(IJII)V" } : Jvm.MethodName)) ∈ lw_all := lw_g (lw_at lw_m4 1 rfl) rfl
theorem q837 : (Jvm.Cond.code ({ cls := "BeeYard$Lines", name := "adds", desc := "(IJII)V" } : Jvm.MethodName) prog_7_method_6_code (6 : Nat) (Option.none : Option Jvm.ClassFile.FieldType)) ∈ lw_all := lw_g (lw_at lw_m4 2 rfl) rfl
theorem q838 : (Jvm.Cond.methodLink "BeeYard$Lines" (38 : Nat) ({ cls := "BeeYard$Lines", name := "many", desc := "()I" } : Jvm.MethodName)) ∈ lw_all := lw_g (lw_at lw_m4 3 rfl) rfl
theorem q839 : (Jvm.Cond.instanceMethod ({ cls := "BeeYard$Lines", name := "many", desc := "()I" } : Jvm.MethodName)) ∈ lw_all := lw_g (lw_at lw_m4 4 rfl) rfl
theorem q840 : (Jvm.Cond.selects "BeeYard$Lines" ({ cls := "BeeYard$Lines", name := "many", desc := "()I" } : Jvm.MethodName) ({ cls := "BeeYard$Lines", name := "many", desc := "()I" } : Jvm.MethodName)) ∈ lw_all := lw_g (lw_at lw_m4 5 rfl) rfl
theorem q841 : (Jvm.Cond.code ({ cls := "BeeYard$Lines", name := "many", desc := "()I" } : Jvm.MethodName) prog_7_method_2_code (1 : Nat) (Option.some Jvm.ClassFile.FieldType.int)) ∈ lw_all := lw_g (lw_at lw_m4 6 rfl) rfl
theorem q1036 : (Jvm.Cond.instanceMethod ({ cls := "BeeYard$Lines", name := "isThere", desc := "(I)Z" } : Jvm.MethodName)) ∈ lw_all := lw_g (lw_at lw_m4 201 rfl) rfl
theorem q1037 : (Jvm.Cond.selects "BeeYard$Lines" ({ cls := "BeeYard$Lines", name := "isThere", desc := "(I)Z" } : Jvm.MethodName) ({ cls := "BeeYard$Lines", name := "isThere", desc := "(I)Z" } : Jvm.MethodName)) ∈ lw_all := lw_g (lw_at lw_m4 202 rfl) rfl
theorem q1038 : (Jvm.Cond.code ({ cls := "BeeYard$Lines", name := "isThere", desc := "(I)Z" } : Jvm.MethodName) prog_7_method_5_code (2 : Nat) (Option.some Jvm.ClassFile.FieldType.boolean)) ∈ lw_all := lw_g (lw_at lw_m4 203 rfl) rfl
theorem q1184 : (Jvm.Cond.instanceMethod ({ cls := "BeeYard$Lines", name := "kin", desc := "(II)I" } : Jvm.MethodName)) ∈ lw_all := lw_g (lw_at lw_m5 109 rfl) rfl
theorem q1185 : (Jvm.Cond.selects "BeeYard$Lines" ({ cls := "BeeYard$Lines", name := "kin", desc := "(II)I" } : Jvm.MethodName) ({ cls := "BeeYard$Lines", name := "kin", desc := "(II)I" } : Jvm.MethodName)) ∈ lw_all := lw_g (lw_at lw_m5 110 rfl) rfl
theorem q1186 : (Jvm.Cond.code ({ cls := "BeeYard$Lines", name := "kin", desc := "(II)I" } : Jvm.MethodName) prog_7_method_8_code (6 : Nat) (Option.some Jvm.ClassFile.FieldType.int)) ∈ lw_all := lw_g (lw_at lw_m5 111 rfl) rfl
theorem q1187 : (Jvm.Cond.constant "BeeYard$Lines" (46 : Nat) (65536 : Int32)) ∈ lw_all := lw_g (lw_at lw_m5 112 rfl) rfl
theorem q1188 : (Jvm.Cond.constant "BeeYard$Lines" (47 : Nat) (32768 : Int32)) ∈ lw_all := lw_g (lw_at lw_m5 113 rfl) rfl
theorem q1189 : (Jvm.Cond.methodLink "BeeYard$Lines" (48 : Nat) ({ cls := "BeeYard$Lines", name := "kinOrNone", desc := "(II)I" } : Jvm.MethodName)) ∈ lw_all := lw_g (lw_at lw_m5 114 rfl) rfl
theorem q1190 : (Jvm.Cond.privateMethod ({ cls := "BeeYard$Lines", name := "kinOrNone", desc := "(II)I" } : Jvm.MethodName)) ∈ lw_tbl := lw_at lw_m5 115 rfl
theorem q1191 : (Jvm.Cond.instanceMethod ({ cls := "BeeYard$Lines", name := "kinOrNone", desc := "(II)I" } : Jvm.MethodName)) ∈ lw_all := lw_g (lw_at lw_m5 116 rfl) rfl
theorem q1192 : (Jvm.Cond.code ({ cls := "BeeYard$Lines", name := "kinOrNone", desc := "(II)I" } : Jvm.MethodName) prog_7_method_7_code (3 : Nat) (Option.some Jvm.ClassFile.FieldType.int)) ∈ lw_all := lw_g (lw_at lw_m5 117 rfl) rfl
theorem q1193 : (Jvm.Cond.methodLink "BeeYard$Lines" (42 : Nat) ({ cls := "BeeYard$Lines", name := "kin", desc := "(II)I" } : Jvm.MethodName)) ∈ lw_all := lw_g (lw_at lw_m5 118 rfl) rfl
theorem in_X6 : ∀ w ∈ wsX60, w ∈ lw_all := lw_in wsX60 [288, 290, 292, 294, 296, 298, 300, 302] (by decide +kernel) (by decide +kernel)

/-! BeeYardModel -/
def RX7 : String := "BeeYardModel"
def TX7 : u_T := fun k => match k with
  | 0 => ("BeeYardModel", "at", "[I", true)
  | 1 => ("BeeYardModel", "names", "[J", true)
  | 2 => ("BeeYardModel", "status", "I", false)
  | 3 => ("BeeYardModel", "top", "J", false)
  | 4 => ("BeeYardModel", "bottom", "J", false)
  | 5 => ("BeeYardModel", "sort", "[I", true)
  | 6 => ("BeeYardModel", "trayMany", "[I", true)
  | 7 => ("BeeYardModel", "trays", "[J", true)
  | 8 => ("BeeYardModel", "tape", "[B", true)
  | 9 => ("BeeYardModel", "text", "[B", true)
  | 10 => ("BeeYardModel", "taped", "I", false)
  | 11 => ("BeeYardModel", "size", "I", false)
  | 12 => ("BeeYardModel", "token", "I", false)
  | 13 => ("BeeYardModel", "from", "I", false)
  | 14 => ("BeeYardModel", "end", "I", false)
  | 15 => ("BeeYardModel", "value", "I", false)
  | 16 => ("BeeYardModel", "faultKind", "I", false)
  | 17 => ("BeeYardModel", "faultPlace", "I", false)
  | 18 => ("BeeYardModel", "faults", "I", false)
  | 19 => ("BeeYardModel", "seen", "I", false)
  | 20 => ("BeeYardModel", "opened", "[I", true)
  | 21 => ("BeeYardModel", "depth", "I", false)
  | 22 => ("BeeYardModel", "counted", "I", false)
  | 23 => ("BeeYardModel", "frames", "[I", true)
  | 24 => ("BeeYardModel", "framesMany", "I", false)
  | 25 => ("BeeYardModel", "eaten", "I", false)
  | 26 => ("BeeYardModel", "cameOut", "I", false)
  | 27 => ("BeeYardModel", "starved", "I", false)
  | 28 => ("BeeYardModel", "kins", "[J", true)
  | 29 => ("BeeYardModel", "drawn", "I", false)
  | 30 => ("BeeYardModel", "ranSteps", "I", false)
  | 31 => ("BeeYardModel", "rounds", "[I", true)
  | 32 => ("BeeYardModel", "ran", "[I", true)
  | 33 => ("BeeYardModel", "told0", "[I", true)
  | 34 => ("BeeYardModel", "isTold", "Z", false)
  | _ => ("BeeYardModel", "marks", "I", false)
def tyX7 : Nat → FieldType := fun k => match k with
  | 0 => .array .int
  | 1 => .array .long
  | 2 => .int
  | 3 => .long
  | 4 => .long
  | 5 => .array .int
  | 6 => .array .int
  | 7 => .array .long
  | 8 => .array .byte
  | 9 => .array .byte
  | 10 => .int
  | 11 => .int
  | 12 => .int
  | 13 => .int
  | 14 => .int
  | 15 => .int
  | 16 => .int
  | 17 => .int
  | 18 => .int
  | 19 => .int
  | 20 => .array .int
  | 21 => .int
  | 22 => .int
  | 23 => .array .int
  | 24 => .int
  | 25 => .int
  | 26 => .int
  | 27 => .int
  | 28 => .array .long
  | 29 => .int
  | 30 => .int
  | 31 => .array .int
  | 32 => .array .int
  | 33 => .array .int
  | 34 => .boolean
  | _ => .int
abbrev wsX70 : List Cond := u_ws RX7 TX7 36
theorem nmX7 : ∀ a, a < 36 → ∀ b, b < 36 → a ≠ b → (TX7 a).2.1 ≠ (TX7 b).2.1 := by decide +kernel
theorem tyX7_ok : ∀ k, k < 36 → parseFieldDescriptor (TX7 k).2.2.1 = some (tyX7 k) := by decide +kernel
abbrev cX7_init : ByteArray := prog_17_method_1_code
def yX7_init : MethodName := ⟨RX7, "<init>", "()V"⟩
abbrev cX7_plain : ByteArray := prog_17_method_2_code
def yX7_plain : MethodName := ⟨RX7, "plain", "(I)V"⟩
abbrev cX7_status : ByteArray := prog_17_method_3_code
def yX7_status : MethodName := ⟨RX7, "status", "()I"⟩
abbrev cX7_top : ByteArray := prog_17_method_4_code
def yX7_top : MethodName := ⟨RX7, "top", "()J"⟩
abbrev cX7_bottom : ByteArray := prog_17_method_5_code
def yX7_bottom : MethodName := ⟨RX7, "bottom", "()J"⟩
abbrev cX7_tray : ByteArray := prog_17_method_13_code
def yX7_tray : MethodName := ⟨RX7, "tray", "(III)Z"⟩
abbrev cX7_isTray : ByteArray := prog_17_method_11_code
def yX7_isTray : MethodName := ⟨RX7, "isTray", "(I)Z"⟩
abbrev cX7_is : ByteArray := prog_17_method_6_code
def yX7_is : MethodName := ⟨RX7, "is", "(I)Z"⟩
abbrev cX7_write : ByteArray := prog_17_method_15_code
def yX7_write : MethodName := ⟨RX7, "write", "(IIJ)Z"⟩
abbrev cX7_wrongPlace : ByteArray := prog_17_method_14_code
def yX7_wrongPlace : MethodName := ⟨RX7, "wrongPlace", "(II)I"⟩
abbrev cX7_cut : ByteArray := prog_17_method_12_code
def yX7_cut : MethodName := ⟨RX7, "cut", "(JI)J"⟩
abbrev cX7_read : ByteArray := prog_17_method_16_code
def yX7_read : MethodName := ⟨RX7, "read", "(II)J"⟩
abbrev cX7_pour : ByteArray := prog_17_method_17_code
def yX7_pour : MethodName := ⟨RX7, "pour", "(IIIII)Z"⟩
abbrev cX7_feed : ByteArray := prog_17_method_19_code
def yX7_feed : MethodName := ⟨RX7, "feed", "(IIIII)I"⟩
abbrev cX7_four : ByteArray := prog_17_method_20_code
def yX7_four : MethodName := ⟨RX7, "four", "(I)V"⟩
abbrev cX7_fault : ByteArray := prog_17_method_35_code
def yX7_fault : MethodName := ⟨RX7, "fault", "(I)I"⟩
abbrev cX7_yard : ByteArray := prog_17_method_44_code
def yX7_yard : MethodName := ⟨RX7, "yard", "(I)I"⟩
abbrev cX7_begins : ByteArray := prog_17_method_28_code
def yX7_begins : MethodName := ⟨RX7, "begins", "(II)Z"⟩
abbrev cX7_ahead : ByteArray := prog_17_method_24_code
def yX7_ahead : MethodName := ⟨RX7, "ahead", "()V"⟩
abbrev cX7_byteAt : ByteArray := prog_17_method_21_code
def yX7_byteAt : MethodName := ⟨RX7, "byteAt", "(I)I"⟩
abbrev cX7_isSmall : ByteArray := prog_17_method_22_code
def yX7_isSmall : MethodName := ⟨RX7, "isSmall", "(I)Z"⟩
abbrev cX7_isDigit : ByteArray := prog_17_method_23_code
def yX7_isDigit : MethodName := ⟨RX7, "isDigit", "(I)Z"⟩
abbrev cX7_refuse : ByteArray := prog_17_method_7_code
def yX7_refuse : MethodName := ⟨RX7, "refuse", "(I)I"⟩
abbrev cX7_yardPart : ByteArray := prog_17_method_43_code
def yX7_yardPart : MethodName := ⟨RX7, "yardPart", "()Z"⟩
abbrev cX7_inWords : ByteArray := prog_17_method_26_code
def yX7_inWords : MethodName := ⟨RX7, "inWords", "(Ljava/lang/String;)I"⟩
abbrev cX7_aHive : ByteArray := prog_17_method_40_code
def yX7_aHive : MethodName := ⟨RX7, "aHive", "()Z"⟩
abbrev cX7_newOne : ByteArray := prog_17_method_37_code
def yX7_newOne : MethodName := ⟨RX7, "newOne", "(III)Z"⟩
abbrev cX7_fails : ByteArray := prog_17_method_27_code
def yX7_fails : MethodName := ⟨RX7, "fails", "(I)Z"⟩
abbrev cX7_isName : ByteArray := prog_17_method_32_code
def yX7_isName : MethodName := ⟨RX7, "isName", "(Ljava/lang/String;)Z"⟩
abbrev cX7_findHere : ByteArray := prog_17_method_34_code
def yX7_findHere : MethodName := ⟨RX7, "findHere", "(II)I"⟩
abbrev cX7_nameHere : ByteArray := prog_17_method_33_code
def yX7_nameHere : MethodName := ⟨RX7, "nameHere", "()J"⟩
abbrev cX7_wantWord : ByteArray := prog_17_method_30_code
def yX7_wantWord : MethodName := ⟨RX7, "wantWord", "(Ljava/lang/String;I)Z"⟩
abbrev cX7_number : ByteArray := prog_17_method_31_code
def yX7_number : MethodName := ⟨RX7, "number", "(III)Z"⟩
abbrev cX7_isThere : ByteArray := prog_17_method_39_code
def yX7_isThere : MethodName := ⟨RX7, "isThere", "(I)Z"⟩
abbrev cX7_stores : ByteArray := prog_17_method_55_code
def yX7_stores : MethodName := ⟨RX7, "stores", "(II)I"⟩
abbrev cX7_laysFrames : ByteArray := prog_17_method_53_code
def yX7_laysFrames : MethodName := ⟨RX7, "laysFrames", "(I)V"⟩
abbrev cX7_frameOf : ByteArray := prog_17_method_52_code
def yX7_frameOf : MethodName := ⟨RX7, "frameOf", "(II)I"⟩
abbrev cX7_fieldOf : ByteArray := prog_17_method_54_code
def yX7_fieldOf : MethodName := ⟨RX7, "fieldOf", "(II)I"⟩
abbrev cX7_aDrone : ByteArray := prog_17_method_41_code
def yX7_aDrone : MethodName := ⟨RX7, "aDrone", "()Z"⟩
abbrev cX7_oldOne : ByteArray := prog_17_method_38_code
def yX7_oldOne : MethodName := ⟨RX7, "oldOne", "(III)Z"⟩
abbrev cX7_aQueen : ByteArray := prog_17_method_42_code
def yX7_aQueen : MethodName := ⟨RX7, "aQueen", "()Z"⟩
abbrev cX7_wantSign : ByteArray := prog_17_method_29_code
def yX7_wantSign : MethodName := ⟨RX7, "wantSign", "(I)Z"⟩
abbrev cX7_isSign : ByteArray := prog_17_method_25_code
def yX7_isSign : MethodName := ⟨RX7, "isSign", "(I)Z"⟩
abbrev cX7_taken : ByteArray := prog_17_method_36_code
def yX7_taken : MethodName := ⟨RX7, "taken", "(I)I"⟩
abbrev cX7_gives : ByteArray := prog_17_method_8_code
def yX7_gives : MethodName := ⟨RX7, "gives", "(I)I"⟩
abbrev cX7_season : ByteArray := prog_17_method_50_code
def yX7_season : MethodName := ⟨RX7, "season", "(I)I"⟩
abbrev cX7_step : ByteArray := prog_17_method_49_code
def yX7_step : MethodName := ⟨RX7, "step", "()Z"⟩
abbrev cX7_seasonOrder : ByteArray := prog_17_method_48_code
def yX7_seasonOrder : MethodName := ⟨RX7, "seasonOrder", "(II)Z"⟩
abbrev cX7_hiveTo : ByteArray := prog_17_method_45_code
def yX7_hiveTo : MethodName := ⟨RX7, "hiveTo", "(I)Z"⟩
abbrev cX7_frameTo : ByteArray := prog_17_method_46_code
def yX7_frameTo : MethodName := ⟨RX7, "frameTo", "(II)Z"⟩
abbrev cX7_hiveRow : ByteArray := prog_17_method_51_code
def yX7_hiveRow : MethodName := ⟨RX7, "hiveRow", "(I)I"⟩
abbrev cX7_test : ByteArray := prog_17_method_47_code
def yX7_test : MethodName := ⟨RX7, "test", "(I)Z"⟩
abbrev cX7_told : ByteArray := prog_17_method_63_code
def yX7_told : MethodName := ⟨RX7, "told", "(I)I"⟩
abbrev cX7_hive : ByteArray := prog_17_method_65_code
def yX7_hive : MethodName := ⟨RX7, "hive", "(II)I"⟩
abbrev cX7_isHive : ByteArray := prog_17_method_59_code
def yX7_isHive : MethodName := ⟨RX7, "isHive", "(I)Z"⟩
abbrev cX7_orNone : ByteArray := prog_17_method_9_code
def yX7_orNone : MethodName := ⟨RX7, "orNone", "(I)I"⟩
abbrev cX7_sumOf : ByteArray := prog_17_method_64_code
def yX7_sumOf : MethodName := ⟨RX7, "sumOf", "(II)I"⟩
abbrev cX7_line : ByteArray := prog_17_method_69_code
def yX7_line : MethodName := ⟨RX7, "line", "(II)I"⟩
abbrev cX7_isOne : ByteArray := prog_17_method_62_code
def yX7_isOne : MethodName := ⟨RX7, "isOne", "(I)Z"⟩
abbrev cX7_isQueen : ByteArray := prog_17_method_61_code
def yX7_isQueen : MethodName := ⟨RX7, "isQueen", "(I)Z"⟩
abbrev cX7_motherOf : ByteArray := prog_17_method_66_code
def yX7_motherOf : MethodName := ⟨RX7, "motherOf", "(I)I"⟩
abbrev cX7_fatherOf : ByteArray := prog_17_method_67_code
def yX7_fatherOf : MethodName := ⟨RX7, "fatherOf", "(I)I"⟩
abbrev cX7_hiveOf : ByteArray := prog_17_method_68_code
def yX7_hiveOf : MethodName := ⟨RX7, "hiveOf", "(I)I"⟩
abbrev cX7_fieldAt : ByteArray := prog_17_method_70_code
def yX7_fieldAt : MethodName := ⟨RX7, "fieldAt", "(III)I"⟩
abbrev cX7_isFrame : ByteArray := prog_17_method_60_code
def yX7_isFrame : MethodName := ⟨RX7, "isFrame", "(II)Z"⟩
abbrev cX7_order : ByteArray := prog_17_method_71_code
def yX7_order : MethodName := ⟨RX7, "order", "(II)I"⟩
abbrev cX7_copyOut : ByteArray := prog_17_method_73_code
def yX7_copyOut : MethodName := ⟨RX7, "copyOut", "(III)I"⟩
abbrev cX7_frameRow : ByteArray := prog_17_method_72_code
def yX7_frameRow : MethodName := ⟨RX7, "frameRow", "(II)I"⟩
abbrev cX7_copyIn : ByteArray := prog_17_method_74_code
def yX7_copyIn : MethodName := ⟨RX7, "copyIn", "(III)I"⟩
abbrev cX7_isFrom : ByteArray := prog_17_method_18_code
def yX7_isFrom : MethodName := ⟨RX7, "isFrom", "(JJJ)Z"⟩
abbrev cX7_days : ByteArray := prog_17_method_75_code
def yX7_days : MethodName := ⟨RX7, "days", "(I)I"⟩
abbrev cX7_passes : ByteArray := prog_17_method_58_code
def yX7_passes : MethodName := ⟨RX7, "passes", "()V"⟩
abbrev cX7_laysIn : ByteArray := prog_17_method_57_code
def yX7_laysIn : MethodName := ⟨RX7, "laysIn", "(I)I"⟩
abbrev cX7_dayOf : ByteArray := prog_17_method_56_code
def yX7_dayOf : MethodName := ⟨RX7, "dayOf", "(II)V"⟩
abbrev cX7_bring : ByteArray := prog_17_method_77_code
def yX7_bring : MethodName := ⟨RX7, "bring", "(II)I"⟩
abbrev cX7_brings : ByteArray := prog_17_method_76_code
def yX7_brings : MethodName := ⟨RX7, "brings", "(II)I"⟩
abbrev cX7_harvest : ByteArray := prog_17_method_79_code
def yX7_harvest : MethodName := ⟨RX7, "harvest", "(II)I"⟩
abbrev cX7_harvests : ByteArray := prog_17_method_78_code
def yX7_harvests : MethodName := ⟨RX7, "harvests", "(II)I"⟩
abbrev cX7_move : ByteArray := prog_17_method_82_code
def yX7_move : MethodName := ⟨RX7, "move", "(IIII)Z"⟩
abbrev cX7_mayMove : ByteArray := prog_17_method_81_code
def yX7_mayMove : MethodName := ⟨RX7, "mayMove", "(IIII)Z"⟩
abbrev cX7_moves : ByteArray := prog_17_method_80_code
def yX7_moves : MethodName := ⟨RX7, "moves", "(II)V"⟩
abbrev cX7_split : ByteArray := prog_17_method_83_code
def yX7_split : MethodName := ⟨RX7, "split", "(II)I"⟩
abbrev cX7_join : ByteArray := prog_17_method_84_code
def yX7_join : MethodName := ⟨RX7, "join", "(II)I"⟩
abbrev cX7_seat : ByteArray := prog_17_method_86_code
def yX7_seat : MethodName := ⟨RX7, "seat", "(II)Z"⟩
abbrev cX7_maySeat : ByteArray := prog_17_method_85_code
def yX7_maySeat : MethodName := ⟨RX7, "maySeat", "(II)Z"⟩
abbrev cX7_crowded : ByteArray := prog_17_method_88_code
def yX7_crowded : MethodName := ⟨RX7, "crowded", "(I)I"⟩
abbrev cX7_isCrowded : ByteArray := prog_17_method_87_code
def yX7_isCrowded : MethodName := ⟨RX7, "isCrowded", "(I)Z"⟩
abbrev cX7_swarm : ByteArray := prog_17_method_89_code
def yX7_swarm : MethodName := ⟨RX7, "swarm", "(I)I"⟩
abbrev cX7_swarmOut : ByteArray := prog_17_method_90_code
def yX7_swarmOut : MethodName := ⟨RX7, "swarmOut", "(I)I"⟩
abbrev cX7_take : ByteArray := prog_17_method_91_code
def yX7_take : MethodName := ⟨RX7, "take", "(I)I"⟩
abbrev cX7_kin : ByteArray := prog_17_method_96_code
def yX7_kin : MethodName := ⟨RX7, "kin", "(II)Z"⟩
abbrev cX7_laysKin : ByteArray := prog_17_method_95_code
def yX7_laysKin : MethodName := ⟨RX7, "laysKin", "()V"⟩
abbrev cX7_atTold : ByteArray := prog_17_method_93_code
def yX7_atTold : MethodName := ⟨RX7, "atTold", "(I)I"⟩
abbrev cX7_toldAs : ByteArray := prog_17_method_92_code
def yX7_toldAs : MethodName := ⟨RX7, "toldAs", "(I)I"⟩
abbrev cX7_kinOf : ByteArray := prog_17_method_94_code
def yX7_kinOf : MethodName := ⟨RX7, "kinOf", "(II)J"⟩
abbrev cX7_tellsBy : ByteArray := prog_17_method_10_code
def yX7_tellsBy : MethodName := ⟨RX7, "tellsBy", "(JJ)Z"⟩
abbrev cX7_inbred : ByteArray := prog_17_method_97_code
def yX7_inbred : MethodName := ⟨RX7, "inbred", "(I)Z"⟩
abbrev cX7_suitor : ByteArray := prog_17_method_98_code
def yX7_suitor : MethodName := ⟨RX7, "suitor", "(I)I"⟩
abbrev cX7_mothers : ByteArray := prog_17_method_99_code
def yX7_mothers : MethodName := ⟨RX7, "mothers", "(I)I"⟩
abbrev cX7_nearest : ByteArray := prog_17_method_100_code
def yX7_nearest : MethodName := ⟨RX7, "nearest", "(II)I"⟩
abbrev cX7_sisters : ByteArray := prog_17_method_101_code
def yX7_sisters : MethodName := ⟨RX7, "sisters", "(I)I"⟩
abbrev cX7_room : ByteArray := prog_17_method_102_code
def yX7_room : MethodName := ⟨RX7, "room", "(I)I"⟩
abbrev cX7_richest : ByteArray := prog_17_method_104_code
def yX7_richest : MethodName := ⟨RX7, "richest", "(I)I"⟩
abbrev cX7_honeyIn : ByteArray := prog_17_method_103_code
def yX7_honeyIn : MethodName := ⟨RX7, "honeyIn", "(I)I"⟩
abbrev cX7_age : ByteArray := prog_17_method_105_code
def yX7_age : MethodName := ⟨RX7, "age", "(II)I"⟩
abbrev cX7_coming : ByteArray := prog_17_method_106_code
def yX7_coming : MethodName := ⟨RX7, "coming", "(II)I"⟩
abbrev cX7_hungry : ByteArray := prog_17_method_107_code
def yX7_hungry : MethodName := ⟨RX7, "hungry", "(I)I"⟩
abbrev cX7_tries : ByteArray := prog_17_method_117_code
def yX7_tries : MethodName := ⟨RX7, "tries", "(I)V"⟩
abbrev cX7_lasts : ByteArray := prog_17_method_108_code
def yX7_lasts : MethodName := ⟨RX7, "lasts", "(I)I"⟩
abbrev cX7_between : ByteArray := prog_17_method_109_code
def yX7_between : MethodName := ⟨RX7, "between", "(III)I"⟩
abbrev cX7_strongest : ByteArray := prog_17_method_110_code
def yX7_strongest : MethodName := ⟨RX7, "strongest", "()I"⟩
abbrev cX7_frame : ByteArray := prog_17_method_111_code
def yX7_frame : MethodName := ⟨RX7, "frame", "(III)I"⟩
abbrev cX7_even : ByteArray := prog_17_method_112_code
def yX7_even : MethodName := ⟨RX7, "even", "()I"⟩
abbrev cX7_sample : ByteArray := prog_17_method_113_code
def yX7_sample : MethodName := ⟨RX7, "sample", "(III)I"⟩
abbrev cX7_share : ByteArray := prog_17_method_114_code
def yX7_share : MethodName := ⟨RX7, "share", "(I)Z"⟩
abbrev cX7_worst : ByteArray := prog_17_method_115_code
def yX7_worst : MethodName := ⟨RX7, "worst", "()I"⟩
abbrev cX7_treat : ByteArray := prog_17_method_116_code
def yX7_treat : MethodName := ⟨RX7, "treat", "(I)Z"⟩
abbrev cX7_forecast : ByteArray := prog_17_method_118_code
def yX7_forecast : MethodName := ⟨RX7, "forecast", "(III)I"⟩
abbrev cX7_soonest : ByteArray := prog_17_method_119_code
def yX7_soonest : MethodName := ⟨RX7, "soonest", "(II)I"⟩
abbrev cX7_need : ByteArray := prog_17_method_120_code
def yX7_need : MethodName := ⟨RX7, "need", "(II)I"⟩
abbrev cX7_live : ByteArray := prog_17_method_126_code
def yX7_live : MethodName := ⟨RX7, "live", "(I)I"⟩
abbrev cX7_lives : ByteArray := prog_17_method_125_code
def yX7_lives : MethodName := ⟨RX7, "lives", "(I)V"⟩
abbrev cX7_does : ByteArray := prog_17_method_122_code
def yX7_does : MethodName := ⟨RX7, "does", "(I)Z"⟩
abbrev cX7_draw : ByteArray := prog_17_method_121_code
def yX7_draw : MethodName := ⟨RX7, "draw", "(I)I"⟩
abbrev cX7_holds : ByteArray := prog_17_method_123_code
def yX7_holds : MethodName := ⟨RX7, "holds", "(I)Z"⟩
abbrev cX7_behindEnds : ByteArray := prog_17_method_124_code
def yX7_behindEnds : MethodName := ⟨RX7, "behindEnds", "(I)I"⟩
abbrev cX7_lived : ByteArray := prog_17_method_127_code
def yX7_lived : MethodName := ⟨RX7, "lived", "(I)I"⟩
abbrev cX7_odds : ByteArray := prog_17_method_128_code
def yX7_odds : MethodName := ⟨RX7, "odds", "(IIII)Z"⟩
abbrev cX7_mark : ByteArray := prog_17_method_130_code
def yX7_mark : MethodName := ⟨RX7, "mark", "()I"⟩
abbrev cX7_copies : ByteArray := prog_17_method_129_code
def yX7_copies : MethodName := ⟨RX7, "copies", "(II)V"⟩
abbrev cX7_back : ByteArray := prog_17_method_131_code
def yX7_back : MethodName := ⟨RX7, "back", "()I"⟩
theorem q125 : (Jvm.Cond.initialized "BeeYardModel") ∈ lw_all := lw_g (lw_at lw_m1 10 rfl) rfl
theorem q1428 : (Jvm.Cond.instantiable "BeeYardModel" (36 : Nat)) ∈ lw_all := lw_g (lw_at lw_m6 113 rfl) rfl
theorem q1430 : (Jvm.Cond.instanceMethod ({ cls := "BeeYardModel", name := "<init>", desc := "()V" } : Jvm.MethodName)) ∈ lw_all := lw_g (lw_at lw_m6 115 rfl) rfl
theorem q1431 : (Jvm.Cond.code ({ cls := "BeeYardModel", name := "<init>", desc := "()V" } : Jvm.MethodName) prog_17_method_1_code (1 : Nat) (Option.none : Option Jvm.ClassFile.FieldType)) ∈ lw_all := lw_g (lw_at lw_m6 116 rfl) rfl
theorem q1432 : (Jvm.Cond.methodLink "BeeYardModel" (1 : Nat) ({ cls := "java/lang/Object", name := "<init>", desc := "()V" } : Jvm.MethodName)) ∈ lw_all := lw_g (lw_at lw_m6 117 rfl) rfl
theorem q1433 : (Jvm.Cond.methodLink "BeeYardModel" (62 : Nat) ({ cls := "BeeYardModel", name := "plain", desc := "(I)V" } : Jvm.MethodName)) ∈ lw_all := lw_g (lw_at lw_m6 118 rfl) rfl
theorem q1434 : (Jvm.Cond.privateMethod ({ cls := "BeeYardModel", name := "plain", desc := "(I)V" } : Jvm.MethodName)) ∈ lw_tbl := lw_at lw_m6 119 rfl
theorem q1435 : (Jvm.Cond.instanceMethod ({ cls := "BeeYardModel", name := "plain", desc := "(I)V" } : Jvm.MethodName)) ∈ lw_all := lw_g (lw_at lw_m6 120 rfl) rfl
theorem q1436 : (Jvm.Cond.code ({ cls := "BeeYardModel", name := "plain", desc := "(I)V" } : Jvm.MethodName) prog_17_method_2_code (3 : Nat) (Option.none : Option Jvm.ClassFile.FieldType)) ∈ lw_all := lw_g (lw_at lw_m6 121 rfl) rfl
theorem q1437 : (Jvm.Cond.fieldLink "BeeYardModel" (7 : Nat) "BeeYardModel" "at" "[I") ∈ lw_all := lw_g (lw_at lw_m6 122 rfl) rfl
theorem q1438 : (Jvm.Cond.fieldLink "BeeYardModel" (13 : Nat) "BeeYardModel" "names" "[J") ∈ lw_all := lw_g (lw_at lw_m6 123 rfl) rfl
theorem q1439 : (Jvm.Cond.fieldLink "BeeYardModel" (66 : Nat) "BeeYardModel" "status" "I") ∈ lw_all := lw_g (lw_at lw_m6 124 rfl) rfl
theorem q1440 : (Jvm.Cond.fieldLink "BeeYardModel" (69 : Nat) "BeeYardModel" "top" "J") ∈ lw_all := lw_g (lw_at lw_m6 125 rfl) rfl
theorem q1441 : (Jvm.Cond.fieldLink "BeeYardModel" (17 : Nat) "BeeYardModel" "bottom" "J") ∈ lw_all := lw_g (lw_at lw_m6 126 rfl) rfl
theorem q1442 : (Jvm.Cond.fieldLink "BeeYardModel" (21 : Nat) "BeeYardModel" "sort" "[I") ∈ lw_all := lw_g (lw_at lw_m6 127 rfl) rfl
theorem q1443 : (Jvm.Cond.fieldLink "BeeYardModel" (24 : Nat) "BeeYardModel" "trayMany" "[I") ∈ lw_all := lw_g (lw_at lw_m6 128 rfl) rfl
theorem q1444 : (Jvm.Cond.fieldLink "BeeYardModel" (27 : Nat) "BeeYardModel" "trays" "[J") ∈ lw_all := lw_g (lw_at lw_m6 129 rfl) rfl
theorem q1445 : (Jvm.Cond.fieldLink "BeeYardModel" (30 : Nat) "BeeYardModel" "tape" "[B") ∈ lw_all := lw_g (lw_at lw_m6 130 rfl) rfl
theorem q1446 : (Jvm.Cond.fieldLink "BeeYardModel" (34 : Nat) "BeeYardModel" "text" "[B") ∈ lw_all := lw_g (lw_at lw_m6 131 rfl) rfl
theorem q1447 : (Jvm.Cond.fieldLink "BeeYardModel" (96 : Nat) "BeeYardModel" "taped" "I") ∈ lw_all := lw_g (lw_at lw_m6 132 rfl) rfl
theorem q1448 : (Jvm.Cond.fieldLink "BeeYardModel" (102 : Nat) "BeeYardModel" "size" "I") ∈ lw_all := lw_g (lw_at lw_m6 133 rfl) rfl
theorem q1449 : (Jvm.Cond.fieldLink "BeeYardModel" (117 : Nat) "BeeYardModel" "token" "I") ∈ lw_all := lw_g (lw_at lw_m6 134 rfl) rfl
theorem q1450 : (Jvm.Cond.fieldLink "BeeYardModel" (111 : Nat) "BeeYardModel" "from" "I") ∈ lw_all := lw_g (lw_at lw_m6 135 rfl) rfl
theorem q1451 : (Jvm.Cond.fieldLink "BeeYardModel" (105 : Nat) "BeeYardModel" "end" "I") ∈ lw_all := lw_g (lw_at lw_m6 136 rfl) rfl
theorem q1452 : (Jvm.Cond.fieldLink "BeeYardModel" (114 : Nat) "BeeYardModel" "value" "I") ∈ lw_all := lw_g (lw_at lw_m6 137 rfl) rfl
theorem q1453 : (Jvm.Cond.fieldLink "BeeYardModel" (37 : Nat) "BeeYardModel" "faultKind" "I") ∈ lw_all := lw_g (lw_at lw_m6 138 rfl) rfl
theorem q1454 : (Jvm.Cond.fieldLink "BeeYardModel" (41 : Nat) "BeeYardModel" "faultPlace" "I") ∈ lw_all := lw_g (lw_at lw_m6 139 rfl) rfl
theorem q1455 : (Jvm.Cond.fieldLink "BeeYardModel" (142 : Nat) "BeeYardModel" "faults" "I") ∈ lw_all := lw_g (lw_at lw_m6 140 rfl) rfl
theorem q1456 : (Jvm.Cond.fieldLink "BeeYardModel" (145 : Nat) "BeeYardModel" "seen" "I") ∈ lw_all := lw_g (lw_at lw_m6 141 rfl) rfl
theorem q1457 : (Jvm.Cond.fieldLink "BeeYardModel" (44 : Nat) "BeeYardModel" "opened" "[I") ∈ lw_all := lw_g (lw_at lw_m6 142 rfl) rfl
theorem q1458 : (Jvm.Cond.fieldLink "BeeYardModel" (229 : Nat) "BeeYardModel" "depth" "I") ∈ lw_all := lw_g (lw_at lw_m6 143 rfl) rfl
theorem q1459 : (Jvm.Cond.fieldLink "BeeYardModel" (232 : Nat) "BeeYardModel" "counted" "I") ∈ lw_all := lw_g (lw_at lw_m6 144 rfl) rfl
theorem q1460 : (Jvm.Cond.fieldLink "BeeYardModel" (47 : Nat) "BeeYardModel" "frames" "[I") ∈ lw_all := lw_g (lw_at lw_m6 145 rfl) rfl
theorem q1461 : (Jvm.Cond.fieldLink "BeeYardModel" (241 : Nat) "BeeYardModel" "framesMany" "I") ∈ lw_all := lw_g (lw_at lw_m6 146 rfl) rfl
theorem q1462 : (Jvm.Cond.fieldLink "BeeYardModel" (256 : Nat) "BeeYardModel" "eaten" "I") ∈ lw_all := lw_g (lw_at lw_m6 147 rfl) rfl
theorem q1463 : (Jvm.Cond.fieldLink "BeeYardModel" (253 : Nat) "BeeYardModel" "cameOut" "I") ∈ lw_all := lw_g (lw_at lw_m6 148 rfl) rfl
theorem q1464 : (Jvm.Cond.fieldLink "BeeYardModel" (264 : Nat) "BeeYardModel" "starved" "I") ∈ lw_all := lw_g (lw_at lw_m6 149 rfl) rfl
theorem q1465 : (Jvm.Cond.fieldLink "BeeYardModel" (50 : Nat) "BeeYardModel" "kins" "[J") ∈ lw_all := lw_g (lw_at lw_m6 150 rfl) rfl
theorem q1466 : (Jvm.Cond.fieldLink "BeeYardModel" (373 : Nat) "BeeYardModel" "drawn" "I") ∈ lw_all := lw_g (lw_at lw_m6 151 rfl) rfl
theorem q1467 : (Jvm.Cond.fieldLink "BeeYardModel" (380 : Nat) "BeeYardModel" "ranSteps" "I") ∈ lw_all := lw_g (lw_at lw_m6 152 rfl) rfl
theorem q1468 : (Jvm.Cond.fieldLink "BeeYardModel" (53 : Nat) "BeeYardModel" "rounds" "[I") ∈ lw_all := lw_g (lw_at lw_m6 153 rfl) rfl
theorem q1469 : (Jvm.Cond.fieldLink "BeeYardModel" (56 : Nat) "BeeYardModel" "ran" "[I") ∈ lw_all := lw_g (lw_at lw_m6 154 rfl) rfl
theorem q1470 : (Jvm.Cond.fieldLink "BeeYardModel" (59 : Nat) "BeeYardModel" "told0" "[I") ∈ lw_all := lw_g (lw_at lw_m6 155 rfl) rfl
theorem q1471 : (Jvm.Cond.fieldLink "BeeYardModel" (395 : Nat) "BeeYardModel" "isTold" "Z") ∈ lw_all := lw_g (lw_at lw_m6 156 rfl) rfl
theorem q1472 : (Jvm.Cond.fieldLink "BeeYardModel" (401 : Nat) "BeeYardModel" "marks" "I") ∈ lw_all := lw_g (lw_at lw_m6 157 rfl) rfl
theorem q1473 : (Jvm.Cond.laysFinal "BeeYardModel" "BeeYardModel" "at" "[I") ∈ lw_all := lw_g (lw_at lw_m6 158 rfl) rfl
theorem q1474 : (Jvm.Cond.soleField "BeeYardModel" "at") ∈ lw_all := lw_g (lw_at lw_m6 159 rfl) rfl
theorem q1475 : (Jvm.Cond.laysFinal "BeeYardModel" "BeeYardModel" "names" "[J") ∈ lw_all := lw_g (lw_at lw_m6 160 rfl) rfl
theorem q1476 : (Jvm.Cond.soleField "BeeYardModel" "names") ∈ lw_all := lw_g (lw_at lw_m6 161 rfl) rfl
theorem q1477 : (Jvm.Cond.lays "BeeYardModel" "BeeYardModel" "status" "I") ∈ lw_all := lw_g (lw_at lw_m6 162 rfl) rfl
theorem q1478 : (Jvm.Cond.soleField "BeeYardModel" "status") ∈ lw_all := lw_g (lw_at lw_m6 163 rfl) rfl
theorem q1479 : (Jvm.Cond.lays "BeeYardModel" "BeeYardModel" "top" "J") ∈ lw_all := lw_g (lw_at lw_m6 164 rfl) rfl
theorem q1480 : (Jvm.Cond.soleField "BeeYardModel" "top") ∈ lw_all := lw_g (lw_at lw_m6 165 rfl) rfl
theorem q1481 : (Jvm.Cond.lays "BeeYardModel" "BeeYardModel" "bottom" "J") ∈ lw_all := lw_g (lw_at lw_m6 166 rfl) rfl
theorem q1482 : (Jvm.Cond.soleField "BeeYardModel" "bottom") ∈ lw_all := lw_g (lw_at lw_m6 167 rfl) rfl
theorem q1483 : (Jvm.Cond.laysFinal "BeeYardModel" "BeeYardModel" "sort" "[I") ∈ lw_all := lw_g (lw_at lw_m6 168 rfl) rfl
theorem q1484 : (Jvm.Cond.soleField "BeeYardModel" "sort") ∈ lw_all := lw_g (lw_at lw_m6 169 rfl) rfl
theorem q1485 : (Jvm.Cond.laysFinal "BeeYardModel" "BeeYardModel" "trayMany" "[I") ∈ lw_all := lw_g (lw_at lw_m6 170 rfl) rfl
theorem q1486 : (Jvm.Cond.soleField "BeeYardModel" "trayMany") ∈ lw_all := lw_g (lw_at lw_m6 171 rfl) rfl
theorem q1487 : (Jvm.Cond.laysFinal "BeeYardModel" "BeeYardModel" "trays" "[J") ∈ lw_all := lw_g (lw_at lw_m6 172 rfl) rfl
theorem q1488 : (Jvm.Cond.soleField "BeeYardModel" "trays") ∈ lw_all := lw_g (lw_at lw_m6 173 rfl) rfl
theorem q1489 : (Jvm.Cond.laysFinal "BeeYardModel" "BeeYardModel" "tape" "[B") ∈ lw_all := lw_g (lw_at lw_m6 174 rfl) rfl
theorem q1490 : (Jvm.Cond.soleField "BeeYardModel" "tape") ∈ lw_all := lw_g (lw_at lw_m6 175 rfl) rfl
theorem q1491 : (Jvm.Cond.laysFinal "BeeYardModel" "BeeYardModel" "text" "[B") ∈ lw_all := lw_g (lw_at lw_m6 176 rfl) rfl
theorem q1492 : (Jvm.Cond.soleField "BeeYardModel" "text") ∈ lw_all := lw_g (lw_at lw_m6 177 rfl) rfl
theorem q1493 : (Jvm.Cond.lays "BeeYardModel" "BeeYardModel" "taped" "I") ∈ lw_all := lw_g (lw_at lw_m6 178 rfl) rfl
theorem q1494 : (Jvm.Cond.soleField "BeeYardModel" "taped") ∈ lw_all := lw_g (lw_at lw_m6 179 rfl) rfl
theorem q1495 : (Jvm.Cond.lays "BeeYardModel" "BeeYardModel" "size" "I") ∈ lw_all := lw_g (lw_at lw_m6 180 rfl) rfl
theorem q1496 : (Jvm.Cond.soleField "BeeYardModel" "size") ∈ lw_all := lw_g (lw_at lw_m6 181 rfl) rfl
theorem q1497 : (Jvm.Cond.lays "BeeYardModel" "BeeYardModel" "token" "I") ∈ lw_all := lw_g (lw_at lw_m6 182 rfl) rfl
theorem q1498 : (Jvm.Cond.soleField "BeeYardModel" "token") ∈ lw_all := lw_g (lw_at lw_m6 183 rfl) rfl
theorem q1499 : (Jvm.Cond.lays "BeeYardModel" "BeeYardModel" "from" "I") ∈ lw_all := lw_g (lw_at lw_m6 184 rfl) rfl
theorem q1500 : (Jvm.Cond.soleField "BeeYardModel" "from") ∈ lw_all := lw_g (lw_at lw_m6 185 rfl) rfl
theorem q1501 : (Jvm.Cond.lays "BeeYardModel" "BeeYardModel" "end" "I") ∈ lw_all := lw_g (lw_at lw_m6 186 rfl) rfl
theorem q1502 : (Jvm.Cond.soleField "BeeYardModel" "end") ∈ lw_all := lw_g (lw_at lw_m6 187 rfl) rfl
theorem q1503 : (Jvm.Cond.lays "BeeYardModel" "BeeYardModel" "value" "I") ∈ lw_all := lw_g (lw_at lw_m6 188 rfl) rfl
theorem q1504 : (Jvm.Cond.soleField "BeeYardModel" "value") ∈ lw_all := lw_g (lw_at lw_m6 189 rfl) rfl
theorem q1505 : (Jvm.Cond.lays "BeeYardModel" "BeeYardModel" "faultKind" "I") ∈ lw_all := lw_g (lw_at lw_m6 190 rfl) rfl
theorem q1506 : (Jvm.Cond.soleField "BeeYardModel" "faultKind") ∈ lw_all := lw_g (lw_at lw_m6 191 rfl) rfl
theorem q1507 : (Jvm.Cond.lays "BeeYardModel" "BeeYardModel" "faultPlace" "I") ∈ lw_all := lw_g (lw_at lw_m6 192 rfl) rfl
theorem q1508 : (Jvm.Cond.soleField "BeeYardModel" "faultPlace") ∈ lw_all := lw_g (lw_at lw_m6 193 rfl) rfl
theorem q1509 : (Jvm.Cond.lays "BeeYardModel" "BeeYardModel" "faults" "I") ∈ lw_all := lw_g (lw_at lw_m6 194 rfl) rfl
theorem q1510 : (Jvm.Cond.soleField "BeeYardModel" "faults") ∈ lw_all := lw_g (lw_at lw_m6 195 rfl) rfl
theorem q1511 : (Jvm.Cond.lays "BeeYardModel" "BeeYardModel" "seen" "I") ∈ lw_all := lw_g (lw_at lw_m6 196 rfl) rfl
theorem q1512 : (Jvm.Cond.soleField "BeeYardModel" "seen") ∈ lw_all := lw_g (lw_at lw_m6 197 rfl) rfl
theorem q1513 : (Jvm.Cond.laysFinal "BeeYardModel" "BeeYardModel" "opened" "[I") ∈ lw_all := lw_g (lw_at lw_m6 198 rfl) rfl
theorem q1514 : (Jvm.Cond.soleField "BeeYardModel" "opened") ∈ lw_all := lw_g (lw_at lw_m6 199 rfl) rfl
theorem q1515 : (Jvm.Cond.lays "BeeYardModel" "BeeYardModel" "depth" "I") ∈ lw_all := lw_g (lw_at lw_m6 200 rfl) rfl
theorem q1516 : (Jvm.Cond.soleField "BeeYardModel" "depth") ∈ lw_all := lw_g (lw_at lw_m6 201 rfl) rfl
theorem q1517 : (Jvm.Cond.lays "BeeYardModel" "BeeYardModel" "counted" "I") ∈ lw_all := lw_g (lw_at lw_m6 202 rfl) rfl
theorem q1518 : (Jvm.Cond.soleField "BeeYardModel" "counted") ∈ lw_all := lw_g (lw_at lw_m6 203 rfl) rfl
theorem q1519 : (Jvm.Cond.laysFinal "BeeYardModel" "BeeYardModel" "frames" "[I") ∈ lw_all := lw_g (lw_at lw_m6 204 rfl) rfl
theorem q1520 : (Jvm.Cond.soleField "BeeYardModel" "frames") ∈ lw_all := lw_g (lw_at lw_m6 205 rfl) rfl
theorem q1521 : (Jvm.Cond.lays "BeeYardModel" "BeeYardModel" "framesMany" "I") ∈ lw_all := lw_g (lw_at lw_m6 206 rfl) rfl
theorem q1522 : (Jvm.Cond.soleField "BeeYardModel" "framesMany") ∈ lw_all := lw_g (lw_at lw_m6 207 rfl) rfl
theorem q1523 : (Jvm.Cond.lays "BeeYardModel" "BeeYardModel" "eaten" "I") ∈ lw_all := lw_g (lw_at lw_m6 208 rfl) rfl
theorem q1524 : (Jvm.Cond.soleField "BeeYardModel" "eaten") ∈ lw_all := lw_g (lw_at lw_m6 209 rfl) rfl
theorem q1525 : (Jvm.Cond.lays "BeeYardModel" "BeeYardModel" "cameOut" "I") ∈ lw_all := lw_g (lw_at lw_m6 210 rfl) rfl
theorem q1526 : (Jvm.Cond.soleField "BeeYardModel" "cameOut") ∈ lw_all := lw_g (lw_at lw_m6 211 rfl) rfl
theorem q1527 : (Jvm.Cond.lays "BeeYardModel" "BeeYardModel" "starved" "I") ∈ lw_all := lw_g (lw_at lw_m6 212 rfl) rfl
theorem q1528 : (Jvm.Cond.soleField "BeeYardModel" "starved") ∈ lw_all := lw_g (lw_at lw_m6 213 rfl) rfl
theorem q1529 : (Jvm.Cond.laysFinal "BeeYardModel" "BeeYardModel" "kins" "[J") ∈ lw_all := lw_g (lw_at lw_m6 214 rfl) rfl
theorem q1530 : (Jvm.Cond.soleField "BeeYardModel" "kins") ∈ lw_all := lw_g (lw_at lw_m6 215 rfl) rfl
theorem q1531 : (Jvm.Cond.lays "BeeYardModel" "BeeYardModel" "drawn" "I") ∈ lw_all := lw_g (lw_at lw_m6 216 rfl) rfl
theorem q1532 : (Jvm.Cond.soleField "BeeYardModel" "drawn") ∈ lw_all := lw_g (lw_at lw_m6 217 rfl) rfl
theorem q1533 : (Jvm.Cond.lays "BeeYardModel" "BeeYardModel" "ranSteps" "I") ∈ lw_all := lw_g (lw_at lw_m6 218 rfl) rfl
theorem q1534 : (Jvm.Cond.soleField "BeeYardModel" "ranSteps") ∈ lw_all := lw_g (lw_at lw_m6 219 rfl) rfl
theorem q1535 : (Jvm.Cond.laysFinal "BeeYardModel" "BeeYardModel" "rounds" "[I") ∈ lw_all := lw_g (lw_at lw_m6 220 rfl) rfl
theorem q1536 : (Jvm.Cond.soleField "BeeYardModel" "rounds") ∈ lw_all := lw_g (lw_at lw_m6 221 rfl) rfl
theorem q1537 : (Jvm.Cond.laysFinal "BeeYardModel" "BeeYardModel" "ran" "[I") ∈ lw_all := lw_g (lw_at lw_m6 222 rfl) rfl
theorem q1538 : (Jvm.Cond.soleField "BeeYardModel" "ran") ∈ lw_all := lw_g (lw_at lw_m6 223 rfl) rfl
theorem q1539 : (Jvm.Cond.laysFinal "BeeYardModel" "BeeYardModel" "told0" "[I") ∈ lw_all := lw_g (lw_at lw_m6 224 rfl) rfl
theorem q1540 : (Jvm.Cond.soleField "BeeYardModel" "told0") ∈ lw_all := lw_g (lw_at lw_m6 225 rfl) rfl
theorem q1541 : (Jvm.Cond.lays "BeeYardModel" "BeeYardModel" "isTold" "Z") ∈ lw_all := lw_g (lw_at lw_m6 226 rfl) rfl
theorem q1542 : (Jvm.Cond.soleField "BeeYardModel" "isTold") ∈ lw_all := lw_g (lw_at lw_m6 227 rfl) rfl
theorem q1543 : (Jvm.Cond.lays "BeeYardModel" "BeeYardModel" "marks" "I") ∈ lw_all := lw_g (lw_at lw_m6 228 rfl) rfl
theorem q1544 : (Jvm.Cond.soleField "BeeYardModel" "marks") ∈ lw_all := lw_g (lw_at lw_m6 229 rfl) rfl
theorem q1545 : (Jvm.Cond.superclass "BeeYardModel" "java/lang/Object") ∈ lw_all := lw_g (lw_at lw_m6 230 rfl) rfl
theorem q1547 : (Jvm.Cond.instanceMethod ({ cls := "BeeYardModel", name := "status", desc := "()I" } : Jvm.MethodName)) ∈ lw_all := lw_g (lw_at lw_m6 232 rfl) rfl
theorem q1548 : (Jvm.Cond.selects "BeeYardModel" ({ cls := "BeeYardModel", name := "status", desc := "()I" } : Jvm.MethodName) ({ cls := "BeeYardModel", name := "status", desc := "()I" } : Jvm.MethodName)) ∈ lw_all := lw_g (lw_at lw_m6 233 rfl) rfl
theorem q1549 : (Jvm.Cond.code ({ cls := "BeeYardModel", name := "status", desc := "()I" } : Jvm.MethodName) prog_17_method_3_code (1 : Nat) (Option.some Jvm.ClassFile.FieldType.int)) ∈ lw_all := lw_g (lw_at lw_m6 234 rfl) rfl
theorem q1551 : (Jvm.Cond.instanceMethod ({ cls := "BeeYardModel", name := "top", desc := "()J" } : Jvm.MethodName)) ∈ lw_all := lw_g (lw_at lw_m6 236 rfl) rfl
theorem q1552 : (Jvm.Cond.selects "BeeYardModel" ({ cls := "BeeYardModel", name := "top", desc := "()J" } : Jvm.MethodName) ({ cls := "BeeYardModel", name := "top", desc := "()J" } : Jvm.MethodName)) ∈ lw_all := lw_g (lw_at lw_m6 237 rfl) rfl
theorem q1553 : (Jvm.Cond.code ({ cls := "BeeYardModel", name := "top", desc := "()J" } : Jvm.MethodName) prog_17_method_4_code (1 : Nat) (Option.some Jvm.ClassFile.FieldType.long)) ∈ lw_all := lw_g (lw_at lw_m6 238 rfl) rfl
theorem q1555 : (Jvm.Cond.instanceMethod ({ cls := "BeeYardModel", name := "bottom", desc := "()J" } : Jvm.MethodName)) ∈ lw_all := lw_g (lw_at lw_m7 0 rfl) rfl
theorem q1556 : (Jvm.Cond.selects "BeeYardModel" ({ cls := "BeeYardModel", name := "bottom", desc := "()J" } : Jvm.MethodName) ({ cls := "BeeYardModel", name := "bottom", desc := "()J" } : Jvm.MethodName)) ∈ lw_all := lw_g (lw_at lw_m7 1 rfl) rfl
theorem q1557 : (Jvm.Cond.code ({ cls := "BeeYardModel", name := "bottom", desc := "()J" } : Jvm.MethodName) prog_17_method_5_code (1 : Nat) (Option.some Jvm.ClassFile.FieldType.long)) ∈ lw_all := lw_g (lw_at lw_m7 2 rfl) rfl
theorem q1559 : (Jvm.Cond.instanceMethod ({ cls := "BeeYardModel", name := "tray", desc := "(III)Z" } : Jvm.MethodName)) ∈ lw_all := lw_g (lw_at lw_m7 4 rfl) rfl
theorem q1560 : (Jvm.Cond.selects "BeeYardModel" ({ cls := "BeeYardModel", name := "tray", desc := "(III)Z" } : Jvm.MethodName) ({ cls := "BeeYardModel", name := "tray", desc := "(III)Z" } : Jvm.MethodName)) ∈ lw_all := lw_g (lw_at lw_m7 5 rfl) rfl
theorem q1561 : (Jvm.Cond.code ({ cls := "BeeYardModel", name := "tray", desc := "(III)Z" } : Jvm.MethodName) prog_17_method_13_code (5 : Nat) (Option.some Jvm.ClassFile.FieldType.boolean)) ∈ lw_all := lw_g (lw_at lw_m7 6 rfl) rfl
theorem q1562 : (Jvm.Cond.methodLink "BeeYardModel" (83 : Nat) ({ cls := "BeeYardModel", name := "isTray", desc := "(I)Z" } : Jvm.MethodName)) ∈ lw_all := lw_g (lw_at lw_m7 7 rfl) rfl
theorem q1563 : (Jvm.Cond.static ({ cls := "BeeYardModel", name := "isTray", desc := "(I)Z" } : Jvm.MethodName)) ∈ lw_all := lw_g (lw_at lw_m7 8 rfl) rfl
theorem q1564 : (Jvm.Cond.code ({ cls := "BeeYardModel", name := "isTray", desc := "(I)Z" } : Jvm.MethodName) prog_17_method_11_code (1 : Nat) (Option.some Jvm.ClassFile.FieldType.boolean)) ∈ lw_all := lw_g (lw_at lw_m7 9 rfl) rfl
theorem q1565 : (Jvm.Cond.methodLink "BeeYardModel" (79 : Nat) ({ cls := "BeeYardModel", name := "is", desc := "(I)Z" } : Jvm.MethodName)) ∈ lw_all := lw_g (lw_at lw_m7 10 rfl) rfl
theorem q1566 : (Jvm.Cond.privateMethod ({ cls := "BeeYardModel", name := "is", desc := "(I)Z" } : Jvm.MethodName)) ∈ lw_tbl := lw_at lw_m7 11 rfl
theorem q1567 : (Jvm.Cond.instanceMethod ({ cls := "BeeYardModel", name := "is", desc := "(I)Z" } : Jvm.MethodName)) ∈ lw_all := lw_g (lw_at lw_m7 12 rfl) rfl
theorem q1568 : (Jvm.Cond.code ({ cls := "BeeYardModel", name := "is", desc := "(I)Z" } : Jvm.MethodName) prog_17_method_6_code (2 : Nat) (Option.some Jvm.ClassFile.FieldType.boolean)) ∈ lw_all := lw_g (lw_at lw_m7 13 rfl) rfl
theorem q1570 : (Jvm.Cond.instanceMethod ({ cls := "BeeYardModel", name := "write", desc := "(IIJ)Z" } : Jvm.MethodName)) ∈ lw_all := lw_g (lw_at lw_m7 15 rfl) rfl
theorem q1571 : (Jvm.Cond.selects "BeeYardModel" ({ cls := "BeeYardModel", name := "write", desc := "(IIJ)Z" } : Jvm.MethodName) ({ cls := "BeeYardModel", name := "write", desc := "(IIJ)Z" } : Jvm.MethodName)) ∈ lw_all := lw_g (lw_at lw_m7 16 rfl) rfl
theorem q1572 : (Jvm.Cond.code ({ cls := "BeeYardModel", name := "write", desc := "(IIJ)Z" } : Jvm.MethodName) prog_17_method_15_code (6 : Nat) (Option.some Jvm.ClassFile.FieldType.boolean)) ∈ lw_all := lw_g (lw_at lw_m7 17 rfl) rfl
theorem q1573 : (Jvm.Cond.methodLink "BeeYardModel" (86 : Nat) ({ cls := "BeeYardModel", name := "wrongPlace", desc := "(II)I" } : Jvm.MethodName)) ∈ lw_all := lw_g (lw_at lw_m7 18 rfl) rfl
theorem q1574 : (Jvm.Cond.privateMethod ({ cls := "BeeYardModel", name := "wrongPlace", desc := "(II)I" } : Jvm.MethodName)) ∈ lw_tbl := lw_at lw_m7 19 rfl
theorem q1575 : (Jvm.Cond.instanceMethod ({ cls := "BeeYardModel", name := "wrongPlace", desc := "(II)I" } : Jvm.MethodName)) ∈ lw_all := lw_g (lw_at lw_m7 20 rfl) rfl
theorem q1576 : (Jvm.Cond.code ({ cls := "BeeYardModel", name := "wrongPlace", desc := "(II)I" } : Jvm.MethodName) prog_17_method_14_code (3 : Nat) (Option.some Jvm.ClassFile.FieldType.int)) ∈ lw_all := lw_g (lw_at lw_m7 21 rfl) rfl
theorem q1577 : (Jvm.Cond.methodLink "BeeYardModel" (90 : Nat) ({ cls := "BeeYardModel", name := "cut", desc := "(JI)J" } : Jvm.MethodName)) ∈ lw_all := lw_g (lw_at lw_m7 22 rfl) rfl
theorem q1578 : (Jvm.Cond.static ({ cls := "BeeYardModel", name := "cut", desc := "(JI)J" } : Jvm.MethodName)) ∈ lw_all := lw_g (lw_at lw_m7 23 rfl) rfl
theorem q1579 : (Jvm.Cond.code ({ cls := "BeeYardModel", name := "cut", desc := "(JI)J" } : Jvm.MethodName) prog_17_method_12_code (3 : Nat) (Option.some Jvm.ClassFile.FieldType.long)) ∈ lw_all := lw_g (lw_at lw_m7 24 rfl) rfl
theorem q1581 : (Jvm.Cond.instanceMethod ({ cls := "BeeYardModel", name := "read", desc := "(II)J" } : Jvm.MethodName)) ∈ lw_all := lw_g (lw_at lw_m7 26 rfl) rfl
theorem q1582 : (Jvm.Cond.selects "BeeYardModel" ({ cls := "BeeYardModel", name := "read", desc := "(II)J" } : Jvm.MethodName) ({ cls := "BeeYardModel", name := "read", desc := "(II)J" } : Jvm.MethodName)) ∈ lw_all := lw_g (lw_at lw_m7 27 rfl) rfl
theorem q1583 : (Jvm.Cond.code ({ cls := "BeeYardModel", name := "read", desc := "(II)J" } : Jvm.MethodName) prog_17_method_16_code (3 : Nat) (Option.some Jvm.ClassFile.FieldType.long)) ∈ lw_all := lw_g (lw_at lw_m7 28 rfl) rfl
theorem q1584 : (Jvm.Cond.constantLong "BeeYardModel" (94 : Nat) (-1 : Int64)) ∈ lw_all := lw_g (lw_at lw_m7 29 rfl) rfl
theorem q1586 : (Jvm.Cond.instanceMethod ({ cls := "BeeYardModel", name := "pour", desc := "(IIIII)Z" } : Jvm.MethodName)) ∈ lw_all := lw_g (lw_at lw_m7 31 rfl) rfl
theorem q1587 : (Jvm.Cond.selects "BeeYardModel" ({ cls := "BeeYardModel", name := "pour", desc := "(IIIII)Z" } : Jvm.MethodName) ({ cls := "BeeYardModel", name := "pour", desc := "(IIIII)Z" } : Jvm.MethodName)) ∈ lw_all := lw_g (lw_at lw_m7 32 rfl) rfl
theorem q1588 : (Jvm.Cond.code ({ cls := "BeeYardModel", name := "pour", desc := "(IIIII)Z" } : Jvm.MethodName) prog_17_method_17_code (8 : Nat) (Option.some Jvm.ClassFile.FieldType.boolean)) ∈ lw_all := lw_g (lw_at lw_m7 33 rfl) rfl
theorem q1590 : (Jvm.Cond.instanceMethod ({ cls := "BeeYardModel", name := "feed", desc := "(IIIII)I" } : Jvm.MethodName)) ∈ lw_all := lw_g (lw_at lw_m7 35 rfl) rfl
theorem q1591 : (Jvm.Cond.selects "BeeYardModel" ({ cls := "BeeYardModel", name := "feed", desc := "(IIIII)I" } : Jvm.MethodName) ({ cls := "BeeYardModel", name := "feed", desc := "(IIIII)I" } : Jvm.MethodName)) ∈ lw_all := lw_g (lw_at lw_m7 36 rfl) rfl
theorem q1592 : (Jvm.Cond.code ({ cls := "BeeYardModel", name := "feed", desc := "(IIIII)I" } : Jvm.MethodName) prog_17_method_19_code (6 : Nat) (Option.some Jvm.ClassFile.FieldType.int)) ∈ lw_all := lw_g (lw_at lw_m7 37 rfl) rfl
theorem q1593 : (Jvm.Cond.methodLink "BeeYardModel" (99 : Nat) ({ cls := "BeeYardModel", name := "four", desc := "(I)V" } : Jvm.MethodName)) ∈ lw_all := lw_g (lw_at lw_m7 38 rfl) rfl
theorem q1594 : (Jvm.Cond.privateMethod ({ cls := "BeeYardModel", name := "four", desc := "(I)V" } : Jvm.MethodName)) ∈ lw_tbl := lw_at lw_m7 39 rfl
theorem q1595 : (Jvm.Cond.instanceMethod ({ cls := "BeeYardModel", name := "four", desc := "(I)V" } : Jvm.MethodName)) ∈ lw_all := lw_g (lw_at lw_m7 40 rfl) rfl
theorem q1596 : (Jvm.Cond.code ({ cls := "BeeYardModel", name := "four", desc := "(I)V" } : Jvm.MethodName) prog_17_method_20_code (3 : Nat) (Option.none : Option Jvm.ClassFile.FieldType)) ∈ lw_all := lw_g (lw_at lw_m7 41 rfl) rfl
theorem q1598 : (Jvm.Cond.instanceMethod ({ cls := "BeeYardModel", name := "fault", desc := "(I)I" } : Jvm.MethodName)) ∈ lw_all := lw_g (lw_at lw_m7 43 rfl) rfl
theorem q1599 : (Jvm.Cond.selects "BeeYardModel" ({ cls := "BeeYardModel", name := "fault", desc := "(I)I" } : Jvm.MethodName) ({ cls := "BeeYardModel", name := "fault", desc := "(I)I" } : Jvm.MethodName)) ∈ lw_all := lw_g (lw_at lw_m7 44 rfl) rfl
theorem q1600 : (Jvm.Cond.code ({ cls := "BeeYardModel", name := "fault", desc := "(I)I" } : Jvm.MethodName) prog_17_method_35_code (2 : Nat) (Option.some Jvm.ClassFile.FieldType.int)) ∈ lw_all := lw_g (lw_at lw_m7 45 rfl) rfl
theorem q1602 : (Jvm.Cond.instanceMethod ({ cls := "BeeYardModel", name := "yard", desc := "(I)I" } : Jvm.MethodName)) ∈ lw_all := lw_g (lw_at lw_m7 47 rfl) rfl
theorem q1603 : (Jvm.Cond.selects "BeeYardModel" ({ cls := "BeeYardModel", name := "yard", desc := "(I)I" } : Jvm.MethodName) ({ cls := "BeeYardModel", name := "yard", desc := "(I)I" } : Jvm.MethodName)) ∈ lw_all := lw_g (lw_at lw_m7 48 rfl) rfl
theorem q1604 : (Jvm.Cond.code ({ cls := "BeeYardModel", name := "yard", desc := "(I)I" } : Jvm.MethodName) prog_17_method_44_code (4 : Nat) (Option.some Jvm.ClassFile.FieldType.int)) ∈ lw_all := lw_g (lw_at lw_m7 49 rfl) rfl
theorem q1605 : (Jvm.Cond.methodLink "BeeYardModel" (207 : Nat) ({ cls := "BeeYardModel", name := "begins", desc := "(II)Z" } : Jvm.MethodName)) ∈ lw_all := lw_g (lw_at lw_m7 50 rfl) rfl
theorem q1606 : (Jvm.Cond.privateMethod ({ cls := "BeeYardModel", name := "begins", desc := "(II)Z" } : Jvm.MethodName)) ∈ lw_tbl := lw_at lw_m7 51 rfl
theorem q1607 : (Jvm.Cond.instanceMethod ({ cls := "BeeYardModel", name := "begins", desc := "(II)Z" } : Jvm.MethodName)) ∈ lw_all := lw_g (lw_at lw_m7 52 rfl) rfl
theorem q1608 : (Jvm.Cond.code ({ cls := "BeeYardModel", name := "begins", desc := "(II)Z" } : Jvm.MethodName) prog_17_method_28_code (4 : Nat) (Option.some Jvm.ClassFile.FieldType.boolean)) ∈ lw_all := lw_g (lw_at lw_m7 53 rfl) rfl
theorem q1609 : (Jvm.Cond.methodLink "BeeYardModel" (148 : Nat) ({ cls := "BeeYardModel", name := "ahead", desc := "()V" } : Jvm.MethodName)) ∈ lw_all := lw_g (lw_at lw_m7 54 rfl) rfl
theorem q1610 : (Jvm.Cond.privateMethod ({ cls := "BeeYardModel", name := "ahead", desc := "()V" } : Jvm.MethodName)) ∈ lw_tbl := lw_at lw_m7 55 rfl
theorem q1611 : (Jvm.Cond.instanceMethod ({ cls := "BeeYardModel", name := "ahead", desc := "()V" } : Jvm.MethodName)) ∈ lw_all := lw_g (lw_at lw_m7 56 rfl) rfl
theorem q1612 : (Jvm.Cond.code ({ cls := "BeeYardModel", name := "ahead", desc := "()V" } : Jvm.MethodName) prog_17_method_24_code (2 : Nat) (Option.none : Option Jvm.ClassFile.FieldType)) ∈ lw_all := lw_g (lw_at lw_m7 57 rfl) rfl
theorem q1613 : (Jvm.Cond.methodLink "BeeYardModel" (108 : Nat) ({ cls := "BeeYardModel", name := "byteAt", desc := "(I)I" } : Jvm.MethodName)) ∈ lw_all := lw_g (lw_at lw_m7 58 rfl) rfl
theorem q1614 : (Jvm.Cond.privateMethod ({ cls := "BeeYardModel", name := "byteAt", desc := "(I)I" } : Jvm.MethodName)) ∈ lw_tbl := lw_at lw_m7 59 rfl
theorem q1615 : (Jvm.Cond.instanceMethod ({ cls := "BeeYardModel", name := "byteAt", desc := "(I)I" } : Jvm.MethodName)) ∈ lw_all := lw_g (lw_at lw_m7 60 rfl) rfl
theorem q1616 : (Jvm.Cond.code ({ cls := "BeeYardModel", name := "byteAt", desc := "(I)I" } : Jvm.MethodName) prog_17_method_21_code (2 : Nat) (Option.some Jvm.ClassFile.FieldType.int)) ∈ lw_all := lw_g (lw_at lw_m7 61 rfl) rfl
theorem q1617 : (Jvm.Cond.methodLink "BeeYardModel" (120 : Nat) ({ cls := "BeeYardModel", name := "isSmall", desc := "(I)Z" } : Jvm.MethodName)) ∈ lw_all := lw_g (lw_at lw_m7 62 rfl) rfl
theorem q1618 : (Jvm.Cond.static ({ cls := "BeeYardModel", name := "isSmall", desc := "(I)Z" } : Jvm.MethodName)) ∈ lw_all := lw_g (lw_at lw_m7 63 rfl) rfl
theorem q1619 : (Jvm.Cond.code ({ cls := "BeeYardModel", name := "isSmall", desc := "(I)Z" } : Jvm.MethodName) prog_17_method_22_code (1 : Nat) (Option.some Jvm.ClassFile.FieldType.boolean)) ∈ lw_all := lw_g (lw_at lw_m7 64 rfl) rfl
theorem q1620 : (Jvm.Cond.methodLink "BeeYardModel" (123 : Nat) ({ cls := "BeeYardModel", name := "isDigit", desc := "(I)Z" } : Jvm.MethodName)) ∈ lw_all := lw_g (lw_at lw_m7 65 rfl) rfl
theorem q1621 : (Jvm.Cond.static ({ cls := "BeeYardModel", name := "isDigit", desc := "(I)Z" } : Jvm.MethodName)) ∈ lw_all := lw_g (lw_at lw_m7 66 rfl) rfl
theorem q1622 : (Jvm.Cond.code ({ cls := "BeeYardModel", name := "isDigit", desc := "(I)Z" } : Jvm.MethodName) prog_17_method_23_code (1 : Nat) (Option.some Jvm.ClassFile.FieldType.boolean)) ∈ lw_all := lw_g (lw_at lw_m7 67 rfl) rfl
theorem q1623 : (Jvm.Cond.constant "BeeYardModel" (126 : Nat) (100000 : Int32)) ∈ lw_all := lw_g (lw_at lw_m7 68 rfl) rfl
theorem q1624 : (Jvm.Cond.methodLink "BeeYardModel" (127 : Nat) ({ cls := "java/lang/Math", name := "min", desc := "(II)I" } : Jvm.MethodName)) ∈ lw_all := lw_g (lw_at lw_m7 69 rfl) rfl
theorem q1625 : (Jvm.Cond.methodLink "BeeYardModel" (72 : Nat) ({ cls := "BeeYardModel", name := "refuse", desc := "(I)I" } : Jvm.MethodName)) ∈ lw_all := lw_g (lw_at lw_m7 70 rfl) rfl
theorem q1626 : (Jvm.Cond.privateMethod ({ cls := "BeeYardModel", name := "refuse", desc := "(I)I" } : Jvm.MethodName)) ∈ lw_tbl := lw_at lw_m7 71 rfl
theorem q1627 : (Jvm.Cond.instanceMethod ({ cls := "BeeYardModel", name := "refuse", desc := "(I)I" } : Jvm.MethodName)) ∈ lw_all := lw_g (lw_at lw_m7 72 rfl) rfl
theorem q1628 : (Jvm.Cond.code ({ cls := "BeeYardModel", name := "refuse", desc := "(I)I" } : Jvm.MethodName) prog_17_method_7_code (2 : Nat) (Option.some Jvm.ClassFile.FieldType.int)) ∈ lw_all := lw_g (lw_at lw_m7 73 rfl) rfl
theorem q1629 : (Jvm.Cond.methodLink "BeeYardModel" (211 : Nat) ({ cls := "BeeYardModel", name := "yardPart", desc := "()Z" } : Jvm.MethodName)) ∈ lw_all := lw_g (lw_at lw_m7 74 rfl) rfl
theorem q1630 : (Jvm.Cond.privateMethod ({ cls := "BeeYardModel", name := "yardPart", desc := "()Z" } : Jvm.MethodName)) ∈ lw_tbl := lw_at lw_m7 75 rfl
theorem q1631 : (Jvm.Cond.instanceMethod ({ cls := "BeeYardModel", name := "yardPart", desc := "()Z" } : Jvm.MethodName)) ∈ lw_all := lw_g (lw_at lw_m7 76 rfl) rfl
theorem q1632 : (Jvm.Cond.code ({ cls := "BeeYardModel", name := "yardPart", desc := "()Z" } : Jvm.MethodName) prog_17_method_43_code (2 : Nat) (Option.some Jvm.ClassFile.FieldType.boolean)) ∈ lw_all := lw_g (lw_at lw_m7 77 rfl) rfl
theorem q1633 : (Jvm.Cond.stringRef "BeeYardModel" (165 : Nat) " hive drone queen boxes frames bees honey of lays by in days bring harvest move bloom seat when loop end stop crowded brood ") ∈ lw_tbl := lw_at lw_m7 78 rfl
theorem q1634 : (Jvm.Cond.methodLink "BeeYardModel" (157 : Nat) ({ cls := "BeeYardModel", name := "inWords", desc := "(Ljava/lang/String;)I" } : Jvm.MethodName)) ∈ lw_all := lw_g (lw_at lw_m7 79 rfl) rfl
theorem q1635 : (Jvm.Cond.privateMethod ({ cls := "BeeYardModel", name := "inWords", desc := "(Ljava/lang/String;)I" } : Jvm.MethodName)) ∈ lw_tbl := lw_at lw_m7 80 rfl
theorem q1636 : (Jvm.Cond.instanceMethod ({ cls := "BeeYardModel", name := "inWords", desc := "(Ljava/lang/String;)I" } : Jvm.MethodName)) ∈ lw_all := lw_g (lw_at lw_m7 81 rfl) rfl
theorem q1637 : (Jvm.Cond.code ({ cls := "BeeYardModel", name := "inWords", desc := "(Ljava/lang/String;)I" } : Jvm.MethodName) prog_17_method_26_code (7 : Nat) (Option.some Jvm.ClassFile.FieldType.int)) ∈ lw_all := lw_g (lw_at lw_m7 82 rfl) rfl
theorem q1638 : (Jvm.Cond.methodLink "BeeYardModel" (132 : Nat) ({ cls := "java/lang/String", name := "length", desc := "()I" } : Jvm.MethodName)) ∈ lw_all := lw_g (lw_at lw_m7 83 rfl) rfl
theorem q1639 : (Jvm.Cond.methodLink "BeeYardModel" (138 : Nat) ({ cls := "java/lang/String", name := "charAt", desc := "(I)C" } : Jvm.MethodName)) ∈ lw_all := lw_g (lw_at lw_m7 84 rfl) rfl
theorem q1640 : (Jvm.Cond.methodLink "BeeYardModel" (194 : Nat) ({ cls := "BeeYardModel", name := "aHive", desc := "()Z" } : Jvm.MethodName)) ∈ lw_all := lw_g (lw_at lw_m7 85 rfl) rfl
theorem q1641 : (Jvm.Cond.privateMethod ({ cls := "BeeYardModel", name := "aHive", desc := "()Z" } : Jvm.MethodName)) ∈ lw_tbl := lw_at lw_m7 86 rfl
theorem q1642 : (Jvm.Cond.instanceMethod ({ cls := "BeeYardModel", name := "aHive", desc := "()Z" } : Jvm.MethodName)) ∈ lw_all := lw_g (lw_at lw_m7 87 rfl) rfl
theorem q1643 : (Jvm.Cond.code ({ cls := "BeeYardModel", name := "aHive", desc := "()Z" } : Jvm.MethodName) prog_17_method_40_code (2 : Nat) (Option.some Jvm.ClassFile.FieldType.boolean)) ∈ lw_all := lw_g (lw_at lw_m7 88 rfl) rfl
theorem q1644 : (Jvm.Cond.methodLink "BeeYardModel" (174 : Nat) ({ cls := "BeeYardModel", name := "newOne", desc := "(III)Z" } : Jvm.MethodName)) ∈ lw_all := lw_g (lw_at lw_m7 89 rfl) rfl
theorem q1645 : (Jvm.Cond.privateMethod ({ cls := "BeeYardModel", name := "newOne", desc := "(III)Z" } : Jvm.MethodName)) ∈ lw_tbl := lw_at lw_m7 90 rfl
theorem q1646 : (Jvm.Cond.instanceMethod ({ cls := "BeeYardModel", name := "newOne", desc := "(III)Z" } : Jvm.MethodName)) ∈ lw_all := lw_g (lw_at lw_m7 91 rfl) rfl
theorem q1647 : (Jvm.Cond.code ({ cls := "BeeYardModel", name := "newOne", desc := "(III)Z" } : Jvm.MethodName) prog_17_method_37_code (4 : Nat) (Option.some Jvm.ClassFile.FieldType.boolean)) ∈ lw_all := lw_g (lw_at lw_m7 92 rfl) rfl
theorem q1648 : (Jvm.Cond.methodLink "BeeYardModel" (154 : Nat) ({ cls := "BeeYardModel", name := "fails", desc := "(I)Z" } : Jvm.MethodName)) ∈ lw_all := lw_g (lw_at lw_m7 93 rfl) rfl
theorem q1649 : (Jvm.Cond.privateMethod ({ cls := "BeeYardModel", name := "fails", desc := "(I)Z" } : Jvm.MethodName)) ∈ lw_tbl := lw_at lw_m7 94 rfl
theorem q1650 : (Jvm.Cond.instanceMethod ({ cls := "BeeYardModel", name := "fails", desc := "(I)Z" } : Jvm.MethodName)) ∈ lw_all := lw_g (lw_at lw_m7 95 rfl) rfl
theorem q1651 : (Jvm.Cond.code ({ cls := "BeeYardModel", name := "fails", desc := "(I)Z" } : Jvm.MethodName) prog_17_method_27_code (2 : Nat) (Option.some Jvm.ClassFile.FieldType.boolean)) ∈ lw_all := lw_g (lw_at lw_m7 96 rfl) rfl
theorem q1652 : (Jvm.Cond.methodLink "BeeYardModel" (167 : Nat) ({ cls := "BeeYardModel", name := "isName", desc := "(Ljava/lang/String;)Z" } : Jvm.MethodName)) ∈ lw_all := lw_g (lw_at lw_m7 97 rfl) rfl
theorem q1653 : (Jvm.Cond.privateMethod ({ cls := "BeeYardModel", name := "isName", desc := "(Ljava/lang/String;)Z" } : Jvm.MethodName)) ∈ lw_tbl := lw_at lw_m7 98 rfl
theorem q1654 : (Jvm.Cond.instanceMethod ({ cls := "BeeYardModel", name := "isName", desc := "(Ljava/lang/String;)Z" } : Jvm.MethodName)) ∈ lw_all := lw_g (lw_at lw_m7 99 rfl) rfl
theorem q1655 : (Jvm.Cond.code ({ cls := "BeeYardModel", name := "isName", desc := "(Ljava/lang/String;)Z" } : Jvm.MethodName) prog_17_method_32_code (2 : Nat) (Option.some Jvm.ClassFile.FieldType.boolean)) ∈ lw_all := lw_g (lw_at lw_m7 100 rfl) rfl
theorem q1656 : (Jvm.Cond.methodLink "BeeYardModel" (171 : Nat) ({ cls := "BeeYardModel", name := "findHere", desc := "(II)I" } : Jvm.MethodName)) ∈ lw_all := lw_g (lw_at lw_m7 101 rfl) rfl
theorem q1657 : (Jvm.Cond.privateMethod ({ cls := "BeeYardModel", name := "findHere", desc := "(II)I" } : Jvm.MethodName)) ∈ lw_tbl := lw_at lw_m7 102 rfl
theorem q1658 : (Jvm.Cond.instanceMethod ({ cls := "BeeYardModel", name := "findHere", desc := "(II)I" } : Jvm.MethodName)) ∈ lw_all := lw_g (lw_at lw_m7 103 rfl) rfl
theorem q1659 : (Jvm.Cond.code ({ cls := "BeeYardModel", name := "findHere", desc := "(II)I" } : Jvm.MethodName) prog_17_method_34_code (4 : Nat) (Option.some Jvm.ClassFile.FieldType.int)) ∈ lw_all := lw_g (lw_at lw_m7 104 rfl) rfl
theorem q1660 : (Jvm.Cond.methodLink "BeeYardModel" (161 : Nat) ({ cls := "BeeYardModel", name := "nameHere", desc := "()J" } : Jvm.MethodName)) ∈ lw_all := lw_g (lw_at lw_m7 105 rfl) rfl
theorem q1661 : (Jvm.Cond.privateMethod ({ cls := "BeeYardModel", name := "nameHere", desc := "()J" } : Jvm.MethodName)) ∈ lw_tbl := lw_at lw_m7 106 rfl
theorem q1662 : (Jvm.Cond.instanceMethod ({ cls := "BeeYardModel", name := "nameHere", desc := "()J" } : Jvm.MethodName)) ∈ lw_all := lw_g (lw_at lw_m7 107 rfl) rfl
theorem q1663 : (Jvm.Cond.code ({ cls := "BeeYardModel", name := "nameHere", desc := "()J" } : Jvm.MethodName) prog_17_method_33_code (4 : Nat) (Option.some Jvm.ClassFile.FieldType.long)) ∈ lw_all := lw_g (lw_at lw_m7 108 rfl) rfl
theorem q1664 : (Jvm.Cond.methodLink "BeeYardModel" (178 : Nat) ({ cls := "BeeYardModel", name := "wantWord", desc := "(Ljava/lang/String;I)Z" } : Jvm.MethodName)) ∈ lw_all := lw_g (lw_at lw_m7 109 rfl) rfl
theorem q1665 : (Jvm.Cond.privateMethod ({ cls := "BeeYardModel", name := "wantWord", desc := "(Ljava/lang/String;I)Z" } : Jvm.MethodName)) ∈ lw_tbl := lw_at lw_m7 110 rfl
theorem q1666 : (Jvm.Cond.instanceMethod ({ cls := "BeeYardModel", name := "wantWord", desc := "(Ljava/lang/String;I)Z" } : Jvm.MethodName)) ∈ lw_all := lw_g (lw_at lw_m7 111 rfl) rfl
theorem q1667 : (Jvm.Cond.code ({ cls := "BeeYardModel", name := "wantWord", desc := "(Ljava/lang/String;I)Z" } : Jvm.MethodName) prog_17_method_30_code (3 : Nat) (Option.some Jvm.ClassFile.FieldType.boolean)) ∈ lw_all := lw_g (lw_at lw_m7 112 rfl) rfl
theorem q1668 : (Jvm.Cond.methodLink "BeeYardModel" (182 : Nat) ({ cls := "BeeYardModel", name := "number", desc := "(III)Z" } : Jvm.MethodName)) ∈ lw_all := lw_g (lw_at lw_m7 113 rfl) rfl
theorem q1669 : (Jvm.Cond.privateMethod ({ cls := "BeeYardModel", name := "number", desc := "(III)Z" } : Jvm.MethodName)) ∈ lw_tbl := lw_at lw_m7 114 rfl
theorem q1670 : (Jvm.Cond.instanceMethod ({ cls := "BeeYardModel", name := "number", desc := "(III)Z" } : Jvm.MethodName)) ∈ lw_all := lw_g (lw_at lw_m7 115 rfl) rfl
theorem q1671 : (Jvm.Cond.code ({ cls := "BeeYardModel", name := "number", desc := "(III)Z" } : Jvm.MethodName) prog_17_method_31_code (4 : Nat) (Option.some Jvm.ClassFile.FieldType.boolean)) ∈ lw_all := lw_g (lw_at lw_m7 116 rfl) rfl
theorem q1672 : (Jvm.Cond.methodLink "BeeYardModel" (185 : Nat) ({ cls := "BeeYardModel", name := "isThere", desc := "(I)Z" } : Jvm.MethodName)) ∈ lw_all := lw_g (lw_at lw_m7 117 rfl) rfl
theorem q1673 : (Jvm.Cond.privateMethod ({ cls := "BeeYardModel", name := "isThere", desc := "(I)Z" } : Jvm.MethodName)) ∈ lw_tbl := lw_at lw_m7 118 rfl
theorem q1674 : (Jvm.Cond.instanceMethod ({ cls := "BeeYardModel", name := "isThere", desc := "(I)Z" } : Jvm.MethodName)) ∈ lw_all := lw_g (lw_at lw_m7 119 rfl) rfl
theorem q1675 : (Jvm.Cond.code ({ cls := "BeeYardModel", name := "isThere", desc := "(I)Z" } : Jvm.MethodName) prog_17_method_39_code (2 : Nat) (Option.some Jvm.ClassFile.FieldType.boolean)) ∈ lw_all := lw_g (lw_at lw_m7 120 rfl) rfl
theorem q1676 : (Jvm.Cond.methodLink "BeeYardModel" (188 : Nat) ({ cls := "BeeYardModel", name := "stores", desc := "(II)I" } : Jvm.MethodName)) ∈ lw_all := lw_g (lw_at lw_m7 121 rfl) rfl
theorem q1677 : (Jvm.Cond.privateMethod ({ cls := "BeeYardModel", name := "stores", desc := "(II)I" } : Jvm.MethodName)) ∈ lw_tbl := lw_at lw_m7 122 rfl
theorem q1678 : (Jvm.Cond.instanceMethod ({ cls := "BeeYardModel", name := "stores", desc := "(II)I" } : Jvm.MethodName)) ∈ lw_all := lw_g (lw_at lw_m7 123 rfl) rfl
theorem q1679 : (Jvm.Cond.code ({ cls := "BeeYardModel", name := "stores", desc := "(II)I" } : Jvm.MethodName) prog_17_method_55_code (7 : Nat) (Option.some Jvm.ClassFile.FieldType.int)) ∈ lw_all := lw_g (lw_at lw_m7 124 rfl) rfl
theorem q1680 : (Jvm.Cond.methodLink "BeeYardModel" (247 : Nat) ({ cls := "BeeYardModel", name := "laysFrames", desc := "(I)V" } : Jvm.MethodName)) ∈ lw_all := lw_g (lw_at lw_m7 125 rfl) rfl
theorem q1681 : (Jvm.Cond.privateMethod ({ cls := "BeeYardModel", name := "laysFrames", desc := "(I)V" } : Jvm.MethodName)) ∈ lw_tbl := lw_at lw_m7 126 rfl
theorem q1682 : (Jvm.Cond.instanceMethod ({ cls := "BeeYardModel", name := "laysFrames", desc := "(I)V" } : Jvm.MethodName)) ∈ lw_all := lw_g (lw_at lw_m7 127 rfl) rfl
theorem q1683 : (Jvm.Cond.code ({ cls := "BeeYardModel", name := "laysFrames", desc := "(I)V" } : Jvm.MethodName) prog_17_method_53_code (3 : Nat) (Option.none : Option Jvm.ClassFile.FieldType)) ∈ lw_all := lw_g (lw_at lw_m7 128 rfl) rfl
theorem q1684 : (Jvm.Cond.methodLink "BeeYardModel" (244 : Nat) ({ cls := "BeeYardModel", name := "frameOf", desc := "(II)I" } : Jvm.MethodName)) ∈ lw_all := lw_g (lw_at lw_m7 129 rfl) rfl
theorem q1685 : (Jvm.Cond.static ({ cls := "BeeYardModel", name := "frameOf", desc := "(II)I" } : Jvm.MethodName)) ∈ lw_all := lw_g (lw_at lw_m7 130 rfl) rfl
theorem q1686 : (Jvm.Cond.code ({ cls := "BeeYardModel", name := "frameOf", desc := "(II)I" } : Jvm.MethodName) prog_17_method_52_code (5 : Nat) (Option.some Jvm.ClassFile.FieldType.int)) ∈ lw_all := lw_g (lw_at lw_m7 131 rfl) rfl
theorem q1687 : (Jvm.Cond.methodLink "BeeYardModel" (250 : Nat) ({ cls := "BeeYardModel", name := "fieldOf", desc := "(II)I" } : Jvm.MethodName)) ∈ lw_all := lw_g (lw_at lw_m7 132 rfl) rfl
theorem q1688 : (Jvm.Cond.privateMethod ({ cls := "BeeYardModel", name := "fieldOf", desc := "(II)I" } : Jvm.MethodName)) ∈ lw_tbl := lw_at lw_m7 133 rfl
theorem q1689 : (Jvm.Cond.instanceMethod ({ cls := "BeeYardModel", name := "fieldOf", desc := "(II)I" } : Jvm.MethodName)) ∈ lw_all := lw_g (lw_at lw_m7 134 rfl) rfl
theorem q1690 : (Jvm.Cond.code ({ cls := "BeeYardModel", name := "fieldOf", desc := "(II)I" } : Jvm.MethodName) prog_17_method_54_code (3 : Nat) (Option.some Jvm.ClassFile.FieldType.int)) ∈ lw_all := lw_g (lw_at lw_m7 135 rfl) rfl
theorem q1691 : (Jvm.Cond.methodLink "BeeYardModel" (198 : Nat) ({ cls := "BeeYardModel", name := "aDrone", desc := "()Z" } : Jvm.MethodName)) ∈ lw_all := lw_g (lw_at lw_m7 136 rfl) rfl
theorem q1692 : (Jvm.Cond.privateMethod ({ cls := "BeeYardModel", name := "aDrone", desc := "()Z" } : Jvm.MethodName)) ∈ lw_tbl := lw_at lw_m7 137 rfl
theorem q1693 : (Jvm.Cond.instanceMethod ({ cls := "BeeYardModel", name := "aDrone", desc := "()Z" } : Jvm.MethodName)) ∈ lw_all := lw_g (lw_at lw_m7 138 rfl) rfl
theorem q1694 : (Jvm.Cond.code ({ cls := "BeeYardModel", name := "aDrone", desc := "()Z" } : Jvm.MethodName) prog_17_method_41_code (2 : Nat) (Option.some Jvm.ClassFile.FieldType.boolean)) ∈ lw_all := lw_g (lw_at lw_m7 139 rfl) rfl
theorem q1695 : (Jvm.Cond.methodLink "BeeYardModel" (191 : Nat) ({ cls := "BeeYardModel", name := "oldOne", desc := "(III)Z" } : Jvm.MethodName)) ∈ lw_all := lw_g (lw_at lw_m7 140 rfl) rfl
theorem q1696 : (Jvm.Cond.privateMethod ({ cls := "BeeYardModel", name := "oldOne", desc := "(III)Z" } : Jvm.MethodName)) ∈ lw_tbl := lw_at lw_m7 141 rfl
theorem q1697 : (Jvm.Cond.instanceMethod ({ cls := "BeeYardModel", name := "oldOne", desc := "(III)Z" } : Jvm.MethodName)) ∈ lw_all := lw_g (lw_at lw_m7 142 rfl) rfl
theorem q1698 : (Jvm.Cond.code ({ cls := "BeeYardModel", name := "oldOne", desc := "(III)Z" } : Jvm.MethodName) prog_17_method_38_code (4 : Nat) (Option.some Jvm.ClassFile.FieldType.boolean)) ∈ lw_all := lw_g (lw_at lw_m7 143 rfl) rfl
theorem q1699 : (Jvm.Cond.methodLink "BeeYardModel" (201 : Nat) ({ cls := "BeeYardModel", name := "aQueen", desc := "()Z" } : Jvm.MethodName)) ∈ lw_all := lw_g (lw_at lw_m7 144 rfl) rfl
theorem q1700 : (Jvm.Cond.privateMethod ({ cls := "BeeYardModel", name := "aQueen", desc := "()Z" } : Jvm.MethodName)) ∈ lw_tbl := lw_at lw_m7 145 rfl
theorem q1701 : (Jvm.Cond.instanceMethod ({ cls := "BeeYardModel", name := "aQueen", desc := "()Z" } : Jvm.MethodName)) ∈ lw_all := lw_g (lw_at lw_m7 146 rfl) rfl
theorem q1702 : (Jvm.Cond.code ({ cls := "BeeYardModel", name := "aQueen", desc := "()Z" } : Jvm.MethodName) prog_17_method_42_code (4 : Nat) (Option.some Jvm.ClassFile.FieldType.boolean)) ∈ lw_all := lw_g (lw_at lw_m7 147 rfl) rfl
theorem q1703 : (Jvm.Cond.methodLink "BeeYardModel" (204 : Nat) ({ cls := "BeeYardModel", name := "wantSign", desc := "(I)Z" } : Jvm.MethodName)) ∈ lw_all := lw_g (lw_at lw_m7 148 rfl) rfl
theorem q1704 : (Jvm.Cond.privateMethod ({ cls := "BeeYardModel", name := "wantSign", desc := "(I)Z" } : Jvm.MethodName)) ∈ lw_tbl := lw_at lw_m7 149 rfl
theorem q1705 : (Jvm.Cond.instanceMethod ({ cls := "BeeYardModel", name := "wantSign", desc := "(I)Z" } : Jvm.MethodName)) ∈ lw_all := lw_g (lw_at lw_m7 150 rfl) rfl
theorem q1706 : (Jvm.Cond.code ({ cls := "BeeYardModel", name := "wantSign", desc := "(I)Z" } : Jvm.MethodName) prog_17_method_29_code (2 : Nat) (Option.some Jvm.ClassFile.FieldType.boolean)) ∈ lw_all := lw_g (lw_at lw_m7 151 rfl) rfl
theorem q1707 : (Jvm.Cond.methodLink "BeeYardModel" (151 : Nat) ({ cls := "BeeYardModel", name := "isSign", desc := "(I)Z" } : Jvm.MethodName)) ∈ lw_all := lw_g (lw_at lw_m7 152 rfl) rfl
theorem q1708 : (Jvm.Cond.privateMethod ({ cls := "BeeYardModel", name := "isSign", desc := "(I)Z" } : Jvm.MethodName)) ∈ lw_tbl := lw_at lw_m7 153 rfl
theorem q1709 : (Jvm.Cond.instanceMethod ({ cls := "BeeYardModel", name := "isSign", desc := "(I)Z" } : Jvm.MethodName)) ∈ lw_all := lw_g (lw_at lw_m7 154 rfl) rfl
theorem q1710 : (Jvm.Cond.code ({ cls := "BeeYardModel", name := "isSign", desc := "(I)Z" } : Jvm.MethodName) prog_17_method_25_code (2 : Nat) (Option.some Jvm.ClassFile.FieldType.boolean)) ∈ lw_all := lw_g (lw_at lw_m7 155 rfl) rfl
theorem q1711 : (Jvm.Cond.methodLink "BeeYardModel" (214 : Nat) ({ cls := "BeeYardModel", name := "taken", desc := "(I)I" } : Jvm.MethodName)) ∈ lw_all := lw_g (lw_at lw_m7 156 rfl) rfl
theorem q1712 : (Jvm.Cond.privateMethod ({ cls := "BeeYardModel", name := "taken", desc := "(I)I" } : Jvm.MethodName)) ∈ lw_tbl := lw_at lw_m7 157 rfl
theorem q1713 : (Jvm.Cond.instanceMethod ({ cls := "BeeYardModel", name := "taken", desc := "(I)I" } : Jvm.MethodName)) ∈ lw_all := lw_g (lw_at lw_m7 158 rfl) rfl
theorem q1714 : (Jvm.Cond.code ({ cls := "BeeYardModel", name := "taken", desc := "(I)I" } : Jvm.MethodName) prog_17_method_36_code (2 : Nat) (Option.some Jvm.ClassFile.FieldType.int)) ∈ lw_all := lw_g (lw_at lw_m7 159 rfl) rfl
theorem q1715 : (Jvm.Cond.methodLink "BeeYardModel" (76 : Nat) ({ cls := "BeeYardModel", name := "gives", desc := "(I)I" } : Jvm.MethodName)) ∈ lw_all := lw_g (lw_at lw_m7 160 rfl) rfl
theorem q1716 : (Jvm.Cond.privateMethod ({ cls := "BeeYardModel", name := "gives", desc := "(I)I" } : Jvm.MethodName)) ∈ lw_tbl := lw_at lw_m7 161 rfl
theorem q1717 : (Jvm.Cond.instanceMethod ({ cls := "BeeYardModel", name := "gives", desc := "(I)I" } : Jvm.MethodName)) ∈ lw_all := lw_g (lw_at lw_m7 162 rfl) rfl
theorem q1718 : (Jvm.Cond.code ({ cls := "BeeYardModel", name := "gives", desc := "(I)I" } : Jvm.MethodName) prog_17_method_8_code (2 : Nat) (Option.some Jvm.ClassFile.FieldType.int)) ∈ lw_all := lw_g (lw_at lw_m7 163 rfl) rfl
theorem q1720 : (Jvm.Cond.instanceMethod ({ cls := "BeeYardModel", name := "season", desc := "(I)I" } : Jvm.MethodName)) ∈ lw_all := lw_g (lw_at lw_m7 165 rfl) rfl
theorem q1721 : (Jvm.Cond.selects "BeeYardModel" ({ cls := "BeeYardModel", name := "season", desc := "(I)I" } : Jvm.MethodName) ({ cls := "BeeYardModel", name := "season", desc := "(I)I" } : Jvm.MethodName)) ∈ lw_all := lw_g (lw_at lw_m7 166 rfl) rfl
theorem q1722 : (Jvm.Cond.code ({ cls := "BeeYardModel", name := "season", desc := "(I)I" } : Jvm.MethodName) prog_17_method_50_code (4 : Nat) (Option.some Jvm.ClassFile.FieldType.int)) ∈ lw_all := lw_g (lw_at lw_m7 167 rfl) rfl
theorem q1723 : (Jvm.Cond.methodLink "BeeYardModel" (238 : Nat) ({ cls := "BeeYardModel", name := "step", desc := "()Z" } : Jvm.MethodName)) ∈ lw_all := lw_g (lw_at lw_m7 168 rfl) rfl
theorem q1724 : (Jvm.Cond.privateMethod ({ cls := "BeeYardModel", name := "step", desc := "()Z" } : Jvm.MethodName)) ∈ lw_tbl := lw_at lw_m7 169 rfl
theorem q1725 : (Jvm.Cond.instanceMethod ({ cls := "BeeYardModel", name := "step", desc := "()Z" } : Jvm.MethodName)) ∈ lw_all := lw_g (lw_at lw_m7 170 rfl) rfl
theorem q1726 : (Jvm.Cond.code ({ cls := "BeeYardModel", name := "step", desc := "()Z" } : Jvm.MethodName) prog_17_method_49_code (6 : Nat) (Option.some Jvm.ClassFile.FieldType.boolean)) ∈ lw_all := lw_g (lw_at lw_m7 171 rfl) rfl
theorem q1727 : (Jvm.Cond.methodLink "BeeYardModel" (235 : Nat) ({ cls := "BeeYardModel", name := "seasonOrder", desc := "(II)Z" } : Jvm.MethodName)) ∈ lw_all := lw_g (lw_at lw_m7 172 rfl) rfl
theorem q1728 : (Jvm.Cond.privateMethod ({ cls := "BeeYardModel", name := "seasonOrder", desc := "(II)Z" } : Jvm.MethodName)) ∈ lw_tbl := lw_at lw_m7 173 rfl
theorem q1729 : (Jvm.Cond.instanceMethod ({ cls := "BeeYardModel", name := "seasonOrder", desc := "(II)Z" } : Jvm.MethodName)) ∈ lw_all := lw_g (lw_at lw_m7 174 rfl) rfl
theorem q1730 : (Jvm.Cond.code ({ cls := "BeeYardModel", name := "seasonOrder", desc := "(II)Z" } : Jvm.MethodName) prog_17_method_48_code (3 : Nat) (Option.some Jvm.ClassFile.FieldType.boolean)) ∈ lw_all := lw_g (lw_at lw_m7 175 rfl) rfl
theorem q1731 : (Jvm.Cond.methodLink "BeeYardModel" (220 : Nat) ({ cls := "BeeYardModel", name := "hiveTo", desc := "(I)Z" } : Jvm.MethodName)) ∈ lw_all := lw_g (lw_at lw_m7 176 rfl) rfl
theorem q1732 : (Jvm.Cond.privateMethod ({ cls := "BeeYardModel", name := "hiveTo", desc := "(I)Z" } : Jvm.MethodName)) ∈ lw_tbl := lw_at lw_m7 177 rfl
theorem q1733 : (Jvm.Cond.instanceMethod ({ cls := "BeeYardModel", name := "hiveTo", desc := "(I)Z" } : Jvm.MethodName)) ∈ lw_all := lw_g (lw_at lw_m7 178 rfl) rfl
theorem q1734 : (Jvm.Cond.code ({ cls := "BeeYardModel", name := "hiveTo", desc := "(I)Z" } : Jvm.MethodName) prog_17_method_45_code (2 : Nat) (Option.some Jvm.ClassFile.FieldType.boolean)) ∈ lw_all := lw_g (lw_at lw_m7 179 rfl) rfl
theorem q1735 : (Jvm.Cond.methodLink "BeeYardModel" (223 : Nat) ({ cls := "BeeYardModel", name := "frameTo", desc := "(II)Z" } : Jvm.MethodName)) ∈ lw_all := lw_g (lw_at lw_m7 180 rfl) rfl
theorem q1736 : (Jvm.Cond.privateMethod ({ cls := "BeeYardModel", name := "frameTo", desc := "(II)Z" } : Jvm.MethodName)) ∈ lw_tbl := lw_at lw_m7 181 rfl
theorem q1737 : (Jvm.Cond.instanceMethod ({ cls := "BeeYardModel", name := "frameTo", desc := "(II)Z" } : Jvm.MethodName)) ∈ lw_all := lw_g (lw_at lw_m7 182 rfl) rfl
theorem q1738 : (Jvm.Cond.code ({ cls := "BeeYardModel", name := "frameTo", desc := "(II)Z" } : Jvm.MethodName) prog_17_method_46_code (3 : Nat) (Option.some Jvm.ClassFile.FieldType.boolean)) ∈ lw_all := lw_g (lw_at lw_m7 183 rfl) rfl
theorem q1739 : (Jvm.Cond.methodLink "BeeYardModel" (217 : Nat) ({ cls := "BeeYardModel", name := "hiveRow", desc := "(I)I" } : Jvm.MethodName)) ∈ lw_all := lw_g (lw_at lw_m7 184 rfl) rfl
theorem q1740 : (Jvm.Cond.static ({ cls := "BeeYardModel", name := "hiveRow", desc := "(I)I" } : Jvm.MethodName)) ∈ lw_all := lw_g (lw_at lw_m7 185 rfl) rfl
theorem q1741 : (Jvm.Cond.code ({ cls := "BeeYardModel", name := "hiveRow", desc := "(I)I" } : Jvm.MethodName) prog_17_method_51_code (1 : Nat) (Option.some Jvm.ClassFile.FieldType.int)) ∈ lw_all := lw_g (lw_at lw_m7 186 rfl) rfl
theorem q1742 : (Jvm.Cond.methodLink "BeeYardModel" (226 : Nat) ({ cls := "BeeYardModel", name := "test", desc := "(I)Z" } : Jvm.MethodName)) ∈ lw_all := lw_g (lw_at lw_m7 187 rfl) rfl
theorem q1743 : (Jvm.Cond.privateMethod ({ cls := "BeeYardModel", name := "test", desc := "(I)Z" } : Jvm.MethodName)) ∈ lw_tbl := lw_at lw_m7 188 rfl
theorem q1744 : (Jvm.Cond.instanceMethod ({ cls := "BeeYardModel", name := "test", desc := "(I)Z" } : Jvm.MethodName)) ∈ lw_all := lw_g (lw_at lw_m7 189 rfl) rfl
theorem q1745 : (Jvm.Cond.code ({ cls := "BeeYardModel", name := "test", desc := "(I)Z" } : Jvm.MethodName) prog_17_method_47_code (3 : Nat) (Option.some Jvm.ClassFile.FieldType.boolean)) ∈ lw_all := lw_g (lw_at lw_m7 190 rfl) rfl
theorem q1747 : (Jvm.Cond.instanceMethod ({ cls := "BeeYardModel", name := "told", desc := "(I)I" } : Jvm.MethodName)) ∈ lw_all := lw_g (lw_at lw_m7 192 rfl) rfl
theorem q1748 : (Jvm.Cond.selects "BeeYardModel" ({ cls := "BeeYardModel", name := "told", desc := "(I)I" } : Jvm.MethodName) ({ cls := "BeeYardModel", name := "told", desc := "(I)I" } : Jvm.MethodName)) ∈ lw_all := lw_g (lw_at lw_m7 193 rfl) rfl
theorem q1749 : (Jvm.Cond.code ({ cls := "BeeYardModel", name := "told", desc := "(I)I" } : Jvm.MethodName) prog_17_method_63_code (2 : Nat) (Option.some Jvm.ClassFile.FieldType.int)) ∈ lw_all := lw_g (lw_at lw_m7 194 rfl) rfl
theorem q1751 : (Jvm.Cond.instanceMethod ({ cls := "BeeYardModel", name := "hive", desc := "(II)I" } : Jvm.MethodName)) ∈ lw_all := lw_g (lw_at lw_m7 196 rfl) rfl
theorem q1752 : (Jvm.Cond.selects "BeeYardModel" ({ cls := "BeeYardModel", name := "hive", desc := "(II)I" } : Jvm.MethodName) ({ cls := "BeeYardModel", name := "hive", desc := "(II)I" } : Jvm.MethodName)) ∈ lw_all := lw_g (lw_at lw_m7 197 rfl) rfl
theorem q1753 : (Jvm.Cond.code ({ cls := "BeeYardModel", name := "hive", desc := "(II)I" } : Jvm.MethodName) prog_17_method_65_code (4 : Nat) (Option.some Jvm.ClassFile.FieldType.int)) ∈ lw_all := lw_g (lw_at lw_m7 198 rfl) rfl
theorem q1754 : (Jvm.Cond.methodLink "BeeYardModel" (274 : Nat) ({ cls := "BeeYardModel", name := "isHive", desc := "(I)Z" } : Jvm.MethodName)) ∈ lw_all := lw_g (lw_at lw_m7 199 rfl) rfl
theorem q1755 : (Jvm.Cond.privateMethod ({ cls := "BeeYardModel", name := "isHive", desc := "(I)Z" } : Jvm.MethodName)) ∈ lw_tbl := lw_at lw_m7 200 rfl
theorem q1756 : (Jvm.Cond.instanceMethod ({ cls := "BeeYardModel", name := "isHive", desc := "(I)Z" } : Jvm.MethodName)) ∈ lw_all := lw_g (lw_at lw_m7 201 rfl) rfl
theorem q1757 : (Jvm.Cond.code ({ cls := "BeeYardModel", name := "isHive", desc := "(I)Z" } : Jvm.MethodName) prog_17_method_59_code (2 : Nat) (Option.some Jvm.ClassFile.FieldType.boolean)) ∈ lw_all := lw_g (lw_at lw_m7 202 rfl) rfl
theorem q1758 : (Jvm.Cond.methodLink "BeeYardModel" (280 : Nat) ({ cls := "BeeYardModel", name := "orNone", desc := "(I)I" } : Jvm.MethodName)) ∈ lw_all := lw_g (lw_at lw_m7 203 rfl) rfl
theorem q1759 : (Jvm.Cond.privateMethod ({ cls := "BeeYardModel", name := "orNone", desc := "(I)I" } : Jvm.MethodName)) ∈ lw_tbl := lw_at lw_m7 204 rfl
theorem q1760 : (Jvm.Cond.instanceMethod ({ cls := "BeeYardModel", name := "orNone", desc := "(I)I" } : Jvm.MethodName)) ∈ lw_all := lw_g (lw_at lw_m7 205 rfl) rfl
theorem q1761 : (Jvm.Cond.code ({ cls := "BeeYardModel", name := "orNone", desc := "(I)I" } : Jvm.MethodName) prog_17_method_9_code (2 : Nat) (Option.some Jvm.ClassFile.FieldType.int)) ∈ lw_all := lw_g (lw_at lw_m7 206 rfl) rfl
theorem q1762 : (Jvm.Cond.methodLink "BeeYardModel" (283 : Nat) ({ cls := "BeeYardModel", name := "sumOf", desc := "(II)I" } : Jvm.MethodName)) ∈ lw_all := lw_g (lw_at lw_m7 207 rfl) rfl
theorem q1763 : (Jvm.Cond.privateMethod ({ cls := "BeeYardModel", name := "sumOf", desc := "(II)I" } : Jvm.MethodName)) ∈ lw_tbl := lw_at lw_m7 208 rfl
theorem q1764 : (Jvm.Cond.instanceMethod ({ cls := "BeeYardModel", name := "sumOf", desc := "(II)I" } : Jvm.MethodName)) ∈ lw_all := lw_g (lw_at lw_m7 209 rfl) rfl
theorem q1765 : (Jvm.Cond.code ({ cls := "BeeYardModel", name := "sumOf", desc := "(II)I" } : Jvm.MethodName) prog_17_method_64_code (5 : Nat) (Option.some Jvm.ClassFile.FieldType.int)) ∈ lw_all := lw_g (lw_at lw_m7 210 rfl) rfl
theorem q1767 : (Jvm.Cond.instanceMethod ({ cls := "BeeYardModel", name := "line", desc := "(II)I" } : Jvm.MethodName)) ∈ lw_all := lw_g (lw_at lw_m7 212 rfl) rfl
theorem q1768 : (Jvm.Cond.selects "BeeYardModel" ({ cls := "BeeYardModel", name := "line", desc := "(II)I" } : Jvm.MethodName) ({ cls := "BeeYardModel", name := "line", desc := "(II)I" } : Jvm.MethodName)) ∈ lw_all := lw_g (lw_at lw_m7 213 rfl) rfl
theorem q1769 : (Jvm.Cond.code ({ cls := "BeeYardModel", name := "line", desc := "(II)I" } : Jvm.MethodName) prog_17_method_69_code (3 : Nat) (Option.some Jvm.ClassFile.FieldType.int)) ∈ lw_all := lw_g (lw_at lw_m7 214 rfl) rfl
theorem q1770 : (Jvm.Cond.methodLink "BeeYardModel" (286 : Nat) ({ cls := "BeeYardModel", name := "isOne", desc := "(I)Z" } : Jvm.MethodName)) ∈ lw_all := lw_g (lw_at lw_m7 215 rfl) rfl
theorem q1771 : (Jvm.Cond.privateMethod ({ cls := "BeeYardModel", name := "isOne", desc := "(I)Z" } : Jvm.MethodName)) ∈ lw_tbl := lw_at lw_m7 216 rfl
theorem q1772 : (Jvm.Cond.instanceMethod ({ cls := "BeeYardModel", name := "isOne", desc := "(I)Z" } : Jvm.MethodName)) ∈ lw_all := lw_g (lw_at lw_m7 217 rfl) rfl
theorem q1773 : (Jvm.Cond.code ({ cls := "BeeYardModel", name := "isOne", desc := "(I)Z" } : Jvm.MethodName) prog_17_method_62_code (2 : Nat) (Option.some Jvm.ClassFile.FieldType.boolean)) ∈ lw_all := lw_g (lw_at lw_m7 218 rfl) rfl
theorem q1774 : (Jvm.Cond.methodLink "BeeYardModel" (277 : Nat) ({ cls := "BeeYardModel", name := "isQueen", desc := "(I)Z" } : Jvm.MethodName)) ∈ lw_all := lw_g (lw_at lw_m7 219 rfl) rfl
theorem q1775 : (Jvm.Cond.privateMethod ({ cls := "BeeYardModel", name := "isQueen", desc := "(I)Z" } : Jvm.MethodName)) ∈ lw_tbl := lw_at lw_m7 220 rfl
theorem q1776 : (Jvm.Cond.instanceMethod ({ cls := "BeeYardModel", name := "isQueen", desc := "(I)Z" } : Jvm.MethodName)) ∈ lw_all := lw_g (lw_at lw_m7 221 rfl) rfl
theorem q1777 : (Jvm.Cond.code ({ cls := "BeeYardModel", name := "isQueen", desc := "(I)Z" } : Jvm.MethodName) prog_17_method_61_code (2 : Nat) (Option.some Jvm.ClassFile.FieldType.boolean)) ∈ lw_all := lw_g (lw_at lw_m7 222 rfl) rfl
theorem q1778 : (Jvm.Cond.methodLink "BeeYardModel" (289 : Nat) ({ cls := "BeeYardModel", name := "motherOf", desc := "(I)I" } : Jvm.MethodName)) ∈ lw_all := lw_g (lw_at lw_m7 223 rfl) rfl
theorem q1779 : (Jvm.Cond.privateMethod ({ cls := "BeeYardModel", name := "motherOf", desc := "(I)I" } : Jvm.MethodName)) ∈ lw_tbl := lw_at lw_m7 224 rfl
theorem q1780 : (Jvm.Cond.instanceMethod ({ cls := "BeeYardModel", name := "motherOf", desc := "(I)I" } : Jvm.MethodName)) ∈ lw_all := lw_g (lw_at lw_m7 225 rfl) rfl
theorem q1781 : (Jvm.Cond.code ({ cls := "BeeYardModel", name := "motherOf", desc := "(I)I" } : Jvm.MethodName) prog_17_method_66_code (2 : Nat) (Option.some Jvm.ClassFile.FieldType.int)) ∈ lw_all := lw_g (lw_at lw_m7 226 rfl) rfl
theorem q1782 : (Jvm.Cond.methodLink "BeeYardModel" (292 : Nat) ({ cls := "BeeYardModel", name := "fatherOf", desc := "(I)I" } : Jvm.MethodName)) ∈ lw_all := lw_g (lw_at lw_m7 227 rfl) rfl
theorem q1783 : (Jvm.Cond.privateMethod ({ cls := "BeeYardModel", name := "fatherOf", desc := "(I)I" } : Jvm.MethodName)) ∈ lw_tbl := lw_at lw_m7 228 rfl
theorem q1784 : (Jvm.Cond.instanceMethod ({ cls := "BeeYardModel", name := "fatherOf", desc := "(I)I" } : Jvm.MethodName)) ∈ lw_all := lw_g (lw_at lw_m7 229 rfl) rfl
theorem q1785 : (Jvm.Cond.code ({ cls := "BeeYardModel", name := "fatherOf", desc := "(I)I" } : Jvm.MethodName) prog_17_method_67_code (2 : Nat) (Option.some Jvm.ClassFile.FieldType.int)) ∈ lw_all := lw_g (lw_at lw_m7 230 rfl) rfl
theorem q1786 : (Jvm.Cond.methodLink "BeeYardModel" (295 : Nat) ({ cls := "BeeYardModel", name := "hiveOf", desc := "(I)I" } : Jvm.MethodName)) ∈ lw_all := lw_g (lw_at lw_m7 231 rfl) rfl
theorem q1787 : (Jvm.Cond.privateMethod ({ cls := "BeeYardModel", name := "hiveOf", desc := "(I)I" } : Jvm.MethodName)) ∈ lw_tbl := lw_at lw_m7 232 rfl
theorem q1788 : (Jvm.Cond.instanceMethod ({ cls := "BeeYardModel", name := "hiveOf", desc := "(I)I" } : Jvm.MethodName)) ∈ lw_all := lw_g (lw_at lw_m7 233 rfl) rfl
theorem q1789 : (Jvm.Cond.code ({ cls := "BeeYardModel", name := "hiveOf", desc := "(I)I" } : Jvm.MethodName) prog_17_method_68_code (3 : Nat) (Option.some Jvm.ClassFile.FieldType.int)) ∈ lw_all := lw_g (lw_at lw_m7 234 rfl) rfl
theorem q1791 : (Jvm.Cond.instanceMethod ({ cls := "BeeYardModel", name := "fieldAt", desc := "(III)I" } : Jvm.MethodName)) ∈ lw_all := lw_g (lw_at lw_m7 236 rfl) rfl
theorem q1792 : (Jvm.Cond.selects "BeeYardModel" ({ cls := "BeeYardModel", name := "fieldAt", desc := "(III)I" } : Jvm.MethodName) ({ cls := "BeeYardModel", name := "fieldAt", desc := "(III)I" } : Jvm.MethodName)) ∈ lw_all := lw_g (lw_at lw_m7 237 rfl) rfl
theorem q1793 : (Jvm.Cond.code ({ cls := "BeeYardModel", name := "fieldAt", desc := "(III)I" } : Jvm.MethodName) prog_17_method_70_code (4 : Nat) (Option.some Jvm.ClassFile.FieldType.int)) ∈ lw_all := lw_g (lw_at lw_m7 238 rfl) rfl
theorem q1794 : (Jvm.Cond.methodLink "BeeYardModel" (298 : Nat) ({ cls := "BeeYardModel", name := "isFrame", desc := "(II)Z" } : Jvm.MethodName)) ∈ lw_all := lw_g (lw_at lw_m7 239 rfl) rfl
theorem q1795 : (Jvm.Cond.privateMethod ({ cls := "BeeYardModel", name := "isFrame", desc := "(II)Z" } : Jvm.MethodName)) ∈ lw_tbl := lw_at lw_m8 0 rfl
theorem q1796 : (Jvm.Cond.instanceMethod ({ cls := "BeeYardModel", name := "isFrame", desc := "(II)Z" } : Jvm.MethodName)) ∈ lw_all := lw_g (lw_at lw_m8 1 rfl) rfl
theorem q1797 : (Jvm.Cond.code ({ cls := "BeeYardModel", name := "isFrame", desc := "(II)Z" } : Jvm.MethodName) prog_17_method_60_code (3 : Nat) (Option.some Jvm.ClassFile.FieldType.boolean)) ∈ lw_all := lw_g (lw_at lw_m8 2 rfl) rfl
theorem q1799 : (Jvm.Cond.instanceMethod ({ cls := "BeeYardModel", name := "order", desc := "(II)I" } : Jvm.MethodName)) ∈ lw_all := lw_g (lw_at lw_m8 4 rfl) rfl
theorem q1800 : (Jvm.Cond.selects "BeeYardModel" ({ cls := "BeeYardModel", name := "order", desc := "(II)I" } : Jvm.MethodName) ({ cls := "BeeYardModel", name := "order", desc := "(II)I" } : Jvm.MethodName)) ∈ lw_all := lw_g (lw_at lw_m8 5 rfl) rfl
theorem q1801 : (Jvm.Cond.code ({ cls := "BeeYardModel", name := "order", desc := "(II)I" } : Jvm.MethodName) prog_17_method_71_code (3 : Nat) (Option.some Jvm.ClassFile.FieldType.int)) ∈ lw_all := lw_g (lw_at lw_m8 6 rfl) rfl
theorem q1803 : (Jvm.Cond.instanceMethod ({ cls := "BeeYardModel", name := "copyOut", desc := "(III)I" } : Jvm.MethodName)) ∈ lw_all := lw_g (lw_at lw_m8 8 rfl) rfl
theorem q1804 : (Jvm.Cond.selects "BeeYardModel" ({ cls := "BeeYardModel", name := "copyOut", desc := "(III)I" } : Jvm.MethodName) ({ cls := "BeeYardModel", name := "copyOut", desc := "(III)I" } : Jvm.MethodName)) ∈ lw_all := lw_g (lw_at lw_m8 9 rfl) rfl
theorem q1805 : (Jvm.Cond.code ({ cls := "BeeYardModel", name := "copyOut", desc := "(III)I" } : Jvm.MethodName) prog_17_method_73_code (5 : Nat) (Option.some Jvm.ClassFile.FieldType.int)) ∈ lw_all := lw_g (lw_at lw_m8 10 rfl) rfl
theorem q1806 : (Jvm.Cond.methodLink "BeeYardModel" (301 : Nat) ({ cls := "BeeYardModel", name := "frameRow", desc := "(II)I" } : Jvm.MethodName)) ∈ lw_all := lw_g (lw_at lw_m8 11 rfl) rfl
theorem q1807 : (Jvm.Cond.privateMethod ({ cls := "BeeYardModel", name := "frameRow", desc := "(II)I" } : Jvm.MethodName)) ∈ lw_tbl := lw_at lw_m8 12 rfl
theorem q1808 : (Jvm.Cond.instanceMethod ({ cls := "BeeYardModel", name := "frameRow", desc := "(II)I" } : Jvm.MethodName)) ∈ lw_all := lw_g (lw_at lw_m8 13 rfl) rfl
theorem q1809 : (Jvm.Cond.code ({ cls := "BeeYardModel", name := "frameRow", desc := "(II)I" } : Jvm.MethodName) prog_17_method_72_code (3 : Nat) (Option.some Jvm.ClassFile.FieldType.int)) ∈ lw_all := lw_g (lw_at lw_m8 14 rfl) rfl
theorem q1811 : (Jvm.Cond.instanceMethod ({ cls := "BeeYardModel", name := "copyIn", desc := "(III)I" } : Jvm.MethodName)) ∈ lw_all := lw_g (lw_at lw_m8 16 rfl) rfl
theorem q1812 : (Jvm.Cond.selects "BeeYardModel" ({ cls := "BeeYardModel", name := "copyIn", desc := "(III)I" } : Jvm.MethodName) ({ cls := "BeeYardModel", name := "copyIn", desc := "(III)I" } : Jvm.MethodName)) ∈ lw_all := lw_g (lw_at lw_m8 17 rfl) rfl
theorem q1813 : (Jvm.Cond.code ({ cls := "BeeYardModel", name := "copyIn", desc := "(III)I" } : Jvm.MethodName) prog_17_method_74_code (6 : Nat) (Option.some Jvm.ClassFile.FieldType.int)) ∈ lw_all := lw_g (lw_at lw_m8 18 rfl) rfl
theorem q1814 : (Jvm.Cond.constantLong "BeeYardModel" (304 : Nat) (121 : Int64)) ∈ lw_all := lw_g (lw_at lw_m8 19 rfl) rfl
theorem q1815 : (Jvm.Cond.methodLink "BeeYardModel" (306 : Nat) ({ cls := "BeeYardModel", name := "isFrom", desc := "(JJJ)Z" } : Jvm.MethodName)) ∈ lw_all := lw_g (lw_at lw_m8 20 rfl) rfl
theorem q1816 : (Jvm.Cond.static ({ cls := "BeeYardModel", name := "isFrom", desc := "(JJJ)Z" } : Jvm.MethodName)) ∈ lw_all := lw_g (lw_at lw_m8 21 rfl) rfl
theorem q1817 : (Jvm.Cond.code ({ cls := "BeeYardModel", name := "isFrom", desc := "(JJJ)Z" } : Jvm.MethodName) prog_17_method_18_code (6 : Nat) (Option.some Jvm.ClassFile.FieldType.boolean)) ∈ lw_all := lw_g (lw_at lw_m8 22 rfl) rfl
theorem q1819 : (Jvm.Cond.instanceMethod ({ cls := "BeeYardModel", name := "days", desc := "(I)I" } : Jvm.MethodName)) ∈ lw_all := lw_g (lw_at lw_m8 24 rfl) rfl
theorem q1820 : (Jvm.Cond.selects "BeeYardModel" ({ cls := "BeeYardModel", name := "days", desc := "(I)I" } : Jvm.MethodName) ({ cls := "BeeYardModel", name := "days", desc := "(I)I" } : Jvm.MethodName)) ∈ lw_all := lw_g (lw_at lw_m8 25 rfl) rfl
theorem q1821 : (Jvm.Cond.code ({ cls := "BeeYardModel", name := "days", desc := "(I)I" } : Jvm.MethodName) prog_17_method_75_code (3 : Nat) (Option.some Jvm.ClassFile.FieldType.int)) ∈ lw_all := lw_g (lw_at lw_m8 26 rfl) rfl
theorem q1822 : (Jvm.Cond.constantLong "BeeYardModel" (310 : Nat) (60 : Int64)) ∈ lw_all := lw_g (lw_at lw_m8 27 rfl) rfl
theorem q1823 : (Jvm.Cond.methodLink "BeeYardModel" (312 : Nat) ({ cls := "BeeYardModel", name := "passes", desc := "()V" } : Jvm.MethodName)) ∈ lw_all := lw_g (lw_at lw_m8 28 rfl) rfl
theorem q1824 : (Jvm.Cond.privateMethod ({ cls := "BeeYardModel", name := "passes", desc := "()V" } : Jvm.MethodName)) ∈ lw_tbl := lw_at lw_m8 29 rfl
theorem q1825 : (Jvm.Cond.instanceMethod ({ cls := "BeeYardModel", name := "passes", desc := "()V" } : Jvm.MethodName)) ∈ lw_all := lw_g (lw_at lw_m8 30 rfl) rfl
theorem q1826 : (Jvm.Cond.code ({ cls := "BeeYardModel", name := "passes", desc := "()V" } : Jvm.MethodName) prog_17_method_58_code (2 : Nat) (Option.none : Option Jvm.ClassFile.FieldType)) ∈ lw_all := lw_g (lw_at lw_m8 31 rfl) rfl
theorem q1827 : (Jvm.Cond.methodLink "BeeYardModel" (267 : Nat) ({ cls := "BeeYardModel", name := "laysIn", desc := "(I)I" } : Jvm.MethodName)) ∈ lw_all := lw_g (lw_at lw_m8 32 rfl) rfl
theorem q1828 : (Jvm.Cond.privateMethod ({ cls := "BeeYardModel", name := "laysIn", desc := "(I)I" } : Jvm.MethodName)) ∈ lw_tbl := lw_at lw_m8 33 rfl
theorem q1829 : (Jvm.Cond.instanceMethod ({ cls := "BeeYardModel", name := "laysIn", desc := "(I)I" } : Jvm.MethodName)) ∈ lw_all := lw_g (lw_at lw_m8 34 rfl) rfl
theorem q1830 : (Jvm.Cond.code ({ cls := "BeeYardModel", name := "laysIn", desc := "(I)I" } : Jvm.MethodName) prog_17_method_57_code (3 : Nat) (Option.some Jvm.ClassFile.FieldType.int)) ∈ lw_all := lw_g (lw_at lw_m8 35 rfl) rfl
theorem q1831 : (Jvm.Cond.methodLink "BeeYardModel" (270 : Nat) ({ cls := "BeeYardModel", name := "dayOf", desc := "(II)V" } : Jvm.MethodName)) ∈ lw_all := lw_g (lw_at lw_m8 36 rfl) rfl
theorem q1832 : (Jvm.Cond.privateMethod ({ cls := "BeeYardModel", name := "dayOf", desc := "(II)V" } : Jvm.MethodName)) ∈ lw_tbl := lw_at lw_m8 37 rfl
theorem q1833 : (Jvm.Cond.instanceMethod ({ cls := "BeeYardModel", name := "dayOf", desc := "(II)V" } : Jvm.MethodName)) ∈ lw_all := lw_g (lw_at lw_m8 38 rfl) rfl
theorem q1834 : (Jvm.Cond.code ({ cls := "BeeYardModel", name := "dayOf", desc := "(II)V" } : Jvm.MethodName) prog_17_method_56_code (9 : Nat) (Option.none : Option Jvm.ClassFile.FieldType)) ∈ lw_all := lw_g (lw_at lw_m8 39 rfl) rfl
theorem q1835 : (Jvm.Cond.constantLong "BeeYardModel" (259 : Nat) (10 : Int64)) ∈ lw_all := lw_g (lw_at lw_m8 40 rfl) rfl
theorem q1836 : (Jvm.Cond.methodLink "BeeYardModel" (261 : Nat) ({ cls := "java/lang/Math", name := "min", desc := "(JJ)J" } : Jvm.MethodName)) ∈ lw_all := lw_g (lw_at lw_m8 41 rfl) rfl
theorem q1840 : (Jvm.Cond.instanceMethod ({ cls := "BeeYardModel", name := "bring", desc := "(II)I" } : Jvm.MethodName)) ∈ lw_all := lw_g (lw_at lw_m8 45 rfl) rfl
theorem q1841 : (Jvm.Cond.selects "BeeYardModel" ({ cls := "BeeYardModel", name := "bring", desc := "(II)I" } : Jvm.MethodName) ({ cls := "BeeYardModel", name := "bring", desc := "(II)I" } : Jvm.MethodName)) ∈ lw_all := lw_g (lw_at lw_m8 46 rfl) rfl
theorem q1842 : (Jvm.Cond.code ({ cls := "BeeYardModel", name := "bring", desc := "(II)I" } : Jvm.MethodName) prog_17_method_77_code (3 : Nat) (Option.some Jvm.ClassFile.FieldType.int)) ∈ lw_all := lw_g (lw_at lw_m8 47 rfl) rfl
theorem q1843 : (Jvm.Cond.constantLong "BeeYardModel" (315 : Nat) (9999 : Int64)) ∈ lw_all := lw_g (lw_at lw_m8 48 rfl) rfl
theorem q1844 : (Jvm.Cond.methodLink "BeeYardModel" (317 : Nat) ({ cls := "BeeYardModel", name := "brings", desc := "(II)I" } : Jvm.MethodName)) ∈ lw_all := lw_g (lw_at lw_m8 49 rfl) rfl
theorem q1845 : (Jvm.Cond.privateMethod ({ cls := "BeeYardModel", name := "brings", desc := "(II)I" } : Jvm.MethodName)) ∈ lw_tbl := lw_at lw_m8 50 rfl
theorem q1846 : (Jvm.Cond.instanceMethod ({ cls := "BeeYardModel", name := "brings", desc := "(II)I" } : Jvm.MethodName)) ∈ lw_all := lw_g (lw_at lw_m8 51 rfl) rfl
theorem q1847 : (Jvm.Cond.code ({ cls := "BeeYardModel", name := "brings", desc := "(II)I" } : Jvm.MethodName) prog_17_method_76_code (4 : Nat) (Option.some Jvm.ClassFile.FieldType.int)) ∈ lw_all := lw_g (lw_at lw_m8 52 rfl) rfl
theorem q1849 : (Jvm.Cond.instanceMethod ({ cls := "BeeYardModel", name := "harvest", desc := "(II)I" } : Jvm.MethodName)) ∈ lw_all := lw_g (lw_at lw_m8 54 rfl) rfl
theorem q1850 : (Jvm.Cond.selects "BeeYardModel" ({ cls := "BeeYardModel", name := "harvest", desc := "(II)I" } : Jvm.MethodName) ({ cls := "BeeYardModel", name := "harvest", desc := "(II)I" } : Jvm.MethodName)) ∈ lw_all := lw_g (lw_at lw_m8 55 rfl) rfl
theorem q1851 : (Jvm.Cond.code ({ cls := "BeeYardModel", name := "harvest", desc := "(II)I" } : Jvm.MethodName) prog_17_method_79_code (3 : Nat) (Option.some Jvm.ClassFile.FieldType.int)) ∈ lw_all := lw_g (lw_at lw_m8 56 rfl) rfl
theorem q1852 : (Jvm.Cond.methodLink "BeeYardModel" (320 : Nat) ({ cls := "BeeYardModel", name := "harvests", desc := "(II)I" } : Jvm.MethodName)) ∈ lw_all := lw_g (lw_at lw_m8 57 rfl) rfl
theorem q1853 : (Jvm.Cond.privateMethod ({ cls := "BeeYardModel", name := "harvests", desc := "(II)I" } : Jvm.MethodName)) ∈ lw_tbl := lw_at lw_m8 58 rfl
theorem q1854 : (Jvm.Cond.instanceMethod ({ cls := "BeeYardModel", name := "harvests", desc := "(II)I" } : Jvm.MethodName)) ∈ lw_all := lw_g (lw_at lw_m8 59 rfl) rfl
theorem q1855 : (Jvm.Cond.code ({ cls := "BeeYardModel", name := "harvests", desc := "(II)I" } : Jvm.MethodName) prog_17_method_78_code (6 : Nat) (Option.some Jvm.ClassFile.FieldType.int)) ∈ lw_all := lw_g (lw_at lw_m8 60 rfl) rfl
theorem q1857 : (Jvm.Cond.instanceMethod ({ cls := "BeeYardModel", name := "move", desc := "(IIII)Z" } : Jvm.MethodName)) ∈ lw_all := lw_g (lw_at lw_m8 62 rfl) rfl
theorem q1858 : (Jvm.Cond.selects "BeeYardModel" ({ cls := "BeeYardModel", name := "move", desc := "(IIII)Z" } : Jvm.MethodName) ({ cls := "BeeYardModel", name := "move", desc := "(IIII)Z" } : Jvm.MethodName)) ∈ lw_all := lw_g (lw_at lw_m8 63 rfl) rfl
theorem q1859 : (Jvm.Cond.code ({ cls := "BeeYardModel", name := "move", desc := "(IIII)Z" } : Jvm.MethodName) prog_17_method_82_code (5 : Nat) (Option.some Jvm.ClassFile.FieldType.boolean)) ∈ lw_all := lw_g (lw_at lw_m8 64 rfl) rfl
theorem q1860 : (Jvm.Cond.methodLink "BeeYardModel" (323 : Nat) ({ cls := "BeeYardModel", name := "mayMove", desc := "(IIII)Z" } : Jvm.MethodName)) ∈ lw_all := lw_g (lw_at lw_m8 65 rfl) rfl
theorem q1861 : (Jvm.Cond.privateMethod ({ cls := "BeeYardModel", name := "mayMove", desc := "(IIII)Z" } : Jvm.MethodName)) ∈ lw_tbl := lw_at lw_m8 66 rfl
theorem q1862 : (Jvm.Cond.instanceMethod ({ cls := "BeeYardModel", name := "mayMove", desc := "(IIII)Z" } : Jvm.MethodName)) ∈ lw_all := lw_g (lw_at lw_m8 67 rfl) rfl
theorem q1863 : (Jvm.Cond.code ({ cls := "BeeYardModel", name := "mayMove", desc := "(IIII)Z" } : Jvm.MethodName) prog_17_method_81_code (5 : Nat) (Option.some Jvm.ClassFile.FieldType.boolean)) ∈ lw_all := lw_g (lw_at lw_m8 68 rfl) rfl
theorem q1864 : (Jvm.Cond.methodLink "BeeYardModel" (327 : Nat) ({ cls := "BeeYardModel", name := "moves", desc := "(II)V" } : Jvm.MethodName)) ∈ lw_all := lw_g (lw_at lw_m8 69 rfl) rfl
theorem q1865 : (Jvm.Cond.privateMethod ({ cls := "BeeYardModel", name := "moves", desc := "(II)V" } : Jvm.MethodName)) ∈ lw_tbl := lw_at lw_m8 70 rfl
theorem q1866 : (Jvm.Cond.instanceMethod ({ cls := "BeeYardModel", name := "moves", desc := "(II)V" } : Jvm.MethodName)) ∈ lw_all := lw_g (lw_at lw_m8 71 rfl) rfl
theorem q1867 : (Jvm.Cond.code ({ cls := "BeeYardModel", name := "moves", desc := "(II)V" } : Jvm.MethodName) prog_17_method_80_code (5 : Nat) (Option.none : Option Jvm.ClassFile.FieldType)) ∈ lw_all := lw_g (lw_at lw_m8 72 rfl) rfl
theorem q1869 : (Jvm.Cond.instanceMethod ({ cls := "BeeYardModel", name := "split", desc := "(II)I" } : Jvm.MethodName)) ∈ lw_all := lw_g (lw_at lw_m8 74 rfl) rfl
theorem q1870 : (Jvm.Cond.selects "BeeYardModel" ({ cls := "BeeYardModel", name := "split", desc := "(II)I" } : Jvm.MethodName) ({ cls := "BeeYardModel", name := "split", desc := "(II)I" } : Jvm.MethodName)) ∈ lw_all := lw_g (lw_at lw_m8 75 rfl) rfl
theorem q1871 : (Jvm.Cond.code ({ cls := "BeeYardModel", name := "split", desc := "(II)I" } : Jvm.MethodName) prog_17_method_83_code (6 : Nat) (Option.some Jvm.ClassFile.FieldType.int)) ∈ lw_all := lw_g (lw_at lw_m8 76 rfl) rfl
theorem q1873 : (Jvm.Cond.instanceMethod ({ cls := "BeeYardModel", name := "join", desc := "(II)I" } : Jvm.MethodName)) ∈ lw_all := lw_g (lw_at lw_m8 78 rfl) rfl
theorem q1874 : (Jvm.Cond.selects "BeeYardModel" ({ cls := "BeeYardModel", name := "join", desc := "(II)I" } : Jvm.MethodName) ({ cls := "BeeYardModel", name := "join", desc := "(II)I" } : Jvm.MethodName)) ∈ lw_all := lw_g (lw_at lw_m8 79 rfl) rfl
theorem q1875 : (Jvm.Cond.code ({ cls := "BeeYardModel", name := "join", desc := "(II)I" } : Jvm.MethodName) prog_17_method_84_code (6 : Nat) (Option.some Jvm.ClassFile.FieldType.int)) ∈ lw_all := lw_g (lw_at lw_m8 80 rfl) rfl
theorem q1876 : (Jvm.Cond.constant "BeeYardModel" (330 : Nat) (99999 : Int32)) ∈ lw_all := lw_g (lw_at lw_m8 81 rfl) rfl
theorem q1878 : (Jvm.Cond.instanceMethod ({ cls := "BeeYardModel", name := "seat", desc := "(II)Z" } : Jvm.MethodName)) ∈ lw_all := lw_g (lw_at lw_m8 83 rfl) rfl
theorem q1879 : (Jvm.Cond.selects "BeeYardModel" ({ cls := "BeeYardModel", name := "seat", desc := "(II)Z" } : Jvm.MethodName) ({ cls := "BeeYardModel", name := "seat", desc := "(II)Z" } : Jvm.MethodName)) ∈ lw_all := lw_g (lw_at lw_m8 84 rfl) rfl
theorem q1880 : (Jvm.Cond.code ({ cls := "BeeYardModel", name := "seat", desc := "(II)Z" } : Jvm.MethodName) prog_17_method_86_code (3 : Nat) (Option.some Jvm.ClassFile.FieldType.boolean)) ∈ lw_all := lw_g (lw_at lw_m8 85 rfl) rfl
theorem q1881 : (Jvm.Cond.methodLink "BeeYardModel" (331 : Nat) ({ cls := "BeeYardModel", name := "maySeat", desc := "(II)Z" } : Jvm.MethodName)) ∈ lw_all := lw_g (lw_at lw_m8 86 rfl) rfl
theorem q1882 : (Jvm.Cond.privateMethod ({ cls := "BeeYardModel", name := "maySeat", desc := "(II)Z" } : Jvm.MethodName)) ∈ lw_tbl := lw_at lw_m8 87 rfl
theorem q1883 : (Jvm.Cond.instanceMethod ({ cls := "BeeYardModel", name := "maySeat", desc := "(II)Z" } : Jvm.MethodName)) ∈ lw_all := lw_g (lw_at lw_m8 88 rfl) rfl
theorem q1884 : (Jvm.Cond.code ({ cls := "BeeYardModel", name := "maySeat", desc := "(II)Z" } : Jvm.MethodName) prog_17_method_85_code (3 : Nat) (Option.some Jvm.ClassFile.FieldType.boolean)) ∈ lw_all := lw_g (lw_at lw_m8 89 rfl) rfl
theorem q1886 : (Jvm.Cond.instanceMethod ({ cls := "BeeYardModel", name := "crowded", desc := "(I)I" } : Jvm.MethodName)) ∈ lw_all := lw_g (lw_at lw_m8 91 rfl) rfl
theorem q1887 : (Jvm.Cond.selects "BeeYardModel" ({ cls := "BeeYardModel", name := "crowded", desc := "(I)I" } : Jvm.MethodName) ({ cls := "BeeYardModel", name := "crowded", desc := "(I)I" } : Jvm.MethodName)) ∈ lw_all := lw_g (lw_at lw_m8 92 rfl) rfl
theorem q1888 : (Jvm.Cond.code ({ cls := "BeeYardModel", name := "crowded", desc := "(I)I" } : Jvm.MethodName) prog_17_method_88_code (2 : Nat) (Option.some Jvm.ClassFile.FieldType.int)) ∈ lw_all := lw_g (lw_at lw_m8 93 rfl) rfl
theorem q1889 : (Jvm.Cond.methodLink "BeeYardModel" (334 : Nat) ({ cls := "BeeYardModel", name := "isCrowded", desc := "(I)Z" } : Jvm.MethodName)) ∈ lw_all := lw_g (lw_at lw_m8 94 rfl) rfl
theorem q1890 : (Jvm.Cond.privateMethod ({ cls := "BeeYardModel", name := "isCrowded", desc := "(I)Z" } : Jvm.MethodName)) ∈ lw_tbl := lw_at lw_m8 95 rfl
theorem q1891 : (Jvm.Cond.instanceMethod ({ cls := "BeeYardModel", name := "isCrowded", desc := "(I)Z" } : Jvm.MethodName)) ∈ lw_all := lw_g (lw_at lw_m8 96 rfl) rfl
theorem q1892 : (Jvm.Cond.code ({ cls := "BeeYardModel", name := "isCrowded", desc := "(I)Z" } : Jvm.MethodName) prog_17_method_87_code (3 : Nat) (Option.some Jvm.ClassFile.FieldType.boolean)) ∈ lw_all := lw_g (lw_at lw_m8 97 rfl) rfl
theorem q1894 : (Jvm.Cond.instanceMethod ({ cls := "BeeYardModel", name := "swarm", desc := "(I)I" } : Jvm.MethodName)) ∈ lw_all := lw_g (lw_at lw_m8 99 rfl) rfl
theorem q1895 : (Jvm.Cond.selects "BeeYardModel" ({ cls := "BeeYardModel", name := "swarm", desc := "(I)I" } : Jvm.MethodName) ({ cls := "BeeYardModel", name := "swarm", desc := "(I)I" } : Jvm.MethodName)) ∈ lw_all := lw_g (lw_at lw_m8 100 rfl) rfl
theorem q1896 : (Jvm.Cond.code ({ cls := "BeeYardModel", name := "swarm", desc := "(I)I" } : Jvm.MethodName) prog_17_method_89_code (3 : Nat) (Option.some Jvm.ClassFile.FieldType.int)) ∈ lw_all := lw_g (lw_at lw_m8 101 rfl) rfl
theorem q1898 : (Jvm.Cond.instanceMethod ({ cls := "BeeYardModel", name := "swarmOut", desc := "(I)I" } : Jvm.MethodName)) ∈ lw_all := lw_g (lw_at lw_m8 103 rfl) rfl
theorem q1899 : (Jvm.Cond.selects "BeeYardModel" ({ cls := "BeeYardModel", name := "swarmOut", desc := "(I)I" } : Jvm.MethodName) ({ cls := "BeeYardModel", name := "swarmOut", desc := "(I)I" } : Jvm.MethodName)) ∈ lw_all := lw_g (lw_at lw_m8 104 rfl) rfl
theorem q1900 : (Jvm.Cond.code ({ cls := "BeeYardModel", name := "swarmOut", desc := "(I)I" } : Jvm.MethodName) prog_17_method_90_code (2 : Nat) (Option.some Jvm.ClassFile.FieldType.int)) ∈ lw_all := lw_g (lw_at lw_m8 105 rfl) rfl
theorem q1902 : (Jvm.Cond.instanceMethod ({ cls := "BeeYardModel", name := "take", desc := "(I)I" } : Jvm.MethodName)) ∈ lw_all := lw_g (lw_at lw_m8 107 rfl) rfl
theorem q1903 : (Jvm.Cond.selects "BeeYardModel" ({ cls := "BeeYardModel", name := "take", desc := "(I)I" } : Jvm.MethodName) ({ cls := "BeeYardModel", name := "take", desc := "(I)I" } : Jvm.MethodName)) ∈ lw_all := lw_g (lw_at lw_m8 108 rfl) rfl
theorem q1904 : (Jvm.Cond.code ({ cls := "BeeYardModel", name := "take", desc := "(I)I" } : Jvm.MethodName) prog_17_method_91_code (3 : Nat) (Option.some Jvm.ClassFile.FieldType.int)) ∈ lw_all := lw_g (lw_at lw_m8 109 rfl) rfl
theorem q1906 : (Jvm.Cond.instanceMethod ({ cls := "BeeYardModel", name := "kin", desc := "(II)Z" } : Jvm.MethodName)) ∈ lw_all := lw_g (lw_at lw_m8 111 rfl) rfl
theorem q1907 : (Jvm.Cond.selects "BeeYardModel" ({ cls := "BeeYardModel", name := "kin", desc := "(II)Z" } : Jvm.MethodName) ({ cls := "BeeYardModel", name := "kin", desc := "(II)Z" } : Jvm.MethodName)) ∈ lw_all := lw_g (lw_at lw_m8 112 rfl) rfl
theorem q1908 : (Jvm.Cond.code ({ cls := "BeeYardModel", name := "kin", desc := "(II)Z" } : Jvm.MethodName) prog_17_method_96_code (3 : Nat) (Option.some Jvm.ClassFile.FieldType.boolean)) ∈ lw_all := lw_g (lw_at lw_m8 113 rfl) rfl
theorem q1909 : (Jvm.Cond.methodLink "BeeYardModel" (351 : Nat) ({ cls := "BeeYardModel", name := "laysKin", desc := "()V" } : Jvm.MethodName)) ∈ lw_all := lw_g (lw_at lw_m8 114 rfl) rfl
theorem q1910 : (Jvm.Cond.privateMethod ({ cls := "BeeYardModel", name := "laysKin", desc := "()V" } : Jvm.MethodName)) ∈ lw_tbl := lw_at lw_m8 115 rfl
theorem q1911 : (Jvm.Cond.instanceMethod ({ cls := "BeeYardModel", name := "laysKin", desc := "()V" } : Jvm.MethodName)) ∈ lw_all := lw_g (lw_at lw_m8 116 rfl) rfl
theorem q1912 : (Jvm.Cond.code ({ cls := "BeeYardModel", name := "laysKin", desc := "()V" } : Jvm.MethodName) prog_17_method_95_code (9 : Nat) (Option.none : Option Jvm.ClassFile.FieldType)) ∈ lw_all := lw_g (lw_at lw_m8 117 rfl) rfl
theorem q1913 : (Jvm.Cond.methodLink "BeeYardModel" (340 : Nat) ({ cls := "BeeYardModel", name := "atTold", desc := "(I)I" } : Jvm.MethodName)) ∈ lw_all := lw_g (lw_at lw_m8 118 rfl) rfl
theorem q1914 : (Jvm.Cond.privateMethod ({ cls := "BeeYardModel", name := "atTold", desc := "(I)I" } : Jvm.MethodName)) ∈ lw_tbl := lw_at lw_m8 119 rfl
theorem q1915 : (Jvm.Cond.instanceMethod ({ cls := "BeeYardModel", name := "atTold", desc := "(I)I" } : Jvm.MethodName)) ∈ lw_all := lw_g (lw_at lw_m8 120 rfl) rfl
theorem q1916 : (Jvm.Cond.code ({ cls := "BeeYardModel", name := "atTold", desc := "(I)I" } : Jvm.MethodName) prog_17_method_93_code (3 : Nat) (Option.some Jvm.ClassFile.FieldType.int)) ∈ lw_all := lw_g (lw_at lw_m8 121 rfl) rfl
theorem q1917 : (Jvm.Cond.methodLink "BeeYardModel" (337 : Nat) ({ cls := "BeeYardModel", name := "toldAs", desc := "(I)I" } : Jvm.MethodName)) ∈ lw_all := lw_g (lw_at lw_m8 122 rfl) rfl
theorem q1918 : (Jvm.Cond.privateMethod ({ cls := "BeeYardModel", name := "toldAs", desc := "(I)I" } : Jvm.MethodName)) ∈ lw_tbl := lw_at lw_m8 123 rfl
theorem q1919 : (Jvm.Cond.instanceMethod ({ cls := "BeeYardModel", name := "toldAs", desc := "(I)I" } : Jvm.MethodName)) ∈ lw_all := lw_g (lw_at lw_m8 124 rfl) rfl
theorem q1920 : (Jvm.Cond.code ({ cls := "BeeYardModel", name := "toldAs", desc := "(I)I" } : Jvm.MethodName) prog_17_method_92_code (2 : Nat) (Option.some Jvm.ClassFile.FieldType.int)) ∈ lw_all := lw_g (lw_at lw_m8 125 rfl) rfl
theorem q1921 : (Jvm.Cond.methodLink "BeeYardModel" (343 : Nat) ({ cls := "BeeYardModel", name := "kinOf", desc := "(II)J" } : Jvm.MethodName)) ∈ lw_all := lw_g (lw_at lw_m8 126 rfl) rfl
theorem q1922 : (Jvm.Cond.privateMethod ({ cls := "BeeYardModel", name := "kinOf", desc := "(II)J" } : Jvm.MethodName)) ∈ lw_tbl := lw_at lw_m8 127 rfl
theorem q1923 : (Jvm.Cond.instanceMethod ({ cls := "BeeYardModel", name := "kinOf", desc := "(II)J" } : Jvm.MethodName)) ∈ lw_all := lw_g (lw_at lw_m8 128 rfl) rfl
theorem q1924 : (Jvm.Cond.code ({ cls := "BeeYardModel", name := "kinOf", desc := "(II)J" } : Jvm.MethodName) prog_17_method_94_code (3 : Nat) (Option.some Jvm.ClassFile.FieldType.long)) ∈ lw_all := lw_g (lw_at lw_m8 129 rfl) rfl
theorem q1925 : (Jvm.Cond.constantLong "BeeYardModel" (347 : Nat) (2 : Int64)) ∈ lw_all := lw_g (lw_at lw_m8 130 rfl) rfl
theorem q1926 : (Jvm.Cond.constantLong "BeeYardModel" (349 : Nat) (68719476736 : Int64)) ∈ lw_all := lw_g (lw_at lw_m8 131 rfl) rfl
theorem q1927 : (Jvm.Cond.methodLink "BeeYardModel" (354 : Nat) ({ cls := "BeeYardModel", name := "tellsBy", desc := "(JJ)Z" } : Jvm.MethodName)) ∈ lw_all := lw_g (lw_at lw_m8 132 rfl) rfl
theorem q1928 : (Jvm.Cond.privateMethod ({ cls := "BeeYardModel", name := "tellsBy", desc := "(JJ)Z" } : Jvm.MethodName)) ∈ lw_tbl := lw_at lw_m8 133 rfl
theorem q1929 : (Jvm.Cond.instanceMethod ({ cls := "BeeYardModel", name := "tellsBy", desc := "(JJ)Z" } : Jvm.MethodName)) ∈ lw_all := lw_g (lw_at lw_m8 134 rfl) rfl
theorem q1930 : (Jvm.Cond.code ({ cls := "BeeYardModel", name := "tellsBy", desc := "(JJ)Z" } : Jvm.MethodName) prog_17_method_10_code (11 : Nat) (Option.some Jvm.ClassFile.FieldType.boolean)) ∈ lw_all := lw_g (lw_at lw_m8 135 rfl) rfl
theorem q1932 : (Jvm.Cond.instanceMethod ({ cls := "BeeYardModel", name := "inbred", desc := "(I)Z" } : Jvm.MethodName)) ∈ lw_all := lw_g (lw_at lw_m8 137 rfl) rfl
theorem q1933 : (Jvm.Cond.selects "BeeYardModel" ({ cls := "BeeYardModel", name := "inbred", desc := "(I)Z" } : Jvm.MethodName) ({ cls := "BeeYardModel", name := "inbred", desc := "(I)Z" } : Jvm.MethodName)) ∈ lw_all := lw_g (lw_at lw_m8 138 rfl) rfl
theorem q1934 : (Jvm.Cond.code ({ cls := "BeeYardModel", name := "inbred", desc := "(I)Z" } : Jvm.MethodName) prog_17_method_97_code (2 : Nat) (Option.some Jvm.ClassFile.FieldType.boolean)) ∈ lw_all := lw_g (lw_at lw_m8 139 rfl) rfl
theorem q1936 : (Jvm.Cond.instanceMethod ({ cls := "BeeYardModel", name := "suitor", desc := "(I)I" } : Jvm.MethodName)) ∈ lw_all := lw_g (lw_at lw_m8 141 rfl) rfl
theorem q1937 : (Jvm.Cond.selects "BeeYardModel" ({ cls := "BeeYardModel", name := "suitor", desc := "(I)I" } : Jvm.MethodName) ({ cls := "BeeYardModel", name := "suitor", desc := "(I)I" } : Jvm.MethodName)) ∈ lw_all := lw_g (lw_at lw_m8 142 rfl) rfl
theorem q1938 : (Jvm.Cond.code ({ cls := "BeeYardModel", name := "suitor", desc := "(I)I" } : Jvm.MethodName) prog_17_method_98_code (4 : Nat) (Option.some Jvm.ClassFile.FieldType.int)) ∈ lw_all := lw_g (lw_at lw_m8 143 rfl) rfl
theorem q1940 : (Jvm.Cond.instanceMethod ({ cls := "BeeYardModel", name := "mothers", desc := "(I)I" } : Jvm.MethodName)) ∈ lw_all := lw_g (lw_at lw_m8 145 rfl) rfl
theorem q1941 : (Jvm.Cond.selects "BeeYardModel" ({ cls := "BeeYardModel", name := "mothers", desc := "(I)I" } : Jvm.MethodName) ({ cls := "BeeYardModel", name := "mothers", desc := "(I)I" } : Jvm.MethodName)) ∈ lw_all := lw_g (lw_at lw_m8 146 rfl) rfl
theorem q1942 : (Jvm.Cond.code ({ cls := "BeeYardModel", name := "mothers", desc := "(I)I" } : Jvm.MethodName) prog_17_method_99_code (4 : Nat) (Option.some Jvm.ClassFile.FieldType.int)) ∈ lw_all := lw_g (lw_at lw_m8 147 rfl) rfl
theorem q1944 : (Jvm.Cond.instanceMethod ({ cls := "BeeYardModel", name := "nearest", desc := "(II)I" } : Jvm.MethodName)) ∈ lw_all := lw_g (lw_at lw_m8 149 rfl) rfl
theorem q1945 : (Jvm.Cond.selects "BeeYardModel" ({ cls := "BeeYardModel", name := "nearest", desc := "(II)I" } : Jvm.MethodName) ({ cls := "BeeYardModel", name := "nearest", desc := "(II)I" } : Jvm.MethodName)) ∈ lw_all := lw_g (lw_at lw_m8 150 rfl) rfl
theorem q1946 : (Jvm.Cond.code ({ cls := "BeeYardModel", name := "nearest", desc := "(II)I" } : Jvm.MethodName) prog_17_method_100_code (5 : Nat) (Option.some Jvm.ClassFile.FieldType.int)) ∈ lw_all := lw_g (lw_at lw_m8 151 rfl) rfl
theorem q1948 : (Jvm.Cond.instanceMethod ({ cls := "BeeYardModel", name := "sisters", desc := "(I)I" } : Jvm.MethodName)) ∈ lw_all := lw_g (lw_at lw_m8 153 rfl) rfl
theorem q1949 : (Jvm.Cond.selects "BeeYardModel" ({ cls := "BeeYardModel", name := "sisters", desc := "(I)I" } : Jvm.MethodName) ({ cls := "BeeYardModel", name := "sisters", desc := "(I)I" } : Jvm.MethodName)) ∈ lw_all := lw_g (lw_at lw_m8 154 rfl) rfl
theorem q1950 : (Jvm.Cond.code ({ cls := "BeeYardModel", name := "sisters", desc := "(I)I" } : Jvm.MethodName) prog_17_method_101_code (4 : Nat) (Option.some Jvm.ClassFile.FieldType.int)) ∈ lw_all := lw_g (lw_at lw_m8 155 rfl) rfl
theorem q1952 : (Jvm.Cond.instanceMethod ({ cls := "BeeYardModel", name := "room", desc := "(I)I" } : Jvm.MethodName)) ∈ lw_all := lw_g (lw_at lw_m8 157 rfl) rfl
theorem q1953 : (Jvm.Cond.selects "BeeYardModel" ({ cls := "BeeYardModel", name := "room", desc := "(I)I" } : Jvm.MethodName) ({ cls := "BeeYardModel", name := "room", desc := "(I)I" } : Jvm.MethodName)) ∈ lw_all := lw_g (lw_at lw_m8 158 rfl) rfl
theorem q1954 : (Jvm.Cond.code ({ cls := "BeeYardModel", name := "room", desc := "(I)I" } : Jvm.MethodName) prog_17_method_102_code (3 : Nat) (Option.some Jvm.ClassFile.FieldType.int)) ∈ lw_all := lw_g (lw_at lw_m8 159 rfl) rfl
theorem q1956 : (Jvm.Cond.instanceMethod ({ cls := "BeeYardModel", name := "richest", desc := "(I)I" } : Jvm.MethodName)) ∈ lw_all := lw_g (lw_at lw_m8 161 rfl) rfl
theorem q1957 : (Jvm.Cond.selects "BeeYardModel" ({ cls := "BeeYardModel", name := "richest", desc := "(I)I" } : Jvm.MethodName) ({ cls := "BeeYardModel", name := "richest", desc := "(I)I" } : Jvm.MethodName)) ∈ lw_all := lw_g (lw_at lw_m8 162 rfl) rfl
theorem q1958 : (Jvm.Cond.code ({ cls := "BeeYardModel", name := "richest", desc := "(I)I" } : Jvm.MethodName) prog_17_method_104_code (4 : Nat) (Option.some Jvm.ClassFile.FieldType.int)) ∈ lw_all := lw_g (lw_at lw_m8 163 rfl) rfl
theorem q1959 : (Jvm.Cond.methodLink "BeeYardModel" (358 : Nat) ({ cls := "BeeYardModel", name := "honeyIn", desc := "(I)I" } : Jvm.MethodName)) ∈ lw_all := lw_g (lw_at lw_m8 164 rfl) rfl
theorem q1960 : (Jvm.Cond.privateMethod ({ cls := "BeeYardModel", name := "honeyIn", desc := "(I)I" } : Jvm.MethodName)) ∈ lw_tbl := lw_at lw_m8 165 rfl
theorem q1961 : (Jvm.Cond.instanceMethod ({ cls := "BeeYardModel", name := "honeyIn", desc := "(I)I" } : Jvm.MethodName)) ∈ lw_all := lw_g (lw_at lw_m8 166 rfl) rfl
theorem q1962 : (Jvm.Cond.code ({ cls := "BeeYardModel", name := "honeyIn", desc := "(I)I" } : Jvm.MethodName) prog_17_method_103_code (4 : Nat) (Option.some Jvm.ClassFile.FieldType.int)) ∈ lw_all := lw_g (lw_at lw_m8 167 rfl) rfl
theorem q1964 : (Jvm.Cond.instanceMethod ({ cls := "BeeYardModel", name := "age", desc := "(II)I" } : Jvm.MethodName)) ∈ lw_all := lw_g (lw_at lw_m8 169 rfl) rfl
theorem q1965 : (Jvm.Cond.selects "BeeYardModel" ({ cls := "BeeYardModel", name := "age", desc := "(II)I" } : Jvm.MethodName) ({ cls := "BeeYardModel", name := "age", desc := "(II)I" } : Jvm.MethodName)) ∈ lw_all := lw_g (lw_at lw_m8 170 rfl) rfl
theorem q1966 : (Jvm.Cond.code ({ cls := "BeeYardModel", name := "age", desc := "(II)I" } : Jvm.MethodName) prog_17_method_105_code (7 : Nat) (Option.some Jvm.ClassFile.FieldType.int)) ∈ lw_all := lw_g (lw_at lw_m8 171 rfl) rfl
theorem q1968 : (Jvm.Cond.instanceMethod ({ cls := "BeeYardModel", name := "coming", desc := "(II)I" } : Jvm.MethodName)) ∈ lw_all := lw_g (lw_at lw_m8 173 rfl) rfl
theorem q1969 : (Jvm.Cond.selects "BeeYardModel" ({ cls := "BeeYardModel", name := "coming", desc := "(II)I" } : Jvm.MethodName) ({ cls := "BeeYardModel", name := "coming", desc := "(II)I" } : Jvm.MethodName)) ∈ lw_all := lw_g (lw_at lw_m8 174 rfl) rfl
theorem q1970 : (Jvm.Cond.code ({ cls := "BeeYardModel", name := "coming", desc := "(II)I" } : Jvm.MethodName) prog_17_method_106_code (6 : Nat) (Option.some Jvm.ClassFile.FieldType.int)) ∈ lw_all := lw_g (lw_at lw_m8 175 rfl) rfl
theorem q1972 : (Jvm.Cond.instanceMethod ({ cls := "BeeYardModel", name := "hungry", desc := "(I)I" } : Jvm.MethodName)) ∈ lw_all := lw_g (lw_at lw_m8 177 rfl) rfl
theorem q1973 : (Jvm.Cond.selects "BeeYardModel" ({ cls := "BeeYardModel", name := "hungry", desc := "(I)I" } : Jvm.MethodName) ({ cls := "BeeYardModel", name := "hungry", desc := "(I)I" } : Jvm.MethodName)) ∈ lw_all := lw_g (lw_at lw_m8 178 rfl) rfl
theorem q1974 : (Jvm.Cond.code ({ cls := "BeeYardModel", name := "hungry", desc := "(I)I" } : Jvm.MethodName) prog_17_method_107_code (3 : Nat) (Option.some Jvm.ClassFile.FieldType.int)) ∈ lw_all := lw_g (lw_at lw_m8 179 rfl) rfl
theorem q1975 : (Jvm.Cond.methodLink "BeeYardModel" (361 : Nat) ({ cls := "BeeYardModel", name := "tries", desc := "(I)V" } : Jvm.MethodName)) ∈ lw_all := lw_g (lw_at lw_m8 180 rfl) rfl
theorem q1976 : (Jvm.Cond.privateMethod ({ cls := "BeeYardModel", name := "tries", desc := "(I)V" } : Jvm.MethodName)) ∈ lw_tbl := lw_at lw_m8 181 rfl
theorem q1977 : (Jvm.Cond.instanceMethod ({ cls := "BeeYardModel", name := "tries", desc := "(I)V" } : Jvm.MethodName)) ∈ lw_all := lw_g (lw_at lw_m8 182 rfl) rfl
theorem q1978 : (Jvm.Cond.code ({ cls := "BeeYardModel", name := "tries", desc := "(I)V" } : Jvm.MethodName) prog_17_method_117_code (3 : Nat) (Option.none : Option Jvm.ClassFile.FieldType)) ∈ lw_all := lw_g (lw_at lw_m8 183 rfl) rfl
theorem q1980 : (Jvm.Cond.instanceMethod ({ cls := "BeeYardModel", name := "lasts", desc := "(I)I" } : Jvm.MethodName)) ∈ lw_all := lw_g (lw_at lw_m8 185 rfl) rfl
theorem q1981 : (Jvm.Cond.selects "BeeYardModel" ({ cls := "BeeYardModel", name := "lasts", desc := "(I)I" } : Jvm.MethodName) ({ cls := "BeeYardModel", name := "lasts", desc := "(I)I" } : Jvm.MethodName)) ∈ lw_all := lw_g (lw_at lw_m8 186 rfl) rfl
theorem q1982 : (Jvm.Cond.code ({ cls := "BeeYardModel", name := "lasts", desc := "(I)I" } : Jvm.MethodName) prog_17_method_108_code (3 : Nat) (Option.some Jvm.ClassFile.FieldType.int)) ∈ lw_all := lw_g (lw_at lw_m8 187 rfl) rfl
theorem q1983 : (Jvm.Cond.methodLink "BeeYardModel" (364 : Nat) ({ cls := "java/lang/Math", name := "max", desc := "(II)I" } : Jvm.MethodName)) ∈ lw_all := lw_g (lw_at lw_m8 188 rfl) rfl
theorem q1985 : (Jvm.Cond.instanceMethod ({ cls := "BeeYardModel", name := "between", desc := "(III)I" } : Jvm.MethodName)) ∈ lw_all := lw_g (lw_at lw_m8 190 rfl) rfl
theorem q1986 : (Jvm.Cond.selects "BeeYardModel" ({ cls := "BeeYardModel", name := "between", desc := "(III)I" } : Jvm.MethodName) ({ cls := "BeeYardModel", name := "between", desc := "(III)I" } : Jvm.MethodName)) ∈ lw_all := lw_g (lw_at lw_m8 191 rfl) rfl
theorem q1987 : (Jvm.Cond.code ({ cls := "BeeYardModel", name := "between", desc := "(III)I" } : Jvm.MethodName) prog_17_method_109_code (7 : Nat) (Option.some Jvm.ClassFile.FieldType.int)) ∈ lw_all := lw_g (lw_at lw_m8 192 rfl) rfl
theorem q1988 : (Jvm.Cond.constantLong "BeeYardModel" (367 : Nat) (20 : Int64)) ∈ lw_all := lw_g (lw_at lw_m8 193 rfl) rfl
theorem q1990 : (Jvm.Cond.instanceMethod ({ cls := "BeeYardModel", name := "strongest", desc := "()I" } : Jvm.MethodName)) ∈ lw_all := lw_g (lw_at lw_m8 195 rfl) rfl
theorem q1991 : (Jvm.Cond.selects "BeeYardModel" ({ cls := "BeeYardModel", name := "strongest", desc := "()I" } : Jvm.MethodName) ({ cls := "BeeYardModel", name := "strongest", desc := "()I" } : Jvm.MethodName)) ∈ lw_all := lw_g (lw_at lw_m8 196 rfl) rfl
theorem q1992 : (Jvm.Cond.code ({ cls := "BeeYardModel", name := "strongest", desc := "()I" } : Jvm.MethodName) prog_17_method_110_code (3 : Nat) (Option.some Jvm.ClassFile.FieldType.int)) ∈ lw_all := lw_g (lw_at lw_m8 197 rfl) rfl
theorem q1994 : (Jvm.Cond.instanceMethod ({ cls := "BeeYardModel", name := "frame", desc := "(III)I" } : Jvm.MethodName)) ∈ lw_all := lw_g (lw_at lw_m8 199 rfl) rfl
theorem q1995 : (Jvm.Cond.selects "BeeYardModel" ({ cls := "BeeYardModel", name := "frame", desc := "(III)I" } : Jvm.MethodName) ({ cls := "BeeYardModel", name := "frame", desc := "(III)I" } : Jvm.MethodName)) ∈ lw_all := lw_g (lw_at lw_m8 200 rfl) rfl
theorem q1996 : (Jvm.Cond.code ({ cls := "BeeYardModel", name := "frame", desc := "(III)I" } : Jvm.MethodName) prog_17_method_111_code (7 : Nat) (Option.some Jvm.ClassFile.FieldType.int)) ∈ lw_all := lw_g (lw_at lw_m8 201 rfl) rfl
theorem q1998 : (Jvm.Cond.instanceMethod ({ cls := "BeeYardModel", name := "even", desc := "()I" } : Jvm.MethodName)) ∈ lw_all := lw_g (lw_at lw_m8 203 rfl) rfl
theorem q1999 : (Jvm.Cond.selects "BeeYardModel" ({ cls := "BeeYardModel", name := "even", desc := "()I" } : Jvm.MethodName) ({ cls := "BeeYardModel", name := "even", desc := "()I" } : Jvm.MethodName)) ∈ lw_all := lw_g (lw_at lw_m8 204 rfl) rfl
theorem q2000 : (Jvm.Cond.code ({ cls := "BeeYardModel", name := "even", desc := "()I" } : Jvm.MethodName) prog_17_method_112_code (8 : Nat) (Option.some Jvm.ClassFile.FieldType.int)) ∈ lw_all := lw_g (lw_at lw_m8 205 rfl) rfl
theorem q2002 : (Jvm.Cond.instanceMethod ({ cls := "BeeYardModel", name := "sample", desc := "(III)I" } : Jvm.MethodName)) ∈ lw_all := lw_g (lw_at lw_m8 207 rfl) rfl
theorem q2003 : (Jvm.Cond.selects "BeeYardModel" ({ cls := "BeeYardModel", name := "sample", desc := "(III)I" } : Jvm.MethodName) ({ cls := "BeeYardModel", name := "sample", desc := "(III)I" } : Jvm.MethodName)) ∈ lw_all := lw_g (lw_at lw_m8 208 rfl) rfl
theorem q2004 : (Jvm.Cond.code ({ cls := "BeeYardModel", name := "sample", desc := "(III)I" } : Jvm.MethodName) prog_17_method_113_code (5 : Nat) (Option.some Jvm.ClassFile.FieldType.int)) ∈ lw_all := lw_g (lw_at lw_m8 209 rfl) rfl
theorem q2005 : (Jvm.Cond.constantLong "BeeYardModel" (369 : Nat) (999 : Int64)) ∈ lw_all := lw_g (lw_at lw_m8 210 rfl) rfl
theorem q2007 : (Jvm.Cond.instanceMethod ({ cls := "BeeYardModel", name := "share", desc := "(I)Z" } : Jvm.MethodName)) ∈ lw_all := lw_g (lw_at lw_m8 212 rfl) rfl
theorem q2008 : (Jvm.Cond.selects "BeeYardModel" ({ cls := "BeeYardModel", name := "share", desc := "(I)Z" } : Jvm.MethodName) ({ cls := "BeeYardModel", name := "share", desc := "(I)Z" } : Jvm.MethodName)) ∈ lw_all := lw_g (lw_at lw_m8 213 rfl) rfl
theorem q2009 : (Jvm.Cond.code ({ cls := "BeeYardModel", name := "share", desc := "(I)Z" } : Jvm.MethodName) prog_17_method_114_code (7 : Nat) (Option.some Jvm.ClassFile.FieldType.boolean)) ∈ lw_all := lw_g (lw_at lw_m8 214 rfl) rfl
theorem q2011 : (Jvm.Cond.instanceMethod ({ cls := "BeeYardModel", name := "worst", desc := "()I" } : Jvm.MethodName)) ∈ lw_all := lw_g (lw_at lw_m8 216 rfl) rfl
theorem q2012 : (Jvm.Cond.selects "BeeYardModel" ({ cls := "BeeYardModel", name := "worst", desc := "()I" } : Jvm.MethodName) ({ cls := "BeeYardModel", name := "worst", desc := "()I" } : Jvm.MethodName)) ∈ lw_all := lw_g (lw_at lw_m8 217 rfl) rfl
theorem q2013 : (Jvm.Cond.code ({ cls := "BeeYardModel", name := "worst", desc := "()I" } : Jvm.MethodName) prog_17_method_115_code (5 : Nat) (Option.some Jvm.ClassFile.FieldType.int)) ∈ lw_all := lw_g (lw_at lw_m8 218 rfl) rfl
theorem q2015 : (Jvm.Cond.instanceMethod ({ cls := "BeeYardModel", name := "treat", desc := "(I)Z" } : Jvm.MethodName)) ∈ lw_all := lw_g (lw_at lw_m8 220 rfl) rfl
theorem q2016 : (Jvm.Cond.selects "BeeYardModel" ({ cls := "BeeYardModel", name := "treat", desc := "(I)Z" } : Jvm.MethodName) ({ cls := "BeeYardModel", name := "treat", desc := "(I)Z" } : Jvm.MethodName)) ∈ lw_all := lw_g (lw_at lw_m8 221 rfl) rfl
theorem q2017 : (Jvm.Cond.code ({ cls := "BeeYardModel", name := "treat", desc := "(I)Z" } : Jvm.MethodName) prog_17_method_116_code (2 : Nat) (Option.some Jvm.ClassFile.FieldType.boolean)) ∈ lw_all := lw_g (lw_at lw_m8 222 rfl) rfl
theorem q2019 : (Jvm.Cond.instanceMethod ({ cls := "BeeYardModel", name := "forecast", desc := "(III)I" } : Jvm.MethodName)) ∈ lw_all := lw_g (lw_at lw_m8 224 rfl) rfl
theorem q2020 : (Jvm.Cond.selects "BeeYardModel" ({ cls := "BeeYardModel", name := "forecast", desc := "(III)I" } : Jvm.MethodName) ({ cls := "BeeYardModel", name := "forecast", desc := "(III)I" } : Jvm.MethodName)) ∈ lw_all := lw_g (lw_at lw_m8 225 rfl) rfl
theorem q2021 : (Jvm.Cond.code ({ cls := "BeeYardModel", name := "forecast", desc := "(III)I" } : Jvm.MethodName) prog_17_method_118_code (6 : Nat) (Option.some Jvm.ClassFile.FieldType.int)) ∈ lw_all := lw_g (lw_at lw_m8 226 rfl) rfl
theorem q2023 : (Jvm.Cond.instanceMethod ({ cls := "BeeYardModel", name := "soonest", desc := "(II)I" } : Jvm.MethodName)) ∈ lw_all := lw_g (lw_at lw_m8 228 rfl) rfl
theorem q2024 : (Jvm.Cond.selects "BeeYardModel" ({ cls := "BeeYardModel", name := "soonest", desc := "(II)I" } : Jvm.MethodName) ({ cls := "BeeYardModel", name := "soonest", desc := "(II)I" } : Jvm.MethodName)) ∈ lw_all := lw_g (lw_at lw_m8 229 rfl) rfl
theorem q2025 : (Jvm.Cond.code ({ cls := "BeeYardModel", name := "soonest", desc := "(II)I" } : Jvm.MethodName) prog_17_method_119_code (4 : Nat) (Option.some Jvm.ClassFile.FieldType.int)) ∈ lw_all := lw_g (lw_at lw_m8 230 rfl) rfl
theorem q2027 : (Jvm.Cond.instanceMethod ({ cls := "BeeYardModel", name := "need", desc := "(II)I" } : Jvm.MethodName)) ∈ lw_all := lw_g (lw_at lw_m8 232 rfl) rfl
theorem q2028 : (Jvm.Cond.selects "BeeYardModel" ({ cls := "BeeYardModel", name := "need", desc := "(II)I" } : Jvm.MethodName) ({ cls := "BeeYardModel", name := "need", desc := "(II)I" } : Jvm.MethodName)) ∈ lw_all := lw_g (lw_at lw_m8 233 rfl) rfl
theorem q2029 : (Jvm.Cond.code ({ cls := "BeeYardModel", name := "need", desc := "(II)I" } : Jvm.MethodName) prog_17_method_120_code (7 : Nat) (Option.some Jvm.ClassFile.FieldType.int)) ∈ lw_all := lw_g (lw_at lw_m8 234 rfl) rfl
theorem q2030 : (Jvm.Cond.constantLong "BeeYardModel" (371 : Nat) (30 : Int64)) ∈ lw_all := lw_g (lw_at lw_m8 235 rfl) rfl
theorem q2032 : (Jvm.Cond.instanceMethod ({ cls := "BeeYardModel", name := "live", desc := "(I)I" } : Jvm.MethodName)) ∈ lw_all := lw_g (lw_at lw_m8 237 rfl) rfl
theorem q2033 : (Jvm.Cond.selects "BeeYardModel" ({ cls := "BeeYardModel", name := "live", desc := "(I)I" } : Jvm.MethodName) ({ cls := "BeeYardModel", name := "live", desc := "(I)I" } : Jvm.MethodName)) ∈ lw_all := lw_g (lw_at lw_m8 238 rfl) rfl
theorem q2034 : (Jvm.Cond.code ({ cls := "BeeYardModel", name := "live", desc := "(I)I" } : Jvm.MethodName) prog_17_method_126_code (3 : Nat) (Option.some Jvm.ClassFile.FieldType.int)) ∈ lw_all := lw_g (lw_at lw_m8 239 rfl) rfl
theorem q2035 : (Jvm.Cond.methodLink "BeeYardModel" (392 : Nat) ({ cls := "BeeYardModel", name := "lives", desc := "(I)V" } : Jvm.MethodName)) ∈ lw_all := lw_g (lw_at lw_m9 0 rfl) rfl
theorem q2036 : (Jvm.Cond.privateMethod ({ cls := "BeeYardModel", name := "lives", desc := "(I)V" } : Jvm.MethodName)) ∈ lw_tbl := lw_at lw_m9 1 rfl
theorem q2037 : (Jvm.Cond.instanceMethod ({ cls := "BeeYardModel", name := "lives", desc := "(I)V" } : Jvm.MethodName)) ∈ lw_all := lw_g (lw_at lw_m9 2 rfl) rfl
theorem q2038 : (Jvm.Cond.code ({ cls := "BeeYardModel", name := "lives", desc := "(I)V" } : Jvm.MethodName) prog_17_method_125_code (4 : Nat) (Option.none : Option Jvm.ClassFile.FieldType)) ∈ lw_all := lw_g (lw_at lw_m9 3 rfl) rfl
theorem q2039 : (Jvm.Cond.methodLink "BeeYardModel" (383 : Nat) ({ cls := "BeeYardModel", name := "does", desc := "(I)Z" } : Jvm.MethodName)) ∈ lw_all := lw_g (lw_at lw_m9 4 rfl) rfl
theorem q2040 : (Jvm.Cond.privateMethod ({ cls := "BeeYardModel", name := "does", desc := "(I)Z" } : Jvm.MethodName)) ∈ lw_tbl := lw_at lw_m9 5 rfl
theorem q2041 : (Jvm.Cond.instanceMethod ({ cls := "BeeYardModel", name := "does", desc := "(I)Z" } : Jvm.MethodName)) ∈ lw_all := lw_g (lw_at lw_m9 6 rfl) rfl
theorem q2042 : (Jvm.Cond.code ({ cls := "BeeYardModel", name := "does", desc := "(I)Z" } : Jvm.MethodName) prog_17_method_122_code (6 : Nat) (Option.some Jvm.ClassFile.FieldType.boolean)) ∈ lw_all := lw_g (lw_at lw_m9 7 rfl) rfl
theorem q2043 : (Jvm.Cond.methodLink "BeeYardModel" (377 : Nat) ({ cls := "BeeYardModel", name := "draw", desc := "(I)I" } : Jvm.MethodName)) ∈ lw_all := lw_g (lw_at lw_m9 8 rfl) rfl
theorem q2044 : (Jvm.Cond.privateMethod ({ cls := "BeeYardModel", name := "draw", desc := "(I)I" } : Jvm.MethodName)) ∈ lw_tbl := lw_at lw_m9 9 rfl
theorem q2045 : (Jvm.Cond.instanceMethod ({ cls := "BeeYardModel", name := "draw", desc := "(I)I" } : Jvm.MethodName)) ∈ lw_all := lw_g (lw_at lw_m9 10 rfl) rfl
theorem q2046 : (Jvm.Cond.code ({ cls := "BeeYardModel", name := "draw", desc := "(I)I" } : Jvm.MethodName) prog_17_method_121_code (2 : Nat) (Option.some Jvm.ClassFile.FieldType.int)) ∈ lw_all := lw_g (lw_at lw_m9 11 rfl) rfl
theorem q2047 : (Jvm.Cond.constant "BeeYardModel" (376 : Nat) (65536 : Int32)) ∈ lw_all := lw_g (lw_at lw_m9 12 rfl) rfl
theorem q2048 : (Jvm.Cond.methodLink "BeeYardModel" (386 : Nat) ({ cls := "BeeYardModel", name := "holds", desc := "(I)Z" } : Jvm.MethodName)) ∈ lw_all := lw_g (lw_at lw_m9 13 rfl) rfl
theorem q2049 : (Jvm.Cond.privateMethod ({ cls := "BeeYardModel", name := "holds", desc := "(I)Z" } : Jvm.MethodName)) ∈ lw_tbl := lw_at lw_m9 14 rfl
theorem q2050 : (Jvm.Cond.instanceMethod ({ cls := "BeeYardModel", name := "holds", desc := "(I)Z" } : Jvm.MethodName)) ∈ lw_all := lw_g (lw_at lw_m9 15 rfl) rfl
theorem q2051 : (Jvm.Cond.code ({ cls := "BeeYardModel", name := "holds", desc := "(I)Z" } : Jvm.MethodName) prog_17_method_123_code (5 : Nat) (Option.some Jvm.ClassFile.FieldType.boolean)) ∈ lw_all := lw_g (lw_at lw_m9 16 rfl) rfl
theorem q2052 : (Jvm.Cond.methodLink "BeeYardModel" (389 : Nat) ({ cls := "BeeYardModel", name := "behindEnds", desc := "(I)I" } : Jvm.MethodName)) ∈ lw_all := lw_g (lw_at lw_m9 17 rfl) rfl
theorem q2053 : (Jvm.Cond.privateMethod ({ cls := "BeeYardModel", name := "behindEnds", desc := "(I)I" } : Jvm.MethodName)) ∈ lw_tbl := lw_at lw_m9 18 rfl
theorem q2054 : (Jvm.Cond.instanceMethod ({ cls := "BeeYardModel", name := "behindEnds", desc := "(I)I" } : Jvm.MethodName)) ∈ lw_all := lw_g (lw_at lw_m9 19 rfl) rfl
theorem q2055 : (Jvm.Cond.code ({ cls := "BeeYardModel", name := "behindEnds", desc := "(I)I" } : Jvm.MethodName) prog_17_method_124_code (5 : Nat) (Option.some Jvm.ClassFile.FieldType.int)) ∈ lw_all := lw_g (lw_at lw_m9 20 rfl) rfl
theorem q2057 : (Jvm.Cond.instanceMethod ({ cls := "BeeYardModel", name := "lived", desc := "(I)I" } : Jvm.MethodName)) ∈ lw_all := lw_g (lw_at lw_m9 22 rfl) rfl
theorem q2058 : (Jvm.Cond.selects "BeeYardModel" ({ cls := "BeeYardModel", name := "lived", desc := "(I)I" } : Jvm.MethodName) ({ cls := "BeeYardModel", name := "lived", desc := "(I)I" } : Jvm.MethodName)) ∈ lw_all := lw_g (lw_at lw_m9 23 rfl) rfl
theorem q2059 : (Jvm.Cond.code ({ cls := "BeeYardModel", name := "lived", desc := "(I)I" } : Jvm.MethodName) prog_17_method_127_code (2 : Nat) (Option.some Jvm.ClassFile.FieldType.int)) ∈ lw_all := lw_g (lw_at lw_m9 24 rfl) rfl
theorem q2061 : (Jvm.Cond.instanceMethod ({ cls := "BeeYardModel", name := "odds", desc := "(IIII)Z" } : Jvm.MethodName)) ∈ lw_all := lw_g (lw_at lw_m9 26 rfl) rfl
theorem q2062 : (Jvm.Cond.selects "BeeYardModel" ({ cls := "BeeYardModel", name := "odds", desc := "(IIII)Z" } : Jvm.MethodName) ({ cls := "BeeYardModel", name := "odds", desc := "(IIII)Z" } : Jvm.MethodName)) ∈ lw_all := lw_g (lw_at lw_m9 27 rfl) rfl
theorem q2063 : (Jvm.Cond.code ({ cls := "BeeYardModel", name := "odds", desc := "(IIII)Z" } : Jvm.MethodName) prog_17_method_128_code (8 : Nat) (Option.some Jvm.ClassFile.FieldType.boolean)) ∈ lw_all := lw_g (lw_at lw_m9 28 rfl) rfl
theorem q2064 : (Jvm.Cond.constantLong "BeeYardModel" (399 : Nat) (5 : Int64)) ∈ lw_all := lw_g (lw_at lw_m9 29 rfl) rfl
theorem q2066 : (Jvm.Cond.instanceMethod ({ cls := "BeeYardModel", name := "mark", desc := "()I" } : Jvm.MethodName)) ∈ lw_all := lw_g (lw_at lw_m9 31 rfl) rfl
theorem q2067 : (Jvm.Cond.selects "BeeYardModel" ({ cls := "BeeYardModel", name := "mark", desc := "()I" } : Jvm.MethodName) ({ cls := "BeeYardModel", name := "mark", desc := "()I" } : Jvm.MethodName)) ∈ lw_all := lw_g (lw_at lw_m9 32 rfl) rfl
theorem q2068 : (Jvm.Cond.code ({ cls := "BeeYardModel", name := "mark", desc := "()I" } : Jvm.MethodName) prog_17_method_130_code (1 : Nat) (Option.some Jvm.ClassFile.FieldType.int)) ∈ lw_all := lw_g (lw_at lw_m9 33 rfl) rfl
theorem q2069 : (Jvm.Cond.methodLink "BeeYardModel" (404 : Nat) ({ cls := "BeeYardModel", name := "copies", desc := "(II)V" } : Jvm.MethodName)) ∈ lw_all := lw_g (lw_at lw_m9 34 rfl) rfl
theorem q2070 : (Jvm.Cond.privateMethod ({ cls := "BeeYardModel", name := "copies", desc := "(II)V" } : Jvm.MethodName)) ∈ lw_tbl := lw_at lw_m9 35 rfl
theorem q2071 : (Jvm.Cond.instanceMethod ({ cls := "BeeYardModel", name := "copies", desc := "(II)V" } : Jvm.MethodName)) ∈ lw_all := lw_g (lw_at lw_m9 36 rfl) rfl
theorem q2072 : (Jvm.Cond.code ({ cls := "BeeYardModel", name := "copies", desc := "(II)V" } : Jvm.MethodName) prog_17_method_129_code (4 : Nat) (Option.none : Option Jvm.ClassFile.FieldType)) ∈ lw_all := lw_g (lw_at lw_m9 37 rfl) rfl
theorem q2074 : (Jvm.Cond.instanceMethod ({ cls := "BeeYardModel", name := "back", desc := "()I" } : Jvm.MethodName)) ∈ lw_all := lw_g (lw_at lw_m9 39 rfl) rfl
theorem q2075 : (Jvm.Cond.selects "BeeYardModel" ({ cls := "BeeYardModel", name := "back", desc := "()I" } : Jvm.MethodName) ({ cls := "BeeYardModel", name := "back", desc := "()I" } : Jvm.MethodName)) ∈ lw_all := lw_g (lw_at lw_m9 40 rfl) rfl
theorem q2076 : (Jvm.Cond.code ({ cls := "BeeYardModel", name := "back", desc := "()I" } : Jvm.MethodName) prog_17_method_131_code (1 : Nat) (Option.some Jvm.ClassFile.FieldType.int)) ∈ lw_all := lw_g (lw_at lw_m9 41 rfl) rfl
theorem in_X7 : ∀ w ∈ wsX70, w ∈ lw_all := lw_in wsX70 [1473, 1475, 1477, 1479, 1481, 1483, 1485, 1487, 1489, 1491, 1493, 1495, 1497, 1499, 1501, 1503, 1505, 1507, 1509, 1511, 1513, 1515, 1517, 1519, 1521, 1523, 1525, 1527, 1529, 1531, 1533, 1535, 1537, 1539, 1541, 1543] (by decide +kernel) (by decide +kernel)

/-! java/lang/RuntimeException -/
def RJ2 : String := "java/lang/RuntimeException"
abbrev cJ2_init : ByteArray := prog_24_method_2_code
def yJ2_init : MethodName := ⟨RJ2, "<init>", "(Ljava/lang/String;)V"⟩
theorem q126 : (Jvm.Cond.initialized "java/lang/RuntimeException") ∈ lw_all := lw_g (lw_at lw_m1 11 rfl) rfl
theorem q449 : (Jvm.Cond.instanceMethod ({ cls := "java/lang/RuntimeException", name := "<init>", desc := "(Ljava/lang/String;)V" } : Jvm.MethodName)) ∈ lw_all := lw_g (lw_at lw_m2 94 rfl) rfl
theorem q450 : (Jvm.Cond.code ({ cls := "java/lang/RuntimeException", name := "<init>", desc := "(Ljava/lang/String;)V" } : Jvm.MethodName) prog_24_method_2_code (2 : Nat) (Option.none : Option Jvm.ClassFile.FieldType)) ∈ lw_all := lw_g (lw_at lw_m2 95 rfl) rfl
theorem q451 : (Jvm.Cond.methodLink "java/lang/RuntimeException" (7 : Nat) ({ cls := "java/lang/Exception", name := "<init>", desc := "(Ljava/lang/String;)V" } : Jvm.MethodName)) ∈ lw_all := lw_g (lw_at lw_m2 96 rfl) rfl
theorem q465 : (Jvm.Cond.declares ({ cls := "java/lang/RuntimeException", name := "<init>", desc := "()V" } : Jvm.MethodName)) ∈ lw_tbl := lw_at lw_m2 110 rfl
theorem q466 : (Jvm.Cond.declares ({ cls := "java/lang/RuntimeException", name := "<init>", desc := "(Ljava/lang/String;)V" } : Jvm.MethodName)) ∈ lw_tbl := lw_at lw_m2 111 rfl

/-! java/lang/NegativeArraySizeException -/
def RJ3 : String := "java/lang/NegativeArraySizeException"
def TJ3 : u_T := fun k => match k with
  | 0 => ("java/lang/Throwable", "backtrace", "Ljava/lang/Object;", false)
  | 1 => ("java/lang/Throwable", "detailMessage", "Ljava/lang/String;", false)
  | 2 => ("java/lang/Throwable", "cause", "Ljava/lang/Throwable;", false)
  | 3 => ("java/lang/Throwable", "stackTrace", "[Ljava/lang/StackTraceElement;", false)
  | 4 => ("java/lang/Throwable", "depth", "I", false)
  | _ => ("java/lang/Throwable", "suppressedExceptions", "Ljava/util/List;", false)
def tyJ3 : Nat → FieldType := fun k => match k with
  | 0 => .object "java/lang/Object"
  | 1 => .object "java/lang/String"
  | 2 => .object "java/lang/Throwable"
  | 3 => .array (.object "java/lang/StackTraceElement")
  | 4 => .int
  | _ => .object "java/util/List"
abbrev wsJ30 : List Cond := u_ws RJ3 TJ3 6
theorem nmJ3 : ∀ a, a < 6 → ∀ b, b < 6 → a ≠ b → (TJ3 a).2.1 ≠ (TJ3 b).2.1 := by decide +kernel
theorem tyJ3_ok : ∀ k, k < 6 → parseFieldDescriptor (TJ3 k).2.2.1 = some (tyJ3 k) := by decide +kernel
abbrev cJ3_init : ByteArray := prog_23_method_2_code
def yJ3_init : MethodName := ⟨RJ3, "<init>", "(Ljava/lang/String;)V"⟩
theorem q127 : (Jvm.Cond.initialized "java/lang/NegativeArraySizeException") ∈ lw_all := lw_g (lw_at lw_m1 12 rfl) rfl
theorem q197 : (Jvm.Cond.selects "java/lang/NegativeArraySizeException" ({ cls := "java/lang/Throwable", name := "fillInStackTrace", desc := "()Ljava/lang/Throwable;" } : Jvm.MethodName) ({ cls := "java/lang/Throwable", name := "fillInStackTrace", desc := "()Ljava/lang/Throwable;" } : Jvm.MethodName)) ∈ lw_all := lw_g (lw_at lw_m1 82 rfl) rfl
theorem q445 : (Jvm.Cond.instantiable "java/lang/NegativeArraySizeException" (6 : Nat)) ∈ lw_all := lw_g (lw_at lw_m2 90 rfl) rfl
theorem q446 : (Jvm.Cond.instanceMethod ({ cls := "java/lang/NegativeArraySizeException", name := "<init>", desc := "(Ljava/lang/String;)V" } : Jvm.MethodName)) ∈ lw_all := lw_g (lw_at lw_m2 91 rfl) rfl
theorem q447 : (Jvm.Cond.code ({ cls := "java/lang/NegativeArraySizeException", name := "<init>", desc := "(Ljava/lang/String;)V" } : Jvm.MethodName) prog_23_method_2_code (2 : Nat) (Option.none : Option Jvm.ClassFile.FieldType)) ∈ lw_all := lw_g (lw_at lw_m2 92 rfl) rfl
theorem q448 : (Jvm.Cond.methodLink "java/lang/NegativeArraySizeException" (7 : Nat) ({ cls := "java/lang/RuntimeException", name := "<init>", desc := "(Ljava/lang/String;)V" } : Jvm.MethodName)) ∈ lw_all := lw_g (lw_at lw_m2 93 rfl) rfl
theorem q457 : (Jvm.Cond.lays "java/lang/NegativeArraySizeException" "java/lang/Throwable" "backtrace" "Ljava/lang/Object;") ∈ lw_all := lw_g (lw_at lw_m2 102 rfl) rfl
theorem q458 : (Jvm.Cond.lays "java/lang/NegativeArraySizeException" "java/lang/Throwable" "detailMessage" "Ljava/lang/String;") ∈ lw_all := lw_g (lw_at lw_m2 103 rfl) rfl
theorem q459 : (Jvm.Cond.lays "java/lang/NegativeArraySizeException" "java/lang/Throwable" "cause" "Ljava/lang/Throwable;") ∈ lw_all := lw_g (lw_at lw_m2 104 rfl) rfl
theorem q460 : (Jvm.Cond.lays "java/lang/NegativeArraySizeException" "java/lang/Throwable" "stackTrace" "[Ljava/lang/StackTraceElement;") ∈ lw_all := lw_g (lw_at lw_m2 105 rfl) rfl
theorem q461 : (Jvm.Cond.lays "java/lang/NegativeArraySizeException" "java/lang/Throwable" "depth" "I") ∈ lw_all := lw_g (lw_at lw_m2 106 rfl) rfl
theorem q462 : (Jvm.Cond.lays "java/lang/NegativeArraySizeException" "java/lang/Throwable" "suppressedExceptions" "Ljava/util/List;") ∈ lw_all := lw_g (lw_at lw_m2 107 rfl) rfl
theorem q463 : (Jvm.Cond.superclass "java/lang/NegativeArraySizeException" "java/lang/RuntimeException") ∈ lw_all := lw_g (lw_at lw_m2 108 rfl) rfl
theorem q464 : (Jvm.Cond.castable "java/lang/NegativeArraySizeException" "java/lang/NegativeArraySizeException") ∈ lw_tbl := lw_at lw_m2 109 rfl
theorem q467 : (Jvm.Cond.selects "java/lang/NegativeArraySizeException" ({ cls := "java/lang/Throwable", name := "fillInStackTrace", desc := "(I)Ljava/lang/Throwable;" } : Jvm.MethodName) ({ cls := "java/lang/Throwable", name := "fillInStackTrace", desc := "(I)Ljava/lang/Throwable;" } : Jvm.MethodName)) ∈ lw_all := lw_g (lw_at lw_m2 112 rfl) rfl
theorem in_J3 : ∀ w ∈ wsJ30, w ∈ lw_all := lw_in wsJ30 [457, 458, 459, 460, 461, 462] (by decide +kernel) (by decide +kernel)

/-! java/lang/String -/
def RJ4 : String := "java/lang/String"
def TJ4 : u_T := fun k => match k with
  | 0 => ("java/lang/String", "value", "[B", true)
  | _ => ("java/lang/String", "coder", "B", true)
def tyJ4 : Nat → FieldType := fun k => match k with
  | 0 => .array .byte
  | _ => .byte
abbrev wsJ40 : List Cond := u_ws RJ4 TJ4 2
theorem nmJ4 : ∀ a, a < 2 → ∀ b, b < 2 → a ≠ b → (TJ4 a).2.1 ≠ (TJ4 b).2.1 := by decide +kernel
theorem tyJ4_ok : ∀ k, k < 2 → parseFieldDescriptor (TJ4 k).2.2.1 = some (tyJ4 k) := by decide +kernel
abbrev cJ4_length : ByteArray := prog_25_method_54_code
def yJ4_length : MethodName := ⟨RJ4, "length", "()I"⟩
abbrev cJ4_coder : ByteArray := prog_25_method_152_code
def yJ4_coder : MethodName := ⟨RJ4, "coder", "()B"⟩
abbrev cJ4_charAt : ByteArray := prog_25_method_56_code
def yJ4_charAt : MethodName := ⟨RJ4, "charAt", "(I)C"⟩
abbrev cJ4_isLatin1 : ByteArray := prog_25_method_154_code
def yJ4_isLatin1 : MethodName := ⟨RJ4, "isLatin1", "()Z"⟩
abbrev cJ4_checkIndex : ByteArray := prog_25_method_155_code
def yJ4_checkIndex : MethodName := ⟨RJ4, "checkIndex", "(II)V"⟩
theorem q128 : (Jvm.Cond.initialized "java/lang/String") ∈ lw_all := lw_g (lw_at lw_m1 13 rfl) rfl
theorem q468 : (Jvm.Cond.instantiable "java/lang/String" (4 : Nat)) ∈ lw_all := lw_g (lw_at lw_m2 113 rfl) rfl
theorem q469 : (Jvm.Cond.laysFinal "java/lang/String" "java/lang/String" "value" "[B") ∈ lw_all := lw_g (lw_at lw_m2 114 rfl) rfl
theorem q470 : (Jvm.Cond.soleField "java/lang/String" "value") ∈ lw_all := lw_g (lw_at lw_m2 115 rfl) rfl
theorem q471 : (Jvm.Cond.laysFinal "java/lang/String" "java/lang/String" "coder" "B") ∈ lw_all := lw_g (lw_at lw_m2 116 rfl) rfl
theorem q472 : (Jvm.Cond.soleField "java/lang/String" "coder") ∈ lw_all := lw_g (lw_at lw_m2 117 rfl) rfl
theorem q613 : (Jvm.Cond.instanceMethod ({ cls := "java/lang/String", name := "length", desc := "()I" } : Jvm.MethodName)) ∈ lw_all := lw_g (lw_at lw_m3 18 rfl) rfl
theorem q614 : (Jvm.Cond.selects "java/lang/String" ({ cls := "java/lang/String", name := "length", desc := "()I" } : Jvm.MethodName) ({ cls := "java/lang/String", name := "length", desc := "()I" } : Jvm.MethodName)) ∈ lw_all := lw_g (lw_at lw_m3 19 rfl) rfl
theorem q615 : (Jvm.Cond.code ({ cls := "java/lang/String", name := "length", desc := "()I" } : Jvm.MethodName) prog_25_method_54_code (1 : Nat) (Option.some Jvm.ClassFile.FieldType.int)) ∈ lw_all := lw_g (lw_at lw_m3 20 rfl) rfl
theorem q616 : (Jvm.Cond.methodLink "java/lang/String" (335 : Nat) ({ cls := "java/lang/String", name := "coder", desc := "()B" } : Jvm.MethodName)) ∈ lw_all := lw_g (lw_at lw_m3 21 rfl) rfl
theorem q617 : (Jvm.Cond.instanceMethod ({ cls := "java/lang/String", name := "coder", desc := "()B" } : Jvm.MethodName)) ∈ lw_all := lw_g (lw_at lw_m3 22 rfl) rfl
theorem q618 : (Jvm.Cond.selects "java/lang/String" ({ cls := "java/lang/String", name := "coder", desc := "()B" } : Jvm.MethodName) ({ cls := "java/lang/String", name := "coder", desc := "()B" } : Jvm.MethodName)) ∈ lw_all := lw_g (lw_at lw_m3 23 rfl) rfl
theorem q619 : (Jvm.Cond.code ({ cls := "java/lang/String", name := "coder", desc := "()B" } : Jvm.MethodName) prog_25_method_152_code (1 : Nat) (Option.some Jvm.ClassFile.FieldType.byte)) ∈ lw_all := lw_g (lw_at lw_m3 24 rfl) rfl
theorem q620 : (Jvm.Cond.fieldLink "java/lang/String" (38 : Nat) "java/lang/String" "COMPACT_STRINGS" "Z") ∈ lw_all := lw_g (lw_at lw_m3 25 rfl) rfl
theorem q621 : (Jvm.Cond.laysStatic "java/lang/String" "COMPACT_STRINGS" "Z") ∈ lw_tbl := lw_at lw_m3 26 rfl
theorem q623 : (Jvm.Cond.instanceMethod ({ cls := "java/lang/String", name := "charAt", desc := "(I)C" } : Jvm.MethodName)) ∈ lw_all := lw_g (lw_at lw_m3 28 rfl) rfl
theorem q624 : (Jvm.Cond.selects "java/lang/String" ({ cls := "java/lang/String", name := "charAt", desc := "(I)C" } : Jvm.MethodName) ({ cls := "java/lang/String", name := "charAt", desc := "(I)C" } : Jvm.MethodName)) ∈ lw_all := lw_g (lw_at lw_m3 29 rfl) rfl
theorem q625 : (Jvm.Cond.code ({ cls := "java/lang/String", name := "charAt", desc := "(I)C" } : Jvm.MethodName) prog_25_method_56_code (2 : Nat) (Option.some Jvm.ClassFile.FieldType.char)) ∈ lw_all := lw_g (lw_at lw_m3 30 rfl) rfl
theorem q626 : (Jvm.Cond.methodLink "java/lang/String" (492 : Nat) ({ cls := "java/lang/String", name := "isLatin1", desc := "()Z" } : Jvm.MethodName)) ∈ lw_all := lw_g (lw_at lw_m3 31 rfl) rfl
theorem q627 : (Jvm.Cond.instanceMethod ({ cls := "java/lang/String", name := "isLatin1", desc := "()Z" } : Jvm.MethodName)) ∈ lw_all := lw_g (lw_at lw_m3 32 rfl) rfl
theorem q628 : (Jvm.Cond.selects "java/lang/String" ({ cls := "java/lang/String", name := "isLatin1", desc := "()Z" } : Jvm.MethodName) ({ cls := "java/lang/String", name := "isLatin1", desc := "()Z" } : Jvm.MethodName)) ∈ lw_all := lw_g (lw_at lw_m3 33 rfl) rfl
theorem q629 : (Jvm.Cond.code ({ cls := "java/lang/String", name := "isLatin1", desc := "()Z" } : Jvm.MethodName) prog_25_method_154_code (1 : Nat) (Option.some Jvm.ClassFile.FieldType.boolean)) ∈ lw_all := lw_g (lw_at lw_m3 34 rfl) rfl
theorem q630 : (Jvm.Cond.methodLink "java/lang/String" (495 : Nat) ({ cls := "java/lang/StringLatin1", name := "charAt", desc := "([BI)C" } : Jvm.MethodName)) ∈ lw_all := lw_g (lw_at lw_m3 35 rfl) rfl
theorem q634 : (Jvm.Cond.static ({ cls := "java/lang/String", name := "checkIndex", desc := "(II)V" } : Jvm.MethodName)) ∈ lw_all := lw_g (lw_at lw_m3 39 rfl) rfl
theorem q635 : (Jvm.Cond.code ({ cls := "java/lang/String", name := "checkIndex", desc := "(II)V" } : Jvm.MethodName) prog_25_method_155_code (2 : Nat) (Option.none : Option Jvm.ClassFile.FieldType)) ∈ lw_all := lw_g (lw_at lw_m3 40 rfl) rfl
theorem q636 : (Jvm.Cond.fieldLink "java/lang/String" (1053 : Nat) "jdk/internal/util/Preconditions" "SIOOBE_FORMATTER" "Ljava/util/function/BiFunction;") ∈ lw_all := lw_g (lw_at lw_m3 41 rfl) rfl
theorem q638 : (Jvm.Cond.methodLink "java/lang/String" (1059 : Nat) ({ cls := "jdk/internal/util/Preconditions", name := "checkIndex", desc := "(IILjava/util/function/BiFunction;)I" } : Jvm.MethodName)) ∈ lw_all := lw_g (lw_at lw_m3 43 rfl) rfl
theorem q641 : (Jvm.Cond.methodLink "java/lang/String" (498 : Nat) ({ cls := "java/lang/StringUTF16", name := "charAt", desc := "([BI)C" } : Jvm.MethodName)) ∈ lw_all := lw_g (lw_at lw_m3 46 rfl) rfl
theorem q2083 : (Jvm.Cond.fieldLink "java/lang/String" (9 : Nat) "java/lang/String" "value" "[B") ∈ lw_all := lw_g (lw_at lw_m9 48 rfl) rfl
theorem q2084 : (Jvm.Cond.fieldLink "java/lang/String" (15 : Nat) "java/lang/String" "coder" "B") ∈ lw_all := lw_g (lw_at lw_m9 49 rfl) rfl
theorem in_J4 : ∀ w ∈ wsJ40, w ∈ lw_all := lw_in wsJ40 [469, 471] (by decide +kernel) (by decide +kernel)

/-! java/lang/IndexOutOfBoundsException -/
def RJ5 : String := "java/lang/IndexOutOfBoundsException"
abbrev cJ5_init : ByteArray := prog_20_method_2_code
def yJ5_init : MethodName := ⟨RJ5, "<init>", "(Ljava/lang/String;)V"⟩
theorem q129 : (Jvm.Cond.initialized "java/lang/IndexOutOfBoundsException") ∈ lw_all := lw_g (lw_at lw_m1 14 rfl) rfl
theorem q498 : (Jvm.Cond.instanceMethod ({ cls := "java/lang/IndexOutOfBoundsException", name := "<init>", desc := "(Ljava/lang/String;)V" } : Jvm.MethodName)) ∈ lw_all := lw_g (lw_at lw_m2 143 rfl) rfl
theorem q499 : (Jvm.Cond.code ({ cls := "java/lang/IndexOutOfBoundsException", name := "<init>", desc := "(Ljava/lang/String;)V" } : Jvm.MethodName) prog_20_method_2_code (2 : Nat) (Option.none : Option Jvm.ClassFile.FieldType)) ∈ lw_all := lw_g (lw_at lw_m2 144 rfl) rfl
theorem q500 : (Jvm.Cond.methodLink "java/lang/IndexOutOfBoundsException" (7 : Nat) ({ cls := "java/lang/RuntimeException", name := "<init>", desc := "(Ljava/lang/String;)V" } : Jvm.MethodName)) ∈ lw_all := lw_g (lw_at lw_m2 145 rfl) rfl
theorem q509 : (Jvm.Cond.declares ({ cls := "java/lang/IndexOutOfBoundsException", name := "<init>", desc := "()V" } : Jvm.MethodName)) ∈ lw_tbl := lw_at lw_m2 154 rfl
theorem q510 : (Jvm.Cond.declares ({ cls := "java/lang/IndexOutOfBoundsException", name := "<init>", desc := "(Ljava/lang/String;)V" } : Jvm.MethodName)) ∈ lw_tbl := lw_at lw_m2 155 rfl

/-! java/lang/ArrayIndexOutOfBoundsException -/
def RJ6 : String := "java/lang/ArrayIndexOutOfBoundsException"
def TJ6 : u_T := fun k => match k with
  | 0 => ("java/lang/Throwable", "backtrace", "Ljava/lang/Object;", false)
  | 1 => ("java/lang/Throwable", "detailMessage", "Ljava/lang/String;", false)
  | 2 => ("java/lang/Throwable", "cause", "Ljava/lang/Throwable;", false)
  | 3 => ("java/lang/Throwable", "stackTrace", "[Ljava/lang/StackTraceElement;", false)
  | 4 => ("java/lang/Throwable", "depth", "I", false)
  | _ => ("java/lang/Throwable", "suppressedExceptions", "Ljava/util/List;", false)
def tyJ6 : Nat → FieldType := fun k => match k with
  | 0 => .object "java/lang/Object"
  | 1 => .object "java/lang/String"
  | 2 => .object "java/lang/Throwable"
  | 3 => .array (.object "java/lang/StackTraceElement")
  | 4 => .int
  | _ => .object "java/util/List"
abbrev wsJ60 : List Cond := u_ws RJ6 TJ6 6
theorem nmJ6 : ∀ a, a < 6 → ∀ b, b < 6 → a ≠ b → (TJ6 a).2.1 ≠ (TJ6 b).2.1 := by decide +kernel
theorem tyJ6_ok : ∀ k, k < 6 → parseFieldDescriptor (TJ6 k).2.2.1 = some (tyJ6 k) := by decide +kernel
abbrev cJ6_init : ByteArray := prog_18_method_2_code
def yJ6_init : MethodName := ⟨RJ6, "<init>", "(Ljava/lang/String;)V"⟩
theorem q130 : (Jvm.Cond.initialized "java/lang/ArrayIndexOutOfBoundsException") ∈ lw_all := lw_g (lw_at lw_m1 15 rfl) rfl
theorem q196 : (Jvm.Cond.selects "java/lang/ArrayIndexOutOfBoundsException" ({ cls := "java/lang/Throwable", name := "fillInStackTrace", desc := "()Ljava/lang/Throwable;" } : Jvm.MethodName) ({ cls := "java/lang/Throwable", name := "fillInStackTrace", desc := "()Ljava/lang/Throwable;" } : Jvm.MethodName)) ∈ lw_all := lw_g (lw_at lw_m1 81 rfl) rfl
theorem q494 : (Jvm.Cond.instantiable "java/lang/ArrayIndexOutOfBoundsException" (6 : Nat)) ∈ lw_all := lw_g (lw_at lw_m2 139 rfl) rfl
theorem q495 : (Jvm.Cond.instanceMethod ({ cls := "java/lang/ArrayIndexOutOfBoundsException", name := "<init>", desc := "(Ljava/lang/String;)V" } : Jvm.MethodName)) ∈ lw_all := lw_g (lw_at lw_m2 140 rfl) rfl
theorem q496 : (Jvm.Cond.code ({ cls := "java/lang/ArrayIndexOutOfBoundsException", name := "<init>", desc := "(Ljava/lang/String;)V" } : Jvm.MethodName) prog_18_method_2_code (2 : Nat) (Option.none : Option Jvm.ClassFile.FieldType)) ∈ lw_all := lw_g (lw_at lw_m2 141 rfl) rfl
theorem q497 : (Jvm.Cond.methodLink "java/lang/ArrayIndexOutOfBoundsException" (7 : Nat) ({ cls := "java/lang/IndexOutOfBoundsException", name := "<init>", desc := "(Ljava/lang/String;)V" } : Jvm.MethodName)) ∈ lw_all := lw_g (lw_at lw_m2 142 rfl) rfl
theorem q501 : (Jvm.Cond.lays "java/lang/ArrayIndexOutOfBoundsException" "java/lang/Throwable" "backtrace" "Ljava/lang/Object;") ∈ lw_all := lw_g (lw_at lw_m2 146 rfl) rfl
theorem q502 : (Jvm.Cond.lays "java/lang/ArrayIndexOutOfBoundsException" "java/lang/Throwable" "detailMessage" "Ljava/lang/String;") ∈ lw_all := lw_g (lw_at lw_m2 147 rfl) rfl
theorem q503 : (Jvm.Cond.lays "java/lang/ArrayIndexOutOfBoundsException" "java/lang/Throwable" "cause" "Ljava/lang/Throwable;") ∈ lw_all := lw_g (lw_at lw_m2 148 rfl) rfl
theorem q504 : (Jvm.Cond.lays "java/lang/ArrayIndexOutOfBoundsException" "java/lang/Throwable" "stackTrace" "[Ljava/lang/StackTraceElement;") ∈ lw_all := lw_g (lw_at lw_m2 149 rfl) rfl
theorem q505 : (Jvm.Cond.lays "java/lang/ArrayIndexOutOfBoundsException" "java/lang/Throwable" "depth" "I") ∈ lw_all := lw_g (lw_at lw_m2 150 rfl) rfl
theorem q506 : (Jvm.Cond.lays "java/lang/ArrayIndexOutOfBoundsException" "java/lang/Throwable" "suppressedExceptions" "Ljava/util/List;") ∈ lw_all := lw_g (lw_at lw_m2 151 rfl) rfl
theorem q507 : (Jvm.Cond.superclass "java/lang/ArrayIndexOutOfBoundsException" "java/lang/IndexOutOfBoundsException") ∈ lw_all := lw_g (lw_at lw_m2 152 rfl) rfl
theorem q508 : (Jvm.Cond.castable "java/lang/ArrayIndexOutOfBoundsException" "java/lang/ArrayIndexOutOfBoundsException") ∈ lw_tbl := lw_at lw_m2 153 rfl
theorem q511 : (Jvm.Cond.selects "java/lang/ArrayIndexOutOfBoundsException" ({ cls := "java/lang/Throwable", name := "fillInStackTrace", desc := "(I)Ljava/lang/Throwable;" } : Jvm.MethodName) ({ cls := "java/lang/Throwable", name := "fillInStackTrace", desc := "(I)Ljava/lang/Throwable;" } : Jvm.MethodName)) ∈ lw_all := lw_g (lw_at lw_m2 156 rfl) rfl
theorem q2079 : (Jvm.Cond.castable "java/lang/ArrayIndexOutOfBoundsException" "java/lang/IndexOutOfBoundsException") ∈ lw_tbl := lw_at lw_m9 44 rfl
theorem in_J6 : ∀ w ∈ wsJ60, w ∈ lw_all := lw_in wsJ60 [501, 502, 503, 504, 505, 506] (by decide +kernel) (by decide +kernel)

/-! BeeYard$Reader -/
def RX8 : String := "BeeYard$Reader"
def TX8 : u_T := fun k => match k with
  | 0 => ("BeeYard$Reader", "size", "I", true)
  | 1 => ("BeeYard$Reader", "at", "I", false)
  | 2 => ("BeeYard$Reader", "behind", "I", false)
  | 3 => ("BeeYard$Reader", "sort", "I", false)
  | 4 => ("BeeYard$Reader", "number", "I", false)
  | 5 => ("BeeYard$Reader", "steps", "I", false)
  | _ => ("BeeYard$Reader", "this$0", "LBeeYard;", true)
def tyX8 : Nat → FieldType := fun k => match k with
  | 0 => .int
  | 1 => .int
  | 2 => .int
  | 3 => .int
  | 4 => .int
  | 5 => .int
  | _ => .object "BeeYard"
abbrev wsX80 : List Cond := u_ws RX8 TX8 7
theorem nmX8 : ∀ a, a < 7 → ∀ b, b < 7 → a ≠ b → (TX8 a).2.1 ≠ (TX8 b).2.1 := by decide +kernel
theorem tyX8_ok : ∀ k, k < 7 → parseFieldDescriptor (TX8 k).2.2.1 = some (tyX8 k) := by decide +kernel
abbrev cX8_init : ByteArray := prog_10_method_1_code
def yX8_init : MethodName := ⟨RX8, "<init>", "(LBeeYard;I)V"⟩
abbrev cX8_next : ByteArray := prog_10_method_4_code
def yX8_next : MethodName := ⟨RX8, "next", "()V"⟩
abbrev cX8_isLetter : ByteArray := prog_10_method_2_code
def yX8_isLetter : MethodName := ⟨RX8, "isLetter", "(I)Z"⟩
abbrev cX8_isDigit : ByteArray := prog_10_method_3_code
def yX8_isDigit : MethodName := ⟨RX8, "isDigit", "(I)Z"⟩
abbrev cX8_yard : ByteArray := prog_10_method_19_code
def yX8_yard : MethodName := ⟨RX8, "yard", "(LBeeYard$Yard;)V"⟩
abbrev cX8_isWord : ByteArray := prog_10_method_5_code
def yX8_isWord : MethodName := ⟨RX8, "isWord", "(Ljava/lang/String;)Z"⟩
abbrev cX8_newHive : ByteArray := prog_10_method_20_code
def yX8_newHive : MethodName := ⟨RX8, "newHive", "(LBeeYard$Yard;)V"⟩
abbrev cX8_fresh : ByteArray := prog_10_method_15_code
def yX8_fresh : MethodName := ⟨RX8, "fresh", "(LBeeYard$Yard;)J"⟩
abbrev cX8_name : ByteArray := prog_10_method_14_code
def yX8_name : MethodName := ⟨RX8, "name", "()J"⟩
abbrev cX8_isKept : ByteArray := prog_10_method_13_code
def yX8_isKept : MethodName := ⟨RX8, "isKept", "()Z"⟩
abbrev cX8_acts : ByteArray := prog_10_method_11_code
def yX8_acts : MethodName := ⟨RX8, "acts", "()I"⟩
abbrev cX8_tests : ByteArray := prog_10_method_12_code
def yX8_tests : MethodName := ⟨RX8, "tests", "()I"⟩
abbrev cX8_wrong : ByteArray := prog_10_method_7_code
def yX8_wrong : MethodName := ⟨RX8, "wrong", "()LBeeYard$Bad;"⟩
abbrev cX8_behind : ByteArray := prog_10_method_10_code
def yX8_behind : MethodName := ⟨RX8, "behind", "(Ljava/lang/String;II)I"⟩
abbrev cX8_number : ByteArray := prog_10_method_9_code
def yX8_number : MethodName := ⟨RX8, "number", "(II)I"⟩
abbrev cX8_newDrone : ByteArray := prog_10_method_21_code
def yX8_newDrone : MethodName := ⟨RX8, "newDrone", "(LBeeYard$Yard;)V"⟩
abbrev cX8_mother : ByteArray := prog_10_method_18_code
def yX8_mother : MethodName := ⟨RX8, "mother", "(LBeeYard$Yard;)I"⟩
abbrev cX8_known : ByteArray := prog_10_method_16_code
def yX8_known : MethodName := ⟨RX8, "known", "(I)I"⟩
abbrev cX8_newQueen : ByteArray := prog_10_method_22_code
def yX8_newQueen : MethodName := ⟨RX8, "newQueen", "(LBeeYard$Yard;)V"⟩
abbrev cX8_close : ByteArray := prog_10_method_8_code
def yX8_close : MethodName := ⟨RX8, "close", "()V"⟩
abbrev cX8_isSign : ByteArray := prog_10_method_6_code
def yX8_isSign : MethodName := ⟨RX8, "isSign", "(C)Z"⟩
abbrev cX8_season : ByteArray := prog_10_method_23_code
def yX8_season : MethodName := ⟨RX8, "season", "(LBeeYard$Yard;LBeeYard$Block;)V"⟩
abbrev cX8_step : ByteArray := prog_10_method_24_code
def yX8_step : MethodName := ⟨RX8, "step", "(LBeeYard$Yard;LBeeYard$Block;I)V"⟩
abbrev cX8_block : ByteArray := prog_10_method_26_code
def yX8_block : MethodName := ⟨RX8, "block", "(LBeeYard$Yard;ZI)LBeeYard$Block;"⟩
abbrev cX8_when : ByteArray := prog_10_method_27_code
def yX8_when : MethodName := ⟨RX8, "when", "(LBeeYard$Yard;)LBeeYard$When;"⟩
abbrev cX8_hive : ByteArray := prog_10_method_17_code
def yX8_hive : MethodName := ⟨RX8, "hive", "(LBeeYard$Yard;)I"⟩
abbrev cX8_plain : ByteArray := prog_10_method_25_code
def yX8_plain : MethodName := ⟨RX8, "plain", "(LBeeYard$Yard;)LBeeYard$Step;"⟩
theorem q132 : (Jvm.Cond.initialized "BeeYard$Reader") ∈ lw_all := lw_g (lw_at lw_m1 17 rfl) rfl
theorem q280 : (Jvm.Cond.fieldLinkNest "BeeYard$Reader" (226 : Nat) "BeeYard$Lines" "lays" "[I" "BeeYard") ∈ lw_tbl := lw_at lw_m1 165 rfl
theorem q283 : (Jvm.Cond.fieldLinkNest "BeeYard$Reader" (221 : Nat) "BeeYard$Lines" "queens" "I" "BeeYard") ∈ lw_tbl := lw_at lw_m1 168 rfl
theorem q286 : (Jvm.Cond.fieldLinkNest "BeeYard$Reader" (210 : Nat) "BeeYard$Lines" "drones" "I" "BeeYard") ∈ lw_tbl := lw_at lw_m1 171 rfl
theorem q310 : (Jvm.Cond.fieldLinkNest "BeeYard$Reader" (149 : Nat) "BeeYard$Yard" "lines" "LBeeYard$Lines;" "BeeYard") ∈ lw_tbl := lw_at lw_m1 195 rfl
theorem q315 : (Jvm.Cond.fieldLinkNest "BeeYard$Reader" (184 : Nat) "BeeYard$Yard" "hives" "[LBeeYard$Hive;" "BeeYard") ∈ lw_tbl := lw_at lw_m1 200 rfl
theorem q319 : (Jvm.Cond.fieldLinkNest "BeeYard$Reader" (178 : Nat) "BeeYard$Yard" "many" "I" "BeeYard") ∈ lw_tbl := lw_at lw_m1 204 rfl
theorem q334 : (Jvm.Cond.fieldLinkNest "BeeYard$Reader" (181 : Nat) "BeeYard$Yard" "brought" "I" "BeeYard") ∈ lw_tbl := lw_at lw_m1 219 rfl
theorem q378 : (Jvm.Cond.fieldLinkNest "BeeYard$Reader" (22 : Nat) "BeeYard" "tape" "[B" "BeeYard") ∈ lw_tbl := lw_at lw_m2 23 rfl
theorem q384 : (Jvm.Cond.fieldLinkNest "BeeYard$Reader" (55 : Nat) "BeeYard" "bad" "LBeeYard$Bad;" "BeeYard") ∈ lw_tbl := lw_at lw_m2 29 rfl
theorem q563 : (Jvm.Cond.instantiable "BeeYard$Reader" (7 : Nat)) ∈ lw_all := lw_g (lw_at lw_m2 208 rfl) rfl
theorem q565 : (Jvm.Cond.instanceMethod ({ cls := "BeeYard$Reader", name := "<init>", desc := "(LBeeYard;I)V" } : Jvm.MethodName)) ∈ lw_all := lw_g (lw_at lw_m2 210 rfl) rfl
theorem q566 : (Jvm.Cond.code ({ cls := "BeeYard$Reader", name := "<init>", desc := "(LBeeYard;I)V" } : Jvm.MethodName) prog_10_method_1_code (3 : Nat) (Option.none : Option Jvm.ClassFile.FieldType)) ∈ lw_all := lw_g (lw_at lw_m2 211 rfl) rfl
theorem q567 : (Jvm.Cond.methodLink "BeeYard$Reader" (9 : Nat) ({ cls := "java/lang/Object", name := "<init>", desc := "()V" } : Jvm.MethodName)) ∈ lw_all := lw_g (lw_at lw_m2 212 rfl) rfl
theorem q568 : (Jvm.Cond.methodLink "BeeYard$Reader" (19 : Nat) ({ cls := "BeeYard$Reader", name := "next", desc := "()V" } : Jvm.MethodName)) ∈ lw_all := lw_g (lw_at lw_m2 213 rfl) rfl
theorem q569 : (Jvm.Cond.privateMethod ({ cls := "BeeYard$Reader", name := "next", desc := "()V" } : Jvm.MethodName)) ∈ lw_tbl := lw_at lw_m2 214 rfl
theorem q570 : (Jvm.Cond.instanceMethod ({ cls := "BeeYard$Reader", name := "next", desc := "()V" } : Jvm.MethodName)) ∈ lw_all := lw_g (lw_at lw_m2 215 rfl) rfl
theorem q571 : (Jvm.Cond.code ({ cls := "BeeYard$Reader", name := "next", desc := "()V" } : Jvm.MethodName) prog_10_method_4_code (1 : Nat) (Option.none : Option Jvm.ClassFile.FieldType)) ∈ lw_all := lw_g (lw_at lw_m2 216 rfl) rfl
theorem q572 : (Jvm.Cond.methodLink "BeeYard$Reader" (35 : Nat) ({ cls := "BeeYard$Reader", name := "isLetter", desc := "(I)Z" } : Jvm.MethodName)) ∈ lw_all := lw_g (lw_at lw_m2 217 rfl) rfl
theorem q573 : (Jvm.Cond.privateMethod ({ cls := "BeeYard$Reader", name := "isLetter", desc := "(I)Z" } : Jvm.MethodName)) ∈ lw_tbl := lw_at lw_m2 218 rfl
theorem q574 : (Jvm.Cond.instanceMethod ({ cls := "BeeYard$Reader", name := "isLetter", desc := "(I)Z" } : Jvm.MethodName)) ∈ lw_all := lw_g (lw_at lw_m2 219 rfl) rfl
theorem q575 : (Jvm.Cond.code ({ cls := "BeeYard$Reader", name := "isLetter", desc := "(I)Z" } : Jvm.MethodName) prog_10_method_2_code (2 : Nat) (Option.some Jvm.ClassFile.FieldType.boolean)) ∈ lw_all := lw_g (lw_at lw_m2 220 rfl) rfl
theorem q576 : (Jvm.Cond.methodLink "BeeYard$Reader" (39 : Nat) ({ cls := "BeeYard$Reader", name := "isDigit", desc := "(I)Z" } : Jvm.MethodName)) ∈ lw_all := lw_g (lw_at lw_m2 221 rfl) rfl
theorem q577 : (Jvm.Cond.privateMethod ({ cls := "BeeYard$Reader", name := "isDigit", desc := "(I)Z" } : Jvm.MethodName)) ∈ lw_tbl := lw_at lw_m2 222 rfl
theorem q578 : (Jvm.Cond.instanceMethod ({ cls := "BeeYard$Reader", name := "isDigit", desc := "(I)Z" } : Jvm.MethodName)) ∈ lw_all := lw_g (lw_at lw_m2 223 rfl) rfl
theorem q579 : (Jvm.Cond.code ({ cls := "BeeYard$Reader", name := "isDigit", desc := "(I)Z" } : Jvm.MethodName) prog_10_method_3_code (2 : Nat) (Option.some Jvm.ClassFile.FieldType.boolean)) ∈ lw_all := lw_g (lw_at lw_m2 224 rfl) rfl
theorem q580 : (Jvm.Cond.fieldLink "BeeYard$Reader" (15 : Nat) "BeeYard$Reader" "size" "I") ∈ lw_all := lw_g (lw_at lw_m2 225 rfl) rfl
theorem q581 : (Jvm.Cond.fieldLink "BeeYard$Reader" (29 : Nat) "BeeYard$Reader" "at" "I") ∈ lw_all := lw_g (lw_at lw_m2 226 rfl) rfl
theorem q582 : (Jvm.Cond.fieldLink "BeeYard$Reader" (26 : Nat) "BeeYard$Reader" "behind" "I") ∈ lw_all := lw_g (lw_at lw_m2 227 rfl) rfl
theorem q583 : (Jvm.Cond.fieldLink "BeeYard$Reader" (32 : Nat) "BeeYard$Reader" "sort" "I") ∈ lw_all := lw_g (lw_at lw_m2 228 rfl) rfl
theorem q584 : (Jvm.Cond.fieldLink "BeeYard$Reader" (42 : Nat) "BeeYard$Reader" "number" "I") ∈ lw_all := lw_g (lw_at lw_m2 229 rfl) rfl
theorem q585 : (Jvm.Cond.fieldLink "BeeYard$Reader" (233 : Nat) "BeeYard$Reader" "steps" "I") ∈ lw_all := lw_g (lw_at lw_m2 230 rfl) rfl
theorem q587 : (Jvm.Cond.fieldLink "BeeYard$Reader" (3 : Nat) "BeeYard$Reader" "this$0" "LBeeYard;") ∈ lw_all := lw_g (lw_at lw_m2 232 rfl) rfl
theorem q588 : (Jvm.Cond.laysFinal "BeeYard$Reader" "BeeYard$Reader" "size" "I") ∈ lw_all := lw_g (lw_at lw_m2 233 rfl) rfl
theorem q589 : (Jvm.Cond.soleField "BeeYard$Reader" "size") ∈ lw_all := lw_g (lw_at lw_m2 234 rfl) rfl
theorem q590 : (Jvm.Cond.lays "BeeYard$Reader" "BeeYard$Reader" "at" "I") ∈ lw_all := lw_g (lw_at lw_m2 235 rfl) rfl
theorem q591 : (Jvm.Cond.soleField "BeeYard$Reader" "at") ∈ lw_all := lw_g (lw_at lw_m2 236 rfl) rfl
theorem q592 : (Jvm.Cond.lays "BeeYard$Reader" "BeeYard$Reader" "behind" "I") ∈ lw_all := lw_g (lw_at lw_m2 237 rfl) rfl
theorem q593 : (Jvm.Cond.soleField "BeeYard$Reader" "behind") ∈ lw_all := lw_g (lw_at lw_m2 238 rfl) rfl
theorem q594 : (Jvm.Cond.lays "BeeYard$Reader" "BeeYard$Reader" "sort" "I") ∈ lw_all := lw_g (lw_at lw_m2 239 rfl) rfl
theorem q595 : (Jvm.Cond.soleField "BeeYard$Reader" "sort") ∈ lw_all := lw_g (lw_at lw_m3 0 rfl) rfl
theorem q596 : (Jvm.Cond.lays "BeeYard$Reader" "BeeYard$Reader" "number" "I") ∈ lw_all := lw_g (lw_at lw_m3 1 rfl) rfl
theorem q597 : (Jvm.Cond.soleField "BeeYard$Reader" "number") ∈ lw_all := lw_g (lw_at lw_m3 2 rfl) rfl
theorem q598 : (Jvm.Cond.lays "BeeYard$Reader" "BeeYard$Reader" "steps" "I") ∈ lw_all := lw_g (lw_at lw_m3 3 rfl) rfl
theorem q599 : (Jvm.Cond.soleField "BeeYard$Reader" "steps") ∈ lw_all := lw_g (lw_at lw_m3 4 rfl) rfl
theorem q600 : (Jvm.Cond.laysFinal "BeeYard$Reader" "BeeYard$Reader" "this$0" "LBeeYard;") ∈ lw_all := lw_g (lw_at lw_m3 5 rfl) rfl
theorem q601 : (Jvm.Cond.soleField "BeeYard$Reader" "this$0") ∈ lw_all := lw_g (lw_at lw_m3 6 rfl) rfl
theorem q602 : (Jvm.Cond.superclass "BeeYard$Reader" "java/lang/Object") ∈ lw_all := lw_g (lw_at lw_m3 7 rfl) rfl
theorem q604 : (Jvm.Cond.instanceMethod ({ cls := "BeeYard$Reader", name := "yard", desc := "(LBeeYard$Yard;)V" } : Jvm.MethodName)) ∈ lw_all := lw_g (lw_at lw_m3 9 rfl) rfl
theorem q605 : (Jvm.Cond.selects "BeeYard$Reader" ({ cls := "BeeYard$Reader", name := "yard", desc := "(LBeeYard$Yard;)V" } : Jvm.MethodName) ({ cls := "BeeYard$Reader", name := "yard", desc := "(LBeeYard$Yard;)V" } : Jvm.MethodName)) ∈ lw_all := lw_g (lw_at lw_m3 10 rfl) rfl
theorem q606 : (Jvm.Cond.code ({ cls := "BeeYard$Reader", name := "yard", desc := "(LBeeYard$Yard;)V" } : Jvm.MethodName) prog_10_method_19_code (3 : Nat) (Option.none : Option Jvm.ClassFile.FieldType)) ∈ lw_all := lw_g (lw_at lw_m3 11 rfl) rfl
theorem q607 : (Jvm.Cond.stringRef "BeeYard$Reader" (101 : Nat) "hive") ∈ lw_tbl := lw_at lw_m3 12 rfl
theorem q608 : (Jvm.Cond.methodLink "BeeYard$Reader" (72 : Nat) ({ cls := "BeeYard$Reader", name := "isWord", desc := "(Ljava/lang/String;)Z" } : Jvm.MethodName)) ∈ lw_all := lw_g (lw_at lw_m3 13 rfl) rfl
theorem q609 : (Jvm.Cond.privateMethod ({ cls := "BeeYard$Reader", name := "isWord", desc := "(Ljava/lang/String;)Z" } : Jvm.MethodName)) ∈ lw_tbl := lw_at lw_m3 14 rfl
theorem q610 : (Jvm.Cond.instanceMethod ({ cls := "BeeYard$Reader", name := "isWord", desc := "(Ljava/lang/String;)Z" } : Jvm.MethodName)) ∈ lw_all := lw_g (lw_at lw_m3 15 rfl) rfl
theorem q611 : (Jvm.Cond.code ({ cls := "BeeYard$Reader", name := "isWord", desc := "(Ljava/lang/String;)Z" } : Jvm.MethodName) prog_10_method_5_code (3 : Nat) (Option.some Jvm.ClassFile.FieldType.boolean)) ∈ lw_all := lw_g (lw_at lw_m3 16 rfl) rfl
theorem q612 : (Jvm.Cond.methodLink "BeeYard$Reader" (45 : Nat) ({ cls := "java/lang/String", name := "length", desc := "()I" } : Jvm.MethodName)) ∈ lw_all := lw_g (lw_at lw_m3 17 rfl) rfl
theorem q622 : (Jvm.Cond.methodLink "BeeYard$Reader" (51 : Nat) ({ cls := "java/lang/String", name := "charAt", desc := "(I)C" } : Jvm.MethodName)) ∈ lw_all := lw_g (lw_at lw_m3 27 rfl) rfl
theorem q660 : (Jvm.Cond.methodLink "BeeYard$Reader" (165 : Nat) ({ cls := "BeeYard$Reader", name := "newHive", desc := "(LBeeYard$Yard;)V" } : Jvm.MethodName)) ∈ lw_all := lw_g (lw_at lw_m3 65 rfl) rfl
theorem q661 : (Jvm.Cond.privateMethod ({ cls := "BeeYard$Reader", name := "newHive", desc := "(LBeeYard$Yard;)V" } : Jvm.MethodName)) ∈ lw_tbl := lw_at lw_m3 66 rfl
theorem q662 : (Jvm.Cond.instanceMethod ({ cls := "BeeYard$Reader", name := "newHive", desc := "(LBeeYard$Yard;)V" } : Jvm.MethodName)) ∈ lw_all := lw_g (lw_at lw_m3 67 rfl) rfl
theorem q663 : (Jvm.Cond.code ({ cls := "BeeYard$Reader", name := "newHive", desc := "(LBeeYard$Yard;)V" } : Jvm.MethodName) prog_10_method_20_code (6 : Nat) (Option.none : Option Jvm.ClassFile.FieldType)) ∈ lw_all := lw_g (lw_at lw_m3 68 rfl) rfl
theorem q664 : (Jvm.Cond.methodLink "BeeYard$Reader" (59 : Nat) ({ cls := "BeeYard$Bad", name := "at", desc := "(II)LBeeYard$Bad;" } : Jvm.MethodName)) ∈ lw_all := lw_g (lw_at lw_m3 69 rfl) rfl
theorem q668 : (Jvm.Cond.methodLink "BeeYard$Reader" (192 : Nat) ({ cls := "BeeYard$Reader", name := "fresh", desc := "(LBeeYard$Yard;)J" } : Jvm.MethodName)) ∈ lw_all := lw_g (lw_at lw_m3 73 rfl) rfl
theorem q669 : (Jvm.Cond.privateMethod ({ cls := "BeeYard$Reader", name := "fresh", desc := "(LBeeYard$Yard;)J" } : Jvm.MethodName)) ∈ lw_tbl := lw_at lw_m3 74 rfl
theorem q670 : (Jvm.Cond.instanceMethod ({ cls := "BeeYard$Reader", name := "fresh", desc := "(LBeeYard$Yard;)J" } : Jvm.MethodName)) ∈ lw_all := lw_g (lw_at lw_m3 75 rfl) rfl
theorem q671 : (Jvm.Cond.code ({ cls := "BeeYard$Reader", name := "fresh", desc := "(LBeeYard$Yard;)J" } : Jvm.MethodName) prog_10_method_15_code (4 : Nat) (Option.some Jvm.ClassFile.FieldType.long)) ∈ lw_all := lw_g (lw_at lw_m3 76 rfl) rfl
theorem q672 : (Jvm.Cond.methodLink "BeeYard$Reader" (139 : Nat) ({ cls := "BeeYard$Reader", name := "name", desc := "()J" } : Jvm.MethodName)) ∈ lw_all := lw_g (lw_at lw_m3 77 rfl) rfl
theorem q673 : (Jvm.Cond.privateMethod ({ cls := "BeeYard$Reader", name := "name", desc := "()J" } : Jvm.MethodName)) ∈ lw_tbl := lw_at lw_m3 78 rfl
theorem q674 : (Jvm.Cond.instanceMethod ({ cls := "BeeYard$Reader", name := "name", desc := "()J" } : Jvm.MethodName)) ∈ lw_all := lw_g (lw_at lw_m3 79 rfl) rfl
theorem q675 : (Jvm.Cond.code ({ cls := "BeeYard$Reader", name := "name", desc := "()J" } : Jvm.MethodName) prog_10_method_14_code (4 : Nat) (Option.some Jvm.ClassFile.FieldType.long)) ∈ lw_all := lw_g (lw_at lw_m3 80 rfl) rfl
theorem q676 : (Jvm.Cond.methodLink "BeeYard$Reader" (131 : Nat) ({ cls := "BeeYard$Reader", name := "isKept", desc := "()Z" } : Jvm.MethodName)) ∈ lw_all := lw_g (lw_at lw_m3 81 rfl) rfl
theorem q677 : (Jvm.Cond.privateMethod ({ cls := "BeeYard$Reader", name := "isKept", desc := "()Z" } : Jvm.MethodName)) ∈ lw_tbl := lw_at lw_m3 82 rfl
theorem q678 : (Jvm.Cond.instanceMethod ({ cls := "BeeYard$Reader", name := "isKept", desc := "()Z" } : Jvm.MethodName)) ∈ lw_all := lw_g (lw_at lw_m3 83 rfl) rfl
theorem q679 : (Jvm.Cond.code ({ cls := "BeeYard$Reader", name := "isKept", desc := "()Z" } : Jvm.MethodName) prog_10_method_13_code (2 : Nat) (Option.some Jvm.ClassFile.FieldType.boolean)) ∈ lw_all := lw_g (lw_at lw_m3 84 rfl) rfl
theorem q680 : (Jvm.Cond.stringRef "BeeYard$Reader" (103 : Nat) "boxes") ∈ lw_tbl := lw_at lw_m3 85 rfl
theorem q681 : (Jvm.Cond.stringRef "BeeYard$Reader" (105 : Nat) "frames") ∈ lw_tbl := lw_at lw_m3 86 rfl
theorem q682 : (Jvm.Cond.stringRef "BeeYard$Reader" (107 : Nat) "drone") ∈ lw_tbl := lw_at lw_m3 87 rfl
theorem q683 : (Jvm.Cond.stringRef "BeeYard$Reader" (109 : Nat) "of") ∈ lw_tbl := lw_at lw_m3 88 rfl
theorem q684 : (Jvm.Cond.stringRef "BeeYard$Reader" (111 : Nat) "queen") ∈ lw_tbl := lw_at lw_m3 89 rfl
theorem q685 : (Jvm.Cond.stringRef "BeeYard$Reader" (113 : Nat) "lays") ∈ lw_tbl := lw_at lw_m3 90 rfl
theorem q686 : (Jvm.Cond.stringRef "BeeYard$Reader" (115 : Nat) "by") ∈ lw_tbl := lw_at lw_m3 91 rfl
theorem q687 : (Jvm.Cond.stringRef "BeeYard$Reader" (117 : Nat) "in") ∈ lw_tbl := lw_at lw_m3 92 rfl
theorem q688 : (Jvm.Cond.methodLink "BeeYard$Reader" (119 : Nat) ({ cls := "BeeYard$Reader", name := "acts", desc := "()I" } : Jvm.MethodName)) ∈ lw_all := lw_g (lw_at lw_m3 93 rfl) rfl
theorem q689 : (Jvm.Cond.privateMethod ({ cls := "BeeYard$Reader", name := "acts", desc := "()I" } : Jvm.MethodName)) ∈ lw_tbl := lw_at lw_m3 94 rfl
theorem q690 : (Jvm.Cond.instanceMethod ({ cls := "BeeYard$Reader", name := "acts", desc := "()I" } : Jvm.MethodName)) ∈ lw_all := lw_g (lw_at lw_m3 95 rfl) rfl
theorem q691 : (Jvm.Cond.code ({ cls := "BeeYard$Reader", name := "acts", desc := "()I" } : Jvm.MethodName) prog_10_method_11_code (1 : Nat) (Option.some Jvm.ClassFile.FieldType.int)) ∈ lw_all := lw_g (lw_at lw_m3 96 rfl) rfl
theorem q692 : (Jvm.Cond.stringRef "BeeYard$Reader" (79 : Nat) "days") ∈ lw_tbl := lw_at lw_m3 97 rfl
theorem q693 : (Jvm.Cond.stringRef "BeeYard$Reader" (81 : Nat) "bring") ∈ lw_tbl := lw_at lw_m3 98 rfl
theorem q694 : (Jvm.Cond.stringRef "BeeYard$Reader" (83 : Nat) "harvest") ∈ lw_tbl := lw_at lw_m3 99 rfl
theorem q695 : (Jvm.Cond.stringRef "BeeYard$Reader" (85 : Nat) "move") ∈ lw_tbl := lw_at lw_m3 100 rfl
theorem q696 : (Jvm.Cond.stringRef "BeeYard$Reader" (87 : Nat) "bloom") ∈ lw_tbl := lw_at lw_m3 101 rfl
theorem q697 : (Jvm.Cond.stringRef "BeeYard$Reader" (89 : Nat) "seat") ∈ lw_tbl := lw_at lw_m3 102 rfl
theorem q698 : (Jvm.Cond.stringRef "BeeYard$Reader" (91 : Nat) "stop") ∈ lw_tbl := lw_at lw_m3 103 rfl
theorem q699 : (Jvm.Cond.methodLink "BeeYard$Reader" (122 : Nat) ({ cls := "BeeYard$Reader", name := "tests", desc := "()I" } : Jvm.MethodName)) ∈ lw_all := lw_g (lw_at lw_m3 104 rfl) rfl
theorem q700 : (Jvm.Cond.privateMethod ({ cls := "BeeYard$Reader", name := "tests", desc := "()I" } : Jvm.MethodName)) ∈ lw_tbl := lw_at lw_m3 105 rfl
theorem q701 : (Jvm.Cond.instanceMethod ({ cls := "BeeYard$Reader", name := "tests", desc := "()I" } : Jvm.MethodName)) ∈ lw_all := lw_g (lw_at lw_m3 106 rfl) rfl
theorem q702 : (Jvm.Cond.code ({ cls := "BeeYard$Reader", name := "tests", desc := "()I" } : Jvm.MethodName) prog_10_method_12_code (1 : Nat) (Option.some Jvm.ClassFile.FieldType.int)) ∈ lw_all := lw_g (lw_at lw_m3 107 rfl) rfl
theorem q703 : (Jvm.Cond.stringRef "BeeYard$Reader" (93 : Nat) "crowded") ∈ lw_tbl := lw_at lw_m3 108 rfl
theorem q704 : (Jvm.Cond.stringRef "BeeYard$Reader" (95 : Nat) "bees") ∈ lw_tbl := lw_at lw_m3 109 rfl
theorem q705 : (Jvm.Cond.stringRef "BeeYard$Reader" (97 : Nat) "honey") ∈ lw_tbl := lw_at lw_m3 110 rfl
theorem q706 : (Jvm.Cond.stringRef "BeeYard$Reader" (99 : Nat) "brood") ∈ lw_tbl := lw_at lw_m3 111 rfl
theorem q707 : (Jvm.Cond.stringRef "BeeYard$Reader" (125 : Nat) "when") ∈ lw_tbl := lw_at lw_m3 112 rfl
theorem q708 : (Jvm.Cond.stringRef "BeeYard$Reader" (127 : Nat) "loop") ∈ lw_tbl := lw_at lw_m3 113 rfl
theorem q709 : (Jvm.Cond.stringRef "BeeYard$Reader" (129 : Nat) "end") ∈ lw_tbl := lw_at lw_m3 114 rfl
theorem q710 : (Jvm.Cond.methodLink "BeeYard$Reader" (68 : Nat) ({ cls := "BeeYard$Reader", name := "wrong", desc := "()LBeeYard$Bad;" } : Jvm.MethodName)) ∈ lw_all := lw_g (lw_at lw_m3 115 rfl) rfl
theorem q711 : (Jvm.Cond.privateMethod ({ cls := "BeeYard$Reader", name := "wrong", desc := "()LBeeYard$Bad;" } : Jvm.MethodName)) ∈ lw_tbl := lw_at lw_m3 116 rfl
theorem q712 : (Jvm.Cond.instanceMethod ({ cls := "BeeYard$Reader", name := "wrong", desc := "()LBeeYard$Bad;" } : Jvm.MethodName)) ∈ lw_all := lw_g (lw_at lw_m3 117 rfl) rfl
theorem q713 : (Jvm.Cond.code ({ cls := "BeeYard$Reader", name := "wrong", desc := "()LBeeYard$Bad;" } : Jvm.MethodName) prog_10_method_7_code (1 : Nat) (Option.some (Jvm.ClassFile.FieldType.object "BeeYard$Bad"))) ∈ lw_all := lw_g (lw_at lw_m3 118 rfl) rfl
theorem q714 : (Jvm.Cond.constantLong "BeeYard$Reader" (135 : Nat) (32 : Int64)) ∈ lw_all := lw_g (lw_at lw_m3 119 rfl) rfl
theorem q715 : (Jvm.Cond.constantLong "BeeYard$Reader" (137 : Nat) (96 : Int64)) ∈ lw_all := lw_g (lw_at lw_m3 120 rfl) rfl
theorem q716 : (Jvm.Cond.methodLink "BeeYard$Reader" (143 : Nat) ({ cls := "BeeYard$Yard", name := "hiveNamed", desc := "(J)I" } : Jvm.MethodName)) ∈ lw_all := lw_g (lw_at lw_m3 121 rfl) rfl
theorem q720 : (Jvm.Cond.methodLink "BeeYard$Reader" (153 : Nat) ({ cls := "BeeYard$Lines", name := "queenNamed", desc := "(J)I" } : Jvm.MethodName)) ∈ lw_all := lw_g (lw_at lw_m3 125 rfl) rfl
theorem q724 : (Jvm.Cond.methodLink "BeeYard$Reader" (158 : Nat) ({ cls := "BeeYard$Lines", name := "droneNamed", desc := "(J)I" } : Jvm.MethodName)) ∈ lw_all := lw_g (lw_at lw_m3 129 rfl) rfl
theorem q728 : (Jvm.Cond.methodLink "BeeYard$Reader" (196 : Nat) ({ cls := "BeeYard$Reader", name := "behind", desc := "(Ljava/lang/String;II)I" } : Jvm.MethodName)) ∈ lw_all := lw_g (lw_at lw_m3 133 rfl) rfl
theorem q729 : (Jvm.Cond.privateMethod ({ cls := "BeeYard$Reader", name := "behind", desc := "(Ljava/lang/String;II)I" } : Jvm.MethodName)) ∈ lw_tbl := lw_at lw_m3 134 rfl
theorem q730 : (Jvm.Cond.instanceMethod ({ cls := "BeeYard$Reader", name := "behind", desc := "(Ljava/lang/String;II)I" } : Jvm.MethodName)) ∈ lw_all := lw_g (lw_at lw_m3 135 rfl) rfl
theorem q731 : (Jvm.Cond.code ({ cls := "BeeYard$Reader", name := "behind", desc := "(Ljava/lang/String;II)I" } : Jvm.MethodName) prog_10_method_10_code (4 : Nat) (Option.some Jvm.ClassFile.FieldType.int)) ∈ lw_all := lw_g (lw_at lw_m3 136 rfl) rfl
theorem q732 : (Jvm.Cond.methodLink "BeeYard$Reader" (76 : Nat) ({ cls := "BeeYard$Reader", name := "number", desc := "(II)I" } : Jvm.MethodName)) ∈ lw_all := lw_g (lw_at lw_m3 137 rfl) rfl
theorem q733 : (Jvm.Cond.privateMethod ({ cls := "BeeYard$Reader", name := "number", desc := "(II)I" } : Jvm.MethodName)) ∈ lw_tbl := lw_at lw_m3 138 rfl
theorem q734 : (Jvm.Cond.instanceMethod ({ cls := "BeeYard$Reader", name := "number", desc := "(II)I" } : Jvm.MethodName)) ∈ lw_all := lw_g (lw_at lw_m3 139 rfl) rfl
theorem q735 : (Jvm.Cond.code ({ cls := "BeeYard$Reader", name := "number", desc := "(II)I" } : Jvm.MethodName) prog_10_method_9_code (4 : Nat) (Option.some Jvm.ClassFile.FieldType.int)) ∈ lw_all := lw_g (lw_at lw_m3 140 rfl) rfl
theorem q736 : (Jvm.Cond.classLink "BeeYard$Reader" (189 : Nat) "BeeYard$Hive") ∈ lw_all := lw_g (lw_at lw_m3 141 rfl) rfl
theorem q738 : (Jvm.Cond.methodLink "BeeYard$Reader" (199 : Nat) ({ cls := "BeeYard$Hive", name := "<init>", desc := "(JI)V" } : Jvm.MethodName)) ∈ lw_all := lw_g (lw_at lw_m3 143 rfl) rfl
theorem q749 : (Jvm.Cond.fieldLinkNest "BeeYard$Reader" (257 : Nat) "BeeYard$Hive" "frames" "[[S" "BeeYard") ∈ lw_tbl := lw_at lw_m3 154 rfl
theorem q755 : (Jvm.Cond.fieldLinkNest "BeeYard$Reader" (202 : Nat) "BeeYard$Hive" "bees" "I" "BeeYard") ∈ lw_tbl := lw_at lw_m3 160 rfl
theorem q762 : (Jvm.Cond.fieldLinkNest "BeeYard$Reader" (224 : Nat) "BeeYard$Hive" "queen" "I" "BeeYard") ∈ lw_tbl := lw_at lw_m3 167 rfl
theorem q798 : (Jvm.Cond.methodLink "BeeYard$Reader" (204 : Nat) ({ cls := "BeeYard$Hive", name := "fields", desc := "()I" } : Jvm.MethodName)) ∈ lw_all := lw_g (lw_at lw_m3 203 rfl) rfl
theorem q802 : (Jvm.Cond.methodLink "BeeYard$Reader" (207 : Nat) ({ cls := "BeeYard$Hive", name := "stores", desc := "(I)I" } : Jvm.MethodName)) ∈ lw_all := lw_g (lw_at lw_m3 207 rfl) rfl
theorem q822 : (Jvm.Cond.methodLink "BeeYard$Reader" (169 : Nat) ({ cls := "BeeYard$Reader", name := "newDrone", desc := "(LBeeYard$Yard;)V" } : Jvm.MethodName)) ∈ lw_all := lw_g (lw_at lw_m3 227 rfl) rfl
theorem q823 : (Jvm.Cond.privateMethod ({ cls := "BeeYard$Reader", name := "newDrone", desc := "(LBeeYard$Yard;)V" } : Jvm.MethodName)) ∈ lw_tbl := lw_at lw_m3 228 rfl
theorem q824 : (Jvm.Cond.instanceMethod ({ cls := "BeeYard$Reader", name := "newDrone", desc := "(LBeeYard$Yard;)V" } : Jvm.MethodName)) ∈ lw_all := lw_g (lw_at lw_m3 229 rfl) rfl
theorem q825 : (Jvm.Cond.code ({ cls := "BeeYard$Reader", name := "newDrone", desc := "(LBeeYard$Yard;)V" } : Jvm.MethodName) prog_10_method_21_code (4 : Nat) (Option.none : Option Jvm.ClassFile.FieldType)) ∈ lw_all := lw_g (lw_at lw_m3 230 rfl) rfl
theorem q826 : (Jvm.Cond.methodLink "BeeYard$Reader" (213 : Nat) ({ cls := "BeeYard$Reader", name := "mother", desc := "(LBeeYard$Yard;)I" } : Jvm.MethodName)) ∈ lw_all := lw_g (lw_at lw_m3 231 rfl) rfl
theorem q827 : (Jvm.Cond.privateMethod ({ cls := "BeeYard$Reader", name := "mother", desc := "(LBeeYard$Yard;)I" } : Jvm.MethodName)) ∈ lw_tbl := lw_at lw_m3 232 rfl
theorem q828 : (Jvm.Cond.instanceMethod ({ cls := "BeeYard$Reader", name := "mother", desc := "(LBeeYard$Yard;)I" } : Jvm.MethodName)) ∈ lw_all := lw_g (lw_at lw_m3 233 rfl) rfl
theorem q829 : (Jvm.Cond.code ({ cls := "BeeYard$Reader", name := "mother", desc := "(LBeeYard$Yard;)I" } : Jvm.MethodName) prog_10_method_18_code (3 : Nat) (Option.some Jvm.ClassFile.FieldType.int)) ∈ lw_all := lw_g (lw_at lw_m3 234 rfl) rfl
theorem q830 : (Jvm.Cond.methodLink "BeeYard$Reader" (161 : Nat) ({ cls := "BeeYard$Reader", name := "known", desc := "(I)I" } : Jvm.MethodName)) ∈ lw_all := lw_g (lw_at lw_m3 235 rfl) rfl
theorem q831 : (Jvm.Cond.privateMethod ({ cls := "BeeYard$Reader", name := "known", desc := "(I)I" } : Jvm.MethodName)) ∈ lw_tbl := lw_at lw_m3 236 rfl
theorem q832 : (Jvm.Cond.instanceMethod ({ cls := "BeeYard$Reader", name := "known", desc := "(I)I" } : Jvm.MethodName)) ∈ lw_all := lw_g (lw_at lw_m3 237 rfl) rfl
theorem q833 : (Jvm.Cond.code ({ cls := "BeeYard$Reader", name := "known", desc := "(I)I" } : Jvm.MethodName) prog_10_method_16_code (2 : Nat) (Option.some Jvm.ClassFile.FieldType.int)) ∈ lw_all := lw_g (lw_at lw_m3 238 rfl) rfl
theorem q834 : (Jvm.Cond.methodLink "BeeYard$Reader" (217 : Nat) ({ cls := "BeeYard$Lines", name := "adds", desc := "(IJII)V" } : Jvm.MethodName)) ∈ lw_all := lw_g (lw_at lw_m3 239 rfl) rfl
theorem q842 : (Jvm.Cond.methodLink "BeeYard$Reader" (172 : Nat) ({ cls := "BeeYard$Reader", name := "newQueen", desc := "(LBeeYard$Yard;)V" } : Jvm.MethodName)) ∈ lw_all := lw_g (lw_at lw_m4 7 rfl) rfl
theorem q843 : (Jvm.Cond.privateMethod ({ cls := "BeeYard$Reader", name := "newQueen", desc := "(LBeeYard$Yard;)V" } : Jvm.MethodName)) ∈ lw_tbl := lw_at lw_m4 8 rfl
theorem q844 : (Jvm.Cond.instanceMethod ({ cls := "BeeYard$Reader", name := "newQueen", desc := "(LBeeYard$Yard;)V" } : Jvm.MethodName)) ∈ lw_all := lw_g (lw_at lw_m4 9 rfl) rfl
theorem q845 : (Jvm.Cond.code ({ cls := "BeeYard$Reader", name := "newQueen", desc := "(LBeeYard$Yard;)V" } : Jvm.MethodName) prog_10_method_22_code (9 : Nat) (Option.none : Option Jvm.ClassFile.FieldType)) ∈ lw_all := lw_g (lw_at lw_m4 10 rfl) rfl
theorem q846 : (Jvm.Cond.methodLink "BeeYard$Reader" (175 : Nat) ({ cls := "BeeYard$Reader", name := "close", desc := "()V" } : Jvm.MethodName)) ∈ lw_all := lw_g (lw_at lw_m4 11 rfl) rfl
theorem q847 : (Jvm.Cond.privateMethod ({ cls := "BeeYard$Reader", name := "close", desc := "()V" } : Jvm.MethodName)) ∈ lw_tbl := lw_at lw_m4 12 rfl
theorem q848 : (Jvm.Cond.instanceMethod ({ cls := "BeeYard$Reader", name := "close", desc := "()V" } : Jvm.MethodName)) ∈ lw_all := lw_g (lw_at lw_m4 13 rfl) rfl
theorem q849 : (Jvm.Cond.code ({ cls := "BeeYard$Reader", name := "close", desc := "()V" } : Jvm.MethodName) prog_10_method_8_code (1 : Nat) (Option.none : Option Jvm.ClassFile.FieldType)) ∈ lw_all := lw_g (lw_at lw_m4 14 rfl) rfl
theorem q850 : (Jvm.Cond.methodLink "BeeYard$Reader" (64 : Nat) ({ cls := "BeeYard$Reader", name := "isSign", desc := "(C)Z" } : Jvm.MethodName)) ∈ lw_all := lw_g (lw_at lw_m4 15 rfl) rfl
theorem q851 : (Jvm.Cond.privateMethod ({ cls := "BeeYard$Reader", name := "isSign", desc := "(C)Z" } : Jvm.MethodName)) ∈ lw_tbl := lw_at lw_m4 16 rfl
theorem q852 : (Jvm.Cond.instanceMethod ({ cls := "BeeYard$Reader", name := "isSign", desc := "(C)Z" } : Jvm.MethodName)) ∈ lw_all := lw_g (lw_at lw_m4 17 rfl) rfl
theorem q853 : (Jvm.Cond.code ({ cls := "BeeYard$Reader", name := "isSign", desc := "(C)Z" } : Jvm.MethodName) prog_10_method_6_code (2 : Nat) (Option.some Jvm.ClassFile.FieldType.boolean)) ∈ lw_all := lw_g (lw_at lw_m4 18 rfl) rfl
theorem q854 : (Jvm.Cond.methodLink "BeeYard$Reader" (188 : Nat) ({ cls := "BeeYard$Hive", name := "honey", desc := "()I" } : Jvm.MethodName)) ∈ lw_all := lw_g (lw_at lw_m4 19 rfl) rfl
theorem q914 : (Jvm.Cond.instanceMethod ({ cls := "BeeYard$Reader", name := "season", desc := "(LBeeYard$Yard;LBeeYard$Block;)V" } : Jvm.MethodName)) ∈ lw_all := lw_g (lw_at lw_m4 79 rfl) rfl
theorem q915 : (Jvm.Cond.selects "BeeYard$Reader" ({ cls := "BeeYard$Reader", name := "season", desc := "(LBeeYard$Yard;LBeeYard$Block;)V" } : Jvm.MethodName) ({ cls := "BeeYard$Reader", name := "season", desc := "(LBeeYard$Yard;LBeeYard$Block;)V" } : Jvm.MethodName)) ∈ lw_all := lw_g (lw_at lw_m4 80 rfl) rfl
theorem q916 : (Jvm.Cond.code ({ cls := "BeeYard$Reader", name := "season", desc := "(LBeeYard$Yard;LBeeYard$Block;)V" } : Jvm.MethodName) prog_10_method_23_code (3 : Nat) (Option.none : Option Jvm.ClassFile.FieldType)) ∈ lw_all := lw_g (lw_at lw_m4 81 rfl) rfl
theorem q917 : (Jvm.Cond.methodLink "BeeYard$Reader" (229 : Nat) ({ cls := "BeeYard$Reader", name := "step", desc := "(LBeeYard$Yard;LBeeYard$Block;I)V" } : Jvm.MethodName)) ∈ lw_all := lw_g (lw_at lw_m4 82 rfl) rfl
theorem q918 : (Jvm.Cond.privateMethod ({ cls := "BeeYard$Reader", name := "step", desc := "(LBeeYard$Yard;LBeeYard$Block;I)V" } : Jvm.MethodName)) ∈ lw_tbl := lw_at lw_m4 83 rfl
theorem q919 : (Jvm.Cond.instanceMethod ({ cls := "BeeYard$Reader", name := "step", desc := "(LBeeYard$Yard;LBeeYard$Block;I)V" } : Jvm.MethodName)) ∈ lw_all := lw_g (lw_at lw_m4 84 rfl) rfl
theorem q920 : (Jvm.Cond.code ({ cls := "BeeYard$Reader", name := "step", desc := "(LBeeYard$Yard;LBeeYard$Block;I)V" } : Jvm.MethodName) prog_10_method_24_code (7 : Nat) (Option.none : Option Jvm.ClassFile.FieldType)) ∈ lw_all := lw_g (lw_at lw_m4 85 rfl) rfl
theorem q921 : (Jvm.Cond.methodLink "BeeYard$Reader" (236 : Nat) ({ cls := "BeeYard$Reader", name := "block", desc := "(LBeeYard$Yard;ZI)LBeeYard$Block;" } : Jvm.MethodName)) ∈ lw_all := lw_g (lw_at lw_m4 86 rfl) rfl
theorem q922 : (Jvm.Cond.privateMethod ({ cls := "BeeYard$Reader", name := "block", desc := "(LBeeYard$Yard;ZI)LBeeYard$Block;" } : Jvm.MethodName)) ∈ lw_tbl := lw_at lw_m4 87 rfl
theorem q923 : (Jvm.Cond.instanceMethod ({ cls := "BeeYard$Reader", name := "block", desc := "(LBeeYard$Yard;ZI)LBeeYard$Block;" } : Jvm.MethodName)) ∈ lw_all := lw_g (lw_at lw_m4 88 rfl) rfl
theorem q924 : (Jvm.Cond.code ({ cls := "BeeYard$Reader", name := "block", desc := "(LBeeYard$Yard;ZI)LBeeYard$Block;" } : Jvm.MethodName) prog_10_method_26_code (5 : Nat) (Option.some (Jvm.ClassFile.FieldType.object "BeeYard$Block"))) ∈ lw_all := lw_g (lw_at lw_m4 89 rfl) rfl
theorem q925 : (Jvm.Cond.methodLink "BeeYard$Reader" (260 : Nat) ({ cls := "BeeYard$Reader", name := "when", desc := "(LBeeYard$Yard;)LBeeYard$When;" } : Jvm.MethodName)) ∈ lw_all := lw_g (lw_at lw_m4 90 rfl) rfl
theorem q926 : (Jvm.Cond.privateMethod ({ cls := "BeeYard$Reader", name := "when", desc := "(LBeeYard$Yard;)LBeeYard$When;" } : Jvm.MethodName)) ∈ lw_tbl := lw_at lw_m4 91 rfl
theorem q927 : (Jvm.Cond.instanceMethod ({ cls := "BeeYard$Reader", name := "when", desc := "(LBeeYard$Yard;)LBeeYard$When;" } : Jvm.MethodName)) ∈ lw_all := lw_g (lw_at lw_m4 92 rfl) rfl
theorem q928 : (Jvm.Cond.code ({ cls := "BeeYard$Reader", name := "when", desc := "(LBeeYard$Yard;)LBeeYard$When;" } : Jvm.MethodName) prog_10_method_27_code (5 : Nat) (Option.some (Jvm.ClassFile.FieldType.object "BeeYard$When"))) ∈ lw_all := lw_g (lw_at lw_m4 93 rfl) rfl
theorem q929 : (Jvm.Cond.methodLink "BeeYard$Reader" (255 : Nat) ({ cls := "BeeYard$Reader", name := "hive", desc := "(LBeeYard$Yard;)I" } : Jvm.MethodName)) ∈ lw_all := lw_g (lw_at lw_m4 94 rfl) rfl
theorem q930 : (Jvm.Cond.privateMethod ({ cls := "BeeYard$Reader", name := "hive", desc := "(LBeeYard$Yard;)I" } : Jvm.MethodName)) ∈ lw_tbl := lw_at lw_m4 95 rfl
theorem q931 : (Jvm.Cond.instanceMethod ({ cls := "BeeYard$Reader", name := "hive", desc := "(LBeeYard$Yard;)I" } : Jvm.MethodName)) ∈ lw_all := lw_g (lw_at lw_m4 96 rfl) rfl
theorem q932 : (Jvm.Cond.code ({ cls := "BeeYard$Reader", name := "hive", desc := "(LBeeYard$Yard;)I" } : Jvm.MethodName) prog_10_method_17_code (3 : Nat) (Option.some Jvm.ClassFile.FieldType.int)) ∈ lw_all := lw_g (lw_at lw_m4 97 rfl) rfl
theorem q933 : (Jvm.Cond.classLink "BeeYard$Reader" (268 : Nat) "BeeYard$When") ∈ lw_all := lw_g (lw_at lw_m4 98 rfl) rfl
theorem q935 : (Jvm.Cond.methodLink "BeeYard$Reader" (270 : Nat) ({ cls := "BeeYard$When", name := "<init>", desc := "(IIII)V" } : Jvm.MethodName)) ∈ lw_all := lw_g (lw_at lw_m4 100 rfl) rfl
theorem q954 : (Jvm.Cond.classLink "BeeYard$Reader" (263 : Nat) "BeeYard$Loop") ∈ lw_all := lw_g (lw_at lw_m4 119 rfl) rfl
theorem q955 : (Jvm.Cond.methodLink "BeeYard$Reader" (265 : Nat) ({ cls := "BeeYard$Loop", name := "<init>", desc := "(I)V" } : Jvm.MethodName)) ∈ lw_all := lw_g (lw_at lw_m4 120 rfl) rfl
theorem q956 : (Jvm.Cond.methodLink "BeeYard$Reader" (240 : Nat) ({ cls := "BeeYard$Reader", name := "plain", desc := "(LBeeYard$Yard;)LBeeYard$Step;" } : Jvm.MethodName)) ∈ lw_all := lw_g (lw_at lw_m4 121 rfl) rfl
theorem q957 : (Jvm.Cond.privateMethod ({ cls := "BeeYard$Reader", name := "plain", desc := "(LBeeYard$Yard;)LBeeYard$Step;" } : Jvm.MethodName)) ∈ lw_tbl := lw_at lw_m4 122 rfl
theorem q958 : (Jvm.Cond.instanceMethod ({ cls := "BeeYard$Reader", name := "plain", desc := "(LBeeYard$Yard;)LBeeYard$Step;" } : Jvm.MethodName)) ∈ lw_all := lw_g (lw_at lw_m4 123 rfl) rfl
theorem q959 : (Jvm.Cond.code ({ cls := "BeeYard$Reader", name := "plain", desc := "(LBeeYard$Yard;)LBeeYard$Step;" } : Jvm.MethodName) prog_10_method_25_code (6 : Nat) (Option.some (Jvm.ClassFile.FieldType.object "BeeYard$Step"))) ∈ lw_all := lw_g (lw_at lw_m4 124 rfl) rfl
theorem q960 : (Jvm.Cond.classLink "BeeYard$Reader" (250 : Nat) "BeeYard$Act") ∈ lw_all := lw_g (lw_at lw_m4 125 rfl) rfl
theorem q962 : (Jvm.Cond.methodLink "BeeYard$Reader" (252 : Nat) ({ cls := "BeeYard$Act", name := "<init>", desc := "(IIIII)V" } : Jvm.MethodName)) ∈ lw_all := lw_g (lw_at lw_m4 127 rfl) rfl
theorem q982 : (Jvm.Cond.methodLink "BeeYard$Reader" (244 : Nat) ({ cls := "BeeYard$Block", name := "add", desc := "(LBeeYard$Step;)V" } : Jvm.MethodName)) ∈ lw_all := lw_g (lw_at lw_m4 147 rfl) rfl
theorem in_X8 : ∀ w ∈ wsX80, w ∈ lw_all := lw_in wsX80 [588, 590, 592, 594, 596, 598, 600] (by decide +kernel) (by decide +kernel)

/-! java/lang/StringLatin1 -/
def RJ7 : String := "java/lang/StringLatin1"
abbrev cJ7_charAt : ByteArray := prog_26_method_2_code
def yJ7_charAt : MethodName := ⟨RJ7, "charAt", "([BI)C"⟩
theorem q133 : (Jvm.Cond.initialized "java/lang/StringLatin1") ∈ lw_all := lw_g (lw_at lw_m1 18 rfl) rfl
theorem q631 : (Jvm.Cond.static ({ cls := "java/lang/StringLatin1", name := "charAt", desc := "([BI)C" } : Jvm.MethodName)) ∈ lw_all := lw_g (lw_at lw_m3 36 rfl) rfl
theorem q632 : (Jvm.Cond.code ({ cls := "java/lang/StringLatin1", name := "charAt", desc := "([BI)C" } : Jvm.MethodName) prog_26_method_2_code (2 : Nat) (Option.some Jvm.ClassFile.FieldType.char)) ∈ lw_all := lw_g (lw_at lw_m3 37 rfl) rfl
theorem q633 : (Jvm.Cond.methodLink "java/lang/StringLatin1" (9 : Nat) ({ cls := "java/lang/String", name := "checkIndex", desc := "(II)V" } : Jvm.MethodName)) ∈ lw_all := lw_g (lw_at lw_m3 38 rfl) rfl

/-! jdk/internal/util/Preconditions -/
def RJ8 : String := "jdk/internal/util/Preconditions"
abbrev cJ8_checkIndex : ByteArray := prog_30_method_11_code
def yJ8_checkIndex : MethodName := ⟨RJ8, "checkIndex", "(IILjava/util/function/BiFunction;)I"⟩
theorem q134 : (Jvm.Cond.initialized "jdk/internal/util/Preconditions") ∈ lw_all := lw_g (lw_at lw_m1 19 rfl) rfl
theorem q637 : (Jvm.Cond.laysStatic "jdk/internal/util/Preconditions" "SIOOBE_FORMATTER" "Ljava/util/function/BiFunction;") ∈ lw_tbl := lw_at lw_m3 42 rfl
theorem q639 : (Jvm.Cond.static ({ cls := "jdk/internal/util/Preconditions", name := "checkIndex", desc := "(IILjava/util/function/BiFunction;)I" } : Jvm.MethodName)) ∈ lw_all := lw_g (lw_at lw_m3 44 rfl) rfl
theorem q640 : (Jvm.Cond.code ({ cls := "jdk/internal/util/Preconditions", name := "checkIndex", desc := "(IILjava/util/function/BiFunction;)I" } : Jvm.MethodName) prog_30_method_11_code (3 : Nat) (Option.some Jvm.ClassFile.FieldType.int)) ∈ lw_all := lw_g (lw_at lw_m3 45 rfl) rfl

/-! java/lang/StringUTF16 -/
def RJ9 : String := "java/lang/StringUTF16"
abbrev cJ9_charAt : ByteArray := prog_27_method_83_code
def yJ9_charAt : MethodName := ⟨RJ9, "charAt", "([BI)C"⟩
abbrev cJ9_checkIndex : ByteArray := prog_27_method_91_code
def yJ9_checkIndex : MethodName := ⟨RJ9, "checkIndex", "(I[B)V"⟩
abbrev cJ9_length : ByteArray := prog_27_method_6_code
def yJ9_length : MethodName := ⟨RJ9, "length", "([B)I"⟩
abbrev cJ9_getChar : ByteArray := prog_27_method_5_code
def yJ9_getChar : MethodName := ⟨RJ9, "getChar", "([BI)C"⟩
theorem q135 : (Jvm.Cond.initialized "java/lang/StringUTF16") ∈ lw_all := lw_g (lw_at lw_m1 20 rfl) rfl
theorem q642 : (Jvm.Cond.static ({ cls := "java/lang/StringUTF16", name := "charAt", desc := "([BI)C" } : Jvm.MethodName)) ∈ lw_all := lw_g (lw_at lw_m3 47 rfl) rfl
theorem q643 : (Jvm.Cond.code ({ cls := "java/lang/StringUTF16", name := "charAt", desc := "([BI)C" } : Jvm.MethodName) prog_27_method_83_code (2 : Nat) (Option.some Jvm.ClassFile.FieldType.char)) ∈ lw_all := lw_g (lw_at lw_m3 48 rfl) rfl
theorem q644 : (Jvm.Cond.methodLink "java/lang/StringUTF16" (67 : Nat) ({ cls := "java/lang/StringUTF16", name := "checkIndex", desc := "(I[B)V" } : Jvm.MethodName)) ∈ lw_all := lw_g (lw_at lw_m3 49 rfl) rfl
theorem q645 : (Jvm.Cond.static ({ cls := "java/lang/StringUTF16", name := "checkIndex", desc := "(I[B)V" } : Jvm.MethodName)) ∈ lw_all := lw_g (lw_at lw_m3 50 rfl) rfl
theorem q646 : (Jvm.Cond.code ({ cls := "java/lang/StringUTF16", name := "checkIndex", desc := "(I[B)V" } : Jvm.MethodName) prog_27_method_91_code (2 : Nat) (Option.none : Option Jvm.ClassFile.FieldType)) ∈ lw_all := lw_g (lw_at lw_m3 51 rfl) rfl
theorem q647 : (Jvm.Cond.methodLink "java/lang/StringUTF16" (48 : Nat) ({ cls := "java/lang/StringUTF16", name := "length", desc := "([B)I" } : Jvm.MethodName)) ∈ lw_all := lw_g (lw_at lw_m3 52 rfl) rfl
theorem q648 : (Jvm.Cond.static ({ cls := "java/lang/StringUTF16", name := "length", desc := "([B)I" } : Jvm.MethodName)) ∈ lw_all := lw_g (lw_at lw_m3 53 rfl) rfl
theorem q649 : (Jvm.Cond.code ({ cls := "java/lang/StringUTF16", name := "length", desc := "([B)I" } : Jvm.MethodName) prog_27_method_6_code (1 : Nat) (Option.some Jvm.ClassFile.FieldType.int)) ∈ lw_all := lw_g (lw_at lw_m3 54 rfl) rfl
theorem q650 : (Jvm.Cond.methodLink "java/lang/StringUTF16" (414 : Nat) ({ cls := "java/lang/String", name := "checkIndex", desc := "(II)V" } : Jvm.MethodName)) ∈ lw_all := lw_g (lw_at lw_m3 55 rfl) rfl
theorem q651 : (Jvm.Cond.methodLink "java/lang/StringUTF16" (71 : Nat) ({ cls := "java/lang/StringUTF16", name := "getChar", desc := "([BI)C" } : Jvm.MethodName)) ∈ lw_all := lw_g (lw_at lw_m3 56 rfl) rfl
theorem q652 : (Jvm.Cond.static ({ cls := "java/lang/StringUTF16", name := "getChar", desc := "([BI)C" } : Jvm.MethodName)) ∈ lw_all := lw_g (lw_at lw_m3 57 rfl) rfl
theorem q653 : (Jvm.Cond.code ({ cls := "java/lang/StringUTF16", name := "getChar", desc := "([BI)C" } : Jvm.MethodName) prog_27_method_5_code (2 : Nat) (Option.some Jvm.ClassFile.FieldType.char)) ∈ lw_all := lw_g (lw_at lw_m3 58 rfl) rfl
theorem q654 : (Jvm.Cond.fieldLink "java/lang/StringUTF16" (44 : Nat) "java/lang/StringUTF16" "$assertionsDisabled" "Z") ∈ lw_all := lw_g (lw_at lw_m3 59 rfl) rfl
theorem q655 : (Jvm.Cond.laysStatic "java/lang/StringUTF16" "$assertionsDisabled" "Z") ∈ lw_tbl := lw_at lw_m3 60 rfl
theorem q656 : (Jvm.Cond.fieldLink "java/lang/StringUTF16" (59 : Nat) "java/lang/StringUTF16" "HI_BYTE_SHIFT" "I") ∈ lw_all := lw_g (lw_at lw_m3 61 rfl) rfl
theorem q657 : (Jvm.Cond.laysStatic "java/lang/StringUTF16" "HI_BYTE_SHIFT" "I") ∈ lw_tbl := lw_at lw_m3 62 rfl
theorem q658 : (Jvm.Cond.fieldLink "java/lang/StringUTF16" (63 : Nat) "java/lang/StringUTF16" "LO_BYTE_SHIFT" "I") ∈ lw_all := lw_g (lw_at lw_m3 63 rfl) rfl
theorem q659 : (Jvm.Cond.laysStatic "java/lang/StringUTF16" "LO_BYTE_SHIFT" "I") ∈ lw_tbl := lw_at lw_m3 64 rfl

/-! BeeYard$Hive -/
def RX9 : String := "BeeYard$Hive"
def TX9 : u_T := fun k => match k with
  | 0 => ("BeeYard$Hive", "name", "J", true)
  | 1 => ("BeeYard$Hive", "frames", "[[S", true)
  | 2 => ("BeeYard$Hive", "order", "[I", true)
  | 3 => ("BeeYard$Hive", "bees", "I", false)
  | 4 => ("BeeYard$Hive", "hunger", "I", false)
  | 5 => ("BeeYard$Hive", "queen", "I", false)
  | 6 => ("BeeYard$Hive", "washed", "I", false)
  | 7 => ("BeeYard$Hive", "mites", "I", false)
  | 8 => ("BeeYard$Hive", "came", "I", false)
  | 9 => ("BeeYard$Hive", "ate", "I", false)
  | _ => ("BeeYard$Hive", "starved", "I", false)
def tyX9 : Nat → FieldType := fun k => match k with
  | 0 => .long
  | 1 => .array (.array .short)
  | 2 => .array .int
  | 3 => .int
  | 4 => .int
  | 5 => .int
  | 6 => .int
  | 7 => .int
  | 8 => .int
  | 9 => .int
  | _ => .int
abbrev wsX90 : List Cond := u_ws RX9 TX9 11
theorem nmX9 : ∀ a, a < 11 → ∀ b, b < 11 → a ≠ b → (TX9 a).2.1 ≠ (TX9 b).2.1 := by decide +kernel
theorem tyX9_ok : ∀ k, k < 11 → parseFieldDescriptor (TX9 k).2.2.1 = some (tyX9 k) := by decide +kernel
abbrev cX9_init : ByteArray := prog_5_method_1_code
def yX9_init : MethodName := ⟨RX9, "<init>", "(JI)V"⟩
abbrev cX9_fields : ByteArray := prog_5_method_4_code
def yX9_fields : MethodName := ⟨RX9, "fields", "()I"⟩
abbrev cX9_stores : ByteArray := prog_5_method_12_code
def yX9_stores : MethodName := ⟨RX9, "stores", "(I)I"⟩
abbrev cX9_at : ByteArray := prog_5_method_6_code
def yX9_at : MethodName := ⟨RX9, "at", "(I)I"⟩
abbrev cX9_frameOf : ByteArray := prog_5_method_5_code
def yX9_frameOf : MethodName := ⟨RX9, "frameOf", "(I)[S"⟩
abbrev cX9_put : ByteArray := prog_5_method_7_code
def yX9_put : MethodName := ⟨RX9, "put", "(II)V"⟩
abbrev cX9_honey : ByteArray := prog_5_method_9_code
def yX9_honey : MethodName := ⟨RX9, "honey", "()I"⟩
abbrev cX9_isHoney : ByteArray := prog_5_method_8_code
def yX9_isHoney : MethodName := ⟨RX9, "isHoney", "(I)Z"⟩
abbrev cX9_copy : ByteArray := prog_5_method_3_code
def yX9_copy : MethodName := ⟨RX9, "copy", "()LBeeYard$Hive;"⟩
abbrev cX9_be : ByteArray := prog_5_method_2_code
def yX9_be : MethodName := ⟨RX9, "be", "(LBeeYard$Hive;)V"⟩
abbrev cX9_brood : ByteArray := prog_5_method_10_code
def yX9_brood : MethodName := ⟨RX9, "brood", "()I"⟩
abbrev cX9_empty : ByteArray := prog_5_method_11_code
def yX9_empty : MethodName := ⟨RX9, "empty", "()I"⟩
abbrev cX9_day : ByteArray := prog_5_method_15_code
def yX9_day : MethodName := ⟨RX9, "day", "(I)V"⟩
abbrev cX9_eats : ByteArray := prog_5_method_13_code
def yX9_eats : MethodName := ⟨RX9, "eats", "(I)I"⟩
abbrev cX9_harvests : ByteArray := prog_5_method_14_code
def yX9_harvests : MethodName := ⟨RX9, "harvests", "(I)I"⟩
abbrev cX9_swaps : ByteArray := prog_5_method_18_code
def yX9_swaps : MethodName := ⟨RX9, "swaps", "(LBeeYard$Hive;ILBeeYard$Hive;I)V"⟩
abbrev cX9_clears : ByteArray := prog_5_method_17_code
def yX9_clears : MethodName := ⟨RX9, "clears", "()V"⟩
abbrev cX9_isCrowded : ByteArray := prog_5_method_16_code
def yX9_isCrowded : MethodName := ⟨RX9, "isCrowded", "()Z"⟩
theorem q136 : (Jvm.Cond.initialized "BeeYard$Hive") ∈ lw_all := lw_g (lw_at lw_m1 21 rfl) rfl
theorem q737 : (Jvm.Cond.instantiable "BeeYard$Hive" (11 : Nat)) ∈ lw_all := lw_g (lw_at lw_m3 142 rfl) rfl
theorem q739 : (Jvm.Cond.instanceMethod ({ cls := "BeeYard$Hive", name := "<init>", desc := "(JI)V" } : Jvm.MethodName)) ∈ lw_all := lw_g (lw_at lw_m3 144 rfl) rfl
theorem q740 : (Jvm.Cond.code ({ cls := "BeeYard$Hive", name := "<init>", desc := "(JI)V" } : Jvm.MethodName) prog_5_method_1_code (7 : Nat) (Option.none : Option Jvm.ClassFile.FieldType)) ∈ lw_all := lw_g (lw_at lw_m3 145 rfl) rfl
theorem q741 : (Jvm.Cond.methodLink "BeeYard$Hive" (3 : Nat) ({ cls := "java/lang/Object", name := "<init>", desc := "()V" } : Jvm.MethodName)) ∈ lw_all := lw_g (lw_at lw_m3 146 rfl) rfl
theorem q742 : (Jvm.Cond.classLink "BeeYard$Hive" (19 : Nat) "[[S") ∈ lw_all := lw_g (lw_at lw_m3 147 rfl) rfl
theorem q744 : (Jvm.Cond.fieldLink "BeeYard$Hive" (15 : Nat) "BeeYard$Hive" "name" "J") ∈ lw_all := lw_g (lw_at lw_m3 149 rfl) rfl
theorem q746 : (Jvm.Cond.fieldLink "BeeYard$Hive" (21 : Nat) "BeeYard$Hive" "frames" "[[S") ∈ lw_all := lw_g (lw_at lw_m3 151 rfl) rfl
theorem q750 : (Jvm.Cond.fieldLink "BeeYard$Hive" (24 : Nat) "BeeYard$Hive" "order" "[I") ∈ lw_all := lw_g (lw_at lw_m3 155 rfl) rfl
theorem q753 : (Jvm.Cond.fieldLink "BeeYard$Hive" (34 : Nat) "BeeYard$Hive" "bees" "I") ∈ lw_all := lw_g (lw_at lw_m3 158 rfl) rfl
theorem q757 : (Jvm.Cond.fieldLink "BeeYard$Hive" (37 : Nat) "BeeYard$Hive" "hunger" "I") ∈ lw_all := lw_g (lw_at lw_m3 162 rfl) rfl
theorem q759 : (Jvm.Cond.fieldLink "BeeYard$Hive" (9 : Nat) "BeeYard$Hive" "queen" "I") ∈ lw_all := lw_g (lw_at lw_m3 164 rfl) rfl
theorem q764 : (Jvm.Cond.fieldLink "BeeYard$Hive" (40 : Nat) "BeeYard$Hive" "washed" "I") ∈ lw_all := lw_g (lw_at lw_m3 169 rfl) rfl
theorem q766 : (Jvm.Cond.fieldLink "BeeYard$Hive" (43 : Nat) "BeeYard$Hive" "mites" "I") ∈ lw_all := lw_g (lw_at lw_m3 171 rfl) rfl
theorem q769 : (Jvm.Cond.fieldLink "BeeYard$Hive" (79 : Nat) "BeeYard$Hive" "came" "I") ∈ lw_all := lw_g (lw_at lw_m3 174 rfl) rfl
theorem q771 : (Jvm.Cond.fieldLink "BeeYard$Hive" (85 : Nat) "BeeYard$Hive" "ate" "I") ∈ lw_all := lw_g (lw_at lw_m3 176 rfl) rfl
theorem q773 : (Jvm.Cond.fieldLink "BeeYard$Hive" (88 : Nat) "BeeYard$Hive" "starved" "I") ∈ lw_all := lw_g (lw_at lw_m3 178 rfl) rfl
theorem q775 : (Jvm.Cond.laysFinal "BeeYard$Hive" "BeeYard$Hive" "name" "J") ∈ lw_all := lw_g (lw_at lw_m3 180 rfl) rfl
theorem q776 : (Jvm.Cond.soleField "BeeYard$Hive" "name") ∈ lw_all := lw_g (lw_at lw_m3 181 rfl) rfl
theorem q777 : (Jvm.Cond.laysFinal "BeeYard$Hive" "BeeYard$Hive" "frames" "[[S") ∈ lw_all := lw_g (lw_at lw_m3 182 rfl) rfl
theorem q778 : (Jvm.Cond.soleField "BeeYard$Hive" "frames") ∈ lw_all := lw_g (lw_at lw_m3 183 rfl) rfl
theorem q779 : (Jvm.Cond.laysFinal "BeeYard$Hive" "BeeYard$Hive" "order" "[I") ∈ lw_all := lw_g (lw_at lw_m3 184 rfl) rfl
theorem q780 : (Jvm.Cond.soleField "BeeYard$Hive" "order") ∈ lw_all := lw_g (lw_at lw_m3 185 rfl) rfl
theorem q781 : (Jvm.Cond.lays "BeeYard$Hive" "BeeYard$Hive" "bees" "I") ∈ lw_all := lw_g (lw_at lw_m3 186 rfl) rfl
theorem q782 : (Jvm.Cond.soleField "BeeYard$Hive" "bees") ∈ lw_all := lw_g (lw_at lw_m3 187 rfl) rfl
theorem q783 : (Jvm.Cond.lays "BeeYard$Hive" "BeeYard$Hive" "hunger" "I") ∈ lw_all := lw_g (lw_at lw_m3 188 rfl) rfl
theorem q784 : (Jvm.Cond.soleField "BeeYard$Hive" "hunger") ∈ lw_all := lw_g (lw_at lw_m3 189 rfl) rfl
theorem q785 : (Jvm.Cond.lays "BeeYard$Hive" "BeeYard$Hive" "queen" "I") ∈ lw_all := lw_g (lw_at lw_m3 190 rfl) rfl
theorem q786 : (Jvm.Cond.soleField "BeeYard$Hive" "queen") ∈ lw_all := lw_g (lw_at lw_m3 191 rfl) rfl
theorem q787 : (Jvm.Cond.lays "BeeYard$Hive" "BeeYard$Hive" "washed" "I") ∈ lw_all := lw_g (lw_at lw_m3 192 rfl) rfl
theorem q788 : (Jvm.Cond.soleField "BeeYard$Hive" "washed") ∈ lw_all := lw_g (lw_at lw_m3 193 rfl) rfl
theorem q789 : (Jvm.Cond.lays "BeeYard$Hive" "BeeYard$Hive" "mites" "I") ∈ lw_all := lw_g (lw_at lw_m3 194 rfl) rfl
theorem q790 : (Jvm.Cond.soleField "BeeYard$Hive" "mites") ∈ lw_all := lw_g (lw_at lw_m3 195 rfl) rfl
theorem q791 : (Jvm.Cond.lays "BeeYard$Hive" "BeeYard$Hive" "came" "I") ∈ lw_all := lw_g (lw_at lw_m3 196 rfl) rfl
theorem q792 : (Jvm.Cond.soleField "BeeYard$Hive" "came") ∈ lw_all := lw_g (lw_at lw_m3 197 rfl) rfl
theorem q793 : (Jvm.Cond.lays "BeeYard$Hive" "BeeYard$Hive" "ate" "I") ∈ lw_all := lw_g (lw_at lw_m3 198 rfl) rfl
theorem q794 : (Jvm.Cond.soleField "BeeYard$Hive" "ate") ∈ lw_all := lw_g (lw_at lw_m3 199 rfl) rfl
theorem q795 : (Jvm.Cond.lays "BeeYard$Hive" "BeeYard$Hive" "starved" "I") ∈ lw_all := lw_g (lw_at lw_m3 200 rfl) rfl
theorem q796 : (Jvm.Cond.soleField "BeeYard$Hive" "starved") ∈ lw_all := lw_g (lw_at lw_m3 201 rfl) rfl
theorem q797 : (Jvm.Cond.superclass "BeeYard$Hive" "java/lang/Object") ∈ lw_all := lw_g (lw_at lw_m3 202 rfl) rfl
theorem q799 : (Jvm.Cond.instanceMethod ({ cls := "BeeYard$Hive", name := "fields", desc := "()I" } : Jvm.MethodName)) ∈ lw_all := lw_g (lw_at lw_m3 204 rfl) rfl
theorem q800 : (Jvm.Cond.selects "BeeYard$Hive" ({ cls := "BeeYard$Hive", name := "fields", desc := "()I" } : Jvm.MethodName) ({ cls := "BeeYard$Hive", name := "fields", desc := "()I" } : Jvm.MethodName)) ∈ lw_all := lw_g (lw_at lw_m3 205 rfl) rfl
theorem q801 : (Jvm.Cond.code ({ cls := "BeeYard$Hive", name := "fields", desc := "()I" } : Jvm.MethodName) prog_5_method_4_code (1 : Nat) (Option.some Jvm.ClassFile.FieldType.int)) ∈ lw_all := lw_g (lw_at lw_m3 206 rfl) rfl
theorem q803 : (Jvm.Cond.instanceMethod ({ cls := "BeeYard$Hive", name := "stores", desc := "(I)I" } : Jvm.MethodName)) ∈ lw_all := lw_g (lw_at lw_m3 208 rfl) rfl
theorem q804 : (Jvm.Cond.selects "BeeYard$Hive" ({ cls := "BeeYard$Hive", name := "stores", desc := "(I)I" } : Jvm.MethodName) ({ cls := "BeeYard$Hive", name := "stores", desc := "(I)I" } : Jvm.MethodName)) ∈ lw_all := lw_g (lw_at lw_m3 209 rfl) rfl
theorem q805 : (Jvm.Cond.code ({ cls := "BeeYard$Hive", name := "stores", desc := "(I)I" } : Jvm.MethodName) prog_5_method_12_code (5 : Nat) (Option.some Jvm.ClassFile.FieldType.int)) ∈ lw_all := lw_g (lw_at lw_m3 210 rfl) rfl
theorem q806 : (Jvm.Cond.methodLink "BeeYard$Hive" (57 : Nat) ({ cls := "BeeYard$Hive", name := "fields", desc := "()I" } : Jvm.MethodName)) ∈ lw_all := lw_g (lw_at lw_m3 211 rfl) rfl
theorem q807 : (Jvm.Cond.methodLink "BeeYard$Hive" (61 : Nat) ({ cls := "BeeYard$Hive", name := "at", desc := "(I)I" } : Jvm.MethodName)) ∈ lw_all := lw_g (lw_at lw_m3 212 rfl) rfl
theorem q808 : (Jvm.Cond.instanceMethod ({ cls := "BeeYard$Hive", name := "at", desc := "(I)I" } : Jvm.MethodName)) ∈ lw_all := lw_g (lw_at lw_m3 213 rfl) rfl
theorem q809 : (Jvm.Cond.selects "BeeYard$Hive" ({ cls := "BeeYard$Hive", name := "at", desc := "(I)I" } : Jvm.MethodName) ({ cls := "BeeYard$Hive", name := "at", desc := "(I)I" } : Jvm.MethodName)) ∈ lw_all := lw_g (lw_at lw_m3 214 rfl) rfl
theorem q810 : (Jvm.Cond.code ({ cls := "BeeYard$Hive", name := "at", desc := "(I)I" } : Jvm.MethodName) prog_5_method_6_code (2 : Nat) (Option.some Jvm.ClassFile.FieldType.int)) ∈ lw_all := lw_g (lw_at lw_m3 215 rfl) rfl
theorem q811 : (Jvm.Cond.methodLink "BeeYard$Hive" (53 : Nat) ({ cls := "BeeYard$Hive", name := "frameOf", desc := "(I)[S" } : Jvm.MethodName)) ∈ lw_all := lw_g (lw_at lw_m3 216 rfl) rfl
theorem q812 : (Jvm.Cond.privateMethod ({ cls := "BeeYard$Hive", name := "frameOf", desc := "(I)[S" } : Jvm.MethodName)) ∈ lw_tbl := lw_at lw_m3 217 rfl
theorem q813 : (Jvm.Cond.instanceMethod ({ cls := "BeeYard$Hive", name := "frameOf", desc := "(I)[S" } : Jvm.MethodName)) ∈ lw_all := lw_g (lw_at lw_m3 218 rfl) rfl
theorem q814 : (Jvm.Cond.code ({ cls := "BeeYard$Hive", name := "frameOf", desc := "(I)[S" } : Jvm.MethodName) prog_5_method_5_code (2 : Nat) (Option.some (Jvm.ClassFile.FieldType.array Jvm.ClassFile.FieldType.short))) ∈ lw_all := lw_g (lw_at lw_m3 219 rfl) rfl
theorem q815 : (Jvm.Cond.methodLink "BeeYard$Hive" (69 : Nat) ({ cls := "java/lang/Math", name := "min", desc := "(II)I" } : Jvm.MethodName)) ∈ lw_all := lw_g (lw_at lw_m3 220 rfl) rfl
theorem q818 : (Jvm.Cond.methodLink "BeeYard$Hive" (75 : Nat) ({ cls := "BeeYard$Hive", name := "put", desc := "(II)V" } : Jvm.MethodName)) ∈ lw_all := lw_g (lw_at lw_m3 223 rfl) rfl
theorem q819 : (Jvm.Cond.privateMethod ({ cls := "BeeYard$Hive", name := "put", desc := "(II)V" } : Jvm.MethodName)) ∈ lw_tbl := lw_at lw_m3 224 rfl
theorem q820 : (Jvm.Cond.instanceMethod ({ cls := "BeeYard$Hive", name := "put", desc := "(II)V" } : Jvm.MethodName)) ∈ lw_all := lw_g (lw_at lw_m3 225 rfl) rfl
theorem q821 : (Jvm.Cond.code ({ cls := "BeeYard$Hive", name := "put", desc := "(II)V" } : Jvm.MethodName) prog_5_method_7_code (3 : Nat) (Option.none : Option Jvm.ClassFile.FieldType)) ∈ lw_all := lw_g (lw_at lw_m3 226 rfl) rfl
theorem q855 : (Jvm.Cond.instanceMethod ({ cls := "BeeYard$Hive", name := "honey", desc := "()I" } : Jvm.MethodName)) ∈ lw_all := lw_g (lw_at lw_m4 20 rfl) rfl
theorem q856 : (Jvm.Cond.selects "BeeYard$Hive" ({ cls := "BeeYard$Hive", name := "honey", desc := "()I" } : Jvm.MethodName) ({ cls := "BeeYard$Hive", name := "honey", desc := "()I" } : Jvm.MethodName)) ∈ lw_all := lw_g (lw_at lw_m4 21 rfl) rfl
theorem q857 : (Jvm.Cond.code ({ cls := "BeeYard$Hive", name := "honey", desc := "()I" } : Jvm.MethodName) prog_5_method_9_code (3 : Nat) (Option.some Jvm.ClassFile.FieldType.int)) ∈ lw_all := lw_g (lw_at lw_m4 22 rfl) rfl
theorem q858 : (Jvm.Cond.methodLink "BeeYard$Hive" (65 : Nat) ({ cls := "BeeYard$Hive", name := "isHoney", desc := "(I)Z" } : Jvm.MethodName)) ∈ lw_all := lw_g (lw_at lw_m4 23 rfl) rfl
theorem q859 : (Jvm.Cond.static ({ cls := "BeeYard$Hive", name := "isHoney", desc := "(I)Z" } : Jvm.MethodName)) ∈ lw_all := lw_g (lw_at lw_m4 24 rfl) rfl
theorem q860 : (Jvm.Cond.code ({ cls := "BeeYard$Hive", name := "isHoney", desc := "(I)Z" } : Jvm.MethodName) prog_5_method_8_code (1 : Nat) (Option.some Jvm.ClassFile.FieldType.boolean)) ∈ lw_all := lw_g (lw_at lw_m4 25 rfl) rfl
theorem q866 : (Jvm.Cond.instanceMethod ({ cls := "BeeYard$Hive", name := "copy", desc := "()LBeeYard$Hive;" } : Jvm.MethodName)) ∈ lw_all := lw_g (lw_at lw_m4 31 rfl) rfl
theorem q867 : (Jvm.Cond.selects "BeeYard$Hive" ({ cls := "BeeYard$Hive", name := "copy", desc := "()LBeeYard$Hive;" } : Jvm.MethodName) ({ cls := "BeeYard$Hive", name := "copy", desc := "()LBeeYard$Hive;" } : Jvm.MethodName)) ∈ lw_all := lw_g (lw_at lw_m4 32 rfl) rfl
theorem q868 : (Jvm.Cond.code ({ cls := "BeeYard$Hive", name := "copy", desc := "()LBeeYard$Hive;" } : Jvm.MethodName) prog_5_method_3_code (2 : Nat) (Option.some (Jvm.ClassFile.FieldType.object "BeeYard$Hive"))) ∈ lw_all := lw_g (lw_at lw_m4 33 rfl) rfl
theorem q869 : (Jvm.Cond.classLink "BeeYard$Hive" (10 : Nat) "BeeYard$Hive") ∈ lw_all := lw_g (lw_at lw_m4 34 rfl) rfl
theorem q870 : (Jvm.Cond.methodLink "BeeYard$Hive" (46 : Nat) ({ cls := "BeeYard$Hive", name := "<init>", desc := "(JI)V" } : Jvm.MethodName)) ∈ lw_all := lw_g (lw_at lw_m4 35 rfl) rfl
theorem q871 : (Jvm.Cond.methodLink "BeeYard$Hive" (49 : Nat) ({ cls := "BeeYard$Hive", name := "be", desc := "(LBeeYard$Hive;)V" } : Jvm.MethodName)) ∈ lw_all := lw_g (lw_at lw_m4 36 rfl) rfl
theorem q872 : (Jvm.Cond.instanceMethod ({ cls := "BeeYard$Hive", name := "be", desc := "(LBeeYard$Hive;)V" } : Jvm.MethodName)) ∈ lw_all := lw_g (lw_at lw_m4 37 rfl) rfl
theorem q873 : (Jvm.Cond.selects "BeeYard$Hive" ({ cls := "BeeYard$Hive", name := "be", desc := "(LBeeYard$Hive;)V" } : Jvm.MethodName) ({ cls := "BeeYard$Hive", name := "be", desc := "(LBeeYard$Hive;)V" } : Jvm.MethodName)) ∈ lw_all := lw_g (lw_at lw_m4 38 rfl) rfl
theorem q874 : (Jvm.Cond.code ({ cls := "BeeYard$Hive", name := "be", desc := "(LBeeYard$Hive;)V" } : Jvm.MethodName) prog_5_method_2_code (3 : Nat) (Option.none : Option Jvm.ClassFile.FieldType)) ∈ lw_all := lw_g (lw_at lw_m4 39 rfl) rfl
theorem q875 : (Jvm.Cond.methodLink "BeeYard$Hive" (28 : Nat) ({ cls := "java/lang/System", name := "arraycopy", desc := "(Ljava/lang/Object;ILjava/lang/Object;II)V" } : Jvm.MethodName)) ∈ lw_all := lw_g (lw_at lw_m4 40 rfl) rfl
theorem q1020 : (Jvm.Cond.instanceMethod ({ cls := "BeeYard$Hive", name := "brood", desc := "()I" } : Jvm.MethodName)) ∈ lw_all := lw_g (lw_at lw_m4 185 rfl) rfl
theorem q1021 : (Jvm.Cond.selects "BeeYard$Hive" ({ cls := "BeeYard$Hive", name := "brood", desc := "()I" } : Jvm.MethodName) ({ cls := "BeeYard$Hive", name := "brood", desc := "()I" } : Jvm.MethodName)) ∈ lw_all := lw_g (lw_at lw_m4 186 rfl) rfl
theorem q1022 : (Jvm.Cond.code ({ cls := "BeeYard$Hive", name := "brood", desc := "()I" } : Jvm.MethodName) prog_5_method_10_code (3 : Nat) (Option.some Jvm.ClassFile.FieldType.int)) ∈ lw_all := lw_g (lw_at lw_m4 187 rfl) rfl
theorem q1024 : (Jvm.Cond.instanceMethod ({ cls := "BeeYard$Hive", name := "empty", desc := "()I" } : Jvm.MethodName)) ∈ lw_all := lw_g (lw_at lw_m4 189 rfl) rfl
theorem q1025 : (Jvm.Cond.selects "BeeYard$Hive" ({ cls := "BeeYard$Hive", name := "empty", desc := "()I" } : Jvm.MethodName) ({ cls := "BeeYard$Hive", name := "empty", desc := "()I" } : Jvm.MethodName)) ∈ lw_all := lw_g (lw_at lw_m4 190 rfl) rfl
theorem q1026 : (Jvm.Cond.code ({ cls := "BeeYard$Hive", name := "empty", desc := "()I" } : Jvm.MethodName) prog_5_method_11_code (3 : Nat) (Option.some Jvm.ClassFile.FieldType.int)) ∈ lw_all := lw_g (lw_at lw_m4 191 rfl) rfl
theorem q1089 : (Jvm.Cond.instanceMethod ({ cls := "BeeYard$Hive", name := "day", desc := "(I)V" } : Jvm.MethodName)) ∈ lw_all := lw_g (lw_at lw_m5 14 rfl) rfl
theorem q1090 : (Jvm.Cond.selects "BeeYard$Hive" ({ cls := "BeeYard$Hive", name := "day", desc := "(I)V" } : Jvm.MethodName) ({ cls := "BeeYard$Hive", name := "day", desc := "(I)V" } : Jvm.MethodName)) ∈ lw_all := lw_g (lw_at lw_m5 15 rfl) rfl
theorem q1091 : (Jvm.Cond.code ({ cls := "BeeYard$Hive", name := "day", desc := "(I)V" } : Jvm.MethodName) prog_5_method_15_code (4 : Nat) (Option.none : Option Jvm.ClassFile.FieldType)) ∈ lw_all := lw_g (lw_at lw_m5 16 rfl) rfl
theorem q1092 : (Jvm.Cond.methodLink "BeeYard$Hive" (82 : Nat) ({ cls := "BeeYard$Hive", name := "eats", desc := "(I)I" } : Jvm.MethodName)) ∈ lw_all := lw_g (lw_at lw_m5 17 rfl) rfl
theorem q1093 : (Jvm.Cond.privateMethod ({ cls := "BeeYard$Hive", name := "eats", desc := "(I)I" } : Jvm.MethodName)) ∈ lw_tbl := lw_at lw_m5 18 rfl
theorem q1094 : (Jvm.Cond.instanceMethod ({ cls := "BeeYard$Hive", name := "eats", desc := "(I)I" } : Jvm.MethodName)) ∈ lw_all := lw_g (lw_at lw_m5 19 rfl) rfl
theorem q1095 : (Jvm.Cond.code ({ cls := "BeeYard$Hive", name := "eats", desc := "(I)I" } : Jvm.MethodName) prog_5_method_13_code (5 : Nat) (Option.some Jvm.ClassFile.FieldType.int)) ∈ lw_all := lw_g (lw_at lw_m5 20 rfl) rfl
theorem q1115 : (Jvm.Cond.instanceMethod ({ cls := "BeeYard$Hive", name := "harvests", desc := "(I)I" } : Jvm.MethodName)) ∈ lw_all := lw_g (lw_at lw_m5 40 rfl) rfl
theorem q1116 : (Jvm.Cond.selects "BeeYard$Hive" ({ cls := "BeeYard$Hive", name := "harvests", desc := "(I)I" } : Jvm.MethodName) ({ cls := "BeeYard$Hive", name := "harvests", desc := "(I)I" } : Jvm.MethodName)) ∈ lw_all := lw_g (lw_at lw_m5 41 rfl) rfl
theorem q1117 : (Jvm.Cond.code ({ cls := "BeeYard$Hive", name := "harvests", desc := "(I)I" } : Jvm.MethodName) prog_5_method_14_code (4 : Nat) (Option.some Jvm.ClassFile.FieldType.int)) ∈ lw_all := lw_g (lw_at lw_m5 42 rfl) rfl
theorem q1123 : (Jvm.Cond.static ({ cls := "BeeYard$Hive", name := "swaps", desc := "(LBeeYard$Hive;ILBeeYard$Hive;I)V" } : Jvm.MethodName)) ∈ lw_all := lw_g (lw_at lw_m5 48 rfl) rfl
theorem q1124 : (Jvm.Cond.code ({ cls := "BeeYard$Hive", name := "swaps", desc := "(LBeeYard$Hive;ILBeeYard$Hive;I)V" } : Jvm.MethodName) prog_5_method_18_code (5 : Nat) (Option.none : Option Jvm.ClassFile.FieldType)) ∈ lw_all := lw_g (lw_at lw_m5 49 rfl) rfl
theorem q1142 : (Jvm.Cond.instanceMethod ({ cls := "BeeYard$Hive", name := "clears", desc := "()V" } : Jvm.MethodName)) ∈ lw_all := lw_g (lw_at lw_m5 67 rfl) rfl
theorem q1143 : (Jvm.Cond.selects "BeeYard$Hive" ({ cls := "BeeYard$Hive", name := "clears", desc := "()V" } : Jvm.MethodName) ({ cls := "BeeYard$Hive", name := "clears", desc := "()V" } : Jvm.MethodName)) ∈ lw_all := lw_g (lw_at lw_m5 68 rfl) rfl
theorem q1144 : (Jvm.Cond.code ({ cls := "BeeYard$Hive", name := "clears", desc := "()V" } : Jvm.MethodName) prog_5_method_17_code (3 : Nat) (Option.none : Option Jvm.ClassFile.FieldType)) ∈ lw_all := lw_g (lw_at lw_m5 69 rfl) rfl
theorem q1163 : (Jvm.Cond.instanceMethod ({ cls := "BeeYard$Hive", name := "isCrowded", desc := "()Z" } : Jvm.MethodName)) ∈ lw_all := lw_g (lw_at lw_m5 88 rfl) rfl
theorem q1164 : (Jvm.Cond.selects "BeeYard$Hive" ({ cls := "BeeYard$Hive", name := "isCrowded", desc := "()Z" } : Jvm.MethodName) ({ cls := "BeeYard$Hive", name := "isCrowded", desc := "()Z" } : Jvm.MethodName)) ∈ lw_all := lw_g (lw_at lw_m5 89 rfl) rfl
theorem q1165 : (Jvm.Cond.code ({ cls := "BeeYard$Hive", name := "isCrowded", desc := "()Z" } : Jvm.MethodName) prog_5_method_16_code (1 : Nat) (Option.some Jvm.ClassFile.FieldType.boolean)) ∈ lw_all := lw_g (lw_at lw_m5 90 rfl) rfl
theorem q1166 : (Jvm.Cond.methodLink "BeeYard$Hive" (91 : Nat) ({ cls := "BeeYard$Hive", name := "empty", desc := "()I" } : Jvm.MethodName)) ∈ lw_all := lw_g (lw_at lw_m5 91 rfl) rfl
theorem in_X9 : ∀ w ∈ wsX90, w ∈ lw_all := lw_in wsX90 [775, 777, 779, 781, 783, 785, 787, 789, 791, 793, 795] (by decide +kernel) (by decide +kernel)

/-! java/lang/Math -/
def RJ10 : String := "java/lang/Math"
abbrev cJ10_min : ByteArray := prog_22_method_69_code
def yJ10_min : MethodName := ⟨RJ10, "min", "(II)I"⟩
abbrev cJ10_abs : ByteArray := prog_22_method_61_code
def yJ10_abs : MethodName := ⟨RJ10, "abs", "(J)J"⟩
abbrev cJ10_max : ByteArray := prog_22_method_65_code
def yJ10_max : MethodName := ⟨RJ10, "max", "(II)I"⟩
abbrev cJ10_min_2 : ByteArray := prog_22_method_70_code
def yJ10_min_2 : MethodName := ⟨RJ10, "min", "(JJ)J"⟩
theorem q137 : (Jvm.Cond.initialized "java/lang/Math") ∈ lw_all := lw_g (lw_at lw_m1 22 rfl) rfl
theorem q816 : (Jvm.Cond.static ({ cls := "java/lang/Math", name := "min", desc := "(II)I" } : Jvm.MethodName)) ∈ lw_all := lw_g (lw_at lw_m3 221 rfl) rfl
theorem q817 : (Jvm.Cond.code ({ cls := "java/lang/Math", name := "min", desc := "(II)I" } : Jvm.MethodName) prog_22_method_69_code (2 : Nat) (Option.some Jvm.ClassFile.FieldType.int)) ∈ lw_all := lw_g (lw_at lw_m3 222 rfl) rfl
theorem q1200 : (Jvm.Cond.static ({ cls := "java/lang/Math", name := "abs", desc := "(J)J" } : Jvm.MethodName)) ∈ lw_all := lw_g (lw_at lw_m5 125 rfl) rfl
theorem q1201 : (Jvm.Cond.code ({ cls := "java/lang/Math", name := "abs", desc := "(J)J" } : Jvm.MethodName) prog_22_method_61_code (2 : Nat) (Option.some Jvm.ClassFile.FieldType.long)) ∈ lw_all := lw_g (lw_at lw_m5 126 rfl) rfl
theorem q1235 : (Jvm.Cond.static ({ cls := "java/lang/Math", name := "max", desc := "(II)I" } : Jvm.MethodName)) ∈ lw_all := lw_g (lw_at lw_m5 160 rfl) rfl
theorem q1236 : (Jvm.Cond.code ({ cls := "java/lang/Math", name := "max", desc := "(II)I" } : Jvm.MethodName) prog_22_method_65_code (2 : Nat) (Option.some Jvm.ClassFile.FieldType.int)) ∈ lw_all := lw_g (lw_at lw_m5 161 rfl) rfl
theorem q1837 : (Jvm.Cond.static ({ cls := "java/lang/Math", name := "min", desc := "(JJ)J" } : Jvm.MethodName)) ∈ lw_all := lw_g (lw_at lw_m8 42 rfl) rfl
theorem q1838 : (Jvm.Cond.code ({ cls := "java/lang/Math", name := "min", desc := "(JJ)J" } : Jvm.MethodName) prog_22_method_70_code (4 : Nat) (Option.some Jvm.ClassFile.FieldType.long)) ∈ lw_all := lw_g (lw_at lw_m8 43 rfl) rfl

/-! BeeYard$Step -/
def RX10 : String := "BeeYard$Step"
abbrev cX10_init : ByteArray := prog_12_method_1_code
def yX10_init : MethodName := ⟨RX10, "<init>", "()V"⟩
abbrev cX10_go : ByteArray := prog_12_method_3_code
def yX10_go : MethodName := ⟨RX10, "go", "(LBeeYard$Living;)V"⟩
theorem q138 : (Jvm.Cond.initialized "BeeYard$Step") ∈ lw_all := lw_g (lw_at lw_m1 23 rfl) rfl
theorem q894 : (Jvm.Cond.instanceMethod ({ cls := "BeeYard$Step", name := "<init>", desc := "()V" } : Jvm.MethodName)) ∈ lw_all := lw_g (lw_at lw_m4 59 rfl) rfl
theorem q895 : (Jvm.Cond.code ({ cls := "BeeYard$Step", name := "<init>", desc := "()V" } : Jvm.MethodName) prog_12_method_1_code (1 : Nat) (Option.none : Option Jvm.ClassFile.FieldType)) ∈ lw_all := lw_g (lw_at lw_m4 60 rfl) rfl
theorem q896 : (Jvm.Cond.methodLink "BeeYard$Step" (3 : Nat) ({ cls := "java/lang/Object", name := "<init>", desc := "()V" } : Jvm.MethodName)) ∈ lw_all := lw_g (lw_at lw_m4 61 rfl) rfl
theorem q1327 : (Jvm.Cond.fieldLinkNest "BeeYard$Step" (9 : Nat) "BeeYard$Living" "done" "I" "BeeYard") ∈ lw_tbl := lw_at lw_m6 12 rfl
theorem q1336 : (Jvm.Cond.fieldLinkNest "BeeYard$Step" (15 : Nat) "BeeYard$Living" "isOver" "Z" "BeeYard") ∈ lw_tbl := lw_at lw_m6 21 rfl
theorem q1337 : (Jvm.Cond.fieldLinkNest "BeeYard$Step" (19 : Nat) "BeeYard$Living" "isLeft" "Z" "BeeYard") ∈ lw_tbl := lw_at lw_m6 22 rfl
theorem q1361 : (Jvm.Cond.instanceMethod ({ cls := "BeeYard$Step", name := "go", desc := "(LBeeYard$Living;)V" } : Jvm.MethodName)) ∈ lw_all := lw_g (lw_at lw_m6 46 rfl) rfl
theorem q1362 : (Jvm.Cond.sameMethod "BeeYard$Step" "BeeYard$Step" "go" "(LBeeYard$Living;)V") ∈ lw_all := lw_g (lw_at lw_m6 47 rfl) rfl
theorem q1366 : (Jvm.Cond.code ({ cls := "BeeYard$Step", name := "go", desc := "(LBeeYard$Living;)V" } : Jvm.MethodName) prog_12_method_3_code (2 : Nat) (Option.none : Option Jvm.ClassFile.FieldType)) ∈ lw_all := lw_g (lw_at lw_m6 51 rfl) rfl
theorem q1367 : (Jvm.Cond.methodLink "BeeYard$Step" (22 : Nat) ({ cls := "BeeYard$Step", name := "does", desc := "(LBeeYard$Living;)V" } : Jvm.MethodName)) ∈ lw_all := lw_g (lw_at lw_m6 52 rfl) rfl
theorem q1368 : (Jvm.Cond.declares ({ cls := "BeeYard$Step", name := "does", desc := "(LBeeYard$Living;)V" } : Jvm.MethodName)) ∈ lw_tbl := lw_at lw_m6 53 rfl
theorem q1369 : (Jvm.Cond.sameMethod "BeeYard$Step" "BeeYard$Step" "does" "(LBeeYard$Living;)V") ∈ lw_all := lw_g (lw_at lw_m6 54 rfl) rfl

/-! BeeYard$Block -/
def RX11 : String := "BeeYard$Block"
abbrev cX11_init : ByteArray := prog_4_method_1_code
def yX11_init : MethodName := ⟨RX11, "<init>", "()V"⟩
abbrev cX11_add : ByteArray := prog_4_method_2_code
def yX11_add : MethodName := ⟨RX11, "add", "(LBeeYard$Step;)V"⟩
abbrev cX11_all : ByteArray := prog_4_method_3_code
def yX11_all : MethodName := ⟨RX11, "all", "(LBeeYard$Living;)V"⟩
theorem q139 : (Jvm.Cond.initialized "BeeYard$Block") ∈ lw_all := lw_g (lw_at lw_m1 24 rfl) rfl
theorem q891 : (Jvm.Cond.instanceMethod ({ cls := "BeeYard$Block", name := "<init>", desc := "()V" } : Jvm.MethodName)) ∈ lw_all := lw_g (lw_at lw_m4 56 rfl) rfl
theorem q892 : (Jvm.Cond.code ({ cls := "BeeYard$Block", name := "<init>", desc := "()V" } : Jvm.MethodName) prog_4_method_1_code (1 : Nat) (Option.none : Option Jvm.ClassFile.FieldType)) ∈ lw_all := lw_g (lw_at lw_m4 57 rfl) rfl
theorem q893 : (Jvm.Cond.methodLinkNest "BeeYard$Block" (1 : Nat) ({ cls := "BeeYard$Step", name := "<init>", desc := "()V" } : Jvm.MethodName) "BeeYard") ∈ lw_tbl := lw_at lw_m4 58 rfl
theorem q897 : (Jvm.Cond.classLink "BeeYard$Block" (2 : Nat) "BeeYard$Step") ∈ lw_all := lw_g (lw_at lw_m4 62 rfl) rfl
theorem q900 : (Jvm.Cond.fieldLink "BeeYard$Block" (7 : Nat) "BeeYard$Block" "steps" "[LBeeYard$Step;") ∈ lw_all := lw_g (lw_at lw_m4 65 rfl) rfl
theorem q901 : (Jvm.Cond.fieldLink "BeeYard$Block" (13 : Nat) "BeeYard$Block" "size" "I") ∈ lw_all := lw_g (lw_at lw_m4 66 rfl) rfl
theorem q905 : (Jvm.Cond.soleField "BeeYard$Block" "steps") ∈ lw_all := lw_g (lw_at lw_m4 70 rfl) rfl
theorem q907 : (Jvm.Cond.soleField "BeeYard$Block" "size") ∈ lw_all := lw_g (lw_at lw_m4 72 rfl) rfl
theorem q983 : (Jvm.Cond.instanceMethod ({ cls := "BeeYard$Block", name := "add", desc := "(LBeeYard$Step;)V" } : Jvm.MethodName)) ∈ lw_all := lw_g (lw_at lw_m4 148 rfl) rfl
theorem q984 : (Jvm.Cond.sameMethod "BeeYard$Block" "BeeYard$Block" "add" "(LBeeYard$Step;)V") ∈ lw_all := lw_g (lw_at lw_m4 149 rfl) rfl
theorem q987 : (Jvm.Cond.code ({ cls := "BeeYard$Block", name := "add", desc := "(LBeeYard$Step;)V" } : Jvm.MethodName) prog_4_method_2_code (3 : Nat) (Option.none : Option Jvm.ClassFile.FieldType)) ∈ lw_all := lw_g (lw_at lw_m4 152 rfl) rfl
theorem q988 : (Jvm.Cond.methodLink "BeeYard$Block" (17 : Nat) ({ cls := "java/lang/System", name := "arraycopy", desc := "(Ljava/lang/Object;ILjava/lang/Object;II)V" } : Jvm.MethodName)) ∈ lw_all := lw_g (lw_at lw_m4 153 rfl) rfl
theorem q1335 : (Jvm.Cond.fieldLinkNest "BeeYard$Block" (23 : Nat) "BeeYard$Living" "isOver" "Z" "BeeYard") ∈ lw_tbl := lw_at lw_m6 20 rfl
theorem q1356 : (Jvm.Cond.declares ({ cls := "BeeYard$Block", name := "all", desc := "(LBeeYard$Living;)V" } : Jvm.MethodName)) ∈ lw_tbl := lw_at lw_m6 41 rfl
theorem q1358 : (Jvm.Cond.instanceMethod ({ cls := "BeeYard$Block", name := "all", desc := "(LBeeYard$Living;)V" } : Jvm.MethodName)) ∈ lw_all := lw_g (lw_at lw_m6 43 rfl) rfl
theorem q1359 : (Jvm.Cond.code ({ cls := "BeeYard$Block", name := "all", desc := "(LBeeYard$Living;)V" } : Jvm.MethodName) prog_4_method_3_code (3 : Nat) (Option.none : Option Jvm.ClassFile.FieldType)) ∈ lw_all := lw_g (lw_at lw_m6 44 rfl) rfl
theorem q1360 : (Jvm.Cond.methodLink "BeeYard$Block" (29 : Nat) ({ cls := "BeeYard$Step", name := "go", desc := "(LBeeYard$Living;)V" } : Jvm.MethodName)) ∈ lw_all := lw_g (lw_at lw_m6 45 rfl) rfl

/-! BeeYard$Loop -/
def RX12 : String := "BeeYard$Loop"
def TX12 : u_T := fun k => match k with
  | 0 => ("BeeYard$Block", "steps", "[LBeeYard$Step;", false)
  | 1 => ("BeeYard$Block", "size", "I", false)
  | _ => ("BeeYard$Loop", "times", "I", true)
def tyX12 : Nat → FieldType := fun k => match k with
  | 0 => .array (.object "BeeYard$Step")
  | 1 => .int
  | _ => .int
abbrev wsX120 : List Cond := u_ws RX12 TX12 3
theorem nmX12 : ∀ a, a < 3 → ∀ b, b < 3 → a ≠ b → (TX12 a).2.1 ≠ (TX12 b).2.1 := by decide +kernel
theorem tyX12_ok : ∀ k, k < 3 → parseFieldDescriptor (TX12 k).2.2.1 = some (tyX12 k) := by decide +kernel
abbrev cX12_init : ByteArray := prog_9_method_1_code
def yX12_init : MethodName := ⟨RX12, "<init>", "(I)V"⟩
abbrev cX12_does : ByteArray := prog_9_method_2_code
def yX12_does : MethodName := ⟨RX12, "does", "(LBeeYard$Living;)V"⟩
theorem q140 : (Jvm.Cond.initialized "BeeYard$Loop") ∈ lw_all := lw_g (lw_at lw_m1 25 rfl) rfl
theorem q886 : (Jvm.Cond.instantiable "BeeYard$Loop" (3 : Nat)) ∈ lw_all := lw_g (lw_at lw_m4 51 rfl) rfl
theorem q888 : (Jvm.Cond.instanceMethod ({ cls := "BeeYard$Loop", name := "<init>", desc := "(I)V" } : Jvm.MethodName)) ∈ lw_all := lw_g (lw_at lw_m4 53 rfl) rfl
theorem q889 : (Jvm.Cond.code ({ cls := "BeeYard$Loop", name := "<init>", desc := "(I)V" } : Jvm.MethodName) prog_9_method_1_code (2 : Nat) (Option.none : Option Jvm.ClassFile.FieldType)) ∈ lw_all := lw_g (lw_at lw_m4 54 rfl) rfl
theorem q890 : (Jvm.Cond.methodLinkNest "BeeYard$Loop" (1 : Nat) ({ cls := "BeeYard$Block", name := "<init>", desc := "()V" } : Jvm.MethodName) "BeeYard") ∈ lw_tbl := lw_at lw_m4 55 rfl
theorem q899 : (Jvm.Cond.fieldLink "BeeYard$Loop" (7 : Nat) "BeeYard$Loop" "times" "I") ∈ lw_all := lw_g (lw_at lw_m4 64 rfl) rfl
theorem q902 : (Jvm.Cond.laysFinal "BeeYard$Loop" "BeeYard$Loop" "times" "I") ∈ lw_all := lw_g (lw_at lw_m4 67 rfl) rfl
theorem q903 : (Jvm.Cond.soleField "BeeYard$Loop" "times") ∈ lw_all := lw_g (lw_at lw_m4 68 rfl) rfl
theorem q904 : (Jvm.Cond.lays "BeeYard$Loop" "BeeYard$Block" "steps" "[LBeeYard$Step;") ∈ lw_all := lw_g (lw_at lw_m4 69 rfl) rfl
theorem q906 : (Jvm.Cond.lays "BeeYard$Loop" "BeeYard$Block" "size" "I") ∈ lw_all := lw_g (lw_at lw_m4 71 rfl) rfl
theorem q908 : (Jvm.Cond.superclass "BeeYard$Loop" "BeeYard$Block") ∈ lw_all := lw_g (lw_at lw_m4 73 rfl) rfl
theorem q985 : (Jvm.Cond.selects "BeeYard$Loop" ({ cls := "BeeYard$Block", name := "add", desc := "(LBeeYard$Step;)V" } : Jvm.MethodName) ({ cls := "BeeYard$Block", name := "add", desc := "(LBeeYard$Step;)V" } : Jvm.MethodName)) ∈ lw_all := lw_g (lw_at lw_m4 150 rfl) rfl
theorem q1333 : (Jvm.Cond.fieldLinkNest "BeeYard$Loop" (13 : Nat) "BeeYard$Living" "isOver" "Z" "BeeYard") ∈ lw_tbl := lw_at lw_m6 18 rfl
theorem q1355 : (Jvm.Cond.sameMethod "BeeYard$Loop" "BeeYard$Block" "all" "(LBeeYard$Living;)V") ∈ lw_all := lw_g (lw_at lw_m6 40 rfl) rfl
theorem q1357 : (Jvm.Cond.selects "BeeYard$Loop" ({ cls := "BeeYard$Loop", name := "all", desc := "(LBeeYard$Living;)V" } : Jvm.MethodName) ({ cls := "BeeYard$Block", name := "all", desc := "(LBeeYard$Living;)V" } : Jvm.MethodName)) ∈ lw_all := lw_g (lw_at lw_m6 42 rfl) rfl
theorem q1364 : (Jvm.Cond.selects "BeeYard$Loop" ({ cls := "BeeYard$Step", name := "go", desc := "(LBeeYard$Living;)V" } : Jvm.MethodName) ({ cls := "BeeYard$Step", name := "go", desc := "(LBeeYard$Living;)V" } : Jvm.MethodName)) ∈ lw_all := lw_g (lw_at lw_m6 49 rfl) rfl
theorem q1388 : (Jvm.Cond.selects "BeeYard$Loop" ({ cls := "BeeYard$Step", name := "does", desc := "(LBeeYard$Living;)V" } : Jvm.MethodName) ({ cls := "BeeYard$Loop", name := "does", desc := "(LBeeYard$Living;)V" } : Jvm.MethodName)) ∈ lw_all := lw_g (lw_at lw_m6 73 rfl) rfl
theorem q1389 : (Jvm.Cond.instanceMethod ({ cls := "BeeYard$Loop", name := "does", desc := "(LBeeYard$Living;)V" } : Jvm.MethodName)) ∈ lw_all := lw_g (lw_at lw_m6 74 rfl) rfl
theorem q1390 : (Jvm.Cond.code ({ cls := "BeeYard$Loop", name := "does", desc := "(LBeeYard$Living;)V" } : Jvm.MethodName) prog_9_method_2_code (3 : Nat) (Option.none : Option Jvm.ClassFile.FieldType)) ∈ lw_all := lw_g (lw_at lw_m6 75 rfl) rfl
theorem q1391 : (Jvm.Cond.methodLink "BeeYard$Loop" (19 : Nat) ({ cls := "BeeYard$Loop", name := "all", desc := "(LBeeYard$Living;)V" } : Jvm.MethodName)) ∈ lw_all := lw_g (lw_at lw_m6 76 rfl) rfl
theorem q2080 : (Jvm.Cond.castable "BeeYard$Loop" "BeeYard$Step") ∈ lw_tbl := lw_at lw_m9 45 rfl
theorem in_X12 : ∀ w ∈ wsX120, w ∈ lw_all := lw_in wsX120 [904, 906, 902] (by decide +kernel) (by decide +kernel)

/-! BeeYard$When -/
def RX13 : String := "BeeYard$When"
def TX13 : u_T := fun k => match k with
  | 0 => ("BeeYard$Block", "steps", "[LBeeYard$Step;", false)
  | 1 => ("BeeYard$Block", "size", "I", false)
  | 2 => ("BeeYard$When", "what", "I", true)
  | 3 => ("BeeYard$When", "hive", "I", true)
  | 4 => ("BeeYard$When", "sign", "I", true)
  | _ => ("BeeYard$When", "number", "I", true)
def tyX13 : Nat → FieldType := fun k => match k with
  | 0 => .array (.object "BeeYard$Step")
  | 1 => .int
  | 2 => .int
  | 3 => .int
  | 4 => .int
  | _ => .int
abbrev wsX130 : List Cond := u_ws RX13 TX13 6
theorem nmX13 : ∀ a, a < 6 → ∀ b, b < 6 → a ≠ b → (TX13 a).2.1 ≠ (TX13 b).2.1 := by decide +kernel
theorem tyX13_ok : ∀ k, k < 6 → parseFieldDescriptor (TX13 k).2.2.1 = some (tyX13 k) := by decide +kernel
abbrev cX13_init : ByteArray := prog_14_method_1_code
def yX13_init : MethodName := ⟨RX13, "<init>", "(IIII)V"⟩
abbrev cX13_does : ByteArray := prog_14_method_3_code
def yX13_does : MethodName := ⟨RX13, "does", "(LBeeYard$Living;)V"⟩
abbrev cX13_is : ByteArray := prog_14_method_2_code
def yX13_is : MethodName := ⟨RX13, "is", "(LBeeYard$Hive;)Z"⟩
theorem q141 : (Jvm.Cond.initialized "BeeYard$When") ∈ lw_all := lw_g (lw_at lw_m1 26 rfl) rfl
theorem q314 : (Jvm.Cond.fieldLinkNest "BeeYard$When" (46 : Nat) "BeeYard$Yard" "hives" "[LBeeYard$Hive;" "BeeYard") ∈ lw_tbl := lw_at lw_m1 199 rfl
theorem q752 : (Jvm.Cond.fieldLinkNest "BeeYard$When" (30 : Nat) "BeeYard$Hive" "bees" "I" "BeeYard") ∈ lw_tbl := lw_at lw_m3 157 rfl
theorem q934 : (Jvm.Cond.instantiable "BeeYard$When" (6 : Nat)) ∈ lw_all := lw_g (lw_at lw_m4 99 rfl) rfl
theorem q936 : (Jvm.Cond.instanceMethod ({ cls := "BeeYard$When", name := "<init>", desc := "(IIII)V" } : Jvm.MethodName)) ∈ lw_all := lw_g (lw_at lw_m4 101 rfl) rfl
theorem q937 : (Jvm.Cond.code ({ cls := "BeeYard$When", name := "<init>", desc := "(IIII)V" } : Jvm.MethodName) prog_14_method_1_code (5 : Nat) (Option.none : Option Jvm.ClassFile.FieldType)) ∈ lw_all := lw_g (lw_at lw_m4 102 rfl) rfl
theorem q938 : (Jvm.Cond.methodLinkNest "BeeYard$When" (3 : Nat) ({ cls := "BeeYard$Block", name := "<init>", desc := "()V" } : Jvm.MethodName) "BeeYard") ∈ lw_tbl := lw_at lw_m4 103 rfl
theorem q939 : (Jvm.Cond.fieldLink "BeeYard$When" (9 : Nat) "BeeYard$When" "what" "I") ∈ lw_all := lw_g (lw_at lw_m4 104 rfl) rfl
theorem q940 : (Jvm.Cond.fieldLink "BeeYard$When" (15 : Nat) "BeeYard$When" "hive" "I") ∈ lw_all := lw_g (lw_at lw_m4 105 rfl) rfl
theorem q941 : (Jvm.Cond.fieldLink "BeeYard$When" (18 : Nat) "BeeYard$When" "sign" "I") ∈ lw_all := lw_g (lw_at lw_m4 106 rfl) rfl
theorem q942 : (Jvm.Cond.fieldLink "BeeYard$When" (21 : Nat) "BeeYard$When" "number" "I") ∈ lw_all := lw_g (lw_at lw_m4 107 rfl) rfl
theorem q943 : (Jvm.Cond.laysFinal "BeeYard$When" "BeeYard$When" "what" "I") ∈ lw_all := lw_g (lw_at lw_m4 108 rfl) rfl
theorem q944 : (Jvm.Cond.soleField "BeeYard$When" "what") ∈ lw_all := lw_g (lw_at lw_m4 109 rfl) rfl
theorem q945 : (Jvm.Cond.laysFinal "BeeYard$When" "BeeYard$When" "hive" "I") ∈ lw_all := lw_g (lw_at lw_m4 110 rfl) rfl
theorem q946 : (Jvm.Cond.soleField "BeeYard$When" "hive") ∈ lw_all := lw_g (lw_at lw_m4 111 rfl) rfl
theorem q947 : (Jvm.Cond.laysFinal "BeeYard$When" "BeeYard$When" "sign" "I") ∈ lw_all := lw_g (lw_at lw_m4 112 rfl) rfl
theorem q948 : (Jvm.Cond.soleField "BeeYard$When" "sign") ∈ lw_all := lw_g (lw_at lw_m4 113 rfl) rfl
theorem q949 : (Jvm.Cond.laysFinal "BeeYard$When" "BeeYard$When" "number" "I") ∈ lw_all := lw_g (lw_at lw_m4 114 rfl) rfl
theorem q950 : (Jvm.Cond.soleField "BeeYard$When" "number") ∈ lw_all := lw_g (lw_at lw_m4 115 rfl) rfl
theorem q951 : (Jvm.Cond.lays "BeeYard$When" "BeeYard$Block" "steps" "[LBeeYard$Step;") ∈ lw_all := lw_g (lw_at lw_m4 116 rfl) rfl
theorem q952 : (Jvm.Cond.lays "BeeYard$When" "BeeYard$Block" "size" "I") ∈ lw_all := lw_g (lw_at lw_m4 117 rfl) rfl
theorem q953 : (Jvm.Cond.superclass "BeeYard$When" "BeeYard$Block") ∈ lw_all := lw_g (lw_at lw_m4 118 rfl) rfl
theorem q986 : (Jvm.Cond.selects "BeeYard$When" ({ cls := "BeeYard$Block", name := "add", desc := "(LBeeYard$Step;)V" } : Jvm.MethodName) ({ cls := "BeeYard$Block", name := "add", desc := "(LBeeYard$Step;)V" } : Jvm.MethodName)) ∈ lw_all := lw_g (lw_at lw_m4 151 rfl) rfl
theorem q1325 : (Jvm.Cond.fieldLinkNest "BeeYard$When" (40 : Nat) "BeeYard$Living" "yard" "LBeeYard$Yard;" "BeeYard") ∈ lw_tbl := lw_at lw_m6 10 rfl
theorem q1365 : (Jvm.Cond.selects "BeeYard$When" ({ cls := "BeeYard$Step", name := "go", desc := "(LBeeYard$Living;)V" } : Jvm.MethodName) ({ cls := "BeeYard$Step", name := "go", desc := "(LBeeYard$Living;)V" } : Jvm.MethodName)) ∈ lw_all := lw_g (lw_at lw_m6 50 rfl) rfl
theorem q1392 : (Jvm.Cond.selects "BeeYard$When" ({ cls := "BeeYard$Step", name := "does", desc := "(LBeeYard$Living;)V" } : Jvm.MethodName) ({ cls := "BeeYard$When", name := "does", desc := "(LBeeYard$Living;)V" } : Jvm.MethodName)) ∈ lw_all := lw_g (lw_at lw_m6 77 rfl) rfl
theorem q1393 : (Jvm.Cond.instanceMethod ({ cls := "BeeYard$When", name := "does", desc := "(LBeeYard$Living;)V" } : Jvm.MethodName)) ∈ lw_all := lw_g (lw_at lw_m6 78 rfl) rfl
theorem q1394 : (Jvm.Cond.code ({ cls := "BeeYard$When", name := "does", desc := "(LBeeYard$Living;)V" } : Jvm.MethodName) prog_14_method_3_code (2 : Nat) (Option.none : Option Jvm.ClassFile.FieldType)) ∈ lw_all := lw_g (lw_at lw_m6 79 rfl) rfl
theorem q1395 : (Jvm.Cond.methodLink "BeeYard$When" (52 : Nat) ({ cls := "BeeYard$When", name := "is", desc := "(LBeeYard$Hive;)Z" } : Jvm.MethodName)) ∈ lw_all := lw_g (lw_at lw_m6 80 rfl) rfl
theorem q1396 : (Jvm.Cond.privateMethod ({ cls := "BeeYard$When", name := "is", desc := "(LBeeYard$Hive;)Z" } : Jvm.MethodName)) ∈ lw_tbl := lw_at lw_m6 81 rfl
theorem q1397 : (Jvm.Cond.instanceMethod ({ cls := "BeeYard$When", name := "is", desc := "(LBeeYard$Hive;)Z" } : Jvm.MethodName)) ∈ lw_all := lw_g (lw_at lw_m6 82 rfl) rfl
theorem q1398 : (Jvm.Cond.code ({ cls := "BeeYard$When", name := "is", desc := "(LBeeYard$Hive;)Z" } : Jvm.MethodName) prog_14_method_2_code (3 : Nat) (Option.some Jvm.ClassFile.FieldType.boolean)) ∈ lw_all := lw_g (lw_at lw_m6 83 rfl) rfl
theorem q1399 : (Jvm.Cond.methodLink "BeeYard$When" (24 : Nat) ({ cls := "BeeYard$Hive", name := "isCrowded", desc := "()Z" } : Jvm.MethodName)) ∈ lw_all := lw_g (lw_at lw_m6 84 rfl) rfl
theorem q1400 : (Jvm.Cond.methodLink "BeeYard$When" (33 : Nat) ({ cls := "BeeYard$Hive", name := "honey", desc := "()I" } : Jvm.MethodName)) ∈ lw_all := lw_g (lw_at lw_m6 85 rfl) rfl
theorem q1401 : (Jvm.Cond.methodLink "BeeYard$When" (37 : Nat) ({ cls := "BeeYard$Hive", name := "brood", desc := "()I" } : Jvm.MethodName)) ∈ lw_all := lw_g (lw_at lw_m6 86 rfl) rfl
theorem q1402 : (Jvm.Cond.methodLink "BeeYard$When" (56 : Nat) ({ cls := "BeeYard$When", name := "all", desc := "(LBeeYard$Living;)V" } : Jvm.MethodName)) ∈ lw_all := lw_g (lw_at lw_m6 87 rfl) rfl
theorem q1403 : (Jvm.Cond.sameMethod "BeeYard$When" "BeeYard$Block" "all" "(LBeeYard$Living;)V") ∈ lw_all := lw_g (lw_at lw_m6 88 rfl) rfl
theorem q1404 : (Jvm.Cond.selects "BeeYard$When" ({ cls := "BeeYard$When", name := "all", desc := "(LBeeYard$Living;)V" } : Jvm.MethodName) ({ cls := "BeeYard$Block", name := "all", desc := "(LBeeYard$Living;)V" } : Jvm.MethodName)) ∈ lw_all := lw_g (lw_at lw_m6 89 rfl) rfl
theorem q2081 : (Jvm.Cond.castable "BeeYard$When" "BeeYard$Step") ∈ lw_tbl := lw_at lw_m9 46 rfl
theorem in_X13 : ∀ w ∈ wsX130, w ∈ lw_all := lw_in wsX130 [951, 952, 943, 945, 947, 949] (by decide +kernel) (by decide +kernel)

/-! BeeYard$Act -/
def RX14 : String := "BeeYard$Act"
def TX14 : u_T := fun k => match k with
  | 0 => ("BeeYard$Act", "what", "I", true)
  | 1 => ("BeeYard$Act", "a", "I", true)
  | 2 => ("BeeYard$Act", "b", "I", true)
  | 3 => ("BeeYard$Act", "c", "I", true)
  | _ => ("BeeYard$Act", "d", "I", true)
def tyX14 : Nat → FieldType := fun k => match k with
  | 0 => .int
  | 1 => .int
  | 2 => .int
  | 3 => .int
  | _ => .int
abbrev wsX140 : List Cond := u_ws RX14 TX14 5
theorem nmX14 : ∀ a, a < 5 → ∀ b, b < 5 → a ≠ b → (TX14 a).2.1 ≠ (TX14 b).2.1 := by decide +kernel
theorem tyX14_ok : ∀ k, k < 5 → parseFieldDescriptor (TX14 k).2.2.1 = some (tyX14 k) := by decide +kernel
abbrev cX14_init : ByteArray := prog_2_method_1_code
def yX14_init : MethodName := ⟨RX14, "<init>", "(IIIII)V"⟩
abbrev cX14_does : ByteArray := prog_2_method_3_code
def yX14_does : MethodName := ⟨RX14, "does", "(LBeeYard$Living;)V"⟩
abbrev cX14_can : ByteArray := prog_2_method_2_code
def yX14_can : MethodName := ⟨RX14, "can", "(LBeeYard$Living;)Z"⟩
theorem q142 : (Jvm.Cond.initialized "BeeYard$Act") ∈ lw_all := lw_g (lw_at lw_m1 27 rfl) rfl
theorem q313 : (Jvm.Cond.fieldLinkNest "BeeYard$Act" (50 : Nat) "BeeYard$Yard" "hives" "[LBeeYard$Hive;" "BeeYard") ∈ lw_tbl := lw_at lw_m1 198 rfl
theorem q318 : (Jvm.Cond.fieldLinkNest "BeeYard$Act" (60 : Nat) "BeeYard$Yard" "many" "I" "BeeYard") ∈ lw_tbl := lw_at lw_m1 203 rfl
theorem q754 : (Jvm.Cond.fieldLinkNest "BeeYard$Act" (67 : Nat) "BeeYard$Hive" "bees" "I" "BeeYard") ∈ lw_tbl := lw_at lw_m3 159 rfl
theorem q760 : (Jvm.Cond.fieldLinkNest "BeeYard$Act" (77 : Nat) "BeeYard$Hive" "queen" "I" "BeeYard") ∈ lw_tbl := lw_at lw_m3 165 rfl
theorem q961 : (Jvm.Cond.instantiable "BeeYard$Act" (5 : Nat)) ∈ lw_all := lw_g (lw_at lw_m4 126 rfl) rfl
theorem q963 : (Jvm.Cond.instanceMethod ({ cls := "BeeYard$Act", name := "<init>", desc := "(IIIII)V" } : Jvm.MethodName)) ∈ lw_all := lw_g (lw_at lw_m4 128 rfl) rfl
theorem q964 : (Jvm.Cond.code ({ cls := "BeeYard$Act", name := "<init>", desc := "(IIIII)V" } : Jvm.MethodName) prog_2_method_1_code (6 : Nat) (Option.none : Option Jvm.ClassFile.FieldType)) ∈ lw_all := lw_g (lw_at lw_m4 129 rfl) rfl
theorem q965 : (Jvm.Cond.methodLinkNest "BeeYard$Act" (3 : Nat) ({ cls := "BeeYard$Step", name := "<init>", desc := "()V" } : Jvm.MethodName) "BeeYard") ∈ lw_tbl := lw_at lw_m4 130 rfl
theorem q966 : (Jvm.Cond.fieldLink "BeeYard$Act" (9 : Nat) "BeeYard$Act" "what" "I") ∈ lw_all := lw_g (lw_at lw_m4 131 rfl) rfl
theorem q967 : (Jvm.Cond.fieldLink "BeeYard$Act" (15 : Nat) "BeeYard$Act" "a" "I") ∈ lw_all := lw_g (lw_at lw_m4 132 rfl) rfl
theorem q968 : (Jvm.Cond.fieldLink "BeeYard$Act" (18 : Nat) "BeeYard$Act" "b" "I") ∈ lw_all := lw_g (lw_at lw_m4 133 rfl) rfl
theorem q969 : (Jvm.Cond.fieldLink "BeeYard$Act" (21 : Nat) "BeeYard$Act" "c" "I") ∈ lw_all := lw_g (lw_at lw_m4 134 rfl) rfl
theorem q970 : (Jvm.Cond.fieldLink "BeeYard$Act" (24 : Nat) "BeeYard$Act" "d" "I") ∈ lw_all := lw_g (lw_at lw_m4 135 rfl) rfl
theorem q971 : (Jvm.Cond.laysFinal "BeeYard$Act" "BeeYard$Act" "what" "I") ∈ lw_all := lw_g (lw_at lw_m4 136 rfl) rfl
theorem q972 : (Jvm.Cond.soleField "BeeYard$Act" "what") ∈ lw_all := lw_g (lw_at lw_m4 137 rfl) rfl
theorem q973 : (Jvm.Cond.laysFinal "BeeYard$Act" "BeeYard$Act" "a" "I") ∈ lw_all := lw_g (lw_at lw_m4 138 rfl) rfl
theorem q974 : (Jvm.Cond.soleField "BeeYard$Act" "a") ∈ lw_all := lw_g (lw_at lw_m4 139 rfl) rfl
theorem q975 : (Jvm.Cond.laysFinal "BeeYard$Act" "BeeYard$Act" "b" "I") ∈ lw_all := lw_g (lw_at lw_m4 140 rfl) rfl
theorem q976 : (Jvm.Cond.soleField "BeeYard$Act" "b") ∈ lw_all := lw_g (lw_at lw_m4 141 rfl) rfl
theorem q977 : (Jvm.Cond.laysFinal "BeeYard$Act" "BeeYard$Act" "c" "I") ∈ lw_all := lw_g (lw_at lw_m4 142 rfl) rfl
theorem q978 : (Jvm.Cond.soleField "BeeYard$Act" "c") ∈ lw_all := lw_g (lw_at lw_m4 143 rfl) rfl
theorem q979 : (Jvm.Cond.laysFinal "BeeYard$Act" "BeeYard$Act" "d" "I") ∈ lw_all := lw_g (lw_at lw_m4 144 rfl) rfl
theorem q980 : (Jvm.Cond.soleField "BeeYard$Act" "d") ∈ lw_all := lw_g (lw_at lw_m4 145 rfl) rfl
theorem q981 : (Jvm.Cond.superclass "BeeYard$Act" "BeeYard$Step") ∈ lw_all := lw_g (lw_at lw_m4 146 rfl) rfl
theorem q1324 : (Jvm.Cond.fieldLinkNest "BeeYard$Act" (27 : Nat) "BeeYard$Living" "yard" "LBeeYard$Yard;" "BeeYard") ∈ lw_tbl := lw_at lw_m6 9 rfl
theorem q1329 : (Jvm.Cond.fieldLinkNest "BeeYard$Act" (88 : Nat) "BeeYard$Living" "missed" "I" "BeeYard") ∈ lw_tbl := lw_at lw_m6 14 rfl
theorem q1331 : (Jvm.Cond.fieldLinkNest "BeeYard$Act" (70 : Nat) "BeeYard$Living" "bloomed" "I" "BeeYard") ∈ lw_tbl := lw_at lw_m6 16 rfl
theorem q1334 : (Jvm.Cond.fieldLinkNest "BeeYard$Act" (80 : Nat) "BeeYard$Living" "isOver" "Z" "BeeYard") ∈ lw_tbl := lw_at lw_m6 19 rfl
theorem q1363 : (Jvm.Cond.selects "BeeYard$Act" ({ cls := "BeeYard$Step", name := "go", desc := "(LBeeYard$Living;)V" } : Jvm.MethodName) ({ cls := "BeeYard$Step", name := "go", desc := "(LBeeYard$Living;)V" } : Jvm.MethodName)) ∈ lw_all := lw_g (lw_at lw_m6 48 rfl) rfl
theorem q1370 : (Jvm.Cond.selects "BeeYard$Act" ({ cls := "BeeYard$Step", name := "does", desc := "(LBeeYard$Living;)V" } : Jvm.MethodName) ({ cls := "BeeYard$Act", name := "does", desc := "(LBeeYard$Living;)V" } : Jvm.MethodName)) ∈ lw_all := lw_g (lw_at lw_m6 55 rfl) rfl
theorem q1371 : (Jvm.Cond.instanceMethod ({ cls := "BeeYard$Act", name := "does", desc := "(LBeeYard$Living;)V" } : Jvm.MethodName)) ∈ lw_all := lw_g (lw_at lw_m6 56 rfl) rfl
theorem q1372 : (Jvm.Cond.code ({ cls := "BeeYard$Act", name := "does", desc := "(LBeeYard$Living;)V" } : Jvm.MethodName) prog_2_method_3_code (2 : Nat) (Option.none : Option Jvm.ClassFile.FieldType)) ∈ lw_all := lw_g (lw_at lw_m6 57 rfl) rfl
theorem q1373 : (Jvm.Cond.methodLink "BeeYard$Act" (84 : Nat) ({ cls := "BeeYard$Act", name := "can", desc := "(LBeeYard$Living;)Z" } : Jvm.MethodName)) ∈ lw_all := lw_g (lw_at lw_m6 58 rfl) rfl
theorem q1374 : (Jvm.Cond.privateMethod ({ cls := "BeeYard$Act", name := "can", desc := "(LBeeYard$Living;)Z" } : Jvm.MethodName)) ∈ lw_tbl := lw_at lw_m6 59 rfl
theorem q1375 : (Jvm.Cond.instanceMethod ({ cls := "BeeYard$Act", name := "can", desc := "(LBeeYard$Living;)Z" } : Jvm.MethodName)) ∈ lw_all := lw_g (lw_at lw_m6 60 rfl) rfl
theorem q1376 : (Jvm.Cond.code ({ cls := "BeeYard$Act", name := "can", desc := "(LBeeYard$Living;)Z" } : Jvm.MethodName) prog_2_method_2_code (5 : Nat) (Option.some Jvm.ClassFile.FieldType.boolean)) ∈ lw_all := lw_g (lw_at lw_m6 61 rfl) rfl
theorem q1377 : (Jvm.Cond.methodLink "BeeYard$Act" (33 : Nat) ({ cls := "BeeYard$Yard", name := "canPass", desc := "(I)Z" } : Jvm.MethodName)) ∈ lw_all := lw_g (lw_at lw_m6 62 rfl) rfl
theorem q1378 : (Jvm.Cond.methodLink "BeeYard$Act" (39 : Nat) ({ cls := "BeeYard$Yard", name := "passes", desc := "(I)V" } : Jvm.MethodName)) ∈ lw_all := lw_g (lw_at lw_m6 63 rfl) rfl
theorem q1379 : (Jvm.Cond.methodLink "BeeYard$Act" (43 : Nat) ({ cls := "BeeYard$Yard", name := "brings", desc := "(II)I" } : Jvm.MethodName)) ∈ lw_all := lw_g (lw_at lw_m6 64 rfl) rfl
theorem q1380 : (Jvm.Cond.methodLink "BeeYard$Act" (47 : Nat) ({ cls := "BeeYard$Yard", name := "harvests", desc := "(II)I" } : Jvm.MethodName)) ∈ lw_all := lw_g (lw_at lw_m6 65 rfl) rfl
theorem q1381 : (Jvm.Cond.methodLink "BeeYard$Act" (54 : Nat) ({ cls := "BeeYard$Hive", name := "swaps", desc := "(LBeeYard$Hive;ILBeeYard$Hive;I)V" } : Jvm.MethodName)) ∈ lw_all := lw_g (lw_at lw_m6 66 rfl) rfl
theorem q1382 : (Jvm.Cond.methodLink "BeeYard$Act" (63 : Nat) ({ cls := "BeeYard$Living", name := "draw", desc := "(I)I" } : Jvm.MethodName)) ∈ lw_all := lw_g (lw_at lw_m6 67 rfl) rfl
theorem q1387 : (Jvm.Cond.methodLink "BeeYard$Act" (73 : Nat) ({ cls := "BeeYard$Yard", name := "canSeat", desc := "(II)Z" } : Jvm.MethodName)) ∈ lw_all := lw_g (lw_at lw_m6 72 rfl) rfl
theorem q2082 : (Jvm.Cond.castable "BeeYard$Act" "BeeYard$Step") ∈ lw_tbl := lw_at lw_m9 47 rfl
theorem in_X14 : ∀ w ∈ wsX140, w ∈ lw_all := lw_in wsX140 [971, 973, 975, 977, 979] (by decide +kernel) (by decide +kernel)

/-! java/lang/Long -/
def RJ11 : String := "java/lang/Long"
abbrev cJ11_signum : ByteArray := prog_21_method_57_code
def yJ11_signum : MethodName := ⟨RJ11, "signum", "(J)I"⟩
theorem q143 : (Jvm.Cond.initialized "java/lang/Long") ∈ lw_all := lw_g (lw_at lw_m1 28 rfl) rfl
theorem q1203 : (Jvm.Cond.static ({ cls := "java/lang/Long", name := "signum", desc := "(J)I" } : Jvm.MethodName)) ∈ lw_all := lw_g (lw_at lw_m5 128 rfl) rfl
theorem q1204 : (Jvm.Cond.code ({ cls := "java/lang/Long", name := "signum", desc := "(J)I" } : Jvm.MethodName) prog_21_method_57_code (2 : Nat) (Option.some Jvm.ClassFile.FieldType.int)) ∈ lw_all := lw_g (lw_at lw_m5 129 rfl) rfl

/-! BeeYard$Living -/
def RX15 : String := "BeeYard$Living"
def TX15 : u_T := fun k => match k with
  | 0 => ("BeeYard$Living", "yard", "LBeeYard$Yard;", true)
  | 1 => ("BeeYard$Living", "state", "I", false)
  | 2 => ("BeeYard$Living", "done", "I", false)
  | 3 => ("BeeYard$Living", "missed", "I", false)
  | 4 => ("BeeYard$Living", "bloomed", "I", false)
  | 5 => ("BeeYard$Living", "isOver", "Z", false)
  | _ => ("BeeYard$Living", "isLeft", "Z", false)
def tyX15 : Nat → FieldType := fun k => match k with
  | 0 => .object "BeeYard$Yard"
  | 1 => .int
  | 2 => .int
  | 3 => .int
  | 4 => .int
  | 5 => .boolean
  | _ => .boolean
abbrev wsX150 : List Cond := u_ws RX15 TX15 7
theorem nmX15 : ∀ a, a < 7 → ∀ b, b < 7 → a ≠ b → (TX15 a).2.1 ≠ (TX15 b).2.1 := by decide +kernel
theorem tyX15_ok : ∀ k, k < 7 → parseFieldDescriptor (TX15 k).2.2.1 = some (tyX15 k) := by decide +kernel
abbrev cX15_init : ByteArray := prog_8_method_1_code
def yX15_init : MethodName := ⟨RX15, "<init>", "(LBeeYard$Yard;I)V"⟩
abbrev cX15_draw : ByteArray := prog_8_method_2_code
def yX15_draw : MethodName := ⟨RX15, "draw", "(I)I"⟩
theorem q144 : (Jvm.Cond.initialized "BeeYard$Living") ∈ lw_all := lw_g (lw_at lw_m1 29 rfl) rfl
theorem q1318 : (Jvm.Cond.instantiable "BeeYard$Living" (7 : Nat)) ∈ lw_all := lw_g (lw_at lw_m6 3 rfl) rfl
theorem q1320 : (Jvm.Cond.instanceMethod ({ cls := "BeeYard$Living", name := "<init>", desc := "(LBeeYard$Yard;I)V" } : Jvm.MethodName)) ∈ lw_all := lw_g (lw_at lw_m6 5 rfl) rfl
theorem q1321 : (Jvm.Cond.code ({ cls := "BeeYard$Living", name := "<init>", desc := "(LBeeYard$Yard;I)V" } : Jvm.MethodName) prog_8_method_1_code (3 : Nat) (Option.none : Option Jvm.ClassFile.FieldType)) ∈ lw_all := lw_g (lw_at lw_m6 6 rfl) rfl
theorem q1322 : (Jvm.Cond.methodLink "BeeYard$Living" (1 : Nat) ({ cls := "java/lang/Object", name := "<init>", desc := "()V" } : Jvm.MethodName)) ∈ lw_all := lw_g (lw_at lw_m6 7 rfl) rfl
theorem q1323 : (Jvm.Cond.fieldLink "BeeYard$Living" (7 : Nat) "BeeYard$Living" "yard" "LBeeYard$Yard;") ∈ lw_all := lw_g (lw_at lw_m6 8 rfl) rfl
theorem q1326 : (Jvm.Cond.fieldLink "BeeYard$Living" (13 : Nat) "BeeYard$Living" "state" "I") ∈ lw_all := lw_g (lw_at lw_m6 11 rfl) rfl
theorem q1339 : (Jvm.Cond.laysFinal "BeeYard$Living" "BeeYard$Living" "yard" "LBeeYard$Yard;") ∈ lw_all := lw_g (lw_at lw_m6 24 rfl) rfl
theorem q1340 : (Jvm.Cond.soleField "BeeYard$Living" "yard") ∈ lw_all := lw_g (lw_at lw_m6 25 rfl) rfl
theorem q1341 : (Jvm.Cond.lays "BeeYard$Living" "BeeYard$Living" "state" "I") ∈ lw_all := lw_g (lw_at lw_m6 26 rfl) rfl
theorem q1342 : (Jvm.Cond.soleField "BeeYard$Living" "state") ∈ lw_all := lw_g (lw_at lw_m6 27 rfl) rfl
theorem q1343 : (Jvm.Cond.lays "BeeYard$Living" "BeeYard$Living" "done" "I") ∈ lw_all := lw_g (lw_at lw_m6 28 rfl) rfl
theorem q1344 : (Jvm.Cond.soleField "BeeYard$Living" "done") ∈ lw_all := lw_g (lw_at lw_m6 29 rfl) rfl
theorem q1345 : (Jvm.Cond.lays "BeeYard$Living" "BeeYard$Living" "missed" "I") ∈ lw_all := lw_g (lw_at lw_m6 30 rfl) rfl
theorem q1346 : (Jvm.Cond.soleField "BeeYard$Living" "missed") ∈ lw_all := lw_g (lw_at lw_m6 31 rfl) rfl
theorem q1347 : (Jvm.Cond.lays "BeeYard$Living" "BeeYard$Living" "bloomed" "I") ∈ lw_all := lw_g (lw_at lw_m6 32 rfl) rfl
theorem q1348 : (Jvm.Cond.soleField "BeeYard$Living" "bloomed") ∈ lw_all := lw_g (lw_at lw_m6 33 rfl) rfl
theorem q1349 : (Jvm.Cond.lays "BeeYard$Living" "BeeYard$Living" "isOver" "Z") ∈ lw_all := lw_g (lw_at lw_m6 34 rfl) rfl
theorem q1350 : (Jvm.Cond.soleField "BeeYard$Living" "isOver") ∈ lw_all := lw_g (lw_at lw_m6 35 rfl) rfl
theorem q1351 : (Jvm.Cond.lays "BeeYard$Living" "BeeYard$Living" "isLeft" "Z") ∈ lw_all := lw_g (lw_at lw_m6 36 rfl) rfl
theorem q1352 : (Jvm.Cond.soleField "BeeYard$Living" "isLeft") ∈ lw_all := lw_g (lw_at lw_m6 37 rfl) rfl
theorem q1353 : (Jvm.Cond.superclass "BeeYard$Living" "java/lang/Object") ∈ lw_all := lw_g (lw_at lw_m6 38 rfl) rfl
theorem q1383 : (Jvm.Cond.instanceMethod ({ cls := "BeeYard$Living", name := "draw", desc := "(I)I" } : Jvm.MethodName)) ∈ lw_all := lw_g (lw_at lw_m6 68 rfl) rfl
theorem q1384 : (Jvm.Cond.selects "BeeYard$Living" ({ cls := "BeeYard$Living", name := "draw", desc := "(I)I" } : Jvm.MethodName) ({ cls := "BeeYard$Living", name := "draw", desc := "(I)I" } : Jvm.MethodName)) ∈ lw_all := lw_g (lw_at lw_m6 69 rfl) rfl
theorem q1385 : (Jvm.Cond.code ({ cls := "BeeYard$Living", name := "draw", desc := "(I)I" } : Jvm.MethodName) prog_8_method_2_code (2 : Nat) (Option.some Jvm.ClassFile.FieldType.int)) ∈ lw_all := lw_g (lw_at lw_m6 70 rfl) rfl
theorem q1386 : (Jvm.Cond.constant "BeeYard$Living" (17 : Nat) (65536 : Int32)) ∈ lw_all := lw_g (lw_at lw_m6 71 rfl) rfl
theorem in_X15 : ∀ w ∈ wsX150, w ∈ lw_all := lw_in wsX150 [1339, 1341, 1343, 1345, 1347, 1349, 1351] (by decide +kernel) (by decide +kernel)

/-! java/lang/Object -/
def RJ12 : String := "java/lang/Object"
abbrev cJ12_init : ByteArray := object_method_1_code
def yJ12_init : MethodName := ⟨RJ12, "<init>", "()V"⟩
theorem q151 : (Jvm.Cond.instanceMethod ({ cls := "java/lang/Object", name := "<init>", desc := "()V" } : Jvm.MethodName)) ∈ lw_all := lw_g (lw_at lw_m1 36 rfl) rfl
theorem q152 : (Jvm.Cond.code ({ cls := "java/lang/Object", name := "<init>", desc := "()V" } : Jvm.MethodName) object_method_1_code (1 : Nat) (Option.none : Option Jvm.ClassFile.FieldType)) ∈ lw_all := lw_g (lw_at lw_m1 37 rfl) rfl

/-! the law's own entry -/
abbrev cL_law : ByteArray := code

theorem q154 : (Jvm.Cond.arrayOver (Jvm.ClassFile.FieldType.object "BeeYard$Tray")) ∈ lw_tbl := lw_at lw_m1 39 rfl
theorem q234 : (Jvm.Cond.arrayClass Jvm.ClassFile.FieldType.byte) ∈ lw_all := lw_g (lw_at lw_m1 119 rfl) rfl
theorem q305 : (Jvm.Cond.arrayClass Jvm.ClassFile.FieldType.long) ∈ lw_all := lw_g (lw_at lw_m1 190 rfl) rfl
theorem q306 : (Jvm.Cond.arrayClass Jvm.ClassFile.FieldType.int) ∈ lw_all := lw_g (lw_at lw_m1 191 rfl) rfl
theorem q308 : (Jvm.Cond.arrayOver (Jvm.ClassFile.FieldType.object "BeeYard$Hive")) ∈ lw_tbl := lw_at lw_m1 193 rfl
theorem q374 : (Jvm.Cond.arrayOver (Jvm.ClassFile.FieldType.object "BeeYard$House")) ∈ lw_tbl := lw_at lw_m2 19 rfl
theorem q488 : (Jvm.Cond.arrayClass Jvm.ClassFile.FieldType.short) ∈ lw_all := lw_g (lw_at lw_m2 133 rfl) rfl
theorem q743 : (Jvm.Cond.arrayOver (Jvm.ClassFile.FieldType.array Jvm.ClassFile.FieldType.short)) ∈ lw_tbl := lw_at lw_m3 148 rfl
theorem q898 : (Jvm.Cond.arrayOver (Jvm.ClassFile.FieldType.object "BeeYard$Step")) ∈ lw_tbl := lw_at lw_m4 63 rfl

theorem q115 : (Jvm.Cond.initialized "BeeYardLaw") ∈ lw_all := lw_g (lw_at lw_m1 0 rfl) rfl
theorem q145 : (Jvm.Cond.classLink "BeeYardLaw" (7 : Nat) "BeeYard") ∈ lw_all := lw_g (lw_at lw_m1 30 rfl) rfl
theorem q147 : (Jvm.Cond.methodLink "BeeYardLaw" (9 : Nat) ({ cls := "BeeYard", name := "<init>", desc := "()V" } : Jvm.MethodName)) ∈ lw_all := lw_g (lw_at lw_m1 32 rfl) rfl
theorem q428 : (Jvm.Cond.methodLink "BeeYardLaw" (13 : Nat) ({ cls := "BeeYard", name := "status", desc := "()I" } : Jvm.MethodName)) ∈ lw_all := lw_g (lw_at lw_m2 73 rfl) rfl
theorem q432 : (Jvm.Cond.methodLink "BeeYardLaw" (18 : Nat) ({ cls := "BeeYard", name := "top", desc := "()J" } : Jvm.MethodName)) ∈ lw_all := lw_g (lw_at lw_m2 77 rfl) rfl
theorem q436 : (Jvm.Cond.methodLink "BeeYardLaw" (23 : Nat) ({ cls := "BeeYard", name := "bottom", desc := "()J" } : Jvm.MethodName)) ∈ lw_all := lw_g (lw_at lw_m2 81 rfl) rfl
theorem q440 : (Jvm.Cond.methodLink "BeeYardLaw" (27 : Nat) ({ cls := "BeeYard", name := "tray", desc := "(III)Z" } : Jvm.MethodName)) ∈ lw_all := lw_g (lw_at lw_m2 85 rfl) rfl
theorem q489 : (Jvm.Cond.methodLink "BeeYardLaw" (34 : Nat) ({ cls := "BeeYard", name := "write", desc := "(IIJ)Z" } : Jvm.MethodName)) ∈ lw_all := lw_g (lw_at lw_m2 134 rfl) rfl
theorem q523 : (Jvm.Cond.methodLink "BeeYardLaw" (39 : Nat) ({ cls := "BeeYard", name := "read", desc := "(II)J" } : Jvm.MethodName)) ∈ lw_all := lw_g (lw_at lw_m2 168 rfl) rfl
theorem q535 : (Jvm.Cond.methodLink "BeeYardLaw" (44 : Nat) ({ cls := "BeeYard", name := "pour", desc := "(IIIII)Z" } : Jvm.MethodName)) ∈ lw_all := lw_g (lw_at lw_m2 180 rfl) rfl
theorem q546 : (Jvm.Cond.methodLink "BeeYardLaw" (49 : Nat) ({ cls := "BeeYard", name := "feed", desc := "(IIIII)I" } : Jvm.MethodName)) ∈ lw_all := lw_g (lw_at lw_m2 191 rfl) rfl
theorem q554 : (Jvm.Cond.methodLink "BeeYardLaw" (54 : Nat) ({ cls := "BeeYard", name := "yard", desc := "(I)I" } : Jvm.MethodName)) ∈ lw_all := lw_g (lw_at lw_m2 199 rfl) rfl
theorem q881 : (Jvm.Cond.methodLink "BeeYardLaw" (59 : Nat) ({ cls := "BeeYard", name := "season", desc := "(I)I" } : Jvm.MethodName)) ∈ lw_all := lw_g (lw_at lw_m4 46 rfl) rfl
theorem q989 : (Jvm.Cond.methodLink "BeeYardLaw" (63 : Nat) ({ cls := "BeeYard", name := "fault", desc := "(I)I" } : Jvm.MethodName)) ∈ lw_all := lw_g (lw_at lw_m4 154 rfl) rfl
theorem q993 : (Jvm.Cond.methodLink "BeeYardLaw" (67 : Nat) ({ cls := "BeeYard", name := "told", desc := "(I)I" } : Jvm.MethodName)) ∈ lw_all := lw_g (lw_at lw_m4 158 rfl) rfl
theorem q1005 : (Jvm.Cond.methodLink "BeeYardLaw" (71 : Nat) ({ cls := "BeeYard", name := "hive", desc := "(II)I" } : Jvm.MethodName)) ∈ lw_all := lw_g (lw_at lw_m4 170 rfl) rfl
theorem q1031 : (Jvm.Cond.methodLink "BeeYardLaw" (76 : Nat) ({ cls := "BeeYard", name := "line", desc := "(II)I" } : Jvm.MethodName)) ∈ lw_all := lw_g (lw_at lw_m4 196 rfl) rfl
theorem q1044 : (Jvm.Cond.methodLink "BeeYardLaw" (80 : Nat) ({ cls := "BeeYard", name := "fieldAt", desc := "(III)I" } : Jvm.MethodName)) ∈ lw_all := lw_g (lw_at lw_m4 209 rfl) rfl
theorem q1053 : (Jvm.Cond.methodLink "BeeYardLaw" (85 : Nat) ({ cls := "BeeYard", name := "order", desc := "(II)I" } : Jvm.MethodName)) ∈ lw_all := lw_g (lw_at lw_m4 218 rfl) rfl
theorem q1057 : (Jvm.Cond.methodLink "BeeYardLaw" (89 : Nat) ({ cls := "BeeYard", name := "copyOut", desc := "(III)I" } : Jvm.MethodName)) ∈ lw_all := lw_g (lw_at lw_m4 222 rfl) rfl
theorem q1066 : (Jvm.Cond.methodLink "BeeYardLaw" (93 : Nat) ({ cls := "BeeYard", name := "copyIn", desc := "(III)I" } : Jvm.MethodName)) ∈ lw_all := lw_g (lw_at lw_m4 231 rfl) rfl
theorem q1071 : (Jvm.Cond.methodLink "BeeYardLaw" (97 : Nat) ({ cls := "BeeYard", name := "days", desc := "(I)I" } : Jvm.MethodName)) ∈ lw_all := lw_g (lw_at lw_m4 236 rfl) rfl
theorem q1096 : (Jvm.Cond.methodLink "BeeYardLaw" (101 : Nat) ({ cls := "BeeYard", name := "bring", desc := "(II)I" } : Jvm.MethodName)) ∈ lw_all := lw_g (lw_at lw_m5 21 rfl) rfl
theorem q1106 : (Jvm.Cond.methodLink "BeeYardLaw" (105 : Nat) ({ cls := "BeeYard", name := "harvest", desc := "(II)I" } : Jvm.MethodName)) ∈ lw_all := lw_g (lw_at lw_m5 31 rfl) rfl
theorem q1118 : (Jvm.Cond.methodLink "BeeYardLaw" (109 : Nat) ({ cls := "BeeYard", name := "move", desc := "(IIII)Z" } : Jvm.MethodName)) ∈ lw_all := lw_g (lw_at lw_m5 43 rfl) rfl
theorem q1125 : (Jvm.Cond.methodLink "BeeYardLaw" (114 : Nat) ({ cls := "BeeYard", name := "split", desc := "(II)I" } : Jvm.MethodName)) ∈ lw_all := lw_g (lw_at lw_m5 50 rfl) rfl
theorem q1135 : (Jvm.Cond.methodLink "BeeYardLaw" (118 : Nat) ({ cls := "BeeYard", name := "join", desc := "(II)I" } : Jvm.MethodName)) ∈ lw_all := lw_g (lw_at lw_m5 60 rfl) rfl
theorem q1145 : (Jvm.Cond.methodLink "BeeYardLaw" (122 : Nat) ({ cls := "BeeYard", name := "seat", desc := "(II)Z" } : Jvm.MethodName)) ∈ lw_all := lw_g (lw_at lw_m5 70 rfl) rfl
theorem q1158 : (Jvm.Cond.methodLink "BeeYardLaw" (127 : Nat) ({ cls := "BeeYard", name := "crowded", desc := "(I)I" } : Jvm.MethodName)) ∈ lw_all := lw_g (lw_at lw_m5 83 rfl) rfl
theorem q1167 : (Jvm.Cond.methodLink "BeeYardLaw" (131 : Nat) ({ cls := "BeeYard", name := "swarm", desc := "(I)I" } : Jvm.MethodName)) ∈ lw_all := lw_g (lw_at lw_m5 92 rfl) rfl
theorem q1171 : (Jvm.Cond.methodLink "BeeYardLaw" (135 : Nat) ({ cls := "BeeYard", name := "swarmOut", desc := "(I)I" } : Jvm.MethodName)) ∈ lw_all := lw_g (lw_at lw_m5 96 rfl) rfl
theorem q1175 : (Jvm.Cond.methodLink "BeeYardLaw" (139 : Nat) ({ cls := "BeeYard", name := "take", desc := "(I)I" } : Jvm.MethodName)) ∈ lw_all := lw_g (lw_at lw_m5 100 rfl) rfl
theorem q1179 : (Jvm.Cond.methodLink "BeeYardLaw" (143 : Nat) ({ cls := "BeeYard", name := "kin", desc := "(II)Z" } : Jvm.MethodName)) ∈ lw_all := lw_g (lw_at lw_m5 104 rfl) rfl
theorem q1205 : (Jvm.Cond.methodLink "BeeYardLaw" (147 : Nat) ({ cls := "BeeYard", name := "inbred", desc := "(I)Z" } : Jvm.MethodName)) ∈ lw_all := lw_g (lw_at lw_m5 130 rfl) rfl
theorem q1209 : (Jvm.Cond.methodLink "BeeYardLaw" (152 : Nat) ({ cls := "BeeYard", name := "suitor", desc := "(I)I" } : Jvm.MethodName)) ∈ lw_all := lw_g (lw_at lw_m5 134 rfl) rfl
theorem q1213 : (Jvm.Cond.methodLink "BeeYardLaw" (156 : Nat) ({ cls := "BeeYard", name := "mothers", desc := "(I)I" } : Jvm.MethodName)) ∈ lw_all := lw_g (lw_at lw_m5 138 rfl) rfl
theorem q1217 : (Jvm.Cond.methodLink "BeeYardLaw" (160 : Nat) ({ cls := "BeeYard", name := "nearest", desc := "(II)I" } : Jvm.MethodName)) ∈ lw_all := lw_g (lw_at lw_m5 142 rfl) rfl
theorem q1225 : (Jvm.Cond.methodLink "BeeYardLaw" (164 : Nat) ({ cls := "BeeYard", name := "sisters", desc := "(I)I" } : Jvm.MethodName)) ∈ lw_all := lw_g (lw_at lw_m5 150 rfl) rfl
theorem q1229 : (Jvm.Cond.methodLink "BeeYardLaw" (168 : Nat) ({ cls := "BeeYard", name := "room", desc := "(I)I" } : Jvm.MethodName)) ∈ lw_all := lw_g (lw_at lw_m5 154 rfl) rfl
theorem q1237 : (Jvm.Cond.methodLink "BeeYardLaw" (172 : Nat) ({ cls := "BeeYard", name := "richest", desc := "(I)I" } : Jvm.MethodName)) ∈ lw_all := lw_g (lw_at lw_m5 162 rfl) rfl
theorem q1242 : (Jvm.Cond.methodLink "BeeYardLaw" (176 : Nat) ({ cls := "BeeYard", name := "age", desc := "(II)I" } : Jvm.MethodName)) ∈ lw_all := lw_g (lw_at lw_m5 167 rfl) rfl
theorem q1246 : (Jvm.Cond.methodLink "BeeYardLaw" (180 : Nat) ({ cls := "BeeYard", name := "coming", desc := "(II)I" } : Jvm.MethodName)) ∈ lw_all := lw_g (lw_at lw_m5 171 rfl) rfl
theorem q1250 : (Jvm.Cond.methodLink "BeeYardLaw" (184 : Nat) ({ cls := "BeeYard", name := "hungry", desc := "(I)I" } : Jvm.MethodName)) ∈ lw_all := lw_g (lw_at lw_m5 175 rfl) rfl
theorem q1257 : (Jvm.Cond.methodLink "BeeYardLaw" (188 : Nat) ({ cls := "BeeYard", name := "lasts", desc := "(I)I" } : Jvm.MethodName)) ∈ lw_all := lw_g (lw_at lw_m5 182 rfl) rfl
theorem q1261 : (Jvm.Cond.methodLink "BeeYardLaw" (192 : Nat) ({ cls := "BeeYard", name := "between", desc := "(III)I" } : Jvm.MethodName)) ∈ lw_all := lw_g (lw_at lw_m5 186 rfl) rfl
theorem q1266 : (Jvm.Cond.methodLink "BeeYardLaw" (196 : Nat) ({ cls := "BeeYard", name := "strongest", desc := "()I" } : Jvm.MethodName)) ∈ lw_all := lw_g (lw_at lw_m5 191 rfl) rfl
theorem q1270 : (Jvm.Cond.methodLink "BeeYardLaw" (200 : Nat) ({ cls := "BeeYard", name := "frame", desc := "(III)I" } : Jvm.MethodName)) ∈ lw_all := lw_g (lw_at lw_m5 195 rfl) rfl
theorem q1274 : (Jvm.Cond.methodLink "BeeYardLaw" (204 : Nat) ({ cls := "BeeYard", name := "even", desc := "()I" } : Jvm.MethodName)) ∈ lw_all := lw_g (lw_at lw_m5 199 rfl) rfl
theorem q1278 : (Jvm.Cond.methodLink "BeeYardLaw" (208 : Nat) ({ cls := "BeeYard", name := "sample", desc := "(III)I" } : Jvm.MethodName)) ∈ lw_all := lw_g (lw_at lw_m5 203 rfl) rfl
theorem q1283 : (Jvm.Cond.methodLink "BeeYardLaw" (212 : Nat) ({ cls := "BeeYard", name := "share", desc := "(I)Z" } : Jvm.MethodName)) ∈ lw_all := lw_g (lw_at lw_m5 208 rfl) rfl
theorem q1287 : (Jvm.Cond.methodLink "BeeYardLaw" (216 : Nat) ({ cls := "BeeYard", name := "worst", desc := "()I" } : Jvm.MethodName)) ∈ lw_all := lw_g (lw_at lw_m5 212 rfl) rfl
theorem q1291 : (Jvm.Cond.methodLink "BeeYardLaw" (220 : Nat) ({ cls := "BeeYard", name := "treat", desc := "(I)Z" } : Jvm.MethodName)) ∈ lw_all := lw_g (lw_at lw_m5 216 rfl) rfl
theorem q1295 : (Jvm.Cond.methodLink "BeeYardLaw" (224 : Nat) ({ cls := "BeeYard", name := "forecast", desc := "(III)I" } : Jvm.MethodName)) ∈ lw_all := lw_g (lw_at lw_m5 220 rfl) rfl
theorem q1303 : (Jvm.Cond.methodLink "BeeYardLaw" (228 : Nat) ({ cls := "BeeYard", name := "soonest", desc := "(II)I" } : Jvm.MethodName)) ∈ lw_all := lw_g (lw_at lw_m5 228 rfl) rfl
theorem q1307 : (Jvm.Cond.methodLink "BeeYardLaw" (232 : Nat) ({ cls := "BeeYard", name := "need", desc := "(II)I" } : Jvm.MethodName)) ∈ lw_all := lw_g (lw_at lw_m5 232 rfl) rfl
theorem q1313 : (Jvm.Cond.methodLink "BeeYardLaw" (236 : Nat) ({ cls := "BeeYard", name := "live", desc := "(I)I" } : Jvm.MethodName)) ∈ lw_all := lw_g (lw_at lw_m5 238 rfl) rfl
theorem q1405 : (Jvm.Cond.methodLink "BeeYardLaw" (240 : Nat) ({ cls := "BeeYard", name := "lived", desc := "(I)I" } : Jvm.MethodName)) ∈ lw_all := lw_g (lw_at lw_m6 90 rfl) rfl
theorem q1409 : (Jvm.Cond.methodLink "BeeYardLaw" (244 : Nat) ({ cls := "BeeYard", name := "odds", desc := "(IIII)Z" } : Jvm.MethodName)) ∈ lw_all := lw_g (lw_at lw_m6 94 rfl) rfl
theorem q1414 : (Jvm.Cond.methodLink "BeeYardLaw" (248 : Nat) ({ cls := "BeeYard", name := "mark", desc := "()I" } : Jvm.MethodName)) ∈ lw_all := lw_g (lw_at lw_m6 99 rfl) rfl
theorem q1423 : (Jvm.Cond.methodLink "BeeYardLaw" (252 : Nat) ({ cls := "BeeYard", name := "back", desc := "()I" } : Jvm.MethodName)) ∈ lw_all := lw_g (lw_at lw_m6 108 rfl) rfl
theorem q1427 : (Jvm.Cond.classLink "BeeYardLaw" (10 : Nat) "BeeYardModel") ∈ lw_all := lw_g (lw_at lw_m6 112 rfl) rfl
theorem q1429 : (Jvm.Cond.methodLink "BeeYardLaw" (12 : Nat) ({ cls := "BeeYardModel", name := "<init>", desc := "()V" } : Jvm.MethodName)) ∈ lw_all := lw_g (lw_at lw_m6 114 rfl) rfl
theorem q1546 : (Jvm.Cond.methodLink "BeeYardLaw" (17 : Nat) ({ cls := "BeeYardModel", name := "status", desc := "()I" } : Jvm.MethodName)) ∈ lw_all := lw_g (lw_at lw_m6 231 rfl) rfl
theorem q1550 : (Jvm.Cond.methodLink "BeeYardLaw" (22 : Nat) ({ cls := "BeeYardModel", name := "top", desc := "()J" } : Jvm.MethodName)) ∈ lw_all := lw_g (lw_at lw_m6 235 rfl) rfl
theorem q1554 : (Jvm.Cond.methodLink "BeeYardLaw" (26 : Nat) ({ cls := "BeeYardModel", name := "bottom", desc := "()J" } : Jvm.MethodName)) ∈ lw_all := lw_g (lw_at lw_m6 239 rfl) rfl
theorem q1558 : (Jvm.Cond.methodLink "BeeYardLaw" (31 : Nat) ({ cls := "BeeYardModel", name := "tray", desc := "(III)Z" } : Jvm.MethodName)) ∈ lw_all := lw_g (lw_at lw_m7 3 rfl) rfl
theorem q1569 : (Jvm.Cond.methodLink "BeeYardLaw" (38 : Nat) ({ cls := "BeeYardModel", name := "write", desc := "(IIJ)Z" } : Jvm.MethodName)) ∈ lw_all := lw_g (lw_at lw_m7 14 rfl) rfl
theorem q1580 : (Jvm.Cond.methodLink "BeeYardLaw" (43 : Nat) ({ cls := "BeeYardModel", name := "read", desc := "(II)J" } : Jvm.MethodName)) ∈ lw_all := lw_g (lw_at lw_m7 25 rfl) rfl
theorem q1585 : (Jvm.Cond.methodLink "BeeYardLaw" (48 : Nat) ({ cls := "BeeYardModel", name := "pour", desc := "(IIIII)Z" } : Jvm.MethodName)) ∈ lw_all := lw_g (lw_at lw_m7 30 rfl) rfl
theorem q1589 : (Jvm.Cond.methodLink "BeeYardLaw" (53 : Nat) ({ cls := "BeeYardModel", name := "feed", desc := "(IIIII)I" } : Jvm.MethodName)) ∈ lw_all := lw_g (lw_at lw_m7 34 rfl) rfl
theorem q1597 : (Jvm.Cond.methodLink "BeeYardLaw" (66 : Nat) ({ cls := "BeeYardModel", name := "fault", desc := "(I)I" } : Jvm.MethodName)) ∈ lw_all := lw_g (lw_at lw_m7 42 rfl) rfl
theorem q1601 : (Jvm.Cond.methodLink "BeeYardLaw" (58 : Nat) ({ cls := "BeeYardModel", name := "yard", desc := "(I)I" } : Jvm.MethodName)) ∈ lw_all := lw_g (lw_at lw_m7 46 rfl) rfl
theorem q1719 : (Jvm.Cond.methodLink "BeeYardLaw" (62 : Nat) ({ cls := "BeeYardModel", name := "season", desc := "(I)I" } : Jvm.MethodName)) ∈ lw_all := lw_g (lw_at lw_m7 164 rfl) rfl
theorem q1746 : (Jvm.Cond.methodLink "BeeYardLaw" (70 : Nat) ({ cls := "BeeYardModel", name := "told", desc := "(I)I" } : Jvm.MethodName)) ∈ lw_all := lw_g (lw_at lw_m7 191 rfl) rfl
theorem q1750 : (Jvm.Cond.methodLink "BeeYardLaw" (75 : Nat) ({ cls := "BeeYardModel", name := "hive", desc := "(II)I" } : Jvm.MethodName)) ∈ lw_all := lw_g (lw_at lw_m7 195 rfl) rfl
theorem q1766 : (Jvm.Cond.methodLink "BeeYardLaw" (79 : Nat) ({ cls := "BeeYardModel", name := "line", desc := "(II)I" } : Jvm.MethodName)) ∈ lw_all := lw_g (lw_at lw_m7 211 rfl) rfl
theorem q1790 : (Jvm.Cond.methodLink "BeeYardLaw" (84 : Nat) ({ cls := "BeeYardModel", name := "fieldAt", desc := "(III)I" } : Jvm.MethodName)) ∈ lw_all := lw_g (lw_at lw_m7 235 rfl) rfl
theorem q1798 : (Jvm.Cond.methodLink "BeeYardLaw" (88 : Nat) ({ cls := "BeeYardModel", name := "order", desc := "(II)I" } : Jvm.MethodName)) ∈ lw_all := lw_g (lw_at lw_m8 3 rfl) rfl
theorem q1802 : (Jvm.Cond.methodLink "BeeYardLaw" (92 : Nat) ({ cls := "BeeYardModel", name := "copyOut", desc := "(III)I" } : Jvm.MethodName)) ∈ lw_all := lw_g (lw_at lw_m8 7 rfl) rfl
theorem q1810 : (Jvm.Cond.methodLink "BeeYardLaw" (96 : Nat) ({ cls := "BeeYardModel", name := "copyIn", desc := "(III)I" } : Jvm.MethodName)) ∈ lw_all := lw_g (lw_at lw_m8 15 rfl) rfl
theorem q1818 : (Jvm.Cond.methodLink "BeeYardLaw" (100 : Nat) ({ cls := "BeeYardModel", name := "days", desc := "(I)I" } : Jvm.MethodName)) ∈ lw_all := lw_g (lw_at lw_m8 23 rfl) rfl
theorem q1839 : (Jvm.Cond.methodLink "BeeYardLaw" (104 : Nat) ({ cls := "BeeYardModel", name := "bring", desc := "(II)I" } : Jvm.MethodName)) ∈ lw_all := lw_g (lw_at lw_m8 44 rfl) rfl
theorem q1848 : (Jvm.Cond.methodLink "BeeYardLaw" (108 : Nat) ({ cls := "BeeYardModel", name := "harvest", desc := "(II)I" } : Jvm.MethodName)) ∈ lw_all := lw_g (lw_at lw_m8 53 rfl) rfl
theorem q1856 : (Jvm.Cond.methodLink "BeeYardLaw" (113 : Nat) ({ cls := "BeeYardModel", name := "move", desc := "(IIII)Z" } : Jvm.MethodName)) ∈ lw_all := lw_g (lw_at lw_m8 61 rfl) rfl
theorem q1868 : (Jvm.Cond.methodLink "BeeYardLaw" (117 : Nat) ({ cls := "BeeYardModel", name := "split", desc := "(II)I" } : Jvm.MethodName)) ∈ lw_all := lw_g (lw_at lw_m8 73 rfl) rfl
theorem q1872 : (Jvm.Cond.methodLink "BeeYardLaw" (121 : Nat) ({ cls := "BeeYardModel", name := "join", desc := "(II)I" } : Jvm.MethodName)) ∈ lw_all := lw_g (lw_at lw_m8 77 rfl) rfl
theorem q1877 : (Jvm.Cond.methodLink "BeeYardLaw" (126 : Nat) ({ cls := "BeeYardModel", name := "seat", desc := "(II)Z" } : Jvm.MethodName)) ∈ lw_all := lw_g (lw_at lw_m8 82 rfl) rfl
theorem q1885 : (Jvm.Cond.methodLink "BeeYardLaw" (130 : Nat) ({ cls := "BeeYardModel", name := "crowded", desc := "(I)I" } : Jvm.MethodName)) ∈ lw_all := lw_g (lw_at lw_m8 90 rfl) rfl
theorem q1893 : (Jvm.Cond.methodLink "BeeYardLaw" (134 : Nat) ({ cls := "BeeYardModel", name := "swarm", desc := "(I)I" } : Jvm.MethodName)) ∈ lw_all := lw_g (lw_at lw_m8 98 rfl) rfl
theorem q1897 : (Jvm.Cond.methodLink "BeeYardLaw" (138 : Nat) ({ cls := "BeeYardModel", name := "swarmOut", desc := "(I)I" } : Jvm.MethodName)) ∈ lw_all := lw_g (lw_at lw_m8 102 rfl) rfl
theorem q1901 : (Jvm.Cond.methodLink "BeeYardLaw" (142 : Nat) ({ cls := "BeeYardModel", name := "take", desc := "(I)I" } : Jvm.MethodName)) ∈ lw_all := lw_g (lw_at lw_m8 106 rfl) rfl
theorem q1905 : (Jvm.Cond.methodLink "BeeYardLaw" (146 : Nat) ({ cls := "BeeYardModel", name := "kin", desc := "(II)Z" } : Jvm.MethodName)) ∈ lw_all := lw_g (lw_at lw_m8 110 rfl) rfl
theorem q1931 : (Jvm.Cond.methodLink "BeeYardLaw" (151 : Nat) ({ cls := "BeeYardModel", name := "inbred", desc := "(I)Z" } : Jvm.MethodName)) ∈ lw_all := lw_g (lw_at lw_m8 136 rfl) rfl
theorem q1935 : (Jvm.Cond.methodLink "BeeYardLaw" (155 : Nat) ({ cls := "BeeYardModel", name := "suitor", desc := "(I)I" } : Jvm.MethodName)) ∈ lw_all := lw_g (lw_at lw_m8 140 rfl) rfl
theorem q1939 : (Jvm.Cond.methodLink "BeeYardLaw" (159 : Nat) ({ cls := "BeeYardModel", name := "mothers", desc := "(I)I" } : Jvm.MethodName)) ∈ lw_all := lw_g (lw_at lw_m8 144 rfl) rfl
theorem q1943 : (Jvm.Cond.methodLink "BeeYardLaw" (163 : Nat) ({ cls := "BeeYardModel", name := "nearest", desc := "(II)I" } : Jvm.MethodName)) ∈ lw_all := lw_g (lw_at lw_m8 148 rfl) rfl
theorem q1947 : (Jvm.Cond.methodLink "BeeYardLaw" (167 : Nat) ({ cls := "BeeYardModel", name := "sisters", desc := "(I)I" } : Jvm.MethodName)) ∈ lw_all := lw_g (lw_at lw_m8 152 rfl) rfl
theorem q1951 : (Jvm.Cond.methodLink "BeeYardLaw" (171 : Nat) ({ cls := "BeeYardModel", name := "room", desc := "(I)I" } : Jvm.MethodName)) ∈ lw_all := lw_g (lw_at lw_m8 156 rfl) rfl
theorem q1955 : (Jvm.Cond.methodLink "BeeYardLaw" (175 : Nat) ({ cls := "BeeYardModel", name := "richest", desc := "(I)I" } : Jvm.MethodName)) ∈ lw_all := lw_g (lw_at lw_m8 160 rfl) rfl
theorem q1963 : (Jvm.Cond.methodLink "BeeYardLaw" (179 : Nat) ({ cls := "BeeYardModel", name := "age", desc := "(II)I" } : Jvm.MethodName)) ∈ lw_all := lw_g (lw_at lw_m8 168 rfl) rfl
theorem q1967 : (Jvm.Cond.methodLink "BeeYardLaw" (183 : Nat) ({ cls := "BeeYardModel", name := "coming", desc := "(II)I" } : Jvm.MethodName)) ∈ lw_all := lw_g (lw_at lw_m8 172 rfl) rfl
theorem q1971 : (Jvm.Cond.methodLink "BeeYardLaw" (187 : Nat) ({ cls := "BeeYardModel", name := "hungry", desc := "(I)I" } : Jvm.MethodName)) ∈ lw_all := lw_g (lw_at lw_m8 176 rfl) rfl
theorem q1979 : (Jvm.Cond.methodLink "BeeYardLaw" (191 : Nat) ({ cls := "BeeYardModel", name := "lasts", desc := "(I)I" } : Jvm.MethodName)) ∈ lw_all := lw_g (lw_at lw_m8 184 rfl) rfl
theorem q1984 : (Jvm.Cond.methodLink "BeeYardLaw" (195 : Nat) ({ cls := "BeeYardModel", name := "between", desc := "(III)I" } : Jvm.MethodName)) ∈ lw_all := lw_g (lw_at lw_m8 189 rfl) rfl
theorem q1989 : (Jvm.Cond.methodLink "BeeYardLaw" (199 : Nat) ({ cls := "BeeYardModel", name := "strongest", desc := "()I" } : Jvm.MethodName)) ∈ lw_all := lw_g (lw_at lw_m8 194 rfl) rfl
theorem q1993 : (Jvm.Cond.methodLink "BeeYardLaw" (203 : Nat) ({ cls := "BeeYardModel", name := "frame", desc := "(III)I" } : Jvm.MethodName)) ∈ lw_all := lw_g (lw_at lw_m8 198 rfl) rfl
theorem q1997 : (Jvm.Cond.methodLink "BeeYardLaw" (207 : Nat) ({ cls := "BeeYardModel", name := "even", desc := "()I" } : Jvm.MethodName)) ∈ lw_all := lw_g (lw_at lw_m8 202 rfl) rfl
theorem q2001 : (Jvm.Cond.methodLink "BeeYardLaw" (211 : Nat) ({ cls := "BeeYardModel", name := "sample", desc := "(III)I" } : Jvm.MethodName)) ∈ lw_all := lw_g (lw_at lw_m8 206 rfl) rfl
theorem q2006 : (Jvm.Cond.methodLink "BeeYardLaw" (215 : Nat) ({ cls := "BeeYardModel", name := "share", desc := "(I)Z" } : Jvm.MethodName)) ∈ lw_all := lw_g (lw_at lw_m8 211 rfl) rfl
theorem q2010 : (Jvm.Cond.methodLink "BeeYardLaw" (219 : Nat) ({ cls := "BeeYardModel", name := "worst", desc := "()I" } : Jvm.MethodName)) ∈ lw_all := lw_g (lw_at lw_m8 215 rfl) rfl
theorem q2014 : (Jvm.Cond.methodLink "BeeYardLaw" (223 : Nat) ({ cls := "BeeYardModel", name := "treat", desc := "(I)Z" } : Jvm.MethodName)) ∈ lw_all := lw_g (lw_at lw_m8 219 rfl) rfl
theorem q2018 : (Jvm.Cond.methodLink "BeeYardLaw" (227 : Nat) ({ cls := "BeeYardModel", name := "forecast", desc := "(III)I" } : Jvm.MethodName)) ∈ lw_all := lw_g (lw_at lw_m8 223 rfl) rfl
theorem q2022 : (Jvm.Cond.methodLink "BeeYardLaw" (231 : Nat) ({ cls := "BeeYardModel", name := "soonest", desc := "(II)I" } : Jvm.MethodName)) ∈ lw_all := lw_g (lw_at lw_m8 227 rfl) rfl
theorem q2026 : (Jvm.Cond.methodLink "BeeYardLaw" (235 : Nat) ({ cls := "BeeYardModel", name := "need", desc := "(II)I" } : Jvm.MethodName)) ∈ lw_all := lw_g (lw_at lw_m8 231 rfl) rfl
theorem q2031 : (Jvm.Cond.methodLink "BeeYardLaw" (239 : Nat) ({ cls := "BeeYardModel", name := "live", desc := "(I)I" } : Jvm.MethodName)) ∈ lw_all := lw_g (lw_at lw_m8 236 rfl) rfl
theorem q2056 : (Jvm.Cond.methodLink "BeeYardLaw" (243 : Nat) ({ cls := "BeeYardModel", name := "lived", desc := "(I)I" } : Jvm.MethodName)) ∈ lw_all := lw_g (lw_at lw_m9 21 rfl) rfl
theorem q2060 : (Jvm.Cond.methodLink "BeeYardLaw" (247 : Nat) ({ cls := "BeeYardModel", name := "odds", desc := "(IIII)Z" } : Jvm.MethodName)) ∈ lw_all := lw_g (lw_at lw_m9 25 rfl) rfl
theorem q2065 : (Jvm.Cond.methodLink "BeeYardLaw" (251 : Nat) ({ cls := "BeeYardModel", name := "mark", desc := "()I" } : Jvm.MethodName)) ∈ lw_all := lw_g (lw_at lw_m9 30 rfl) rfl
theorem q2073 : (Jvm.Cond.methodLink "BeeYardLaw" (255 : Nat) ({ cls := "BeeYardModel", name := "back", desc := "()I" } : Jvm.MethodName)) ∈ lw_all := lw_g (lw_at lw_m9 38 rfl) rfl
theorem q2077 : (Jvm.Cond.constantLong "BeeYardLaw" (32 : Nat) (4294967295 : Int64)) ∈ lw_all := lw_g (lw_at lw_m9 42 rfl) rfl

theorem q131 : (Jvm.Cond.initialized "java/lang/System") ∈ lw_all := lw_g (lw_at lw_m1 16 rfl) rfl
theorem q544 : (Jvm.Cond.static ({ cls := "java/lang/System", name := "arraycopy", desc := "(Ljava/lang/Object;ILjava/lang/Object;II)V" } : Jvm.MethodName)) ∈ lw_all := lw_g (lw_at lw_m2 189 rfl) rfl
theorem q545 : (Jvm.Cond.native ({ cls := "java/lang/System", name := "arraycopy", desc := "(Ljava/lang/Object;ILjava/lang/Object;II)V" } : Jvm.MethodName)) ∈ lw_all := lw_g (lw_at lw_m2 190 rfl) rfl
