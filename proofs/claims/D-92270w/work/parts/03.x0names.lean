set_option maxRecDepth 100000
/-! PressedMen -/
def RX0 : String := "PressedMen"
def TX0 : u_T := fun k => match k with
  | 0 => ("PressedMen", "streetCount", "I", false)
  | 1 => ("PressedMen", "ways", "[[Z", true)
  | 2 => ("PressedMen", "men", "[LPressedMen$Man;", true)
  | 3 => ("PressedMen", "manCount", "I", false)
  | 4 => ("PressedMen", "tide", "I", false)
  | 5 => ("PressedMen", "room", "I", false)
  | 6 => ("PressedMen", "rate", "I", false)
  | 7 => ("PressedMen", "papers", "[LPressedMen$Paper;", true)
  | 8 => ("PressedMen", "paperCount", "I", false)
  | 9 => ("PressedMen", "acts", "[LPressedMen$Act;", true)
  | 10 => ("PressedMen", "actCount", "I", false)
  | 11 => ("PressedMen", "takings", "[LPressedMen$Taking;", true)
  | 12 => ("PressedMen", "takingCount", "I", false)
  | 13 => ("PressedMen", "quietAt", "I", false)
  | 14 => ("PressedMen", "ships", "[LPressedMen$Ship;", true)
  | 15 => ("PressedMen", "shipCount", "I", false)
  | 16 => ("PressedMen", "tickets", "[LPressedMen$Ticket;", true)
  | 17 => ("PressedMen", "ticketCount", "I", false)
  | _ => ("PressedMen", "purses", "[I", true)
def tyX0 : Nat → FieldType := fun k => match k with
  | 0 => .int
  | 1 => .array (.array .boolean)
  | 2 => .array (.object "PressedMen$Man")
  | 3 => .int
  | 4 => .int
  | 5 => .int
  | 6 => .int
  | 7 => .array (.object "PressedMen$Paper")
  | 8 => .int
  | 9 => .array (.object "PressedMen$Act")
  | 10 => .int
  | 11 => .array (.object "PressedMen$Taking")
  | 12 => .int
  | 13 => .int
  | 14 => .array (.object "PressedMen$Ship")
  | 15 => .int
  | 16 => .array (.object "PressedMen$Ticket")
  | 17 => .int
  | _ => .array .int
abbrev wsX00 : List Cond := u_ws RX0 TX0 19
theorem nmX0 : ∀ a, a < 19 → ∀ b, b < 19 → a ≠ b → (TX0 a).2.1 ≠ (TX0 b).2.1 := by decide +kernel
theorem tyX0_ok : ∀ k, k < 19 → parseFieldDescriptor (TX0 k).2.2.1 = some (tyX0 k) := by decide +kernel
abbrev cX0_init : ByteArray := prog_1_method_3_code
def yX0_init : MethodName := ⟨RX0, "<init>", "()V"⟩
abbrev cX0_streets : ByteArray := prog_1_method_5_code
def yX0_streets : MethodName := ⟨RX0, "streets", "(I)I"⟩
abbrev cX0_isIn : ByteArray := prog_1_method_1_code
def yX0_isIn : MethodName := ⟨RX0, "isIn", "(III)Z"⟩
abbrev cX0_isStreet : ByteArray := prog_1_method_4_code
def yX0_isStreet : MethodName := ⟨RX0, "isStreet", "(I)Z"⟩
abbrev cX0_way : ByteArray := prog_1_method_6_code
def yX0_way : MethodName := ⟨RX0, "way", "(IIZ)I"⟩
abbrev cX0_far : ByteArray := prog_1_method_8_code
def yX0_far : MethodName := ⟨RX0, "far", "(II)I"⟩
abbrev cX0_farFrom : ByteArray := prog_1_method_7_code
def yX0_farFrom : MethodName := ⟨RX0, "farFrom", "(I)[I"⟩
abbrev cX0_man : ByteArray := prog_1_method_11_code
def yX0_man : MethodName := ⟨RX0, "man", "(IIIIIII)I"⟩
abbrev cX0_about : ByteArray := prog_1_method_12_code
def yX0_about : MethodName := ⟨RX0, "about", "(II)I"⟩
abbrev cX0_isMan : ByteArray := prog_1_method_9_code
def yX0_isMan : MethodName := ⟨RX0, "isMan", "(I)Z"⟩
abbrev cX0_shy : ByteArray := prog_1_method_13_code
def yX0_shy : MethodName := ⟨RX0, "shy", "(IZ)I"⟩
abbrev cX0_where : ByteArray := prog_1_method_14_code
def yX0_where : MethodName := ⟨RX0, "where", "(II)I"⟩
abbrev cX0_at : ByteArray := prog_1_method_16_code
def yX0_at : MethodName := ⟨RX0, "at", "(I)I"⟩
abbrev cX0_menAt : ByteArray := prog_1_method_15_code
def yX0_menAt : MethodName := ⟨RX0, "menAt", "(IZ)I"⟩
abbrev cX0_tide : ByteArray := prog_1_method_17_code
def yX0_tide : MethodName := ⟨RX0, "tide", "()I"⟩
abbrev cX0_pass : ByteArray := prog_1_method_19_code
def yX0_pass : MethodName := ⟨RX0, "pass", "(I)I"⟩
abbrev cX0_goTide : ByteArray := prog_1_method_18_code
def yX0_goTide : MethodName := ⟨RX0, "goTide", "()V"⟩
abbrev cX0_hasHeard : ByteArray := prog_1_method_50_code
def yX0_hasHeard : MethodName := ⟨RX0, "hasHeard", "(I)Z"⟩
abbrev cX0_heardBy : ByteArray := prog_1_method_49_code
def yX0_heardBy : MethodName := ⟨RX0, "heardBy", "(I)I"⟩
abbrev cX0_walk : ByteArray := prog_1_method_21_code
def yX0_walk : MethodName := ⟨RX0, "walk", "(II)I"⟩
abbrev cX0_send : ByteArray := prog_1_method_20_code
def yX0_send : MethodName := ⟨RX0, "send", "(LPressedMen$Man;I)I"⟩
abbrev cX0_run : ByteArray := prog_1_method_22_code
def yX0_run : MethodName := ⟨RX0, "run", "(I)I"⟩
abbrev cX0_paper : ByteArray := prog_1_method_25_code
def yX0_paper : MethodName := ⟨RX0, "paper", "(IIIIIIIII)I"⟩
abbrev cX0_isMark : ByteArray := prog_1_method_24_code
def yX0_isMark : MethodName := ⟨RX0, "isMark", "(I)Z"⟩
abbrev cX0_areIn : ByteArray := prog_1_method_2_code
def yX0_areIn : MethodName := ⟨RX0, "areIn", "(III)Z"⟩
abbrev cX0_cover : ByteArray := prog_1_method_26_code
def yX0_cover : MethodName := ⟨RX0, "cover", "(III)I"⟩
abbrev cX0_isPaper : ByteArray := prog_1_method_23_code
def yX0_isPaper : MethodName := ⟨RX0, "isPaper", "(I)Z"⟩
abbrev cX0_isTide : ByteArray := prog_1_method_10_code
def yX0_isTide : MethodName := ⟨RX0, "isTide", "(I)Z"⟩
abbrev cX0_same : ByteArray := prog_1_method_27_code
def yX0_same : MethodName := ⟨RX0, "same", "(II)I"⟩
abbrev cX0_shown : ByteArray := prog_1_method_28_code
def yX0_shown : MethodName := ⟨RX0, "shown", "(II)I"⟩
abbrev cX0_act : ByteArray := prog_1_method_31_code
def yX0_act : MethodName := ⟨RX0, "act", "(I)I"⟩
abbrev cX0_sign : ByteArray := prog_1_method_32_code
def yX0_sign : MethodName := ⟨RX0, "sign", "(II)I"⟩
abbrev cX0_isAct : ByteArray := prog_1_method_30_code
def yX0_isAct : MethodName := ⟨RX0, "isAct", "(I)Z"⟩
abbrev cX0_fault : ByteArray := prog_1_method_33_code
def yX0_fault : MethodName := ⟨RX0, "fault", "(I)I"⟩
abbrev cX0_force : ByteArray := prog_1_method_35_code
def yX0_force : MethodName := ⟨RX0, "force", "(I)I"⟩
abbrev cX0_forceOn : ByteArray := prog_1_method_34_code
def yX0_forceOn : MethodName := ⟨RX0, "forceOn", "(I)I"⟩
abbrev cX0_may : ByteArray := prog_1_method_39_code
def yX0_may : MethodName := ⟨RX0, "may", "(II)I"⟩
abbrev cX0_law : ByteArray := prog_1_method_36_code
def yX0_law : MethodName := ⟨RX0, "law", "()LPressedMen$Text;"⟩
abbrev cX0_mayShown : ByteArray := prog_1_method_38_code
def yX0_mayShown : MethodName := ⟨RX0, "mayShown", "(LPressedMen$Text;LPressedMen$Man;I)Z"⟩
abbrev cX0_mayBe : ByteArray := prog_1_method_37_code
def yX0_mayBe : MethodName := ⟨RX0, "mayBe", "(LPressedMen$Text;LPressedMen$Man;Z)Z"⟩
abbrev cX0_mayTruly : ByteArray := prog_1_method_40_code
def yX0_mayTruly : MethodName := ⟨RX0, "mayTruly", "(I)I"⟩
abbrev cX0_isCoveredTruly : ByteArray := prog_1_method_29_code
def yX0_isCoveredTruly : MethodName := ⟨RX0, "isCoveredTruly", "(LPressedMen$Man;)Z"⟩
abbrev cX0_take : ByteArray := prog_1_method_42_code
def yX0_take : MethodName := ⟨RX0, "take", "(II)I"⟩
abbrev cX0_isHomeShip : ByteArray := prog_1_method_41_code
def yX0_isHomeShip : MethodName := ⟨RX0, "isHomeShip", "(II)Z"⟩
abbrev cX0_taking : ByteArray := prog_1_method_43_code
def yX0_taking : MethodName := ⟨RX0, "taking", "(II)I"⟩
abbrev cX0_wronged : ByteArray := prog_1_method_45_code
def yX0_wronged : MethodName := ⟨RX0, "wronged", "()I"⟩
abbrev cX0_isWronged : ByteArray := prog_1_method_44_code
def yX0_isWronged : MethodName := ⟨RX0, "isWronged", "(LPressedMen$Man;)Z"⟩
abbrev cX0_wrongedMan : ByteArray := prog_1_method_46_code
def yX0_wrongedMan : MethodName := ⟨RX0, "wrongedMan", "(I)I"⟩
abbrev cX0_letGo : ByteArray := prog_1_method_47_code
def yX0_letGo : MethodName := ⟨RX0, "letGo", "(I)I"⟩
abbrev cX0_quiet : ByteArray := prog_1_method_48_code
def yX0_quiet : MethodName := ⟨RX0, "quiet", "()I"⟩
abbrev cX0_heard : ByteArray := prog_1_method_51_code
def yX0_heard : MethodName := ⟨RX0, "heard", "(I)I"⟩
abbrev cX0_tender : ByteArray := prog_1_method_52_code
def yX0_tender : MethodName := ⟨RX0, "tender", "(II)I"⟩
abbrev cX0_met : ByteArray := prog_1_method_53_code
def yX0_met : MethodName := ⟨RX0, "met", "(II)I"⟩
abbrev cX0_laid : ByteArray := prog_1_method_54_code
def yX0_laid : MethodName := ⟨RX0, "laid", "(IIII)I"⟩
abbrev cX0_ship : ByteArray := prog_1_method_57_code
def yX0_ship : MethodName := ⟨RX0, "ship", "(IIII)I"⟩
abbrev cX0_of : ByteArray := prog_1_method_58_code
def yX0_of : MethodName := ⟨RX0, "of", "(II)I"⟩
abbrev cX0_isShip : ByteArray := prog_1_method_55_code
def yX0_isShip : MethodName := ⟨RX0, "isShip", "(I)Z"⟩
abbrev cX0_crew : ByteArray := prog_1_method_56_code
def yX0_crew : MethodName := ⟨RX0, "crew", "(IZ)I"⟩
abbrev cX0_spare : ByteArray := prog_1_method_61_code
def yX0_spare : MethodName := ⟨RX0, "spare", "(II)I"⟩
abbrev cX0_isWeather : ByteArray := prog_1_method_59_code
def yX0_isWeather : MethodName := ⟨RX0, "isWeather", "(I)Z"⟩
abbrev cX0_spareOf : ByteArray := prog_1_method_60_code
def yX0_spareOf : MethodName := ⟨RX0, "spareOf", "(II)I"⟩
abbrev cX0_board : ByteArray := prog_1_method_63_code
def yX0_board : MethodName := ⟨RX0, "board", "(II)I"⟩
abbrev cX0_isCrowded : ByteArray := prog_1_method_62_code
def yX0_isCrowded : MethodName := ⟨RX0, "isCrowded", "(I)Z"⟩
abbrev cX0_turn : ByteArray := prog_1_method_64_code
def yX0_turn : MethodName := ⟨RX0, "turn", "(II)I"⟩
abbrev cX0_notAshore : ByteArray := prog_1_method_65_code
def yX0_notAshore : MethodName := ⟨RX0, "notAshore", "(II)I"⟩
abbrev cX0_taken : ByteArray := prog_1_method_69_code
def yX0_taken : MethodName := ⟨RX0, "taken", "(II)I"⟩
abbrev cX0_isFleet : ByteArray := prog_1_method_68_code
def yX0_isFleet : MethodName := ⟨RX0, "isFleet", "(I)Z"⟩
abbrev cX0_takenFor : ByteArray := prog_1_method_67_code
def yX0_takenFor : MethodName := ⟨RX0, "takenFor", "(II)I"⟩
abbrev cX0_pool : ByteArray := prog_1_method_66_code
def yX0_pool : MethodName := ⟨RX0, "pool", "(Z)I"⟩
abbrev cX0_fleet : ByteArray := prog_1_method_70_code
def yX0_fleet : MethodName := ⟨RX0, "fleet", "(I)I"⟩
abbrev cX0_sail : ByteArray := prog_1_method_71_code
def yX0_sail : MethodName := ⟨RX0, "sail", "(I)I"⟩
abbrev cX0_comeHome : ByteArray := prog_1_method_72_code
def yX0_comeHome : MethodName := ⟨RX0, "comeHome", "(I)I"⟩
abbrev cX0_ticket : ByteArray := prog_1_method_75_code
def yX0_ticket : MethodName := ⟨RX0, "ticket", "(III)I"⟩
abbrev cX0_sell : ByteArray := prog_1_method_76_code
def yX0_sell : MethodName := ⟨RX0, "sell", "(III)I"⟩
abbrev cX0_isTicket : ByteArray := prog_1_method_73_code
def yX0_isTicket : MethodName := ⟨RX0, "isTicket", "(I)Z"⟩
abbrev cX0_isHolder : ByteArray := prog_1_method_74_code
def yX0_isHolder : MethodName := ⟨RX0, "isHolder", "(I)Z"⟩
abbrev cX0_pay : ByteArray := prog_1_method_77_code
def yX0_pay : MethodName := ⟨RX0, "pay", "(II)I"⟩
abbrev cX0_ticketOf : ByteArray := prog_1_method_78_code
def yX0_ticketOf : MethodName := ⟨RX0, "ticketOf", "(II)I"⟩
abbrev cX0_purse : ByteArray := prog_1_method_79_code
def yX0_purse : MethodName := ⟨RX0, "purse", "(I)I"⟩
abbrev cX0_wages : ByteArray := prog_1_method_80_code
def yX0_wages : MethodName := ⟨RX0, "wages", "(IZ)I"⟩
abbrev cX0_count : ByteArray := prog_1_method_81_code
def yX0_count : MethodName := ⟨RX0, "count", "(I)I"⟩
theorem q64 : (Jvm.Cond.initialized "PressedMen") ∈ lw_all := lw_g (lw_at lw_m1 1 rfl) rfl
theorem q88 : (Jvm.Cond.instantiable "PressedMen" (19 : Nat)) ∈ lw_all := lw_g (lw_at lw_m1 25 rfl) rfl
theorem q90 : (Jvm.Cond.instanceMethod ({ cls := "PressedMen", name := "<init>", desc := "()V" } : Jvm.MethodName)) ∈ lw_all := lw_g (lw_at lw_m1 27 rfl) rfl
theorem q91 : (Jvm.Cond.code ({ cls := "PressedMen", name := "<init>", desc := "()V" } : Jvm.MethodName) prog_1_method_3_code (1 : Nat) (Option.none : Option Jvm.ClassFile.FieldType)) ∈ lw_all := lw_g (lw_at lw_m1 28 rfl) rfl
theorem q92 : (Jvm.Cond.methodLink "PressedMen" (7 : Nat) ({ cls := "java/lang/Object", name := "<init>", desc := "()V" } : Jvm.MethodName)) ∈ lw_all := lw_g (lw_at lw_m1 29 rfl) rfl
theorem q95 : (Jvm.Cond.classLink "PressedMen" (17 : Nat) "[[Z") ∈ lw_all := lw_g (lw_at lw_m1 32 rfl) rfl
theorem q97 : (Jvm.Cond.classLink "PressedMen" (22 : Nat) "PressedMen$Man") ∈ lw_all := lw_g (lw_at lw_m1 34 rfl) rfl
theorem q99 : (Jvm.Cond.classLink "PressedMen" (34 : Nat) "PressedMen$Paper") ∈ lw_all := lw_g (lw_at lw_m1 36 rfl) rfl
theorem q101 : (Jvm.Cond.classLink "PressedMen" (40 : Nat) "PressedMen$Act") ∈ lw_all := lw_g (lw_at lw_m1 38 rfl) rfl
theorem q103 : (Jvm.Cond.classLink "PressedMen" (46 : Nat) "PressedMen$Taking") ∈ lw_all := lw_g (lw_at lw_m1 40 rfl) rfl
theorem q105 : (Jvm.Cond.classLink "PressedMen" (52 : Nat) "PressedMen$Ship") ∈ lw_all := lw_g (lw_at lw_m1 42 rfl) rfl
theorem q107 : (Jvm.Cond.classLink "PressedMen" (58 : Nat) "PressedMen$Ticket") ∈ lw_all := lw_g (lw_at lw_m1 44 rfl) rfl
theorem q110 : (Jvm.Cond.fieldLink "PressedMen" (13 : Nat) "PressedMen" "streetCount" "I") ∈ lw_all := lw_g (lw_at lw_m1 47 rfl) rfl
theorem q112 : (Jvm.Cond.fieldLink "PressedMen" (19 : Nat) "PressedMen" "ways" "[[Z") ∈ lw_all := lw_g (lw_at lw_m1 49 rfl) rfl
theorem q114 : (Jvm.Cond.fieldLink "PressedMen" (24 : Nat) "PressedMen" "men" "[LPressedMen$Man;") ∈ lw_all := lw_g (lw_at lw_m1 51 rfl) rfl
theorem q116 : (Jvm.Cond.fieldLink "PressedMen" (68 : Nat) "PressedMen" "manCount" "I") ∈ lw_all := lw_g (lw_at lw_m1 53 rfl) rfl
theorem q117 : (Jvm.Cond.fieldLink "PressedMen" (92 : Nat) "PressedMen" "tide" "I") ∈ lw_all := lw_g (lw_at lw_m1 54 rfl) rfl
theorem q118 : (Jvm.Cond.fieldLink "PressedMen" (28 : Nat) "PressedMen" "room" "I") ∈ lw_all := lw_g (lw_at lw_m1 55 rfl) rfl
theorem q119 : (Jvm.Cond.fieldLink "PressedMen" (31 : Nat) "PressedMen" "rate" "I") ∈ lw_all := lw_g (lw_at lw_m1 56 rfl) rfl
theorem q120 : (Jvm.Cond.fieldLink "PressedMen" (36 : Nat) "PressedMen" "papers" "[LPressedMen$Paper;") ∈ lw_all := lw_g (lw_at lw_m1 57 rfl) rfl
theorem q121 : (Jvm.Cond.fieldLink "PressedMen" (149 : Nat) "PressedMen" "paperCount" "I") ∈ lw_all := lw_g (lw_at lw_m1 58 rfl) rfl
theorem q122 : (Jvm.Cond.fieldLink "PressedMen" (42 : Nat) "PressedMen" "acts" "[LPressedMen$Act;") ∈ lw_all := lw_g (lw_at lw_m1 59 rfl) rfl
theorem q123 : (Jvm.Cond.fieldLink "PressedMen" (184 : Nat) "PressedMen" "actCount" "I") ∈ lw_all := lw_g (lw_at lw_m1 60 rfl) rfl
theorem q124 : (Jvm.Cond.fieldLink "PressedMen" (48 : Nat) "PressedMen" "takings" "[LPressedMen$Taking;") ∈ lw_all := lw_g (lw_at lw_m1 61 rfl) rfl
theorem q125 : (Jvm.Cond.fieldLink "PressedMen" (170 : Nat) "PressedMen" "takingCount" "I") ∈ lw_all := lw_g (lw_at lw_m1 62 rfl) rfl
theorem q126 : (Jvm.Cond.fieldLink "PressedMen" (261 : Nat) "PressedMen" "quietAt" "I") ∈ lw_all := lw_g (lw_at lw_m1 63 rfl) rfl
theorem q127 : (Jvm.Cond.fieldLink "PressedMen" (54 : Nat) "PressedMen" "ships" "[LPressedMen$Ship;") ∈ lw_all := lw_g (lw_at lw_m1 64 rfl) rfl
theorem q128 : (Jvm.Cond.fieldLink "PressedMen" (111 : Nat) "PressedMen" "shipCount" "I") ∈ lw_all := lw_g (lw_at lw_m1 65 rfl) rfl
theorem q129 : (Jvm.Cond.fieldLink "PressedMen" (60 : Nat) "PressedMen" "tickets" "[LPressedMen$Ticket;") ∈ lw_all := lw_g (lw_at lw_m1 66 rfl) rfl
theorem q130 : (Jvm.Cond.fieldLink "PressedMen" (326 : Nat) "PressedMen" "ticketCount" "I") ∈ lw_all := lw_g (lw_at lw_m1 67 rfl) rfl
theorem q132 : (Jvm.Cond.fieldLink "PressedMen" (64 : Nat) "PressedMen" "purses" "[I") ∈ lw_all := lw_g (lw_at lw_m1 69 rfl) rfl
theorem q133 : (Jvm.Cond.lays "PressedMen" "PressedMen" "streetCount" "I") ∈ lw_all := lw_g (lw_at lw_m1 70 rfl) rfl
theorem q134 : (Jvm.Cond.soleField "PressedMen" "streetCount") ∈ lw_all := lw_g (lw_at lw_m1 71 rfl) rfl
theorem q135 : (Jvm.Cond.laysFinal "PressedMen" "PressedMen" "ways" "[[Z") ∈ lw_all := lw_g (lw_at lw_m1 72 rfl) rfl
theorem q136 : (Jvm.Cond.soleField "PressedMen" "ways") ∈ lw_all := lw_g (lw_at lw_m1 73 rfl) rfl
theorem q137 : (Jvm.Cond.laysFinal "PressedMen" "PressedMen" "men" "[LPressedMen$Man;") ∈ lw_all := lw_g (lw_at lw_m1 74 rfl) rfl
theorem q138 : (Jvm.Cond.soleField "PressedMen" "men") ∈ lw_all := lw_g (lw_at lw_m1 75 rfl) rfl
theorem q139 : (Jvm.Cond.lays "PressedMen" "PressedMen" "manCount" "I") ∈ lw_all := lw_g (lw_at lw_m1 76 rfl) rfl
theorem q140 : (Jvm.Cond.soleField "PressedMen" "manCount") ∈ lw_all := lw_g (lw_at lw_m1 77 rfl) rfl
theorem q141 : (Jvm.Cond.lays "PressedMen" "PressedMen" "tide" "I") ∈ lw_all := lw_g (lw_at lw_m1 78 rfl) rfl
theorem q142 : (Jvm.Cond.soleField "PressedMen" "tide") ∈ lw_all := lw_g (lw_at lw_m1 79 rfl) rfl
theorem q143 : (Jvm.Cond.lays "PressedMen" "PressedMen" "room" "I") ∈ lw_all := lw_g (lw_at lw_m1 80 rfl) rfl
theorem q144 : (Jvm.Cond.soleField "PressedMen" "room") ∈ lw_all := lw_g (lw_at lw_m1 81 rfl) rfl
theorem q145 : (Jvm.Cond.lays "PressedMen" "PressedMen" "rate" "I") ∈ lw_all := lw_g (lw_at lw_m1 82 rfl) rfl
theorem q146 : (Jvm.Cond.soleField "PressedMen" "rate") ∈ lw_all := lw_g (lw_at lw_m1 83 rfl) rfl
theorem q147 : (Jvm.Cond.laysFinal "PressedMen" "PressedMen" "papers" "[LPressedMen$Paper;") ∈ lw_all := lw_g (lw_at lw_m1 84 rfl) rfl
theorem q148 : (Jvm.Cond.soleField "PressedMen" "papers") ∈ lw_all := lw_g (lw_at lw_m1 85 rfl) rfl
theorem q149 : (Jvm.Cond.lays "PressedMen" "PressedMen" "paperCount" "I") ∈ lw_all := lw_g (lw_at lw_m1 86 rfl) rfl
theorem q150 : (Jvm.Cond.soleField "PressedMen" "paperCount") ∈ lw_all := lw_g (lw_at lw_m1 87 rfl) rfl
theorem q151 : (Jvm.Cond.laysFinal "PressedMen" "PressedMen" "acts" "[LPressedMen$Act;") ∈ lw_all := lw_g (lw_at lw_m1 88 rfl) rfl
theorem q152 : (Jvm.Cond.soleField "PressedMen" "acts") ∈ lw_all := lw_g (lw_at lw_m1 89 rfl) rfl
theorem q153 : (Jvm.Cond.lays "PressedMen" "PressedMen" "actCount" "I") ∈ lw_all := lw_g (lw_at lw_m1 90 rfl) rfl
theorem q154 : (Jvm.Cond.soleField "PressedMen" "actCount") ∈ lw_all := lw_g (lw_at lw_m1 91 rfl) rfl
theorem q155 : (Jvm.Cond.laysFinal "PressedMen" "PressedMen" "takings" "[LPressedMen$Taking;") ∈ lw_all := lw_g (lw_at lw_m1 92 rfl) rfl
theorem q156 : (Jvm.Cond.soleField "PressedMen" "takings") ∈ lw_all := lw_g (lw_at lw_m1 93 rfl) rfl
theorem q157 : (Jvm.Cond.lays "PressedMen" "PressedMen" "takingCount" "I") ∈ lw_all := lw_g (lw_at lw_m1 94 rfl) rfl
theorem q158 : (Jvm.Cond.soleField "PressedMen" "takingCount") ∈ lw_all := lw_g (lw_at lw_m1 95 rfl) rfl
theorem q159 : (Jvm.Cond.lays "PressedMen" "PressedMen" "quietAt" "I") ∈ lw_all := lw_g (lw_at lw_m1 96 rfl) rfl
theorem q160 : (Jvm.Cond.soleField "PressedMen" "quietAt") ∈ lw_all := lw_g (lw_at lw_m1 97 rfl) rfl
theorem q161 : (Jvm.Cond.laysFinal "PressedMen" "PressedMen" "ships" "[LPressedMen$Ship;") ∈ lw_all := lw_g (lw_at lw_m1 98 rfl) rfl
theorem q162 : (Jvm.Cond.soleField "PressedMen" "ships") ∈ lw_all := lw_g (lw_at lw_m1 99 rfl) rfl
theorem q163 : (Jvm.Cond.lays "PressedMen" "PressedMen" "shipCount" "I") ∈ lw_all := lw_g (lw_at lw_m1 100 rfl) rfl
theorem q164 : (Jvm.Cond.soleField "PressedMen" "shipCount") ∈ lw_all := lw_g (lw_at lw_m1 101 rfl) rfl
theorem q165 : (Jvm.Cond.laysFinal "PressedMen" "PressedMen" "tickets" "[LPressedMen$Ticket;") ∈ lw_all := lw_g (lw_at lw_m1 102 rfl) rfl
theorem q166 : (Jvm.Cond.soleField "PressedMen" "tickets") ∈ lw_all := lw_g (lw_at lw_m1 103 rfl) rfl
theorem q167 : (Jvm.Cond.lays "PressedMen" "PressedMen" "ticketCount" "I") ∈ lw_all := lw_g (lw_at lw_m1 104 rfl) rfl
theorem q168 : (Jvm.Cond.soleField "PressedMen" "ticketCount") ∈ lw_all := lw_g (lw_at lw_m1 105 rfl) rfl
theorem q169 : (Jvm.Cond.laysFinal "PressedMen" "PressedMen" "purses" "[I") ∈ lw_all := lw_g (lw_at lw_m1 106 rfl) rfl
theorem q170 : (Jvm.Cond.soleField "PressedMen" "purses") ∈ lw_all := lw_g (lw_at lw_m1 107 rfl) rfl
theorem q171 : (Jvm.Cond.superclass "PressedMen" "java/lang/Object") ∈ lw_all := lw_g (lw_at lw_m1 108 rfl) rfl
theorem q175 : (Jvm.Cond.instanceMethod ({ cls := "PressedMen", name := "streets", desc := "(I)I" } : Jvm.MethodName)) ∈ lw_all := lw_g (lw_at lw_m1 112 rfl) rfl
theorem q176 : (Jvm.Cond.selects "PressedMen" ({ cls := "PressedMen", name := "streets", desc := "(I)I" } : Jvm.MethodName) ({ cls := "PressedMen", name := "streets", desc := "(I)I" } : Jvm.MethodName)) ∈ lw_all := lw_g (lw_at lw_m1 113 rfl) rfl
theorem q177 : (Jvm.Cond.code ({ cls := "PressedMen", name := "streets", desc := "(I)I" } : Jvm.MethodName) prog_1_method_5_code (4 : Nat) (Option.some Jvm.ClassFile.FieldType.int)) ∈ lw_all := lw_g (lw_at lw_m1 114 rfl) rfl
theorem q178 : (Jvm.Cond.methodLink "PressedMen" (1 : Nat) ({ cls := "PressedMen", name := "isIn", desc := "(III)Z" } : Jvm.MethodName)) ∈ lw_all := lw_g (lw_at lw_m1 115 rfl) rfl
theorem q179 : (Jvm.Cond.static ({ cls := "PressedMen", name := "isIn", desc := "(III)Z" } : Jvm.MethodName)) ∈ lw_all := lw_g (lw_at lw_m1 116 rfl) rfl
theorem q180 : (Jvm.Cond.code ({ cls := "PressedMen", name := "isIn", desc := "(III)Z" } : Jvm.MethodName) prog_1_method_1_code (3 : Nat) (Option.some Jvm.ClassFile.FieldType.boolean)) ∈ lw_all := lw_g (lw_at lw_m1 117 rfl) rfl
theorem q181 : (Jvm.Cond.methodLink "PressedMen" (71 : Nat) ({ cls := "PressedMen", name := "isStreet", desc := "(I)Z" } : Jvm.MethodName)) ∈ lw_all := lw_g (lw_at lw_m1 118 rfl) rfl
theorem q182 : (Jvm.Cond.privateMethod ({ cls := "PressedMen", name := "isStreet", desc := "(I)Z" } : Jvm.MethodName)) ∈ lw_tbl := lw_at lw_m1 119 rfl
theorem q183 : (Jvm.Cond.instanceMethod ({ cls := "PressedMen", name := "isStreet", desc := "(I)Z" } : Jvm.MethodName)) ∈ lw_all := lw_g (lw_at lw_m1 120 rfl) rfl
theorem q184 : (Jvm.Cond.code ({ cls := "PressedMen", name := "isStreet", desc := "(I)Z" } : Jvm.MethodName) prog_1_method_4_code (2 : Nat) (Option.some Jvm.ClassFile.FieldType.boolean)) ∈ lw_all := lw_g (lw_at lw_m1 121 rfl) rfl
theorem q186 : (Jvm.Cond.instanceMethod ({ cls := "PressedMen", name := "way", desc := "(IIZ)I" } : Jvm.MethodName)) ∈ lw_all := lw_g (lw_at lw_m1 123 rfl) rfl
theorem q187 : (Jvm.Cond.selects "PressedMen" ({ cls := "PressedMen", name := "way", desc := "(IIZ)I" } : Jvm.MethodName) ({ cls := "PressedMen", name := "way", desc := "(IIZ)I" } : Jvm.MethodName)) ∈ lw_all := lw_g (lw_at lw_m1 124 rfl) rfl
theorem q188 : (Jvm.Cond.code ({ cls := "PressedMen", name := "way", desc := "(IIZ)I" } : Jvm.MethodName) prog_1_method_6_code (5 : Nat) (Option.some Jvm.ClassFile.FieldType.int)) ∈ lw_all := lw_g (lw_at lw_m1 125 rfl) rfl
theorem q190 : (Jvm.Cond.instanceMethod ({ cls := "PressedMen", name := "far", desc := "(II)I" } : Jvm.MethodName)) ∈ lw_all := lw_g (lw_at lw_m1 127 rfl) rfl
theorem q191 : (Jvm.Cond.selects "PressedMen" ({ cls := "PressedMen", name := "far", desc := "(II)I" } : Jvm.MethodName) ({ cls := "PressedMen", name := "far", desc := "(II)I" } : Jvm.MethodName)) ∈ lw_all := lw_g (lw_at lw_m1 128 rfl) rfl
theorem q192 : (Jvm.Cond.code ({ cls := "PressedMen", name := "far", desc := "(II)I" } : Jvm.MethodName) prog_1_method_8_code (3 : Nat) (Option.some Jvm.ClassFile.FieldType.int)) ∈ lw_all := lw_g (lw_at lw_m1 129 rfl) rfl
theorem q193 : (Jvm.Cond.methodLink "PressedMen" (75 : Nat) ({ cls := "PressedMen", name := "farFrom", desc := "(I)[I" } : Jvm.MethodName)) ∈ lw_all := lw_g (lw_at lw_m1 130 rfl) rfl
theorem q194 : (Jvm.Cond.privateMethod ({ cls := "PressedMen", name := "farFrom", desc := "(I)[I" } : Jvm.MethodName)) ∈ lw_tbl := lw_at lw_m1 131 rfl
theorem q195 : (Jvm.Cond.instanceMethod ({ cls := "PressedMen", name := "farFrom", desc := "(I)[I" } : Jvm.MethodName)) ∈ lw_all := lw_g (lw_at lw_m1 132 rfl) rfl
theorem q196 : (Jvm.Cond.code ({ cls := "PressedMen", name := "farFrom", desc := "(I)[I" } : Jvm.MethodName) prog_1_method_7_code (6 : Nat) (Option.some (Jvm.ClassFile.FieldType.array Jvm.ClassFile.FieldType.int))) ∈ lw_all := lw_g (lw_at lw_m1 133 rfl) rfl
theorem q198 : (Jvm.Cond.instanceMethod ({ cls := "PressedMen", name := "man", desc := "(IIIIIII)I" } : Jvm.MethodName)) ∈ lw_all := lw_g (lw_at lw_m1 135 rfl) rfl
theorem q199 : (Jvm.Cond.selects "PressedMen" ({ cls := "PressedMen", name := "man", desc := "(IIIIIII)I" } : Jvm.MethodName) ({ cls := "PressedMen", name := "man", desc := "(IIIIIII)I" } : Jvm.MethodName)) ∈ lw_all := lw_g (lw_at lw_m1 136 rfl) rfl
theorem q200 : (Jvm.Cond.code ({ cls := "PressedMen", name := "man", desc := "(IIIIIII)I" } : Jvm.MethodName) prog_1_method_11_code (9 : Nat) (Option.some Jvm.ClassFile.FieldType.int)) ∈ lw_all := lw_g (lw_at lw_m1 137 rfl) rfl
theorem q202 : (Jvm.Cond.methodLink "PressedMen" (79 : Nat) ({ cls := "PressedMen$Man", name := "<init>", desc := "([I)V" } : Jvm.MethodName)) ∈ lw_all := lw_g (lw_at lw_m1 139 rfl) rfl
theorem q214 : (Jvm.Cond.fieldLinkNest "PressedMen" (135 : Nat) "PressedMen$Stay" "tide" "I" "PressedMen") ∈ lw_tbl := lw_at lw_m1 151 rfl
theorem q217 : (Jvm.Cond.fieldLinkNest "PressedMen" (99 : Nat) "PressedMen$Stay" "place" "I" "PressedMen") ∈ lw_tbl := lw_at lw_m1 154 rfl
theorem q230 : (Jvm.Cond.fieldLinkNest "PressedMen" (89 : Nat) "PressedMen$Man" "about" "[I" "PressedMen") ∈ lw_tbl := lw_at lw_m1 167 rfl
theorem q231 : (Jvm.Cond.fieldLinkNest "PressedMen" (85 : Nat) "PressedMen$Man" "isShy" "Z" "PressedMen") ∈ lw_tbl := lw_at lw_m1 168 rfl
theorem q233 : (Jvm.Cond.fieldLinkNest "PressedMen" (131 : Nat) "PressedMen$Man" "last" "LPressedMen$Stay;" "PressedMen") ∈ lw_tbl := lw_at lw_m1 170 rfl
theorem q234 : (Jvm.Cond.fieldLinkNest "PressedMen" (247 : Nat) "PressedMen$Man" "taken" "LPressedMen$Taking;" "PressedMen") ∈ lw_tbl := lw_at lw_m1 171 rfl
theorem q236 : (Jvm.Cond.fieldLinkNest "PressedMen" (354 : Nat) "PressedMen$Man" "got" "I" "PressedMen") ∈ lw_tbl := lw_at lw_m1 173 rfl
theorem q249 : (Jvm.Cond.instanceMethod ({ cls := "PressedMen", name := "about", desc := "(II)I" } : Jvm.MethodName)) ∈ lw_all := lw_g (lw_at lw_m1 186 rfl) rfl
theorem q250 : (Jvm.Cond.selects "PressedMen" ({ cls := "PressedMen", name := "about", desc := "(II)I" } : Jvm.MethodName) ({ cls := "PressedMen", name := "about", desc := "(II)I" } : Jvm.MethodName)) ∈ lw_all := lw_g (lw_at lw_m1 187 rfl) rfl
theorem q251 : (Jvm.Cond.code ({ cls := "PressedMen", name := "about", desc := "(II)I" } : Jvm.MethodName) prog_1_method_12_code (3 : Nat) (Option.some Jvm.ClassFile.FieldType.int)) ∈ lw_all := lw_g (lw_at lw_m1 188 rfl) rfl
theorem q252 : (Jvm.Cond.methodLink "PressedMen" (82 : Nat) ({ cls := "PressedMen", name := "isMan", desc := "(I)Z" } : Jvm.MethodName)) ∈ lw_all := lw_g (lw_at lw_m1 189 rfl) rfl
theorem q253 : (Jvm.Cond.privateMethod ({ cls := "PressedMen", name := "isMan", desc := "(I)Z" } : Jvm.MethodName)) ∈ lw_tbl := lw_at lw_m1 190 rfl
theorem q254 : (Jvm.Cond.instanceMethod ({ cls := "PressedMen", name := "isMan", desc := "(I)Z" } : Jvm.MethodName)) ∈ lw_all := lw_g (lw_at lw_m1 191 rfl) rfl
theorem q255 : (Jvm.Cond.code ({ cls := "PressedMen", name := "isMan", desc := "(I)Z" } : Jvm.MethodName) prog_1_method_9_code (2 : Nat) (Option.some Jvm.ClassFile.FieldType.boolean)) ∈ lw_all := lw_g (lw_at lw_m1 192 rfl) rfl
theorem q257 : (Jvm.Cond.instanceMethod ({ cls := "PressedMen", name := "shy", desc := "(IZ)I" } : Jvm.MethodName)) ∈ lw_all := lw_g (lw_at lw_m1 194 rfl) rfl
theorem q258 : (Jvm.Cond.selects "PressedMen" ({ cls := "PressedMen", name := "shy", desc := "(IZ)I" } : Jvm.MethodName) ({ cls := "PressedMen", name := "shy", desc := "(IZ)I" } : Jvm.MethodName)) ∈ lw_all := lw_g (lw_at lw_m1 195 rfl) rfl
theorem q259 : (Jvm.Cond.code ({ cls := "PressedMen", name := "shy", desc := "(IZ)I" } : Jvm.MethodName) prog_1_method_13_code (4 : Nat) (Option.some Jvm.ClassFile.FieldType.int)) ∈ lw_all := lw_g (lw_at lw_m1 196 rfl) rfl
theorem q261 : (Jvm.Cond.instanceMethod ({ cls := "PressedMen", name := "where", desc := "(II)I" } : Jvm.MethodName)) ∈ lw_all := lw_g (lw_at lw_m1 198 rfl) rfl
theorem q262 : (Jvm.Cond.selects "PressedMen" ({ cls := "PressedMen", name := "where", desc := "(II)I" } : Jvm.MethodName) ({ cls := "PressedMen", name := "where", desc := "(II)I" } : Jvm.MethodName)) ∈ lw_all := lw_g (lw_at lw_m1 199 rfl) rfl
theorem q263 : (Jvm.Cond.code ({ cls := "PressedMen", name := "where", desc := "(II)I" } : Jvm.MethodName) prog_1_method_14_code (3 : Nat) (Option.some Jvm.ClassFile.FieldType.int)) ∈ lw_all := lw_g (lw_at lw_m1 200 rfl) rfl
theorem q264 : (Jvm.Cond.methodLink "PressedMen" (95 : Nat) ({ cls := "PressedMen$Man", name := "asOf", desc := "(I)LPressedMen$Stay;" } : Jvm.MethodName)) ∈ lw_all := lw_g (lw_at lw_m1 201 rfl) rfl
theorem q269 : (Jvm.Cond.instanceMethod ({ cls := "PressedMen", name := "at", desc := "(I)I" } : Jvm.MethodName)) ∈ lw_all := lw_g (lw_at lw_m1 206 rfl) rfl
theorem q270 : (Jvm.Cond.selects "PressedMen" ({ cls := "PressedMen", name := "at", desc := "(I)I" } : Jvm.MethodName) ({ cls := "PressedMen", name := "at", desc := "(I)I" } : Jvm.MethodName)) ∈ lw_all := lw_g (lw_at lw_m1 207 rfl) rfl
theorem q271 : (Jvm.Cond.code ({ cls := "PressedMen", name := "at", desc := "(I)I" } : Jvm.MethodName) prog_1_method_16_code (3 : Nat) (Option.some Jvm.ClassFile.FieldType.int)) ∈ lw_all := lw_g (lw_at lw_m1 208 rfl) rfl
theorem q272 : (Jvm.Cond.methodLink "PressedMen" (114 : Nat) ({ cls := "PressedMen", name := "menAt", desc := "(IZ)I" } : Jvm.MethodName)) ∈ lw_all := lw_g (lw_at lw_m1 209 rfl) rfl
theorem q273 : (Jvm.Cond.privateMethod ({ cls := "PressedMen", name := "menAt", desc := "(IZ)I" } : Jvm.MethodName)) ∈ lw_tbl := lw_at lw_m1 210 rfl
theorem q274 : (Jvm.Cond.instanceMethod ({ cls := "PressedMen", name := "menAt", desc := "(IZ)I" } : Jvm.MethodName)) ∈ lw_all := lw_g (lw_at lw_m1 211 rfl) rfl
theorem q275 : (Jvm.Cond.code ({ cls := "PressedMen", name := "menAt", desc := "(IZ)I" } : Jvm.MethodName) prog_1_method_15_code (5 : Nat) (Option.some Jvm.ClassFile.FieldType.int)) ∈ lw_all := lw_g (lw_at lw_m1 212 rfl) rfl
theorem q276 : (Jvm.Cond.methodLink "PressedMen" (104 : Nat) ({ cls := "PressedMen$Man", name := "place", desc := "()I" } : Jvm.MethodName)) ∈ lw_all := lw_g (lw_at lw_m1 213 rfl) rfl
theorem q280 : (Jvm.Cond.methodLink "PressedMen" (107 : Nat) ({ cls := "PressedMen$Man", name := "isSeaman", desc := "()Z" } : Jvm.MethodName)) ∈ lw_all := lw_g (lw_at lw_m1 217 rfl) rfl
theorem q285 : (Jvm.Cond.instanceMethod ({ cls := "PressedMen", name := "tide", desc := "()I" } : Jvm.MethodName)) ∈ lw_all := lw_g (lw_at lw_m1 222 rfl) rfl
theorem q286 : (Jvm.Cond.selects "PressedMen" ({ cls := "PressedMen", name := "tide", desc := "()I" } : Jvm.MethodName) ({ cls := "PressedMen", name := "tide", desc := "()I" } : Jvm.MethodName)) ∈ lw_all := lw_g (lw_at lw_m1 223 rfl) rfl
theorem q287 : (Jvm.Cond.code ({ cls := "PressedMen", name := "tide", desc := "()I" } : Jvm.MethodName) prog_1_method_17_code (1 : Nat) (Option.some Jvm.ClassFile.FieldType.int)) ∈ lw_all := lw_g (lw_at lw_m1 224 rfl) rfl
theorem q289 : (Jvm.Cond.instanceMethod ({ cls := "PressedMen", name := "pass", desc := "(I)I" } : Jvm.MethodName)) ∈ lw_all := lw_g (lw_at lw_m1 226 rfl) rfl
theorem q290 : (Jvm.Cond.selects "PressedMen" ({ cls := "PressedMen", name := "pass", desc := "(I)I" } : Jvm.MethodName) ({ cls := "PressedMen", name := "pass", desc := "(I)I" } : Jvm.MethodName)) ∈ lw_all := lw_g (lw_at lw_m1 227 rfl) rfl
theorem q291 : (Jvm.Cond.code ({ cls := "PressedMen", name := "pass", desc := "(I)I" } : Jvm.MethodName) prog_1_method_19_code (3 : Nat) (Option.some Jvm.ClassFile.FieldType.int)) ∈ lw_all := lw_g (lw_at lw_m1 228 rfl) rfl
theorem q292 : (Jvm.Cond.methodLink "PressedMen" (139 : Nat) ({ cls := "PressedMen", name := "goTide", desc := "()V" } : Jvm.MethodName)) ∈ lw_all := lw_g (lw_at lw_m1 229 rfl) rfl
theorem q293 : (Jvm.Cond.privateMethod ({ cls := "PressedMen", name := "goTide", desc := "()V" } : Jvm.MethodName)) ∈ lw_tbl := lw_at lw_m1 230 rfl
theorem q294 : (Jvm.Cond.instanceMethod ({ cls := "PressedMen", name := "goTide", desc := "()V" } : Jvm.MethodName)) ∈ lw_all := lw_g (lw_at lw_m1 231 rfl) rfl
theorem q295 : (Jvm.Cond.code ({ cls := "PressedMen", name := "goTide", desc := "()V" } : Jvm.MethodName) prog_1_method_18_code (4 : Nat) (Option.none : Option Jvm.ClassFile.FieldType)) ∈ lw_all := lw_g (lw_at lw_m1 232 rfl) rfl
theorem q296 : (Jvm.Cond.methodLink "PressedMen" (118 : Nat) ({ cls := "PressedMen", name := "hasHeard", desc := "(I)Z" } : Jvm.MethodName)) ∈ lw_all := lw_g (lw_at lw_m1 233 rfl) rfl
theorem q297 : (Jvm.Cond.privateMethod ({ cls := "PressedMen", name := "hasHeard", desc := "(I)Z" } : Jvm.MethodName)) ∈ lw_tbl := lw_at lw_m1 234 rfl
theorem q298 : (Jvm.Cond.instanceMethod ({ cls := "PressedMen", name := "hasHeard", desc := "(I)Z" } : Jvm.MethodName)) ∈ lw_all := lw_g (lw_at lw_m1 235 rfl) rfl
theorem q299 : (Jvm.Cond.code ({ cls := "PressedMen", name := "hasHeard", desc := "(I)Z" } : Jvm.MethodName) prog_1_method_50_code (3 : Nat) (Option.some Jvm.ClassFile.FieldType.boolean)) ∈ lw_all := lw_g (lw_at lw_m1 236 rfl) rfl
theorem q300 : (Jvm.Cond.methodLink "PressedMen" (270 : Nat) ({ cls := "PressedMen", name := "heardBy", desc := "(I)I" } : Jvm.MethodName)) ∈ lw_all := lw_g (lw_at lw_m1 237 rfl) rfl
theorem q301 : (Jvm.Cond.privateMethod ({ cls := "PressedMen", name := "heardBy", desc := "(I)I" } : Jvm.MethodName)) ∈ lw_tbl := lw_at lw_m1 238 rfl
theorem q302 : (Jvm.Cond.instanceMethod ({ cls := "PressedMen", name := "heardBy", desc := "(I)I" } : Jvm.MethodName)) ∈ lw_all := lw_g (lw_at lw_m1 239 rfl) rfl
theorem q303 : (Jvm.Cond.code ({ cls := "PressedMen", name := "heardBy", desc := "(I)I" } : Jvm.MethodName) prog_1_method_49_code (7 : Nat) (Option.some Jvm.ClassFile.FieldType.int)) ∈ lw_all := lw_g (lw_at lw_m2 0 rfl) rfl
theorem q304 : (Jvm.Cond.methodLink "PressedMen" (264 : Nat) ({ cls := "PressedMen$Taking", name := "isInStreet", desc := "()Z" } : Jvm.MethodName)) ∈ lw_all := lw_g (lw_at lw_m2 1 rfl) rfl
theorem q308 : (Jvm.Cond.methodLink "PressedMen" (267 : Nat) ({ cls := "java/lang/Math", name := "min", desc := "(II)I" } : Jvm.MethodName)) ∈ lw_all := lw_g (lw_at lw_m2 5 rfl) rfl
theorem q311 : (Jvm.Cond.methodLink "PressedMen" (121 : Nat) ({ cls := "PressedMen$Man", name := "go", desc := "(II)V" } : Jvm.MethodName)) ∈ lw_all := lw_g (lw_at lw_m2 8 rfl) rfl
theorem q315 : (Jvm.Cond.methodLink "PressedMen" (125 : Nat) ({ cls := "java/lang/Math", name := "max", desc := "(II)I" } : Jvm.MethodName)) ∈ lw_all := lw_g (lw_at lw_m2 12 rfl) rfl
theorem q318 : (Jvm.Cond.methodLink "PressedMen" (136 : Nat) ({ cls := "PressedMen$Man", name := "home", desc := "()I" } : Jvm.MethodName)) ∈ lw_all := lw_g (lw_at lw_m2 15 rfl) rfl
theorem q323 : (Jvm.Cond.instanceMethod ({ cls := "PressedMen", name := "walk", desc := "(II)I" } : Jvm.MethodName)) ∈ lw_all := lw_g (lw_at lw_m2 20 rfl) rfl
theorem q324 : (Jvm.Cond.selects "PressedMen" ({ cls := "PressedMen", name := "walk", desc := "(II)I" } : Jvm.MethodName) ({ cls := "PressedMen", name := "walk", desc := "(II)I" } : Jvm.MethodName)) ∈ lw_all := lw_g (lw_at lw_m2 21 rfl) rfl
theorem q325 : (Jvm.Cond.code ({ cls := "PressedMen", name := "walk", desc := "(II)I" } : Jvm.MethodName) prog_1_method_21_code (3 : Nat) (Option.some Jvm.ClassFile.FieldType.int)) ∈ lw_all := lw_g (lw_at lw_m2 22 rfl) rfl
theorem q326 : (Jvm.Cond.methodLink "PressedMen" (142 : Nat) ({ cls := "PressedMen$Stay", name := "isAshore", desc := "()Z" } : Jvm.MethodName)) ∈ lw_all := lw_g (lw_at lw_m2 23 rfl) rfl
theorem q330 : (Jvm.Cond.methodLink "PressedMen" (145 : Nat) ({ cls := "PressedMen", name := "send", desc := "(LPressedMen$Man;I)I" } : Jvm.MethodName)) ∈ lw_all := lw_g (lw_at lw_m2 27 rfl) rfl
theorem q331 : (Jvm.Cond.privateMethod ({ cls := "PressedMen", name := "send", desc := "(LPressedMen$Man;I)I" } : Jvm.MethodName)) ∈ lw_tbl := lw_at lw_m2 28 rfl
theorem q332 : (Jvm.Cond.instanceMethod ({ cls := "PressedMen", name := "send", desc := "(LPressedMen$Man;I)I" } : Jvm.MethodName)) ∈ lw_all := lw_g (lw_at lw_m2 29 rfl) rfl
theorem q333 : (Jvm.Cond.code ({ cls := "PressedMen", name := "send", desc := "(LPressedMen$Man;I)I" } : Jvm.MethodName) prog_1_method_20_code (4 : Nat) (Option.some Jvm.ClassFile.FieldType.int)) ∈ lw_all := lw_g (lw_at lw_m2 30 rfl) rfl
theorem q335 : (Jvm.Cond.instanceMethod ({ cls := "PressedMen", name := "run", desc := "(I)I" } : Jvm.MethodName)) ∈ lw_all := lw_g (lw_at lw_m2 32 rfl) rfl
theorem q336 : (Jvm.Cond.selects "PressedMen" ({ cls := "PressedMen", name := "run", desc := "(I)I" } : Jvm.MethodName) ({ cls := "PressedMen", name := "run", desc := "(I)I" } : Jvm.MethodName)) ∈ lw_all := lw_g (lw_at lw_m2 33 rfl) rfl
theorem q337 : (Jvm.Cond.code ({ cls := "PressedMen", name := "run", desc := "(I)I" } : Jvm.MethodName) prog_1_method_22_code (2 : Nat) (Option.some Jvm.ClassFile.FieldType.int)) ∈ lw_all := lw_g (lw_at lw_m2 34 rfl) rfl
theorem q339 : (Jvm.Cond.instanceMethod ({ cls := "PressedMen", name := "paper", desc := "(IIIIIIIII)I" } : Jvm.MethodName)) ∈ lw_all := lw_g (lw_at lw_m2 36 rfl) rfl
theorem q340 : (Jvm.Cond.selects "PressedMen" ({ cls := "PressedMen", name := "paper", desc := "(IIIIIIIII)I" } : Jvm.MethodName) ({ cls := "PressedMen", name := "paper", desc := "(IIIIIIIII)I" } : Jvm.MethodName)) ∈ lw_all := lw_g (lw_at lw_m2 37 rfl) rfl
theorem q341 : (Jvm.Cond.code ({ cls := "PressedMen", name := "paper", desc := "(IIIIIIIII)I" } : Jvm.MethodName) prog_1_method_25_code (11 : Nat) (Option.some Jvm.ClassFile.FieldType.int)) ∈ lw_all := lw_g (lw_at lw_m2 38 rfl) rfl
theorem q342 : (Jvm.Cond.methodLink "PressedMen" (152 : Nat) ({ cls := "PressedMen", name := "isMark", desc := "(I)Z" } : Jvm.MethodName)) ∈ lw_all := lw_g (lw_at lw_m2 39 rfl) rfl
theorem q343 : (Jvm.Cond.static ({ cls := "PressedMen", name := "isMark", desc := "(I)Z" } : Jvm.MethodName)) ∈ lw_all := lw_g (lw_at lw_m2 40 rfl) rfl
theorem q344 : (Jvm.Cond.code ({ cls := "PressedMen", name := "isMark", desc := "(I)Z" } : Jvm.MethodName) prog_1_method_24_code (1 : Nat) (Option.some Jvm.ClassFile.FieldType.boolean)) ∈ lw_all := lw_g (lw_at lw_m2 41 rfl) rfl
theorem q345 : (Jvm.Cond.methodLink "PressedMen" (155 : Nat) ({ cls := "PressedMen", name := "areIn", desc := "(III)Z" } : Jvm.MethodName)) ∈ lw_all := lw_g (lw_at lw_m2 42 rfl) rfl
theorem q346 : (Jvm.Cond.static ({ cls := "PressedMen", name := "areIn", desc := "(III)Z" } : Jvm.MethodName)) ∈ lw_all := lw_g (lw_at lw_m2 43 rfl) rfl
theorem q347 : (Jvm.Cond.code ({ cls := "PressedMen", name := "areIn", desc := "(III)Z" } : Jvm.MethodName) prog_1_method_2_code (3 : Nat) (Option.some Jvm.ClassFile.FieldType.boolean)) ∈ lw_all := lw_g (lw_at lw_m2 44 rfl) rfl
theorem q349 : (Jvm.Cond.methodLink "PressedMen" (158 : Nat) ({ cls := "PressedMen$Paper", name := "<init>", desc := "(LPressedMen$Man;II[I)V" } : Jvm.MethodName)) ∈ lw_all := lw_g (lw_at lw_m2 46 rfl) rfl
theorem q354 : (Jvm.Cond.fieldLinkNest "PressedMen" (180 : Nat) "PressedMen$Paper" "of" "LPressedMen$Man;" "PressedMen") ∈ lw_tbl := lw_at lw_m2 51 rfl
theorem q368 : (Jvm.Cond.instanceMethod ({ cls := "PressedMen", name := "cover", desc := "(III)I" } : Jvm.MethodName)) ∈ lw_all := lw_g (lw_at lw_m2 65 rfl) rfl
theorem q369 : (Jvm.Cond.selects "PressedMen" ({ cls := "PressedMen", name := "cover", desc := "(III)I" } : Jvm.MethodName) ({ cls := "PressedMen", name := "cover", desc := "(III)I" } : Jvm.MethodName)) ∈ lw_all := lw_g (lw_at lw_m2 66 rfl) rfl
theorem q370 : (Jvm.Cond.code ({ cls := "PressedMen", name := "cover", desc := "(III)I" } : Jvm.MethodName) prog_1_method_26_code (4 : Nat) (Option.some Jvm.ClassFile.FieldType.int)) ∈ lw_all := lw_g (lw_at lw_m2 67 rfl) rfl
theorem q371 : (Jvm.Cond.methodLink "PressedMen" (161 : Nat) ({ cls := "PressedMen", name := "isPaper", desc := "(I)Z" } : Jvm.MethodName)) ∈ lw_all := lw_g (lw_at lw_m2 68 rfl) rfl
theorem q372 : (Jvm.Cond.privateMethod ({ cls := "PressedMen", name := "isPaper", desc := "(I)Z" } : Jvm.MethodName)) ∈ lw_tbl := lw_at lw_m2 69 rfl
theorem q373 : (Jvm.Cond.instanceMethod ({ cls := "PressedMen", name := "isPaper", desc := "(I)Z" } : Jvm.MethodName)) ∈ lw_all := lw_g (lw_at lw_m2 70 rfl) rfl
theorem q374 : (Jvm.Cond.code ({ cls := "PressedMen", name := "isPaper", desc := "(I)Z" } : Jvm.MethodName) prog_1_method_23_code (2 : Nat) (Option.some Jvm.ClassFile.FieldType.boolean)) ∈ lw_all := lw_g (lw_at lw_m2 71 rfl) rfl
theorem q375 : (Jvm.Cond.methodLink "PressedMen" (164 : Nat) ({ cls := "PressedMen", name := "isTide", desc := "(I)Z" } : Jvm.MethodName)) ∈ lw_all := lw_g (lw_at lw_m2 72 rfl) rfl
theorem q376 : (Jvm.Cond.static ({ cls := "PressedMen", name := "isTide", desc := "(I)Z" } : Jvm.MethodName)) ∈ lw_all := lw_g (lw_at lw_m2 73 rfl) rfl
theorem q377 : (Jvm.Cond.code ({ cls := "PressedMen", name := "isTide", desc := "(I)Z" } : Jvm.MethodName) prog_1_method_10_code (1 : Nat) (Option.some Jvm.ClassFile.FieldType.boolean)) ∈ lw_all := lw_g (lw_at lw_m2 74 rfl) rfl
theorem q378 : (Jvm.Cond.methodLink "PressedMen" (167 : Nat) ({ cls := "PressedMen$Paper", name := "covers", desc := "(LPressedMen$Man;I)I" } : Jvm.MethodName)) ∈ lw_all := lw_g (lw_at lw_m2 75 rfl) rfl
theorem q392 : (Jvm.Cond.instanceMethod ({ cls := "PressedMen", name := "same", desc := "(II)I" } : Jvm.MethodName)) ∈ lw_all := lw_g (lw_at lw_m2 89 rfl) rfl
theorem q393 : (Jvm.Cond.selects "PressedMen" ({ cls := "PressedMen", name := "same", desc := "(II)I" } : Jvm.MethodName) ({ cls := "PressedMen", name := "same", desc := "(II)I" } : Jvm.MethodName)) ∈ lw_all := lw_g (lw_at lw_m2 90 rfl) rfl
theorem q394 : (Jvm.Cond.code ({ cls := "PressedMen", name := "same", desc := "(II)I" } : Jvm.MethodName) prog_1_method_27_code (5 : Nat) (Option.some Jvm.ClassFile.FieldType.int)) ∈ lw_all := lw_g (lw_at lw_m2 91 rfl) rfl
theorem q396 : (Jvm.Cond.instanceMethod ({ cls := "PressedMen", name := "shown", desc := "(II)I" } : Jvm.MethodName)) ∈ lw_all := lw_g (lw_at lw_m2 93 rfl) rfl
theorem q397 : (Jvm.Cond.selects "PressedMen" ({ cls := "PressedMen", name := "shown", desc := "(II)I" } : Jvm.MethodName) ({ cls := "PressedMen", name := "shown", desc := "(II)I" } : Jvm.MethodName)) ∈ lw_all := lw_g (lw_at lw_m2 94 rfl) rfl
theorem q398 : (Jvm.Cond.code ({ cls := "PressedMen", name := "shown", desc := "(II)I" } : Jvm.MethodName) prog_1_method_28_code (7 : Nat) (Option.some Jvm.ClassFile.FieldType.int)) ∈ lw_all := lw_g (lw_at lw_m2 95 rfl) rfl
theorem q400 : (Jvm.Cond.instanceMethod ({ cls := "PressedMen", name := "act", desc := "(I)I" } : Jvm.MethodName)) ∈ lw_all := lw_g (lw_at lw_m2 97 rfl) rfl
theorem q401 : (Jvm.Cond.selects "PressedMen" ({ cls := "PressedMen", name := "act", desc := "(I)I" } : Jvm.MethodName) ({ cls := "PressedMen", name := "act", desc := "(I)I" } : Jvm.MethodName)) ∈ lw_all := lw_g (lw_at lw_m2 98 rfl) rfl
theorem q402 : (Jvm.Cond.code ({ cls := "PressedMen", name := "act", desc := "(I)I" } : Jvm.MethodName) prog_1_method_31_code (2 : Nat) (Option.some Jvm.ClassFile.FieldType.int)) ∈ lw_all := lw_g (lw_at lw_m2 99 rfl) rfl
theorem q404 : (Jvm.Cond.methodLink "PressedMen" (187 : Nat) ({ cls := "PressedMen$Act", name := "<init>", desc := "(LPressedMen;I)V" } : Jvm.MethodName)) ∈ lw_all := lw_g (lw_at lw_m2 101 rfl) rfl
theorem q409 : (Jvm.Cond.fieldLinkNest "PressedMen" (206 : Nat) "PressedMen$Act" "from" "I" "PressedMen") ∈ lw_tbl := lw_at lw_m2 106 rfl
theorem q411 : (Jvm.Cond.fieldLinkNest "PressedMen" (196 : Nat) "PressedMen$Act" "signs" "[I" "PressedMen") ∈ lw_tbl := lw_at lw_m2 108 rfl
theorem q413 : (Jvm.Cond.fieldLinkNest "PressedMen" (193 : Nat) "PressedMen$Act" "count" "I" "PressedMen") ∈ lw_tbl := lw_at lw_m2 110 rfl
theorem q416 : (Jvm.Cond.fieldLinkNest "PressedMen" (203 : Nat) "PressedMen$Act" "fault" "I" "PressedMen") ∈ lw_tbl := lw_at lw_m2 113 rfl
theorem q432 : (Jvm.Cond.instanceMethod ({ cls := "PressedMen", name := "sign", desc := "(II)I" } : Jvm.MethodName)) ∈ lw_all := lw_g (lw_at lw_m2 129 rfl) rfl
theorem q433 : (Jvm.Cond.selects "PressedMen" ({ cls := "PressedMen", name := "sign", desc := "(II)I" } : Jvm.MethodName) ({ cls := "PressedMen", name := "sign", desc := "(II)I" } : Jvm.MethodName)) ∈ lw_all := lw_g (lw_at lw_m2 130 rfl) rfl
theorem q434 : (Jvm.Cond.code ({ cls := "PressedMen", name := "sign", desc := "(II)I" } : Jvm.MethodName) prog_1_method_32_code (4 : Nat) (Option.some Jvm.ClassFile.FieldType.int)) ∈ lw_all := lw_g (lw_at lw_m2 131 rfl) rfl
theorem q435 : (Jvm.Cond.methodLink "PressedMen" (190 : Nat) ({ cls := "PressedMen", name := "isAct", desc := "(I)Z" } : Jvm.MethodName)) ∈ lw_all := lw_g (lw_at lw_m2 132 rfl) rfl
theorem q436 : (Jvm.Cond.privateMethod ({ cls := "PressedMen", name := "isAct", desc := "(I)Z" } : Jvm.MethodName)) ∈ lw_tbl := lw_at lw_m2 133 rfl
theorem q437 : (Jvm.Cond.instanceMethod ({ cls := "PressedMen", name := "isAct", desc := "(I)Z" } : Jvm.MethodName)) ∈ lw_all := lw_g (lw_at lw_m2 134 rfl) rfl
theorem q438 : (Jvm.Cond.code ({ cls := "PressedMen", name := "isAct", desc := "(I)Z" } : Jvm.MethodName) prog_1_method_30_code (2 : Nat) (Option.some Jvm.ClassFile.FieldType.boolean)) ∈ lw_all := lw_g (lw_at lw_m2 135 rfl) rfl
theorem q440 : (Jvm.Cond.instanceMethod ({ cls := "PressedMen", name := "fault", desc := "(I)I" } : Jvm.MethodName)) ∈ lw_all := lw_g (lw_at lw_m2 137 rfl) rfl
theorem q441 : (Jvm.Cond.selects "PressedMen" ({ cls := "PressedMen", name := "fault", desc := "(I)I" } : Jvm.MethodName) ({ cls := "PressedMen", name := "fault", desc := "(I)I" } : Jvm.MethodName)) ∈ lw_all := lw_g (lw_at lw_m2 138 rfl) rfl
theorem q442 : (Jvm.Cond.code ({ cls := "PressedMen", name := "fault", desc := "(I)I" } : Jvm.MethodName) prog_1_method_33_code (3 : Nat) (Option.some Jvm.ClassFile.FieldType.int)) ∈ lw_all := lw_g (lw_at lw_m2 139 rfl) rfl
theorem q443 : (Jvm.Cond.methodLink "PressedMen" (199 : Nat) ({ cls := "PressedMen$Act", name := "read", desc := "()LPressedMen$Text;" } : Jvm.MethodName)) ∈ lw_all := lw_g (lw_at lw_m2 140 rfl) rfl
theorem q560 : (Jvm.Cond.instanceMethod ({ cls := "PressedMen", name := "force", desc := "(I)I" } : Jvm.MethodName)) ∈ lw_all := lw_g (lw_at lw_m3 17 rfl) rfl
theorem q561 : (Jvm.Cond.selects "PressedMen" ({ cls := "PressedMen", name := "force", desc := "(I)I" } : Jvm.MethodName) ({ cls := "PressedMen", name := "force", desc := "(I)I" } : Jvm.MethodName)) ∈ lw_all := lw_g (lw_at lw_m3 18 rfl) rfl
theorem q562 : (Jvm.Cond.code ({ cls := "PressedMen", name := "force", desc := "(I)I" } : Jvm.MethodName) prog_1_method_35_code (2 : Nat) (Option.some Jvm.ClassFile.FieldType.int)) ∈ lw_all := lw_g (lw_at lw_m3 19 rfl) rfl
theorem q563 : (Jvm.Cond.methodLink "PressedMen" (209 : Nat) ({ cls := "PressedMen", name := "forceOn", desc := "(I)I" } : Jvm.MethodName)) ∈ lw_all := lw_g (lw_at lw_m3 20 rfl) rfl
theorem q564 : (Jvm.Cond.privateMethod ({ cls := "PressedMen", name := "forceOn", desc := "(I)I" } : Jvm.MethodName)) ∈ lw_tbl := lw_at lw_m3 21 rfl
theorem q565 : (Jvm.Cond.instanceMethod ({ cls := "PressedMen", name := "forceOn", desc := "(I)I" } : Jvm.MethodName)) ∈ lw_all := lw_g (lw_at lw_m3 22 rfl) rfl
theorem q566 : (Jvm.Cond.code ({ cls := "PressedMen", name := "forceOn", desc := "(I)I" } : Jvm.MethodName) prog_1_method_34_code (5 : Nat) (Option.some Jvm.ClassFile.FieldType.int)) ∈ lw_all := lw_g (lw_at lw_m3 23 rfl) rfl
theorem q568 : (Jvm.Cond.instanceMethod ({ cls := "PressedMen", name := "may", desc := "(II)I" } : Jvm.MethodName)) ∈ lw_all := lw_g (lw_at lw_m3 25 rfl) rfl
theorem q569 : (Jvm.Cond.selects "PressedMen" ({ cls := "PressedMen", name := "may", desc := "(II)I" } : Jvm.MethodName) ({ cls := "PressedMen", name := "may", desc := "(II)I" } : Jvm.MethodName)) ∈ lw_all := lw_g (lw_at lw_m3 26 rfl) rfl
theorem q570 : (Jvm.Cond.code ({ cls := "PressedMen", name := "may", desc := "(II)I" } : Jvm.MethodName) prog_1_method_39_code (3 : Nat) (Option.some Jvm.ClassFile.FieldType.int)) ∈ lw_all := lw_g (lw_at lw_m3 27 rfl) rfl
theorem q571 : (Jvm.Cond.methodLink "PressedMen" (223 : Nat) ({ cls := "PressedMen", name := "law", desc := "()LPressedMen$Text;" } : Jvm.MethodName)) ∈ lw_all := lw_g (lw_at lw_m3 28 rfl) rfl
theorem q572 : (Jvm.Cond.privateMethod ({ cls := "PressedMen", name := "law", desc := "()LPressedMen$Text;" } : Jvm.MethodName)) ∈ lw_tbl := lw_at lw_m3 29 rfl
theorem q573 : (Jvm.Cond.instanceMethod ({ cls := "PressedMen", name := "law", desc := "()LPressedMen$Text;" } : Jvm.MethodName)) ∈ lw_all := lw_g (lw_at lw_m3 30 rfl) rfl
theorem q574 : (Jvm.Cond.code ({ cls := "PressedMen", name := "law", desc := "()LPressedMen$Text;" } : Jvm.MethodName) prog_1_method_36_code (2 : Nat) (Option.some (Jvm.ClassFile.FieldType.object "PressedMen$Text"))) ∈ lw_all := lw_g (lw_at lw_m3 31 rfl) rfl
theorem q575 : (Jvm.Cond.methodLink "PressedMen" (226 : Nat) ({ cls := "PressedMen", name := "mayShown", desc := "(LPressedMen$Text;LPressedMen$Man;I)Z" } : Jvm.MethodName)) ∈ lw_all := lw_g (lw_at lw_m3 32 rfl) rfl
theorem q576 : (Jvm.Cond.privateMethod ({ cls := "PressedMen", name := "mayShown", desc := "(LPressedMen$Text;LPressedMen$Man;I)Z" } : Jvm.MethodName)) ∈ lw_tbl := lw_at lw_m3 33 rfl
theorem q577 : (Jvm.Cond.instanceMethod ({ cls := "PressedMen", name := "mayShown", desc := "(LPressedMen$Text;LPressedMen$Man;I)Z" } : Jvm.MethodName)) ∈ lw_all := lw_g (lw_at lw_m3 34 rfl) rfl
theorem q578 : (Jvm.Cond.code ({ cls := "PressedMen", name := "mayShown", desc := "(LPressedMen$Text;LPressedMen$Man;I)Z" } : Jvm.MethodName) prog_1_method_38_code (4 : Nat) (Option.some Jvm.ClassFile.FieldType.boolean)) ∈ lw_all := lw_g (lw_at lw_m3 35 rfl) rfl
theorem q579 : (Jvm.Cond.methodLink "PressedMen" (219 : Nat) ({ cls := "PressedMen", name := "mayBe", desc := "(LPressedMen$Text;LPressedMen$Man;Z)Z" } : Jvm.MethodName)) ∈ lw_all := lw_g (lw_at lw_m3 36 rfl) rfl
theorem q580 : (Jvm.Cond.static ({ cls := "PressedMen", name := "mayBe", desc := "(LPressedMen$Text;LPressedMen$Man;Z)Z" } : Jvm.MethodName)) ∈ lw_all := lw_g (lw_at lw_m3 37 rfl) rfl
theorem q581 : (Jvm.Cond.code ({ cls := "PressedMen", name := "mayBe", desc := "(LPressedMen$Text;LPressedMen$Man;Z)Z" } : Jvm.MethodName) prog_1_method_37_code (3 : Nat) (Option.some Jvm.ClassFile.FieldType.boolean)) ∈ lw_all := lw_g (lw_at lw_m3 38 rfl) rfl
theorem q582 : (Jvm.Cond.methodLink "PressedMen" (213 : Nat) ({ cls := "PressedMen$Text", name := "holds", desc := "(LPressedMen$Man;Z)Z" } : Jvm.MethodName)) ∈ lw_all := lw_g (lw_at lw_m3 39 rfl) rfl
theorem q639 : (Jvm.Cond.instanceMethod ({ cls := "PressedMen", name := "mayTruly", desc := "(I)I" } : Jvm.MethodName)) ∈ lw_all := lw_g (lw_at lw_m3 96 rfl) rfl
theorem q640 : (Jvm.Cond.selects "PressedMen" ({ cls := "PressedMen", name := "mayTruly", desc := "(I)I" } : Jvm.MethodName) ({ cls := "PressedMen", name := "mayTruly", desc := "(I)I" } : Jvm.MethodName)) ∈ lw_all := lw_g (lw_at lw_m3 97 rfl) rfl
theorem q641 : (Jvm.Cond.code ({ cls := "PressedMen", name := "mayTruly", desc := "(I)I" } : Jvm.MethodName) prog_1_method_40_code (2 : Nat) (Option.some Jvm.ClassFile.FieldType.int)) ∈ lw_all := lw_g (lw_at lw_m3 98 rfl) rfl
theorem q642 : (Jvm.Cond.methodLink "PressedMen" (230 : Nat) ({ cls := "PressedMen", name := "isCoveredTruly", desc := "(LPressedMen$Man;)Z" } : Jvm.MethodName)) ∈ lw_all := lw_g (lw_at lw_m3 99 rfl) rfl
theorem q643 : (Jvm.Cond.privateMethod ({ cls := "PressedMen", name := "isCoveredTruly", desc := "(LPressedMen$Man;)Z" } : Jvm.MethodName)) ∈ lw_tbl := lw_at lw_m3 100 rfl
theorem q644 : (Jvm.Cond.instanceMethod ({ cls := "PressedMen", name := "isCoveredTruly", desc := "(LPressedMen$Man;)Z" } : Jvm.MethodName)) ∈ lw_all := lw_g (lw_at lw_m3 101 rfl) rfl
theorem q645 : (Jvm.Cond.code ({ cls := "PressedMen", name := "isCoveredTruly", desc := "(LPressedMen$Man;)Z" } : Jvm.MethodName) prog_1_method_29_code (4 : Nat) (Option.some Jvm.ClassFile.FieldType.boolean)) ∈ lw_all := lw_g (lw_at lw_m3 102 rfl) rfl
theorem q647 : (Jvm.Cond.instanceMethod ({ cls := "PressedMen", name := "take", desc := "(II)I" } : Jvm.MethodName)) ∈ lw_all := lw_g (lw_at lw_m3 104 rfl) rfl
theorem q648 : (Jvm.Cond.selects "PressedMen" ({ cls := "PressedMen", name := "take", desc := "(II)I" } : Jvm.MethodName) ({ cls := "PressedMen", name := "take", desc := "(II)I" } : Jvm.MethodName)) ∈ lw_all := lw_g (lw_at lw_m3 105 rfl) rfl
theorem q649 : (Jvm.Cond.code ({ cls := "PressedMen", name := "take", desc := "(II)I" } : Jvm.MethodName) prog_1_method_42_code (6 : Nat) (Option.some Jvm.ClassFile.FieldType.int)) ∈ lw_all := lw_g (lw_at lw_m3 106 rfl) rfl
theorem q650 : (Jvm.Cond.methodLink "PressedMen" (240 : Nat) ({ cls := "PressedMen", name := "isHomeShip", desc := "(II)Z" } : Jvm.MethodName)) ∈ lw_all := lw_g (lw_at lw_m3 107 rfl) rfl
theorem q651 : (Jvm.Cond.privateMethod ({ cls := "PressedMen", name := "isHomeShip", desc := "(II)Z" } : Jvm.MethodName)) ∈ lw_tbl := lw_at lw_m3 108 rfl
theorem q652 : (Jvm.Cond.instanceMethod ({ cls := "PressedMen", name := "isHomeShip", desc := "(II)Z" } : Jvm.MethodName)) ∈ lw_all := lw_g (lw_at lw_m3 109 rfl) rfl
theorem q653 : (Jvm.Cond.code ({ cls := "PressedMen", name := "isHomeShip", desc := "(II)Z" } : Jvm.MethodName) prog_1_method_41_code (4 : Nat) (Option.some Jvm.ClassFile.FieldType.boolean)) ∈ lw_all := lw_g (lw_at lw_m3 110 rfl) rfl
theorem q655 : (Jvm.Cond.methodLink "PressedMen" (244 : Nat) ({ cls := "PressedMen$Taking", name := "<init>", desc := "(IIIIZZ)V" } : Jvm.MethodName)) ∈ lw_all := lw_g (lw_at lw_m3 112 rfl) rfl
theorem q660 : (Jvm.Cond.fieldLinkNest "PressedMen" (176 : Nat) "PressedMen$Taking" "tide" "I" "PressedMen") ∈ lw_tbl := lw_at lw_m3 117 rfl
theorem q662 : (Jvm.Cond.fieldLinkNest "PressedMen" (177 : Nat) "PressedMen$Taking" "man" "I" "PressedMen") ∈ lw_tbl := lw_at lw_m3 119 rfl
theorem q664 : (Jvm.Cond.fieldLinkNest "PressedMen" (173 : Nat) "PressedMen$Taking" "paper" "I" "PressedMen") ∈ lw_tbl := lw_at lw_m3 121 rfl
theorem q666 : (Jvm.Cond.fieldLinkNest "PressedMen" (251 : Nat) "PressedMen$Taking" "from" "I" "PressedMen") ∈ lw_tbl := lw_at lw_m3 123 rfl
theorem q668 : (Jvm.Cond.fieldLinkNest "PressedMen" (252 : Nat) "PressedMen$Taking" "right" "Z" "PressedMen") ∈ lw_tbl := lw_at lw_m3 125 rfl
theorem q670 : (Jvm.Cond.fieldLinkNest "PressedMen" (255 : Nat) "PressedMen$Taking" "truly" "Z" "PressedMen") ∈ lw_tbl := lw_at lw_m3 127 rfl
theorem q685 : (Jvm.Cond.instanceMethod ({ cls := "PressedMen", name := "taking", desc := "(II)I" } : Jvm.MethodName)) ∈ lw_all := lw_g (lw_at lw_m3 142 rfl) rfl
theorem q686 : (Jvm.Cond.selects "PressedMen" ({ cls := "PressedMen", name := "taking", desc := "(II)I" } : Jvm.MethodName) ({ cls := "PressedMen", name := "taking", desc := "(II)I" } : Jvm.MethodName)) ∈ lw_all := lw_g (lw_at lw_m3 143 rfl) rfl
theorem q687 : (Jvm.Cond.code ({ cls := "PressedMen", name := "taking", desc := "(II)I" } : Jvm.MethodName) prog_1_method_43_code (4 : Nat) (Option.some Jvm.ClassFile.FieldType.int)) ∈ lw_all := lw_g (lw_at lw_m3 144 rfl) rfl
theorem q689 : (Jvm.Cond.instanceMethod ({ cls := "PressedMen", name := "wronged", desc := "()I" } : Jvm.MethodName)) ∈ lw_all := lw_g (lw_at lw_m3 146 rfl) rfl
theorem q690 : (Jvm.Cond.selects "PressedMen" ({ cls := "PressedMen", name := "wronged", desc := "()I" } : Jvm.MethodName) ({ cls := "PressedMen", name := "wronged", desc := "()I" } : Jvm.MethodName)) ∈ lw_all := lw_g (lw_at lw_m3 147 rfl) rfl
theorem q691 : (Jvm.Cond.code ({ cls := "PressedMen", name := "wronged", desc := "()I" } : Jvm.MethodName) prog_1_method_45_code (3 : Nat) (Option.some Jvm.ClassFile.FieldType.int)) ∈ lw_all := lw_g (lw_at lw_m3 148 rfl) rfl
theorem q692 : (Jvm.Cond.methodLink "PressedMen" (258 : Nat) ({ cls := "PressedMen", name := "isWronged", desc := "(LPressedMen$Man;)Z" } : Jvm.MethodName)) ∈ lw_all := lw_g (lw_at lw_m3 149 rfl) rfl
theorem q693 : (Jvm.Cond.privateMethod ({ cls := "PressedMen", name := "isWronged", desc := "(LPressedMen$Man;)Z" } : Jvm.MethodName)) ∈ lw_tbl := lw_at lw_m3 150 rfl
theorem q694 : (Jvm.Cond.instanceMethod ({ cls := "PressedMen", name := "isWronged", desc := "(LPressedMen$Man;)Z" } : Jvm.MethodName)) ∈ lw_all := lw_g (lw_at lw_m3 151 rfl) rfl
theorem q695 : (Jvm.Cond.code ({ cls := "PressedMen", name := "isWronged", desc := "(LPressedMen$Man;)Z" } : Jvm.MethodName) prog_1_method_44_code (4 : Nat) (Option.some Jvm.ClassFile.FieldType.boolean)) ∈ lw_all := lw_g (lw_at lw_m3 152 rfl) rfl
theorem q697 : (Jvm.Cond.instanceMethod ({ cls := "PressedMen", name := "wrongedMan", desc := "(I)I" } : Jvm.MethodName)) ∈ lw_all := lw_g (lw_at lw_m3 154 rfl) rfl
theorem q698 : (Jvm.Cond.selects "PressedMen" ({ cls := "PressedMen", name := "wrongedMan", desc := "(I)I" } : Jvm.MethodName) ({ cls := "PressedMen", name := "wrongedMan", desc := "(I)I" } : Jvm.MethodName)) ∈ lw_all := lw_g (lw_at lw_m3 155 rfl) rfl
theorem q699 : (Jvm.Cond.code ({ cls := "PressedMen", name := "wrongedMan", desc := "(I)I" } : Jvm.MethodName) prog_1_method_46_code (4 : Nat) (Option.some Jvm.ClassFile.FieldType.int)) ∈ lw_all := lw_g (lw_at lw_m3 156 rfl) rfl
theorem q701 : (Jvm.Cond.instanceMethod ({ cls := "PressedMen", name := "letGo", desc := "(I)I" } : Jvm.MethodName)) ∈ lw_all := lw_g (lw_at lw_m3 158 rfl) rfl
theorem q702 : (Jvm.Cond.selects "PressedMen" ({ cls := "PressedMen", name := "letGo", desc := "(I)I" } : Jvm.MethodName) ({ cls := "PressedMen", name := "letGo", desc := "(I)I" } : Jvm.MethodName)) ∈ lw_all := lw_g (lw_at lw_m3 159 rfl) rfl
theorem q703 : (Jvm.Cond.code ({ cls := "PressedMen", name := "letGo", desc := "(I)I" } : Jvm.MethodName) prog_1_method_47_code (4 : Nat) (Option.some Jvm.ClassFile.FieldType.int)) ∈ lw_all := lw_g (lw_at lw_m3 160 rfl) rfl
theorem q705 : (Jvm.Cond.instanceMethod ({ cls := "PressedMen", name := "quiet", desc := "()I" } : Jvm.MethodName)) ∈ lw_all := lw_g (lw_at lw_m3 162 rfl) rfl
theorem q706 : (Jvm.Cond.selects "PressedMen" ({ cls := "PressedMen", name := "quiet", desc := "()I" } : Jvm.MethodName) ({ cls := "PressedMen", name := "quiet", desc := "()I" } : Jvm.MethodName)) ∈ lw_all := lw_g (lw_at lw_m3 163 rfl) rfl
theorem q707 : (Jvm.Cond.code ({ cls := "PressedMen", name := "quiet", desc := "()I" } : Jvm.MethodName) prog_1_method_48_code (3 : Nat) (Option.some Jvm.ClassFile.FieldType.int)) ∈ lw_all := lw_g (lw_at lw_m3 164 rfl) rfl
theorem q709 : (Jvm.Cond.instanceMethod ({ cls := "PressedMen", name := "heard", desc := "(I)I" } : Jvm.MethodName)) ∈ lw_all := lw_g (lw_at lw_m3 166 rfl) rfl
theorem q710 : (Jvm.Cond.selects "PressedMen" ({ cls := "PressedMen", name := "heard", desc := "(I)I" } : Jvm.MethodName) ({ cls := "PressedMen", name := "heard", desc := "(I)I" } : Jvm.MethodName)) ∈ lw_all := lw_g (lw_at lw_m3 167 rfl) rfl
theorem q711 : (Jvm.Cond.code ({ cls := "PressedMen", name := "heard", desc := "(I)I" } : Jvm.MethodName) prog_1_method_51_code (2 : Nat) (Option.some Jvm.ClassFile.FieldType.int)) ∈ lw_all := lw_g (lw_at lw_m3 168 rfl) rfl
theorem q713 : (Jvm.Cond.instanceMethod ({ cls := "PressedMen", name := "tender", desc := "(II)I" } : Jvm.MethodName)) ∈ lw_all := lw_g (lw_at lw_m3 170 rfl) rfl
theorem q714 : (Jvm.Cond.selects "PressedMen" ({ cls := "PressedMen", name := "tender", desc := "(II)I" } : Jvm.MethodName) ({ cls := "PressedMen", name := "tender", desc := "(II)I" } : Jvm.MethodName)) ∈ lw_all := lw_g (lw_at lw_m3 171 rfl) rfl
theorem q715 : (Jvm.Cond.code ({ cls := "PressedMen", name := "tender", desc := "(II)I" } : Jvm.MethodName) prog_1_method_52_code (4 : Nat) (Option.some Jvm.ClassFile.FieldType.int)) ∈ lw_all := lw_g (lw_at lw_m3 172 rfl) rfl
theorem q717 : (Jvm.Cond.instanceMethod ({ cls := "PressedMen", name := "met", desc := "(II)I" } : Jvm.MethodName)) ∈ lw_all := lw_g (lw_at lw_m3 174 rfl) rfl
theorem q718 : (Jvm.Cond.selects "PressedMen" ({ cls := "PressedMen", name := "met", desc := "(II)I" } : Jvm.MethodName) ({ cls := "PressedMen", name := "met", desc := "(II)I" } : Jvm.MethodName)) ∈ lw_all := lw_g (lw_at lw_m3 175 rfl) rfl
theorem q719 : (Jvm.Cond.code ({ cls := "PressedMen", name := "met", desc := "(II)I" } : Jvm.MethodName) prog_1_method_53_code (3 : Nat) (Option.some Jvm.ClassFile.FieldType.int)) ∈ lw_all := lw_g (lw_at lw_m3 176 rfl) rfl
theorem q720 : (Jvm.Cond.classLink "PressedMen" (273 : Nat) "PressedMen$Laying") ∈ lw_all := lw_g (lw_at lw_m3 177 rfl) rfl
theorem q722 : (Jvm.Cond.methodLink "PressedMen" (275 : Nat) ({ cls := "PressedMen$Laying", name := "<init>", desc := "(LPressedMen;II)V" } : Jvm.MethodName)) ∈ lw_all := lw_g (lw_at lw_m3 179 rfl) rfl
theorem q758 : (Jvm.Cond.fieldLinkNest "PressedMen" (281 : Nat) "PressedMen$Laying" "bestAt" "[I" "PressedMen") ∈ lw_tbl := lw_at lw_m3 215 rfl
theorem q760 : (Jvm.Cond.fieldLinkNest "PressedMen" (278 : Nat) "PressedMen$Laying" "best" "I" "PressedMen") ∈ lw_tbl := lw_at lw_m3 217 rfl
theorem q786 : (Jvm.Cond.instanceMethod ({ cls := "PressedMen", name := "laid", desc := "(IIII)I" } : Jvm.MethodName)) ∈ lw_all := lw_g (lw_at lw_m4 3 rfl) rfl
theorem q787 : (Jvm.Cond.selects "PressedMen" ({ cls := "PressedMen", name := "laid", desc := "(IIII)I" } : Jvm.MethodName) ({ cls := "PressedMen", name := "laid", desc := "(IIII)I" } : Jvm.MethodName)) ∈ lw_all := lw_g (lw_at lw_m4 4 rfl) rfl
theorem q788 : (Jvm.Cond.code ({ cls := "PressedMen", name := "laid", desc := "(IIII)I" } : Jvm.MethodName) prog_1_method_54_code (5 : Nat) (Option.some Jvm.ClassFile.FieldType.int)) ∈ lw_all := lw_g (lw_at lw_m4 5 rfl) rfl
theorem q790 : (Jvm.Cond.instanceMethod ({ cls := "PressedMen", name := "ship", desc := "(IIII)I" } : Jvm.MethodName)) ∈ lw_all := lw_g (lw_at lw_m4 7 rfl) rfl
theorem q791 : (Jvm.Cond.selects "PressedMen" ({ cls := "PressedMen", name := "ship", desc := "(IIII)I" } : Jvm.MethodName) ({ cls := "PressedMen", name := "ship", desc := "(IIII)I" } : Jvm.MethodName)) ∈ lw_all := lw_g (lw_at lw_m4 8 rfl) rfl
theorem q792 : (Jvm.Cond.code ({ cls := "PressedMen", name := "ship", desc := "(IIII)I" } : Jvm.MethodName) prog_1_method_57_code (5 : Nat) (Option.some Jvm.ClassFile.FieldType.int)) ∈ lw_all := lw_g (lw_at lw_m4 9 rfl) rfl
theorem q794 : (Jvm.Cond.methodLink "PressedMen" (284 : Nat) ({ cls := "PressedMen$Ship", name := "<init>", desc := "(IIII)V" } : Jvm.MethodName)) ∈ lw_all := lw_g (lw_at lw_m4 11 rfl) rfl
theorem q799 : (Jvm.Cond.fieldLinkNest "PressedMen" (237 : Nat) "PressedMen$Ship" "kind" "I" "PressedMen") ∈ lw_tbl := lw_at lw_m4 16 rfl
theorem q801 : (Jvm.Cond.fieldLinkNest "PressedMen" (290 : Nat) "PressedMen$Ship" "need" "I" "PressedMen") ∈ lw_tbl := lw_at lw_m4 18 rfl
theorem q803 : (Jvm.Cond.fieldLinkNest "PressedMen" (293 : Nat) "PressedMen$Ship" "seamen" "I" "PressedMen") ∈ lw_tbl := lw_at lw_m4 20 rfl
theorem q805 : (Jvm.Cond.fieldLinkNest "PressedMen" (296 : Nat) "PressedMen$Ship" "least" "I" "PressedMen") ∈ lw_tbl := lw_at lw_m4 22 rfl
theorem q807 : (Jvm.Cond.fieldLinkNest "PressedMen" (234 : Nat) "PressedMen$Ship" "isHome" "Z" "PressedMen") ∈ lw_tbl := lw_at lw_m4 24 rfl
theorem q820 : (Jvm.Cond.instanceMethod ({ cls := "PressedMen", name := "of", desc := "(II)I" } : Jvm.MethodName)) ∈ lw_all := lw_g (lw_at lw_m4 37 rfl) rfl
theorem q821 : (Jvm.Cond.selects "PressedMen" ({ cls := "PressedMen", name := "of", desc := "(II)I" } : Jvm.MethodName) ({ cls := "PressedMen", name := "of", desc := "(II)I" } : Jvm.MethodName)) ∈ lw_all := lw_g (lw_at lw_m4 38 rfl) rfl
theorem q822 : (Jvm.Cond.code ({ cls := "PressedMen", name := "of", desc := "(II)I" } : Jvm.MethodName) prog_1_method_58_code (4 : Nat) (Option.some Jvm.ClassFile.FieldType.int)) ∈ lw_all := lw_g (lw_at lw_m4 39 rfl) rfl
theorem q823 : (Jvm.Cond.methodLink "PressedMen" (287 : Nat) ({ cls := "PressedMen", name := "isShip", desc := "(I)Z" } : Jvm.MethodName)) ∈ lw_all := lw_g (lw_at lw_m4 40 rfl) rfl
theorem q824 : (Jvm.Cond.privateMethod ({ cls := "PressedMen", name := "isShip", desc := "(I)Z" } : Jvm.MethodName)) ∈ lw_tbl := lw_at lw_m4 41 rfl
theorem q825 : (Jvm.Cond.instanceMethod ({ cls := "PressedMen", name := "isShip", desc := "(I)Z" } : Jvm.MethodName)) ∈ lw_all := lw_g (lw_at lw_m4 42 rfl) rfl
theorem q826 : (Jvm.Cond.code ({ cls := "PressedMen", name := "isShip", desc := "(I)Z" } : Jvm.MethodName) prog_1_method_55_code (2 : Nat) (Option.some Jvm.ClassFile.FieldType.boolean)) ∈ lw_all := lw_g (lw_at lw_m4 43 rfl) rfl
theorem q827 : (Jvm.Cond.methodLink "PressedMen" (299 : Nat) ({ cls := "PressedMen", name := "crew", desc := "(IZ)I" } : Jvm.MethodName)) ∈ lw_all := lw_g (lw_at lw_m4 44 rfl) rfl
theorem q828 : (Jvm.Cond.privateMethod ({ cls := "PressedMen", name := "crew", desc := "(IZ)I" } : Jvm.MethodName)) ∈ lw_tbl := lw_at lw_m4 45 rfl
theorem q829 : (Jvm.Cond.instanceMethod ({ cls := "PressedMen", name := "crew", desc := "(IZ)I" } : Jvm.MethodName)) ∈ lw_all := lw_g (lw_at lw_m4 46 rfl) rfl
theorem q830 : (Jvm.Cond.code ({ cls := "PressedMen", name := "crew", desc := "(IZ)I" } : Jvm.MethodName) prog_1_method_56_code (3 : Nat) (Option.some Jvm.ClassFile.FieldType.int)) ∈ lw_all := lw_g (lw_at lw_m4 47 rfl) rfl
theorem q832 : (Jvm.Cond.instanceMethod ({ cls := "PressedMen", name := "spare", desc := "(II)I" } : Jvm.MethodName)) ∈ lw_all := lw_g (lw_at lw_m4 49 rfl) rfl
theorem q833 : (Jvm.Cond.selects "PressedMen" ({ cls := "PressedMen", name := "spare", desc := "(II)I" } : Jvm.MethodName) ({ cls := "PressedMen", name := "spare", desc := "(II)I" } : Jvm.MethodName)) ∈ lw_all := lw_g (lw_at lw_m4 50 rfl) rfl
theorem q834 : (Jvm.Cond.code ({ cls := "PressedMen", name := "spare", desc := "(II)I" } : Jvm.MethodName) prog_1_method_61_code (3 : Nat) (Option.some Jvm.ClassFile.FieldType.int)) ∈ lw_all := lw_g (lw_at lw_m4 51 rfl) rfl
theorem q835 : (Jvm.Cond.methodLink "PressedMen" (302 : Nat) ({ cls := "PressedMen", name := "isWeather", desc := "(I)Z" } : Jvm.MethodName)) ∈ lw_all := lw_g (lw_at lw_m4 52 rfl) rfl
theorem q836 : (Jvm.Cond.static ({ cls := "PressedMen", name := "isWeather", desc := "(I)Z" } : Jvm.MethodName)) ∈ lw_all := lw_g (lw_at lw_m4 53 rfl) rfl
theorem q837 : (Jvm.Cond.code ({ cls := "PressedMen", name := "isWeather", desc := "(I)Z" } : Jvm.MethodName) prog_1_method_59_code (1 : Nat) (Option.some Jvm.ClassFile.FieldType.boolean)) ∈ lw_all := lw_g (lw_at lw_m4 54 rfl) rfl
theorem q838 : (Jvm.Cond.methodLink "PressedMen" (305 : Nat) ({ cls := "PressedMen", name := "spareOf", desc := "(II)I" } : Jvm.MethodName)) ∈ lw_all := lw_g (lw_at lw_m4 55 rfl) rfl
theorem q839 : (Jvm.Cond.privateMethod ({ cls := "PressedMen", name := "spareOf", desc := "(II)I" } : Jvm.MethodName)) ∈ lw_tbl := lw_at lw_m4 56 rfl
theorem q840 : (Jvm.Cond.instanceMethod ({ cls := "PressedMen", name := "spareOf", desc := "(II)I" } : Jvm.MethodName)) ∈ lw_all := lw_g (lw_at lw_m4 57 rfl) rfl
theorem q841 : (Jvm.Cond.code ({ cls := "PressedMen", name := "spareOf", desc := "(II)I" } : Jvm.MethodName) prog_1_method_60_code (3 : Nat) (Option.some Jvm.ClassFile.FieldType.int)) ∈ lw_all := lw_g (lw_at lw_m4 58 rfl) rfl
theorem q843 : (Jvm.Cond.instanceMethod ({ cls := "PressedMen", name := "board", desc := "(II)I" } : Jvm.MethodName)) ∈ lw_all := lw_g (lw_at lw_m4 60 rfl) rfl
theorem q844 : (Jvm.Cond.selects "PressedMen" ({ cls := "PressedMen", name := "board", desc := "(II)I" } : Jvm.MethodName) ({ cls := "PressedMen", name := "board", desc := "(II)I" } : Jvm.MethodName)) ∈ lw_all := lw_g (lw_at lw_m4 61 rfl) rfl
theorem q845 : (Jvm.Cond.code ({ cls := "PressedMen", name := "board", desc := "(II)I" } : Jvm.MethodName) prog_1_method_63_code (3 : Nat) (Option.some Jvm.ClassFile.FieldType.int)) ∈ lw_all := lw_g (lw_at lw_m4 62 rfl) rfl
theorem q846 : (Jvm.Cond.methodLink "PressedMen" (308 : Nat) ({ cls := "PressedMen", name := "isCrowded", desc := "(I)Z" } : Jvm.MethodName)) ∈ lw_all := lw_g (lw_at lw_m4 63 rfl) rfl
theorem q847 : (Jvm.Cond.privateMethod ({ cls := "PressedMen", name := "isCrowded", desc := "(I)Z" } : Jvm.MethodName)) ∈ lw_tbl := lw_at lw_m4 64 rfl
theorem q848 : (Jvm.Cond.instanceMethod ({ cls := "PressedMen", name := "isCrowded", desc := "(I)Z" } : Jvm.MethodName)) ∈ lw_all := lw_g (lw_at lw_m4 65 rfl) rfl
theorem q849 : (Jvm.Cond.code ({ cls := "PressedMen", name := "isCrowded", desc := "(I)Z" } : Jvm.MethodName) prog_1_method_62_code (2 : Nat) (Option.some Jvm.ClassFile.FieldType.boolean)) ∈ lw_all := lw_g (lw_at lw_m4 66 rfl) rfl
theorem q851 : (Jvm.Cond.instanceMethod ({ cls := "PressedMen", name := "turn", desc := "(II)I" } : Jvm.MethodName)) ∈ lw_all := lw_g (lw_at lw_m4 68 rfl) rfl
theorem q852 : (Jvm.Cond.selects "PressedMen" ({ cls := "PressedMen", name := "turn", desc := "(II)I" } : Jvm.MethodName) ({ cls := "PressedMen", name := "turn", desc := "(II)I" } : Jvm.MethodName)) ∈ lw_all := lw_g (lw_at lw_m4 69 rfl) rfl
theorem q853 : (Jvm.Cond.code ({ cls := "PressedMen", name := "turn", desc := "(II)I" } : Jvm.MethodName) prog_1_method_64_code (5 : Nat) (Option.some Jvm.ClassFile.FieldType.int)) ∈ lw_all := lw_g (lw_at lw_m4 70 rfl) rfl
theorem q855 : (Jvm.Cond.instanceMethod ({ cls := "PressedMen", name := "notAshore", desc := "(II)I" } : Jvm.MethodName)) ∈ lw_all := lw_g (lw_at lw_m4 72 rfl) rfl
theorem q856 : (Jvm.Cond.selects "PressedMen" ({ cls := "PressedMen", name := "notAshore", desc := "(II)I" } : Jvm.MethodName) ({ cls := "PressedMen", name := "notAshore", desc := "(II)I" } : Jvm.MethodName)) ∈ lw_all := lw_g (lw_at lw_m4 73 rfl) rfl
theorem q857 : (Jvm.Cond.code ({ cls := "PressedMen", name := "notAshore", desc := "(II)I" } : Jvm.MethodName) prog_1_method_65_code (5 : Nat) (Option.some Jvm.ClassFile.FieldType.int)) ∈ lw_all := lw_g (lw_at lw_m4 74 rfl) rfl
theorem q859 : (Jvm.Cond.instanceMethod ({ cls := "PressedMen", name := "taken", desc := "(II)I" } : Jvm.MethodName)) ∈ lw_all := lw_g (lw_at lw_m4 76 rfl) rfl
theorem q860 : (Jvm.Cond.selects "PressedMen" ({ cls := "PressedMen", name := "taken", desc := "(II)I" } : Jvm.MethodName) ({ cls := "PressedMen", name := "taken", desc := "(II)I" } : Jvm.MethodName)) ∈ lw_all := lw_g (lw_at lw_m4 77 rfl) rfl
theorem q861 : (Jvm.Cond.code ({ cls := "PressedMen", name := "taken", desc := "(II)I" } : Jvm.MethodName) prog_1_method_69_code (3 : Nat) (Option.some Jvm.ClassFile.FieldType.int)) ∈ lw_all := lw_g (lw_at lw_m4 78 rfl) rfl
theorem q862 : (Jvm.Cond.methodLink "PressedMen" (315 : Nat) ({ cls := "PressedMen", name := "isFleet", desc := "(I)Z" } : Jvm.MethodName)) ∈ lw_all := lw_g (lw_at lw_m4 79 rfl) rfl
theorem q863 : (Jvm.Cond.privateMethod ({ cls := "PressedMen", name := "isFleet", desc := "(I)Z" } : Jvm.MethodName)) ∈ lw_tbl := lw_at lw_m4 80 rfl
theorem q864 : (Jvm.Cond.instanceMethod ({ cls := "PressedMen", name := "isFleet", desc := "(I)Z" } : Jvm.MethodName)) ∈ lw_all := lw_g (lw_at lw_m4 81 rfl) rfl
theorem q865 : (Jvm.Cond.code ({ cls := "PressedMen", name := "isFleet", desc := "(I)Z" } : Jvm.MethodName) prog_1_method_68_code (4 : Nat) (Option.some Jvm.ClassFile.FieldType.boolean)) ∈ lw_all := lw_g (lw_at lw_m4 82 rfl) rfl
theorem q866 : (Jvm.Cond.methodLink "PressedMen" (318 : Nat) ({ cls := "PressedMen", name := "takenFor", desc := "(II)I" } : Jvm.MethodName)) ∈ lw_all := lw_g (lw_at lw_m4 83 rfl) rfl
theorem q867 : (Jvm.Cond.privateMethod ({ cls := "PressedMen", name := "takenFor", desc := "(II)I" } : Jvm.MethodName)) ∈ lw_tbl := lw_at lw_m4 84 rfl
theorem q868 : (Jvm.Cond.instanceMethod ({ cls := "PressedMen", name := "takenFor", desc := "(II)I" } : Jvm.MethodName)) ∈ lw_all := lw_g (lw_at lw_m4 85 rfl) rfl
theorem q869 : (Jvm.Cond.code ({ cls := "PressedMen", name := "takenFor", desc := "(II)I" } : Jvm.MethodName) prog_1_method_67_code (9 : Nat) (Option.some Jvm.ClassFile.FieldType.int)) ∈ lw_all := lw_g (lw_at lw_m4 86 rfl) rfl
theorem q870 : (Jvm.Cond.methodLink "PressedMen" (311 : Nat) ({ cls := "PressedMen", name := "pool", desc := "(Z)I" } : Jvm.MethodName)) ∈ lw_all := lw_g (lw_at lw_m4 87 rfl) rfl
theorem q871 : (Jvm.Cond.privateMethod ({ cls := "PressedMen", name := "pool", desc := "(Z)I" } : Jvm.MethodName)) ∈ lw_tbl := lw_at lw_m4 88 rfl
theorem q872 : (Jvm.Cond.instanceMethod ({ cls := "PressedMen", name := "pool", desc := "(Z)I" } : Jvm.MethodName)) ∈ lw_all := lw_g (lw_at lw_m4 89 rfl) rfl
theorem q873 : (Jvm.Cond.code ({ cls := "PressedMen", name := "pool", desc := "(Z)I" } : Jvm.MethodName) prog_1_method_66_code (4 : Nat) (Option.some Jvm.ClassFile.FieldType.int)) ∈ lw_all := lw_g (lw_at lw_m4 90 rfl) rfl
theorem q875 : (Jvm.Cond.instanceMethod ({ cls := "PressedMen", name := "fleet", desc := "(I)I" } : Jvm.MethodName)) ∈ lw_all := lw_g (lw_at lw_m4 92 rfl) rfl
theorem q876 : (Jvm.Cond.selects "PressedMen" ({ cls := "PressedMen", name := "fleet", desc := "(I)I" } : Jvm.MethodName) ({ cls := "PressedMen", name := "fleet", desc := "(I)I" } : Jvm.MethodName)) ∈ lw_all := lw_g (lw_at lw_m4 93 rfl) rfl
theorem q877 : (Jvm.Cond.code ({ cls := "PressedMen", name := "fleet", desc := "(I)I" } : Jvm.MethodName) prog_1_method_70_code (7 : Nat) (Option.some Jvm.ClassFile.FieldType.int)) ∈ lw_all := lw_g (lw_at lw_m4 94 rfl) rfl
theorem q878 : (Jvm.Cond.methodLink "PressedMen" (321 : Nat) ({ cls := "java/lang/Integer", name := "bitCount", desc := "(I)I" } : Jvm.MethodName)) ∈ lw_all := lw_g (lw_at lw_m4 95 rfl) rfl
theorem q885 : (Jvm.Cond.instanceMethod ({ cls := "PressedMen", name := "sail", desc := "(I)I" } : Jvm.MethodName)) ∈ lw_all := lw_g (lw_at lw_m4 102 rfl) rfl
theorem q886 : (Jvm.Cond.selects "PressedMen" ({ cls := "PressedMen", name := "sail", desc := "(I)I" } : Jvm.MethodName) ({ cls := "PressedMen", name := "sail", desc := "(I)I" } : Jvm.MethodName)) ∈ lw_all := lw_g (lw_at lw_m4 103 rfl) rfl
theorem q887 : (Jvm.Cond.code ({ cls := "PressedMen", name := "sail", desc := "(I)I" } : Jvm.MethodName) prog_1_method_71_code (3 : Nat) (Option.some Jvm.ClassFile.FieldType.int)) ∈ lw_all := lw_g (lw_at lw_m4 104 rfl) rfl
theorem q889 : (Jvm.Cond.instanceMethod ({ cls := "PressedMen", name := "comeHome", desc := "(I)I" } : Jvm.MethodName)) ∈ lw_all := lw_g (lw_at lw_m4 106 rfl) rfl
theorem q890 : (Jvm.Cond.selects "PressedMen" ({ cls := "PressedMen", name := "comeHome", desc := "(I)I" } : Jvm.MethodName) ({ cls := "PressedMen", name := "comeHome", desc := "(I)I" } : Jvm.MethodName)) ∈ lw_all := lw_g (lw_at lw_m4 107 rfl) rfl
theorem q891 : (Jvm.Cond.code ({ cls := "PressedMen", name := "comeHome", desc := "(I)I" } : Jvm.MethodName) prog_1_method_72_code (2 : Nat) (Option.some Jvm.ClassFile.FieldType.int)) ∈ lw_all := lw_g (lw_at lw_m4 108 rfl) rfl
theorem q893 : (Jvm.Cond.instanceMethod ({ cls := "PressedMen", name := "ticket", desc := "(III)I" } : Jvm.MethodName)) ∈ lw_all := lw_g (lw_at lw_m4 110 rfl) rfl
theorem q894 : (Jvm.Cond.selects "PressedMen" ({ cls := "PressedMen", name := "ticket", desc := "(III)I" } : Jvm.MethodName) ({ cls := "PressedMen", name := "ticket", desc := "(III)I" } : Jvm.MethodName)) ∈ lw_all := lw_g (lw_at lw_m4 111 rfl) rfl
theorem q895 : (Jvm.Cond.code ({ cls := "PressedMen", name := "ticket", desc := "(III)I" } : Jvm.MethodName) prog_1_method_75_code (4 : Nat) (Option.some Jvm.ClassFile.FieldType.int)) ∈ lw_all := lw_g (lw_at lw_m4 112 rfl) rfl
theorem q897 : (Jvm.Cond.methodLink "PressedMen" (329 : Nat) ({ cls := "PressedMen$Ticket", name := "<init>", desc := "(LPressedMen;LPressedMen$Man;I)V" } : Jvm.MethodName)) ∈ lw_all := lw_g (lw_at lw_m4 114 rfl) rfl
theorem q902 : (Jvm.Cond.fieldLinkNest "PressedMen" (357 : Nat) "PressedMen$Ticket" "of" "LPressedMen$Man;" "PressedMen") ∈ lw_tbl := lw_at lw_m4 119 rfl
theorem q904 : (Jvm.Cond.fieldLinkNest "PressedMen" (344 : Nat) "PressedMen$Ticket" "worth" "I" "PressedMen") ∈ lw_tbl := lw_at lw_m4 121 rfl
theorem q906 : (Jvm.Cond.fieldLinkNest "PressedMen" (341 : Nat) "PressedMen$Ticket" "holder" "I" "PressedMen") ∈ lw_tbl := lw_at lw_m4 123 rfl
theorem q907 : (Jvm.Cond.fieldLinkNest "PressedMen" (338 : Nat) "PressedMen$Ticket" "isPaid" "Z" "PressedMen") ∈ lw_tbl := lw_at lw_m4 124 rfl
theorem q908 : (Jvm.Cond.fieldLinkNest "PressedMen" (350 : Nat) "PressedMen$Ticket" "falsely" "I" "PressedMen") ∈ lw_tbl := lw_at lw_m4 125 rfl
theorem q924 : (Jvm.Cond.instanceMethod ({ cls := "PressedMen", name := "sell", desc := "(III)I" } : Jvm.MethodName)) ∈ lw_all := lw_g (lw_at lw_m4 141 rfl) rfl
theorem q925 : (Jvm.Cond.selects "PressedMen" ({ cls := "PressedMen", name := "sell", desc := "(III)I" } : Jvm.MethodName) ({ cls := "PressedMen", name := "sell", desc := "(III)I" } : Jvm.MethodName)) ∈ lw_all := lw_g (lw_at lw_m4 142 rfl) rfl
theorem q926 : (Jvm.Cond.code ({ cls := "PressedMen", name := "sell", desc := "(III)I" } : Jvm.MethodName) prog_1_method_76_code (6 : Nat) (Option.some Jvm.ClassFile.FieldType.int)) ∈ lw_all := lw_g (lw_at lw_m4 143 rfl) rfl
theorem q927 : (Jvm.Cond.methodLink "PressedMen" (332 : Nat) ({ cls := "PressedMen", name := "isTicket", desc := "(I)Z" } : Jvm.MethodName)) ∈ lw_all := lw_g (lw_at lw_m4 144 rfl) rfl
theorem q928 : (Jvm.Cond.privateMethod ({ cls := "PressedMen", name := "isTicket", desc := "(I)Z" } : Jvm.MethodName)) ∈ lw_tbl := lw_at lw_m4 145 rfl
theorem q929 : (Jvm.Cond.instanceMethod ({ cls := "PressedMen", name := "isTicket", desc := "(I)Z" } : Jvm.MethodName)) ∈ lw_all := lw_g (lw_at lw_m4 146 rfl) rfl
theorem q930 : (Jvm.Cond.code ({ cls := "PressedMen", name := "isTicket", desc := "(I)Z" } : Jvm.MethodName) prog_1_method_73_code (2 : Nat) (Option.some Jvm.ClassFile.FieldType.boolean)) ∈ lw_all := lw_g (lw_at lw_m4 147 rfl) rfl
theorem q931 : (Jvm.Cond.methodLink "PressedMen" (335 : Nat) ({ cls := "PressedMen", name := "isHolder", desc := "(I)Z" } : Jvm.MethodName)) ∈ lw_all := lw_g (lw_at lw_m4 148 rfl) rfl
theorem q932 : (Jvm.Cond.static ({ cls := "PressedMen", name := "isHolder", desc := "(I)Z" } : Jvm.MethodName)) ∈ lw_all := lw_g (lw_at lw_m4 149 rfl) rfl
theorem q933 : (Jvm.Cond.code ({ cls := "PressedMen", name := "isHolder", desc := "(I)Z" } : Jvm.MethodName) prog_1_method_74_code (1 : Nat) (Option.some Jvm.ClassFile.FieldType.boolean)) ∈ lw_all := lw_g (lw_at lw_m4 150 rfl) rfl
theorem q934 : (Jvm.Cond.methodLink "PressedMen" (347 : Nat) ({ cls := "PressedMen$Ticket", name := "gain", desc := "(II)V" } : Jvm.MethodName)) ∈ lw_all := lw_g (lw_at lw_m4 151 rfl) rfl
theorem q939 : (Jvm.Cond.instanceMethod ({ cls := "PressedMen", name := "pay", desc := "(II)I" } : Jvm.MethodName)) ∈ lw_all := lw_g (lw_at lw_m4 156 rfl) rfl
theorem q940 : (Jvm.Cond.selects "PressedMen" ({ cls := "PressedMen", name := "pay", desc := "(II)I" } : Jvm.MethodName) ({ cls := "PressedMen", name := "pay", desc := "(II)I" } : Jvm.MethodName)) ∈ lw_all := lw_g (lw_at lw_m4 157 rfl) rfl
theorem q941 : (Jvm.Cond.code ({ cls := "PressedMen", name := "pay", desc := "(II)I" } : Jvm.MethodName) prog_1_method_77_code (4 : Nat) (Option.some Jvm.ClassFile.FieldType.int)) ∈ lw_all := lw_g (lw_at lw_m4 158 rfl) rfl
theorem q943 : (Jvm.Cond.instanceMethod ({ cls := "PressedMen", name := "ticketOf", desc := "(II)I" } : Jvm.MethodName)) ∈ lw_all := lw_g (lw_at lw_m4 160 rfl) rfl
theorem q944 : (Jvm.Cond.selects "PressedMen" ({ cls := "PressedMen", name := "ticketOf", desc := "(II)I" } : Jvm.MethodName) ({ cls := "PressedMen", name := "ticketOf", desc := "(II)I" } : Jvm.MethodName)) ∈ lw_all := lw_g (lw_at lw_m4 161 rfl) rfl
theorem q945 : (Jvm.Cond.code ({ cls := "PressedMen", name := "ticketOf", desc := "(II)I" } : Jvm.MethodName) prog_1_method_78_code (4 : Nat) (Option.some Jvm.ClassFile.FieldType.int)) ∈ lw_all := lw_g (lw_at lw_m4 162 rfl) rfl
theorem q947 : (Jvm.Cond.instanceMethod ({ cls := "PressedMen", name := "purse", desc := "(I)I" } : Jvm.MethodName)) ∈ lw_all := lw_g (lw_at lw_m4 164 rfl) rfl
theorem q948 : (Jvm.Cond.selects "PressedMen" ({ cls := "PressedMen", name := "purse", desc := "(I)I" } : Jvm.MethodName) ({ cls := "PressedMen", name := "purse", desc := "(I)I" } : Jvm.MethodName)) ∈ lw_all := lw_g (lw_at lw_m4 165 rfl) rfl
theorem q949 : (Jvm.Cond.code ({ cls := "PressedMen", name := "purse", desc := "(I)I" } : Jvm.MethodName) prog_1_method_79_code (2 : Nat) (Option.some Jvm.ClassFile.FieldType.int)) ∈ lw_all := lw_g (lw_at lw_m4 166 rfl) rfl
theorem q950 : (Jvm.Cond.constant "PressedMen" (353 : Nat) (10000000 : Int32)) ∈ lw_all := lw_g (lw_at lw_m4 167 rfl) rfl
theorem q952 : (Jvm.Cond.instanceMethod ({ cls := "PressedMen", name := "wages", desc := "(IZ)I" } : Jvm.MethodName)) ∈ lw_all := lw_g (lw_at lw_m4 169 rfl) rfl
theorem q953 : (Jvm.Cond.selects "PressedMen" ({ cls := "PressedMen", name := "wages", desc := "(IZ)I" } : Jvm.MethodName) ({ cls := "PressedMen", name := "wages", desc := "(IZ)I" } : Jvm.MethodName)) ∈ lw_all := lw_g (lw_at lw_m4 170 rfl) rfl
theorem q954 : (Jvm.Cond.code ({ cls := "PressedMen", name := "wages", desc := "(IZ)I" } : Jvm.MethodName) prog_1_method_80_code (6 : Nat) (Option.some Jvm.ClassFile.FieldType.int)) ∈ lw_all := lw_g (lw_at lw_m4 171 rfl) rfl
theorem q956 : (Jvm.Cond.instanceMethod ({ cls := "PressedMen", name := "count", desc := "(I)I" } : Jvm.MethodName)) ∈ lw_all := lw_g (lw_at lw_m4 173 rfl) rfl
theorem q957 : (Jvm.Cond.selects "PressedMen" ({ cls := "PressedMen", name := "count", desc := "(I)I" } : Jvm.MethodName) ({ cls := "PressedMen", name := "count", desc := "(I)I" } : Jvm.MethodName)) ∈ lw_all := lw_g (lw_at lw_m4 174 rfl) rfl
theorem q958 : (Jvm.Cond.code ({ cls := "PressedMen", name := "count", desc := "(I)I" } : Jvm.MethodName) prog_1_method_81_code (4 : Nat) (Option.some Jvm.ClassFile.FieldType.int)) ∈ lw_all := lw_g (lw_at lw_m4 175 rfl) rfl
theorem in_X0 : ∀ w ∈ wsX00, w ∈ lw_all := lw_in wsX00 [133, 135, 137, 139, 141, 143, 145, 147, 149, 151, 153, 155, 157, 159, 161, 163, 165, 167, 169] (by decide +kernel) (by decide +kernel)
