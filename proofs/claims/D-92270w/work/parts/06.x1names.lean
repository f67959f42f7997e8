set_option maxRecDepth 100000
/-! PressedMenModel -/
def RX1 : String := "PressedMenModel"
def TX1 : u_T := fun k => match k with
  | 0 => ("PressedMenModel", "thrown", "I", false)
  | 1 => ("PressedMenModel", "streets", "I", false)
  | 2 => ("PressedMenModel", "isWay", "[Z", true)
  | 3 => ("PressedMenModel", "far", "[I", true)
  | 4 => ("PressedMenModel", "tide", "I", false)
  | 5 => ("PressedMenModel", "men", "I", false)
  | 6 => ("PressedMenModel", "man", "[I", true)
  | 7 => ("PressedMenModel", "sickSince", "[I", true)
  | 8 => ("PressedMenModel", "place", "[I", true)
  | 9 => ("PressedMenModel", "ships", "I", false)
  | 10 => ("PressedMenModel", "kind", "[I", true)
  | 11 => ("PressedMenModel", "need", "[I", true)
  | 12 => ("PressedMenModel", "seamen", "[I", true)
  | 13 => ("PressedMenModel", "least", "[I", true)
  | 14 => ("PressedMenModel", "isOut", "[Z", true)
  | 15 => ("PressedMenModel", "papers", "I", false)
  | 16 => ("PressedMenModel", "paper", "[I", true)
  | 17 => ("PressedMenModel", "acts", "I", false)
  | 18 => ("PressedMenModel", "actTide", "[I", true)
  | 19 => ("PressedMenModel", "signs", "[I", true)
  | 20 => ("PressedMenModel", "sign", "[I", true)
  | 21 => ("PressedMenModel", "stack", "[Z", true)
  | 22 => ("PressedMenModel", "takings", "I", false)
  | 23 => ("PressedMenModel", "taking", "[I", true)
  | 24 => ("PressedMenModel", "quietFrom", "I", false)
  | 25 => ("PressedMenModel", "room", "I", false)
  | 26 => ("PressedMenModel", "rate", "I", false)
  | 27 => ("PressedMenModel", "there", "[I", true)
  | 28 => ("PressedMenModel", "walked", "[I", true)
  | 29 => ("PressedMenModel", "metAt", "[I", true)
  | 30 => ("PressedMenModel", "bestCode", "I", false)
  | 31 => ("PressedMenModel", "tickets", "I", false)
  | 32 => ("PressedMenModel", "ticketMan", "[I", true)
  | 33 => ("PressedMenModel", "worth", "[I", true)
  | 34 => ("PressedMenModel", "holder", "[I", true)
  | 35 => ("PressedMenModel", "isPaid", "[Z", true)
  | 36 => ("PressedMenModel", "falsely", "[I", true)
  | 37 => ("PressedMenModel", "purse", "[I", true)
  | _ => ("PressedMenModel", "got", "[I", true)
def tyX1 : Nat → FieldType := fun k => match k with
  | 0 => .int
  | 1 => .int
  | 2 => .array .boolean
  | 3 => .array .int
  | 4 => .int
  | 5 => .int
  | 6 => .array .int
  | 7 => .array .int
  | 8 => .array .int
  | 9 => .int
  | 10 => .array .int
  | 11 => .array .int
  | 12 => .array .int
  | 13 => .array .int
  | 14 => .array .boolean
  | 15 => .int
  | 16 => .array .int
  | 17 => .int
  | 18 => .array .int
  | 19 => .array .int
  | 20 => .array .int
  | 21 => .array .boolean
  | 22 => .int
  | 23 => .array .int
  | 24 => .int
  | 25 => .int
  | 26 => .int
  | 27 => .array .int
  | 28 => .array .int
  | 29 => .array .int
  | 30 => .int
  | 31 => .int
  | 32 => .array .int
  | 33 => .array .int
  | 34 => .array .int
  | 35 => .array .boolean
  | 36 => .array .int
  | 37 => .array .int
  | _ => .array .int
abbrev wsX10 : List Cond := u_ws RX1 TX1 39
theorem nmX1 : ∀ a, a < 39 → ∀ b, b < 39 → a ≠ b → (TX1 a).2.1 ≠ (TX1 b).2.1 := by decide +kernel
theorem tyX1_ok : ∀ k, k < 39 → parseFieldDescriptor (TX1 k).2.2.1 = some (tyX1 k) := by decide +kernel
abbrev cX1_init : ByteArray := prog_21_method_1_code
def yX1_init : MethodName := ⟨RX1, "<init>", "()V"⟩
abbrev cX1_streets : ByteArray := prog_21_method_9_code
def yX1_streets : MethodName := ⟨RX1, "streets", "(I)I"⟩
abbrev cX1_in : ByteArray := prog_21_method_3_code
def yX1_in : MethodName := ⟨RX1, "in", "(JJJ)Z"⟩
abbrev cX1_way : ByteArray := prog_21_method_10_code
def yX1_way : MethodName := ⟨RX1, "way", "(IIZ)I"⟩
abbrev cX1_noStreet : ByteArray := prog_21_method_4_code
def yX1_noStreet : MethodName := ⟨RX1, "noStreet", "(I)Z"⟩
abbrev cX1_far : ByteArray := prog_21_method_12_code
def yX1_far : MethodName := ⟨RX1, "far", "(II)I"⟩
abbrev cX1_measure : ByteArray := prog_21_method_11_code
def yX1_measure : MethodName := ⟨RX1, "measure", "()V"⟩
abbrev cX1_man : ByteArray := prog_21_method_13_code
def yX1_man : MethodName := ⟨RX1, "man", "(IIIIIII)I"⟩
abbrev cX1_about : ByteArray := prog_21_method_14_code
def yX1_about : MethodName := ⟨RX1, "about", "(II)I"⟩
abbrev cX1_noMan : ByteArray := prog_21_method_5_code
def yX1_noMan : MethodName := ⟨RX1, "noMan", "(I)Z"⟩
abbrev cX1_shy : ByteArray := prog_21_method_15_code
def yX1_shy : MethodName := ⟨RX1, "shy", "(IZ)I"⟩
abbrev cX1_where : ByteArray := prog_21_method_21_code
def yX1_where : MethodName := ⟨RX1, "where", "(II)I"⟩
abbrev cX1_at : ByteArray := prog_21_method_24_code
def yX1_at : MethodName := ⟨RX1, "at", "(I)I"⟩
abbrev cX1_many : ByteArray := prog_21_method_22_code
def yX1_many : MethodName := ⟨RX1, "many", "(I)I"⟩
abbrev cX1_placeOf : ByteArray := prog_21_method_16_code
def yX1_placeOf : MethodName := ⟨RX1, "placeOf", "(I)I"⟩
abbrev cX1_tide : ByteArray := prog_21_method_25_code
def yX1_tide : MethodName := ⟨RX1, "tide", "()I"⟩
abbrev cX1_pass : ByteArray := prog_21_method_28_code
def yX1_pass : MethodName := ⟨RX1, "pass", "(I)I"⟩
abbrev cX1_goOn : ByteArray := prog_21_method_27_code
def yX1_goOn : MethodName := ⟨RX1, "goOn", "()V"⟩
abbrev cX1_isStreet : ByteArray := prog_21_method_18_code
def yX1_isStreet : MethodName := ⟨RX1, "isStreet", "(I)Z"⟩
abbrev cX1_heardAt : ByteArray := prog_21_method_26_code
def yX1_heardAt : MethodName := ⟨RX1, "heardAt", "(I)I"⟩
abbrev cX1_go : ByteArray := prog_21_method_17_code
def yX1_go : MethodName := ⟨RX1, "go", "(II)V"⟩
abbrev cX1_walk : ByteArray := prog_21_method_29_code
def yX1_walk : MethodName := ⟨RX1, "walk", "(II)I"⟩
abbrev cX1_run : ByteArray := prog_21_method_30_code
def yX1_run : MethodName := ⟨RX1, "run", "(I)I"⟩
abbrev cX1_paper : ByteArray := prog_21_method_33_code
def yX1_paper : MethodName := ⟨RX1, "paper", "(IIIIIIIII)I"⟩
abbrev cX1_badLook : ByteArray := prog_21_method_32_code
def yX1_badLook : MethodName := ⟨RX1, "badLook", "(I)Z"⟩
abbrev cX1_badSpan : ByteArray := prog_21_method_31_code
def yX1_badSpan : MethodName := ⟨RX1, "badSpan", "(III)Z"⟩
abbrev cX1_cover : ByteArray := prog_21_method_35_code
def yX1_cover : MethodName := ⟨RX1, "cover", "(III)I"⟩
abbrev cX1_noPaper : ByteArray := prog_21_method_7_code
def yX1_noPaper : MethodName := ⟨RX1, "noPaper", "(I)Z"⟩
abbrev cX1_noTide : ByteArray := prog_21_method_8_code
def yX1_noTide : MethodName := ⟨RX1, "noTide", "(I)Z"⟩
abbrev cX1_covers : ByteArray := prog_21_method_34_code
def yX1_covers : MethodName := ⟨RX1, "covers", "(III)I"⟩
abbrev cX1_same : ByteArray := prog_21_method_36_code
def yX1_same : MethodName := ⟨RX1, "same", "(II)I"⟩
abbrev cX1_shown : ByteArray := prog_21_method_37_code
def yX1_shown : MethodName := ⟨RX1, "shown", "(II)I"⟩
abbrev cX1_act : ByteArray := prog_21_method_38_code
def yX1_act : MethodName := ⟨RX1, "act", "(I)I"⟩
abbrev cX1_sign : ByteArray := prog_21_method_39_code
def yX1_sign : MethodName := ⟨RX1, "sign", "(II)I"⟩
abbrev cX1_fault : ByteArray := prog_21_method_42_code
def yX1_fault : MethodName := ⟨RX1, "fault", "(I)I"⟩
abbrev cX1_faultOf : ByteArray := prog_21_method_41_code
def yX1_faultOf : MethodName := ⟨RX1, "faultOf", "(I)I"⟩
abbrev cX1_hasDigits : ByteArray := prog_21_method_40_code
def yX1_hasDigits : MethodName := ⟨RX1, "hasDigits", "(I)Z"⟩
abbrev cX1_force : ByteArray := prog_21_method_44_code
def yX1_force : MethodName := ⟨RX1, "force", "(I)I"⟩
abbrev cX1_forceOf : ByteArray := prog_21_method_43_code
def yX1_forceOf : MethodName := ⟨RX1, "forceOf", "(I)I"⟩
abbrev cX1_may : ByteArray := prog_21_method_49_code
def yX1_may : MethodName := ⟨RX1, "may", "(II)I"⟩
abbrev cX1_asShown : ByteArray := prog_21_method_48_code
def yX1_asShown : MethodName := ⟨RX1, "asShown", "(II)Z"⟩
abbrev cX1_mayBe : ByteArray := prog_21_method_46_code
def yX1_mayBe : MethodName := ⟨RX1, "mayBe", "(IZ)Z"⟩
abbrev cX1_test : ByteArray := prog_21_method_45_code
def yX1_test : MethodName := ⟨RX1, "test", "(IIIZ)Z"⟩
abbrev cX1_isAboard : ByteArray := prog_21_method_19_code
def yX1_isAboard : MethodName := ⟨RX1, "isAboard", "(I)Z"⟩
abbrev cX1_mayTruly : ByteArray := prog_21_method_50_code
def yX1_mayTruly : MethodName := ⟨RX1, "mayTruly", "(I)I"⟩
abbrev cX1_truly : ByteArray := prog_21_method_47_code
def yX1_truly : MethodName := ⟨RX1, "truly", "(I)Z"⟩
abbrev cX1_take : ByteArray := prog_21_method_51_code
def yX1_take : MethodName := ⟨RX1, "take", "(II)I"⟩
abbrev cX1_isHere : ByteArray := prog_21_method_20_code
def yX1_isHere : MethodName := ⟨RX1, "isHere", "(I)Z"⟩
abbrev cX1_taking : ByteArray := prog_21_method_52_code
def yX1_taking : MethodName := ⟨RX1, "taking", "(II)I"⟩
abbrev cX1_wronged : ByteArray := prog_21_method_54_code
def yX1_wronged : MethodName := ⟨RX1, "wronged", "()I"⟩
abbrev cX1_isWronged : ByteArray := prog_21_method_53_code
def yX1_isWronged : MethodName := ⟨RX1, "isWronged", "(I)Z"⟩
abbrev cX1_wrongedMan : ByteArray := prog_21_method_55_code
def yX1_wrongedMan : MethodName := ⟨RX1, "wrongedMan", "(I)I"⟩
abbrev cX1_letGo : ByteArray := prog_21_method_56_code
def yX1_letGo : MethodName := ⟨RX1, "letGo", "(I)I"⟩
abbrev cX1_quiet : ByteArray := prog_21_method_57_code
def yX1_quiet : MethodName := ⟨RX1, "quiet", "()I"⟩
abbrev cX1_heard : ByteArray := prog_21_method_58_code
def yX1_heard : MethodName := ⟨RX1, "heard", "(I)I"⟩
abbrev cX1_tender : ByteArray := prog_21_method_59_code
def yX1_tender : MethodName := ⟨RX1, "tender", "(II)I"⟩
abbrev cX1_met : ByteArray := prog_21_method_63_code
def yX1_met : MethodName := ⟨RX1, "met", "(II)I"⟩
abbrev cX1_badGangs : ByteArray := prog_21_method_62_code
def yX1_badGangs : MethodName := ⟨RX1, "badGangs", "(II)Z"⟩
abbrev cX1_look : ByteArray := prog_21_method_61_code
def yX1_look : MethodName := ⟨RX1, "look", "(II)I"⟩
abbrev cX1_meet : ByteArray := prog_21_method_60_code
def yX1_meet : MethodName := ⟨RX1, "meet", "(III)I"⟩
abbrev cX1_laid : ByteArray := prog_21_method_64_code
def yX1_laid : MethodName := ⟨RX1, "laid", "(IIII)I"⟩
abbrev cX1_ship : ByteArray := prog_21_method_65_code
def yX1_ship : MethodName := ⟨RX1, "ship", "(IIII)I"⟩
abbrev cX1_of : ByteArray := prog_21_method_66_code
def yX1_of : MethodName := ⟨RX1, "of", "(II)I"⟩
abbrev cX1_noShip : ByteArray := prog_21_method_6_code
def yX1_noShip : MethodName := ⟨RX1, "noShip", "(I)Z"⟩
abbrev cX1_skilled : ByteArray := prog_21_method_23_code
def yX1_skilled : MethodName := ⟨RX1, "skilled", "(I)I"⟩
abbrev cX1_spare : ByteArray := prog_21_method_69_code
def yX1_spare : MethodName := ⟨RX1, "spare", "(II)I"⟩
abbrev cX1_badWeather : ByteArray := prog_21_method_68_code
def yX1_badWeather : MethodName := ⟨RX1, "badWeather", "(I)Z"⟩
abbrev cX1_spared : ByteArray := prog_21_method_67_code
def yX1_spared : MethodName := ⟨RX1, "spared", "(II)I"⟩
abbrev cX1_board : ByteArray := prog_21_method_70_code
def yX1_board : MethodName := ⟨RX1, "board", "(II)I"⟩
abbrev cX1_turn : ByteArray := prog_21_method_71_code
def yX1_turn : MethodName := ⟨RX1, "turn", "(II)I"⟩
abbrev cX1_notAshore : ByteArray := prog_21_method_72_code
def yX1_notAshore : MethodName := ⟨RX1, "notAshore", "(II)I"⟩
abbrev cX1_taken : ByteArray := prog_21_method_75_code
def yX1_taken : MethodName := ⟨RX1, "taken", "(II)I"⟩
abbrev cX1_mayGo : ByteArray := prog_21_method_73_code
def yX1_mayGo : MethodName := ⟨RX1, "mayGo", "(I)Z"⟩
abbrev cX1_fewest : ByteArray := prog_21_method_74_code
def yX1_fewest : MethodName := ⟨RX1, "fewest", "(II)I"⟩
abbrev cX1_fleet : ByteArray := prog_21_method_76_code
def yX1_fleet : MethodName := ⟨RX1, "fleet", "(I)I"⟩
abbrev cX1_sail : ByteArray := prog_21_method_77_code
def yX1_sail : MethodName := ⟨RX1, "sail", "(I)I"⟩
abbrev cX1_comeHome : ByteArray := prog_21_method_78_code
def yX1_comeHome : MethodName := ⟨RX1, "comeHome", "(I)I"⟩
abbrev cX1_ticket : ByteArray := prog_21_method_81_code
def yX1_ticket : MethodName := ⟨RX1, "ticket", "(III)I"⟩
abbrev cX1_sell : ByteArray := prog_21_method_83_code
def yX1_sell : MethodName := ⟨RX1, "sell", "(III)I"⟩
abbrev cX1_noTicket : ByteArray := prog_21_method_79_code
def yX1_noTicket : MethodName := ⟨RX1, "noTicket", "(I)Z"⟩
abbrev cX1_noHolder : ByteArray := prog_21_method_80_code
def yX1_noHolder : MethodName := ⟨RX1, "noHolder", "(I)Z"⟩
abbrev cX1_give : ByteArray := prog_21_method_82_code
def yX1_give : MethodName := ⟨RX1, "give", "(III)V"⟩
abbrev cX1_pay : ByteArray := prog_21_method_84_code
def yX1_pay : MethodName := ⟨RX1, "pay", "(II)I"⟩
abbrev cX1_ticketOf : ByteArray := prog_21_method_85_code
def yX1_ticketOf : MethodName := ⟨RX1, "ticketOf", "(II)I"⟩
abbrev cX1_purse : ByteArray := prog_21_method_86_code
def yX1_purse : MethodName := ⟨RX1, "purse", "(I)I"⟩
abbrev cX1_wages : ByteArray := prog_21_method_87_code
def yX1_wages : MethodName := ⟨RX1, "wages", "(IZ)I"⟩
abbrev cX1_count : ByteArray := prog_21_method_88_code
def yX1_count : MethodName := ⟨RX1, "count", "(I)I"⟩
theorem q65 : (Jvm.Cond.initialized "PressedMenModel") ∈ lw_all := lw_g (lw_at lw_m1 2 rfl) rfl
theorem q960 : (Jvm.Cond.instantiable "PressedMenModel" (39 : Nat)) ∈ lw_all := lw_g (lw_at lw_m4 177 rfl) rfl
theorem q962 : (Jvm.Cond.instanceMethod ({ cls := "PressedMenModel", name := "<init>", desc := "()V" } : Jvm.MethodName)) ∈ lw_all := lw_g (lw_at lw_m4 179 rfl) rfl
theorem q963 : (Jvm.Cond.code ({ cls := "PressedMenModel", name := "<init>", desc := "()V" } : Jvm.MethodName) prog_21_method_1_code (1 : Nat) (Option.none : Option Jvm.ClassFile.FieldType)) ∈ lw_all := lw_g (lw_at lw_m4 180 rfl) rfl
theorem q964 : (Jvm.Cond.methodLink "PressedMenModel" (1 : Nat) ({ cls := "java/lang/Object", name := "<init>", desc := "()V" } : Jvm.MethodName)) ∈ lw_all := lw_g (lw_at lw_m4 181 rfl) rfl
theorem q965 : (Jvm.Cond.constant "PressedMenModel" (27 : Nat) (36000 : Int32)) ∈ lw_all := lw_g (lw_at lw_m4 182 rfl) rfl
theorem q966 : (Jvm.Cond.fieldLink "PressedMenModel" (100 : Nat) "PressedMenModel" "thrown" "I") ∈ lw_all := lw_g (lw_at lw_m4 183 rfl) rfl
theorem q967 : (Jvm.Cond.fieldLink "PressedMenModel" (7 : Nat) "PressedMenModel" "streets" "I") ∈ lw_all := lw_g (lw_at lw_m4 184 rfl) rfl
theorem q968 : (Jvm.Cond.fieldLink "PressedMenModel" (13 : Nat) "PressedMenModel" "isWay" "[Z") ∈ lw_all := lw_g (lw_at lw_m4 185 rfl) rfl
theorem q969 : (Jvm.Cond.fieldLink "PressedMenModel" (17 : Nat) "PressedMenModel" "far" "[I") ∈ lw_all := lw_g (lw_at lw_m4 186 rfl) rfl
theorem q970 : (Jvm.Cond.fieldLink "PressedMenModel" (141 : Nat) "PressedMenModel" "tide" "I") ∈ lw_all := lw_g (lw_at lw_m4 187 rfl) rfl
theorem q971 : (Jvm.Cond.fieldLink "PressedMenModel" (107 : Nat) "PressedMenModel" "men" "I") ∈ lw_all := lw_g (lw_at lw_m4 188 rfl) rfl
theorem q972 : (Jvm.Cond.fieldLink "PressedMenModel" (21 : Nat) "PressedMenModel" "man" "[I") ∈ lw_all := lw_g (lw_at lw_m4 189 rfl) rfl
theorem q973 : (Jvm.Cond.fieldLink "PressedMenModel" (24 : Nat) "PressedMenModel" "sickSince" "[I") ∈ lw_all := lw_g (lw_at lw_m4 190 rfl) rfl
theorem q974 : (Jvm.Cond.fieldLink "PressedMenModel" (28 : Nat) "PressedMenModel" "place" "[I") ∈ lw_all := lw_g (lw_at lw_m4 191 rfl) rfl
theorem q975 : (Jvm.Cond.fieldLink "PressedMenModel" (110 : Nat) "PressedMenModel" "ships" "I") ∈ lw_all := lw_g (lw_at lw_m4 192 rfl) rfl
theorem q976 : (Jvm.Cond.fieldLink "PressedMenModel" (31 : Nat) "PressedMenModel" "kind" "[I") ∈ lw_all := lw_g (lw_at lw_m4 193 rfl) rfl
theorem q977 : (Jvm.Cond.fieldLink "PressedMenModel" (34 : Nat) "PressedMenModel" "need" "[I") ∈ lw_all := lw_g (lw_at lw_m4 194 rfl) rfl
theorem q978 : (Jvm.Cond.fieldLink "PressedMenModel" (37 : Nat) "PressedMenModel" "seamen" "[I") ∈ lw_all := lw_g (lw_at lw_m4 195 rfl) rfl
theorem q979 : (Jvm.Cond.fieldLink "PressedMenModel" (40 : Nat) "PressedMenModel" "least" "[I") ∈ lw_all := lw_g (lw_at lw_m4 196 rfl) rfl
theorem q980 : (Jvm.Cond.fieldLink "PressedMenModel" (43 : Nat) "PressedMenModel" "isOut" "[Z") ∈ lw_all := lw_g (lw_at lw_m4 197 rfl) rfl
theorem q981 : (Jvm.Cond.fieldLink "PressedMenModel" (113 : Nat) "PressedMenModel" "papers" "I") ∈ lw_all := lw_g (lw_at lw_m4 198 rfl) rfl
theorem q982 : (Jvm.Cond.fieldLink "PressedMenModel" (46 : Nat) "PressedMenModel" "paper" "[I") ∈ lw_all := lw_g (lw_at lw_m4 199 rfl) rfl
theorem q983 : (Jvm.Cond.fieldLink "PressedMenModel" (201 : Nat) "PressedMenModel" "acts" "I") ∈ lw_all := lw_g (lw_at lw_m4 200 rfl) rfl
theorem q984 : (Jvm.Cond.fieldLink "PressedMenModel" (49 : Nat) "PressedMenModel" "actTide" "[I") ∈ lw_all := lw_g (lw_at lw_m4 201 rfl) rfl
theorem q985 : (Jvm.Cond.fieldLink "PressedMenModel" (52 : Nat) "PressedMenModel" "signs" "[I") ∈ lw_all := lw_g (lw_at lw_m4 202 rfl) rfl
theorem q986 : (Jvm.Cond.fieldLink "PressedMenModel" (55 : Nat) "PressedMenModel" "sign" "[I") ∈ lw_all := lw_g (lw_at lw_m4 203 rfl) rfl
theorem q987 : (Jvm.Cond.fieldLink "PressedMenModel" (58 : Nat) "PressedMenModel" "stack" "[Z") ∈ lw_all := lw_g (lw_at lw_m4 204 rfl) rfl
theorem q988 : (Jvm.Cond.fieldLink "PressedMenModel" (168 : Nat) "PressedMenModel" "takings" "I") ∈ lw_all := lw_g (lw_at lw_m4 205 rfl) rfl
theorem q989 : (Jvm.Cond.fieldLink "PressedMenModel" (61 : Nat) "PressedMenModel" "taking" "[I") ∈ lw_all := lw_g (lw_at lw_m4 206 rfl) rfl
theorem q990 : (Jvm.Cond.fieldLink "PressedMenModel" (165 : Nat) "PressedMenModel" "quietFrom" "I") ∈ lw_all := lw_g (lw_at lw_m4 207 rfl) rfl
theorem q991 : (Jvm.Cond.fieldLink "PressedMenModel" (64 : Nat) "PressedMenModel" "room" "I") ∈ lw_all := lw_g (lw_at lw_m4 208 rfl) rfl
theorem q992 : (Jvm.Cond.fieldLink "PressedMenModel" (67 : Nat) "PressedMenModel" "rate" "I") ∈ lw_all := lw_g (lw_at lw_m4 209 rfl) rfl
theorem q993 : (Jvm.Cond.fieldLink "PressedMenModel" (70 : Nat) "PressedMenModel" "there" "[I") ∈ lw_all := lw_g (lw_at lw_m4 210 rfl) rfl
theorem q994 : (Jvm.Cond.fieldLink "PressedMenModel" (73 : Nat) "PressedMenModel" "walked" "[I") ∈ lw_all := lw_g (lw_at lw_m4 211 rfl) rfl
theorem q995 : (Jvm.Cond.fieldLink "PressedMenModel" (76 : Nat) "PressedMenModel" "metAt" "[I") ∈ lw_all := lw_g (lw_at lw_m4 212 rfl) rfl
theorem q996 : (Jvm.Cond.fieldLink "PressedMenModel" (247 : Nat) "PressedMenModel" "bestCode" "I") ∈ lw_all := lw_g (lw_at lw_m4 213 rfl) rfl
theorem q997 : (Jvm.Cond.fieldLink "PressedMenModel" (277 : Nat) "PressedMenModel" "tickets" "I") ∈ lw_all := lw_g (lw_at lw_m4 214 rfl) rfl
theorem q998 : (Jvm.Cond.fieldLink "PressedMenModel" (79 : Nat) "PressedMenModel" "ticketMan" "[I") ∈ lw_all := lw_g (lw_at lw_m4 215 rfl) rfl
theorem q999 : (Jvm.Cond.fieldLink "PressedMenModel" (82 : Nat) "PressedMenModel" "worth" "[I") ∈ lw_all := lw_g (lw_at lw_m4 216 rfl) rfl
theorem q1000 : (Jvm.Cond.fieldLink "PressedMenModel" (85 : Nat) "PressedMenModel" "holder" "[I") ∈ lw_all := lw_g (lw_at lw_m4 217 rfl) rfl
theorem q1001 : (Jvm.Cond.fieldLink "PressedMenModel" (88 : Nat) "PressedMenModel" "isPaid" "[Z") ∈ lw_all := lw_g (lw_at lw_m4 218 rfl) rfl
theorem q1002 : (Jvm.Cond.fieldLink "PressedMenModel" (91 : Nat) "PressedMenModel" "falsely" "[I") ∈ lw_all := lw_g (lw_at lw_m4 219 rfl) rfl
theorem q1003 : (Jvm.Cond.fieldLink "PressedMenModel" (94 : Nat) "PressedMenModel" "purse" "[I") ∈ lw_all := lw_g (lw_at lw_m4 220 rfl) rfl
theorem q1004 : (Jvm.Cond.fieldLink "PressedMenModel" (97 : Nat) "PressedMenModel" "got" "[I") ∈ lw_all := lw_g (lw_at lw_m4 221 rfl) rfl
theorem q1005 : (Jvm.Cond.lays "PressedMenModel" "PressedMenModel" "thrown" "I") ∈ lw_all := lw_g (lw_at lw_m4 222 rfl) rfl
theorem q1006 : (Jvm.Cond.soleField "PressedMenModel" "thrown") ∈ lw_all := lw_g (lw_at lw_m4 223 rfl) rfl
theorem q1007 : (Jvm.Cond.lays "PressedMenModel" "PressedMenModel" "streets" "I") ∈ lw_all := lw_g (lw_at lw_m4 224 rfl) rfl
theorem q1008 : (Jvm.Cond.soleField "PressedMenModel" "streets") ∈ lw_all := lw_g (lw_at lw_m4 225 rfl) rfl
theorem q1009 : (Jvm.Cond.laysFinal "PressedMenModel" "PressedMenModel" "isWay" "[Z") ∈ lw_all := lw_g (lw_at lw_m4 226 rfl) rfl
theorem q1010 : (Jvm.Cond.soleField "PressedMenModel" "isWay") ∈ lw_all := lw_g (lw_at lw_m4 227 rfl) rfl
theorem q1011 : (Jvm.Cond.laysFinal "PressedMenModel" "PressedMenModel" "far" "[I") ∈ lw_all := lw_g (lw_at lw_m4 228 rfl) rfl
theorem q1012 : (Jvm.Cond.soleField "PressedMenModel" "far") ∈ lw_all := lw_g (lw_at lw_m4 229 rfl) rfl
theorem q1013 : (Jvm.Cond.lays "PressedMenModel" "PressedMenModel" "tide" "I") ∈ lw_all := lw_g (lw_at lw_m4 230 rfl) rfl
theorem q1014 : (Jvm.Cond.soleField "PressedMenModel" "tide") ∈ lw_all := lw_g (lw_at lw_m4 231 rfl) rfl
theorem q1015 : (Jvm.Cond.lays "PressedMenModel" "PressedMenModel" "men" "I") ∈ lw_all := lw_g (lw_at lw_m4 232 rfl) rfl
theorem q1016 : (Jvm.Cond.soleField "PressedMenModel" "men") ∈ lw_all := lw_g (lw_at lw_m4 233 rfl) rfl
theorem q1017 : (Jvm.Cond.laysFinal "PressedMenModel" "PressedMenModel" "man" "[I") ∈ lw_all := lw_g (lw_at lw_m4 234 rfl) rfl
theorem q1018 : (Jvm.Cond.soleField "PressedMenModel" "man") ∈ lw_all := lw_g (lw_at lw_m4 235 rfl) rfl
theorem q1019 : (Jvm.Cond.laysFinal "PressedMenModel" "PressedMenModel" "sickSince" "[I") ∈ lw_all := lw_g (lw_at lw_m4 236 rfl) rfl
theorem q1020 : (Jvm.Cond.soleField "PressedMenModel" "sickSince") ∈ lw_all := lw_g (lw_at lw_m4 237 rfl) rfl
theorem q1021 : (Jvm.Cond.laysFinal "PressedMenModel" "PressedMenModel" "place" "[I") ∈ lw_all := lw_g (lw_at lw_m4 238 rfl) rfl
theorem q1022 : (Jvm.Cond.soleField "PressedMenModel" "place") ∈ lw_all := lw_g (lw_at lw_m4 239 rfl) rfl
theorem q1023 : (Jvm.Cond.lays "PressedMenModel" "PressedMenModel" "ships" "I") ∈ lw_all := lw_g (lw_at lw_m5 0 rfl) rfl
theorem q1024 : (Jvm.Cond.soleField "PressedMenModel" "ships") ∈ lw_all := lw_g (lw_at lw_m5 1 rfl) rfl
theorem q1025 : (Jvm.Cond.laysFinal "PressedMenModel" "PressedMenModel" "kind" "[I") ∈ lw_all := lw_g (lw_at lw_m5 2 rfl) rfl
theorem q1026 : (Jvm.Cond.soleField "PressedMenModel" "kind") ∈ lw_all := lw_g (lw_at lw_m5 3 rfl) rfl
theorem q1027 : (Jvm.Cond.laysFinal "PressedMenModel" "PressedMenModel" "need" "[I") ∈ lw_all := lw_g (lw_at lw_m5 4 rfl) rfl
theorem q1028 : (Jvm.Cond.soleField "PressedMenModel" "need") ∈ lw_all := lw_g (lw_at lw_m5 5 rfl) rfl
theorem q1029 : (Jvm.Cond.laysFinal "PressedMenModel" "PressedMenModel" "seamen" "[I") ∈ lw_all := lw_g (lw_at lw_m5 6 rfl) rfl
theorem q1030 : (Jvm.Cond.soleField "PressedMenModel" "seamen") ∈ lw_all := lw_g (lw_at lw_m5 7 rfl) rfl
theorem q1031 : (Jvm.Cond.laysFinal "PressedMenModel" "PressedMenModel" "least" "[I") ∈ lw_all := lw_g (lw_at lw_m5 8 rfl) rfl
theorem q1032 : (Jvm.Cond.soleField "PressedMenModel" "least") ∈ lw_all := lw_g (lw_at lw_m5 9 rfl) rfl
theorem q1033 : (Jvm.Cond.laysFinal "PressedMenModel" "PressedMenModel" "isOut" "[Z") ∈ lw_all := lw_g (lw_at lw_m5 10 rfl) rfl
theorem q1034 : (Jvm.Cond.soleField "PressedMenModel" "isOut") ∈ lw_all := lw_g (lw_at lw_m5 11 rfl) rfl
theorem q1035 : (Jvm.Cond.lays "PressedMenModel" "PressedMenModel" "papers" "I") ∈ lw_all := lw_g (lw_at lw_m5 12 rfl) rfl
theorem q1036 : (Jvm.Cond.soleField "PressedMenModel" "papers") ∈ lw_all := lw_g (lw_at lw_m5 13 rfl) rfl
theorem q1037 : (Jvm.Cond.laysFinal "PressedMenModel" "PressedMenModel" "paper" "[I") ∈ lw_all := lw_g (lw_at lw_m5 14 rfl) rfl
theorem q1038 : (Jvm.Cond.soleField "PressedMenModel" "paper") ∈ lw_all := lw_g (lw_at lw_m5 15 rfl) rfl
theorem q1039 : (Jvm.Cond.lays "PressedMenModel" "PressedMenModel" "acts" "I") ∈ lw_all := lw_g (lw_at lw_m5 16 rfl) rfl
theorem q1040 : (Jvm.Cond.soleField "PressedMenModel" "acts") ∈ lw_all := lw_g (lw_at lw_m5 17 rfl) rfl
theorem q1041 : (Jvm.Cond.laysFinal "PressedMenModel" "PressedMenModel" "actTide" "[I") ∈ lw_all := lw_g (lw_at lw_m5 18 rfl) rfl
theorem q1042 : (Jvm.Cond.soleField "PressedMenModel" "actTide") ∈ lw_all := lw_g (lw_at lw_m5 19 rfl) rfl
theorem q1043 : (Jvm.Cond.laysFinal "PressedMenModel" "PressedMenModel" "signs" "[I") ∈ lw_all := lw_g (lw_at lw_m5 20 rfl) rfl
theorem q1044 : (Jvm.Cond.soleField "PressedMenModel" "signs") ∈ lw_all := lw_g (lw_at lw_m5 21 rfl) rfl
theorem q1045 : (Jvm.Cond.laysFinal "PressedMenModel" "PressedMenModel" "sign" "[I") ∈ lw_all := lw_g (lw_at lw_m5 22 rfl) rfl
theorem q1046 : (Jvm.Cond.soleField "PressedMenModel" "sign") ∈ lw_all := lw_g (lw_at lw_m5 23 rfl) rfl
theorem q1047 : (Jvm.Cond.laysFinal "PressedMenModel" "PressedMenModel" "stack" "[Z") ∈ lw_all := lw_g (lw_at lw_m5 24 rfl) rfl
theorem q1048 : (Jvm.Cond.soleField "PressedMenModel" "stack") ∈ lw_all := lw_g (lw_at lw_m5 25 rfl) rfl
theorem q1049 : (Jvm.Cond.lays "PressedMenModel" "PressedMenModel" "takings" "I") ∈ lw_all := lw_g (lw_at lw_m5 26 rfl) rfl
theorem q1050 : (Jvm.Cond.soleField "PressedMenModel" "takings") ∈ lw_all := lw_g (lw_at lw_m5 27 rfl) rfl
theorem q1051 : (Jvm.Cond.laysFinal "PressedMenModel" "PressedMenModel" "taking" "[I") ∈ lw_all := lw_g (lw_at lw_m5 28 rfl) rfl
theorem q1052 : (Jvm.Cond.soleField "PressedMenModel" "taking") ∈ lw_all := lw_g (lw_at lw_m5 29 rfl) rfl
theorem q1053 : (Jvm.Cond.lays "PressedMenModel" "PressedMenModel" "quietFrom" "I") ∈ lw_all := lw_g (lw_at lw_m5 30 rfl) rfl
theorem q1054 : (Jvm.Cond.soleField "PressedMenModel" "quietFrom") ∈ lw_all := lw_g (lw_at lw_m5 31 rfl) rfl
theorem q1055 : (Jvm.Cond.lays "PressedMenModel" "PressedMenModel" "room" "I") ∈ lw_all := lw_g (lw_at lw_m5 32 rfl) rfl
theorem q1056 : (Jvm.Cond.soleField "PressedMenModel" "room") ∈ lw_all := lw_g (lw_at lw_m5 33 rfl) rfl
theorem q1057 : (Jvm.Cond.lays "PressedMenModel" "PressedMenModel" "rate" "I") ∈ lw_all := lw_g (lw_at lw_m5 34 rfl) rfl
theorem q1058 : (Jvm.Cond.soleField "PressedMenModel" "rate") ∈ lw_all := lw_g (lw_at lw_m5 35 rfl) rfl
theorem q1059 : (Jvm.Cond.laysFinal "PressedMenModel" "PressedMenModel" "there" "[I") ∈ lw_all := lw_g (lw_at lw_m5 36 rfl) rfl
theorem q1060 : (Jvm.Cond.soleField "PressedMenModel" "there") ∈ lw_all := lw_g (lw_at lw_m5 37 rfl) rfl
theorem q1061 : (Jvm.Cond.laysFinal "PressedMenModel" "PressedMenModel" "walked" "[I") ∈ lw_all := lw_g (lw_at lw_m5 38 rfl) rfl
theorem q1062 : (Jvm.Cond.soleField "PressedMenModel" "walked") ∈ lw_all := lw_g (lw_at lw_m5 39 rfl) rfl
theorem q1063 : (Jvm.Cond.laysFinal "PressedMenModel" "PressedMenModel" "metAt" "[I") ∈ lw_all := lw_g (lw_at lw_m5 40 rfl) rfl
theorem q1064 : (Jvm.Cond.soleField "PressedMenModel" "metAt") ∈ lw_all := lw_g (lw_at lw_m5 41 rfl) rfl
theorem q1065 : (Jvm.Cond.lays "PressedMenModel" "PressedMenModel" "bestCode" "I") ∈ lw_all := lw_g (lw_at lw_m5 42 rfl) rfl
theorem q1066 : (Jvm.Cond.soleField "PressedMenModel" "bestCode") ∈ lw_all := lw_g (lw_at lw_m5 43 rfl) rfl
theorem q1067 : (Jvm.Cond.lays "PressedMenModel" "PressedMenModel" "tickets" "I") ∈ lw_all := lw_g (lw_at lw_m5 44 rfl) rfl
theorem q1068 : (Jvm.Cond.soleField "PressedMenModel" "tickets") ∈ lw_all := lw_g (lw_at lw_m5 45 rfl) rfl
theorem q1069 : (Jvm.Cond.laysFinal "PressedMenModel" "PressedMenModel" "ticketMan" "[I") ∈ lw_all := lw_g (lw_at lw_m5 46 rfl) rfl
theorem q1070 : (Jvm.Cond.soleField "PressedMenModel" "ticketMan") ∈ lw_all := lw_g (lw_at lw_m5 47 rfl) rfl
theorem q1071 : (Jvm.Cond.laysFinal "PressedMenModel" "PressedMenModel" "worth" "[I") ∈ lw_all := lw_g (lw_at lw_m5 48 rfl) rfl
theorem q1072 : (Jvm.Cond.soleField "PressedMenModel" "worth") ∈ lw_all := lw_g (lw_at lw_m5 49 rfl) rfl
theorem q1073 : (Jvm.Cond.laysFinal "PressedMenModel" "PressedMenModel" "holder" "[I") ∈ lw_all := lw_g (lw_at lw_m5 50 rfl) rfl
theorem q1074 : (Jvm.Cond.soleField "PressedMenModel" "holder") ∈ lw_all := lw_g (lw_at lw_m5 51 rfl) rfl
theorem q1075 : (Jvm.Cond.laysFinal "PressedMenModel" "PressedMenModel" "isPaid" "[Z") ∈ lw_all := lw_g (lw_at lw_m5 52 rfl) rfl
theorem q1076 : (Jvm.Cond.soleField "PressedMenModel" "isPaid") ∈ lw_all := lw_g (lw_at lw_m5 53 rfl) rfl
theorem q1077 : (Jvm.Cond.laysFinal "PressedMenModel" "PressedMenModel" "falsely" "[I") ∈ lw_all := lw_g (lw_at lw_m5 54 rfl) rfl
theorem q1078 : (Jvm.Cond.soleField "PressedMenModel" "falsely") ∈ lw_all := lw_g (lw_at lw_m5 55 rfl) rfl
theorem q1079 : (Jvm.Cond.laysFinal "PressedMenModel" "PressedMenModel" "purse" "[I") ∈ lw_all := lw_g (lw_at lw_m5 56 rfl) rfl
theorem q1080 : (Jvm.Cond.soleField "PressedMenModel" "purse") ∈ lw_all := lw_g (lw_at lw_m5 57 rfl) rfl
theorem q1081 : (Jvm.Cond.laysFinal "PressedMenModel" "PressedMenModel" "got" "[I") ∈ lw_all := lw_g (lw_at lw_m5 58 rfl) rfl
theorem q1082 : (Jvm.Cond.soleField "PressedMenModel" "got") ∈ lw_all := lw_g (lw_at lw_m5 59 rfl) rfl
theorem q1083 : (Jvm.Cond.superclass "PressedMenModel" "java/lang/Object") ∈ lw_all := lw_g (lw_at lw_m5 60 rfl) rfl
theorem q1085 : (Jvm.Cond.instanceMethod ({ cls := "PressedMenModel", name := "streets", desc := "(I)I" } : Jvm.MethodName)) ∈ lw_all := lw_g (lw_at lw_m5 62 rfl) rfl
theorem q1086 : (Jvm.Cond.selects "PressedMenModel" ({ cls := "PressedMenModel", name := "streets", desc := "(I)I" } : Jvm.MethodName) ({ cls := "PressedMenModel", name := "streets", desc := "(I)I" } : Jvm.MethodName)) ∈ lw_all := lw_g (lw_at lw_m5 63 rfl) rfl
theorem q1087 : (Jvm.Cond.code ({ cls := "PressedMenModel", name := "streets", desc := "(I)I" } : Jvm.MethodName) prog_21_method_9_code (5 : Nat) (Option.some Jvm.ClassFile.FieldType.int)) ∈ lw_all := lw_g (lw_at lw_m5 64 rfl) rfl
theorem q1088 : (Jvm.Cond.constantLong "PressedMenModel" (118 : Nat) (8 : Int64)) ∈ lw_all := lw_g (lw_at lw_m5 65 rfl) rfl
theorem q1089 : (Jvm.Cond.methodLink "PressedMenModel" (103 : Nat) ({ cls := "PressedMenModel", name := "in", desc := "(JJJ)Z" } : Jvm.MethodName)) ∈ lw_all := lw_g (lw_at lw_m5 66 rfl) rfl
theorem q1090 : (Jvm.Cond.static ({ cls := "PressedMenModel", name := "in", desc := "(JJJ)Z" } : Jvm.MethodName)) ∈ lw_all := lw_g (lw_at lw_m5 67 rfl) rfl
theorem q1091 : (Jvm.Cond.code ({ cls := "PressedMenModel", name := "in", desc := "(JJJ)Z" } : Jvm.MethodName) prog_21_method_3_code (6 : Nat) (Option.some Jvm.ClassFile.FieldType.boolean)) ∈ lw_all := lw_g (lw_at lw_m5 68 rfl) rfl
theorem q1093 : (Jvm.Cond.instanceMethod ({ cls := "PressedMenModel", name := "way", desc := "(IIZ)I" } : Jvm.MethodName)) ∈ lw_all := lw_g (lw_at lw_m5 70 rfl) rfl
theorem q1094 : (Jvm.Cond.selects "PressedMenModel" ({ cls := "PressedMenModel", name := "way", desc := "(IIZ)I" } : Jvm.MethodName) ({ cls := "PressedMenModel", name := "way", desc := "(IIZ)I" } : Jvm.MethodName)) ∈ lw_all := lw_g (lw_at lw_m5 71 rfl) rfl
theorem q1095 : (Jvm.Cond.code ({ cls := "PressedMenModel", name := "way", desc := "(IIZ)I" } : Jvm.MethodName) prog_21_method_10_code (5 : Nat) (Option.some Jvm.ClassFile.FieldType.int)) ∈ lw_all := lw_g (lw_at lw_m5 72 rfl) rfl
theorem q1096 : (Jvm.Cond.methodLink "PressedMenModel" (120 : Nat) ({ cls := "PressedMenModel", name := "noStreet", desc := "(I)Z" } : Jvm.MethodName)) ∈ lw_all := lw_g (lw_at lw_m5 73 rfl) rfl
theorem q1097 : (Jvm.Cond.privateMethod ({ cls := "PressedMenModel", name := "noStreet", desc := "(I)Z" } : Jvm.MethodName)) ∈ lw_tbl := lw_at lw_m5 74 rfl
theorem q1098 : (Jvm.Cond.instanceMethod ({ cls := "PressedMenModel", name := "noStreet", desc := "(I)Z" } : Jvm.MethodName)) ∈ lw_all := lw_g (lw_at lw_m5 75 rfl) rfl
theorem q1099 : (Jvm.Cond.code ({ cls := "PressedMenModel", name := "noStreet", desc := "(I)Z" } : Jvm.MethodName) prog_21_method_4_code (2 : Nat) (Option.some Jvm.ClassFile.FieldType.boolean)) ∈ lw_all := lw_g (lw_at lw_m5 76 rfl) rfl
theorem q1101 : (Jvm.Cond.instanceMethod ({ cls := "PressedMenModel", name := "far", desc := "(II)I" } : Jvm.MethodName)) ∈ lw_all := lw_g (lw_at lw_m5 78 rfl) rfl
theorem q1102 : (Jvm.Cond.selects "PressedMenModel" ({ cls := "PressedMenModel", name := "far", desc := "(II)I" } : Jvm.MethodName) ({ cls := "PressedMenModel", name := "far", desc := "(II)I" } : Jvm.MethodName)) ∈ lw_all := lw_g (lw_at lw_m5 79 rfl) rfl
theorem q1103 : (Jvm.Cond.code ({ cls := "PressedMenModel", name := "far", desc := "(II)I" } : Jvm.MethodName) prog_21_method_12_code (3 : Nat) (Option.some Jvm.ClassFile.FieldType.int)) ∈ lw_all := lw_g (lw_at lw_m5 80 rfl) rfl
theorem q1104 : (Jvm.Cond.methodLink "PressedMenModel" (124 : Nat) ({ cls := "PressedMenModel", name := "measure", desc := "()V" } : Jvm.MethodName)) ∈ lw_all := lw_g (lw_at lw_m5 81 rfl) rfl
theorem q1105 : (Jvm.Cond.privateMethod ({ cls := "PressedMenModel", name := "measure", desc := "()V" } : Jvm.MethodName)) ∈ lw_tbl := lw_at lw_m5 82 rfl
theorem q1106 : (Jvm.Cond.instanceMethod ({ cls := "PressedMenModel", name := "measure", desc := "()V" } : Jvm.MethodName)) ∈ lw_all := lw_g (lw_at lw_m5 83 rfl) rfl
theorem q1107 : (Jvm.Cond.code ({ cls := "PressedMenModel", name := "measure", desc := "()V" } : Jvm.MethodName) prog_21_method_11_code (5 : Nat) (Option.none : Option Jvm.ClassFile.FieldType)) ∈ lw_all := lw_g (lw_at lw_m5 84 rfl) rfl
theorem q1109 : (Jvm.Cond.instanceMethod ({ cls := "PressedMenModel", name := "man", desc := "(IIIIIII)I" } : Jvm.MethodName)) ∈ lw_all := lw_g (lw_at lw_m5 86 rfl) rfl
theorem q1110 : (Jvm.Cond.selects "PressedMenModel" ({ cls := "PressedMenModel", name := "man", desc := "(IIIIIII)I" } : Jvm.MethodName) ({ cls := "PressedMenModel", name := "man", desc := "(IIIIIII)I" } : Jvm.MethodName)) ∈ lw_all := lw_g (lw_at lw_m5 87 rfl) rfl
theorem q1111 : (Jvm.Cond.code ({ cls := "PressedMenModel", name := "man", desc := "(IIIIIII)I" } : Jvm.MethodName) prog_21_method_13_code (10 : Nat) (Option.some Jvm.ClassFile.FieldType.int)) ∈ lw_all := lw_g (lw_at lw_m5 88 rfl) rfl
theorem q1112 : (Jvm.Cond.constantLong "PressedMenModel" (127 : Nat) (10 : Int64)) ∈ lw_all := lw_g (lw_at lw_m5 89 rfl) rfl
theorem q1113 : (Jvm.Cond.constantLong "PressedMenModel" (129 : Nat) (60 : Int64)) ∈ lw_all := lw_g (lw_at lw_m5 90 rfl) rfl
theorem q1114 : (Jvm.Cond.constantLong "PressedMenModel" (131 : Nat) (3 : Int64)) ∈ lw_all := lw_g (lw_at lw_m5 91 rfl) rfl
theorem q1115 : (Jvm.Cond.constantLong "PressedMenModel" (133 : Nat) (50 : Int64)) ∈ lw_all := lw_g (lw_at lw_m5 92 rfl) rfl
theorem q1116 : (Jvm.Cond.constantLong "PressedMenModel" (135 : Nat) (80 : Int64)) ∈ lw_all := lw_g (lw_at lw_m5 93 rfl) rfl
theorem q1117 : (Jvm.Cond.constantLong "PressedMenModel" (137 : Nat) (5 : Int64)) ∈ lw_all := lw_g (lw_at lw_m5 94 rfl) rfl
theorem q1118 : (Jvm.Cond.constantLong "PressedMenModel" (139 : Nat) (40 : Int64)) ∈ lw_all := lw_g (lw_at lw_m5 95 rfl) rfl
theorem q1120 : (Jvm.Cond.instanceMethod ({ cls := "PressedMenModel", name := "about", desc := "(II)I" } : Jvm.MethodName)) ∈ lw_all := lw_g (lw_at lw_m5 97 rfl) rfl
theorem q1121 : (Jvm.Cond.selects "PressedMenModel" ({ cls := "PressedMenModel", name := "about", desc := "(II)I" } : Jvm.MethodName) ({ cls := "PressedMenModel", name := "about", desc := "(II)I" } : Jvm.MethodName)) ∈ lw_all := lw_g (lw_at lw_m5 98 rfl) rfl
theorem q1122 : (Jvm.Cond.code ({ cls := "PressedMenModel", name := "about", desc := "(II)I" } : Jvm.MethodName) prog_21_method_14_code (3 : Nat) (Option.some Jvm.ClassFile.FieldType.int)) ∈ lw_all := lw_g (lw_at lw_m5 99 rfl) rfl
theorem q1123 : (Jvm.Cond.methodLink "PressedMenModel" (144 : Nat) ({ cls := "PressedMenModel", name := "noMan", desc := "(I)Z" } : Jvm.MethodName)) ∈ lw_all := lw_g (lw_at lw_m5 100 rfl) rfl
theorem q1124 : (Jvm.Cond.privateMethod ({ cls := "PressedMenModel", name := "noMan", desc := "(I)Z" } : Jvm.MethodName)) ∈ lw_tbl := lw_at lw_m5 101 rfl
theorem q1125 : (Jvm.Cond.instanceMethod ({ cls := "PressedMenModel", name := "noMan", desc := "(I)Z" } : Jvm.MethodName)) ∈ lw_all := lw_g (lw_at lw_m5 102 rfl) rfl
theorem q1126 : (Jvm.Cond.code ({ cls := "PressedMenModel", name := "noMan", desc := "(I)Z" } : Jvm.MethodName) prog_21_method_5_code (2 : Nat) (Option.some Jvm.ClassFile.FieldType.boolean)) ∈ lw_all := lw_g (lw_at lw_m5 103 rfl) rfl
theorem q1127 : (Jvm.Cond.constantLong "PressedMenModel" (147 : Nat) (7 : Int64)) ∈ lw_all := lw_g (lw_at lw_m5 104 rfl) rfl
theorem q1129 : (Jvm.Cond.instanceMethod ({ cls := "PressedMenModel", name := "shy", desc := "(IZ)I" } : Jvm.MethodName)) ∈ lw_all := lw_g (lw_at lw_m5 106 rfl) rfl
theorem q1130 : (Jvm.Cond.selects "PressedMenModel" ({ cls := "PressedMenModel", name := "shy", desc := "(IZ)I" } : Jvm.MethodName) ({ cls := "PressedMenModel", name := "shy", desc := "(IZ)I" } : Jvm.MethodName)) ∈ lw_all := lw_g (lw_at lw_m5 107 rfl) rfl
theorem q1131 : (Jvm.Cond.code ({ cls := "PressedMenModel", name := "shy", desc := "(IZ)I" } : Jvm.MethodName) prog_21_method_15_code (4 : Nat) (Option.some Jvm.ClassFile.FieldType.int)) ∈ lw_all := lw_g (lw_at lw_m5 108 rfl) rfl
theorem q1133 : (Jvm.Cond.instanceMethod ({ cls := "PressedMenModel", name := "where", desc := "(II)I" } : Jvm.MethodName)) ∈ lw_all := lw_g (lw_at lw_m5 110 rfl) rfl
theorem q1134 : (Jvm.Cond.selects "PressedMenModel" ({ cls := "PressedMenModel", name := "where", desc := "(II)I" } : Jvm.MethodName) ({ cls := "PressedMenModel", name := "where", desc := "(II)I" } : Jvm.MethodName)) ∈ lw_all := lw_g (lw_at lw_m5 111 rfl) rfl
theorem q1135 : (Jvm.Cond.code ({ cls := "PressedMenModel", name := "where", desc := "(II)I" } : Jvm.MethodName) prog_21_method_21_code (3 : Nat) (Option.some Jvm.ClassFile.FieldType.int)) ∈ lw_all := lw_g (lw_at lw_m5 112 rfl) rfl
theorem q1137 : (Jvm.Cond.instanceMethod ({ cls := "PressedMenModel", name := "at", desc := "(I)I" } : Jvm.MethodName)) ∈ lw_all := lw_g (lw_at lw_m5 114 rfl) rfl
theorem q1138 : (Jvm.Cond.selects "PressedMenModel" ({ cls := "PressedMenModel", name := "at", desc := "(I)I" } : Jvm.MethodName) ({ cls := "PressedMenModel", name := "at", desc := "(I)I" } : Jvm.MethodName)) ∈ lw_all := lw_g (lw_at lw_m5 115 rfl) rfl
theorem q1139 : (Jvm.Cond.code ({ cls := "PressedMenModel", name := "at", desc := "(I)I" } : Jvm.MethodName) prog_21_method_24_code (2 : Nat) (Option.some Jvm.ClassFile.FieldType.int)) ∈ lw_all := lw_g (lw_at lw_m5 116 rfl) rfl
theorem q1140 : (Jvm.Cond.constantLong "PressedMenModel" (158 : Nat) (20 : Int64)) ∈ lw_all := lw_g (lw_at lw_m5 117 rfl) rfl
theorem q1141 : (Jvm.Cond.constantLong "PressedMenModel" (160 : Nat) (23 : Int64)) ∈ lw_all := lw_g (lw_at lw_m5 118 rfl) rfl
theorem q1142 : (Jvm.Cond.methodLink "PressedMenModel" (162 : Nat) ({ cls := "PressedMenModel", name := "many", desc := "(I)I" } : Jvm.MethodName)) ∈ lw_all := lw_g (lw_at lw_m5 119 rfl) rfl
theorem q1143 : (Jvm.Cond.privateMethod ({ cls := "PressedMenModel", name := "many", desc := "(I)I" } : Jvm.MethodName)) ∈ lw_tbl := lw_at lw_m5 120 rfl
theorem q1144 : (Jvm.Cond.instanceMethod ({ cls := "PressedMenModel", name := "many", desc := "(I)I" } : Jvm.MethodName)) ∈ lw_all := lw_g (lw_at lw_m5 121 rfl) rfl
theorem q1145 : (Jvm.Cond.code ({ cls := "PressedMenModel", name := "many", desc := "(I)I" } : Jvm.MethodName) prog_21_method_22_code (4 : Nat) (Option.some Jvm.ClassFile.FieldType.int)) ∈ lw_all := lw_g (lw_at lw_m5 122 rfl) rfl
theorem q1146 : (Jvm.Cond.methodLink "PressedMenModel" (154 : Nat) ({ cls := "PressedMenModel", name := "placeOf", desc := "(I)I" } : Jvm.MethodName)) ∈ lw_all := lw_g (lw_at lw_m5 123 rfl) rfl
theorem q1147 : (Jvm.Cond.privateMethod ({ cls := "PressedMenModel", name := "placeOf", desc := "(I)I" } : Jvm.MethodName)) ∈ lw_tbl := lw_at lw_m5 124 rfl
theorem q1148 : (Jvm.Cond.instanceMethod ({ cls := "PressedMenModel", name := "placeOf", desc := "(I)I" } : Jvm.MethodName)) ∈ lw_all := lw_g (lw_at lw_m5 125 rfl) rfl
theorem q1149 : (Jvm.Cond.code ({ cls := "PressedMenModel", name := "placeOf", desc := "(I)I" } : Jvm.MethodName) prog_21_method_16_code (2 : Nat) (Option.some Jvm.ClassFile.FieldType.int)) ∈ lw_all := lw_g (lw_at lw_m5 126 rfl) rfl
theorem q1151 : (Jvm.Cond.instanceMethod ({ cls := "PressedMenModel", name := "tide", desc := "()I" } : Jvm.MethodName)) ∈ lw_all := lw_g (lw_at lw_m5 128 rfl) rfl
theorem q1152 : (Jvm.Cond.selects "PressedMenModel" ({ cls := "PressedMenModel", name := "tide", desc := "()I" } : Jvm.MethodName) ({ cls := "PressedMenModel", name := "tide", desc := "()I" } : Jvm.MethodName)) ∈ lw_all := lw_g (lw_at lw_m5 129 rfl) rfl
theorem q1153 : (Jvm.Cond.code ({ cls := "PressedMenModel", name := "tide", desc := "()I" } : Jvm.MethodName) prog_21_method_25_code (1 : Nat) (Option.some Jvm.ClassFile.FieldType.int)) ∈ lw_all := lw_g (lw_at lw_m5 130 rfl) rfl
theorem q1155 : (Jvm.Cond.instanceMethod ({ cls := "PressedMenModel", name := "pass", desc := "(I)I" } : Jvm.MethodName)) ∈ lw_all := lw_g (lw_at lw_m5 132 rfl) rfl
theorem q1156 : (Jvm.Cond.selects "PressedMenModel" ({ cls := "PressedMenModel", name := "pass", desc := "(I)I" } : Jvm.MethodName) ({ cls := "PressedMenModel", name := "pass", desc := "(I)I" } : Jvm.MethodName)) ∈ lw_all := lw_g (lw_at lw_m5 133 rfl) rfl
theorem q1157 : (Jvm.Cond.code ({ cls := "PressedMenModel", name := "pass", desc := "(I)I" } : Jvm.MethodName) prog_21_method_28_code (3 : Nat) (Option.some Jvm.ClassFile.FieldType.int)) ∈ lw_all := lw_g (lw_at lw_m5 134 rfl) rfl
theorem q1158 : (Jvm.Cond.methodLink "PressedMenModel" (181 : Nat) ({ cls := "PressedMenModel", name := "goOn", desc := "()V" } : Jvm.MethodName)) ∈ lw_all := lw_g (lw_at lw_m5 135 rfl) rfl
theorem q1159 : (Jvm.Cond.privateMethod ({ cls := "PressedMenModel", name := "goOn", desc := "()V" } : Jvm.MethodName)) ∈ lw_tbl := lw_at lw_m5 136 rfl
theorem q1160 : (Jvm.Cond.instanceMethod ({ cls := "PressedMenModel", name := "goOn", desc := "()V" } : Jvm.MethodName)) ∈ lw_all := lw_g (lw_at lw_m5 137 rfl) rfl
theorem q1161 : (Jvm.Cond.code ({ cls := "PressedMenModel", name := "goOn", desc := "()V" } : Jvm.MethodName) prog_21_method_27_code (4 : Nat) (Option.none : Option Jvm.ClassFile.FieldType)) ∈ lw_all := lw_g (lw_at lw_m5 138 rfl) rfl
theorem q1162 : (Jvm.Cond.methodLink "PressedMenModel" (171 : Nat) ({ cls := "PressedMenModel", name := "isStreet", desc := "(I)Z" } : Jvm.MethodName)) ∈ lw_all := lw_g (lw_at lw_m5 139 rfl) rfl
theorem q1163 : (Jvm.Cond.static ({ cls := "PressedMenModel", name := "isStreet", desc := "(I)Z" } : Jvm.MethodName)) ∈ lw_all := lw_g (lw_at lw_m5 140 rfl) rfl
theorem q1164 : (Jvm.Cond.code ({ cls := "PressedMenModel", name := "isStreet", desc := "(I)Z" } : Jvm.MethodName) prog_21_method_18_code (1 : Nat) (Option.some Jvm.ClassFile.FieldType.boolean)) ∈ lw_all := lw_g (lw_at lw_m5 141 rfl) rfl
theorem q1165 : (Jvm.Cond.methodLink "PressedMenModel" (174 : Nat) ({ cls := "PressedMenModel", name := "heardAt", desc := "(I)I" } : Jvm.MethodName)) ∈ lw_all := lw_g (lw_at lw_m5 142 rfl) rfl
theorem q1166 : (Jvm.Cond.privateMethod ({ cls := "PressedMenModel", name := "heardAt", desc := "(I)I" } : Jvm.MethodName)) ∈ lw_tbl := lw_at lw_m5 143 rfl
theorem q1167 : (Jvm.Cond.instanceMethod ({ cls := "PressedMenModel", name := "heardAt", desc := "(I)I" } : Jvm.MethodName)) ∈ lw_all := lw_g (lw_at lw_m5 144 rfl) rfl
theorem q1168 : (Jvm.Cond.code ({ cls := "PressedMenModel", name := "heardAt", desc := "(I)I" } : Jvm.MethodName) prog_21_method_26_code (6 : Nat) (Option.some Jvm.ClassFile.FieldType.int)) ∈ lw_all := lw_g (lw_at lw_m5 145 rfl) rfl
theorem q1169 : (Jvm.Cond.methodLink "PressedMenModel" (177 : Nat) ({ cls := "PressedMenModel", name := "go", desc := "(II)V" } : Jvm.MethodName)) ∈ lw_all := lw_g (lw_at lw_m5 146 rfl) rfl
theorem q1170 : (Jvm.Cond.privateMethod ({ cls := "PressedMenModel", name := "go", desc := "(II)V" } : Jvm.MethodName)) ∈ lw_tbl := lw_at lw_m5 147 rfl
theorem q1171 : (Jvm.Cond.instanceMethod ({ cls := "PressedMenModel", name := "go", desc := "(II)V" } : Jvm.MethodName)) ∈ lw_all := lw_g (lw_at lw_m5 148 rfl) rfl
theorem q1172 : (Jvm.Cond.code ({ cls := "PressedMenModel", name := "go", desc := "(II)V" } : Jvm.MethodName) prog_21_method_17_code (3 : Nat) (Option.none : Option Jvm.ClassFile.FieldType)) ∈ lw_all := lw_g (lw_at lw_m5 149 rfl) rfl
theorem q1174 : (Jvm.Cond.instanceMethod ({ cls := "PressedMenModel", name := "walk", desc := "(II)I" } : Jvm.MethodName)) ∈ lw_all := lw_g (lw_at lw_m5 151 rfl) rfl
theorem q1175 : (Jvm.Cond.selects "PressedMenModel" ({ cls := "PressedMenModel", name := "walk", desc := "(II)I" } : Jvm.MethodName) ({ cls := "PressedMenModel", name := "walk", desc := "(II)I" } : Jvm.MethodName)) ∈ lw_all := lw_g (lw_at lw_m5 152 rfl) rfl
theorem q1176 : (Jvm.Cond.code ({ cls := "PressedMenModel", name := "walk", desc := "(II)I" } : Jvm.MethodName) prog_21_method_29_code (4 : Nat) (Option.some Jvm.ClassFile.FieldType.int)) ∈ lw_all := lw_g (lw_at lw_m5 153 rfl) rfl
theorem q1178 : (Jvm.Cond.instanceMethod ({ cls := "PressedMenModel", name := "run", desc := "(I)I" } : Jvm.MethodName)) ∈ lw_all := lw_g (lw_at lw_m5 155 rfl) rfl
theorem q1179 : (Jvm.Cond.selects "PressedMenModel" ({ cls := "PressedMenModel", name := "run", desc := "(I)I" } : Jvm.MethodName) ({ cls := "PressedMenModel", name := "run", desc := "(I)I" } : Jvm.MethodName)) ∈ lw_all := lw_g (lw_at lw_m5 156 rfl) rfl
theorem q1180 : (Jvm.Cond.code ({ cls := "PressedMenModel", name := "run", desc := "(I)I" } : Jvm.MethodName) prog_21_method_30_code (3 : Nat) (Option.some Jvm.ClassFile.FieldType.int)) ∈ lw_all := lw_g (lw_at lw_m5 157 rfl) rfl
theorem q1182 : (Jvm.Cond.instanceMethod ({ cls := "PressedMenModel", name := "paper", desc := "(IIIIIIIII)I" } : Jvm.MethodName)) ∈ lw_all := lw_g (lw_at lw_m5 159 rfl) rfl
theorem q1183 : (Jvm.Cond.selects "PressedMenModel" ({ cls := "PressedMenModel", name := "paper", desc := "(IIIIIIIII)I" } : Jvm.MethodName) ({ cls := "PressedMenModel", name := "paper", desc := "(IIIIIIIII)I" } : Jvm.MethodName)) ∈ lw_all := lw_g (lw_at lw_m5 160 rfl) rfl
theorem q1184 : (Jvm.Cond.code ({ cls := "PressedMenModel", name := "paper", desc := "(IIIIIIIII)I" } : Jvm.MethodName) prog_21_method_33_code (11 : Nat) (Option.some Jvm.ClassFile.FieldType.int)) ∈ lw_all := lw_g (lw_at lw_m5 161 rfl) rfl
theorem q1185 : (Jvm.Cond.methodLink "PressedMenModel" (184 : Nat) ({ cls := "PressedMenModel", name := "badLook", desc := "(I)Z" } : Jvm.MethodName)) ∈ lw_all := lw_g (lw_at lw_m5 162 rfl) rfl
theorem q1186 : (Jvm.Cond.static ({ cls := "PressedMenModel", name := "badLook", desc := "(I)Z" } : Jvm.MethodName)) ∈ lw_all := lw_g (lw_at lw_m5 163 rfl) rfl
theorem q1187 : (Jvm.Cond.code ({ cls := "PressedMenModel", name := "badLook", desc := "(I)Z" } : Jvm.MethodName) prog_21_method_32_code (1 : Nat) (Option.some Jvm.ClassFile.FieldType.boolean)) ∈ lw_all := lw_g (lw_at lw_m5 164 rfl) rfl
theorem q1188 : (Jvm.Cond.methodLink "PressedMenModel" (187 : Nat) ({ cls := "PressedMenModel", name := "badSpan", desc := "(III)Z" } : Jvm.MethodName)) ∈ lw_all := lw_g (lw_at lw_m5 165 rfl) rfl
theorem q1189 : (Jvm.Cond.static ({ cls := "PressedMenModel", name := "badSpan", desc := "(III)Z" } : Jvm.MethodName)) ∈ lw_all := lw_g (lw_at lw_m5 166 rfl) rfl
theorem q1190 : (Jvm.Cond.code ({ cls := "PressedMenModel", name := "badSpan", desc := "(III)Z" } : Jvm.MethodName) prog_21_method_31_code (3 : Nat) (Option.some Jvm.ClassFile.FieldType.boolean)) ∈ lw_all := lw_g (lw_at lw_m5 167 rfl) rfl
theorem q1192 : (Jvm.Cond.instanceMethod ({ cls := "PressedMenModel", name := "cover", desc := "(III)I" } : Jvm.MethodName)) ∈ lw_all := lw_g (lw_at lw_m5 169 rfl) rfl
theorem q1193 : (Jvm.Cond.selects "PressedMenModel" ({ cls := "PressedMenModel", name := "cover", desc := "(III)I" } : Jvm.MethodName) ({ cls := "PressedMenModel", name := "cover", desc := "(III)I" } : Jvm.MethodName)) ∈ lw_all := lw_g (lw_at lw_m5 170 rfl) rfl
theorem q1194 : (Jvm.Cond.code ({ cls := "PressedMenModel", name := "cover", desc := "(III)I" } : Jvm.MethodName) prog_21_method_35_code (4 : Nat) (Option.some Jvm.ClassFile.FieldType.int)) ∈ lw_all := lw_g (lw_at lw_m5 171 rfl) rfl
theorem q1195 : (Jvm.Cond.methodLink "PressedMenModel" (191 : Nat) ({ cls := "PressedMenModel", name := "noPaper", desc := "(I)Z" } : Jvm.MethodName)) ∈ lw_all := lw_g (lw_at lw_m5 172 rfl) rfl
theorem q1196 : (Jvm.Cond.privateMethod ({ cls := "PressedMenModel", name := "noPaper", desc := "(I)Z" } : Jvm.MethodName)) ∈ lw_tbl := lw_at lw_m5 173 rfl
theorem q1197 : (Jvm.Cond.instanceMethod ({ cls := "PressedMenModel", name := "noPaper", desc := "(I)Z" } : Jvm.MethodName)) ∈ lw_all := lw_g (lw_at lw_m5 174 rfl) rfl
theorem q1198 : (Jvm.Cond.code ({ cls := "PressedMenModel", name := "noPaper", desc := "(I)Z" } : Jvm.MethodName) prog_21_method_7_code (2 : Nat) (Option.some Jvm.ClassFile.FieldType.boolean)) ∈ lw_all := lw_g (lw_at lw_m5 175 rfl) rfl
theorem q1199 : (Jvm.Cond.methodLink "PressedMenModel" (194 : Nat) ({ cls := "PressedMenModel", name := "noTide", desc := "(I)Z" } : Jvm.MethodName)) ∈ lw_all := lw_g (lw_at lw_m5 176 rfl) rfl
theorem q1200 : (Jvm.Cond.static ({ cls := "PressedMenModel", name := "noTide", desc := "(I)Z" } : Jvm.MethodName)) ∈ lw_all := lw_g (lw_at lw_m5 177 rfl) rfl
theorem q1201 : (Jvm.Cond.code ({ cls := "PressedMenModel", name := "noTide", desc := "(I)Z" } : Jvm.MethodName) prog_21_method_8_code (1 : Nat) (Option.some Jvm.ClassFile.FieldType.boolean)) ∈ lw_all := lw_g (lw_at lw_m5 178 rfl) rfl
theorem q1202 : (Jvm.Cond.constantLong "PressedMenModel" (116 : Nat) (899 : Int64)) ∈ lw_all := lw_g (lw_at lw_m5 179 rfl) rfl
theorem q1203 : (Jvm.Cond.methodLink "PressedMenModel" (197 : Nat) ({ cls := "PressedMenModel", name := "covers", desc := "(III)I" } : Jvm.MethodName)) ∈ lw_all := lw_g (lw_at lw_m5 180 rfl) rfl
theorem q1204 : (Jvm.Cond.privateMethod ({ cls := "PressedMenModel", name := "covers", desc := "(III)I" } : Jvm.MethodName)) ∈ lw_tbl := lw_at lw_m5 181 rfl
theorem q1205 : (Jvm.Cond.instanceMethod ({ cls := "PressedMenModel", name := "covers", desc := "(III)I" } : Jvm.MethodName)) ∈ lw_all := lw_g (lw_at lw_m5 182 rfl) rfl
theorem q1206 : (Jvm.Cond.code ({ cls := "PressedMenModel", name := "covers", desc := "(III)I" } : Jvm.MethodName) prog_21_method_34_code (9 : Nat) (Option.some Jvm.ClassFile.FieldType.int)) ∈ lw_all := lw_g (lw_at lw_m5 183 rfl) rfl
theorem q1208 : (Jvm.Cond.instanceMethod ({ cls := "PressedMenModel", name := "same", desc := "(II)I" } : Jvm.MethodName)) ∈ lw_all := lw_g (lw_at lw_m5 185 rfl) rfl
theorem q1209 : (Jvm.Cond.selects "PressedMenModel" ({ cls := "PressedMenModel", name := "same", desc := "(II)I" } : Jvm.MethodName) ({ cls := "PressedMenModel", name := "same", desc := "(II)I" } : Jvm.MethodName)) ∈ lw_all := lw_g (lw_at lw_m5 186 rfl) rfl
theorem q1210 : (Jvm.Cond.code ({ cls := "PressedMenModel", name := "same", desc := "(II)I" } : Jvm.MethodName) prog_21_method_36_code (5 : Nat) (Option.some Jvm.ClassFile.FieldType.int)) ∈ lw_all := lw_g (lw_at lw_m5 187 rfl) rfl
theorem q1212 : (Jvm.Cond.instanceMethod ({ cls := "PressedMenModel", name := "shown", desc := "(II)I" } : Jvm.MethodName)) ∈ lw_all := lw_g (lw_at lw_m5 189 rfl) rfl
theorem q1213 : (Jvm.Cond.selects "PressedMenModel" ({ cls := "PressedMenModel", name := "shown", desc := "(II)I" } : Jvm.MethodName) ({ cls := "PressedMenModel", name := "shown", desc := "(II)I" } : Jvm.MethodName)) ∈ lw_all := lw_g (lw_at lw_m5 190 rfl) rfl
theorem q1214 : (Jvm.Cond.code ({ cls := "PressedMenModel", name := "shown", desc := "(II)I" } : Jvm.MethodName) prog_21_method_37_code (7 : Nat) (Option.some Jvm.ClassFile.FieldType.int)) ∈ lw_all := lw_g (lw_at lw_m5 191 rfl) rfl
theorem q1216 : (Jvm.Cond.instanceMethod ({ cls := "PressedMenModel", name := "act", desc := "(I)I" } : Jvm.MethodName)) ∈ lw_all := lw_g (lw_at lw_m5 193 rfl) rfl
theorem q1217 : (Jvm.Cond.selects "PressedMenModel" ({ cls := "PressedMenModel", name := "act", desc := "(I)I" } : Jvm.MethodName) ({ cls := "PressedMenModel", name := "act", desc := "(I)I" } : Jvm.MethodName)) ∈ lw_all := lw_g (lw_at lw_m5 194 rfl) rfl
theorem q1218 : (Jvm.Cond.code ({ cls := "PressedMenModel", name := "act", desc := "(I)I" } : Jvm.MethodName) prog_21_method_38_code (2 : Nat) (Option.some Jvm.ClassFile.FieldType.int)) ∈ lw_all := lw_g (lw_at lw_m5 195 rfl) rfl
theorem q1220 : (Jvm.Cond.instanceMethod ({ cls := "PressedMenModel", name := "sign", desc := "(II)I" } : Jvm.MethodName)) ∈ lw_all := lw_g (lw_at lw_m5 197 rfl) rfl
theorem q1221 : (Jvm.Cond.selects "PressedMenModel" ({ cls := "PressedMenModel", name := "sign", desc := "(II)I" } : Jvm.MethodName) ({ cls := "PressedMenModel", name := "sign", desc := "(II)I" } : Jvm.MethodName)) ∈ lw_all := lw_g (lw_at lw_m5 198 rfl) rfl
theorem q1222 : (Jvm.Cond.code ({ cls := "PressedMenModel", name := "sign", desc := "(II)I" } : Jvm.MethodName) prog_21_method_39_code (3 : Nat) (Option.some Jvm.ClassFile.FieldType.int)) ∈ lw_all := lw_g (lw_at lw_m5 199 rfl) rfl
theorem q1223 : (Jvm.Cond.constantLong "PressedMenModel" (204 : Nat) (33 : Int64)) ∈ lw_all := lw_g (lw_at lw_m5 200 rfl) rfl
theorem q1224 : (Jvm.Cond.constantLong "PressedMenModel" (206 : Nat) (126 : Int64)) ∈ lw_all := lw_g (lw_at lw_m5 201 rfl) rfl
theorem q1226 : (Jvm.Cond.instanceMethod ({ cls := "PressedMenModel", name := "fault", desc := "(I)I" } : Jvm.MethodName)) ∈ lw_all := lw_g (lw_at lw_m5 203 rfl) rfl
theorem q1227 : (Jvm.Cond.selects "PressedMenModel" ({ cls := "PressedMenModel", name := "fault", desc := "(I)I" } : Jvm.MethodName) ({ cls := "PressedMenModel", name := "fault", desc := "(I)I" } : Jvm.MethodName)) ∈ lw_all := lw_g (lw_at lw_m5 204 rfl) rfl
theorem q1228 : (Jvm.Cond.code ({ cls := "PressedMenModel", name := "fault", desc := "(I)I" } : Jvm.MethodName) prog_21_method_42_code (2 : Nat) (Option.some Jvm.ClassFile.FieldType.int)) ∈ lw_all := lw_g (lw_at lw_m5 205 rfl) rfl
theorem q1229 : (Jvm.Cond.methodLink "PressedMenModel" (215 : Nat) ({ cls := "PressedMenModel", name := "faultOf", desc := "(I)I" } : Jvm.MethodName)) ∈ lw_all := lw_g (lw_at lw_m5 206 rfl) rfl
theorem q1230 : (Jvm.Cond.privateMethod ({ cls := "PressedMenModel", name := "faultOf", desc := "(I)I" } : Jvm.MethodName)) ∈ lw_tbl := lw_at lw_m5 207 rfl
theorem q1231 : (Jvm.Cond.instanceMethod ({ cls := "PressedMenModel", name := "faultOf", desc := "(I)I" } : Jvm.MethodName)) ∈ lw_all := lw_g (lw_at lw_m5 208 rfl) rfl
theorem q1232 : (Jvm.Cond.code ({ cls := "PressedMenModel", name := "faultOf", desc := "(I)I" } : Jvm.MethodName) prog_21_method_41_code (6 : Nat) (Option.some Jvm.ClassFile.FieldType.int)) ∈ lw_all := lw_g (lw_at lw_m5 209 rfl) rfl
theorem q1233 : (Jvm.Cond.constantLong "PressedMenModel" (208 : Nat) (48 : Int64)) ∈ lw_all := lw_g (lw_at lw_m5 210 rfl) rfl
theorem q1234 : (Jvm.Cond.constantLong "PressedMenModel" (210 : Nat) (57 : Int64)) ∈ lw_all := lw_g (lw_at lw_m5 211 rfl) rfl
theorem q1235 : (Jvm.Cond.methodLink "PressedMenModel" (212 : Nat) ({ cls := "PressedMenModel", name := "hasDigits", desc := "(I)Z" } : Jvm.MethodName)) ∈ lw_all := lw_g (lw_at lw_m5 212 rfl) rfl
theorem q1236 : (Jvm.Cond.static ({ cls := "PressedMenModel", name := "hasDigits", desc := "(I)Z" } : Jvm.MethodName)) ∈ lw_all := lw_g (lw_at lw_m5 213 rfl) rfl
theorem q1237 : (Jvm.Cond.code ({ cls := "PressedMenModel", name := "hasDigits", desc := "(I)Z" } : Jvm.MethodName) prog_21_method_40_code (1 : Nat) (Option.some Jvm.ClassFile.FieldType.boolean)) ∈ lw_all := lw_g (lw_at lw_m5 214 rfl) rfl
theorem q1239 : (Jvm.Cond.instanceMethod ({ cls := "PressedMenModel", name := "force", desc := "(I)I" } : Jvm.MethodName)) ∈ lw_all := lw_g (lw_at lw_m5 216 rfl) rfl
theorem q1240 : (Jvm.Cond.selects "PressedMenModel" ({ cls := "PressedMenModel", name := "force", desc := "(I)I" } : Jvm.MethodName) ({ cls := "PressedMenModel", name := "force", desc := "(I)I" } : Jvm.MethodName)) ∈ lw_all := lw_g (lw_at lw_m5 217 rfl) rfl
theorem q1241 : (Jvm.Cond.code ({ cls := "PressedMenModel", name := "force", desc := "(I)I" } : Jvm.MethodName) prog_21_method_44_code (2 : Nat) (Option.some Jvm.ClassFile.FieldType.int)) ∈ lw_all := lw_g (lw_at lw_m5 218 rfl) rfl
theorem q1242 : (Jvm.Cond.methodLink "PressedMenModel" (218 : Nat) ({ cls := "PressedMenModel", name := "forceOf", desc := "(I)I" } : Jvm.MethodName)) ∈ lw_all := lw_g (lw_at lw_m5 219 rfl) rfl
theorem q1243 : (Jvm.Cond.privateMethod ({ cls := "PressedMenModel", name := "forceOf", desc := "(I)I" } : Jvm.MethodName)) ∈ lw_tbl := lw_at lw_m5 220 rfl
theorem q1244 : (Jvm.Cond.instanceMethod ({ cls := "PressedMenModel", name := "forceOf", desc := "(I)I" } : Jvm.MethodName)) ∈ lw_all := lw_g (lw_at lw_m5 221 rfl) rfl
theorem q1245 : (Jvm.Cond.code ({ cls := "PressedMenModel", name := "forceOf", desc := "(I)I" } : Jvm.MethodName) prog_21_method_43_code (5 : Nat) (Option.some Jvm.ClassFile.FieldType.int)) ∈ lw_all := lw_g (lw_at lw_m5 222 rfl) rfl
theorem q1247 : (Jvm.Cond.instanceMethod ({ cls := "PressedMenModel", name := "may", desc := "(II)I" } : Jvm.MethodName)) ∈ lw_all := lw_g (lw_at lw_m5 224 rfl) rfl
theorem q1248 : (Jvm.Cond.selects "PressedMenModel" ({ cls := "PressedMenModel", name := "may", desc := "(II)I" } : Jvm.MethodName) ({ cls := "PressedMenModel", name := "may", desc := "(II)I" } : Jvm.MethodName)) ∈ lw_all := lw_g (lw_at lw_m5 225 rfl) rfl
theorem q1249 : (Jvm.Cond.code ({ cls := "PressedMenModel", name := "may", desc := "(II)I" } : Jvm.MethodName) prog_21_method_49_code (3 : Nat) (Option.some Jvm.ClassFile.FieldType.int)) ∈ lw_all := lw_g (lw_at lw_m5 226 rfl) rfl
theorem q1250 : (Jvm.Cond.methodLink "PressedMenModel" (229 : Nat) ({ cls := "PressedMenModel", name := "asShown", desc := "(II)Z" } : Jvm.MethodName)) ∈ lw_all := lw_g (lw_at lw_m5 227 rfl) rfl
theorem q1251 : (Jvm.Cond.privateMethod ({ cls := "PressedMenModel", name := "asShown", desc := "(II)Z" } : Jvm.MethodName)) ∈ lw_tbl := lw_at lw_m5 228 rfl
theorem q1252 : (Jvm.Cond.instanceMethod ({ cls := "PressedMenModel", name := "asShown", desc := "(II)Z" } : Jvm.MethodName)) ∈ lw_all := lw_g (lw_at lw_m5 229 rfl) rfl
theorem q1253 : (Jvm.Cond.code ({ cls := "PressedMenModel", name := "asShown", desc := "(II)Z" } : Jvm.MethodName) prog_21_method_48_code (3 : Nat) (Option.some Jvm.ClassFile.FieldType.boolean)) ∈ lw_all := lw_g (lw_at lw_m5 230 rfl) rfl
theorem q1254 : (Jvm.Cond.methodLink "PressedMenModel" (225 : Nat) ({ cls := "PressedMenModel", name := "mayBe", desc := "(IZ)Z" } : Jvm.MethodName)) ∈ lw_all := lw_g (lw_at lw_m5 231 rfl) rfl
theorem q1255 : (Jvm.Cond.privateMethod ({ cls := "PressedMenModel", name := "mayBe", desc := "(IZ)Z" } : Jvm.MethodName)) ∈ lw_tbl := lw_at lw_m5 232 rfl
theorem q1256 : (Jvm.Cond.instanceMethod ({ cls := "PressedMenModel", name := "mayBe", desc := "(IZ)Z" } : Jvm.MethodName)) ∈ lw_all := lw_g (lw_at lw_m5 233 rfl) rfl
theorem q1257 : (Jvm.Cond.code ({ cls := "PressedMenModel", name := "mayBe", desc := "(IZ)Z" } : Jvm.MethodName) prog_21_method_46_code (8 : Nat) (Option.some Jvm.ClassFile.FieldType.boolean)) ∈ lw_all := lw_g (lw_at lw_m5 234 rfl) rfl
theorem q1258 : (Jvm.Cond.methodLink "PressedMenModel" (221 : Nat) ({ cls := "PressedMenModel", name := "test", desc := "(IIIZ)Z" } : Jvm.MethodName)) ∈ lw_all := lw_g (lw_at lw_m5 235 rfl) rfl
theorem q1259 : (Jvm.Cond.privateMethod ({ cls := "PressedMenModel", name := "test", desc := "(IIIZ)Z" } : Jvm.MethodName)) ∈ lw_tbl := lw_at lw_m5 236 rfl
theorem q1260 : (Jvm.Cond.instanceMethod ({ cls := "PressedMenModel", name := "test", desc := "(IIIZ)Z" } : Jvm.MethodName)) ∈ lw_all := lw_g (lw_at lw_m5 237 rfl) rfl
theorem q1261 : (Jvm.Cond.code ({ cls := "PressedMenModel", name := "test", desc := "(IIIZ)Z" } : Jvm.MethodName) prog_21_method_45_code (5 : Nat) (Option.some Jvm.ClassFile.FieldType.boolean)) ∈ lw_all := lw_g (lw_at lw_m5 238 rfl) rfl
theorem q1262 : (Jvm.Cond.methodLink "PressedMenModel" (151 : Nat) ({ cls := "PressedMenModel", name := "isAboard", desc := "(I)Z" } : Jvm.MethodName)) ∈ lw_all := lw_g (lw_at lw_m5 239 rfl) rfl
theorem q1263 : (Jvm.Cond.static ({ cls := "PressedMenModel", name := "isAboard", desc := "(I)Z" } : Jvm.MethodName)) ∈ lw_all := lw_g (lw_at lw_m6 0 rfl) rfl
theorem q1264 : (Jvm.Cond.code ({ cls := "PressedMenModel", name := "isAboard", desc := "(I)Z" } : Jvm.MethodName) prog_21_method_19_code (1 : Nat) (Option.some Jvm.ClassFile.FieldType.boolean)) ∈ lw_all := lw_g (lw_at lw_m6 1 rfl) rfl
theorem q1265 : (Jvm.Cond.constantLong "PressedMenModel" (149 : Nat) (19 : Int64)) ∈ lw_all := lw_g (lw_at lw_m6 2 rfl) rfl
theorem q1267 : (Jvm.Cond.instanceMethod ({ cls := "PressedMenModel", name := "mayTruly", desc := "(I)I" } : Jvm.MethodName)) ∈ lw_all := lw_g (lw_at lw_m6 4 rfl) rfl
theorem q1268 : (Jvm.Cond.selects "PressedMenModel" ({ cls := "PressedMenModel", name := "mayTruly", desc := "(I)I" } : Jvm.MethodName) ({ cls := "PressedMenModel", name := "mayTruly", desc := "(I)I" } : Jvm.MethodName)) ∈ lw_all := lw_g (lw_at lw_m6 5 rfl) rfl
theorem q1269 : (Jvm.Cond.code ({ cls := "PressedMenModel", name := "mayTruly", desc := "(I)I" } : Jvm.MethodName) prog_21_method_50_code (2 : Nat) (Option.some Jvm.ClassFile.FieldType.int)) ∈ lw_all := lw_g (lw_at lw_m6 6 rfl) rfl
theorem q1270 : (Jvm.Cond.methodLink "PressedMenModel" (233 : Nat) ({ cls := "PressedMenModel", name := "truly", desc := "(I)Z" } : Jvm.MethodName)) ∈ lw_all := lw_g (lw_at lw_m6 7 rfl) rfl
theorem q1271 : (Jvm.Cond.privateMethod ({ cls := "PressedMenModel", name := "truly", desc := "(I)Z" } : Jvm.MethodName)) ∈ lw_tbl := lw_at lw_m6 8 rfl
theorem q1272 : (Jvm.Cond.instanceMethod ({ cls := "PressedMenModel", name := "truly", desc := "(I)Z" } : Jvm.MethodName)) ∈ lw_all := lw_g (lw_at lw_m6 9 rfl) rfl
theorem q1273 : (Jvm.Cond.code ({ cls := "PressedMenModel", name := "truly", desc := "(I)Z" } : Jvm.MethodName) prog_21_method_47_code (4 : Nat) (Option.some Jvm.ClassFile.FieldType.boolean)) ∈ lw_all := lw_g (lw_at lw_m6 10 rfl) rfl
theorem q1275 : (Jvm.Cond.instanceMethod ({ cls := "PressedMenModel", name := "take", desc := "(II)I" } : Jvm.MethodName)) ∈ lw_all := lw_g (lw_at lw_m6 12 rfl) rfl
theorem q1276 : (Jvm.Cond.selects "PressedMenModel" ({ cls := "PressedMenModel", name := "take", desc := "(II)I" } : Jvm.MethodName) ({ cls := "PressedMenModel", name := "take", desc := "(II)I" } : Jvm.MethodName)) ∈ lw_all := lw_g (lw_at lw_m6 13 rfl) rfl
theorem q1277 : (Jvm.Cond.code ({ cls := "PressedMenModel", name := "take", desc := "(II)I" } : Jvm.MethodName) prog_21_method_51_code (5 : Nat) (Option.some Jvm.ClassFile.FieldType.int)) ∈ lw_all := lw_g (lw_at lw_m6 14 rfl) rfl
theorem q1278 : (Jvm.Cond.methodLink "PressedMenModel" (236 : Nat) ({ cls := "PressedMenModel", name := "isHere", desc := "(I)Z" } : Jvm.MethodName)) ∈ lw_all := lw_g (lw_at lw_m6 15 rfl) rfl
theorem q1279 : (Jvm.Cond.privateMethod ({ cls := "PressedMenModel", name := "isHere", desc := "(I)Z" } : Jvm.MethodName)) ∈ lw_tbl := lw_at lw_m6 16 rfl
theorem q1280 : (Jvm.Cond.instanceMethod ({ cls := "PressedMenModel", name := "isHere", desc := "(I)Z" } : Jvm.MethodName)) ∈ lw_all := lw_g (lw_at lw_m6 17 rfl) rfl
theorem q1281 : (Jvm.Cond.code ({ cls := "PressedMenModel", name := "isHere", desc := "(I)Z" } : Jvm.MethodName) prog_21_method_20_code (2 : Nat) (Option.some Jvm.ClassFile.FieldType.boolean)) ∈ lw_all := lw_g (lw_at lw_m6 18 rfl) rfl
theorem q1283 : (Jvm.Cond.instanceMethod ({ cls := "PressedMenModel", name := "taking", desc := "(II)I" } : Jvm.MethodName)) ∈ lw_all := lw_g (lw_at lw_m6 20 rfl) rfl
theorem q1284 : (Jvm.Cond.selects "PressedMenModel" ({ cls := "PressedMenModel", name := "taking", desc := "(II)I" } : Jvm.MethodName) ({ cls := "PressedMenModel", name := "taking", desc := "(II)I" } : Jvm.MethodName)) ∈ lw_all := lw_g (lw_at lw_m6 21 rfl) rfl
theorem q1285 : (Jvm.Cond.code ({ cls := "PressedMenModel", name := "taking", desc := "(II)I" } : Jvm.MethodName) prog_21_method_52_code (3 : Nat) (Option.some Jvm.ClassFile.FieldType.int)) ∈ lw_all := lw_g (lw_at lw_m6 22 rfl) rfl
theorem q1287 : (Jvm.Cond.instanceMethod ({ cls := "PressedMenModel", name := "wronged", desc := "()I" } : Jvm.MethodName)) ∈ lw_all := lw_g (lw_at lw_m6 24 rfl) rfl
theorem q1288 : (Jvm.Cond.selects "PressedMenModel" ({ cls := "PressedMenModel", name := "wronged", desc := "()I" } : Jvm.MethodName) ({ cls := "PressedMenModel", name := "wronged", desc := "()I" } : Jvm.MethodName)) ∈ lw_all := lw_g (lw_at lw_m6 25 rfl) rfl
theorem q1289 : (Jvm.Cond.code ({ cls := "PressedMenModel", name := "wronged", desc := "()I" } : Jvm.MethodName) prog_21_method_54_code (3 : Nat) (Option.some Jvm.ClassFile.FieldType.int)) ∈ lw_all := lw_g (lw_at lw_m6 26 rfl) rfl
theorem q1290 : (Jvm.Cond.methodLink "PressedMenModel" (239 : Nat) ({ cls := "PressedMenModel", name := "isWronged", desc := "(I)Z" } : Jvm.MethodName)) ∈ lw_all := lw_g (lw_at lw_m6 27 rfl) rfl
theorem q1291 : (Jvm.Cond.privateMethod ({ cls := "PressedMenModel", name := "isWronged", desc := "(I)Z" } : Jvm.MethodName)) ∈ lw_tbl := lw_at lw_m6 28 rfl
theorem q1292 : (Jvm.Cond.instanceMethod ({ cls := "PressedMenModel", name := "isWronged", desc := "(I)Z" } : Jvm.MethodName)) ∈ lw_all := lw_g (lw_at lw_m6 29 rfl) rfl
theorem q1293 : (Jvm.Cond.code ({ cls := "PressedMenModel", name := "isWronged", desc := "(I)Z" } : Jvm.MethodName) prog_21_method_53_code (5 : Nat) (Option.some Jvm.ClassFile.FieldType.boolean)) ∈ lw_all := lw_g (lw_at lw_m6 30 rfl) rfl
theorem q1295 : (Jvm.Cond.instanceMethod ({ cls := "PressedMenModel", name := "wrongedMan", desc := "(I)I" } : Jvm.MethodName)) ∈ lw_all := lw_g (lw_at lw_m6 32 rfl) rfl
theorem q1296 : (Jvm.Cond.selects "PressedMenModel" ({ cls := "PressedMenModel", name := "wrongedMan", desc := "(I)I" } : Jvm.MethodName) ({ cls := "PressedMenModel", name := "wrongedMan", desc := "(I)I" } : Jvm.MethodName)) ∈ lw_all := lw_g (lw_at lw_m6 33 rfl) rfl
theorem q1297 : (Jvm.Cond.code ({ cls := "PressedMenModel", name := "wrongedMan", desc := "(I)I" } : Jvm.MethodName) prog_21_method_55_code (4 : Nat) (Option.some Jvm.ClassFile.FieldType.int)) ∈ lw_all := lw_g (lw_at lw_m6 34 rfl) rfl
theorem q1299 : (Jvm.Cond.instanceMethod ({ cls := "PressedMenModel", name := "letGo", desc := "(I)I" } : Jvm.MethodName)) ∈ lw_all := lw_g (lw_at lw_m6 36 rfl) rfl
theorem q1300 : (Jvm.Cond.selects "PressedMenModel" ({ cls := "PressedMenModel", name := "letGo", desc := "(I)I" } : Jvm.MethodName) ({ cls := "PressedMenModel", name := "letGo", desc := "(I)I" } : Jvm.MethodName)) ∈ lw_all := lw_g (lw_at lw_m6 37 rfl) rfl
theorem q1301 : (Jvm.Cond.code ({ cls := "PressedMenModel", name := "letGo", desc := "(I)I" } : Jvm.MethodName) prog_21_method_56_code (3 : Nat) (Option.some Jvm.ClassFile.FieldType.int)) ∈ lw_all := lw_g (lw_at lw_m6 38 rfl) rfl
theorem q1303 : (Jvm.Cond.instanceMethod ({ cls := "PressedMenModel", name := "quiet", desc := "()I" } : Jvm.MethodName)) ∈ lw_all := lw_g (lw_at lw_m6 40 rfl) rfl
theorem q1304 : (Jvm.Cond.selects "PressedMenModel" ({ cls := "PressedMenModel", name := "quiet", desc := "()I" } : Jvm.MethodName) ({ cls := "PressedMenModel", name := "quiet", desc := "()I" } : Jvm.MethodName)) ∈ lw_all := lw_g (lw_at lw_m6 41 rfl) rfl
theorem q1305 : (Jvm.Cond.code ({ cls := "PressedMenModel", name := "quiet", desc := "()I" } : Jvm.MethodName) prog_21_method_57_code (3 : Nat) (Option.some Jvm.ClassFile.FieldType.int)) ∈ lw_all := lw_g (lw_at lw_m6 42 rfl) rfl
theorem q1307 : (Jvm.Cond.instanceMethod ({ cls := "PressedMenModel", name := "heard", desc := "(I)I" } : Jvm.MethodName)) ∈ lw_all := lw_g (lw_at lw_m6 44 rfl) rfl
theorem q1308 : (Jvm.Cond.selects "PressedMenModel" ({ cls := "PressedMenModel", name := "heard", desc := "(I)I" } : Jvm.MethodName) ({ cls := "PressedMenModel", name := "heard", desc := "(I)I" } : Jvm.MethodName)) ∈ lw_all := lw_g (lw_at lw_m6 45 rfl) rfl
theorem q1309 : (Jvm.Cond.code ({ cls := "PressedMenModel", name := "heard", desc := "(I)I" } : Jvm.MethodName) prog_21_method_58_code (2 : Nat) (Option.some Jvm.ClassFile.FieldType.int)) ∈ lw_all := lw_g (lw_at lw_m6 46 rfl) rfl
theorem q1311 : (Jvm.Cond.instanceMethod ({ cls := "PressedMenModel", name := "tender", desc := "(II)I" } : Jvm.MethodName)) ∈ lw_all := lw_g (lw_at lw_m6 48 rfl) rfl
theorem q1312 : (Jvm.Cond.selects "PressedMenModel" ({ cls := "PressedMenModel", name := "tender", desc := "(II)I" } : Jvm.MethodName) ({ cls := "PressedMenModel", name := "tender", desc := "(II)I" } : Jvm.MethodName)) ∈ lw_all := lw_g (lw_at lw_m6 49 rfl) rfl
theorem q1313 : (Jvm.Cond.code ({ cls := "PressedMenModel", name := "tender", desc := "(II)I" } : Jvm.MethodName) prog_21_method_59_code (4 : Nat) (Option.some Jvm.ClassFile.FieldType.int)) ∈ lw_all := lw_g (lw_at lw_m6 50 rfl) rfl
theorem q1314 : (Jvm.Cond.constantLong "PressedMenModel" (242 : Nat) (100 : Int64)) ∈ lw_all := lw_g (lw_at lw_m6 51 rfl) rfl
theorem q1316 : (Jvm.Cond.instanceMethod ({ cls := "PressedMenModel", name := "met", desc := "(II)I" } : Jvm.MethodName)) ∈ lw_all := lw_g (lw_at lw_m6 53 rfl) rfl
theorem q1317 : (Jvm.Cond.selects "PressedMenModel" ({ cls := "PressedMenModel", name := "met", desc := "(II)I" } : Jvm.MethodName) ({ cls := "PressedMenModel", name := "met", desc := "(II)I" } : Jvm.MethodName)) ∈ lw_all := lw_g (lw_at lw_m6 54 rfl) rfl
theorem q1318 : (Jvm.Cond.code ({ cls := "PressedMenModel", name := "met", desc := "(II)I" } : Jvm.MethodName) prog_21_method_63_code (3 : Nat) (Option.some Jvm.ClassFile.FieldType.int)) ∈ lw_all := lw_g (lw_at lw_m6 55 rfl) rfl
theorem q1319 : (Jvm.Cond.methodLink "PressedMenModel" (252 : Nat) ({ cls := "PressedMenModel", name := "badGangs", desc := "(II)Z" } : Jvm.MethodName)) ∈ lw_all := lw_g (lw_at lw_m6 56 rfl) rfl
theorem q1320 : (Jvm.Cond.static ({ cls := "PressedMenModel", name := "badGangs", desc := "(II)Z" } : Jvm.MethodName)) ∈ lw_all := lw_g (lw_at lw_m6 57 rfl) rfl
theorem q1321 : (Jvm.Cond.code ({ cls := "PressedMenModel", name := "badGangs", desc := "(II)Z" } : Jvm.MethodName) prog_21_method_62_code (2 : Nat) (Option.some Jvm.ClassFile.FieldType.boolean)) ∈ lw_all := lw_g (lw_at lw_m6 58 rfl) rfl
theorem q1322 : (Jvm.Cond.constantLong "PressedMenModel" (250 : Nat) (2 : Int64)) ∈ lw_all := lw_g (lw_at lw_m6 59 rfl) rfl
theorem q1323 : (Jvm.Cond.methodLink "PressedMenModel" (255 : Nat) ({ cls := "PressedMenModel", name := "look", desc := "(II)I" } : Jvm.MethodName)) ∈ lw_all := lw_g (lw_at lw_m6 60 rfl) rfl
theorem q1324 : (Jvm.Cond.privateMethod ({ cls := "PressedMenModel", name := "look", desc := "(II)I" } : Jvm.MethodName)) ∈ lw_tbl := lw_at lw_m6 61 rfl
theorem q1325 : (Jvm.Cond.instanceMethod ({ cls := "PressedMenModel", name := "look", desc := "(II)I" } : Jvm.MethodName)) ∈ lw_all := lw_g (lw_at lw_m6 62 rfl) rfl
theorem q1326 : (Jvm.Cond.code ({ cls := "PressedMenModel", name := "look", desc := "(II)I" } : Jvm.MethodName) prog_21_method_61_code (7 : Nat) (Option.some Jvm.ClassFile.FieldType.int)) ∈ lw_all := lw_g (lw_at lw_m6 63 rfl) rfl
theorem q1327 : (Jvm.Cond.methodLink "PressedMenModel" (244 : Nat) ({ cls := "PressedMenModel", name := "meet", desc := "(III)I" } : Jvm.MethodName)) ∈ lw_all := lw_g (lw_at lw_m6 64 rfl) rfl
theorem q1328 : (Jvm.Cond.privateMethod ({ cls := "PressedMenModel", name := "meet", desc := "(III)I" } : Jvm.MethodName)) ∈ lw_tbl := lw_at lw_m6 65 rfl
theorem q1329 : (Jvm.Cond.instanceMethod ({ cls := "PressedMenModel", name := "meet", desc := "(III)I" } : Jvm.MethodName)) ∈ lw_all := lw_g (lw_at lw_m6 66 rfl) rfl
theorem q1330 : (Jvm.Cond.code ({ cls := "PressedMenModel", name := "meet", desc := "(III)I" } : Jvm.MethodName) prog_21_method_60_code (11 : Nat) (Option.some Jvm.ClassFile.FieldType.int)) ∈ lw_all := lw_g (lw_at lw_m6 67 rfl) rfl
theorem q1332 : (Jvm.Cond.instanceMethod ({ cls := "PressedMenModel", name := "laid", desc := "(IIII)I" } : Jvm.MethodName)) ∈ lw_all := lw_g (lw_at lw_m6 69 rfl) rfl
theorem q1333 : (Jvm.Cond.selects "PressedMenModel" ({ cls := "PressedMenModel", name := "laid", desc := "(IIII)I" } : Jvm.MethodName) ({ cls := "PressedMenModel", name := "laid", desc := "(IIII)I" } : Jvm.MethodName)) ∈ lw_all := lw_g (lw_at lw_m6 70 rfl) rfl
theorem q1334 : (Jvm.Cond.code ({ cls := "PressedMenModel", name := "laid", desc := "(IIII)I" } : Jvm.MethodName) prog_21_method_64_code (5 : Nat) (Option.some Jvm.ClassFile.FieldType.int)) ∈ lw_all := lw_g (lw_at lw_m6 71 rfl) rfl
theorem q1336 : (Jvm.Cond.instanceMethod ({ cls := "PressedMenModel", name := "ship", desc := "(IIII)I" } : Jvm.MethodName)) ∈ lw_all := lw_g (lw_at lw_m6 73 rfl) rfl
theorem q1337 : (Jvm.Cond.selects "PressedMenModel" ({ cls := "PressedMenModel", name := "ship", desc := "(IIII)I" } : Jvm.MethodName) ({ cls := "PressedMenModel", name := "ship", desc := "(IIII)I" } : Jvm.MethodName)) ∈ lw_all := lw_g (lw_at lw_m6 74 rfl) rfl
theorem q1338 : (Jvm.Cond.code ({ cls := "PressedMenModel", name := "ship", desc := "(IIII)I" } : Jvm.MethodName) prog_21_method_65_code (5 : Nat) (Option.some Jvm.ClassFile.FieldType.int)) ∈ lw_all := lw_g (lw_at lw_m6 75 rfl) rfl
theorem q1340 : (Jvm.Cond.instanceMethod ({ cls := "PressedMenModel", name := "of", desc := "(II)I" } : Jvm.MethodName)) ∈ lw_all := lw_g (lw_at lw_m6 77 rfl) rfl
theorem q1341 : (Jvm.Cond.selects "PressedMenModel" ({ cls := "PressedMenModel", name := "of", desc := "(II)I" } : Jvm.MethodName) ({ cls := "PressedMenModel", name := "of", desc := "(II)I" } : Jvm.MethodName)) ∈ lw_all := lw_g (lw_at lw_m6 78 rfl) rfl
theorem q1342 : (Jvm.Cond.code ({ cls := "PressedMenModel", name := "of", desc := "(II)I" } : Jvm.MethodName) prog_21_method_66_code (3 : Nat) (Option.some Jvm.ClassFile.FieldType.int)) ∈ lw_all := lw_g (lw_at lw_m6 79 rfl) rfl
theorem q1343 : (Jvm.Cond.methodLink "PressedMenModel" (259 : Nat) ({ cls := "PressedMenModel", name := "noShip", desc := "(I)Z" } : Jvm.MethodName)) ∈ lw_all := lw_g (lw_at lw_m6 80 rfl) rfl
theorem q1344 : (Jvm.Cond.privateMethod ({ cls := "PressedMenModel", name := "noShip", desc := "(I)Z" } : Jvm.MethodName)) ∈ lw_tbl := lw_at lw_m6 81 rfl
theorem q1345 : (Jvm.Cond.instanceMethod ({ cls := "PressedMenModel", name := "noShip", desc := "(I)Z" } : Jvm.MethodName)) ∈ lw_all := lw_g (lw_at lw_m6 82 rfl) rfl
theorem q1346 : (Jvm.Cond.code ({ cls := "PressedMenModel", name := "noShip", desc := "(I)Z" } : Jvm.MethodName) prog_21_method_6_code (2 : Nat) (Option.some Jvm.ClassFile.FieldType.boolean)) ∈ lw_all := lw_g (lw_at lw_m6 83 rfl) rfl
theorem q1347 : (Jvm.Cond.methodLink "PressedMenModel" (262 : Nat) ({ cls := "PressedMenModel", name := "skilled", desc := "(I)I" } : Jvm.MethodName)) ∈ lw_all := lw_g (lw_at lw_m6 84 rfl) rfl
theorem q1348 : (Jvm.Cond.privateMethod ({ cls := "PressedMenModel", name := "skilled", desc := "(I)I" } : Jvm.MethodName)) ∈ lw_tbl := lw_at lw_m6 85 rfl
theorem q1349 : (Jvm.Cond.instanceMethod ({ cls := "PressedMenModel", name := "skilled", desc := "(I)I" } : Jvm.MethodName)) ∈ lw_all := lw_g (lw_at lw_m6 86 rfl) rfl
theorem q1350 : (Jvm.Cond.code ({ cls := "PressedMenModel", name := "skilled", desc := "(I)I" } : Jvm.MethodName) prog_21_method_23_code (4 : Nat) (Option.some Jvm.ClassFile.FieldType.int)) ∈ lw_all := lw_g (lw_at lw_m6 87 rfl) rfl
theorem q1352 : (Jvm.Cond.instanceMethod ({ cls := "PressedMenModel", name := "spare", desc := "(II)I" } : Jvm.MethodName)) ∈ lw_all := lw_g (lw_at lw_m6 89 rfl) rfl
theorem q1353 : (Jvm.Cond.selects "PressedMenModel" ({ cls := "PressedMenModel", name := "spare", desc := "(II)I" } : Jvm.MethodName) ({ cls := "PressedMenModel", name := "spare", desc := "(II)I" } : Jvm.MethodName)) ∈ lw_all := lw_g (lw_at lw_m6 90 rfl) rfl
theorem q1354 : (Jvm.Cond.code ({ cls := "PressedMenModel", name := "spare", desc := "(II)I" } : Jvm.MethodName) prog_21_method_69_code (3 : Nat) (Option.some Jvm.ClassFile.FieldType.int)) ∈ lw_all := lw_g (lw_at lw_m6 91 rfl) rfl
theorem q1355 : (Jvm.Cond.methodLink "PressedMenModel" (265 : Nat) ({ cls := "PressedMenModel", name := "badWeather", desc := "(I)Z" } : Jvm.MethodName)) ∈ lw_all := lw_g (lw_at lw_m6 92 rfl) rfl
theorem q1356 : (Jvm.Cond.static ({ cls := "PressedMenModel", name := "badWeather", desc := "(I)Z" } : Jvm.MethodName)) ∈ lw_all := lw_g (lw_at lw_m6 93 rfl) rfl
theorem q1357 : (Jvm.Cond.code ({ cls := "PressedMenModel", name := "badWeather", desc := "(I)Z" } : Jvm.MethodName) prog_21_method_68_code (1 : Nat) (Option.some Jvm.ClassFile.FieldType.boolean)) ∈ lw_all := lw_g (lw_at lw_m6 94 rfl) rfl
theorem q1358 : (Jvm.Cond.methodLink "PressedMenModel" (268 : Nat) ({ cls := "PressedMenModel", name := "spared", desc := "(II)I" } : Jvm.MethodName)) ∈ lw_all := lw_g (lw_at lw_m6 95 rfl) rfl
theorem q1359 : (Jvm.Cond.privateMethod ({ cls := "PressedMenModel", name := "spared", desc := "(II)I" } : Jvm.MethodName)) ∈ lw_tbl := lw_at lw_m6 96 rfl
theorem q1360 : (Jvm.Cond.instanceMethod ({ cls := "PressedMenModel", name := "spared", desc := "(II)I" } : Jvm.MethodName)) ∈ lw_all := lw_g (lw_at lw_m6 97 rfl) rfl
theorem q1361 : (Jvm.Cond.code ({ cls := "PressedMenModel", name := "spared", desc := "(II)I" } : Jvm.MethodName) prog_21_method_67_code (4 : Nat) (Option.some Jvm.ClassFile.FieldType.int)) ∈ lw_all := lw_g (lw_at lw_m6 98 rfl) rfl
theorem q1363 : (Jvm.Cond.instanceMethod ({ cls := "PressedMenModel", name := "board", desc := "(II)I" } : Jvm.MethodName)) ∈ lw_all := lw_g (lw_at lw_m6 100 rfl) rfl
theorem q1364 : (Jvm.Cond.selects "PressedMenModel" ({ cls := "PressedMenModel", name := "board", desc := "(II)I" } : Jvm.MethodName) ({ cls := "PressedMenModel", name := "board", desc := "(II)I" } : Jvm.MethodName)) ∈ lw_all := lw_g (lw_at lw_m6 101 rfl) rfl
theorem q1365 : (Jvm.Cond.code ({ cls := "PressedMenModel", name := "board", desc := "(II)I" } : Jvm.MethodName) prog_21_method_70_code (3 : Nat) (Option.some Jvm.ClassFile.FieldType.int)) ∈ lw_all := lw_g (lw_at lw_m6 102 rfl) rfl
theorem q1367 : (Jvm.Cond.instanceMethod ({ cls := "PressedMenModel", name := "turn", desc := "(II)I" } : Jvm.MethodName)) ∈ lw_all := lw_g (lw_at lw_m6 104 rfl) rfl
theorem q1368 : (Jvm.Cond.selects "PressedMenModel" ({ cls := "PressedMenModel", name := "turn", desc := "(II)I" } : Jvm.MethodName) ({ cls := "PressedMenModel", name := "turn", desc := "(II)I" } : Jvm.MethodName)) ∈ lw_all := lw_g (lw_at lw_m6 105 rfl) rfl
theorem q1369 : (Jvm.Cond.code ({ cls := "PressedMenModel", name := "turn", desc := "(II)I" } : Jvm.MethodName) prog_21_method_71_code (4 : Nat) (Option.some Jvm.ClassFile.FieldType.int)) ∈ lw_all := lw_g (lw_at lw_m6 106 rfl) rfl
theorem q1371 : (Jvm.Cond.instanceMethod ({ cls := "PressedMenModel", name := "notAshore", desc := "(II)I" } : Jvm.MethodName)) ∈ lw_all := lw_g (lw_at lw_m6 108 rfl) rfl
theorem q1372 : (Jvm.Cond.selects "PressedMenModel" ({ cls := "PressedMenModel", name := "notAshore", desc := "(II)I" } : Jvm.MethodName) ({ cls := "PressedMenModel", name := "notAshore", desc := "(II)I" } : Jvm.MethodName)) ∈ lw_all := lw_g (lw_at lw_m6 109 rfl) rfl
theorem q1373 : (Jvm.Cond.code ({ cls := "PressedMenModel", name := "notAshore", desc := "(II)I" } : Jvm.MethodName) prog_21_method_72_code (4 : Nat) (Option.some Jvm.ClassFile.FieldType.int)) ∈ lw_all := lw_g (lw_at lw_m6 110 rfl) rfl
theorem q1375 : (Jvm.Cond.instanceMethod ({ cls := "PressedMenModel", name := "taken", desc := "(II)I" } : Jvm.MethodName)) ∈ lw_all := lw_g (lw_at lw_m6 112 rfl) rfl
theorem q1376 : (Jvm.Cond.selects "PressedMenModel" ({ cls := "PressedMenModel", name := "taken", desc := "(II)I" } : Jvm.MethodName) ({ cls := "PressedMenModel", name := "taken", desc := "(II)I" } : Jvm.MethodName)) ∈ lw_all := lw_g (lw_at lw_m6 113 rfl) rfl
theorem q1377 : (Jvm.Cond.code ({ cls := "PressedMenModel", name := "taken", desc := "(II)I" } : Jvm.MethodName) prog_21_method_75_code (4 : Nat) (Option.some Jvm.ClassFile.FieldType.int)) ∈ lw_all := lw_g (lw_at lw_m6 114 rfl) rfl
theorem q1378 : (Jvm.Cond.methodLink "PressedMenModel" (271 : Nat) ({ cls := "PressedMenModel", name := "mayGo", desc := "(I)Z" } : Jvm.MethodName)) ∈ lw_all := lw_g (lw_at lw_m6 115 rfl) rfl
theorem q1379 : (Jvm.Cond.privateMethod ({ cls := "PressedMenModel", name := "mayGo", desc := "(I)Z" } : Jvm.MethodName)) ∈ lw_tbl := lw_at lw_m6 116 rfl
theorem q1380 : (Jvm.Cond.instanceMethod ({ cls := "PressedMenModel", name := "mayGo", desc := "(I)Z" } : Jvm.MethodName)) ∈ lw_all := lw_g (lw_at lw_m6 117 rfl) rfl
theorem q1381 : (Jvm.Cond.code ({ cls := "PressedMenModel", name := "mayGo", desc := "(I)Z" } : Jvm.MethodName) prog_21_method_73_code (2 : Nat) (Option.some Jvm.ClassFile.FieldType.boolean)) ∈ lw_all := lw_g (lw_at lw_m6 118 rfl) rfl
theorem q1382 : (Jvm.Cond.methodLink "PressedMenModel" (274 : Nat) ({ cls := "PressedMenModel", name := "fewest", desc := "(II)I" } : Jvm.MethodName)) ∈ lw_all := lw_g (lw_at lw_m6 119 rfl) rfl
theorem q1383 : (Jvm.Cond.privateMethod ({ cls := "PressedMenModel", name := "fewest", desc := "(II)I" } : Jvm.MethodName)) ∈ lw_tbl := lw_at lw_m6 120 rfl
theorem q1384 : (Jvm.Cond.instanceMethod ({ cls := "PressedMenModel", name := "fewest", desc := "(II)I" } : Jvm.MethodName)) ∈ lw_all := lw_g (lw_at lw_m6 121 rfl) rfl
theorem q1385 : (Jvm.Cond.code ({ cls := "PressedMenModel", name := "fewest", desc := "(II)I" } : Jvm.MethodName) prog_21_method_74_code (10 : Nat) (Option.some Jvm.ClassFile.FieldType.int)) ∈ lw_all := lw_g (lw_at lw_m6 122 rfl) rfl
theorem q1387 : (Jvm.Cond.instanceMethod ({ cls := "PressedMenModel", name := "fleet", desc := "(I)I" } : Jvm.MethodName)) ∈ lw_all := lw_g (lw_at lw_m6 124 rfl) rfl
theorem q1388 : (Jvm.Cond.selects "PressedMenModel" ({ cls := "PressedMenModel", name := "fleet", desc := "(I)I" } : Jvm.MethodName) ({ cls := "PressedMenModel", name := "fleet", desc := "(I)I" } : Jvm.MethodName)) ∈ lw_all := lw_g (lw_at lw_m6 125 rfl) rfl
theorem q1389 : (Jvm.Cond.code ({ cls := "PressedMenModel", name := "fleet", desc := "(I)I" } : Jvm.MethodName) prog_21_method_76_code (9 : Nat) (Option.some Jvm.ClassFile.FieldType.int)) ∈ lw_all := lw_g (lw_at lw_m6 126 rfl) rfl
theorem q1391 : (Jvm.Cond.instanceMethod ({ cls := "PressedMenModel", name := "sail", desc := "(I)I" } : Jvm.MethodName)) ∈ lw_all := lw_g (lw_at lw_m6 128 rfl) rfl
theorem q1392 : (Jvm.Cond.selects "PressedMenModel" ({ cls := "PressedMenModel", name := "sail", desc := "(I)I" } : Jvm.MethodName) ({ cls := "PressedMenModel", name := "sail", desc := "(I)I" } : Jvm.MethodName)) ∈ lw_all := lw_g (lw_at lw_m6 129 rfl) rfl
theorem q1393 : (Jvm.Cond.code ({ cls := "PressedMenModel", name := "sail", desc := "(I)I" } : Jvm.MethodName) prog_21_method_77_code (2 : Nat) (Option.some Jvm.ClassFile.FieldType.int)) ∈ lw_all := lw_g (lw_at lw_m6 130 rfl) rfl
theorem q1395 : (Jvm.Cond.instanceMethod ({ cls := "PressedMenModel", name := "comeHome", desc := "(I)I" } : Jvm.MethodName)) ∈ lw_all := lw_g (lw_at lw_m6 132 rfl) rfl
theorem q1396 : (Jvm.Cond.selects "PressedMenModel" ({ cls := "PressedMenModel", name := "comeHome", desc := "(I)I" } : Jvm.MethodName) ({ cls := "PressedMenModel", name := "comeHome", desc := "(I)I" } : Jvm.MethodName)) ∈ lw_all := lw_g (lw_at lw_m6 133 rfl) rfl
theorem q1397 : (Jvm.Cond.code ({ cls := "PressedMenModel", name := "comeHome", desc := "(I)I" } : Jvm.MethodName) prog_21_method_78_code (2 : Nat) (Option.some Jvm.ClassFile.FieldType.int)) ∈ lw_all := lw_g (lw_at lw_m6 134 rfl) rfl
theorem q1399 : (Jvm.Cond.instanceMethod ({ cls := "PressedMenModel", name := "ticket", desc := "(III)I" } : Jvm.MethodName)) ∈ lw_all := lw_g (lw_at lw_m6 136 rfl) rfl
theorem q1400 : (Jvm.Cond.selects "PressedMenModel" ({ cls := "PressedMenModel", name := "ticket", desc := "(III)I" } : Jvm.MethodName) ({ cls := "PressedMenModel", name := "ticket", desc := "(III)I" } : Jvm.MethodName)) ∈ lw_all := lw_g (lw_at lw_m6 137 rfl) rfl
theorem q1401 : (Jvm.Cond.code ({ cls := "PressedMenModel", name := "ticket", desc := "(III)I" } : Jvm.MethodName) prog_21_method_81_code (4 : Nat) (Option.some Jvm.ClassFile.FieldType.int)) ∈ lw_all := lw_g (lw_at lw_m6 138 rfl) rfl
theorem q1402 : (Jvm.Cond.constantLong "PressedMenModel" (282 : Nat) (99 : Int64)) ∈ lw_all := lw_g (lw_at lw_m6 139 rfl) rfl
theorem q1404 : (Jvm.Cond.instanceMethod ({ cls := "PressedMenModel", name := "sell", desc := "(III)I" } : Jvm.MethodName)) ∈ lw_all := lw_g (lw_at lw_m6 141 rfl) rfl
theorem q1405 : (Jvm.Cond.selects "PressedMenModel" ({ cls := "PressedMenModel", name := "sell", desc := "(III)I" } : Jvm.MethodName) ({ cls := "PressedMenModel", name := "sell", desc := "(III)I" } : Jvm.MethodName)) ∈ lw_all := lw_g (lw_at lw_m6 142 rfl) rfl
theorem q1406 : (Jvm.Cond.code ({ cls := "PressedMenModel", name := "sell", desc := "(III)I" } : Jvm.MethodName) prog_21_method_83_code (5 : Nat) (Option.some Jvm.ClassFile.FieldType.int)) ∈ lw_all := lw_g (lw_at lw_m6 143 rfl) rfl
theorem q1407 : (Jvm.Cond.methodLink "PressedMenModel" (284 : Nat) ({ cls := "PressedMenModel", name := "noTicket", desc := "(I)Z" } : Jvm.MethodName)) ∈ lw_all := lw_g (lw_at lw_m6 144 rfl) rfl
theorem q1408 : (Jvm.Cond.privateMethod ({ cls := "PressedMenModel", name := "noTicket", desc := "(I)Z" } : Jvm.MethodName)) ∈ lw_tbl := lw_at lw_m6 145 rfl
theorem q1409 : (Jvm.Cond.instanceMethod ({ cls := "PressedMenModel", name := "noTicket", desc := "(I)Z" } : Jvm.MethodName)) ∈ lw_all := lw_g (lw_at lw_m6 146 rfl) rfl
theorem q1410 : (Jvm.Cond.code ({ cls := "PressedMenModel", name := "noTicket", desc := "(I)Z" } : Jvm.MethodName) prog_21_method_79_code (2 : Nat) (Option.some Jvm.ClassFile.FieldType.boolean)) ∈ lw_all := lw_g (lw_at lw_m6 147 rfl) rfl
theorem q1411 : (Jvm.Cond.methodLink "PressedMenModel" (287 : Nat) ({ cls := "PressedMenModel", name := "noHolder", desc := "(I)Z" } : Jvm.MethodName)) ∈ lw_all := lw_g (lw_at lw_m6 148 rfl) rfl
theorem q1412 : (Jvm.Cond.static ({ cls := "PressedMenModel", name := "noHolder", desc := "(I)Z" } : Jvm.MethodName)) ∈ lw_all := lw_g (lw_at lw_m6 149 rfl) rfl
theorem q1413 : (Jvm.Cond.code ({ cls := "PressedMenModel", name := "noHolder", desc := "(I)Z" } : Jvm.MethodName) prog_21_method_80_code (1 : Nat) (Option.some Jvm.ClassFile.FieldType.boolean)) ∈ lw_all := lw_g (lw_at lw_m6 150 rfl) rfl
theorem q1414 : (Jvm.Cond.constantLong "PressedMenModel" (280 : Nat) (9 : Int64)) ∈ lw_all := lw_g (lw_at lw_m6 151 rfl) rfl
theorem q1415 : (Jvm.Cond.methodLink "PressedMenModel" (290 : Nat) ({ cls := "PressedMenModel", name := "give", desc := "(III)V" } : Jvm.MethodName)) ∈ lw_all := lw_g (lw_at lw_m6 152 rfl) rfl
theorem q1416 : (Jvm.Cond.privateMethod ({ cls := "PressedMenModel", name := "give", desc := "(III)V" } : Jvm.MethodName)) ∈ lw_tbl := lw_at lw_m6 153 rfl
theorem q1417 : (Jvm.Cond.instanceMethod ({ cls := "PressedMenModel", name := "give", desc := "(III)V" } : Jvm.MethodName)) ∈ lw_all := lw_g (lw_at lw_m6 154 rfl) rfl
theorem q1418 : (Jvm.Cond.code ({ cls := "PressedMenModel", name := "give", desc := "(III)V" } : Jvm.MethodName) prog_21_method_82_code (4 : Nat) (Option.none : Option Jvm.ClassFile.FieldType)) ∈ lw_all := lw_g (lw_at lw_m6 155 rfl) rfl
theorem q1420 : (Jvm.Cond.instanceMethod ({ cls := "PressedMenModel", name := "pay", desc := "(II)I" } : Jvm.MethodName)) ∈ lw_all := lw_g (lw_at lw_m6 157 rfl) rfl
theorem q1421 : (Jvm.Cond.selects "PressedMenModel" ({ cls := "PressedMenModel", name := "pay", desc := "(II)I" } : Jvm.MethodName) ({ cls := "PressedMenModel", name := "pay", desc := "(II)I" } : Jvm.MethodName)) ∈ lw_all := lw_g (lw_at lw_m6 158 rfl) rfl
theorem q1422 : (Jvm.Cond.code ({ cls := "PressedMenModel", name := "pay", desc := "(II)I" } : Jvm.MethodName) prog_21_method_84_code (3 : Nat) (Option.some Jvm.ClassFile.FieldType.int)) ∈ lw_all := lw_g (lw_at lw_m6 159 rfl) rfl
theorem q1424 : (Jvm.Cond.instanceMethod ({ cls := "PressedMenModel", name := "ticketOf", desc := "(II)I" } : Jvm.MethodName)) ∈ lw_all := lw_g (lw_at lw_m6 161 rfl) rfl
theorem q1425 : (Jvm.Cond.selects "PressedMenModel" ({ cls := "PressedMenModel", name := "ticketOf", desc := "(II)I" } : Jvm.MethodName) ({ cls := "PressedMenModel", name := "ticketOf", desc := "(II)I" } : Jvm.MethodName)) ∈ lw_all := lw_g (lw_at lw_m6 162 rfl) rfl
theorem q1426 : (Jvm.Cond.code ({ cls := "PressedMenModel", name := "ticketOf", desc := "(II)I" } : Jvm.MethodName) prog_21_method_85_code (3 : Nat) (Option.some Jvm.ClassFile.FieldType.int)) ∈ lw_all := lw_g (lw_at lw_m6 163 rfl) rfl
theorem q1428 : (Jvm.Cond.instanceMethod ({ cls := "PressedMenModel", name := "purse", desc := "(I)I" } : Jvm.MethodName)) ∈ lw_all := lw_g (lw_at lw_m6 165 rfl) rfl
theorem q1429 : (Jvm.Cond.selects "PressedMenModel" ({ cls := "PressedMenModel", name := "purse", desc := "(I)I" } : Jvm.MethodName) ({ cls := "PressedMenModel", name := "purse", desc := "(I)I" } : Jvm.MethodName)) ∈ lw_all := lw_g (lw_at lw_m6 166 rfl) rfl
theorem q1430 : (Jvm.Cond.code ({ cls := "PressedMenModel", name := "purse", desc := "(I)I" } : Jvm.MethodName) prog_21_method_86_code (2 : Nat) (Option.some Jvm.ClassFile.FieldType.int)) ∈ lw_all := lw_g (lw_at lw_m6 167 rfl) rfl
theorem q1431 : (Jvm.Cond.constant "PressedMenModel" (294 : Nat) (10000000 : Int32)) ∈ lw_all := lw_g (lw_at lw_m6 168 rfl) rfl
theorem q1433 : (Jvm.Cond.instanceMethod ({ cls := "PressedMenModel", name := "wages", desc := "(IZ)I" } : Jvm.MethodName)) ∈ lw_all := lw_g (lw_at lw_m6 170 rfl) rfl
theorem q1434 : (Jvm.Cond.selects "PressedMenModel" ({ cls := "PressedMenModel", name := "wages", desc := "(IZ)I" } : Jvm.MethodName) ({ cls := "PressedMenModel", name := "wages", desc := "(IZ)I" } : Jvm.MethodName)) ∈ lw_all := lw_g (lw_at lw_m6 171 rfl) rfl
theorem q1435 : (Jvm.Cond.code ({ cls := "PressedMenModel", name := "wages", desc := "(IZ)I" } : Jvm.MethodName) prog_21_method_87_code (5 : Nat) (Option.some Jvm.ClassFile.FieldType.int)) ∈ lw_all := lw_g (lw_at lw_m6 172 rfl) rfl
theorem q1437 : (Jvm.Cond.instanceMethod ({ cls := "PressedMenModel", name := "count", desc := "(I)I" } : Jvm.MethodName)) ∈ lw_all := lw_g (lw_at lw_m6 174 rfl) rfl
theorem q1438 : (Jvm.Cond.selects "PressedMenModel" ({ cls := "PressedMenModel", name := "count", desc := "(I)I" } : Jvm.MethodName) ({ cls := "PressedMenModel", name := "count", desc := "(I)I" } : Jvm.MethodName)) ∈ lw_all := lw_g (lw_at lw_m6 175 rfl) rfl
theorem q1439 : (Jvm.Cond.code ({ cls := "PressedMenModel", name := "count", desc := "(I)I" } : Jvm.MethodName) prog_21_method_88_code (4 : Nat) (Option.some Jvm.ClassFile.FieldType.int)) ∈ lw_all := lw_g (lw_at lw_m6 176 rfl) rfl
theorem in_X1 : ∀ w ∈ wsX10, w ∈ lw_all := lw_in wsX10 [1005, 1007, 1009, 1011, 1013, 1015, 1017, 1019, 1021, 1023, 1025, 1027, 1029, 1031, 1033, 1035, 1037, 1039, 1041, 1043, 1045, 1047, 1049, 1051, 1053, 1055, 1057, 1059, 1061, 1063, 1065, 1067, 1069, 1071, 1073, 1075, 1077, 1079, 1081] (by decide +kernel) (by decide +kernel)
