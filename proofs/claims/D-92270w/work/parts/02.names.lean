set_option maxRecDepth 100000
/-! java/lang/Math -/
def RJ0 : String := "java/lang/Math"
abbrev cJ0_min : ByteArray := prog_23_method_69_code
def yJ0_min : MethodName := ⟨RJ0, "min", "(II)I"⟩
theorem dJ0_min_0 : decode cJ0_min 0 = .ok (.iload_n 0, 1) := by decide +kernel
theorem dJ0_min_1 : decode cJ0_min 1 = .ok (.iload_n 1, 1) := by decide +kernel
theorem dJ0_min_2 : decode cJ0_min 2 = .ok (.if_icmp .gt 7, 3) := by decide +kernel
theorem dJ0_min_5 : decode cJ0_min 5 = .ok (.iload_n 0, 1) := by decide +kernel
theorem dJ0_min_6 : decode cJ0_min 6 = .ok (.goto 4, 3) := by decide +kernel
theorem dJ0_min_9 : decode cJ0_min 9 = .ok (.iload_n 1, 1) := by decide +kernel
theorem dJ0_min_10 : decode cJ0_min 10 = .ok (.ireturn, 1) := by decide +kernel
abbrev cJ0_max : ByteArray := prog_23_method_65_code
def yJ0_max : MethodName := ⟨RJ0, "max", "(II)I"⟩
theorem dJ0_max_0 : decode cJ0_max 0 = .ok (.iload_n 0, 1) := by decide +kernel
theorem dJ0_max_1 : decode cJ0_max 1 = .ok (.iload_n 1, 1) := by decide +kernel
theorem dJ0_max_2 : decode cJ0_max 2 = .ok (.if_icmp .lt 7, 3) := by decide +kernel
theorem dJ0_max_5 : decode cJ0_max 5 = .ok (.iload_n 0, 1) := by decide +kernel
theorem dJ0_max_6 : decode cJ0_max 6 = .ok (.goto 4, 3) := by decide +kernel
theorem dJ0_max_9 : decode cJ0_max 9 = .ok (.iload_n 1, 1) := by decide +kernel
theorem dJ0_max_10 : decode cJ0_max 10 = .ok (.ireturn, 1) := by decide +kernel
theorem q68 : (Jvm.Cond.initialized "java/lang/Math") ∈ lw_all := lw_g (lw_at lw_m1 5 rfl) rfl
theorem q309 : (Jvm.Cond.static ({ cls := "java/lang/Math", name := "min", desc := "(II)I" } : Jvm.MethodName)) ∈ lw_all := lw_g (lw_at lw_m2 6 rfl) rfl
theorem q310 : (Jvm.Cond.code ({ cls := "java/lang/Math", name := "min", desc := "(II)I" } : Jvm.MethodName) prog_23_method_69_code (2 : Nat) (Option.some Jvm.ClassFile.FieldType.int)) ∈ lw_all := lw_g (lw_at lw_m2 7 rfl) rfl
theorem q316 : (Jvm.Cond.static ({ cls := "java/lang/Math", name := "max", desc := "(II)I" } : Jvm.MethodName)) ∈ lw_all := lw_g (lw_at lw_m2 13 rfl) rfl
theorem q317 : (Jvm.Cond.code ({ cls := "java/lang/Math", name := "max", desc := "(II)I" } : Jvm.MethodName) prog_23_method_65_code (2 : Nat) (Option.some Jvm.ClassFile.FieldType.int)) ∈ lw_all := lw_g (lw_at lw_m2 14 rfl) rfl
/-! java/lang/Integer -/
def RJ1 : String := "java/lang/Integer"
abbrev cJ1_bitCount : ByteArray := prog_22_method_49_code
def yJ1_bitCount : MethodName := ⟨RJ1, "bitCount", "(I)I"⟩
theorem dJ1_bitCount_0 : decode cJ1_bitCount 0 = .ok (.iload_n 0, 1) := by decide +kernel
theorem dJ1_bitCount_1 : decode cJ1_bitCount 1 = .ok (.iload_n 0, 1) := by decide +kernel
theorem dJ1_bitCount_2 : decode cJ1_bitCount 2 = .ok (.iconst 1, 1) := by decide +kernel
theorem dJ1_bitCount_3 : decode cJ1_bitCount 3 = .ok (.iushr, 1) := by decide +kernel
theorem dJ1_bitCount_4 : decode cJ1_bitCount 4 = .ok (.ldc_w 265, 3) := by decide +kernel
theorem dJ1_bitCount_7 : decode cJ1_bitCount 7 = .ok (.iand, 1) := by decide +kernel
theorem dJ1_bitCount_8 : decode cJ1_bitCount 8 = .ok (.isub, 1) := by decide +kernel
theorem dJ1_bitCount_9 : decode cJ1_bitCount 9 = .ok (.istore_n 0, 1) := by decide +kernel
theorem dJ1_bitCount_10 : decode cJ1_bitCount 10 = .ok (.iload_n 0, 1) := by decide +kernel
theorem dJ1_bitCount_11 : decode cJ1_bitCount 11 = .ok (.ldc_w 266, 3) := by decide +kernel
theorem dJ1_bitCount_14 : decode cJ1_bitCount 14 = .ok (.iand, 1) := by decide +kernel
theorem dJ1_bitCount_15 : decode cJ1_bitCount 15 = .ok (.iload_n 0, 1) := by decide +kernel
theorem dJ1_bitCount_16 : decode cJ1_bitCount 16 = .ok (.iconst 2, 1) := by decide +kernel
theorem dJ1_bitCount_17 : decode cJ1_bitCount 17 = .ok (.iushr, 1) := by decide +kernel
theorem dJ1_bitCount_18 : decode cJ1_bitCount 18 = .ok (.ldc_w 266, 3) := by decide +kernel
theorem dJ1_bitCount_21 : decode cJ1_bitCount 21 = .ok (.iand, 1) := by decide +kernel
theorem dJ1_bitCount_22 : decode cJ1_bitCount 22 = .ok (.iadd, 1) := by decide +kernel
theorem dJ1_bitCount_23 : decode cJ1_bitCount 23 = .ok (.istore_n 0, 1) := by decide +kernel
theorem dJ1_bitCount_24 : decode cJ1_bitCount 24 = .ok (.iload_n 0, 1) := by decide +kernel
theorem dJ1_bitCount_25 : decode cJ1_bitCount 25 = .ok (.iload_n 0, 1) := by decide +kernel
theorem dJ1_bitCount_26 : decode cJ1_bitCount 26 = .ok (.iconst 4, 1) := by decide +kernel
theorem dJ1_bitCount_27 : decode cJ1_bitCount 27 = .ok (.iushr, 1) := by decide +kernel
theorem dJ1_bitCount_28 : decode cJ1_bitCount 28 = .ok (.iadd, 1) := by decide +kernel
theorem dJ1_bitCount_29 : decode cJ1_bitCount 29 = .ok (.ldc_w 267, 3) := by decide +kernel
theorem dJ1_bitCount_32 : decode cJ1_bitCount 32 = .ok (.iand, 1) := by decide +kernel
theorem dJ1_bitCount_33 : decode cJ1_bitCount 33 = .ok (.istore_n 0, 1) := by decide +kernel
theorem dJ1_bitCount_34 : decode cJ1_bitCount 34 = .ok (.iload_n 0, 1) := by decide +kernel
theorem dJ1_bitCount_35 : decode cJ1_bitCount 35 = .ok (.iload_n 0, 1) := by decide +kernel
theorem dJ1_bitCount_36 : decode cJ1_bitCount 36 = .ok (.bipush 8, 2) := by decide +kernel
theorem dJ1_bitCount_38 : decode cJ1_bitCount 38 = .ok (.iushr, 1) := by decide +kernel
theorem dJ1_bitCount_39 : decode cJ1_bitCount 39 = .ok (.iadd, 1) := by decide +kernel
theorem dJ1_bitCount_40 : decode cJ1_bitCount 40 = .ok (.istore_n 0, 1) := by decide +kernel
theorem dJ1_bitCount_41 : decode cJ1_bitCount 41 = .ok (.iload_n 0, 1) := by decide +kernel
theorem dJ1_bitCount_42 : decode cJ1_bitCount 42 = .ok (.iload_n 0, 1) := by decide +kernel
theorem dJ1_bitCount_43 : decode cJ1_bitCount 43 = .ok (.bipush 16, 2) := by decide +kernel
theorem dJ1_bitCount_45 : decode cJ1_bitCount 45 = .ok (.iushr, 1) := by decide +kernel
theorem dJ1_bitCount_46 : decode cJ1_bitCount 46 = .ok (.iadd, 1) := by decide +kernel
theorem dJ1_bitCount_47 : decode cJ1_bitCount 47 = .ok (.istore_n 0, 1) := by decide +kernel
theorem dJ1_bitCount_48 : decode cJ1_bitCount 48 = .ok (.iload_n 0, 1) := by decide +kernel
theorem dJ1_bitCount_49 : decode cJ1_bitCount 49 = .ok (.bipush 63, 2) := by decide +kernel
theorem dJ1_bitCount_51 : decode cJ1_bitCount 51 = .ok (.iand, 1) := by decide +kernel
theorem dJ1_bitCount_52 : decode cJ1_bitCount 52 = .ok (.ireturn, 1) := by decide +kernel
theorem q85 : (Jvm.Cond.initialized "java/lang/Integer") ∈ lw_all := lw_g (lw_at lw_m1 22 rfl) rfl
theorem q879 : (Jvm.Cond.static ({ cls := "java/lang/Integer", name := "bitCount", desc := "(I)I" } : Jvm.MethodName)) ∈ lw_all := lw_g (lw_at lw_m4 96 rfl) rfl
theorem q880 : (Jvm.Cond.code ({ cls := "java/lang/Integer", name := "bitCount", desc := "(I)I" } : Jvm.MethodName) prog_22_method_49_code (1 : Nat) (Option.some Jvm.ClassFile.FieldType.int)) ∈ lw_all := lw_g (lw_at lw_m4 97 rfl) rfl
theorem q881 : (Jvm.Cond.constant "java/lang/Integer" (265 : Nat) (1431655765 : Int32)) ∈ lw_all := lw_g (lw_at lw_m4 98 rfl) rfl
theorem q882 : (Jvm.Cond.constant "java/lang/Integer" (266 : Nat) (858993459 : Int32)) ∈ lw_all := lw_g (lw_at lw_m4 99 rfl) rfl
theorem q883 : (Jvm.Cond.constant "java/lang/Integer" (267 : Nat) (252645135 : Int32)) ∈ lw_all := lw_g (lw_at lw_m4 100 rfl) rfl
/-! java/lang/Object -/
def RJ2 : String := "java/lang/Object"
abbrev cJ2_init : ByteArray := object_method_1_code
def yJ2_init : MethodName := ⟨RJ2, "<init>", "()V"⟩
theorem dJ2_init_0 : decode cJ2_init 0 = .ok (.return_, 1) := by decide +kernel
theorem q93 : (Jvm.Cond.instanceMethod ({ cls := "java/lang/Object", name := "<init>", desc := "()V" } : Jvm.MethodName)) ∈ lw_all := lw_g (lw_at lw_m1 30 rfl) rfl
theorem q94 : (Jvm.Cond.code ({ cls := "java/lang/Object", name := "<init>", desc := "()V" } : Jvm.MethodName) object_method_1_code (1 : Nat) (Option.none : Option Jvm.ClassFile.FieldType)) ∈ lw_all := lw_g (lw_at lw_m1 31 rfl) rfl
theorem q96 : (Jvm.Cond.arrayOver (Jvm.ClassFile.FieldType.array Jvm.ClassFile.FieldType.boolean)) ∈ lw_tbl := lw_at lw_m1 33 rfl
theorem q98 : (Jvm.Cond.arrayOver (Jvm.ClassFile.FieldType.object "PressedMen$Man")) ∈ lw_tbl := lw_at lw_m1 35 rfl
theorem q100 : (Jvm.Cond.arrayOver (Jvm.ClassFile.FieldType.object "PressedMen$Paper")) ∈ lw_tbl := lw_at lw_m1 37 rfl
theorem q102 : (Jvm.Cond.arrayOver (Jvm.ClassFile.FieldType.object "PressedMen$Act")) ∈ lw_tbl := lw_at lw_m1 39 rfl
theorem q104 : (Jvm.Cond.arrayOver (Jvm.ClassFile.FieldType.object "PressedMen$Taking")) ∈ lw_tbl := lw_at lw_m1 41 rfl
theorem q106 : (Jvm.Cond.arrayOver (Jvm.ClassFile.FieldType.object "PressedMen$Ship")) ∈ lw_tbl := lw_at lw_m1 43 rfl
theorem q108 : (Jvm.Cond.arrayOver (Jvm.ClassFile.FieldType.object "PressedMen$Ticket")) ∈ lw_tbl := lw_at lw_m1 45 rfl
theorem q172 : (Jvm.Cond.arrayClass Jvm.ClassFile.FieldType.boolean) ∈ lw_all := lw_g (lw_at lw_m1 109 rfl) rfl
theorem q173 : (Jvm.Cond.arrayClass Jvm.ClassFile.FieldType.int) ∈ lw_all := lw_g (lw_at lw_m1 110 rfl) rfl
theorem q727 : (Jvm.Cond.arrayOver (Jvm.ClassFile.FieldType.array Jvm.ClassFile.FieldType.int)) ∈ lw_tbl := lw_at lw_m3 184 rfl
theorem q83 : (Jvm.Cond.initialized "java/lang/System") ∈ lw_all := lw_g (lw_at lw_m1 20 rfl) rfl
theorem q746 : (Jvm.Cond.static ({ cls := "java/lang/System", name := "arraycopy", desc := "(Ljava/lang/Object;ILjava/lang/Object;II)V" } : Jvm.MethodName)) ∈ lw_all := lw_g (lw_at lw_m3 203 rfl) rfl
theorem q747 : (Jvm.Cond.native ({ cls := "java/lang/System", name := "arraycopy", desc := "(Ljava/lang/Object;ILjava/lang/Object;II)V" } : Jvm.MethodName)) ∈ lw_all := lw_g (lw_at lw_m3 204 rfl) rfl
/-! PressedMen$AtLeast -/
def RX10 : String := "PressedMen$AtLeast"
def TX10 : u_T := fun k => match k with
  | 0 => ("PressedMen$AtLeast", "what", "I", true)
  | _ => ("PressedMen$AtLeast", "least", "I", true)
def tyX10 : Nat → FieldType := fun k => match k with
  | 0 => .int
  | _ => .int
abbrev wsX100 : List Cond := u_ws RX10 TX10 2
theorem nmX10 : ∀ a, a < 2 → ∀ b, b < 2 → a ≠ b → (TX10 a).2.1 ≠ (TX10 b).2.1 := by decide +kernel
theorem tyX10_ok : ∀ k, k < 2 → parseFieldDescriptor (TX10 k).2.2.1 = some (tyX10 k) := by decide +kernel
abbrev cX10_init : ByteArray := prog_5_method_1_code
def yX10_init : MethodName := ⟨RX10, "<init>", "(II)V"⟩
theorem dX10_init_0 : decode cX10_init 0 = .ok (.aload_n 0, 1) := by decide +kernel
theorem dX10_init_1 : decode cX10_init 1 = .ok (.invokespecial 1, 3) := by decide +kernel
theorem dX10_init_4 : decode cX10_init 4 = .ok (.aload_n 0, 1) := by decide +kernel
theorem dX10_init_5 : decode cX10_init 5 = .ok (.iload_n 1, 1) := by decide +kernel
theorem dX10_init_6 : decode cX10_init 6 = .ok (.putfield 7, 3) := by decide +kernel
theorem dX10_init_9 : decode cX10_init 9 = .ok (.aload_n 0, 1) := by decide +kernel
theorem dX10_init_10 : decode cX10_init 10 = .ok (.iload_n 2, 1) := by decide +kernel
theorem dX10_init_11 : decode cX10_init 11 = .ok (.putfield 13, 3) := by decide +kernel
theorem dX10_init_14 : decode cX10_init 14 = .ok (.return_, 1) := by decide +kernel
abbrev cX10_holds : ByteArray := prog_5_method_3_code
def yX10_holds : MethodName := ⟨RX10, "holds", "(LPressedMen$Man;Z)Z"⟩
theorem dX10_holds_0 : decode cX10_holds 0 = .ok (.aload_n 0, 1) := by decide +kernel
theorem dX10_holds_1 : decode cX10_holds 1 = .ok (.aload_n 1, 1) := by decide +kernel
theorem dX10_holds_2 : decode cX10_holds 2 = .ok (.invokevirtual 22, 3) := by decide +kernel
theorem dX10_holds_5 : decode cX10_holds 5 = .ok (.ifCond .lt 7, 3) := by decide +kernel
theorem dX10_holds_8 : decode cX10_holds 8 = .ok (.iconst 1, 1) := by decide +kernel
theorem dX10_holds_9 : decode cX10_holds 9 = .ok (.goto 4, 3) := by decide +kernel
theorem dX10_holds_12 : decode cX10_holds 12 = .ok (.iconst 0, 1) := by decide +kernel
theorem dX10_holds_13 : decode cX10_holds 13 = .ok (.ireturn, 1) := by decide +kernel
abbrev cX10_over : ByteArray := prog_5_method_2_code
def yX10_over : MethodName := ⟨RX10, "over", "(LPressedMen$Man;)I"⟩
theorem dX10_over_0 : decode cX10_over 0 = .ok (.aload_n 1, 1) := by decide +kernel
theorem dX10_over_1 : decode cX10_over 1 = .ok (.getfield 16, 3) := by decide +kernel
theorem dX10_over_4 : decode cX10_over 4 = .ok (.aload_n 0, 1) := by decide +kernel
theorem dX10_over_5 : decode cX10_over 5 = .ok (.getfield 7, 3) := by decide +kernel
theorem dX10_over_8 : decode cX10_over 8 = .ok (.iaload, 1) := by decide +kernel
theorem dX10_over_9 : decode cX10_over 9 = .ok (.aload_n 0, 1) := by decide +kernel
theorem dX10_over_10 : decode cX10_over 10 = .ok (.getfield 13, 3) := by decide +kernel
theorem dX10_over_13 : decode cX10_over 13 = .ok (.isub, 1) := by decide +kernel
theorem dX10_over_14 : decode cX10_over 14 = .ok (.ireturn, 1) := by decide +kernel
theorem q75 : (Jvm.Cond.initialized "PressedMen$AtLeast") ∈ lw_all := lw_g (lw_at lw_m1 12 rfl) rfl
theorem q228 : (Jvm.Cond.fieldLinkNest "PressedMen$AtLeast" (16 : Nat) "PressedMen$Man" "about" "[I" "PressedMen") ∈ lw_tbl := lw_at lw_m1 165 rfl
theorem q508 : (Jvm.Cond.instantiable "PressedMen$AtLeast" (2 : Nat)) ∈ lw_all := lw_g (lw_at lw_m2 205 rfl) rfl
theorem q510 : (Jvm.Cond.instanceMethod ({ cls := "PressedMen$AtLeast", name := "<init>", desc := "(II)V" } : Jvm.MethodName)) ∈ lw_all := lw_g (lw_at lw_m2 207 rfl) rfl
theorem q511 : (Jvm.Cond.code ({ cls := "PressedMen$AtLeast", name := "<init>", desc := "(II)V" } : Jvm.MethodName) prog_5_method_1_code (3 : Nat) (Option.none : Option Jvm.ClassFile.FieldType)) ∈ lw_all := lw_g (lw_at lw_m2 208 rfl) rfl
theorem q512 : (Jvm.Cond.methodLinkNest "PressedMen$AtLeast" (1 : Nat) ({ cls := "PressedMen$Text", name := "<init>", desc := "()V" } : Jvm.MethodName) "PressedMen") ∈ lw_tbl := lw_at lw_m2 209 rfl
theorem q513 : (Jvm.Cond.fieldLink "PressedMen$AtLeast" (7 : Nat) "PressedMen$AtLeast" "what" "I") ∈ lw_all := lw_g (lw_at lw_m2 210 rfl) rfl
theorem q514 : (Jvm.Cond.fieldLink "PressedMen$AtLeast" (13 : Nat) "PressedMen$AtLeast" "least" "I") ∈ lw_all := lw_g (lw_at lw_m2 211 rfl) rfl
theorem q515 : (Jvm.Cond.laysFinal "PressedMen$AtLeast" "PressedMen$AtLeast" "what" "I") ∈ lw_all := lw_g (lw_at lw_m2 212 rfl) rfl
theorem q516 : (Jvm.Cond.soleField "PressedMen$AtLeast" "what") ∈ lw_all := lw_g (lw_at lw_m2 213 rfl) rfl
theorem q517 : (Jvm.Cond.laysFinal "PressedMen$AtLeast" "PressedMen$AtLeast" "least" "I") ∈ lw_all := lw_g (lw_at lw_m2 214 rfl) rfl
theorem q518 : (Jvm.Cond.soleField "PressedMen$AtLeast" "least") ∈ lw_all := lw_g (lw_at lw_m2 215 rfl) rfl
theorem q519 : (Jvm.Cond.superclass "PressedMen$AtLeast" "PressedMen$Text") ∈ lw_all := lw_g (lw_at lw_m2 216 rfl) rfl
theorem q595 : (Jvm.Cond.selects "PressedMen$AtLeast" ({ cls := "PressedMen$Text", name := "holds", desc := "(LPressedMen$Man;Z)Z" } : Jvm.MethodName) ({ cls := "PressedMen$AtLeast", name := "holds", desc := "(LPressedMen$Man;Z)Z" } : Jvm.MethodName)) ∈ lw_all := lw_g (lw_at lw_m3 52 rfl) rfl
theorem q596 : (Jvm.Cond.instanceMethod ({ cls := "PressedMen$AtLeast", name := "holds", desc := "(LPressedMen$Man;Z)Z" } : Jvm.MethodName)) ∈ lw_all := lw_g (lw_at lw_m3 53 rfl) rfl
theorem q597 : (Jvm.Cond.code ({ cls := "PressedMen$AtLeast", name := "holds", desc := "(LPressedMen$Man;Z)Z" } : Jvm.MethodName) prog_5_method_3_code (3 : Nat) (Option.some Jvm.ClassFile.FieldType.boolean)) ∈ lw_all := lw_g (lw_at lw_m3 54 rfl) rfl
theorem q598 : (Jvm.Cond.methodLink "PressedMen$AtLeast" (22 : Nat) ({ cls := "PressedMen$AtLeast", name := "over", desc := "(LPressedMen$Man;)I" } : Jvm.MethodName)) ∈ lw_all := lw_g (lw_at lw_m3 55 rfl) rfl
theorem q599 : (Jvm.Cond.instanceMethod ({ cls := "PressedMen$AtLeast", name := "over", desc := "(LPressedMen$Man;)I" } : Jvm.MethodName)) ∈ lw_all := lw_g (lw_at lw_m3 56 rfl) rfl
theorem q600 : (Jvm.Cond.selects "PressedMen$AtLeast" ({ cls := "PressedMen$AtLeast", name := "over", desc := "(LPressedMen$Man;)I" } : Jvm.MethodName) ({ cls := "PressedMen$AtLeast", name := "over", desc := "(LPressedMen$Man;)I" } : Jvm.MethodName)) ∈ lw_all := lw_g (lw_at lw_m3 57 rfl) rfl
theorem q601 : (Jvm.Cond.sameMethod "PressedMen$AtLeast" "PressedMen$AtLeast" "over" "(LPressedMen$Man;)I") ∈ lw_all := lw_g (lw_at lw_m3 58 rfl) rfl
theorem q604 : (Jvm.Cond.code ({ cls := "PressedMen$AtLeast", name := "over", desc := "(LPressedMen$Man;)I" } : Jvm.MethodName) prog_5_method_2_code (2 : Nat) (Option.some Jvm.ClassFile.FieldType.int)) ∈ lw_all := lw_g (lw_at lw_m3 61 rfl) rfl
theorem q629 : (Jvm.Cond.declares ({ cls := "PressedMen$AtLeast", name := "over", desc := "(LPressedMen$Man;)I" } : Jvm.MethodName)) ∈ lw_tbl := lw_at lw_m3 86 rfl
theorem q1440 : (Jvm.Cond.sameMethod "PressedMen$AtLeast" "PressedMen$AtLeast" "holds" "(LPressedMen$Man;Z)Z") ∈ lw_all := lw_g (lw_at lw_m6 177 rfl) rfl
theorem in_X10 : ∀ w ∈ wsX100, w ∈ lw_all := lw_in wsX100 [515, 517] (by decide +kernel) (by decide +kernel)
/-! PressedMen$Below -/
def RX11 : String := "PressedMen$Below"
def TX11 : u_T := fun k => match k with
  | 0 => ("PressedMen$AtLeast", "what", "I", true)
  | _ => ("PressedMen$AtLeast", "least", "I", true)
def tyX11 : Nat → FieldType := fun k => match k with
  | 0 => .int
  | _ => .int
abbrev wsX110 : List Cond := u_ws RX11 TX11 2
theorem nmX11 : ∀ a, a < 2 → ∀ b, b < 2 → a ≠ b → (TX11 a).2.1 ≠ (TX11 b).2.1 := by decide +kernel
theorem tyX11_ok : ∀ k, k < 2 → parseFieldDescriptor (TX11 k).2.2.1 = some (tyX11 k) := by decide +kernel
abbrev cX11_init : ByteArray := prog_6_method_1_code
def yX11_init : MethodName := ⟨RX11, "<init>", "(II)V"⟩
theorem dX11_init_0 : decode cX11_init 0 = .ok (.aload_n 0, 1) := by decide +kernel
theorem dX11_init_1 : decode cX11_init 1 = .ok (.iload_n 1, 1) := by decide +kernel
theorem dX11_init_2 : decode cX11_init 2 = .ok (.iload_n 2, 1) := by decide +kernel
theorem dX11_init_3 : decode cX11_init 3 = .ok (.invokespecial 1, 3) := by decide +kernel
theorem dX11_init_6 : decode cX11_init 6 = .ok (.return_, 1) := by decide +kernel
abbrev cX11_holds : ByteArray := prog_6_method_2_code
def yX11_holds : MethodName := ⟨RX11, "holds", "(LPressedMen$Man;Z)Z"⟩
theorem dX11_holds_0 : decode cX11_holds 0 = .ok (.aload_n 0, 1) := by decide +kernel
theorem dX11_holds_1 : decode cX11_holds 1 = .ok (.aload_n 1, 1) := by decide +kernel
theorem dX11_holds_2 : decode cX11_holds 2 = .ok (.iload_n 2, 1) := by decide +kernel
theorem dX11_holds_3 : decode cX11_holds 3 = .ok (.invokespecial 7, 3) := by decide +kernel
theorem dX11_holds_6 : decode cX11_holds 6 = .ok (.ifCond .ne 7, 3) := by decide +kernel
theorem dX11_holds_9 : decode cX11_holds 9 = .ok (.iconst 1, 1) := by decide +kernel
theorem dX11_holds_10 : decode cX11_holds 10 = .ok (.goto 4, 3) := by decide +kernel
theorem dX11_holds_13 : decode cX11_holds 13 = .ok (.iconst 0, 1) := by decide +kernel
theorem dX11_holds_14 : decode cX11_holds 14 = .ok (.ireturn, 1) := by decide +kernel
theorem q76 : (Jvm.Cond.initialized "PressedMen$Below") ∈ lw_all := lw_g (lw_at lw_m1 13 rfl) rfl
theorem q521 : (Jvm.Cond.instantiable "PressedMen$Below" (2 : Nat)) ∈ lw_all := lw_g (lw_at lw_m2 218 rfl) rfl
theorem q523 : (Jvm.Cond.instanceMethod ({ cls := "PressedMen$Below", name := "<init>", desc := "(II)V" } : Jvm.MethodName)) ∈ lw_all := lw_g (lw_at lw_m2 220 rfl) rfl
theorem q524 : (Jvm.Cond.code ({ cls := "PressedMen$Below", name := "<init>", desc := "(II)V" } : Jvm.MethodName) prog_6_method_1_code (3 : Nat) (Option.none : Option Jvm.ClassFile.FieldType)) ∈ lw_all := lw_g (lw_at lw_m2 221 rfl) rfl
theorem q525 : (Jvm.Cond.methodLink "PressedMen$Below" (1 : Nat) ({ cls := "PressedMen$AtLeast", name := "<init>", desc := "(II)V" } : Jvm.MethodName)) ∈ lw_all := lw_g (lw_at lw_m2 222 rfl) rfl
theorem q526 : (Jvm.Cond.laysFinal "PressedMen$Below" "PressedMen$AtLeast" "what" "I") ∈ lw_all := lw_g (lw_at lw_m2 223 rfl) rfl
theorem q527 : (Jvm.Cond.laysFinal "PressedMen$Below" "PressedMen$AtLeast" "least" "I") ∈ lw_all := lw_g (lw_at lw_m2 224 rfl) rfl
theorem q528 : (Jvm.Cond.superclass "PressedMen$Below" "PressedMen$AtLeast") ∈ lw_all := lw_g (lw_at lw_m2 225 rfl) rfl
theorem q602 : (Jvm.Cond.selects "PressedMen$Below" ({ cls := "PressedMen$AtLeast", name := "over", desc := "(LPressedMen$Man;)I" } : Jvm.MethodName) ({ cls := "PressedMen$AtLeast", name := "over", desc := "(LPressedMen$Man;)I" } : Jvm.MethodName)) ∈ lw_all := lw_g (lw_at lw_m3 59 rfl) rfl
theorem q605 : (Jvm.Cond.selects "PressedMen$Below" ({ cls := "PressedMen$Text", name := "holds", desc := "(LPressedMen$Man;Z)Z" } : Jvm.MethodName) ({ cls := "PressedMen$Below", name := "holds", desc := "(LPressedMen$Man;Z)Z" } : Jvm.MethodName)) ∈ lw_all := lw_g (lw_at lw_m3 62 rfl) rfl
theorem q606 : (Jvm.Cond.instanceMethod ({ cls := "PressedMen$Below", name := "holds", desc := "(LPressedMen$Man;Z)Z" } : Jvm.MethodName)) ∈ lw_all := lw_g (lw_at lw_m3 63 rfl) rfl
theorem q607 : (Jvm.Cond.code ({ cls := "PressedMen$Below", name := "holds", desc := "(LPressedMen$Man;Z)Z" } : Jvm.MethodName) prog_6_method_2_code (3 : Nat) (Option.some Jvm.ClassFile.FieldType.boolean)) ∈ lw_all := lw_g (lw_at lw_m3 64 rfl) rfl
theorem q608 : (Jvm.Cond.methodLink "PressedMen$Below" (7 : Nat) ({ cls := "PressedMen$AtLeast", name := "holds", desc := "(LPressedMen$Man;Z)Z" } : Jvm.MethodName)) ∈ lw_all := lw_g (lw_at lw_m3 65 rfl) rfl
theorem q1442 : (Jvm.Cond.sameMethod "PressedMen$Below" "PressedMen$Below" "holds" "(LPressedMen$Man;Z)Z") ∈ lw_all := lw_g (lw_at lw_m6 179 rfl) rfl
theorem in_X11 : ∀ w ∈ wsX110, w ∈ lw_all := lw_in wsX110 [526, 527] (by decide +kernel) (by decide +kernel)
/-! PressedMen$Equal -/
def RX12 : String := "PressedMen$Equal"
def TX12 : u_T := fun k => match k with
  | 0 => ("PressedMen$AtLeast", "what", "I", true)
  | _ => ("PressedMen$AtLeast", "least", "I", true)
def tyX12 : Nat → FieldType := fun k => match k with
  | 0 => .int
  | _ => .int
abbrev wsX120 : List Cond := u_ws RX12 TX12 2
theorem nmX12 : ∀ a, a < 2 → ∀ b, b < 2 → a ≠ b → (TX12 a).2.1 ≠ (TX12 b).2.1 := by decide +kernel
theorem tyX12_ok : ∀ k, k < 2 → parseFieldDescriptor (TX12 k).2.2.1 = some (tyX12 k) := by decide +kernel
abbrev cX12_init : ByteArray := prog_10_method_1_code
def yX12_init : MethodName := ⟨RX12, "<init>", "(II)V"⟩
theorem dX12_init_0 : decode cX12_init 0 = .ok (.aload_n 0, 1) := by decide +kernel
theorem dX12_init_1 : decode cX12_init 1 = .ok (.iload_n 1, 1) := by decide +kernel
theorem dX12_init_2 : decode cX12_init 2 = .ok (.iload_n 2, 1) := by decide +kernel
theorem dX12_init_3 : decode cX12_init 3 = .ok (.invokespecial 1, 3) := by decide +kernel
theorem dX12_init_6 : decode cX12_init 6 = .ok (.return_, 1) := by decide +kernel
abbrev cX12_holds : ByteArray := prog_10_method_2_code
def yX12_holds : MethodName := ⟨RX12, "holds", "(LPressedMen$Man;Z)Z"⟩
theorem dX12_holds_0 : decode cX12_holds 0 = .ok (.aload_n 0, 1) := by decide +kernel
theorem dX12_holds_1 : decode cX12_holds 1 = .ok (.aload_n 1, 1) := by decide +kernel
theorem dX12_holds_2 : decode cX12_holds 2 = .ok (.iload_n 2, 1) := by decide +kernel
theorem dX12_holds_3 : decode cX12_holds 3 = .ok (.invokespecial 7, 3) := by decide +kernel
theorem dX12_holds_6 : decode cX12_holds 6 = .ok (.ifCond .ne 15, 3) := by decide +kernel
theorem dX12_holds_9 : decode cX12_holds 9 = .ok (.aload_n 0, 1) := by decide +kernel
theorem dX12_holds_10 : decode cX12_holds 10 = .ok (.aload_n 1, 1) := by decide +kernel
theorem dX12_holds_11 : decode cX12_holds 11 = .ok (.invokevirtual 11, 3) := by decide +kernel
theorem dX12_holds_14 : decode cX12_holds 14 = .ok (.ifCond .ne 7, 3) := by decide +kernel
theorem dX12_holds_17 : decode cX12_holds 17 = .ok (.iconst 1, 1) := by decide +kernel
theorem dX12_holds_18 : decode cX12_holds 18 = .ok (.goto 4, 3) := by decide +kernel
theorem dX12_holds_21 : decode cX12_holds 21 = .ok (.iconst 0, 1) := by decide +kernel
theorem dX12_holds_22 : decode cX12_holds 22 = .ok (.ireturn, 1) := by decide +kernel
theorem q77 : (Jvm.Cond.initialized "PressedMen$Equal") ∈ lw_all := lw_g (lw_at lw_m1 14 rfl) rfl
theorem q530 : (Jvm.Cond.instantiable "PressedMen$Equal" (2 : Nat)) ∈ lw_all := lw_g (lw_at lw_m2 227 rfl) rfl
theorem q532 : (Jvm.Cond.instanceMethod ({ cls := "PressedMen$Equal", name := "<init>", desc := "(II)V" } : Jvm.MethodName)) ∈ lw_all := lw_g (lw_at lw_m2 229 rfl) rfl
theorem q533 : (Jvm.Cond.code ({ cls := "PressedMen$Equal", name := "<init>", desc := "(II)V" } : Jvm.MethodName) prog_10_method_1_code (3 : Nat) (Option.none : Option Jvm.ClassFile.FieldType)) ∈ lw_all := lw_g (lw_at lw_m2 230 rfl) rfl
theorem q534 : (Jvm.Cond.methodLink "PressedMen$Equal" (1 : Nat) ({ cls := "PressedMen$Below", name := "<init>", desc := "(II)V" } : Jvm.MethodName)) ∈ lw_all := lw_g (lw_at lw_m2 231 rfl) rfl
theorem q535 : (Jvm.Cond.laysFinal "PressedMen$Equal" "PressedMen$AtLeast" "what" "I") ∈ lw_all := lw_g (lw_at lw_m2 232 rfl) rfl
theorem q536 : (Jvm.Cond.laysFinal "PressedMen$Equal" "PressedMen$AtLeast" "least" "I") ∈ lw_all := lw_g (lw_at lw_m2 233 rfl) rfl
theorem q537 : (Jvm.Cond.superclass "PressedMen$Equal" "PressedMen$Below") ∈ lw_all := lw_g (lw_at lw_m2 234 rfl) rfl
theorem q603 : (Jvm.Cond.selects "PressedMen$Equal" ({ cls := "PressedMen$AtLeast", name := "over", desc := "(LPressedMen$Man;)I" } : Jvm.MethodName) ({ cls := "PressedMen$AtLeast", name := "over", desc := "(LPressedMen$Man;)I" } : Jvm.MethodName)) ∈ lw_all := lw_g (lw_at lw_m3 60 rfl) rfl
theorem q624 : (Jvm.Cond.instanceMethod ({ cls := "PressedMen$Equal", name := "holds", desc := "(LPressedMen$Man;Z)Z" } : Jvm.MethodName)) ∈ lw_all := lw_g (lw_at lw_m3 81 rfl) rfl
theorem q625 : (Jvm.Cond.code ({ cls := "PressedMen$Equal", name := "holds", desc := "(LPressedMen$Man;Z)Z" } : Jvm.MethodName) prog_10_method_2_code (3 : Nat) (Option.some Jvm.ClassFile.FieldType.boolean)) ∈ lw_all := lw_g (lw_at lw_m3 82 rfl) rfl
theorem q626 : (Jvm.Cond.methodLink "PressedMen$Equal" (7 : Nat) ({ cls := "PressedMen$Below", name := "holds", desc := "(LPressedMen$Man;Z)Z" } : Jvm.MethodName)) ∈ lw_all := lw_g (lw_at lw_m3 83 rfl) rfl
theorem q627 : (Jvm.Cond.methodLink "PressedMen$Equal" (11 : Nat) ({ cls := "PressedMen$Equal", name := "over", desc := "(LPressedMen$Man;)I" } : Jvm.MethodName)) ∈ lw_all := lw_g (lw_at lw_m3 84 rfl) rfl
theorem q628 : (Jvm.Cond.sameMethod "PressedMen$Equal" "PressedMen$AtLeast" "over" "(LPressedMen$Man;)I") ∈ lw_all := lw_g (lw_at lw_m3 85 rfl) rfl
theorem q630 : (Jvm.Cond.selects "PressedMen$Equal" ({ cls := "PressedMen$Equal", name := "over", desc := "(LPressedMen$Man;)I" } : Jvm.MethodName) ({ cls := "PressedMen$AtLeast", name := "over", desc := "(LPressedMen$Man;)I" } : Jvm.MethodName)) ∈ lw_all := lw_g (lw_at lw_m3 87 rfl) rfl
theorem q636 : (Jvm.Cond.selects "PressedMen$Equal" ({ cls := "PressedMen$Text", name := "holds", desc := "(LPressedMen$Man;Z)Z" } : Jvm.MethodName) ({ cls := "PressedMen$Equal", name := "holds", desc := "(LPressedMen$Man;Z)Z" } : Jvm.MethodName)) ∈ lw_all := lw_g (lw_at lw_m3 93 rfl) rfl
theorem in_X12 : ∀ w ∈ wsX120, w ∈ lw_all := lw_in wsX120 [535, 536] (by decide +kernel) (by decide +kernel)
/-! PressedMen$Covered -/
def RX13 : String := "PressedMen$Covered"
abbrev cX13_init : ByteArray := prog_8_method_1_code
def yX13_init : MethodName := ⟨RX13, "<init>", "()V"⟩
theorem dX13_init_0 : decode cX13_init 0 = .ok (.aload_n 0, 1) := by decide +kernel
theorem dX13_init_1 : decode cX13_init 1 = .ok (.invokespecial 1, 3) := by decide +kernel
theorem dX13_init_4 : decode cX13_init 4 = .ok (.return_, 1) := by decide +kernel
abbrev cX13_holds : ByteArray := prog_8_method_2_code
def yX13_holds : MethodName := ⟨RX13, "holds", "(LPressedMen$Man;Z)Z"⟩
theorem dX13_holds_0 : decode cX13_holds 0 = .ok (.iload_n 2, 1) := by decide +kernel
theorem dX13_holds_1 : decode cX13_holds 1 = .ok (.ireturn, 1) := by decide +kernel
theorem q78 : (Jvm.Cond.initialized "PressedMen$Covered") ∈ lw_all := lw_g (lw_at lw_m1 15 rfl) rfl
theorem q539 : (Jvm.Cond.instantiable "PressedMen$Covered" (0 : Nat)) ∈ lw_all := lw_g (lw_at lw_m2 236 rfl) rfl
theorem q541 : (Jvm.Cond.instanceMethod ({ cls := "PressedMen$Covered", name := "<init>", desc := "()V" } : Jvm.MethodName)) ∈ lw_all := lw_g (lw_at lw_m2 238 rfl) rfl
theorem q542 : (Jvm.Cond.code ({ cls := "PressedMen$Covered", name := "<init>", desc := "()V" } : Jvm.MethodName) prog_8_method_1_code (1 : Nat) (Option.none : Option Jvm.ClassFile.FieldType)) ∈ lw_all := lw_g (lw_at lw_m2 239 rfl) rfl
theorem q543 : (Jvm.Cond.methodLinkNest "PressedMen$Covered" (1 : Nat) ({ cls := "PressedMen$Text", name := "<init>", desc := "()V" } : Jvm.MethodName) "PressedMen") ∈ lw_tbl := lw_at lw_m3 0 rfl
theorem q544 : (Jvm.Cond.superclass "PressedMen$Covered" "PressedMen$Text") ∈ lw_all := lw_g (lw_at lw_m3 1 rfl) rfl
theorem q613 : (Jvm.Cond.instanceMethod ({ cls := "PressedMen$Covered", name := "holds", desc := "(LPressedMen$Man;Z)Z" } : Jvm.MethodName)) ∈ lw_all := lw_g (lw_at lw_m3 70 rfl) rfl
theorem q614 : (Jvm.Cond.code ({ cls := "PressedMen$Covered", name := "holds", desc := "(LPressedMen$Man;Z)Z" } : Jvm.MethodName) prog_8_method_2_code (3 : Nat) (Option.some Jvm.ClassFile.FieldType.boolean)) ∈ lw_all := lw_g (lw_at lw_m3 71 rfl) rfl
theorem q634 : (Jvm.Cond.selects "PressedMen$Covered" ({ cls := "PressedMen$Text", name := "holds", desc := "(LPressedMen$Man;Z)Z" } : Jvm.MethodName) ({ cls := "PressedMen$Covered", name := "holds", desc := "(LPressedMen$Man;Z)Z" } : Jvm.MethodName)) ∈ lw_all := lw_g (lw_at lw_m3 91 rfl) rfl
/-! PressedMen$Aboard -/
def RX14 : String := "PressedMen$Aboard"
abbrev cX14_init : ByteArray := prog_2_method_1_code
def yX14_init : MethodName := ⟨RX14, "<init>", "()V"⟩
theorem dX14_init_0 : decode cX14_init 0 = .ok (.aload_n 0, 1) := by decide +kernel
theorem dX14_init_1 : decode cX14_init 1 = .ok (.invokespecial 3, 3) := by decide +kernel
theorem dX14_init_4 : decode cX14_init 4 = .ok (.return_, 1) := by decide +kernel
abbrev cX14_holds : ByteArray := prog_2_method_2_code
def yX14_holds : MethodName := ⟨RX14, "holds", "(LPressedMen$Man;Z)Z"⟩
theorem dX14_holds_0 : decode cX14_holds 0 = .ok (.aload_n 1, 1) := by decide +kernel
theorem dX14_holds_1 : decode cX14_holds 1 = .ok (.invokevirtual 9, 3) := by decide +kernel
theorem dX14_holds_4 : decode cX14_holds 4 = .ok (.bipush 10, 2) := by decide +kernel
theorem dX14_holds_6 : decode cX14_holds 6 = .ok (.bipush 19, 2) := by decide +kernel
theorem dX14_holds_8 : decode cX14_holds 8 = .ok (.invokestatic 15, 3) := by decide +kernel
theorem dX14_holds_11 : decode cX14_holds 11 = .ok (.ireturn, 1) := by decide +kernel
theorem q79 : (Jvm.Cond.initialized "PressedMen$Aboard") ∈ lw_all := lw_g (lw_at lw_m1 16 rfl) rfl
theorem q546 : (Jvm.Cond.instantiable "PressedMen$Aboard" (0 : Nat)) ∈ lw_all := lw_g (lw_at lw_m3 3 rfl) rfl
theorem q548 : (Jvm.Cond.instanceMethod ({ cls := "PressedMen$Aboard", name := "<init>", desc := "()V" } : Jvm.MethodName)) ∈ lw_all := lw_g (lw_at lw_m3 5 rfl) rfl
theorem q549 : (Jvm.Cond.code ({ cls := "PressedMen$Aboard", name := "<init>", desc := "()V" } : Jvm.MethodName) prog_2_method_1_code (1 : Nat) (Option.none : Option Jvm.ClassFile.FieldType)) ∈ lw_all := lw_g (lw_at lw_m3 6 rfl) rfl
theorem q550 : (Jvm.Cond.methodLinkNest "PressedMen$Aboard" (3 : Nat) ({ cls := "PressedMen$Covered", name := "<init>", desc := "()V" } : Jvm.MethodName) "PressedMen") ∈ lw_tbl := lw_at lw_m3 7 rfl
theorem q551 : (Jvm.Cond.superclass "PressedMen$Aboard" "PressedMen$Covered") ∈ lw_all := lw_g (lw_at lw_m3 8 rfl) rfl
theorem q585 : (Jvm.Cond.selects "PressedMen$Aboard" ({ cls := "PressedMen$Text", name := "holds", desc := "(LPressedMen$Man;Z)Z" } : Jvm.MethodName) ({ cls := "PressedMen$Aboard", name := "holds", desc := "(LPressedMen$Man;Z)Z" } : Jvm.MethodName)) ∈ lw_all := lw_g (lw_at lw_m3 42 rfl) rfl
theorem q586 : (Jvm.Cond.instanceMethod ({ cls := "PressedMen$Aboard", name := "holds", desc := "(LPressedMen$Man;Z)Z" } : Jvm.MethodName)) ∈ lw_all := lw_g (lw_at lw_m3 43 rfl) rfl
theorem q587 : (Jvm.Cond.code ({ cls := "PressedMen$Aboard", name := "holds", desc := "(LPressedMen$Man;Z)Z" } : Jvm.MethodName) prog_2_method_2_code (3 : Nat) (Option.some Jvm.ClassFile.FieldType.boolean)) ∈ lw_all := lw_g (lw_at lw_m3 44 rfl) rfl
theorem q588 : (Jvm.Cond.methodLink "PressedMen$Aboard" (9 : Nat) ({ cls := "PressedMen$Man", name := "place", desc := "()I" } : Jvm.MethodName)) ∈ lw_all := lw_g (lw_at lw_m3 45 rfl) rfl
theorem q589 : (Jvm.Cond.methodLinkNest "PressedMen$Aboard" (15 : Nat) ({ cls := "PressedMen", name := "isIn", desc := "(III)Z" } : Jvm.MethodName) "PressedMen") ∈ lw_tbl := lw_at lw_m3 46 rfl
/-! PressedMen$AtHome -/
def RX15 : String := "PressedMen$AtHome"
abbrev cX15_init : ByteArray := prog_4_method_1_code
def yX15_init : MethodName := ⟨RX15, "<init>", "()V"⟩
theorem dX15_init_0 : decode cX15_init 0 = .ok (.aload_n 0, 1) := by decide +kernel
theorem dX15_init_1 : decode cX15_init 1 = .ok (.invokespecial 1, 3) := by decide +kernel
theorem dX15_init_4 : decode cX15_init 4 = .ok (.return_, 1) := by decide +kernel
abbrev cX15_holds : ByteArray := prog_4_method_2_code
def yX15_holds : MethodName := ⟨RX15, "holds", "(LPressedMen$Man;Z)Z"⟩
theorem dX15_holds_0 : decode cX15_holds 0 = .ok (.aload_n 1, 1) := by decide +kernel
theorem dX15_holds_1 : decode cX15_holds 1 = .ok (.invokevirtual 7, 3) := by decide +kernel
theorem dX15_holds_4 : decode cX15_holds 4 = .ok (.aload_n 1, 1) := by decide +kernel
theorem dX15_holds_5 : decode cX15_holds 5 = .ok (.invokevirtual 13, 3) := by decide +kernel
theorem dX15_holds_8 : decode cX15_holds 8 = .ok (.if_icmp .ne 7, 3) := by decide +kernel
theorem dX15_holds_11 : decode cX15_holds 11 = .ok (.iconst 1, 1) := by decide +kernel
theorem dX15_holds_12 : decode cX15_holds 12 = .ok (.goto 4, 3) := by decide +kernel
theorem dX15_holds_15 : decode cX15_holds 15 = .ok (.iconst 0, 1) := by decide +kernel
theorem dX15_holds_16 : decode cX15_holds 16 = .ok (.ireturn, 1) := by decide +kernel
theorem q80 : (Jvm.Cond.initialized "PressedMen$AtHome") ∈ lw_all := lw_g (lw_at lw_m1 17 rfl) rfl
theorem q553 : (Jvm.Cond.instantiable "PressedMen$AtHome" (0 : Nat)) ∈ lw_all := lw_g (lw_at lw_m3 10 rfl) rfl
theorem q555 : (Jvm.Cond.instanceMethod ({ cls := "PressedMen$AtHome", name := "<init>", desc := "()V" } : Jvm.MethodName)) ∈ lw_all := lw_g (lw_at lw_m3 12 rfl) rfl
theorem q556 : (Jvm.Cond.code ({ cls := "PressedMen$AtHome", name := "<init>", desc := "()V" } : Jvm.MethodName) prog_4_method_1_code (1 : Nat) (Option.none : Option Jvm.ClassFile.FieldType)) ∈ lw_all := lw_g (lw_at lw_m3 13 rfl) rfl
theorem q557 : (Jvm.Cond.methodLinkNest "PressedMen$AtHome" (1 : Nat) ({ cls := "PressedMen$Covered", name := "<init>", desc := "()V" } : Jvm.MethodName) "PressedMen") ∈ lw_tbl := lw_at lw_m3 14 rfl
theorem q558 : (Jvm.Cond.superclass "PressedMen$AtHome" "PressedMen$Covered") ∈ lw_all := lw_g (lw_at lw_m3 15 rfl) rfl
theorem q590 : (Jvm.Cond.selects "PressedMen$AtHome" ({ cls := "PressedMen$Text", name := "holds", desc := "(LPressedMen$Man;Z)Z" } : Jvm.MethodName) ({ cls := "PressedMen$AtHome", name := "holds", desc := "(LPressedMen$Man;Z)Z" } : Jvm.MethodName)) ∈ lw_all := lw_g (lw_at lw_m3 47 rfl) rfl
theorem q591 : (Jvm.Cond.instanceMethod ({ cls := "PressedMen$AtHome", name := "holds", desc := "(LPressedMen$Man;Z)Z" } : Jvm.MethodName)) ∈ lw_all := lw_g (lw_at lw_m3 48 rfl) rfl
theorem q592 : (Jvm.Cond.code ({ cls := "PressedMen$AtHome", name := "holds", desc := "(LPressedMen$Man;Z)Z" } : Jvm.MethodName) prog_4_method_2_code (3 : Nat) (Option.some Jvm.ClassFile.FieldType.boolean)) ∈ lw_all := lw_g (lw_at lw_m3 49 rfl) rfl
theorem q593 : (Jvm.Cond.methodLink "PressedMen$AtHome" (7 : Nat) ({ cls := "PressedMen$Man", name := "place", desc := "()I" } : Jvm.MethodName)) ∈ lw_all := lw_g (lw_at lw_m3 50 rfl) rfl
theorem q594 : (Jvm.Cond.methodLink "PressedMen$AtHome" (13 : Nat) ({ cls := "PressedMen$Man", name := "home", desc := "()I" } : Jvm.MethodName)) ∈ lw_all := lw_g (lw_at lw_m3 51 rfl) rfl
/-! PressedMen$Taking -/
def RX16 : String := "PressedMen$Taking"
def TX16 : u_T := fun k => match k with
  | 0 => ("PressedMen$Taking", "tide", "I", true)
  | 1 => ("PressedMen$Taking", "man", "I", true)
  | 2 => ("PressedMen$Taking", "paper", "I", true)
  | 3 => ("PressedMen$Taking", "from", "I", true)
  | 4 => ("PressedMen$Taking", "right", "Z", true)
  | _ => ("PressedMen$Taking", "truly", "Z", true)
def tyX16 : Nat → FieldType := fun k => match k with
  | 0 => .int
  | 1 => .int
  | 2 => .int
  | 3 => .int
  | 4 => .boolean
  | _ => .boolean
abbrev wsX160 : List Cond := u_ws RX16 TX16 6
theorem nmX16 : ∀ a, a < 6 → ∀ b, b < 6 → a ≠ b → (TX16 a).2.1 ≠ (TX16 b).2.1 := by decide +kernel
theorem tyX16_ok : ∀ k, k < 6 → parseFieldDescriptor (TX16 k).2.2.1 = some (tyX16 k) := by decide +kernel
abbrev cX16_isInStreet : ByteArray := prog_17_method_2_code
def yX16_isInStreet : MethodName := ⟨RX16, "isInStreet", "()Z"⟩
theorem dX16_isInStreet_0 : decode cX16_isInStreet 0 = .ok (.aload_n 0, 1) := by decide +kernel
theorem dX16_isInStreet_1 : decode cX16_isInStreet 1 = .ok (.getfield 21, 3) := by decide +kernel
theorem dX16_isInStreet_4 : decode cX16_isInStreet 4 = .ok (.bipush 10, 2) := by decide +kernel
theorem dX16_isInStreet_6 : decode cX16_isInStreet 6 = .ok (.if_icmp .ge 7, 3) := by decide +kernel
theorem dX16_isInStreet_9 : decode cX16_isInStreet 9 = .ok (.iconst 1, 1) := by decide +kernel
theorem dX16_isInStreet_10 : decode cX16_isInStreet 10 = .ok (.goto 4, 3) := by decide +kernel
theorem dX16_isInStreet_13 : decode cX16_isInStreet 13 = .ok (.iconst 0, 1) := by decide +kernel
theorem dX16_isInStreet_14 : decode cX16_isInStreet 14 = .ok (.ireturn, 1) := by decide +kernel
abbrev cX16_init : ByteArray := prog_17_method_1_code
def yX16_init : MethodName := ⟨RX16, "<init>", "(IIIIZZ)V"⟩
theorem dX16_init_0 : decode cX16_init 0 = .ok (.aload_n 0, 1) := by decide +kernel
theorem dX16_init_1 : decode cX16_init 1 = .ok (.invokespecial 3, 3) := by decide +kernel
theorem dX16_init_4 : decode cX16_init 4 = .ok (.aload_n 0, 1) := by decide +kernel
theorem dX16_init_5 : decode cX16_init 5 = .ok (.iload_n 1, 1) := by decide +kernel
theorem dX16_init_6 : decode cX16_init 6 = .ok (.putfield 9, 3) := by decide +kernel
theorem dX16_init_9 : decode cX16_init 9 = .ok (.aload_n 0, 1) := by decide +kernel
theorem dX16_init_10 : decode cX16_init 10 = .ok (.iload_n 2, 1) := by decide +kernel
theorem dX16_init_11 : decode cX16_init 11 = .ok (.putfield 15, 3) := by decide +kernel
theorem dX16_init_14 : decode cX16_init 14 = .ok (.aload_n 0, 1) := by decide +kernel
theorem dX16_init_15 : decode cX16_init 15 = .ok (.iload_n 3, 1) := by decide +kernel
theorem dX16_init_16 : decode cX16_init 16 = .ok (.putfield 18, 3) := by decide +kernel
theorem dX16_init_19 : decode cX16_init 19 = .ok (.aload_n 0, 1) := by decide +kernel
theorem dX16_init_20 : decode cX16_init 20 = .ok (.iload 4, 2) := by decide +kernel
theorem dX16_init_22 : decode cX16_init 22 = .ok (.putfield 21, 3) := by decide +kernel
theorem dX16_init_25 : decode cX16_init 25 = .ok (.aload_n 0, 1) := by decide +kernel
theorem dX16_init_26 : decode cX16_init 26 = .ok (.iload 5, 2) := by decide +kernel
theorem dX16_init_28 : decode cX16_init 28 = .ok (.putfield 24, 3) := by decide +kernel
theorem dX16_init_31 : decode cX16_init 31 = .ok (.aload_n 0, 1) := by decide +kernel
theorem dX16_init_32 : decode cX16_init 32 = .ok (.iload 6, 2) := by decide +kernel
theorem dX16_init_34 : decode cX16_init 34 = .ok (.putfield 28, 3) := by decide +kernel
theorem dX16_init_37 : decode cX16_init 37 = .ok (.return_, 1) := by decide +kernel
theorem q81 : (Jvm.Cond.initialized "PressedMen$Taking") ∈ lw_all := lw_g (lw_at lw_m1 18 rfl) rfl
theorem q305 : (Jvm.Cond.instanceMethod ({ cls := "PressedMen$Taking", name := "isInStreet", desc := "()Z" } : Jvm.MethodName)) ∈ lw_all := lw_g (lw_at lw_m2 2 rfl) rfl
theorem q306 : (Jvm.Cond.selects "PressedMen$Taking" ({ cls := "PressedMen$Taking", name := "isInStreet", desc := "()Z" } : Jvm.MethodName) ({ cls := "PressedMen$Taking", name := "isInStreet", desc := "()Z" } : Jvm.MethodName)) ∈ lw_all := lw_g (lw_at lw_m2 3 rfl) rfl
theorem q307 : (Jvm.Cond.code ({ cls := "PressedMen$Taking", name := "isInStreet", desc := "()Z" } : Jvm.MethodName) prog_17_method_2_code (1 : Nat) (Option.some Jvm.ClassFile.FieldType.boolean)) ∈ lw_all := lw_g (lw_at lw_m2 4 rfl) rfl
theorem q654 : (Jvm.Cond.instantiable "PressedMen$Taking" (6 : Nat)) ∈ lw_all := lw_g (lw_at lw_m3 111 rfl) rfl
theorem q656 : (Jvm.Cond.instanceMethod ({ cls := "PressedMen$Taking", name := "<init>", desc := "(IIIIZZ)V" } : Jvm.MethodName)) ∈ lw_all := lw_g (lw_at lw_m3 113 rfl) rfl
theorem q657 : (Jvm.Cond.code ({ cls := "PressedMen$Taking", name := "<init>", desc := "(IIIIZZ)V" } : Jvm.MethodName) prog_17_method_1_code (7 : Nat) (Option.none : Option Jvm.ClassFile.FieldType)) ∈ lw_all := lw_g (lw_at lw_m3 114 rfl) rfl
theorem q658 : (Jvm.Cond.methodLink "PressedMen$Taking" (3 : Nat) ({ cls := "java/lang/Object", name := "<init>", desc := "()V" } : Jvm.MethodName)) ∈ lw_all := lw_g (lw_at lw_m3 115 rfl) rfl
theorem q659 : (Jvm.Cond.fieldLink "PressedMen$Taking" (9 : Nat) "PressedMen$Taking" "tide" "I") ∈ lw_all := lw_g (lw_at lw_m3 116 rfl) rfl
theorem q661 : (Jvm.Cond.fieldLink "PressedMen$Taking" (15 : Nat) "PressedMen$Taking" "man" "I") ∈ lw_all := lw_g (lw_at lw_m3 118 rfl) rfl
theorem q663 : (Jvm.Cond.fieldLink "PressedMen$Taking" (18 : Nat) "PressedMen$Taking" "paper" "I") ∈ lw_all := lw_g (lw_at lw_m3 120 rfl) rfl
theorem q665 : (Jvm.Cond.fieldLink "PressedMen$Taking" (21 : Nat) "PressedMen$Taking" "from" "I") ∈ lw_all := lw_g (lw_at lw_m3 122 rfl) rfl
theorem q667 : (Jvm.Cond.fieldLink "PressedMen$Taking" (24 : Nat) "PressedMen$Taking" "right" "Z") ∈ lw_all := lw_g (lw_at lw_m3 124 rfl) rfl
theorem q669 : (Jvm.Cond.fieldLink "PressedMen$Taking" (28 : Nat) "PressedMen$Taking" "truly" "Z") ∈ lw_all := lw_g (lw_at lw_m3 126 rfl) rfl
theorem q671 : (Jvm.Cond.laysFinal "PressedMen$Taking" "PressedMen$Taking" "tide" "I") ∈ lw_all := lw_g (lw_at lw_m3 128 rfl) rfl
theorem q672 : (Jvm.Cond.soleField "PressedMen$Taking" "tide") ∈ lw_all := lw_g (lw_at lw_m3 129 rfl) rfl
theorem q673 : (Jvm.Cond.laysFinal "PressedMen$Taking" "PressedMen$Taking" "man" "I") ∈ lw_all := lw_g (lw_at lw_m3 130 rfl) rfl
theorem q674 : (Jvm.Cond.soleField "PressedMen$Taking" "man") ∈ lw_all := lw_g (lw_at lw_m3 131 rfl) rfl
theorem q675 : (Jvm.Cond.laysFinal "PressedMen$Taking" "PressedMen$Taking" "paper" "I") ∈ lw_all := lw_g (lw_at lw_m3 132 rfl) rfl
theorem q676 : (Jvm.Cond.soleField "PressedMen$Taking" "paper") ∈ lw_all := lw_g (lw_at lw_m3 133 rfl) rfl
theorem q677 : (Jvm.Cond.laysFinal "PressedMen$Taking" "PressedMen$Taking" "from" "I") ∈ lw_all := lw_g (lw_at lw_m3 134 rfl) rfl
theorem q678 : (Jvm.Cond.soleField "PressedMen$Taking" "from") ∈ lw_all := lw_g (lw_at lw_m3 135 rfl) rfl
theorem q679 : (Jvm.Cond.laysFinal "PressedMen$Taking" "PressedMen$Taking" "right" "Z") ∈ lw_all := lw_g (lw_at lw_m3 136 rfl) rfl
theorem q680 : (Jvm.Cond.soleField "PressedMen$Taking" "right") ∈ lw_all := lw_g (lw_at lw_m3 137 rfl) rfl
theorem q681 : (Jvm.Cond.laysFinal "PressedMen$Taking" "PressedMen$Taking" "truly" "Z") ∈ lw_all := lw_g (lw_at lw_m3 138 rfl) rfl
theorem q682 : (Jvm.Cond.soleField "PressedMen$Taking" "truly") ∈ lw_all := lw_g (lw_at lw_m3 139 rfl) rfl
theorem q683 : (Jvm.Cond.superclass "PressedMen$Taking" "java/lang/Object") ∈ lw_all := lw_g (lw_at lw_m3 140 rfl) rfl
theorem in_X16 : ∀ w ∈ wsX160, w ∈ lw_all := lw_in wsX160 [671, 673, 675, 677, 679, 681] (by decide +kernel) (by decide +kernel)
/-! PressedMen$Laying -/
def RX17 : String := "PressedMen$Laying"
def TX17 : u_T := fun k => match k with
  | 0 => ("PressedMen$Laying", "gangs", "I", true)
  | 1 => ("PressedMen$Laying", "steps", "I", true)
  | 2 => ("PressedMen$Laying", "many", "[I", true)
  | 3 => ("PressedMen$Laying", "far", "[[I", true)
  | 4 => ("PressedMen$Laying", "at", "[I", true)
  | 5 => ("PressedMen$Laying", "bestAt", "[I", true)
  | 6 => ("PressedMen$Laying", "best", "I", false)
  | 7 => ("PressedMen$Laying", "all", "I", false)
  | 8 => ("PressedMen$Laying", "metIn", "[I", true)
  | _ => ("PressedMen$Laying", "this$0", "LPressedMen;", true)
def tyX17 : Nat → FieldType := fun k => match k with
  | 0 => .int
  | 1 => .int
  | 2 => .array .int
  | 3 => .array (.array .int)
  | 4 => .array .int
  | 5 => .array .int
  | 6 => .int
  | 7 => .int
  | 8 => .array .int
  | _ => .object "PressedMen"
abbrev wsX170 : List Cond := u_ws RX17 TX17 10
theorem nmX17 : ∀ a, a < 10 → ∀ b, b < 10 → a ≠ b → (TX17 a).2.1 ≠ (TX17 b).2.1 := by decide +kernel
theorem tyX17_ok : ∀ k, k < 10 → parseFieldDescriptor (TX17 k).2.2.1 = some (tyX17 k) := by decide +kernel
abbrev cX17_init : ByteArray := prog_11_method_1_code
def yX17_init : MethodName := ⟨RX17, "<init>", "(LPressedMen;II)V"⟩
theorem dX17_init_0 : decode cX17_init 0 = .ok (.aload_n 0, 1) := by decide +kernel
theorem dX17_init_1 : decode cX17_init 1 = .ok (.aload_n 1, 1) := by decide +kernel
theorem dX17_init_2 : decode cX17_init 2 = .ok (.putfield 3, 3) := by decide +kernel
theorem dX17_init_5 : decode cX17_init 5 = .ok (.aload_n 0, 1) := by decide +kernel
theorem dX17_init_6 : decode cX17_init 6 = .ok (.invokespecial 9, 3) := by decide +kernel
theorem dX17_init_9 : decode cX17_init 9 = .ok (.aload_n 0, 1) := by decide +kernel
theorem dX17_init_10 : decode cX17_init 10 = .ok (.bipush 8, 2) := by decide +kernel
theorem dX17_init_12 : decode cX17_init 12 = .ok (.newarray .int, 2) := by decide +kernel
theorem dX17_init_14 : decode cX17_init 14 = .ok (.putfield 15, 3) := by decide +kernel
theorem dX17_init_17 : decode cX17_init 17 = .ok (.aload_n 0, 1) := by decide +kernel
theorem dX17_init_18 : decode cX17_init 18 = .ok (.bipush 8, 2) := by decide +kernel
theorem dX17_init_20 : decode cX17_init 20 = .ok (.anewarray 19, 3) := by decide +kernel
theorem dX17_init_23 : decode cX17_init 23 = .ok (.putfield 20, 3) := by decide +kernel
theorem dX17_init_26 : decode cX17_init 26 = .ok (.aload_n 0, 1) := by decide +kernel
theorem dX17_init_27 : decode cX17_init 27 = .ok (.bipush (-9), 2) := by decide +kernel
theorem dX17_init_29 : decode cX17_init 29 = .ok (.putfield 24, 3) := by decide +kernel
theorem dX17_init_32 : decode cX17_init 32 = .ok (.aload_n 0, 1) := by decide +kernel
theorem dX17_init_33 : decode cX17_init 33 = .ok (.bipush 8, 2) := by decide +kernel
theorem dX17_init_35 : decode cX17_init 35 = .ok (.newarray .int, 2) := by decide +kernel
theorem dX17_init_37 : decode cX17_init 37 = .ok (.putfield 28, 3) := by decide +kernel
theorem dX17_init_40 : decode cX17_init 40 = .ok (.aload_n 0, 1) := by decide +kernel
theorem dX17_init_41 : decode cX17_init 41 = .ok (.iload_n 2, 1) := by decide +kernel
theorem dX17_init_42 : decode cX17_init 42 = .ok (.putfield 31, 3) := by decide +kernel
theorem dX17_init_45 : decode cX17_init 45 = .ok (.aload_n 0, 1) := by decide +kernel
theorem dX17_init_46 : decode cX17_init 46 = .ok (.iload_n 3, 1) := by decide +kernel
theorem dX17_init_47 : decode cX17_init 47 = .ok (.putfield 34, 3) := by decide +kernel
theorem dX17_init_50 : decode cX17_init 50 = .ok (.aload_n 0, 1) := by decide +kernel
theorem dX17_init_51 : decode cX17_init 51 = .ok (.iload_n 2, 1) := by decide +kernel
theorem dX17_init_52 : decode cX17_init 52 = .ok (.iload_n 3, 1) := by decide +kernel
theorem dX17_init_53 : decode cX17_init 53 = .ok (.imul, 1) := by decide +kernel
theorem dX17_init_54 : decode cX17_init 54 = .ok (.newarray .int, 2) := by decide +kernel
theorem dX17_init_56 : decode cX17_init 56 = .ok (.putfield 37, 3) := by decide +kernel
theorem dX17_init_59 : decode cX17_init 59 = .ok (.aload_n 0, 1) := by decide +kernel
theorem dX17_init_60 : decode cX17_init 60 = .ok (.iload_n 2, 1) := by decide +kernel
theorem dX17_init_61 : decode cX17_init 61 = .ok (.iload_n 3, 1) := by decide +kernel
theorem dX17_init_62 : decode cX17_init 62 = .ok (.imul, 1) := by decide +kernel
theorem dX17_init_63 : decode cX17_init 63 = .ok (.newarray .int, 2) := by decide +kernel
theorem dX17_init_65 : decode cX17_init 65 = .ok (.putfield 40, 3) := by decide +kernel
theorem dX17_init_68 : decode cX17_init 68 = .ok (.aload_n 1, 1) := by decide +kernel
theorem dX17_init_69 : decode cX17_init 69 = .ok (.invokevirtual 43, 3) := by decide +kernel
theorem dX17_init_72 : decode cX17_init 72 = .ok (.astore 4, 2) := by decide +kernel
theorem dX17_init_74 : decode cX17_init 74 = .ok (.iconst 0, 1) := by decide +kernel
theorem dX17_init_75 : decode cX17_init 75 = .ok (.istore 5, 2) := by decide +kernel
theorem dX17_init_77 : decode cX17_init 77 = .ok (.iload 5, 2) := by decide +kernel
theorem dX17_init_79 : decode cX17_init 79 = .ok (.aload_n 1, 1) := by decide +kernel
theorem dX17_init_80 : decode cX17_init 80 = .ok (.getfield 47, 3) := by decide +kernel
theorem dX17_init_83 : decode cX17_init 83 = .ok (.if_icmp .ge 91, 3) := by decide +kernel
theorem dX17_init_86 : decode cX17_init 86 = .ok (.aload_n 1, 1) := by decide +kernel
theorem dX17_init_87 : decode cX17_init 87 = .ok (.getfield 50, 3) := by decide +kernel
theorem dX17_init_90 : decode cX17_init 90 = .ok (.iload 5, 2) := by decide +kernel
theorem dX17_init_92 : decode cX17_init 92 = .ok (.aaload, 1) := by decide +kernel
theorem dX17_init_93 : decode cX17_init 93 = .ok (.invokevirtual 54, 3) := by decide +kernel
theorem dX17_init_96 : decode cX17_init 96 = .ok (.bipush 10, 2) := by decide +kernel
theorem dX17_init_98 : decode cX17_init 98 = .ok (.if_icmp .ge 33, 3) := by decide +kernel
theorem dX17_init_101 : decode cX17_init 101 = .ok (.aload 4, 2) := by decide +kernel
theorem dX17_init_103 : decode cX17_init 103 = .ok (.aload_n 1, 1) := by decide +kernel
theorem dX17_init_104 : decode cX17_init 104 = .ok (.getfield 50, 3) := by decide +kernel
theorem dX17_init_107 : decode cX17_init 107 = .ok (.iload 5, 2) := by decide +kernel
theorem dX17_init_109 : decode cX17_init 109 = .ok (.aaload, 1) := by decide +kernel
theorem dX17_init_110 : decode cX17_init 110 = .ok (.aload_n 1, 1) := by decide +kernel
theorem dX17_init_111 : decode cX17_init 111 = .ok (.aload_n 1, 1) := by decide +kernel
theorem dX17_init_112 : decode cX17_init 112 = .ok (.getfield 50, 3) := by decide +kernel
theorem dX17_init_115 : decode cX17_init 115 = .ok (.iload 5, 2) := by decide +kernel
theorem dX17_init_117 : decode cX17_init 117 = .ok (.aaload, 1) := by decide +kernel
theorem dX17_init_118 : decode cX17_init 118 = .ok (.invokevirtual 60, 3) := by decide +kernel
theorem dX17_init_121 : decode cX17_init 121 = .ok (.invokestatic 64, 3) := by decide +kernel
theorem dX17_init_124 : decode cX17_init 124 = .ok (.ifCond .eq 7, 3) := by decide +kernel
theorem dX17_init_127 : decode cX17_init 127 = .ok (.iconst 1, 1) := by decide +kernel
theorem dX17_init_128 : decode cX17_init 128 = .ok (.goto 4, 3) := by decide +kernel
theorem dX17_init_131 : decode cX17_init 131 = .ok (.iconst 0, 1) := by decide +kernel
theorem dX17_init_132 : decode cX17_init 132 = .ok (.istore 6, 2) := by decide +kernel
theorem dX17_init_134 : decode cX17_init 134 = .ok (.iload 6, 2) := by decide +kernel
theorem dX17_init_136 : decode cX17_init 136 = .ok (.ifCond .eq 32, 3) := by decide +kernel
theorem dX17_init_139 : decode cX17_init 139 = .ok (.aload_n 0, 1) := by decide +kernel
theorem dX17_init_140 : decode cX17_init 140 = .ok (.getfield 15, 3) := by decide +kernel
theorem dX17_init_143 : decode cX17_init 143 = .ok (.aload_n 1, 1) := by decide +kernel
theorem dX17_init_144 : decode cX17_init 144 = .ok (.getfield 50, 3) := by decide +kernel
theorem dX17_init_147 : decode cX17_init 147 = .ok (.iload 5, 2) := by decide +kernel
theorem dX17_init_149 : decode cX17_init 149 = .ok (.aaload, 1) := by decide +kernel
theorem dX17_init_150 : decode cX17_init 150 = .ok (.invokevirtual 54, 3) := by decide +kernel
theorem dX17_init_153 : decode cX17_init 153 = .ok (.dup2, 1) := by decide +kernel
theorem dX17_init_154 : decode cX17_init 154 = .ok (.iaload, 1) := by decide +kernel
theorem dX17_init_155 : decode cX17_init 155 = .ok (.iconst 1, 1) := by decide +kernel
theorem dX17_init_156 : decode cX17_init 156 = .ok (.iadd, 1) := by decide +kernel
theorem dX17_init_157 : decode cX17_init 157 = .ok (.iastore, 1) := by decide +kernel
theorem dX17_init_158 : decode cX17_init 158 = .ok (.aload_n 0, 1) := by decide +kernel
theorem dX17_init_159 : decode cX17_init 159 = .ok (.dup, 1) := by decide +kernel
theorem dX17_init_160 : decode cX17_init 160 = .ok (.getfield 68, 3) := by decide +kernel
theorem dX17_init_163 : decode cX17_init 163 = .ok (.iconst 1, 1) := by decide +kernel
theorem dX17_init_164 : decode cX17_init 164 = .ok (.iadd, 1) := by decide +kernel
theorem dX17_init_165 : decode cX17_init 165 = .ok (.putfield 68, 3) := by decide +kernel
theorem dX17_init_168 : decode cX17_init 168 = .ok (.iinc 5 1, 3) := by decide +kernel
theorem dX17_init_171 : decode cX17_init 171 = .ok (.goto (-94), 3) := by decide +kernel
theorem dX17_init_174 : decode cX17_init 174 = .ok (.iconst 0, 1) := by decide +kernel
theorem dX17_init_175 : decode cX17_init 175 = .ok (.istore 5, 2) := by decide +kernel
theorem dX17_init_177 : decode cX17_init 177 = .ok (.iload 5, 2) := by decide +kernel
theorem dX17_init_179 : decode cX17_init 179 = .ok (.aload_n 1, 1) := by decide +kernel
theorem dX17_init_180 : decode cX17_init 180 = .ok (.getfield 71, 3) := by decide +kernel
theorem dX17_init_183 : decode cX17_init 183 = .ok (.if_icmp .ge 22, 3) := by decide +kernel
theorem dX17_init_186 : decode cX17_init 186 = .ok (.aload_n 0, 1) := by decide +kernel
theorem dX17_init_187 : decode cX17_init 187 = .ok (.getfield 20, 3) := by decide +kernel
theorem dX17_init_190 : decode cX17_init 190 = .ok (.iload 5, 2) := by decide +kernel
theorem dX17_init_192 : decode cX17_init 192 = .ok (.aload_n 1, 1) := by decide +kernel
theorem dX17_init_193 : decode cX17_init 193 = .ok (.iload 5, 2) := by decide +kernel
theorem dX17_init_195 : decode cX17_init 195 = .ok (.invokevirtual 74, 3) := by decide +kernel
theorem dX17_init_198 : decode cX17_init 198 = .ok (.aastore, 1) := by decide +kernel
theorem dX17_init_199 : decode cX17_init 199 = .ok (.iinc 5 1, 3) := by decide +kernel
theorem dX17_init_202 : decode cX17_init 202 = .ok (.goto (-25), 3) := by decide +kernel
theorem dX17_init_205 : decode cX17_init 205 = .ok (.aload_n 0, 1) := by decide +kernel
theorem dX17_init_206 : decode cX17_init 206 = .ok (.iconst 0, 1) := by decide +kernel
theorem dX17_init_207 : decode cX17_init 207 = .ok (.invokevirtual 78, 3) := by decide +kernel
theorem dX17_init_210 : decode cX17_init 210 = .ok (.return_, 1) := by decide +kernel
abbrev cX17_lay : ByteArray := prog_11_method_3_code
def yX17_lay : MethodName := ⟨RX17, "lay", "(I)V"⟩
theorem dX17_lay_0 : decode cX17_lay 0 = .ok (.iload_n 1, 1) := by decide +kernel
theorem dX17_lay_1 : decode cX17_lay 1 = .ok (.aload_n 0, 1) := by decide +kernel
theorem dX17_lay_2 : decode cX17_lay 2 = .ok (.getfield 37, 3) := by decide +kernel
theorem dX17_lay_5 : decode cX17_lay 5 = .ok (.arraylength, 1) := by decide +kernel
theorem dX17_lay_6 : decode cX17_lay 6 = .ok (.if_icmp .ne 8, 3) := by decide +kernel
theorem dX17_lay_9 : decode cX17_lay 9 = .ok (.aload_n 0, 1) := by decide +kernel
theorem dX17_lay_10 : decode cX17_lay 10 = .ok (.invokevirtual 86, 3) := by decide +kernel
theorem dX17_lay_13 : decode cX17_lay 13 = .ok (.return_, 1) := by decide +kernel
theorem dX17_lay_14 : decode cX17_lay 14 = .ok (.iconst 0, 1) := by decide +kernel
theorem dX17_lay_15 : decode cX17_lay 15 = .ok (.istore_n 2, 1) := by decide +kernel
theorem dX17_lay_16 : decode cX17_lay 16 = .ok (.iload_n 2, 1) := by decide +kernel
theorem dX17_lay_17 : decode cX17_lay 17 = .ok (.aload_n 0, 1) := by decide +kernel
theorem dX17_lay_18 : decode cX17_lay 18 = .ok (.getfield 3, 3) := by decide +kernel
theorem dX17_lay_21 : decode cX17_lay 21 = .ok (.getfield 71, 3) := by decide +kernel
theorem dX17_lay_24 : decode cX17_lay 24 = .ok (.if_icmp .ge 43, 3) := by decide +kernel
theorem dX17_lay_27 : decode cX17_lay 27 = .ok (.aload_n 0, 1) := by decide +kernel
theorem dX17_lay_28 : decode cX17_lay 28 = .ok (.getfield 24, 3) := by decide +kernel
theorem dX17_lay_31 : decode cX17_lay 31 = .ok (.aload_n 0, 1) := by decide +kernel
theorem dX17_lay_32 : decode cX17_lay 32 = .ok (.getfield 68, 3) := by decide +kernel
theorem dX17_lay_35 : decode cX17_lay 35 = .ok (.if_icmp .ge 32, 3) := by decide +kernel
theorem dX17_lay_38 : decode cX17_lay 38 = .ok (.aload_n 0, 1) := by decide +kernel
theorem dX17_lay_39 : decode cX17_lay 39 = .ok (.iload_n 1, 1) := by decide +kernel
theorem dX17_lay_40 : decode cX17_lay 40 = .ok (.iload_n 2, 1) := by decide +kernel
theorem dX17_lay_41 : decode cX17_lay 41 = .ok (.invokevirtual 89, 3) := by decide +kernel
theorem dX17_lay_44 : decode cX17_lay 44 = .ok (.ifCond .eq 17, 3) := by decide +kernel
theorem dX17_lay_47 : decode cX17_lay 47 = .ok (.aload_n 0, 1) := by decide +kernel
theorem dX17_lay_48 : decode cX17_lay 48 = .ok (.getfield 37, 3) := by decide +kernel
theorem dX17_lay_51 : decode cX17_lay 51 = .ok (.iload_n 1, 1) := by decide +kernel
theorem dX17_lay_52 : decode cX17_lay 52 = .ok (.iload_n 2, 1) := by decide +kernel
theorem dX17_lay_53 : decode cX17_lay 53 = .ok (.iastore, 1) := by decide +kernel
theorem dX17_lay_54 : decode cX17_lay 54 = .ok (.aload_n 0, 1) := by decide +kernel
theorem dX17_lay_55 : decode cX17_lay 55 = .ok (.iload_n 1, 1) := by decide +kernel
theorem dX17_lay_56 : decode cX17_lay 56 = .ok (.iconst 1, 1) := by decide +kernel
theorem dX17_lay_57 : decode cX17_lay 57 = .ok (.iadd, 1) := by decide +kernel
theorem dX17_lay_58 : decode cX17_lay 58 = .ok (.invokevirtual 78, 3) := by decide +kernel
theorem dX17_lay_61 : decode cX17_lay 61 = .ok (.iinc 2 1, 3) := by decide +kernel
theorem dX17_lay_64 : decode cX17_lay 64 = .ok (.goto (-48), 3) := by decide +kernel
theorem dX17_lay_67 : decode cX17_lay 67 = .ok (.return_, 1) := by decide +kernel
abbrev cX17_judge : ByteArray := prog_11_method_5_code
def yX17_judge : MethodName := ⟨RX17, "judge", "()V"⟩
theorem dX17_judge_0 : decode cX17_judge 0 = .ok (.iconst 0, 1) := by decide +kernel
theorem dX17_judge_1 : decode cX17_judge 1 = .ok (.istore_n 1, 1) := by decide +kernel
theorem dX17_judge_2 : decode cX17_judge 2 = .ok (.iload_n 1, 1) := by decide +kernel
theorem dX17_judge_3 : decode cX17_judge 3 = .ok (.aload_n 0, 1) := by decide +kernel
theorem dX17_judge_4 : decode cX17_judge 4 = .ok (.getfield 3, 3) := by decide +kernel
theorem dX17_judge_7 : decode cX17_judge 7 = .ok (.getfield 71, 3) := by decide +kernel
theorem dX17_judge_10 : decode cX17_judge 10 = .ok (.if_icmp .ge 19, 3) := by decide +kernel
theorem dX17_judge_13 : decode cX17_judge 13 = .ok (.aload_n 0, 1) := by decide +kernel
theorem dX17_judge_14 : decode cX17_judge 14 = .ok (.getfield 28, 3) := by decide +kernel
theorem dX17_judge_17 : decode cX17_judge 17 = .ok (.iload_n 1, 1) := by decide +kernel
theorem dX17_judge_18 : decode cX17_judge 18 = .ok (.aload_n 0, 1) := by decide +kernel
theorem dX17_judge_19 : decode cX17_judge 19 = .ok (.getfield 34, 3) := by decide +kernel
theorem dX17_judge_22 : decode cX17_judge 22 = .ok (.iastore, 1) := by decide +kernel
theorem dX17_judge_23 : decode cX17_judge 23 = .ok (.iinc 1 1, 3) := by decide +kernel
theorem dX17_judge_26 : decode cX17_judge 26 = .ok (.goto (-24), 3) := by decide +kernel
theorem dX17_judge_29 : decode cX17_judge 29 = .ok (.iconst 0, 1) := by decide +kernel
theorem dX17_judge_30 : decode cX17_judge 30 = .ok (.istore_n 1, 1) := by decide +kernel
theorem dX17_judge_31 : decode cX17_judge 31 = .ok (.iconst 0, 1) := by decide +kernel
theorem dX17_judge_32 : decode cX17_judge 32 = .ok (.istore_n 2, 1) := by decide +kernel
theorem dX17_judge_33 : decode cX17_judge 33 = .ok (.iload_n 2, 1) := by decide +kernel
theorem dX17_judge_34 : decode cX17_judge 34 = .ok (.aload_n 0, 1) := by decide +kernel
theorem dX17_judge_35 : decode cX17_judge 35 = .ok (.getfield 34, 3) := by decide +kernel
theorem dX17_judge_38 : decode cX17_judge 38 = .ok (.if_icmp .ge 92, 3) := by decide +kernel
theorem dX17_judge_41 : decode cX17_judge 41 = .ok (.iconst 0, 1) := by decide +kernel
theorem dX17_judge_42 : decode cX17_judge 42 = .ok (.istore_n 3, 1) := by decide +kernel
theorem dX17_judge_43 : decode cX17_judge 43 = .ok (.iload_n 3, 1) := by decide +kernel
theorem dX17_judge_44 : decode cX17_judge 44 = .ok (.aload_n 0, 1) := by decide +kernel
theorem dX17_judge_45 : decode cX17_judge 45 = .ok (.getfield 31, 3) := by decide +kernel
theorem dX17_judge_48 : decode cX17_judge 48 = .ok (.if_icmp .ge 76, 3) := by decide +kernel
theorem dX17_judge_51 : decode cX17_judge 51 = .ok (.aload_n 0, 1) := by decide +kernel
theorem dX17_judge_52 : decode cX17_judge 52 = .ok (.getfield 37, 3) := by decide +kernel
theorem dX17_judge_55 : decode cX17_judge 55 = .ok (.iload_n 3, 1) := by decide +kernel
theorem dX17_judge_56 : decode cX17_judge 56 = .ok (.aload_n 0, 1) := by decide +kernel
theorem dX17_judge_57 : decode cX17_judge 57 = .ok (.getfield 34, 3) := by decide +kernel
theorem dX17_judge_60 : decode cX17_judge 60 = .ok (.imul, 1) := by decide +kernel
theorem dX17_judge_61 : decode cX17_judge 61 = .ok (.iload_n 2, 1) := by decide +kernel
theorem dX17_judge_62 : decode cX17_judge 62 = .ok (.iadd, 1) := by decide +kernel
theorem dX17_judge_63 : decode cX17_judge 63 = .ok (.iaload, 1) := by decide +kernel
theorem dX17_judge_64 : decode cX17_judge 64 = .ok (.istore 4, 2) := by decide +kernel
theorem dX17_judge_66 : decode cX17_judge 66 = .ok (.aload_n 0, 1) := by decide +kernel
theorem dX17_judge_67 : decode cX17_judge 67 = .ok (.getfield 28, 3) := by decide +kernel
theorem dX17_judge_70 : decode cX17_judge 70 = .ok (.iload 4, 2) := by decide +kernel
theorem dX17_judge_72 : decode cX17_judge 72 = .ok (.iaload, 1) := by decide +kernel
theorem dX17_judge_73 : decode cX17_judge 73 = .ok (.aload_n 0, 1) := by decide +kernel
theorem dX17_judge_74 : decode cX17_judge 74 = .ok (.getfield 34, 3) := by decide +kernel
theorem dX17_judge_77 : decode cX17_judge 77 = .ok (.if_icmp .ne 41, 3) := by decide +kernel
theorem dX17_judge_80 : decode cX17_judge 80 = .ok (.aload_n 0, 1) := by decide +kernel
theorem dX17_judge_81 : decode cX17_judge 81 = .ok (.getfield 15, 3) := by decide +kernel
theorem dX17_judge_84 : decode cX17_judge 84 = .ok (.iload 4, 2) := by decide +kernel
theorem dX17_judge_86 : decode cX17_judge 86 = .ok (.iaload, 1) := by decide +kernel
theorem dX17_judge_87 : decode cX17_judge 87 = .ok (.ifCond .le 31, 3) := by decide +kernel
theorem dX17_judge_90 : decode cX17_judge 90 = .ok (.aload_n 0, 1) := by decide +kernel
theorem dX17_judge_91 : decode cX17_judge 91 = .ok (.iload 4, 2) := by decide +kernel
theorem dX17_judge_93 : decode cX17_judge 93 = .ok (.iload_n 2, 1) := by decide +kernel
theorem dX17_judge_94 : decode cX17_judge 94 = .ok (.invokevirtual 93, 3) := by decide +kernel
theorem dX17_judge_97 : decode cX17_judge 97 = .ok (.ifCond .ne 21, 3) := by decide +kernel
theorem dX17_judge_100 : decode cX17_judge 100 = .ok (.iload_n 1, 1) := by decide +kernel
theorem dX17_judge_101 : decode cX17_judge 101 = .ok (.aload_n 0, 1) := by decide +kernel
theorem dX17_judge_102 : decode cX17_judge 102 = .ok (.getfield 15, 3) := by decide +kernel
theorem dX17_judge_105 : decode cX17_judge 105 = .ok (.iload 4, 2) := by decide +kernel
theorem dX17_judge_107 : decode cX17_judge 107 = .ok (.iaload, 1) := by decide +kernel
theorem dX17_judge_108 : decode cX17_judge 108 = .ok (.iadd, 1) := by decide +kernel
theorem dX17_judge_109 : decode cX17_judge 109 = .ok (.istore_n 1, 1) := by decide +kernel
theorem dX17_judge_110 : decode cX17_judge 110 = .ok (.aload_n 0, 1) := by decide +kernel
theorem dX17_judge_111 : decode cX17_judge 111 = .ok (.getfield 28, 3) := by decide +kernel
theorem dX17_judge_114 : decode cX17_judge 114 = .ok (.iload 4, 2) := by decide +kernel
theorem dX17_judge_116 : decode cX17_judge 116 = .ok (.iload_n 2, 1) := by decide +kernel
theorem dX17_judge_117 : decode cX17_judge 117 = .ok (.iastore, 1) := by decide +kernel
theorem dX17_judge_118 : decode cX17_judge 118 = .ok (.iinc 3 1, 3) := by decide +kernel
theorem dX17_judge_121 : decode cX17_judge 121 = .ok (.goto (-78), 3) := by decide +kernel
theorem dX17_judge_124 : decode cX17_judge 124 = .ok (.iinc 2 1, 3) := by decide +kernel
theorem dX17_judge_127 : decode cX17_judge 127 = .ok (.goto (-94), 3) := by decide +kernel
theorem dX17_judge_130 : decode cX17_judge 130 = .ok (.iload_n 1, 1) := by decide +kernel
theorem dX17_judge_131 : decode cX17_judge 131 = .ok (.aload_n 0, 1) := by decide +kernel
theorem dX17_judge_132 : decode cX17_judge 132 = .ok (.getfield 24, 3) := by decide +kernel
theorem dX17_judge_135 : decode cX17_judge 135 = .ok (.if_icmp .le 26, 3) := by decide +kernel
theorem dX17_judge_138 : decode cX17_judge 138 = .ok (.aload_n 0, 1) := by decide +kernel
theorem dX17_judge_139 : decode cX17_judge 139 = .ok (.iload_n 1, 1) := by decide +kernel
theorem dX17_judge_140 : decode cX17_judge 140 = .ok (.putfield 24, 3) := by decide +kernel
theorem dX17_judge_143 : decode cX17_judge 143 = .ok (.aload_n 0, 1) := by decide +kernel
theorem dX17_judge_144 : decode cX17_judge 144 = .ok (.getfield 37, 3) := by decide +kernel
theorem dX17_judge_147 : decode cX17_judge 147 = .ok (.iconst 0, 1) := by decide +kernel
theorem dX17_judge_148 : decode cX17_judge 148 = .ok (.aload_n 0, 1) := by decide +kernel
theorem dX17_judge_149 : decode cX17_judge 149 = .ok (.getfield 40, 3) := by decide +kernel
theorem dX17_judge_152 : decode cX17_judge 152 = .ok (.iconst 0, 1) := by decide +kernel
theorem dX17_judge_153 : decode cX17_judge 153 = .ok (.aload_n 0, 1) := by decide +kernel
theorem dX17_judge_154 : decode cX17_judge 154 = .ok (.getfield 37, 3) := by decide +kernel
theorem dX17_judge_157 : decode cX17_judge 157 = .ok (.arraylength, 1) := by decide +kernel
theorem dX17_judge_158 : decode cX17_judge 158 = .ok (.invokestatic 96, 3) := by decide +kernel
theorem dX17_judge_161 : decode cX17_judge 161 = .ok (.return_, 1) := by decide +kernel
abbrev cX17_hasHeardBy : ByteArray := prog_11_method_4_code
def yX17_hasHeardBy : MethodName := ⟨RX17, "hasHeardBy", "(II)Z"⟩
theorem dX17_hasHeardBy_0 : decode cX17_hasHeardBy 0 = .ok (.iconst 0, 1) := by decide +kernel
theorem dX17_hasHeardBy_1 : decode cX17_hasHeardBy 1 = .ok (.istore_n 3, 1) := by decide +kernel
theorem dX17_hasHeardBy_2 : decode cX17_hasHeardBy 2 = .ok (.iconst 0, 1) := by decide +kernel
theorem dX17_hasHeardBy_3 : decode cX17_hasHeardBy 3 = .ok (.istore 4, 2) := by decide +kernel
theorem dX17_hasHeardBy_5 : decode cX17_hasHeardBy 5 = .ok (.iload 4, 2) := by decide +kernel
theorem dX17_hasHeardBy_7 : decode cX17_hasHeardBy 7 = .ok (.aload_n 0, 1) := by decide +kernel
theorem dX17_hasHeardBy_8 : decode cX17_hasHeardBy 8 = .ok (.getfield 3, 3) := by decide +kernel
theorem dX17_hasHeardBy_11 : decode cX17_hasHeardBy 11 = .ok (.getfield 71, 3) := by decide +kernel
theorem dX17_hasHeardBy_14 : decode cX17_hasHeardBy 14 = .ok (.if_icmp .ge 63, 3) := by decide +kernel
theorem dX17_hasHeardBy_17 : decode cX17_hasHeardBy 17 = .ok (.iload_n 3, 1) := by decide +kernel
theorem dX17_hasHeardBy_18 : decode cX17_hasHeardBy 18 = .ok (.aload_n 0, 1) := by decide +kernel
theorem dX17_hasHeardBy_19 : decode cX17_hasHeardBy 19 = .ok (.getfield 28, 3) := by decide +kernel
theorem dX17_hasHeardBy_22 : decode cX17_hasHeardBy 22 = .ok (.iload 4, 2) := by decide +kernel
theorem dX17_hasHeardBy_24 : decode cX17_hasHeardBy 24 = .ok (.iaload, 1) := by decide +kernel
theorem dX17_hasHeardBy_25 : decode cX17_hasHeardBy 25 = .ok (.iload_n 2, 1) := by decide +kernel
theorem dX17_hasHeardBy_26 : decode cX17_hasHeardBy 26 = .ok (.if_icmp .ge 42, 3) := by decide +kernel
theorem dX17_hasHeardBy_29 : decode cX17_hasHeardBy 29 = .ok (.aload_n 0, 1) := by decide +kernel
theorem dX17_hasHeardBy_30 : decode cX17_hasHeardBy 30 = .ok (.getfield 20, 3) := by decide +kernel
theorem dX17_hasHeardBy_33 : decode cX17_hasHeardBy 33 = .ok (.iload 4, 2) := by decide +kernel
theorem dX17_hasHeardBy_35 : decode cX17_hasHeardBy 35 = .ok (.aaload, 1) := by decide +kernel
theorem dX17_hasHeardBy_36 : decode cX17_hasHeardBy 36 = .ok (.iload_n 1, 1) := by decide +kernel
theorem dX17_hasHeardBy_37 : decode cX17_hasHeardBy 37 = .ok (.iaload, 1) := by decide +kernel
theorem dX17_hasHeardBy_38 : decode cX17_hasHeardBy 38 = .ok (.bipush (-9), 2) := by decide +kernel
theorem dX17_hasHeardBy_40 : decode cX17_hasHeardBy 40 = .ok (.if_icmp .eq 28, 3) := by decide +kernel
theorem dX17_hasHeardBy_43 : decode cX17_hasHeardBy 43 = .ok (.aload_n 0, 1) := by decide +kernel
theorem dX17_hasHeardBy_44 : decode cX17_hasHeardBy 44 = .ok (.getfield 20, 3) := by decide +kernel
theorem dX17_hasHeardBy_47 : decode cX17_hasHeardBy 47 = .ok (.iload 4, 2) := by decide +kernel
theorem dX17_hasHeardBy_49 : decode cX17_hasHeardBy 49 = .ok (.aaload, 1) := by decide +kernel
theorem dX17_hasHeardBy_50 : decode cX17_hasHeardBy 50 = .ok (.iload_n 1, 1) := by decide +kernel
theorem dX17_hasHeardBy_51 : decode cX17_hasHeardBy 51 = .ok (.iaload, 1) := by decide +kernel
theorem dX17_hasHeardBy_52 : decode cX17_hasHeardBy 52 = .ok (.iload_n 2, 1) := by decide +kernel
theorem dX17_hasHeardBy_53 : decode cX17_hasHeardBy 53 = .ok (.aload_n 0, 1) := by decide +kernel
theorem dX17_hasHeardBy_54 : decode cX17_hasHeardBy 54 = .ok (.getfield 28, 3) := by decide +kernel
theorem dX17_hasHeardBy_57 : decode cX17_hasHeardBy 57 = .ok (.iload 4, 2) := by decide +kernel
theorem dX17_hasHeardBy_59 : decode cX17_hasHeardBy 59 = .ok (.iaload, 1) := by decide +kernel
theorem dX17_hasHeardBy_60 : decode cX17_hasHeardBy 60 = .ok (.isub, 1) := by decide +kernel
theorem dX17_hasHeardBy_61 : decode cX17_hasHeardBy 61 = .ok (.if_icmp .gt 7, 3) := by decide +kernel
theorem dX17_hasHeardBy_64 : decode cX17_hasHeardBy 64 = .ok (.iconst 1, 1) := by decide +kernel
theorem dX17_hasHeardBy_65 : decode cX17_hasHeardBy 65 = .ok (.goto 4, 3) := by decide +kernel
theorem dX17_hasHeardBy_68 : decode cX17_hasHeardBy 68 = .ok (.iconst 0, 1) := by decide +kernel
theorem dX17_hasHeardBy_69 : decode cX17_hasHeardBy 69 = .ok (.ior, 1) := by decide +kernel
theorem dX17_hasHeardBy_70 : decode cX17_hasHeardBy 70 = .ok (.istore_n 3, 1) := by decide +kernel
theorem dX17_hasHeardBy_71 : decode cX17_hasHeardBy 71 = .ok (.iinc 4 1, 3) := by decide +kernel
theorem dX17_hasHeardBy_74 : decode cX17_hasHeardBy 74 = .ok (.goto (-69), 3) := by decide +kernel
theorem dX17_hasHeardBy_77 : decode cX17_hasHeardBy 77 = .ok (.iload_n 3, 1) := by decide +kernel
theorem dX17_hasHeardBy_78 : decode cX17_hasHeardBy 78 = .ok (.ireturn, 1) := by decide +kernel
abbrev cX17_mayFollow : ByteArray := prog_11_method_2_code
def yX17_mayFollow : MethodName := ⟨RX17, "mayFollow", "(II)Z"⟩
theorem dX17_mayFollow_0 : decode cX17_mayFollow 0 = .ok (.iload_n 1, 1) := by decide +kernel
theorem dX17_mayFollow_1 : decode cX17_mayFollow 1 = .ok (.aload_n 0, 1) := by decide +kernel
theorem dX17_mayFollow_2 : decode cX17_mayFollow 2 = .ok (.getfield 34, 3) := by decide +kernel
theorem dX17_mayFollow_5 : decode cX17_mayFollow 5 = .ok (.irem, 1) := by decide +kernel
theorem dX17_mayFollow_6 : decode cX17_mayFollow 6 = .ok (.ifCond .ne 7, 3) := by decide +kernel
theorem dX17_mayFollow_9 : decode cX17_mayFollow 9 = .ok (.iload_n 2, 1) := by decide +kernel
theorem dX17_mayFollow_10 : decode cX17_mayFollow 10 = .ok (.goto 11, 3) := by decide +kernel
theorem dX17_mayFollow_13 : decode cX17_mayFollow 13 = .ok (.aload_n 0, 1) := by decide +kernel
theorem dX17_mayFollow_14 : decode cX17_mayFollow 14 = .ok (.getfield 37, 3) := by decide +kernel
theorem dX17_mayFollow_17 : decode cX17_mayFollow 17 = .ok (.iload_n 1, 1) := by decide +kernel
theorem dX17_mayFollow_18 : decode cX17_mayFollow 18 = .ok (.iconst 1, 1) := by decide +kernel
theorem dX17_mayFollow_19 : decode cX17_mayFollow 19 = .ok (.isub, 1) := by decide +kernel
theorem dX17_mayFollow_20 : decode cX17_mayFollow 20 = .ok (.iaload, 1) := by decide +kernel
theorem dX17_mayFollow_21 : decode cX17_mayFollow 21 = .ok (.istore_n 3, 1) := by decide +kernel
theorem dX17_mayFollow_22 : decode cX17_mayFollow 22 = .ok (.iload_n 3, 1) := by decide +kernel
theorem dX17_mayFollow_23 : decode cX17_mayFollow 23 = .ok (.iload_n 2, 1) := by decide +kernel
theorem dX17_mayFollow_24 : decode cX17_mayFollow 24 = .ok (.if_icmp .eq 17, 3) := by decide +kernel
theorem dX17_mayFollow_27 : decode cX17_mayFollow 27 = .ok (.aload_n 0, 1) := by decide +kernel
theorem dX17_mayFollow_28 : decode cX17_mayFollow 28 = .ok (.getfield 3, 3) := by decide +kernel
theorem dX17_mayFollow_31 : decode cX17_mayFollow 31 = .ok (.getfield 82, 3) := by decide +kernel
theorem dX17_mayFollow_34 : decode cX17_mayFollow 34 = .ok (.iload_n 3, 1) := by decide +kernel
theorem dX17_mayFollow_35 : decode cX17_mayFollow 35 = .ok (.aaload, 1) := by decide +kernel
theorem dX17_mayFollow_36 : decode cX17_mayFollow 36 = .ok (.iload_n 2, 1) := by decide +kernel
theorem dX17_mayFollow_37 : decode cX17_mayFollow 37 = .ok (.baload, 1) := by decide +kernel
theorem dX17_mayFollow_38 : decode cX17_mayFollow 38 = .ok (.ifCond .eq 7, 3) := by decide +kernel
theorem dX17_mayFollow_41 : decode cX17_mayFollow 41 = .ok (.iconst 1, 1) := by decide +kernel
theorem dX17_mayFollow_42 : decode cX17_mayFollow 42 = .ok (.goto 4, 3) := by decide +kernel
theorem dX17_mayFollow_45 : decode cX17_mayFollow 45 = .ok (.iconst 0, 1) := by decide +kernel
theorem dX17_mayFollow_46 : decode cX17_mayFollow 46 = .ok (.ireturn, 1) := by decide +kernel
theorem q82 : (Jvm.Cond.initialized "PressedMen$Laying") ∈ lw_all := lw_g (lw_at lw_m1 19 rfl) rfl
theorem q109 : (Jvm.Cond.fieldLinkNest "PressedMen$Laying" (71 : Nat) "PressedMen" "streetCount" "I" "PressedMen") ∈ lw_tbl := lw_at lw_m1 46 rfl
theorem q111 : (Jvm.Cond.fieldLinkNest "PressedMen$Laying" (82 : Nat) "PressedMen" "ways" "[[Z" "PressedMen") ∈ lw_tbl := lw_at lw_m1 48 rfl
theorem q113 : (Jvm.Cond.fieldLinkNest "PressedMen$Laying" (50 : Nat) "PressedMen" "men" "[LPressedMen$Man;" "PressedMen") ∈ lw_tbl := lw_at lw_m1 50 rfl
theorem q115 : (Jvm.Cond.fieldLinkNest "PressedMen$Laying" (47 : Nat) "PressedMen" "manCount" "I" "PressedMen") ∈ lw_tbl := lw_at lw_m1 52 rfl
theorem q721 : (Jvm.Cond.instantiable "PressedMen$Laying" (10 : Nat)) ∈ lw_all := lw_g (lw_at lw_m3 178 rfl) rfl
theorem q723 : (Jvm.Cond.instanceMethod ({ cls := "PressedMen$Laying", name := "<init>", desc := "(LPressedMen;II)V" } : Jvm.MethodName)) ∈ lw_all := lw_g (lw_at lw_m3 180 rfl) rfl
theorem q724 : (Jvm.Cond.code ({ cls := "PressedMen$Laying", name := "<init>", desc := "(LPressedMen;II)V" } : Jvm.MethodName) prog_11_method_1_code (7 : Nat) (Option.none : Option Jvm.ClassFile.FieldType)) ∈ lw_all := lw_g (lw_at lw_m3 181 rfl) rfl
theorem q725 : (Jvm.Cond.methodLink "PressedMen$Laying" (9 : Nat) ({ cls := "java/lang/Object", name := "<init>", desc := "()V" } : Jvm.MethodName)) ∈ lw_all := lw_g (lw_at lw_m3 182 rfl) rfl
theorem q726 : (Jvm.Cond.classLink "PressedMen$Laying" (19 : Nat) "[I") ∈ lw_all := lw_g (lw_at lw_m3 183 rfl) rfl
theorem q728 : (Jvm.Cond.methodLinkNest "PressedMen$Laying" (43 : Nat) ({ cls := "PressedMen", name := "law", desc := "()LPressedMen$Text;" } : Jvm.MethodName) "PressedMen") ∈ lw_tbl := lw_at lw_m3 185 rfl
theorem q729 : (Jvm.Cond.methodLink "PressedMen$Laying" (54 : Nat) ({ cls := "PressedMen$Man", name := "place", desc := "()I" } : Jvm.MethodName)) ∈ lw_all := lw_g (lw_at lw_m3 186 rfl) rfl
theorem q730 : (Jvm.Cond.methodLinkNest "PressedMen$Laying" (60 : Nat) ({ cls := "PressedMen", name := "isCoveredTruly", desc := "(LPressedMen$Man;)Z" } : Jvm.MethodName) "PressedMen") ∈ lw_tbl := lw_at lw_m3 187 rfl
theorem q731 : (Jvm.Cond.methodLinkNest "PressedMen$Laying" (64 : Nat) ({ cls := "PressedMen", name := "mayBe", desc := "(LPressedMen$Text;LPressedMen$Man;Z)Z" } : Jvm.MethodName) "PressedMen") ∈ lw_tbl := lw_at lw_m3 188 rfl
theorem q732 : (Jvm.Cond.methodLinkNest "PressedMen$Laying" (74 : Nat) ({ cls := "PressedMen", name := "farFrom", desc := "(I)[I" } : Jvm.MethodName) "PressedMen") ∈ lw_tbl := lw_at lw_m3 189 rfl
theorem q733 : (Jvm.Cond.methodLink "PressedMen$Laying" (78 : Nat) ({ cls := "PressedMen$Laying", name := "lay", desc := "(I)V" } : Jvm.MethodName)) ∈ lw_all := lw_g (lw_at lw_m3 190 rfl) rfl
theorem q734 : (Jvm.Cond.privateMethod ({ cls := "PressedMen$Laying", name := "lay", desc := "(I)V" } : Jvm.MethodName)) ∈ lw_tbl := lw_at lw_m3 191 rfl
theorem q735 : (Jvm.Cond.instanceMethod ({ cls := "PressedMen$Laying", name := "lay", desc := "(I)V" } : Jvm.MethodName)) ∈ lw_all := lw_g (lw_at lw_m3 192 rfl) rfl
theorem q736 : (Jvm.Cond.code ({ cls := "PressedMen$Laying", name := "lay", desc := "(I)V" } : Jvm.MethodName) prog_11_method_3_code (3 : Nat) (Option.none : Option Jvm.ClassFile.FieldType)) ∈ lw_all := lw_g (lw_at lw_m3 193 rfl) rfl
theorem q737 : (Jvm.Cond.methodLink "PressedMen$Laying" (86 : Nat) ({ cls := "PressedMen$Laying", name := "judge", desc := "()V" } : Jvm.MethodName)) ∈ lw_all := lw_g (lw_at lw_m3 194 rfl) rfl
theorem q738 : (Jvm.Cond.privateMethod ({ cls := "PressedMen$Laying", name := "judge", desc := "()V" } : Jvm.MethodName)) ∈ lw_tbl := lw_at lw_m3 195 rfl
theorem q739 : (Jvm.Cond.instanceMethod ({ cls := "PressedMen$Laying", name := "judge", desc := "()V" } : Jvm.MethodName)) ∈ lw_all := lw_g (lw_at lw_m3 196 rfl) rfl
theorem q740 : (Jvm.Cond.code ({ cls := "PressedMen$Laying", name := "judge", desc := "()V" } : Jvm.MethodName) prog_11_method_5_code (5 : Nat) (Option.none : Option Jvm.ClassFile.FieldType)) ∈ lw_all := lw_g (lw_at lw_m3 197 rfl) rfl
theorem q741 : (Jvm.Cond.methodLink "PressedMen$Laying" (93 : Nat) ({ cls := "PressedMen$Laying", name := "hasHeardBy", desc := "(II)Z" } : Jvm.MethodName)) ∈ lw_all := lw_g (lw_at lw_m3 198 rfl) rfl
theorem q742 : (Jvm.Cond.privateMethod ({ cls := "PressedMen$Laying", name := "hasHeardBy", desc := "(II)Z" } : Jvm.MethodName)) ∈ lw_tbl := lw_at lw_m3 199 rfl
theorem q743 : (Jvm.Cond.instanceMethod ({ cls := "PressedMen$Laying", name := "hasHeardBy", desc := "(II)Z" } : Jvm.MethodName)) ∈ lw_all := lw_g (lw_at lw_m3 200 rfl) rfl
theorem q744 : (Jvm.Cond.code ({ cls := "PressedMen$Laying", name := "hasHeardBy", desc := "(II)Z" } : Jvm.MethodName) prog_11_method_4_code (5 : Nat) (Option.some Jvm.ClassFile.FieldType.boolean)) ∈ lw_all := lw_g (lw_at lw_m3 201 rfl) rfl
theorem q745 : (Jvm.Cond.methodLink "PressedMen$Laying" (96 : Nat) ({ cls := "java/lang/System", name := "arraycopy", desc := "(Ljava/lang/Object;ILjava/lang/Object;II)V" } : Jvm.MethodName)) ∈ lw_all := lw_g (lw_at lw_m3 202 rfl) rfl
theorem q748 : (Jvm.Cond.methodLink "PressedMen$Laying" (89 : Nat) ({ cls := "PressedMen$Laying", name := "mayFollow", desc := "(II)Z" } : Jvm.MethodName)) ∈ lw_all := lw_g (lw_at lw_m3 205 rfl) rfl
theorem q749 : (Jvm.Cond.privateMethod ({ cls := "PressedMen$Laying", name := "mayFollow", desc := "(II)Z" } : Jvm.MethodName)) ∈ lw_tbl := lw_at lw_m3 206 rfl
theorem q750 : (Jvm.Cond.instanceMethod ({ cls := "PressedMen$Laying", name := "mayFollow", desc := "(II)Z" } : Jvm.MethodName)) ∈ lw_all := lw_g (lw_at lw_m3 207 rfl) rfl
theorem q751 : (Jvm.Cond.code ({ cls := "PressedMen$Laying", name := "mayFollow", desc := "(II)Z" } : Jvm.MethodName) prog_11_method_2_code (4 : Nat) (Option.some Jvm.ClassFile.FieldType.boolean)) ∈ lw_all := lw_g (lw_at lw_m3 208 rfl) rfl
theorem q752 : (Jvm.Cond.fieldLink "PressedMen$Laying" (31 : Nat) "PressedMen$Laying" "gangs" "I") ∈ lw_all := lw_g (lw_at lw_m3 209 rfl) rfl
theorem q753 : (Jvm.Cond.fieldLink "PressedMen$Laying" (34 : Nat) "PressedMen$Laying" "steps" "I") ∈ lw_all := lw_g (lw_at lw_m3 210 rfl) rfl
theorem q754 : (Jvm.Cond.fieldLink "PressedMen$Laying" (15 : Nat) "PressedMen$Laying" "many" "[I") ∈ lw_all := lw_g (lw_at lw_m3 211 rfl) rfl
theorem q755 : (Jvm.Cond.fieldLink "PressedMen$Laying" (20 : Nat) "PressedMen$Laying" "far" "[[I") ∈ lw_all := lw_g (lw_at lw_m3 212 rfl) rfl
theorem q756 : (Jvm.Cond.fieldLink "PressedMen$Laying" (37 : Nat) "PressedMen$Laying" "at" "[I") ∈ lw_all := lw_g (lw_at lw_m3 213 rfl) rfl
theorem q757 : (Jvm.Cond.fieldLink "PressedMen$Laying" (40 : Nat) "PressedMen$Laying" "bestAt" "[I") ∈ lw_all := lw_g (lw_at lw_m3 214 rfl) rfl
theorem q759 : (Jvm.Cond.fieldLink "PressedMen$Laying" (24 : Nat) "PressedMen$Laying" "best" "I") ∈ lw_all := lw_g (lw_at lw_m3 216 rfl) rfl
theorem q761 : (Jvm.Cond.fieldLink "PressedMen$Laying" (68 : Nat) "PressedMen$Laying" "all" "I") ∈ lw_all := lw_g (lw_at lw_m3 218 rfl) rfl
theorem q762 : (Jvm.Cond.fieldLink "PressedMen$Laying" (28 : Nat) "PressedMen$Laying" "metIn" "[I") ∈ lw_all := lw_g (lw_at lw_m3 219 rfl) rfl
theorem q763 : (Jvm.Cond.fieldLink "PressedMen$Laying" (3 : Nat) "PressedMen$Laying" "this$0" "LPressedMen;") ∈ lw_all := lw_g (lw_at lw_m3 220 rfl) rfl
theorem q764 : (Jvm.Cond.laysFinal "PressedMen$Laying" "PressedMen$Laying" "gangs" "I") ∈ lw_all := lw_g (lw_at lw_m3 221 rfl) rfl
theorem q765 : (Jvm.Cond.soleField "PressedMen$Laying" "gangs") ∈ lw_all := lw_g (lw_at lw_m3 222 rfl) rfl
theorem q766 : (Jvm.Cond.laysFinal "PressedMen$Laying" "PressedMen$Laying" "steps" "I") ∈ lw_all := lw_g (lw_at lw_m3 223 rfl) rfl
theorem q767 : (Jvm.Cond.soleField "PressedMen$Laying" "steps") ∈ lw_all := lw_g (lw_at lw_m3 224 rfl) rfl
theorem q768 : (Jvm.Cond.laysFinal "PressedMen$Laying" "PressedMen$Laying" "many" "[I") ∈ lw_all := lw_g (lw_at lw_m3 225 rfl) rfl
theorem q769 : (Jvm.Cond.soleField "PressedMen$Laying" "many") ∈ lw_all := lw_g (lw_at lw_m3 226 rfl) rfl
theorem q770 : (Jvm.Cond.laysFinal "PressedMen$Laying" "PressedMen$Laying" "far" "[[I") ∈ lw_all := lw_g (lw_at lw_m3 227 rfl) rfl
theorem q771 : (Jvm.Cond.soleField "PressedMen$Laying" "far") ∈ lw_all := lw_g (lw_at lw_m3 228 rfl) rfl
theorem q772 : (Jvm.Cond.laysFinal "PressedMen$Laying" "PressedMen$Laying" "at" "[I") ∈ lw_all := lw_g (lw_at lw_m3 229 rfl) rfl
theorem q773 : (Jvm.Cond.soleField "PressedMen$Laying" "at") ∈ lw_all := lw_g (lw_at lw_m3 230 rfl) rfl
theorem q774 : (Jvm.Cond.laysFinal "PressedMen$Laying" "PressedMen$Laying" "bestAt" "[I") ∈ lw_all := lw_g (lw_at lw_m3 231 rfl) rfl
theorem q775 : (Jvm.Cond.soleField "PressedMen$Laying" "bestAt") ∈ lw_all := lw_g (lw_at lw_m3 232 rfl) rfl
theorem q776 : (Jvm.Cond.lays "PressedMen$Laying" "PressedMen$Laying" "best" "I") ∈ lw_all := lw_g (lw_at lw_m3 233 rfl) rfl
theorem q777 : (Jvm.Cond.soleField "PressedMen$Laying" "best") ∈ lw_all := lw_g (lw_at lw_m3 234 rfl) rfl
theorem q778 : (Jvm.Cond.lays "PressedMen$Laying" "PressedMen$Laying" "all" "I") ∈ lw_all := lw_g (lw_at lw_m3 235 rfl) rfl
theorem q779 : (Jvm.Cond.soleField "PressedMen$Laying" "all") ∈ lw_all := lw_g (lw_at lw_m3 236 rfl) rfl
theorem q780 : (Jvm.Cond.laysFinal "PressedMen$Laying" "PressedMen$Laying" "metIn" "[I") ∈ lw_all := lw_g (lw_at lw_m3 237 rfl) rfl
theorem q781 : (Jvm.Cond.soleField "PressedMen$Laying" "metIn") ∈ lw_all := lw_g (lw_at lw_m3 238 rfl) rfl
theorem q782 : (Jvm.Cond.laysFinal "PressedMen$Laying" "PressedMen$Laying" "this$0" "LPressedMen;") ∈ lw_all := lw_g (lw_at lw_m3 239 rfl) rfl
theorem q783 : (Jvm.Cond.soleField "PressedMen$Laying" "this$0") ∈ lw_all := lw_g (lw_at lw_m4 0 rfl) rfl
theorem q784 : (Jvm.Cond.superclass "PressedMen$Laying" "java/lang/Object") ∈ lw_all := lw_g (lw_at lw_m4 1 rfl) rfl
theorem in_X17 : ∀ w ∈ wsX170, w ∈ lw_all := lw_in wsX170 [764, 766, 768, 770, 772, 774, 776, 778, 780, 782] (by decide +kernel) (by decide +kernel)
/-! PressedMen$Ship -/
def RX18 : String := "PressedMen$Ship"
def TX18 : u_T := fun k => match k with
  | 0 => ("PressedMen$Ship", "kind", "I", true)
  | 1 => ("PressedMen$Ship", "need", "I", true)
  | 2 => ("PressedMen$Ship", "seamen", "I", true)
  | 3 => ("PressedMen$Ship", "least", "I", true)
  | _ => ("PressedMen$Ship", "isHome", "Z", false)
def tyX18 : Nat → FieldType := fun k => match k with
  | 0 => .int
  | 1 => .int
  | 2 => .int
  | 3 => .int
  | _ => .boolean
abbrev wsX180 : List Cond := u_ws RX18 TX18 5
theorem nmX18 : ∀ a, a < 5 → ∀ b, b < 5 → a ≠ b → (TX18 a).2.1 ≠ (TX18 b).2.1 := by decide +kernel
theorem tyX18_ok : ∀ k, k < 5 → parseFieldDescriptor (TX18 k).2.2.1 = some (tyX18 k) := by decide +kernel
abbrev cX18_init : ByteArray := prog_15_method_1_code
def yX18_init : MethodName := ⟨RX18, "<init>", "(IIII)V"⟩
theorem dX18_init_0 : decode cX18_init 0 = .ok (.aload_n 0, 1) := by decide +kernel
theorem dX18_init_1 : decode cX18_init 1 = .ok (.invokespecial 1, 3) := by decide +kernel
theorem dX18_init_4 : decode cX18_init 4 = .ok (.aload_n 0, 1) := by decide +kernel
theorem dX18_init_5 : decode cX18_init 5 = .ok (.iconst 1, 1) := by decide +kernel
theorem dX18_init_6 : decode cX18_init 6 = .ok (.putfield 7, 3) := by decide +kernel
theorem dX18_init_9 : decode cX18_init 9 = .ok (.aload_n 0, 1) := by decide +kernel
theorem dX18_init_10 : decode cX18_init 10 = .ok (.iload_n 1, 1) := by decide +kernel
theorem dX18_init_11 : decode cX18_init 11 = .ok (.putfield 13, 3) := by decide +kernel
theorem dX18_init_14 : decode cX18_init 14 = .ok (.aload_n 0, 1) := by decide +kernel
theorem dX18_init_15 : decode cX18_init 15 = .ok (.iload_n 2, 1) := by decide +kernel
theorem dX18_init_16 : decode cX18_init 16 = .ok (.putfield 17, 3) := by decide +kernel
theorem dX18_init_19 : decode cX18_init 19 = .ok (.aload_n 0, 1) := by decide +kernel
theorem dX18_init_20 : decode cX18_init 20 = .ok (.iload_n 3, 1) := by decide +kernel
theorem dX18_init_21 : decode cX18_init 21 = .ok (.putfield 20, 3) := by decide +kernel
theorem dX18_init_24 : decode cX18_init 24 = .ok (.aload_n 0, 1) := by decide +kernel
theorem dX18_init_25 : decode cX18_init 25 = .ok (.iload 4, 2) := by decide +kernel
theorem dX18_init_27 : decode cX18_init 27 = .ok (.putfield 23, 3) := by decide +kernel
theorem dX18_init_30 : decode cX18_init 30 = .ok (.return_, 1) := by decide +kernel
theorem q84 : (Jvm.Cond.initialized "PressedMen$Ship") ∈ lw_all := lw_g (lw_at lw_m1 21 rfl) rfl
theorem q793 : (Jvm.Cond.instantiable "PressedMen$Ship" (5 : Nat)) ∈ lw_all := lw_g (lw_at lw_m4 10 rfl) rfl
theorem q795 : (Jvm.Cond.instanceMethod ({ cls := "PressedMen$Ship", name := "<init>", desc := "(IIII)V" } : Jvm.MethodName)) ∈ lw_all := lw_g (lw_at lw_m4 12 rfl) rfl
theorem q796 : (Jvm.Cond.code ({ cls := "PressedMen$Ship", name := "<init>", desc := "(IIII)V" } : Jvm.MethodName) prog_15_method_1_code (5 : Nat) (Option.none : Option Jvm.ClassFile.FieldType)) ∈ lw_all := lw_g (lw_at lw_m4 13 rfl) rfl
theorem q797 : (Jvm.Cond.methodLink "PressedMen$Ship" (1 : Nat) ({ cls := "java/lang/Object", name := "<init>", desc := "()V" } : Jvm.MethodName)) ∈ lw_all := lw_g (lw_at lw_m4 14 rfl) rfl
theorem q798 : (Jvm.Cond.fieldLink "PressedMen$Ship" (13 : Nat) "PressedMen$Ship" "kind" "I") ∈ lw_all := lw_g (lw_at lw_m4 15 rfl) rfl
theorem q800 : (Jvm.Cond.fieldLink "PressedMen$Ship" (17 : Nat) "PressedMen$Ship" "need" "I") ∈ lw_all := lw_g (lw_at lw_m4 17 rfl) rfl
theorem q802 : (Jvm.Cond.fieldLink "PressedMen$Ship" (20 : Nat) "PressedMen$Ship" "seamen" "I") ∈ lw_all := lw_g (lw_at lw_m4 19 rfl) rfl
theorem q804 : (Jvm.Cond.fieldLink "PressedMen$Ship" (23 : Nat) "PressedMen$Ship" "least" "I") ∈ lw_all := lw_g (lw_at lw_m4 21 rfl) rfl
theorem q806 : (Jvm.Cond.fieldLink "PressedMen$Ship" (7 : Nat) "PressedMen$Ship" "isHome" "Z") ∈ lw_all := lw_g (lw_at lw_m4 23 rfl) rfl
theorem q808 : (Jvm.Cond.laysFinal "PressedMen$Ship" "PressedMen$Ship" "kind" "I") ∈ lw_all := lw_g (lw_at lw_m4 25 rfl) rfl
theorem q809 : (Jvm.Cond.soleField "PressedMen$Ship" "kind") ∈ lw_all := lw_g (lw_at lw_m4 26 rfl) rfl
theorem q810 : (Jvm.Cond.laysFinal "PressedMen$Ship" "PressedMen$Ship" "need" "I") ∈ lw_all := lw_g (lw_at lw_m4 27 rfl) rfl
theorem q811 : (Jvm.Cond.soleField "PressedMen$Ship" "need") ∈ lw_all := lw_g (lw_at lw_m4 28 rfl) rfl
theorem q812 : (Jvm.Cond.laysFinal "PressedMen$Ship" "PressedMen$Ship" "seamen" "I") ∈ lw_all := lw_g (lw_at lw_m4 29 rfl) rfl
theorem q813 : (Jvm.Cond.soleField "PressedMen$Ship" "seamen") ∈ lw_all := lw_g (lw_at lw_m4 30 rfl) rfl
theorem q814 : (Jvm.Cond.laysFinal "PressedMen$Ship" "PressedMen$Ship" "least" "I") ∈ lw_all := lw_g (lw_at lw_m4 31 rfl) rfl
theorem q815 : (Jvm.Cond.soleField "PressedMen$Ship" "least") ∈ lw_all := lw_g (lw_at lw_m4 32 rfl) rfl
theorem q816 : (Jvm.Cond.lays "PressedMen$Ship" "PressedMen$Ship" "isHome" "Z") ∈ lw_all := lw_g (lw_at lw_m4 33 rfl) rfl
theorem q817 : (Jvm.Cond.soleField "PressedMen$Ship" "isHome") ∈ lw_all := lw_g (lw_at lw_m4 34 rfl) rfl
theorem q818 : (Jvm.Cond.superclass "PressedMen$Ship" "java/lang/Object") ∈ lw_all := lw_g (lw_at lw_m4 35 rfl) rfl
theorem in_X18 : ∀ w ∈ wsX180, w ∈ lw_all := lw_in wsX180 [808, 810, 812, 814, 816] (by decide +kernel) (by decide +kernel)
/-! PressedMen$Ticket -/
def RX19 : String := "PressedMen$Ticket"
def TX19 : u_T := fun k => match k with
  | 0 => ("PressedMen$Ticket", "of", "LPressedMen$Man;", true)
  | 1 => ("PressedMen$Ticket", "worth", "I", true)
  | 2 => ("PressedMen$Ticket", "holder", "I", false)
  | 3 => ("PressedMen$Ticket", "isPaid", "Z", false)
  | 4 => ("PressedMen$Ticket", "falsely", "I", false)
  | _ => ("PressedMen$Ticket", "this$0", "LPressedMen;", true)
def tyX19 : Nat → FieldType := fun k => match k with
  | 0 => .object "PressedMen$Man"
  | 1 => .int
  | 2 => .int
  | 3 => .boolean
  | 4 => .int
  | _ => .object "PressedMen"
abbrev wsX190 : List Cond := u_ws RX19 TX19 6
theorem nmX19 : ∀ a, a < 6 → ∀ b, b < 6 → a ≠ b → (TX19 a).2.1 ≠ (TX19 b).2.1 := by decide +kernel
theorem tyX19_ok : ∀ k, k < 6 → parseFieldDescriptor (TX19 k).2.2.1 = some (tyX19 k) := by decide +kernel
abbrev cX19_init : ByteArray := prog_19_method_1_code
def yX19_init : MethodName := ⟨RX19, "<init>", "(LPressedMen;LPressedMen$Man;I)V"⟩
theorem dX19_init_0 : decode cX19_init 0 = .ok (.aload_n 0, 1) := by decide +kernel
theorem dX19_init_1 : decode cX19_init 1 = .ok (.aload_n 1, 1) := by decide +kernel
theorem dX19_init_2 : decode cX19_init 2 = .ok (.putfield 3, 3) := by decide +kernel
theorem dX19_init_5 : decode cX19_init 5 = .ok (.aload_n 0, 1) := by decide +kernel
theorem dX19_init_6 : decode cX19_init 6 = .ok (.invokespecial 9, 3) := by decide +kernel
theorem dX19_init_9 : decode cX19_init 9 = .ok (.aload_n 0, 1) := by decide +kernel
theorem dX19_init_10 : decode cX19_init 10 = .ok (.bipush (-9), 2) := by decide +kernel
theorem dX19_init_12 : decode cX19_init 12 = .ok (.putfield 15, 3) := by decide +kernel
theorem dX19_init_15 : decode cX19_init 15 = .ok (.aload_n 0, 1) := by decide +kernel
theorem dX19_init_16 : decode cX19_init 16 = .ok (.aload_n 2, 1) := by decide +kernel
theorem dX19_init_17 : decode cX19_init 17 = .ok (.putfield 19, 3) := by decide +kernel
theorem dX19_init_20 : decode cX19_init 20 = .ok (.aload_n 0, 1) := by decide +kernel
theorem dX19_init_21 : decode cX19_init 21 = .ok (.iload_n 3, 1) := by decide +kernel
theorem dX19_init_22 : decode cX19_init 22 = .ok (.putfield 23, 3) := by decide +kernel
theorem dX19_init_25 : decode cX19_init 25 = .ok (.return_, 1) := by decide +kernel
abbrev cX19_gain : ByteArray := prog_19_method_2_code
def yX19_gain : MethodName := ⟨RX19, "gain", "(II)V"⟩
theorem dX19_gain_0 : decode cX19_gain 0 = .ok (.iload_n 1, 1) := by decide +kernel
theorem dX19_gain_1 : decode cX19_gain 1 = .ok (.bipush (-9), 2) := by decide +kernel
theorem dX19_gain_3 : decode cX19_gain 3 = .ok (.if_icmp .ne 19, 3) := by decide +kernel
theorem dX19_gain_6 : decode cX19_gain 6 = .ok (.aload_n 0, 1) := by decide +kernel
theorem dX19_gain_7 : decode cX19_gain 7 = .ok (.getfield 19, 3) := by decide +kernel
theorem dX19_gain_10 : decode cX19_gain 10 = .ok (.dup, 1) := by decide +kernel
theorem dX19_gain_11 : decode cX19_gain 11 = .ok (.getfield 26, 3) := by decide +kernel
theorem dX19_gain_14 : decode cX19_gain 14 = .ok (.iload_n 2, 1) := by decide +kernel
theorem dX19_gain_15 : decode cX19_gain 15 = .ok (.iadd, 1) := by decide +kernel
theorem dX19_gain_16 : decode cX19_gain 16 = .ok (.putfield 26, 3) := by decide +kernel
theorem dX19_gain_19 : decode cX19_gain 19 = .ok (.goto 16, 3) := by decide +kernel
theorem dX19_gain_22 : decode cX19_gain 22 = .ok (.aload_n 0, 1) := by decide +kernel
theorem dX19_gain_23 : decode cX19_gain 23 = .ok (.getfield 3, 3) := by decide +kernel
theorem dX19_gain_26 : decode cX19_gain 26 = .ok (.getfield 31, 3) := by decide +kernel
theorem dX19_gain_29 : decode cX19_gain 29 = .ok (.iload_n 1, 1) := by decide +kernel
theorem dX19_gain_30 : decode cX19_gain 30 = .ok (.dup2, 1) := by decide +kernel
theorem dX19_gain_31 : decode cX19_gain 31 = .ok (.iaload, 1) := by decide +kernel
theorem dX19_gain_32 : decode cX19_gain 32 = .ok (.iload_n 2, 1) := by decide +kernel
theorem dX19_gain_33 : decode cX19_gain 33 = .ok (.iadd, 1) := by decide +kernel
theorem dX19_gain_34 : decode cX19_gain 34 = .ok (.iastore, 1) := by decide +kernel
theorem dX19_gain_35 : decode cX19_gain 35 = .ok (.return_, 1) := by decide +kernel
theorem q86 : (Jvm.Cond.initialized "PressedMen$Ticket") ∈ lw_all := lw_g (lw_at lw_m1 23 rfl) rfl
theorem q131 : (Jvm.Cond.fieldLinkNest "PressedMen$Ticket" (31 : Nat) "PressedMen" "purses" "[I" "PressedMen") ∈ lw_tbl := lw_at lw_m1 68 rfl
theorem q235 : (Jvm.Cond.fieldLinkNest "PressedMen$Ticket" (26 : Nat) "PressedMen$Man" "got" "I" "PressedMen") ∈ lw_tbl := lw_at lw_m1 172 rfl
theorem q896 : (Jvm.Cond.instantiable "PressedMen$Ticket" (6 : Nat)) ∈ lw_all := lw_g (lw_at lw_m4 113 rfl) rfl
theorem q898 : (Jvm.Cond.instanceMethod ({ cls := "PressedMen$Ticket", name := "<init>", desc := "(LPressedMen;LPressedMen$Man;I)V" } : Jvm.MethodName)) ∈ lw_all := lw_g (lw_at lw_m4 115 rfl) rfl
theorem q899 : (Jvm.Cond.code ({ cls := "PressedMen$Ticket", name := "<init>", desc := "(LPressedMen;LPressedMen$Man;I)V" } : Jvm.MethodName) prog_19_method_1_code (4 : Nat) (Option.none : Option Jvm.ClassFile.FieldType)) ∈ lw_all := lw_g (lw_at lw_m4 116 rfl) rfl
theorem q900 : (Jvm.Cond.methodLink "PressedMen$Ticket" (9 : Nat) ({ cls := "java/lang/Object", name := "<init>", desc := "()V" } : Jvm.MethodName)) ∈ lw_all := lw_g (lw_at lw_m4 117 rfl) rfl
theorem q901 : (Jvm.Cond.fieldLink "PressedMen$Ticket" (19 : Nat) "PressedMen$Ticket" "of" "LPressedMen$Man;") ∈ lw_all := lw_g (lw_at lw_m4 118 rfl) rfl
theorem q903 : (Jvm.Cond.fieldLink "PressedMen$Ticket" (23 : Nat) "PressedMen$Ticket" "worth" "I") ∈ lw_all := lw_g (lw_at lw_m4 120 rfl) rfl
theorem q905 : (Jvm.Cond.fieldLink "PressedMen$Ticket" (15 : Nat) "PressedMen$Ticket" "holder" "I") ∈ lw_all := lw_g (lw_at lw_m4 122 rfl) rfl
theorem q909 : (Jvm.Cond.fieldLink "PressedMen$Ticket" (3 : Nat) "PressedMen$Ticket" "this$0" "LPressedMen;") ∈ lw_all := lw_g (lw_at lw_m4 126 rfl) rfl
theorem q910 : (Jvm.Cond.laysFinal "PressedMen$Ticket" "PressedMen$Ticket" "of" "LPressedMen$Man;") ∈ lw_all := lw_g (lw_at lw_m4 127 rfl) rfl
theorem q911 : (Jvm.Cond.soleField "PressedMen$Ticket" "of") ∈ lw_all := lw_g (lw_at lw_m4 128 rfl) rfl
theorem q912 : (Jvm.Cond.laysFinal "PressedMen$Ticket" "PressedMen$Ticket" "worth" "I") ∈ lw_all := lw_g (lw_at lw_m4 129 rfl) rfl
theorem q913 : (Jvm.Cond.soleField "PressedMen$Ticket" "worth") ∈ lw_all := lw_g (lw_at lw_m4 130 rfl) rfl
theorem q914 : (Jvm.Cond.lays "PressedMen$Ticket" "PressedMen$Ticket" "holder" "I") ∈ lw_all := lw_g (lw_at lw_m4 131 rfl) rfl
theorem q915 : (Jvm.Cond.soleField "PressedMen$Ticket" "holder") ∈ lw_all := lw_g (lw_at lw_m4 132 rfl) rfl
theorem q916 : (Jvm.Cond.lays "PressedMen$Ticket" "PressedMen$Ticket" "isPaid" "Z") ∈ lw_all := lw_g (lw_at lw_m4 133 rfl) rfl
theorem q917 : (Jvm.Cond.soleField "PressedMen$Ticket" "isPaid") ∈ lw_all := lw_g (lw_at lw_m4 134 rfl) rfl
theorem q918 : (Jvm.Cond.lays "PressedMen$Ticket" "PressedMen$Ticket" "falsely" "I") ∈ lw_all := lw_g (lw_at lw_m4 135 rfl) rfl
theorem q919 : (Jvm.Cond.soleField "PressedMen$Ticket" "falsely") ∈ lw_all := lw_g (lw_at lw_m4 136 rfl) rfl
theorem q920 : (Jvm.Cond.laysFinal "PressedMen$Ticket" "PressedMen$Ticket" "this$0" "LPressedMen;") ∈ lw_all := lw_g (lw_at lw_m4 137 rfl) rfl
theorem q921 : (Jvm.Cond.soleField "PressedMen$Ticket" "this$0") ∈ lw_all := lw_g (lw_at lw_m4 138 rfl) rfl
theorem q922 : (Jvm.Cond.superclass "PressedMen$Ticket" "java/lang/Object") ∈ lw_all := lw_g (lw_at lw_m4 139 rfl) rfl
theorem q935 : (Jvm.Cond.instanceMethod ({ cls := "PressedMen$Ticket", name := "gain", desc := "(II)V" } : Jvm.MethodName)) ∈ lw_all := lw_g (lw_at lw_m4 152 rfl) rfl
theorem q936 : (Jvm.Cond.selects "PressedMen$Ticket" ({ cls := "PressedMen$Ticket", name := "gain", desc := "(II)V" } : Jvm.MethodName) ({ cls := "PressedMen$Ticket", name := "gain", desc := "(II)V" } : Jvm.MethodName)) ∈ lw_all := lw_g (lw_at lw_m4 153 rfl) rfl
theorem q937 : (Jvm.Cond.code ({ cls := "PressedMen$Ticket", name := "gain", desc := "(II)V" } : Jvm.MethodName) prog_19_method_2_code (3 : Nat) (Option.none : Option Jvm.ClassFile.FieldType)) ∈ lw_all := lw_g (lw_at lw_m4 154 rfl) rfl
theorem in_X19 : ∀ w ∈ wsX190, w ∈ lw_all := lw_in wsX190 [910, 912, 914, 916, 918, 920] (by decide +kernel) (by decide +kernel)
/-! PressedMen$Man -/
def RX2 : String := "PressedMen$Man"
def TX2 : u_T := fun k => match k with
  | 0 => ("PressedMen$Man", "about", "[I", true)
  | 1 => ("PressedMen$Man", "isShy", "Z", false)
  | 2 => ("PressedMen$Man", "last", "LPressedMen$Stay;", false)
  | 3 => ("PressedMen$Man", "taken", "LPressedMen$Taking;", false)
  | _ => ("PressedMen$Man", "got", "I", false)
def tyX2 : Nat → FieldType := fun k => match k with
  | 0 => .array .int
  | 1 => .boolean
  | 2 => .object "PressedMen$Stay"
  | 3 => .object "PressedMen$Taking"
  | _ => .int
abbrev wsX20 : List Cond := u_ws RX2 TX2 5
theorem nmX2 : ∀ a, a < 5 → ∀ b, b < 5 → a ≠ b → (TX2 a).2.1 ≠ (TX2 b).2.1 := by decide +kernel
theorem tyX2_ok : ∀ k, k < 5 → parseFieldDescriptor (TX2 k).2.2.1 = some (tyX2 k) := by decide +kernel
abbrev cX2_init : ByteArray := prog_12_method_1_code
def yX2_init : MethodName := ⟨RX2, "<init>", "([I)V"⟩
theorem dX2_init_0 : decode cX2_init 0 = .ok (.aload_n 0, 1) := by decide +kernel
theorem dX2_init_1 : decode cX2_init 1 = .ok (.invokespecial 1, 3) := by decide +kernel
theorem dX2_init_4 : decode cX2_init 4 = .ok (.aload_n 0, 1) := by decide +kernel
theorem dX2_init_5 : decode cX2_init 5 = .ok (.aload_n 1, 1) := by decide +kernel
theorem dX2_init_6 : decode cX2_init 6 = .ok (.putfield 7, 3) := by decide +kernel
theorem dX2_init_9 : decode cX2_init 9 = .ok (.aload_n 0, 1) := by decide +kernel
theorem dX2_init_10 : decode cX2_init 10 = .ok (.new 13, 3) := by decide +kernel
theorem dX2_init_13 : decode cX2_init 13 = .ok (.dup, 1) := by decide +kernel
theorem dX2_init_14 : decode cX2_init 14 = .ok (.iconst (-1), 1) := by decide +kernel
theorem dX2_init_15 : decode cX2_init 15 = .ok (.aload_n 1, 1) := by decide +kernel
theorem dX2_init_16 : decode cX2_init 16 = .ok (.bipush 6, 2) := by decide +kernel
theorem dX2_init_18 : decode cX2_init 18 = .ok (.iaload, 1) := by decide +kernel
theorem dX2_init_19 : decode cX2_init 19 = .ok (.aconst_null, 1) := by decide +kernel
theorem dX2_init_20 : decode cX2_init 20 = .ok (.invokespecial 15, 3) := by decide +kernel
theorem dX2_init_23 : decode cX2_init 23 = .ok (.putfield 18, 3) := by decide +kernel
theorem dX2_init_26 : decode cX2_init 26 = .ok (.return_, 1) := by decide +kernel
abbrev cX2_asOf : ByteArray := prog_12_method_6_code
def yX2_asOf : MethodName := ⟨RX2, "asOf", "(I)LPressedMen$Stay;"⟩
theorem dX2_asOf_0 : decode cX2_asOf 0 = .ok (.aload_n 0, 1) := by decide +kernel
theorem dX2_asOf_1 : decode cX2_asOf 1 = .ok (.getfield 18, 3) := by decide +kernel
theorem dX2_asOf_4 : decode cX2_asOf 4 = .ok (.astore_n 2, 1) := by decide +kernel
theorem dX2_asOf_5 : decode cX2_asOf 5 = .ok (.aload_n 2, 1) := by decide +kernel
theorem dX2_asOf_6 : decode cX2_asOf 6 = .ok (.getfield 26, 3) := by decide +kernel
theorem dX2_asOf_9 : decode cX2_asOf 9 = .ok (.iload_n 1, 1) := by decide +kernel
theorem dX2_asOf_10 : decode cX2_asOf 10 = .ok (.if_icmp .le 11, 3) := by decide +kernel
theorem dX2_asOf_13 : decode cX2_asOf 13 = .ok (.aload_n 2, 1) := by decide +kernel
theorem dX2_asOf_14 : decode cX2_asOf 14 = .ok (.getfield 29, 3) := by decide +kernel
theorem dX2_asOf_17 : decode cX2_asOf 17 = .ok (.astore_n 2, 1) := by decide +kernel
theorem dX2_asOf_18 : decode cX2_asOf 18 = .ok (.goto (-13), 3) := by decide +kernel
theorem dX2_asOf_21 : decode cX2_asOf 21 = .ok (.aload_n 2, 1) := by decide +kernel
theorem dX2_asOf_22 : decode cX2_asOf 22 = .ok (.areturn, 1) := by decide +kernel
abbrev cX2_place : ByteArray := prog_12_method_4_code
def yX2_place : MethodName := ⟨RX2, "place", "()I"⟩
theorem dX2_place_0 : decode cX2_place 0 = .ok (.aload_n 0, 1) := by decide +kernel
theorem dX2_place_1 : decode cX2_place 1 = .ok (.getfield 18, 3) := by decide +kernel
theorem dX2_place_4 : decode cX2_place 4 = .ok (.getfield 22, 3) := by decide +kernel
theorem dX2_place_7 : decode cX2_place 7 = .ok (.ireturn, 1) := by decide +kernel
abbrev cX2_isSeaman : ByteArray := prog_12_method_3_code
def yX2_isSeaman : MethodName := ⟨RX2, "isSeaman", "()Z"⟩
theorem dX2_isSeaman_0 : decode cX2_isSeaman 0 = .ok (.aload_n 0, 1) := by decide +kernel
theorem dX2_isSeaman_1 : decode cX2_isSeaman 1 = .ok (.getfield 7, 3) := by decide +kernel
theorem dX2_isSeaman_4 : decode cX2_isSeaman 4 = .ok (.iconst 5, 1) := by decide +kernel
theorem dX2_isSeaman_5 : decode cX2_isSeaman 5 = .ok (.iaload, 1) := by decide +kernel
theorem dX2_isSeaman_6 : decode cX2_isSeaman 6 = .ok (.iconst 3, 1) := by decide +kernel
theorem dX2_isSeaman_7 : decode cX2_isSeaman 7 = .ok (.if_icmp .lt 7, 3) := by decide +kernel
theorem dX2_isSeaman_10 : decode cX2_isSeaman 10 = .ok (.iconst 1, 1) := by decide +kernel
theorem dX2_isSeaman_11 : decode cX2_isSeaman 11 = .ok (.goto 4, 3) := by decide +kernel
theorem dX2_isSeaman_14 : decode cX2_isSeaman 14 = .ok (.iconst 0, 1) := by decide +kernel
theorem dX2_isSeaman_15 : decode cX2_isSeaman 15 = .ok (.ireturn, 1) := by decide +kernel
abbrev cX2_go : ByteArray := prog_12_method_5_code
def yX2_go : MethodName := ⟨RX2, "go", "(II)V"⟩
theorem dX2_go_0 : decode cX2_go 0 = .ok (.aload_n 0, 1) := by decide +kernel
theorem dX2_go_1 : decode cX2_go 1 = .ok (.new 13, 3) := by decide +kernel
theorem dX2_go_4 : decode cX2_go 4 = .ok (.dup, 1) := by decide +kernel
theorem dX2_go_5 : decode cX2_go 5 = .ok (.iload_n 1, 1) := by decide +kernel
theorem dX2_go_6 : decode cX2_go 6 = .ok (.iload_n 2, 1) := by decide +kernel
theorem dX2_go_7 : decode cX2_go 7 = .ok (.aload_n 0, 1) := by decide +kernel
theorem dX2_go_8 : decode cX2_go 8 = .ok (.getfield 18, 3) := by decide +kernel
theorem dX2_go_11 : decode cX2_go 11 = .ok (.invokespecial 15, 3) := by decide +kernel
theorem dX2_go_14 : decode cX2_go 14 = .ok (.putfield 18, 3) := by decide +kernel
theorem dX2_go_17 : decode cX2_go 17 = .ok (.return_, 1) := by decide +kernel
abbrev cX2_home : ByteArray := prog_12_method_2_code
def yX2_home : MethodName := ⟨RX2, "home", "()I"⟩
theorem dX2_home_0 : decode cX2_home 0 = .ok (.aload_n 0, 1) := by decide +kernel
theorem dX2_home_1 : decode cX2_home 1 = .ok (.getfield 7, 3) := by decide +kernel
theorem dX2_home_4 : decode cX2_home 4 = .ok (.bipush 6, 2) := by decide +kernel
theorem dX2_home_6 : decode cX2_home 6 = .ok (.iaload, 1) := by decide +kernel
theorem dX2_home_7 : decode cX2_home 7 = .ok (.ireturn, 1) := by decide +kernel
theorem q66 : (Jvm.Cond.initialized "PressedMen$Man") ∈ lw_all := lw_g (lw_at lw_m1 3 rfl) rfl
theorem q201 : (Jvm.Cond.instantiable "PressedMen$Man" (5 : Nat)) ∈ lw_all := lw_g (lw_at lw_m1 138 rfl) rfl
theorem q203 : (Jvm.Cond.instanceMethod ({ cls := "PressedMen$Man", name := "<init>", desc := "([I)V" } : Jvm.MethodName)) ∈ lw_all := lw_g (lw_at lw_m1 140 rfl) rfl
theorem q204 : (Jvm.Cond.code ({ cls := "PressedMen$Man", name := "<init>", desc := "([I)V" } : Jvm.MethodName) prog_12_method_1_code (2 : Nat) (Option.none : Option Jvm.ClassFile.FieldType)) ∈ lw_all := lw_g (lw_at lw_m1 141 rfl) rfl
theorem q205 : (Jvm.Cond.methodLink "PressedMen$Man" (1 : Nat) ({ cls := "java/lang/Object", name := "<init>", desc := "()V" } : Jvm.MethodName)) ∈ lw_all := lw_g (lw_at lw_m1 142 rfl) rfl
theorem q206 : (Jvm.Cond.classLink "PressedMen$Man" (13 : Nat) "PressedMen$Stay") ∈ lw_all := lw_g (lw_at lw_m1 143 rfl) rfl
theorem q208 : (Jvm.Cond.methodLink "PressedMen$Man" (15 : Nat) ({ cls := "PressedMen$Stay", name := "<init>", desc := "(IILPressedMen$Stay;)V" } : Jvm.MethodName)) ∈ lw_all := lw_g (lw_at lw_m1 145 rfl) rfl
theorem q213 : (Jvm.Cond.fieldLinkNest "PressedMen$Man" (26 : Nat) "PressedMen$Stay" "tide" "I" "PressedMen") ∈ lw_tbl := lw_at lw_m1 150 rfl
theorem q216 : (Jvm.Cond.fieldLinkNest "PressedMen$Man" (22 : Nat) "PressedMen$Stay" "place" "I" "PressedMen") ∈ lw_tbl := lw_at lw_m1 153 rfl
theorem q219 : (Jvm.Cond.fieldLinkNest "PressedMen$Man" (29 : Nat) "PressedMen$Stay" "ahead" "LPressedMen$Stay;" "PressedMen") ∈ lw_tbl := lw_at lw_m1 156 rfl
theorem q227 : (Jvm.Cond.fieldLink "PressedMen$Man" (7 : Nat) "PressedMen$Man" "about" "[I") ∈ lw_all := lw_g (lw_at lw_m1 164 rfl) rfl
theorem q232 : (Jvm.Cond.fieldLink "PressedMen$Man" (18 : Nat) "PressedMen$Man" "last" "LPressedMen$Stay;") ∈ lw_all := lw_g (lw_at lw_m1 169 rfl) rfl
theorem q237 : (Jvm.Cond.laysFinal "PressedMen$Man" "PressedMen$Man" "about" "[I") ∈ lw_all := lw_g (lw_at lw_m1 174 rfl) rfl
theorem q238 : (Jvm.Cond.soleField "PressedMen$Man" "about") ∈ lw_all := lw_g (lw_at lw_m1 175 rfl) rfl
theorem q239 : (Jvm.Cond.lays "PressedMen$Man" "PressedMen$Man" "isShy" "Z") ∈ lw_all := lw_g (lw_at lw_m1 176 rfl) rfl
theorem q240 : (Jvm.Cond.soleField "PressedMen$Man" "isShy") ∈ lw_all := lw_g (lw_at lw_m1 177 rfl) rfl
theorem q241 : (Jvm.Cond.lays "PressedMen$Man" "PressedMen$Man" "last" "LPressedMen$Stay;") ∈ lw_all := lw_g (lw_at lw_m1 178 rfl) rfl
theorem q242 : (Jvm.Cond.soleField "PressedMen$Man" "last") ∈ lw_all := lw_g (lw_at lw_m1 179 rfl) rfl
theorem q243 : (Jvm.Cond.lays "PressedMen$Man" "PressedMen$Man" "taken" "LPressedMen$Taking;") ∈ lw_all := lw_g (lw_at lw_m1 180 rfl) rfl
theorem q244 : (Jvm.Cond.soleField "PressedMen$Man" "taken") ∈ lw_all := lw_g (lw_at lw_m1 181 rfl) rfl
theorem q245 : (Jvm.Cond.lays "PressedMen$Man" "PressedMen$Man" "got" "I") ∈ lw_all := lw_g (lw_at lw_m1 182 rfl) rfl
theorem q246 : (Jvm.Cond.soleField "PressedMen$Man" "got") ∈ lw_all := lw_g (lw_at lw_m1 183 rfl) rfl
theorem q247 : (Jvm.Cond.superclass "PressedMen$Man" "java/lang/Object") ∈ lw_all := lw_g (lw_at lw_m1 184 rfl) rfl
theorem q265 : (Jvm.Cond.instanceMethod ({ cls := "PressedMen$Man", name := "asOf", desc := "(I)LPressedMen$Stay;" } : Jvm.MethodName)) ∈ lw_all := lw_g (lw_at lw_m1 202 rfl) rfl
theorem q266 : (Jvm.Cond.selects "PressedMen$Man" ({ cls := "PressedMen$Man", name := "asOf", desc := "(I)LPressedMen$Stay;" } : Jvm.MethodName) ({ cls := "PressedMen$Man", name := "asOf", desc := "(I)LPressedMen$Stay;" } : Jvm.MethodName)) ∈ lw_all := lw_g (lw_at lw_m1 203 rfl) rfl
theorem q267 : (Jvm.Cond.code ({ cls := "PressedMen$Man", name := "asOf", desc := "(I)LPressedMen$Stay;" } : Jvm.MethodName) prog_12_method_6_code (3 : Nat) (Option.some (Jvm.ClassFile.FieldType.object "PressedMen$Stay"))) ∈ lw_all := lw_g (lw_at lw_m1 204 rfl) rfl
theorem q277 : (Jvm.Cond.instanceMethod ({ cls := "PressedMen$Man", name := "place", desc := "()I" } : Jvm.MethodName)) ∈ lw_all := lw_g (lw_at lw_m1 214 rfl) rfl
theorem q278 : (Jvm.Cond.selects "PressedMen$Man" ({ cls := "PressedMen$Man", name := "place", desc := "()I" } : Jvm.MethodName) ({ cls := "PressedMen$Man", name := "place", desc := "()I" } : Jvm.MethodName)) ∈ lw_all := lw_g (lw_at lw_m1 215 rfl) rfl
theorem q279 : (Jvm.Cond.code ({ cls := "PressedMen$Man", name := "place", desc := "()I" } : Jvm.MethodName) prog_12_method_4_code (1 : Nat) (Option.some Jvm.ClassFile.FieldType.int)) ∈ lw_all := lw_g (lw_at lw_m1 216 rfl) rfl
theorem q281 : (Jvm.Cond.instanceMethod ({ cls := "PressedMen$Man", name := "isSeaman", desc := "()Z" } : Jvm.MethodName)) ∈ lw_all := lw_g (lw_at lw_m1 218 rfl) rfl
theorem q282 : (Jvm.Cond.selects "PressedMen$Man" ({ cls := "PressedMen$Man", name := "isSeaman", desc := "()Z" } : Jvm.MethodName) ({ cls := "PressedMen$Man", name := "isSeaman", desc := "()Z" } : Jvm.MethodName)) ∈ lw_all := lw_g (lw_at lw_m1 219 rfl) rfl
theorem q283 : (Jvm.Cond.code ({ cls := "PressedMen$Man", name := "isSeaman", desc := "()Z" } : Jvm.MethodName) prog_12_method_3_code (1 : Nat) (Option.some Jvm.ClassFile.FieldType.boolean)) ∈ lw_all := lw_g (lw_at lw_m1 220 rfl) rfl
theorem q312 : (Jvm.Cond.instanceMethod ({ cls := "PressedMen$Man", name := "go", desc := "(II)V" } : Jvm.MethodName)) ∈ lw_all := lw_g (lw_at lw_m2 9 rfl) rfl
theorem q313 : (Jvm.Cond.selects "PressedMen$Man" ({ cls := "PressedMen$Man", name := "go", desc := "(II)V" } : Jvm.MethodName) ({ cls := "PressedMen$Man", name := "go", desc := "(II)V" } : Jvm.MethodName)) ∈ lw_all := lw_g (lw_at lw_m2 10 rfl) rfl
theorem q314 : (Jvm.Cond.code ({ cls := "PressedMen$Man", name := "go", desc := "(II)V" } : Jvm.MethodName) prog_12_method_5_code (3 : Nat) (Option.none : Option Jvm.ClassFile.FieldType)) ∈ lw_all := lw_g (lw_at lw_m2 11 rfl) rfl
theorem q319 : (Jvm.Cond.instanceMethod ({ cls := "PressedMen$Man", name := "home", desc := "()I" } : Jvm.MethodName)) ∈ lw_all := lw_g (lw_at lw_m2 16 rfl) rfl
theorem q320 : (Jvm.Cond.selects "PressedMen$Man" ({ cls := "PressedMen$Man", name := "home", desc := "()I" } : Jvm.MethodName) ({ cls := "PressedMen$Man", name := "home", desc := "()I" } : Jvm.MethodName)) ∈ lw_all := lw_g (lw_at lw_m2 17 rfl) rfl
theorem q321 : (Jvm.Cond.code ({ cls := "PressedMen$Man", name := "home", desc := "()I" } : Jvm.MethodName) prog_12_method_2_code (1 : Nat) (Option.some Jvm.ClassFile.FieldType.int)) ∈ lw_all := lw_g (lw_at lw_m2 18 rfl) rfl
theorem in_X2 : ∀ w ∈ wsX20, w ∈ lw_all := lw_in wsX20 [237, 239, 241, 243, 245] (by decide +kernel) (by decide +kernel)
/-! PressedMen$Stay -/
def RX3 : String := "PressedMen$Stay"
def TX3 : u_T := fun k => match k with
  | 0 => ("PressedMen$Stay", "tide", "I", true)
  | 1 => ("PressedMen$Stay", "place", "I", true)
  | _ => ("PressedMen$Stay", "ahead", "LPressedMen$Stay;", true)
def tyX3 : Nat → FieldType := fun k => match k with
  | 0 => .int
  | 1 => .int
  | _ => .object "PressedMen$Stay"
abbrev wsX30 : List Cond := u_ws RX3 TX3 3
theorem nmX3 : ∀ a, a < 3 → ∀ b, b < 3 → a ≠ b → (TX3 a).2.1 ≠ (TX3 b).2.1 := by decide +kernel
theorem tyX3_ok : ∀ k, k < 3 → parseFieldDescriptor (TX3 k).2.2.1 = some (tyX3 k) := by decide +kernel
abbrev cX3_init : ByteArray := prog_16_method_1_code
def yX3_init : MethodName := ⟨RX3, "<init>", "(IILPressedMen$Stay;)V"⟩
theorem dX3_init_0 : decode cX3_init 0 = .ok (.aload_n 0, 1) := by decide +kernel
theorem dX3_init_1 : decode cX3_init 1 = .ok (.invokespecial 3, 3) := by decide +kernel
theorem dX3_init_4 : decode cX3_init 4 = .ok (.aload_n 0, 1) := by decide +kernel
theorem dX3_init_5 : decode cX3_init 5 = .ok (.iload_n 1, 1) := by decide +kernel
theorem dX3_init_6 : decode cX3_init 6 = .ok (.putfield 9, 3) := by decide +kernel
theorem dX3_init_9 : decode cX3_init 9 = .ok (.aload_n 0, 1) := by decide +kernel
theorem dX3_init_10 : decode cX3_init 10 = .ok (.iload_n 2, 1) := by decide +kernel
theorem dX3_init_11 : decode cX3_init 11 = .ok (.putfield 15, 3) := by decide +kernel
theorem dX3_init_14 : decode cX3_init 14 = .ok (.aload_n 0, 1) := by decide +kernel
theorem dX3_init_15 : decode cX3_init 15 = .ok (.aload_n 3, 1) := by decide +kernel
theorem dX3_init_16 : decode cX3_init 16 = .ok (.putfield 18, 3) := by decide +kernel
theorem dX3_init_19 : decode cX3_init 19 = .ok (.return_, 1) := by decide +kernel
abbrev cX3_isAshore : ByteArray := prog_16_method_2_code
def yX3_isAshore : MethodName := ⟨RX3, "isAshore", "()Z"⟩
theorem dX3_isAshore_0 : decode cX3_isAshore 0 = .ok (.aload_n 0, 1) := by decide +kernel
theorem dX3_isAshore_1 : decode cX3_isAshore 1 = .ok (.getfield 15, 3) := by decide +kernel
theorem dX3_isAshore_4 : decode cX3_isAshore 4 = .ok (.bipush 10, 2) := by decide +kernel
theorem dX3_isAshore_6 : decode cX3_isAshore 6 = .ok (.if_icmp .lt 12, 3) := by decide +kernel
theorem dX3_isAshore_9 : decode cX3_isAshore 9 = .ok (.aload_n 0, 1) := by decide +kernel
theorem dX3_isAshore_10 : decode cX3_isAshore 10 = .ok (.getfield 15, 3) := by decide +kernel
theorem dX3_isAshore_13 : decode cX3_isAshore 13 = .ok (.bipush 22, 2) := by decide +kernel
theorem dX3_isAshore_15 : decode cX3_isAshore 15 = .ok (.if_icmp .ne 7, 3) := by decide +kernel
theorem dX3_isAshore_18 : decode cX3_isAshore 18 = .ok (.iconst 1, 1) := by decide +kernel
theorem dX3_isAshore_19 : decode cX3_isAshore 19 = .ok (.goto 4, 3) := by decide +kernel
theorem dX3_isAshore_22 : decode cX3_isAshore 22 = .ok (.iconst 0, 1) := by decide +kernel
theorem dX3_isAshore_23 : decode cX3_isAshore 23 = .ok (.ireturn, 1) := by decide +kernel
theorem q67 : (Jvm.Cond.initialized "PressedMen$Stay") ∈ lw_all := lw_g (lw_at lw_m1 4 rfl) rfl
theorem q207 : (Jvm.Cond.instantiable "PressedMen$Stay" (3 : Nat)) ∈ lw_all := lw_g (lw_at lw_m1 144 rfl) rfl
theorem q209 : (Jvm.Cond.instanceMethod ({ cls := "PressedMen$Stay", name := "<init>", desc := "(IILPressedMen$Stay;)V" } : Jvm.MethodName)) ∈ lw_all := lw_g (lw_at lw_m1 146 rfl) rfl
theorem q210 : (Jvm.Cond.code ({ cls := "PressedMen$Stay", name := "<init>", desc := "(IILPressedMen$Stay;)V" } : Jvm.MethodName) prog_16_method_1_code (4 : Nat) (Option.none : Option Jvm.ClassFile.FieldType)) ∈ lw_all := lw_g (lw_at lw_m1 147 rfl) rfl
theorem q211 : (Jvm.Cond.methodLink "PressedMen$Stay" (3 : Nat) ({ cls := "java/lang/Object", name := "<init>", desc := "()V" } : Jvm.MethodName)) ∈ lw_all := lw_g (lw_at lw_m1 148 rfl) rfl
theorem q212 : (Jvm.Cond.fieldLink "PressedMen$Stay" (9 : Nat) "PressedMen$Stay" "tide" "I") ∈ lw_all := lw_g (lw_at lw_m1 149 rfl) rfl
theorem q215 : (Jvm.Cond.fieldLink "PressedMen$Stay" (15 : Nat) "PressedMen$Stay" "place" "I") ∈ lw_all := lw_g (lw_at lw_m1 152 rfl) rfl
theorem q218 : (Jvm.Cond.fieldLink "PressedMen$Stay" (18 : Nat) "PressedMen$Stay" "ahead" "LPressedMen$Stay;") ∈ lw_all := lw_g (lw_at lw_m1 155 rfl) rfl
theorem q220 : (Jvm.Cond.laysFinal "PressedMen$Stay" "PressedMen$Stay" "tide" "I") ∈ lw_all := lw_g (lw_at lw_m1 157 rfl) rfl
theorem q221 : (Jvm.Cond.soleField "PressedMen$Stay" "tide") ∈ lw_all := lw_g (lw_at lw_m1 158 rfl) rfl
theorem q222 : (Jvm.Cond.laysFinal "PressedMen$Stay" "PressedMen$Stay" "place" "I") ∈ lw_all := lw_g (lw_at lw_m1 159 rfl) rfl
theorem q223 : (Jvm.Cond.soleField "PressedMen$Stay" "place") ∈ lw_all := lw_g (lw_at lw_m1 160 rfl) rfl
theorem q224 : (Jvm.Cond.laysFinal "PressedMen$Stay" "PressedMen$Stay" "ahead" "LPressedMen$Stay;") ∈ lw_all := lw_g (lw_at lw_m1 161 rfl) rfl
theorem q225 : (Jvm.Cond.soleField "PressedMen$Stay" "ahead") ∈ lw_all := lw_g (lw_at lw_m1 162 rfl) rfl
theorem q226 : (Jvm.Cond.superclass "PressedMen$Stay" "java/lang/Object") ∈ lw_all := lw_g (lw_at lw_m1 163 rfl) rfl
theorem q327 : (Jvm.Cond.instanceMethod ({ cls := "PressedMen$Stay", name := "isAshore", desc := "()Z" } : Jvm.MethodName)) ∈ lw_all := lw_g (lw_at lw_m2 24 rfl) rfl
theorem q328 : (Jvm.Cond.selects "PressedMen$Stay" ({ cls := "PressedMen$Stay", name := "isAshore", desc := "()Z" } : Jvm.MethodName) ({ cls := "PressedMen$Stay", name := "isAshore", desc := "()Z" } : Jvm.MethodName)) ∈ lw_all := lw_g (lw_at lw_m2 25 rfl) rfl
theorem q329 : (Jvm.Cond.code ({ cls := "PressedMen$Stay", name := "isAshore", desc := "()Z" } : Jvm.MethodName) prog_16_method_2_code (1 : Nat) (Option.some Jvm.ClassFile.FieldType.boolean)) ∈ lw_all := lw_g (lw_at lw_m2 26 rfl) rfl
theorem in_X3 : ∀ w ∈ wsX30, w ∈ lw_all := lw_in wsX30 [220, 222, 224] (by decide +kernel) (by decide +kernel)
/-! PressedMen$Paper -/
def RX4 : String := "PressedMen$Paper"
def TX4 : u_T := fun k => match k with
  | 0 => ("PressedMen$Paper", "of", "LPressedMen$Man;", true)
  | 1 => ("PressedMen$Paper", "hair", "I", true)
  | 2 => ("PressedMen$Paper", "scar", "I", true)
  | _ => ("PressedMen$Paper", "spans", "[I", true)
def tyX4 : Nat → FieldType := fun k => match k with
  | 0 => .object "PressedMen$Man"
  | 1 => .int
  | 2 => .int
  | _ => .array .int
abbrev wsX40 : List Cond := u_ws RX4 TX4 4
theorem nmX4 : ∀ a, a < 4 → ∀ b, b < 4 → a ≠ b → (TX4 a).2.1 ≠ (TX4 b).2.1 := by decide +kernel
theorem tyX4_ok : ∀ k, k < 4 → parseFieldDescriptor (TX4 k).2.2.1 = some (tyX4 k) := by decide +kernel
abbrev cX4_init : ByteArray := prog_14_method_1_code
def yX4_init : MethodName := ⟨RX4, "<init>", "(LPressedMen$Man;II[I)V"⟩
theorem dX4_init_0 : decode cX4_init 0 = .ok (.aload_n 0, 1) := by decide +kernel
theorem dX4_init_1 : decode cX4_init 1 = .ok (.invokespecial 3, 3) := by decide +kernel
theorem dX4_init_4 : decode cX4_init 4 = .ok (.aload_n 0, 1) := by decide +kernel
theorem dX4_init_5 : decode cX4_init 5 = .ok (.aload_n 1, 1) := by decide +kernel
theorem dX4_init_6 : decode cX4_init 6 = .ok (.putfield 9, 3) := by decide +kernel
theorem dX4_init_9 : decode cX4_init 9 = .ok (.aload_n 0, 1) := by decide +kernel
theorem dX4_init_10 : decode cX4_init 10 = .ok (.iload_n 2, 1) := by decide +kernel
theorem dX4_init_11 : decode cX4_init 11 = .ok (.putfield 15, 3) := by decide +kernel
theorem dX4_init_14 : decode cX4_init 14 = .ok (.aload_n 0, 1) := by decide +kernel
theorem dX4_init_15 : decode cX4_init 15 = .ok (.iload_n 3, 1) := by decide +kernel
theorem dX4_init_16 : decode cX4_init 16 = .ok (.putfield 19, 3) := by decide +kernel
theorem dX4_init_19 : decode cX4_init 19 = .ok (.aload_n 0, 1) := by decide +kernel
theorem dX4_init_20 : decode cX4_init 20 = .ok (.aload 4, 2) := by decide +kernel
theorem dX4_init_22 : decode cX4_init 22 = .ok (.putfield 22, 3) := by decide +kernel
theorem dX4_init_25 : decode cX4_init 25 = .ok (.return_, 1) := by decide +kernel
abbrev cX4_covers : ByteArray := prog_14_method_4_code
def yX4_covers : MethodName := ⟨RX4, "covers", "(LPressedMen$Man;I)I"⟩
theorem dX4_covers_0 : decode cX4_covers 0 = .ok (.aload_n 0, 1) := by decide +kernel
theorem dX4_covers_1 : decode cX4_covers 1 = .ok (.getfield 15, 3) := by decide +kernel
theorem dX4_covers_4 : decode cX4_covers 4 = .ok (.bipush (-9), 2) := by decide +kernel
theorem dX4_covers_6 : decode cX4_covers 6 = .ok (.if_icmp .eq 16, 3) := by decide +kernel
theorem dX4_covers_9 : decode cX4_covers 9 = .ok (.aload_n 0, 1) := by decide +kernel
theorem dX4_covers_10 : decode cX4_covers 10 = .ok (.getfield 15, 3) := by decide +kernel
theorem dX4_covers_13 : decode cX4_covers 13 = .ok (.aload_n 1, 1) := by decide +kernel
theorem dX4_covers_14 : decode cX4_covers 14 = .ok (.getfield 30, 3) := by decide +kernel
theorem dX4_covers_17 : decode cX4_covers 17 = .ok (.iconst 1, 1) := by decide +kernel
theorem dX4_covers_18 : decode cX4_covers 18 = .ok (.iaload, 1) := by decide +kernel
theorem dX4_covers_19 : decode cX4_covers 19 = .ok (.if_icmp .ne 66, 3) := by decide +kernel
theorem dX4_covers_22 : decode cX4_covers 22 = .ok (.aload_n 0, 1) := by decide +kernel
theorem dX4_covers_23 : decode cX4_covers 23 = .ok (.getfield 19, 3) := by decide +kernel
theorem dX4_covers_26 : decode cX4_covers 26 = .ok (.bipush (-9), 2) := by decide +kernel
theorem dX4_covers_28 : decode cX4_covers 28 = .ok (.if_icmp .eq 16, 3) := by decide +kernel
theorem dX4_covers_31 : decode cX4_covers 31 = .ok (.aload_n 0, 1) := by decide +kernel
theorem dX4_covers_32 : decode cX4_covers 32 = .ok (.getfield 19, 3) := by decide +kernel
theorem dX4_covers_35 : decode cX4_covers 35 = .ok (.aload_n 1, 1) := by decide +kernel
theorem dX4_covers_36 : decode cX4_covers 36 = .ok (.getfield 30, 3) := by decide +kernel
theorem dX4_covers_39 : decode cX4_covers 39 = .ok (.iconst 2, 1) := by decide +kernel
theorem dX4_covers_40 : decode cX4_covers 40 = .ok (.iaload, 1) := by decide +kernel
theorem dX4_covers_41 : decode cX4_covers 41 = .ok (.if_icmp .ne 44, 3) := by decide +kernel
theorem dX4_covers_44 : decode cX4_covers 44 = .ok (.aload_n 0, 1) := by decide +kernel
theorem dX4_covers_45 : decode cX4_covers 45 = .ok (.iconst 0, 1) := by decide +kernel
theorem dX4_covers_46 : decode cX4_covers 46 = .ok (.aload_n 1, 1) := by decide +kernel
theorem dX4_covers_47 : decode cX4_covers 47 = .ok (.getfield 30, 3) := by decide +kernel
theorem dX4_covers_50 : decode cX4_covers 50 = .ok (.iconst 0, 1) := by decide +kernel
theorem dX4_covers_51 : decode cX4_covers 51 = .ok (.iaload, 1) := by decide +kernel
theorem dX4_covers_52 : decode cX4_covers 52 = .ok (.invokevirtual 35, 3) := by decide +kernel
theorem dX4_covers_55 : decode cX4_covers 55 = .ok (.ifCond .eq 30, 3) := by decide +kernel
theorem dX4_covers_58 : decode cX4_covers 58 = .ok (.aload_n 0, 1) := by decide +kernel
theorem dX4_covers_59 : decode cX4_covers 59 = .ok (.iconst 1, 1) := by decide +kernel
theorem dX4_covers_60 : decode cX4_covers 60 = .ok (.aload_n 1, 1) := by decide +kernel
theorem dX4_covers_61 : decode cX4_covers 61 = .ok (.getfield 30, 3) := by decide +kernel
theorem dX4_covers_64 : decode cX4_covers 64 = .ok (.iconst 3, 1) := by decide +kernel
theorem dX4_covers_65 : decode cX4_covers 65 = .ok (.iaload, 1) := by decide +kernel
theorem dX4_covers_66 : decode cX4_covers 66 = .ok (.invokevirtual 35, 3) := by decide +kernel
theorem dX4_covers_69 : decode cX4_covers 69 = .ok (.ifCond .eq 16, 3) := by decide +kernel
theorem dX4_covers_72 : decode cX4_covers 72 = .ok (.aload_n 0, 1) := by decide +kernel
theorem dX4_covers_73 : decode cX4_covers 73 = .ok (.iconst 2, 1) := by decide +kernel
theorem dX4_covers_74 : decode cX4_covers 74 = .ok (.iload_n 2, 1) := by decide +kernel
theorem dX4_covers_75 : decode cX4_covers 75 = .ok (.invokevirtual 35, 3) := by decide +kernel
theorem dX4_covers_78 : decode cX4_covers 78 = .ok (.ifCond .eq 7, 3) := by decide +kernel
theorem dX4_covers_81 : decode cX4_covers 81 = .ok (.iconst 1, 1) := by decide +kernel
theorem dX4_covers_82 : decode cX4_covers 82 = .ok (.goto 4, 3) := by decide +kernel
theorem dX4_covers_85 : decode cX4_covers 85 = .ok (.iconst 0, 1) := by decide +kernel
theorem dX4_covers_86 : decode cX4_covers 86 = .ok (.istore_n 3, 1) := by decide +kernel
theorem dX4_covers_87 : decode cX4_covers 87 = .ok (.aload_n 0, 1) := by decide +kernel
theorem dX4_covers_88 : decode cX4_covers 88 = .ok (.getfield 15, 3) := by decide +kernel
theorem dX4_covers_91 : decode cX4_covers 91 = .ok (.bipush (-9), 2) := by decide +kernel
theorem dX4_covers_93 : decode cX4_covers 93 = .ok (.if_icmp .eq 34, 3) := by decide +kernel
theorem dX4_covers_96 : decode cX4_covers 96 = .ok (.aload_n 0, 1) := by decide +kernel
theorem dX4_covers_97 : decode cX4_covers 97 = .ok (.getfield 19, 3) := by decide +kernel
theorem dX4_covers_100 : decode cX4_covers 100 = .ok (.bipush (-9), 2) := by decide +kernel
theorem dX4_covers_102 : decode cX4_covers 102 = .ok (.if_icmp .eq 25, 3) := by decide +kernel
theorem dX4_covers_105 : decode cX4_covers 105 = .ok (.aload_n 0, 1) := by decide +kernel
theorem dX4_covers_106 : decode cX4_covers 106 = .ok (.iconst 0, 1) := by decide +kernel
theorem dX4_covers_107 : decode cX4_covers 107 = .ok (.iconst 5, 1) := by decide +kernel
theorem dX4_covers_108 : decode cX4_covers 108 = .ok (.invokevirtual 38, 3) := by decide +kernel
theorem dX4_covers_111 : decode cX4_covers 111 = .ok (.ifCond .eq 16, 3) := by decide +kernel
theorem dX4_covers_114 : decode cX4_covers 114 = .ok (.aload_n 0, 1) := by decide +kernel
theorem dX4_covers_115 : decode cX4_covers 115 = .ok (.iconst 1, 1) := by decide +kernel
theorem dX4_covers_116 : decode cX4_covers 116 = .ok (.iconst 2, 1) := by decide +kernel
theorem dX4_covers_117 : decode cX4_covers 117 = .ok (.invokevirtual 38, 3) := by decide +kernel
theorem dX4_covers_120 : decode cX4_covers 120 = .ok (.ifCond .eq 7, 3) := by decide +kernel
theorem dX4_covers_123 : decode cX4_covers 123 = .ok (.iconst 1, 1) := by decide +kernel
theorem dX4_covers_124 : decode cX4_covers 124 = .ok (.goto 4, 3) := by decide +kernel
theorem dX4_covers_127 : decode cX4_covers 127 = .ok (.iconst 0, 1) := by decide +kernel
theorem dX4_covers_128 : decode cX4_covers 128 = .ok (.istore 4, 2) := by decide +kernel
theorem dX4_covers_130 : decode cX4_covers 130 = .ok (.iload_n 3, 1) := by decide +kernel
theorem dX4_covers_131 : decode cX4_covers 131 = .ok (.ifCond .ne 7, 3) := by decide +kernel
theorem dX4_covers_134 : decode cX4_covers 134 = .ok (.iconst 0, 1) := by decide +kernel
theorem dX4_covers_135 : decode cX4_covers 135 = .ok (.goto 13, 3) := by decide +kernel
theorem dX4_covers_138 : decode cX4_covers 138 = .ok (.iload 4, 2) := by decide +kernel
theorem dX4_covers_140 : decode cX4_covers 140 = .ok (.ifCond .eq 7, 3) := by decide +kernel
theorem dX4_covers_143 : decode cX4_covers 143 = .ok (.iconst 2, 1) := by decide +kernel
theorem dX4_covers_144 : decode cX4_covers 144 = .ok (.goto 4, 3) := by decide +kernel
theorem dX4_covers_147 : decode cX4_covers 147 = .ok (.iconst 1, 1) := by decide +kernel
theorem dX4_covers_148 : decode cX4_covers 148 = .ok (.ireturn, 1) := by decide +kernel
abbrev cX4_spans : ByteArray := prog_14_method_2_code
def yX4_spans : MethodName := ⟨RX4, "spans", "(II)Z"⟩
theorem dX4_spans_0 : decode cX4_spans 0 = .ok (.iload_n 2, 1) := by decide +kernel
theorem dX4_spans_1 : decode cX4_spans 1 = .ok (.aload_n 0, 1) := by decide +kernel
theorem dX4_spans_2 : decode cX4_spans 2 = .ok (.getfield 22, 3) := by decide +kernel
theorem dX4_spans_5 : decode cX4_spans 5 = .ok (.iconst 2, 1) := by decide +kernel
theorem dX4_spans_6 : decode cX4_spans 6 = .ok (.iload_n 1, 1) := by decide +kernel
theorem dX4_spans_7 : decode cX4_spans 7 = .ok (.imul, 1) := by decide +kernel
theorem dX4_spans_8 : decode cX4_spans 8 = .ok (.iaload, 1) := by decide +kernel
theorem dX4_spans_9 : decode cX4_spans 9 = .ok (.aload_n 0, 1) := by decide +kernel
theorem dX4_spans_10 : decode cX4_spans 10 = .ok (.getfield 22, 3) := by decide +kernel
theorem dX4_spans_13 : decode cX4_spans 13 = .ok (.iconst 2, 1) := by decide +kernel
theorem dX4_spans_14 : decode cX4_spans 14 = .ok (.iload_n 1, 1) := by decide +kernel
theorem dX4_spans_15 : decode cX4_spans 15 = .ok (.imul, 1) := by decide +kernel
theorem dX4_spans_16 : decode cX4_spans 16 = .ok (.iconst 1, 1) := by decide +kernel
theorem dX4_spans_17 : decode cX4_spans 17 = .ok (.iadd, 1) := by decide +kernel
theorem dX4_spans_18 : decode cX4_spans 18 = .ok (.iaload, 1) := by decide +kernel
theorem dX4_spans_19 : decode cX4_spans 19 = .ok (.invokestatic 26, 3) := by decide +kernel
theorem dX4_spans_22 : decode cX4_spans 22 = .ok (.ireturn, 1) := by decide +kernel
abbrev cX4_isNarrow : ByteArray := prog_14_method_3_code
def yX4_isNarrow : MethodName := ⟨RX4, "isNarrow", "(II)Z"⟩
theorem dX4_isNarrow_0 : decode cX4_isNarrow 0 = .ok (.aload_n 0, 1) := by decide +kernel
theorem dX4_isNarrow_1 : decode cX4_isNarrow 1 = .ok (.getfield 22, 3) := by decide +kernel
theorem dX4_isNarrow_4 : decode cX4_isNarrow 4 = .ok (.iconst 2, 1) := by decide +kernel
theorem dX4_isNarrow_5 : decode cX4_isNarrow 5 = .ok (.iload_n 1, 1) := by decide +kernel
theorem dX4_isNarrow_6 : decode cX4_isNarrow 6 = .ok (.imul, 1) := by decide +kernel
theorem dX4_isNarrow_7 : decode cX4_isNarrow 7 = .ok (.iconst 1, 1) := by decide +kernel
theorem dX4_isNarrow_8 : decode cX4_isNarrow 8 = .ok (.iadd, 1) := by decide +kernel
theorem dX4_isNarrow_9 : decode cX4_isNarrow 9 = .ok (.iaload, 1) := by decide +kernel
theorem dX4_isNarrow_10 : decode cX4_isNarrow 10 = .ok (.aload_n 0, 1) := by decide +kernel
theorem dX4_isNarrow_11 : decode cX4_isNarrow 11 = .ok (.getfield 22, 3) := by decide +kernel
theorem dX4_isNarrow_14 : decode cX4_isNarrow 14 = .ok (.iconst 2, 1) := by decide +kernel
theorem dX4_isNarrow_15 : decode cX4_isNarrow 15 = .ok (.iload_n 1, 1) := by decide +kernel
theorem dX4_isNarrow_16 : decode cX4_isNarrow 16 = .ok (.imul, 1) := by decide +kernel
theorem dX4_isNarrow_17 : decode cX4_isNarrow 17 = .ok (.iaload, 1) := by decide +kernel
theorem dX4_isNarrow_18 : decode cX4_isNarrow 18 = .ok (.isub, 1) := by decide +kernel
theorem dX4_isNarrow_19 : decode cX4_isNarrow 19 = .ok (.iload_n 2, 1) := by decide +kernel
theorem dX4_isNarrow_20 : decode cX4_isNarrow 20 = .ok (.if_icmp .gt 7, 3) := by decide +kernel
theorem dX4_isNarrow_23 : decode cX4_isNarrow 23 = .ok (.iconst 1, 1) := by decide +kernel
theorem dX4_isNarrow_24 : decode cX4_isNarrow 24 = .ok (.goto 4, 3) := by decide +kernel
theorem dX4_isNarrow_27 : decode cX4_isNarrow 27 = .ok (.iconst 0, 1) := by decide +kernel
theorem dX4_isNarrow_28 : decode cX4_isNarrow 28 = .ok (.ireturn, 1) := by decide +kernel
theorem q69 : (Jvm.Cond.initialized "PressedMen$Paper") ∈ lw_all := lw_g (lw_at lw_m1 6 rfl) rfl
theorem q229 : (Jvm.Cond.fieldLinkNest "PressedMen$Paper" (30 : Nat) "PressedMen$Man" "about" "[I" "PressedMen") ∈ lw_tbl := lw_at lw_m1 166 rfl
theorem q348 : (Jvm.Cond.instantiable "PressedMen$Paper" (4 : Nat)) ∈ lw_all := lw_g (lw_at lw_m2 45 rfl) rfl
theorem q350 : (Jvm.Cond.instanceMethod ({ cls := "PressedMen$Paper", name := "<init>", desc := "(LPressedMen$Man;II[I)V" } : Jvm.MethodName)) ∈ lw_all := lw_g (lw_at lw_m2 47 rfl) rfl
theorem q351 : (Jvm.Cond.code ({ cls := "PressedMen$Paper", name := "<init>", desc := "(LPressedMen$Man;II[I)V" } : Jvm.MethodName) prog_14_method_1_code (5 : Nat) (Option.none : Option Jvm.ClassFile.FieldType)) ∈ lw_all := lw_g (lw_at lw_m2 48 rfl) rfl
theorem q352 : (Jvm.Cond.methodLink "PressedMen$Paper" (3 : Nat) ({ cls := "java/lang/Object", name := "<init>", desc := "()V" } : Jvm.MethodName)) ∈ lw_all := lw_g (lw_at lw_m2 49 rfl) rfl
theorem q353 : (Jvm.Cond.fieldLink "PressedMen$Paper" (9 : Nat) "PressedMen$Paper" "of" "LPressedMen$Man;") ∈ lw_all := lw_g (lw_at lw_m2 50 rfl) rfl
theorem q355 : (Jvm.Cond.fieldLink "PressedMen$Paper" (15 : Nat) "PressedMen$Paper" "hair" "I") ∈ lw_all := lw_g (lw_at lw_m2 52 rfl) rfl
theorem q356 : (Jvm.Cond.fieldLink "PressedMen$Paper" (19 : Nat) "PressedMen$Paper" "scar" "I") ∈ lw_all := lw_g (lw_at lw_m2 53 rfl) rfl
theorem q357 : (Jvm.Cond.fieldLink "PressedMen$Paper" (22 : Nat) "PressedMen$Paper" "spans" "[I") ∈ lw_all := lw_g (lw_at lw_m2 54 rfl) rfl
theorem q358 : (Jvm.Cond.laysFinal "PressedMen$Paper" "PressedMen$Paper" "of" "LPressedMen$Man;") ∈ lw_all := lw_g (lw_at lw_m2 55 rfl) rfl
theorem q359 : (Jvm.Cond.soleField "PressedMen$Paper" "of") ∈ lw_all := lw_g (lw_at lw_m2 56 rfl) rfl
theorem q360 : (Jvm.Cond.laysFinal "PressedMen$Paper" "PressedMen$Paper" "hair" "I") ∈ lw_all := lw_g (lw_at lw_m2 57 rfl) rfl
theorem q361 : (Jvm.Cond.soleField "PressedMen$Paper" "hair") ∈ lw_all := lw_g (lw_at lw_m2 58 rfl) rfl
theorem q362 : (Jvm.Cond.laysFinal "PressedMen$Paper" "PressedMen$Paper" "scar" "I") ∈ lw_all := lw_g (lw_at lw_m2 59 rfl) rfl
theorem q363 : (Jvm.Cond.soleField "PressedMen$Paper" "scar") ∈ lw_all := lw_g (lw_at lw_m2 60 rfl) rfl
theorem q364 : (Jvm.Cond.laysFinal "PressedMen$Paper" "PressedMen$Paper" "spans" "[I") ∈ lw_all := lw_g (lw_at lw_m2 61 rfl) rfl
theorem q365 : (Jvm.Cond.soleField "PressedMen$Paper" "spans") ∈ lw_all := lw_g (lw_at lw_m2 62 rfl) rfl
theorem q366 : (Jvm.Cond.superclass "PressedMen$Paper" "java/lang/Object") ∈ lw_all := lw_g (lw_at lw_m2 63 rfl) rfl
theorem q379 : (Jvm.Cond.instanceMethod ({ cls := "PressedMen$Paper", name := "covers", desc := "(LPressedMen$Man;I)I" } : Jvm.MethodName)) ∈ lw_all := lw_g (lw_at lw_m2 76 rfl) rfl
theorem q380 : (Jvm.Cond.selects "PressedMen$Paper" ({ cls := "PressedMen$Paper", name := "covers", desc := "(LPressedMen$Man;I)I" } : Jvm.MethodName) ({ cls := "PressedMen$Paper", name := "covers", desc := "(LPressedMen$Man;I)I" } : Jvm.MethodName)) ∈ lw_all := lw_g (lw_at lw_m2 77 rfl) rfl
theorem q381 : (Jvm.Cond.code ({ cls := "PressedMen$Paper", name := "covers", desc := "(LPressedMen$Man;I)I" } : Jvm.MethodName) prog_14_method_4_code (5 : Nat) (Option.some Jvm.ClassFile.FieldType.int)) ∈ lw_all := lw_g (lw_at lw_m2 78 rfl) rfl
theorem q382 : (Jvm.Cond.methodLink "PressedMen$Paper" (35 : Nat) ({ cls := "PressedMen$Paper", name := "spans", desc := "(II)Z" } : Jvm.MethodName)) ∈ lw_all := lw_g (lw_at lw_m2 79 rfl) rfl
theorem q383 : (Jvm.Cond.privateMethod ({ cls := "PressedMen$Paper", name := "spans", desc := "(II)Z" } : Jvm.MethodName)) ∈ lw_tbl := lw_at lw_m2 80 rfl
theorem q384 : (Jvm.Cond.instanceMethod ({ cls := "PressedMen$Paper", name := "spans", desc := "(II)Z" } : Jvm.MethodName)) ∈ lw_all := lw_g (lw_at lw_m2 81 rfl) rfl
theorem q385 : (Jvm.Cond.code ({ cls := "PressedMen$Paper", name := "spans", desc := "(II)Z" } : Jvm.MethodName) prog_14_method_2_code (3 : Nat) (Option.some Jvm.ClassFile.FieldType.boolean)) ∈ lw_all := lw_g (lw_at lw_m2 82 rfl) rfl
theorem q386 : (Jvm.Cond.methodLinkNest "PressedMen$Paper" (26 : Nat) ({ cls := "PressedMen", name := "isIn", desc := "(III)Z" } : Jvm.MethodName) "PressedMen") ∈ lw_tbl := lw_at lw_m2 83 rfl
theorem q387 : (Jvm.Cond.methodLink "PressedMen$Paper" (38 : Nat) ({ cls := "PressedMen$Paper", name := "isNarrow", desc := "(II)Z" } : Jvm.MethodName)) ∈ lw_all := lw_g (lw_at lw_m2 84 rfl) rfl
theorem q388 : (Jvm.Cond.privateMethod ({ cls := "PressedMen$Paper", name := "isNarrow", desc := "(II)Z" } : Jvm.MethodName)) ∈ lw_tbl := lw_at lw_m2 85 rfl
theorem q389 : (Jvm.Cond.instanceMethod ({ cls := "PressedMen$Paper", name := "isNarrow", desc := "(II)Z" } : Jvm.MethodName)) ∈ lw_all := lw_g (lw_at lw_m2 86 rfl) rfl
theorem q390 : (Jvm.Cond.code ({ cls := "PressedMen$Paper", name := "isNarrow", desc := "(II)Z" } : Jvm.MethodName) prog_14_method_3_code (3 : Nat) (Option.some Jvm.ClassFile.FieldType.boolean)) ∈ lw_all := lw_g (lw_at lw_m2 87 rfl) rfl
theorem in_X4 : ∀ w ∈ wsX40, w ∈ lw_all := lw_in wsX40 [358, 360, 362, 364] (by decide +kernel) (by decide +kernel)
/-! PressedMen$Act -/
def RX5 : String := "PressedMen$Act"
def TX5 : u_T := fun k => match k with
  | 0 => ("PressedMen$Act", "from", "I", true)
  | 1 => ("PressedMen$Act", "signs", "[I", true)
  | 2 => ("PressedMen$Act", "count", "I", false)
  | 3 => ("PressedMen$Act", "at", "I", false)
  | 4 => ("PressedMen$Act", "fault", "I", false)
  | _ => ("PressedMen$Act", "this$0", "LPressedMen;", true)
def tyX5 : Nat → FieldType := fun k => match k with
  | 0 => .int
  | 1 => .array .int
  | 2 => .int
  | 3 => .int
  | 4 => .int
  | _ => .object "PressedMen"
abbrev wsX50 : List Cond := u_ws RX5 TX5 6
theorem nmX5 : ∀ a, a < 6 → ∀ b, b < 6 → a ≠ b → (TX5 a).2.1 ≠ (TX5 b).2.1 := by decide +kernel
theorem tyX5_ok : ∀ k, k < 6 → parseFieldDescriptor (TX5 k).2.2.1 = some (tyX5 k) := by decide +kernel
abbrev cX5_init : ByteArray := prog_3_method_1_code
def yX5_init : MethodName := ⟨RX5, "<init>", "(LPressedMen;I)V"⟩
theorem dX5_init_0 : decode cX5_init 0 = .ok (.aload_n 0, 1) := by decide +kernel
theorem dX5_init_1 : decode cX5_init 1 = .ok (.aload_n 1, 1) := by decide +kernel
theorem dX5_init_2 : decode cX5_init 2 = .ok (.putfield 3, 3) := by decide +kernel
theorem dX5_init_5 : decode cX5_init 5 = .ok (.aload_n 0, 1) := by decide +kernel
theorem dX5_init_6 : decode cX5_init 6 = .ok (.invokespecial 9, 3) := by decide +kernel
theorem dX5_init_9 : decode cX5_init 9 = .ok (.aload_n 0, 1) := by decide +kernel
theorem dX5_init_10 : decode cX5_init 10 = .ok (.bipush 60, 2) := by decide +kernel
theorem dX5_init_12 : decode cX5_init 12 = .ok (.newarray .int, 2) := by decide +kernel
theorem dX5_init_14 : decode cX5_init 14 = .ok (.putfield 15, 3) := by decide +kernel
theorem dX5_init_17 : decode cX5_init 17 = .ok (.aload_n 0, 1) := by decide +kernel
theorem dX5_init_18 : decode cX5_init 18 = .ok (.iload_n 2, 1) := by decide +kernel
theorem dX5_init_19 : decode cX5_init 19 = .ok (.putfield 19, 3) := by decide +kernel
theorem dX5_init_22 : decode cX5_init 22 = .ok (.return_, 1) := by decide +kernel
abbrev cX5_read : ByteArray := prog_3_method_2_code
def yX5_read : MethodName := ⟨RX5, "read", "()LPressedMen$Text;"⟩
theorem dX5_read_0 : decode cX5_read 0 = .ok (.aload_n 0, 1) := by decide +kernel
theorem dX5_read_1 : decode cX5_read 1 = .ok (.iconst 0, 1) := by decide +kernel
theorem dX5_read_2 : decode cX5_read 2 = .ok (.putfield 23, 3) := by decide +kernel
theorem dX5_read_5 : decode cX5_read 5 = .ok (.aload_n 0, 1) := by decide +kernel
theorem dX5_read_6 : decode cX5_read 6 = .ok (.bipush (-9), 2) := by decide +kernel
theorem dX5_read_8 : decode cX5_read 8 = .ok (.putfield 26, 3) := by decide +kernel
theorem dX5_read_11 : decode cX5_read 11 = .ok (.aload_n 0, 1) := by decide +kernel
theorem dX5_read_12 : decode cX5_read 12 = .ok (.invokevirtual 29, 3) := by decide +kernel
theorem dX5_read_15 : decode cX5_read 15 = .ok (.astore_n 1, 1) := by decide +kernel
theorem dX5_read_16 : decode cX5_read 16 = .ok (.aload_n 1, 1) := by decide +kernel
theorem dX5_read_17 : decode cX5_read 17 = .ok (.ifnull 24, 3) := by decide +kernel
theorem dX5_read_20 : decode cX5_read 20 = .ok (.aload_n 0, 1) := by decide +kernel
theorem dX5_read_21 : decode cX5_read 21 = .ok (.getfield 23, 3) := by decide +kernel
theorem dX5_read_24 : decode cX5_read 24 = .ok (.aload_n 0, 1) := by decide +kernel
theorem dX5_read_25 : decode cX5_read 25 = .ok (.getfield 33, 3) := by decide +kernel
theorem dX5_read_28 : decode cX5_read 28 = .ok (.if_icmp .ge 13, 3) := by decide +kernel
theorem dX5_read_31 : decode cX5_read 31 = .ok (.aload_n 0, 1) := by decide +kernel
theorem dX5_read_32 : decode cX5_read 32 = .ok (.aload_n 0, 1) := by decide +kernel
theorem dX5_read_33 : decode cX5_read 33 = .ok (.getfield 23, 3) := by decide +kernel
theorem dX5_read_36 : decode cX5_read 36 = .ok (.putfield 26, 3) := by decide +kernel
theorem dX5_read_39 : decode cX5_read 39 = .ok (.aconst_null, 1) := by decide +kernel
theorem dX5_read_40 : decode cX5_read 40 = .ok (.astore_n 1, 1) := by decide +kernel
theorem dX5_read_41 : decode cX5_read 41 = .ok (.aload_n 1, 1) := by decide +kernel
theorem dX5_read_42 : decode cX5_read 42 = .ok (.areturn, 1) := by decide +kernel
abbrev cX5_readText : ByteArray := prog_3_method_5_code
def yX5_readText : MethodName := ⟨RX5, "readText", "()LPressedMen$Text;"⟩
theorem dX5_readText_0 : decode cX5_readText 0 = .ok (.aload_n 0, 1) := by decide +kernel
theorem dX5_readText_1 : decode cX5_readText 1 = .ok (.getfield 23, 3) := by decide +kernel
theorem dX5_readText_4 : decode cX5_readText 4 = .ok (.istore_n 1, 1) := by decide +kernel
theorem dX5_readText_5 : decode cX5_readText 5 = .ok (.aload_n 0, 1) := by decide +kernel
theorem dX5_readText_6 : decode cX5_readText 6 = .ok (.invokevirtual 36, 3) := by decide +kernel
theorem dX5_readText_9 : decode cX5_readText 9 = .ok (.lookupswitch 197 #[(33, 111), (38, 99), (65, 141), (89, 157), (97, 133), (104, 189), (112, 173), (115, 181), (116, 165), (121, 149), (124, 105)], 99) := by decide +kernel
theorem dX5_readText_108 : decode cX5_readText 108 = .ok (.aload_n 0, 1) := by decide +kernel
theorem dX5_readText_109 : decode cX5_readText 109 = .ok (.iconst 1, 1) := by decide +kernel
theorem dX5_readText_110 : decode cX5_readText 110 = .ok (.invokevirtual 40, 3) := by decide +kernel
theorem dX5_readText_113 : decode cX5_readText 113 = .ok (.areturn, 1) := by decide +kernel
theorem dX5_readText_114 : decode cX5_readText 114 = .ok (.aload_n 0, 1) := by decide +kernel
theorem dX5_readText_115 : decode cX5_readText 115 = .ok (.iconst 0, 1) := by decide +kernel
theorem dX5_readText_116 : decode cX5_readText 116 = .ok (.invokevirtual 40, 3) := by decide +kernel
theorem dX5_readText_119 : decode cX5_readText 119 = .ok (.areturn, 1) := by decide +kernel
theorem dX5_readText_120 : decode cX5_readText 120 = .ok (.aload_n 0, 1) := by decide +kernel
theorem dX5_readText_121 : decode cX5_readText 121 = .ok (.invokevirtual 29, 3) := by decide +kernel
theorem dX5_readText_124 : decode cX5_readText 124 = .ok (.astore_n 2, 1) := by decide +kernel
theorem dX5_readText_125 : decode cX5_readText 125 = .ok (.aload_n 2, 1) := by decide +kernel
theorem dX5_readText_126 : decode cX5_readText 126 = .ok (.ifnonnull 7, 3) := by decide +kernel
theorem dX5_readText_129 : decode cX5_readText 129 = .ok (.aconst_null, 1) := by decide +kernel
theorem dX5_readText_130 : decode cX5_readText 130 = .ok (.goto 11, 3) := by decide +kernel
theorem dX5_readText_133 : decode cX5_readText 133 = .ok (.new 44, 3) := by decide +kernel
theorem dX5_readText_136 : decode cX5_readText 136 = .ok (.dup, 1) := by decide +kernel
theorem dX5_readText_137 : decode cX5_readText 137 = .ok (.aload_n 2, 1) := by decide +kernel
theorem dX5_readText_138 : decode cX5_readText 138 = .ok (.invokespecial 46, 3) := by decide +kernel
theorem dX5_readText_141 : decode cX5_readText 141 = .ok (.areturn, 1) := by decide +kernel
theorem dX5_readText_142 : decode cX5_readText 142 = .ok (.aload_n 0, 1) := by decide +kernel
theorem dX5_readText_143 : decode cX5_readText 143 = .ok (.iconst 0, 1) := by decide +kernel
theorem dX5_readText_144 : decode cX5_readText 144 = .ok (.bipush 97, 2) := by decide +kernel
theorem dX5_readText_146 : decode cX5_readText 146 = .ok (.invokevirtual 49, 3) := by decide +kernel
theorem dX5_readText_149 : decode cX5_readText 149 = .ok (.areturn, 1) := by decide +kernel
theorem dX5_readText_150 : decode cX5_readText 150 = .ok (.aload_n 0, 1) := by decide +kernel
theorem dX5_readText_151 : decode cX5_readText 151 = .ok (.iconst 0, 1) := by decide +kernel
theorem dX5_readText_152 : decode cX5_readText 152 = .ok (.bipush 65, 2) := by decide +kernel
theorem dX5_readText_154 : decode cX5_readText 154 = .ok (.invokevirtual 49, 3) := by decide +kernel
theorem dX5_readText_157 : decode cX5_readText 157 = .ok (.areturn, 1) := by decide +kernel
theorem dX5_readText_158 : decode cX5_readText 158 = .ok (.aload_n 0, 1) := by decide +kernel
theorem dX5_readText_159 : decode cX5_readText 159 = .ok (.iconst 5, 1) := by decide +kernel
theorem dX5_readText_160 : decode cX5_readText 160 = .ok (.bipush 97, 2) := by decide +kernel
theorem dX5_readText_162 : decode cX5_readText 162 = .ok (.invokevirtual 49, 3) := by decide +kernel
theorem dX5_readText_165 : decode cX5_readText 165 = .ok (.areturn, 1) := by decide +kernel
theorem dX5_readText_166 : decode cX5_readText 166 = .ok (.aload_n 0, 1) := by decide +kernel
theorem dX5_readText_167 : decode cX5_readText 167 = .ok (.iconst 5, 1) := by decide +kernel
theorem dX5_readText_168 : decode cX5_readText 168 = .ok (.bipush 65, 2) := by decide +kernel
theorem dX5_readText_170 : decode cX5_readText 170 = .ok (.invokevirtual 49, 3) := by decide +kernel
theorem dX5_readText_173 : decode cX5_readText 173 = .ok (.areturn, 1) := by decide +kernel
theorem dX5_readText_174 : decode cX5_readText 174 = .ok (.aload_n 0, 1) := by decide +kernel
theorem dX5_readText_175 : decode cX5_readText 175 = .ok (.iconst 4, 1) := by decide +kernel
theorem dX5_readText_176 : decode cX5_readText 176 = .ok (.bipush 116, 2) := by decide +kernel
theorem dX5_readText_178 : decode cX5_readText 178 = .ok (.invokevirtual 49, 3) := by decide +kernel
theorem dX5_readText_181 : decode cX5_readText 181 = .ok (.areturn, 1) := by decide +kernel
theorem dX5_readText_182 : decode cX5_readText 182 = .ok (.new 53, 3) := by decide +kernel
theorem dX5_readText_185 : decode cX5_readText 185 = .ok (.dup, 1) := by decide +kernel
theorem dX5_readText_186 : decode cX5_readText 186 = .ok (.invokespecial 55, 3) := by decide +kernel
theorem dX5_readText_189 : decode cX5_readText 189 = .ok (.areturn, 1) := by decide +kernel
theorem dX5_readText_190 : decode cX5_readText 190 = .ok (.new 56, 3) := by decide +kernel
theorem dX5_readText_193 : decode cX5_readText 193 = .ok (.dup, 1) := by decide +kernel
theorem dX5_readText_194 : decode cX5_readText 194 = .ok (.invokespecial 58, 3) := by decide +kernel
theorem dX5_readText_197 : decode cX5_readText 197 = .ok (.areturn, 1) := by decide +kernel
theorem dX5_readText_198 : decode cX5_readText 198 = .ok (.new 59, 3) := by decide +kernel
theorem dX5_readText_201 : decode cX5_readText 201 = .ok (.dup, 1) := by decide +kernel
theorem dX5_readText_202 : decode cX5_readText 202 = .ok (.invokespecial 61, 3) := by decide +kernel
theorem dX5_readText_205 : decode cX5_readText 205 = .ok (.areturn, 1) := by decide +kernel
theorem dX5_readText_206 : decode cX5_readText 206 = .ok (.aload_n 0, 1) := by decide +kernel
theorem dX5_readText_207 : decode cX5_readText 207 = .ok (.iload_n 1, 1) := by decide +kernel
theorem dX5_readText_208 : decode cX5_readText 208 = .ok (.putfield 23, 3) := by decide +kernel
theorem dX5_readText_211 : decode cX5_readText 211 = .ok (.aload_n 0, 1) := by decide +kernel
theorem dX5_readText_212 : decode cX5_readText 212 = .ok (.invokevirtual 62, 3) := by decide +kernel
theorem dX5_readText_215 : decode cX5_readText 215 = .ok (.areturn, 1) := by decide +kernel
abbrev cX5_next : ByteArray := prog_3_method_4_code
def yX5_next : MethodName := ⟨RX5, "next", "()I"⟩
theorem dX5_next_0 : decode cX5_next 0 = .ok (.aload_n 0, 1) := by decide +kernel
theorem dX5_next_1 : decode cX5_next 1 = .ok (.getfield 23, 3) := by decide +kernel
theorem dX5_next_4 : decode cX5_next 4 = .ok (.aload_n 0, 1) := by decide +kernel
theorem dX5_next_5 : decode cX5_next 5 = .ok (.getfield 33, 3) := by decide +kernel
theorem dX5_next_8 : decode cX5_next 8 = .ok (.if_icmp .ge 15, 3) := by decide +kernel
theorem dX5_next_11 : decode cX5_next 11 = .ok (.aload_n 0, 1) := by decide +kernel
theorem dX5_next_12 : decode cX5_next 12 = .ok (.getfield 15, 3) := by decide +kernel
theorem dX5_next_15 : decode cX5_next 15 = .ok (.aload_n 0, 1) := by decide +kernel
theorem dX5_next_16 : decode cX5_next 16 = .ok (.getfield 23, 3) := by decide +kernel
theorem dX5_next_19 : decode cX5_next 19 = .ok (.iaload, 1) := by decide +kernel
theorem dX5_next_20 : decode cX5_next 20 = .ok (.goto 4, 3) := by decide +kernel
theorem dX5_next_23 : decode cX5_next 23 = .ok (.iconst 0, 1) := by decide +kernel
theorem dX5_next_24 : decode cX5_next 24 = .ok (.istore_n 1, 1) := by decide +kernel
theorem dX5_next_25 : decode cX5_next 25 = .ok (.aload_n 0, 1) := by decide +kernel
theorem dX5_next_26 : decode cX5_next 26 = .ok (.dup, 1) := by decide +kernel
theorem dX5_next_27 : decode cX5_next 27 = .ok (.getfield 23, 3) := by decide +kernel
theorem dX5_next_30 : decode cX5_next 30 = .ok (.aload_n 0, 1) := by decide +kernel
theorem dX5_next_31 : decode cX5_next 31 = .ok (.getfield 23, 3) := by decide +kernel
theorem dX5_next_34 : decode cX5_next 34 = .ok (.aload_n 0, 1) := by decide +kernel
theorem dX5_next_35 : decode cX5_next 35 = .ok (.getfield 33, 3) := by decide +kernel
theorem dX5_next_38 : decode cX5_next 38 = .ok (.if_icmp .ge 7, 3) := by decide +kernel
theorem dX5_next_41 : decode cX5_next 41 = .ok (.iconst 1, 1) := by decide +kernel
theorem dX5_next_42 : decode cX5_next 42 = .ok (.goto 4, 3) := by decide +kernel
theorem dX5_next_45 : decode cX5_next 45 = .ok (.iconst 0, 1) := by decide +kernel
theorem dX5_next_46 : decode cX5_next 46 = .ok (.iadd, 1) := by decide +kernel
theorem dX5_next_47 : decode cX5_next 47 = .ok (.putfield 23, 3) := by decide +kernel
theorem dX5_next_50 : decode cX5_next 50 = .ok (.iload_n 1, 1) := by decide +kernel
theorem dX5_next_51 : decode cX5_next 51 = .ok (.ireturn, 1) := by decide +kernel
abbrev cX5_readTwo : ByteArray := prog_3_method_6_code
def yX5_readTwo : MethodName := ⟨RX5, "readTwo", "(Z)LPressedMen$Text;"⟩
theorem dX5_readTwo_0 : decode cX5_readTwo 0 = .ok (.aload_n 0, 1) := by decide +kernel
theorem dX5_readTwo_1 : decode cX5_readTwo 1 = .ok (.invokevirtual 29, 3) := by decide +kernel
theorem dX5_readTwo_4 : decode cX5_readTwo 4 = .ok (.astore_n 2, 1) := by decide +kernel
theorem dX5_readTwo_5 : decode cX5_readTwo 5 = .ok (.aload_n 2, 1) := by decide +kernel
theorem dX5_readTwo_6 : decode cX5_readTwo 6 = .ok (.ifnonnull 7, 3) := by decide +kernel
theorem dX5_readTwo_9 : decode cX5_readTwo 9 = .ok (.aconst_null, 1) := by decide +kernel
theorem dX5_readTwo_10 : decode cX5_readTwo 10 = .ok (.goto 7, 3) := by decide +kernel
theorem dX5_readTwo_13 : decode cX5_readTwo 13 = .ok (.aload_n 0, 1) := by decide +kernel
theorem dX5_readTwo_14 : decode cX5_readTwo 14 = .ok (.invokevirtual 29, 3) := by decide +kernel
theorem dX5_readTwo_17 : decode cX5_readTwo 17 = .ok (.astore_n 3, 1) := by decide +kernel
theorem dX5_readTwo_18 : decode cX5_readTwo 18 = .ok (.aload_n 3, 1) := by decide +kernel
theorem dX5_readTwo_19 : decode cX5_readTwo 19 = .ok (.ifnonnull 7, 3) := by decide +kernel
theorem dX5_readTwo_22 : decode cX5_readTwo 22 = .ok (.aconst_null, 1) := by decide +kernel
theorem dX5_readTwo_23 : decode cX5_readTwo 23 = .ok (.goto 28, 3) := by decide +kernel
theorem dX5_readTwo_26 : decode cX5_readTwo 26 = .ok (.iload_n 1, 1) := by decide +kernel
theorem dX5_readTwo_27 : decode cX5_readTwo 27 = .ok (.ifCond .eq 15, 3) := by decide +kernel
theorem dX5_readTwo_30 : decode cX5_readTwo 30 = .ok (.new 65, 3) := by decide +kernel
theorem dX5_readTwo_33 : decode cX5_readTwo 33 = .ok (.dup, 1) := by decide +kernel
theorem dX5_readTwo_34 : decode cX5_readTwo 34 = .ok (.aload_n 2, 1) := by decide +kernel
theorem dX5_readTwo_35 : decode cX5_readTwo 35 = .ok (.aload_n 3, 1) := by decide +kernel
theorem dX5_readTwo_36 : decode cX5_readTwo 36 = .ok (.invokespecial 67, 3) := by decide +kernel
theorem dX5_readTwo_39 : decode cX5_readTwo 39 = .ok (.goto 12, 3) := by decide +kernel
theorem dX5_readTwo_42 : decode cX5_readTwo 42 = .ok (.new 70, 3) := by decide +kernel
theorem dX5_readTwo_45 : decode cX5_readTwo 45 = .ok (.dup, 1) := by decide +kernel
theorem dX5_readTwo_46 : decode cX5_readTwo 46 = .ok (.aload_n 2, 1) := by decide +kernel
theorem dX5_readTwo_47 : decode cX5_readTwo 47 = .ok (.aload_n 3, 1) := by decide +kernel
theorem dX5_readTwo_48 : decode cX5_readTwo 48 = .ok (.invokespecial 72, 3) := by decide +kernel
theorem dX5_readTwo_51 : decode cX5_readTwo 51 = .ok (.areturn, 1) := by decide +kernel
abbrev cX5_readNumber : ByteArray := prog_3_method_8_code
def yX5_readNumber : MethodName := ⟨RX5, "readNumber", "(II)LPressedMen$Text;"⟩
theorem dX5_readNumber_0 : decode cX5_readNumber 0 = .ok (.aload_n 0, 1) := by decide +kernel
theorem dX5_readNumber_1 : decode cX5_readNumber 1 = .ok (.invokevirtual 77, 3) := by decide +kernel
theorem dX5_readNumber_4 : decode cX5_readNumber 4 = .ok (.istore_n 3, 1) := by decide +kernel
theorem dX5_readNumber_5 : decode cX5_readNumber 5 = .ok (.iload_n 3, 1) := by decide +kernel
theorem dX5_readNumber_6 : decode cX5_readNumber 6 = .ok (.ifCond .ge 7, 3) := by decide +kernel
theorem dX5_readNumber_9 : decode cX5_readNumber 9 = .ok (.iconst (-1), 1) := by decide +kernel
theorem dX5_readNumber_10 : decode cX5_readNumber 10 = .ok (.goto 7, 3) := by decide +kernel
theorem dX5_readNumber_13 : decode cX5_readNumber 13 = .ok (.aload_n 0, 1) := by decide +kernel
theorem dX5_readNumber_14 : decode cX5_readNumber 14 = .ok (.invokevirtual 77, 3) := by decide +kernel
theorem dX5_readNumber_17 : decode cX5_readNumber 17 = .ok (.istore 4, 2) := by decide +kernel
theorem dX5_readNumber_19 : decode cX5_readNumber 19 = .ok (.iload 4, 2) := by decide +kernel
theorem dX5_readNumber_21 : decode cX5_readNumber 21 = .ok (.ifCond .ge 8, 3) := by decide +kernel
theorem dX5_readNumber_24 : decode cX5_readNumber 24 = .ok (.aload_n 0, 1) := by decide +kernel
theorem dX5_readNumber_25 : decode cX5_readNumber 25 = .ok (.invokevirtual 62, 3) := by decide +kernel
theorem dX5_readNumber_28 : decode cX5_readNumber 28 = .ok (.areturn, 1) := by decide +kernel
theorem dX5_readNumber_29 : decode cX5_readNumber 29 = .ok (.bipush 10, 2) := by decide +kernel
theorem dX5_readNumber_31 : decode cX5_readNumber 31 = .ok (.iload_n 3, 1) := by decide +kernel
theorem dX5_readNumber_32 : decode cX5_readNumber 32 = .ok (.imul, 1) := by decide +kernel
theorem dX5_readNumber_33 : decode cX5_readNumber 33 = .ok (.iload 4, 2) := by decide +kernel
theorem dX5_readNumber_35 : decode cX5_readNumber 35 = .ok (.iadd, 1) := by decide +kernel
theorem dX5_readNumber_36 : decode cX5_readNumber 36 = .ok (.istore 5, 2) := by decide +kernel
theorem dX5_readNumber_38 : decode cX5_readNumber 38 = .ok (.iload_n 2, 1) := by decide +kernel
theorem dX5_readNumber_39 : decode cX5_readNumber 39 = .ok (.bipush 97, 2) := by decide +kernel
theorem dX5_readNumber_41 : decode cX5_readNumber 41 = .ok (.if_icmp .ne 16, 3) := by decide +kernel
theorem dX5_readNumber_44 : decode cX5_readNumber 44 = .ok (.new 80, 3) := by decide +kernel
theorem dX5_readNumber_47 : decode cX5_readNumber 47 = .ok (.dup, 1) := by decide +kernel
theorem dX5_readNumber_48 : decode cX5_readNumber 48 = .ok (.iload_n 1, 1) := by decide +kernel
theorem dX5_readNumber_49 : decode cX5_readNumber 49 = .ok (.iload 5, 2) := by decide +kernel
theorem dX5_readNumber_51 : decode cX5_readNumber 51 = .ok (.invokespecial 82, 3) := by decide +kernel
theorem dX5_readNumber_54 : decode cX5_readNumber 54 = .ok (.goto 32, 3) := by decide +kernel
theorem dX5_readNumber_57 : decode cX5_readNumber 57 = .ok (.iload_n 2, 1) := by decide +kernel
theorem dX5_readNumber_58 : decode cX5_readNumber 58 = .ok (.bipush 65, 2) := by decide +kernel
theorem dX5_readNumber_60 : decode cX5_readNumber 60 = .ok (.if_icmp .ne 16, 3) := by decide +kernel
theorem dX5_readNumber_63 : decode cX5_readNumber 63 = .ok (.new 85, 3) := by decide +kernel
theorem dX5_readNumber_66 : decode cX5_readNumber 66 = .ok (.dup, 1) := by decide +kernel
theorem dX5_readNumber_67 : decode cX5_readNumber 67 = .ok (.iload_n 1, 1) := by decide +kernel
theorem dX5_readNumber_68 : decode cX5_readNumber 68 = .ok (.iload 5, 2) := by decide +kernel
theorem dX5_readNumber_70 : decode cX5_readNumber 70 = .ok (.invokespecial 87, 3) := by decide +kernel
theorem dX5_readNumber_73 : decode cX5_readNumber 73 = .ok (.goto 13, 3) := by decide +kernel
theorem dX5_readNumber_76 : decode cX5_readNumber 76 = .ok (.new 88, 3) := by decide +kernel
theorem dX5_readNumber_79 : decode cX5_readNumber 79 = .ok (.dup, 1) := by decide +kernel
theorem dX5_readNumber_80 : decode cX5_readNumber 80 = .ok (.iload_n 1, 1) := by decide +kernel
theorem dX5_readNumber_81 : decode cX5_readNumber 81 = .ok (.iload 5, 2) := by decide +kernel
theorem dX5_readNumber_83 : decode cX5_readNumber 83 = .ok (.invokespecial 90, 3) := by decide +kernel
theorem dX5_readNumber_86 : decode cX5_readNumber 86 = .ok (.areturn, 1) := by decide +kernel
abbrev cX5_digit : ByteArray := prog_3_method_7_code
def yX5_digit : MethodName := ⟨RX5, "digit", "()I"⟩
theorem dX5_digit_0 : decode cX5_digit 0 = .ok (.aload_n 0, 1) := by decide +kernel
theorem dX5_digit_1 : decode cX5_digit 1 = .ok (.getfield 23, 3) := by decide +kernel
theorem dX5_digit_4 : decode cX5_digit 4 = .ok (.aload_n 0, 1) := by decide +kernel
theorem dX5_digit_5 : decode cX5_digit 5 = .ok (.getfield 33, 3) := by decide +kernel
theorem dX5_digit_8 : decode cX5_digit 8 = .ok (.if_icmp .eq 22, 3) := by decide +kernel
theorem dX5_digit_11 : decode cX5_digit 11 = .ok (.aload_n 0, 1) := by decide +kernel
theorem dX5_digit_12 : decode cX5_digit 12 = .ok (.getfield 15, 3) := by decide +kernel
theorem dX5_digit_15 : decode cX5_digit 15 = .ok (.aload_n 0, 1) := by decide +kernel
theorem dX5_digit_16 : decode cX5_digit 16 = .ok (.getfield 23, 3) := by decide +kernel
theorem dX5_digit_19 : decode cX5_digit 19 = .ok (.iaload, 1) := by decide +kernel
theorem dX5_digit_20 : decode cX5_digit 20 = .ok (.bipush 48, 2) := by decide +kernel
theorem dX5_digit_22 : decode cX5_digit 22 = .ok (.bipush 57, 2) := by decide +kernel
theorem dX5_digit_24 : decode cX5_digit 24 = .ok (.invokestatic 73, 3) := by decide +kernel
theorem dX5_digit_27 : decode cX5_digit 27 = .ok (.ifCond .ne 5, 3) := by decide +kernel
theorem dX5_digit_30 : decode cX5_digit 30 = .ok (.iconst (-1), 1) := by decide +kernel
theorem dX5_digit_31 : decode cX5_digit 31 = .ok (.ireturn, 1) := by decide +kernel
theorem dX5_digit_32 : decode cX5_digit 32 = .ok (.aload_n 0, 1) := by decide +kernel
theorem dX5_digit_33 : decode cX5_digit 33 = .ok (.dup, 1) := by decide +kernel
theorem dX5_digit_34 : decode cX5_digit 34 = .ok (.getfield 23, 3) := by decide +kernel
theorem dX5_digit_37 : decode cX5_digit 37 = .ok (.iconst 1, 1) := by decide +kernel
theorem dX5_digit_38 : decode cX5_digit 38 = .ok (.iadd, 1) := by decide +kernel
theorem dX5_digit_39 : decode cX5_digit 39 = .ok (.putfield 23, 3) := by decide +kernel
theorem dX5_digit_42 : decode cX5_digit 42 = .ok (.aload_n 0, 1) := by decide +kernel
theorem dX5_digit_43 : decode cX5_digit 43 = .ok (.getfield 15, 3) := by decide +kernel
theorem dX5_digit_46 : decode cX5_digit 46 = .ok (.aload_n 0, 1) := by decide +kernel
theorem dX5_digit_47 : decode cX5_digit 47 = .ok (.getfield 23, 3) := by decide +kernel
theorem dX5_digit_50 : decode cX5_digit 50 = .ok (.iconst 1, 1) := by decide +kernel
theorem dX5_digit_51 : decode cX5_digit 51 = .ok (.isub, 1) := by decide +kernel
theorem dX5_digit_52 : decode cX5_digit 52 = .ok (.iaload, 1) := by decide +kernel
theorem dX5_digit_53 : decode cX5_digit 53 = .ok (.bipush 48, 2) := by decide +kernel
theorem dX5_digit_55 : decode cX5_digit 55 = .ok (.isub, 1) := by decide +kernel
theorem dX5_digit_56 : decode cX5_digit 56 = .ok (.ireturn, 1) := by decide +kernel
abbrev cX5_fail : ByteArray := prog_3_method_3_code
def yX5_fail : MethodName := ⟨RX5, "fail", "()LPressedMen$Text;"⟩
theorem dX5_fail_0 : decode cX5_fail 0 = .ok (.aload_n 0, 1) := by decide +kernel
theorem dX5_fail_1 : decode cX5_fail 1 = .ok (.aload_n 0, 1) := by decide +kernel
theorem dX5_fail_2 : decode cX5_fail 2 = .ok (.getfield 26, 3) := by decide +kernel
theorem dX5_fail_5 : decode cX5_fail 5 = .ok (.bipush (-9), 2) := by decide +kernel
theorem dX5_fail_7 : decode cX5_fail 7 = .ok (.if_icmp .ne 10, 3) := by decide +kernel
theorem dX5_fail_10 : decode cX5_fail 10 = .ok (.aload_n 0, 1) := by decide +kernel
theorem dX5_fail_11 : decode cX5_fail 11 = .ok (.getfield 23, 3) := by decide +kernel
theorem dX5_fail_14 : decode cX5_fail 14 = .ok (.goto 7, 3) := by decide +kernel
theorem dX5_fail_17 : decode cX5_fail 17 = .ok (.aload_n 0, 1) := by decide +kernel
theorem dX5_fail_18 : decode cX5_fail 18 = .ok (.getfield 26, 3) := by decide +kernel
theorem dX5_fail_21 : decode cX5_fail 21 = .ok (.putfield 26, 3) := by decide +kernel
theorem dX5_fail_24 : decode cX5_fail 24 = .ok (.aconst_null, 1) := by decide +kernel
theorem dX5_fail_25 : decode cX5_fail 25 = .ok (.areturn, 1) := by decide +kernel
theorem q70 : (Jvm.Cond.initialized "PressedMen$Act") ∈ lw_all := lw_g (lw_at lw_m1 7 rfl) rfl
theorem q403 : (Jvm.Cond.instantiable "PressedMen$Act" (6 : Nat)) ∈ lw_all := lw_g (lw_at lw_m2 100 rfl) rfl
theorem q405 : (Jvm.Cond.instanceMethod ({ cls := "PressedMen$Act", name := "<init>", desc := "(LPressedMen;I)V" } : Jvm.MethodName)) ∈ lw_all := lw_g (lw_at lw_m2 102 rfl) rfl
theorem q406 : (Jvm.Cond.code ({ cls := "PressedMen$Act", name := "<init>", desc := "(LPressedMen;I)V" } : Jvm.MethodName) prog_3_method_1_code (3 : Nat) (Option.none : Option Jvm.ClassFile.FieldType)) ∈ lw_all := lw_g (lw_at lw_m2 103 rfl) rfl
theorem q407 : (Jvm.Cond.methodLink "PressedMen$Act" (9 : Nat) ({ cls := "java/lang/Object", name := "<init>", desc := "()V" } : Jvm.MethodName)) ∈ lw_all := lw_g (lw_at lw_m2 104 rfl) rfl
theorem q408 : (Jvm.Cond.fieldLink "PressedMen$Act" (19 : Nat) "PressedMen$Act" "from" "I") ∈ lw_all := lw_g (lw_at lw_m2 105 rfl) rfl
theorem q410 : (Jvm.Cond.fieldLink "PressedMen$Act" (15 : Nat) "PressedMen$Act" "signs" "[I") ∈ lw_all := lw_g (lw_at lw_m2 107 rfl) rfl
theorem q412 : (Jvm.Cond.fieldLink "PressedMen$Act" (33 : Nat) "PressedMen$Act" "count" "I") ∈ lw_all := lw_g (lw_at lw_m2 109 rfl) rfl
theorem q414 : (Jvm.Cond.fieldLink "PressedMen$Act" (23 : Nat) "PressedMen$Act" "at" "I") ∈ lw_all := lw_g (lw_at lw_m2 111 rfl) rfl
theorem q415 : (Jvm.Cond.fieldLink "PressedMen$Act" (26 : Nat) "PressedMen$Act" "fault" "I") ∈ lw_all := lw_g (lw_at lw_m2 112 rfl) rfl
theorem q417 : (Jvm.Cond.fieldLink "PressedMen$Act" (3 : Nat) "PressedMen$Act" "this$0" "LPressedMen;") ∈ lw_all := lw_g (lw_at lw_m2 114 rfl) rfl
theorem q418 : (Jvm.Cond.laysFinal "PressedMen$Act" "PressedMen$Act" "from" "I") ∈ lw_all := lw_g (lw_at lw_m2 115 rfl) rfl
theorem q419 : (Jvm.Cond.soleField "PressedMen$Act" "from") ∈ lw_all := lw_g (lw_at lw_m2 116 rfl) rfl
theorem q420 : (Jvm.Cond.laysFinal "PressedMen$Act" "PressedMen$Act" "signs" "[I") ∈ lw_all := lw_g (lw_at lw_m2 117 rfl) rfl
theorem q421 : (Jvm.Cond.soleField "PressedMen$Act" "signs") ∈ lw_all := lw_g (lw_at lw_m2 118 rfl) rfl
theorem q422 : (Jvm.Cond.lays "PressedMen$Act" "PressedMen$Act" "count" "I") ∈ lw_all := lw_g (lw_at lw_m2 119 rfl) rfl
theorem q423 : (Jvm.Cond.soleField "PressedMen$Act" "count") ∈ lw_all := lw_g (lw_at lw_m2 120 rfl) rfl
theorem q424 : (Jvm.Cond.lays "PressedMen$Act" "PressedMen$Act" "at" "I") ∈ lw_all := lw_g (lw_at lw_m2 121 rfl) rfl
theorem q425 : (Jvm.Cond.soleField "PressedMen$Act" "at") ∈ lw_all := lw_g (lw_at lw_m2 122 rfl) rfl
theorem q426 : (Jvm.Cond.lays "PressedMen$Act" "PressedMen$Act" "fault" "I") ∈ lw_all := lw_g (lw_at lw_m2 123 rfl) rfl
theorem q427 : (Jvm.Cond.soleField "PressedMen$Act" "fault") ∈ lw_all := lw_g (lw_at lw_m2 124 rfl) rfl
theorem q428 : (Jvm.Cond.laysFinal "PressedMen$Act" "PressedMen$Act" "this$0" "LPressedMen;") ∈ lw_all := lw_g (lw_at lw_m2 125 rfl) rfl
theorem q429 : (Jvm.Cond.soleField "PressedMen$Act" "this$0") ∈ lw_all := lw_g (lw_at lw_m2 126 rfl) rfl
theorem q430 : (Jvm.Cond.superclass "PressedMen$Act" "java/lang/Object") ∈ lw_all := lw_g (lw_at lw_m2 127 rfl) rfl
theorem q444 : (Jvm.Cond.instanceMethod ({ cls := "PressedMen$Act", name := "read", desc := "()LPressedMen$Text;" } : Jvm.MethodName)) ∈ lw_all := lw_g (lw_at lw_m2 141 rfl) rfl
theorem q445 : (Jvm.Cond.selects "PressedMen$Act" ({ cls := "PressedMen$Act", name := "read", desc := "()LPressedMen$Text;" } : Jvm.MethodName) ({ cls := "PressedMen$Act", name := "read", desc := "()LPressedMen$Text;" } : Jvm.MethodName)) ∈ lw_all := lw_g (lw_at lw_m2 142 rfl) rfl
theorem q446 : (Jvm.Cond.code ({ cls := "PressedMen$Act", name := "read", desc := "()LPressedMen$Text;" } : Jvm.MethodName) prog_3_method_2_code (2 : Nat) (Option.some (Jvm.ClassFile.FieldType.object "PressedMen$Text"))) ∈ lw_all := lw_g (lw_at lw_m2 143 rfl) rfl
theorem q447 : (Jvm.Cond.methodLink "PressedMen$Act" (29 : Nat) ({ cls := "PressedMen$Act", name := "readText", desc := "()LPressedMen$Text;" } : Jvm.MethodName)) ∈ lw_all := lw_g (lw_at lw_m2 144 rfl) rfl
theorem q448 : (Jvm.Cond.privateMethod ({ cls := "PressedMen$Act", name := "readText", desc := "()LPressedMen$Text;" } : Jvm.MethodName)) ∈ lw_tbl := lw_at lw_m2 145 rfl
theorem q449 : (Jvm.Cond.instanceMethod ({ cls := "PressedMen$Act", name := "readText", desc := "()LPressedMen$Text;" } : Jvm.MethodName)) ∈ lw_all := lw_g (lw_at lw_m2 146 rfl) rfl
theorem q450 : (Jvm.Cond.code ({ cls := "PressedMen$Act", name := "readText", desc := "()LPressedMen$Text;" } : Jvm.MethodName) prog_3_method_5_code (3 : Nat) (Option.some (Jvm.ClassFile.FieldType.object "PressedMen$Text"))) ∈ lw_all := lw_g (lw_at lw_m2 147 rfl) rfl
theorem q451 : (Jvm.Cond.methodLink "PressedMen$Act" (36 : Nat) ({ cls := "PressedMen$Act", name := "next", desc := "()I" } : Jvm.MethodName)) ∈ lw_all := lw_g (lw_at lw_m2 148 rfl) rfl
theorem q452 : (Jvm.Cond.privateMethod ({ cls := "PressedMen$Act", name := "next", desc := "()I" } : Jvm.MethodName)) ∈ lw_tbl := lw_at lw_m2 149 rfl
theorem q453 : (Jvm.Cond.instanceMethod ({ cls := "PressedMen$Act", name := "next", desc := "()I" } : Jvm.MethodName)) ∈ lw_all := lw_g (lw_at lw_m2 150 rfl) rfl
theorem q454 : (Jvm.Cond.code ({ cls := "PressedMen$Act", name := "next", desc := "()I" } : Jvm.MethodName) prog_3_method_4_code (2 : Nat) (Option.some Jvm.ClassFile.FieldType.int)) ∈ lw_all := lw_g (lw_at lw_m2 151 rfl) rfl
theorem q455 : (Jvm.Cond.methodLink "PressedMen$Act" (40 : Nat) ({ cls := "PressedMen$Act", name := "readTwo", desc := "(Z)LPressedMen$Text;" } : Jvm.MethodName)) ∈ lw_all := lw_g (lw_at lw_m2 152 rfl) rfl
theorem q456 : (Jvm.Cond.privateMethod ({ cls := "PressedMen$Act", name := "readTwo", desc := "(Z)LPressedMen$Text;" } : Jvm.MethodName)) ∈ lw_tbl := lw_at lw_m2 153 rfl
theorem q457 : (Jvm.Cond.instanceMethod ({ cls := "PressedMen$Act", name := "readTwo", desc := "(Z)LPressedMen$Text;" } : Jvm.MethodName)) ∈ lw_all := lw_g (lw_at lw_m2 154 rfl) rfl
theorem q458 : (Jvm.Cond.code ({ cls := "PressedMen$Act", name := "readTwo", desc := "(Z)LPressedMen$Text;" } : Jvm.MethodName) prog_3_method_6_code (4 : Nat) (Option.some (Jvm.ClassFile.FieldType.object "PressedMen$Text"))) ∈ lw_all := lw_g (lw_at lw_m2 155 rfl) rfl
theorem q459 : (Jvm.Cond.classLink "PressedMen$Act" (65 : Nat) "PressedMen$Both") ∈ lw_all := lw_g (lw_at lw_m2 156 rfl) rfl
theorem q461 : (Jvm.Cond.methodLink "PressedMen$Act" (67 : Nat) ({ cls := "PressedMen$Both", name := "<init>", desc := "(LPressedMen$Text;LPressedMen$Text;)V" } : Jvm.MethodName)) ∈ lw_all := lw_g (lw_at lw_m2 158 rfl) rfl
theorem q475 : (Jvm.Cond.classLink "PressedMen$Act" (70 : Nat) "PressedMen$Either") ∈ lw_all := lw_g (lw_at lw_m2 172 rfl) rfl
theorem q477 : (Jvm.Cond.methodLink "PressedMen$Act" (72 : Nat) ({ cls := "PressedMen$Either", name := "<init>", desc := "(LPressedMen$Text;LPressedMen$Text;)V" } : Jvm.MethodName)) ∈ lw_all := lw_g (lw_at lw_m2 174 rfl) rfl
theorem q484 : (Jvm.Cond.classLink "PressedMen$Act" (44 : Nat) "PressedMen$Not") ∈ lw_all := lw_g (lw_at lw_m2 181 rfl) rfl
theorem q486 : (Jvm.Cond.methodLink "PressedMen$Act" (46 : Nat) ({ cls := "PressedMen$Not", name := "<init>", desc := "(LPressedMen$Text;)V" } : Jvm.MethodName)) ∈ lw_all := lw_g (lw_at lw_m2 183 rfl) rfl
theorem q494 : (Jvm.Cond.methodLink "PressedMen$Act" (49 : Nat) ({ cls := "PressedMen$Act", name := "readNumber", desc := "(II)LPressedMen$Text;" } : Jvm.MethodName)) ∈ lw_all := lw_g (lw_at lw_m2 191 rfl) rfl
theorem q495 : (Jvm.Cond.privateMethod ({ cls := "PressedMen$Act", name := "readNumber", desc := "(II)LPressedMen$Text;" } : Jvm.MethodName)) ∈ lw_tbl := lw_at lw_m2 192 rfl
theorem q496 : (Jvm.Cond.instanceMethod ({ cls := "PressedMen$Act", name := "readNumber", desc := "(II)LPressedMen$Text;" } : Jvm.MethodName)) ∈ lw_all := lw_g (lw_at lw_m2 193 rfl) rfl
theorem q497 : (Jvm.Cond.code ({ cls := "PressedMen$Act", name := "readNumber", desc := "(II)LPressedMen$Text;" } : Jvm.MethodName) prog_3_method_8_code (6 : Nat) (Option.some (Jvm.ClassFile.FieldType.object "PressedMen$Text"))) ∈ lw_all := lw_g (lw_at lw_m2 194 rfl) rfl
theorem q498 : (Jvm.Cond.methodLink "PressedMen$Act" (77 : Nat) ({ cls := "PressedMen$Act", name := "digit", desc := "()I" } : Jvm.MethodName)) ∈ lw_all := lw_g (lw_at lw_m2 195 rfl) rfl
theorem q499 : (Jvm.Cond.privateMethod ({ cls := "PressedMen$Act", name := "digit", desc := "()I" } : Jvm.MethodName)) ∈ lw_tbl := lw_at lw_m2 196 rfl
theorem q500 : (Jvm.Cond.instanceMethod ({ cls := "PressedMen$Act", name := "digit", desc := "()I" } : Jvm.MethodName)) ∈ lw_all := lw_g (lw_at lw_m2 197 rfl) rfl
theorem q501 : (Jvm.Cond.code ({ cls := "PressedMen$Act", name := "digit", desc := "()I" } : Jvm.MethodName) prog_3_method_7_code (1 : Nat) (Option.some Jvm.ClassFile.FieldType.int)) ∈ lw_all := lw_g (lw_at lw_m2 198 rfl) rfl
theorem q502 : (Jvm.Cond.methodLinkNest "PressedMen$Act" (73 : Nat) ({ cls := "PressedMen", name := "isIn", desc := "(III)Z" } : Jvm.MethodName) "PressedMen") ∈ lw_tbl := lw_at lw_m2 199 rfl
theorem q503 : (Jvm.Cond.methodLink "PressedMen$Act" (62 : Nat) ({ cls := "PressedMen$Act", name := "fail", desc := "()LPressedMen$Text;" } : Jvm.MethodName)) ∈ lw_all := lw_g (lw_at lw_m2 200 rfl) rfl
theorem q504 : (Jvm.Cond.privateMethod ({ cls := "PressedMen$Act", name := "fail", desc := "()LPressedMen$Text;" } : Jvm.MethodName)) ∈ lw_tbl := lw_at lw_m2 201 rfl
theorem q505 : (Jvm.Cond.instanceMethod ({ cls := "PressedMen$Act", name := "fail", desc := "()LPressedMen$Text;" } : Jvm.MethodName)) ∈ lw_all := lw_g (lw_at lw_m2 202 rfl) rfl
theorem q506 : (Jvm.Cond.code ({ cls := "PressedMen$Act", name := "fail", desc := "()LPressedMen$Text;" } : Jvm.MethodName) prog_3_method_3_code (1 : Nat) (Option.some (Jvm.ClassFile.FieldType.object "PressedMen$Text"))) ∈ lw_all := lw_g (lw_at lw_m2 203 rfl) rfl
theorem q507 : (Jvm.Cond.classLink "PressedMen$Act" (80 : Nat) "PressedMen$AtLeast") ∈ lw_all := lw_g (lw_at lw_m2 204 rfl) rfl
theorem q509 : (Jvm.Cond.methodLink "PressedMen$Act" (82 : Nat) ({ cls := "PressedMen$AtLeast", name := "<init>", desc := "(II)V" } : Jvm.MethodName)) ∈ lw_all := lw_g (lw_at lw_m2 206 rfl) rfl
theorem q520 : (Jvm.Cond.classLink "PressedMen$Act" (85 : Nat) "PressedMen$Below") ∈ lw_all := lw_g (lw_at lw_m2 217 rfl) rfl
theorem q522 : (Jvm.Cond.methodLink "PressedMen$Act" (87 : Nat) ({ cls := "PressedMen$Below", name := "<init>", desc := "(II)V" } : Jvm.MethodName)) ∈ lw_all := lw_g (lw_at lw_m2 219 rfl) rfl
theorem q529 : (Jvm.Cond.classLink "PressedMen$Act" (88 : Nat) "PressedMen$Equal") ∈ lw_all := lw_g (lw_at lw_m2 226 rfl) rfl
theorem q531 : (Jvm.Cond.methodLink "PressedMen$Act" (90 : Nat) ({ cls := "PressedMen$Equal", name := "<init>", desc := "(II)V" } : Jvm.MethodName)) ∈ lw_all := lw_g (lw_at lw_m2 228 rfl) rfl
theorem q538 : (Jvm.Cond.classLink "PressedMen$Act" (53 : Nat) "PressedMen$Covered") ∈ lw_all := lw_g (lw_at lw_m2 235 rfl) rfl
theorem q540 : (Jvm.Cond.methodLinkNest "PressedMen$Act" (55 : Nat) ({ cls := "PressedMen$Covered", name := "<init>", desc := "()V" } : Jvm.MethodName) "PressedMen") ∈ lw_tbl := lw_at lw_m2 237 rfl
theorem q545 : (Jvm.Cond.classLink "PressedMen$Act" (56 : Nat) "PressedMen$Aboard") ∈ lw_all := lw_g (lw_at lw_m3 2 rfl) rfl
theorem q547 : (Jvm.Cond.methodLinkNest "PressedMen$Act" (58 : Nat) ({ cls := "PressedMen$Aboard", name := "<init>", desc := "()V" } : Jvm.MethodName) "PressedMen") ∈ lw_tbl := lw_at lw_m3 4 rfl
theorem q552 : (Jvm.Cond.classLink "PressedMen$Act" (59 : Nat) "PressedMen$AtHome") ∈ lw_all := lw_g (lw_at lw_m3 9 rfl) rfl
theorem q554 : (Jvm.Cond.methodLinkNest "PressedMen$Act" (61 : Nat) ({ cls := "PressedMen$AtHome", name := "<init>", desc := "()V" } : Jvm.MethodName) "PressedMen") ∈ lw_tbl := lw_at lw_m3 11 rfl
theorem in_X5 : ∀ w ∈ wsX50, w ∈ lw_all := lw_in wsX50 [418, 420, 422, 424, 426, 428] (by decide +kernel) (by decide +kernel)
/-! PressedMen$Text -/
def RX6 : String := "PressedMen$Text"
abbrev cX6_init : ByteArray := prog_18_method_1_code
def yX6_init : MethodName := ⟨RX6, "<init>", "()V"⟩
theorem dX6_init_0 : decode cX6_init 0 = .ok (.aload_n 0, 1) := by decide +kernel
theorem dX6_init_1 : decode cX6_init 1 = .ok (.invokespecial 1, 3) := by decide +kernel
theorem dX6_init_4 : decode cX6_init 4 = .ok (.return_, 1) := by decide +kernel
theorem q71 : (Jvm.Cond.initialized "PressedMen$Text") ∈ lw_all := lw_g (lw_at lw_m1 8 rfl) rfl
theorem q465 : (Jvm.Cond.instanceMethod ({ cls := "PressedMen$Text", name := "<init>", desc := "()V" } : Jvm.MethodName)) ∈ lw_all := lw_g (lw_at lw_m2 162 rfl) rfl
theorem q466 : (Jvm.Cond.code ({ cls := "PressedMen$Text", name := "<init>", desc := "()V" } : Jvm.MethodName) prog_18_method_1_code (1 : Nat) (Option.none : Option Jvm.ClassFile.FieldType)) ∈ lw_all := lw_g (lw_at lw_m2 163 rfl) rfl
theorem q467 : (Jvm.Cond.methodLink "PressedMen$Text" (1 : Nat) ({ cls := "java/lang/Object", name := "<init>", desc := "()V" } : Jvm.MethodName)) ∈ lw_all := lw_g (lw_at lw_m2 164 rfl) rfl
theorem q583 : (Jvm.Cond.declares ({ cls := "PressedMen$Text", name := "holds", desc := "(LPressedMen$Man;Z)Z" } : Jvm.MethodName)) ∈ lw_tbl := lw_at lw_m3 40 rfl
theorem q584 : (Jvm.Cond.sameMethod "PressedMen$Text" "PressedMen$Text" "holds" "(LPressedMen$Man;Z)Z") ∈ lw_all := lw_g (lw_at lw_m3 41 rfl) rfl
/-! PressedMen$Both -/
def RX7 : String := "PressedMen$Both"
def TX7 : u_T := fun k => match k with
  | 0 => ("PressedMen$Both", "one", "LPressedMen$Text;", true)
  | _ => ("PressedMen$Both", "two", "LPressedMen$Text;", true)
def tyX7 : Nat → FieldType := fun k => match k with
  | 0 => .object "PressedMen$Text"
  | _ => .object "PressedMen$Text"
abbrev wsX70 : List Cond := u_ws RX7 TX7 2
theorem nmX7 : ∀ a, a < 2 → ∀ b, b < 2 → a ≠ b → (TX7 a).2.1 ≠ (TX7 b).2.1 := by decide +kernel
theorem tyX7_ok : ∀ k, k < 2 → parseFieldDescriptor (TX7 k).2.2.1 = some (tyX7 k) := by decide +kernel
abbrev cX7_init : ByteArray := prog_7_method_1_code
def yX7_init : MethodName := ⟨RX7, "<init>", "(LPressedMen$Text;LPressedMen$Text;)V"⟩
theorem dX7_init_0 : decode cX7_init 0 = .ok (.aload_n 0, 1) := by decide +kernel
theorem dX7_init_1 : decode cX7_init 1 = .ok (.invokespecial 1, 3) := by decide +kernel
theorem dX7_init_4 : decode cX7_init 4 = .ok (.aload_n 0, 1) := by decide +kernel
theorem dX7_init_5 : decode cX7_init 5 = .ok (.aload_n 1, 1) := by decide +kernel
theorem dX7_init_6 : decode cX7_init 6 = .ok (.putfield 7, 3) := by decide +kernel
theorem dX7_init_9 : decode cX7_init 9 = .ok (.aload_n 0, 1) := by decide +kernel
theorem dX7_init_10 : decode cX7_init 10 = .ok (.aload_n 2, 1) := by decide +kernel
theorem dX7_init_11 : decode cX7_init 11 = .ok (.putfield 13, 3) := by decide +kernel
theorem dX7_init_14 : decode cX7_init 14 = .ok (.return_, 1) := by decide +kernel
abbrev cX7_holds : ByteArray := prog_7_method_2_code
def yX7_holds : MethodName := ⟨RX7, "holds", "(LPressedMen$Man;Z)Z"⟩
theorem dX7_holds_0 : decode cX7_holds 0 = .ok (.aload_n 0, 1) := by decide +kernel
theorem dX7_holds_1 : decode cX7_holds 1 = .ok (.getfield 7, 3) := by decide +kernel
theorem dX7_holds_4 : decode cX7_holds 4 = .ok (.aload_n 1, 1) := by decide +kernel
theorem dX7_holds_5 : decode cX7_holds 5 = .ok (.iload_n 2, 1) := by decide +kernel
theorem dX7_holds_6 : decode cX7_holds 6 = .ok (.invokevirtual 16, 3) := by decide +kernel
theorem dX7_holds_9 : decode cX7_holds 9 = .ok (.ifCond .eq 19, 3) := by decide +kernel
theorem dX7_holds_12 : decode cX7_holds 12 = .ok (.aload_n 0, 1) := by decide +kernel
theorem dX7_holds_13 : decode cX7_holds 13 = .ok (.getfield 13, 3) := by decide +kernel
theorem dX7_holds_16 : decode cX7_holds 16 = .ok (.aload_n 1, 1) := by decide +kernel
theorem dX7_holds_17 : decode cX7_holds 17 = .ok (.iload_n 2, 1) := by decide +kernel
theorem dX7_holds_18 : decode cX7_holds 18 = .ok (.invokevirtual 16, 3) := by decide +kernel
theorem dX7_holds_21 : decode cX7_holds 21 = .ok (.ifCond .eq 7, 3) := by decide +kernel
theorem dX7_holds_24 : decode cX7_holds 24 = .ok (.iconst 1, 1) := by decide +kernel
theorem dX7_holds_25 : decode cX7_holds 25 = .ok (.goto 4, 3) := by decide +kernel
theorem dX7_holds_28 : decode cX7_holds 28 = .ok (.iconst 0, 1) := by decide +kernel
theorem dX7_holds_29 : decode cX7_holds 29 = .ok (.ireturn, 1) := by decide +kernel
abbrev cX7_holdsOne : ByteArray := prog_7_method_3_code
def yX7_holdsOne : MethodName := ⟨RX7, "holdsOne", "(LPressedMen$Man;Z)Z"⟩
theorem dX7_holdsOne_0 : decode cX7_holdsOne 0 = .ok (.aload_n 0, 1) := by decide +kernel
theorem dX7_holdsOne_1 : decode cX7_holdsOne 1 = .ok (.getfield 7, 3) := by decide +kernel
theorem dX7_holdsOne_4 : decode cX7_holdsOne 4 = .ok (.aload_n 1, 1) := by decide +kernel
theorem dX7_holdsOne_5 : decode cX7_holdsOne 5 = .ok (.iload_n 2, 1) := by decide +kernel
theorem dX7_holdsOne_6 : decode cX7_holdsOne 6 = .ok (.invokevirtual 16, 3) := by decide +kernel
theorem dX7_holdsOne_9 : decode cX7_holdsOne 9 = .ok (.ifCond .ne 15, 3) := by decide +kernel
theorem dX7_holdsOne_12 : decode cX7_holdsOne 12 = .ok (.aload_n 0, 1) := by decide +kernel
theorem dX7_holdsOne_13 : decode cX7_holdsOne 13 = .ok (.getfield 13, 3) := by decide +kernel
theorem dX7_holdsOne_16 : decode cX7_holdsOne 16 = .ok (.aload_n 1, 1) := by decide +kernel
theorem dX7_holdsOne_17 : decode cX7_holdsOne 17 = .ok (.iload_n 2, 1) := by decide +kernel
theorem dX7_holdsOne_18 : decode cX7_holdsOne 18 = .ok (.invokevirtual 16, 3) := by decide +kernel
theorem dX7_holdsOne_21 : decode cX7_holdsOne 21 = .ok (.ifCond .eq 7, 3) := by decide +kernel
theorem dX7_holdsOne_24 : decode cX7_holdsOne 24 = .ok (.iconst 1, 1) := by decide +kernel
theorem dX7_holdsOne_25 : decode cX7_holdsOne 25 = .ok (.goto 4, 3) := by decide +kernel
theorem dX7_holdsOne_28 : decode cX7_holdsOne 28 = .ok (.iconst 0, 1) := by decide +kernel
theorem dX7_holdsOne_29 : decode cX7_holdsOne 29 = .ok (.ireturn, 1) := by decide +kernel
theorem q72 : (Jvm.Cond.initialized "PressedMen$Both") ∈ lw_all := lw_g (lw_at lw_m1 9 rfl) rfl
theorem q460 : (Jvm.Cond.instantiable "PressedMen$Both" (2 : Nat)) ∈ lw_all := lw_g (lw_at lw_m2 157 rfl) rfl
theorem q462 : (Jvm.Cond.instanceMethod ({ cls := "PressedMen$Both", name := "<init>", desc := "(LPressedMen$Text;LPressedMen$Text;)V" } : Jvm.MethodName)) ∈ lw_all := lw_g (lw_at lw_m2 159 rfl) rfl
theorem q463 : (Jvm.Cond.code ({ cls := "PressedMen$Both", name := "<init>", desc := "(LPressedMen$Text;LPressedMen$Text;)V" } : Jvm.MethodName) prog_7_method_1_code (3 : Nat) (Option.none : Option Jvm.ClassFile.FieldType)) ∈ lw_all := lw_g (lw_at lw_m2 160 rfl) rfl
theorem q464 : (Jvm.Cond.methodLinkNest "PressedMen$Both" (1 : Nat) ({ cls := "PressedMen$Text", name := "<init>", desc := "()V" } : Jvm.MethodName) "PressedMen") ∈ lw_tbl := lw_at lw_m2 161 rfl
theorem q468 : (Jvm.Cond.fieldLink "PressedMen$Both" (7 : Nat) "PressedMen$Both" "one" "LPressedMen$Text;") ∈ lw_all := lw_g (lw_at lw_m2 165 rfl) rfl
theorem q469 : (Jvm.Cond.fieldLink "PressedMen$Both" (13 : Nat) "PressedMen$Both" "two" "LPressedMen$Text;") ∈ lw_all := lw_g (lw_at lw_m2 166 rfl) rfl
theorem q470 : (Jvm.Cond.laysFinal "PressedMen$Both" "PressedMen$Both" "one" "LPressedMen$Text;") ∈ lw_all := lw_g (lw_at lw_m2 167 rfl) rfl
theorem q471 : (Jvm.Cond.soleField "PressedMen$Both" "one") ∈ lw_all := lw_g (lw_at lw_m2 168 rfl) rfl
theorem q472 : (Jvm.Cond.laysFinal "PressedMen$Both" "PressedMen$Both" "two" "LPressedMen$Text;") ∈ lw_all := lw_g (lw_at lw_m2 169 rfl) rfl
theorem q473 : (Jvm.Cond.soleField "PressedMen$Both" "two") ∈ lw_all := lw_g (lw_at lw_m2 170 rfl) rfl
theorem q474 : (Jvm.Cond.superclass "PressedMen$Both" "PressedMen$Text") ∈ lw_all := lw_g (lw_at lw_m2 171 rfl) rfl
theorem q609 : (Jvm.Cond.selects "PressedMen$Both" ({ cls := "PressedMen$Text", name := "holds", desc := "(LPressedMen$Man;Z)Z" } : Jvm.MethodName) ({ cls := "PressedMen$Both", name := "holds", desc := "(LPressedMen$Man;Z)Z" } : Jvm.MethodName)) ∈ lw_all := lw_g (lw_at lw_m3 66 rfl) rfl
theorem q610 : (Jvm.Cond.instanceMethod ({ cls := "PressedMen$Both", name := "holds", desc := "(LPressedMen$Man;Z)Z" } : Jvm.MethodName)) ∈ lw_all := lw_g (lw_at lw_m3 67 rfl) rfl
theorem q611 : (Jvm.Cond.code ({ cls := "PressedMen$Both", name := "holds", desc := "(LPressedMen$Man;Z)Z" } : Jvm.MethodName) prog_7_method_2_code (3 : Nat) (Option.some Jvm.ClassFile.FieldType.boolean)) ∈ lw_all := lw_g (lw_at lw_m3 68 rfl) rfl
theorem q612 : (Jvm.Cond.methodLink "PressedMen$Both" (16 : Nat) ({ cls := "PressedMen$Text", name := "holds", desc := "(LPressedMen$Man;Z)Z" } : Jvm.MethodName)) ∈ lw_all := lw_g (lw_at lw_m3 69 rfl) rfl
theorem q620 : (Jvm.Cond.declares ({ cls := "PressedMen$Both", name := "holdsOne", desc := "(LPressedMen$Man;Z)Z" } : Jvm.MethodName)) ∈ lw_tbl := lw_at lw_m3 77 rfl
theorem q622 : (Jvm.Cond.instanceMethod ({ cls := "PressedMen$Both", name := "holdsOne", desc := "(LPressedMen$Man;Z)Z" } : Jvm.MethodName)) ∈ lw_all := lw_g (lw_at lw_m3 79 rfl) rfl
theorem q623 : (Jvm.Cond.code ({ cls := "PressedMen$Both", name := "holdsOne", desc := "(LPressedMen$Man;Z)Z" } : Jvm.MethodName) prog_7_method_3_code (3 : Nat) (Option.some Jvm.ClassFile.FieldType.boolean)) ∈ lw_all := lw_g (lw_at lw_m3 80 rfl) rfl
theorem q1441 : (Jvm.Cond.sameMethod "PressedMen$Both" "PressedMen$Both" "holds" "(LPressedMen$Man;Z)Z") ∈ lw_all := lw_g (lw_at lw_m6 178 rfl) rfl
theorem in_X7 : ∀ w ∈ wsX70, w ∈ lw_all := lw_in wsX70 [470, 472] (by decide +kernel) (by decide +kernel)
/-! PressedMen$Either -/
def RX8 : String := "PressedMen$Either"
def TX8 : u_T := fun k => match k with
  | 0 => ("PressedMen$Both", "one", "LPressedMen$Text;", true)
  | _ => ("PressedMen$Both", "two", "LPressedMen$Text;", true)
def tyX8 : Nat → FieldType := fun k => match k with
  | 0 => .object "PressedMen$Text"
  | _ => .object "PressedMen$Text"
abbrev wsX80 : List Cond := u_ws RX8 TX8 2
theorem nmX8 : ∀ a, a < 2 → ∀ b, b < 2 → a ≠ b → (TX8 a).2.1 ≠ (TX8 b).2.1 := by decide +kernel
theorem tyX8_ok : ∀ k, k < 2 → parseFieldDescriptor (TX8 k).2.2.1 = some (tyX8 k) := by decide +kernel
abbrev cX8_init : ByteArray := prog_9_method_1_code
def yX8_init : MethodName := ⟨RX8, "<init>", "(LPressedMen$Text;LPressedMen$Text;)V"⟩
theorem dX8_init_0 : decode cX8_init 0 = .ok (.aload_n 0, 1) := by decide +kernel
theorem dX8_init_1 : decode cX8_init 1 = .ok (.aload_n 1, 1) := by decide +kernel
theorem dX8_init_2 : decode cX8_init 2 = .ok (.aload_n 2, 1) := by decide +kernel
theorem dX8_init_3 : decode cX8_init 3 = .ok (.invokespecial 1, 3) := by decide +kernel
theorem dX8_init_6 : decode cX8_init 6 = .ok (.return_, 1) := by decide +kernel
abbrev cX8_holds : ByteArray := prog_9_method_2_code
def yX8_holds : MethodName := ⟨RX8, "holds", "(LPressedMen$Man;Z)Z"⟩
theorem dX8_holds_0 : decode cX8_holds 0 = .ok (.aload_n 0, 1) := by decide +kernel
theorem dX8_holds_1 : decode cX8_holds 1 = .ok (.aload_n 1, 1) := by decide +kernel
theorem dX8_holds_2 : decode cX8_holds 2 = .ok (.iload_n 2, 1) := by decide +kernel
theorem dX8_holds_3 : decode cX8_holds 3 = .ok (.invokespecial 7, 3) := by decide +kernel
theorem dX8_holds_6 : decode cX8_holds 6 = .ok (.ifCond .ne 12, 3) := by decide +kernel
theorem dX8_holds_9 : decode cX8_holds 9 = .ok (.aload_n 0, 1) := by decide +kernel
theorem dX8_holds_10 : decode cX8_holds 10 = .ok (.aload_n 1, 1) := by decide +kernel
theorem dX8_holds_11 : decode cX8_holds 11 = .ok (.iload_n 2, 1) := by decide +kernel
theorem dX8_holds_12 : decode cX8_holds 12 = .ok (.invokevirtual 11, 3) := by decide +kernel
theorem dX8_holds_15 : decode cX8_holds 15 = .ok (.ifCond .eq 7, 3) := by decide +kernel
theorem dX8_holds_18 : decode cX8_holds 18 = .ok (.iconst 1, 1) := by decide +kernel
theorem dX8_holds_19 : decode cX8_holds 19 = .ok (.goto 4, 3) := by decide +kernel
theorem dX8_holds_22 : decode cX8_holds 22 = .ok (.iconst 0, 1) := by decide +kernel
theorem dX8_holds_23 : decode cX8_holds 23 = .ok (.ireturn, 1) := by decide +kernel
theorem q73 : (Jvm.Cond.initialized "PressedMen$Either") ∈ lw_all := lw_g (lw_at lw_m1 10 rfl) rfl
theorem q476 : (Jvm.Cond.instantiable "PressedMen$Either" (2 : Nat)) ∈ lw_all := lw_g (lw_at lw_m2 173 rfl) rfl
theorem q478 : (Jvm.Cond.instanceMethod ({ cls := "PressedMen$Either", name := "<init>", desc := "(LPressedMen$Text;LPressedMen$Text;)V" } : Jvm.MethodName)) ∈ lw_all := lw_g (lw_at lw_m2 175 rfl) rfl
theorem q479 : (Jvm.Cond.code ({ cls := "PressedMen$Either", name := "<init>", desc := "(LPressedMen$Text;LPressedMen$Text;)V" } : Jvm.MethodName) prog_9_method_1_code (3 : Nat) (Option.none : Option Jvm.ClassFile.FieldType)) ∈ lw_all := lw_g (lw_at lw_m2 176 rfl) rfl
theorem q480 : (Jvm.Cond.methodLink "PressedMen$Either" (1 : Nat) ({ cls := "PressedMen$Both", name := "<init>", desc := "(LPressedMen$Text;LPressedMen$Text;)V" } : Jvm.MethodName)) ∈ lw_all := lw_g (lw_at lw_m2 177 rfl) rfl
theorem q481 : (Jvm.Cond.laysFinal "PressedMen$Either" "PressedMen$Both" "one" "LPressedMen$Text;") ∈ lw_all := lw_g (lw_at lw_m2 178 rfl) rfl
theorem q482 : (Jvm.Cond.laysFinal "PressedMen$Either" "PressedMen$Both" "two" "LPressedMen$Text;") ∈ lw_all := lw_g (lw_at lw_m2 179 rfl) rfl
theorem q483 : (Jvm.Cond.superclass "PressedMen$Either" "PressedMen$Both") ∈ lw_all := lw_g (lw_at lw_m2 180 rfl) rfl
theorem q615 : (Jvm.Cond.instanceMethod ({ cls := "PressedMen$Either", name := "holds", desc := "(LPressedMen$Man;Z)Z" } : Jvm.MethodName)) ∈ lw_all := lw_g (lw_at lw_m3 72 rfl) rfl
theorem q616 : (Jvm.Cond.code ({ cls := "PressedMen$Either", name := "holds", desc := "(LPressedMen$Man;Z)Z" } : Jvm.MethodName) prog_9_method_2_code (3 : Nat) (Option.some Jvm.ClassFile.FieldType.boolean)) ∈ lw_all := lw_g (lw_at lw_m3 73 rfl) rfl
theorem q617 : (Jvm.Cond.methodLink "PressedMen$Either" (7 : Nat) ({ cls := "PressedMen$Both", name := "holds", desc := "(LPressedMen$Man;Z)Z" } : Jvm.MethodName)) ∈ lw_all := lw_g (lw_at lw_m3 74 rfl) rfl
theorem q618 : (Jvm.Cond.methodLink "PressedMen$Either" (11 : Nat) ({ cls := "PressedMen$Either", name := "holdsOne", desc := "(LPressedMen$Man;Z)Z" } : Jvm.MethodName)) ∈ lw_all := lw_g (lw_at lw_m3 75 rfl) rfl
theorem q619 : (Jvm.Cond.sameMethod "PressedMen$Either" "PressedMen$Both" "holdsOne" "(LPressedMen$Man;Z)Z") ∈ lw_all := lw_g (lw_at lw_m3 76 rfl) rfl
theorem q621 : (Jvm.Cond.selects "PressedMen$Either" ({ cls := "PressedMen$Either", name := "holdsOne", desc := "(LPressedMen$Man;Z)Z" } : Jvm.MethodName) ({ cls := "PressedMen$Both", name := "holdsOne", desc := "(LPressedMen$Man;Z)Z" } : Jvm.MethodName)) ∈ lw_all := lw_g (lw_at lw_m3 78 rfl) rfl
theorem q635 : (Jvm.Cond.selects "PressedMen$Either" ({ cls := "PressedMen$Text", name := "holds", desc := "(LPressedMen$Man;Z)Z" } : Jvm.MethodName) ({ cls := "PressedMen$Either", name := "holds", desc := "(LPressedMen$Man;Z)Z" } : Jvm.MethodName)) ∈ lw_all := lw_g (lw_at lw_m3 92 rfl) rfl
theorem in_X8 : ∀ w ∈ wsX80, w ∈ lw_all := lw_in wsX80 [481, 482] (by decide +kernel) (by decide +kernel)
/-! PressedMen$Not -/
def RX9 : String := "PressedMen$Not"
def TX9 : u_T := fun k => match k with
  | _ => ("PressedMen$Not", "one", "LPressedMen$Text;", true)
def tyX9 : Nat → FieldType := fun k => match k with
  | _ => .object "PressedMen$Text"
abbrev wsX90 : List Cond := u_ws RX9 TX9 1
theorem nmX9 : ∀ a, a < 1 → ∀ b, b < 1 → a ≠ b → (TX9 a).2.1 ≠ (TX9 b).2.1 := by decide +kernel
theorem tyX9_ok : ∀ k, k < 1 → parseFieldDescriptor (TX9 k).2.2.1 = some (tyX9 k) := by decide +kernel
abbrev cX9_init : ByteArray := prog_13_method_1_code
def yX9_init : MethodName := ⟨RX9, "<init>", "(LPressedMen$Text;)V"⟩
theorem dX9_init_0 : decode cX9_init 0 = .ok (.aload_n 0, 1) := by decide +kernel
theorem dX9_init_1 : decode cX9_init 1 = .ok (.invokespecial 1, 3) := by decide +kernel
theorem dX9_init_4 : decode cX9_init 4 = .ok (.aload_n 0, 1) := by decide +kernel
theorem dX9_init_5 : decode cX9_init 5 = .ok (.aload_n 1, 1) := by decide +kernel
theorem dX9_init_6 : decode cX9_init 6 = .ok (.putfield 7, 3) := by decide +kernel
theorem dX9_init_9 : decode cX9_init 9 = .ok (.return_, 1) := by decide +kernel
abbrev cX9_holds : ByteArray := prog_13_method_2_code
def yX9_holds : MethodName := ⟨RX9, "holds", "(LPressedMen$Man;Z)Z"⟩
theorem dX9_holds_0 : decode cX9_holds 0 = .ok (.aload_n 0, 1) := by decide +kernel
theorem dX9_holds_1 : decode cX9_holds 1 = .ok (.getfield 7, 3) := by decide +kernel
theorem dX9_holds_4 : decode cX9_holds 4 = .ok (.aload_n 1, 1) := by decide +kernel
theorem dX9_holds_5 : decode cX9_holds 5 = .ok (.iload_n 2, 1) := by decide +kernel
theorem dX9_holds_6 : decode cX9_holds 6 = .ok (.invokevirtual 13, 3) := by decide +kernel
theorem dX9_holds_9 : decode cX9_holds 9 = .ok (.ifCond .ne 7, 3) := by decide +kernel
theorem dX9_holds_12 : decode cX9_holds 12 = .ok (.iconst 1, 1) := by decide +kernel
theorem dX9_holds_13 : decode cX9_holds 13 = .ok (.goto 4, 3) := by decide +kernel
theorem dX9_holds_16 : decode cX9_holds 16 = .ok (.iconst 0, 1) := by decide +kernel
theorem dX9_holds_17 : decode cX9_holds 17 = .ok (.ireturn, 1) := by decide +kernel
theorem q74 : (Jvm.Cond.initialized "PressedMen$Not") ∈ lw_all := lw_g (lw_at lw_m1 11 rfl) rfl
theorem q485 : (Jvm.Cond.instantiable "PressedMen$Not" (1 : Nat)) ∈ lw_all := lw_g (lw_at lw_m2 182 rfl) rfl
theorem q487 : (Jvm.Cond.instanceMethod ({ cls := "PressedMen$Not", name := "<init>", desc := "(LPressedMen$Text;)V" } : Jvm.MethodName)) ∈ lw_all := lw_g (lw_at lw_m2 184 rfl) rfl
theorem q488 : (Jvm.Cond.code ({ cls := "PressedMen$Not", name := "<init>", desc := "(LPressedMen$Text;)V" } : Jvm.MethodName) prog_13_method_1_code (2 : Nat) (Option.none : Option Jvm.ClassFile.FieldType)) ∈ lw_all := lw_g (lw_at lw_m2 185 rfl) rfl
theorem q489 : (Jvm.Cond.methodLinkNest "PressedMen$Not" (1 : Nat) ({ cls := "PressedMen$Text", name := "<init>", desc := "()V" } : Jvm.MethodName) "PressedMen") ∈ lw_tbl := lw_at lw_m2 186 rfl
theorem q490 : (Jvm.Cond.fieldLink "PressedMen$Not" (7 : Nat) "PressedMen$Not" "one" "LPressedMen$Text;") ∈ lw_all := lw_g (lw_at lw_m2 187 rfl) rfl
theorem q491 : (Jvm.Cond.laysFinal "PressedMen$Not" "PressedMen$Not" "one" "LPressedMen$Text;") ∈ lw_all := lw_g (lw_at lw_m2 188 rfl) rfl
theorem q492 : (Jvm.Cond.soleField "PressedMen$Not" "one") ∈ lw_all := lw_g (lw_at lw_m2 189 rfl) rfl
theorem q493 : (Jvm.Cond.superclass "PressedMen$Not" "PressedMen$Text") ∈ lw_all := lw_g (lw_at lw_m2 190 rfl) rfl
theorem q631 : (Jvm.Cond.instanceMethod ({ cls := "PressedMen$Not", name := "holds", desc := "(LPressedMen$Man;Z)Z" } : Jvm.MethodName)) ∈ lw_all := lw_g (lw_at lw_m3 88 rfl) rfl
theorem q632 : (Jvm.Cond.code ({ cls := "PressedMen$Not", name := "holds", desc := "(LPressedMen$Man;Z)Z" } : Jvm.MethodName) prog_13_method_2_code (3 : Nat) (Option.some Jvm.ClassFile.FieldType.boolean)) ∈ lw_all := lw_g (lw_at lw_m3 89 rfl) rfl
theorem q633 : (Jvm.Cond.methodLink "PressedMen$Not" (13 : Nat) ({ cls := "PressedMen$Text", name := "holds", desc := "(LPressedMen$Man;Z)Z" } : Jvm.MethodName)) ∈ lw_all := lw_g (lw_at lw_m3 90 rfl) rfl
theorem q637 : (Jvm.Cond.selects "PressedMen$Not" ({ cls := "PressedMen$Text", name := "holds", desc := "(LPressedMen$Man;Z)Z" } : Jvm.MethodName) ({ cls := "PressedMen$Not", name := "holds", desc := "(LPressedMen$Man;Z)Z" } : Jvm.MethodName)) ∈ lw_all := lw_g (lw_at lw_m3 94 rfl) rfl
theorem in_X9 : ∀ w ∈ wsX90, w ∈ lw_all := lw_in wsX90 [491] (by decide +kernel) (by decide +kernel)
