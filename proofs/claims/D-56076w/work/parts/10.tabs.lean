set_option maxRecDepth 100000
/-! the classes by number: 0 LampLeaseOffice, 1 LampLeaseOffice$State, 2 LampLeaseOfficeModel, 3 LampLeaseOffice$Ship, 4 LampLeaseOffice$Lamp, 5 LampLeaseOffice$PoorException, 6 LampLeaseOffice$Request, 7 LampLeaseOffice$Parser, 8 LampLeaseOffice$MalformedException, 9 LampLeaseOffice$CommandException, 10 java/util/ArrayList, 11 java/util/ArrayList$Itr, 12 java/lang/StringBuilder, 13 java/lang/IndexOutOfBoundsException, 14 java/lang/IllegalArgumentException, 15 java/lang/IllegalStateException, 16 java/util/NoSuchElementException, 17 java/lang/UnsupportedOperationException, 18 java/lang/ArithmeticException; arrays: 32 int, 33 char, 34 byte, 35 long, 36 double, 37 Object -/
def wdT0 : u_T := fun _ => ("", "", "I", false)
abbrev wdCl : List vw_C := [(RX1, TX1, 9), (RX2, TX2, 7), (RX3, TX3, 19), (RX4, TX4, 3), (RX5, TX5, 5), (RX6, TX6, 6), (RX7, TX7, 2), (RX8, TX8, 5), (RX10, TX10, 7), (RX11, TX11, 7), (RJ2, TJ2, 3), (RJ7, TJ7, 4), (RJ4, TJ4, 4), (RJ19, wdT0, 0), (RJ18, wdT0, 0), (RJ15, wdT0, 0), (RJ11, wdT0, 0), (RJ21, wdT0, 0), (RJ22, wdT0, 0)]
/-- what holds of a class of the list: its words ride, its fields' types, their names are apart -/
def wdClF (r : vw_C) : Prop := (∀ w ∈ u_ws r.1 r.2.1 r.2.2, w ∈ lw_all) ∧ (∃ ty : Nat → FieldType, ∀ k, k < r.2.2 → parseFieldDescriptor (r.2.1 k).2.2.1 = some (ty k)) ∧ ∀ a, a < r.2.2 → ∀ b, b < r.2.2 → a ≠ b → (r.2.1 a).2.1 ≠ (r.2.1 b).2.1
theorem wdClF0 (C : String) : wdClF (C, wdT0, 0) := ⟨fun _ h => absurd h List.not_mem_nil, ⟨fun _ => .int, fun k h => absurd h (Nat.not_lt_zero k)⟩, fun a h => absurd h (Nat.not_lt_zero a)⟩
theorem wdClAll : ∀ r ∈ wdCl, wdClF r := List.forall_mem_cons.mpr ⟨⟨in_X1, ⟨tyX1, tyX1_ok⟩, nmX1⟩, List.forall_mem_cons.mpr ⟨⟨in_X2, ⟨tyX2, tyX2_ok⟩, nmX2⟩, List.forall_mem_cons.mpr ⟨⟨in_X3, ⟨tyX3, tyX3_ok⟩, nmX3⟩, List.forall_mem_cons.mpr ⟨⟨in_X4, ⟨tyX4, tyX4_ok⟩, nmX4⟩, List.forall_mem_cons.mpr ⟨⟨in_X5, ⟨tyX5, tyX5_ok⟩, nmX5⟩, List.forall_mem_cons.mpr ⟨⟨in_X6, ⟨tyX6, tyX6_ok⟩, nmX6⟩, List.forall_mem_cons.mpr ⟨⟨in_X7, ⟨tyX7, tyX7_ok⟩, nmX7⟩, List.forall_mem_cons.mpr ⟨⟨in_X8, ⟨tyX8, tyX8_ok⟩, nmX8⟩, List.forall_mem_cons.mpr ⟨⟨in_X10, ⟨tyX10, tyX10_ok⟩, nmX10⟩, List.forall_mem_cons.mpr ⟨⟨in_X11, ⟨tyX11, tyX11_ok⟩, nmX11⟩, List.forall_mem_cons.mpr ⟨⟨in_J2, ⟨tyJ2, tyJ2_ok⟩, nmJ2⟩, List.forall_mem_cons.mpr ⟨⟨in_J7, ⟨tyJ7, tyJ7_ok⟩, nmJ7⟩, List.forall_mem_cons.mpr ⟨⟨in_J4, ⟨tyJ4, tyJ4_ok⟩, nmJ4⟩, List.forall_mem_cons.mpr ⟨wdClF0 RJ19, List.forall_mem_cons.mpr ⟨wdClF0 RJ18, List.forall_mem_cons.mpr ⟨wdClF0 RJ15, List.forall_mem_cons.mpr ⟨wdClF0 RJ11, List.forall_mem_cons.mpr ⟨wdClF0 RJ21, List.forall_mem_cons.mpr ⟨wdClF0 RJ22, fun _ h => absurd h List.not_mem_nil⟩⟩⟩⟩⟩⟩⟩⟩⟩⟩⟩⟩⟩⟩⟩⟩⟩⟩⟩
/-- the words that don't ride in the lists: a contract's start carries them -/
def wdNw : List Cond := [(Jvm.Cond.methodLinkNest "LampLeaseOffice" (9 : Nat) ({ cls := "LampLeaseOffice$State", name := "<init>", desc := "()V" } : Jvm.MethodName) "LampLeaseOffice"),
  (Jvm.Cond.fieldLinkNest "LampLeaseOffice" (106 : Nat) "LampLeaseOffice$State" "ships" "Ljava/util/ArrayList;" "LampLeaseOffice"),
  (Jvm.Cond.fieldLinkNest "LampLeaseOffice" (130 : Nat) "LampLeaseOffice$State" "lamps" "Ljava/util/ArrayList;" "LampLeaseOffice"),
  (Jvm.Cond.fieldLinkNest "LampLeaseOffice" (200 : Nat) "LampLeaseOffice$State" "requests" "Ljava/util/ArrayList;" "LampLeaseOffice"),
  (Jvm.Cond.fieldLinkNest "LampLeaseOffice" (165 : Nat) "LampLeaseOffice$State" "oil" "I" "LampLeaseOffice"),
  (Jvm.Cond.fieldLinkNest "LampLeaseOffice" (103 : Nat) "LampLeaseOffice$State" "hour" "I" "LampLeaseOffice"),
  (Jvm.Cond.fieldLinkNest "LampLeaseOffice" (223 : Nat) "LampLeaseOffice$State" "office" "I" "LampLeaseOffice"),
  (Jvm.Cond.fieldLinkNest "LampLeaseOffice" (220 : Nat) "LampLeaseOffice$State" "refused" "I" "LampLeaseOffice"),
  (Jvm.Cond.fieldLinkNest "LampLeaseOffice" (113 : Nat) "LampLeaseOffice$Ship" "coins" "I" "LampLeaseOffice"),
  (Jvm.Cond.fieldLinkNest "LampLeaseOffice" (118 : Nat) "LampLeaseOffice$Ship" "fines" "I" "LampLeaseOffice"),
  (Jvm.Cond.fieldLinkNest "LampLeaseOffice" (121 : Nat) "LampLeaseOffice$Ship" "darkHours" "I" "LampLeaseOffice"),
  (Jvm.Cond.fieldLinkNest "LampLeaseOffice" (137 : Nat) "LampLeaseOffice$Lamp" "level" "I" "LampLeaseOffice"),
  (Jvm.Cond.fieldLinkNest "LampLeaseOffice" (149 : Nat) "LampLeaseOffice$Lamp" "lessee" "I" "LampLeaseOffice"),
  (Jvm.Cond.fieldLinkNest "LampLeaseOffice" (152 : Nat) "LampLeaseOffice$Lamp" "end" "I" "LampLeaseOffice"),
  (Jvm.Cond.fieldLinkNest "LampLeaseOffice" (155 : Nat) "LampLeaseOffice$Lamp" "brightHours" "I" "LampLeaseOffice"),
  (Jvm.Cond.fieldLinkNest "LampLeaseOffice" (158 : Nat) "LampLeaseOffice$Lamp" "isBright" "Z" "LampLeaseOffice"),
  (Jvm.Cond.methodLinkNest "LampLeaseOffice" (184 : Nat) ({ cls := "LampLeaseOffice$State", name := "burn", desc := "()I" } : Jvm.MethodName) "LampLeaseOffice"),
  (Jvm.Cond.fieldLinkNest "LampLeaseOffice" (215 : Nat) "LampLeaseOffice$Request" "lamp" "I" "LampLeaseOffice"),
  (Jvm.Cond.fieldLinkNest "LampLeaseOffice" (217 : Nat) "LampLeaseOffice$Request" "hours" "I" "LampLeaseOffice"),
  (Jvm.Cond.methodLinkNest "LampLeaseOffice" (259 : Nat) ({ cls := "LampLeaseOffice$Parser", name := "<init>", desc := "(LLampLeaseOffice;)V" } : Jvm.MethodName) "LampLeaseOffice"),
  (Jvm.Cond.fieldLinkNest "LampLeaseOffice" (281 : Nat) "LampLeaseOffice$MalformedException" "position" "I" "LampLeaseOffice"),
  (Jvm.Cond.fieldLinkNest "LampLeaseOffice" (268 : Nat) "LampLeaseOffice$CommandException" "index" "I" "LampLeaseOffice"),
  (Jvm.Cond.castable "LampLeaseOffice" "java/lang/Object"),
  (Jvm.Cond.fieldLinkNest "LampLeaseOffice$State" (99 : Nat) "LampLeaseOffice$Lamp" "level" "I" "LampLeaseOffice"),
  (Jvm.Cond.fieldLinkNest "LampLeaseOffice$State" (130 : Nat) "LampLeaseOffice$Lamp" "lessee" "I" "LampLeaseOffice"),
  (Jvm.Cond.fieldLinkNest "LampLeaseOffice$State" (133 : Nat) "LampLeaseOffice$Lamp" "end" "I" "LampLeaseOffice"),
  (Jvm.Cond.fieldLinkNest "LampLeaseOffice$State" (164 : Nat) "LampLeaseOffice$Lamp" "isBright" "Z" "LampLeaseOffice"),
  (Jvm.Cond.methodLinkNest "LampLeaseOffice$State" (104 : Nat) ({ cls := "LampLeaseOffice", name := "requireState", desc := "(Z)V" } : Jvm.MethodName) "LampLeaseOffice"),
  (Jvm.Cond.methodLinkNest "LampLeaseOffice$State" (107 : Nat) ({ cls := "LampLeaseOffice$Ship", name := "<init>", desc := "()V" } : Jvm.MethodName) "LampLeaseOffice"),
  (Jvm.Cond.methodLinkNest "LampLeaseOffice$State" (73 : Nat) ({ cls := "LampLeaseOffice", name := "isBetween", desc := "(III)Z" } : Jvm.MethodName) "LampLeaseOffice"),
  (Jvm.Cond.methodLinkNest "LampLeaseOffice$State" (108 : Nat) ({ cls := "LampLeaseOffice", name := "requireArgument", desc := "(Z)V" } : Jvm.MethodName) "LampLeaseOffice"),
  (Jvm.Cond.methodLinkNest "LampLeaseOffice$State" (77 : Nat) ({ cls := "LampLeaseOffice", name := "requireIndex", desc := "(Z)V" } : Jvm.MethodName) "LampLeaseOffice"),
  (Jvm.Cond.methodLinkNest "LampLeaseOffice$State" (92 : Nat) ({ cls := "LampLeaseOffice", name := "requireElement", desc := "(Z)V" } : Jvm.MethodName) "LampLeaseOffice"),
  (Jvm.Cond.fieldLinkNest "LampLeaseOffice$State" (102 : Nat) "LampLeaseOffice$Request" "lamp" "I" "LampLeaseOffice"),
  (Jvm.Cond.fieldLinkNest "LampLeaseOffice$State" (151 : Nat) "LampLeaseOffice$Request" "hours" "I" "LampLeaseOffice"),
  (Jvm.Cond.castable "LampLeaseOffice$State" "java/lang/Object"),
  (Jvm.Cond.castable "java/util/ArrayList" "java/lang/Object"),
  (Jvm.Cond.castable "java/lang/StringBuilder" "java/lang/Object"),
  (Jvm.Cond.castable "java/lang/String" "java/lang/Object"),
  (Jvm.Cond.castable "LampLeaseOfficeModel" "java/lang/Object"),
  (Jvm.Cond.fieldLinkNest "java/util/ArrayList$Itr" (28 : Nat) "java/util/ArrayList" "size" "I" "java/util/ArrayList"),
  (Jvm.Cond.castable "java/util/ArrayList$Itr" "java/util/Iterator"),
  (Jvm.Cond.castable "java/util/ArrayList$Itr" "java/lang/Object"),
  (Jvm.Cond.declares ({ cls := "java/lang/Throwable", name := "<init>", desc := "()V" } : Jvm.MethodName)),
  (Jvm.Cond.declares ({ cls := "java/lang/Throwable", name := "<init>", desc := "(Ljava/lang/String;)V" } : Jvm.MethodName)),
  (Jvm.Cond.declares ({ cls := "java/lang/Throwable", name := "getCause", desc := "()Ljava/lang/Throwable;" } : Jvm.MethodName)),
  (Jvm.Cond.castable "java/lang/Throwable" "java/lang/Object"),
  (Jvm.Cond.declares ({ cls := "java/lang/Exception", name := "<init>", desc := "()V" } : Jvm.MethodName)),
  (Jvm.Cond.declares ({ cls := "java/lang/Exception", name := "<init>", desc := "(Ljava/lang/String;)V" } : Jvm.MethodName)),
  (Jvm.Cond.declares ({ cls := "java/lang/RuntimeException", name := "<init>", desc := "()V" } : Jvm.MethodName)),
  (Jvm.Cond.declares ({ cls := "java/lang/RuntimeException", name := "<init>", desc := "(Ljava/lang/String;)V" } : Jvm.MethodName)),
  (Jvm.Cond.castable "java/util/NoSuchElementException" "java/util/NoSuchElementException"),
  (Jvm.Cond.castable "java/util/NoSuchElementException" "java/lang/Object"),
  (Jvm.Cond.castable "LampLeaseOffice$Ship" "java/lang/Object"),
  (Jvm.Cond.castable "LampLeaseOffice$Lamp" "java/lang/Object"),
  (Jvm.Cond.castable "java/lang/IllegalStateException" "java/lang/IllegalStateException"),
  (Jvm.Cond.castable "java/lang/IllegalStateException" "java/lang/Object"),
  (Jvm.Cond.castable "java/lang/IllegalArgumentException" "java/lang/IllegalArgumentException"),
  (Jvm.Cond.castable "java/lang/IllegalArgumentException" "java/lang/Object"),
  (Jvm.Cond.declares ({ cls := "java/lang/IndexOutOfBoundsException", name := "<init>", desc := "()V" } : Jvm.MethodName)),
  (Jvm.Cond.declares ({ cls := "java/lang/IndexOutOfBoundsException", name := "<init>", desc := "(Ljava/lang/String;)V" } : Jvm.MethodName)),
  (Jvm.Cond.castable "java/lang/IndexOutOfBoundsException" "java/lang/IndexOutOfBoundsException"),
  (Jvm.Cond.castable "java/lang/IndexOutOfBoundsException" "java/lang/Object"),
  (Jvm.Cond.castable "java/lang/ArrayIndexOutOfBoundsException" "java/lang/ArrayIndexOutOfBoundsException"),
  (Jvm.Cond.castable "java/lang/ArrayIndexOutOfBoundsException" "java/lang/IndexOutOfBoundsException"),
  (Jvm.Cond.castable "java/lang/ArrayIndexOutOfBoundsException" "java/lang/Object"),
  (Jvm.Cond.castable "LampLeaseOffice$PoorException" "LampLeaseOffice$PoorException"),
  (Jvm.Cond.castable "LampLeaseOffice$PoorException" "java/lang/Object"),
  (Jvm.Cond.castable "java/lang/UnsupportedOperationException" "java/lang/UnsupportedOperationException"),
  (Jvm.Cond.castable "java/lang/UnsupportedOperationException" "java/lang/Object"),
  (Jvm.Cond.castable "LampLeaseOffice$Request" "java/lang/Object"),
  (Jvm.Cond.castable "java/lang/ArithmeticException" "java/lang/ArithmeticException"),
  (Jvm.Cond.castable "java/lang/ArithmeticException" "java/lang/Object"),
  (Jvm.Cond.fieldLinkNest "LampLeaseOffice$Parser" (22 : Nat) "LampLeaseOffice" "input" "[C" "LampLeaseOffice"),
  (Jvm.Cond.fieldLinkNest "LampLeaseOffice$Parser" (17 : Nat) "LampLeaseOffice" "inputLength" "I" "LampLeaseOffice"),
  (Jvm.Cond.methodLinkNest "LampLeaseOffice$Parser" (26 : Nat) ({ cls := "LampLeaseOffice", name := "isBetween", desc := "(III)Z" } : Jvm.MethodName) "LampLeaseOffice"),
  (Jvm.Cond.castable "LampLeaseOffice$Parser" "java/lang/Object"),
  (Jvm.Cond.castable "LampLeaseOffice$MalformedException" "LampLeaseOffice$MalformedException"),
  (Jvm.Cond.castable "LampLeaseOffice$MalformedException" "LampLeaseOffice$TextException"),
  (Jvm.Cond.castable "LampLeaseOffice$MalformedException" "java/lang/Object"),
  (Jvm.Cond.castable "LampLeaseOffice$CommandException" "LampLeaseOffice$CommandException"),
  (Jvm.Cond.castable "LampLeaseOffice$CommandException" "LampLeaseOffice$TextException"),
  (Jvm.Cond.castable "LampLeaseOffice$CommandException" "java/lang/Object"),
  (Jvm.Cond.castable "java/lang/StringIndexOutOfBoundsException" "java/lang/IndexOutOfBoundsException"),
  (Jvm.Cond.castable "java/lang/StringIndexOutOfBoundsException" "java/lang/Object"),
  (Jvm.Cond.declares ({ cls := "java/lang/Object", name := "getClass", desc := "()Ljava/lang/Class;" } : Jvm.MethodName)),
  (Jvm.Cond.castable "java/lang/System$2" "jdk/internal/access/JavaLangAccess"),
  (Jvm.Cond.castable "java/lang/System$2" "java/lang/Object"),
  (Jvm.Cond.declares ({ cls := "java/util/Iterator", name := "hasNext", desc := "()Z" } : Jvm.MethodName)),
  (Jvm.Cond.declares ({ cls := "java/util/Iterator", name := "next", desc := "()Ljava/lang/Object;" } : Jvm.MethodName)),
  (Jvm.Cond.castable "[B" "java/lang/Cloneable"),
  (Jvm.Cond.castable "[B" "java/lang/Object"),
  (Jvm.Cond.declares ({ cls := "jdk/internal/access/JavaLangAccess", name := "getUTF16Char", desc := "([BI)C" } : Jvm.MethodName)),
  (Jvm.Cond.castable "[Ljava/lang/Object;" "java/lang/Object"),
  (Jvm.Cond.castable "[C" "java/lang/Object"),
  (Jvm.Cond.castable "[I" "java/lang/Object"),
  (Jvm.Cond.castable "[J" "java/lang/Object"),
  (Jvm.Cond.castable "[D" "java/lang/Object")]
theorem wdNw_tbl : ∀ w ∈ wdNw, w ∈ lw_tbl := List.forall_mem_cons.mpr ⟨q114, List.forall_mem_cons.mpr ⟨q148, List.forall_mem_cons.mpr ⟨q150, List.forall_mem_cons.mpr ⟨q152, List.forall_mem_cons.mpr ⟨q154, List.forall_mem_cons.mpr ⟨q156, List.forall_mem_cons.mpr ⟨q158, List.forall_mem_cons.mpr ⟨q160, List.forall_mem_cons.mpr ⟨q423, List.forall_mem_cons.mpr ⟨q425, List.forall_mem_cons.mpr ⟨q427, List.forall_mem_cons.mpr ⟨q517, List.forall_mem_cons.mpr ⟨q520, List.forall_mem_cons.mpr ⟨q523, List.forall_mem_cons.mpr ⟨q525, List.forall_mem_cons.mpr ⟨q528, List.forall_mem_cons.mpr ⟨q541, List.forall_mem_cons.mpr ⟨q1152, List.forall_mem_cons.mpr ⟨q1155, List.forall_mem_cons.mpr ⟨q1454, List.forall_mem_cons.mpr ⟨q1549, List.forall_mem_cons.mpr ⟨q1652, List.forall_mem_cons.mpr ⟨q2204, List.forall_mem_cons.mpr ⟨q516, List.forall_mem_cons.mpr ⟨q519, List.forall_mem_cons.mpr ⟨q522, List.forall_mem_cons.mpr ⟨q527, List.forall_mem_cons.mpr ⟨q969, List.forall_mem_cons.mpr ⟨q987, List.forall_mem_cons.mpr ⟨q1014, List.forall_mem_cons.mpr ⟨q1017, List.forall_mem_cons.mpr ⟨q1057, List.forall_mem_cons.mpr ⟨q1139, List.forall_mem_cons.mpr ⟨q1151, List.forall_mem_cons.mpr ⟨q1154, List.forall_mem_cons.mpr ⟨q2205, List.forall_mem_cons.mpr ⟨q2206, List.forall_mem_cons.mpr ⟨q2207, List.forall_mem_cons.mpr ⟨q2224, List.forall_mem_cons.mpr ⟨q2208, List.forall_mem_cons.mpr ⟨q134, List.forall_mem_cons.mpr ⟨q293, List.forall_mem_cons.mpr ⟨q2209, List.forall_mem_cons.mpr ⟨q319, List.forall_mem_cons.mpr ⟨q320, List.forall_mem_cons.mpr ⟨q1663, List.forall_mem_cons.mpr ⟨q2227, List.forall_mem_cons.mpr ⟨q317, List.forall_mem_cons.mpr ⟨q318, List.forall_mem_cons.mpr ⟨q315, List.forall_mem_cons.mpr ⟨q316, List.forall_mem_cons.mpr ⟨q314, List.forall_mem_cons.mpr ⟨q2210, List.forall_mem_cons.mpr ⟨q2211, List.forall_mem_cons.mpr ⟨q2212, List.forall_mem_cons.mpr ⟨q974, List.forall_mem_cons.mpr ⟨q2213, List.forall_mem_cons.mpr ⟨q816, List.forall_mem_cons.mpr ⟨q2214, List.forall_mem_cons.mpr ⟨q895, List.forall_mem_cons.mpr ⟨q896, List.forall_mem_cons.mpr ⟨q1062, List.forall_mem_cons.mpr ⟨q2216, List.forall_mem_cons.mpr ⟨q894, List.forall_mem_cons.mpr ⟨q2200, List.forall_mem_cons.mpr ⟨q2215, List.forall_mem_cons.mpr ⟨q1090, List.forall_mem_cons.mpr ⟨q2217, List.forall_mem_cons.mpr ⟨q1110, List.forall_mem_cons.mpr ⟨q2218, List.forall_mem_cons.mpr ⟨q2219, List.forall_mem_cons.mpr ⟨q1409, List.forall_mem_cons.mpr ⟨q2220, List.forall_mem_cons.mpr ⟨q216, List.forall_mem_cons.mpr ⟨q217, List.forall_mem_cons.mpr ⟨q1526, List.forall_mem_cons.mpr ⟨q2221, List.forall_mem_cons.mpr ⟨q1529, List.forall_mem_cons.mpr ⟨q2203, List.forall_mem_cons.mpr ⟨q2222, List.forall_mem_cons.mpr ⟨q1640, List.forall_mem_cons.mpr ⟨q2202, List.forall_mem_cons.mpr ⟨q2225, List.forall_mem_cons.mpr ⟨q2201, List.forall_mem_cons.mpr ⟨q2226, List.forall_mem_cons.mpr ⟨q2230, List.forall_mem_cons.mpr ⟨q1581, List.forall_mem_cons.mpr ⟨q2223, List.forall_mem_cons.mpr ⟨q292, List.forall_mem_cons.mpr ⟨q302, List.forall_mem_cons.mpr ⟨q677, List.forall_mem_cons.mpr ⟨q2232, List.forall_mem_cons.mpr ⟨q1580, List.forall_mem_cons.mpr ⟨q2233, List.forall_mem_cons.mpr ⟨q2231, List.forall_mem_cons.mpr ⟨q2234, List.forall_mem_cons.mpr ⟨q2235, List.forall_mem_cons.mpr ⟨q2236, fun _ h => absurd h List.not_mem_nil⟩⟩⟩⟩⟩⟩⟩⟩⟩⟩⟩⟩⟩⟩⟩⟩⟩⟩⟩⟩⟩⟩⟩⟩⟩⟩⟩⟩⟩⟩⟩⟩⟩⟩⟩⟩⟩⟩⟩⟩⟩⟩⟩⟩⟩⟩⟩⟩⟩⟩⟩⟩⟩⟩⟩⟩⟩⟩⟩⟩⟩⟩⟩⟩⟩⟩⟩⟩⟩⟩⟩⟩⟩⟩⟩⟩⟩⟩⟩⟩⟩⟩⟩⟩⟩⟩⟩⟩⟩⟩⟩⟩⟩⟩⟩⟩⟩⟩
theorem nq114 : (Jvm.Cond.methodLinkNest "LampLeaseOffice" (9 : Nat) ({ cls := "LampLeaseOffice$State", name := "<init>", desc := "()V" } : Jvm.MethodName) "LampLeaseOffice") ∈ wdNw := List.mem_of_getElem? (i := 0) rfl
theorem nq148 : (Jvm.Cond.fieldLinkNest "LampLeaseOffice" (106 : Nat) "LampLeaseOffice$State" "ships" "Ljava/util/ArrayList;" "LampLeaseOffice") ∈ wdNw := List.mem_of_getElem? (i := 1) rfl
theorem nq150 : (Jvm.Cond.fieldLinkNest "LampLeaseOffice" (130 : Nat) "LampLeaseOffice$State" "lamps" "Ljava/util/ArrayList;" "LampLeaseOffice") ∈ wdNw := List.mem_of_getElem? (i := 2) rfl
theorem nq152 : (Jvm.Cond.fieldLinkNest "LampLeaseOffice" (200 : Nat) "LampLeaseOffice$State" "requests" "Ljava/util/ArrayList;" "LampLeaseOffice") ∈ wdNw := List.mem_of_getElem? (i := 3) rfl
theorem nq154 : (Jvm.Cond.fieldLinkNest "LampLeaseOffice" (165 : Nat) "LampLeaseOffice$State" "oil" "I" "LampLeaseOffice") ∈ wdNw := List.mem_of_getElem? (i := 4) rfl
theorem nq156 : (Jvm.Cond.fieldLinkNest "LampLeaseOffice" (103 : Nat) "LampLeaseOffice$State" "hour" "I" "LampLeaseOffice") ∈ wdNw := List.mem_of_getElem? (i := 5) rfl
theorem nq158 : (Jvm.Cond.fieldLinkNest "LampLeaseOffice" (223 : Nat) "LampLeaseOffice$State" "office" "I" "LampLeaseOffice") ∈ wdNw := List.mem_of_getElem? (i := 6) rfl
theorem nq160 : (Jvm.Cond.fieldLinkNest "LampLeaseOffice" (220 : Nat) "LampLeaseOffice$State" "refused" "I" "LampLeaseOffice") ∈ wdNw := List.mem_of_getElem? (i := 7) rfl
theorem nq423 : (Jvm.Cond.fieldLinkNest "LampLeaseOffice" (113 : Nat) "LampLeaseOffice$Ship" "coins" "I" "LampLeaseOffice") ∈ wdNw := List.mem_of_getElem? (i := 8) rfl
theorem nq425 : (Jvm.Cond.fieldLinkNest "LampLeaseOffice" (118 : Nat) "LampLeaseOffice$Ship" "fines" "I" "LampLeaseOffice") ∈ wdNw := List.mem_of_getElem? (i := 9) rfl
theorem nq427 : (Jvm.Cond.fieldLinkNest "LampLeaseOffice" (121 : Nat) "LampLeaseOffice$Ship" "darkHours" "I" "LampLeaseOffice") ∈ wdNw := List.mem_of_getElem? (i := 10) rfl
theorem nq517 : (Jvm.Cond.fieldLinkNest "LampLeaseOffice" (137 : Nat) "LampLeaseOffice$Lamp" "level" "I" "LampLeaseOffice") ∈ wdNw := List.mem_of_getElem? (i := 11) rfl
theorem nq520 : (Jvm.Cond.fieldLinkNest "LampLeaseOffice" (149 : Nat) "LampLeaseOffice$Lamp" "lessee" "I" "LampLeaseOffice") ∈ wdNw := List.mem_of_getElem? (i := 12) rfl
theorem nq523 : (Jvm.Cond.fieldLinkNest "LampLeaseOffice" (152 : Nat) "LampLeaseOffice$Lamp" "end" "I" "LampLeaseOffice") ∈ wdNw := List.mem_of_getElem? (i := 13) rfl
theorem nq525 : (Jvm.Cond.fieldLinkNest "LampLeaseOffice" (155 : Nat) "LampLeaseOffice$Lamp" "brightHours" "I" "LampLeaseOffice") ∈ wdNw := List.mem_of_getElem? (i := 14) rfl
theorem nq528 : (Jvm.Cond.fieldLinkNest "LampLeaseOffice" (158 : Nat) "LampLeaseOffice$Lamp" "isBright" "Z" "LampLeaseOffice") ∈ wdNw := List.mem_of_getElem? (i := 15) rfl
theorem nq541 : (Jvm.Cond.methodLinkNest "LampLeaseOffice" (184 : Nat) ({ cls := "LampLeaseOffice$State", name := "burn", desc := "()I" } : Jvm.MethodName) "LampLeaseOffice") ∈ wdNw := List.mem_of_getElem? (i := 16) rfl
theorem nq1152 : (Jvm.Cond.fieldLinkNest "LampLeaseOffice" (215 : Nat) "LampLeaseOffice$Request" "lamp" "I" "LampLeaseOffice") ∈ wdNw := List.mem_of_getElem? (i := 17) rfl
theorem nq1155 : (Jvm.Cond.fieldLinkNest "LampLeaseOffice" (217 : Nat) "LampLeaseOffice$Request" "hours" "I" "LampLeaseOffice") ∈ wdNw := List.mem_of_getElem? (i := 18) rfl
theorem nq1454 : (Jvm.Cond.methodLinkNest "LampLeaseOffice" (259 : Nat) ({ cls := "LampLeaseOffice$Parser", name := "<init>", desc := "(LLampLeaseOffice;)V" } : Jvm.MethodName) "LampLeaseOffice") ∈ wdNw := List.mem_of_getElem? (i := 19) rfl
theorem nq1549 : (Jvm.Cond.fieldLinkNest "LampLeaseOffice" (281 : Nat) "LampLeaseOffice$MalformedException" "position" "I" "LampLeaseOffice") ∈ wdNw := List.mem_of_getElem? (i := 20) rfl
theorem nq1652 : (Jvm.Cond.fieldLinkNest "LampLeaseOffice" (268 : Nat) "LampLeaseOffice$CommandException" "index" "I" "LampLeaseOffice") ∈ wdNw := List.mem_of_getElem? (i := 21) rfl
theorem nq2204 : (Jvm.Cond.castable "LampLeaseOffice" "java/lang/Object") ∈ wdNw := List.mem_of_getElem? (i := 22) rfl
theorem nq516 : (Jvm.Cond.fieldLinkNest "LampLeaseOffice$State" (99 : Nat) "LampLeaseOffice$Lamp" "level" "I" "LampLeaseOffice") ∈ wdNw := List.mem_of_getElem? (i := 23) rfl
theorem nq519 : (Jvm.Cond.fieldLinkNest "LampLeaseOffice$State" (130 : Nat) "LampLeaseOffice$Lamp" "lessee" "I" "LampLeaseOffice") ∈ wdNw := List.mem_of_getElem? (i := 24) rfl
theorem nq522 : (Jvm.Cond.fieldLinkNest "LampLeaseOffice$State" (133 : Nat) "LampLeaseOffice$Lamp" "end" "I" "LampLeaseOffice") ∈ wdNw := List.mem_of_getElem? (i := 25) rfl
theorem nq527 : (Jvm.Cond.fieldLinkNest "LampLeaseOffice$State" (164 : Nat) "LampLeaseOffice$Lamp" "isBright" "Z" "LampLeaseOffice") ∈ wdNw := List.mem_of_getElem? (i := 26) rfl
theorem nq969 : (Jvm.Cond.methodLinkNest "LampLeaseOffice$State" (104 : Nat) ({ cls := "LampLeaseOffice", name := "requireState", desc := "(Z)V" } : Jvm.MethodName) "LampLeaseOffice") ∈ wdNw := List.mem_of_getElem? (i := 27) rfl
theorem nq987 : (Jvm.Cond.methodLinkNest "LampLeaseOffice$State" (107 : Nat) ({ cls := "LampLeaseOffice$Ship", name := "<init>", desc := "()V" } : Jvm.MethodName) "LampLeaseOffice") ∈ wdNw := List.mem_of_getElem? (i := 28) rfl
theorem nq1014 : (Jvm.Cond.methodLinkNest "LampLeaseOffice$State" (73 : Nat) ({ cls := "LampLeaseOffice", name := "isBetween", desc := "(III)Z" } : Jvm.MethodName) "LampLeaseOffice") ∈ wdNw := List.mem_of_getElem? (i := 29) rfl
theorem nq1017 : (Jvm.Cond.methodLinkNest "LampLeaseOffice$State" (108 : Nat) ({ cls := "LampLeaseOffice", name := "requireArgument", desc := "(Z)V" } : Jvm.MethodName) "LampLeaseOffice") ∈ wdNw := List.mem_of_getElem? (i := 30) rfl
theorem nq1057 : (Jvm.Cond.methodLinkNest "LampLeaseOffice$State" (77 : Nat) ({ cls := "LampLeaseOffice", name := "requireIndex", desc := "(Z)V" } : Jvm.MethodName) "LampLeaseOffice") ∈ wdNw := List.mem_of_getElem? (i := 31) rfl
theorem nq1139 : (Jvm.Cond.methodLinkNest "LampLeaseOffice$State" (92 : Nat) ({ cls := "LampLeaseOffice", name := "requireElement", desc := "(Z)V" } : Jvm.MethodName) "LampLeaseOffice") ∈ wdNw := List.mem_of_getElem? (i := 32) rfl
theorem nq1151 : (Jvm.Cond.fieldLinkNest "LampLeaseOffice$State" (102 : Nat) "LampLeaseOffice$Request" "lamp" "I" "LampLeaseOffice") ∈ wdNw := List.mem_of_getElem? (i := 33) rfl
theorem nq1154 : (Jvm.Cond.fieldLinkNest "LampLeaseOffice$State" (151 : Nat) "LampLeaseOffice$Request" "hours" "I" "LampLeaseOffice") ∈ wdNw := List.mem_of_getElem? (i := 34) rfl
theorem nq2205 : (Jvm.Cond.castable "LampLeaseOffice$State" "java/lang/Object") ∈ wdNw := List.mem_of_getElem? (i := 35) rfl
theorem nq2206 : (Jvm.Cond.castable "java/util/ArrayList" "java/lang/Object") ∈ wdNw := List.mem_of_getElem? (i := 36) rfl
theorem nq2207 : (Jvm.Cond.castable "java/lang/StringBuilder" "java/lang/Object") ∈ wdNw := List.mem_of_getElem? (i := 37) rfl
theorem nq2224 : (Jvm.Cond.castable "java/lang/String" "java/lang/Object") ∈ wdNw := List.mem_of_getElem? (i := 38) rfl
theorem nq2208 : (Jvm.Cond.castable "LampLeaseOfficeModel" "java/lang/Object") ∈ wdNw := List.mem_of_getElem? (i := 39) rfl
theorem nq134 : (Jvm.Cond.fieldLinkNest "java/util/ArrayList$Itr" (28 : Nat) "java/util/ArrayList" "size" "I" "java/util/ArrayList") ∈ wdNw := List.mem_of_getElem? (i := 40) rfl
theorem nq293 : (Jvm.Cond.castable "java/util/ArrayList$Itr" "java/util/Iterator") ∈ wdNw := List.mem_of_getElem? (i := 41) rfl
theorem nq2209 : (Jvm.Cond.castable "java/util/ArrayList$Itr" "java/lang/Object") ∈ wdNw := List.mem_of_getElem? (i := 42) rfl
theorem nq319 : (Jvm.Cond.declares ({ cls := "java/lang/Throwable", name := "<init>", desc := "()V" } : Jvm.MethodName)) ∈ wdNw := List.mem_of_getElem? (i := 43) rfl
theorem nq320 : (Jvm.Cond.declares ({ cls := "java/lang/Throwable", name := "<init>", desc := "(Ljava/lang/String;)V" } : Jvm.MethodName)) ∈ wdNw := List.mem_of_getElem? (i := 44) rfl
theorem nq1663 : (Jvm.Cond.declares ({ cls := "java/lang/Throwable", name := "getCause", desc := "()Ljava/lang/Throwable;" } : Jvm.MethodName)) ∈ wdNw := List.mem_of_getElem? (i := 45) rfl
theorem nq2227 : (Jvm.Cond.castable "java/lang/Throwable" "java/lang/Object") ∈ wdNw := List.mem_of_getElem? (i := 46) rfl
theorem nq317 : (Jvm.Cond.declares ({ cls := "java/lang/Exception", name := "<init>", desc := "()V" } : Jvm.MethodName)) ∈ wdNw := List.mem_of_getElem? (i := 47) rfl
theorem nq318 : (Jvm.Cond.declares ({ cls := "java/lang/Exception", name := "<init>", desc := "(Ljava/lang/String;)V" } : Jvm.MethodName)) ∈ wdNw := List.mem_of_getElem? (i := 48) rfl
theorem nq315 : (Jvm.Cond.declares ({ cls := "java/lang/RuntimeException", name := "<init>", desc := "()V" } : Jvm.MethodName)) ∈ wdNw := List.mem_of_getElem? (i := 49) rfl
theorem nq316 : (Jvm.Cond.declares ({ cls := "java/lang/RuntimeException", name := "<init>", desc := "(Ljava/lang/String;)V" } : Jvm.MethodName)) ∈ wdNw := List.mem_of_getElem? (i := 50) rfl
theorem nq314 : (Jvm.Cond.castable "java/util/NoSuchElementException" "java/util/NoSuchElementException") ∈ wdNw := List.mem_of_getElem? (i := 51) rfl
theorem nq2210 : (Jvm.Cond.castable "java/util/NoSuchElementException" "java/lang/Object") ∈ wdNw := List.mem_of_getElem? (i := 52) rfl
theorem nq2211 : (Jvm.Cond.castable "LampLeaseOffice$Ship" "java/lang/Object") ∈ wdNw := List.mem_of_getElem? (i := 53) rfl
theorem nq2212 : (Jvm.Cond.castable "LampLeaseOffice$Lamp" "java/lang/Object") ∈ wdNw := List.mem_of_getElem? (i := 54) rfl
theorem nq974 : (Jvm.Cond.castable "java/lang/IllegalStateException" "java/lang/IllegalStateException") ∈ wdNw := List.mem_of_getElem? (i := 55) rfl
theorem nq2213 : (Jvm.Cond.castable "java/lang/IllegalStateException" "java/lang/Object") ∈ wdNw := List.mem_of_getElem? (i := 56) rfl
theorem nq816 : (Jvm.Cond.castable "java/lang/IllegalArgumentException" "java/lang/IllegalArgumentException") ∈ wdNw := List.mem_of_getElem? (i := 57) rfl
theorem nq2214 : (Jvm.Cond.castable "java/lang/IllegalArgumentException" "java/lang/Object") ∈ wdNw := List.mem_of_getElem? (i := 58) rfl
theorem nq895 : (Jvm.Cond.declares ({ cls := "java/lang/IndexOutOfBoundsException", name := "<init>", desc := "()V" } : Jvm.MethodName)) ∈ wdNw := List.mem_of_getElem? (i := 59) rfl
theorem nq896 : (Jvm.Cond.declares ({ cls := "java/lang/IndexOutOfBoundsException", name := "<init>", desc := "(Ljava/lang/String;)V" } : Jvm.MethodName)) ∈ wdNw := List.mem_of_getElem? (i := 60) rfl
theorem nq1062 : (Jvm.Cond.castable "java/lang/IndexOutOfBoundsException" "java/lang/IndexOutOfBoundsException") ∈ wdNw := List.mem_of_getElem? (i := 61) rfl
theorem nq2216 : (Jvm.Cond.castable "java/lang/IndexOutOfBoundsException" "java/lang/Object") ∈ wdNw := List.mem_of_getElem? (i := 62) rfl
theorem nq894 : (Jvm.Cond.castable "java/lang/ArrayIndexOutOfBoundsException" "java/lang/ArrayIndexOutOfBoundsException") ∈ wdNw := List.mem_of_getElem? (i := 63) rfl
theorem nq2200 : (Jvm.Cond.castable "java/lang/ArrayIndexOutOfBoundsException" "java/lang/IndexOutOfBoundsException") ∈ wdNw := List.mem_of_getElem? (i := 64) rfl
theorem nq2215 : (Jvm.Cond.castable "java/lang/ArrayIndexOutOfBoundsException" "java/lang/Object") ∈ wdNw := List.mem_of_getElem? (i := 65) rfl
theorem nq1090 : (Jvm.Cond.castable "LampLeaseOffice$PoorException" "LampLeaseOffice$PoorException") ∈ wdNw := List.mem_of_getElem? (i := 66) rfl
theorem nq2217 : (Jvm.Cond.castable "LampLeaseOffice$PoorException" "java/lang/Object") ∈ wdNw := List.mem_of_getElem? (i := 67) rfl
theorem nq1110 : (Jvm.Cond.castable "java/lang/UnsupportedOperationException" "java/lang/UnsupportedOperationException") ∈ wdNw := List.mem_of_getElem? (i := 68) rfl
theorem nq2218 : (Jvm.Cond.castable "java/lang/UnsupportedOperationException" "java/lang/Object") ∈ wdNw := List.mem_of_getElem? (i := 69) rfl
theorem nq2219 : (Jvm.Cond.castable "LampLeaseOffice$Request" "java/lang/Object") ∈ wdNw := List.mem_of_getElem? (i := 70) rfl
theorem nq1409 : (Jvm.Cond.castable "java/lang/ArithmeticException" "java/lang/ArithmeticException") ∈ wdNw := List.mem_of_getElem? (i := 71) rfl
theorem nq2220 : (Jvm.Cond.castable "java/lang/ArithmeticException" "java/lang/Object") ∈ wdNw := List.mem_of_getElem? (i := 72) rfl
theorem nq216 : (Jvm.Cond.fieldLinkNest "LampLeaseOffice$Parser" (22 : Nat) "LampLeaseOffice" "input" "[C" "LampLeaseOffice") ∈ wdNw := List.mem_of_getElem? (i := 73) rfl
theorem nq217 : (Jvm.Cond.fieldLinkNest "LampLeaseOffice$Parser" (17 : Nat) "LampLeaseOffice" "inputLength" "I" "LampLeaseOffice") ∈ wdNw := List.mem_of_getElem? (i := 74) rfl
theorem nq1526 : (Jvm.Cond.methodLinkNest "LampLeaseOffice$Parser" (26 : Nat) ({ cls := "LampLeaseOffice", name := "isBetween", desc := "(III)Z" } : Jvm.MethodName) "LampLeaseOffice") ∈ wdNw := List.mem_of_getElem? (i := 75) rfl
theorem nq2221 : (Jvm.Cond.castable "LampLeaseOffice$Parser" "java/lang/Object") ∈ wdNw := List.mem_of_getElem? (i := 76) rfl
theorem nq1529 : (Jvm.Cond.castable "LampLeaseOffice$MalformedException" "LampLeaseOffice$MalformedException") ∈ wdNw := List.mem_of_getElem? (i := 77) rfl
theorem nq2203 : (Jvm.Cond.castable "LampLeaseOffice$MalformedException" "LampLeaseOffice$TextException") ∈ wdNw := List.mem_of_getElem? (i := 78) rfl
theorem nq2222 : (Jvm.Cond.castable "LampLeaseOffice$MalformedException" "java/lang/Object") ∈ wdNw := List.mem_of_getElem? (i := 79) rfl
theorem nq1640 : (Jvm.Cond.castable "LampLeaseOffice$CommandException" "LampLeaseOffice$CommandException") ∈ wdNw := List.mem_of_getElem? (i := 80) rfl
theorem nq2202 : (Jvm.Cond.castable "LampLeaseOffice$CommandException" "LampLeaseOffice$TextException") ∈ wdNw := List.mem_of_getElem? (i := 81) rfl
theorem nq2225 : (Jvm.Cond.castable "LampLeaseOffice$CommandException" "java/lang/Object") ∈ wdNw := List.mem_of_getElem? (i := 82) rfl
theorem nq2201 : (Jvm.Cond.castable "java/lang/StringIndexOutOfBoundsException" "java/lang/IndexOutOfBoundsException") ∈ wdNw := List.mem_of_getElem? (i := 83) rfl
theorem nq2226 : (Jvm.Cond.castable "java/lang/StringIndexOutOfBoundsException" "java/lang/Object") ∈ wdNw := List.mem_of_getElem? (i := 84) rfl
theorem nq2230 : (Jvm.Cond.declares ({ cls := "java/lang/Object", name := "getClass", desc := "()Ljava/lang/Class;" } : Jvm.MethodName)) ∈ wdNw := List.mem_of_getElem? (i := 85) rfl
theorem nq1581 : (Jvm.Cond.castable "java/lang/System$2" "jdk/internal/access/JavaLangAccess") ∈ wdNw := List.mem_of_getElem? (i := 86) rfl
theorem nq2223 : (Jvm.Cond.castable "java/lang/System$2" "java/lang/Object") ∈ wdNw := List.mem_of_getElem? (i := 87) rfl
theorem nq292 : (Jvm.Cond.declares ({ cls := "java/util/Iterator", name := "hasNext", desc := "()Z" } : Jvm.MethodName)) ∈ wdNw := List.mem_of_getElem? (i := 88) rfl
theorem nq302 : (Jvm.Cond.declares ({ cls := "java/util/Iterator", name := "next", desc := "()Ljava/lang/Object;" } : Jvm.MethodName)) ∈ wdNw := List.mem_of_getElem? (i := 89) rfl
theorem nq677 : (Jvm.Cond.castable "[B" "java/lang/Cloneable") ∈ wdNw := List.mem_of_getElem? (i := 90) rfl
theorem nq2232 : (Jvm.Cond.castable "[B" "java/lang/Object") ∈ wdNw := List.mem_of_getElem? (i := 91) rfl
theorem nq1580 : (Jvm.Cond.declares ({ cls := "jdk/internal/access/JavaLangAccess", name := "getUTF16Char", desc := "([BI)C" } : Jvm.MethodName)) ∈ wdNw := List.mem_of_getElem? (i := 92) rfl
theorem nq2233 : (Jvm.Cond.castable "[Ljava/lang/Object;" "java/lang/Object") ∈ wdNw := List.mem_of_getElem? (i := 93) rfl
theorem nq2231 : (Jvm.Cond.castable "[C" "java/lang/Object") ∈ wdNw := List.mem_of_getElem? (i := 94) rfl
theorem nq2234 : (Jvm.Cond.castable "[I" "java/lang/Object") ∈ wdNw := List.mem_of_getElem? (i := 95) rfl
theorem nq2235 : (Jvm.Cond.castable "[J" "java/lang/Object") ∈ wdNw := List.mem_of_getElem? (i := 96) rfl
theorem nq2236 : (Jvm.Cond.castable "[D" "java/lang/Object") ∈ wdNw := List.mem_of_getElem? (i := 97) rfl
/-- a field's link: class own names by idx the field k of the class number ci, of type ty -/
def wdFK (own : String) (idx ci k : Nat) (ty : FieldType) : Prop := ∃ (C : String) (T : u_T) (N : Nat) (ref : String), wdCl[ci]? = some (C, T, N) ∧ k < N ∧ ((Cond.fieldLink own idx ref (T k).2.1 (T k).2.2.1) ∈ lw_all ∨ ∃ host, (Cond.fieldLinkNest own idx ref (T k).2.1 (T k).2.2.1 host) ∈ wdNw) ∧ (ref = (T k).1 ∨ (Cond.sameField ref (T k).1 (T k).2.1 (T k).2.2.1) ∈ lw_all) ∧ parseFieldDescriptor (T k).2.2.1 = some ty
/-- .. that isn't final -/
def wdFP (own : String) (idx ci k : Nat) (ty : FieldType) : Prop := wdFK own idx ci k ty ∧ ∀ r, wdCl[ci]? = some r → (r.2.1 k).2.2.2 = false
/-- .. that is final, and own's -/
def wdFF (own : String) (idx ci k : Nat) (ty : FieldType) : Prop := wdFK own idx ci k ty ∧ (∀ r, wdCl[ci]? = some r → (r.2.1 k).2.2.2 = true ∧ (r.2.1 k).1 = own) ∧ ∀ r, wdCl[ci]? = some r → (Cond.fieldLink own idx (r.2.1 k).1 (r.2.1 k).2.1 (r.2.1 k).2.2.1) ∈ lw_all
theorem fX1_106 : wdFK RX1 106 1 0 (.object "java/util/ArrayList") := ⟨_, _, _, _, rfl, (by decide), Or.inr ⟨_, nq148⟩, Or.inl rfl, rfl⟩
theorem fX1_130 : wdFK RX1 130 1 1 (.object "java/util/ArrayList") := ⟨_, _, _, _, rfl, (by decide), Or.inr ⟨_, nq150⟩, Or.inl rfl, rfl⟩
theorem fX1_200 : wdFK RX1 200 1 2 (.object "java/util/ArrayList") := ⟨_, _, _, _, rfl, (by decide), Or.inr ⟨_, nq152⟩, Or.inl rfl, rfl⟩
theorem fX1_165 : wdFK RX1 165 1 3 (.int) := ⟨_, _, _, _, rfl, (by decide), Or.inr ⟨_, nq154⟩, Or.inl rfl, rfl⟩
theorem pfX1_165 : wdFP RX1 165 1 3 (.int) := ⟨fX1_165, fun r h => by cases h; rfl⟩
theorem fX1_103 : wdFK RX1 103 1 4 (.int) := ⟨_, _, _, _, rfl, (by decide), Or.inr ⟨_, nq156⟩, Or.inl rfl, rfl⟩
theorem pfX1_103 : wdFP RX1 103 1 4 (.int) := ⟨fX1_103, fun r h => by cases h; rfl⟩
theorem fX1_223 : wdFK RX1 223 1 5 (.int) := ⟨_, _, _, _, rfl, (by decide), Or.inr ⟨_, nq158⟩, Or.inl rfl, rfl⟩
theorem pfX1_223 : wdFP RX1 223 1 5 (.int) := ⟨fX1_223, fun r h => by cases h; rfl⟩
theorem fX1_220 : wdFK RX1 220 1 6 (.int) := ⟨_, _, _, _, rfl, (by decide), Or.inr ⟨_, nq160⟩, Or.inl rfl, rfl⟩
theorem pfX1_220 : wdFP RX1 220 1 6 (.int) := ⟨fX1_220, fun r h => by cases h; rfl⟩
theorem fX1_10 : wdFK RX1 10 0 0 (.object "LampLeaseOffice$State") := ⟨_, _, _, _, rfl, (by decide), Or.inl q212, Or.inl rfl, rfl⟩
theorem pfX1_10 : wdFP RX1 10 0 0 (.object "LampLeaseOffice$State") := ⟨fX1_10, fun r h => by cases h; rfl⟩
theorem fX1_19 : wdFK RX1 19 0 1 (.object "java/util/ArrayList") := ⟨_, _, _, _, rfl, (by decide), Or.inl q213, Or.inl rfl, rfl⟩
theorem pfX1_19 : wdFF RX1 19 0 1 (.object "java/util/ArrayList") := ⟨fX1_19, fun r h => by cases h; exact ⟨rfl, rfl⟩, fun r h => by cases h; exact q213⟩
theorem fX1_328 : wdFK RX1 328 0 2 (.object "LampLeaseOffice$State") := ⟨_, _, _, _, rfl, (by decide), Or.inl q214, Or.inl rfl, rfl⟩
theorem pfX1_328 : wdFP RX1 328 0 2 (.object "LampLeaseOffice$State") := ⟨fX1_328, fun r h => by cases h; rfl⟩
theorem fX1_23 : wdFK RX1 23 0 3 (.array .char) := ⟨_, _, _, _, rfl, (by decide), Or.inl q215, Or.inl rfl, rfl⟩
theorem pfX1_23 : wdFF RX1 23 0 3 (.array .char) := ⟨fX1_23, fun r h => by cases h; exact ⟨rfl, rfl⟩, fun r h => by cases h; exact q215⟩
theorem fX1_251 : wdFK RX1 251 0 4 (.int) := ⟨_, _, _, _, rfl, (by decide), Or.inl q218, Or.inl rfl, rfl⟩
theorem pfX1_251 : wdFP RX1 251 0 4 (.int) := ⟨fX1_251, fun r h => by cases h; rfl⟩
theorem fX1_27 : wdFK RX1 27 0 5 (.int) := ⟨_, _, _, _, rfl, (by decide), Or.inl q219, Or.inl rfl, rfl⟩
theorem pfX1_27 : wdFP RX1 27 0 5 (.int) := ⟨fX1_27, fun r h => by cases h; rfl⟩
theorem fX1_31 : wdFK RX1 31 0 6 (.int) := ⟨_, _, _, _, rfl, (by decide), Or.inl q220, Or.inl rfl, rfl⟩
theorem pfX1_31 : wdFP RX1 31 0 6 (.int) := ⟨fX1_31, fun r h => by cases h; rfl⟩
theorem fX1_275 : wdFK RX1 275 0 7 (.char) := ⟨_, _, _, _, rfl, (by decide), Or.inl q221, Or.inl rfl, rfl⟩
theorem pfX1_275 : wdFP RX1 275 0 7 (.char) := ⟨fX1_275, fun r h => by cases h; rfl⟩
theorem fX1_37 : wdFK RX1 37 0 8 (.object "java/lang/StringBuilder") := ⟨_, _, _, _, rfl, (by decide), Or.inl q222, Or.inl rfl, rfl⟩
theorem pfX1_37 : wdFF RX1 37 0 8 (.object "java/lang/StringBuilder") := ⟨fX1_37, fun r h => by cases h; exact ⟨rfl, rfl⟩, fun r h => by cases h; exact q222⟩
theorem fX1_113 : wdFK RX1 113 3 0 (.int) := ⟨_, _, _, _, rfl, (by decide), Or.inr ⟨_, nq423⟩, Or.inl rfl, rfl⟩
theorem pfX1_113 : wdFP RX1 113 3 0 (.int) := ⟨fX1_113, fun r h => by cases h; rfl⟩
theorem fX1_118 : wdFK RX1 118 3 1 (.int) := ⟨_, _, _, _, rfl, (by decide), Or.inr ⟨_, nq425⟩, Or.inl rfl, rfl⟩
theorem pfX1_118 : wdFP RX1 118 3 1 (.int) := ⟨fX1_118, fun r h => by cases h; rfl⟩
theorem fX1_121 : wdFK RX1 121 3 2 (.int) := ⟨_, _, _, _, rfl, (by decide), Or.inr ⟨_, nq427⟩, Or.inl rfl, rfl⟩
theorem pfX1_121 : wdFP RX1 121 3 2 (.int) := ⟨fX1_121, fun r h => by cases h; rfl⟩
theorem fX1_137 : wdFK RX1 137 4 0 (.int) := ⟨_, _, _, _, rfl, (by decide), Or.inr ⟨_, nq517⟩, Or.inl rfl, rfl⟩
theorem fX1_149 : wdFK RX1 149 4 1 (.int) := ⟨_, _, _, _, rfl, (by decide), Or.inr ⟨_, nq520⟩, Or.inl rfl, rfl⟩
theorem pfX1_149 : wdFP RX1 149 4 1 (.int) := ⟨fX1_149, fun r h => by cases h; rfl⟩
theorem fX1_152 : wdFK RX1 152 4 2 (.int) := ⟨_, _, _, _, rfl, (by decide), Or.inr ⟨_, nq523⟩, Or.inl rfl, rfl⟩
theorem pfX1_152 : wdFP RX1 152 4 2 (.int) := ⟨fX1_152, fun r h => by cases h; rfl⟩
theorem fX1_155 : wdFK RX1 155 4 3 (.int) := ⟨_, _, _, _, rfl, (by decide), Or.inr ⟨_, nq525⟩, Or.inl rfl, rfl⟩
theorem pfX1_155 : wdFP RX1 155 4 3 (.int) := ⟨fX1_155, fun r h => by cases h; rfl⟩
theorem fX1_158 : wdFK RX1 158 4 4 (.boolean) := ⟨_, _, _, _, rfl, (by decide), Or.inr ⟨_, nq528⟩, Or.inl rfl, rfl⟩
theorem pfX1_158 : wdFP RX1 158 4 4 (.boolean) := ⟨fX1_158, fun r h => by cases h; rfl⟩
theorem fX1_215 : wdFK RX1 215 6 0 (.int) := ⟨_, _, _, _, rfl, (by decide), Or.inr ⟨_, nq1152⟩, Or.inl rfl, rfl⟩
theorem fX1_217 : wdFK RX1 217 6 1 (.int) := ⟨_, _, _, _, rfl, (by decide), Or.inr ⟨_, nq1155⟩, Or.inl rfl, rfl⟩
theorem fX1_281 : wdFK RX1 281 8 6 (.int) := ⟨_, _, _, _, rfl, (by decide), Or.inr ⟨_, nq1549⟩, Or.inl rfl, rfl⟩
theorem fX1_268 : wdFK RX1 268 9 6 (.int) := ⟨_, _, _, _, rfl, (by decide), Or.inr ⟨_, nq1652⟩, Or.inl rfl, rfl⟩
theorem fX2_12 : wdFK RX2 12 1 0 (.object "java/util/ArrayList") := ⟨_, _, _, _, rfl, (by decide), Or.inl q147, Or.inl rfl, rfl⟩
theorem pfX2_12 : wdFF RX2 12 1 0 (.object "java/util/ArrayList") := ⟨fX2_12, fun r h => by cases h; exact ⟨rfl, rfl⟩, fun r h => by cases h; exact q147⟩
theorem fX2_18 : wdFK RX2 18 1 1 (.object "java/util/ArrayList") := ⟨_, _, _, _, rfl, (by decide), Or.inl q149, Or.inl rfl, rfl⟩
theorem pfX2_18 : wdFF RX2 18 1 1 (.object "java/util/ArrayList") := ⟨fX2_18, fun r h => by cases h; exact ⟨rfl, rfl⟩, fun r h => by cases h; exact q149⟩
theorem fX2_21 : wdFK RX2 21 1 2 (.object "java/util/ArrayList") := ⟨_, _, _, _, rfl, (by decide), Or.inl q151, Or.inl rfl, rfl⟩
theorem pfX2_21 : wdFF RX2 21 1 2 (.object "java/util/ArrayList") := ⟨fX2_21, fun r h => by cases h; exact ⟨rfl, rfl⟩, fun r h => by cases h; exact q151⟩
theorem fX2_56 : wdFK RX2 56 1 3 (.int) := ⟨_, _, _, _, rfl, (by decide), Or.inl q153, Or.inl rfl, rfl⟩
theorem pfX2_56 : wdFP RX2 56 1 3 (.int) := ⟨fX2_56, fun r h => by cases h; rfl⟩
theorem fX2_60 : wdFK RX2 60 1 4 (.int) := ⟨_, _, _, _, rfl, (by decide), Or.inl q155, Or.inl rfl, rfl⟩
theorem pfX2_60 : wdFP RX2 60 1 4 (.int) := ⟨fX2_60, fun r h => by cases h; rfl⟩
theorem fX2_63 : wdFK RX2 63 1 5 (.int) := ⟨_, _, _, _, rfl, (by decide), Or.inl q157, Or.inl rfl, rfl⟩
theorem pfX2_63 : wdFP RX2 63 1 5 (.int) := ⟨fX2_63, fun r h => by cases h; rfl⟩
theorem fX2_66 : wdFK RX2 66 1 6 (.int) := ⟨_, _, _, _, rfl, (by decide), Or.inl q159, Or.inl rfl, rfl⟩
theorem pfX2_66 : wdFP RX2 66 1 6 (.int) := ⟨fX2_66, fun r h => by cases h; rfl⟩
theorem fX2_99 : wdFK RX2 99 4 0 (.int) := ⟨_, _, _, _, rfl, (by decide), Or.inr ⟨_, nq516⟩, Or.inl rfl, rfl⟩
theorem fX2_130 : wdFK RX2 130 4 1 (.int) := ⟨_, _, _, _, rfl, (by decide), Or.inr ⟨_, nq519⟩, Or.inl rfl, rfl⟩
theorem pfX2_130 : wdFP RX2 130 4 1 (.int) := ⟨fX2_130, fun r h => by cases h; rfl⟩
theorem fX2_133 : wdFK RX2 133 4 2 (.int) := ⟨_, _, _, _, rfl, (by decide), Or.inr ⟨_, nq522⟩, Or.inl rfl, rfl⟩
theorem pfX2_133 : wdFP RX2 133 4 2 (.int) := ⟨fX2_133, fun r h => by cases h; rfl⟩
theorem fX2_164 : wdFK RX2 164 4 4 (.boolean) := ⟨_, _, _, _, rfl, (by decide), Or.inr ⟨_, nq527⟩, Or.inl rfl, rfl⟩
theorem pfX2_164 : wdFP RX2 164 4 4 (.boolean) := ⟨fX2_164, fun r h => by cases h; rfl⟩
theorem fX2_102 : wdFK RX2 102 6 0 (.int) := ⟨_, _, _, _, rfl, (by decide), Or.inr ⟨_, nq1151⟩, Or.inl rfl, rfl⟩
theorem fX2_151 : wdFK RX2 151 6 1 (.int) := ⟨_, _, _, _, rfl, (by decide), Or.inr ⟨_, nq1154⟩, Or.inl rfl, rfl⟩
theorem fJ1_7_J2 : wdFK RJ1 7 10 0 (.int) := ⟨_, _, _, _, rfl, (by decide), Or.inl q136, Or.inl rfl, rfl⟩
theorem pfJ1_7_J2 : wdFP RJ1 7 10 0 (.int) := ⟨fJ1_7_J2, fun r h => by cases h; rfl⟩
theorem fJ2_9 : wdFK RJ2 9 10 1 (.array (.object "java/lang/Object")) := ⟨_, _, _, _, rfl, (by decide), Or.inl q132, Or.inl rfl, rfl⟩
theorem pfJ2_9 : wdFP RJ2 9 10 1 (.array (.object "java/lang/Object")) := ⟨fJ2_9, fun r h => by cases h; rfl⟩
theorem fJ2_48 : wdFK RJ2 48 10 2 (.int) := ⟨_, _, _, _, rfl, (by decide), Or.inl q135, Or.inl rfl, rfl⟩
theorem pfJ2_48 : wdFP RJ2 48 10 2 (.int) := ⟨fJ2_48, fun r h => by cases h; rfl⟩
theorem fJ2_63 : wdFK RJ2 63 10 0 (.int) := ⟨_, _, _, _, rfl, (by decide), Or.inl q139, Or.inr q138, rfl⟩
theorem pfJ2_63 : wdFP RJ2 63 10 0 (.int) := ⟨fJ2_63, fun r h => by cases h; rfl⟩
theorem fJ3_15_J4 : wdFK RJ3 15 12 0 (.array .byte) := ⟨_, _, _, _, rfl, (by decide), Or.inl q196, Or.inl rfl, rfl⟩
theorem pfJ3_15_J4 : wdFP RJ3 15 12 0 (.array .byte) := ⟨fJ3_15_J4, fun r h => by cases h; rfl⟩
theorem fJ3_22_J4 : wdFK RJ3 22 12 1 (.byte) := ⟨_, _, _, _, rfl, (by decide), Or.inl q197, Or.inl rfl, rfl⟩
theorem pfJ3_22_J4 : wdFP RJ3 22 12 1 (.byte) := ⟨fJ3_22_J4, fun r h => by cases h; rfl⟩
theorem fJ3_73_J4 : wdFK RJ3 73 12 2 (.boolean) := ⟨_, _, _, _, rfl, (by decide), Or.inl q198, Or.inl rfl, rfl⟩
theorem pfJ3_73_J4 : wdFP RJ3 73 12 2 (.boolean) := ⟨fJ3_73_J4, fun r h => by cases h; rfl⟩
theorem fJ3_79_J4 : wdFK RJ3 79 12 3 (.int) := ⟨_, _, _, _, rfl, (by decide), Or.inl q200, Or.inl rfl, rfl⟩
theorem pfJ3_79_J4 : wdFP RJ3 79 12 3 (.int) := ⟨fJ3_79_J4, fun r h => by cases h; rfl⟩
theorem fJ5_1048_J4 : wdFK RJ5 1048 12 2 (.boolean) := ⟨_, _, _, _, rfl, (by decide), Or.inl q199, Or.inl rfl, rfl⟩
theorem pfJ5_1048_J4 : wdFP RJ5 1048 12 2 (.boolean) := ⟨fJ5_1048_J4, fun r h => by cases h; rfl⟩
theorem fX3_9 : wdFK RX3 9 2 0 (.array .int) := ⟨_, _, _, _, rfl, (by decide), Or.inl q1738, Or.inl rfl, rfl⟩
theorem pfX3_9 : wdFF RX3 9 2 0 (.array .int) := ⟨fX3_9, fun r h => by cases h; exact ⟨rfl, rfl⟩, fun r h => by cases h; exact q1738⟩
theorem fX3_13 : wdFK RX3 13 2 1 (.array .int) := ⟨_, _, _, _, rfl, (by decide), Or.inl q1739, Or.inl rfl, rfl⟩
theorem pfX3_13 : wdFF RX3 13 2 1 (.array .int) := ⟨fX3_13, fun r h => by cases h; exact ⟨rfl, rfl⟩, fun r h => by cases h; exact q1739⟩
theorem fX3_16 : wdFK RX3 16 2 2 (.array .int) := ⟨_, _, _, _, rfl, (by decide), Or.inl q1740, Or.inl rfl, rfl⟩
theorem pfX3_16 : wdFF RX3 16 2 2 (.array .int) := ⟨fX3_16, fun r h => by cases h; exact ⟨rfl, rfl⟩, fun r h => by cases h; exact q1740⟩
theorem fX3_19 : wdFK RX3 19 2 3 (.array .int) := ⟨_, _, _, _, rfl, (by decide), Or.inl q1741, Or.inl rfl, rfl⟩
theorem pfX3_19 : wdFF RX3 19 2 3 (.array .int) := ⟨fX3_19, fun r h => by cases h; exact ⟨rfl, rfl⟩, fun r h => by cases h; exact q1741⟩
theorem fX3_254 : wdFK RX3 254 2 4 (.boolean) := ⟨_, _, _, _, rfl, (by decide), Or.inl q1742, Or.inl rfl, rfl⟩
theorem pfX3_254 : wdFP RX3 254 2 4 (.boolean) := ⟨fX3_254, fun r h => by cases h; rfl⟩
theorem fX3_22 : wdFK RX3 22 2 5 (.array .int) := ⟨_, _, _, _, rfl, (by decide), Or.inl q1743, Or.inl rfl, rfl⟩
theorem pfX3_22 : wdFF RX3 22 2 5 (.array .int) := ⟨fX3_22, fun r h => by cases h; exact ⟨rfl, rfl⟩, fun r h => by cases h; exact q1743⟩
theorem fX3_51 : wdFK RX3 51 2 6 (.int) := ⟨_, _, _, _, rfl, (by decide), Or.inl q1744, Or.inl rfl, rfl⟩
theorem pfX3_51 : wdFP RX3 51 2 6 (.int) := ⟨fX3_51, fun r h => by cases h; rfl⟩
theorem fX3_42 : wdFK RX3 42 2 7 (.int) := ⟨_, _, _, _, rfl, (by decide), Or.inl q1745, Or.inl rfl, rfl⟩
theorem pfX3_42 : wdFP RX3 42 2 7 (.int) := ⟨fX3_42, fun r h => by cases h; rfl⟩
theorem fX3_25 : wdFK RX3 25 2 8 (.array .char) := ⟨_, _, _, _, rfl, (by decide), Or.inl q1746, Or.inl rfl, rfl⟩
theorem pfX3_25 : wdFF RX3 25 2 8 (.array .char) := ⟨fX3_25, fun r h => by cases h; exact ⟨rfl, rfl⟩, fun r h => by cases h; exact q1746⟩
theorem fX3_172 : wdFK RX3 172 2 9 (.int) := ⟨_, _, _, _, rfl, (by decide), Or.inl q1747, Or.inl rfl, rfl⟩
theorem pfX3_172 : wdFP RX3 172 2 9 (.int) := ⟨fX3_172, fun r h => by cases h; rfl⟩
theorem fX3_29 : wdFK RX3 29 2 10 (.array .char) := ⟨_, _, _, _, rfl, (by decide), Or.inl q1748, Or.inl rfl, rfl⟩
theorem pfX3_29 : wdFF RX3 29 2 10 (.array .char) := ⟨fX3_29, fun r h => by cases h; exact ⟨rfl, rfl⟩, fun r h => by cases h; exact q1748⟩
theorem fX3_182 : wdFK RX3 182 2 11 (.int) := ⟨_, _, _, _, rfl, (by decide), Or.inl q1749, Or.inl rfl, rfl⟩
theorem pfX3_182 : wdFP RX3 182 2 11 (.int) := ⟨fX3_182, fun r h => by cases h; rfl⟩
theorem fX3_185 : wdFK RX3 185 2 12 (.int) := ⟨_, _, _, _, rfl, (by decide), Or.inl q1750, Or.inl rfl, rfl⟩
theorem pfX3_185 : wdFP RX3 185 2 12 (.int) := ⟨fX3_185, fun r h => by cases h; rfl⟩
theorem fX3_192 : wdFK RX3 192 2 13 (.boolean) := ⟨_, _, _, _, rfl, (by decide), Or.inl q1751, Or.inl rfl, rfl⟩
theorem pfX3_192 : wdFP RX3 192 2 13 (.boolean) := ⟨fX3_192, fun r h => by cases h; rfl⟩
theorem fX3_32 : wdFK RX3 32 2 14 (.int) := ⟨_, _, _, _, rfl, (by decide), Or.inl q1752, Or.inl rfl, rfl⟩
theorem pfX3_32 : wdFP RX3 32 2 14 (.int) := ⟨fX3_32, fun r h => by cases h; rfl⟩
theorem fX3_36 : wdFK RX3 36 2 15 (.int) := ⟨_, _, _, _, rfl, (by decide), Or.inl q1753, Or.inl rfl, rfl⟩
theorem pfX3_36 : wdFP RX3 36 2 15 (.int) := ⟨fX3_36, fun r h => by cases h; rfl⟩
theorem fX3_250 : wdFK RX3 250 2 16 (.char) := ⟨_, _, _, _, rfl, (by decide), Or.inl q1754, Or.inl rfl, rfl⟩
theorem pfX3_250 : wdFP RX3 250 2 16 (.char) := ⟨fX3_250, fun r h => by cases h; rfl⟩
theorem fX3_39 : wdFK RX3 39 2 17 (.array .int) := ⟨_, _, _, _, rfl, (by decide), Or.inl q1755, Or.inl rfl, rfl⟩
theorem pfX3_39 : wdFF RX3 39 2 17 (.array .int) := ⟨fX3_39, fun r h => by cases h; exact ⟨rfl, rfl⟩, fun r h => by cases h; exact q1755⟩
theorem fX3_213 : wdFK RX3 213 2 18 (.int) := ⟨_, _, _, _, rfl, (by decide), Or.inl q1756, Or.inl rfl, rfl⟩
theorem pfX3_213 : wdFP RX3 213 2 18 (.int) := ⟨fX3_213, fun r h => by cases h; rfl⟩
theorem fJ7_37 : wdFK RJ7 37 10 1 (.array (.object "java/lang/Object")) := ⟨_, _, _, _, rfl, (by decide), Or.inl q133, Or.inl rfl, rfl⟩
theorem pfJ7_37 : wdFP RJ7 37 10 1 (.array (.object "java/lang/Object")) := ⟨fJ7_37, fun r h => by cases h; rfl⟩
theorem fJ7_28 : wdFK RJ7 28 10 2 (.int) := ⟨_, _, _, _, rfl, (by decide), Or.inr ⟨_, nq134⟩, Or.inl rfl, rfl⟩
theorem pfJ7_28 : wdFP RJ7 28 10 2 (.int) := ⟨fJ7_28, fun r h => by cases h; rfl⟩
theorem fJ7_17 : wdFK RJ7 17 10 0 (.int) := ⟨_, _, _, _, rfl, (by decide), Or.inl q137, Or.inr q138, rfl⟩
theorem pfJ7_17 : wdFP RJ7 17 10 0 (.int) := ⟨fJ7_17, fun r h => by cases h; rfl⟩
theorem fJ7_25 : wdFK RJ7 25 11 0 (.int) := ⟨_, _, _, _, rfl, (by decide), Or.inl q276, Or.inl rfl, rfl⟩
theorem pfJ7_25 : wdFP RJ7 25 11 0 (.int) := ⟨fJ7_25, fun r h => by cases h; rfl⟩
theorem fJ7_13 : wdFK RJ7 13 11 1 (.int) := ⟨_, _, _, _, rfl, (by decide), Or.inl q277, Or.inl rfl, rfl⟩
theorem pfJ7_13 : wdFP RJ7 13 11 1 (.int) := ⟨fJ7_13, fun r h => by cases h; rfl⟩
theorem fJ7_22 : wdFK RJ7 22 11 2 (.int) := ⟨_, _, _, _, rfl, (by decide), Or.inl q278, Or.inl rfl, rfl⟩
theorem pfJ7_22 : wdFP RJ7 22 11 2 (.int) := ⟨fJ7_22, fun r h => by cases h; rfl⟩
theorem fJ7_1 : wdFK RJ7 1 11 3 (.object "java/util/ArrayList") := ⟨_, _, _, _, rfl, (by decide), Or.inl q279, Or.inl rfl, rfl⟩
theorem pfJ7_1 : wdFF RJ7 1 11 3 (.object "java/util/ArrayList") := ⟨fJ7_1, fun r h => by cases h; exact ⟨rfl, rfl⟩, fun r h => by cases h; exact q279⟩
theorem fJ8_198_X6 : wdFK RJ8 198 5 4 (.object "java/lang/Object") := ⟨_, _, _, _, rfl, (by decide), Or.inl q333, Or.inl rfl, rfl⟩
theorem pfJ8_198_X6 : wdFP RJ8 198 5 4 (.object "java/lang/Object") := ⟨fJ8_198_X6, fun r h => by cases h; rfl⟩
theorem fJ8_198_X10 : wdFK RJ8 198 8 4 (.object "java/lang/Object") := ⟨_, _, _, _, rfl, (by decide), Or.inl q333, Or.inl rfl, rfl⟩
theorem pfJ8_198_X10 : wdFP RJ8 198 8 4 (.object "java/lang/Object") := ⟨fJ8_198_X10, fun r h => by cases h; rfl⟩
theorem fJ8_198_X11 : wdFK RJ8 198 9 4 (.object "java/lang/Object") := ⟨_, _, _, _, rfl, (by decide), Or.inl q333, Or.inl rfl, rfl⟩
theorem pfJ8_198_X11 : wdFP RJ8 198 9 4 (.object "java/lang/Object") := ⟨fJ8_198_X11, fun r h => by cases h; rfl⟩
theorem fJ8_31_X6 : wdFK RJ8 31 5 3 (.object "java/lang/String") := ⟨_, _, _, _, rfl, (by decide), Or.inl q372, Or.inl rfl, rfl⟩
theorem pfJ8_31_X6 : wdFP RJ8 31 5 3 (.object "java/lang/String") := ⟨fJ8_31_X6, fun r h => by cases h; rfl⟩
theorem fJ8_31_X10 : wdFK RJ8 31 8 3 (.object "java/lang/String") := ⟨_, _, _, _, rfl, (by decide), Or.inl q372, Or.inl rfl, rfl⟩
theorem pfJ8_31_X10 : wdFP RJ8 31 8 3 (.object "java/lang/String") := ⟨fJ8_31_X10, fun r h => by cases h; rfl⟩
theorem fJ8_31_X11 : wdFK RJ8 31 9 3 (.object "java/lang/String") := ⟨_, _, _, _, rfl, (by decide), Or.inl q372, Or.inl rfl, rfl⟩
theorem pfJ8_31_X11 : wdFP RJ8 31 9 3 (.object "java/lang/String") := ⟨fJ8_31_X11, fun r h => by cases h; rfl⟩
theorem fJ8_7_X6 : wdFK RJ8 7 5 0 (.object "java/lang/Throwable") := ⟨_, _, _, _, rfl, (by decide), Or.inl q373, Or.inl rfl, rfl⟩
theorem pfJ8_7_X6 : wdFP RJ8 7 5 0 (.object "java/lang/Throwable") := ⟨fJ8_7_X6, fun r h => by cases h; rfl⟩
theorem fJ8_7_X10 : wdFK RJ8 7 8 0 (.object "java/lang/Throwable") := ⟨_, _, _, _, rfl, (by decide), Or.inl q373, Or.inl rfl, rfl⟩
theorem pfJ8_7_X10 : wdFP RJ8 7 8 0 (.object "java/lang/Throwable") := ⟨fJ8_7_X10, fun r h => by cases h; rfl⟩
theorem fJ8_7_X11 : wdFK RJ8 7 9 0 (.object "java/lang/Throwable") := ⟨_, _, _, _, rfl, (by decide), Or.inl q373, Or.inl rfl, rfl⟩
theorem pfJ8_7_X11 : wdFP RJ8 7 9 0 (.object "java/lang/Throwable") := ⟨fJ8_7_X11, fun r h => by cases h; rfl⟩
theorem fJ8_17_X6 : wdFK RJ8 17 5 1 (.array (.object "java/lang/StackTraceElement")) := ⟨_, _, _, _, rfl, (by decide), Or.inl q374, Or.inl rfl, rfl⟩
theorem pfJ8_17_X6 : wdFP RJ8 17 5 1 (.array (.object "java/lang/StackTraceElement")) := ⟨fJ8_17_X6, fun r h => by cases h; rfl⟩
theorem fJ8_17_X10 : wdFK RJ8 17 8 1 (.array (.object "java/lang/StackTraceElement")) := ⟨_, _, _, _, rfl, (by decide), Or.inl q374, Or.inl rfl, rfl⟩
theorem pfJ8_17_X10 : wdFP RJ8 17 8 1 (.array (.object "java/lang/StackTraceElement")) := ⟨fJ8_17_X10, fun r h => by cases h; rfl⟩
theorem fJ8_17_X11 : wdFK RJ8 17 9 1 (.array (.object "java/lang/StackTraceElement")) := ⟨_, _, _, _, rfl, (by decide), Or.inl q374, Or.inl rfl, rfl⟩
theorem pfJ8_17_X11 : wdFP RJ8 17 9 1 (.array (.object "java/lang/StackTraceElement")) := ⟨fJ8_17_X11, fun r h => by cases h; rfl⟩
theorem fJ8_24_X6 : wdFK RJ8 24 5 2 (.object "java/util/List") := ⟨_, _, _, _, rfl, (by decide), Or.inl q375, Or.inl rfl, rfl⟩
theorem pfJ8_24_X6 : wdFP RJ8 24 5 2 (.object "java/util/List") := ⟨fJ8_24_X6, fun r h => by cases h; rfl⟩
theorem fJ8_24_X10 : wdFK RJ8 24 8 2 (.object "java/util/List") := ⟨_, _, _, _, rfl, (by decide), Or.inl q375, Or.inl rfl, rfl⟩
theorem pfJ8_24_X10 : wdFP RJ8 24 8 2 (.object "java/util/List") := ⟨fJ8_24_X10, fun r h => by cases h; rfl⟩
theorem fJ8_24_X11 : wdFK RJ8 24 9 2 (.object "java/util/List") := ⟨_, _, _, _, rfl, (by decide), Or.inl q375, Or.inl rfl, rfl⟩
theorem pfJ8_24_X11 : wdFP RJ8 24 9 2 (.object "java/util/List") := ⟨fJ8_24_X11, fun r h => by cases h; rfl⟩
theorem fX4_9 : wdFK RX4 9 3 0 (.int) := ⟨_, _, _, _, rfl, (by decide), Or.inl q422, Or.inl rfl, rfl⟩
theorem pfX4_9 : wdFP RX4 9 3 0 (.int) := ⟨fX4_9, fun r h => by cases h; rfl⟩
theorem fX4_16 : wdFK RX4 16 3 1 (.int) := ⟨_, _, _, _, rfl, (by decide), Or.inl q424, Or.inl rfl, rfl⟩
theorem pfX4_16 : wdFP RX4 16 3 1 (.int) := ⟨fX4_16, fun r h => by cases h; rfl⟩
theorem fX4_19 : wdFK RX4 19 3 2 (.int) := ⟨_, _, _, _, rfl, (by decide), Or.inl q426, Or.inl rfl, rfl⟩
theorem pfX4_19 : wdFP RX4 19 3 2 (.int) := ⟨fX4_19, fun r h => by cases h; rfl⟩
theorem fX5_15 : wdFK RX5 15 4 0 (.int) := ⟨_, _, _, _, rfl, (by decide), Or.inl q515, Or.inl rfl, rfl⟩
theorem pfX5_15 : wdFF RX5 15 4 0 (.int) := ⟨fX5_15, fun r h => by cases h; exact ⟨rfl, rfl⟩, fun r h => by cases h; exact q515⟩
theorem fX5_9 : wdFK RX5 9 4 1 (.int) := ⟨_, _, _, _, rfl, (by decide), Or.inl q518, Or.inl rfl, rfl⟩
theorem pfX5_9 : wdFP RX5 9 4 1 (.int) := ⟨fX5_9, fun r h => by cases h; rfl⟩
theorem fX5_21 : wdFK RX5 21 4 2 (.int) := ⟨_, _, _, _, rfl, (by decide), Or.inl q521, Or.inl rfl, rfl⟩
theorem pfX5_21 : wdFP RX5 21 4 2 (.int) := ⟨fX5_21, fun r h => by cases h; rfl⟩
theorem fX5_24 : wdFK RX5 24 4 3 (.int) := ⟨_, _, _, _, rfl, (by decide), Or.inl q524, Or.inl rfl, rfl⟩
theorem pfX5_24 : wdFP RX5 24 4 3 (.int) := ⟨fX5_24, fun r h => by cases h; rfl⟩
theorem fX5_27 : wdFK RX5 27 4 4 (.boolean) := ⟨_, _, _, _, rfl, (by decide), Or.inl q526, Or.inl rfl, rfl⟩
theorem pfX5_27 : wdFP RX5 27 4 4 (.boolean) := ⟨fX5_27, fun r h => by cases h; rfl⟩
theorem fX7_7 : wdFK RX7 7 6 0 (.int) := ⟨_, _, _, _, rfl, (by decide), Or.inl q1150, Or.inl rfl, rfl⟩
theorem pfX7_7 : wdFF RX7 7 6 0 (.int) := ⟨fX7_7, fun r h => by cases h; exact ⟨rfl, rfl⟩, fun r h => by cases h; exact q1150⟩
theorem fX7_13 : wdFK RX7 13 6 1 (.int) := ⟨_, _, _, _, rfl, (by decide), Or.inl q1153, Or.inl rfl, rfl⟩
theorem pfX7_13 : wdFF RX7 13 6 1 (.int) := ⟨fX7_13, fun r h => by cases h; exact ⟨rfl, rfl⟩, fun r h => by cases h; exact q1153⟩
theorem fX8_22 : wdFK RX8 22 0 3 (.array .char) := ⟨_, _, _, _, rfl, (by decide), Or.inr ⟨_, nq216⟩, Or.inl rfl, rfl⟩
theorem fX8_17 : wdFK RX8 17 0 4 (.int) := ⟨_, _, _, _, rfl, (by decide), Or.inr ⟨_, nq217⟩, Or.inl rfl, rfl⟩
theorem pfX8_17 : wdFP RX8 17 0 4 (.int) := ⟨fX8_17, fun r h => by cases h; rfl⟩
theorem fX8_13 : wdFK RX8 13 7 0 (.int) := ⟨_, _, _, _, rfl, (by decide), Or.inl q1458, Or.inl rfl, rfl⟩
theorem pfX8_13 : wdFP RX8 13 7 0 (.int) := ⟨fX8_13, fun r h => by cases h; rfl⟩
theorem fX8_75 : wdFK RX8 75 7 1 (.int) := ⟨_, _, _, _, rfl, (by decide), Or.inl q1459, Or.inl rfl, rfl⟩
theorem pfX8_75 : wdFP RX8 75 7 1 (.int) := ⟨fX8_75, fun r h => by cases h; rfl⟩
theorem fX8_78 : wdFK RX8 78 7 2 (.int) := ⟨_, _, _, _, rfl, (by decide), Or.inl q1460, Or.inl rfl, rfl⟩
theorem pfX8_78 : wdFP RX8 78 7 2 (.int) := ⟨fX8_78, fun r h => by cases h; rfl⟩
theorem fX8_81 : wdFK RX8 81 7 3 (.int) := ⟨_, _, _, _, rfl, (by decide), Or.inl q1461, Or.inl rfl, rfl⟩
theorem pfX8_81 : wdFP RX8 81 7 3 (.int) := ⟨fX8_81, fun r h => by cases h; rfl⟩
theorem fX8_1 : wdFK RX8 1 7 4 (.object "LampLeaseOffice") := ⟨_, _, _, _, rfl, (by decide), Or.inl q1462, Or.inl rfl, rfl⟩
theorem pfX8_1 : wdFF RX8 1 7 4 (.object "LampLeaseOffice") := ⟨fX8_1, fun r h => by cases h; exact ⟨rfl, rfl⟩, fun r h => by cases h; exact q1462⟩
theorem fX10_7 : wdFK RX10 7 8 6 (.int) := ⟨_, _, _, _, rfl, (by decide), Or.inl q1548, Or.inl rfl, rfl⟩
theorem pfX10_7 : wdFF RX10 7 8 6 (.int) := ⟨fX10_7, fun r h => by cases h; exact ⟨rfl, rfl⟩, fun r h => by cases h; exact q1548⟩
theorem fX11_7 : wdFK RX11 7 9 6 (.int) := ⟨_, _, _, _, rfl, (by decide), Or.inl q1651, Or.inl rfl, rfl⟩
theorem pfX11_7 : wdFF RX11 7 9 6 (.int) := ⟨fX11_7, fun r h => by cases h; exact ⟨rfl, rfl⟩, fun r h => by cases h; exact q1651⟩
/-- a class' link, to make objects of it: class own names by idx the class number ci, which has N fields -/
def wdCK (own : String) (idx ci N : Nat) : Prop := ∃ (C : String) (T : u_T), wdCl[ci]? = some (C, T, N) ∧ (Cond.classLink own idx C) ∈ lw_all ∧ (Cond.instantiable C N) ∈ lw_all ∧ (Cond.initialized C) ∈ lw_all
theorem lX0_8 : (Cond.classLink RX0 8 "LampLeaseOffice") ∈ lw_all := q104
theorem kX0_8 : wdCK RX0 8 0 9 := ⟨_, _, rfl, q104, q105, q65⟩
theorem lX0_13 : (Cond.classLink RX0 13 "java/lang/IllegalStateException") ∈ lw_all := q960
theorem lX0_19 : (Cond.classLink RX0 19 "java/lang/IllegalArgumentException") ∈ lw_all := q1005
theorem lX0_28 : (Cond.classLink RX0 28 "java/lang/IndexOutOfBoundsException") ∈ lw_all := q1040
theorem lX0_30 : (Cond.classLink RX0 30 "java/lang/UnsupportedOperationException") ∈ lw_all := q1043
theorem lX0_36 : (Cond.classLink RX0 36 "java/util/NoSuchElementException") ∈ lw_all := q1126
theorem lX0_106 : (Cond.classLink RX0 106 "java/lang/ArithmeticException") ∈ lw_all := q1397
theorem lX0_140 : (Cond.classLink RX0 140 "LampLeaseOfficeModel") ∈ lw_all := q1732
theorem kX0_140 : wdCK RX0 140 2 19 := ⟨_, _, rfl, q1732, q1733, q74⟩
theorem lX1_7 : (Cond.classLink RX1 7 "LampLeaseOffice$State") ∈ lw_all := q112
theorem kX1_7 : wdCK RX1 7 1 7 := ⟨_, _, rfl, q112, q113, q66⟩
theorem lX1_16 : (Cond.classLink RX1 16 "java/util/ArrayList") ∈ lw_all := q176
theorem kX1_16 : wdCK RX1 16 10 3 := ⟨_, _, rfl, q176, q119, q69⟩
theorem lX1_34 : (Cond.classLink RX1 34 "java/lang/StringBuilder") ∈ lw_all := q178
theorem kX1_34 : wdCK RX1 34 12 4 := ⟨_, _, rfl, q178, q179, q71⟩
theorem lX1_114 : (Cond.classLink RX1 114 "LampLeaseOffice$Ship") ∈ lw_all := q616
theorem kX1_114 : wdCK RX1 114 3 3 := ⟨_, _, rfl, q616, q417, q80⟩
theorem lX1_210 : (Cond.classLink RX1 210 "LampLeaseOffice$Request") ∈ lw_all := q626
theorem kX1_210 : wdCK RX1 210 6 2 := ⟨_, _, rfl, q626, q1145, q94⟩
theorem lX1_138 : (Cond.classLink RX1 138 "LampLeaseOffice$Lamp") ∈ lw_all := q627
theorem kX1_138 : wdCK RX1 138 4 5 := ⟨_, _, rfl, q627, q510, q85⟩
theorem lX1_47 : (Cond.classLink RX1 47 "java/lang/IllegalStateException") ∈ lw_all := q972
theorem lX1_44 : (Cond.classLink RX1 44 "java/lang/IllegalArgumentException") ∈ lw_all := q1020
theorem lX1_41 : (Cond.classLink RX1 41 "java/lang/IndexOutOfBoundsException") ∈ lw_all := q1060
theorem lX1_50 : (Cond.classLink RX1 50 "java/util/NoSuchElementException") ∈ lw_all := q1142
theorem lX1_56 : (Cond.classLink RX1 56 "java/lang/ArithmeticException") ∈ lw_all := q1418
theorem lX1_287 : (Cond.classLink RX1 287 "LampLeaseOffice$TextException") ∈ lw_all := q1445
theorem lX1_266 : (Cond.classLink RX1 266 "LampLeaseOffice$CommandException") ∈ lw_all := q1450
theorem kX1_266 : wdCK RX1 266 9 7 := ⟨_, _, rfl, q1450, q1639, q102⟩
theorem lX1_279 : (Cond.classLink RX1 279 "LampLeaseOffice$MalformedException") ∈ lw_all := q1451
theorem kX1_279 : wdCK RX1 279 8 7 := ⟨_, _, rfl, q1451, q1528, q99⟩
theorem lX1_257 : (Cond.classLink RX1 257 "LampLeaseOffice$Parser") ∈ lw_all := q1452
theorem kX1_257 : wdCK RX1 257 7 5 := ⟨_, _, rfl, q1452, q1453, q96⟩
theorem lX1_53 : (Cond.classLink RX1 53 "java/lang/UnsupportedOperationException") ∈ lw_all := q1672
theorem lX2_9 : (Cond.classLink RX2 9 "java/util/ArrayList") ∈ lw_all := q118
theorem kX2_9 : wdCK RX2 9 10 3 := ⟨_, _, rfl, q118, q119, q69⟩
theorem lX2_49 : (Cond.classLink RX2 49 "LampLeaseOffice$Lamp") ∈ lw_all := q384
theorem kX2_49 : wdCK RX2 49 4 5 := ⟨_, _, rfl, q384, q510, q85⟩
theorem lX2_13 : (Cond.classLink RX2 13 "LampLeaseOffice$State") ∈ lw_all := q409
theorem kX2_13 : wdCK RX2 13 1 7 := ⟨_, _, rfl, q409, q113, q66⟩
theorem lX2_39 : (Cond.classLink RX2 39 "LampLeaseOffice$Ship") ∈ lw_all := q411
theorem kX2_39 : wdCK RX2 39 3 3 := ⟨_, _, rfl, q411, q417, q80⟩
theorem lX2_54 : (Cond.classLink RX2 54 "LampLeaseOffice$Request") ∈ lw_all := q540
theorem kX2_54 : wdCK RX2 54 6 2 := ⟨_, _, rfl, q540, q1145, q94⟩
theorem lX2_125 : (Cond.classLink RX2 125 "LampLeaseOffice$PoorException") ∈ lw_all := q1052
theorem kX2_125 : wdCK RX2 125 5 6 := ⟨_, _, rfl, q1052, q1089, q92⟩
theorem lX2_127 : (Cond.classLink RX2 127 "java/lang/UnsupportedOperationException") ∈ lw_all := q1108
theorem lJ2_267 : (Cond.classLink RJ2 267 "java/util/ArrayList$Itr") ∈ lw_all := q270
theorem kJ2_267 : wdCK RJ2 267 11 4 := ⟨_, _, rfl, q270, q271, q75⟩
theorem lJ2_7 : (Cond.classLink RJ2 7 "java/lang/Object") ∈ lw_all := q504
theorem lJ3_129 : (Cond.classLink RJ3 129 "java/lang/StringIndexOutOfBoundsException") ∈ lw_all := q640
theorem lJ4_18 : (Cond.classLink RJ4 18 "java/lang/String") ∈ lw_all := q782
theorem lJ5_10 : (Cond.classLink RJ5 10 "java/lang/String") ∈ lw_all := q1619
theorem lJ7_34 : (Cond.classLink RJ7 34 "java/util/NoSuchElementException") ∈ lw_all := q312
theorem lX4_10 : (Cond.classLink RX4 10 "LampLeaseOffice$Ship") ∈ lw_all := q416
theorem kX4_10 : wdCK RX4 10 3 3 := ⟨_, _, rfl, q416, q417, q80⟩
theorem lX4_22 : (Cond.classLink RX4 22 "LampLeaseOffice$PoorException") ∈ lw_all := q1088
theorem kX4_22 : wdCK RX4 22 5 6 := ⟨_, _, rfl, q1088, q1089, q92⟩
theorem lJ12_60 : (Cond.classLink RJ12 60 "[B") ∈ lw_all := q1568
theorem lJ12_69 : (Cond.classLink RJ12 69 "[C") ∈ lw_all := q1588
theorem lJ12_77 : (Cond.classLink RJ12 77 "[S") ∈ lw_all := q1595
theorem lJ12_82 : (Cond.classLink RJ12 82 "[I") ∈ lw_all := q1599
theorem lJ12_87 : (Cond.classLink RJ12 87 "java/lang/IllegalArgumentException") ∈ lw_all := q1603
theorem lJ12_89 : (Cond.classLink RJ12 89 "java/lang/StringBuilder") ∈ lw_all := q1604
theorem kJ12_89 : wdCK RJ12 89 12 4 := ⟨_, _, rfl, q1604, q179, q71⟩
theorem lJ14_110 : (Cond.classLink RJ14 110 "[Ljava/lang/Object;") ∈ lw_all := q494
theorem lJ14_2 : (Cond.classLink RJ14 2 "java/lang/Object") ∈ lw_all := q496
theorem lJ14_311 : (Cond.classLink RJ14 311 "[B") ∈ lw_all := q678
theorem lJ14_43 : (Cond.classLink RJ14 43 "java/lang/IllegalArgumentException") ∈ lw_all := q814
theorem lJ14_45 : (Cond.classLink RJ14 45 "java/lang/StringBuilder") ∈ lw_all := q823
theorem kJ14_45 : wdCK RJ14 45 12 4 := ⟨_, _, rfl, q823, q179, q71⟩
theorem lJ14_68 : (Cond.classLink RJ14 68 "java/lang/ArrayIndexOutOfBoundsException") ∈ lw_all := q892
theorem lX5_10 : (Cond.classLink RX5 10 "LampLeaseOffice$Lamp") ∈ lw_all := q509
theorem kX5_10 : wdCK RX5 10 4 5 := ⟨_, _, rfl, q509, q510, q85⟩
theorem lJ20_10 : (Cond.classLink RJ20 10 "java/lang/StringBuilder") ∈ lw_all := q906
theorem kJ20_10 : wdCK RJ20 10 12 4 := ⟨_, _, rfl, q906, q179, q71⟩
theorem lX8_126 : (Cond.classLink RX8 126 "java/lang/IndexOutOfBoundsException") ∈ lw_all := q1482
theorem lX8_128 : (Cond.classLink RX8 128 "java/lang/IllegalArgumentException") ∈ lw_all := q1483
theorem lX8_130 : (Cond.classLink RX8 130 "java/lang/IllegalStateException") ∈ lw_all := q1484
theorem lX8_132 : (Cond.classLink RX8 132 "java/util/NoSuchElementException") ∈ lw_all := q1485
theorem lX8_134 : (Cond.classLink RX8 134 "java/lang/UnsupportedOperationException") ∈ lw_all := q1486
theorem lX8_34 : (Cond.classLink RX8 34 "LampLeaseOffice$MalformedException") ∈ lw_all := q1527
theorem kX8_34 : wdCK RX8 34 8 7 := ⟨_, _, rfl, q1527, q1528, q99⟩
theorem lX8_136 : (Cond.classLink RX8 136 "LampLeaseOffice$CommandException") ∈ lw_all := q1638
theorem kX8_136 : wdCK RX8 136 9 7 := ⟨_, _, rfl, q1638, q1639, q102⟩
theorem lX11_17 : (Cond.classLink RX11 17 "java/lang/IndexOutOfBoundsException") ∈ lw_all := q1667
theorem lX11_19 : (Cond.classLink RX11 19 "java/lang/IllegalArgumentException") ∈ lw_all := q1668
theorem lX11_21 : (Cond.classLink RX11 21 "java/lang/IllegalStateException") ∈ lw_all := q1669
theorem lX11_23 : (Cond.classLink RX11 23 "java/util/NoSuchElementException") ∈ lw_all := q1670
theorem lJ25_10 : (Cond.classLink RJ25 10 "java/lang/StringBuilder") ∈ lw_all := q645
theorem kJ25_10 : wdCK RJ25 10 12 4 := ⟨_, _, rfl, q645, q179, q71⟩
/-! string constants by number: 0 LampLeaseOffice #295 '', 1 LampLeaseOffice #297 ' ', 2 LampLeaseOffice #313 'r', 3 LampLeaseOfficeModel #216 'lamp', 4 LampLeaseOfficeModel #218 'ship', 5 LampLeaseOfficeModel #203 ' ', 6 LampLeaseOfficeModel #223 'oil', 7 LampLeaseOfficeModel #225 'lease', 8 LampLeaseOfficeModel #227 'renew', 9 LampLeaseOfficeModel #229 'drop', 10 LampLeaseOfficeModel #231 'wait', 11 LampLeaseOfficeModel #233 'as', 12 LampLeaseOfficeModel #235 'iasu', 13 LampLeaseOfficeModel #237 'ians', 14 LampLeaseOfficeModel #239 'in', 15 LampLeaseOfficeModel #240 'a', 16 LampLeaseOfficeModel #242 's', 17 LampLeaseOffice$Parser #47 'lease', 18 LampLeaseOffice$Parser #49 'lamp', 19 LampLeaseOffice$Parser #51 'oil', 20 LampLeaseOffice$Parser #53 'renew', 21 LampLeaseOffice$Parser #55 'drop', 22 LampLeaseOffice$Parser #57 'wait', 23 LampLeaseOffice$Parser #59 'ship' -/
/-- owner, entry, text, hash, hashIsZero, bytes -/
def wdSt : List (String × Nat × String × Int32 × Int32 × List Nat) := [("LampLeaseOffice", 295, "", 0, 1, []), ("LampLeaseOffice", 297, " ", 32, 0, [32]), ("LampLeaseOffice", 313, "r", 114, 0, [114]), ("LampLeaseOfficeModel", 216, "lamp", 3314136, 0, [108, 97, 109, 112]), ("LampLeaseOfficeModel", 218, "ship", 3529276, 0, [115, 104, 105, 112]), ("LampLeaseOfficeModel", 203, " ", 32, 0, [32]), ("LampLeaseOfficeModel", 223, "oil", 110034, 0, [111, 105, 108]), ("LampLeaseOfficeModel", 225, "lease", 102846042, 0, [108, 101, 97, 115, 101]), ("LampLeaseOfficeModel", 227, "renew", 108399245, 0, [114, 101, 110, 101, 119]), ("LampLeaseOfficeModel", 229, "drop", 3092207, 0, [100, 114, 111, 112]), ("LampLeaseOfficeModel", 231, "wait", 3641717, 0, [119, 97, 105, 116]), ("LampLeaseOfficeModel", 233, "as", 3122, 0, [97, 115]), ("LampLeaseOfficeModel", 235, "iasu", 3224954, 0, [105, 97, 115, 117]), ("LampLeaseOfficeModel", 237, "ians", 3224797, 0, [105, 97, 110, 115]), ("LampLeaseOfficeModel", 239, "in", 3365, 0, [105, 110]), ("LampLeaseOfficeModel", 240, "a", 97, 0, [97]), ("LampLeaseOfficeModel", 242, "s", 115, 0, [115]), ("LampLeaseOffice$Parser", 47, "lease", 102846042, 0, [108, 101, 97, 115, 101]), ("LampLeaseOffice$Parser", 49, "lamp", 3314136, 0, [108, 97, 109, 112]), ("LampLeaseOffice$Parser", 51, "oil", 110034, 0, [111, 105, 108]), ("LampLeaseOffice$Parser", 53, "renew", 108399245, 0, [114, 101, 110, 101, 119]), ("LampLeaseOffice$Parser", 55, "drop", 3092207, 0, [100, 114, 111, 112]), ("LampLeaseOffice$Parser", 57, "wait", 3641717, 0, [119, 97, 105, 116]), ("LampLeaseOffice$Parser", 59, "ship", 3529276, 0, [115, 104, 105, 112])]
/-- pairs of an exception's class and a class that it isn't of -/
def wdNc : List (String × String) := [("java/util/NoSuchElementException", "java/lang/IllegalStateException"), ("java/lang/IllegalArgumentException", "java/lang/IllegalStateException"), ("java/lang/IndexOutOfBoundsException", "java/lang/IllegalStateException"), ("LampLeaseOffice$PoorException", "java/lang/IllegalStateException"), ("java/lang/UnsupportedOperationException", "java/lang/IllegalStateException"), ("java/lang/ArithmeticException", "java/lang/IllegalStateException"), ("LampLeaseOffice$MalformedException", "java/lang/IllegalStateException"), ("LampLeaseOffice$CommandException", "java/lang/IllegalStateException"), ("java/util/NoSuchElementException", "java/lang/IllegalArgumentException"), ("java/lang/IllegalStateException", "java/lang/IllegalArgumentException"), ("java/lang/IndexOutOfBoundsException", "java/lang/IllegalArgumentException"), ("LampLeaseOffice$PoorException", "java/lang/IllegalArgumentException"), ("java/lang/UnsupportedOperationException", "java/lang/IllegalArgumentException"), ("java/lang/ArithmeticException", "java/lang/IllegalArgumentException"), ("LampLeaseOffice$MalformedException", "java/lang/IllegalArgumentException"), ("LampLeaseOffice$CommandException", "java/lang/IllegalArgumentException"), ("java/util/NoSuchElementException", "java/lang/IndexOutOfBoundsException"), ("java/lang/IllegalStateException", "java/lang/IndexOutOfBoundsException"), ("java/lang/IllegalArgumentException", "java/lang/IndexOutOfBoundsException"), ("LampLeaseOffice$PoorException", "java/lang/IndexOutOfBoundsException"), ("java/lang/UnsupportedOperationException", "java/lang/IndexOutOfBoundsException"), ("java/lang/ArithmeticException", "java/lang/IndexOutOfBoundsException"), ("LampLeaseOffice$MalformedException", "java/lang/IndexOutOfBoundsException"), ("LampLeaseOffice$CommandException", "java/lang/IndexOutOfBoundsException"), ("java/util/NoSuchElementException", "java/lang/UnsupportedOperationException"), ("java/lang/IllegalStateException", "java/lang/UnsupportedOperationException"), ("java/lang/IllegalArgumentException", "java/lang/UnsupportedOperationException"), ("java/lang/IndexOutOfBoundsException", "java/lang/UnsupportedOperationException"), ("LampLeaseOffice$PoorException", "java/lang/UnsupportedOperationException"), ("java/lang/ArithmeticException", "java/lang/UnsupportedOperationException"), ("LampLeaseOffice$MalformedException", "java/lang/UnsupportedOperationException"), ("LampLeaseOffice$CommandException", "java/lang/UnsupportedOperationException"), ("java/util/NoSuchElementException", "LampLeaseOffice$PoorException"), ("java/lang/IllegalStateException", "LampLeaseOffice$PoorException"), ("java/lang/IllegalArgumentException", "LampLeaseOffice$PoorException"), ("java/lang/IndexOutOfBoundsException", "LampLeaseOffice$PoorException"), ("java/lang/UnsupportedOperationException", "LampLeaseOffice$PoorException"), ("java/lang/ArithmeticException", "LampLeaseOffice$PoorException"), ("LampLeaseOffice$MalformedException", "LampLeaseOffice$PoorException"), ("LampLeaseOffice$CommandException", "LampLeaseOffice$PoorException"), ("java/lang/IllegalStateException", "java/util/NoSuchElementException"), ("java/lang/IllegalArgumentException", "java/util/NoSuchElementException"), ("java/lang/IndexOutOfBoundsException", "java/util/NoSuchElementException"), ("LampLeaseOffice$PoorException", "java/util/NoSuchElementException"), ("java/lang/UnsupportedOperationException", "java/util/NoSuchElementException"), ("java/lang/ArithmeticException", "java/util/NoSuchElementException"), ("LampLeaseOffice$MalformedException", "java/util/NoSuchElementException"), ("LampLeaseOffice$CommandException", "java/util/NoSuchElementException"), ("java/util/NoSuchElementException", "java/lang/ArithmeticException"), ("java/lang/IllegalStateException", "java/lang/ArithmeticException"), ("java/lang/IllegalArgumentException", "java/lang/ArithmeticException"), ("java/lang/IndexOutOfBoundsException", "java/lang/ArithmeticException"), ("LampLeaseOffice$PoorException", "java/lang/ArithmeticException"), ("java/lang/UnsupportedOperationException", "java/lang/ArithmeticException"), ("LampLeaseOffice$MalformedException", "java/lang/ArithmeticException"), ("LampLeaseOffice$CommandException", "java/lang/ArithmeticException"), ("java/util/NoSuchElementException", "LampLeaseOffice$TextException"), ("java/lang/IllegalStateException", "LampLeaseOffice$TextException"), ("java/lang/IllegalArgumentException", "LampLeaseOffice$TextException"), ("java/lang/IndexOutOfBoundsException", "LampLeaseOffice$TextException"), ("LampLeaseOffice$PoorException", "LampLeaseOffice$TextException"), ("java/lang/UnsupportedOperationException", "LampLeaseOffice$TextException"), ("java/lang/ArithmeticException", "LampLeaseOffice$TextException"), ("java/util/NoSuchElementException", "LampLeaseOffice$CommandException"), ("java/lang/IllegalStateException", "LampLeaseOffice$CommandException"), ("java/lang/IllegalArgumentException", "LampLeaseOffice$CommandException"), ("java/lang/IndexOutOfBoundsException", "LampLeaseOffice$CommandException"), ("LampLeaseOffice$PoorException", "LampLeaseOffice$CommandException"), ("java/lang/UnsupportedOperationException", "LampLeaseOffice$CommandException"), ("java/lang/ArithmeticException", "LampLeaseOffice$CommandException"), ("LampLeaseOffice$MalformedException", "LampLeaseOffice$CommandException"), ("java/util/NoSuchElementException", "LampLeaseOffice$MalformedException"), ("java/lang/IllegalStateException", "LampLeaseOffice$MalformedException"), ("java/lang/IllegalArgumentException", "LampLeaseOffice$MalformedException"), ("java/lang/IndexOutOfBoundsException", "LampLeaseOffice$MalformedException"), ("LampLeaseOffice$PoorException", "LampLeaseOffice$MalformedException"), ("java/lang/UnsupportedOperationException", "LampLeaseOffice$MalformedException"), ("java/lang/ArithmeticException", "LampLeaseOffice$MalformedException"), ("LampLeaseOffice$CommandException", "LampLeaseOffice$MalformedException"), ("java/util/NoSuchElementException", "java/lang/String"), ("java/lang/IllegalStateException", "java/lang/String"), ("java/lang/IllegalArgumentException", "java/lang/String"), ("java/lang/IndexOutOfBoundsException", "java/lang/String"), ("LampLeaseOffice$PoorException", "java/lang/String"), ("java/lang/UnsupportedOperationException", "java/lang/String"), ("java/lang/ArithmeticException", "java/lang/String"), ("LampLeaseOffice$MalformedException", "java/lang/String"), ("LampLeaseOffice$CommandException", "java/lang/String"), ("java/util/NoSuchElementException", "[B"), ("java/lang/IllegalStateException", "[B"), ("java/lang/IllegalArgumentException", "[B"), ("java/lang/IndexOutOfBoundsException", "[B"), ("LampLeaseOffice$PoorException", "[B"), ("java/lang/UnsupportedOperationException", "[B"), ("java/lang/ArithmeticException", "[B"), ("LampLeaseOffice$MalformedException", "[B"), ("LampLeaseOffice$CommandException", "[B")]
